/-! LeftAsFound -/
set_option maxRecDepth 100000
def RX0 : String := "LeftAsFound"
def TX0 : u_T := fun k => match k with
  | 0 => ("LeftAsFound", "changes", "[LLeftAsFound$Change;", true)
  | 1 => ("LeftAsFound", "changeMany", "I", false)
  | 2 => ("LeftAsFound", "done", "I", false)
  | 3 => ("LeftAsFound", "tape", "[I", true)
  | 4 => ("LeftAsFound", "length", "I", false)
  | 5 => ("LeftAsFound", "fault", "LLeftAsFound$Fault;", true)
  | 6 => ("LeftAsFound", "at", "I", false)
  | 7 => ("LeftAsFound", "guests", "[LLeftAsFound$Guest;", true)
  | 8 => ("LeftAsFound", "guestMany", "I", false)
  | 9 => ("LeftAsFound", "oughts", "[LLeftAsFound$Held;", true)
  | 10 => ("LeftAsFound", "worths", "[LLeftAsFound$Held;", true)
  | 11 => ("LeftAsFound", "rule", "LLeftAsFound$Held;", true)
  | 12 => ("LeftAsFound", "price", "LLeftAsFound$Held;", true)
  | 13 => ("LeftAsFound", "honest", "LLeftAsFound$Held;", true)
  | 14 => ("LeftAsFound", "torn", "LLeftAsFound$Torn;", true)
  | 15 => ("LeftAsFound", "names", "[I", true)
  | 16 => ("LeftAsFound", "opened", "I", false)
  | 17 => ("LeftAsFound", "leaving", "LLeftAsFound$Line;", false)
  | 18 => ("LeftAsFound", "self", "LLeftAsFound$Hut;", true)
  | 19 => ("LeftAsFound", "thought", "LLeftAsFound$Hut;", true)
  | 20 => ("LeftAsFound", "comes", "[I", true)
  | 21 => ("LeftAsFound", "nightMany", "I", false)
  | 22 => ("LeftAsFound", "states", "[I", true)
  | 23 => ("LeftAsFound", "restAt", "I", false)
  | 24 => ("LeftAsFound", "round", "I", false)
  | 25 => ("LeftAsFound", "asTold", "[I", true)
  | 26 => ("LeftAsFound", "order", "[I", true)
  | 27 => ("LeftAsFound", "bestOrder", "[I", true)
  | 28 => ("LeftAsFound", "leastLoss", "I", false)
  | 29 => ("LeftAsFound", "behind", "[LLeftAsFound$Hut;", true)
  | 30 => ("LeftAsFound", "maySet", "[I", true)
  | 31 => ("LeftAsFound", "path", "[I", true)
  | 32 => ("LeftAsFound", "wayMany", "I", false)
  | 33 => ("LeftAsFound", "ledNow", "[I", true)
  | 34 => ("LeftAsFound", "isKept", "Z", false)
  | 35 => ("LeftAsFound", "imageHut", "LLeftAsFound$Hut;", true)
  | 36 => ("LeftAsFound", "imageLed", "[I", true)
  | 37 => ("LeftAsFound", "bodies", "[LLeftAsFound$Body;", true)
  | 38 => ("LeftAsFound", "bodyMany", "I", false)
  | 39 => ("LeftAsFound", "trace", "[I", true)
  | 40 => ("LeftAsFound", "ran", "I", false)
  | _ => ("LeftAsFound", "shelves", "[Ljava/lang/Object;", true)
def tyX0 : Nat → FieldType := fun k => match k with
  | 0 => .array (.object "LeftAsFound$Change")
  | 1 => .int
  | 2 => .int
  | 3 => .array .int
  | 4 => .int
  | 5 => .object "LeftAsFound$Fault"
  | 6 => .int
  | 7 => .array (.object "LeftAsFound$Guest")
  | 8 => .int
  | 9 => .array (.object "LeftAsFound$Held")
  | 10 => .array (.object "LeftAsFound$Held")
  | 11 => .object "LeftAsFound$Held"
  | 12 => .object "LeftAsFound$Held"
  | 13 => .object "LeftAsFound$Held"
  | 14 => .object "LeftAsFound$Torn"
  | 15 => .array .int
  | 16 => .int
  | 17 => .object "LeftAsFound$Line"
  | 18 => .object "LeftAsFound$Hut"
  | 19 => .object "LeftAsFound$Hut"
  | 20 => .array .int
  | 21 => .int
  | 22 => .array .int
  | 23 => .int
  | 24 => .int
  | 25 => .array .int
  | 26 => .array .int
  | 27 => .array .int
  | 28 => .int
  | 29 => .array (.object "LeftAsFound$Hut")
  | 30 => .array .int
  | 31 => .array .int
  | 32 => .int
  | 33 => .array .int
  | 34 => .boolean
  | 35 => .object "LeftAsFound$Hut"
  | 36 => .array .int
  | 37 => .array (.object "LeftAsFound$Body")
  | 38 => .int
  | 39 => .array .int
  | 40 => .int
  | _ => .array (.object "java/lang/Object")
abbrev wsX00 : List Cond := u_ws RX0 TX0 42
set_option maxRecDepth 100000 in
theorem nmX0 : ∀ a, a < 42 → ∀ b, b < 42 → a ≠ b → (TX0 a).2.1 ≠ (TX0 b).2.1 := by decide +kernel
set_option maxRecDepth 100000 in
theorem tyX0_ok : ∀ k, k < 42 → parseFieldDescriptor (TX0 k).2.2.1 = some (tyX0 k) := by decide +kernel
abbrev cX0_undo : ByteArray := prog_1_method_6_code
def yX0_undo : MethodName := ⟨RX0, "undo", "()I"⟩
def dkwX0_undo_2 : List UInt8 := [180, 0, 9, 172]
abbrev dktX0_undo_2 : List UInt8 := dkwX0_undo_2 ++ []
def dkwX0_undo_1 : List UInt8 := [42, 180, 0, 9, 50, 180, 0, 16, 42, 180, 0, 12, 42, 180, 0, 9, 50, 180, 0, 22, 181, 0, 3, 42]
abbrev dktX0_undo_1 : List UInt8 := dkwX0_undo_1 ++ dktX0_undo_2
def dkwX0_undo_0 : List UInt8 := [42, 180, 0, 9, 154, 0, 6, 16, 251, 172, 42, 89, 180, 0, 9, 4, 100, 181, 0, 9, 42, 180, 0, 12]
abbrev dktX0_undo_0 : List UInt8 := dkwX0_undo_0 ++ dktX0_undo_1
theorem dksX0_undo_0 : cX0_undo.data.toList.drop 0 = dktX0_undo_0 := by decide +kernel
theorem dksX0_undo_1 : cX0_undo.data.toList.drop 24 = dktX0_undo_1 := dk_seg dksX0_undo_0 24 rfl rfl
theorem dksX0_undo_2 : cX0_undo.data.toList.drop 48 = dktX0_undo_2 := dk_seg dksX0_undo_1 24 rfl rfl
theorem dX0_undo_0 : decode cX0_undo 0 = .ok (.aload_n 0, 1) := dk_42 (dk_at dksX0_undo_0 0 rfl rfl)
theorem dX0_undo_1 : decode cX0_undo 1 = .ok (.getfield 9, 3) := dk_180 0 9 (dk_at dksX0_undo_0 1 rfl rfl)
theorem dX0_undo_4 : decode cX0_undo 4 = .ok (.ifCond .ne 6, 3) := dk_154 0 6 (dk_at dksX0_undo_0 4 rfl rfl)
theorem dX0_undo_7 : decode cX0_undo 7 = .ok (.bipush (-5), 2) := dk_16 251 (dk_at dksX0_undo_0 7 rfl rfl)
theorem dX0_undo_9 : decode cX0_undo 9 = .ok (.ireturn, 1) := dk_172 (dk_at dksX0_undo_0 9 rfl rfl)
theorem dX0_undo_10 : decode cX0_undo 10 = .ok (.aload_n 0, 1) := dk_42 (dk_at dksX0_undo_0 10 rfl rfl)
theorem dX0_undo_11 : decode cX0_undo 11 = .ok (.dup, 1) := dk_89 (dk_at dksX0_undo_0 11 rfl rfl)
theorem dX0_undo_12 : decode cX0_undo 12 = .ok (.getfield 9, 3) := dk_180 0 9 (dk_at dksX0_undo_0 12 rfl rfl)
theorem dX0_undo_15 : decode cX0_undo 15 = .ok (.iconst 1, 1) := dk_4 (dk_at dksX0_undo_0 15 rfl rfl)
theorem dX0_undo_16 : decode cX0_undo 16 = .ok (.isub, 1) := dk_100 (dk_at dksX0_undo_0 16 rfl rfl)
theorem dX0_undo_17 : decode cX0_undo 17 = .ok (.putfield 9, 3) := dk_181 0 9 (dk_at dksX0_undo_0 17 rfl rfl)
theorem dX0_undo_20 : decode cX0_undo 20 = .ok (.aload_n 0, 1) := dk_42 (dk_at dksX0_undo_0 20 rfl rfl)
theorem dX0_undo_21 : decode cX0_undo 21 = .ok (.getfield 12, 3) := dk_180 0 12 (dk_at dksX0_undo_0 21 rfl rfl)
theorem dX0_undo_24 : decode cX0_undo 24 = .ok (.aload_n 0, 1) := dk_42 (dk_at dksX0_undo_1 0 rfl rfl)
theorem dX0_undo_25 : decode cX0_undo 25 = .ok (.getfield 9, 3) := dk_180 0 9 (dk_at dksX0_undo_1 1 rfl rfl)
theorem dX0_undo_28 : decode cX0_undo 28 = .ok (.aaload, 1) := dk_50 (dk_at dksX0_undo_1 4 rfl rfl)
theorem dX0_undo_29 : decode cX0_undo 29 = .ok (.getfield 16, 3) := dk_180 0 16 (dk_at dksX0_undo_1 5 rfl rfl)
theorem dX0_undo_32 : decode cX0_undo 32 = .ok (.aload_n 0, 1) := dk_42 (dk_at dksX0_undo_1 8 rfl rfl)
theorem dX0_undo_33 : decode cX0_undo 33 = .ok (.getfield 12, 3) := dk_180 0 12 (dk_at dksX0_undo_1 9 rfl rfl)
theorem dX0_undo_36 : decode cX0_undo 36 = .ok (.aload_n 0, 1) := dk_42 (dk_at dksX0_undo_1 12 rfl rfl)
theorem dX0_undo_37 : decode cX0_undo 37 = .ok (.getfield 9, 3) := dk_180 0 9 (dk_at dksX0_undo_1 13 rfl rfl)
theorem dX0_undo_40 : decode cX0_undo 40 = .ok (.aaload, 1) := dk_50 (dk_at dksX0_undo_1 16 rfl rfl)
theorem dX0_undo_41 : decode cX0_undo 41 = .ok (.getfield 22, 3) := dk_180 0 22 (dk_at dksX0_undo_1 17 rfl rfl)
theorem dX0_undo_44 : decode cX0_undo 44 = .ok (.putfield 3, 3) := dk_181 0 3 (dk_at dksX0_undo_1 20 rfl rfl)
theorem dX0_undo_47 : decode cX0_undo 47 = .ok (.aload_n 0, 1) := dk_42 (dk_at dksX0_undo_1 23 rfl rfl)
theorem dX0_undo_48 : decode cX0_undo 48 = .ok (.getfield 9, 3) := dk_180 0 9 (dk_at dksX0_undo_2 0 rfl rfl)
theorem dX0_undo_51 : decode cX0_undo 51 = .ok (.ireturn, 1) := dk_172 (dk_at dksX0_undo_2 3 rfl rfl)
abbrev cX0_redo : ByteArray := prog_1_method_7_code
def yX0_redo : MethodName := ⟨RX0, "redo", "()I"⟩
def dkwX0_redo_2 : List UInt8 := [96, 181, 0, 9, 42, 180, 0, 28, 42, 180, 0, 9, 100, 172]
abbrev dktX0_redo_2 : List UInt8 := dkwX0_redo_2 ++ []
def dkwX0_redo_1 : List UInt8 := [180, 0, 16, 42, 180, 0, 12, 42, 180, 0, 9, 50, 180, 0, 25, 181, 0, 3, 42, 89, 180, 0, 9, 4]
abbrev dktX0_redo_1 : List UInt8 := dkwX0_redo_1 ++ dktX0_redo_2
def dkwX0_redo_0 : List UInt8 := [42, 180, 0, 9, 42, 180, 0, 28, 160, 0, 6, 16, 251, 172, 42, 180, 0, 12, 42, 180, 0, 9, 50]
abbrev dktX0_redo_0 : List UInt8 := dkwX0_redo_0 ++ dktX0_redo_1
theorem dksX0_redo_0 : cX0_redo.data.toList.drop 0 = dktX0_redo_0 := by decide +kernel
theorem dksX0_redo_1 : cX0_redo.data.toList.drop 23 = dktX0_redo_1 := dk_seg dksX0_redo_0 23 rfl rfl
theorem dksX0_redo_2 : cX0_redo.data.toList.drop 47 = dktX0_redo_2 := dk_seg dksX0_redo_1 24 rfl rfl
theorem dX0_redo_0 : decode cX0_redo 0 = .ok (.aload_n 0, 1) := dk_42 (dk_at dksX0_redo_0 0 rfl rfl)
theorem dX0_redo_1 : decode cX0_redo 1 = .ok (.getfield 9, 3) := dk_180 0 9 (dk_at dksX0_redo_0 1 rfl rfl)
theorem dX0_redo_4 : decode cX0_redo 4 = .ok (.aload_n 0, 1) := dk_42 (dk_at dksX0_redo_0 4 rfl rfl)
theorem dX0_redo_5 : decode cX0_redo 5 = .ok (.getfield 28, 3) := dk_180 0 28 (dk_at dksX0_redo_0 5 rfl rfl)
theorem dX0_redo_8 : decode cX0_redo 8 = .ok (.if_icmp .ne 6, 3) := dk_160 0 6 (dk_at dksX0_redo_0 8 rfl rfl)
theorem dX0_redo_11 : decode cX0_redo 11 = .ok (.bipush (-5), 2) := dk_16 251 (dk_at dksX0_redo_0 11 rfl rfl)
theorem dX0_redo_13 : decode cX0_redo 13 = .ok (.ireturn, 1) := dk_172 (dk_at dksX0_redo_0 13 rfl rfl)
theorem dX0_redo_14 : decode cX0_redo 14 = .ok (.aload_n 0, 1) := dk_42 (dk_at dksX0_redo_0 14 rfl rfl)
theorem dX0_redo_15 : decode cX0_redo 15 = .ok (.getfield 12, 3) := dk_180 0 12 (dk_at dksX0_redo_0 15 rfl rfl)
theorem dX0_redo_18 : decode cX0_redo 18 = .ok (.aload_n 0, 1) := dk_42 (dk_at dksX0_redo_0 18 rfl rfl)
theorem dX0_redo_19 : decode cX0_redo 19 = .ok (.getfield 9, 3) := dk_180 0 9 (dk_at dksX0_redo_0 19 rfl rfl)
theorem dX0_redo_22 : decode cX0_redo 22 = .ok (.aaload, 1) := dk_50 (dk_at dksX0_redo_0 22 rfl rfl)
theorem dX0_redo_23 : decode cX0_redo 23 = .ok (.getfield 16, 3) := dk_180 0 16 (dk_at dksX0_redo_1 0 rfl rfl)
theorem dX0_redo_26 : decode cX0_redo 26 = .ok (.aload_n 0, 1) := dk_42 (dk_at dksX0_redo_1 3 rfl rfl)
theorem dX0_redo_27 : decode cX0_redo 27 = .ok (.getfield 12, 3) := dk_180 0 12 (dk_at dksX0_redo_1 4 rfl rfl)
theorem dX0_redo_30 : decode cX0_redo 30 = .ok (.aload_n 0, 1) := dk_42 (dk_at dksX0_redo_1 7 rfl rfl)
theorem dX0_redo_31 : decode cX0_redo 31 = .ok (.getfield 9, 3) := dk_180 0 9 (dk_at dksX0_redo_1 8 rfl rfl)
theorem dX0_redo_34 : decode cX0_redo 34 = .ok (.aaload, 1) := dk_50 (dk_at dksX0_redo_1 11 rfl rfl)
theorem dX0_redo_35 : decode cX0_redo 35 = .ok (.getfield 25, 3) := dk_180 0 25 (dk_at dksX0_redo_1 12 rfl rfl)
theorem dX0_redo_38 : decode cX0_redo 38 = .ok (.putfield 3, 3) := dk_181 0 3 (dk_at dksX0_redo_1 15 rfl rfl)
theorem dX0_redo_41 : decode cX0_redo 41 = .ok (.aload_n 0, 1) := dk_42 (dk_at dksX0_redo_1 18 rfl rfl)
theorem dX0_redo_42 : decode cX0_redo 42 = .ok (.dup, 1) := dk_89 (dk_at dksX0_redo_1 19 rfl rfl)
theorem dX0_redo_43 : decode cX0_redo 43 = .ok (.getfield 9, 3) := dk_180 0 9 (dk_at dksX0_redo_1 20 rfl rfl)
theorem dX0_redo_46 : decode cX0_redo 46 = .ok (.iconst 1, 1) := dk_4 (dk_at dksX0_redo_1 23 rfl rfl)
theorem dX0_redo_47 : decode cX0_redo 47 = .ok (.iadd, 1) := dk_96 (dk_at dksX0_redo_2 0 rfl rfl)
theorem dX0_redo_48 : decode cX0_redo 48 = .ok (.putfield 9, 3) := dk_181 0 9 (dk_at dksX0_redo_2 1 rfl rfl)
theorem dX0_redo_51 : decode cX0_redo 51 = .ok (.aload_n 0, 1) := dk_42 (dk_at dksX0_redo_2 4 rfl rfl)
theorem dX0_redo_52 : decode cX0_redo 52 = .ok (.getfield 28, 3) := dk_180 0 28 (dk_at dksX0_redo_2 5 rfl rfl)
theorem dX0_redo_55 : decode cX0_redo 55 = .ok (.aload_n 0, 1) := dk_42 (dk_at dksX0_redo_2 8 rfl rfl)
theorem dX0_redo_56 : decode cX0_redo 56 = .ok (.getfield 9, 3) := dk_180 0 9 (dk_at dksX0_redo_2 9 rfl rfl)
theorem dX0_redo_59 : decode cX0_redo 59 = .ok (.isub, 1) := dk_100 (dk_at dksX0_redo_2 12 rfl rfl)
theorem dX0_redo_60 : decode cX0_redo 60 = .ok (.ireturn, 1) := dk_172 (dk_at dksX0_redo_2 13 rfl rfl)
abbrev cX0_init : ByteArray := prog_1_method_8_code
def yX0_init : MethodName := ⟨RX0, "<init>", "()V"⟩
def dkwX0_init_17 : List UInt8 := [132, 1, 1, 167, 255, 227, 177]
abbrev dktX0_init_17 : List UInt8 := dkwX0_init_17 ++ []
def dkwX0_init_16 : List UInt8 := [162, 0, 30, 42, 180, 0, 54, 27, 16, 50, 184, 0, 61, 83, 42, 180, 0, 58, 27, 4, 184, 0, 61, 83]
abbrev dktX0_init_16 : List UInt8 := dkwX0_init_16 ++ dktX0_init_17
def dkwX0_init_15 : List UInt8 := [42, 180, 0, 12, 27, 187, 0, 17, 89, 183, 0, 143, 83, 132, 1, 1, 167, 255, 234, 3, 60, 27, 7]
abbrev dktX0_init_15 : List UInt8 := dkwX0_init_15 ++ dktX0_init_16
def dkwX0_init_14 : List UInt8 := [16, 24, 188, 10, 181, 0, 136, 42, 16, 6, 189, 0, 32, 181, 0, 139, 3, 60, 27, 16, 40, 162, 0, 22]
abbrev dktX0_init_14 : List UInt8 := dkwX0_init_14 ++ dktX0_init_15
def dkwX0_init_13 : List UInt8 := [183, 0, 86, 181, 0, 124, 42, 7, 188, 10, 181, 0, 127, 42, 16, 50, 189, 0, 130, 181, 0, 132, 42]
abbrev dktX0_init_13 : List UInt8 := dkwX0_init_13 ++ dktX0_init_14
def dkwX0_init_12 : List UInt8 := [89, 4, 3, 79, 89, 5, 3, 79, 89, 6, 16, 254, 79, 181, 0, 121, 42, 187, 0, 84, 89, 42]
abbrev dktX0_init_12 : List UInt8 := dkwX0_init_12 ++ dktX0_init_13
def dkwX0_init_11 : List UInt8 := [42, 16, 6, 188, 10, 181, 0, 115, 42, 16, 6, 188, 10, 181, 0, 118, 42, 7, 188, 10, 89, 3, 3, 79]
abbrev dktX0_init_11 : List UInt8 := dkwX0_init_11 ++ dktX0_init_12
def dkwX0_init_10 : List UInt8 := [187, 0, 84, 89, 42, 183, 0, 86, 83, 89, 16, 6, 187, 0, 84, 89, 42, 183, 0, 86, 83, 181, 0, 111]
abbrev dktX0_init_10 : List UInt8 := dkwX0_init_10 ++ dktX0_init_11
def dkwX0_init_9 : List UInt8 := [187, 0, 84, 89, 42, 183, 0, 86, 83, 89, 7, 187, 0, 84, 89, 42, 183, 0, 86, 83, 89, 8]
abbrev dktX0_init_9 : List UInt8 := dkwX0_init_9 ++ dktX0_init_10
def dkwX0_init_8 : List UInt8 := [187, 0, 84, 89, 42, 183, 0, 86, 83, 89, 5, 187, 0, 84, 89, 42, 183, 0, 86, 83, 89, 6]
abbrev dktX0_init_8 : List UInt8 := dkwX0_init_8 ++ dktX0_init_9
def dkwX0_init_7 : List UInt8 := [181, 0, 108, 42, 16, 7, 189, 0, 84, 89, 3, 187, 0, 84, 89, 42, 183, 0, 86, 83, 89, 4]
abbrev dktX0_init_7 : List UInt8 := dkwX0_init_7 ++ dktX0_init_8
def dkwX0_init_6 : List UInt8 := [188, 10, 181, 0, 99, 42, 16, 30, 188, 10, 181, 0, 102, 42, 8, 188, 10, 181, 0, 105, 42, 8, 188, 10]
abbrev dktX0_init_6 : List UInt8 := dkwX0_init_6 ++ dktX0_init_7
def dkwX0_init_5 : List UInt8 := [187, 0, 84, 89, 42, 183, 0, 86, 181, 0, 93, 42, 16, 30, 188, 10, 181, 0, 96, 42, 17, 29, 13]
abbrev dktX0_init_5 : List UInt8 := dkwX0_init_5 ++ dktX0_init_6
def dkwX0_init_4 : List UInt8 := [181, 0, 77, 42, 16, 6, 188, 10, 181, 0, 81, 42, 187, 0, 84, 89, 42, 183, 0, 86, 181, 0, 89, 42]
abbrev dktX0_init_4 : List UInt8 := dkwX0_init_4 ++ dktX0_init_5
def dkwX0_init_3 : List UInt8 := [184, 0, 61, 181, 0, 68, 42, 16, 6, 184, 0, 61, 181, 0, 71, 42, 187, 0, 74, 89, 183, 0, 76]
abbrev dktX0_init_3 : List UInt8 := dkwX0_init_3 ++ dktX0_init_4
def dkwX0_init_2 : List UInt8 := [181, 0, 54, 42, 7, 189, 0, 4, 181, 0, 58, 42, 16, 50, 184, 0, 61, 181, 0, 65, 42, 16, 20]
abbrev dktX0_init_2 : List UInt8 := dkwX0_init_2 ++ dktX0_init_3
def dkwX0_init_1 : List UInt8 := [187, 0, 41, 89, 183, 0, 43, 181, 0, 44, 42, 16, 7, 189, 0, 48, 181, 0, 50, 42, 7, 189, 0, 4]
abbrev dktX0_init_1 : List UInt8 := dkwX0_init_1 ++ dktX0_init_2
def dkwX0_init_0 : List UInt8 := [42, 183, 0, 31, 42, 16, 40, 189, 0, 17, 181, 0, 12, 42, 16, 120, 188, 10, 181, 0, 37, 42]
abbrev dktX0_init_0 : List UInt8 := dkwX0_init_0 ++ dktX0_init_1
theorem dksX0_init_0 : cX0_init.data.toList.drop 0 = dktX0_init_0 := by decide +kernel
theorem dksX0_init_1 : cX0_init.data.toList.drop 22 = dktX0_init_1 := dk_seg dksX0_init_0 22 rfl rfl
theorem dksX0_init_2 : cX0_init.data.toList.drop 46 = dktX0_init_2 := dk_seg dksX0_init_1 24 rfl rfl
theorem dksX0_init_3 : cX0_init.data.toList.drop 69 = dktX0_init_3 := dk_seg dksX0_init_2 23 rfl rfl
theorem dksX0_init_4 : cX0_init.data.toList.drop 92 = dktX0_init_4 := dk_seg dksX0_init_3 23 rfl rfl
theorem dksX0_init_5 : cX0_init.data.toList.drop 116 = dktX0_init_5 := dk_seg dksX0_init_4 24 rfl rfl
theorem dksX0_init_6 : cX0_init.data.toList.drop 139 = dktX0_init_6 := dk_seg dksX0_init_5 23 rfl rfl
theorem dksX0_init_7 : cX0_init.data.toList.drop 163 = dktX0_init_7 := dk_seg dksX0_init_6 24 rfl rfl
theorem dksX0_init_8 : cX0_init.data.toList.drop 185 = dktX0_init_8 := dk_seg dksX0_init_7 22 rfl rfl
theorem dksX0_init_9 : cX0_init.data.toList.drop 207 = dktX0_init_9 := dk_seg dksX0_init_8 22 rfl rfl
theorem dksX0_init_10 : cX0_init.data.toList.drop 229 = dktX0_init_10 := dk_seg dksX0_init_9 22 rfl rfl
theorem dksX0_init_11 : cX0_init.data.toList.drop 253 = dktX0_init_11 := dk_seg dksX0_init_10 24 rfl rfl
theorem dksX0_init_12 : cX0_init.data.toList.drop 277 = dktX0_init_12 := dk_seg dksX0_init_11 24 rfl rfl
theorem dksX0_init_13 : cX0_init.data.toList.drop 299 = dktX0_init_13 := dk_seg dksX0_init_12 22 rfl rfl
theorem dksX0_init_14 : cX0_init.data.toList.drop 322 = dktX0_init_14 := dk_seg dksX0_init_13 23 rfl rfl
theorem dksX0_init_15 : cX0_init.data.toList.drop 346 = dktX0_init_15 := dk_seg dksX0_init_14 24 rfl rfl
theorem dksX0_init_16 : cX0_init.data.toList.drop 369 = dktX0_init_16 := dk_seg dksX0_init_15 23 rfl rfl
theorem dksX0_init_17 : cX0_init.data.toList.drop 393 = dktX0_init_17 := dk_seg dksX0_init_16 24 rfl rfl
theorem dX0_init_0 : decode cX0_init 0 = .ok (.aload_n 0, 1) := dk_42 (dk_at dksX0_init_0 0 rfl rfl)
theorem dX0_init_1 : decode cX0_init 1 = .ok (.invokespecial 31, 3) := dk_183 0 31 (dk_at dksX0_init_0 1 rfl rfl)
theorem dX0_init_4 : decode cX0_init 4 = .ok (.aload_n 0, 1) := dk_42 (dk_at dksX0_init_0 4 rfl rfl)
theorem dX0_init_5 : decode cX0_init 5 = .ok (.bipush 40, 2) := dk_16 40 (dk_at dksX0_init_0 5 rfl rfl)
theorem dX0_init_7 : decode cX0_init 7 = .ok (.anewarray 17, 3) := dk_189 0 17 (dk_at dksX0_init_0 7 rfl rfl)
theorem dX0_init_10 : decode cX0_init 10 = .ok (.putfield 12, 3) := dk_181 0 12 (dk_at dksX0_init_0 10 rfl rfl)
theorem dX0_init_13 : decode cX0_init 13 = .ok (.aload_n 0, 1) := dk_42 (dk_at dksX0_init_0 13 rfl rfl)
theorem dX0_init_14 : decode cX0_init 14 = .ok (.bipush 120, 2) := dk_16 120 (dk_at dksX0_init_0 14 rfl rfl)
theorem dX0_init_16 : decode cX0_init 16 = .ok (.newarray .int, 2) := dk_188_10 (dk_at dksX0_init_0 16 rfl rfl)
theorem dX0_init_18 : decode cX0_init 18 = .ok (.putfield 37, 3) := dk_181 0 37 (dk_at dksX0_init_0 18 rfl rfl)
theorem dX0_init_21 : decode cX0_init 21 = .ok (.aload_n 0, 1) := dk_42 (dk_at dksX0_init_0 21 rfl rfl)
theorem dX0_init_22 : decode cX0_init 22 = .ok (.new 41, 3) := dk_187 0 41 (dk_at dksX0_init_1 0 rfl rfl)
theorem dX0_init_25 : decode cX0_init 25 = .ok (.dup, 1) := dk_89 (dk_at dksX0_init_1 3 rfl rfl)
theorem dX0_init_26 : decode cX0_init 26 = .ok (.invokespecial 43, 3) := dk_183 0 43 (dk_at dksX0_init_1 4 rfl rfl)
theorem dX0_init_29 : decode cX0_init 29 = .ok (.putfield 44, 3) := dk_181 0 44 (dk_at dksX0_init_1 7 rfl rfl)
theorem dX0_init_32 : decode cX0_init 32 = .ok (.aload_n 0, 1) := dk_42 (dk_at dksX0_init_1 10 rfl rfl)
theorem dX0_init_33 : decode cX0_init 33 = .ok (.bipush 7, 2) := dk_16 7 (dk_at dksX0_init_1 11 rfl rfl)
theorem dX0_init_35 : decode cX0_init 35 = .ok (.anewarray 48, 3) := dk_189 0 48 (dk_at dksX0_init_1 13 rfl rfl)
theorem dX0_init_38 : decode cX0_init 38 = .ok (.putfield 50, 3) := dk_181 0 50 (dk_at dksX0_init_1 16 rfl rfl)
theorem dX0_init_41 : decode cX0_init 41 = .ok (.aload_n 0, 1) := dk_42 (dk_at dksX0_init_1 19 rfl rfl)
theorem dX0_init_42 : decode cX0_init 42 = .ok (.iconst 4, 1) := dk_7 (dk_at dksX0_init_1 20 rfl rfl)
theorem dX0_init_43 : decode cX0_init 43 = .ok (.anewarray 4, 3) := dk_189 0 4 (dk_at dksX0_init_1 21 rfl rfl)
theorem dX0_init_46 : decode cX0_init 46 = .ok (.putfield 54, 3) := dk_181 0 54 (dk_at dksX0_init_2 0 rfl rfl)
theorem dX0_init_49 : decode cX0_init 49 = .ok (.aload_n 0, 1) := dk_42 (dk_at dksX0_init_2 3 rfl rfl)
theorem dX0_init_50 : decode cX0_init 50 = .ok (.iconst 4, 1) := dk_7 (dk_at dksX0_init_2 4 rfl rfl)
theorem dX0_init_51 : decode cX0_init 51 = .ok (.anewarray 4, 3) := dk_189 0 4 (dk_at dksX0_init_2 5 rfl rfl)
theorem dX0_init_54 : decode cX0_init 54 = .ok (.putfield 58, 3) := dk_181 0 58 (dk_at dksX0_init_2 8 rfl rfl)
theorem dX0_init_57 : decode cX0_init 57 = .ok (.aload_n 0, 1) := dk_42 (dk_at dksX0_init_2 11 rfl rfl)
theorem dX0_init_58 : decode cX0_init 58 = .ok (.bipush 50, 2) := dk_16 50 (dk_at dksX0_init_2 12 rfl rfl)
theorem dX0_init_60 : decode cX0_init 60 = .ok (.invokestatic 61, 3) := dk_184 0 61 (dk_at dksX0_init_2 14 rfl rfl)
theorem dX0_init_63 : decode cX0_init 63 = .ok (.putfield 65, 3) := dk_181 0 65 (dk_at dksX0_init_2 17 rfl rfl)
theorem dX0_init_66 : decode cX0_init 66 = .ok (.aload_n 0, 1) := dk_42 (dk_at dksX0_init_2 20 rfl rfl)
theorem dX0_init_67 : decode cX0_init 67 = .ok (.bipush 20, 2) := dk_16 20 (dk_at dksX0_init_2 21 rfl rfl)
theorem dX0_init_69 : decode cX0_init 69 = .ok (.invokestatic 61, 3) := dk_184 0 61 (dk_at dksX0_init_3 0 rfl rfl)
theorem dX0_init_72 : decode cX0_init 72 = .ok (.putfield 68, 3) := dk_181 0 68 (dk_at dksX0_init_3 3 rfl rfl)
theorem dX0_init_75 : decode cX0_init 75 = .ok (.aload_n 0, 1) := dk_42 (dk_at dksX0_init_3 6 rfl rfl)
theorem dX0_init_76 : decode cX0_init 76 = .ok (.bipush 6, 2) := dk_16 6 (dk_at dksX0_init_3 7 rfl rfl)
theorem dX0_init_78 : decode cX0_init 78 = .ok (.invokestatic 61, 3) := dk_184 0 61 (dk_at dksX0_init_3 9 rfl rfl)
theorem dX0_init_81 : decode cX0_init 81 = .ok (.putfield 71, 3) := dk_181 0 71 (dk_at dksX0_init_3 12 rfl rfl)
theorem dX0_init_84 : decode cX0_init 84 = .ok (.aload_n 0, 1) := dk_42 (dk_at dksX0_init_3 15 rfl rfl)
theorem dX0_init_85 : decode cX0_init 85 = .ok (.new 74, 3) := dk_187 0 74 (dk_at dksX0_init_3 16 rfl rfl)
theorem dX0_init_88 : decode cX0_init 88 = .ok (.dup, 1) := dk_89 (dk_at dksX0_init_3 19 rfl rfl)
theorem dX0_init_89 : decode cX0_init 89 = .ok (.invokespecial 76, 3) := dk_183 0 76 (dk_at dksX0_init_3 20 rfl rfl)
theorem dX0_init_92 : decode cX0_init 92 = .ok (.putfield 77, 3) := dk_181 0 77 (dk_at dksX0_init_4 0 rfl rfl)
theorem dX0_init_95 : decode cX0_init 95 = .ok (.aload_n 0, 1) := dk_42 (dk_at dksX0_init_4 3 rfl rfl)
theorem dX0_init_96 : decode cX0_init 96 = .ok (.bipush 6, 2) := dk_16 6 (dk_at dksX0_init_4 4 rfl rfl)
theorem dX0_init_98 : decode cX0_init 98 = .ok (.newarray .int, 2) := dk_188_10 (dk_at dksX0_init_4 6 rfl rfl)
theorem dX0_init_100 : decode cX0_init 100 = .ok (.putfield 81, 3) := dk_181 0 81 (dk_at dksX0_init_4 8 rfl rfl)
theorem dX0_init_103 : decode cX0_init 103 = .ok (.aload_n 0, 1) := dk_42 (dk_at dksX0_init_4 11 rfl rfl)
theorem dX0_init_104 : decode cX0_init 104 = .ok (.new 84, 3) := dk_187 0 84 (dk_at dksX0_init_4 12 rfl rfl)
theorem dX0_init_107 : decode cX0_init 107 = .ok (.dup, 1) := dk_89 (dk_at dksX0_init_4 15 rfl rfl)
theorem dX0_init_108 : decode cX0_init 108 = .ok (.aload_n 0, 1) := dk_42 (dk_at dksX0_init_4 16 rfl rfl)
theorem dX0_init_109 : decode cX0_init 109 = .ok (.invokespecial 86, 3) := dk_183 0 86 (dk_at dksX0_init_4 17 rfl rfl)
theorem dX0_init_112 : decode cX0_init 112 = .ok (.putfield 89, 3) := dk_181 0 89 (dk_at dksX0_init_4 20 rfl rfl)
theorem dX0_init_115 : decode cX0_init 115 = .ok (.aload_n 0, 1) := dk_42 (dk_at dksX0_init_4 23 rfl rfl)
theorem dX0_init_116 : decode cX0_init 116 = .ok (.new 84, 3) := dk_187 0 84 (dk_at dksX0_init_5 0 rfl rfl)
theorem dX0_init_119 : decode cX0_init 119 = .ok (.dup, 1) := dk_89 (dk_at dksX0_init_5 3 rfl rfl)
theorem dX0_init_120 : decode cX0_init 120 = .ok (.aload_n 0, 1) := dk_42 (dk_at dksX0_init_5 4 rfl rfl)
theorem dX0_init_121 : decode cX0_init 121 = .ok (.invokespecial 86, 3) := dk_183 0 86 (dk_at dksX0_init_5 5 rfl rfl)
theorem dX0_init_124 : decode cX0_init 124 = .ok (.putfield 93, 3) := dk_181 0 93 (dk_at dksX0_init_5 8 rfl rfl)
theorem dX0_init_127 : decode cX0_init 127 = .ok (.aload_n 0, 1) := dk_42 (dk_at dksX0_init_5 11 rfl rfl)
theorem dX0_init_128 : decode cX0_init 128 = .ok (.bipush 30, 2) := dk_16 30 (dk_at dksX0_init_5 12 rfl rfl)
theorem dX0_init_130 : decode cX0_init 130 = .ok (.newarray .int, 2) := dk_188_10 (dk_at dksX0_init_5 14 rfl rfl)
theorem dX0_init_132 : decode cX0_init 132 = .ok (.putfield 96, 3) := dk_181 0 96 (dk_at dksX0_init_5 16 rfl rfl)
theorem dX0_init_135 : decode cX0_init 135 = .ok (.aload_n 0, 1) := dk_42 (dk_at dksX0_init_5 19 rfl rfl)
theorem dX0_init_136 : decode cX0_init 136 = .ok (.sipush 7437, 3) := dk_17 29 13 (dk_at dksX0_init_5 20 rfl rfl)
theorem dX0_init_139 : decode cX0_init 139 = .ok (.newarray .int, 2) := dk_188_10 (dk_at dksX0_init_6 0 rfl rfl)
theorem dX0_init_141 : decode cX0_init 141 = .ok (.putfield 99, 3) := dk_181 0 99 (dk_at dksX0_init_6 2 rfl rfl)
theorem dX0_init_144 : decode cX0_init 144 = .ok (.aload_n 0, 1) := dk_42 (dk_at dksX0_init_6 5 rfl rfl)
theorem dX0_init_145 : decode cX0_init 145 = .ok (.bipush 30, 2) := dk_16 30 (dk_at dksX0_init_6 6 rfl rfl)
theorem dX0_init_147 : decode cX0_init 147 = .ok (.newarray .int, 2) := dk_188_10 (dk_at dksX0_init_6 8 rfl rfl)
theorem dX0_init_149 : decode cX0_init 149 = .ok (.putfield 102, 3) := dk_181 0 102 (dk_at dksX0_init_6 10 rfl rfl)
theorem dX0_init_152 : decode cX0_init 152 = .ok (.aload_n 0, 1) := dk_42 (dk_at dksX0_init_6 13 rfl rfl)
theorem dX0_init_153 : decode cX0_init 153 = .ok (.iconst 5, 1) := dk_8 (dk_at dksX0_init_6 14 rfl rfl)
theorem dX0_init_154 : decode cX0_init 154 = .ok (.newarray .int, 2) := dk_188_10 (dk_at dksX0_init_6 15 rfl rfl)
theorem dX0_init_156 : decode cX0_init 156 = .ok (.putfield 105, 3) := dk_181 0 105 (dk_at dksX0_init_6 17 rfl rfl)
theorem dX0_init_159 : decode cX0_init 159 = .ok (.aload_n 0, 1) := dk_42 (dk_at dksX0_init_6 20 rfl rfl)
theorem dX0_init_160 : decode cX0_init 160 = .ok (.iconst 5, 1) := dk_8 (dk_at dksX0_init_6 21 rfl rfl)
theorem dX0_init_161 : decode cX0_init 161 = .ok (.newarray .int, 2) := dk_188_10 (dk_at dksX0_init_6 22 rfl rfl)
theorem dX0_init_163 : decode cX0_init 163 = .ok (.putfield 108, 3) := dk_181 0 108 (dk_at dksX0_init_7 0 rfl rfl)
theorem dX0_init_166 : decode cX0_init 166 = .ok (.aload_n 0, 1) := dk_42 (dk_at dksX0_init_7 3 rfl rfl)
theorem dX0_init_167 : decode cX0_init 167 = .ok (.bipush 7, 2) := dk_16 7 (dk_at dksX0_init_7 4 rfl rfl)
theorem dX0_init_169 : decode cX0_init 169 = .ok (.anewarray 84, 3) := dk_189 0 84 (dk_at dksX0_init_7 6 rfl rfl)
theorem dX0_init_172 : decode cX0_init 172 = .ok (.dup, 1) := dk_89 (dk_at dksX0_init_7 9 rfl rfl)
theorem dX0_init_173 : decode cX0_init 173 = .ok (.iconst 0, 1) := dk_3 (dk_at dksX0_init_7 10 rfl rfl)
theorem dX0_init_174 : decode cX0_init 174 = .ok (.new 84, 3) := dk_187 0 84 (dk_at dksX0_init_7 11 rfl rfl)
theorem dX0_init_177 : decode cX0_init 177 = .ok (.dup, 1) := dk_89 (dk_at dksX0_init_7 14 rfl rfl)
theorem dX0_init_178 : decode cX0_init 178 = .ok (.aload_n 0, 1) := dk_42 (dk_at dksX0_init_7 15 rfl rfl)
theorem dX0_init_179 : decode cX0_init 179 = .ok (.invokespecial 86, 3) := dk_183 0 86 (dk_at dksX0_init_7 16 rfl rfl)
theorem dX0_init_182 : decode cX0_init 182 = .ok (.aastore, 1) := dk_83 (dk_at dksX0_init_7 19 rfl rfl)
theorem dX0_init_183 : decode cX0_init 183 = .ok (.dup, 1) := dk_89 (dk_at dksX0_init_7 20 rfl rfl)
theorem dX0_init_184 : decode cX0_init 184 = .ok (.iconst 1, 1) := dk_4 (dk_at dksX0_init_7 21 rfl rfl)
theorem dX0_init_185 : decode cX0_init 185 = .ok (.new 84, 3) := dk_187 0 84 (dk_at dksX0_init_8 0 rfl rfl)
theorem dX0_init_188 : decode cX0_init 188 = .ok (.dup, 1) := dk_89 (dk_at dksX0_init_8 3 rfl rfl)
theorem dX0_init_189 : decode cX0_init 189 = .ok (.aload_n 0, 1) := dk_42 (dk_at dksX0_init_8 4 rfl rfl)
theorem dX0_init_190 : decode cX0_init 190 = .ok (.invokespecial 86, 3) := dk_183 0 86 (dk_at dksX0_init_8 5 rfl rfl)
theorem dX0_init_193 : decode cX0_init 193 = .ok (.aastore, 1) := dk_83 (dk_at dksX0_init_8 8 rfl rfl)
theorem dX0_init_194 : decode cX0_init 194 = .ok (.dup, 1) := dk_89 (dk_at dksX0_init_8 9 rfl rfl)
theorem dX0_init_195 : decode cX0_init 195 = .ok (.iconst 2, 1) := dk_5 (dk_at dksX0_init_8 10 rfl rfl)
theorem dX0_init_196 : decode cX0_init 196 = .ok (.new 84, 3) := dk_187 0 84 (dk_at dksX0_init_8 11 rfl rfl)
theorem dX0_init_199 : decode cX0_init 199 = .ok (.dup, 1) := dk_89 (dk_at dksX0_init_8 14 rfl rfl)
theorem dX0_init_200 : decode cX0_init 200 = .ok (.aload_n 0, 1) := dk_42 (dk_at dksX0_init_8 15 rfl rfl)
theorem dX0_init_201 : decode cX0_init 201 = .ok (.invokespecial 86, 3) := dk_183 0 86 (dk_at dksX0_init_8 16 rfl rfl)
theorem dX0_init_204 : decode cX0_init 204 = .ok (.aastore, 1) := dk_83 (dk_at dksX0_init_8 19 rfl rfl)
theorem dX0_init_205 : decode cX0_init 205 = .ok (.dup, 1) := dk_89 (dk_at dksX0_init_8 20 rfl rfl)
theorem dX0_init_206 : decode cX0_init 206 = .ok (.iconst 3, 1) := dk_6 (dk_at dksX0_init_8 21 rfl rfl)
theorem dX0_init_207 : decode cX0_init 207 = .ok (.new 84, 3) := dk_187 0 84 (dk_at dksX0_init_9 0 rfl rfl)
theorem dX0_init_210 : decode cX0_init 210 = .ok (.dup, 1) := dk_89 (dk_at dksX0_init_9 3 rfl rfl)
theorem dX0_init_211 : decode cX0_init 211 = .ok (.aload_n 0, 1) := dk_42 (dk_at dksX0_init_9 4 rfl rfl)
theorem dX0_init_212 : decode cX0_init 212 = .ok (.invokespecial 86, 3) := dk_183 0 86 (dk_at dksX0_init_9 5 rfl rfl)
theorem dX0_init_215 : decode cX0_init 215 = .ok (.aastore, 1) := dk_83 (dk_at dksX0_init_9 8 rfl rfl)
theorem dX0_init_216 : decode cX0_init 216 = .ok (.dup, 1) := dk_89 (dk_at dksX0_init_9 9 rfl rfl)
theorem dX0_init_217 : decode cX0_init 217 = .ok (.iconst 4, 1) := dk_7 (dk_at dksX0_init_9 10 rfl rfl)
theorem dX0_init_218 : decode cX0_init 218 = .ok (.new 84, 3) := dk_187 0 84 (dk_at dksX0_init_9 11 rfl rfl)
theorem dX0_init_221 : decode cX0_init 221 = .ok (.dup, 1) := dk_89 (dk_at dksX0_init_9 14 rfl rfl)
theorem dX0_init_222 : decode cX0_init 222 = .ok (.aload_n 0, 1) := dk_42 (dk_at dksX0_init_9 15 rfl rfl)
theorem dX0_init_223 : decode cX0_init 223 = .ok (.invokespecial 86, 3) := dk_183 0 86 (dk_at dksX0_init_9 16 rfl rfl)
theorem dX0_init_226 : decode cX0_init 226 = .ok (.aastore, 1) := dk_83 (dk_at dksX0_init_9 19 rfl rfl)
theorem dX0_init_227 : decode cX0_init 227 = .ok (.dup, 1) := dk_89 (dk_at dksX0_init_9 20 rfl rfl)
theorem dX0_init_228 : decode cX0_init 228 = .ok (.iconst 5, 1) := dk_8 (dk_at dksX0_init_9 21 rfl rfl)
theorem dX0_init_229 : decode cX0_init 229 = .ok (.new 84, 3) := dk_187 0 84 (dk_at dksX0_init_10 0 rfl rfl)
theorem dX0_init_232 : decode cX0_init 232 = .ok (.dup, 1) := dk_89 (dk_at dksX0_init_10 3 rfl rfl)
theorem dX0_init_233 : decode cX0_init 233 = .ok (.aload_n 0, 1) := dk_42 (dk_at dksX0_init_10 4 rfl rfl)
theorem dX0_init_234 : decode cX0_init 234 = .ok (.invokespecial 86, 3) := dk_183 0 86 (dk_at dksX0_init_10 5 rfl rfl)
theorem dX0_init_237 : decode cX0_init 237 = .ok (.aastore, 1) := dk_83 (dk_at dksX0_init_10 8 rfl rfl)
theorem dX0_init_238 : decode cX0_init 238 = .ok (.dup, 1) := dk_89 (dk_at dksX0_init_10 9 rfl rfl)
theorem dX0_init_239 : decode cX0_init 239 = .ok (.bipush 6, 2) := dk_16 6 (dk_at dksX0_init_10 10 rfl rfl)
theorem dX0_init_241 : decode cX0_init 241 = .ok (.new 84, 3) := dk_187 0 84 (dk_at dksX0_init_10 12 rfl rfl)
theorem dX0_init_244 : decode cX0_init 244 = .ok (.dup, 1) := dk_89 (dk_at dksX0_init_10 15 rfl rfl)
theorem dX0_init_245 : decode cX0_init 245 = .ok (.aload_n 0, 1) := dk_42 (dk_at dksX0_init_10 16 rfl rfl)
theorem dX0_init_246 : decode cX0_init 246 = .ok (.invokespecial 86, 3) := dk_183 0 86 (dk_at dksX0_init_10 17 rfl rfl)
theorem dX0_init_249 : decode cX0_init 249 = .ok (.aastore, 1) := dk_83 (dk_at dksX0_init_10 20 rfl rfl)
theorem dX0_init_250 : decode cX0_init 250 = .ok (.putfield 111, 3) := dk_181 0 111 (dk_at dksX0_init_10 21 rfl rfl)
theorem dX0_init_253 : decode cX0_init 253 = .ok (.aload_n 0, 1) := dk_42 (dk_at dksX0_init_11 0 rfl rfl)
theorem dX0_init_254 : decode cX0_init 254 = .ok (.bipush 6, 2) := dk_16 6 (dk_at dksX0_init_11 1 rfl rfl)
theorem dX0_init_256 : decode cX0_init 256 = .ok (.newarray .int, 2) := dk_188_10 (dk_at dksX0_init_11 3 rfl rfl)
theorem dX0_init_258 : decode cX0_init 258 = .ok (.putfield 115, 3) := dk_181 0 115 (dk_at dksX0_init_11 5 rfl rfl)
theorem dX0_init_261 : decode cX0_init 261 = .ok (.aload_n 0, 1) := dk_42 (dk_at dksX0_init_11 8 rfl rfl)
theorem dX0_init_262 : decode cX0_init 262 = .ok (.bipush 6, 2) := dk_16 6 (dk_at dksX0_init_11 9 rfl rfl)
theorem dX0_init_264 : decode cX0_init 264 = .ok (.newarray .int, 2) := dk_188_10 (dk_at dksX0_init_11 11 rfl rfl)
theorem dX0_init_266 : decode cX0_init 266 = .ok (.putfield 118, 3) := dk_181 0 118 (dk_at dksX0_init_11 13 rfl rfl)
theorem dX0_init_269 : decode cX0_init 269 = .ok (.aload_n 0, 1) := dk_42 (dk_at dksX0_init_11 16 rfl rfl)
theorem dX0_init_270 : decode cX0_init 270 = .ok (.iconst 4, 1) := dk_7 (dk_at dksX0_init_11 17 rfl rfl)
theorem dX0_init_271 : decode cX0_init 271 = .ok (.newarray .int, 2) := dk_188_10 (dk_at dksX0_init_11 18 rfl rfl)
theorem dX0_init_273 : decode cX0_init 273 = .ok (.dup, 1) := dk_89 (dk_at dksX0_init_11 20 rfl rfl)
theorem dX0_init_274 : decode cX0_init 274 = .ok (.iconst 0, 1) := dk_3 (dk_at dksX0_init_11 21 rfl rfl)
theorem dX0_init_275 : decode cX0_init 275 = .ok (.iconst 0, 1) := dk_3 (dk_at dksX0_init_11 22 rfl rfl)
theorem dX0_init_276 : decode cX0_init 276 = .ok (.iastore, 1) := dk_79 (dk_at dksX0_init_11 23 rfl rfl)
theorem dX0_init_277 : decode cX0_init 277 = .ok (.dup, 1) := dk_89 (dk_at dksX0_init_12 0 rfl rfl)
theorem dX0_init_278 : decode cX0_init 278 = .ok (.iconst 1, 1) := dk_4 (dk_at dksX0_init_12 1 rfl rfl)
theorem dX0_init_279 : decode cX0_init 279 = .ok (.iconst 0, 1) := dk_3 (dk_at dksX0_init_12 2 rfl rfl)
theorem dX0_init_280 : decode cX0_init 280 = .ok (.iastore, 1) := dk_79 (dk_at dksX0_init_12 3 rfl rfl)
theorem dX0_init_281 : decode cX0_init 281 = .ok (.dup, 1) := dk_89 (dk_at dksX0_init_12 4 rfl rfl)
theorem dX0_init_282 : decode cX0_init 282 = .ok (.iconst 2, 1) := dk_5 (dk_at dksX0_init_12 5 rfl rfl)
theorem dX0_init_283 : decode cX0_init 283 = .ok (.iconst 0, 1) := dk_3 (dk_at dksX0_init_12 6 rfl rfl)
theorem dX0_init_284 : decode cX0_init 284 = .ok (.iastore, 1) := dk_79 (dk_at dksX0_init_12 7 rfl rfl)
theorem dX0_init_285 : decode cX0_init 285 = .ok (.dup, 1) := dk_89 (dk_at dksX0_init_12 8 rfl rfl)
theorem dX0_init_286 : decode cX0_init 286 = .ok (.iconst 3, 1) := dk_6 (dk_at dksX0_init_12 9 rfl rfl)
theorem dX0_init_287 : decode cX0_init 287 = .ok (.bipush (-2), 2) := dk_16 254 (dk_at dksX0_init_12 10 rfl rfl)
theorem dX0_init_289 : decode cX0_init 289 = .ok (.iastore, 1) := dk_79 (dk_at dksX0_init_12 12 rfl rfl)
theorem dX0_init_290 : decode cX0_init 290 = .ok (.putfield 121, 3) := dk_181 0 121 (dk_at dksX0_init_12 13 rfl rfl)
theorem dX0_init_293 : decode cX0_init 293 = .ok (.aload_n 0, 1) := dk_42 (dk_at dksX0_init_12 16 rfl rfl)
theorem dX0_init_294 : decode cX0_init 294 = .ok (.new 84, 3) := dk_187 0 84 (dk_at dksX0_init_12 17 rfl rfl)
theorem dX0_init_297 : decode cX0_init 297 = .ok (.dup, 1) := dk_89 (dk_at dksX0_init_12 20 rfl rfl)
theorem dX0_init_298 : decode cX0_init 298 = .ok (.aload_n 0, 1) := dk_42 (dk_at dksX0_init_12 21 rfl rfl)
theorem dX0_init_299 : decode cX0_init 299 = .ok (.invokespecial 86, 3) := dk_183 0 86 (dk_at dksX0_init_13 0 rfl rfl)
theorem dX0_init_302 : decode cX0_init 302 = .ok (.putfield 124, 3) := dk_181 0 124 (dk_at dksX0_init_13 3 rfl rfl)
theorem dX0_init_305 : decode cX0_init 305 = .ok (.aload_n 0, 1) := dk_42 (dk_at dksX0_init_13 6 rfl rfl)
theorem dX0_init_306 : decode cX0_init 306 = .ok (.iconst 4, 1) := dk_7 (dk_at dksX0_init_13 7 rfl rfl)
theorem dX0_init_307 : decode cX0_init 307 = .ok (.newarray .int, 2) := dk_188_10 (dk_at dksX0_init_13 8 rfl rfl)
theorem dX0_init_309 : decode cX0_init 309 = .ok (.putfield 127, 3) := dk_181 0 127 (dk_at dksX0_init_13 10 rfl rfl)
theorem dX0_init_312 : decode cX0_init 312 = .ok (.aload_n 0, 1) := dk_42 (dk_at dksX0_init_13 13 rfl rfl)
theorem dX0_init_313 : decode cX0_init 313 = .ok (.bipush 50, 2) := dk_16 50 (dk_at dksX0_init_13 14 rfl rfl)
theorem dX0_init_315 : decode cX0_init 315 = .ok (.anewarray 130, 3) := dk_189 0 130 (dk_at dksX0_init_13 16 rfl rfl)
theorem dX0_init_318 : decode cX0_init 318 = .ok (.putfield 132, 3) := dk_181 0 132 (dk_at dksX0_init_13 19 rfl rfl)
theorem dX0_init_321 : decode cX0_init 321 = .ok (.aload_n 0, 1) := dk_42 (dk_at dksX0_init_13 22 rfl rfl)
theorem dX0_init_322 : decode cX0_init 322 = .ok (.bipush 24, 2) := dk_16 24 (dk_at dksX0_init_14 0 rfl rfl)
theorem dX0_init_324 : decode cX0_init 324 = .ok (.newarray .int, 2) := dk_188_10 (dk_at dksX0_init_14 2 rfl rfl)
theorem dX0_init_326 : decode cX0_init 326 = .ok (.putfield 136, 3) := dk_181 0 136 (dk_at dksX0_init_14 4 rfl rfl)
theorem dX0_init_329 : decode cX0_init 329 = .ok (.aload_n 0, 1) := dk_42 (dk_at dksX0_init_14 7 rfl rfl)
theorem dX0_init_330 : decode cX0_init 330 = .ok (.bipush 6, 2) := dk_16 6 (dk_at dksX0_init_14 8 rfl rfl)
theorem dX0_init_332 : decode cX0_init 332 = .ok (.anewarray 32, 3) := dk_189 0 32 (dk_at dksX0_init_14 10 rfl rfl)
theorem dX0_init_335 : decode cX0_init 335 = .ok (.putfield 139, 3) := dk_181 0 139 (dk_at dksX0_init_14 13 rfl rfl)
theorem dX0_init_338 : decode cX0_init 338 = .ok (.iconst 0, 1) := dk_3 (dk_at dksX0_init_14 16 rfl rfl)
theorem dX0_init_339 : decode cX0_init 339 = .ok (.istore_n 1, 1) := dk_60 (dk_at dksX0_init_14 17 rfl rfl)
theorem dX0_init_340 : decode cX0_init 340 = .ok (.iload_n 1, 1) := dk_27 (dk_at dksX0_init_14 18 rfl rfl)
theorem dX0_init_341 : decode cX0_init 341 = .ok (.bipush 40, 2) := dk_16 40 (dk_at dksX0_init_14 19 rfl rfl)
theorem dX0_init_343 : decode cX0_init 343 = .ok (.if_icmp .ge 22, 3) := dk_162 0 22 (dk_at dksX0_init_14 21 rfl rfl)
theorem dX0_init_346 : decode cX0_init 346 = .ok (.aload_n 0, 1) := dk_42 (dk_at dksX0_init_15 0 rfl rfl)
theorem dX0_init_347 : decode cX0_init 347 = .ok (.getfield 12, 3) := dk_180 0 12 (dk_at dksX0_init_15 1 rfl rfl)
theorem dX0_init_350 : decode cX0_init 350 = .ok (.iload_n 1, 1) := dk_27 (dk_at dksX0_init_15 4 rfl rfl)
theorem dX0_init_351 : decode cX0_init 351 = .ok (.new 17, 3) := dk_187 0 17 (dk_at dksX0_init_15 5 rfl rfl)
theorem dX0_init_354 : decode cX0_init 354 = .ok (.dup, 1) := dk_89 (dk_at dksX0_init_15 8 rfl rfl)
theorem dX0_init_355 : decode cX0_init 355 = .ok (.invokespecial 143, 3) := dk_183 0 143 (dk_at dksX0_init_15 9 rfl rfl)
theorem dX0_init_358 : decode cX0_init 358 = .ok (.aastore, 1) := dk_83 (dk_at dksX0_init_15 12 rfl rfl)
theorem dX0_init_359 : decode cX0_init 359 = .ok (.iinc 1 1, 3) := dk_132 1 1 (dk_at dksX0_init_15 13 rfl rfl)
theorem dX0_init_362 : decode cX0_init 362 = .ok (.goto (-22), 3) := dk_167 255 234 (dk_at dksX0_init_15 16 rfl rfl)
theorem dX0_init_365 : decode cX0_init 365 = .ok (.iconst 0, 1) := dk_3 (dk_at dksX0_init_15 19 rfl rfl)
theorem dX0_init_366 : decode cX0_init 366 = .ok (.istore_n 1, 1) := dk_60 (dk_at dksX0_init_15 20 rfl rfl)
theorem dX0_init_367 : decode cX0_init 367 = .ok (.iload_n 1, 1) := dk_27 (dk_at dksX0_init_15 21 rfl rfl)
theorem dX0_init_368 : decode cX0_init 368 = .ok (.iconst 4, 1) := dk_7 (dk_at dksX0_init_15 22 rfl rfl)
theorem dX0_init_369 : decode cX0_init 369 = .ok (.if_icmp .ge 30, 3) := dk_162 0 30 (dk_at dksX0_init_16 0 rfl rfl)
theorem dX0_init_372 : decode cX0_init 372 = .ok (.aload_n 0, 1) := dk_42 (dk_at dksX0_init_16 3 rfl rfl)
theorem dX0_init_373 : decode cX0_init 373 = .ok (.getfield 54, 3) := dk_180 0 54 (dk_at dksX0_init_16 4 rfl rfl)
theorem dX0_init_376 : decode cX0_init 376 = .ok (.iload_n 1, 1) := dk_27 (dk_at dksX0_init_16 7 rfl rfl)
theorem dX0_init_377 : decode cX0_init 377 = .ok (.bipush 50, 2) := dk_16 50 (dk_at dksX0_init_16 8 rfl rfl)
theorem dX0_init_379 : decode cX0_init 379 = .ok (.invokestatic 61, 3) := dk_184 0 61 (dk_at dksX0_init_16 10 rfl rfl)
theorem dX0_init_382 : decode cX0_init 382 = .ok (.aastore, 1) := dk_83 (dk_at dksX0_init_16 13 rfl rfl)
theorem dX0_init_383 : decode cX0_init 383 = .ok (.aload_n 0, 1) := dk_42 (dk_at dksX0_init_16 14 rfl rfl)
theorem dX0_init_384 : decode cX0_init 384 = .ok (.getfield 58, 3) := dk_180 0 58 (dk_at dksX0_init_16 15 rfl rfl)
theorem dX0_init_387 : decode cX0_init 387 = .ok (.iload_n 1, 1) := dk_27 (dk_at dksX0_init_16 18 rfl rfl)
theorem dX0_init_388 : decode cX0_init 388 = .ok (.iconst 1, 1) := dk_4 (dk_at dksX0_init_16 19 rfl rfl)
theorem dX0_init_389 : decode cX0_init 389 = .ok (.invokestatic 61, 3) := dk_184 0 61 (dk_at dksX0_init_16 20 rfl rfl)
theorem dX0_init_392 : decode cX0_init 392 = .ok (.aastore, 1) := dk_83 (dk_at dksX0_init_16 23 rfl rfl)
theorem dX0_init_393 : decode cX0_init 393 = .ok (.iinc 1 1, 3) := dk_132 1 1 (dk_at dksX0_init_17 0 rfl rfl)
theorem dX0_init_396 : decode cX0_init 396 = .ok (.goto (-29), 3) := dk_167 255 227 (dk_at dksX0_init_17 3 rfl rfl)
theorem dX0_init_399 : decode cX0_init 399 = .ok (.return_, 1) := dk_177 (dk_at dksX0_init_17 6 rfl rfl)
abbrev cX0_heldAt : ByteArray := prog_1_method_9_code
def yX0_heldAt : MethodName := ⟨RX0, "heldAt", "(I)LLeftAsFound$Held;"⟩
def dkwX0_heldAt_0 : List UInt8 := [187, 0, 4, 89, 183, 0, 144, 76, 43, 26, 181, 0, 3, 43, 176]
abbrev dktX0_heldAt_0 : List UInt8 := dkwX0_heldAt_0 ++ []
theorem dksX0_heldAt_0 : cX0_heldAt.data.toList.drop 0 = dktX0_heldAt_0 := by decide +kernel
theorem dX0_heldAt_0 : decode cX0_heldAt 0 = .ok (.new 4, 3) := dk_187 0 4 (dk_at dksX0_heldAt_0 0 rfl rfl)
theorem dX0_heldAt_3 : decode cX0_heldAt 3 = .ok (.dup, 1) := dk_89 (dk_at dksX0_heldAt_0 3 rfl rfl)
theorem dX0_heldAt_4 : decode cX0_heldAt 4 = .ok (.invokespecial 144, 3) := dk_183 0 144 (dk_at dksX0_heldAt_0 4 rfl rfl)
theorem dX0_heldAt_7 : decode cX0_heldAt 7 = .ok (.astore_n 1, 1) := dk_76 (dk_at dksX0_heldAt_0 7 rfl rfl)
theorem dX0_heldAt_8 : decode cX0_heldAt 8 = .ok (.aload_n 1, 1) := dk_43 (dk_at dksX0_heldAt_0 8 rfl rfl)
theorem dX0_heldAt_9 : decode cX0_heldAt 9 = .ok (.iload_n 0, 1) := dk_26 (dk_at dksX0_heldAt_0 9 rfl rfl)
theorem dX0_heldAt_10 : decode cX0_heldAt 10 = .ok (.putfield 3, 3) := dk_181 0 3 (dk_at dksX0_heldAt_0 10 rfl rfl)
theorem dX0_heldAt_13 : decode cX0_heldAt 13 = .ok (.aload_n 1, 1) := dk_43 (dk_at dksX0_heldAt_0 13 rfl rfl)
theorem dX0_heldAt_14 : decode cX0_heldAt 14 = .ok (.areturn, 1) := dk_176 (dk_at dksX0_heldAt_0 14 rfl rfl)
abbrev cX0_feed : ByteArray := prog_1_method_10_code
def yX0_feed : MethodName := ⟨RX0, "feed", "(I)I"⟩
def dkwX0_feed_2 : List UInt8 := [172]
abbrev dktX0_feed_2 : List UInt8 := dkwX0_feed_2 ++ []
def dkwX0_feed_1 : List UInt8 := [16, 253, 172, 42, 180, 0, 37, 42, 89, 180, 0, 151, 90, 4, 96, 181, 0, 151, 27, 79, 42, 180, 0, 151]
abbrev dktX0_feed_1 : List UInt8 := dkwX0_feed_1 ++ dktX0_feed_2
def dkwX0_feed_0 : List UInt8 := [27, 133, 9, 20, 0, 145, 184, 0, 147, 154, 0, 5, 2, 172, 42, 180, 0, 151, 16, 120, 160, 0, 6]
abbrev dktX0_feed_0 : List UInt8 := dkwX0_feed_0 ++ dktX0_feed_1
theorem dksX0_feed_0 : cX0_feed.data.toList.drop 0 = dktX0_feed_0 := by decide +kernel
theorem dksX0_feed_1 : cX0_feed.data.toList.drop 23 = dktX0_feed_1 := dk_seg dksX0_feed_0 23 rfl rfl
theorem dksX0_feed_2 : cX0_feed.data.toList.drop 47 = dktX0_feed_2 := dk_seg dksX0_feed_1 24 rfl rfl
theorem dX0_feed_0 : decode cX0_feed 0 = .ok (.iload_n 1, 1) := dk_27 (dk_at dksX0_feed_0 0 rfl rfl)
theorem dX0_feed_1 : decode cX0_feed 1 = .ok (.i2l, 1) := dk_133 (dk_at dksX0_feed_0 1 rfl rfl)
theorem dX0_feed_2 : decode cX0_feed 2 = .ok (.lconst 0, 1) := dk_9 (dk_at dksX0_feed_0 2 rfl rfl)
theorem dX0_feed_3 : decode cX0_feed 3 = .ok (.ldc2_w 145, 3) := dk_20 0 145 (dk_at dksX0_feed_0 3 rfl rfl)
theorem dX0_feed_6 : decode cX0_feed 6 = .ok (.invokestatic 147, 3) := dk_184 0 147 (dk_at dksX0_feed_0 6 rfl rfl)
theorem dX0_feed_9 : decode cX0_feed 9 = .ok (.ifCond .ne 5, 3) := dk_154 0 5 (dk_at dksX0_feed_0 9 rfl rfl)
theorem dX0_feed_12 : decode cX0_feed 12 = .ok (.iconst (-1), 1) := dk_2 (dk_at dksX0_feed_0 12 rfl rfl)
theorem dX0_feed_13 : decode cX0_feed 13 = .ok (.ireturn, 1) := dk_172 (dk_at dksX0_feed_0 13 rfl rfl)
theorem dX0_feed_14 : decode cX0_feed 14 = .ok (.aload_n 0, 1) := dk_42 (dk_at dksX0_feed_0 14 rfl rfl)
theorem dX0_feed_15 : decode cX0_feed 15 = .ok (.getfield 151, 3) := dk_180 0 151 (dk_at dksX0_feed_0 15 rfl rfl)
theorem dX0_feed_18 : decode cX0_feed 18 = .ok (.bipush 120, 2) := dk_16 120 (dk_at dksX0_feed_0 18 rfl rfl)
theorem dX0_feed_20 : decode cX0_feed 20 = .ok (.if_icmp .ne 6, 3) := dk_160 0 6 (dk_at dksX0_feed_0 20 rfl rfl)
theorem dX0_feed_23 : decode cX0_feed 23 = .ok (.bipush (-3), 2) := dk_16 253 (dk_at dksX0_feed_1 0 rfl rfl)
theorem dX0_feed_25 : decode cX0_feed 25 = .ok (.ireturn, 1) := dk_172 (dk_at dksX0_feed_1 2 rfl rfl)
theorem dX0_feed_26 : decode cX0_feed 26 = .ok (.aload_n 0, 1) := dk_42 (dk_at dksX0_feed_1 3 rfl rfl)
theorem dX0_feed_27 : decode cX0_feed 27 = .ok (.getfield 37, 3) := dk_180 0 37 (dk_at dksX0_feed_1 4 rfl rfl)
theorem dX0_feed_30 : decode cX0_feed 30 = .ok (.aload_n 0, 1) := dk_42 (dk_at dksX0_feed_1 7 rfl rfl)
theorem dX0_feed_31 : decode cX0_feed 31 = .ok (.dup, 1) := dk_89 (dk_at dksX0_feed_1 8 rfl rfl)
theorem dX0_feed_32 : decode cX0_feed 32 = .ok (.getfield 151, 3) := dk_180 0 151 (dk_at dksX0_feed_1 9 rfl rfl)
theorem dX0_feed_35 : decode cX0_feed 35 = .ok (.dup_x1, 1) := dk_90 (dk_at dksX0_feed_1 12 rfl rfl)
theorem dX0_feed_36 : decode cX0_feed 36 = .ok (.iconst 1, 1) := dk_4 (dk_at dksX0_feed_1 13 rfl rfl)
theorem dX0_feed_37 : decode cX0_feed 37 = .ok (.iadd, 1) := dk_96 (dk_at dksX0_feed_1 14 rfl rfl)
theorem dX0_feed_38 : decode cX0_feed 38 = .ok (.putfield 151, 3) := dk_181 0 151 (dk_at dksX0_feed_1 15 rfl rfl)
theorem dX0_feed_41 : decode cX0_feed 41 = .ok (.iload_n 1, 1) := dk_27 (dk_at dksX0_feed_1 18 rfl rfl)
theorem dX0_feed_42 : decode cX0_feed 42 = .ok (.iastore, 1) := dk_79 (dk_at dksX0_feed_1 19 rfl rfl)
theorem dX0_feed_43 : decode cX0_feed 43 = .ok (.aload_n 0, 1) := dk_42 (dk_at dksX0_feed_1 20 rfl rfl)
theorem dX0_feed_44 : decode cX0_feed 44 = .ok (.getfield 151, 3) := dk_180 0 151 (dk_at dksX0_feed_1 21 rfl rfl)
theorem dX0_feed_47 : decode cX0_feed 47 = .ok (.ireturn, 1) := dk_172 (dk_at dksX0_feed_2 0 rfl rfl)
abbrev cX0_within : ByteArray := prog_1_method_1_code
def yX0_within : MethodName := ⟨RX0, "within", "(JJJ)Z"⟩
def dkwX0_within_0 : List UInt8 := [30, 32, 148, 155, 0, 14, 30, 22, 4, 148, 157, 0, 7, 4, 167, 0, 4, 3, 172]
abbrev dktX0_within_0 : List UInt8 := dkwX0_within_0 ++ []
theorem dksX0_within_0 : cX0_within.data.toList.drop 0 = dktX0_within_0 := by decide +kernel
theorem dX0_within_0 : decode cX0_within 0 = .ok (.lload_n 0, 1) := dk_30 (dk_at dksX0_within_0 0 rfl rfl)
theorem dX0_within_1 : decode cX0_within 1 = .ok (.lload_n 2, 1) := dk_32 (dk_at dksX0_within_0 1 rfl rfl)
theorem dX0_within_2 : decode cX0_within 2 = .ok (.lcmp, 1) := dk_148 (dk_at dksX0_within_0 2 rfl rfl)
theorem dX0_within_3 : decode cX0_within 3 = .ok (.ifCond .lt 14, 3) := dk_155 0 14 (dk_at dksX0_within_0 3 rfl rfl)
theorem dX0_within_6 : decode cX0_within 6 = .ok (.lload_n 0, 1) := dk_30 (dk_at dksX0_within_0 6 rfl rfl)
theorem dX0_within_7 : decode cX0_within 7 = .ok (.lload 4, 2) := dk_22 4 (dk_at dksX0_within_0 7 rfl rfl)
theorem dX0_within_9 : decode cX0_within 9 = .ok (.lcmp, 1) := dk_148 (dk_at dksX0_within_0 9 rfl rfl)
theorem dX0_within_10 : decode cX0_within 10 = .ok (.ifCond .gt 7, 3) := dk_157 0 7 (dk_at dksX0_within_0 10 rfl rfl)
theorem dX0_within_13 : decode cX0_within 13 = .ok (.iconst 1, 1) := dk_4 (dk_at dksX0_within_0 13 rfl rfl)
theorem dX0_within_14 : decode cX0_within 14 = .ok (.goto 4, 3) := dk_167 0 4 (dk_at dksX0_within_0 14 rfl rfl)
theorem dX0_within_17 : decode cX0_within 17 = .ok (.iconst 0, 1) := dk_3 (dk_at dksX0_within_0 17 rfl rfl)
theorem dX0_within_18 : decode cX0_within 18 = .ok (.ireturn, 1) := dk_172 (dk_at dksX0_within_0 18 rfl rfl)
abbrev cX0_guest : ByteArray := prog_1_method_19_code
def yX0_guest : MethodName := ⟨RX0, "guest", "(II)I"⟩
def dkwX0_guest_2 : List UInt8 := [4, 96, 181, 0, 169, 172]
abbrev dktX0_guest_2 : List UInt8 := dkwX0_guest_2 ++ []
def dkwX0_guest_1 : List UInt8 := [180, 0, 50, 42, 180, 0, 169, 187, 0, 48, 89, 27, 28, 3, 183, 0, 189, 83, 42, 89, 180, 0, 169, 90]
abbrev dktX0_guest_1 : List UInt8 := dkwX0_guest_1 ++ dktX0_guest_2
def dkwX0_guest_0 : List UInt8 := [27, 28, 3, 184, 0, 185, 154, 0, 5, 2, 172, 42, 180, 0, 169, 16, 7, 160, 0, 6, 16, 253, 172, 42]
abbrev dktX0_guest_0 : List UInt8 := dkwX0_guest_0 ++ dktX0_guest_1
theorem dksX0_guest_0 : cX0_guest.data.toList.drop 0 = dktX0_guest_0 := by decide +kernel
theorem dksX0_guest_1 : cX0_guest.data.toList.drop 24 = dktX0_guest_1 := dk_seg dksX0_guest_0 24 rfl rfl
theorem dksX0_guest_2 : cX0_guest.data.toList.drop 48 = dktX0_guest_2 := dk_seg dksX0_guest_1 24 rfl rfl
theorem dX0_guest_0 : decode cX0_guest 0 = .ok (.iload_n 1, 1) := dk_27 (dk_at dksX0_guest_0 0 rfl rfl)
theorem dX0_guest_1 : decode cX0_guest 1 = .ok (.iload_n 2, 1) := dk_28 (dk_at dksX0_guest_0 1 rfl rfl)
theorem dX0_guest_2 : decode cX0_guest 2 = .ok (.iconst 0, 1) := dk_3 (dk_at dksX0_guest_0 2 rfl rfl)
theorem dX0_guest_3 : decode cX0_guest 3 = .ok (.invokestatic 185, 3) := dk_184 0 185 (dk_at dksX0_guest_0 3 rfl rfl)
theorem dX0_guest_6 : decode cX0_guest 6 = .ok (.ifCond .ne 5, 3) := dk_154 0 5 (dk_at dksX0_guest_0 6 rfl rfl)
theorem dX0_guest_9 : decode cX0_guest 9 = .ok (.iconst (-1), 1) := dk_2 (dk_at dksX0_guest_0 9 rfl rfl)
theorem dX0_guest_10 : decode cX0_guest 10 = .ok (.ireturn, 1) := dk_172 (dk_at dksX0_guest_0 10 rfl rfl)
theorem dX0_guest_11 : decode cX0_guest 11 = .ok (.aload_n 0, 1) := dk_42 (dk_at dksX0_guest_0 11 rfl rfl)
theorem dX0_guest_12 : decode cX0_guest 12 = .ok (.getfield 169, 3) := dk_180 0 169 (dk_at dksX0_guest_0 12 rfl rfl)
theorem dX0_guest_15 : decode cX0_guest 15 = .ok (.bipush 7, 2) := dk_16 7 (dk_at dksX0_guest_0 15 rfl rfl)
theorem dX0_guest_17 : decode cX0_guest 17 = .ok (.if_icmp .ne 6, 3) := dk_160 0 6 (dk_at dksX0_guest_0 17 rfl rfl)
theorem dX0_guest_20 : decode cX0_guest 20 = .ok (.bipush (-3), 2) := dk_16 253 (dk_at dksX0_guest_0 20 rfl rfl)
theorem dX0_guest_22 : decode cX0_guest 22 = .ok (.ireturn, 1) := dk_172 (dk_at dksX0_guest_0 22 rfl rfl)
theorem dX0_guest_23 : decode cX0_guest 23 = .ok (.aload_n 0, 1) := dk_42 (dk_at dksX0_guest_0 23 rfl rfl)
theorem dX0_guest_24 : decode cX0_guest 24 = .ok (.getfield 50, 3) := dk_180 0 50 (dk_at dksX0_guest_1 0 rfl rfl)
theorem dX0_guest_27 : decode cX0_guest 27 = .ok (.aload_n 0, 1) := dk_42 (dk_at dksX0_guest_1 3 rfl rfl)
theorem dX0_guest_28 : decode cX0_guest 28 = .ok (.getfield 169, 3) := dk_180 0 169 (dk_at dksX0_guest_1 4 rfl rfl)
theorem dX0_guest_31 : decode cX0_guest 31 = .ok (.new 48, 3) := dk_187 0 48 (dk_at dksX0_guest_1 7 rfl rfl)
theorem dX0_guest_34 : decode cX0_guest 34 = .ok (.dup, 1) := dk_89 (dk_at dksX0_guest_1 10 rfl rfl)
theorem dX0_guest_35 : decode cX0_guest 35 = .ok (.iload_n 1, 1) := dk_27 (dk_at dksX0_guest_1 11 rfl rfl)
theorem dX0_guest_36 : decode cX0_guest 36 = .ok (.iload_n 2, 1) := dk_28 (dk_at dksX0_guest_1 12 rfl rfl)
theorem dX0_guest_37 : decode cX0_guest 37 = .ok (.iconst 0, 1) := dk_3 (dk_at dksX0_guest_1 13 rfl rfl)
theorem dX0_guest_38 : decode cX0_guest 38 = .ok (.invokespecial 189, 3) := dk_183 0 189 (dk_at dksX0_guest_1 14 rfl rfl)
theorem dX0_guest_41 : decode cX0_guest 41 = .ok (.aastore, 1) := dk_83 (dk_at dksX0_guest_1 17 rfl rfl)
theorem dX0_guest_42 : decode cX0_guest 42 = .ok (.aload_n 0, 1) := dk_42 (dk_at dksX0_guest_1 18 rfl rfl)
theorem dX0_guest_43 : decode cX0_guest 43 = .ok (.dup, 1) := dk_89 (dk_at dksX0_guest_1 19 rfl rfl)
theorem dX0_guest_44 : decode cX0_guest 44 = .ok (.getfield 169, 3) := dk_180 0 169 (dk_at dksX0_guest_1 20 rfl rfl)
theorem dX0_guest_47 : decode cX0_guest 47 = .ok (.dup_x1, 1) := dk_90 (dk_at dksX0_guest_1 23 rfl rfl)
theorem dX0_guest_48 : decode cX0_guest 48 = .ok (.iconst 1, 1) := dk_4 (dk_at dksX0_guest_2 0 rfl rfl)
theorem dX0_guest_49 : decode cX0_guest 49 = .ok (.iadd, 1) := dk_96 (dk_at dksX0_guest_2 1 rfl rfl)
theorem dX0_guest_50 : decode cX0_guest 50 = .ok (.putfield 169, 3) := dk_181 0 169 (dk_at dksX0_guest_2 2 rfl rfl)
theorem dX0_guest_53 : decode cX0_guest 53 = .ok (.ireturn, 1) := dk_172 (dk_at dksX0_guest_2 5 rfl rfl)
abbrev cX0_mayBe : ByteArray := prog_1_method_18_code
def yX0_mayBe : MethodName := ⟨RX0, "mayBe", "(III)Z"⟩
def dkwX0_mayBe_1 : List UInt8 := [28, 133, 9, 20, 0, 172, 184, 0, 147, 153, 0, 7, 4, 167, 0, 4, 3, 172]
abbrev dktX0_mayBe_1 : List UInt8 := dkwX0_mayBe_1 ++ []
def dkwX0_mayBe_0 : List UInt8 := [26, 133, 9, 20, 0, 181, 184, 0, 147, 153, 0, 31, 27, 133, 9, 20, 0, 183, 184, 0, 147, 153, 0, 19]
abbrev dktX0_mayBe_0 : List UInt8 := dkwX0_mayBe_0 ++ dktX0_mayBe_1
theorem dksX0_mayBe_0 : cX0_mayBe.data.toList.drop 0 = dktX0_mayBe_0 := by decide +kernel
theorem dksX0_mayBe_1 : cX0_mayBe.data.toList.drop 24 = dktX0_mayBe_1 := dk_seg dksX0_mayBe_0 24 rfl rfl
theorem dX0_mayBe_0 : decode cX0_mayBe 0 = .ok (.iload_n 0, 1) := dk_26 (dk_at dksX0_mayBe_0 0 rfl rfl)
theorem dX0_mayBe_1 : decode cX0_mayBe 1 = .ok (.i2l, 1) := dk_133 (dk_at dksX0_mayBe_0 1 rfl rfl)
theorem dX0_mayBe_2 : decode cX0_mayBe 2 = .ok (.lconst 0, 1) := dk_9 (dk_at dksX0_mayBe_0 2 rfl rfl)
theorem dX0_mayBe_3 : decode cX0_mayBe 3 = .ok (.ldc2_w 181, 3) := dk_20 0 181 (dk_at dksX0_mayBe_0 3 rfl rfl)
theorem dX0_mayBe_6 : decode cX0_mayBe 6 = .ok (.invokestatic 147, 3) := dk_184 0 147 (dk_at dksX0_mayBe_0 6 rfl rfl)
theorem dX0_mayBe_9 : decode cX0_mayBe 9 = .ok (.ifCond .eq 31, 3) := dk_153 0 31 (dk_at dksX0_mayBe_0 9 rfl rfl)
theorem dX0_mayBe_12 : decode cX0_mayBe 12 = .ok (.iload_n 1, 1) := dk_27 (dk_at dksX0_mayBe_0 12 rfl rfl)
theorem dX0_mayBe_13 : decode cX0_mayBe 13 = .ok (.i2l, 1) := dk_133 (dk_at dksX0_mayBe_0 13 rfl rfl)
theorem dX0_mayBe_14 : decode cX0_mayBe 14 = .ok (.lconst 0, 1) := dk_9 (dk_at dksX0_mayBe_0 14 rfl rfl)
theorem dX0_mayBe_15 : decode cX0_mayBe 15 = .ok (.ldc2_w 183, 3) := dk_20 0 183 (dk_at dksX0_mayBe_0 15 rfl rfl)
theorem dX0_mayBe_18 : decode cX0_mayBe 18 = .ok (.invokestatic 147, 3) := dk_184 0 147 (dk_at dksX0_mayBe_0 18 rfl rfl)
theorem dX0_mayBe_21 : decode cX0_mayBe 21 = .ok (.ifCond .eq 19, 3) := dk_153 0 19 (dk_at dksX0_mayBe_0 21 rfl rfl)
theorem dX0_mayBe_24 : decode cX0_mayBe 24 = .ok (.iload_n 2, 1) := dk_28 (dk_at dksX0_mayBe_1 0 rfl rfl)
theorem dX0_mayBe_25 : decode cX0_mayBe 25 = .ok (.i2l, 1) := dk_133 (dk_at dksX0_mayBe_1 1 rfl rfl)
theorem dX0_mayBe_26 : decode cX0_mayBe 26 = .ok (.lconst 0, 1) := dk_9 (dk_at dksX0_mayBe_1 2 rfl rfl)
theorem dX0_mayBe_27 : decode cX0_mayBe 27 = .ok (.ldc2_w 172, 3) := dk_20 0 172 (dk_at dksX0_mayBe_1 3 rfl rfl)
theorem dX0_mayBe_30 : decode cX0_mayBe 30 = .ok (.invokestatic 147, 3) := dk_184 0 147 (dk_at dksX0_mayBe_1 6 rfl rfl)
theorem dX0_mayBe_33 : decode cX0_mayBe 33 = .ok (.ifCond .eq 7, 3) := dk_153 0 7 (dk_at dksX0_mayBe_1 9 rfl rfl)
theorem dX0_mayBe_36 : decode cX0_mayBe 36 = .ok (.iconst 1, 1) := dk_4 (dk_at dksX0_mayBe_1 12 rfl rfl)
theorem dX0_mayBe_37 : decode cX0_mayBe 37 = .ok (.goto 4, 3) := dk_167 0 4 (dk_at dksX0_mayBe_1 13 rfl rfl)
theorem dX0_mayBe_40 : decode cX0_mayBe 40 = .ok (.iconst 0, 1) := dk_3 (dk_at dksX0_mayBe_1 16 rfl rfl)
theorem dX0_mayBe_41 : decode cX0_mayBe 41 = .ok (.ireturn, 1) := dk_172 (dk_at dksX0_mayBe_1 17 rfl rfl)
abbrev cX0_guests : ByteArray := prog_1_method_21_code
def yX0_guests : MethodName := ⟨RX0, "guests", "(III)I"⟩
def dkwX0_guests_7 : List UInt8 := [132, 6, 1, 167, 255, 144, 167, 0, 14, 58, 7, 42, 180, 0, 169, 21, 5, 100, 54, 6, 21, 6, 172]
abbrev dktX0_guests_7 : List UInt8 := dkwX0_guests_7 ++ []
def dkwX0_guests_6 : List UInt8 := [180, 0, 169, 90, 4, 96, 181, 0, 169, 187, 0, 48, 89, 21, 9, 21, 10, 21, 11, 183, 0, 189, 83]
abbrev dktX0_guests_6 : List UInt8 := dkwX0_guests_6 ++ dktX0_guests_7
def dkwX0_guests_5 : List UInt8 := [21, 9, 21, 10, 21, 11, 184, 0, 185, 154, 0, 8, 42, 180, 0, 77, 191, 42, 180, 0, 50, 42, 89]
abbrev dktX0_guests_5 : List UInt8 := dkwX0_guests_5 ++ dktX0_guests_6
def dkwX0_guests_4 : List UInt8 := [42, 25, 4, 22, 7, 20, 0, 207, 97, 182, 0, 203, 54, 11, 42, 180, 0, 169, 16, 7, 159, 0, 15]
abbrev dktX0_guests_4 : List UInt8 := dkwX0_guests_4 ++ dktX0_guests_5
def dkwX0_guests_3 : List UInt8 := [55, 7, 42, 25, 4, 22, 7, 182, 0, 203, 54, 9, 42, 25, 4, 22, 7, 10, 97, 182, 0, 203, 54, 10]
abbrev dktX0_guests_3 : List UInt8 := dkwX0_guests_3 ++ dktX0_guests_4
def dkwX0_guests_2 : List UInt8 := [180, 0, 169, 54, 5, 3, 54, 6, 21, 6, 29, 162, 0, 112, 28, 133, 20, 0, 172, 21, 6, 133, 105, 97]
abbrev dktX0_guests_2 : List UInt8 := dkwX0_guests_2 ++ dktX0_guests_3
def dkwX0_guests_1 : List UInt8 := [180, 0, 139, 27, 50, 58, 4, 25, 4, 198, 0, 14, 25, 4, 184, 0, 199, 153, 0, 6, 16, 244, 172, 42]
abbrev dktX0_guests_1 : List UInt8 := dkwX0_guests_1 ++ dktX0_guests_2
def dkwX0_guests_0 : List UInt8 := [27, 184, 0, 194, 153, 0, 15, 29, 133, 10, 20, 0, 197, 184, 0, 147, 154, 0, 5, 2, 172, 42]
abbrev dktX0_guests_0 : List UInt8 := dkwX0_guests_0 ++ dktX0_guests_1
theorem dksX0_guests_0 : cX0_guests.data.toList.drop 0 = dktX0_guests_0 := by decide +kernel
theorem dksX0_guests_1 : cX0_guests.data.toList.drop 22 = dktX0_guests_1 := dk_seg dksX0_guests_0 22 rfl rfl
theorem dksX0_guests_2 : cX0_guests.data.toList.drop 46 = dktX0_guests_2 := dk_seg dksX0_guests_1 24 rfl rfl
theorem dksX0_guests_3 : cX0_guests.data.toList.drop 70 = dktX0_guests_3 := dk_seg dksX0_guests_2 24 rfl rfl
theorem dksX0_guests_4 : cX0_guests.data.toList.drop 94 = dktX0_guests_4 := dk_seg dksX0_guests_3 24 rfl rfl
theorem dksX0_guests_5 : cX0_guests.data.toList.drop 117 = dktX0_guests_5 := dk_seg dksX0_guests_4 23 rfl rfl
theorem dksX0_guests_6 : cX0_guests.data.toList.drop 140 = dktX0_guests_6 := dk_seg dksX0_guests_5 23 rfl rfl
theorem dksX0_guests_7 : cX0_guests.data.toList.drop 163 = dktX0_guests_7 := dk_seg dksX0_guests_6 23 rfl rfl
theorem dX0_guests_0 : decode cX0_guests 0 = .ok (.iload_n 1, 1) := dk_27 (dk_at dksX0_guests_0 0 rfl rfl)
theorem dX0_guests_1 : decode cX0_guests 1 = .ok (.invokestatic 194, 3) := dk_184 0 194 (dk_at dksX0_guests_0 1 rfl rfl)
theorem dX0_guests_4 : decode cX0_guests 4 = .ok (.ifCond .eq 15, 3) := dk_153 0 15 (dk_at dksX0_guests_0 4 rfl rfl)
theorem dX0_guests_7 : decode cX0_guests 7 = .ok (.iload_n 3, 1) := dk_29 (dk_at dksX0_guests_0 7 rfl rfl)
theorem dX0_guests_8 : decode cX0_guests 8 = .ok (.i2l, 1) := dk_133 (dk_at dksX0_guests_0 8 rfl rfl)
theorem dX0_guests_9 : decode cX0_guests 9 = .ok (.lconst 1, 1) := dk_10 (dk_at dksX0_guests_0 9 rfl rfl)
theorem dX0_guests_10 : decode cX0_guests 10 = .ok (.ldc2_w 197, 3) := dk_20 0 197 (dk_at dksX0_guests_0 10 rfl rfl)
theorem dX0_guests_13 : decode cX0_guests 13 = .ok (.invokestatic 147, 3) := dk_184 0 147 (dk_at dksX0_guests_0 13 rfl rfl)
theorem dX0_guests_16 : decode cX0_guests 16 = .ok (.ifCond .ne 5, 3) := dk_154 0 5 (dk_at dksX0_guests_0 16 rfl rfl)
theorem dX0_guests_19 : decode cX0_guests 19 = .ok (.iconst (-1), 1) := dk_2 (dk_at dksX0_guests_0 19 rfl rfl)
theorem dX0_guests_20 : decode cX0_guests 20 = .ok (.ireturn, 1) := dk_172 (dk_at dksX0_guests_0 20 rfl rfl)
theorem dX0_guests_21 : decode cX0_guests 21 = .ok (.aload_n 0, 1) := dk_42 (dk_at dksX0_guests_0 21 rfl rfl)
theorem dX0_guests_22 : decode cX0_guests 22 = .ok (.getfield 139, 3) := dk_180 0 139 (dk_at dksX0_guests_1 0 rfl rfl)
theorem dX0_guests_25 : decode cX0_guests 25 = .ok (.iload_n 1, 1) := dk_27 (dk_at dksX0_guests_1 3 rfl rfl)
theorem dX0_guests_26 : decode cX0_guests 26 = .ok (.aaload, 1) := dk_50 (dk_at dksX0_guests_1 4 rfl rfl)
theorem dX0_guests_27 : decode cX0_guests 27 = .ok (.astore 4, 2) := dk_58 4 (dk_at dksX0_guests_1 5 rfl rfl)
theorem dX0_guests_29 : decode cX0_guests 29 = .ok (.aload 4, 2) := dk_25 4 (dk_at dksX0_guests_1 7 rfl rfl)
theorem dX0_guests_31 : decode cX0_guests 31 = .ok (.ifnull 14, 3) := dk_198 0 14 (dk_at dksX0_guests_1 9 rfl rfl)
theorem dX0_guests_34 : decode cX0_guests 34 = .ok (.aload 4, 2) := dk_25 4 (dk_at dksX0_guests_1 12 rfl rfl)
theorem dX0_guests_36 : decode cX0_guests 36 = .ok (.invokestatic 199, 3) := dk_184 0 199 (dk_at dksX0_guests_1 14 rfl rfl)
theorem dX0_guests_39 : decode cX0_guests 39 = .ok (.ifCond .eq 6, 3) := dk_153 0 6 (dk_at dksX0_guests_1 17 rfl rfl)
theorem dX0_guests_42 : decode cX0_guests 42 = .ok (.bipush (-12), 2) := dk_16 244 (dk_at dksX0_guests_1 20 rfl rfl)
theorem dX0_guests_44 : decode cX0_guests 44 = .ok (.ireturn, 1) := dk_172 (dk_at dksX0_guests_1 22 rfl rfl)
theorem dX0_guests_45 : decode cX0_guests 45 = .ok (.aload_n 0, 1) := dk_42 (dk_at dksX0_guests_1 23 rfl rfl)
theorem dX0_guests_46 : decode cX0_guests 46 = .ok (.getfield 169, 3) := dk_180 0 169 (dk_at dksX0_guests_2 0 rfl rfl)
theorem dX0_guests_49 : decode cX0_guests 49 = .ok (.istore 5, 2) := dk_54 5 (dk_at dksX0_guests_2 3 rfl rfl)
theorem dX0_guests_51 : decode cX0_guests 51 = .ok (.iconst 0, 1) := dk_3 (dk_at dksX0_guests_2 5 rfl rfl)
theorem dX0_guests_52 : decode cX0_guests 52 = .ok (.istore 6, 2) := dk_54 6 (dk_at dksX0_guests_2 6 rfl rfl)
theorem dX0_guests_54 : decode cX0_guests 54 = .ok (.iload 6, 2) := dk_21 6 (dk_at dksX0_guests_2 8 rfl rfl)
theorem dX0_guests_56 : decode cX0_guests 56 = .ok (.iload_n 3, 1) := dk_29 (dk_at dksX0_guests_2 10 rfl rfl)
theorem dX0_guests_57 : decode cX0_guests 57 = .ok (.if_icmp .ge 112, 3) := dk_162 0 112 (dk_at dksX0_guests_2 11 rfl rfl)
theorem dX0_guests_60 : decode cX0_guests 60 = .ok (.iload_n 2, 1) := dk_28 (dk_at dksX0_guests_2 14 rfl rfl)
theorem dX0_guests_61 : decode cX0_guests 61 = .ok (.i2l, 1) := dk_133 (dk_at dksX0_guests_2 15 rfl rfl)
theorem dX0_guests_62 : decode cX0_guests 62 = .ok (.ldc2_w 172, 3) := dk_20 0 172 (dk_at dksX0_guests_2 16 rfl rfl)
theorem dX0_guests_65 : decode cX0_guests 65 = .ok (.iload 6, 2) := dk_21 6 (dk_at dksX0_guests_2 19 rfl rfl)
theorem dX0_guests_67 : decode cX0_guests 67 = .ok (.i2l, 1) := dk_133 (dk_at dksX0_guests_2 21 rfl rfl)
theorem dX0_guests_68 : decode cX0_guests 68 = .ok (.lmul, 1) := dk_105 (dk_at dksX0_guests_2 22 rfl rfl)
theorem dX0_guests_69 : decode cX0_guests 69 = .ok (.ladd, 1) := dk_97 (dk_at dksX0_guests_2 23 rfl rfl)
theorem dX0_guests_70 : decode cX0_guests 70 = .ok (.lstore 7, 2) := dk_55 7 (dk_at dksX0_guests_3 0 rfl rfl)
theorem dX0_guests_72 : decode cX0_guests 72 = .ok (.aload_n 0, 1) := dk_42 (dk_at dksX0_guests_3 2 rfl rfl)
theorem dX0_guests_73 : decode cX0_guests 73 = .ok (.aload 4, 2) := dk_25 4 (dk_at dksX0_guests_3 3 rfl rfl)
theorem dX0_guests_75 : decode cX0_guests 75 = .ok (.lload 7, 2) := dk_22 7 (dk_at dksX0_guests_3 5 rfl rfl)
theorem dX0_guests_77 : decode cX0_guests 77 = .ok (.invokevirtual 203, 3) := dk_182 0 203 (dk_at dksX0_guests_3 7 rfl rfl)
theorem dX0_guests_80 : decode cX0_guests 80 = .ok (.istore 9, 2) := dk_54 9 (dk_at dksX0_guests_3 10 rfl rfl)
theorem dX0_guests_82 : decode cX0_guests 82 = .ok (.aload_n 0, 1) := dk_42 (dk_at dksX0_guests_3 12 rfl rfl)
theorem dX0_guests_83 : decode cX0_guests 83 = .ok (.aload 4, 2) := dk_25 4 (dk_at dksX0_guests_3 13 rfl rfl)
theorem dX0_guests_85 : decode cX0_guests 85 = .ok (.lload 7, 2) := dk_22 7 (dk_at dksX0_guests_3 15 rfl rfl)
theorem dX0_guests_87 : decode cX0_guests 87 = .ok (.lconst 1, 1) := dk_10 (dk_at dksX0_guests_3 17 rfl rfl)
theorem dX0_guests_88 : decode cX0_guests 88 = .ok (.ladd, 1) := dk_97 (dk_at dksX0_guests_3 18 rfl rfl)
theorem dX0_guests_89 : decode cX0_guests 89 = .ok (.invokevirtual 203, 3) := dk_182 0 203 (dk_at dksX0_guests_3 19 rfl rfl)
theorem dX0_guests_92 : decode cX0_guests 92 = .ok (.istore 10, 2) := dk_54 10 (dk_at dksX0_guests_3 22 rfl rfl)
theorem dX0_guests_94 : decode cX0_guests 94 = .ok (.aload_n 0, 1) := dk_42 (dk_at dksX0_guests_4 0 rfl rfl)
theorem dX0_guests_95 : decode cX0_guests 95 = .ok (.aload 4, 2) := dk_25 4 (dk_at dksX0_guests_4 1 rfl rfl)
theorem dX0_guests_97 : decode cX0_guests 97 = .ok (.lload 7, 2) := dk_22 7 (dk_at dksX0_guests_4 3 rfl rfl)
theorem dX0_guests_99 : decode cX0_guests 99 = .ok (.ldc2_w 207, 3) := dk_20 0 207 (dk_at dksX0_guests_4 5 rfl rfl)
theorem dX0_guests_102 : decode cX0_guests 102 = .ok (.ladd, 1) := dk_97 (dk_at dksX0_guests_4 8 rfl rfl)
theorem dX0_guests_103 : decode cX0_guests 103 = .ok (.invokevirtual 203, 3) := dk_182 0 203 (dk_at dksX0_guests_4 9 rfl rfl)
theorem dX0_guests_106 : decode cX0_guests 106 = .ok (.istore 11, 2) := dk_54 11 (dk_at dksX0_guests_4 12 rfl rfl)
theorem dX0_guests_108 : decode cX0_guests 108 = .ok (.aload_n 0, 1) := dk_42 (dk_at dksX0_guests_4 14 rfl rfl)
theorem dX0_guests_109 : decode cX0_guests 109 = .ok (.getfield 169, 3) := dk_180 0 169 (dk_at dksX0_guests_4 15 rfl rfl)
theorem dX0_guests_112 : decode cX0_guests 112 = .ok (.bipush 7, 2) := dk_16 7 (dk_at dksX0_guests_4 18 rfl rfl)
theorem dX0_guests_114 : decode cX0_guests 114 = .ok (.if_icmp .eq 15, 3) := dk_159 0 15 (dk_at dksX0_guests_4 20 rfl rfl)
theorem dX0_guests_117 : decode cX0_guests 117 = .ok (.iload 9, 2) := dk_21 9 (dk_at dksX0_guests_5 0 rfl rfl)
theorem dX0_guests_119 : decode cX0_guests 119 = .ok (.iload 10, 2) := dk_21 10 (dk_at dksX0_guests_5 2 rfl rfl)
theorem dX0_guests_121 : decode cX0_guests 121 = .ok (.iload 11, 2) := dk_21 11 (dk_at dksX0_guests_5 4 rfl rfl)
theorem dX0_guests_123 : decode cX0_guests 123 = .ok (.invokestatic 185, 3) := dk_184 0 185 (dk_at dksX0_guests_5 6 rfl rfl)
theorem dX0_guests_126 : decode cX0_guests 126 = .ok (.ifCond .ne 8, 3) := dk_154 0 8 (dk_at dksX0_guests_5 9 rfl rfl)
theorem dX0_guests_129 : decode cX0_guests 129 = .ok (.aload_n 0, 1) := dk_42 (dk_at dksX0_guests_5 12 rfl rfl)
theorem dX0_guests_130 : decode cX0_guests 130 = .ok (.getfield 77, 3) := dk_180 0 77 (dk_at dksX0_guests_5 13 rfl rfl)
theorem dX0_guests_133 : decode cX0_guests 133 = .ok (.athrow, 1) := dk_191 (dk_at dksX0_guests_5 16 rfl rfl)
theorem dX0_guests_134 : decode cX0_guests 134 = .ok (.aload_n 0, 1) := dk_42 (dk_at dksX0_guests_5 17 rfl rfl)
theorem dX0_guests_135 : decode cX0_guests 135 = .ok (.getfield 50, 3) := dk_180 0 50 (dk_at dksX0_guests_5 18 rfl rfl)
theorem dX0_guests_138 : decode cX0_guests 138 = .ok (.aload_n 0, 1) := dk_42 (dk_at dksX0_guests_5 21 rfl rfl)
theorem dX0_guests_139 : decode cX0_guests 139 = .ok (.dup, 1) := dk_89 (dk_at dksX0_guests_5 22 rfl rfl)
theorem dX0_guests_140 : decode cX0_guests 140 = .ok (.getfield 169, 3) := dk_180 0 169 (dk_at dksX0_guests_6 0 rfl rfl)
theorem dX0_guests_143 : decode cX0_guests 143 = .ok (.dup_x1, 1) := dk_90 (dk_at dksX0_guests_6 3 rfl rfl)
theorem dX0_guests_144 : decode cX0_guests 144 = .ok (.iconst 1, 1) := dk_4 (dk_at dksX0_guests_6 4 rfl rfl)
theorem dX0_guests_145 : decode cX0_guests 145 = .ok (.iadd, 1) := dk_96 (dk_at dksX0_guests_6 5 rfl rfl)
theorem dX0_guests_146 : decode cX0_guests 146 = .ok (.putfield 169, 3) := dk_181 0 169 (dk_at dksX0_guests_6 6 rfl rfl)
theorem dX0_guests_149 : decode cX0_guests 149 = .ok (.new 48, 3) := dk_187 0 48 (dk_at dksX0_guests_6 9 rfl rfl)
theorem dX0_guests_152 : decode cX0_guests 152 = .ok (.dup, 1) := dk_89 (dk_at dksX0_guests_6 12 rfl rfl)
theorem dX0_guests_153 : decode cX0_guests 153 = .ok (.iload 9, 2) := dk_21 9 (dk_at dksX0_guests_6 13 rfl rfl)
theorem dX0_guests_155 : decode cX0_guests 155 = .ok (.iload 10, 2) := dk_21 10 (dk_at dksX0_guests_6 15 rfl rfl)
theorem dX0_guests_157 : decode cX0_guests 157 = .ok (.iload 11, 2) := dk_21 11 (dk_at dksX0_guests_6 17 rfl rfl)
theorem dX0_guests_159 : decode cX0_guests 159 = .ok (.invokespecial 189, 3) := dk_183 0 189 (dk_at dksX0_guests_6 19 rfl rfl)
theorem dX0_guests_162 : decode cX0_guests 162 = .ok (.aastore, 1) := dk_83 (dk_at dksX0_guests_6 22 rfl rfl)
theorem dX0_guests_163 : decode cX0_guests 163 = .ok (.iinc 6 1, 3) := dk_132 6 1 (dk_at dksX0_guests_7 0 rfl rfl)
theorem dX0_guests_166 : decode cX0_guests 166 = .ok (.goto (-112), 3) := dk_167 255 144 (dk_at dksX0_guests_7 3 rfl rfl)
theorem dX0_guests_169 : decode cX0_guests 169 = .ok (.goto 14, 3) := dk_167 0 14 (dk_at dksX0_guests_7 6 rfl rfl)
theorem dX0_guests_172 : decode cX0_guests 172 = .ok (.astore 7, 2) := dk_58 7 (dk_at dksX0_guests_7 9 rfl rfl)
theorem dX0_guests_174 : decode cX0_guests 174 = .ok (.aload_n 0, 1) := dk_42 (dk_at dksX0_guests_7 11 rfl rfl)
theorem dX0_guests_175 : decode cX0_guests 175 = .ok (.getfield 169, 3) := dk_180 0 169 (dk_at dksX0_guests_7 12 rfl rfl)
theorem dX0_guests_178 : decode cX0_guests 178 = .ok (.iload 5, 2) := dk_21 5 (dk_at dksX0_guests_7 15 rfl rfl)
theorem dX0_guests_180 : decode cX0_guests 180 = .ok (.isub, 1) := dk_100 (dk_at dksX0_guests_7 17 rfl rfl)
theorem dX0_guests_181 : decode cX0_guests 181 = .ok (.istore 6, 2) := dk_54 6 (dk_at dksX0_guests_7 18 rfl rfl)
theorem dX0_guests_183 : decode cX0_guests 183 = .ok (.iload 6, 2) := dk_21 6 (dk_at dksX0_guests_7 20 rfl rfl)
theorem dX0_guests_185 : decode cX0_guests 185 = .ok (.ireturn, 1) := dk_172 (dk_at dksX0_guests_7 22 rfl rfl)
abbrev cX0_isShelf : ByteArray := prog_1_method_79_code
def yX0_isShelf : MethodName := ⟨RX0, "isShelf", "(I)Z"⟩
def dkwX0_isShelf_0 : List UInt8 := [26, 133, 9, 20, 1, 129, 184, 0, 147, 172]
abbrev dktX0_isShelf_0 : List UInt8 := dkwX0_isShelf_0 ++ []
theorem dksX0_isShelf_0 : cX0_isShelf.data.toList.drop 0 = dktX0_isShelf_0 := by decide +kernel
theorem dX0_isShelf_0 : decode cX0_isShelf 0 = .ok (.iload_n 0, 1) := dk_26 (dk_at dksX0_isShelf_0 0 rfl rfl)
theorem dX0_isShelf_1 : decode cX0_isShelf 1 = .ok (.i2l, 1) := dk_133 (dk_at dksX0_isShelf_0 1 rfl rfl)
theorem dX0_isShelf_2 : decode cX0_isShelf 2 = .ok (.lconst 0, 1) := dk_9 (dk_at dksX0_isShelf_0 2 rfl rfl)
theorem dX0_isShelf_3 : decode cX0_isShelf 3 = .ok (.ldc2_w 385, 3) := dk_20 1 129 (dk_at dksX0_isShelf_0 3 rfl rfl)
theorem dX0_isShelf_6 : decode cX0_isShelf 6 = .ok (.invokestatic 147, 3) := dk_184 0 147 (dk_at dksX0_isShelf_0 6 rfl rfl)
theorem dX0_isShelf_9 : decode cX0_isShelf 9 = .ok (.ireturn, 1) := dk_172 (dk_at dksX0_isShelf_0 9 rfl rfl)
abbrev cX0_sortOf : ByteArray := prog_1_method_82_code
def yX0_sortOf : MethodName := ⟨RX0, "sortOf", "(Ljava/lang/Object;)I"⟩
def dkwX0_sortOf_2 : List UInt8 := [193, 1, 244, 153, 0, 7, 7, 167, 0, 4, 2, 172]
abbrev dktX0_sortOf_2 : List UInt8 := dkwX0_sortOf_2 ++ []
def dkwX0_sortOf_1 : List UInt8 := [193, 1, 241, 153, 0, 7, 5, 167, 0, 26, 42, 193, 1, 242, 153, 0, 7, 6, 167, 0, 15, 42]
abbrev dktX0_sortOf_1 : List UInt8 := dkwX0_sortOf_1 ++ dktX0_sortOf_2
def dkwX0_sortOf_0 : List UInt8 := [42, 193, 0, 192, 153, 0, 7, 3, 167, 0, 48, 42, 193, 1, 239, 153, 0, 7, 4, 167, 0, 37, 42]
abbrev dktX0_sortOf_0 : List UInt8 := dkwX0_sortOf_0 ++ dktX0_sortOf_1
theorem dksX0_sortOf_0 : cX0_sortOf.data.toList.drop 0 = dktX0_sortOf_0 := by decide +kernel
theorem dksX0_sortOf_1 : cX0_sortOf.data.toList.drop 23 = dktX0_sortOf_1 := dk_seg dksX0_sortOf_0 23 rfl rfl
theorem dksX0_sortOf_2 : cX0_sortOf.data.toList.drop 45 = dktX0_sortOf_2 := dk_seg dksX0_sortOf_1 22 rfl rfl
theorem dX0_sortOf_0 : decode cX0_sortOf 0 = .ok (.aload_n 0, 1) := dk_42 (dk_at dksX0_sortOf_0 0 rfl rfl)
theorem dX0_sortOf_1 : decode cX0_sortOf 1 = .ok (.instanceof 192, 3) := dk_193 0 192 (dk_at dksX0_sortOf_0 1 rfl rfl)
theorem dX0_sortOf_4 : decode cX0_sortOf 4 = .ok (.ifCond .eq 7, 3) := dk_153 0 7 (dk_at dksX0_sortOf_0 4 rfl rfl)
theorem dX0_sortOf_7 : decode cX0_sortOf 7 = .ok (.iconst 0, 1) := dk_3 (dk_at dksX0_sortOf_0 7 rfl rfl)
theorem dX0_sortOf_8 : decode cX0_sortOf 8 = .ok (.goto 48, 3) := dk_167 0 48 (dk_at dksX0_sortOf_0 8 rfl rfl)
theorem dX0_sortOf_11 : decode cX0_sortOf 11 = .ok (.aload_n 0, 1) := dk_42 (dk_at dksX0_sortOf_0 11 rfl rfl)
theorem dX0_sortOf_12 : decode cX0_sortOf 12 = .ok (.instanceof 495, 3) := dk_193 1 239 (dk_at dksX0_sortOf_0 12 rfl rfl)
theorem dX0_sortOf_15 : decode cX0_sortOf 15 = .ok (.ifCond .eq 7, 3) := dk_153 0 7 (dk_at dksX0_sortOf_0 15 rfl rfl)
theorem dX0_sortOf_18 : decode cX0_sortOf 18 = .ok (.iconst 1, 1) := dk_4 (dk_at dksX0_sortOf_0 18 rfl rfl)
theorem dX0_sortOf_19 : decode cX0_sortOf 19 = .ok (.goto 37, 3) := dk_167 0 37 (dk_at dksX0_sortOf_0 19 rfl rfl)
theorem dX0_sortOf_22 : decode cX0_sortOf 22 = .ok (.aload_n 0, 1) := dk_42 (dk_at dksX0_sortOf_0 22 rfl rfl)
theorem dX0_sortOf_23 : decode cX0_sortOf 23 = .ok (.instanceof 497, 3) := dk_193 1 241 (dk_at dksX0_sortOf_1 0 rfl rfl)
theorem dX0_sortOf_26 : decode cX0_sortOf 26 = .ok (.ifCond .eq 7, 3) := dk_153 0 7 (dk_at dksX0_sortOf_1 3 rfl rfl)
theorem dX0_sortOf_29 : decode cX0_sortOf 29 = .ok (.iconst 2, 1) := dk_5 (dk_at dksX0_sortOf_1 6 rfl rfl)
theorem dX0_sortOf_30 : decode cX0_sortOf 30 = .ok (.goto 26, 3) := dk_167 0 26 (dk_at dksX0_sortOf_1 7 rfl rfl)
theorem dX0_sortOf_33 : decode cX0_sortOf 33 = .ok (.aload_n 0, 1) := dk_42 (dk_at dksX0_sortOf_1 10 rfl rfl)
theorem dX0_sortOf_34 : decode cX0_sortOf 34 = .ok (.instanceof 498, 3) := dk_193 1 242 (dk_at dksX0_sortOf_1 11 rfl rfl)
theorem dX0_sortOf_37 : decode cX0_sortOf 37 = .ok (.ifCond .eq 7, 3) := dk_153 0 7 (dk_at dksX0_sortOf_1 14 rfl rfl)
theorem dX0_sortOf_40 : decode cX0_sortOf 40 = .ok (.iconst 3, 1) := dk_6 (dk_at dksX0_sortOf_1 17 rfl rfl)
theorem dX0_sortOf_41 : decode cX0_sortOf 41 = .ok (.goto 15, 3) := dk_167 0 15 (dk_at dksX0_sortOf_1 18 rfl rfl)
theorem dX0_sortOf_44 : decode cX0_sortOf 44 = .ok (.aload_n 0, 1) := dk_42 (dk_at dksX0_sortOf_1 21 rfl rfl)
theorem dX0_sortOf_45 : decode cX0_sortOf 45 = .ok (.instanceof 500, 3) := dk_193 1 244 (dk_at dksX0_sortOf_2 0 rfl rfl)
theorem dX0_sortOf_48 : decode cX0_sortOf 48 = .ok (.ifCond .eq 7, 3) := dk_153 0 7 (dk_at dksX0_sortOf_2 3 rfl rfl)
theorem dX0_sortOf_51 : decode cX0_sortOf 51 = .ok (.iconst 4, 1) := dk_7 (dk_at dksX0_sortOf_2 6 rfl rfl)
theorem dX0_sortOf_52 : decode cX0_sortOf 52 = .ok (.goto 4, 3) := dk_167 0 4 (dk_at dksX0_sortOf_2 7 rfl rfl)
theorem dX0_sortOf_55 : decode cX0_sortOf 55 = .ok (.iconst (-1), 1) := dk_2 (dk_at dksX0_sortOf_2 10 rfl rfl)
theorem dX0_sortOf_56 : decode cX0_sortOf 56 = .ok (.ireturn, 1) := dk_172 (dk_at dksX0_sortOf_2 11 rfl rfl)
abbrev cX0_toldIn : ByteArray := prog_1_method_20_code
def yX0_toldIn : MethodName := ⟨RX0, "toldIn", "(Ljava/lang/Object;J)I"⟩
def dkwX0_toldIn_1 : List UInt8 := [180, 0, 77, 191, 43, 192, 0, 192, 32, 136, 51, 172]
abbrev dktX0_toldIn_1 : List UInt8 := dkwX0_toldIn_1 ++ []
def dkwX0_toldIn_0 : List UInt8 := [43, 198, 0, 20, 32, 9, 148, 155, 0, 14, 32, 43, 192, 0, 192, 190, 133, 148, 155, 0, 8, 42]
abbrev dktX0_toldIn_0 : List UInt8 := dkwX0_toldIn_0 ++ dktX0_toldIn_1
theorem dksX0_toldIn_0 : cX0_toldIn.data.toList.drop 0 = dktX0_toldIn_0 := by decide +kernel
theorem dksX0_toldIn_1 : cX0_toldIn.data.toList.drop 22 = dktX0_toldIn_1 := dk_seg dksX0_toldIn_0 22 rfl rfl
theorem dX0_toldIn_0 : decode cX0_toldIn 0 = .ok (.aload_n 1, 1) := dk_43 (dk_at dksX0_toldIn_0 0 rfl rfl)
theorem dX0_toldIn_1 : decode cX0_toldIn 1 = .ok (.ifnull 20, 3) := dk_198 0 20 (dk_at dksX0_toldIn_0 1 rfl rfl)
theorem dX0_toldIn_4 : decode cX0_toldIn 4 = .ok (.lload_n 2, 1) := dk_32 (dk_at dksX0_toldIn_0 4 rfl rfl)
theorem dX0_toldIn_5 : decode cX0_toldIn 5 = .ok (.lconst 0, 1) := dk_9 (dk_at dksX0_toldIn_0 5 rfl rfl)
theorem dX0_toldIn_6 : decode cX0_toldIn 6 = .ok (.lcmp, 1) := dk_148 (dk_at dksX0_toldIn_0 6 rfl rfl)
theorem dX0_toldIn_7 : decode cX0_toldIn 7 = .ok (.ifCond .lt 14, 3) := dk_155 0 14 (dk_at dksX0_toldIn_0 7 rfl rfl)
theorem dX0_toldIn_10 : decode cX0_toldIn 10 = .ok (.lload_n 2, 1) := dk_32 (dk_at dksX0_toldIn_0 10 rfl rfl)
theorem dX0_toldIn_11 : decode cX0_toldIn 11 = .ok (.aload_n 1, 1) := dk_43 (dk_at dksX0_toldIn_0 11 rfl rfl)
theorem dX0_toldIn_12 : decode cX0_toldIn 12 = .ok (.checkcast 192, 3) := dk_192 0 192 (dk_at dksX0_toldIn_0 12 rfl rfl)
theorem dX0_toldIn_15 : decode cX0_toldIn 15 = .ok (.arraylength, 1) := dk_190 (dk_at dksX0_toldIn_0 15 rfl rfl)
theorem dX0_toldIn_16 : decode cX0_toldIn 16 = .ok (.i2l, 1) := dk_133 (dk_at dksX0_toldIn_0 16 rfl rfl)
theorem dX0_toldIn_17 : decode cX0_toldIn 17 = .ok (.lcmp, 1) := dk_148 (dk_at dksX0_toldIn_0 17 rfl rfl)
theorem dX0_toldIn_18 : decode cX0_toldIn 18 = .ok (.ifCond .lt 8, 3) := dk_155 0 8 (dk_at dksX0_toldIn_0 18 rfl rfl)
theorem dX0_toldIn_21 : decode cX0_toldIn 21 = .ok (.aload_n 0, 1) := dk_42 (dk_at dksX0_toldIn_0 21 rfl rfl)
theorem dX0_toldIn_22 : decode cX0_toldIn 22 = .ok (.getfield 77, 3) := dk_180 0 77 (dk_at dksX0_toldIn_1 0 rfl rfl)
theorem dX0_toldIn_25 : decode cX0_toldIn 25 = .ok (.athrow, 1) := dk_191 (dk_at dksX0_toldIn_1 3 rfl rfl)
theorem dX0_toldIn_26 : decode cX0_toldIn 26 = .ok (.aload_n 1, 1) := dk_43 (dk_at dksX0_toldIn_1 4 rfl rfl)
theorem dX0_toldIn_27 : decode cX0_toldIn 27 = .ok (.checkcast 192, 3) := dk_192 0 192 (dk_at dksX0_toldIn_1 5 rfl rfl)
theorem dX0_toldIn_30 : decode cX0_toldIn 30 = .ok (.lload_n 2, 1) := dk_32 (dk_at dksX0_toldIn_1 8 rfl rfl)
theorem dX0_toldIn_31 : decode cX0_toldIn 31 = .ok (.l2i, 1) := dk_136 (dk_at dksX0_toldIn_1 9 rfl rfl)
theorem dX0_toldIn_32 : decode cX0_toldIn 32 = .ok (.baload, 1) := dk_51 (dk_at dksX0_toldIn_1 10 rfl rfl)
theorem dX0_toldIn_33 : decode cX0_toldIn 33 = .ok (.ireturn, 1) := dk_172 (dk_at dksX0_toldIn_1 11 rfl rfl)
abbrev cX0_mend : ByteArray := prog_1_method_24_code
def yX0_mend : MethodName := ⟨RX0, "mend", "(III)I"⟩
def dkwX0_mend_1 : List UInt8 := [153, 0, 13, 42, 25, 4, 29, 182, 0, 232, 167, 0, 4, 2, 172]
abbrev dktX0_mend_1 : List UInt8 := dkwX0_mend_1 ++ []
def dkwX0_mend_0 : List UInt8 := [42, 27, 28, 182, 0, 224, 58, 4, 25, 4, 198, 0, 27, 29, 133, 9, 28, 184, 0, 228, 133, 184, 0, 147]
abbrev dktX0_mend_0 : List UInt8 := dkwX0_mend_0 ++ dktX0_mend_1
theorem dksX0_mend_0 : cX0_mend.data.toList.drop 0 = dktX0_mend_0 := by decide +kernel
theorem dksX0_mend_1 : cX0_mend.data.toList.drop 24 = dktX0_mend_1 := dk_seg dksX0_mend_0 24 rfl rfl
theorem dX0_mend_0 : decode cX0_mend 0 = .ok (.aload_n 0, 1) := dk_42 (dk_at dksX0_mend_0 0 rfl rfl)
theorem dX0_mend_1 : decode cX0_mend 1 = .ok (.iload_n 1, 1) := dk_27 (dk_at dksX0_mend_0 1 rfl rfl)
theorem dX0_mend_2 : decode cX0_mend 2 = .ok (.iload_n 2, 1) := dk_28 (dk_at dksX0_mend_0 2 rfl rfl)
theorem dX0_mend_3 : decode cX0_mend 3 = .ok (.invokevirtual 224, 3) := dk_182 0 224 (dk_at dksX0_mend_0 3 rfl rfl)
theorem dX0_mend_6 : decode cX0_mend 6 = .ok (.astore 4, 2) := dk_58 4 (dk_at dksX0_mend_0 6 rfl rfl)
theorem dX0_mend_8 : decode cX0_mend 8 = .ok (.aload 4, 2) := dk_25 4 (dk_at dksX0_mend_0 8 rfl rfl)
theorem dX0_mend_10 : decode cX0_mend 10 = .ok (.ifnull 27, 3) := dk_198 0 27 (dk_at dksX0_mend_0 10 rfl rfl)
theorem dX0_mend_13 : decode cX0_mend 13 = .ok (.iload_n 3, 1) := dk_29 (dk_at dksX0_mend_0 13 rfl rfl)
theorem dX0_mend_14 : decode cX0_mend 14 = .ok (.i2l, 1) := dk_133 (dk_at dksX0_mend_0 14 rfl rfl)
theorem dX0_mend_15 : decode cX0_mend 15 = .ok (.lconst 0, 1) := dk_9 (dk_at dksX0_mend_0 15 rfl rfl)
theorem dX0_mend_16 : decode cX0_mend 16 = .ok (.iload_n 2, 1) := dk_28 (dk_at dksX0_mend_0 16 rfl rfl)
theorem dX0_mend_17 : decode cX0_mend 17 = .ok (.invokestatic 228, 3) := dk_184 0 228 (dk_at dksX0_mend_0 17 rfl rfl)
theorem dX0_mend_20 : decode cX0_mend 20 = .ok (.i2l, 1) := dk_133 (dk_at dksX0_mend_0 20 rfl rfl)
theorem dX0_mend_21 : decode cX0_mend 21 = .ok (.invokestatic 147, 3) := dk_184 0 147 (dk_at dksX0_mend_0 21 rfl rfl)
theorem dX0_mend_24 : decode cX0_mend 24 = .ok (.ifCond .eq 13, 3) := dk_153 0 13 (dk_at dksX0_mend_1 0 rfl rfl)
theorem dX0_mend_27 : decode cX0_mend 27 = .ok (.aload_n 0, 1) := dk_42 (dk_at dksX0_mend_1 3 rfl rfl)
theorem dX0_mend_28 : decode cX0_mend 28 = .ok (.aload 4, 2) := dk_25 4 (dk_at dksX0_mend_1 4 rfl rfl)
theorem dX0_mend_30 : decode cX0_mend 30 = .ok (.iload_n 3, 1) := dk_29 (dk_at dksX0_mend_1 6 rfl rfl)
theorem dX0_mend_31 : decode cX0_mend 31 = .ok (.invokevirtual 232, 3) := dk_182 0 232 (dk_at dksX0_mend_1 7 rfl rfl)
theorem dX0_mend_34 : decode cX0_mend 34 = .ok (.goto 4, 3) := dk_167 0 4 (dk_at dksX0_mend_1 10 rfl rfl)
theorem dX0_mend_37 : decode cX0_mend 37 = .ok (.iconst (-1), 1) := dk_2 (dk_at dksX0_mend_1 13 rfl rfl)
theorem dX0_mend_38 : decode cX0_mend 38 = .ok (.ireturn, 1) := dk_172 (dk_at dksX0_mend_1 14 rfl rfl)
abbrev cX0_held : ByteArray := prog_1_method_22_code
def yX0_held : MethodName := ⟨RX0, "held", "(II)LLeftAsFound$Held;"⟩
def dkwX0_held_9 : List UInt8 := [180, 0, 68, 167, 0, 4, 1, 176, 27, 154, 0, 10, 42, 180, 0, 71, 167, 0, 4, 1, 176, 1, 176]
abbrev dktX0_held_9 : List UInt8 := dkwX0_held_9 ++ []
def dkwX0_held_8 : List UInt8 := [167, 0, 4, 1, 176, 27, 154, 0, 10, 42, 180, 0, 65, 167, 0, 4, 1, 176, 27, 154, 0, 10, 42]
abbrev dktX0_held_8 : List UInt8 := dkwX0_held_8 ++ dktX0_held_9
def dkwX0_held_7 : List UInt8 := [167, 0, 4, 1, 176, 42, 27, 133, 182, 0, 174, 153, 0, 15, 42, 180, 0, 50, 27, 50, 180, 0, 221]
abbrev dktX0_held_7 : List UInt8 := dkwX0_held_7 ++ dktX0_held_8
def dkwX0_held_6 : List UInt8 := [167, 0, 4, 1, 176, 42, 27, 133, 182, 0, 174, 153, 0, 15, 42, 180, 0, 50, 27, 50, 180, 0, 218]
abbrev dktX0_held_6 : List UInt8 := dkwX0_held_6 ++ dktX0_held_7
def dkwX0_held_5 : List UInt8 := [182, 0, 209, 153, 0, 23, 42, 180, 0, 50, 27, 16, 10, 108, 50, 180, 0, 215, 27, 16, 10, 112, 50]
abbrev dktX0_held_5 : List UInt8 := dkwX0_held_5 ++ dktX0_held_6
def dkwX0_held_4 : List UInt8 := [180, 0, 50, 27, 16, 10, 108, 50, 180, 0, 212, 27, 16, 10, 112, 50, 167, 0, 4, 1, 176, 42, 27]
abbrev dktX0_held_4 : List UInt8 := dkwX0_held_4 ++ dktX0_held_5
def dkwX0_held_3 : List UInt8 := [153, 0, 12, 42, 180, 0, 58, 27, 50, 167, 0, 4, 1, 176, 42, 27, 182, 0, 209, 153, 0, 23, 42]
abbrev dktX0_held_3 : List UInt8 := dkwX0_held_3 ++ dktX0_held_4
def dkwX0_held_2 : List UInt8 := [27, 184, 0, 178, 153, 0, 12, 42, 180, 0, 54, 27, 50, 167, 0, 4, 1, 176, 27, 184, 0, 178]
abbrev dktX0_held_2 : List UInt8 := dkwX0_held_2 ++ dktX0_held_3
def dkwX0_held_1 : List UInt8 := [170, 0, 0, 0, 0, 0, 232, 0, 0, 0, 0, 0, 0, 0, 8, 0, 0, 0, 51, 0, 0, 0, 69, 0, 0, 0, 87, 0, 0, 0, 117, 0, 0, 0, 147, 0, 0, 0, 170, 0, 0, 0, 193, 0, 0, 0, 206, 0, 0, 0, 219]
abbrev dktX0_held_1 : List UInt8 := dkwX0_held_1 ++ dktX0_held_2
def dkwX0_held_0 : List UInt8 := [28]
abbrev dktX0_held_0 : List UInt8 := dkwX0_held_0 ++ dktX0_held_1
theorem dksX0_held_0 : cX0_held.data.toList.drop 0 = dktX0_held_0 := by decide +kernel
theorem dksX0_held_1 : cX0_held.data.toList.drop 1 = dktX0_held_1 := dk_seg dksX0_held_0 1 rfl rfl
theorem dksX0_held_2 : cX0_held.data.toList.drop 52 = dktX0_held_2 := dk_seg dksX0_held_1 51 rfl rfl
theorem dksX0_held_3 : cX0_held.data.toList.drop 74 = dktX0_held_3 := dk_seg dksX0_held_2 22 rfl rfl
theorem dksX0_held_4 : cX0_held.data.toList.drop 97 = dktX0_held_4 := dk_seg dksX0_held_3 23 rfl rfl
theorem dksX0_held_5 : cX0_held.data.toList.drop 120 = dktX0_held_5 := dk_seg dksX0_held_4 23 rfl rfl
theorem dksX0_held_6 : cX0_held.data.toList.drop 143 = dktX0_held_6 := dk_seg dksX0_held_5 23 rfl rfl
theorem dksX0_held_7 : cX0_held.data.toList.drop 166 = dktX0_held_7 := dk_seg dksX0_held_6 23 rfl rfl
theorem dksX0_held_8 : cX0_held.data.toList.drop 189 = dktX0_held_8 := dk_seg dksX0_held_7 23 rfl rfl
theorem dksX0_held_9 : cX0_held.data.toList.drop 212 = dktX0_held_9 := dk_seg dksX0_held_8 23 rfl rfl
theorem dX0_held_0 : decode cX0_held 0 = .ok (.iload_n 2, 1) := dk_28 (dk_at dksX0_held_0 0 rfl rfl)
theorem dX0_held_1 : decode cX0_held 1 = .ok (.tableswitch 232 0 8 #[51, 69, 87, 117, 147, 170, 193, 206, 219], 51) := by decide +kernel
theorem dX0_held_52 : decode cX0_held 52 = .ok (.iload_n 1, 1) := dk_27 (dk_at dksX0_held_2 0 rfl rfl)
theorem dX0_held_53 : decode cX0_held 53 = .ok (.invokestatic 178, 3) := dk_184 0 178 (dk_at dksX0_held_2 1 rfl rfl)
theorem dX0_held_56 : decode cX0_held 56 = .ok (.ifCond .eq 12, 3) := dk_153 0 12 (dk_at dksX0_held_2 4 rfl rfl)
theorem dX0_held_59 : decode cX0_held 59 = .ok (.aload_n 0, 1) := dk_42 (dk_at dksX0_held_2 7 rfl rfl)
theorem dX0_held_60 : decode cX0_held 60 = .ok (.getfield 54, 3) := dk_180 0 54 (dk_at dksX0_held_2 8 rfl rfl)
theorem dX0_held_63 : decode cX0_held 63 = .ok (.iload_n 1, 1) := dk_27 (dk_at dksX0_held_2 11 rfl rfl)
theorem dX0_held_64 : decode cX0_held 64 = .ok (.aaload, 1) := dk_50 (dk_at dksX0_held_2 12 rfl rfl)
theorem dX0_held_65 : decode cX0_held 65 = .ok (.goto 4, 3) := dk_167 0 4 (dk_at dksX0_held_2 13 rfl rfl)
theorem dX0_held_68 : decode cX0_held 68 = .ok (.aconst_null, 1) := dk_1 (dk_at dksX0_held_2 16 rfl rfl)
theorem dX0_held_69 : decode cX0_held 69 = .ok (.areturn, 1) := dk_176 (dk_at dksX0_held_2 17 rfl rfl)
theorem dX0_held_70 : decode cX0_held 70 = .ok (.iload_n 1, 1) := dk_27 (dk_at dksX0_held_2 18 rfl rfl)
theorem dX0_held_71 : decode cX0_held 71 = .ok (.invokestatic 178, 3) := dk_184 0 178 (dk_at dksX0_held_2 19 rfl rfl)
theorem dX0_held_74 : decode cX0_held 74 = .ok (.ifCond .eq 12, 3) := dk_153 0 12 (dk_at dksX0_held_3 0 rfl rfl)
theorem dX0_held_77 : decode cX0_held 77 = .ok (.aload_n 0, 1) := dk_42 (dk_at dksX0_held_3 3 rfl rfl)
theorem dX0_held_78 : decode cX0_held 78 = .ok (.getfield 58, 3) := dk_180 0 58 (dk_at dksX0_held_3 4 rfl rfl)
theorem dX0_held_81 : decode cX0_held 81 = .ok (.iload_n 1, 1) := dk_27 (dk_at dksX0_held_3 7 rfl rfl)
theorem dX0_held_82 : decode cX0_held 82 = .ok (.aaload, 1) := dk_50 (dk_at dksX0_held_3 8 rfl rfl)
theorem dX0_held_83 : decode cX0_held 83 = .ok (.goto 4, 3) := dk_167 0 4 (dk_at dksX0_held_3 9 rfl rfl)
theorem dX0_held_86 : decode cX0_held 86 = .ok (.aconst_null, 1) := dk_1 (dk_at dksX0_held_3 12 rfl rfl)
theorem dX0_held_87 : decode cX0_held 87 = .ok (.areturn, 1) := dk_176 (dk_at dksX0_held_3 13 rfl rfl)
theorem dX0_held_88 : decode cX0_held 88 = .ok (.aload_n 0, 1) := dk_42 (dk_at dksX0_held_3 14 rfl rfl)
theorem dX0_held_89 : decode cX0_held 89 = .ok (.iload_n 1, 1) := dk_27 (dk_at dksX0_held_3 15 rfl rfl)
theorem dX0_held_90 : decode cX0_held 90 = .ok (.invokevirtual 209, 3) := dk_182 0 209 (dk_at dksX0_held_3 16 rfl rfl)
theorem dX0_held_93 : decode cX0_held 93 = .ok (.ifCond .eq 23, 3) := dk_153 0 23 (dk_at dksX0_held_3 19 rfl rfl)
theorem dX0_held_96 : decode cX0_held 96 = .ok (.aload_n 0, 1) := dk_42 (dk_at dksX0_held_3 22 rfl rfl)
theorem dX0_held_97 : decode cX0_held 97 = .ok (.getfield 50, 3) := dk_180 0 50 (dk_at dksX0_held_4 0 rfl rfl)
theorem dX0_held_100 : decode cX0_held 100 = .ok (.iload_n 1, 1) := dk_27 (dk_at dksX0_held_4 3 rfl rfl)
theorem dX0_held_101 : decode cX0_held 101 = .ok (.bipush 10, 2) := dk_16 10 (dk_at dksX0_held_4 4 rfl rfl)
theorem dX0_held_103 : decode cX0_held 103 = .ok (.idiv, 1) := dk_108 (dk_at dksX0_held_4 6 rfl rfl)
theorem dX0_held_104 : decode cX0_held 104 = .ok (.aaload, 1) := dk_50 (dk_at dksX0_held_4 7 rfl rfl)
theorem dX0_held_105 : decode cX0_held 105 = .ok (.getfield 212, 3) := dk_180 0 212 (dk_at dksX0_held_4 8 rfl rfl)
theorem dX0_held_108 : decode cX0_held 108 = .ok (.iload_n 1, 1) := dk_27 (dk_at dksX0_held_4 11 rfl rfl)
theorem dX0_held_109 : decode cX0_held 109 = .ok (.bipush 10, 2) := dk_16 10 (dk_at dksX0_held_4 12 rfl rfl)
theorem dX0_held_111 : decode cX0_held 111 = .ok (.irem, 1) := dk_112 (dk_at dksX0_held_4 14 rfl rfl)
theorem dX0_held_112 : decode cX0_held 112 = .ok (.aaload, 1) := dk_50 (dk_at dksX0_held_4 15 rfl rfl)
theorem dX0_held_113 : decode cX0_held 113 = .ok (.goto 4, 3) := dk_167 0 4 (dk_at dksX0_held_4 16 rfl rfl)
theorem dX0_held_116 : decode cX0_held 116 = .ok (.aconst_null, 1) := dk_1 (dk_at dksX0_held_4 19 rfl rfl)
theorem dX0_held_117 : decode cX0_held 117 = .ok (.areturn, 1) := dk_176 (dk_at dksX0_held_4 20 rfl rfl)
theorem dX0_held_118 : decode cX0_held 118 = .ok (.aload_n 0, 1) := dk_42 (dk_at dksX0_held_4 21 rfl rfl)
theorem dX0_held_119 : decode cX0_held 119 = .ok (.iload_n 1, 1) := dk_27 (dk_at dksX0_held_4 22 rfl rfl)
theorem dX0_held_120 : decode cX0_held 120 = .ok (.invokevirtual 209, 3) := dk_182 0 209 (dk_at dksX0_held_5 0 rfl rfl)
theorem dX0_held_123 : decode cX0_held 123 = .ok (.ifCond .eq 23, 3) := dk_153 0 23 (dk_at dksX0_held_5 3 rfl rfl)
theorem dX0_held_126 : decode cX0_held 126 = .ok (.aload_n 0, 1) := dk_42 (dk_at dksX0_held_5 6 rfl rfl)
theorem dX0_held_127 : decode cX0_held 127 = .ok (.getfield 50, 3) := dk_180 0 50 (dk_at dksX0_held_5 7 rfl rfl)
theorem dX0_held_130 : decode cX0_held 130 = .ok (.iload_n 1, 1) := dk_27 (dk_at dksX0_held_5 10 rfl rfl)
theorem dX0_held_131 : decode cX0_held 131 = .ok (.bipush 10, 2) := dk_16 10 (dk_at dksX0_held_5 11 rfl rfl)
theorem dX0_held_133 : decode cX0_held 133 = .ok (.idiv, 1) := dk_108 (dk_at dksX0_held_5 13 rfl rfl)
theorem dX0_held_134 : decode cX0_held 134 = .ok (.aaload, 1) := dk_50 (dk_at dksX0_held_5 14 rfl rfl)
theorem dX0_held_135 : decode cX0_held 135 = .ok (.getfield 215, 3) := dk_180 0 215 (dk_at dksX0_held_5 15 rfl rfl)
theorem dX0_held_138 : decode cX0_held 138 = .ok (.iload_n 1, 1) := dk_27 (dk_at dksX0_held_5 18 rfl rfl)
theorem dX0_held_139 : decode cX0_held 139 = .ok (.bipush 10, 2) := dk_16 10 (dk_at dksX0_held_5 19 rfl rfl)
theorem dX0_held_141 : decode cX0_held 141 = .ok (.irem, 1) := dk_112 (dk_at dksX0_held_5 21 rfl rfl)
theorem dX0_held_142 : decode cX0_held 142 = .ok (.aaload, 1) := dk_50 (dk_at dksX0_held_5 22 rfl rfl)
theorem dX0_held_143 : decode cX0_held 143 = .ok (.goto 4, 3) := dk_167 0 4 (dk_at dksX0_held_6 0 rfl rfl)
theorem dX0_held_146 : decode cX0_held 146 = .ok (.aconst_null, 1) := dk_1 (dk_at dksX0_held_6 3 rfl rfl)
theorem dX0_held_147 : decode cX0_held 147 = .ok (.areturn, 1) := dk_176 (dk_at dksX0_held_6 4 rfl rfl)
theorem dX0_held_148 : decode cX0_held 148 = .ok (.aload_n 0, 1) := dk_42 (dk_at dksX0_held_6 5 rfl rfl)
theorem dX0_held_149 : decode cX0_held 149 = .ok (.iload_n 1, 1) := dk_27 (dk_at dksX0_held_6 6 rfl rfl)
theorem dX0_held_150 : decode cX0_held 150 = .ok (.i2l, 1) := dk_133 (dk_at dksX0_held_6 7 rfl rfl)
theorem dX0_held_151 : decode cX0_held 151 = .ok (.invokevirtual 174, 3) := dk_182 0 174 (dk_at dksX0_held_6 8 rfl rfl)
theorem dX0_held_154 : decode cX0_held 154 = .ok (.ifCond .eq 15, 3) := dk_153 0 15 (dk_at dksX0_held_6 11 rfl rfl)
theorem dX0_held_157 : decode cX0_held 157 = .ok (.aload_n 0, 1) := dk_42 (dk_at dksX0_held_6 14 rfl rfl)
theorem dX0_held_158 : decode cX0_held 158 = .ok (.getfield 50, 3) := dk_180 0 50 (dk_at dksX0_held_6 15 rfl rfl)
theorem dX0_held_161 : decode cX0_held 161 = .ok (.iload_n 1, 1) := dk_27 (dk_at dksX0_held_6 18 rfl rfl)
theorem dX0_held_162 : decode cX0_held 162 = .ok (.aaload, 1) := dk_50 (dk_at dksX0_held_6 19 rfl rfl)
theorem dX0_held_163 : decode cX0_held 163 = .ok (.getfield 218, 3) := dk_180 0 218 (dk_at dksX0_held_6 20 rfl rfl)
theorem dX0_held_166 : decode cX0_held 166 = .ok (.goto 4, 3) := dk_167 0 4 (dk_at dksX0_held_7 0 rfl rfl)
theorem dX0_held_169 : decode cX0_held 169 = .ok (.aconst_null, 1) := dk_1 (dk_at dksX0_held_7 3 rfl rfl)
theorem dX0_held_170 : decode cX0_held 170 = .ok (.areturn, 1) := dk_176 (dk_at dksX0_held_7 4 rfl rfl)
theorem dX0_held_171 : decode cX0_held 171 = .ok (.aload_n 0, 1) := dk_42 (dk_at dksX0_held_7 5 rfl rfl)
theorem dX0_held_172 : decode cX0_held 172 = .ok (.iload_n 1, 1) := dk_27 (dk_at dksX0_held_7 6 rfl rfl)
theorem dX0_held_173 : decode cX0_held 173 = .ok (.i2l, 1) := dk_133 (dk_at dksX0_held_7 7 rfl rfl)
theorem dX0_held_174 : decode cX0_held 174 = .ok (.invokevirtual 174, 3) := dk_182 0 174 (dk_at dksX0_held_7 8 rfl rfl)
theorem dX0_held_177 : decode cX0_held 177 = .ok (.ifCond .eq 15, 3) := dk_153 0 15 (dk_at dksX0_held_7 11 rfl rfl)
theorem dX0_held_180 : decode cX0_held 180 = .ok (.aload_n 0, 1) := dk_42 (dk_at dksX0_held_7 14 rfl rfl)
theorem dX0_held_181 : decode cX0_held 181 = .ok (.getfield 50, 3) := dk_180 0 50 (dk_at dksX0_held_7 15 rfl rfl)
theorem dX0_held_184 : decode cX0_held 184 = .ok (.iload_n 1, 1) := dk_27 (dk_at dksX0_held_7 18 rfl rfl)
theorem dX0_held_185 : decode cX0_held 185 = .ok (.aaload, 1) := dk_50 (dk_at dksX0_held_7 19 rfl rfl)
theorem dX0_held_186 : decode cX0_held 186 = .ok (.getfield 221, 3) := dk_180 0 221 (dk_at dksX0_held_7 20 rfl rfl)
theorem dX0_held_189 : decode cX0_held 189 = .ok (.goto 4, 3) := dk_167 0 4 (dk_at dksX0_held_8 0 rfl rfl)
theorem dX0_held_192 : decode cX0_held 192 = .ok (.aconst_null, 1) := dk_1 (dk_at dksX0_held_8 3 rfl rfl)
theorem dX0_held_193 : decode cX0_held 193 = .ok (.areturn, 1) := dk_176 (dk_at dksX0_held_8 4 rfl rfl)
theorem dX0_held_194 : decode cX0_held 194 = .ok (.iload_n 1, 1) := dk_27 (dk_at dksX0_held_8 5 rfl rfl)
theorem dX0_held_195 : decode cX0_held 195 = .ok (.ifCond .ne 10, 3) := dk_154 0 10 (dk_at dksX0_held_8 6 rfl rfl)
theorem dX0_held_198 : decode cX0_held 198 = .ok (.aload_n 0, 1) := dk_42 (dk_at dksX0_held_8 9 rfl rfl)
theorem dX0_held_199 : decode cX0_held 199 = .ok (.getfield 65, 3) := dk_180 0 65 (dk_at dksX0_held_8 10 rfl rfl)
theorem dX0_held_202 : decode cX0_held 202 = .ok (.goto 4, 3) := dk_167 0 4 (dk_at dksX0_held_8 13 rfl rfl)
theorem dX0_held_205 : decode cX0_held 205 = .ok (.aconst_null, 1) := dk_1 (dk_at dksX0_held_8 16 rfl rfl)
theorem dX0_held_206 : decode cX0_held 206 = .ok (.areturn, 1) := dk_176 (dk_at dksX0_held_8 17 rfl rfl)
theorem dX0_held_207 : decode cX0_held 207 = .ok (.iload_n 1, 1) := dk_27 (dk_at dksX0_held_8 18 rfl rfl)
theorem dX0_held_208 : decode cX0_held 208 = .ok (.ifCond .ne 10, 3) := dk_154 0 10 (dk_at dksX0_held_8 19 rfl rfl)
theorem dX0_held_211 : decode cX0_held 211 = .ok (.aload_n 0, 1) := dk_42 (dk_at dksX0_held_8 22 rfl rfl)
theorem dX0_held_212 : decode cX0_held 212 = .ok (.getfield 68, 3) := dk_180 0 68 (dk_at dksX0_held_9 0 rfl rfl)
theorem dX0_held_215 : decode cX0_held 215 = .ok (.goto 4, 3) := dk_167 0 4 (dk_at dksX0_held_9 3 rfl rfl)
theorem dX0_held_218 : decode cX0_held 218 = .ok (.aconst_null, 1) := dk_1 (dk_at dksX0_held_9 6 rfl rfl)
theorem dX0_held_219 : decode cX0_held 219 = .ok (.areturn, 1) := dk_176 (dk_at dksX0_held_9 7 rfl rfl)
theorem dX0_held_220 : decode cX0_held 220 = .ok (.iload_n 1, 1) := dk_27 (dk_at dksX0_held_9 8 rfl rfl)
theorem dX0_held_221 : decode cX0_held 221 = .ok (.ifCond .ne 10, 3) := dk_154 0 10 (dk_at dksX0_held_9 9 rfl rfl)
theorem dX0_held_224 : decode cX0_held 224 = .ok (.aload_n 0, 1) := dk_42 (dk_at dksX0_held_9 12 rfl rfl)
theorem dX0_held_225 : decode cX0_held 225 = .ok (.getfield 71, 3) := dk_180 0 71 (dk_at dksX0_held_9 13 rfl rfl)
theorem dX0_held_228 : decode cX0_held 228 = .ok (.goto 4, 3) := dk_167 0 4 (dk_at dksX0_held_9 16 rfl rfl)
theorem dX0_held_231 : decode cX0_held 231 = .ok (.aconst_null, 1) := dk_1 (dk_at dksX0_held_9 19 rfl rfl)
theorem dX0_held_232 : decode cX0_held 232 = .ok (.areturn, 1) := dk_176 (dk_at dksX0_held_9 20 rfl rfl)
theorem dX0_held_233 : decode cX0_held 233 = .ok (.aconst_null, 1) := dk_1 (dk_at dksX0_held_9 21 rfl rfl)
theorem dX0_held_234 : decode cX0_held 234 = .ok (.areturn, 1) := dk_176 (dk_at dksX0_held_9 22 rfl rfl)
abbrev cX0_isThing : ByteArray := prog_1_method_16_code
def yX0_isThing : MethodName := ⟨RX0, "isThing", "(I)Z"⟩
def dkwX0_isThing_0 : List UInt8 := [26, 133, 9, 20, 0, 172, 184, 0, 147, 172]
abbrev dktX0_isThing_0 : List UInt8 := dkwX0_isThing_0 ++ []
theorem dksX0_isThing_0 : cX0_isThing.data.toList.drop 0 = dktX0_isThing_0 := by decide +kernel
theorem dX0_isThing_0 : decode cX0_isThing 0 = .ok (.iload_n 0, 1) := dk_26 (dk_at dksX0_isThing_0 0 rfl rfl)
theorem dX0_isThing_1 : decode cX0_isThing 1 = .ok (.i2l, 1) := dk_133 (dk_at dksX0_isThing_0 1 rfl rfl)
theorem dX0_isThing_2 : decode cX0_isThing 2 = .ok (.lconst 0, 1) := dk_9 (dk_at dksX0_isThing_0 2 rfl rfl)
theorem dX0_isThing_3 : decode cX0_isThing 3 = .ok (.ldc2_w 172, 3) := dk_20 0 172 (dk_at dksX0_isThing_0 3 rfl rfl)
theorem dX0_isThing_6 : decode cX0_isThing 6 = .ok (.invokestatic 147, 3) := dk_184 0 147 (dk_at dksX0_isThing_0 6 rfl rfl)
theorem dX0_isThing_9 : decode cX0_isThing 9 = .ok (.ireturn, 1) := dk_172 (dk_at dksX0_isThing_0 9 rfl rfl)
abbrev cX0_isGt : ByteArray := prog_1_method_17_code
def yX0_isGt : MethodName := ⟨RX0, "isGt", "(I)Z"⟩
def dkwX0_isGt_1 : List UInt8 := [153, 0, 7, 4, 167, 0, 4, 3, 172]
abbrev dktX0_isGt_1 : List UInt8 := dkwX0_isGt_1 ++ []
def dkwX0_isGt_0 : List UInt8 := [27, 155, 0, 29, 42, 27, 16, 10, 108, 133, 182, 0, 174, 153, 0, 17, 27, 16, 10, 112, 184, 0, 178]
abbrev dktX0_isGt_0 : List UInt8 := dkwX0_isGt_0 ++ dktX0_isGt_1
theorem dksX0_isGt_0 : cX0_isGt.data.toList.drop 0 = dktX0_isGt_0 := by decide +kernel
theorem dksX0_isGt_1 : cX0_isGt.data.toList.drop 23 = dktX0_isGt_1 := dk_seg dksX0_isGt_0 23 rfl rfl
theorem dX0_isGt_0 : decode cX0_isGt 0 = .ok (.iload_n 1, 1) := dk_27 (dk_at dksX0_isGt_0 0 rfl rfl)
theorem dX0_isGt_1 : decode cX0_isGt 1 = .ok (.ifCond .lt 29, 3) := dk_155 0 29 (dk_at dksX0_isGt_0 1 rfl rfl)
theorem dX0_isGt_4 : decode cX0_isGt 4 = .ok (.aload_n 0, 1) := dk_42 (dk_at dksX0_isGt_0 4 rfl rfl)
theorem dX0_isGt_5 : decode cX0_isGt 5 = .ok (.iload_n 1, 1) := dk_27 (dk_at dksX0_isGt_0 5 rfl rfl)
theorem dX0_isGt_6 : decode cX0_isGt 6 = .ok (.bipush 10, 2) := dk_16 10 (dk_at dksX0_isGt_0 6 rfl rfl)
theorem dX0_isGt_8 : decode cX0_isGt 8 = .ok (.idiv, 1) := dk_108 (dk_at dksX0_isGt_0 8 rfl rfl)
theorem dX0_isGt_9 : decode cX0_isGt 9 = .ok (.i2l, 1) := dk_133 (dk_at dksX0_isGt_0 9 rfl rfl)
theorem dX0_isGt_10 : decode cX0_isGt 10 = .ok (.invokevirtual 174, 3) := dk_182 0 174 (dk_at dksX0_isGt_0 10 rfl rfl)
theorem dX0_isGt_13 : decode cX0_isGt 13 = .ok (.ifCond .eq 17, 3) := dk_153 0 17 (dk_at dksX0_isGt_0 13 rfl rfl)
theorem dX0_isGt_16 : decode cX0_isGt 16 = .ok (.iload_n 1, 1) := dk_27 (dk_at dksX0_isGt_0 16 rfl rfl)
theorem dX0_isGt_17 : decode cX0_isGt 17 = .ok (.bipush 10, 2) := dk_16 10 (dk_at dksX0_isGt_0 17 rfl rfl)
theorem dX0_isGt_19 : decode cX0_isGt 19 = .ok (.irem, 1) := dk_112 (dk_at dksX0_isGt_0 19 rfl rfl)
theorem dX0_isGt_20 : decode cX0_isGt 20 = .ok (.invokestatic 178, 3) := dk_184 0 178 (dk_at dksX0_isGt_0 20 rfl rfl)
theorem dX0_isGt_23 : decode cX0_isGt 23 = .ok (.ifCond .eq 7, 3) := dk_153 0 7 (dk_at dksX0_isGt_1 0 rfl rfl)
theorem dX0_isGt_26 : decode cX0_isGt 26 = .ok (.iconst 1, 1) := dk_4 (dk_at dksX0_isGt_1 3 rfl rfl)
theorem dX0_isGt_27 : decode cX0_isGt 27 = .ok (.goto 4, 3) := dk_167 0 4 (dk_at dksX0_isGt_1 4 rfl rfl)
theorem dX0_isGt_30 : decode cX0_isGt 30 = .ok (.iconst 0, 1) := dk_3 (dk_at dksX0_isGt_1 7 rfl rfl)
theorem dX0_isGt_31 : decode cX0_isGt 31 = .ok (.ireturn, 1) := dk_172 (dk_at dksX0_isGt_1 8 rfl rfl)
abbrev cX0_isGuest : ByteArray := prog_1_method_15_code
def yX0_isGuest : MethodName := ⟨RX0, "isGuest", "(J)Z"⟩
def dkwX0_isGuest_0 : List UInt8 := [31, 9, 42, 180, 0, 169, 4, 100, 133, 184, 0, 147, 172]
abbrev dktX0_isGuest_0 : List UInt8 := dkwX0_isGuest_0 ++ []
theorem dksX0_isGuest_0 : cX0_isGuest.data.toList.drop 0 = dktX0_isGuest_0 := by decide +kernel
theorem dX0_isGuest_0 : decode cX0_isGuest 0 = .ok (.lload_n 1, 1) := dk_31 (dk_at dksX0_isGuest_0 0 rfl rfl)
theorem dX0_isGuest_1 : decode cX0_isGuest 1 = .ok (.lconst 0, 1) := dk_9 (dk_at dksX0_isGuest_0 1 rfl rfl)
theorem dX0_isGuest_2 : decode cX0_isGuest 2 = .ok (.aload_n 0, 1) := dk_42 (dk_at dksX0_isGuest_0 2 rfl rfl)
theorem dX0_isGuest_3 : decode cX0_isGuest 3 = .ok (.getfield 169, 3) := dk_180 0 169 (dk_at dksX0_isGuest_0 3 rfl rfl)
theorem dX0_isGuest_6 : decode cX0_isGuest 6 = .ok (.iconst 1, 1) := dk_4 (dk_at dksX0_isGuest_0 6 rfl rfl)
theorem dX0_isGuest_7 : decode cX0_isGuest 7 = .ok (.isub, 1) := dk_100 (dk_at dksX0_isGuest_0 7 rfl rfl)
theorem dX0_isGuest_8 : decode cX0_isGuest 8 = .ok (.i2l, 1) := dk_133 (dk_at dksX0_isGuest_0 8 rfl rfl)
theorem dX0_isGuest_9 : decode cX0_isGuest 9 = .ok (.invokestatic 147, 3) := dk_184 0 147 (dk_at dksX0_isGuest_0 9 rfl rfl)
theorem dX0_isGuest_12 : decode cX0_isGuest 12 = .ok (.ireturn, 1) := dk_172 (dk_at dksX0_isGuest_0 12 rfl rfl)
abbrev cX0_greatest : ByteArray := prog_1_method_23_code
def yX0_greatest : MethodName := ⟨RX0, "greatest", "(I)I"⟩
def dkwX0_greatest_2 : List UInt8 := [16, 99, 172, 16, 20, 172, 16, 50, 172, 6, 172, 17, 3, 231, 172, 16, 12, 172, 16, 9, 172]
abbrev dktX0_greatest_2 : List UInt8 := dkwX0_greatest_2 ++ []
def dkwX0_greatest_1 : List UInt8 := [170, 0, 0, 0, 0, 0, 69, 0, 0, 0, 0, 0, 0, 0, 8, 0, 0, 0, 51, 0, 0, 0, 69, 0, 0, 0, 69, 0, 0, 0, 54, 0, 0, 0, 57, 0, 0, 0, 60, 0, 0, 0, 57, 0, 0, 0, 62, 0, 0, 0, 66]
abbrev dktX0_greatest_1 : List UInt8 := dkwX0_greatest_1 ++ dktX0_greatest_2
def dkwX0_greatest_0 : List UInt8 := [26]
abbrev dktX0_greatest_0 : List UInt8 := dkwX0_greatest_0 ++ dktX0_greatest_1
theorem dksX0_greatest_0 : cX0_greatest.data.toList.drop 0 = dktX0_greatest_0 := by decide +kernel
theorem dksX0_greatest_1 : cX0_greatest.data.toList.drop 1 = dktX0_greatest_1 := dk_seg dksX0_greatest_0 1 rfl rfl
theorem dksX0_greatest_2 : cX0_greatest.data.toList.drop 52 = dktX0_greatest_2 := dk_seg dksX0_greatest_1 51 rfl rfl
theorem dX0_greatest_0 : decode cX0_greatest 0 = .ok (.iload_n 0, 1) := dk_26 (dk_at dksX0_greatest_0 0 rfl rfl)
theorem dX0_greatest_1 : decode cX0_greatest 1 = .ok (.tableswitch 69 0 8 #[51, 69, 69, 54, 57, 60, 57, 62, 66], 51) := by decide +kernel
theorem dX0_greatest_52 : decode cX0_greatest 52 = .ok (.bipush 99, 2) := dk_16 99 (dk_at dksX0_greatest_2 0 rfl rfl)
theorem dX0_greatest_54 : decode cX0_greatest 54 = .ok (.ireturn, 1) := dk_172 (dk_at dksX0_greatest_2 2 rfl rfl)
theorem dX0_greatest_55 : decode cX0_greatest 55 = .ok (.bipush 20, 2) := dk_16 20 (dk_at dksX0_greatest_2 3 rfl rfl)
theorem dX0_greatest_57 : decode cX0_greatest 57 = .ok (.ireturn, 1) := dk_172 (dk_at dksX0_greatest_2 5 rfl rfl)
theorem dX0_greatest_58 : decode cX0_greatest 58 = .ok (.bipush 50, 2) := dk_16 50 (dk_at dksX0_greatest_2 6 rfl rfl)
theorem dX0_greatest_60 : decode cX0_greatest 60 = .ok (.ireturn, 1) := dk_172 (dk_at dksX0_greatest_2 8 rfl rfl)
theorem dX0_greatest_61 : decode cX0_greatest 61 = .ok (.iconst 3, 1) := dk_6 (dk_at dksX0_greatest_2 9 rfl rfl)
theorem dX0_greatest_62 : decode cX0_greatest 62 = .ok (.ireturn, 1) := dk_172 (dk_at dksX0_greatest_2 10 rfl rfl)
theorem dX0_greatest_63 : decode cX0_greatest 63 = .ok (.sipush 999, 3) := dk_17 3 231 (dk_at dksX0_greatest_2 11 rfl rfl)
theorem dX0_greatest_66 : decode cX0_greatest 66 = .ok (.ireturn, 1) := dk_172 (dk_at dksX0_greatest_2 14 rfl rfl)
theorem dX0_greatest_67 : decode cX0_greatest 67 = .ok (.bipush 12, 2) := dk_16 12 (dk_at dksX0_greatest_2 15 rfl rfl)
theorem dX0_greatest_69 : decode cX0_greatest 69 = .ok (.ireturn, 1) := dk_172 (dk_at dksX0_greatest_2 17 rfl rfl)
theorem dX0_greatest_70 : decode cX0_greatest 70 = .ok (.bipush 9, 2) := dk_16 9 (dk_at dksX0_greatest_2 18 rfl rfl)
theorem dX0_greatest_72 : decode cX0_greatest 72 = .ok (.ireturn, 1) := dk_172 (dk_at dksX0_greatest_2 20 rfl rfl)
abbrev cX0_become : ByteArray := prog_1_method_5_code
def yX0_become : MethodName := ⟨RX0, "become", "(LLeftAsFound$Held;I)I"⟩
def dkwX0_become_5 : List UInt8 := [180, 0, 9, 4, 96, 90, 181, 0, 9, 181, 0, 28, 29, 172]
abbrev dktX0_become_5 : List UInt8 := dkwX0_become_5 ++ []
def dkwX0_become_4 : List UInt8 := [181, 0, 16, 25, 4, 29, 181, 0, 22, 25, 4, 28, 181, 0, 25, 43, 28, 181, 0, 3, 42, 42, 89]
abbrev dktX0_become_4 : List UInt8 := dkwX0_become_4 ++ dktX0_become_5
def dkwX0_become_3 : List UInt8 := [42, 89, 180, 0, 9, 4, 100, 181, 0, 9, 42, 180, 0, 12, 42, 180, 0, 9, 50, 58, 4, 25, 4, 43]
abbrev dktX0_become_3 : List UInt8 := dkwX0_become_3 ++ dktX0_become_4
def dkwX0_become_2 : List UInt8 := [100, 42, 180, 0, 12, 21, 5, 50, 83, 132, 5, 1, 167, 255, 230, 42, 180, 0, 12, 16, 39, 25, 4, 83]
abbrev dktX0_become_2 : List UInt8 := dkwX0_become_2 ++ dktX0_become_3
def dkwX0_become_1 : List UInt8 := [180, 0, 12, 3, 50, 58, 4, 4, 54, 5, 21, 5, 16, 40, 162, 0, 25, 42, 180, 0, 12, 21, 5, 4]
abbrev dktX0_become_1 : List UInt8 := dkwX0_become_1 ++ dktX0_become_2
def dkwX0_become_0 : List UInt8 := [43, 180, 0, 3, 62, 29, 28, 160, 0, 5, 29, 172, 42, 180, 0, 9, 16, 40, 160, 0, 62, 42]
abbrev dktX0_become_0 : List UInt8 := dkwX0_become_0 ++ dktX0_become_1
theorem dksX0_become_0 : cX0_become.data.toList.drop 0 = dktX0_become_0 := by decide +kernel
theorem dksX0_become_1 : cX0_become.data.toList.drop 22 = dktX0_become_1 := dk_seg dksX0_become_0 22 rfl rfl
theorem dksX0_become_2 : cX0_become.data.toList.drop 46 = dktX0_become_2 := dk_seg dksX0_become_1 24 rfl rfl
theorem dksX0_become_3 : cX0_become.data.toList.drop 70 = dktX0_become_3 := dk_seg dksX0_become_2 24 rfl rfl
theorem dksX0_become_4 : cX0_become.data.toList.drop 94 = dktX0_become_4 := dk_seg dksX0_become_3 24 rfl rfl
theorem dksX0_become_5 : cX0_become.data.toList.drop 117 = dktX0_become_5 := dk_seg dksX0_become_4 23 rfl rfl
theorem dX0_become_0 : decode cX0_become 0 = .ok (.aload_n 1, 1) := dk_43 (dk_at dksX0_become_0 0 rfl rfl)
theorem dX0_become_1 : decode cX0_become 1 = .ok (.getfield 3, 3) := dk_180 0 3 (dk_at dksX0_become_0 1 rfl rfl)
theorem dX0_become_4 : decode cX0_become 4 = .ok (.istore_n 3, 1) := dk_62 (dk_at dksX0_become_0 4 rfl rfl)
theorem dX0_become_5 : decode cX0_become 5 = .ok (.iload_n 3, 1) := dk_29 (dk_at dksX0_become_0 5 rfl rfl)
theorem dX0_become_6 : decode cX0_become 6 = .ok (.iload_n 2, 1) := dk_28 (dk_at dksX0_become_0 6 rfl rfl)
theorem dX0_become_7 : decode cX0_become 7 = .ok (.if_icmp .ne 5, 3) := dk_160 0 5 (dk_at dksX0_become_0 7 rfl rfl)
theorem dX0_become_10 : decode cX0_become 10 = .ok (.iload_n 3, 1) := dk_29 (dk_at dksX0_become_0 10 rfl rfl)
theorem dX0_become_11 : decode cX0_become 11 = .ok (.ireturn, 1) := dk_172 (dk_at dksX0_become_0 11 rfl rfl)
theorem dX0_become_12 : decode cX0_become 12 = .ok (.aload_n 0, 1) := dk_42 (dk_at dksX0_become_0 12 rfl rfl)
theorem dX0_become_13 : decode cX0_become 13 = .ok (.getfield 9, 3) := dk_180 0 9 (dk_at dksX0_become_0 13 rfl rfl)
theorem dX0_become_16 : decode cX0_become 16 = .ok (.bipush 40, 2) := dk_16 40 (dk_at dksX0_become_0 16 rfl rfl)
theorem dX0_become_18 : decode cX0_become 18 = .ok (.if_icmp .ne 62, 3) := dk_160 0 62 (dk_at dksX0_become_0 18 rfl rfl)
theorem dX0_become_21 : decode cX0_become 21 = .ok (.aload_n 0, 1) := dk_42 (dk_at dksX0_become_0 21 rfl rfl)
theorem dX0_become_22 : decode cX0_become 22 = .ok (.getfield 12, 3) := dk_180 0 12 (dk_at dksX0_become_1 0 rfl rfl)
theorem dX0_become_25 : decode cX0_become 25 = .ok (.iconst 0, 1) := dk_3 (dk_at dksX0_become_1 3 rfl rfl)
theorem dX0_become_26 : decode cX0_become 26 = .ok (.aaload, 1) := dk_50 (dk_at dksX0_become_1 4 rfl rfl)
theorem dX0_become_27 : decode cX0_become 27 = .ok (.astore 4, 2) := dk_58 4 (dk_at dksX0_become_1 5 rfl rfl)
theorem dX0_become_29 : decode cX0_become 29 = .ok (.iconst 1, 1) := dk_4 (dk_at dksX0_become_1 7 rfl rfl)
theorem dX0_become_30 : decode cX0_become 30 = .ok (.istore 5, 2) := dk_54 5 (dk_at dksX0_become_1 8 rfl rfl)
theorem dX0_become_32 : decode cX0_become 32 = .ok (.iload 5, 2) := dk_21 5 (dk_at dksX0_become_1 10 rfl rfl)
theorem dX0_become_34 : decode cX0_become 34 = .ok (.bipush 40, 2) := dk_16 40 (dk_at dksX0_become_1 12 rfl rfl)
theorem dX0_become_36 : decode cX0_become 36 = .ok (.if_icmp .ge 25, 3) := dk_162 0 25 (dk_at dksX0_become_1 14 rfl rfl)
theorem dX0_become_39 : decode cX0_become 39 = .ok (.aload_n 0, 1) := dk_42 (dk_at dksX0_become_1 17 rfl rfl)
theorem dX0_become_40 : decode cX0_become 40 = .ok (.getfield 12, 3) := dk_180 0 12 (dk_at dksX0_become_1 18 rfl rfl)
theorem dX0_become_43 : decode cX0_become 43 = .ok (.iload 5, 2) := dk_21 5 (dk_at dksX0_become_1 21 rfl rfl)
theorem dX0_become_45 : decode cX0_become 45 = .ok (.iconst 1, 1) := dk_4 (dk_at dksX0_become_1 23 rfl rfl)
theorem dX0_become_46 : decode cX0_become 46 = .ok (.isub, 1) := dk_100 (dk_at dksX0_become_2 0 rfl rfl)
theorem dX0_become_47 : decode cX0_become 47 = .ok (.aload_n 0, 1) := dk_42 (dk_at dksX0_become_2 1 rfl rfl)
theorem dX0_become_48 : decode cX0_become 48 = .ok (.getfield 12, 3) := dk_180 0 12 (dk_at dksX0_become_2 2 rfl rfl)
theorem dX0_become_51 : decode cX0_become 51 = .ok (.iload 5, 2) := dk_21 5 (dk_at dksX0_become_2 5 rfl rfl)
theorem dX0_become_53 : decode cX0_become 53 = .ok (.aaload, 1) := dk_50 (dk_at dksX0_become_2 7 rfl rfl)
theorem dX0_become_54 : decode cX0_become 54 = .ok (.aastore, 1) := dk_83 (dk_at dksX0_become_2 8 rfl rfl)
theorem dX0_become_55 : decode cX0_become 55 = .ok (.iinc 5 1, 3) := dk_132 5 1 (dk_at dksX0_become_2 9 rfl rfl)
theorem dX0_become_58 : decode cX0_become 58 = .ok (.goto (-26), 3) := dk_167 255 230 (dk_at dksX0_become_2 12 rfl rfl)
theorem dX0_become_61 : decode cX0_become 61 = .ok (.aload_n 0, 1) := dk_42 (dk_at dksX0_become_2 15 rfl rfl)
theorem dX0_become_62 : decode cX0_become 62 = .ok (.getfield 12, 3) := dk_180 0 12 (dk_at dksX0_become_2 16 rfl rfl)
theorem dX0_become_65 : decode cX0_become 65 = .ok (.bipush 39, 2) := dk_16 39 (dk_at dksX0_become_2 19 rfl rfl)
theorem dX0_become_67 : decode cX0_become 67 = .ok (.aload 4, 2) := dk_25 4 (dk_at dksX0_become_2 21 rfl rfl)
theorem dX0_become_69 : decode cX0_become 69 = .ok (.aastore, 1) := dk_83 (dk_at dksX0_become_2 23 rfl rfl)
theorem dX0_become_70 : decode cX0_become 70 = .ok (.aload_n 0, 1) := dk_42 (dk_at dksX0_become_3 0 rfl rfl)
theorem dX0_become_71 : decode cX0_become 71 = .ok (.dup, 1) := dk_89 (dk_at dksX0_become_3 1 rfl rfl)
theorem dX0_become_72 : decode cX0_become 72 = .ok (.getfield 9, 3) := dk_180 0 9 (dk_at dksX0_become_3 2 rfl rfl)
theorem dX0_become_75 : decode cX0_become 75 = .ok (.iconst 1, 1) := dk_4 (dk_at dksX0_become_3 5 rfl rfl)
theorem dX0_become_76 : decode cX0_become 76 = .ok (.isub, 1) := dk_100 (dk_at dksX0_become_3 6 rfl rfl)
theorem dX0_become_77 : decode cX0_become 77 = .ok (.putfield 9, 3) := dk_181 0 9 (dk_at dksX0_become_3 7 rfl rfl)
theorem dX0_become_80 : decode cX0_become 80 = .ok (.aload_n 0, 1) := dk_42 (dk_at dksX0_become_3 10 rfl rfl)
theorem dX0_become_81 : decode cX0_become 81 = .ok (.getfield 12, 3) := dk_180 0 12 (dk_at dksX0_become_3 11 rfl rfl)
theorem dX0_become_84 : decode cX0_become 84 = .ok (.aload_n 0, 1) := dk_42 (dk_at dksX0_become_3 14 rfl rfl)
theorem dX0_become_85 : decode cX0_become 85 = .ok (.getfield 9, 3) := dk_180 0 9 (dk_at dksX0_become_3 15 rfl rfl)
theorem dX0_become_88 : decode cX0_become 88 = .ok (.aaload, 1) := dk_50 (dk_at dksX0_become_3 18 rfl rfl)
theorem dX0_become_89 : decode cX0_become 89 = .ok (.astore 4, 2) := dk_58 4 (dk_at dksX0_become_3 19 rfl rfl)
theorem dX0_become_91 : decode cX0_become 91 = .ok (.aload 4, 2) := dk_25 4 (dk_at dksX0_become_3 21 rfl rfl)
theorem dX0_become_93 : decode cX0_become 93 = .ok (.aload_n 1, 1) := dk_43 (dk_at dksX0_become_3 23 rfl rfl)
theorem dX0_become_94 : decode cX0_become 94 = .ok (.putfield 16, 3) := dk_181 0 16 (dk_at dksX0_become_4 0 rfl rfl)
theorem dX0_become_97 : decode cX0_become 97 = .ok (.aload 4, 2) := dk_25 4 (dk_at dksX0_become_4 3 rfl rfl)
theorem dX0_become_99 : decode cX0_become 99 = .ok (.iload_n 3, 1) := dk_29 (dk_at dksX0_become_4 5 rfl rfl)
theorem dX0_become_100 : decode cX0_become 100 = .ok (.putfield 22, 3) := dk_181 0 22 (dk_at dksX0_become_4 6 rfl rfl)
theorem dX0_become_103 : decode cX0_become 103 = .ok (.aload 4, 2) := dk_25 4 (dk_at dksX0_become_4 9 rfl rfl)
theorem dX0_become_105 : decode cX0_become 105 = .ok (.iload_n 2, 1) := dk_28 (dk_at dksX0_become_4 11 rfl rfl)
theorem dX0_become_106 : decode cX0_become 106 = .ok (.putfield 25, 3) := dk_181 0 25 (dk_at dksX0_become_4 12 rfl rfl)
theorem dX0_become_109 : decode cX0_become 109 = .ok (.aload_n 1, 1) := dk_43 (dk_at dksX0_become_4 15 rfl rfl)
theorem dX0_become_110 : decode cX0_become 110 = .ok (.iload_n 2, 1) := dk_28 (dk_at dksX0_become_4 16 rfl rfl)
theorem dX0_become_111 : decode cX0_become 111 = .ok (.putfield 3, 3) := dk_181 0 3 (dk_at dksX0_become_4 17 rfl rfl)
theorem dX0_become_114 : decode cX0_become 114 = .ok (.aload_n 0, 1) := dk_42 (dk_at dksX0_become_4 20 rfl rfl)
theorem dX0_become_115 : decode cX0_become 115 = .ok (.aload_n 0, 1) := dk_42 (dk_at dksX0_become_4 21 rfl rfl)
theorem dX0_become_116 : decode cX0_become 116 = .ok (.dup, 1) := dk_89 (dk_at dksX0_become_4 22 rfl rfl)
theorem dX0_become_117 : decode cX0_become 117 = .ok (.getfield 9, 3) := dk_180 0 9 (dk_at dksX0_become_5 0 rfl rfl)
theorem dX0_become_120 : decode cX0_become 120 = .ok (.iconst 1, 1) := dk_4 (dk_at dksX0_become_5 3 rfl rfl)
theorem dX0_become_121 : decode cX0_become 121 = .ok (.iadd, 1) := dk_96 (dk_at dksX0_become_5 4 rfl rfl)
theorem dX0_become_122 : decode cX0_become 122 = .ok (.dup_x1, 1) := dk_90 (dk_at dksX0_become_5 5 rfl rfl)
theorem dX0_become_123 : decode cX0_become 123 = .ok (.putfield 9, 3) := dk_181 0 9 (dk_at dksX0_become_5 6 rfl rfl)
theorem dX0_become_126 : decode cX0_become 126 = .ok (.putfield 28, 3) := dk_181 0 28 (dk_at dksX0_become_5 9 rfl rfl)
theorem dX0_become_129 : decode cX0_become 129 = .ok (.iload_n 3, 1) := dk_29 (dk_at dksX0_become_5 12 rfl rfl)
theorem dX0_become_130 : decode cX0_become 130 = .ok (.ireturn, 1) := dk_172 (dk_at dksX0_become_5 13 rfl rfl)
abbrev cX0_of : ByteArray := prog_1_method_25_code
def yX0_of : MethodName := ⟨RX0, "of", "(II)I"⟩
def dkwX0_of_6 : List UInt8 := [167, 0, 5, 16, 254, 172, 2, 172]
abbrev dktX0_of_6 : List UInt8 := dkwX0_of_6 ++ []
def dkwX0_of_5 : List UInt8 := [153, 0, 25, 42, 180, 0, 89, 180, 0, 249, 7, 27, 16, 10, 108, 104, 27, 16, 10, 112, 96, 46]
abbrev dktX0_of_5 : List UInt8 := dkwX0_of_5 ++ dktX0_of_6
def dkwX0_of_4 : List UInt8 := [182, 0, 209, 154, 0, 7, 2, 167, 0, 44, 42, 180, 0, 89, 180, 0, 242, 27, 16, 10, 108, 184, 0, 245]
abbrev dktX0_of_4 : List UInt8 := dkwX0_of_4 ++ dktX0_of_5
def dkwX0_of_3 : List UInt8 := [184, 0, 178, 153, 0, 15, 42, 180, 0, 89, 180, 0, 239, 27, 46, 167, 0, 4, 2, 172, 42, 27]
abbrev dktX0_of_3 : List UInt8 := dkwX0_of_3 ++ dktX0_of_4
def dkwX0_of_2 : List UInt8 := [27, 184, 0, 178, 153, 0, 15, 42, 180, 0, 89, 180, 0, 236, 27, 46, 167, 0, 4, 2, 172, 27]
abbrev dktX0_of_2 : List UInt8 := dkwX0_of_2 ++ dktX0_of_3
def dkwX0_of_1 : List UInt8 := [170, 0, 0, 0, 0, 0, 123, 0, 0, 0, 10, 0, 0, 0, 12, 0, 0, 0, 27, 0, 0, 0, 48, 0, 0, 0, 69]
abbrev dktX0_of_1 : List UInt8 := dkwX0_of_1 ++ dktX0_of_2
def dkwX0_of_0 : List UInt8 := [42, 27, 28, 182, 0, 224, 78, 45, 198, 0, 8, 45, 180, 0, 3, 172, 28]
abbrev dktX0_of_0 : List UInt8 := dkwX0_of_0 ++ dktX0_of_1
theorem dksX0_of_0 : cX0_of.data.toList.drop 0 = dktX0_of_0 := by decide +kernel
theorem dksX0_of_1 : cX0_of.data.toList.drop 17 = dktX0_of_1 := dk_seg dksX0_of_0 17 rfl rfl
theorem dksX0_of_2 : cX0_of.data.toList.drop 44 = dktX0_of_2 := dk_seg dksX0_of_1 27 rfl rfl
theorem dksX0_of_3 : cX0_of.data.toList.drop 66 = dktX0_of_3 := dk_seg dksX0_of_2 22 rfl rfl
theorem dksX0_of_4 : cX0_of.data.toList.drop 88 = dktX0_of_4 := dk_seg dksX0_of_3 22 rfl rfl
theorem dksX0_of_5 : cX0_of.data.toList.drop 112 = dktX0_of_5 := dk_seg dksX0_of_4 24 rfl rfl
theorem dksX0_of_6 : cX0_of.data.toList.drop 134 = dktX0_of_6 := dk_seg dksX0_of_5 22 rfl rfl
theorem dX0_of_0 : decode cX0_of 0 = .ok (.aload_n 0, 1) := dk_42 (dk_at dksX0_of_0 0 rfl rfl)
theorem dX0_of_1 : decode cX0_of 1 = .ok (.iload_n 1, 1) := dk_27 (dk_at dksX0_of_0 1 rfl rfl)
theorem dX0_of_2 : decode cX0_of 2 = .ok (.iload_n 2, 1) := dk_28 (dk_at dksX0_of_0 2 rfl rfl)
theorem dX0_of_3 : decode cX0_of 3 = .ok (.invokevirtual 224, 3) := dk_182 0 224 (dk_at dksX0_of_0 3 rfl rfl)
theorem dX0_of_6 : decode cX0_of 6 = .ok (.astore_n 3, 1) := dk_78 (dk_at dksX0_of_0 6 rfl rfl)
theorem dX0_of_7 : decode cX0_of 7 = .ok (.aload_n 3, 1) := dk_45 (dk_at dksX0_of_0 7 rfl rfl)
theorem dX0_of_8 : decode cX0_of 8 = .ok (.ifnull 8, 3) := dk_198 0 8 (dk_at dksX0_of_0 8 rfl rfl)
theorem dX0_of_11 : decode cX0_of 11 = .ok (.aload_n 3, 1) := dk_45 (dk_at dksX0_of_0 11 rfl rfl)
theorem dX0_of_12 : decode cX0_of 12 = .ok (.getfield 3, 3) := dk_180 0 3 (dk_at dksX0_of_0 12 rfl rfl)
theorem dX0_of_15 : decode cX0_of 15 = .ok (.ireturn, 1) := dk_172 (dk_at dksX0_of_0 15 rfl rfl)
theorem dX0_of_16 : decode cX0_of 16 = .ok (.iload_n 2, 1) := dk_28 (dk_at dksX0_of_0 16 rfl rfl)
theorem dX0_of_17 : decode cX0_of 17 = .ok (.tableswitch 123 10 12 #[27, 48, 69], 27) := by decide +kernel
theorem dX0_of_44 : decode cX0_of 44 = .ok (.iload_n 1, 1) := dk_27 (dk_at dksX0_of_2 0 rfl rfl)
theorem dX0_of_45 : decode cX0_of 45 = .ok (.invokestatic 178, 3) := dk_184 0 178 (dk_at dksX0_of_2 1 rfl rfl)
theorem dX0_of_48 : decode cX0_of 48 = .ok (.ifCond .eq 15, 3) := dk_153 0 15 (dk_at dksX0_of_2 4 rfl rfl)
theorem dX0_of_51 : decode cX0_of 51 = .ok (.aload_n 0, 1) := dk_42 (dk_at dksX0_of_2 7 rfl rfl)
theorem dX0_of_52 : decode cX0_of 52 = .ok (.getfield 89, 3) := dk_180 0 89 (dk_at dksX0_of_2 8 rfl rfl)
theorem dX0_of_55 : decode cX0_of 55 = .ok (.getfield 236, 3) := dk_180 0 236 (dk_at dksX0_of_2 11 rfl rfl)
theorem dX0_of_58 : decode cX0_of 58 = .ok (.iload_n 1, 1) := dk_27 (dk_at dksX0_of_2 14 rfl rfl)
theorem dX0_of_59 : decode cX0_of 59 = .ok (.iaload, 1) := dk_46 (dk_at dksX0_of_2 15 rfl rfl)
theorem dX0_of_60 : decode cX0_of 60 = .ok (.goto 4, 3) := dk_167 0 4 (dk_at dksX0_of_2 16 rfl rfl)
theorem dX0_of_63 : decode cX0_of 63 = .ok (.iconst (-1), 1) := dk_2 (dk_at dksX0_of_2 19 rfl rfl)
theorem dX0_of_64 : decode cX0_of 64 = .ok (.ireturn, 1) := dk_172 (dk_at dksX0_of_2 20 rfl rfl)
theorem dX0_of_65 : decode cX0_of 65 = .ok (.iload_n 1, 1) := dk_27 (dk_at dksX0_of_2 21 rfl rfl)
theorem dX0_of_66 : decode cX0_of 66 = .ok (.invokestatic 178, 3) := dk_184 0 178 (dk_at dksX0_of_3 0 rfl rfl)
theorem dX0_of_69 : decode cX0_of 69 = .ok (.ifCond .eq 15, 3) := dk_153 0 15 (dk_at dksX0_of_3 3 rfl rfl)
theorem dX0_of_72 : decode cX0_of 72 = .ok (.aload_n 0, 1) := dk_42 (dk_at dksX0_of_3 6 rfl rfl)
theorem dX0_of_73 : decode cX0_of 73 = .ok (.getfield 89, 3) := dk_180 0 89 (dk_at dksX0_of_3 7 rfl rfl)
theorem dX0_of_76 : decode cX0_of 76 = .ok (.getfield 239, 3) := dk_180 0 239 (dk_at dksX0_of_3 10 rfl rfl)
theorem dX0_of_79 : decode cX0_of 79 = .ok (.iload_n 1, 1) := dk_27 (dk_at dksX0_of_3 13 rfl rfl)
theorem dX0_of_80 : decode cX0_of 80 = .ok (.iaload, 1) := dk_46 (dk_at dksX0_of_3 14 rfl rfl)
theorem dX0_of_81 : decode cX0_of 81 = .ok (.goto 4, 3) := dk_167 0 4 (dk_at dksX0_of_3 15 rfl rfl)
theorem dX0_of_84 : decode cX0_of 84 = .ok (.iconst (-1), 1) := dk_2 (dk_at dksX0_of_3 18 rfl rfl)
theorem dX0_of_85 : decode cX0_of 85 = .ok (.ireturn, 1) := dk_172 (dk_at dksX0_of_3 19 rfl rfl)
theorem dX0_of_86 : decode cX0_of 86 = .ok (.aload_n 0, 1) := dk_42 (dk_at dksX0_of_3 20 rfl rfl)
theorem dX0_of_87 : decode cX0_of 87 = .ok (.iload_n 1, 1) := dk_27 (dk_at dksX0_of_3 21 rfl rfl)
theorem dX0_of_88 : decode cX0_of 88 = .ok (.invokevirtual 209, 3) := dk_182 0 209 (dk_at dksX0_of_4 0 rfl rfl)
theorem dX0_of_91 : decode cX0_of 91 = .ok (.ifCond .ne 7, 3) := dk_154 0 7 (dk_at dksX0_of_4 3 rfl rfl)
theorem dX0_of_94 : decode cX0_of 94 = .ok (.iconst (-1), 1) := dk_2 (dk_at dksX0_of_4 6 rfl rfl)
theorem dX0_of_95 : decode cX0_of 95 = .ok (.goto 44, 3) := dk_167 0 44 (dk_at dksX0_of_4 7 rfl rfl)
theorem dX0_of_98 : decode cX0_of 98 = .ok (.aload_n 0, 1) := dk_42 (dk_at dksX0_of_4 10 rfl rfl)
theorem dX0_of_99 : decode cX0_of 99 = .ok (.getfield 89, 3) := dk_180 0 89 (dk_at dksX0_of_4 11 rfl rfl)
theorem dX0_of_102 : decode cX0_of 102 = .ok (.getfield 242, 3) := dk_180 0 242 (dk_at dksX0_of_4 14 rfl rfl)
theorem dX0_of_105 : decode cX0_of 105 = .ok (.iload_n 1, 1) := dk_27 (dk_at dksX0_of_4 17 rfl rfl)
theorem dX0_of_106 : decode cX0_of 106 = .ok (.bipush 10, 2) := dk_16 10 (dk_at dksX0_of_4 18 rfl rfl)
theorem dX0_of_108 : decode cX0_of 108 = .ok (.idiv, 1) := dk_108 (dk_at dksX0_of_4 20 rfl rfl)
theorem dX0_of_109 : decode cX0_of 109 = .ok (.invokestatic 245, 3) := dk_184 0 245 (dk_at dksX0_of_4 21 rfl rfl)
theorem dX0_of_112 : decode cX0_of 112 = .ok (.ifCond .eq 25, 3) := dk_153 0 25 (dk_at dksX0_of_5 0 rfl rfl)
theorem dX0_of_115 : decode cX0_of 115 = .ok (.aload_n 0, 1) := dk_42 (dk_at dksX0_of_5 3 rfl rfl)
theorem dX0_of_116 : decode cX0_of 116 = .ok (.getfield 89, 3) := dk_180 0 89 (dk_at dksX0_of_5 4 rfl rfl)
theorem dX0_of_119 : decode cX0_of 119 = .ok (.getfield 249, 3) := dk_180 0 249 (dk_at dksX0_of_5 7 rfl rfl)
theorem dX0_of_122 : decode cX0_of 122 = .ok (.iconst 4, 1) := dk_7 (dk_at dksX0_of_5 10 rfl rfl)
theorem dX0_of_123 : decode cX0_of 123 = .ok (.iload_n 1, 1) := dk_27 (dk_at dksX0_of_5 11 rfl rfl)
theorem dX0_of_124 : decode cX0_of 124 = .ok (.bipush 10, 2) := dk_16 10 (dk_at dksX0_of_5 12 rfl rfl)
theorem dX0_of_126 : decode cX0_of 126 = .ok (.idiv, 1) := dk_108 (dk_at dksX0_of_5 14 rfl rfl)
theorem dX0_of_127 : decode cX0_of 127 = .ok (.imul, 1) := dk_104 (dk_at dksX0_of_5 15 rfl rfl)
theorem dX0_of_128 : decode cX0_of 128 = .ok (.iload_n 1, 1) := dk_27 (dk_at dksX0_of_5 16 rfl rfl)
theorem dX0_of_129 : decode cX0_of 129 = .ok (.bipush 10, 2) := dk_16 10 (dk_at dksX0_of_5 17 rfl rfl)
theorem dX0_of_131 : decode cX0_of 131 = .ok (.irem, 1) := dk_112 (dk_at dksX0_of_5 19 rfl rfl)
theorem dX0_of_132 : decode cX0_of 132 = .ok (.iadd, 1) := dk_96 (dk_at dksX0_of_5 20 rfl rfl)
theorem dX0_of_133 : decode cX0_of 133 = .ok (.iaload, 1) := dk_46 (dk_at dksX0_of_5 21 rfl rfl)
theorem dX0_of_134 : decode cX0_of 134 = .ok (.goto 5, 3) := dk_167 0 5 (dk_at dksX0_of_6 0 rfl rfl)
theorem dX0_of_137 : decode cX0_of 137 = .ok (.bipush (-2), 2) := dk_16 254 (dk_at dksX0_of_6 3 rfl rfl)
theorem dX0_of_139 : decode cX0_of 139 = .ok (.ireturn, 1) := dk_172 (dk_at dksX0_of_6 5 rfl rfl)
theorem dX0_of_140 : decode cX0_of 140 = .ok (.iconst (-1), 1) := dk_2 (dk_at dksX0_of_6 6 rfl rfl)
theorem dX0_of_141 : decode cX0_of 141 = .ok (.ireturn, 1) := dk_172 (dk_at dksX0_of_6 7 rfl rfl)
abbrev cX0_isIn : ByteArray := prog_1_method_3_code
def yX0_isIn : MethodName := ⟨RX0, "isIn", "(II)Z"⟩
def dkwX0_isIn_0 : List UInt8 := [26, 27, 122, 4, 126, 4, 160, 0, 7, 4, 167, 0, 4, 3, 172]
abbrev dktX0_isIn_0 : List UInt8 := dkwX0_isIn_0 ++ []
theorem dksX0_isIn_0 : cX0_isIn.data.toList.drop 0 = dktX0_isIn_0 := by decide +kernel
theorem dX0_isIn_0 : decode cX0_isIn 0 = .ok (.iload_n 0, 1) := dk_26 (dk_at dksX0_isIn_0 0 rfl rfl)
theorem dX0_isIn_1 : decode cX0_isIn 1 = .ok (.iload_n 1, 1) := dk_27 (dk_at dksX0_isIn_0 1 rfl rfl)
theorem dX0_isIn_2 : decode cX0_isIn 2 = .ok (.ishr, 1) := dk_122 (dk_at dksX0_isIn_0 2 rfl rfl)
theorem dX0_isIn_3 : decode cX0_isIn 3 = .ok (.iconst 1, 1) := dk_4 (dk_at dksX0_isIn_0 3 rfl rfl)
theorem dX0_isIn_4 : decode cX0_isIn 4 = .ok (.iand, 1) := dk_126 (dk_at dksX0_isIn_0 4 rfl rfl)
theorem dX0_isIn_5 : decode cX0_isIn 5 = .ok (.iconst 1, 1) := dk_4 (dk_at dksX0_isIn_0 5 rfl rfl)
theorem dX0_isIn_6 : decode cX0_isIn 6 = .ok (.if_icmp .ne 7, 3) := dk_160 0 7 (dk_at dksX0_isIn_0 6 rfl rfl)
theorem dX0_isIn_9 : decode cX0_isIn 9 = .ok (.iconst 1, 1) := dk_4 (dk_at dksX0_isIn_0 9 rfl rfl)
theorem dX0_isIn_10 : decode cX0_isIn 10 = .ok (.goto 4, 3) := dk_167 0 4 (dk_at dksX0_isIn_0 10 rfl rfl)
theorem dX0_isIn_13 : decode cX0_isIn 13 = .ok (.iconst 0, 1) := dk_3 (dk_at dksX0_isIn_0 13 rfl rfl)
theorem dX0_isIn_14 : decode cX0_isIn 14 = .ok (.ireturn, 1) := dk_172 (dk_at dksX0_isIn_0 14 rfl rfl)
abbrev cX0_law : ByteArray := prog_1_method_35_code
def yX0_law : MethodName := ⟨RX0, "law", "()I"⟩
def dkwX0_law_1 : List UInt8 := [16, 156, 42, 180, 0, 154, 100, 61, 42, 3, 181, 0, 151, 28, 172, 78, 42, 3, 181, 0, 151, 45, 191]
abbrev dktX0_law_1 : List UInt8 := dkwX0_law_1 ++ []
def dkwX0_law_0 : List UInt8 := [42, 3, 181, 0, 154, 42, 42, 182, 1, 66, 181, 1, 69, 4, 60, 42, 3, 181, 0, 151, 27, 172, 76]
abbrev dktX0_law_0 : List UInt8 := dkwX0_law_0 ++ dktX0_law_1
theorem dksX0_law_0 : cX0_law.data.toList.drop 0 = dktX0_law_0 := by decide +kernel
theorem dksX0_law_1 : cX0_law.data.toList.drop 23 = dktX0_law_1 := dk_seg dksX0_law_0 23 rfl rfl
theorem dX0_law_0 : decode cX0_law 0 = .ok (.aload_n 0, 1) := dk_42 (dk_at dksX0_law_0 0 rfl rfl)
theorem dX0_law_1 : decode cX0_law 1 = .ok (.iconst 0, 1) := dk_3 (dk_at dksX0_law_0 1 rfl rfl)
theorem dX0_law_2 : decode cX0_law 2 = .ok (.putfield 154, 3) := dk_181 0 154 (dk_at dksX0_law_0 2 rfl rfl)
theorem dX0_law_5 : decode cX0_law 5 = .ok (.aload_n 0, 1) := dk_42 (dk_at dksX0_law_0 5 rfl rfl)
theorem dX0_law_6 : decode cX0_law 6 = .ok (.aload_n 0, 1) := dk_42 (dk_at dksX0_law_0 6 rfl rfl)
theorem dX0_law_7 : decode cX0_law 7 = .ok (.invokevirtual 322, 3) := dk_182 1 66 (dk_at dksX0_law_0 7 rfl rfl)
theorem dX0_law_10 : decode cX0_law 10 = .ok (.putfield 325, 3) := dk_181 1 69 (dk_at dksX0_law_0 10 rfl rfl)
theorem dX0_law_13 : decode cX0_law 13 = .ok (.iconst 1, 1) := dk_4 (dk_at dksX0_law_0 13 rfl rfl)
theorem dX0_law_14 : decode cX0_law 14 = .ok (.istore_n 1, 1) := dk_60 (dk_at dksX0_law_0 14 rfl rfl)
theorem dX0_law_15 : decode cX0_law 15 = .ok (.aload_n 0, 1) := dk_42 (dk_at dksX0_law_0 15 rfl rfl)
theorem dX0_law_16 : decode cX0_law 16 = .ok (.iconst 0, 1) := dk_3 (dk_at dksX0_law_0 16 rfl rfl)
theorem dX0_law_17 : decode cX0_law 17 = .ok (.putfield 151, 3) := dk_181 0 151 (dk_at dksX0_law_0 17 rfl rfl)
theorem dX0_law_20 : decode cX0_law 20 = .ok (.iload_n 1, 1) := dk_27 (dk_at dksX0_law_0 20 rfl rfl)
theorem dX0_law_21 : decode cX0_law 21 = .ok (.ireturn, 1) := dk_172 (dk_at dksX0_law_0 21 rfl rfl)
theorem dX0_law_22 : decode cX0_law 22 = .ok (.astore_n 1, 1) := dk_76 (dk_at dksX0_law_0 22 rfl rfl)
theorem dX0_law_23 : decode cX0_law 23 = .ok (.bipush (-100), 2) := dk_16 156 (dk_at dksX0_law_1 0 rfl rfl)
theorem dX0_law_25 : decode cX0_law 25 = .ok (.aload_n 0, 1) := dk_42 (dk_at dksX0_law_1 2 rfl rfl)
theorem dX0_law_26 : decode cX0_law 26 = .ok (.getfield 154, 3) := dk_180 0 154 (dk_at dksX0_law_1 3 rfl rfl)
theorem dX0_law_29 : decode cX0_law 29 = .ok (.isub, 1) := dk_100 (dk_at dksX0_law_1 6 rfl rfl)
theorem dX0_law_30 : decode cX0_law 30 = .ok (.istore_n 2, 1) := dk_61 (dk_at dksX0_law_1 7 rfl rfl)
theorem dX0_law_31 : decode cX0_law 31 = .ok (.aload_n 0, 1) := dk_42 (dk_at dksX0_law_1 8 rfl rfl)
theorem dX0_law_32 : decode cX0_law 32 = .ok (.iconst 0, 1) := dk_3 (dk_at dksX0_law_1 9 rfl rfl)
theorem dX0_law_33 : decode cX0_law 33 = .ok (.putfield 151, 3) := dk_181 0 151 (dk_at dksX0_law_1 10 rfl rfl)
theorem dX0_law_36 : decode cX0_law 36 = .ok (.iload_n 2, 1) := dk_28 (dk_at dksX0_law_1 13 rfl rfl)
theorem dX0_law_37 : decode cX0_law 37 = .ok (.ireturn, 1) := dk_172 (dk_at dksX0_law_1 14 rfl rfl)
theorem dX0_law_38 : decode cX0_law 38 = .ok (.astore_n 3, 1) := dk_78 (dk_at dksX0_law_1 15 rfl rfl)
theorem dX0_law_39 : decode cX0_law 39 = .ok (.aload_n 0, 1) := dk_42 (dk_at dksX0_law_1 16 rfl rfl)
theorem dX0_law_40 : decode cX0_law 40 = .ok (.iconst 0, 1) := dk_3 (dk_at dksX0_law_1 17 rfl rfl)
theorem dX0_law_41 : decode cX0_law 41 = .ok (.putfield 151, 3) := dk_181 0 151 (dk_at dksX0_law_1 18 rfl rfl)
theorem dX0_law_44 : decode cX0_law 44 = .ok (.aload_n 3, 1) := dk_45 (dk_at dksX0_law_1 21 rfl rfl)
theorem dX0_law_45 : decode cX0_law 45 = .ok (.athrow, 1) := dk_191 (dk_at dksX0_law_1 22 rfl rfl)
abbrev cX0_readLaw : ByteArray := prog_1_method_34_code
def yX0_readLaw : MethodName := ⟨RX0, "readLaw", "()LLeftAsFound$Line;"⟩
def dkwX0_readLaw_2 : List UInt8 := [162, 0, 8, 42, 180, 0, 44, 191, 43, 176]
abbrev dktX0_readLaw_2 : List UInt8 := dkwX0_readLaw_2 ++ []
def dkwX0_readLaw_1 : List UInt8 := [182, 1, 58, 181, 1, 62, 44, 180, 1, 62, 77, 167, 255, 234, 42, 180, 0, 154, 42, 180, 0, 151]
abbrev dktX0_readLaw_1 : List UInt8 := dkwX0_readLaw_1 ++ dktX0_readLaw_2
def dkwX0_readLaw_0 : List UInt8 := [42, 3, 181, 1, 13, 42, 182, 1, 58, 76, 43, 77, 42, 16, 59, 182, 0, 161, 153, 0, 19, 44, 42]
abbrev dktX0_readLaw_0 : List UInt8 := dkwX0_readLaw_0 ++ dktX0_readLaw_1
theorem dksX0_readLaw_0 : cX0_readLaw.data.toList.drop 0 = dktX0_readLaw_0 := by decide +kernel
theorem dksX0_readLaw_1 : cX0_readLaw.data.toList.drop 23 = dktX0_readLaw_1 := dk_seg dksX0_readLaw_0 23 rfl rfl
theorem dksX0_readLaw_2 : cX0_readLaw.data.toList.drop 45 = dktX0_readLaw_2 := dk_seg dksX0_readLaw_1 22 rfl rfl
theorem dX0_readLaw_0 : decode cX0_readLaw 0 = .ok (.aload_n 0, 1) := dk_42 (dk_at dksX0_readLaw_0 0 rfl rfl)
theorem dX0_readLaw_1 : decode cX0_readLaw 1 = .ok (.iconst 0, 1) := dk_3 (dk_at dksX0_readLaw_0 1 rfl rfl)
theorem dX0_readLaw_2 : decode cX0_readLaw 2 = .ok (.putfield 269, 3) := dk_181 1 13 (dk_at dksX0_readLaw_0 2 rfl rfl)
theorem dX0_readLaw_5 : decode cX0_readLaw 5 = .ok (.aload_n 0, 1) := dk_42 (dk_at dksX0_readLaw_0 5 rfl rfl)
theorem dX0_readLaw_6 : decode cX0_readLaw 6 = .ok (.invokevirtual 314, 3) := dk_182 1 58 (dk_at dksX0_readLaw_0 6 rfl rfl)
theorem dX0_readLaw_9 : decode cX0_readLaw 9 = .ok (.astore_n 1, 1) := dk_76 (dk_at dksX0_readLaw_0 9 rfl rfl)
theorem dX0_readLaw_10 : decode cX0_readLaw 10 = .ok (.aload_n 1, 1) := dk_43 (dk_at dksX0_readLaw_0 10 rfl rfl)
theorem dX0_readLaw_11 : decode cX0_readLaw 11 = .ok (.astore_n 2, 1) := dk_77 (dk_at dksX0_readLaw_0 11 rfl rfl)
theorem dX0_readLaw_12 : decode cX0_readLaw 12 = .ok (.aload_n 0, 1) := dk_42 (dk_at dksX0_readLaw_0 12 rfl rfl)
theorem dX0_readLaw_13 : decode cX0_readLaw 13 = .ok (.bipush 59, 2) := dk_16 59 (dk_at dksX0_readLaw_0 13 rfl rfl)
theorem dX0_readLaw_15 : decode cX0_readLaw 15 = .ok (.invokevirtual 161, 3) := dk_182 0 161 (dk_at dksX0_readLaw_0 15 rfl rfl)
theorem dX0_readLaw_18 : decode cX0_readLaw 18 = .ok (.ifCond .eq 19, 3) := dk_153 0 19 (dk_at dksX0_readLaw_0 18 rfl rfl)
theorem dX0_readLaw_21 : decode cX0_readLaw 21 = .ok (.aload_n 2, 1) := dk_44 (dk_at dksX0_readLaw_0 21 rfl rfl)
theorem dX0_readLaw_22 : decode cX0_readLaw 22 = .ok (.aload_n 0, 1) := dk_42 (dk_at dksX0_readLaw_0 22 rfl rfl)
theorem dX0_readLaw_23 : decode cX0_readLaw 23 = .ok (.invokevirtual 314, 3) := dk_182 1 58 (dk_at dksX0_readLaw_1 0 rfl rfl)
theorem dX0_readLaw_26 : decode cX0_readLaw 26 = .ok (.putfield 318, 3) := dk_181 1 62 (dk_at dksX0_readLaw_1 3 rfl rfl)
theorem dX0_readLaw_29 : decode cX0_readLaw 29 = .ok (.aload_n 2, 1) := dk_44 (dk_at dksX0_readLaw_1 6 rfl rfl)
theorem dX0_readLaw_30 : decode cX0_readLaw 30 = .ok (.getfield 318, 3) := dk_180 1 62 (dk_at dksX0_readLaw_1 7 rfl rfl)
theorem dX0_readLaw_33 : decode cX0_readLaw 33 = .ok (.astore_n 2, 1) := dk_77 (dk_at dksX0_readLaw_1 10 rfl rfl)
theorem dX0_readLaw_34 : decode cX0_readLaw 34 = .ok (.goto (-22), 3) := dk_167 255 234 (dk_at dksX0_readLaw_1 11 rfl rfl)
theorem dX0_readLaw_37 : decode cX0_readLaw 37 = .ok (.aload_n 0, 1) := dk_42 (dk_at dksX0_readLaw_1 14 rfl rfl)
theorem dX0_readLaw_38 : decode cX0_readLaw 38 = .ok (.getfield 154, 3) := dk_180 0 154 (dk_at dksX0_readLaw_1 15 rfl rfl)
theorem dX0_readLaw_41 : decode cX0_readLaw 41 = .ok (.aload_n 0, 1) := dk_42 (dk_at dksX0_readLaw_1 18 rfl rfl)
theorem dX0_readLaw_42 : decode cX0_readLaw 42 = .ok (.getfield 151, 3) := dk_180 0 151 (dk_at dksX0_readLaw_1 19 rfl rfl)
theorem dX0_readLaw_45 : decode cX0_readLaw 45 = .ok (.if_icmp .ge 8, 3) := dk_162 0 8 (dk_at dksX0_readLaw_2 0 rfl rfl)
theorem dX0_readLaw_48 : decode cX0_readLaw 48 = .ok (.aload_n 0, 1) := dk_42 (dk_at dksX0_readLaw_2 3 rfl rfl)
theorem dX0_readLaw_49 : decode cX0_readLaw 49 = .ok (.getfield 44, 3) := dk_180 0 44 (dk_at dksX0_readLaw_2 4 rfl rfl)
theorem dX0_readLaw_52 : decode cX0_readLaw 52 = .ok (.athrow, 1) := dk_191 (dk_at dksX0_readLaw_2 7 rfl rfl)
theorem dX0_readLaw_53 : decode cX0_readLaw 53 = .ok (.aload_n 1, 1) := dk_43 (dk_at dksX0_readLaw_2 8 rfl rfl)
theorem dX0_readLaw_54 : decode cX0_readLaw 54 = .ok (.areturn, 1) := dk_176 (dk_at dksX0_readLaw_2 9 rfl rfl)
abbrev cX0_readLine : ByteArray := prog_1_method_33_code
def yX0_readLine : MethodName := ⟨RX0, "readLine", "()LLeftAsFound$Line;"⟩
def dkwX0_readLine_1 : List UInt8 := [153, 0, 19, 43, 43, 180, 1, 51, 181, 1, 55, 43, 42, 182, 1, 16, 181, 1, 51, 43, 176]
abbrev dktX0_readLine_1 : List UInt8 := dkwX0_readLine_1 ++ []
def dkwX0_readLine_0 : List UInt8 := [187, 1, 48, 89, 183, 1, 50, 76, 43, 42, 182, 1, 16, 181, 1, 51, 42, 16, 63, 182, 0, 161]
abbrev dktX0_readLine_0 : List UInt8 := dkwX0_readLine_0 ++ dktX0_readLine_1
theorem dksX0_readLine_0 : cX0_readLine.data.toList.drop 0 = dktX0_readLine_0 := by decide +kernel
theorem dksX0_readLine_1 : cX0_readLine.data.toList.drop 22 = dktX0_readLine_1 := dk_seg dksX0_readLine_0 22 rfl rfl
theorem dX0_readLine_0 : decode cX0_readLine 0 = .ok (.new 304, 3) := dk_187 1 48 (dk_at dksX0_readLine_0 0 rfl rfl)
theorem dX0_readLine_3 : decode cX0_readLine 3 = .ok (.dup, 1) := dk_89 (dk_at dksX0_readLine_0 3 rfl rfl)
theorem dX0_readLine_4 : decode cX0_readLine 4 = .ok (.invokespecial 306, 3) := dk_183 1 50 (dk_at dksX0_readLine_0 4 rfl rfl)
theorem dX0_readLine_7 : decode cX0_readLine 7 = .ok (.astore_n 1, 1) := dk_76 (dk_at dksX0_readLine_0 7 rfl rfl)
theorem dX0_readLine_8 : decode cX0_readLine 8 = .ok (.aload_n 1, 1) := dk_43 (dk_at dksX0_readLine_0 8 rfl rfl)
theorem dX0_readLine_9 : decode cX0_readLine 9 = .ok (.aload_n 0, 1) := dk_42 (dk_at dksX0_readLine_0 9 rfl rfl)
theorem dX0_readLine_10 : decode cX0_readLine 10 = .ok (.invokevirtual 272, 3) := dk_182 1 16 (dk_at dksX0_readLine_0 10 rfl rfl)
theorem dX0_readLine_13 : decode cX0_readLine 13 = .ok (.putfield 307, 3) := dk_181 1 51 (dk_at dksX0_readLine_0 13 rfl rfl)
theorem dX0_readLine_16 : decode cX0_readLine 16 = .ok (.aload_n 0, 1) := dk_42 (dk_at dksX0_readLine_0 16 rfl rfl)
theorem dX0_readLine_17 : decode cX0_readLine 17 = .ok (.bipush 63, 2) := dk_16 63 (dk_at dksX0_readLine_0 17 rfl rfl)
theorem dX0_readLine_19 : decode cX0_readLine 19 = .ok (.invokevirtual 161, 3) := dk_182 0 161 (dk_at dksX0_readLine_0 19 rfl rfl)
theorem dX0_readLine_22 : decode cX0_readLine 22 = .ok (.ifCond .eq 19, 3) := dk_153 0 19 (dk_at dksX0_readLine_1 0 rfl rfl)
theorem dX0_readLine_25 : decode cX0_readLine 25 = .ok (.aload_n 1, 1) := dk_43 (dk_at dksX0_readLine_1 3 rfl rfl)
theorem dX0_readLine_26 : decode cX0_readLine 26 = .ok (.aload_n 1, 1) := dk_43 (dk_at dksX0_readLine_1 4 rfl rfl)
theorem dX0_readLine_27 : decode cX0_readLine 27 = .ok (.getfield 307, 3) := dk_180 1 51 (dk_at dksX0_readLine_1 5 rfl rfl)
theorem dX0_readLine_30 : decode cX0_readLine 30 = .ok (.putfield 311, 3) := dk_181 1 55 (dk_at dksX0_readLine_1 8 rfl rfl)
theorem dX0_readLine_33 : decode cX0_readLine 33 = .ok (.aload_n 1, 1) := dk_43 (dk_at dksX0_readLine_1 11 rfl rfl)
theorem dX0_readLine_34 : decode cX0_readLine 34 = .ok (.aload_n 0, 1) := dk_42 (dk_at dksX0_readLine_1 12 rfl rfl)
theorem dX0_readLine_35 : decode cX0_readLine 35 = .ok (.invokevirtual 272, 3) := dk_182 1 16 (dk_at dksX0_readLine_1 13 rfl rfl)
theorem dX0_readLine_38 : decode cX0_readLine 38 = .ok (.putfield 307, 3) := dk_181 1 51 (dk_at dksX0_readLine_1 16 rfl rfl)
theorem dX0_readLine_41 : decode cX0_readLine 41 = .ok (.aload_n 1, 1) := dk_43 (dk_at dksX0_readLine_1 19 rfl rfl)
theorem dX0_readLine_42 : decode cX0_readLine 42 = .ok (.areturn, 1) := dk_176 (dk_at dksX0_readLine_1 20 rfl rfl)
abbrev cX0_readEither : ByteArray := prog_1_method_32_code
def yX0_readEither : MethodName := ⟨RX0, "readEither", "()LLeftAsFound$Term;"⟩
def dkwX0_readEither_1 : List UInt8 := [182, 1, 45, 183, 1, 33, 76, 167, 255, 232, 43, 176]
abbrev dktX0_readEither_1 : List UInt8 := dkwX0_readEither_1 ++ []
def dkwX0_readEither_0 : List UInt8 := [42, 182, 1, 45, 76, 42, 16, 124, 182, 0, 161, 153, 0, 21, 187, 1, 31, 89, 16, 124, 43, 42]
abbrev dktX0_readEither_0 : List UInt8 := dkwX0_readEither_0 ++ dktX0_readEither_1
theorem dksX0_readEither_0 : cX0_readEither.data.toList.drop 0 = dktX0_readEither_0 := by decide +kernel
theorem dksX0_readEither_1 : cX0_readEither.data.toList.drop 22 = dktX0_readEither_1 := dk_seg dksX0_readEither_0 22 rfl rfl
theorem dX0_readEither_0 : decode cX0_readEither 0 = .ok (.aload_n 0, 1) := dk_42 (dk_at dksX0_readEither_0 0 rfl rfl)
theorem dX0_readEither_1 : decode cX0_readEither 1 = .ok (.invokevirtual 301, 3) := dk_182 1 45 (dk_at dksX0_readEither_0 1 rfl rfl)
theorem dX0_readEither_4 : decode cX0_readEither 4 = .ok (.astore_n 1, 1) := dk_76 (dk_at dksX0_readEither_0 4 rfl rfl)
theorem dX0_readEither_5 : decode cX0_readEither 5 = .ok (.aload_n 0, 1) := dk_42 (dk_at dksX0_readEither_0 5 rfl rfl)
theorem dX0_readEither_6 : decode cX0_readEither 6 = .ok (.bipush 124, 2) := dk_16 124 (dk_at dksX0_readEither_0 6 rfl rfl)
theorem dX0_readEither_8 : decode cX0_readEither 8 = .ok (.invokevirtual 161, 3) := dk_182 0 161 (dk_at dksX0_readEither_0 8 rfl rfl)
theorem dX0_readEither_11 : decode cX0_readEither 11 = .ok (.ifCond .eq 21, 3) := dk_153 0 21 (dk_at dksX0_readEither_0 11 rfl rfl)
theorem dX0_readEither_14 : decode cX0_readEither 14 = .ok (.new 287, 3) := dk_187 1 31 (dk_at dksX0_readEither_0 14 rfl rfl)
theorem dX0_readEither_17 : decode cX0_readEither 17 = .ok (.dup, 1) := dk_89 (dk_at dksX0_readEither_0 17 rfl rfl)
theorem dX0_readEither_18 : decode cX0_readEither 18 = .ok (.bipush 124, 2) := dk_16 124 (dk_at dksX0_readEither_0 18 rfl rfl)
theorem dX0_readEither_20 : decode cX0_readEither 20 = .ok (.aload_n 1, 1) := dk_43 (dk_at dksX0_readEither_0 20 rfl rfl)
theorem dX0_readEither_21 : decode cX0_readEither 21 = .ok (.aload_n 0, 1) := dk_42 (dk_at dksX0_readEither_0 21 rfl rfl)
theorem dX0_readEither_22 : decode cX0_readEither 22 = .ok (.invokevirtual 301, 3) := dk_182 1 45 (dk_at dksX0_readEither_1 0 rfl rfl)
theorem dX0_readEither_25 : decode cX0_readEither 25 = .ok (.invokespecial 289, 3) := dk_183 1 33 (dk_at dksX0_readEither_1 3 rfl rfl)
theorem dX0_readEither_28 : decode cX0_readEither 28 = .ok (.astore_n 1, 1) := dk_76 (dk_at dksX0_readEither_1 6 rfl rfl)
theorem dX0_readEither_29 : decode cX0_readEither 29 = .ok (.goto (-24), 3) := dk_167 255 232 (dk_at dksX0_readEither_1 7 rfl rfl)
theorem dX0_readEither_32 : decode cX0_readEither 32 = .ok (.aload_n 1, 1) := dk_43 (dk_at dksX0_readEither_1 10 rfl rfl)
theorem dX0_readEither_33 : decode cX0_readEither 33 = .ok (.areturn, 1) := dk_176 (dk_at dksX0_readEither_1 11 rfl rfl)
abbrev cX0_readAll : ByteArray := prog_1_method_31_code
def yX0_readAll : MethodName := ⟨RX0, "readAll", "()LLeftAsFound$Term;"⟩
def dkwX0_readAll_1 : List UInt8 := [182, 1, 42, 183, 1, 33, 76, 167, 255, 232, 43, 176]
abbrev dktX0_readAll_1 : List UInt8 := dkwX0_readAll_1 ++ []
def dkwX0_readAll_0 : List UInt8 := [42, 182, 1, 42, 76, 42, 16, 38, 182, 0, 161, 153, 0, 21, 187, 1, 31, 89, 16, 38, 43, 42]
abbrev dktX0_readAll_0 : List UInt8 := dkwX0_readAll_0 ++ dktX0_readAll_1
theorem dksX0_readAll_0 : cX0_readAll.data.toList.drop 0 = dktX0_readAll_0 := by decide +kernel
theorem dksX0_readAll_1 : cX0_readAll.data.toList.drop 22 = dktX0_readAll_1 := dk_seg dksX0_readAll_0 22 rfl rfl
theorem dX0_readAll_0 : decode cX0_readAll 0 = .ok (.aload_n 0, 1) := dk_42 (dk_at dksX0_readAll_0 0 rfl rfl)
theorem dX0_readAll_1 : decode cX0_readAll 1 = .ok (.invokevirtual 298, 3) := dk_182 1 42 (dk_at dksX0_readAll_0 1 rfl rfl)
theorem dX0_readAll_4 : decode cX0_readAll 4 = .ok (.astore_n 1, 1) := dk_76 (dk_at dksX0_readAll_0 4 rfl rfl)
theorem dX0_readAll_5 : decode cX0_readAll 5 = .ok (.aload_n 0, 1) := dk_42 (dk_at dksX0_readAll_0 5 rfl rfl)
theorem dX0_readAll_6 : decode cX0_readAll 6 = .ok (.bipush 38, 2) := dk_16 38 (dk_at dksX0_readAll_0 6 rfl rfl)
theorem dX0_readAll_8 : decode cX0_readAll 8 = .ok (.invokevirtual 161, 3) := dk_182 0 161 (dk_at dksX0_readAll_0 8 rfl rfl)
theorem dX0_readAll_11 : decode cX0_readAll 11 = .ok (.ifCond .eq 21, 3) := dk_153 0 21 (dk_at dksX0_readAll_0 11 rfl rfl)
theorem dX0_readAll_14 : decode cX0_readAll 14 = .ok (.new 287, 3) := dk_187 1 31 (dk_at dksX0_readAll_0 14 rfl rfl)
theorem dX0_readAll_17 : decode cX0_readAll 17 = .ok (.dup, 1) := dk_89 (dk_at dksX0_readAll_0 17 rfl rfl)
theorem dX0_readAll_18 : decode cX0_readAll 18 = .ok (.bipush 38, 2) := dk_16 38 (dk_at dksX0_readAll_0 18 rfl rfl)
theorem dX0_readAll_20 : decode cX0_readAll 20 = .ok (.aload_n 1, 1) := dk_43 (dk_at dksX0_readAll_0 20 rfl rfl)
theorem dX0_readAll_21 : decode cX0_readAll 21 = .ok (.aload_n 0, 1) := dk_42 (dk_at dksX0_readAll_0 21 rfl rfl)
theorem dX0_readAll_22 : decode cX0_readAll 22 = .ok (.invokevirtual 298, 3) := dk_182 1 42 (dk_at dksX0_readAll_1 0 rfl rfl)
theorem dX0_readAll_25 : decode cX0_readAll 25 = .ok (.invokespecial 289, 3) := dk_183 1 33 (dk_at dksX0_readAll_1 3 rfl rfl)
theorem dX0_readAll_28 : decode cX0_readAll 28 = .ok (.astore_n 1, 1) := dk_76 (dk_at dksX0_readAll_1 6 rfl rfl)
theorem dX0_readAll_29 : decode cX0_readAll 29 = .ok (.goto (-24), 3) := dk_167 255 232 (dk_at dksX0_readAll_1 7 rfl rfl)
theorem dX0_readAll_32 : decode cX0_readAll 32 = .ok (.aload_n 1, 1) := dk_43 (dk_at dksX0_readAll_1 10 rfl rfl)
theorem dX0_readAll_33 : decode cX0_readAll 33 = .ok (.areturn, 1) := dk_176 (dk_at dksX0_readAll_1 11 rfl rfl)
abbrev cX0_readLike : ByteArray := prog_1_method_30_code
def yX0_readLike : MethodName := ⟨RX0, "readLike", "()LLeftAsFound$Term;"⟩
def dkwX0_readLike_2 : List UInt8 := [181, 0, 154, 46, 61, 187, 1, 31, 89, 28, 43, 42, 182, 1, 39, 183, 1, 33, 176]
abbrev dktX0_readLike_2 : List UInt8 := dkwX0_readLike_2 ++ []
def dkwX0_readLike_1 : List UInt8 := [182, 0, 157, 16, 62, 159, 0, 5, 43, 176, 42, 180, 0, 37, 42, 89, 180, 0, 154, 90, 4, 96]
abbrev dktX0_readLike_1 : List UInt8 := dkwX0_readLike_1 ++ dktX0_readLike_2
def dkwX0_readLike_0 : List UInt8 := [42, 182, 1, 39, 76, 42, 182, 0, 157, 16, 60, 159, 0, 23, 42, 182, 0, 157, 16, 61, 159, 0, 14, 42]
abbrev dktX0_readLike_0 : List UInt8 := dkwX0_readLike_0 ++ dktX0_readLike_1
theorem dksX0_readLike_0 : cX0_readLike.data.toList.drop 0 = dktX0_readLike_0 := by decide +kernel
theorem dksX0_readLike_1 : cX0_readLike.data.toList.drop 24 = dktX0_readLike_1 := dk_seg dksX0_readLike_0 24 rfl rfl
theorem dksX0_readLike_2 : cX0_readLike.data.toList.drop 46 = dktX0_readLike_2 := dk_seg dksX0_readLike_1 22 rfl rfl
theorem dX0_readLike_0 : decode cX0_readLike 0 = .ok (.aload_n 0, 1) := dk_42 (dk_at dksX0_readLike_0 0 rfl rfl)
theorem dX0_readLike_1 : decode cX0_readLike 1 = .ok (.invokevirtual 295, 3) := dk_182 1 39 (dk_at dksX0_readLike_0 1 rfl rfl)
theorem dX0_readLike_4 : decode cX0_readLike 4 = .ok (.astore_n 1, 1) := dk_76 (dk_at dksX0_readLike_0 4 rfl rfl)
theorem dX0_readLike_5 : decode cX0_readLike 5 = .ok (.aload_n 0, 1) := dk_42 (dk_at dksX0_readLike_0 5 rfl rfl)
theorem dX0_readLike_6 : decode cX0_readLike 6 = .ok (.invokevirtual 157, 3) := dk_182 0 157 (dk_at dksX0_readLike_0 6 rfl rfl)
theorem dX0_readLike_9 : decode cX0_readLike 9 = .ok (.bipush 60, 2) := dk_16 60 (dk_at dksX0_readLike_0 9 rfl rfl)
theorem dX0_readLike_11 : decode cX0_readLike 11 = .ok (.if_icmp .eq 23, 3) := dk_159 0 23 (dk_at dksX0_readLike_0 11 rfl rfl)
theorem dX0_readLike_14 : decode cX0_readLike 14 = .ok (.aload_n 0, 1) := dk_42 (dk_at dksX0_readLike_0 14 rfl rfl)
theorem dX0_readLike_15 : decode cX0_readLike 15 = .ok (.invokevirtual 157, 3) := dk_182 0 157 (dk_at dksX0_readLike_0 15 rfl rfl)
theorem dX0_readLike_18 : decode cX0_readLike 18 = .ok (.bipush 61, 2) := dk_16 61 (dk_at dksX0_readLike_0 18 rfl rfl)
theorem dX0_readLike_20 : decode cX0_readLike 20 = .ok (.if_icmp .eq 14, 3) := dk_159 0 14 (dk_at dksX0_readLike_0 20 rfl rfl)
theorem dX0_readLike_23 : decode cX0_readLike 23 = .ok (.aload_n 0, 1) := dk_42 (dk_at dksX0_readLike_0 23 rfl rfl)
theorem dX0_readLike_24 : decode cX0_readLike 24 = .ok (.invokevirtual 157, 3) := dk_182 0 157 (dk_at dksX0_readLike_1 0 rfl rfl)
theorem dX0_readLike_27 : decode cX0_readLike 27 = .ok (.bipush 62, 2) := dk_16 62 (dk_at dksX0_readLike_1 3 rfl rfl)
theorem dX0_readLike_29 : decode cX0_readLike 29 = .ok (.if_icmp .eq 5, 3) := dk_159 0 5 (dk_at dksX0_readLike_1 5 rfl rfl)
theorem dX0_readLike_32 : decode cX0_readLike 32 = .ok (.aload_n 1, 1) := dk_43 (dk_at dksX0_readLike_1 8 rfl rfl)
theorem dX0_readLike_33 : decode cX0_readLike 33 = .ok (.areturn, 1) := dk_176 (dk_at dksX0_readLike_1 9 rfl rfl)
theorem dX0_readLike_34 : decode cX0_readLike 34 = .ok (.aload_n 0, 1) := dk_42 (dk_at dksX0_readLike_1 10 rfl rfl)
theorem dX0_readLike_35 : decode cX0_readLike 35 = .ok (.getfield 37, 3) := dk_180 0 37 (dk_at dksX0_readLike_1 11 rfl rfl)
theorem dX0_readLike_38 : decode cX0_readLike 38 = .ok (.aload_n 0, 1) := dk_42 (dk_at dksX0_readLike_1 14 rfl rfl)
theorem dX0_readLike_39 : decode cX0_readLike 39 = .ok (.dup, 1) := dk_89 (dk_at dksX0_readLike_1 15 rfl rfl)
theorem dX0_readLike_40 : decode cX0_readLike 40 = .ok (.getfield 154, 3) := dk_180 0 154 (dk_at dksX0_readLike_1 16 rfl rfl)
theorem dX0_readLike_43 : decode cX0_readLike 43 = .ok (.dup_x1, 1) := dk_90 (dk_at dksX0_readLike_1 19 rfl rfl)
theorem dX0_readLike_44 : decode cX0_readLike 44 = .ok (.iconst 1, 1) := dk_4 (dk_at dksX0_readLike_1 20 rfl rfl)
theorem dX0_readLike_45 : decode cX0_readLike 45 = .ok (.iadd, 1) := dk_96 (dk_at dksX0_readLike_1 21 rfl rfl)
theorem dX0_readLike_46 : decode cX0_readLike 46 = .ok (.putfield 154, 3) := dk_181 0 154 (dk_at dksX0_readLike_2 0 rfl rfl)
theorem dX0_readLike_49 : decode cX0_readLike 49 = .ok (.iaload, 1) := dk_46 (dk_at dksX0_readLike_2 3 rfl rfl)
theorem dX0_readLike_50 : decode cX0_readLike 50 = .ok (.istore_n 2, 1) := dk_61 (dk_at dksX0_readLike_2 4 rfl rfl)
theorem dX0_readLike_51 : decode cX0_readLike 51 = .ok (.new 287, 3) := dk_187 1 31 (dk_at dksX0_readLike_2 5 rfl rfl)
theorem dX0_readLike_54 : decode cX0_readLike 54 = .ok (.dup, 1) := dk_89 (dk_at dksX0_readLike_2 8 rfl rfl)
theorem dX0_readLike_55 : decode cX0_readLike 55 = .ok (.iload_n 2, 1) := dk_28 (dk_at dksX0_readLike_2 9 rfl rfl)
theorem dX0_readLike_56 : decode cX0_readLike 56 = .ok (.aload_n 1, 1) := dk_43 (dk_at dksX0_readLike_2 10 rfl rfl)
theorem dX0_readLike_57 : decode cX0_readLike 57 = .ok (.aload_n 0, 1) := dk_42 (dk_at dksX0_readLike_2 11 rfl rfl)
theorem dX0_readLike_58 : decode cX0_readLike 58 = .ok (.invokevirtual 295, 3) := dk_182 1 39 (dk_at dksX0_readLike_2 12 rfl rfl)
theorem dX0_readLike_61 : decode cX0_readLike 61 = .ok (.invokespecial 289, 3) := dk_183 1 33 (dk_at dksX0_readLike_2 15 rfl rfl)
theorem dX0_readLike_64 : decode cX0_readLike 64 = .ok (.areturn, 1) := dk_176 (dk_at dksX0_readLike_2 18 rfl rfl)
abbrev cX0_readPlus : ByteArray := prog_1_method_29_code
def yX0_readPlus : MethodName := ⟨RX0, "readPlus", "()LLeftAsFound$Term;"⟩
def dkwX0_readPlus_2 : List UInt8 := [182, 1, 36, 183, 1, 33, 76, 167, 255, 207, 43, 176]
abbrev dktX0_readPlus_2 : List UInt8 := dkwX0_readPlus_2 ++ []
def dkwX0_readPlus_1 : List UInt8 := [180, 0, 37, 42, 89, 180, 0, 154, 90, 4, 96, 181, 0, 154, 46, 61, 187, 1, 31, 89, 28, 43, 42]
abbrev dktX0_readPlus_1 : List UInt8 := dkwX0_readPlus_1 ++ dktX0_readPlus_2
def dkwX0_readPlus_0 : List UInt8 := [42, 182, 1, 36, 76, 42, 182, 0, 157, 16, 43, 159, 0, 12, 42, 182, 0, 157, 16, 45, 160, 0, 37, 42]
abbrev dktX0_readPlus_0 : List UInt8 := dkwX0_readPlus_0 ++ dktX0_readPlus_1
theorem dksX0_readPlus_0 : cX0_readPlus.data.toList.drop 0 = dktX0_readPlus_0 := by decide +kernel
theorem dksX0_readPlus_1 : cX0_readPlus.data.toList.drop 24 = dktX0_readPlus_1 := dk_seg dksX0_readPlus_0 24 rfl rfl
theorem dksX0_readPlus_2 : cX0_readPlus.data.toList.drop 47 = dktX0_readPlus_2 := dk_seg dksX0_readPlus_1 23 rfl rfl
theorem dX0_readPlus_0 : decode cX0_readPlus 0 = .ok (.aload_n 0, 1) := dk_42 (dk_at dksX0_readPlus_0 0 rfl rfl)
theorem dX0_readPlus_1 : decode cX0_readPlus 1 = .ok (.invokevirtual 292, 3) := dk_182 1 36 (dk_at dksX0_readPlus_0 1 rfl rfl)
theorem dX0_readPlus_4 : decode cX0_readPlus 4 = .ok (.astore_n 1, 1) := dk_76 (dk_at dksX0_readPlus_0 4 rfl rfl)
theorem dX0_readPlus_5 : decode cX0_readPlus 5 = .ok (.aload_n 0, 1) := dk_42 (dk_at dksX0_readPlus_0 5 rfl rfl)
theorem dX0_readPlus_6 : decode cX0_readPlus 6 = .ok (.invokevirtual 157, 3) := dk_182 0 157 (dk_at dksX0_readPlus_0 6 rfl rfl)
theorem dX0_readPlus_9 : decode cX0_readPlus 9 = .ok (.bipush 43, 2) := dk_16 43 (dk_at dksX0_readPlus_0 9 rfl rfl)
theorem dX0_readPlus_11 : decode cX0_readPlus 11 = .ok (.if_icmp .eq 12, 3) := dk_159 0 12 (dk_at dksX0_readPlus_0 11 rfl rfl)
theorem dX0_readPlus_14 : decode cX0_readPlus 14 = .ok (.aload_n 0, 1) := dk_42 (dk_at dksX0_readPlus_0 14 rfl rfl)
theorem dX0_readPlus_15 : decode cX0_readPlus 15 = .ok (.invokevirtual 157, 3) := dk_182 0 157 (dk_at dksX0_readPlus_0 15 rfl rfl)
theorem dX0_readPlus_18 : decode cX0_readPlus 18 = .ok (.bipush 45, 2) := dk_16 45 (dk_at dksX0_readPlus_0 18 rfl rfl)
theorem dX0_readPlus_20 : decode cX0_readPlus 20 = .ok (.if_icmp .ne 37, 3) := dk_160 0 37 (dk_at dksX0_readPlus_0 20 rfl rfl)
theorem dX0_readPlus_23 : decode cX0_readPlus 23 = .ok (.aload_n 0, 1) := dk_42 (dk_at dksX0_readPlus_0 23 rfl rfl)
theorem dX0_readPlus_24 : decode cX0_readPlus 24 = .ok (.getfield 37, 3) := dk_180 0 37 (dk_at dksX0_readPlus_1 0 rfl rfl)
theorem dX0_readPlus_27 : decode cX0_readPlus 27 = .ok (.aload_n 0, 1) := dk_42 (dk_at dksX0_readPlus_1 3 rfl rfl)
theorem dX0_readPlus_28 : decode cX0_readPlus 28 = .ok (.dup, 1) := dk_89 (dk_at dksX0_readPlus_1 4 rfl rfl)
theorem dX0_readPlus_29 : decode cX0_readPlus 29 = .ok (.getfield 154, 3) := dk_180 0 154 (dk_at dksX0_readPlus_1 5 rfl rfl)
theorem dX0_readPlus_32 : decode cX0_readPlus 32 = .ok (.dup_x1, 1) := dk_90 (dk_at dksX0_readPlus_1 8 rfl rfl)
theorem dX0_readPlus_33 : decode cX0_readPlus 33 = .ok (.iconst 1, 1) := dk_4 (dk_at dksX0_readPlus_1 9 rfl rfl)
theorem dX0_readPlus_34 : decode cX0_readPlus 34 = .ok (.iadd, 1) := dk_96 (dk_at dksX0_readPlus_1 10 rfl rfl)
theorem dX0_readPlus_35 : decode cX0_readPlus 35 = .ok (.putfield 154, 3) := dk_181 0 154 (dk_at dksX0_readPlus_1 11 rfl rfl)
theorem dX0_readPlus_38 : decode cX0_readPlus 38 = .ok (.iaload, 1) := dk_46 (dk_at dksX0_readPlus_1 14 rfl rfl)
theorem dX0_readPlus_39 : decode cX0_readPlus 39 = .ok (.istore_n 2, 1) := dk_61 (dk_at dksX0_readPlus_1 15 rfl rfl)
theorem dX0_readPlus_40 : decode cX0_readPlus 40 = .ok (.new 287, 3) := dk_187 1 31 (dk_at dksX0_readPlus_1 16 rfl rfl)
theorem dX0_readPlus_43 : decode cX0_readPlus 43 = .ok (.dup, 1) := dk_89 (dk_at dksX0_readPlus_1 19 rfl rfl)
theorem dX0_readPlus_44 : decode cX0_readPlus 44 = .ok (.iload_n 2, 1) := dk_28 (dk_at dksX0_readPlus_1 20 rfl rfl)
theorem dX0_readPlus_45 : decode cX0_readPlus 45 = .ok (.aload_n 1, 1) := dk_43 (dk_at dksX0_readPlus_1 21 rfl rfl)
theorem dX0_readPlus_46 : decode cX0_readPlus 46 = .ok (.aload_n 0, 1) := dk_42 (dk_at dksX0_readPlus_1 22 rfl rfl)
theorem dX0_readPlus_47 : decode cX0_readPlus 47 = .ok (.invokevirtual 292, 3) := dk_182 1 36 (dk_at dksX0_readPlus_2 0 rfl rfl)
theorem dX0_readPlus_50 : decode cX0_readPlus 50 = .ok (.invokespecial 289, 3) := dk_183 1 33 (dk_at dksX0_readPlus_2 3 rfl rfl)
theorem dX0_readPlus_53 : decode cX0_readPlus 53 = .ok (.astore_n 1, 1) := dk_76 (dk_at dksX0_readPlus_2 6 rfl rfl)
theorem dX0_readPlus_54 : decode cX0_readPlus 54 = .ok (.goto (-49), 3) := dk_167 255 207 (dk_at dksX0_readPlus_2 7 rfl rfl)
theorem dX0_readPlus_57 : decode cX0_readPlus 57 = .ok (.aload_n 1, 1) := dk_43 (dk_at dksX0_readPlus_2 10 rfl rfl)
theorem dX0_readPlus_58 : decode cX0_readPlus 58 = .ok (.areturn, 1) := dk_176 (dk_at dksX0_readPlus_2 11 rfl rfl)
abbrev cX0_readTimes : ByteArray := prog_1_method_28_code
def yX0_readTimes : MethodName := ⟨RX0, "readTimes", "()LLeftAsFound$Term;"⟩
def dkwX0_readTimes_2 : List UInt8 := [61, 187, 1, 31, 89, 28, 43, 42, 182, 1, 22, 183, 1, 33, 76, 167, 255, 198, 43, 176]
abbrev dktX0_readTimes_2 : List UInt8 := dkwX0_readTimes_2 ++ []
def dkwX0_readTimes_1 : List UInt8 := [182, 0, 157, 16, 37, 160, 0, 37, 42, 180, 0, 37, 42, 89, 180, 0, 154, 90, 4, 96, 181, 0, 154, 46]
abbrev dktX0_readTimes_1 : List UInt8 := dkwX0_readTimes_1 ++ dktX0_readTimes_2
def dkwX0_readTimes_0 : List UInt8 := [42, 182, 1, 22, 76, 42, 182, 0, 157, 16, 42, 159, 0, 21, 42, 182, 0, 157, 16, 47, 159, 0, 12, 42]
abbrev dktX0_readTimes_0 : List UInt8 := dkwX0_readTimes_0 ++ dktX0_readTimes_1
theorem dksX0_readTimes_0 : cX0_readTimes.data.toList.drop 0 = dktX0_readTimes_0 := by decide +kernel
theorem dksX0_readTimes_1 : cX0_readTimes.data.toList.drop 24 = dktX0_readTimes_1 := dk_seg dksX0_readTimes_0 24 rfl rfl
theorem dksX0_readTimes_2 : cX0_readTimes.data.toList.drop 48 = dktX0_readTimes_2 := dk_seg dksX0_readTimes_1 24 rfl rfl
theorem dX0_readTimes_0 : decode cX0_readTimes 0 = .ok (.aload_n 0, 1) := dk_42 (dk_at dksX0_readTimes_0 0 rfl rfl)
theorem dX0_readTimes_1 : decode cX0_readTimes 1 = .ok (.invokevirtual 278, 3) := dk_182 1 22 (dk_at dksX0_readTimes_0 1 rfl rfl)
theorem dX0_readTimes_4 : decode cX0_readTimes 4 = .ok (.astore_n 1, 1) := dk_76 (dk_at dksX0_readTimes_0 4 rfl rfl)
theorem dX0_readTimes_5 : decode cX0_readTimes 5 = .ok (.aload_n 0, 1) := dk_42 (dk_at dksX0_readTimes_0 5 rfl rfl)
theorem dX0_readTimes_6 : decode cX0_readTimes 6 = .ok (.invokevirtual 157, 3) := dk_182 0 157 (dk_at dksX0_readTimes_0 6 rfl rfl)
theorem dX0_readTimes_9 : decode cX0_readTimes 9 = .ok (.bipush 42, 2) := dk_16 42 (dk_at dksX0_readTimes_0 9 rfl rfl)
theorem dX0_readTimes_11 : decode cX0_readTimes 11 = .ok (.if_icmp .eq 21, 3) := dk_159 0 21 (dk_at dksX0_readTimes_0 11 rfl rfl)
theorem dX0_readTimes_14 : decode cX0_readTimes 14 = .ok (.aload_n 0, 1) := dk_42 (dk_at dksX0_readTimes_0 14 rfl rfl)
theorem dX0_readTimes_15 : decode cX0_readTimes 15 = .ok (.invokevirtual 157, 3) := dk_182 0 157 (dk_at dksX0_readTimes_0 15 rfl rfl)
theorem dX0_readTimes_18 : decode cX0_readTimes 18 = .ok (.bipush 47, 2) := dk_16 47 (dk_at dksX0_readTimes_0 18 rfl rfl)
theorem dX0_readTimes_20 : decode cX0_readTimes 20 = .ok (.if_icmp .eq 12, 3) := dk_159 0 12 (dk_at dksX0_readTimes_0 20 rfl rfl)
theorem dX0_readTimes_23 : decode cX0_readTimes 23 = .ok (.aload_n 0, 1) := dk_42 (dk_at dksX0_readTimes_0 23 rfl rfl)
theorem dX0_readTimes_24 : decode cX0_readTimes 24 = .ok (.invokevirtual 157, 3) := dk_182 0 157 (dk_at dksX0_readTimes_1 0 rfl rfl)
theorem dX0_readTimes_27 : decode cX0_readTimes 27 = .ok (.bipush 37, 2) := dk_16 37 (dk_at dksX0_readTimes_1 3 rfl rfl)
theorem dX0_readTimes_29 : decode cX0_readTimes 29 = .ok (.if_icmp .ne 37, 3) := dk_160 0 37 (dk_at dksX0_readTimes_1 5 rfl rfl)
theorem dX0_readTimes_32 : decode cX0_readTimes 32 = .ok (.aload_n 0, 1) := dk_42 (dk_at dksX0_readTimes_1 8 rfl rfl)
theorem dX0_readTimes_33 : decode cX0_readTimes 33 = .ok (.getfield 37, 3) := dk_180 0 37 (dk_at dksX0_readTimes_1 9 rfl rfl)
theorem dX0_readTimes_36 : decode cX0_readTimes 36 = .ok (.aload_n 0, 1) := dk_42 (dk_at dksX0_readTimes_1 12 rfl rfl)
theorem dX0_readTimes_37 : decode cX0_readTimes 37 = .ok (.dup, 1) := dk_89 (dk_at dksX0_readTimes_1 13 rfl rfl)
theorem dX0_readTimes_38 : decode cX0_readTimes 38 = .ok (.getfield 154, 3) := dk_180 0 154 (dk_at dksX0_readTimes_1 14 rfl rfl)
theorem dX0_readTimes_41 : decode cX0_readTimes 41 = .ok (.dup_x1, 1) := dk_90 (dk_at dksX0_readTimes_1 17 rfl rfl)
theorem dX0_readTimes_42 : decode cX0_readTimes 42 = .ok (.iconst 1, 1) := dk_4 (dk_at dksX0_readTimes_1 18 rfl rfl)
theorem dX0_readTimes_43 : decode cX0_readTimes 43 = .ok (.iadd, 1) := dk_96 (dk_at dksX0_readTimes_1 19 rfl rfl)
theorem dX0_readTimes_44 : decode cX0_readTimes 44 = .ok (.putfield 154, 3) := dk_181 0 154 (dk_at dksX0_readTimes_1 20 rfl rfl)
theorem dX0_readTimes_47 : decode cX0_readTimes 47 = .ok (.iaload, 1) := dk_46 (dk_at dksX0_readTimes_1 23 rfl rfl)
theorem dX0_readTimes_48 : decode cX0_readTimes 48 = .ok (.istore_n 2, 1) := dk_61 (dk_at dksX0_readTimes_2 0 rfl rfl)
theorem dX0_readTimes_49 : decode cX0_readTimes 49 = .ok (.new 287, 3) := dk_187 1 31 (dk_at dksX0_readTimes_2 1 rfl rfl)
theorem dX0_readTimes_52 : decode cX0_readTimes 52 = .ok (.dup, 1) := dk_89 (dk_at dksX0_readTimes_2 4 rfl rfl)
theorem dX0_readTimes_53 : decode cX0_readTimes 53 = .ok (.iload_n 2, 1) := dk_28 (dk_at dksX0_readTimes_2 5 rfl rfl)
theorem dX0_readTimes_54 : decode cX0_readTimes 54 = .ok (.aload_n 1, 1) := dk_43 (dk_at dksX0_readTimes_2 6 rfl rfl)
theorem dX0_readTimes_55 : decode cX0_readTimes 55 = .ok (.aload_n 0, 1) := dk_42 (dk_at dksX0_readTimes_2 7 rfl rfl)
theorem dX0_readTimes_56 : decode cX0_readTimes 56 = .ok (.invokevirtual 278, 3) := dk_182 1 22 (dk_at dksX0_readTimes_2 8 rfl rfl)
theorem dX0_readTimes_59 : decode cX0_readTimes 59 = .ok (.invokespecial 289, 3) := dk_183 1 33 (dk_at dksX0_readTimes_2 11 rfl rfl)
theorem dX0_readTimes_62 : decode cX0_readTimes 62 = .ok (.astore_n 1, 1) := dk_76 (dk_at dksX0_readTimes_2 14 rfl rfl)
theorem dX0_readTimes_63 : decode cX0_readTimes 63 = .ok (.goto (-58), 3) := dk_167 255 198 (dk_at dksX0_readTimes_2 15 rfl rfl)
theorem dX0_readTimes_66 : decode cX0_readTimes 66 = .ok (.aload_n 1, 1) := dk_43 (dk_at dksX0_readTimes_2 18 rfl rfl)
theorem dX0_readTimes_67 : decode cX0_readTimes 67 = .ok (.areturn, 1) := dk_176 (dk_at dksX0_readTimes_2 19 rfl rfl)
abbrev cX0_readOne : ByteArray := prog_1_method_27_code
def yX0_readOne : MethodName := ⟨RX0, "readOne", "()LLeftAsFound$Term;"⟩
def dkwX0_readOne_8 : List UInt8 := [16, 40, 160, 0, 9, 42, 16, 41, 182, 1, 28, 42, 89, 180, 1, 13, 4, 100, 181, 1, 13, 45, 176]
abbrev dktX0_readOne_8 : List UInt8 := dkwX0_readOne_8 ++ []
def dkwX0_readOne_7 : List UInt8 := [160, 0, 10, 42, 182, 1, 16, 167, 0, 15, 187, 1, 20, 89, 28, 42, 182, 1, 22, 183, 1, 25, 78, 28]
abbrev dktX0_readOne_7 : List UInt8 := dkwX0_readOne_7 ++ dktX0_readOne_8
def dkwX0_readOne_6 : List UInt8 := [89, 180, 0, 154, 4, 96, 181, 0, 154, 42, 89, 180, 1, 13, 4, 96, 181, 1, 13, 28, 16, 40]
abbrev dktX0_readOne_6 : List UInt8 := dkwX0_readOne_6 ++ dktX0_readOne_7
def dkwX0_readOne_5 : List UInt8 := [159, 0, 9, 28, 16, 40, 160, 0, 12, 42, 180, 1, 13, 16, 6, 160, 0, 8, 42, 180, 0, 44, 191, 42]
abbrev dktX0_readOne_5 : List UInt8 := dkwX0_readOne_5 ++ dktX0_readOne_6
def dkwX0_readOne_4 : List UInt8 := [187, 1, 8, 89, 42, 27, 183, 1, 10, 176, 42, 182, 0, 157, 61, 28, 16, 33, 159, 0, 15, 28, 16, 45]
abbrev dktX0_readOne_4 : List UInt8 := dkwX0_readOne_4 ++ dktX0_readOne_5
def dkwX0_readOne_3 : List UInt8 := [182, 0, 157, 184, 1, 5, 60, 27, 2, 159, 0, 23, 42, 89, 180, 0, 154, 4, 96, 181, 0, 154]
abbrev dktX0_readOne_3 : List UInt8 := dkwX0_readOne_3 ++ dktX0_readOne_4
def dkwX0_readOne_2 : List UInt8 := [181, 0, 154, 46, 96, 16, 48, 100, 60, 167, 255, 214, 187, 1, 0, 89, 27, 183, 1, 2, 176, 42]
abbrev dktX0_readOne_2 : List UInt8 := dkwX0_readOne_2 ++ dktX0_readOne_3
def dkwX0_readOne_1 : List UInt8 := [42, 182, 0, 252, 153, 0, 31, 16, 10, 27, 104, 42, 180, 0, 37, 42, 89, 180, 0, 154, 90, 4, 96]
abbrev dktX0_readOne_1 : List UInt8 := dkwX0_readOne_1 ++ dktX0_readOne_2
def dkwX0_readOne_0 : List UInt8 := [42, 182, 0, 252, 153, 0, 64, 3, 60, 42, 180, 0, 154, 61, 42, 180, 0, 154, 28, 7, 96, 162, 0, 38]
abbrev dktX0_readOne_0 : List UInt8 := dkwX0_readOne_0 ++ dktX0_readOne_1
theorem dksX0_readOne_0 : cX0_readOne.data.toList.drop 0 = dktX0_readOne_0 := by decide +kernel
theorem dksX0_readOne_1 : cX0_readOne.data.toList.drop 24 = dktX0_readOne_1 := dk_seg dksX0_readOne_0 24 rfl rfl
theorem dksX0_readOne_2 : cX0_readOne.data.toList.drop 47 = dktX0_readOne_2 := dk_seg dksX0_readOne_1 23 rfl rfl
theorem dksX0_readOne_3 : cX0_readOne.data.toList.drop 69 = dktX0_readOne_3 := dk_seg dksX0_readOne_2 22 rfl rfl
theorem dksX0_readOne_4 : cX0_readOne.data.toList.drop 91 = dktX0_readOne_4 := dk_seg dksX0_readOne_3 22 rfl rfl
theorem dksX0_readOne_5 : cX0_readOne.data.toList.drop 115 = dktX0_readOne_5 := dk_seg dksX0_readOne_4 24 rfl rfl
theorem dksX0_readOne_6 : cX0_readOne.data.toList.drop 139 = dktX0_readOne_6 := dk_seg dksX0_readOne_5 24 rfl rfl
theorem dksX0_readOne_7 : cX0_readOne.data.toList.drop 161 = dktX0_readOne_7 := dk_seg dksX0_readOne_6 22 rfl rfl
theorem dksX0_readOne_8 : cX0_readOne.data.toList.drop 185 = dktX0_readOne_8 := dk_seg dksX0_readOne_7 24 rfl rfl
theorem dX0_readOne_0 : decode cX0_readOne 0 = .ok (.aload_n 0, 1) := dk_42 (dk_at dksX0_readOne_0 0 rfl rfl)
theorem dX0_readOne_1 : decode cX0_readOne 1 = .ok (.invokevirtual 252, 3) := dk_182 0 252 (dk_at dksX0_readOne_0 1 rfl rfl)
theorem dX0_readOne_4 : decode cX0_readOne 4 = .ok (.ifCond .eq 64, 3) := dk_153 0 64 (dk_at dksX0_readOne_0 4 rfl rfl)
theorem dX0_readOne_7 : decode cX0_readOne 7 = .ok (.iconst 0, 1) := dk_3 (dk_at dksX0_readOne_0 7 rfl rfl)
theorem dX0_readOne_8 : decode cX0_readOne 8 = .ok (.istore_n 1, 1) := dk_60 (dk_at dksX0_readOne_0 8 rfl rfl)
theorem dX0_readOne_9 : decode cX0_readOne 9 = .ok (.aload_n 0, 1) := dk_42 (dk_at dksX0_readOne_0 9 rfl rfl)
theorem dX0_readOne_10 : decode cX0_readOne 10 = .ok (.getfield 154, 3) := dk_180 0 154 (dk_at dksX0_readOne_0 10 rfl rfl)
theorem dX0_readOne_13 : decode cX0_readOne 13 = .ok (.istore_n 2, 1) := dk_61 (dk_at dksX0_readOne_0 13 rfl rfl)
theorem dX0_readOne_14 : decode cX0_readOne 14 = .ok (.aload_n 0, 1) := dk_42 (dk_at dksX0_readOne_0 14 rfl rfl)
theorem dX0_readOne_15 : decode cX0_readOne 15 = .ok (.getfield 154, 3) := dk_180 0 154 (dk_at dksX0_readOne_0 15 rfl rfl)
theorem dX0_readOne_18 : decode cX0_readOne 18 = .ok (.iload_n 2, 1) := dk_28 (dk_at dksX0_readOne_0 18 rfl rfl)
theorem dX0_readOne_19 : decode cX0_readOne 19 = .ok (.iconst 4, 1) := dk_7 (dk_at dksX0_readOne_0 19 rfl rfl)
theorem dX0_readOne_20 : decode cX0_readOne 20 = .ok (.iadd, 1) := dk_96 (dk_at dksX0_readOne_0 20 rfl rfl)
theorem dX0_readOne_21 : decode cX0_readOne 21 = .ok (.if_icmp .ge 38, 3) := dk_162 0 38 (dk_at dksX0_readOne_0 21 rfl rfl)
theorem dX0_readOne_24 : decode cX0_readOne 24 = .ok (.aload_n 0, 1) := dk_42 (dk_at dksX0_readOne_1 0 rfl rfl)
theorem dX0_readOne_25 : decode cX0_readOne 25 = .ok (.invokevirtual 252, 3) := dk_182 0 252 (dk_at dksX0_readOne_1 1 rfl rfl)
theorem dX0_readOne_28 : decode cX0_readOne 28 = .ok (.ifCond .eq 31, 3) := dk_153 0 31 (dk_at dksX0_readOne_1 4 rfl rfl)
theorem dX0_readOne_31 : decode cX0_readOne 31 = .ok (.bipush 10, 2) := dk_16 10 (dk_at dksX0_readOne_1 7 rfl rfl)
theorem dX0_readOne_33 : decode cX0_readOne 33 = .ok (.iload_n 1, 1) := dk_27 (dk_at dksX0_readOne_1 9 rfl rfl)
theorem dX0_readOne_34 : decode cX0_readOne 34 = .ok (.imul, 1) := dk_104 (dk_at dksX0_readOne_1 10 rfl rfl)
theorem dX0_readOne_35 : decode cX0_readOne 35 = .ok (.aload_n 0, 1) := dk_42 (dk_at dksX0_readOne_1 11 rfl rfl)
theorem dX0_readOne_36 : decode cX0_readOne 36 = .ok (.getfield 37, 3) := dk_180 0 37 (dk_at dksX0_readOne_1 12 rfl rfl)
theorem dX0_readOne_39 : decode cX0_readOne 39 = .ok (.aload_n 0, 1) := dk_42 (dk_at dksX0_readOne_1 15 rfl rfl)
theorem dX0_readOne_40 : decode cX0_readOne 40 = .ok (.dup, 1) := dk_89 (dk_at dksX0_readOne_1 16 rfl rfl)
theorem dX0_readOne_41 : decode cX0_readOne 41 = .ok (.getfield 154, 3) := dk_180 0 154 (dk_at dksX0_readOne_1 17 rfl rfl)
theorem dX0_readOne_44 : decode cX0_readOne 44 = .ok (.dup_x1, 1) := dk_90 (dk_at dksX0_readOne_1 20 rfl rfl)
theorem dX0_readOne_45 : decode cX0_readOne 45 = .ok (.iconst 1, 1) := dk_4 (dk_at dksX0_readOne_1 21 rfl rfl)
theorem dX0_readOne_46 : decode cX0_readOne 46 = .ok (.iadd, 1) := dk_96 (dk_at dksX0_readOne_1 22 rfl rfl)
theorem dX0_readOne_47 : decode cX0_readOne 47 = .ok (.putfield 154, 3) := dk_181 0 154 (dk_at dksX0_readOne_2 0 rfl rfl)
theorem dX0_readOne_50 : decode cX0_readOne 50 = .ok (.iaload, 1) := dk_46 (dk_at dksX0_readOne_2 3 rfl rfl)
theorem dX0_readOne_51 : decode cX0_readOne 51 = .ok (.iadd, 1) := dk_96 (dk_at dksX0_readOne_2 4 rfl rfl)
theorem dX0_readOne_52 : decode cX0_readOne 52 = .ok (.bipush 48, 2) := dk_16 48 (dk_at dksX0_readOne_2 5 rfl rfl)
theorem dX0_readOne_54 : decode cX0_readOne 54 = .ok (.isub, 1) := dk_100 (dk_at dksX0_readOne_2 7 rfl rfl)
theorem dX0_readOne_55 : decode cX0_readOne 55 = .ok (.istore_n 1, 1) := dk_60 (dk_at dksX0_readOne_2 8 rfl rfl)
theorem dX0_readOne_56 : decode cX0_readOne 56 = .ok (.goto (-42), 3) := dk_167 255 214 (dk_at dksX0_readOne_2 9 rfl rfl)
theorem dX0_readOne_59 : decode cX0_readOne 59 = .ok (.new 256, 3) := dk_187 1 0 (dk_at dksX0_readOne_2 12 rfl rfl)
theorem dX0_readOne_62 : decode cX0_readOne 62 = .ok (.dup, 1) := dk_89 (dk_at dksX0_readOne_2 15 rfl rfl)
theorem dX0_readOne_63 : decode cX0_readOne 63 = .ok (.iload_n 1, 1) := dk_27 (dk_at dksX0_readOne_2 16 rfl rfl)
theorem dX0_readOne_64 : decode cX0_readOne 64 = .ok (.invokespecial 258, 3) := dk_183 1 2 (dk_at dksX0_readOne_2 17 rfl rfl)
theorem dX0_readOne_67 : decode cX0_readOne 67 = .ok (.areturn, 1) := dk_176 (dk_at dksX0_readOne_2 20 rfl rfl)
theorem dX0_readOne_68 : decode cX0_readOne 68 = .ok (.aload_n 0, 1) := dk_42 (dk_at dksX0_readOne_2 21 rfl rfl)
theorem dX0_readOne_69 : decode cX0_readOne 69 = .ok (.invokevirtual 157, 3) := dk_182 0 157 (dk_at dksX0_readOne_3 0 rfl rfl)
theorem dX0_readOne_72 : decode cX0_readOne 72 = .ok (.invokestatic 261, 3) := dk_184 1 5 (dk_at dksX0_readOne_3 3 rfl rfl)
theorem dX0_readOne_75 : decode cX0_readOne 75 = .ok (.istore_n 1, 1) := dk_60 (dk_at dksX0_readOne_3 6 rfl rfl)
theorem dX0_readOne_76 : decode cX0_readOne 76 = .ok (.iload_n 1, 1) := dk_27 (dk_at dksX0_readOne_3 7 rfl rfl)
theorem dX0_readOne_77 : decode cX0_readOne 77 = .ok (.iconst (-1), 1) := dk_2 (dk_at dksX0_readOne_3 8 rfl rfl)
theorem dX0_readOne_78 : decode cX0_readOne 78 = .ok (.if_icmp .eq 23, 3) := dk_159 0 23 (dk_at dksX0_readOne_3 9 rfl rfl)
theorem dX0_readOne_81 : decode cX0_readOne 81 = .ok (.aload_n 0, 1) := dk_42 (dk_at dksX0_readOne_3 12 rfl rfl)
theorem dX0_readOne_82 : decode cX0_readOne 82 = .ok (.dup, 1) := dk_89 (dk_at dksX0_readOne_3 13 rfl rfl)
theorem dX0_readOne_83 : decode cX0_readOne 83 = .ok (.getfield 154, 3) := dk_180 0 154 (dk_at dksX0_readOne_3 14 rfl rfl)
theorem dX0_readOne_86 : decode cX0_readOne 86 = .ok (.iconst 1, 1) := dk_4 (dk_at dksX0_readOne_3 17 rfl rfl)
theorem dX0_readOne_87 : decode cX0_readOne 87 = .ok (.iadd, 1) := dk_96 (dk_at dksX0_readOne_3 18 rfl rfl)
theorem dX0_readOne_88 : decode cX0_readOne 88 = .ok (.putfield 154, 3) := dk_181 0 154 (dk_at dksX0_readOne_3 19 rfl rfl)
theorem dX0_readOne_91 : decode cX0_readOne 91 = .ok (.new 264, 3) := dk_187 1 8 (dk_at dksX0_readOne_4 0 rfl rfl)
theorem dX0_readOne_94 : decode cX0_readOne 94 = .ok (.dup, 1) := dk_89 (dk_at dksX0_readOne_4 3 rfl rfl)
theorem dX0_readOne_95 : decode cX0_readOne 95 = .ok (.aload_n 0, 1) := dk_42 (dk_at dksX0_readOne_4 4 rfl rfl)
theorem dX0_readOne_96 : decode cX0_readOne 96 = .ok (.iload_n 1, 1) := dk_27 (dk_at dksX0_readOne_4 5 rfl rfl)
theorem dX0_readOne_97 : decode cX0_readOne 97 = .ok (.invokespecial 266, 3) := dk_183 1 10 (dk_at dksX0_readOne_4 6 rfl rfl)
theorem dX0_readOne_100 : decode cX0_readOne 100 = .ok (.areturn, 1) := dk_176 (dk_at dksX0_readOne_4 9 rfl rfl)
theorem dX0_readOne_101 : decode cX0_readOne 101 = .ok (.aload_n 0, 1) := dk_42 (dk_at dksX0_readOne_4 10 rfl rfl)
theorem dX0_readOne_102 : decode cX0_readOne 102 = .ok (.invokevirtual 157, 3) := dk_182 0 157 (dk_at dksX0_readOne_4 11 rfl rfl)
theorem dX0_readOne_105 : decode cX0_readOne 105 = .ok (.istore_n 2, 1) := dk_61 (dk_at dksX0_readOne_4 14 rfl rfl)
theorem dX0_readOne_106 : decode cX0_readOne 106 = .ok (.iload_n 2, 1) := dk_28 (dk_at dksX0_readOne_4 15 rfl rfl)
theorem dX0_readOne_107 : decode cX0_readOne 107 = .ok (.bipush 33, 2) := dk_16 33 (dk_at dksX0_readOne_4 16 rfl rfl)
theorem dX0_readOne_109 : decode cX0_readOne 109 = .ok (.if_icmp .eq 15, 3) := dk_159 0 15 (dk_at dksX0_readOne_4 18 rfl rfl)
theorem dX0_readOne_112 : decode cX0_readOne 112 = .ok (.iload_n 2, 1) := dk_28 (dk_at dksX0_readOne_4 21 rfl rfl)
theorem dX0_readOne_113 : decode cX0_readOne 113 = .ok (.bipush 45, 2) := dk_16 45 (dk_at dksX0_readOne_4 22 rfl rfl)
theorem dX0_readOne_115 : decode cX0_readOne 115 = .ok (.if_icmp .eq 9, 3) := dk_159 0 9 (dk_at dksX0_readOne_5 0 rfl rfl)
theorem dX0_readOne_118 : decode cX0_readOne 118 = .ok (.iload_n 2, 1) := dk_28 (dk_at dksX0_readOne_5 3 rfl rfl)
theorem dX0_readOne_119 : decode cX0_readOne 119 = .ok (.bipush 40, 2) := dk_16 40 (dk_at dksX0_readOne_5 4 rfl rfl)
theorem dX0_readOne_121 : decode cX0_readOne 121 = .ok (.if_icmp .ne 12, 3) := dk_160 0 12 (dk_at dksX0_readOne_5 6 rfl rfl)
theorem dX0_readOne_124 : decode cX0_readOne 124 = .ok (.aload_n 0, 1) := dk_42 (dk_at dksX0_readOne_5 9 rfl rfl)
theorem dX0_readOne_125 : decode cX0_readOne 125 = .ok (.getfield 269, 3) := dk_180 1 13 (dk_at dksX0_readOne_5 10 rfl rfl)
theorem dX0_readOne_128 : decode cX0_readOne 128 = .ok (.bipush 6, 2) := dk_16 6 (dk_at dksX0_readOne_5 13 rfl rfl)
theorem dX0_readOne_130 : decode cX0_readOne 130 = .ok (.if_icmp .ne 8, 3) := dk_160 0 8 (dk_at dksX0_readOne_5 15 rfl rfl)
theorem dX0_readOne_133 : decode cX0_readOne 133 = .ok (.aload_n 0, 1) := dk_42 (dk_at dksX0_readOne_5 18 rfl rfl)
theorem dX0_readOne_134 : decode cX0_readOne 134 = .ok (.getfield 44, 3) := dk_180 0 44 (dk_at dksX0_readOne_5 19 rfl rfl)
theorem dX0_readOne_137 : decode cX0_readOne 137 = .ok (.athrow, 1) := dk_191 (dk_at dksX0_readOne_5 22 rfl rfl)
theorem dX0_readOne_138 : decode cX0_readOne 138 = .ok (.aload_n 0, 1) := dk_42 (dk_at dksX0_readOne_5 23 rfl rfl)
theorem dX0_readOne_139 : decode cX0_readOne 139 = .ok (.dup, 1) := dk_89 (dk_at dksX0_readOne_6 0 rfl rfl)
theorem dX0_readOne_140 : decode cX0_readOne 140 = .ok (.getfield 154, 3) := dk_180 0 154 (dk_at dksX0_readOne_6 1 rfl rfl)
theorem dX0_readOne_143 : decode cX0_readOne 143 = .ok (.iconst 1, 1) := dk_4 (dk_at dksX0_readOne_6 4 rfl rfl)
theorem dX0_readOne_144 : decode cX0_readOne 144 = .ok (.iadd, 1) := dk_96 (dk_at dksX0_readOne_6 5 rfl rfl)
theorem dX0_readOne_145 : decode cX0_readOne 145 = .ok (.putfield 154, 3) := dk_181 0 154 (dk_at dksX0_readOne_6 6 rfl rfl)
theorem dX0_readOne_148 : decode cX0_readOne 148 = .ok (.aload_n 0, 1) := dk_42 (dk_at dksX0_readOne_6 9 rfl rfl)
theorem dX0_readOne_149 : decode cX0_readOne 149 = .ok (.dup, 1) := dk_89 (dk_at dksX0_readOne_6 10 rfl rfl)
theorem dX0_readOne_150 : decode cX0_readOne 150 = .ok (.getfield 269, 3) := dk_180 1 13 (dk_at dksX0_readOne_6 11 rfl rfl)
theorem dX0_readOne_153 : decode cX0_readOne 153 = .ok (.iconst 1, 1) := dk_4 (dk_at dksX0_readOne_6 14 rfl rfl)
theorem dX0_readOne_154 : decode cX0_readOne 154 = .ok (.iadd, 1) := dk_96 (dk_at dksX0_readOne_6 15 rfl rfl)
theorem dX0_readOne_155 : decode cX0_readOne 155 = .ok (.putfield 269, 3) := dk_181 1 13 (dk_at dksX0_readOne_6 16 rfl rfl)
theorem dX0_readOne_158 : decode cX0_readOne 158 = .ok (.iload_n 2, 1) := dk_28 (dk_at dksX0_readOne_6 19 rfl rfl)
theorem dX0_readOne_159 : decode cX0_readOne 159 = .ok (.bipush 40, 2) := dk_16 40 (dk_at dksX0_readOne_6 20 rfl rfl)
theorem dX0_readOne_161 : decode cX0_readOne 161 = .ok (.if_icmp .ne 10, 3) := dk_160 0 10 (dk_at dksX0_readOne_7 0 rfl rfl)
theorem dX0_readOne_164 : decode cX0_readOne 164 = .ok (.aload_n 0, 1) := dk_42 (dk_at dksX0_readOne_7 3 rfl rfl)
theorem dX0_readOne_165 : decode cX0_readOne 165 = .ok (.invokevirtual 272, 3) := dk_182 1 16 (dk_at dksX0_readOne_7 4 rfl rfl)
theorem dX0_readOne_168 : decode cX0_readOne 168 = .ok (.goto 15, 3) := dk_167 0 15 (dk_at dksX0_readOne_7 7 rfl rfl)
theorem dX0_readOne_171 : decode cX0_readOne 171 = .ok (.new 276, 3) := dk_187 1 20 (dk_at dksX0_readOne_7 10 rfl rfl)
theorem dX0_readOne_174 : decode cX0_readOne 174 = .ok (.dup, 1) := dk_89 (dk_at dksX0_readOne_7 13 rfl rfl)
theorem dX0_readOne_175 : decode cX0_readOne 175 = .ok (.iload_n 2, 1) := dk_28 (dk_at dksX0_readOne_7 14 rfl rfl)
theorem dX0_readOne_176 : decode cX0_readOne 176 = .ok (.aload_n 0, 1) := dk_42 (dk_at dksX0_readOne_7 15 rfl rfl)
theorem dX0_readOne_177 : decode cX0_readOne 177 = .ok (.invokevirtual 278, 3) := dk_182 1 22 (dk_at dksX0_readOne_7 16 rfl rfl)
theorem dX0_readOne_180 : decode cX0_readOne 180 = .ok (.invokespecial 281, 3) := dk_183 1 25 (dk_at dksX0_readOne_7 19 rfl rfl)
theorem dX0_readOne_183 : decode cX0_readOne 183 = .ok (.astore_n 3, 1) := dk_78 (dk_at dksX0_readOne_7 22 rfl rfl)
theorem dX0_readOne_184 : decode cX0_readOne 184 = .ok (.iload_n 2, 1) := dk_28 (dk_at dksX0_readOne_7 23 rfl rfl)
theorem dX0_readOne_185 : decode cX0_readOne 185 = .ok (.bipush 40, 2) := dk_16 40 (dk_at dksX0_readOne_8 0 rfl rfl)
theorem dX0_readOne_187 : decode cX0_readOne 187 = .ok (.if_icmp .ne 9, 3) := dk_160 0 9 (dk_at dksX0_readOne_8 2 rfl rfl)
theorem dX0_readOne_190 : decode cX0_readOne 190 = .ok (.aload_n 0, 1) := dk_42 (dk_at dksX0_readOne_8 5 rfl rfl)
theorem dX0_readOne_191 : decode cX0_readOne 191 = .ok (.bipush 41, 2) := dk_16 41 (dk_at dksX0_readOne_8 6 rfl rfl)
theorem dX0_readOne_193 : decode cX0_readOne 193 = .ok (.invokevirtual 284, 3) := dk_182 1 28 (dk_at dksX0_readOne_8 8 rfl rfl)
theorem dX0_readOne_196 : decode cX0_readOne 196 = .ok (.aload_n 0, 1) := dk_42 (dk_at dksX0_readOne_8 11 rfl rfl)
theorem dX0_readOne_197 : decode cX0_readOne 197 = .ok (.dup, 1) := dk_89 (dk_at dksX0_readOne_8 12 rfl rfl)
theorem dX0_readOne_198 : decode cX0_readOne 198 = .ok (.getfield 269, 3) := dk_180 1 13 (dk_at dksX0_readOne_8 13 rfl rfl)
theorem dX0_readOne_201 : decode cX0_readOne 201 = .ok (.iconst 1, 1) := dk_4 (dk_at dksX0_readOne_8 16 rfl rfl)
theorem dX0_readOne_202 : decode cX0_readOne 202 = .ok (.isub, 1) := dk_100 (dk_at dksX0_readOne_8 17 rfl rfl)
theorem dX0_readOne_203 : decode cX0_readOne 203 = .ok (.putfield 269, 3) := dk_181 1 13 (dk_at dksX0_readOne_8 18 rfl rfl)
theorem dX0_readOne_206 : decode cX0_readOne 206 = .ok (.aload_n 3, 1) := dk_45 (dk_at dksX0_readOne_8 21 rfl rfl)
theorem dX0_readOne_207 : decode cX0_readOne 207 = .ok (.areturn, 1) := dk_176 (dk_at dksX0_readOne_8 22 rfl rfl)
abbrev cX0_isDigit : ByteArray := prog_1_method_14_code
def yX0_isDigit : MethodName := ⟨RX0, "isDigit", "()Z"⟩
def dkwX0_isDigit_0 : List UInt8 := [42, 182, 0, 157, 133, 20, 0, 165, 20, 0, 167, 184, 0, 147, 172]
abbrev dktX0_isDigit_0 : List UInt8 := dkwX0_isDigit_0 ++ []
theorem dksX0_isDigit_0 : cX0_isDigit.data.toList.drop 0 = dktX0_isDigit_0 := by decide +kernel
theorem dX0_isDigit_0 : decode cX0_isDigit 0 = .ok (.aload_n 0, 1) := dk_42 (dk_at dksX0_isDigit_0 0 rfl rfl)
theorem dX0_isDigit_1 : decode cX0_isDigit 1 = .ok (.invokevirtual 157, 3) := dk_182 0 157 (dk_at dksX0_isDigit_0 1 rfl rfl)
theorem dX0_isDigit_4 : decode cX0_isDigit 4 = .ok (.i2l, 1) := dk_133 (dk_at dksX0_isDigit_0 4 rfl rfl)
theorem dX0_isDigit_5 : decode cX0_isDigit 5 = .ok (.ldc2_w 165, 3) := dk_20 0 165 (dk_at dksX0_isDigit_0 5 rfl rfl)
theorem dX0_isDigit_8 : decode cX0_isDigit 8 = .ok (.ldc2_w 167, 3) := dk_20 0 167 (dk_at dksX0_isDigit_0 8 rfl rfl)
theorem dX0_isDigit_11 : decode cX0_isDigit 11 = .ok (.invokestatic 147, 3) := dk_184 0 147 (dk_at dksX0_isDigit_0 11 rfl rfl)
theorem dX0_isDigit_14 : decode cX0_isDigit 14 = .ok (.ireturn, 1) := dk_172 (dk_at dksX0_isDigit_0 14 rfl rfl)
abbrev cX0_peek : ByteArray := prog_1_method_11_code
def yX0_peek : MethodName := ⟨RX0, "peek", "()I"⟩
def dkwX0_peek_1 : List UInt8 := [172]
abbrev dktX0_peek_1 : List UInt8 := dkwX0_peek_1 ++ []
def dkwX0_peek_0 : List UInt8 := [42, 180, 0, 154, 42, 180, 0, 151, 162, 0, 15, 42, 180, 0, 37, 42, 180, 0, 154, 46, 167, 0, 4, 2]
abbrev dktX0_peek_0 : List UInt8 := dkwX0_peek_0 ++ dktX0_peek_1
theorem dksX0_peek_0 : cX0_peek.data.toList.drop 0 = dktX0_peek_0 := by decide +kernel
theorem dksX0_peek_1 : cX0_peek.data.toList.drop 24 = dktX0_peek_1 := dk_seg dksX0_peek_0 24 rfl rfl
theorem dX0_peek_0 : decode cX0_peek 0 = .ok (.aload_n 0, 1) := dk_42 (dk_at dksX0_peek_0 0 rfl rfl)
theorem dX0_peek_1 : decode cX0_peek 1 = .ok (.getfield 154, 3) := dk_180 0 154 (dk_at dksX0_peek_0 1 rfl rfl)
theorem dX0_peek_4 : decode cX0_peek 4 = .ok (.aload_n 0, 1) := dk_42 (dk_at dksX0_peek_0 4 rfl rfl)
theorem dX0_peek_5 : decode cX0_peek 5 = .ok (.getfield 151, 3) := dk_180 0 151 (dk_at dksX0_peek_0 5 rfl rfl)
theorem dX0_peek_8 : decode cX0_peek 8 = .ok (.if_icmp .ge 15, 3) := dk_162 0 15 (dk_at dksX0_peek_0 8 rfl rfl)
theorem dX0_peek_11 : decode cX0_peek 11 = .ok (.aload_n 0, 1) := dk_42 (dk_at dksX0_peek_0 11 rfl rfl)
theorem dX0_peek_12 : decode cX0_peek 12 = .ok (.getfield 37, 3) := dk_180 0 37 (dk_at dksX0_peek_0 12 rfl rfl)
theorem dX0_peek_15 : decode cX0_peek 15 = .ok (.aload_n 0, 1) := dk_42 (dk_at dksX0_peek_0 15 rfl rfl)
theorem dX0_peek_16 : decode cX0_peek 16 = .ok (.getfield 154, 3) := dk_180 0 154 (dk_at dksX0_peek_0 16 rfl rfl)
theorem dX0_peek_19 : decode cX0_peek 19 = .ok (.iaload, 1) := dk_46 (dk_at dksX0_peek_0 19 rfl rfl)
theorem dX0_peek_20 : decode cX0_peek 20 = .ok (.goto 4, 3) := dk_167 0 4 (dk_at dksX0_peek_0 20 rfl rfl)
theorem dX0_peek_23 : decode cX0_peek 23 = .ok (.iconst (-1), 1) := dk_2 (dk_at dksX0_peek_0 23 rfl rfl)
theorem dX0_peek_24 : decode cX0_peek 24 = .ok (.ireturn, 1) := dk_172 (dk_at dksX0_peek_1 0 rfl rfl)
abbrev cX0_nameOf : ByteArray := prog_1_method_26_code
def yX0_nameOf : MethodName := ⟨RX0, "nameOf", "(I)I"⟩
def dkwX0_nameOf_2 : List UInt8 := [3, 172, 4, 172, 5, 172, 6, 172, 7, 172, 8, 172, 2, 172]
abbrev dktX0_nameOf_2 : List UInt8 := dkwX0_nameOf_2 ++ []
def dkwX0_nameOf_1 : List UInt8 := [170, 0, 0, 0, 0, 0, 103, 0, 0, 0, 98, 0, 0, 0, 116, 0, 0, 0, 97, 0, 0, 0, 103, 0, 0, 0, 103, 0, 0, 0, 103, 0, 0, 0, 91, 0, 0, 0, 103, 0, 0, 0, 103, 0, 0, 0, 103, 0, 0, 0, 103, 0, 0, 0, 101, 0, 0, 0, 103, 0, 0, 0, 103, 0, 0, 0, 103, 0, 0, 0, 93, 0, 0, 0, 103, 0, 0, 0, 103, 0, 0, 0, 103, 0, 0, 0, 99, 0, 0, 0, 95]
abbrev dktX0_nameOf_1 : List UInt8 := dkwX0_nameOf_1 ++ dktX0_nameOf_2
def dkwX0_nameOf_0 : List UInt8 := [26]
abbrev dktX0_nameOf_0 : List UInt8 := dkwX0_nameOf_0 ++ dktX0_nameOf_1
theorem dksX0_nameOf_0 : cX0_nameOf.data.toList.drop 0 = dktX0_nameOf_0 := by decide +kernel
theorem dksX0_nameOf_1 : cX0_nameOf.data.toList.drop 1 = dktX0_nameOf_1 := dk_seg dksX0_nameOf_0 1 rfl rfl
theorem dksX0_nameOf_2 : cX0_nameOf.data.toList.drop 92 = dktX0_nameOf_2 := dk_seg dksX0_nameOf_1 91 rfl rfl
theorem dX0_nameOf_0 : decode cX0_nameOf 0 = .ok (.iload_n 0, 1) := dk_26 (dk_at dksX0_nameOf_0 0 rfl rfl)
theorem dX0_nameOf_1 : decode cX0_nameOf 1 = .ok (.tableswitch 103 98 116 #[97, 103, 103, 103, 91, 103, 103, 103, 103, 101, 103, 103, 103, 93, 103, 103, 103, 99, 95], 91) := by decide +kernel
theorem dX0_nameOf_92 : decode cX0_nameOf 92 = .ok (.iconst 0, 1) := dk_3 (dk_at dksX0_nameOf_2 0 rfl rfl)
theorem dX0_nameOf_93 : decode cX0_nameOf 93 = .ok (.ireturn, 1) := dk_172 (dk_at dksX0_nameOf_2 1 rfl rfl)
theorem dX0_nameOf_94 : decode cX0_nameOf 94 = .ok (.iconst 1, 1) := dk_4 (dk_at dksX0_nameOf_2 2 rfl rfl)
theorem dX0_nameOf_95 : decode cX0_nameOf 95 = .ok (.ireturn, 1) := dk_172 (dk_at dksX0_nameOf_2 3 rfl rfl)
theorem dX0_nameOf_96 : decode cX0_nameOf 96 = .ok (.iconst 2, 1) := dk_5 (dk_at dksX0_nameOf_2 4 rfl rfl)
theorem dX0_nameOf_97 : decode cX0_nameOf 97 = .ok (.ireturn, 1) := dk_172 (dk_at dksX0_nameOf_2 5 rfl rfl)
theorem dX0_nameOf_98 : decode cX0_nameOf 98 = .ok (.iconst 3, 1) := dk_6 (dk_at dksX0_nameOf_2 6 rfl rfl)
theorem dX0_nameOf_99 : decode cX0_nameOf 99 = .ok (.ireturn, 1) := dk_172 (dk_at dksX0_nameOf_2 7 rfl rfl)
theorem dX0_nameOf_100 : decode cX0_nameOf 100 = .ok (.iconst 4, 1) := dk_7 (dk_at dksX0_nameOf_2 8 rfl rfl)
theorem dX0_nameOf_101 : decode cX0_nameOf 101 = .ok (.ireturn, 1) := dk_172 (dk_at dksX0_nameOf_2 9 rfl rfl)
theorem dX0_nameOf_102 : decode cX0_nameOf 102 = .ok (.iconst 5, 1) := dk_8 (dk_at dksX0_nameOf_2 10 rfl rfl)
theorem dX0_nameOf_103 : decode cX0_nameOf 103 = .ok (.ireturn, 1) := dk_172 (dk_at dksX0_nameOf_2 11 rfl rfl)
theorem dX0_nameOf_104 : decode cX0_nameOf 104 = .ok (.iconst (-1), 1) := dk_2 (dk_at dksX0_nameOf_2 12 rfl rfl)
theorem dX0_nameOf_105 : decode cX0_nameOf 105 = .ok (.ireturn, 1) := dk_172 (dk_at dksX0_nameOf_2 13 rfl rfl)
abbrev cX0_expect : ByteArray := prog_1_method_13_code
def yX0_expect : MethodName := ⟨RX0, "expect", "(I)V"⟩
def dkwX0_expect_0 : List UInt8 := [42, 27, 182, 0, 161, 154, 0, 8, 42, 180, 0, 44, 191, 177]
abbrev dktX0_expect_0 : List UInt8 := dkwX0_expect_0 ++ []
theorem dksX0_expect_0 : cX0_expect.data.toList.drop 0 = dktX0_expect_0 := by decide +kernel
theorem dX0_expect_0 : decode cX0_expect 0 = .ok (.aload_n 0, 1) := dk_42 (dk_at dksX0_expect_0 0 rfl rfl)
theorem dX0_expect_1 : decode cX0_expect 1 = .ok (.iload_n 1, 1) := dk_27 (dk_at dksX0_expect_0 1 rfl rfl)
theorem dX0_expect_2 : decode cX0_expect 2 = .ok (.invokevirtual 161, 3) := dk_182 0 161 (dk_at dksX0_expect_0 2 rfl rfl)
theorem dX0_expect_5 : decode cX0_expect 5 = .ok (.ifCond .ne 8, 3) := dk_154 0 8 (dk_at dksX0_expect_0 5 rfl rfl)
theorem dX0_expect_8 : decode cX0_expect 8 = .ok (.aload_n 0, 1) := dk_42 (dk_at dksX0_expect_0 8 rfl rfl)
theorem dX0_expect_9 : decode cX0_expect 9 = .ok (.getfield 44, 3) := dk_180 0 44 (dk_at dksX0_expect_0 9 rfl rfl)
theorem dX0_expect_12 : decode cX0_expect 12 = .ok (.athrow, 1) := dk_191 (dk_at dksX0_expect_0 12 rfl rfl)
theorem dX0_expect_13 : decode cX0_expect 13 = .ok (.return_, 1) := dk_177 (dk_at dksX0_expect_0 13 rfl rfl)
abbrev cX0_take : ByteArray := prog_1_method_12_code
def yX0_take : MethodName := ⟨RX0, "take", "(I)Z"⟩
def dkwX0_take_0 : List UInt8 := [42, 182, 0, 157, 27, 159, 0, 5, 3, 172, 42, 89, 180, 0, 154, 4, 96, 181, 0, 154, 4, 172]
abbrev dktX0_take_0 : List UInt8 := dkwX0_take_0 ++ []
theorem dksX0_take_0 : cX0_take.data.toList.drop 0 = dktX0_take_0 := by decide +kernel
theorem dX0_take_0 : decode cX0_take 0 = .ok (.aload_n 0, 1) := dk_42 (dk_at dksX0_take_0 0 rfl rfl)
theorem dX0_take_1 : decode cX0_take 1 = .ok (.invokevirtual 157, 3) := dk_182 0 157 (dk_at dksX0_take_0 1 rfl rfl)
theorem dX0_take_4 : decode cX0_take 4 = .ok (.iload_n 1, 1) := dk_27 (dk_at dksX0_take_0 4 rfl rfl)
theorem dX0_take_5 : decode cX0_take 5 = .ok (.if_icmp .eq 5, 3) := dk_159 0 5 (dk_at dksX0_take_0 5 rfl rfl)
theorem dX0_take_8 : decode cX0_take 8 = .ok (.iconst 0, 1) := dk_3 (dk_at dksX0_take_0 8 rfl rfl)
theorem dX0_take_9 : decode cX0_take 9 = .ok (.ireturn, 1) := dk_172 (dk_at dksX0_take_0 9 rfl rfl)
theorem dX0_take_10 : decode cX0_take 10 = .ok (.aload_n 0, 1) := dk_42 (dk_at dksX0_take_0 10 rfl rfl)
theorem dX0_take_11 : decode cX0_take 11 = .ok (.dup, 1) := dk_89 (dk_at dksX0_take_0 11 rfl rfl)
theorem dX0_take_12 : decode cX0_take 12 = .ok (.getfield 154, 3) := dk_180 0 154 (dk_at dksX0_take_0 12 rfl rfl)
theorem dX0_take_15 : decode cX0_take 15 = .ok (.iconst 1, 1) := dk_4 (dk_at dksX0_take_0 15 rfl rfl)
theorem dX0_take_16 : decode cX0_take 16 = .ok (.iadd, 1) := dk_96 (dk_at dksX0_take_0 16 rfl rfl)
theorem dX0_take_17 : decode cX0_take 17 = .ok (.putfield 154, 3) := dk_181 0 154 (dk_at dksX0_take_0 17 rfl rfl)
theorem dX0_take_20 : decode cX0_take 20 = .ok (.iconst 1, 1) := dk_4 (dk_at dksX0_take_0 20 rfl rfl)
theorem dX0_take_21 : decode cX0_take 21 = .ok (.ireturn, 1) := dk_172 (dk_at dksX0_take_0 21 rfl rfl)
abbrev cX0_level : ByteArray := prog_1_method_41_code
def yX0_level : MethodName := ⟨RX0, "level", "(III)I"⟩
def dkwX0_level_4 : List UInt8 := [172]
abbrev dktX0_level_4 : List UInt8 := dkwX0_level_4 ++ []
def dkwX0_level_3 : List UInt8 := [180, 0, 96, 21, 4, 46, 182, 1, 106, 132, 4, 1, 167, 255, 233, 42, 180, 0, 93, 180, 0, 236, 28, 46]
abbrev dktX0_level_3 : List UInt8 := dkwX0_level_3 ++ dktX0_level_4
def dkwX0_level_2 : List UInt8 := [180, 0, 93, 42, 180, 0, 89, 182, 1, 102, 3, 54, 4, 21, 4, 29, 162, 0, 23, 42, 180, 0, 93, 42]
abbrev dktX0_level_2 : List UInt8 := dkwX0_level_2 ++ dktX0_level_3
def dkwX0_level_1 : List UInt8 := [182, 1, 99, 156, 0, 9, 42, 27, 182, 1, 92, 172, 29, 42, 180, 1, 89, 164, 0, 5, 2, 172, 42]
abbrev dktX0_level_1 : List UInt8 := dkwX0_level_1 ++ dktX0_level_2
def dkwX0_level_0 : List UInt8 := [27, 184, 0, 194, 153, 0, 14, 28, 184, 0, 178, 153, 0, 7, 29, 156, 0, 5, 2, 172, 42, 27]
abbrev dktX0_level_0 : List UInt8 := dkwX0_level_0 ++ dktX0_level_1
theorem dksX0_level_0 : cX0_level.data.toList.drop 0 = dktX0_level_0 := by decide +kernel
theorem dksX0_level_1 : cX0_level.data.toList.drop 22 = dktX0_level_1 := dk_seg dksX0_level_0 22 rfl rfl
theorem dksX0_level_2 : cX0_level.data.toList.drop 45 = dktX0_level_2 := dk_seg dksX0_level_1 23 rfl rfl
theorem dksX0_level_3 : cX0_level.data.toList.drop 69 = dktX0_level_3 := dk_seg dksX0_level_2 24 rfl rfl
theorem dksX0_level_4 : cX0_level.data.toList.drop 93 = dktX0_level_4 := dk_seg dksX0_level_3 24 rfl rfl
theorem dX0_level_0 : decode cX0_level 0 = .ok (.iload_n 1, 1) := dk_27 (dk_at dksX0_level_0 0 rfl rfl)
theorem dX0_level_1 : decode cX0_level 1 = .ok (.invokestatic 194, 3) := dk_184 0 194 (dk_at dksX0_level_0 1 rfl rfl)
theorem dX0_level_4 : decode cX0_level 4 = .ok (.ifCond .eq 14, 3) := dk_153 0 14 (dk_at dksX0_level_0 4 rfl rfl)
theorem dX0_level_7 : decode cX0_level 7 = .ok (.iload_n 2, 1) := dk_28 (dk_at dksX0_level_0 7 rfl rfl)
theorem dX0_level_8 : decode cX0_level 8 = .ok (.invokestatic 178, 3) := dk_184 0 178 (dk_at dksX0_level_0 8 rfl rfl)
theorem dX0_level_11 : decode cX0_level 11 = .ok (.ifCond .eq 7, 3) := dk_153 0 7 (dk_at dksX0_level_0 11 rfl rfl)
theorem dX0_level_14 : decode cX0_level 14 = .ok (.iload_n 3, 1) := dk_29 (dk_at dksX0_level_0 14 rfl rfl)
theorem dX0_level_15 : decode cX0_level 15 = .ok (.ifCond .ge 5, 3) := dk_156 0 5 (dk_at dksX0_level_0 15 rfl rfl)
theorem dX0_level_18 : decode cX0_level 18 = .ok (.iconst (-1), 1) := dk_2 (dk_at dksX0_level_0 18 rfl rfl)
theorem dX0_level_19 : decode cX0_level 19 = .ok (.ireturn, 1) := dk_172 (dk_at dksX0_level_0 19 rfl rfl)
theorem dX0_level_20 : decode cX0_level 20 = .ok (.aload_n 0, 1) := dk_42 (dk_at dksX0_level_0 20 rfl rfl)
theorem dX0_level_21 : decode cX0_level 21 = .ok (.iload_n 1, 1) := dk_27 (dk_at dksX0_level_0 21 rfl rfl)
theorem dX0_level_22 : decode cX0_level 22 = .ok (.invokevirtual 355, 3) := dk_182 1 99 (dk_at dksX0_level_1 0 rfl rfl)
theorem dX0_level_25 : decode cX0_level 25 = .ok (.ifCond .ge 9, 3) := dk_156 0 9 (dk_at dksX0_level_1 3 rfl rfl)
theorem dX0_level_28 : decode cX0_level 28 = .ok (.aload_n 0, 1) := dk_42 (dk_at dksX0_level_1 6 rfl rfl)
theorem dX0_level_29 : decode cX0_level 29 = .ok (.iload_n 1, 1) := dk_27 (dk_at dksX0_level_1 7 rfl rfl)
theorem dX0_level_30 : decode cX0_level 30 = .ok (.invokevirtual 348, 3) := dk_182 1 92 (dk_at dksX0_level_1 8 rfl rfl)
theorem dX0_level_33 : decode cX0_level 33 = .ok (.ireturn, 1) := dk_172 (dk_at dksX0_level_1 11 rfl rfl)
theorem dX0_level_34 : decode cX0_level 34 = .ok (.iload_n 3, 1) := dk_29 (dk_at dksX0_level_1 12 rfl rfl)
theorem dX0_level_35 : decode cX0_level 35 = .ok (.aload_n 0, 1) := dk_42 (dk_at dksX0_level_1 13 rfl rfl)
theorem dX0_level_36 : decode cX0_level 36 = .ok (.getfield 345, 3) := dk_180 1 89 (dk_at dksX0_level_1 14 rfl rfl)
theorem dX0_level_39 : decode cX0_level 39 = .ok (.if_icmp .le 5, 3) := dk_164 0 5 (dk_at dksX0_level_1 17 rfl rfl)
theorem dX0_level_42 : decode cX0_level 42 = .ok (.iconst (-1), 1) := dk_2 (dk_at dksX0_level_1 20 rfl rfl)
theorem dX0_level_43 : decode cX0_level 43 = .ok (.ireturn, 1) := dk_172 (dk_at dksX0_level_1 21 rfl rfl)
theorem dX0_level_44 : decode cX0_level 44 = .ok (.aload_n 0, 1) := dk_42 (dk_at dksX0_level_1 22 rfl rfl)
theorem dX0_level_45 : decode cX0_level 45 = .ok (.getfield 93, 3) := dk_180 0 93 (dk_at dksX0_level_2 0 rfl rfl)
theorem dX0_level_48 : decode cX0_level 48 = .ok (.aload_n 0, 1) := dk_42 (dk_at dksX0_level_2 3 rfl rfl)
theorem dX0_level_49 : decode cX0_level 49 = .ok (.getfield 89, 3) := dk_180 0 89 (dk_at dksX0_level_2 4 rfl rfl)
theorem dX0_level_52 : decode cX0_level 52 = .ok (.invokevirtual 358, 3) := dk_182 1 102 (dk_at dksX0_level_2 7 rfl rfl)
theorem dX0_level_55 : decode cX0_level 55 = .ok (.iconst 0, 1) := dk_3 (dk_at dksX0_level_2 10 rfl rfl)
theorem dX0_level_56 : decode cX0_level 56 = .ok (.istore 4, 2) := dk_54 4 (dk_at dksX0_level_2 11 rfl rfl)
theorem dX0_level_58 : decode cX0_level 58 = .ok (.iload 4, 2) := dk_21 4 (dk_at dksX0_level_2 13 rfl rfl)
theorem dX0_level_60 : decode cX0_level 60 = .ok (.iload_n 3, 1) := dk_29 (dk_at dksX0_level_2 15 rfl rfl)
theorem dX0_level_61 : decode cX0_level 61 = .ok (.if_icmp .ge 23, 3) := dk_162 0 23 (dk_at dksX0_level_2 16 rfl rfl)
theorem dX0_level_64 : decode cX0_level 64 = .ok (.aload_n 0, 1) := dk_42 (dk_at dksX0_level_2 19 rfl rfl)
theorem dX0_level_65 : decode cX0_level 65 = .ok (.getfield 93, 3) := dk_180 0 93 (dk_at dksX0_level_2 20 rfl rfl)
theorem dX0_level_68 : decode cX0_level 68 = .ok (.aload_n 0, 1) := dk_42 (dk_at dksX0_level_2 23 rfl rfl)
theorem dX0_level_69 : decode cX0_level 69 = .ok (.getfield 96, 3) := dk_180 0 96 (dk_at dksX0_level_3 0 rfl rfl)
theorem dX0_level_72 : decode cX0_level 72 = .ok (.iload 4, 2) := dk_21 4 (dk_at dksX0_level_3 3 rfl rfl)
theorem dX0_level_74 : decode cX0_level 74 = .ok (.iaload, 1) := dk_46 (dk_at dksX0_level_3 5 rfl rfl)
theorem dX0_level_75 : decode cX0_level 75 = .ok (.invokevirtual 362, 3) := dk_182 1 106 (dk_at dksX0_level_3 6 rfl rfl)
theorem dX0_level_78 : decode cX0_level 78 = .ok (.iinc 4 1, 3) := dk_132 4 1 (dk_at dksX0_level_3 9 rfl rfl)
theorem dX0_level_81 : decode cX0_level 81 = .ok (.goto (-23), 3) := dk_167 255 233 (dk_at dksX0_level_3 12 rfl rfl)
theorem dX0_level_84 : decode cX0_level 84 = .ok (.aload_n 0, 1) := dk_42 (dk_at dksX0_level_3 15 rfl rfl)
theorem dX0_level_85 : decode cX0_level 85 = .ok (.getfield 93, 3) := dk_180 0 93 (dk_at dksX0_level_3 16 rfl rfl)
theorem dX0_level_88 : decode cX0_level 88 = .ok (.getfield 236, 3) := dk_180 0 236 (dk_at dksX0_level_3 19 rfl rfl)
theorem dX0_level_91 : decode cX0_level 91 = .ok (.iload_n 2, 1) := dk_28 (dk_at dksX0_level_3 22 rfl rfl)
theorem dX0_level_92 : decode cX0_level 92 = .ok (.iaload, 1) := dk_46 (dk_at dksX0_level_3 23 rfl rfl)
theorem dX0_level_93 : decode cX0_level 93 = .ok (.ireturn, 1) := dk_172 (dk_at dksX0_level_4 0 rfl rfl)
abbrev cX0_takes1Row : ByteArray := prog_1_method_40_code
def yX0_takes1Row : MethodName := ⟨RX0, "takes1Row", "(I)I"⟩
def dkwX0_takes1Row_1 : List UInt8 := [172]
abbrev dktX0_takes1Row_1 : List UInt8 := dkwX0_takes1Row_1 ++ []
def dkwX0_takes1Row_0 : List UInt8 := [42, 27, 182, 1, 92, 61, 28, 154, 0, 16, 42, 42, 180, 0, 139, 27, 50, 192, 0, 192, 182, 1, 95, 28]
abbrev dktX0_takes1Row_0 : List UInt8 := dkwX0_takes1Row_0 ++ dktX0_takes1Row_1
theorem dksX0_takes1Row_0 : cX0_takes1Row.data.toList.drop 0 = dktX0_takes1Row_0 := by decide +kernel
theorem dksX0_takes1Row_1 : cX0_takes1Row.data.toList.drop 24 = dktX0_takes1Row_1 := dk_seg dksX0_takes1Row_0 24 rfl rfl
theorem dX0_takes1Row_0 : decode cX0_takes1Row 0 = .ok (.aload_n 0, 1) := dk_42 (dk_at dksX0_takes1Row_0 0 rfl rfl)
theorem dX0_takes1Row_1 : decode cX0_takes1Row 1 = .ok (.iload_n 1, 1) := dk_27 (dk_at dksX0_takes1Row_0 1 rfl rfl)
theorem dX0_takes1Row_2 : decode cX0_takes1Row 2 = .ok (.invokevirtual 348, 3) := dk_182 1 92 (dk_at dksX0_takes1Row_0 2 rfl rfl)
theorem dX0_takes1Row_5 : decode cX0_takes1Row 5 = .ok (.istore_n 2, 1) := dk_61 (dk_at dksX0_takes1Row_0 5 rfl rfl)
theorem dX0_takes1Row_6 : decode cX0_takes1Row 6 = .ok (.iload_n 2, 1) := dk_28 (dk_at dksX0_takes1Row_0 6 rfl rfl)
theorem dX0_takes1Row_7 : decode cX0_takes1Row 7 = .ok (.ifCond .ne 16, 3) := dk_154 0 16 (dk_at dksX0_takes1Row_0 7 rfl rfl)
theorem dX0_takes1Row_10 : decode cX0_takes1Row 10 = .ok (.aload_n 0, 1) := dk_42 (dk_at dksX0_takes1Row_0 10 rfl rfl)
theorem dX0_takes1Row_11 : decode cX0_takes1Row 11 = .ok (.aload_n 0, 1) := dk_42 (dk_at dksX0_takes1Row_0 11 rfl rfl)
theorem dX0_takes1Row_12 : decode cX0_takes1Row 12 = .ok (.getfield 139, 3) := dk_180 0 139 (dk_at dksX0_takes1Row_0 12 rfl rfl)
theorem dX0_takes1Row_15 : decode cX0_takes1Row 15 = .ok (.iload_n 1, 1) := dk_27 (dk_at dksX0_takes1Row_0 15 rfl rfl)
theorem dX0_takes1Row_16 : decode cX0_takes1Row 16 = .ok (.aaload, 1) := dk_50 (dk_at dksX0_takes1Row_0 16 rfl rfl)
theorem dX0_takes1Row_17 : decode cX0_takes1Row 17 = .ok (.checkcast 192, 3) := dk_192 0 192 (dk_at dksX0_takes1Row_0 17 rfl rfl)
theorem dX0_takes1Row_20 : decode cX0_takes1Row 20 = .ok (.invokevirtual 351, 3) := dk_182 1 95 (dk_at dksX0_takes1Row_0 20 rfl rfl)
theorem dX0_takes1Row_23 : decode cX0_takes1Row 23 = .ok (.iload_n 2, 1) := dk_28 (dk_at dksX0_takes1Row_0 23 rfl rfl)
theorem dX0_takes1Row_24 : decode cX0_takes1Row 24 = .ok (.ireturn, 1) := dk_172 (dk_at dksX0_takes1Row_1 0 rfl rfl)
abbrev cX0_lookAt : ByteArray := prog_1_method_38_code
def yX0_lookAt : MethodName := ⟨RX0, "lookAt", "(I)I"⟩
def dkwX0_lookAt_1 : List UInt8 := [167, 0, 16, 44, 184, 0, 199, 154, 0, 7, 3, 167, 0, 5, 16, 244, 172]
abbrev dktX0_lookAt_1 : List UInt8 := dkwX0_lookAt_1 ++ []
def dkwX0_lookAt_0 : List UInt8 := [27, 184, 0, 194, 154, 0, 5, 2, 172, 42, 180, 0, 139, 27, 50, 77, 44, 199, 0, 8, 16, 245]
abbrev dktX0_lookAt_0 : List UInt8 := dkwX0_lookAt_0 ++ dktX0_lookAt_1
theorem dksX0_lookAt_0 : cX0_lookAt.data.toList.drop 0 = dktX0_lookAt_0 := by decide +kernel
theorem dksX0_lookAt_1 : cX0_lookAt.data.toList.drop 22 = dktX0_lookAt_1 := dk_seg dksX0_lookAt_0 22 rfl rfl
theorem dX0_lookAt_0 : decode cX0_lookAt 0 = .ok (.iload_n 1, 1) := dk_27 (dk_at dksX0_lookAt_0 0 rfl rfl)
theorem dX0_lookAt_1 : decode cX0_lookAt 1 = .ok (.invokestatic 194, 3) := dk_184 0 194 (dk_at dksX0_lookAt_0 1 rfl rfl)
theorem dX0_lookAt_4 : decode cX0_lookAt 4 = .ok (.ifCond .ne 5, 3) := dk_154 0 5 (dk_at dksX0_lookAt_0 4 rfl rfl)
theorem dX0_lookAt_7 : decode cX0_lookAt 7 = .ok (.iconst (-1), 1) := dk_2 (dk_at dksX0_lookAt_0 7 rfl rfl)
theorem dX0_lookAt_8 : decode cX0_lookAt 8 = .ok (.ireturn, 1) := dk_172 (dk_at dksX0_lookAt_0 8 rfl rfl)
theorem dX0_lookAt_9 : decode cX0_lookAt 9 = .ok (.aload_n 0, 1) := dk_42 (dk_at dksX0_lookAt_0 9 rfl rfl)
theorem dX0_lookAt_10 : decode cX0_lookAt 10 = .ok (.getfield 139, 3) := dk_180 0 139 (dk_at dksX0_lookAt_0 10 rfl rfl)
theorem dX0_lookAt_13 : decode cX0_lookAt 13 = .ok (.iload_n 1, 1) := dk_27 (dk_at dksX0_lookAt_0 13 rfl rfl)
theorem dX0_lookAt_14 : decode cX0_lookAt 14 = .ok (.aaload, 1) := dk_50 (dk_at dksX0_lookAt_0 14 rfl rfl)
theorem dX0_lookAt_15 : decode cX0_lookAt 15 = .ok (.astore_n 2, 1) := dk_77 (dk_at dksX0_lookAt_0 15 rfl rfl)
theorem dX0_lookAt_16 : decode cX0_lookAt 16 = .ok (.aload_n 2, 1) := dk_44 (dk_at dksX0_lookAt_0 16 rfl rfl)
theorem dX0_lookAt_17 : decode cX0_lookAt 17 = .ok (.ifnonnull 8, 3) := dk_199 0 8 (dk_at dksX0_lookAt_0 17 rfl rfl)
theorem dX0_lookAt_20 : decode cX0_lookAt 20 = .ok (.bipush (-11), 2) := dk_16 245 (dk_at dksX0_lookAt_0 20 rfl rfl)
theorem dX0_lookAt_22 : decode cX0_lookAt 22 = .ok (.goto 16, 3) := dk_167 0 16 (dk_at dksX0_lookAt_1 0 rfl rfl)
theorem dX0_lookAt_25 : decode cX0_lookAt 25 = .ok (.aload_n 2, 1) := dk_44 (dk_at dksX0_lookAt_1 3 rfl rfl)
theorem dX0_lookAt_26 : decode cX0_lookAt 26 = .ok (.invokestatic 199, 3) := dk_184 0 199 (dk_at dksX0_lookAt_1 4 rfl rfl)
theorem dX0_lookAt_29 : decode cX0_lookAt 29 = .ok (.ifCond .ne 7, 3) := dk_154 0 7 (dk_at dksX0_lookAt_1 7 rfl rfl)
theorem dX0_lookAt_32 : decode cX0_lookAt 32 = .ok (.iconst 0, 1) := dk_3 (dk_at dksX0_lookAt_1 10 rfl rfl)
theorem dX0_lookAt_33 : decode cX0_lookAt 33 = .ok (.goto 5, 3) := dk_167 0 5 (dk_at dksX0_lookAt_1 11 rfl rfl)
theorem dX0_lookAt_36 : decode cX0_lookAt 36 = .ok (.bipush (-12), 2) := dk_16 244 (dk_at dksX0_lookAt_1 14 rfl rfl)
theorem dX0_lookAt_38 : decode cX0_lookAt 38 = .ok (.ireturn, 1) := dk_172 (dk_at dksX0_lookAt_1 16 rfl rfl)
abbrev cX0_takeRow : ByteArray := prog_1_method_39_code
def yX0_takeRow : MethodName := ⟨RX0, "takeRow", "([B)V"⟩
def dkwX0_takeRow_2 : List UInt8 := [132, 2, 1, 167, 255, 221, 177]
abbrev dktX0_takeRow_2 : List UInt8 := dkwX0_takeRow_2 ++ []
def dkwX0_takeRow_1 : List UInt8 := [180, 0, 96, 28, 42, 43, 28, 51, 133, 182, 0, 174, 153, 0, 9, 43, 28, 51, 167, 0, 4, 2, 79]
abbrev dktX0_takeRow_1 : List UInt8 := dkwX0_takeRow_1 ++ dktX0_takeRow_2
def dkwX0_takeRow_0 : List UInt8 := [42, 16, 30, 43, 190, 184, 1, 77, 181, 1, 89, 3, 61, 28, 42, 180, 1, 89, 162, 0, 33, 42]
abbrev dktX0_takeRow_0 : List UInt8 := dkwX0_takeRow_0 ++ dktX0_takeRow_1
theorem dksX0_takeRow_0 : cX0_takeRow.data.toList.drop 0 = dktX0_takeRow_0 := by decide +kernel
theorem dksX0_takeRow_1 : cX0_takeRow.data.toList.drop 22 = dktX0_takeRow_1 := dk_seg dksX0_takeRow_0 22 rfl rfl
theorem dksX0_takeRow_2 : cX0_takeRow.data.toList.drop 45 = dktX0_takeRow_2 := dk_seg dksX0_takeRow_1 23 rfl rfl
theorem dX0_takeRow_0 : decode cX0_takeRow 0 = .ok (.aload_n 0, 1) := dk_42 (dk_at dksX0_takeRow_0 0 rfl rfl)
theorem dX0_takeRow_1 : decode cX0_takeRow 1 = .ok (.bipush 30, 2) := dk_16 30 (dk_at dksX0_takeRow_0 1 rfl rfl)
theorem dX0_takeRow_3 : decode cX0_takeRow 3 = .ok (.aload_n 1, 1) := dk_43 (dk_at dksX0_takeRow_0 3 rfl rfl)
theorem dX0_takeRow_4 : decode cX0_takeRow 4 = .ok (.arraylength, 1) := dk_190 (dk_at dksX0_takeRow_0 4 rfl rfl)
theorem dX0_takeRow_5 : decode cX0_takeRow 5 = .ok (.invokestatic 333, 3) := dk_184 1 77 (dk_at dksX0_takeRow_0 5 rfl rfl)
theorem dX0_takeRow_8 : decode cX0_takeRow 8 = .ok (.putfield 345, 3) := dk_181 1 89 (dk_at dksX0_takeRow_0 8 rfl rfl)
theorem dX0_takeRow_11 : decode cX0_takeRow 11 = .ok (.iconst 0, 1) := dk_3 (dk_at dksX0_takeRow_0 11 rfl rfl)
theorem dX0_takeRow_12 : decode cX0_takeRow 12 = .ok (.istore_n 2, 1) := dk_61 (dk_at dksX0_takeRow_0 12 rfl rfl)
theorem dX0_takeRow_13 : decode cX0_takeRow 13 = .ok (.iload_n 2, 1) := dk_28 (dk_at dksX0_takeRow_0 13 rfl rfl)
theorem dX0_takeRow_14 : decode cX0_takeRow 14 = .ok (.aload_n 0, 1) := dk_42 (dk_at dksX0_takeRow_0 14 rfl rfl)
theorem dX0_takeRow_15 : decode cX0_takeRow 15 = .ok (.getfield 345, 3) := dk_180 1 89 (dk_at dksX0_takeRow_0 15 rfl rfl)
theorem dX0_takeRow_18 : decode cX0_takeRow 18 = .ok (.if_icmp .ge 33, 3) := dk_162 0 33 (dk_at dksX0_takeRow_0 18 rfl rfl)
theorem dX0_takeRow_21 : decode cX0_takeRow 21 = .ok (.aload_n 0, 1) := dk_42 (dk_at dksX0_takeRow_0 21 rfl rfl)
theorem dX0_takeRow_22 : decode cX0_takeRow 22 = .ok (.getfield 96, 3) := dk_180 0 96 (dk_at dksX0_takeRow_1 0 rfl rfl)
theorem dX0_takeRow_25 : decode cX0_takeRow 25 = .ok (.iload_n 2, 1) := dk_28 (dk_at dksX0_takeRow_1 3 rfl rfl)
theorem dX0_takeRow_26 : decode cX0_takeRow 26 = .ok (.aload_n 0, 1) := dk_42 (dk_at dksX0_takeRow_1 4 rfl rfl)
theorem dX0_takeRow_27 : decode cX0_takeRow 27 = .ok (.aload_n 1, 1) := dk_43 (dk_at dksX0_takeRow_1 5 rfl rfl)
theorem dX0_takeRow_28 : decode cX0_takeRow 28 = .ok (.iload_n 2, 1) := dk_28 (dk_at dksX0_takeRow_1 6 rfl rfl)
theorem dX0_takeRow_29 : decode cX0_takeRow 29 = .ok (.baload, 1) := dk_51 (dk_at dksX0_takeRow_1 7 rfl rfl)
theorem dX0_takeRow_30 : decode cX0_takeRow 30 = .ok (.i2l, 1) := dk_133 (dk_at dksX0_takeRow_1 8 rfl rfl)
theorem dX0_takeRow_31 : decode cX0_takeRow 31 = .ok (.invokevirtual 174, 3) := dk_182 0 174 (dk_at dksX0_takeRow_1 9 rfl rfl)
theorem dX0_takeRow_34 : decode cX0_takeRow 34 = .ok (.ifCond .eq 9, 3) := dk_153 0 9 (dk_at dksX0_takeRow_1 12 rfl rfl)
theorem dX0_takeRow_37 : decode cX0_takeRow 37 = .ok (.aload_n 1, 1) := dk_43 (dk_at dksX0_takeRow_1 15 rfl rfl)
theorem dX0_takeRow_38 : decode cX0_takeRow 38 = .ok (.iload_n 2, 1) := dk_28 (dk_at dksX0_takeRow_1 16 rfl rfl)
theorem dX0_takeRow_39 : decode cX0_takeRow 39 = .ok (.baload, 1) := dk_51 (dk_at dksX0_takeRow_1 17 rfl rfl)
theorem dX0_takeRow_40 : decode cX0_takeRow 40 = .ok (.goto 4, 3) := dk_167 0 4 (dk_at dksX0_takeRow_1 18 rfl rfl)
theorem dX0_takeRow_43 : decode cX0_takeRow 43 = .ok (.iconst (-1), 1) := dk_2 (dk_at dksX0_takeRow_1 21 rfl rfl)
theorem dX0_takeRow_44 : decode cX0_takeRow 44 = .ok (.iastore, 1) := dk_79 (dk_at dksX0_takeRow_1 22 rfl rfl)
theorem dX0_takeRow_45 : decode cX0_takeRow 45 = .ok (.iinc 2 1, 3) := dk_132 2 1 (dk_at dksX0_takeRow_2 0 rfl rfl)
theorem dX0_takeRow_48 : decode cX0_takeRow 48 = .ok (.goto (-35), 3) := dk_167 255 221 (dk_at dksX0_takeRow_2 3 rfl rfl)
theorem dX0_takeRow_51 : decode cX0_takeRow 51 = .ok (.return_, 1) := dk_177 (dk_at dksX0_takeRow_2 6 rfl rfl)
abbrev cX0_leftBy : ByteArray := prog_1_method_37_code
def yX0_leftBy : MethodName := ⟨RX0, "leftBy", "(LLeftAsFound$Guest;III)I"⟩
def dkwX0_leftBy_6 : List UInt8 := [3, 16, 99, 21, 8, 184, 1, 77, 184, 1, 86, 172]
abbrev dktX0_leftBy_6 : List UInt8 := dkwX0_leftBy_6 ++ []
def dkwX0_leftBy_5 : List UInt8 := [180, 0, 81, 8, 28, 79, 29, 16, 236, 16, 20, 42, 182, 1, 83, 184, 1, 77, 184, 1, 86, 96, 54, 8]
abbrev dktX0_leftBy_5 : List UInt8 := dkwX0_leftBy_5 ++ dktX0_leftBy_6
def dkwX0_leftBy_4 : List UInt8 := [180, 0, 81, 5, 21, 5, 79, 42, 180, 0, 81, 6, 21, 6, 79, 42, 180, 0, 81, 7, 21, 7, 79, 42]
abbrev dktX0_leftBy_4 : List UInt8 := dkwX0_leftBy_4 ++ dktX0_leftBy_5
def dkwX0_leftBy_3 : List UInt8 := [42, 180, 1, 69, 198, 0, 67, 42, 180, 0, 81, 3, 29, 79, 42, 180, 0, 81, 4, 21, 4, 79, 42]
abbrev dktX0_leftBy_3 : List UInt8 := dkwX0_leftBy_3 ++ dktX0_leftBy_4
def dkwX0_leftBy_2 : List UInt8 := [164, 0, 18, 21, 4, 29, 21, 5, 100, 21, 6, 96, 184, 1, 77, 167, 0, 7, 29, 21, 5, 100, 54, 8]
abbrev dktX0_leftBy_2 : List UInt8 := dkwX0_leftBy_2 ++ dktX0_leftBy_3
def dkwX0_leftBy_1 : List UInt8 := [180, 0, 218, 180, 0, 3, 42, 180, 0, 65, 180, 0, 3, 184, 1, 77, 54, 7, 21, 4, 29, 100, 21, 7]
abbrev dktX0_leftBy_1 : List UInt8 := dkwX0_leftBy_1 ++ dktX0_leftBy_2
def dkwX0_leftBy_0 : List UInt8 := [43, 180, 0, 212, 28, 50, 180, 0, 3, 54, 5, 43, 180, 0, 215, 28, 50, 180, 0, 3, 54, 6, 43]
abbrev dktX0_leftBy_0 : List UInt8 := dkwX0_leftBy_0 ++ dktX0_leftBy_1
theorem dksX0_leftBy_0 : cX0_leftBy.data.toList.drop 0 = dktX0_leftBy_0 := by decide +kernel
theorem dksX0_leftBy_1 : cX0_leftBy.data.toList.drop 23 = dktX0_leftBy_1 := dk_seg dksX0_leftBy_0 23 rfl rfl
theorem dksX0_leftBy_2 : cX0_leftBy.data.toList.drop 47 = dktX0_leftBy_2 := dk_seg dksX0_leftBy_1 24 rfl rfl
theorem dksX0_leftBy_3 : cX0_leftBy.data.toList.drop 71 = dktX0_leftBy_3 := dk_seg dksX0_leftBy_2 24 rfl rfl
theorem dksX0_leftBy_4 : cX0_leftBy.data.toList.drop 94 = dktX0_leftBy_4 := dk_seg dksX0_leftBy_3 23 rfl rfl
theorem dksX0_leftBy_5 : cX0_leftBy.data.toList.drop 118 = dktX0_leftBy_5 := dk_seg dksX0_leftBy_4 24 rfl rfl
theorem dksX0_leftBy_6 : cX0_leftBy.data.toList.drop 142 = dktX0_leftBy_6 := dk_seg dksX0_leftBy_5 24 rfl rfl
theorem dX0_leftBy_0 : decode cX0_leftBy 0 = .ok (.aload_n 1, 1) := dk_43 (dk_at dksX0_leftBy_0 0 rfl rfl)
theorem dX0_leftBy_1 : decode cX0_leftBy 1 = .ok (.getfield 212, 3) := dk_180 0 212 (dk_at dksX0_leftBy_0 1 rfl rfl)
theorem dX0_leftBy_4 : decode cX0_leftBy 4 = .ok (.iload_n 2, 1) := dk_28 (dk_at dksX0_leftBy_0 4 rfl rfl)
theorem dX0_leftBy_5 : decode cX0_leftBy 5 = .ok (.aaload, 1) := dk_50 (dk_at dksX0_leftBy_0 5 rfl rfl)
theorem dX0_leftBy_6 : decode cX0_leftBy 6 = .ok (.getfield 3, 3) := dk_180 0 3 (dk_at dksX0_leftBy_0 6 rfl rfl)
theorem dX0_leftBy_9 : decode cX0_leftBy 9 = .ok (.istore 5, 2) := dk_54 5 (dk_at dksX0_leftBy_0 9 rfl rfl)
theorem dX0_leftBy_11 : decode cX0_leftBy 11 = .ok (.aload_n 1, 1) := dk_43 (dk_at dksX0_leftBy_0 11 rfl rfl)
theorem dX0_leftBy_12 : decode cX0_leftBy 12 = .ok (.getfield 215, 3) := dk_180 0 215 (dk_at dksX0_leftBy_0 12 rfl rfl)
theorem dX0_leftBy_15 : decode cX0_leftBy 15 = .ok (.iload_n 2, 1) := dk_28 (dk_at dksX0_leftBy_0 15 rfl rfl)
theorem dX0_leftBy_16 : decode cX0_leftBy 16 = .ok (.aaload, 1) := dk_50 (dk_at dksX0_leftBy_0 16 rfl rfl)
theorem dX0_leftBy_17 : decode cX0_leftBy 17 = .ok (.getfield 3, 3) := dk_180 0 3 (dk_at dksX0_leftBy_0 17 rfl rfl)
theorem dX0_leftBy_20 : decode cX0_leftBy 20 = .ok (.istore 6, 2) := dk_54 6 (dk_at dksX0_leftBy_0 20 rfl rfl)
theorem dX0_leftBy_22 : decode cX0_leftBy 22 = .ok (.aload_n 1, 1) := dk_43 (dk_at dksX0_leftBy_0 22 rfl rfl)
theorem dX0_leftBy_23 : decode cX0_leftBy 23 = .ok (.getfield 218, 3) := dk_180 0 218 (dk_at dksX0_leftBy_1 0 rfl rfl)
theorem dX0_leftBy_26 : decode cX0_leftBy 26 = .ok (.getfield 3, 3) := dk_180 0 3 (dk_at dksX0_leftBy_1 3 rfl rfl)
theorem dX0_leftBy_29 : decode cX0_leftBy 29 = .ok (.aload_n 0, 1) := dk_42 (dk_at dksX0_leftBy_1 6 rfl rfl)
theorem dX0_leftBy_30 : decode cX0_leftBy 30 = .ok (.getfield 65, 3) := dk_180 0 65 (dk_at dksX0_leftBy_1 7 rfl rfl)
theorem dX0_leftBy_33 : decode cX0_leftBy 33 = .ok (.getfield 3, 3) := dk_180 0 3 (dk_at dksX0_leftBy_1 10 rfl rfl)
theorem dX0_leftBy_36 : decode cX0_leftBy 36 = .ok (.invokestatic 333, 3) := dk_184 1 77 (dk_at dksX0_leftBy_1 13 rfl rfl)
theorem dX0_leftBy_39 : decode cX0_leftBy 39 = .ok (.istore 7, 2) := dk_54 7 (dk_at dksX0_leftBy_1 16 rfl rfl)
theorem dX0_leftBy_41 : decode cX0_leftBy 41 = .ok (.iload 4, 2) := dk_21 4 (dk_at dksX0_leftBy_1 18 rfl rfl)
theorem dX0_leftBy_43 : decode cX0_leftBy 43 = .ok (.iload_n 3, 1) := dk_29 (dk_at dksX0_leftBy_1 20 rfl rfl)
theorem dX0_leftBy_44 : decode cX0_leftBy 44 = .ok (.isub, 1) := dk_100 (dk_at dksX0_leftBy_1 21 rfl rfl)
theorem dX0_leftBy_45 : decode cX0_leftBy 45 = .ok (.iload 7, 2) := dk_21 7 (dk_at dksX0_leftBy_1 22 rfl rfl)
theorem dX0_leftBy_47 : decode cX0_leftBy 47 = .ok (.if_icmp .le 18, 3) := dk_164 0 18 (dk_at dksX0_leftBy_2 0 rfl rfl)
theorem dX0_leftBy_50 : decode cX0_leftBy 50 = .ok (.iload 4, 2) := dk_21 4 (dk_at dksX0_leftBy_2 3 rfl rfl)
theorem dX0_leftBy_52 : decode cX0_leftBy 52 = .ok (.iload_n 3, 1) := dk_29 (dk_at dksX0_leftBy_2 5 rfl rfl)
theorem dX0_leftBy_53 : decode cX0_leftBy 53 = .ok (.iload 5, 2) := dk_21 5 (dk_at dksX0_leftBy_2 6 rfl rfl)
theorem dX0_leftBy_55 : decode cX0_leftBy 55 = .ok (.isub, 1) := dk_100 (dk_at dksX0_leftBy_2 8 rfl rfl)
theorem dX0_leftBy_56 : decode cX0_leftBy 56 = .ok (.iload 6, 2) := dk_21 6 (dk_at dksX0_leftBy_2 9 rfl rfl)
theorem dX0_leftBy_58 : decode cX0_leftBy 58 = .ok (.iadd, 1) := dk_96 (dk_at dksX0_leftBy_2 11 rfl rfl)
theorem dX0_leftBy_59 : decode cX0_leftBy 59 = .ok (.invokestatic 333, 3) := dk_184 1 77 (dk_at dksX0_leftBy_2 12 rfl rfl)
theorem dX0_leftBy_62 : decode cX0_leftBy 62 = .ok (.goto 7, 3) := dk_167 0 7 (dk_at dksX0_leftBy_2 15 rfl rfl)
theorem dX0_leftBy_65 : decode cX0_leftBy 65 = .ok (.iload_n 3, 1) := dk_29 (dk_at dksX0_leftBy_2 18 rfl rfl)
theorem dX0_leftBy_66 : decode cX0_leftBy 66 = .ok (.iload 5, 2) := dk_21 5 (dk_at dksX0_leftBy_2 19 rfl rfl)
theorem dX0_leftBy_68 : decode cX0_leftBy 68 = .ok (.isub, 1) := dk_100 (dk_at dksX0_leftBy_2 21 rfl rfl)
theorem dX0_leftBy_69 : decode cX0_leftBy 69 = .ok (.istore 8, 2) := dk_54 8 (dk_at dksX0_leftBy_2 22 rfl rfl)
theorem dX0_leftBy_71 : decode cX0_leftBy 71 = .ok (.aload_n 0, 1) := dk_42 (dk_at dksX0_leftBy_3 0 rfl rfl)
theorem dX0_leftBy_72 : decode cX0_leftBy 72 = .ok (.getfield 325, 3) := dk_180 1 69 (dk_at dksX0_leftBy_3 1 rfl rfl)
theorem dX0_leftBy_75 : decode cX0_leftBy 75 = .ok (.ifnull 67, 3) := dk_198 0 67 (dk_at dksX0_leftBy_3 4 rfl rfl)
theorem dX0_leftBy_78 : decode cX0_leftBy 78 = .ok (.aload_n 0, 1) := dk_42 (dk_at dksX0_leftBy_3 7 rfl rfl)
theorem dX0_leftBy_79 : decode cX0_leftBy 79 = .ok (.getfield 81, 3) := dk_180 0 81 (dk_at dksX0_leftBy_3 8 rfl rfl)
theorem dX0_leftBy_82 : decode cX0_leftBy 82 = .ok (.iconst 0, 1) := dk_3 (dk_at dksX0_leftBy_3 11 rfl rfl)
theorem dX0_leftBy_83 : decode cX0_leftBy 83 = .ok (.iload_n 3, 1) := dk_29 (dk_at dksX0_leftBy_3 12 rfl rfl)
theorem dX0_leftBy_84 : decode cX0_leftBy 84 = .ok (.iastore, 1) := dk_79 (dk_at dksX0_leftBy_3 13 rfl rfl)
theorem dX0_leftBy_85 : decode cX0_leftBy 85 = .ok (.aload_n 0, 1) := dk_42 (dk_at dksX0_leftBy_3 14 rfl rfl)
theorem dX0_leftBy_86 : decode cX0_leftBy 86 = .ok (.getfield 81, 3) := dk_180 0 81 (dk_at dksX0_leftBy_3 15 rfl rfl)
theorem dX0_leftBy_89 : decode cX0_leftBy 89 = .ok (.iconst 1, 1) := dk_4 (dk_at dksX0_leftBy_3 18 rfl rfl)
theorem dX0_leftBy_90 : decode cX0_leftBy 90 = .ok (.iload 4, 2) := dk_21 4 (dk_at dksX0_leftBy_3 19 rfl rfl)
theorem dX0_leftBy_92 : decode cX0_leftBy 92 = .ok (.iastore, 1) := dk_79 (dk_at dksX0_leftBy_3 21 rfl rfl)
theorem dX0_leftBy_93 : decode cX0_leftBy 93 = .ok (.aload_n 0, 1) := dk_42 (dk_at dksX0_leftBy_3 22 rfl rfl)
theorem dX0_leftBy_94 : decode cX0_leftBy 94 = .ok (.getfield 81, 3) := dk_180 0 81 (dk_at dksX0_leftBy_4 0 rfl rfl)
theorem dX0_leftBy_97 : decode cX0_leftBy 97 = .ok (.iconst 2, 1) := dk_5 (dk_at dksX0_leftBy_4 3 rfl rfl)
theorem dX0_leftBy_98 : decode cX0_leftBy 98 = .ok (.iload 5, 2) := dk_21 5 (dk_at dksX0_leftBy_4 4 rfl rfl)
theorem dX0_leftBy_100 : decode cX0_leftBy 100 = .ok (.iastore, 1) := dk_79 (dk_at dksX0_leftBy_4 6 rfl rfl)
theorem dX0_leftBy_101 : decode cX0_leftBy 101 = .ok (.aload_n 0, 1) := dk_42 (dk_at dksX0_leftBy_4 7 rfl rfl)
theorem dX0_leftBy_102 : decode cX0_leftBy 102 = .ok (.getfield 81, 3) := dk_180 0 81 (dk_at dksX0_leftBy_4 8 rfl rfl)
theorem dX0_leftBy_105 : decode cX0_leftBy 105 = .ok (.iconst 3, 1) := dk_6 (dk_at dksX0_leftBy_4 11 rfl rfl)
theorem dX0_leftBy_106 : decode cX0_leftBy 106 = .ok (.iload 6, 2) := dk_21 6 (dk_at dksX0_leftBy_4 12 rfl rfl)
theorem dX0_leftBy_108 : decode cX0_leftBy 108 = .ok (.iastore, 1) := dk_79 (dk_at dksX0_leftBy_4 14 rfl rfl)
theorem dX0_leftBy_109 : decode cX0_leftBy 109 = .ok (.aload_n 0, 1) := dk_42 (dk_at dksX0_leftBy_4 15 rfl rfl)
theorem dX0_leftBy_110 : decode cX0_leftBy 110 = .ok (.getfield 81, 3) := dk_180 0 81 (dk_at dksX0_leftBy_4 16 rfl rfl)
theorem dX0_leftBy_113 : decode cX0_leftBy 113 = .ok (.iconst 4, 1) := dk_7 (dk_at dksX0_leftBy_4 19 rfl rfl)
theorem dX0_leftBy_114 : decode cX0_leftBy 114 = .ok (.iload 7, 2) := dk_21 7 (dk_at dksX0_leftBy_4 20 rfl rfl)
theorem dX0_leftBy_116 : decode cX0_leftBy 116 = .ok (.iastore, 1) := dk_79 (dk_at dksX0_leftBy_4 22 rfl rfl)
theorem dX0_leftBy_117 : decode cX0_leftBy 117 = .ok (.aload_n 0, 1) := dk_42 (dk_at dksX0_leftBy_4 23 rfl rfl)
theorem dX0_leftBy_118 : decode cX0_leftBy 118 = .ok (.getfield 81, 3) := dk_180 0 81 (dk_at dksX0_leftBy_5 0 rfl rfl)
theorem dX0_leftBy_121 : decode cX0_leftBy 121 = .ok (.iconst 5, 1) := dk_8 (dk_at dksX0_leftBy_5 3 rfl rfl)
theorem dX0_leftBy_122 : decode cX0_leftBy 122 = .ok (.iload_n 2, 1) := dk_28 (dk_at dksX0_leftBy_5 4 rfl rfl)
theorem dX0_leftBy_123 : decode cX0_leftBy 123 = .ok (.iastore, 1) := dk_79 (dk_at dksX0_leftBy_5 5 rfl rfl)
theorem dX0_leftBy_124 : decode cX0_leftBy 124 = .ok (.iload_n 3, 1) := dk_29 (dk_at dksX0_leftBy_5 6 rfl rfl)
theorem dX0_leftBy_125 : decode cX0_leftBy 125 = .ok (.bipush (-20), 2) := dk_16 236 (dk_at dksX0_leftBy_5 7 rfl rfl)
theorem dX0_leftBy_127 : decode cX0_leftBy 127 = .ok (.bipush 20, 2) := dk_16 20 (dk_at dksX0_leftBy_5 9 rfl rfl)
theorem dX0_leftBy_129 : decode cX0_leftBy 129 = .ok (.aload_n 0, 1) := dk_42 (dk_at dksX0_leftBy_5 11 rfl rfl)
theorem dX0_leftBy_130 : decode cX0_leftBy 130 = .ok (.invokevirtual 339, 3) := dk_182 1 83 (dk_at dksX0_leftBy_5 12 rfl rfl)
theorem dX0_leftBy_133 : decode cX0_leftBy 133 = .ok (.invokestatic 333, 3) := dk_184 1 77 (dk_at dksX0_leftBy_5 15 rfl rfl)
theorem dX0_leftBy_136 : decode cX0_leftBy 136 = .ok (.invokestatic 342, 3) := dk_184 1 86 (dk_at dksX0_leftBy_5 18 rfl rfl)
theorem dX0_leftBy_139 : decode cX0_leftBy 139 = .ok (.iadd, 1) := dk_96 (dk_at dksX0_leftBy_5 21 rfl rfl)
theorem dX0_leftBy_140 : decode cX0_leftBy 140 = .ok (.istore 8, 2) := dk_54 8 (dk_at dksX0_leftBy_5 22 rfl rfl)
theorem dX0_leftBy_142 : decode cX0_leftBy 142 = .ok (.iconst 0, 1) := dk_3 (dk_at dksX0_leftBy_6 0 rfl rfl)
theorem dX0_leftBy_143 : decode cX0_leftBy 143 = .ok (.bipush 99, 2) := dk_16 99 (dk_at dksX0_leftBy_6 1 rfl rfl)
theorem dX0_leftBy_145 : decode cX0_leftBy 145 = .ok (.iload 8, 2) := dk_21 8 (dk_at dksX0_leftBy_6 3 rfl rfl)
theorem dX0_leftBy_147 : decode cX0_leftBy 147 = .ok (.invokestatic 333, 3) := dk_184 1 77 (dk_at dksX0_leftBy_6 5 rfl rfl)
theorem dX0_leftBy_150 : decode cX0_leftBy 150 = .ok (.invokestatic 342, 3) := dk_184 1 86 (dk_at dksX0_leftBy_6 8 rfl rfl)
theorem dX0_leftBy_153 : decode cX0_leftBy 153 = .ok (.ireturn, 1) := dk_172 (dk_at dksX0_leftBy_6 11 rfl rfl)
abbrev cX0_ruled : ByteArray := prog_1_method_36_code
def yX0_ruled : MethodName := ⟨RX0, "ruled", "()I"⟩
def dkwX0_ruled_1 : List UInt8 := [154, 0, 6, 167, 0, 11, 43, 180, 1, 51, 182, 1, 72, 172, 43, 180, 1, 62, 76, 167, 255, 219, 3, 172]
abbrev dktX0_ruled_1 : List UInt8 := dkwX0_ruled_1 ++ []
def dkwX0_ruled_0 : List UInt8 := [42, 180, 1, 69, 76, 43, 198, 0, 39, 43, 180, 1, 55, 198, 0, 16, 43, 180, 1, 55, 182, 1, 72]
abbrev dktX0_ruled_0 : List UInt8 := dkwX0_ruled_0 ++ dktX0_ruled_1
theorem dksX0_ruled_0 : cX0_ruled.data.toList.drop 0 = dktX0_ruled_0 := by decide +kernel
theorem dksX0_ruled_1 : cX0_ruled.data.toList.drop 23 = dktX0_ruled_1 := dk_seg dksX0_ruled_0 23 rfl rfl
theorem dX0_ruled_0 : decode cX0_ruled 0 = .ok (.aload_n 0, 1) := dk_42 (dk_at dksX0_ruled_0 0 rfl rfl)
theorem dX0_ruled_1 : decode cX0_ruled 1 = .ok (.getfield 325, 3) := dk_180 1 69 (dk_at dksX0_ruled_0 1 rfl rfl)
theorem dX0_ruled_4 : decode cX0_ruled 4 = .ok (.astore_n 1, 1) := dk_76 (dk_at dksX0_ruled_0 4 rfl rfl)
theorem dX0_ruled_5 : decode cX0_ruled 5 = .ok (.aload_n 1, 1) := dk_43 (dk_at dksX0_ruled_0 5 rfl rfl)
theorem dX0_ruled_6 : decode cX0_ruled 6 = .ok (.ifnull 39, 3) := dk_198 0 39 (dk_at dksX0_ruled_0 6 rfl rfl)
theorem dX0_ruled_9 : decode cX0_ruled 9 = .ok (.aload_n 1, 1) := dk_43 (dk_at dksX0_ruled_0 9 rfl rfl)
theorem dX0_ruled_10 : decode cX0_ruled 10 = .ok (.getfield 311, 3) := dk_180 1 55 (dk_at dksX0_ruled_0 10 rfl rfl)
theorem dX0_ruled_13 : decode cX0_ruled 13 = .ok (.ifnull 16, 3) := dk_198 0 16 (dk_at dksX0_ruled_0 13 rfl rfl)
theorem dX0_ruled_16 : decode cX0_ruled 16 = .ok (.aload_n 1, 1) := dk_43 (dk_at dksX0_ruled_0 16 rfl rfl)
theorem dX0_ruled_17 : decode cX0_ruled 17 = .ok (.getfield 311, 3) := dk_180 1 55 (dk_at dksX0_ruled_0 17 rfl rfl)
theorem dX0_ruled_20 : decode cX0_ruled 20 = .ok (.invokevirtual 328, 3) := dk_182 1 72 (dk_at dksX0_ruled_0 20 rfl rfl)
theorem dX0_ruled_23 : decode cX0_ruled 23 = .ok (.ifCond .ne 6, 3) := dk_154 0 6 (dk_at dksX0_ruled_1 0 rfl rfl)
theorem dX0_ruled_26 : decode cX0_ruled 26 = .ok (.goto 11, 3) := dk_167 0 11 (dk_at dksX0_ruled_1 3 rfl rfl)
theorem dX0_ruled_29 : decode cX0_ruled 29 = .ok (.aload_n 1, 1) := dk_43 (dk_at dksX0_ruled_1 6 rfl rfl)
theorem dX0_ruled_30 : decode cX0_ruled 30 = .ok (.getfield 307, 3) := dk_180 1 51 (dk_at dksX0_ruled_1 7 rfl rfl)
theorem dX0_ruled_33 : decode cX0_ruled 33 = .ok (.invokevirtual 328, 3) := dk_182 1 72 (dk_at dksX0_ruled_1 10 rfl rfl)
theorem dX0_ruled_36 : decode cX0_ruled 36 = .ok (.ireturn, 1) := dk_172 (dk_at dksX0_ruled_1 13 rfl rfl)
theorem dX0_ruled_37 : decode cX0_ruled 37 = .ok (.aload_n 1, 1) := dk_43 (dk_at dksX0_ruled_1 14 rfl rfl)
theorem dX0_ruled_38 : decode cX0_ruled 38 = .ok (.getfield 318, 3) := dk_180 1 62 (dk_at dksX0_ruled_1 15 rfl rfl)
theorem dX0_ruled_41 : decode cX0_ruled 41 = .ok (.astore_n 1, 1) := dk_76 (dk_at dksX0_ruled_1 18 rfl rfl)
theorem dX0_ruled_42 : decode cX0_ruled 42 = .ok (.goto (-37), 3) := dk_167 255 219 (dk_at dksX0_ruled_1 19 rfl rfl)
theorem dX0_ruled_45 : decode cX0_ruled 45 = .ok (.iconst 0, 1) := dk_3 (dk_at dksX0_ruled_1 22 rfl rfl)
theorem dX0_ruled_46 : decode cX0_ruled 46 = .ok (.ireturn, 1) := dk_172 (dk_at dksX0_ruled_1 23 rfl rfl)
abbrev cX0_bit : ByteArray := prog_1_method_2_code
def yX0_bit : MethodName := ⟨RX0, "bit", "(Z)I"⟩
def dkwX0_bit_0 : List UInt8 := [26, 153, 0, 7, 4, 167, 0, 4, 3, 172]
abbrev dktX0_bit_0 : List UInt8 := dkwX0_bit_0 ++ []
theorem dksX0_bit_0 : cX0_bit.data.toList.drop 0 = dktX0_bit_0 := by decide +kernel
theorem dX0_bit_0 : decode cX0_bit 0 = .ok (.iload_n 0, 1) := dk_26 (dk_at dksX0_bit_0 0 rfl rfl)
theorem dX0_bit_1 : decode cX0_bit 1 = .ok (.ifCond .eq 7, 3) := dk_153 0 7 (dk_at dksX0_bit_0 1 rfl rfl)
theorem dX0_bit_4 : decode cX0_bit 4 = .ok (.iconst 1, 1) := dk_4 (dk_at dksX0_bit_0 4 rfl rfl)
theorem dX0_bit_5 : decode cX0_bit 5 = .ok (.goto 4, 3) := dk_167 0 4 (dk_at dksX0_bit_0 5 rfl rfl)
theorem dX0_bit_8 : decode cX0_bit 8 = .ok (.iconst 0, 1) := dk_3 (dk_at dksX0_bit_0 8 rfl rfl)
theorem dX0_bit_9 : decode cX0_bit 9 = .ok (.ireturn, 1) := dk_172 (dk_at dksX0_bit_0 9 rfl rfl)
abbrev cX0_lowest : ByteArray := prog_1_method_42_code
def yX0_lowest : MethodName := ⟨RX0, "lowest", "(II)I"⟩
def dkwX0_lowest_4 : List UInt8 := [180, 0, 236, 28, 46, 184, 1, 77, 62, 132, 4, 1, 167, 255, 216, 29, 172]
abbrev dktX0_lowest_4 : List UInt8 := dkwX0_lowest_4 ++ []
def dkwX0_lowest_3 : List UInt8 := [162, 0, 37, 42, 180, 0, 93, 42, 180, 0, 96, 21, 4, 46, 182, 1, 106, 29, 42, 180, 0, 93]
abbrev dktX0_lowest_3 : List UInt8 := dkwX0_lowest_3 ++ dktX0_lowest_4
def dkwX0_lowest_2 : List UInt8 := [42, 180, 0, 93, 180, 0, 236, 28, 46, 167, 0, 5, 16, 99, 62, 3, 54, 4, 21, 4, 42, 180, 1, 89]
abbrev dktX0_lowest_2 : List UInt8 := dkwX0_lowest_2 ++ dktX0_lowest_3
def dkwX0_lowest_1 : List UInt8 := [42, 27, 182, 1, 92, 172, 42, 180, 0, 93, 42, 180, 0, 89, 182, 1, 102, 42, 180, 1, 89, 154, 0, 15]
abbrev dktX0_lowest_1 : List UInt8 := dkwX0_lowest_1 ++ dktX0_lowest_2
def dkwX0_lowest_0 : List UInt8 := [27, 184, 0, 194, 153, 0, 10, 28, 184, 0, 178, 154, 0, 5, 2, 172, 42, 27, 182, 1, 99, 156, 0, 9]
abbrev dktX0_lowest_0 : List UInt8 := dkwX0_lowest_0 ++ dktX0_lowest_1
theorem dksX0_lowest_0 : cX0_lowest.data.toList.drop 0 = dktX0_lowest_0 := by decide +kernel
theorem dksX0_lowest_1 : cX0_lowest.data.toList.drop 24 = dktX0_lowest_1 := dk_seg dksX0_lowest_0 24 rfl rfl
theorem dksX0_lowest_2 : cX0_lowest.data.toList.drop 48 = dktX0_lowest_2 := dk_seg dksX0_lowest_1 24 rfl rfl
theorem dksX0_lowest_3 : cX0_lowest.data.toList.drop 72 = dktX0_lowest_3 := dk_seg dksX0_lowest_2 24 rfl rfl
theorem dksX0_lowest_4 : cX0_lowest.data.toList.drop 94 = dktX0_lowest_4 := dk_seg dksX0_lowest_3 22 rfl rfl
theorem dX0_lowest_0 : decode cX0_lowest 0 = .ok (.iload_n 1, 1) := dk_27 (dk_at dksX0_lowest_0 0 rfl rfl)
theorem dX0_lowest_1 : decode cX0_lowest 1 = .ok (.invokestatic 194, 3) := dk_184 0 194 (dk_at dksX0_lowest_0 1 rfl rfl)
theorem dX0_lowest_4 : decode cX0_lowest 4 = .ok (.ifCond .eq 10, 3) := dk_153 0 10 (dk_at dksX0_lowest_0 4 rfl rfl)
theorem dX0_lowest_7 : decode cX0_lowest 7 = .ok (.iload_n 2, 1) := dk_28 (dk_at dksX0_lowest_0 7 rfl rfl)
theorem dX0_lowest_8 : decode cX0_lowest 8 = .ok (.invokestatic 178, 3) := dk_184 0 178 (dk_at dksX0_lowest_0 8 rfl rfl)
theorem dX0_lowest_11 : decode cX0_lowest 11 = .ok (.ifCond .ne 5, 3) := dk_154 0 5 (dk_at dksX0_lowest_0 11 rfl rfl)
theorem dX0_lowest_14 : decode cX0_lowest 14 = .ok (.iconst (-1), 1) := dk_2 (dk_at dksX0_lowest_0 14 rfl rfl)
theorem dX0_lowest_15 : decode cX0_lowest 15 = .ok (.ireturn, 1) := dk_172 (dk_at dksX0_lowest_0 15 rfl rfl)
theorem dX0_lowest_16 : decode cX0_lowest 16 = .ok (.aload_n 0, 1) := dk_42 (dk_at dksX0_lowest_0 16 rfl rfl)
theorem dX0_lowest_17 : decode cX0_lowest 17 = .ok (.iload_n 1, 1) := dk_27 (dk_at dksX0_lowest_0 17 rfl rfl)
theorem dX0_lowest_18 : decode cX0_lowest 18 = .ok (.invokevirtual 355, 3) := dk_182 1 99 (dk_at dksX0_lowest_0 18 rfl rfl)
theorem dX0_lowest_21 : decode cX0_lowest 21 = .ok (.ifCond .ge 9, 3) := dk_156 0 9 (dk_at dksX0_lowest_0 21 rfl rfl)
theorem dX0_lowest_24 : decode cX0_lowest 24 = .ok (.aload_n 0, 1) := dk_42 (dk_at dksX0_lowest_1 0 rfl rfl)
theorem dX0_lowest_25 : decode cX0_lowest 25 = .ok (.iload_n 1, 1) := dk_27 (dk_at dksX0_lowest_1 1 rfl rfl)
theorem dX0_lowest_26 : decode cX0_lowest 26 = .ok (.invokevirtual 348, 3) := dk_182 1 92 (dk_at dksX0_lowest_1 2 rfl rfl)
theorem dX0_lowest_29 : decode cX0_lowest 29 = .ok (.ireturn, 1) := dk_172 (dk_at dksX0_lowest_1 5 rfl rfl)
theorem dX0_lowest_30 : decode cX0_lowest 30 = .ok (.aload_n 0, 1) := dk_42 (dk_at dksX0_lowest_1 6 rfl rfl)
theorem dX0_lowest_31 : decode cX0_lowest 31 = .ok (.getfield 93, 3) := dk_180 0 93 (dk_at dksX0_lowest_1 7 rfl rfl)
theorem dX0_lowest_34 : decode cX0_lowest 34 = .ok (.aload_n 0, 1) := dk_42 (dk_at dksX0_lowest_1 10 rfl rfl)
theorem dX0_lowest_35 : decode cX0_lowest 35 = .ok (.getfield 89, 3) := dk_180 0 89 (dk_at dksX0_lowest_1 11 rfl rfl)
theorem dX0_lowest_38 : decode cX0_lowest 38 = .ok (.invokevirtual 358, 3) := dk_182 1 102 (dk_at dksX0_lowest_1 14 rfl rfl)
theorem dX0_lowest_41 : decode cX0_lowest 41 = .ok (.aload_n 0, 1) := dk_42 (dk_at dksX0_lowest_1 17 rfl rfl)
theorem dX0_lowest_42 : decode cX0_lowest 42 = .ok (.getfield 345, 3) := dk_180 1 89 (dk_at dksX0_lowest_1 18 rfl rfl)
theorem dX0_lowest_45 : decode cX0_lowest 45 = .ok (.ifCond .ne 15, 3) := dk_154 0 15 (dk_at dksX0_lowest_1 21 rfl rfl)
theorem dX0_lowest_48 : decode cX0_lowest 48 = .ok (.aload_n 0, 1) := dk_42 (dk_at dksX0_lowest_2 0 rfl rfl)
theorem dX0_lowest_49 : decode cX0_lowest 49 = .ok (.getfield 93, 3) := dk_180 0 93 (dk_at dksX0_lowest_2 1 rfl rfl)
theorem dX0_lowest_52 : decode cX0_lowest 52 = .ok (.getfield 236, 3) := dk_180 0 236 (dk_at dksX0_lowest_2 4 rfl rfl)
theorem dX0_lowest_55 : decode cX0_lowest 55 = .ok (.iload_n 2, 1) := dk_28 (dk_at dksX0_lowest_2 7 rfl rfl)
theorem dX0_lowest_56 : decode cX0_lowest 56 = .ok (.iaload, 1) := dk_46 (dk_at dksX0_lowest_2 8 rfl rfl)
theorem dX0_lowest_57 : decode cX0_lowest 57 = .ok (.goto 5, 3) := dk_167 0 5 (dk_at dksX0_lowest_2 9 rfl rfl)
theorem dX0_lowest_60 : decode cX0_lowest 60 = .ok (.bipush 99, 2) := dk_16 99 (dk_at dksX0_lowest_2 12 rfl rfl)
theorem dX0_lowest_62 : decode cX0_lowest 62 = .ok (.istore_n 3, 1) := dk_62 (dk_at dksX0_lowest_2 14 rfl rfl)
theorem dX0_lowest_63 : decode cX0_lowest 63 = .ok (.iconst 0, 1) := dk_3 (dk_at dksX0_lowest_2 15 rfl rfl)
theorem dX0_lowest_64 : decode cX0_lowest 64 = .ok (.istore 4, 2) := dk_54 4 (dk_at dksX0_lowest_2 16 rfl rfl)
theorem dX0_lowest_66 : decode cX0_lowest 66 = .ok (.iload 4, 2) := dk_21 4 (dk_at dksX0_lowest_2 18 rfl rfl)
theorem dX0_lowest_68 : decode cX0_lowest 68 = .ok (.aload_n 0, 1) := dk_42 (dk_at dksX0_lowest_2 20 rfl rfl)
theorem dX0_lowest_69 : decode cX0_lowest 69 = .ok (.getfield 345, 3) := dk_180 1 89 (dk_at dksX0_lowest_2 21 rfl rfl)
theorem dX0_lowest_72 : decode cX0_lowest 72 = .ok (.if_icmp .ge 37, 3) := dk_162 0 37 (dk_at dksX0_lowest_3 0 rfl rfl)
theorem dX0_lowest_75 : decode cX0_lowest 75 = .ok (.aload_n 0, 1) := dk_42 (dk_at dksX0_lowest_3 3 rfl rfl)
theorem dX0_lowest_76 : decode cX0_lowest 76 = .ok (.getfield 93, 3) := dk_180 0 93 (dk_at dksX0_lowest_3 4 rfl rfl)
theorem dX0_lowest_79 : decode cX0_lowest 79 = .ok (.aload_n 0, 1) := dk_42 (dk_at dksX0_lowest_3 7 rfl rfl)
theorem dX0_lowest_80 : decode cX0_lowest 80 = .ok (.getfield 96, 3) := dk_180 0 96 (dk_at dksX0_lowest_3 8 rfl rfl)
theorem dX0_lowest_83 : decode cX0_lowest 83 = .ok (.iload 4, 2) := dk_21 4 (dk_at dksX0_lowest_3 11 rfl rfl)
theorem dX0_lowest_85 : decode cX0_lowest 85 = .ok (.iaload, 1) := dk_46 (dk_at dksX0_lowest_3 13 rfl rfl)
theorem dX0_lowest_86 : decode cX0_lowest 86 = .ok (.invokevirtual 362, 3) := dk_182 1 106 (dk_at dksX0_lowest_3 14 rfl rfl)
theorem dX0_lowest_89 : decode cX0_lowest 89 = .ok (.iload_n 3, 1) := dk_29 (dk_at dksX0_lowest_3 17 rfl rfl)
theorem dX0_lowest_90 : decode cX0_lowest 90 = .ok (.aload_n 0, 1) := dk_42 (dk_at dksX0_lowest_3 18 rfl rfl)
theorem dX0_lowest_91 : decode cX0_lowest 91 = .ok (.getfield 93, 3) := dk_180 0 93 (dk_at dksX0_lowest_3 19 rfl rfl)
theorem dX0_lowest_94 : decode cX0_lowest 94 = .ok (.getfield 236, 3) := dk_180 0 236 (dk_at dksX0_lowest_4 0 rfl rfl)
theorem dX0_lowest_97 : decode cX0_lowest 97 = .ok (.iload_n 2, 1) := dk_28 (dk_at dksX0_lowest_4 3 rfl rfl)
theorem dX0_lowest_98 : decode cX0_lowest 98 = .ok (.iaload, 1) := dk_46 (dk_at dksX0_lowest_4 4 rfl rfl)
theorem dX0_lowest_99 : decode cX0_lowest 99 = .ok (.invokestatic 333, 3) := dk_184 1 77 (dk_at dksX0_lowest_4 5 rfl rfl)
theorem dX0_lowest_102 : decode cX0_lowest 102 = .ok (.istore_n 3, 1) := dk_62 (dk_at dksX0_lowest_4 8 rfl rfl)
theorem dX0_lowest_103 : decode cX0_lowest 103 = .ok (.iinc 4 1, 3) := dk_132 4 1 (dk_at dksX0_lowest_4 9 rfl rfl)
theorem dX0_lowest_106 : decode cX0_lowest 106 = .ok (.goto (-40), 3) := dk_167 255 216 (dk_at dksX0_lowest_4 12 rfl rfl)
theorem dX0_lowest_109 : decode cX0_lowest 109 = .ok (.iload_n 3, 1) := dk_29 (dk_at dksX0_lowest_4 15 rfl rfl)
theorem dX0_lowest_110 : decode cX0_lowest 110 = .ok (.ireturn, 1) := dk_172 (dk_at dksX0_lowest_4 16 rfl rfl)
abbrev cX0_below : ByteArray := prog_1_method_43_code
def yX0_below : MethodName := ⟨RX0, "below", "(III)I"⟩
def dkwX0_below_4 : List UInt8 := [172, 132, 4, 1, 167, 255, 214, 16, 254, 172]
abbrev dktX0_below_4 : List UInt8 := dkwX0_below_4 ++ []
def dkwX0_below_3 : List UInt8 := [180, 0, 96, 21, 4, 46, 182, 1, 106, 42, 180, 0, 93, 180, 0, 236, 28, 46, 29, 162, 0, 6, 21, 4]
abbrev dktX0_below_3 : List UInt8 := dkwX0_below_3 ++ dktX0_below_4
def dkwX0_below_2 : List UInt8 := [180, 0, 89, 182, 1, 102, 3, 54, 4, 21, 4, 42, 180, 1, 89, 162, 0, 39, 42, 180, 0, 93, 42]
abbrev dktX0_below_2 : List UInt8 := dkwX0_below_2 ++ dktX0_below_3
def dkwX0_below_1 : List UInt8 := [154, 0, 5, 2, 172, 42, 27, 182, 1, 99, 156, 0, 9, 42, 27, 182, 1, 92, 172, 42, 180, 0, 93, 42]
abbrev dktX0_below_1 : List UInt8 := dkwX0_below_1 ++ dktX0_below_2
def dkwX0_below_0 : List UInt8 := [27, 184, 0, 194, 153, 0, 22, 28, 184, 0, 178, 153, 0, 15, 29, 133, 9, 20, 1, 109, 184, 0, 147]
abbrev dktX0_below_0 : List UInt8 := dkwX0_below_0 ++ dktX0_below_1
theorem dksX0_below_0 : cX0_below.data.toList.drop 0 = dktX0_below_0 := by decide +kernel
theorem dksX0_below_1 : cX0_below.data.toList.drop 23 = dktX0_below_1 := dk_seg dksX0_below_0 23 rfl rfl
theorem dksX0_below_2 : cX0_below.data.toList.drop 47 = dktX0_below_2 := dk_seg dksX0_below_1 24 rfl rfl
theorem dksX0_below_3 : cX0_below.data.toList.drop 70 = dktX0_below_3 := dk_seg dksX0_below_2 23 rfl rfl
theorem dksX0_below_4 : cX0_below.data.toList.drop 94 = dktX0_below_4 := dk_seg dksX0_below_3 24 rfl rfl
theorem dX0_below_0 : decode cX0_below 0 = .ok (.iload_n 1, 1) := dk_27 (dk_at dksX0_below_0 0 rfl rfl)
theorem dX0_below_1 : decode cX0_below 1 = .ok (.invokestatic 194, 3) := dk_184 0 194 (dk_at dksX0_below_0 1 rfl rfl)
theorem dX0_below_4 : decode cX0_below 4 = .ok (.ifCond .eq 22, 3) := dk_153 0 22 (dk_at dksX0_below_0 4 rfl rfl)
theorem dX0_below_7 : decode cX0_below 7 = .ok (.iload_n 2, 1) := dk_28 (dk_at dksX0_below_0 7 rfl rfl)
theorem dX0_below_8 : decode cX0_below 8 = .ok (.invokestatic 178, 3) := dk_184 0 178 (dk_at dksX0_below_0 8 rfl rfl)
theorem dX0_below_11 : decode cX0_below 11 = .ok (.ifCond .eq 15, 3) := dk_153 0 15 (dk_at dksX0_below_0 11 rfl rfl)
theorem dX0_below_14 : decode cX0_below 14 = .ok (.iload_n 3, 1) := dk_29 (dk_at dksX0_below_0 14 rfl rfl)
theorem dX0_below_15 : decode cX0_below 15 = .ok (.i2l, 1) := dk_133 (dk_at dksX0_below_0 15 rfl rfl)
theorem dX0_below_16 : decode cX0_below 16 = .ok (.lconst 0, 1) := dk_9 (dk_at dksX0_below_0 16 rfl rfl)
theorem dX0_below_17 : decode cX0_below 17 = .ok (.ldc2_w 365, 3) := dk_20 1 109 (dk_at dksX0_below_0 17 rfl rfl)
theorem dX0_below_20 : decode cX0_below 20 = .ok (.invokestatic 147, 3) := dk_184 0 147 (dk_at dksX0_below_0 20 rfl rfl)
theorem dX0_below_23 : decode cX0_below 23 = .ok (.ifCond .ne 5, 3) := dk_154 0 5 (dk_at dksX0_below_1 0 rfl rfl)
theorem dX0_below_26 : decode cX0_below 26 = .ok (.iconst (-1), 1) := dk_2 (dk_at dksX0_below_1 3 rfl rfl)
theorem dX0_below_27 : decode cX0_below 27 = .ok (.ireturn, 1) := dk_172 (dk_at dksX0_below_1 4 rfl rfl)
theorem dX0_below_28 : decode cX0_below 28 = .ok (.aload_n 0, 1) := dk_42 (dk_at dksX0_below_1 5 rfl rfl)
theorem dX0_below_29 : decode cX0_below 29 = .ok (.iload_n 1, 1) := dk_27 (dk_at dksX0_below_1 6 rfl rfl)
theorem dX0_below_30 : decode cX0_below 30 = .ok (.invokevirtual 355, 3) := dk_182 1 99 (dk_at dksX0_below_1 7 rfl rfl)
theorem dX0_below_33 : decode cX0_below 33 = .ok (.ifCond .ge 9, 3) := dk_156 0 9 (dk_at dksX0_below_1 10 rfl rfl)
theorem dX0_below_36 : decode cX0_below 36 = .ok (.aload_n 0, 1) := dk_42 (dk_at dksX0_below_1 13 rfl rfl)
theorem dX0_below_37 : decode cX0_below 37 = .ok (.iload_n 1, 1) := dk_27 (dk_at dksX0_below_1 14 rfl rfl)
theorem dX0_below_38 : decode cX0_below 38 = .ok (.invokevirtual 348, 3) := dk_182 1 92 (dk_at dksX0_below_1 15 rfl rfl)
theorem dX0_below_41 : decode cX0_below 41 = .ok (.ireturn, 1) := dk_172 (dk_at dksX0_below_1 18 rfl rfl)
theorem dX0_below_42 : decode cX0_below 42 = .ok (.aload_n 0, 1) := dk_42 (dk_at dksX0_below_1 19 rfl rfl)
theorem dX0_below_43 : decode cX0_below 43 = .ok (.getfield 93, 3) := dk_180 0 93 (dk_at dksX0_below_1 20 rfl rfl)
theorem dX0_below_46 : decode cX0_below 46 = .ok (.aload_n 0, 1) := dk_42 (dk_at dksX0_below_1 23 rfl rfl)
theorem dX0_below_47 : decode cX0_below 47 = .ok (.getfield 89, 3) := dk_180 0 89 (dk_at dksX0_below_2 0 rfl rfl)
theorem dX0_below_50 : decode cX0_below 50 = .ok (.invokevirtual 358, 3) := dk_182 1 102 (dk_at dksX0_below_2 3 rfl rfl)
theorem dX0_below_53 : decode cX0_below 53 = .ok (.iconst 0, 1) := dk_3 (dk_at dksX0_below_2 6 rfl rfl)
theorem dX0_below_54 : decode cX0_below 54 = .ok (.istore 4, 2) := dk_54 4 (dk_at dksX0_below_2 7 rfl rfl)
theorem dX0_below_56 : decode cX0_below 56 = .ok (.iload 4, 2) := dk_21 4 (dk_at dksX0_below_2 9 rfl rfl)
theorem dX0_below_58 : decode cX0_below 58 = .ok (.aload_n 0, 1) := dk_42 (dk_at dksX0_below_2 11 rfl rfl)
theorem dX0_below_59 : decode cX0_below 59 = .ok (.getfield 345, 3) := dk_180 1 89 (dk_at dksX0_below_2 12 rfl rfl)
theorem dX0_below_62 : decode cX0_below 62 = .ok (.if_icmp .ge 39, 3) := dk_162 0 39 (dk_at dksX0_below_2 15 rfl rfl)
theorem dX0_below_65 : decode cX0_below 65 = .ok (.aload_n 0, 1) := dk_42 (dk_at dksX0_below_2 18 rfl rfl)
theorem dX0_below_66 : decode cX0_below 66 = .ok (.getfield 93, 3) := dk_180 0 93 (dk_at dksX0_below_2 19 rfl rfl)
theorem dX0_below_69 : decode cX0_below 69 = .ok (.aload_n 0, 1) := dk_42 (dk_at dksX0_below_2 22 rfl rfl)
theorem dX0_below_70 : decode cX0_below 70 = .ok (.getfield 96, 3) := dk_180 0 96 (dk_at dksX0_below_3 0 rfl rfl)
theorem dX0_below_73 : decode cX0_below 73 = .ok (.iload 4, 2) := dk_21 4 (dk_at dksX0_below_3 3 rfl rfl)
theorem dX0_below_75 : decode cX0_below 75 = .ok (.iaload, 1) := dk_46 (dk_at dksX0_below_3 5 rfl rfl)
theorem dX0_below_76 : decode cX0_below 76 = .ok (.invokevirtual 362, 3) := dk_182 1 106 (dk_at dksX0_below_3 6 rfl rfl)
theorem dX0_below_79 : decode cX0_below 79 = .ok (.aload_n 0, 1) := dk_42 (dk_at dksX0_below_3 9 rfl rfl)
theorem dX0_below_80 : decode cX0_below 80 = .ok (.getfield 93, 3) := dk_180 0 93 (dk_at dksX0_below_3 10 rfl rfl)
theorem dX0_below_83 : decode cX0_below 83 = .ok (.getfield 236, 3) := dk_180 0 236 (dk_at dksX0_below_3 13 rfl rfl)
theorem dX0_below_86 : decode cX0_below 86 = .ok (.iload_n 2, 1) := dk_28 (dk_at dksX0_below_3 16 rfl rfl)
theorem dX0_below_87 : decode cX0_below 87 = .ok (.iaload, 1) := dk_46 (dk_at dksX0_below_3 17 rfl rfl)
theorem dX0_below_88 : decode cX0_below 88 = .ok (.iload_n 3, 1) := dk_29 (dk_at dksX0_below_3 18 rfl rfl)
theorem dX0_below_89 : decode cX0_below 89 = .ok (.if_icmp .ge 6, 3) := dk_162 0 6 (dk_at dksX0_below_3 19 rfl rfl)
theorem dX0_below_92 : decode cX0_below 92 = .ok (.iload 4, 2) := dk_21 4 (dk_at dksX0_below_3 22 rfl rfl)
theorem dX0_below_94 : decode cX0_below 94 = .ok (.ireturn, 1) := dk_172 (dk_at dksX0_below_4 0 rfl rfl)
theorem dX0_below_95 : decode cX0_below 95 = .ok (.iinc 4 1, 3) := dk_132 4 1 (dk_at dksX0_below_4 1 rfl rfl)
theorem dX0_below_98 : decode cX0_below 98 = .ok (.goto (-42), 3) := dk_167 255 214 (dk_at dksX0_below_4 4 rfl rfl)
theorem dX0_below_101 : decode cX0_below 101 = .ok (.bipush (-2), 2) := dk_16 254 (dk_at dksX0_below_4 7 rfl rfl)
theorem dX0_below_103 : decode cX0_below 103 = .ok (.ireturn, 1) := dk_172 (dk_at dksX0_below_4 9 rfl rfl)
abbrev cX0_loss : ByteArray := prog_1_method_45_code
def yX0_loss : MethodName := ⟨RX0, "loss", "(I)I"⟩
def dkwX0_loss_0 : List UInt8 := [42, 27, 182, 1, 99, 61, 28, 156, 0, 7, 28, 167, 0, 7, 42, 182, 1, 114, 172]
abbrev dktX0_loss_0 : List UInt8 := dkwX0_loss_0 ++ []
theorem dksX0_loss_0 : cX0_loss.data.toList.drop 0 = dktX0_loss_0 := by decide +kernel
theorem dX0_loss_0 : decode cX0_loss 0 = .ok (.aload_n 0, 1) := dk_42 (dk_at dksX0_loss_0 0 rfl rfl)
theorem dX0_loss_1 : decode cX0_loss 1 = .ok (.iload_n 1, 1) := dk_27 (dk_at dksX0_loss_0 1 rfl rfl)
theorem dX0_loss_2 : decode cX0_loss 2 = .ok (.invokevirtual 355, 3) := dk_182 1 99 (dk_at dksX0_loss_0 2 rfl rfl)
theorem dX0_loss_5 : decode cX0_loss 5 = .ok (.istore_n 2, 1) := dk_61 (dk_at dksX0_loss_0 5 rfl rfl)
theorem dX0_loss_6 : decode cX0_loss 6 = .ok (.iload_n 2, 1) := dk_28 (dk_at dksX0_loss_0 6 rfl rfl)
theorem dX0_loss_7 : decode cX0_loss 7 = .ok (.ifCond .ge 7, 3) := dk_156 0 7 (dk_at dksX0_loss_0 7 rfl rfl)
theorem dX0_loss_10 : decode cX0_loss 10 = .ok (.iload_n 2, 1) := dk_28 (dk_at dksX0_loss_0 10 rfl rfl)
theorem dX0_loss_11 : decode cX0_loss 11 = .ok (.goto 7, 3) := dk_167 0 7 (dk_at dksX0_loss_0 11 rfl rfl)
theorem dX0_loss_14 : decode cX0_loss 14 = .ok (.aload_n 0, 1) := dk_42 (dk_at dksX0_loss_0 14 rfl rfl)
theorem dX0_loss_15 : decode cX0_loss 15 = .ok (.invokevirtual 370, 3) := dk_182 1 114 (dk_at dksX0_loss_0 15 rfl rfl)
theorem dX0_loss_18 : decode cX0_loss 18 = .ok (.ireturn, 1) := dk_172 (dk_at dksX0_loss_0 18 rfl rfl)
abbrev cX0_lossOfRow : ByteArray := prog_1_method_44_code
def yX0_lossOfRow : MethodName := ⟨RX0, "lossOfRow", "()I"⟩
def dkwX0_lossOfRow_2 : List UInt8 := [132, 2, 1, 167, 255, 222, 27, 172]
abbrev dktX0_lossOfRow_2 : List UInt8 := dkwX0_lossOfRow_2 ++ []
def dkwX0_lossOfRow_1 : List UInt8 := [180, 0, 93, 42, 180, 0, 96, 28, 46, 182, 1, 106, 27, 42, 180, 0, 93, 182, 1, 111, 96, 60]
abbrev dktX0_lossOfRow_1 : List UInt8 := dkwX0_lossOfRow_1 ++ dktX0_lossOfRow_2
def dkwX0_lossOfRow_0 : List UInt8 := [42, 180, 0, 93, 42, 180, 0, 89, 182, 1, 102, 3, 60, 3, 61, 28, 42, 180, 1, 89, 162, 0, 32, 42]
abbrev dktX0_lossOfRow_0 : List UInt8 := dkwX0_lossOfRow_0 ++ dktX0_lossOfRow_1
theorem dksX0_lossOfRow_0 : cX0_lossOfRow.data.toList.drop 0 = dktX0_lossOfRow_0 := by decide +kernel
theorem dksX0_lossOfRow_1 : cX0_lossOfRow.data.toList.drop 24 = dktX0_lossOfRow_1 := dk_seg dksX0_lossOfRow_0 24 rfl rfl
theorem dksX0_lossOfRow_2 : cX0_lossOfRow.data.toList.drop 46 = dktX0_lossOfRow_2 := dk_seg dksX0_lossOfRow_1 22 rfl rfl
theorem dX0_lossOfRow_0 : decode cX0_lossOfRow 0 = .ok (.aload_n 0, 1) := dk_42 (dk_at dksX0_lossOfRow_0 0 rfl rfl)
theorem dX0_lossOfRow_1 : decode cX0_lossOfRow 1 = .ok (.getfield 93, 3) := dk_180 0 93 (dk_at dksX0_lossOfRow_0 1 rfl rfl)
theorem dX0_lossOfRow_4 : decode cX0_lossOfRow 4 = .ok (.aload_n 0, 1) := dk_42 (dk_at dksX0_lossOfRow_0 4 rfl rfl)
theorem dX0_lossOfRow_5 : decode cX0_lossOfRow 5 = .ok (.getfield 89, 3) := dk_180 0 89 (dk_at dksX0_lossOfRow_0 5 rfl rfl)
theorem dX0_lossOfRow_8 : decode cX0_lossOfRow 8 = .ok (.invokevirtual 358, 3) := dk_182 1 102 (dk_at dksX0_lossOfRow_0 8 rfl rfl)
theorem dX0_lossOfRow_11 : decode cX0_lossOfRow 11 = .ok (.iconst 0, 1) := dk_3 (dk_at dksX0_lossOfRow_0 11 rfl rfl)
theorem dX0_lossOfRow_12 : decode cX0_lossOfRow 12 = .ok (.istore_n 1, 1) := dk_60 (dk_at dksX0_lossOfRow_0 12 rfl rfl)
theorem dX0_lossOfRow_13 : decode cX0_lossOfRow 13 = .ok (.iconst 0, 1) := dk_3 (dk_at dksX0_lossOfRow_0 13 rfl rfl)
theorem dX0_lossOfRow_14 : decode cX0_lossOfRow 14 = .ok (.istore_n 2, 1) := dk_61 (dk_at dksX0_lossOfRow_0 14 rfl rfl)
theorem dX0_lossOfRow_15 : decode cX0_lossOfRow 15 = .ok (.iload_n 2, 1) := dk_28 (dk_at dksX0_lossOfRow_0 15 rfl rfl)
theorem dX0_lossOfRow_16 : decode cX0_lossOfRow 16 = .ok (.aload_n 0, 1) := dk_42 (dk_at dksX0_lossOfRow_0 16 rfl rfl)
theorem dX0_lossOfRow_17 : decode cX0_lossOfRow 17 = .ok (.getfield 345, 3) := dk_180 1 89 (dk_at dksX0_lossOfRow_0 17 rfl rfl)
theorem dX0_lossOfRow_20 : decode cX0_lossOfRow 20 = .ok (.if_icmp .ge 32, 3) := dk_162 0 32 (dk_at dksX0_lossOfRow_0 20 rfl rfl)
theorem dX0_lossOfRow_23 : decode cX0_lossOfRow 23 = .ok (.aload_n 0, 1) := dk_42 (dk_at dksX0_lossOfRow_0 23 rfl rfl)
theorem dX0_lossOfRow_24 : decode cX0_lossOfRow 24 = .ok (.getfield 93, 3) := dk_180 0 93 (dk_at dksX0_lossOfRow_1 0 rfl rfl)
theorem dX0_lossOfRow_27 : decode cX0_lossOfRow 27 = .ok (.aload_n 0, 1) := dk_42 (dk_at dksX0_lossOfRow_1 3 rfl rfl)
theorem dX0_lossOfRow_28 : decode cX0_lossOfRow 28 = .ok (.getfield 96, 3) := dk_180 0 96 (dk_at dksX0_lossOfRow_1 4 rfl rfl)
theorem dX0_lossOfRow_31 : decode cX0_lossOfRow 31 = .ok (.iload_n 2, 1) := dk_28 (dk_at dksX0_lossOfRow_1 7 rfl rfl)
theorem dX0_lossOfRow_32 : decode cX0_lossOfRow 32 = .ok (.iaload, 1) := dk_46 (dk_at dksX0_lossOfRow_1 8 rfl rfl)
theorem dX0_lossOfRow_33 : decode cX0_lossOfRow 33 = .ok (.invokevirtual 362, 3) := dk_182 1 106 (dk_at dksX0_lossOfRow_1 9 rfl rfl)
theorem dX0_lossOfRow_36 : decode cX0_lossOfRow 36 = .ok (.iload_n 1, 1) := dk_27 (dk_at dksX0_lossOfRow_1 12 rfl rfl)
theorem dX0_lossOfRow_37 : decode cX0_lossOfRow 37 = .ok (.aload_n 0, 1) := dk_42 (dk_at dksX0_lossOfRow_1 13 rfl rfl)
theorem dX0_lossOfRow_38 : decode cX0_lossOfRow 38 = .ok (.getfield 93, 3) := dk_180 0 93 (dk_at dksX0_lossOfRow_1 14 rfl rfl)
theorem dX0_lossOfRow_41 : decode cX0_lossOfRow 41 = .ok (.invokevirtual 367, 3) := dk_182 1 111 (dk_at dksX0_lossOfRow_1 17 rfl rfl)
theorem dX0_lossOfRow_44 : decode cX0_lossOfRow 44 = .ok (.iadd, 1) := dk_96 (dk_at dksX0_lossOfRow_1 20 rfl rfl)
theorem dX0_lossOfRow_45 : decode cX0_lossOfRow 45 = .ok (.istore_n 1, 1) := dk_60 (dk_at dksX0_lossOfRow_1 21 rfl rfl)
theorem dX0_lossOfRow_46 : decode cX0_lossOfRow 46 = .ok (.iinc 2 1, 3) := dk_132 2 1 (dk_at dksX0_lossOfRow_2 0 rfl rfl)
theorem dX0_lossOfRow_49 : decode cX0_lossOfRow 49 = .ok (.goto (-34), 3) := dk_167 255 222 (dk_at dksX0_lossOfRow_2 3 rfl rfl)
theorem dX0_lossOfRow_52 : decode cX0_lossOfRow 52 = .ok (.iload_n 1, 1) := dk_27 (dk_at dksX0_lossOfRow_2 6 rfl rfl)
theorem dX0_lossOfRow_53 : decode cX0_lossOfRow 53 = .ok (.ireturn, 1) := dk_172 (dk_at dksX0_lossOfRow_2 7 rfl rfl)
abbrev cX0_rest : ByteArray := prog_1_method_49_code
def yX0_rest : MethodName := ⟨RX0, "rest", "(II)I"⟩
def dkwX0_rest_3 : List UInt8 := [180, 0, 99, 42, 180, 1, 123, 16, 37, 104, 5, 28, 5, 100, 104, 96, 46, 172]
abbrev dktX0_rest_3 : List UInt8 := dkwX0_rest_3 ++ []
def dkwX0_rest_2 : List UInt8 := [154, 0, 10, 42, 180, 1, 123, 167, 0, 33, 28, 4, 160, 0, 10, 42, 180, 1, 126, 167, 0, 21, 42]
abbrev dktX0_rest_2 : List UInt8 := dkwX0_rest_2 ++ dktX0_rest_3
def dkwX0_rest_1 : List UInt8 := [182, 1, 99, 156, 0, 9, 42, 27, 182, 1, 92, 172, 42, 182, 1, 131, 154, 0, 6, 16, 254, 172, 28]
abbrev dktX0_rest_1 : List UInt8 := dkwX0_rest_1 ++ dktX0_rest_2
def dkwX0_rest_0 : List UInt8 := [27, 184, 0, 194, 153, 0, 15, 28, 133, 9, 20, 1, 129, 184, 0, 147, 154, 0, 5, 2, 172, 42, 27]
abbrev dktX0_rest_0 : List UInt8 := dkwX0_rest_0 ++ dktX0_rest_1
theorem dksX0_rest_0 : cX0_rest.data.toList.drop 0 = dktX0_rest_0 := by decide +kernel
theorem dksX0_rest_1 : cX0_rest.data.toList.drop 23 = dktX0_rest_1 := dk_seg dksX0_rest_0 23 rfl rfl
theorem dksX0_rest_2 : cX0_rest.data.toList.drop 46 = dktX0_rest_2 := dk_seg dksX0_rest_1 23 rfl rfl
theorem dksX0_rest_3 : cX0_rest.data.toList.drop 69 = dktX0_rest_3 := dk_seg dksX0_rest_2 23 rfl rfl
theorem dX0_rest_0 : decode cX0_rest 0 = .ok (.iload_n 1, 1) := dk_27 (dk_at dksX0_rest_0 0 rfl rfl)
theorem dX0_rest_1 : decode cX0_rest 1 = .ok (.invokestatic 194, 3) := dk_184 0 194 (dk_at dksX0_rest_0 1 rfl rfl)
theorem dX0_rest_4 : decode cX0_rest 4 = .ok (.ifCond .eq 15, 3) := dk_153 0 15 (dk_at dksX0_rest_0 4 rfl rfl)
theorem dX0_rest_7 : decode cX0_rest 7 = .ok (.iload_n 2, 1) := dk_28 (dk_at dksX0_rest_0 7 rfl rfl)
theorem dX0_rest_8 : decode cX0_rest 8 = .ok (.i2l, 1) := dk_133 (dk_at dksX0_rest_0 8 rfl rfl)
theorem dX0_rest_9 : decode cX0_rest 9 = .ok (.lconst 0, 1) := dk_9 (dk_at dksX0_rest_0 9 rfl rfl)
theorem dX0_rest_10 : decode cX0_rest 10 = .ok (.ldc2_w 385, 3) := dk_20 1 129 (dk_at dksX0_rest_0 10 rfl rfl)
theorem dX0_rest_13 : decode cX0_rest 13 = .ok (.invokestatic 147, 3) := dk_184 0 147 (dk_at dksX0_rest_0 13 rfl rfl)
theorem dX0_rest_16 : decode cX0_rest 16 = .ok (.ifCond .ne 5, 3) := dk_154 0 5 (dk_at dksX0_rest_0 16 rfl rfl)
theorem dX0_rest_19 : decode cX0_rest 19 = .ok (.iconst (-1), 1) := dk_2 (dk_at dksX0_rest_0 19 rfl rfl)
theorem dX0_rest_20 : decode cX0_rest 20 = .ok (.ireturn, 1) := dk_172 (dk_at dksX0_rest_0 20 rfl rfl)
theorem dX0_rest_21 : decode cX0_rest 21 = .ok (.aload_n 0, 1) := dk_42 (dk_at dksX0_rest_0 21 rfl rfl)
theorem dX0_rest_22 : decode cX0_rest 22 = .ok (.iload_n 1, 1) := dk_27 (dk_at dksX0_rest_0 22 rfl rfl)
theorem dX0_rest_23 : decode cX0_rest 23 = .ok (.invokevirtual 355, 3) := dk_182 1 99 (dk_at dksX0_rest_1 0 rfl rfl)
theorem dX0_rest_26 : decode cX0_rest 26 = .ok (.ifCond .ge 9, 3) := dk_156 0 9 (dk_at dksX0_rest_1 3 rfl rfl)
theorem dX0_rest_29 : decode cX0_rest 29 = .ok (.aload_n 0, 1) := dk_42 (dk_at dksX0_rest_1 6 rfl rfl)
theorem dX0_rest_30 : decode cX0_rest 30 = .ok (.iload_n 1, 1) := dk_27 (dk_at dksX0_rest_1 7 rfl rfl)
theorem dX0_rest_31 : decode cX0_rest 31 = .ok (.invokevirtual 348, 3) := dk_182 1 92 (dk_at dksX0_rest_1 8 rfl rfl)
theorem dX0_rest_34 : decode cX0_rest 34 = .ok (.ireturn, 1) := dk_172 (dk_at dksX0_rest_1 11 rfl rfl)
theorem dX0_rest_35 : decode cX0_rest 35 = .ok (.aload_n 0, 1) := dk_42 (dk_at dksX0_rest_1 12 rfl rfl)
theorem dX0_rest_36 : decode cX0_rest 36 = .ok (.invokevirtual 387, 3) := dk_182 1 131 (dk_at dksX0_rest_1 13 rfl rfl)
theorem dX0_rest_39 : decode cX0_rest 39 = .ok (.ifCond .ne 6, 3) := dk_154 0 6 (dk_at dksX0_rest_1 16 rfl rfl)
theorem dX0_rest_42 : decode cX0_rest 42 = .ok (.bipush (-2), 2) := dk_16 254 (dk_at dksX0_rest_1 19 rfl rfl)
theorem dX0_rest_44 : decode cX0_rest 44 = .ok (.ireturn, 1) := dk_172 (dk_at dksX0_rest_1 21 rfl rfl)
theorem dX0_rest_45 : decode cX0_rest 45 = .ok (.iload_n 2, 1) := dk_28 (dk_at dksX0_rest_1 22 rfl rfl)
theorem dX0_rest_46 : decode cX0_rest 46 = .ok (.ifCond .ne 10, 3) := dk_154 0 10 (dk_at dksX0_rest_2 0 rfl rfl)
theorem dX0_rest_49 : decode cX0_rest 49 = .ok (.aload_n 0, 1) := dk_42 (dk_at dksX0_rest_2 3 rfl rfl)
theorem dX0_rest_50 : decode cX0_rest 50 = .ok (.getfield 379, 3) := dk_180 1 123 (dk_at dksX0_rest_2 4 rfl rfl)
theorem dX0_rest_53 : decode cX0_rest 53 = .ok (.goto 33, 3) := dk_167 0 33 (dk_at dksX0_rest_2 7 rfl rfl)
theorem dX0_rest_56 : decode cX0_rest 56 = .ok (.iload_n 2, 1) := dk_28 (dk_at dksX0_rest_2 10 rfl rfl)
theorem dX0_rest_57 : decode cX0_rest 57 = .ok (.iconst 1, 1) := dk_4 (dk_at dksX0_rest_2 11 rfl rfl)
theorem dX0_rest_58 : decode cX0_rest 58 = .ok (.if_icmp .ne 10, 3) := dk_160 0 10 (dk_at dksX0_rest_2 12 rfl rfl)
theorem dX0_rest_61 : decode cX0_rest 61 = .ok (.aload_n 0, 1) := dk_42 (dk_at dksX0_rest_2 15 rfl rfl)
theorem dX0_rest_62 : decode cX0_rest 62 = .ok (.getfield 382, 3) := dk_180 1 126 (dk_at dksX0_rest_2 16 rfl rfl)
theorem dX0_rest_65 : decode cX0_rest 65 = .ok (.goto 21, 3) := dk_167 0 21 (dk_at dksX0_rest_2 19 rfl rfl)
theorem dX0_rest_68 : decode cX0_rest 68 = .ok (.aload_n 0, 1) := dk_42 (dk_at dksX0_rest_2 22 rfl rfl)
theorem dX0_rest_69 : decode cX0_rest 69 = .ok (.getfield 99, 3) := dk_180 0 99 (dk_at dksX0_rest_3 0 rfl rfl)
theorem dX0_rest_72 : decode cX0_rest 72 = .ok (.aload_n 0, 1) := dk_42 (dk_at dksX0_rest_3 3 rfl rfl)
theorem dX0_rest_73 : decode cX0_rest 73 = .ok (.getfield 379, 3) := dk_180 1 123 (dk_at dksX0_rest_3 4 rfl rfl)
theorem dX0_rest_76 : decode cX0_rest 76 = .ok (.bipush 37, 2) := dk_16 37 (dk_at dksX0_rest_3 7 rfl rfl)
theorem dX0_rest_78 : decode cX0_rest 78 = .ok (.imul, 1) := dk_104 (dk_at dksX0_rest_3 9 rfl rfl)
theorem dX0_rest_79 : decode cX0_rest 79 = .ok (.iconst 2, 1) := dk_5 (dk_at dksX0_rest_3 10 rfl rfl)
theorem dX0_rest_80 : decode cX0_rest 80 = .ok (.iload_n 2, 1) := dk_28 (dk_at dksX0_rest_3 11 rfl rfl)
theorem dX0_rest_81 : decode cX0_rest 81 = .ok (.iconst 2, 1) := dk_5 (dk_at dksX0_rest_3 12 rfl rfl)
theorem dX0_rest_82 : decode cX0_rest 82 = .ok (.isub, 1) := dk_100 (dk_at dksX0_rest_3 13 rfl rfl)
theorem dX0_rest_83 : decode cX0_rest 83 = .ok (.imul, 1) := dk_104 (dk_at dksX0_rest_3 14 rfl rfl)
theorem dX0_rest_84 : decode cX0_rest 84 = .ok (.iadd, 1) := dk_96 (dk_at dksX0_rest_3 15 rfl rfl)
theorem dX0_rest_85 : decode cX0_rest 85 = .ok (.iaload, 1) := dk_46 (dk_at dksX0_rest_3 16 rfl rfl)
theorem dX0_rest_86 : decode cX0_rest 86 = .ok (.ireturn, 1) := dk_172 (dk_at dksX0_rest_3 17 rfl rfl)
abbrev cX0_findRest : ByteArray := prog_1_method_48_code
def yX0_findRest : MethodName := ⟨RX0, "findRest", "()Z"⟩
def dkwX0_findRest_4 : List UInt8 := [132, 2, 1, 167, 255, 222, 132, 1, 1, 167, 255, 173, 3, 172]
abbrev dktX0_findRest_4 : List UInt8 := dkwX0_findRest_4 ++ []
def dkwX0_findRest_3 : List UInt8 := [182, 1, 120, 154, 0, 6, 167, 0, 17, 42, 28, 181, 1, 123, 42, 27, 28, 100, 181, 1, 126, 4, 172]
abbrev dktX0_findRest_3 : List UInt8 := dkwX0_findRest_3 ++ dktX0_findRest_4
def dkwX0_findRest_2 : List UInt8 := [182, 1, 106, 132, 2, 1, 167, 255, 232, 42, 27, 182, 1, 117, 3, 61, 28, 27, 162, 0, 35, 42, 28, 27]
abbrev dktX0_findRest_2 : List UInt8 := dkwX0_findRest_2 ++ dktX0_findRest_3
def dkwX0_findRest_1 : List UInt8 := [163, 0, 82, 3, 61, 28, 42, 180, 1, 89, 162, 0, 22, 42, 180, 0, 93, 42, 180, 0, 96, 28, 46]
abbrev dktX0_findRest_1 : List UInt8 := dkwX0_findRest_1 ++ dktX0_findRest_2
def dkwX0_findRest_0 : List UInt8 := [42, 180, 0, 93, 42, 180, 0, 89, 182, 1, 102, 42, 3, 182, 1, 117, 4, 60, 27, 17, 0, 200]
abbrev dktX0_findRest_0 : List UInt8 := dkwX0_findRest_0 ++ dktX0_findRest_1
theorem dksX0_findRest_0 : cX0_findRest.data.toList.drop 0 = dktX0_findRest_0 := by decide +kernel
theorem dksX0_findRest_1 : cX0_findRest.data.toList.drop 22 = dktX0_findRest_1 := dk_seg dksX0_findRest_0 22 rfl rfl
theorem dksX0_findRest_2 : cX0_findRest.data.toList.drop 45 = dktX0_findRest_2 := dk_seg dksX0_findRest_1 23 rfl rfl
theorem dksX0_findRest_3 : cX0_findRest.data.toList.drop 69 = dktX0_findRest_3 := dk_seg dksX0_findRest_2 24 rfl rfl
theorem dksX0_findRest_4 : cX0_findRest.data.toList.drop 92 = dktX0_findRest_4 := dk_seg dksX0_findRest_3 23 rfl rfl
theorem dX0_findRest_0 : decode cX0_findRest 0 = .ok (.aload_n 0, 1) := dk_42 (dk_at dksX0_findRest_0 0 rfl rfl)
theorem dX0_findRest_1 : decode cX0_findRest 1 = .ok (.getfield 93, 3) := dk_180 0 93 (dk_at dksX0_findRest_0 1 rfl rfl)
theorem dX0_findRest_4 : decode cX0_findRest 4 = .ok (.aload_n 0, 1) := dk_42 (dk_at dksX0_findRest_0 4 rfl rfl)
theorem dX0_findRest_5 : decode cX0_findRest 5 = .ok (.getfield 89, 3) := dk_180 0 89 (dk_at dksX0_findRest_0 5 rfl rfl)
theorem dX0_findRest_8 : decode cX0_findRest 8 = .ok (.invokevirtual 358, 3) := dk_182 1 102 (dk_at dksX0_findRest_0 8 rfl rfl)
theorem dX0_findRest_11 : decode cX0_findRest 11 = .ok (.aload_n 0, 1) := dk_42 (dk_at dksX0_findRest_0 11 rfl rfl)
theorem dX0_findRest_12 : decode cX0_findRest 12 = .ok (.iconst 0, 1) := dk_3 (dk_at dksX0_findRest_0 12 rfl rfl)
theorem dX0_findRest_13 : decode cX0_findRest 13 = .ok (.invokevirtual 373, 3) := dk_182 1 117 (dk_at dksX0_findRest_0 13 rfl rfl)
theorem dX0_findRest_16 : decode cX0_findRest 16 = .ok (.iconst 1, 1) := dk_4 (dk_at dksX0_findRest_0 16 rfl rfl)
theorem dX0_findRest_17 : decode cX0_findRest 17 = .ok (.istore_n 1, 1) := dk_60 (dk_at dksX0_findRest_0 17 rfl rfl)
theorem dX0_findRest_18 : decode cX0_findRest 18 = .ok (.iload_n 1, 1) := dk_27 (dk_at dksX0_findRest_0 18 rfl rfl)
theorem dX0_findRest_19 : decode cX0_findRest 19 = .ok (.sipush 200, 3) := dk_17 0 200 (dk_at dksX0_findRest_0 19 rfl rfl)
theorem dX0_findRest_22 : decode cX0_findRest 22 = .ok (.if_icmp .gt 82, 3) := dk_163 0 82 (dk_at dksX0_findRest_1 0 rfl rfl)
theorem dX0_findRest_25 : decode cX0_findRest 25 = .ok (.iconst 0, 1) := dk_3 (dk_at dksX0_findRest_1 3 rfl rfl)
theorem dX0_findRest_26 : decode cX0_findRest 26 = .ok (.istore_n 2, 1) := dk_61 (dk_at dksX0_findRest_1 4 rfl rfl)
theorem dX0_findRest_27 : decode cX0_findRest 27 = .ok (.iload_n 2, 1) := dk_28 (dk_at dksX0_findRest_1 5 rfl rfl)
theorem dX0_findRest_28 : decode cX0_findRest 28 = .ok (.aload_n 0, 1) := dk_42 (dk_at dksX0_findRest_1 6 rfl rfl)
theorem dX0_findRest_29 : decode cX0_findRest 29 = .ok (.getfield 345, 3) := dk_180 1 89 (dk_at dksX0_findRest_1 7 rfl rfl)
theorem dX0_findRest_32 : decode cX0_findRest 32 = .ok (.if_icmp .ge 22, 3) := dk_162 0 22 (dk_at dksX0_findRest_1 10 rfl rfl)
theorem dX0_findRest_35 : decode cX0_findRest 35 = .ok (.aload_n 0, 1) := dk_42 (dk_at dksX0_findRest_1 13 rfl rfl)
theorem dX0_findRest_36 : decode cX0_findRest 36 = .ok (.getfield 93, 3) := dk_180 0 93 (dk_at dksX0_findRest_1 14 rfl rfl)
theorem dX0_findRest_39 : decode cX0_findRest 39 = .ok (.aload_n 0, 1) := dk_42 (dk_at dksX0_findRest_1 17 rfl rfl)
theorem dX0_findRest_40 : decode cX0_findRest 40 = .ok (.getfield 96, 3) := dk_180 0 96 (dk_at dksX0_findRest_1 18 rfl rfl)
theorem dX0_findRest_43 : decode cX0_findRest 43 = .ok (.iload_n 2, 1) := dk_28 (dk_at dksX0_findRest_1 21 rfl rfl)
theorem dX0_findRest_44 : decode cX0_findRest 44 = .ok (.iaload, 1) := dk_46 (dk_at dksX0_findRest_1 22 rfl rfl)
theorem dX0_findRest_45 : decode cX0_findRest 45 = .ok (.invokevirtual 362, 3) := dk_182 1 106 (dk_at dksX0_findRest_2 0 rfl rfl)
theorem dX0_findRest_48 : decode cX0_findRest 48 = .ok (.iinc 2 1, 3) := dk_132 2 1 (dk_at dksX0_findRest_2 3 rfl rfl)
theorem dX0_findRest_51 : decode cX0_findRest 51 = .ok (.goto (-24), 3) := dk_167 255 232 (dk_at dksX0_findRest_2 6 rfl rfl)
theorem dX0_findRest_54 : decode cX0_findRest 54 = .ok (.aload_n 0, 1) := dk_42 (dk_at dksX0_findRest_2 9 rfl rfl)
theorem dX0_findRest_55 : decode cX0_findRest 55 = .ok (.iload_n 1, 1) := dk_27 (dk_at dksX0_findRest_2 10 rfl rfl)
theorem dX0_findRest_56 : decode cX0_findRest 56 = .ok (.invokevirtual 373, 3) := dk_182 1 117 (dk_at dksX0_findRest_2 11 rfl rfl)
theorem dX0_findRest_59 : decode cX0_findRest 59 = .ok (.iconst 0, 1) := dk_3 (dk_at dksX0_findRest_2 14 rfl rfl)
theorem dX0_findRest_60 : decode cX0_findRest 60 = .ok (.istore_n 2, 1) := dk_61 (dk_at dksX0_findRest_2 15 rfl rfl)
theorem dX0_findRest_61 : decode cX0_findRest 61 = .ok (.iload_n 2, 1) := dk_28 (dk_at dksX0_findRest_2 16 rfl rfl)
theorem dX0_findRest_62 : decode cX0_findRest 62 = .ok (.iload_n 1, 1) := dk_27 (dk_at dksX0_findRest_2 17 rfl rfl)
theorem dX0_findRest_63 : decode cX0_findRest 63 = .ok (.if_icmp .ge 35, 3) := dk_162 0 35 (dk_at dksX0_findRest_2 18 rfl rfl)
theorem dX0_findRest_66 : decode cX0_findRest 66 = .ok (.aload_n 0, 1) := dk_42 (dk_at dksX0_findRest_2 21 rfl rfl)
theorem dX0_findRest_67 : decode cX0_findRest 67 = .ok (.iload_n 2, 1) := dk_28 (dk_at dksX0_findRest_2 22 rfl rfl)
theorem dX0_findRest_68 : decode cX0_findRest 68 = .ok (.iload_n 1, 1) := dk_27 (dk_at dksX0_findRest_2 23 rfl rfl)
theorem dX0_findRest_69 : decode cX0_findRest 69 = .ok (.invokevirtual 376, 3) := dk_182 1 120 (dk_at dksX0_findRest_3 0 rfl rfl)
theorem dX0_findRest_72 : decode cX0_findRest 72 = .ok (.ifCond .ne 6, 3) := dk_154 0 6 (dk_at dksX0_findRest_3 3 rfl rfl)
theorem dX0_findRest_75 : decode cX0_findRest 75 = .ok (.goto 17, 3) := dk_167 0 17 (dk_at dksX0_findRest_3 6 rfl rfl)
theorem dX0_findRest_78 : decode cX0_findRest 78 = .ok (.aload_n 0, 1) := dk_42 (dk_at dksX0_findRest_3 9 rfl rfl)
theorem dX0_findRest_79 : decode cX0_findRest 79 = .ok (.iload_n 2, 1) := dk_28 (dk_at dksX0_findRest_3 10 rfl rfl)
theorem dX0_findRest_80 : decode cX0_findRest 80 = .ok (.putfield 379, 3) := dk_181 1 123 (dk_at dksX0_findRest_3 11 rfl rfl)
theorem dX0_findRest_83 : decode cX0_findRest 83 = .ok (.aload_n 0, 1) := dk_42 (dk_at dksX0_findRest_3 14 rfl rfl)
theorem dX0_findRest_84 : decode cX0_findRest 84 = .ok (.iload_n 1, 1) := dk_27 (dk_at dksX0_findRest_3 15 rfl rfl)
theorem dX0_findRest_85 : decode cX0_findRest 85 = .ok (.iload_n 2, 1) := dk_28 (dk_at dksX0_findRest_3 16 rfl rfl)
theorem dX0_findRest_86 : decode cX0_findRest 86 = .ok (.isub, 1) := dk_100 (dk_at dksX0_findRest_3 17 rfl rfl)
theorem dX0_findRest_87 : decode cX0_findRest 87 = .ok (.putfield 382, 3) := dk_181 1 126 (dk_at dksX0_findRest_3 18 rfl rfl)
theorem dX0_findRest_90 : decode cX0_findRest 90 = .ok (.iconst 1, 1) := dk_4 (dk_at dksX0_findRest_3 21 rfl rfl)
theorem dX0_findRest_91 : decode cX0_findRest 91 = .ok (.ireturn, 1) := dk_172 (dk_at dksX0_findRest_3 22 rfl rfl)
theorem dX0_findRest_92 : decode cX0_findRest 92 = .ok (.iinc 2 1, 3) := dk_132 2 1 (dk_at dksX0_findRest_4 0 rfl rfl)
theorem dX0_findRest_95 : decode cX0_findRest 95 = .ok (.goto (-34), 3) := dk_167 255 222 (dk_at dksX0_findRest_4 3 rfl rfl)
theorem dX0_findRest_98 : decode cX0_findRest 98 = .ok (.iinc 1 1, 3) := dk_132 1 1 (dk_at dksX0_findRest_4 6 rfl rfl)
theorem dX0_findRest_101 : decode cX0_findRest 101 = .ok (.goto (-83), 3) := dk_167 255 173 (dk_at dksX0_findRest_4 9 rfl rfl)
theorem dX0_findRest_104 : decode cX0_findRest 104 = .ok (.iconst 0, 1) := dk_3 (dk_at dksX0_findRest_4 12 rfl rfl)
theorem dX0_findRest_105 : decode cX0_findRest 105 = .ok (.ireturn, 1) := dk_172 (dk_at dksX0_findRest_4 13 rfl rfl)
abbrev cX0_keepState : ByteArray := prog_1_method_46_code
def yX0_keepState : MethodName := ⟨RX0, "keepState", "(I)V"⟩
def dkwX0_keepState_5 : List UInt8 := [79, 177]
abbrev dktX0_keepState_5 : List UInt8 := dkwX0_keepState_5 ++ []
def dkwX0_keepState_4 : List UInt8 := [167, 0, 5, 16, 254, 79, 132, 3, 1, 167, 255, 208, 42, 180, 0, 99, 28, 42, 180, 0, 93, 180, 0, 242]
abbrev dktX0_keepState_4 : List UInt8 := dkwX0_keepState_4 ++ dktX0_keepState_5
def dkwX0_keepState_3 : List UInt8 := [180, 0, 93, 180, 0, 242, 29, 7, 108, 184, 0, 245, 153, 0, 15, 42, 180, 0, 93, 180, 0, 249, 29, 46]
abbrev dktX0_keepState_3 : List UInt8 := dkwX0_keepState_3 ++ dktX0_keepState_4
def dkwX0_keepState_2 : List UInt8 := [132, 3, 1, 167, 255, 212, 3, 62, 29, 16, 28, 162, 0, 48, 42, 180, 0, 99, 28, 132, 2, 1, 42]
abbrev dktX0_keepState_2 : List UInt8 := dkwX0_keepState_2 ++ dktX0_keepState_3
def dkwX0_keepState_1 : List UInt8 := [180, 0, 236, 29, 46, 79, 42, 180, 0, 99, 28, 132, 2, 1, 42, 180, 0, 93, 180, 0, 239, 29, 46, 79]
abbrev dktX0_keepState_1 : List UInt8 := dkwX0_keepState_1 ++ dktX0_keepState_2
def dkwX0_keepState_0 : List UInt8 := [27, 16, 37, 104, 61, 3, 62, 29, 7, 162, 0, 45, 42, 180, 0, 99, 28, 132, 2, 1, 42, 180, 0, 93]
abbrev dktX0_keepState_0 : List UInt8 := dkwX0_keepState_0 ++ dktX0_keepState_1
theorem dksX0_keepState_0 : cX0_keepState.data.toList.drop 0 = dktX0_keepState_0 := by decide +kernel
theorem dksX0_keepState_1 : cX0_keepState.data.toList.drop 24 = dktX0_keepState_1 := dk_seg dksX0_keepState_0 24 rfl rfl
theorem dksX0_keepState_2 : cX0_keepState.data.toList.drop 48 = dktX0_keepState_2 := dk_seg dksX0_keepState_1 24 rfl rfl
theorem dksX0_keepState_3 : cX0_keepState.data.toList.drop 71 = dktX0_keepState_3 := dk_seg dksX0_keepState_2 23 rfl rfl
theorem dksX0_keepState_4 : cX0_keepState.data.toList.drop 95 = dktX0_keepState_4 := dk_seg dksX0_keepState_3 24 rfl rfl
theorem dksX0_keepState_5 : cX0_keepState.data.toList.drop 119 = dktX0_keepState_5 := dk_seg dksX0_keepState_4 24 rfl rfl
theorem dX0_keepState_0 : decode cX0_keepState 0 = .ok (.iload_n 1, 1) := dk_27 (dk_at dksX0_keepState_0 0 rfl rfl)
theorem dX0_keepState_1 : decode cX0_keepState 1 = .ok (.bipush 37, 2) := dk_16 37 (dk_at dksX0_keepState_0 1 rfl rfl)
theorem dX0_keepState_3 : decode cX0_keepState 3 = .ok (.imul, 1) := dk_104 (dk_at dksX0_keepState_0 3 rfl rfl)
theorem dX0_keepState_4 : decode cX0_keepState 4 = .ok (.istore_n 2, 1) := dk_61 (dk_at dksX0_keepState_0 4 rfl rfl)
theorem dX0_keepState_5 : decode cX0_keepState 5 = .ok (.iconst 0, 1) := dk_3 (dk_at dksX0_keepState_0 5 rfl rfl)
theorem dX0_keepState_6 : decode cX0_keepState 6 = .ok (.istore_n 3, 1) := dk_62 (dk_at dksX0_keepState_0 6 rfl rfl)
theorem dX0_keepState_7 : decode cX0_keepState 7 = .ok (.iload_n 3, 1) := dk_29 (dk_at dksX0_keepState_0 7 rfl rfl)
theorem dX0_keepState_8 : decode cX0_keepState 8 = .ok (.iconst 4, 1) := dk_7 (dk_at dksX0_keepState_0 8 rfl rfl)
theorem dX0_keepState_9 : decode cX0_keepState 9 = .ok (.if_icmp .ge 45, 3) := dk_162 0 45 (dk_at dksX0_keepState_0 9 rfl rfl)
theorem dX0_keepState_12 : decode cX0_keepState 12 = .ok (.aload_n 0, 1) := dk_42 (dk_at dksX0_keepState_0 12 rfl rfl)
theorem dX0_keepState_13 : decode cX0_keepState 13 = .ok (.getfield 99, 3) := dk_180 0 99 (dk_at dksX0_keepState_0 13 rfl rfl)
theorem dX0_keepState_16 : decode cX0_keepState 16 = .ok (.iload_n 2, 1) := dk_28 (dk_at dksX0_keepState_0 16 rfl rfl)
theorem dX0_keepState_17 : decode cX0_keepState 17 = .ok (.iinc 2 1, 3) := dk_132 2 1 (dk_at dksX0_keepState_0 17 rfl rfl)
theorem dX0_keepState_20 : decode cX0_keepState 20 = .ok (.aload_n 0, 1) := dk_42 (dk_at dksX0_keepState_0 20 rfl rfl)
theorem dX0_keepState_21 : decode cX0_keepState 21 = .ok (.getfield 93, 3) := dk_180 0 93 (dk_at dksX0_keepState_0 21 rfl rfl)
theorem dX0_keepState_24 : decode cX0_keepState 24 = .ok (.getfield 236, 3) := dk_180 0 236 (dk_at dksX0_keepState_1 0 rfl rfl)
theorem dX0_keepState_27 : decode cX0_keepState 27 = .ok (.iload_n 3, 1) := dk_29 (dk_at dksX0_keepState_1 3 rfl rfl)
theorem dX0_keepState_28 : decode cX0_keepState 28 = .ok (.iaload, 1) := dk_46 (dk_at dksX0_keepState_1 4 rfl rfl)
theorem dX0_keepState_29 : decode cX0_keepState 29 = .ok (.iastore, 1) := dk_79 (dk_at dksX0_keepState_1 5 rfl rfl)
theorem dX0_keepState_30 : decode cX0_keepState 30 = .ok (.aload_n 0, 1) := dk_42 (dk_at dksX0_keepState_1 6 rfl rfl)
theorem dX0_keepState_31 : decode cX0_keepState 31 = .ok (.getfield 99, 3) := dk_180 0 99 (dk_at dksX0_keepState_1 7 rfl rfl)
theorem dX0_keepState_34 : decode cX0_keepState 34 = .ok (.iload_n 2, 1) := dk_28 (dk_at dksX0_keepState_1 10 rfl rfl)
theorem dX0_keepState_35 : decode cX0_keepState 35 = .ok (.iinc 2 1, 3) := dk_132 2 1 (dk_at dksX0_keepState_1 11 rfl rfl)
theorem dX0_keepState_38 : decode cX0_keepState 38 = .ok (.aload_n 0, 1) := dk_42 (dk_at dksX0_keepState_1 14 rfl rfl)
theorem dX0_keepState_39 : decode cX0_keepState 39 = .ok (.getfield 93, 3) := dk_180 0 93 (dk_at dksX0_keepState_1 15 rfl rfl)
theorem dX0_keepState_42 : decode cX0_keepState 42 = .ok (.getfield 239, 3) := dk_180 0 239 (dk_at dksX0_keepState_1 18 rfl rfl)
theorem dX0_keepState_45 : decode cX0_keepState 45 = .ok (.iload_n 3, 1) := dk_29 (dk_at dksX0_keepState_1 21 rfl rfl)
theorem dX0_keepState_46 : decode cX0_keepState 46 = .ok (.iaload, 1) := dk_46 (dk_at dksX0_keepState_1 22 rfl rfl)
theorem dX0_keepState_47 : decode cX0_keepState 47 = .ok (.iastore, 1) := dk_79 (dk_at dksX0_keepState_1 23 rfl rfl)
theorem dX0_keepState_48 : decode cX0_keepState 48 = .ok (.iinc 3 1, 3) := dk_132 3 1 (dk_at dksX0_keepState_2 0 rfl rfl)
theorem dX0_keepState_51 : decode cX0_keepState 51 = .ok (.goto (-44), 3) := dk_167 255 212 (dk_at dksX0_keepState_2 3 rfl rfl)
theorem dX0_keepState_54 : decode cX0_keepState 54 = .ok (.iconst 0, 1) := dk_3 (dk_at dksX0_keepState_2 6 rfl rfl)
theorem dX0_keepState_55 : decode cX0_keepState 55 = .ok (.istore_n 3, 1) := dk_62 (dk_at dksX0_keepState_2 7 rfl rfl)
theorem dX0_keepState_56 : decode cX0_keepState 56 = .ok (.iload_n 3, 1) := dk_29 (dk_at dksX0_keepState_2 8 rfl rfl)
theorem dX0_keepState_57 : decode cX0_keepState 57 = .ok (.bipush 28, 2) := dk_16 28 (dk_at dksX0_keepState_2 9 rfl rfl)
theorem dX0_keepState_59 : decode cX0_keepState 59 = .ok (.if_icmp .ge 48, 3) := dk_162 0 48 (dk_at dksX0_keepState_2 11 rfl rfl)
theorem dX0_keepState_62 : decode cX0_keepState 62 = .ok (.aload_n 0, 1) := dk_42 (dk_at dksX0_keepState_2 14 rfl rfl)
theorem dX0_keepState_63 : decode cX0_keepState 63 = .ok (.getfield 99, 3) := dk_180 0 99 (dk_at dksX0_keepState_2 15 rfl rfl)
theorem dX0_keepState_66 : decode cX0_keepState 66 = .ok (.iload_n 2, 1) := dk_28 (dk_at dksX0_keepState_2 18 rfl rfl)
theorem dX0_keepState_67 : decode cX0_keepState 67 = .ok (.iinc 2 1, 3) := dk_132 2 1 (dk_at dksX0_keepState_2 19 rfl rfl)
theorem dX0_keepState_70 : decode cX0_keepState 70 = .ok (.aload_n 0, 1) := dk_42 (dk_at dksX0_keepState_2 22 rfl rfl)
theorem dX0_keepState_71 : decode cX0_keepState 71 = .ok (.getfield 93, 3) := dk_180 0 93 (dk_at dksX0_keepState_3 0 rfl rfl)
theorem dX0_keepState_74 : decode cX0_keepState 74 = .ok (.getfield 242, 3) := dk_180 0 242 (dk_at dksX0_keepState_3 3 rfl rfl)
theorem dX0_keepState_77 : decode cX0_keepState 77 = .ok (.iload_n 3, 1) := dk_29 (dk_at dksX0_keepState_3 6 rfl rfl)
theorem dX0_keepState_78 : decode cX0_keepState 78 = .ok (.iconst 4, 1) := dk_7 (dk_at dksX0_keepState_3 7 rfl rfl)
theorem dX0_keepState_79 : decode cX0_keepState 79 = .ok (.idiv, 1) := dk_108 (dk_at dksX0_keepState_3 8 rfl rfl)
theorem dX0_keepState_80 : decode cX0_keepState 80 = .ok (.invokestatic 245, 3) := dk_184 0 245 (dk_at dksX0_keepState_3 9 rfl rfl)
theorem dX0_keepState_83 : decode cX0_keepState 83 = .ok (.ifCond .eq 15, 3) := dk_153 0 15 (dk_at dksX0_keepState_3 12 rfl rfl)
theorem dX0_keepState_86 : decode cX0_keepState 86 = .ok (.aload_n 0, 1) := dk_42 (dk_at dksX0_keepState_3 15 rfl rfl)
theorem dX0_keepState_87 : decode cX0_keepState 87 = .ok (.getfield 93, 3) := dk_180 0 93 (dk_at dksX0_keepState_3 16 rfl rfl)
theorem dX0_keepState_90 : decode cX0_keepState 90 = .ok (.getfield 249, 3) := dk_180 0 249 (dk_at dksX0_keepState_3 19 rfl rfl)
theorem dX0_keepState_93 : decode cX0_keepState 93 = .ok (.iload_n 3, 1) := dk_29 (dk_at dksX0_keepState_3 22 rfl rfl)
theorem dX0_keepState_94 : decode cX0_keepState 94 = .ok (.iaload, 1) := dk_46 (dk_at dksX0_keepState_3 23 rfl rfl)
theorem dX0_keepState_95 : decode cX0_keepState 95 = .ok (.goto 5, 3) := dk_167 0 5 (dk_at dksX0_keepState_4 0 rfl rfl)
theorem dX0_keepState_98 : decode cX0_keepState 98 = .ok (.bipush (-2), 2) := dk_16 254 (dk_at dksX0_keepState_4 3 rfl rfl)
theorem dX0_keepState_100 : decode cX0_keepState 100 = .ok (.iastore, 1) := dk_79 (dk_at dksX0_keepState_4 5 rfl rfl)
theorem dX0_keepState_101 : decode cX0_keepState 101 = .ok (.iinc 3 1, 3) := dk_132 3 1 (dk_at dksX0_keepState_4 6 rfl rfl)
theorem dX0_keepState_104 : decode cX0_keepState 104 = .ok (.goto (-48), 3) := dk_167 255 208 (dk_at dksX0_keepState_4 9 rfl rfl)
theorem dX0_keepState_107 : decode cX0_keepState 107 = .ok (.aload_n 0, 1) := dk_42 (dk_at dksX0_keepState_4 12 rfl rfl)
theorem dX0_keepState_108 : decode cX0_keepState 108 = .ok (.getfield 99, 3) := dk_180 0 99 (dk_at dksX0_keepState_4 13 rfl rfl)
theorem dX0_keepState_111 : decode cX0_keepState 111 = .ok (.iload_n 2, 1) := dk_28 (dk_at dksX0_keepState_4 16 rfl rfl)
theorem dX0_keepState_112 : decode cX0_keepState 112 = .ok (.aload_n 0, 1) := dk_42 (dk_at dksX0_keepState_4 17 rfl rfl)
theorem dX0_keepState_113 : decode cX0_keepState 113 = .ok (.getfield 93, 3) := dk_180 0 93 (dk_at dksX0_keepState_4 18 rfl rfl)
theorem dX0_keepState_116 : decode cX0_keepState 116 = .ok (.getfield 242, 3) := dk_180 0 242 (dk_at dksX0_keepState_4 21 rfl rfl)
theorem dX0_keepState_119 : decode cX0_keepState 119 = .ok (.iastore, 1) := dk_79 (dk_at dksX0_keepState_5 0 rfl rfl)
theorem dX0_keepState_120 : decode cX0_keepState 120 = .ok (.return_, 1) := dk_177 (dk_at dksX0_keepState_5 1 rfl rfl)
abbrev cX0_isLike : ByteArray := prog_1_method_47_code
def yX0_isLike : MethodName := ⟨RX0, "isLike", "(II)Z"⟩
def dkwX0_isLike_1 : List UInt8 := [16, 37, 104, 29, 96, 46, 159, 0, 5, 3, 172, 132, 3, 1, 167, 255, 220, 4, 172]
abbrev dktX0_isLike_1 : List UInt8 := dkwX0_isLike_1 ++ []
def dkwX0_isLike_0 : List UInt8 := [3, 62, 29, 16, 37, 162, 0, 36, 42, 180, 0, 99, 27, 16, 37, 104, 29, 96, 46, 42, 180, 0, 99, 28]
abbrev dktX0_isLike_0 : List UInt8 := dkwX0_isLike_0 ++ dktX0_isLike_1
theorem dksX0_isLike_0 : cX0_isLike.data.toList.drop 0 = dktX0_isLike_0 := by decide +kernel
theorem dksX0_isLike_1 : cX0_isLike.data.toList.drop 24 = dktX0_isLike_1 := dk_seg dksX0_isLike_0 24 rfl rfl
theorem dX0_isLike_0 : decode cX0_isLike 0 = .ok (.iconst 0, 1) := dk_3 (dk_at dksX0_isLike_0 0 rfl rfl)
theorem dX0_isLike_1 : decode cX0_isLike 1 = .ok (.istore_n 3, 1) := dk_62 (dk_at dksX0_isLike_0 1 rfl rfl)
theorem dX0_isLike_2 : decode cX0_isLike 2 = .ok (.iload_n 3, 1) := dk_29 (dk_at dksX0_isLike_0 2 rfl rfl)
theorem dX0_isLike_3 : decode cX0_isLike 3 = .ok (.bipush 37, 2) := dk_16 37 (dk_at dksX0_isLike_0 3 rfl rfl)
theorem dX0_isLike_5 : decode cX0_isLike 5 = .ok (.if_icmp .ge 36, 3) := dk_162 0 36 (dk_at dksX0_isLike_0 5 rfl rfl)
theorem dX0_isLike_8 : decode cX0_isLike 8 = .ok (.aload_n 0, 1) := dk_42 (dk_at dksX0_isLike_0 8 rfl rfl)
theorem dX0_isLike_9 : decode cX0_isLike 9 = .ok (.getfield 99, 3) := dk_180 0 99 (dk_at dksX0_isLike_0 9 rfl rfl)
theorem dX0_isLike_12 : decode cX0_isLike 12 = .ok (.iload_n 1, 1) := dk_27 (dk_at dksX0_isLike_0 12 rfl rfl)
theorem dX0_isLike_13 : decode cX0_isLike 13 = .ok (.bipush 37, 2) := dk_16 37 (dk_at dksX0_isLike_0 13 rfl rfl)
theorem dX0_isLike_15 : decode cX0_isLike 15 = .ok (.imul, 1) := dk_104 (dk_at dksX0_isLike_0 15 rfl rfl)
theorem dX0_isLike_16 : decode cX0_isLike 16 = .ok (.iload_n 3, 1) := dk_29 (dk_at dksX0_isLike_0 16 rfl rfl)
theorem dX0_isLike_17 : decode cX0_isLike 17 = .ok (.iadd, 1) := dk_96 (dk_at dksX0_isLike_0 17 rfl rfl)
theorem dX0_isLike_18 : decode cX0_isLike 18 = .ok (.iaload, 1) := dk_46 (dk_at dksX0_isLike_0 18 rfl rfl)
theorem dX0_isLike_19 : decode cX0_isLike 19 = .ok (.aload_n 0, 1) := dk_42 (dk_at dksX0_isLike_0 19 rfl rfl)
theorem dX0_isLike_20 : decode cX0_isLike 20 = .ok (.getfield 99, 3) := dk_180 0 99 (dk_at dksX0_isLike_0 20 rfl rfl)
theorem dX0_isLike_23 : decode cX0_isLike 23 = .ok (.iload_n 2, 1) := dk_28 (dk_at dksX0_isLike_0 23 rfl rfl)
theorem dX0_isLike_24 : decode cX0_isLike 24 = .ok (.bipush 37, 2) := dk_16 37 (dk_at dksX0_isLike_1 0 rfl rfl)
theorem dX0_isLike_26 : decode cX0_isLike 26 = .ok (.imul, 1) := dk_104 (dk_at dksX0_isLike_1 2 rfl rfl)
theorem dX0_isLike_27 : decode cX0_isLike 27 = .ok (.iload_n 3, 1) := dk_29 (dk_at dksX0_isLike_1 3 rfl rfl)
theorem dX0_isLike_28 : decode cX0_isLike 28 = .ok (.iadd, 1) := dk_96 (dk_at dksX0_isLike_1 4 rfl rfl)
theorem dX0_isLike_29 : decode cX0_isLike 29 = .ok (.iaload, 1) := dk_46 (dk_at dksX0_isLike_1 5 rfl rfl)
theorem dX0_isLike_30 : decode cX0_isLike 30 = .ok (.if_icmp .eq 5, 3) := dk_159 0 5 (dk_at dksX0_isLike_1 6 rfl rfl)
theorem dX0_isLike_33 : decode cX0_isLike 33 = .ok (.iconst 0, 1) := dk_3 (dk_at dksX0_isLike_1 9 rfl rfl)
theorem dX0_isLike_34 : decode cX0_isLike 34 = .ok (.ireturn, 1) := dk_172 (dk_at dksX0_isLike_1 10 rfl rfl)
theorem dX0_isLike_35 : decode cX0_isLike 35 = .ok (.iinc 3 1, 3) := dk_132 3 1 (dk_at dksX0_isLike_1 11 rfl rfl)
theorem dX0_isLike_38 : decode cX0_isLike 38 = .ok (.goto (-36), 3) := dk_167 255 220 (dk_at dksX0_isLike_1 14 rfl rfl)
theorem dX0_isLike_41 : decode cX0_isLike 41 = .ok (.iconst 1, 1) := dk_4 (dk_at dksX0_isLike_1 17 rfl rfl)
theorem dX0_isLike_42 : decode cX0_isLike 42 = .ok (.ireturn, 1) := dk_172 (dk_at dksX0_isLike_1 18 rfl rfl)
abbrev cX0_often : ByteArray := prog_1_method_52_code
def yX0_often : MethodName := ⟨RX0, "often", "(III)I"⟩
def dkwX0_often_3 : List UInt8 := [21, 4, 172, 132, 4, 255, 167, 255, 227, 16, 254, 172]
abbrev dktX0_often_3 : List UInt8 := dkwX0_often_3 ++ []
def dkwX0_often_2 : List UInt8 := [21, 4, 158, 0, 30, 42, 28, 16, 10, 108, 28, 16, 10, 112, 29, 21, 4, 182, 1, 137, 153, 0, 6]
abbrev dktX0_often_2 : List UInt8 := dkwX0_often_2 ++ dktX0_often_3
def dkwX0_often_1 : List UInt8 := [154, 0, 5, 2, 172, 42, 27, 182, 1, 99, 156, 0, 9, 42, 27, 182, 1, 92, 172, 16, 12, 54, 4]
abbrev dktX0_often_1 : List UInt8 := dkwX0_often_1 ++ dktX0_often_2
def dkwX0_often_0 : List UInt8 := [27, 184, 0, 194, 153, 0, 23, 42, 28, 182, 0, 209, 153, 0, 15, 29, 133, 9, 20, 1, 109, 184, 0, 147]
abbrev dktX0_often_0 : List UInt8 := dkwX0_often_0 ++ dktX0_often_1
theorem dksX0_often_0 : cX0_often.data.toList.drop 0 = dktX0_often_0 := by decide +kernel
theorem dksX0_often_1 : cX0_often.data.toList.drop 24 = dktX0_often_1 := dk_seg dksX0_often_0 24 rfl rfl
theorem dksX0_often_2 : cX0_often.data.toList.drop 47 = dktX0_often_2 := dk_seg dksX0_often_1 23 rfl rfl
theorem dksX0_often_3 : cX0_often.data.toList.drop 70 = dktX0_often_3 := dk_seg dksX0_often_2 23 rfl rfl
theorem dX0_often_0 : decode cX0_often 0 = .ok (.iload_n 1, 1) := dk_27 (dk_at dksX0_often_0 0 rfl rfl)
theorem dX0_often_1 : decode cX0_often 1 = .ok (.invokestatic 194, 3) := dk_184 0 194 (dk_at dksX0_often_0 1 rfl rfl)
theorem dX0_often_4 : decode cX0_often 4 = .ok (.ifCond .eq 23, 3) := dk_153 0 23 (dk_at dksX0_often_0 4 rfl rfl)
theorem dX0_often_7 : decode cX0_often 7 = .ok (.aload_n 0, 1) := dk_42 (dk_at dksX0_often_0 7 rfl rfl)
theorem dX0_often_8 : decode cX0_often 8 = .ok (.iload_n 2, 1) := dk_28 (dk_at dksX0_often_0 8 rfl rfl)
theorem dX0_often_9 : decode cX0_often 9 = .ok (.invokevirtual 209, 3) := dk_182 0 209 (dk_at dksX0_often_0 9 rfl rfl)
theorem dX0_often_12 : decode cX0_often 12 = .ok (.ifCond .eq 15, 3) := dk_153 0 15 (dk_at dksX0_often_0 12 rfl rfl)
theorem dX0_often_15 : decode cX0_often 15 = .ok (.iload_n 3, 1) := dk_29 (dk_at dksX0_often_0 15 rfl rfl)
theorem dX0_often_16 : decode cX0_often 16 = .ok (.i2l, 1) := dk_133 (dk_at dksX0_often_0 16 rfl rfl)
theorem dX0_often_17 : decode cX0_often 17 = .ok (.lconst 0, 1) := dk_9 (dk_at dksX0_often_0 17 rfl rfl)
theorem dX0_often_18 : decode cX0_often 18 = .ok (.ldc2_w 365, 3) := dk_20 1 109 (dk_at dksX0_often_0 18 rfl rfl)
theorem dX0_often_21 : decode cX0_often 21 = .ok (.invokestatic 147, 3) := dk_184 0 147 (dk_at dksX0_often_0 21 rfl rfl)
theorem dX0_often_24 : decode cX0_often 24 = .ok (.ifCond .ne 5, 3) := dk_154 0 5 (dk_at dksX0_often_1 0 rfl rfl)
theorem dX0_often_27 : decode cX0_often 27 = .ok (.iconst (-1), 1) := dk_2 (dk_at dksX0_often_1 3 rfl rfl)
theorem dX0_often_28 : decode cX0_often 28 = .ok (.ireturn, 1) := dk_172 (dk_at dksX0_often_1 4 rfl rfl)
theorem dX0_often_29 : decode cX0_often 29 = .ok (.aload_n 0, 1) := dk_42 (dk_at dksX0_often_1 5 rfl rfl)
theorem dX0_often_30 : decode cX0_often 30 = .ok (.iload_n 1, 1) := dk_27 (dk_at dksX0_often_1 6 rfl rfl)
theorem dX0_often_31 : decode cX0_often 31 = .ok (.invokevirtual 355, 3) := dk_182 1 99 (dk_at dksX0_often_1 7 rfl rfl)
theorem dX0_often_34 : decode cX0_often 34 = .ok (.ifCond .ge 9, 3) := dk_156 0 9 (dk_at dksX0_often_1 10 rfl rfl)
theorem dX0_often_37 : decode cX0_often 37 = .ok (.aload_n 0, 1) := dk_42 (dk_at dksX0_often_1 13 rfl rfl)
theorem dX0_often_38 : decode cX0_often 38 = .ok (.iload_n 1, 1) := dk_27 (dk_at dksX0_often_1 14 rfl rfl)
theorem dX0_often_39 : decode cX0_often 39 = .ok (.invokevirtual 348, 3) := dk_182 1 92 (dk_at dksX0_often_1 15 rfl rfl)
theorem dX0_often_42 : decode cX0_often 42 = .ok (.ireturn, 1) := dk_172 (dk_at dksX0_often_1 18 rfl rfl)
theorem dX0_often_43 : decode cX0_often 43 = .ok (.bipush 12, 2) := dk_16 12 (dk_at dksX0_often_1 19 rfl rfl)
theorem dX0_often_45 : decode cX0_often 45 = .ok (.istore 4, 2) := dk_54 4 (dk_at dksX0_often_1 21 rfl rfl)
theorem dX0_often_47 : decode cX0_often 47 = .ok (.iload 4, 2) := dk_21 4 (dk_at dksX0_often_2 0 rfl rfl)
theorem dX0_often_49 : decode cX0_often 49 = .ok (.ifCond .le 30, 3) := dk_158 0 30 (dk_at dksX0_often_2 2 rfl rfl)
theorem dX0_often_52 : decode cX0_often 52 = .ok (.aload_n 0, 1) := dk_42 (dk_at dksX0_often_2 5 rfl rfl)
theorem dX0_often_53 : decode cX0_often 53 = .ok (.iload_n 2, 1) := dk_28 (dk_at dksX0_often_2 6 rfl rfl)
theorem dX0_often_54 : decode cX0_often 54 = .ok (.bipush 10, 2) := dk_16 10 (dk_at dksX0_often_2 7 rfl rfl)
theorem dX0_often_56 : decode cX0_often 56 = .ok (.idiv, 1) := dk_108 (dk_at dksX0_often_2 9 rfl rfl)
theorem dX0_often_57 : decode cX0_often 57 = .ok (.iload_n 2, 1) := dk_28 (dk_at dksX0_often_2 10 rfl rfl)
theorem dX0_often_58 : decode cX0_often 58 = .ok (.bipush 10, 2) := dk_16 10 (dk_at dksX0_often_2 11 rfl rfl)
theorem dX0_often_60 : decode cX0_often 60 = .ok (.irem, 1) := dk_112 (dk_at dksX0_often_2 13 rfl rfl)
theorem dX0_often_61 : decode cX0_often 61 = .ok (.iload_n 3, 1) := dk_29 (dk_at dksX0_often_2 14 rfl rfl)
theorem dX0_often_62 : decode cX0_often 62 = .ok (.iload 4, 2) := dk_21 4 (dk_at dksX0_often_2 15 rfl rfl)
theorem dX0_often_64 : decode cX0_often 64 = .ok (.invokevirtual 393, 3) := dk_182 1 137 (dk_at dksX0_often_2 17 rfl rfl)
theorem dX0_often_67 : decode cX0_often 67 = .ok (.ifCond .eq 6, 3) := dk_153 0 6 (dk_at dksX0_often_2 20 rfl rfl)
theorem dX0_often_70 : decode cX0_often 70 = .ok (.iload 4, 2) := dk_21 4 (dk_at dksX0_often_3 0 rfl rfl)
theorem dX0_often_72 : decode cX0_often 72 = .ok (.ireturn, 1) := dk_172 (dk_at dksX0_often_3 2 rfl rfl)
theorem dX0_often_73 : decode cX0_often 73 = .ok (.iinc 4 (-1), 3) := dk_132 4 255 (dk_at dksX0_often_3 3 rfl rfl)
theorem dX0_often_76 : decode cX0_often 76 = .ok (.goto (-29), 3) := dk_167 255 227 (dk_at dksX0_often_3 6 rfl rfl)
theorem dX0_often_79 : decode cX0_often 79 = .ok (.bipush (-2), 2) := dk_16 254 (dk_at dksX0_often_3 9 rfl rfl)
theorem dX0_often_81 : decode cX0_often 81 = .ok (.ireturn, 1) := dk_172 (dk_at dksX0_often_3 11 rfl rfl)
abbrev cX0_staysAbove : ByteArray := prog_1_method_51_code
def yX0_staysAbove : MethodName := ⟨RX0, "staysAbove", "(IIII)Z"⟩
def dkwX0_staysAbove_3 : List UInt8 := [132, 6, 1, 167, 255, 199, 4, 172]
abbrev dktX0_staysAbove_3 : List UInt8 := dkwX0_staysAbove_3 ++ []
def dkwX0_staysAbove_2 : List UInt8 := [132, 5, 1, 182, 1, 134, 182, 1, 106, 42, 180, 0, 93, 180, 0, 236, 28, 46, 29, 162, 0, 5, 3, 172]
abbrev dktX0_staysAbove_2 : List UInt8 := dkwX0_staysAbove_2 ++ dktX0_staysAbove_3
def dkwX0_staysAbove_1 : List UInt8 := [42, 180, 0, 93, 21, 6, 21, 4, 4, 96, 112, 21, 4, 160, 0, 7, 27, 167, 0, 12, 42, 21, 5]
abbrev dktX0_staysAbove_1 : List UInt8 := dkwX0_staysAbove_1 ++ dktX0_staysAbove_2
def dkwX0_staysAbove_0 : List UInt8 := [42, 180, 0, 93, 42, 180, 0, 89, 182, 1, 102, 3, 54, 5, 3, 54, 6, 21, 6, 16, 60, 162, 0, 56]
abbrev dktX0_staysAbove_0 : List UInt8 := dkwX0_staysAbove_0 ++ dktX0_staysAbove_1
theorem dksX0_staysAbove_0 : cX0_staysAbove.data.toList.drop 0 = dktX0_staysAbove_0 := by decide +kernel
theorem dksX0_staysAbove_1 : cX0_staysAbove.data.toList.drop 24 = dktX0_staysAbove_1 := dk_seg dksX0_staysAbove_0 24 rfl rfl
theorem dksX0_staysAbove_2 : cX0_staysAbove.data.toList.drop 47 = dktX0_staysAbove_2 := dk_seg dksX0_staysAbove_1 23 rfl rfl
theorem dksX0_staysAbove_3 : cX0_staysAbove.data.toList.drop 71 = dktX0_staysAbove_3 := dk_seg dksX0_staysAbove_2 24 rfl rfl
theorem dX0_staysAbove_0 : decode cX0_staysAbove 0 = .ok (.aload_n 0, 1) := dk_42 (dk_at dksX0_staysAbove_0 0 rfl rfl)
theorem dX0_staysAbove_1 : decode cX0_staysAbove 1 = .ok (.getfield 93, 3) := dk_180 0 93 (dk_at dksX0_staysAbove_0 1 rfl rfl)
theorem dX0_staysAbove_4 : decode cX0_staysAbove 4 = .ok (.aload_n 0, 1) := dk_42 (dk_at dksX0_staysAbove_0 4 rfl rfl)
theorem dX0_staysAbove_5 : decode cX0_staysAbove 5 = .ok (.getfield 89, 3) := dk_180 0 89 (dk_at dksX0_staysAbove_0 5 rfl rfl)
theorem dX0_staysAbove_8 : decode cX0_staysAbove 8 = .ok (.invokevirtual 358, 3) := dk_182 1 102 (dk_at dksX0_staysAbove_0 8 rfl rfl)
theorem dX0_staysAbove_11 : decode cX0_staysAbove 11 = .ok (.iconst 0, 1) := dk_3 (dk_at dksX0_staysAbove_0 11 rfl rfl)
theorem dX0_staysAbove_12 : decode cX0_staysAbove 12 = .ok (.istore 5, 2) := dk_54 5 (dk_at dksX0_staysAbove_0 12 rfl rfl)
theorem dX0_staysAbove_14 : decode cX0_staysAbove 14 = .ok (.iconst 0, 1) := dk_3 (dk_at dksX0_staysAbove_0 14 rfl rfl)
theorem dX0_staysAbove_15 : decode cX0_staysAbove 15 = .ok (.istore 6, 2) := dk_54 6 (dk_at dksX0_staysAbove_0 15 rfl rfl)
theorem dX0_staysAbove_17 : decode cX0_staysAbove 17 = .ok (.iload 6, 2) := dk_21 6 (dk_at dksX0_staysAbove_0 17 rfl rfl)
theorem dX0_staysAbove_19 : decode cX0_staysAbove 19 = .ok (.bipush 60, 2) := dk_16 60 (dk_at dksX0_staysAbove_0 19 rfl rfl)
theorem dX0_staysAbove_21 : decode cX0_staysAbove 21 = .ok (.if_icmp .ge 56, 3) := dk_162 0 56 (dk_at dksX0_staysAbove_0 21 rfl rfl)
theorem dX0_staysAbove_24 : decode cX0_staysAbove 24 = .ok (.aload_n 0, 1) := dk_42 (dk_at dksX0_staysAbove_1 0 rfl rfl)
theorem dX0_staysAbove_25 : decode cX0_staysAbove 25 = .ok (.getfield 93, 3) := dk_180 0 93 (dk_at dksX0_staysAbove_1 1 rfl rfl)
theorem dX0_staysAbove_28 : decode cX0_staysAbove 28 = .ok (.iload 6, 2) := dk_21 6 (dk_at dksX0_staysAbove_1 4 rfl rfl)
theorem dX0_staysAbove_30 : decode cX0_staysAbove 30 = .ok (.iload 4, 2) := dk_21 4 (dk_at dksX0_staysAbove_1 6 rfl rfl)
theorem dX0_staysAbove_32 : decode cX0_staysAbove 32 = .ok (.iconst 1, 1) := dk_4 (dk_at dksX0_staysAbove_1 8 rfl rfl)
theorem dX0_staysAbove_33 : decode cX0_staysAbove 33 = .ok (.iadd, 1) := dk_96 (dk_at dksX0_staysAbove_1 9 rfl rfl)
theorem dX0_staysAbove_34 : decode cX0_staysAbove 34 = .ok (.irem, 1) := dk_112 (dk_at dksX0_staysAbove_1 10 rfl rfl)
theorem dX0_staysAbove_35 : decode cX0_staysAbove 35 = .ok (.iload 4, 2) := dk_21 4 (dk_at dksX0_staysAbove_1 11 rfl rfl)
theorem dX0_staysAbove_37 : decode cX0_staysAbove 37 = .ok (.if_icmp .ne 7, 3) := dk_160 0 7 (dk_at dksX0_staysAbove_1 13 rfl rfl)
theorem dX0_staysAbove_40 : decode cX0_staysAbove 40 = .ok (.iload_n 1, 1) := dk_27 (dk_at dksX0_staysAbove_1 16 rfl rfl)
theorem dX0_staysAbove_41 : decode cX0_staysAbove 41 = .ok (.goto 12, 3) := dk_167 0 12 (dk_at dksX0_staysAbove_1 17 rfl rfl)
theorem dX0_staysAbove_44 : decode cX0_staysAbove 44 = .ok (.aload_n 0, 1) := dk_42 (dk_at dksX0_staysAbove_1 20 rfl rfl)
theorem dX0_staysAbove_45 : decode cX0_staysAbove 45 = .ok (.iload 5, 2) := dk_21 5 (dk_at dksX0_staysAbove_1 21 rfl rfl)
theorem dX0_staysAbove_47 : decode cX0_staysAbove 47 = .ok (.iinc 5 1, 3) := dk_132 5 1 (dk_at dksX0_staysAbove_2 0 rfl rfl)
theorem dX0_staysAbove_50 : decode cX0_staysAbove 50 = .ok (.invokevirtual 390, 3) := dk_182 1 134 (dk_at dksX0_staysAbove_2 3 rfl rfl)
theorem dX0_staysAbove_53 : decode cX0_staysAbove 53 = .ok (.invokevirtual 362, 3) := dk_182 1 106 (dk_at dksX0_staysAbove_2 6 rfl rfl)
theorem dX0_staysAbove_56 : decode cX0_staysAbove 56 = .ok (.aload_n 0, 1) := dk_42 (dk_at dksX0_staysAbove_2 9 rfl rfl)
theorem dX0_staysAbove_57 : decode cX0_staysAbove 57 = .ok (.getfield 93, 3) := dk_180 0 93 (dk_at dksX0_staysAbove_2 10 rfl rfl)
theorem dX0_staysAbove_60 : decode cX0_staysAbove 60 = .ok (.getfield 236, 3) := dk_180 0 236 (dk_at dksX0_staysAbove_2 13 rfl rfl)
theorem dX0_staysAbove_63 : decode cX0_staysAbove 63 = .ok (.iload_n 2, 1) := dk_28 (dk_at dksX0_staysAbove_2 16 rfl rfl)
theorem dX0_staysAbove_64 : decode cX0_staysAbove 64 = .ok (.iaload, 1) := dk_46 (dk_at dksX0_staysAbove_2 17 rfl rfl)
theorem dX0_staysAbove_65 : decode cX0_staysAbove 65 = .ok (.iload_n 3, 1) := dk_29 (dk_at dksX0_staysAbove_2 18 rfl rfl)
theorem dX0_staysAbove_66 : decode cX0_staysAbove 66 = .ok (.if_icmp .ge 5, 3) := dk_162 0 5 (dk_at dksX0_staysAbove_2 19 rfl rfl)
theorem dX0_staysAbove_69 : decode cX0_staysAbove 69 = .ok (.iconst 0, 1) := dk_3 (dk_at dksX0_staysAbove_2 22 rfl rfl)
theorem dX0_staysAbove_70 : decode cX0_staysAbove 70 = .ok (.ireturn, 1) := dk_172 (dk_at dksX0_staysAbove_2 23 rfl rfl)
theorem dX0_staysAbove_71 : decode cX0_staysAbove 71 = .ok (.iinc 6 1, 3) := dk_132 6 1 (dk_at dksX0_staysAbove_3 0 rfl rfl)
theorem dX0_staysAbove_74 : decode cX0_staysAbove 74 = .ok (.goto (-57), 3) := dk_167 255 199 (dk_at dksX0_staysAbove_3 3 rfl rfl)
theorem dX0_staysAbove_77 : decode cX0_staysAbove 77 = .ok (.iconst 1, 1) := dk_4 (dk_at dksX0_staysAbove_3 6 rfl rfl)
theorem dX0_staysAbove_78 : decode cX0_staysAbove 78 = .ok (.ireturn, 1) := dk_172 (dk_at dksX0_staysAbove_3 7 rfl rfl)
abbrev cX0_comesAt : ByteArray := prog_1_method_50_code
def yX0_comesAt : MethodName := ⟨RX0, "comesAt", "(I)I"⟩
def dkwX0_comesAt_0 : List UInt8 := [42, 180, 1, 89, 154, 0, 7, 2, 167, 0, 14, 42, 180, 0, 96, 27, 42, 180, 1, 89, 112, 46, 172]
abbrev dktX0_comesAt_0 : List UInt8 := dkwX0_comesAt_0 ++ []
theorem dksX0_comesAt_0 : cX0_comesAt.data.toList.drop 0 = dktX0_comesAt_0 := by decide +kernel
theorem dX0_comesAt_0 : decode cX0_comesAt 0 = .ok (.aload_n 0, 1) := dk_42 (dk_at dksX0_comesAt_0 0 rfl rfl)
theorem dX0_comesAt_1 : decode cX0_comesAt 1 = .ok (.getfield 345, 3) := dk_180 1 89 (dk_at dksX0_comesAt_0 1 rfl rfl)
theorem dX0_comesAt_4 : decode cX0_comesAt 4 = .ok (.ifCond .ne 7, 3) := dk_154 0 7 (dk_at dksX0_comesAt_0 4 rfl rfl)
theorem dX0_comesAt_7 : decode cX0_comesAt 7 = .ok (.iconst (-1), 1) := dk_2 (dk_at dksX0_comesAt_0 7 rfl rfl)
theorem dX0_comesAt_8 : decode cX0_comesAt 8 = .ok (.goto 14, 3) := dk_167 0 14 (dk_at dksX0_comesAt_0 8 rfl rfl)
theorem dX0_comesAt_11 : decode cX0_comesAt 11 = .ok (.aload_n 0, 1) := dk_42 (dk_at dksX0_comesAt_0 11 rfl rfl)
theorem dX0_comesAt_12 : decode cX0_comesAt 12 = .ok (.getfield 96, 3) := dk_180 0 96 (dk_at dksX0_comesAt_0 12 rfl rfl)
theorem dX0_comesAt_15 : decode cX0_comesAt 15 = .ok (.iload_n 1, 1) := dk_27 (dk_at dksX0_comesAt_0 15 rfl rfl)
theorem dX0_comesAt_16 : decode cX0_comesAt 16 = .ok (.aload_n 0, 1) := dk_42 (dk_at dksX0_comesAt_0 16 rfl rfl)
theorem dX0_comesAt_17 : decode cX0_comesAt 17 = .ok (.getfield 345, 3) := dk_180 1 89 (dk_at dksX0_comesAt_0 17 rfl rfl)
theorem dX0_comesAt_20 : decode cX0_comesAt 20 = .ok (.irem, 1) := dk_112 (dk_at dksX0_comesAt_0 20 rfl rfl)
theorem dX0_comesAt_21 : decode cX0_comesAt 21 = .ok (.iaload, 1) := dk_46 (dk_at dksX0_comesAt_0 21 rfl rfl)
theorem dX0_comesAt_22 : decode cX0_comesAt 22 = .ok (.ireturn, 1) := dk_172 (dk_at dksX0_comesAt_0 22 rfl rfl)
abbrev cX0_warden : ByteArray := prog_1_method_54_code
def yX0_warden : MethodName := ⟨RX0, "warden", "(II)I"⟩
def dkwX0_warden_4 : List UInt8 := [42, 2, 182, 1, 142, 21, 4, 100, 172]
abbrev dktX0_warden_4 : List UInt8 := dkwX0_warden_4 ++ []
def dkwX0_warden_3 : List UInt8 := [132, 5, 255, 167, 255, 223, 28, 154, 0, 7, 29, 167, 0, 21, 28, 4, 160, 0, 8, 21, 4, 167, 0, 11]
abbrev dktX0_warden_3 : List UInt8 := dkwX0_warden_3 ++ dktX0_warden_4
def dkwX0_warden_2 : List UInt8 := [182, 1, 142, 54, 6, 21, 6, 21, 4, 161, 0, 6, 167, 0, 10, 21, 6, 54, 4, 21, 5, 62]
abbrev dktX0_warden_2 : List UInt8 := dkwX0_warden_2 ++ dktX0_warden_3
def dkwX0_warden_1 : List UInt8 := [16, 20, 62, 42, 16, 20, 182, 1, 142, 54, 4, 16, 19, 54, 5, 21, 5, 158, 0, 34, 42, 21, 5]
abbrev dktX0_warden_1 : List UInt8 := dkwX0_warden_1 ++ dktX0_warden_2
def dkwX0_warden_0 : List UInt8 := [28, 133, 9, 20, 0, 207, 184, 0, 147, 153, 0, 11, 42, 27, 182, 1, 99, 156, 0, 7, 19, 1, 141, 172]
abbrev dktX0_warden_0 : List UInt8 := dkwX0_warden_0 ++ dktX0_warden_1
theorem dksX0_warden_0 : cX0_warden.data.toList.drop 0 = dktX0_warden_0 := by decide +kernel
theorem dksX0_warden_1 : cX0_warden.data.toList.drop 24 = dktX0_warden_1 := dk_seg dksX0_warden_0 24 rfl rfl
theorem dksX0_warden_2 : cX0_warden.data.toList.drop 47 = dktX0_warden_2 := dk_seg dksX0_warden_1 23 rfl rfl
theorem dksX0_warden_3 : cX0_warden.data.toList.drop 69 = dktX0_warden_3 := dk_seg dksX0_warden_2 22 rfl rfl
theorem dksX0_warden_4 : cX0_warden.data.toList.drop 93 = dktX0_warden_4 := dk_seg dksX0_warden_3 24 rfl rfl
theorem dX0_warden_0 : decode cX0_warden 0 = .ok (.iload_n 2, 1) := dk_28 (dk_at dksX0_warden_0 0 rfl rfl)
theorem dX0_warden_1 : decode cX0_warden 1 = .ok (.i2l, 1) := dk_133 (dk_at dksX0_warden_0 1 rfl rfl)
theorem dX0_warden_2 : decode cX0_warden 2 = .ok (.lconst 0, 1) := dk_9 (dk_at dksX0_warden_0 2 rfl rfl)
theorem dX0_warden_3 : decode cX0_warden 3 = .ok (.ldc2_w 207, 3) := dk_20 0 207 (dk_at dksX0_warden_0 3 rfl rfl)
theorem dX0_warden_6 : decode cX0_warden 6 = .ok (.invokestatic 147, 3) := dk_184 0 147 (dk_at dksX0_warden_0 6 rfl rfl)
theorem dX0_warden_9 : decode cX0_warden 9 = .ok (.ifCond .eq 11, 3) := dk_153 0 11 (dk_at dksX0_warden_0 9 rfl rfl)
theorem dX0_warden_12 : decode cX0_warden 12 = .ok (.aload_n 0, 1) := dk_42 (dk_at dksX0_warden_0 12 rfl rfl)
theorem dX0_warden_13 : decode cX0_warden 13 = .ok (.iload_n 1, 1) := dk_27 (dk_at dksX0_warden_0 13 rfl rfl)
theorem dX0_warden_14 : decode cX0_warden 14 = .ok (.invokevirtual 355, 3) := dk_182 1 99 (dk_at dksX0_warden_0 14 rfl rfl)
theorem dX0_warden_17 : decode cX0_warden 17 = .ok (.ifCond .ge 7, 3) := dk_156 0 7 (dk_at dksX0_warden_0 17 rfl rfl)
theorem dX0_warden_20 : decode cX0_warden 20 = .ok (.ldc_w 397, 3) := dk_19 1 141 (dk_at dksX0_warden_0 20 rfl rfl)
theorem dX0_warden_23 : decode cX0_warden 23 = .ok (.ireturn, 1) := dk_172 (dk_at dksX0_warden_0 23 rfl rfl)
theorem dX0_warden_24 : decode cX0_warden 24 = .ok (.bipush 20, 2) := dk_16 20 (dk_at dksX0_warden_1 0 rfl rfl)
theorem dX0_warden_26 : decode cX0_warden 26 = .ok (.istore_n 3, 1) := dk_62 (dk_at dksX0_warden_1 2 rfl rfl)
theorem dX0_warden_27 : decode cX0_warden 27 = .ok (.aload_n 0, 1) := dk_42 (dk_at dksX0_warden_1 3 rfl rfl)
theorem dX0_warden_28 : decode cX0_warden 28 = .ok (.bipush 20, 2) := dk_16 20 (dk_at dksX0_warden_1 4 rfl rfl)
theorem dX0_warden_30 : decode cX0_warden 30 = .ok (.invokevirtual 398, 3) := dk_182 1 142 (dk_at dksX0_warden_1 6 rfl rfl)
theorem dX0_warden_33 : decode cX0_warden 33 = .ok (.istore 4, 2) := dk_54 4 (dk_at dksX0_warden_1 9 rfl rfl)
theorem dX0_warden_35 : decode cX0_warden 35 = .ok (.bipush 19, 2) := dk_16 19 (dk_at dksX0_warden_1 11 rfl rfl)
theorem dX0_warden_37 : decode cX0_warden 37 = .ok (.istore 5, 2) := dk_54 5 (dk_at dksX0_warden_1 13 rfl rfl)
theorem dX0_warden_39 : decode cX0_warden 39 = .ok (.iload 5, 2) := dk_21 5 (dk_at dksX0_warden_1 15 rfl rfl)
theorem dX0_warden_41 : decode cX0_warden 41 = .ok (.ifCond .le 34, 3) := dk_158 0 34 (dk_at dksX0_warden_1 17 rfl rfl)
theorem dX0_warden_44 : decode cX0_warden 44 = .ok (.aload_n 0, 1) := dk_42 (dk_at dksX0_warden_1 20 rfl rfl)
theorem dX0_warden_45 : decode cX0_warden 45 = .ok (.iload 5, 2) := dk_21 5 (dk_at dksX0_warden_1 21 rfl rfl)
theorem dX0_warden_47 : decode cX0_warden 47 = .ok (.invokevirtual 398, 3) := dk_182 1 142 (dk_at dksX0_warden_2 0 rfl rfl)
theorem dX0_warden_50 : decode cX0_warden 50 = .ok (.istore 6, 2) := dk_54 6 (dk_at dksX0_warden_2 3 rfl rfl)
theorem dX0_warden_52 : decode cX0_warden 52 = .ok (.iload 6, 2) := dk_21 6 (dk_at dksX0_warden_2 5 rfl rfl)
theorem dX0_warden_54 : decode cX0_warden 54 = .ok (.iload 4, 2) := dk_21 4 (dk_at dksX0_warden_2 7 rfl rfl)
theorem dX0_warden_56 : decode cX0_warden 56 = .ok (.if_icmp .lt 6, 3) := dk_161 0 6 (dk_at dksX0_warden_2 9 rfl rfl)
theorem dX0_warden_59 : decode cX0_warden 59 = .ok (.goto 10, 3) := dk_167 0 10 (dk_at dksX0_warden_2 12 rfl rfl)
theorem dX0_warden_62 : decode cX0_warden 62 = .ok (.iload 6, 2) := dk_21 6 (dk_at dksX0_warden_2 15 rfl rfl)
theorem dX0_warden_64 : decode cX0_warden 64 = .ok (.istore 4, 2) := dk_54 4 (dk_at dksX0_warden_2 17 rfl rfl)
theorem dX0_warden_66 : decode cX0_warden 66 = .ok (.iload 5, 2) := dk_21 5 (dk_at dksX0_warden_2 19 rfl rfl)
theorem dX0_warden_68 : decode cX0_warden 68 = .ok (.istore_n 3, 1) := dk_62 (dk_at dksX0_warden_2 21 rfl rfl)
theorem dX0_warden_69 : decode cX0_warden 69 = .ok (.iinc 5 (-1), 3) := dk_132 5 255 (dk_at dksX0_warden_3 0 rfl rfl)
theorem dX0_warden_72 : decode cX0_warden 72 = .ok (.goto (-33), 3) := dk_167 255 223 (dk_at dksX0_warden_3 3 rfl rfl)
theorem dX0_warden_75 : decode cX0_warden 75 = .ok (.iload_n 2, 1) := dk_28 (dk_at dksX0_warden_3 6 rfl rfl)
theorem dX0_warden_76 : decode cX0_warden 76 = .ok (.ifCond .ne 7, 3) := dk_154 0 7 (dk_at dksX0_warden_3 7 rfl rfl)
theorem dX0_warden_79 : decode cX0_warden 79 = .ok (.iload_n 3, 1) := dk_29 (dk_at dksX0_warden_3 10 rfl rfl)
theorem dX0_warden_80 : decode cX0_warden 80 = .ok (.goto 21, 3) := dk_167 0 21 (dk_at dksX0_warden_3 11 rfl rfl)
theorem dX0_warden_83 : decode cX0_warden 83 = .ok (.iload_n 2, 1) := dk_28 (dk_at dksX0_warden_3 14 rfl rfl)
theorem dX0_warden_84 : decode cX0_warden 84 = .ok (.iconst 1, 1) := dk_4 (dk_at dksX0_warden_3 15 rfl rfl)
theorem dX0_warden_85 : decode cX0_warden 85 = .ok (.if_icmp .ne 8, 3) := dk_160 0 8 (dk_at dksX0_warden_3 16 rfl rfl)
theorem dX0_warden_88 : decode cX0_warden 88 = .ok (.iload 4, 2) := dk_21 4 (dk_at dksX0_warden_3 19 rfl rfl)
theorem dX0_warden_90 : decode cX0_warden 90 = .ok (.goto 11, 3) := dk_167 0 11 (dk_at dksX0_warden_3 21 rfl rfl)
theorem dX0_warden_93 : decode cX0_warden 93 = .ok (.aload_n 0, 1) := dk_42 (dk_at dksX0_warden_4 0 rfl rfl)
theorem dX0_warden_94 : decode cX0_warden 94 = .ok (.iconst (-1), 1) := dk_2 (dk_at dksX0_warden_4 1 rfl rfl)
theorem dX0_warden_95 : decode cX0_warden 95 = .ok (.invokevirtual 398, 3) := dk_182 1 142 (dk_at dksX0_warden_4 2 rfl rfl)
theorem dX0_warden_98 : decode cX0_warden 98 = .ok (.iload 4, 2) := dk_21 4 (dk_at dksX0_warden_4 5 rfl rfl)
theorem dX0_warden_100 : decode cX0_warden 100 = .ok (.isub, 1) := dk_100 (dk_at dksX0_warden_4 7 rfl rfl)
theorem dX0_warden_101 : decode cX0_warden 101 = .ok (.ireturn, 1) := dk_172 (dk_at dksX0_warden_4 8 rfl rfl)
abbrev cX0_wardenCost : ByteArray := prog_1_method_53_code
def yX0_wardenCost : MethodName := ⟨RX0, "wardenCost", "(I)I"⟩
def dkwX0_wardenCost_4 : List UInt8 := [50, 180, 0, 3, 79, 132, 4, 1, 167, 255, 227, 132, 3, 1, 167, 255, 164, 28, 172]
abbrev dktX0_wardenCost_4 : List UInt8 := dkwX0_wardenCost_4 ++ []
def dkwX0_wardenCost_3 : List UInt8 := [3, 54, 4, 21, 4, 7, 162, 0, 29, 42, 180, 0, 93, 180, 0, 236, 21, 4, 42, 180, 0, 54, 21, 4]
abbrev dktX0_wardenCost_3 : List UInt8 := dkwX0_wardenCost_3 ++ dktX0_wardenCost_4
def dkwX0_wardenCost_2 : List UInt8 := [159, 0, 59, 29, 4, 96, 27, 112, 153, 0, 6, 167, 0, 48, 28, 42, 180, 0, 68, 180, 0, 3, 96, 61]
abbrev dktX0_wardenCost_2 : List UInt8 := dkwX0_wardenCost_2 ++ dktX0_wardenCost_3
def dkwX0_wardenCost_1 : List UInt8 := [180, 0, 93, 42, 29, 182, 1, 134, 182, 1, 106, 28, 42, 180, 0, 93, 182, 1, 111, 96, 61, 27, 2]
abbrev dktX0_wardenCost_1 : List UInt8 := dkwX0_wardenCost_1 ++ dktX0_wardenCost_2
def dkwX0_wardenCost_0 : List UInt8 := [42, 180, 0, 93, 42, 180, 0, 89, 182, 1, 102, 3, 61, 3, 62, 29, 16, 60, 162, 0, 92, 42]
abbrev dktX0_wardenCost_0 : List UInt8 := dkwX0_wardenCost_0 ++ dktX0_wardenCost_1
theorem dksX0_wardenCost_0 : cX0_wardenCost.data.toList.drop 0 = dktX0_wardenCost_0 := by decide +kernel
theorem dksX0_wardenCost_1 : cX0_wardenCost.data.toList.drop 22 = dktX0_wardenCost_1 := dk_seg dksX0_wardenCost_0 22 rfl rfl
theorem dksX0_wardenCost_2 : cX0_wardenCost.data.toList.drop 45 = dktX0_wardenCost_2 := dk_seg dksX0_wardenCost_1 23 rfl rfl
theorem dksX0_wardenCost_3 : cX0_wardenCost.data.toList.drop 69 = dktX0_wardenCost_3 := dk_seg dksX0_wardenCost_2 24 rfl rfl
theorem dksX0_wardenCost_4 : cX0_wardenCost.data.toList.drop 93 = dktX0_wardenCost_4 := dk_seg dksX0_wardenCost_3 24 rfl rfl
theorem dX0_wardenCost_0 : decode cX0_wardenCost 0 = .ok (.aload_n 0, 1) := dk_42 (dk_at dksX0_wardenCost_0 0 rfl rfl)
theorem dX0_wardenCost_1 : decode cX0_wardenCost 1 = .ok (.getfield 93, 3) := dk_180 0 93 (dk_at dksX0_wardenCost_0 1 rfl rfl)
theorem dX0_wardenCost_4 : decode cX0_wardenCost 4 = .ok (.aload_n 0, 1) := dk_42 (dk_at dksX0_wardenCost_0 4 rfl rfl)
theorem dX0_wardenCost_5 : decode cX0_wardenCost 5 = .ok (.getfield 89, 3) := dk_180 0 89 (dk_at dksX0_wardenCost_0 5 rfl rfl)
theorem dX0_wardenCost_8 : decode cX0_wardenCost 8 = .ok (.invokevirtual 358, 3) := dk_182 1 102 (dk_at dksX0_wardenCost_0 8 rfl rfl)
theorem dX0_wardenCost_11 : decode cX0_wardenCost 11 = .ok (.iconst 0, 1) := dk_3 (dk_at dksX0_wardenCost_0 11 rfl rfl)
theorem dX0_wardenCost_12 : decode cX0_wardenCost 12 = .ok (.istore_n 2, 1) := dk_61 (dk_at dksX0_wardenCost_0 12 rfl rfl)
theorem dX0_wardenCost_13 : decode cX0_wardenCost 13 = .ok (.iconst 0, 1) := dk_3 (dk_at dksX0_wardenCost_0 13 rfl rfl)
theorem dX0_wardenCost_14 : decode cX0_wardenCost 14 = .ok (.istore_n 3, 1) := dk_62 (dk_at dksX0_wardenCost_0 14 rfl rfl)
theorem dX0_wardenCost_15 : decode cX0_wardenCost 15 = .ok (.iload_n 3, 1) := dk_29 (dk_at dksX0_wardenCost_0 15 rfl rfl)
theorem dX0_wardenCost_16 : decode cX0_wardenCost 16 = .ok (.bipush 60, 2) := dk_16 60 (dk_at dksX0_wardenCost_0 16 rfl rfl)
theorem dX0_wardenCost_18 : decode cX0_wardenCost 18 = .ok (.if_icmp .ge 92, 3) := dk_162 0 92 (dk_at dksX0_wardenCost_0 18 rfl rfl)
theorem dX0_wardenCost_21 : decode cX0_wardenCost 21 = .ok (.aload_n 0, 1) := dk_42 (dk_at dksX0_wardenCost_0 21 rfl rfl)
theorem dX0_wardenCost_22 : decode cX0_wardenCost 22 = .ok (.getfield 93, 3) := dk_180 0 93 (dk_at dksX0_wardenCost_1 0 rfl rfl)
theorem dX0_wardenCost_25 : decode cX0_wardenCost 25 = .ok (.aload_n 0, 1) := dk_42 (dk_at dksX0_wardenCost_1 3 rfl rfl)
theorem dX0_wardenCost_26 : decode cX0_wardenCost 26 = .ok (.iload_n 3, 1) := dk_29 (dk_at dksX0_wardenCost_1 4 rfl rfl)
theorem dX0_wardenCost_27 : decode cX0_wardenCost 27 = .ok (.invokevirtual 390, 3) := dk_182 1 134 (dk_at dksX0_wardenCost_1 5 rfl rfl)
theorem dX0_wardenCost_30 : decode cX0_wardenCost 30 = .ok (.invokevirtual 362, 3) := dk_182 1 106 (dk_at dksX0_wardenCost_1 8 rfl rfl)
theorem dX0_wardenCost_33 : decode cX0_wardenCost 33 = .ok (.iload_n 2, 1) := dk_28 (dk_at dksX0_wardenCost_1 11 rfl rfl)
theorem dX0_wardenCost_34 : decode cX0_wardenCost 34 = .ok (.aload_n 0, 1) := dk_42 (dk_at dksX0_wardenCost_1 12 rfl rfl)
theorem dX0_wardenCost_35 : decode cX0_wardenCost 35 = .ok (.getfield 93, 3) := dk_180 0 93 (dk_at dksX0_wardenCost_1 13 rfl rfl)
theorem dX0_wardenCost_38 : decode cX0_wardenCost 38 = .ok (.invokevirtual 367, 3) := dk_182 1 111 (dk_at dksX0_wardenCost_1 16 rfl rfl)
theorem dX0_wardenCost_41 : decode cX0_wardenCost 41 = .ok (.iadd, 1) := dk_96 (dk_at dksX0_wardenCost_1 19 rfl rfl)
theorem dX0_wardenCost_42 : decode cX0_wardenCost 42 = .ok (.istore_n 2, 1) := dk_61 (dk_at dksX0_wardenCost_1 20 rfl rfl)
theorem dX0_wardenCost_43 : decode cX0_wardenCost 43 = .ok (.iload_n 1, 1) := dk_27 (dk_at dksX0_wardenCost_1 21 rfl rfl)
theorem dX0_wardenCost_44 : decode cX0_wardenCost 44 = .ok (.iconst (-1), 1) := dk_2 (dk_at dksX0_wardenCost_1 22 rfl rfl)
theorem dX0_wardenCost_45 : decode cX0_wardenCost 45 = .ok (.if_icmp .eq 59, 3) := dk_159 0 59 (dk_at dksX0_wardenCost_2 0 rfl rfl)
theorem dX0_wardenCost_48 : decode cX0_wardenCost 48 = .ok (.iload_n 3, 1) := dk_29 (dk_at dksX0_wardenCost_2 3 rfl rfl)
theorem dX0_wardenCost_49 : decode cX0_wardenCost 49 = .ok (.iconst 1, 1) := dk_4 (dk_at dksX0_wardenCost_2 4 rfl rfl)
theorem dX0_wardenCost_50 : decode cX0_wardenCost 50 = .ok (.iadd, 1) := dk_96 (dk_at dksX0_wardenCost_2 5 rfl rfl)
theorem dX0_wardenCost_51 : decode cX0_wardenCost 51 = .ok (.iload_n 1, 1) := dk_27 (dk_at dksX0_wardenCost_2 6 rfl rfl)
theorem dX0_wardenCost_52 : decode cX0_wardenCost 52 = .ok (.irem, 1) := dk_112 (dk_at dksX0_wardenCost_2 7 rfl rfl)
theorem dX0_wardenCost_53 : decode cX0_wardenCost 53 = .ok (.ifCond .eq 6, 3) := dk_153 0 6 (dk_at dksX0_wardenCost_2 8 rfl rfl)
theorem dX0_wardenCost_56 : decode cX0_wardenCost 56 = .ok (.goto 48, 3) := dk_167 0 48 (dk_at dksX0_wardenCost_2 11 rfl rfl)
theorem dX0_wardenCost_59 : decode cX0_wardenCost 59 = .ok (.iload_n 2, 1) := dk_28 (dk_at dksX0_wardenCost_2 14 rfl rfl)
theorem dX0_wardenCost_60 : decode cX0_wardenCost 60 = .ok (.aload_n 0, 1) := dk_42 (dk_at dksX0_wardenCost_2 15 rfl rfl)
theorem dX0_wardenCost_61 : decode cX0_wardenCost 61 = .ok (.getfield 68, 3) := dk_180 0 68 (dk_at dksX0_wardenCost_2 16 rfl rfl)
theorem dX0_wardenCost_64 : decode cX0_wardenCost 64 = .ok (.getfield 3, 3) := dk_180 0 3 (dk_at dksX0_wardenCost_2 19 rfl rfl)
theorem dX0_wardenCost_67 : decode cX0_wardenCost 67 = .ok (.iadd, 1) := dk_96 (dk_at dksX0_wardenCost_2 22 rfl rfl)
theorem dX0_wardenCost_68 : decode cX0_wardenCost 68 = .ok (.istore_n 2, 1) := dk_61 (dk_at dksX0_wardenCost_2 23 rfl rfl)
theorem dX0_wardenCost_69 : decode cX0_wardenCost 69 = .ok (.iconst 0, 1) := dk_3 (dk_at dksX0_wardenCost_3 0 rfl rfl)
theorem dX0_wardenCost_70 : decode cX0_wardenCost 70 = .ok (.istore 4, 2) := dk_54 4 (dk_at dksX0_wardenCost_3 1 rfl rfl)
theorem dX0_wardenCost_72 : decode cX0_wardenCost 72 = .ok (.iload 4, 2) := dk_21 4 (dk_at dksX0_wardenCost_3 3 rfl rfl)
theorem dX0_wardenCost_74 : decode cX0_wardenCost 74 = .ok (.iconst 4, 1) := dk_7 (dk_at dksX0_wardenCost_3 5 rfl rfl)
theorem dX0_wardenCost_75 : decode cX0_wardenCost 75 = .ok (.if_icmp .ge 29, 3) := dk_162 0 29 (dk_at dksX0_wardenCost_3 6 rfl rfl)
theorem dX0_wardenCost_78 : decode cX0_wardenCost 78 = .ok (.aload_n 0, 1) := dk_42 (dk_at dksX0_wardenCost_3 9 rfl rfl)
theorem dX0_wardenCost_79 : decode cX0_wardenCost 79 = .ok (.getfield 93, 3) := dk_180 0 93 (dk_at dksX0_wardenCost_3 10 rfl rfl)
theorem dX0_wardenCost_82 : decode cX0_wardenCost 82 = .ok (.getfield 236, 3) := dk_180 0 236 (dk_at dksX0_wardenCost_3 13 rfl rfl)
theorem dX0_wardenCost_85 : decode cX0_wardenCost 85 = .ok (.iload 4, 2) := dk_21 4 (dk_at dksX0_wardenCost_3 16 rfl rfl)
theorem dX0_wardenCost_87 : decode cX0_wardenCost 87 = .ok (.aload_n 0, 1) := dk_42 (dk_at dksX0_wardenCost_3 18 rfl rfl)
theorem dX0_wardenCost_88 : decode cX0_wardenCost 88 = .ok (.getfield 54, 3) := dk_180 0 54 (dk_at dksX0_wardenCost_3 19 rfl rfl)
theorem dX0_wardenCost_91 : decode cX0_wardenCost 91 = .ok (.iload 4, 2) := dk_21 4 (dk_at dksX0_wardenCost_3 22 rfl rfl)
theorem dX0_wardenCost_93 : decode cX0_wardenCost 93 = .ok (.aaload, 1) := dk_50 (dk_at dksX0_wardenCost_4 0 rfl rfl)
theorem dX0_wardenCost_94 : decode cX0_wardenCost 94 = .ok (.getfield 3, 3) := dk_180 0 3 (dk_at dksX0_wardenCost_4 1 rfl rfl)
theorem dX0_wardenCost_97 : decode cX0_wardenCost 97 = .ok (.iastore, 1) := dk_79 (dk_at dksX0_wardenCost_4 4 rfl rfl)
theorem dX0_wardenCost_98 : decode cX0_wardenCost 98 = .ok (.iinc 4 1, 3) := dk_132 4 1 (dk_at dksX0_wardenCost_4 5 rfl rfl)
theorem dX0_wardenCost_101 : decode cX0_wardenCost 101 = .ok (.goto (-29), 3) := dk_167 255 227 (dk_at dksX0_wardenCost_4 8 rfl rfl)
theorem dX0_wardenCost_104 : decode cX0_wardenCost 104 = .ok (.iinc 3 1, 3) := dk_132 3 1 (dk_at dksX0_wardenCost_4 11 rfl rfl)
theorem dX0_wardenCost_107 : decode cX0_wardenCost 107 = .ok (.goto (-92), 3) := dk_167 255 164 (dk_at dksX0_wardenCost_4 14 rfl rfl)
theorem dX0_wardenCost_110 : decode cX0_wardenCost 110 = .ok (.iload_n 2, 1) := dk_28 (dk_at dksX0_wardenCost_4 17 rfl rfl)
theorem dX0_wardenCost_111 : decode cX0_wardenCost 111 = .ok (.ireturn, 1) := dk_172 (dk_at dksX0_wardenCost_4 18 rfl rfl)
abbrev cX0_spoils : ByteArray := prog_1_method_55_code
def yX0_spoils : MethodName := ⟨RX0, "spoils", "(II)I"⟩
def dkwX0_spoils_8 : List UInt8 := [154, 0, 7, 29, 167, 0, 5, 21, 4, 172]
abbrev dktX0_spoils_8 : List UInt8 := dkwX0_spoils_8 ++ []
def dkwX0_spoils_7 : List UInt8 := [21, 7, 21, 4, 161, 0, 6, 167, 0, 10, 21, 5, 62, 21, 7, 54, 4, 132, 5, 1, 167, 255, 134, 28]
abbrev dktX0_spoils_7 : List UInt8 := dkwX0_spoils_7 ++ dktX0_spoils_8
def dkwX0_spoils_6 : List UInt8 := [167, 255, 192, 21, 6, 154, 0, 6, 167, 0, 32, 42, 182, 1, 114, 54, 7, 29, 16, 254, 159, 0, 13]
abbrev dktX0_spoils_6 : List UInt8 := dkwX0_spoils_6 ++ dktX0_spoils_7
def dkwX0_spoils_5 : List UInt8 := [21, 7, 46, 21, 5, 160, 0, 7, 2, 167, 0, 10, 42, 180, 0, 102, 21, 7, 46, 79, 132, 7, 1]
abbrev dktX0_spoils_5 : List UInt8 := dkwX0_spoils_5 ++ dktX0_spoils_6
def dkwX0_spoils_4 : List UInt8 := [21, 5, 160, 0, 7, 4, 167, 0, 4, 3, 128, 54, 6, 42, 180, 0, 96, 21, 7, 42, 180, 0, 102]
abbrev dktX0_spoils_4 : List UInt8 := dkwX0_spoils_4 ++ dktX0_spoils_5
def dkwX0_spoils_3 : List UInt8 := [54, 6, 3, 54, 7, 21, 7, 42, 180, 1, 89, 162, 0, 61, 21, 6, 42, 180, 0, 102, 21, 7, 46]
abbrev dktX0_spoils_3 : List UInt8 := dkwX0_spoils_3 ++ dktX0_spoils_4
def dkwX0_spoils_2 : List UInt8 := [184, 1, 145, 16, 254, 62, 16, 254, 54, 4, 3, 54, 5, 21, 5, 42, 180, 0, 169, 162, 0, 119, 3]
abbrev dktX0_spoils_2 : List UInt8 := dkwX0_spoils_2 ++ dktX0_spoils_3
def dkwX0_spoils_1 : List UInt8 := [156, 0, 9, 42, 27, 182, 1, 92, 172, 42, 180, 0, 96, 3, 42, 180, 0, 102, 3, 42, 180, 1, 89]
abbrev dktX0_spoils_1 : List UInt8 := dkwX0_spoils_1 ++ dktX0_spoils_2
def dkwX0_spoils_0 : List UInt8 := [27, 184, 0, 194, 153, 0, 13, 28, 133, 9, 10, 184, 0, 147, 154, 0, 5, 2, 172, 42, 27, 182, 1, 99]
abbrev dktX0_spoils_0 : List UInt8 := dkwX0_spoils_0 ++ dktX0_spoils_1
theorem dksX0_spoils_0 : cX0_spoils.data.toList.drop 0 = dktX0_spoils_0 := by decide +kernel
theorem dksX0_spoils_1 : cX0_spoils.data.toList.drop 24 = dktX0_spoils_1 := dk_seg dksX0_spoils_0 24 rfl rfl
theorem dksX0_spoils_2 : cX0_spoils.data.toList.drop 47 = dktX0_spoils_2 := dk_seg dksX0_spoils_1 23 rfl rfl
theorem dksX0_spoils_3 : cX0_spoils.data.toList.drop 70 = dktX0_spoils_3 := dk_seg dksX0_spoils_2 23 rfl rfl
theorem dksX0_spoils_4 : cX0_spoils.data.toList.drop 93 = dktX0_spoils_4 := dk_seg dksX0_spoils_3 23 rfl rfl
theorem dksX0_spoils_5 : cX0_spoils.data.toList.drop 116 = dktX0_spoils_5 := dk_seg dksX0_spoils_4 23 rfl rfl
theorem dksX0_spoils_6 : cX0_spoils.data.toList.drop 139 = dktX0_spoils_6 := dk_seg dksX0_spoils_5 23 rfl rfl
theorem dksX0_spoils_7 : cX0_spoils.data.toList.drop 162 = dktX0_spoils_7 := dk_seg dksX0_spoils_6 23 rfl rfl
theorem dksX0_spoils_8 : cX0_spoils.data.toList.drop 186 = dktX0_spoils_8 := dk_seg dksX0_spoils_7 24 rfl rfl
theorem dX0_spoils_0 : decode cX0_spoils 0 = .ok (.iload_n 1, 1) := dk_27 (dk_at dksX0_spoils_0 0 rfl rfl)
theorem dX0_spoils_1 : decode cX0_spoils 1 = .ok (.invokestatic 194, 3) := dk_184 0 194 (dk_at dksX0_spoils_0 1 rfl rfl)
theorem dX0_spoils_4 : decode cX0_spoils 4 = .ok (.ifCond .eq 13, 3) := dk_153 0 13 (dk_at dksX0_spoils_0 4 rfl rfl)
theorem dX0_spoils_7 : decode cX0_spoils 7 = .ok (.iload_n 2, 1) := dk_28 (dk_at dksX0_spoils_0 7 rfl rfl)
theorem dX0_spoils_8 : decode cX0_spoils 8 = .ok (.i2l, 1) := dk_133 (dk_at dksX0_spoils_0 8 rfl rfl)
theorem dX0_spoils_9 : decode cX0_spoils 9 = .ok (.lconst 0, 1) := dk_9 (dk_at dksX0_spoils_0 9 rfl rfl)
theorem dX0_spoils_10 : decode cX0_spoils 10 = .ok (.lconst 1, 1) := dk_10 (dk_at dksX0_spoils_0 10 rfl rfl)
theorem dX0_spoils_11 : decode cX0_spoils 11 = .ok (.invokestatic 147, 3) := dk_184 0 147 (dk_at dksX0_spoils_0 11 rfl rfl)
theorem dX0_spoils_14 : decode cX0_spoils 14 = .ok (.ifCond .ne 5, 3) := dk_154 0 5 (dk_at dksX0_spoils_0 14 rfl rfl)
theorem dX0_spoils_17 : decode cX0_spoils 17 = .ok (.iconst (-1), 1) := dk_2 (dk_at dksX0_spoils_0 17 rfl rfl)
theorem dX0_spoils_18 : decode cX0_spoils 18 = .ok (.ireturn, 1) := dk_172 (dk_at dksX0_spoils_0 18 rfl rfl)
theorem dX0_spoils_19 : decode cX0_spoils 19 = .ok (.aload_n 0, 1) := dk_42 (dk_at dksX0_spoils_0 19 rfl rfl)
theorem dX0_spoils_20 : decode cX0_spoils 20 = .ok (.iload_n 1, 1) := dk_27 (dk_at dksX0_spoils_0 20 rfl rfl)
theorem dX0_spoils_21 : decode cX0_spoils 21 = .ok (.invokevirtual 355, 3) := dk_182 1 99 (dk_at dksX0_spoils_0 21 rfl rfl)
theorem dX0_spoils_24 : decode cX0_spoils 24 = .ok (.ifCond .ge 9, 3) := dk_156 0 9 (dk_at dksX0_spoils_1 0 rfl rfl)
theorem dX0_spoils_27 : decode cX0_spoils 27 = .ok (.aload_n 0, 1) := dk_42 (dk_at dksX0_spoils_1 3 rfl rfl)
theorem dX0_spoils_28 : decode cX0_spoils 28 = .ok (.iload_n 1, 1) := dk_27 (dk_at dksX0_spoils_1 4 rfl rfl)
theorem dX0_spoils_29 : decode cX0_spoils 29 = .ok (.invokevirtual 348, 3) := dk_182 1 92 (dk_at dksX0_spoils_1 5 rfl rfl)
theorem dX0_spoils_32 : decode cX0_spoils 32 = .ok (.ireturn, 1) := dk_172 (dk_at dksX0_spoils_1 8 rfl rfl)
theorem dX0_spoils_33 : decode cX0_spoils 33 = .ok (.aload_n 0, 1) := dk_42 (dk_at dksX0_spoils_1 9 rfl rfl)
theorem dX0_spoils_34 : decode cX0_spoils 34 = .ok (.getfield 96, 3) := dk_180 0 96 (dk_at dksX0_spoils_1 10 rfl rfl)
theorem dX0_spoils_37 : decode cX0_spoils 37 = .ok (.iconst 0, 1) := dk_3 (dk_at dksX0_spoils_1 13 rfl rfl)
theorem dX0_spoils_38 : decode cX0_spoils 38 = .ok (.aload_n 0, 1) := dk_42 (dk_at dksX0_spoils_1 14 rfl rfl)
theorem dX0_spoils_39 : decode cX0_spoils 39 = .ok (.getfield 102, 3) := dk_180 0 102 (dk_at dksX0_spoils_1 15 rfl rfl)
theorem dX0_spoils_42 : decode cX0_spoils 42 = .ok (.iconst 0, 1) := dk_3 (dk_at dksX0_spoils_1 18 rfl rfl)
theorem dX0_spoils_43 : decode cX0_spoils 43 = .ok (.aload_n 0, 1) := dk_42 (dk_at dksX0_spoils_1 19 rfl rfl)
theorem dX0_spoils_44 : decode cX0_spoils 44 = .ok (.getfield 345, 3) := dk_180 1 89 (dk_at dksX0_spoils_1 20 rfl rfl)
theorem dX0_spoils_47 : decode cX0_spoils 47 = .ok (.invokestatic 401, 3) := dk_184 1 145 (dk_at dksX0_spoils_2 0 rfl rfl)
theorem dX0_spoils_50 : decode cX0_spoils 50 = .ok (.bipush (-2), 2) := dk_16 254 (dk_at dksX0_spoils_2 3 rfl rfl)
theorem dX0_spoils_52 : decode cX0_spoils 52 = .ok (.istore_n 3, 1) := dk_62 (dk_at dksX0_spoils_2 5 rfl rfl)
theorem dX0_spoils_53 : decode cX0_spoils 53 = .ok (.bipush (-2), 2) := dk_16 254 (dk_at dksX0_spoils_2 6 rfl rfl)
theorem dX0_spoils_55 : decode cX0_spoils 55 = .ok (.istore 4, 2) := dk_54 4 (dk_at dksX0_spoils_2 8 rfl rfl)
theorem dX0_spoils_57 : decode cX0_spoils 57 = .ok (.iconst 0, 1) := dk_3 (dk_at dksX0_spoils_2 10 rfl rfl)
theorem dX0_spoils_58 : decode cX0_spoils 58 = .ok (.istore 5, 2) := dk_54 5 (dk_at dksX0_spoils_2 11 rfl rfl)
theorem dX0_spoils_60 : decode cX0_spoils 60 = .ok (.iload 5, 2) := dk_21 5 (dk_at dksX0_spoils_2 13 rfl rfl)
theorem dX0_spoils_62 : decode cX0_spoils 62 = .ok (.aload_n 0, 1) := dk_42 (dk_at dksX0_spoils_2 15 rfl rfl)
theorem dX0_spoils_63 : decode cX0_spoils 63 = .ok (.getfield 169, 3) := dk_180 0 169 (dk_at dksX0_spoils_2 16 rfl rfl)
theorem dX0_spoils_66 : decode cX0_spoils 66 = .ok (.if_icmp .ge 119, 3) := dk_162 0 119 (dk_at dksX0_spoils_2 19 rfl rfl)
theorem dX0_spoils_69 : decode cX0_spoils 69 = .ok (.iconst 0, 1) := dk_3 (dk_at dksX0_spoils_2 22 rfl rfl)
theorem dX0_spoils_70 : decode cX0_spoils 70 = .ok (.istore 6, 2) := dk_54 6 (dk_at dksX0_spoils_3 0 rfl rfl)
theorem dX0_spoils_72 : decode cX0_spoils 72 = .ok (.iconst 0, 1) := dk_3 (dk_at dksX0_spoils_3 2 rfl rfl)
theorem dX0_spoils_73 : decode cX0_spoils 73 = .ok (.istore 7, 2) := dk_54 7 (dk_at dksX0_spoils_3 3 rfl rfl)
theorem dX0_spoils_75 : decode cX0_spoils 75 = .ok (.iload 7, 2) := dk_21 7 (dk_at dksX0_spoils_3 5 rfl rfl)
theorem dX0_spoils_77 : decode cX0_spoils 77 = .ok (.aload_n 0, 1) := dk_42 (dk_at dksX0_spoils_3 7 rfl rfl)
theorem dX0_spoils_78 : decode cX0_spoils 78 = .ok (.getfield 345, 3) := dk_180 1 89 (dk_at dksX0_spoils_3 8 rfl rfl)
theorem dX0_spoils_81 : decode cX0_spoils 81 = .ok (.if_icmp .ge 61, 3) := dk_162 0 61 (dk_at dksX0_spoils_3 11 rfl rfl)
theorem dX0_spoils_84 : decode cX0_spoils 84 = .ok (.iload 6, 2) := dk_21 6 (dk_at dksX0_spoils_3 14 rfl rfl)
theorem dX0_spoils_86 : decode cX0_spoils 86 = .ok (.aload_n 0, 1) := dk_42 (dk_at dksX0_spoils_3 16 rfl rfl)
theorem dX0_spoils_87 : decode cX0_spoils 87 = .ok (.getfield 102, 3) := dk_180 0 102 (dk_at dksX0_spoils_3 17 rfl rfl)
theorem dX0_spoils_90 : decode cX0_spoils 90 = .ok (.iload 7, 2) := dk_21 7 (dk_at dksX0_spoils_3 20 rfl rfl)
theorem dX0_spoils_92 : decode cX0_spoils 92 = .ok (.iaload, 1) := dk_46 (dk_at dksX0_spoils_3 22 rfl rfl)
theorem dX0_spoils_93 : decode cX0_spoils 93 = .ok (.iload 5, 2) := dk_21 5 (dk_at dksX0_spoils_4 0 rfl rfl)
theorem dX0_spoils_95 : decode cX0_spoils 95 = .ok (.if_icmp .ne 7, 3) := dk_160 0 7 (dk_at dksX0_spoils_4 2 rfl rfl)
theorem dX0_spoils_98 : decode cX0_spoils 98 = .ok (.iconst 1, 1) := dk_4 (dk_at dksX0_spoils_4 5 rfl rfl)
theorem dX0_spoils_99 : decode cX0_spoils 99 = .ok (.goto 4, 3) := dk_167 0 4 (dk_at dksX0_spoils_4 6 rfl rfl)
theorem dX0_spoils_102 : decode cX0_spoils 102 = .ok (.iconst 0, 1) := dk_3 (dk_at dksX0_spoils_4 9 rfl rfl)
theorem dX0_spoils_103 : decode cX0_spoils 103 = .ok (.ior, 1) := dk_128 (dk_at dksX0_spoils_4 10 rfl rfl)
theorem dX0_spoils_104 : decode cX0_spoils 104 = .ok (.istore 6, 2) := dk_54 6 (dk_at dksX0_spoils_4 11 rfl rfl)
theorem dX0_spoils_106 : decode cX0_spoils 106 = .ok (.aload_n 0, 1) := dk_42 (dk_at dksX0_spoils_4 13 rfl rfl)
theorem dX0_spoils_107 : decode cX0_spoils 107 = .ok (.getfield 96, 3) := dk_180 0 96 (dk_at dksX0_spoils_4 14 rfl rfl)
theorem dX0_spoils_110 : decode cX0_spoils 110 = .ok (.iload 7, 2) := dk_21 7 (dk_at dksX0_spoils_4 17 rfl rfl)
theorem dX0_spoils_112 : decode cX0_spoils 112 = .ok (.aload_n 0, 1) := dk_42 (dk_at dksX0_spoils_4 19 rfl rfl)
theorem dX0_spoils_113 : decode cX0_spoils 113 = .ok (.getfield 102, 3) := dk_180 0 102 (dk_at dksX0_spoils_4 20 rfl rfl)
theorem dX0_spoils_116 : decode cX0_spoils 116 = .ok (.iload 7, 2) := dk_21 7 (dk_at dksX0_spoils_5 0 rfl rfl)
theorem dX0_spoils_118 : decode cX0_spoils 118 = .ok (.iaload, 1) := dk_46 (dk_at dksX0_spoils_5 2 rfl rfl)
theorem dX0_spoils_119 : decode cX0_spoils 119 = .ok (.iload 5, 2) := dk_21 5 (dk_at dksX0_spoils_5 3 rfl rfl)
theorem dX0_spoils_121 : decode cX0_spoils 121 = .ok (.if_icmp .ne 7, 3) := dk_160 0 7 (dk_at dksX0_spoils_5 5 rfl rfl)
theorem dX0_spoils_124 : decode cX0_spoils 124 = .ok (.iconst (-1), 1) := dk_2 (dk_at dksX0_spoils_5 8 rfl rfl)
theorem dX0_spoils_125 : decode cX0_spoils 125 = .ok (.goto 10, 3) := dk_167 0 10 (dk_at dksX0_spoils_5 9 rfl rfl)
theorem dX0_spoils_128 : decode cX0_spoils 128 = .ok (.aload_n 0, 1) := dk_42 (dk_at dksX0_spoils_5 12 rfl rfl)
theorem dX0_spoils_129 : decode cX0_spoils 129 = .ok (.getfield 102, 3) := dk_180 0 102 (dk_at dksX0_spoils_5 13 rfl rfl)
theorem dX0_spoils_132 : decode cX0_spoils 132 = .ok (.iload 7, 2) := dk_21 7 (dk_at dksX0_spoils_5 16 rfl rfl)
theorem dX0_spoils_134 : decode cX0_spoils 134 = .ok (.iaload, 1) := dk_46 (dk_at dksX0_spoils_5 18 rfl rfl)
theorem dX0_spoils_135 : decode cX0_spoils 135 = .ok (.iastore, 1) := dk_79 (dk_at dksX0_spoils_5 19 rfl rfl)
theorem dX0_spoils_136 : decode cX0_spoils 136 = .ok (.iinc 7 1, 3) := dk_132 7 1 (dk_at dksX0_spoils_5 20 rfl rfl)
theorem dX0_spoils_139 : decode cX0_spoils 139 = .ok (.goto (-64), 3) := dk_167 255 192 (dk_at dksX0_spoils_6 0 rfl rfl)
theorem dX0_spoils_142 : decode cX0_spoils 142 = .ok (.iload 6, 2) := dk_21 6 (dk_at dksX0_spoils_6 3 rfl rfl)
theorem dX0_spoils_144 : decode cX0_spoils 144 = .ok (.ifCond .ne 6, 3) := dk_154 0 6 (dk_at dksX0_spoils_6 5 rfl rfl)
theorem dX0_spoils_147 : decode cX0_spoils 147 = .ok (.goto 32, 3) := dk_167 0 32 (dk_at dksX0_spoils_6 8 rfl rfl)
theorem dX0_spoils_150 : decode cX0_spoils 150 = .ok (.aload_n 0, 1) := dk_42 (dk_at dksX0_spoils_6 11 rfl rfl)
theorem dX0_spoils_151 : decode cX0_spoils 151 = .ok (.invokevirtual 370, 3) := dk_182 1 114 (dk_at dksX0_spoils_6 12 rfl rfl)
theorem dX0_spoils_154 : decode cX0_spoils 154 = .ok (.istore 7, 2) := dk_54 7 (dk_at dksX0_spoils_6 15 rfl rfl)
theorem dX0_spoils_156 : decode cX0_spoils 156 = .ok (.iload_n 3, 1) := dk_29 (dk_at dksX0_spoils_6 17 rfl rfl)
theorem dX0_spoils_157 : decode cX0_spoils 157 = .ok (.bipush (-2), 2) := dk_16 254 (dk_at dksX0_spoils_6 18 rfl rfl)
theorem dX0_spoils_159 : decode cX0_spoils 159 = .ok (.if_icmp .eq 13, 3) := dk_159 0 13 (dk_at dksX0_spoils_6 20 rfl rfl)
theorem dX0_spoils_162 : decode cX0_spoils 162 = .ok (.iload 7, 2) := dk_21 7 (dk_at dksX0_spoils_7 0 rfl rfl)
theorem dX0_spoils_164 : decode cX0_spoils 164 = .ok (.iload 4, 2) := dk_21 4 (dk_at dksX0_spoils_7 2 rfl rfl)
theorem dX0_spoils_166 : decode cX0_spoils 166 = .ok (.if_icmp .lt 6, 3) := dk_161 0 6 (dk_at dksX0_spoils_7 4 rfl rfl)
theorem dX0_spoils_169 : decode cX0_spoils 169 = .ok (.goto 10, 3) := dk_167 0 10 (dk_at dksX0_spoils_7 7 rfl rfl)
theorem dX0_spoils_172 : decode cX0_spoils 172 = .ok (.iload 5, 2) := dk_21 5 (dk_at dksX0_spoils_7 10 rfl rfl)
theorem dX0_spoils_174 : decode cX0_spoils 174 = .ok (.istore_n 3, 1) := dk_62 (dk_at dksX0_spoils_7 12 rfl rfl)
theorem dX0_spoils_175 : decode cX0_spoils 175 = .ok (.iload 7, 2) := dk_21 7 (dk_at dksX0_spoils_7 13 rfl rfl)
theorem dX0_spoils_177 : decode cX0_spoils 177 = .ok (.istore 4, 2) := dk_54 4 (dk_at dksX0_spoils_7 15 rfl rfl)
theorem dX0_spoils_179 : decode cX0_spoils 179 = .ok (.iinc 5 1, 3) := dk_132 5 1 (dk_at dksX0_spoils_7 17 rfl rfl)
theorem dX0_spoils_182 : decode cX0_spoils 182 = .ok (.goto (-122), 3) := dk_167 255 134 (dk_at dksX0_spoils_7 20 rfl rfl)
theorem dX0_spoils_185 : decode cX0_spoils 185 = .ok (.iload_n 2, 1) := dk_28 (dk_at dksX0_spoils_7 23 rfl rfl)
theorem dX0_spoils_186 : decode cX0_spoils 186 = .ok (.ifCond .ne 7, 3) := dk_154 0 7 (dk_at dksX0_spoils_8 0 rfl rfl)
theorem dX0_spoils_189 : decode cX0_spoils 189 = .ok (.iload_n 3, 1) := dk_29 (dk_at dksX0_spoils_8 3 rfl rfl)
theorem dX0_spoils_190 : decode cX0_spoils 190 = .ok (.goto 5, 3) := dk_167 0 5 (dk_at dksX0_spoils_8 4 rfl rfl)
theorem dX0_spoils_193 : decode cX0_spoils 193 = .ok (.iload 4, 2) := dk_21 4 (dk_at dksX0_spoils_8 7 rfl rfl)
theorem dX0_spoils_195 : decode cX0_spoils 195 = .ok (.ireturn, 1) := dk_172 (dk_at dksX0_spoils_8 9 rfl rfl)
abbrev cX0_order : ByteArray := prog_1_method_57_code
def yX0_order : MethodName := ⟨RX0, "order", "(II)I"⟩
def dkwX0_order_3 : List UInt8 := [42, 180, 1, 151, 167, 0, 19, 28, 29, 162, 0, 12, 42, 180, 0, 108, 28, 46, 167, 0, 5, 16, 254, 172]
abbrev dktX0_order_3 : List UInt8 := dkwX0_order_3 ++ []
def dkwX0_order_2 : List UInt8 := [180, 1, 89, 184, 1, 77, 62, 42, 2, 181, 1, 151, 42, 3, 3, 29, 182, 1, 154, 28, 2, 160, 0, 10]
abbrev dktX0_order_2 : List UInt8 := dkwX0_order_2 ++ dktX0_order_3
def dkwX0_order_1 : List UInt8 := [182, 1, 92, 172, 42, 180, 0, 96, 3, 42, 180, 0, 102, 3, 42, 180, 1, 89, 184, 1, 145, 8, 42]
abbrev dktX0_order_1 : List UInt8 := dkwX0_order_1 ++ dktX0_order_2
def dkwX0_order_0 : List UInt8 := [27, 184, 0, 194, 153, 0, 8, 28, 2, 162, 0, 5, 2, 172, 42, 27, 182, 1, 99, 156, 0, 9, 42, 27]
abbrev dktX0_order_0 : List UInt8 := dkwX0_order_0 ++ dktX0_order_1
theorem dksX0_order_0 : cX0_order.data.toList.drop 0 = dktX0_order_0 := by decide +kernel
theorem dksX0_order_1 : cX0_order.data.toList.drop 24 = dktX0_order_1 := dk_seg dksX0_order_0 24 rfl rfl
theorem dksX0_order_2 : cX0_order.data.toList.drop 47 = dktX0_order_2 := dk_seg dksX0_order_1 23 rfl rfl
theorem dksX0_order_3 : cX0_order.data.toList.drop 71 = dktX0_order_3 := dk_seg dksX0_order_2 24 rfl rfl
theorem dX0_order_0 : decode cX0_order 0 = .ok (.iload_n 1, 1) := dk_27 (dk_at dksX0_order_0 0 rfl rfl)
theorem dX0_order_1 : decode cX0_order 1 = .ok (.invokestatic 194, 3) := dk_184 0 194 (dk_at dksX0_order_0 1 rfl rfl)
theorem dX0_order_4 : decode cX0_order 4 = .ok (.ifCond .eq 8, 3) := dk_153 0 8 (dk_at dksX0_order_0 4 rfl rfl)
theorem dX0_order_7 : decode cX0_order 7 = .ok (.iload_n 2, 1) := dk_28 (dk_at dksX0_order_0 7 rfl rfl)
theorem dX0_order_8 : decode cX0_order 8 = .ok (.iconst (-1), 1) := dk_2 (dk_at dksX0_order_0 8 rfl rfl)
theorem dX0_order_9 : decode cX0_order 9 = .ok (.if_icmp .ge 5, 3) := dk_162 0 5 (dk_at dksX0_order_0 9 rfl rfl)
theorem dX0_order_12 : decode cX0_order 12 = .ok (.iconst (-1), 1) := dk_2 (dk_at dksX0_order_0 12 rfl rfl)
theorem dX0_order_13 : decode cX0_order 13 = .ok (.ireturn, 1) := dk_172 (dk_at dksX0_order_0 13 rfl rfl)
theorem dX0_order_14 : decode cX0_order 14 = .ok (.aload_n 0, 1) := dk_42 (dk_at dksX0_order_0 14 rfl rfl)
theorem dX0_order_15 : decode cX0_order 15 = .ok (.iload_n 1, 1) := dk_27 (dk_at dksX0_order_0 15 rfl rfl)
theorem dX0_order_16 : decode cX0_order 16 = .ok (.invokevirtual 355, 3) := dk_182 1 99 (dk_at dksX0_order_0 16 rfl rfl)
theorem dX0_order_19 : decode cX0_order 19 = .ok (.ifCond .ge 9, 3) := dk_156 0 9 (dk_at dksX0_order_0 19 rfl rfl)
theorem dX0_order_22 : decode cX0_order 22 = .ok (.aload_n 0, 1) := dk_42 (dk_at dksX0_order_0 22 rfl rfl)
theorem dX0_order_23 : decode cX0_order 23 = .ok (.iload_n 1, 1) := dk_27 (dk_at dksX0_order_0 23 rfl rfl)
theorem dX0_order_24 : decode cX0_order 24 = .ok (.invokevirtual 348, 3) := dk_182 1 92 (dk_at dksX0_order_1 0 rfl rfl)
theorem dX0_order_27 : decode cX0_order 27 = .ok (.ireturn, 1) := dk_172 (dk_at dksX0_order_1 3 rfl rfl)
theorem dX0_order_28 : decode cX0_order 28 = .ok (.aload_n 0, 1) := dk_42 (dk_at dksX0_order_1 4 rfl rfl)
theorem dX0_order_29 : decode cX0_order 29 = .ok (.getfield 96, 3) := dk_180 0 96 (dk_at dksX0_order_1 5 rfl rfl)
theorem dX0_order_32 : decode cX0_order 32 = .ok (.iconst 0, 1) := dk_3 (dk_at dksX0_order_1 8 rfl rfl)
theorem dX0_order_33 : decode cX0_order 33 = .ok (.aload_n 0, 1) := dk_42 (dk_at dksX0_order_1 9 rfl rfl)
theorem dX0_order_34 : decode cX0_order 34 = .ok (.getfield 102, 3) := dk_180 0 102 (dk_at dksX0_order_1 10 rfl rfl)
theorem dX0_order_37 : decode cX0_order 37 = .ok (.iconst 0, 1) := dk_3 (dk_at dksX0_order_1 13 rfl rfl)
theorem dX0_order_38 : decode cX0_order 38 = .ok (.aload_n 0, 1) := dk_42 (dk_at dksX0_order_1 14 rfl rfl)
theorem dX0_order_39 : decode cX0_order 39 = .ok (.getfield 345, 3) := dk_180 1 89 (dk_at dksX0_order_1 15 rfl rfl)
theorem dX0_order_42 : decode cX0_order 42 = .ok (.invokestatic 401, 3) := dk_184 1 145 (dk_at dksX0_order_1 18 rfl rfl)
theorem dX0_order_45 : decode cX0_order 45 = .ok (.iconst 5, 1) := dk_8 (dk_at dksX0_order_1 21 rfl rfl)
theorem dX0_order_46 : decode cX0_order 46 = .ok (.aload_n 0, 1) := dk_42 (dk_at dksX0_order_1 22 rfl rfl)
theorem dX0_order_47 : decode cX0_order 47 = .ok (.getfield 345, 3) := dk_180 1 89 (dk_at dksX0_order_2 0 rfl rfl)
theorem dX0_order_50 : decode cX0_order 50 = .ok (.invokestatic 333, 3) := dk_184 1 77 (dk_at dksX0_order_2 3 rfl rfl)
theorem dX0_order_53 : decode cX0_order 53 = .ok (.istore_n 3, 1) := dk_62 (dk_at dksX0_order_2 6 rfl rfl)
theorem dX0_order_54 : decode cX0_order 54 = .ok (.aload_n 0, 1) := dk_42 (dk_at dksX0_order_2 7 rfl rfl)
theorem dX0_order_55 : decode cX0_order 55 = .ok (.iconst (-1), 1) := dk_2 (dk_at dksX0_order_2 8 rfl rfl)
theorem dX0_order_56 : decode cX0_order 56 = .ok (.putfield 407, 3) := dk_181 1 151 (dk_at dksX0_order_2 9 rfl rfl)
theorem dX0_order_59 : decode cX0_order 59 = .ok (.aload_n 0, 1) := dk_42 (dk_at dksX0_order_2 12 rfl rfl)
theorem dX0_order_60 : decode cX0_order 60 = .ok (.iconst 0, 1) := dk_3 (dk_at dksX0_order_2 13 rfl rfl)
theorem dX0_order_61 : decode cX0_order 61 = .ok (.iconst 0, 1) := dk_3 (dk_at dksX0_order_2 14 rfl rfl)
theorem dX0_order_62 : decode cX0_order 62 = .ok (.iload_n 3, 1) := dk_29 (dk_at dksX0_order_2 15 rfl rfl)
theorem dX0_order_63 : decode cX0_order 63 = .ok (.invokevirtual 410, 3) := dk_182 1 154 (dk_at dksX0_order_2 16 rfl rfl)
theorem dX0_order_66 : decode cX0_order 66 = .ok (.iload_n 2, 1) := dk_28 (dk_at dksX0_order_2 19 rfl rfl)
theorem dX0_order_67 : decode cX0_order 67 = .ok (.iconst (-1), 1) := dk_2 (dk_at dksX0_order_2 20 rfl rfl)
theorem dX0_order_68 : decode cX0_order 68 = .ok (.if_icmp .ne 10, 3) := dk_160 0 10 (dk_at dksX0_order_2 21 rfl rfl)
theorem dX0_order_71 : decode cX0_order 71 = .ok (.aload_n 0, 1) := dk_42 (dk_at dksX0_order_3 0 rfl rfl)
theorem dX0_order_72 : decode cX0_order 72 = .ok (.getfield 407, 3) := dk_180 1 151 (dk_at dksX0_order_3 1 rfl rfl)
theorem dX0_order_75 : decode cX0_order 75 = .ok (.goto 19, 3) := dk_167 0 19 (dk_at dksX0_order_3 4 rfl rfl)
theorem dX0_order_78 : decode cX0_order 78 = .ok (.iload_n 2, 1) := dk_28 (dk_at dksX0_order_3 7 rfl rfl)
theorem dX0_order_79 : decode cX0_order 79 = .ok (.iload_n 3, 1) := dk_29 (dk_at dksX0_order_3 8 rfl rfl)
theorem dX0_order_80 : decode cX0_order 80 = .ok (.if_icmp .ge 12, 3) := dk_162 0 12 (dk_at dksX0_order_3 9 rfl rfl)
theorem dX0_order_83 : decode cX0_order 83 = .ok (.aload_n 0, 1) := dk_42 (dk_at dksX0_order_3 12 rfl rfl)
theorem dX0_order_84 : decode cX0_order 84 = .ok (.getfield 108, 3) := dk_180 0 108 (dk_at dksX0_order_3 13 rfl rfl)
theorem dX0_order_87 : decode cX0_order 87 = .ok (.iload_n 2, 1) := dk_28 (dk_at dksX0_order_3 16 rfl rfl)
theorem dX0_order_88 : decode cX0_order 88 = .ok (.iaload, 1) := dk_46 (dk_at dksX0_order_3 17 rfl rfl)
theorem dX0_order_89 : decode cX0_order 89 = .ok (.goto 5, 3) := dk_167 0 5 (dk_at dksX0_order_3 18 rfl rfl)
theorem dX0_order_92 : decode cX0_order 92 = .ok (.bipush (-2), 2) := dk_16 254 (dk_at dksX0_order_3 21 rfl rfl)
theorem dX0_order_94 : decode cX0_order 94 = .ok (.ireturn, 1) := dk_172 (dk_at dksX0_order_3 23 rfl rfl)
abbrev cX0_tryOrders : ByteArray := prog_1_method_56_code
def yX0_tryOrders : MethodName := ⟨RX0, "tryOrders", "(III)V"⟩
def dkwX0_tryOrders_5 : List UInt8 := [4, 21, 4, 120, 128, 29, 182, 1, 154, 132, 4, 1, 167, 255, 213, 177]
abbrev dktX0_tryOrders_5 : List UInt8 := dkwX0_tryOrders_5 ++ []
def dkwX0_tryOrders_4 : List UInt8 := [21, 4, 184, 0, 245, 153, 0, 6, 167, 0, 25, 42, 180, 0, 105, 27, 21, 4, 79, 42, 27, 4, 96, 28]
abbrev dktX0_tryOrders_4 : List UInt8 := dkwX0_tryOrders_4 ++ dktX0_tryOrders_5
def dkwX0_tryOrders_3 : List UInt8 := [180, 0, 105, 3, 42, 180, 0, 108, 3, 29, 184, 1, 145, 177, 3, 54, 4, 21, 4, 29, 162, 0, 43, 28]
abbrev dktX0_tryOrders_3 : List UInt8 := dkwX0_tryOrders_3 ++ dktX0_tryOrders_4
def dkwX0_tryOrders_2 : List UInt8 := [180, 1, 151, 155, 0, 13, 21, 4, 42, 180, 1, 151, 161, 0, 4, 177, 42, 21, 4, 181, 1, 151, 42]
abbrev dktX0_tryOrders_2 : List UInt8 := dkwX0_tryOrders_2 ++ dktX0_tryOrders_3
def dkwX0_tryOrders_1 : List UInt8 := [42, 180, 0, 105, 21, 4, 46, 46, 79, 132, 4, 1, 167, 255, 228, 42, 182, 1, 114, 54, 4, 42]
abbrev dktX0_tryOrders_1 : List UInt8 := dkwX0_tryOrders_1 ++ dktX0_tryOrders_2
def dkwX0_tryOrders_0 : List UInt8 := [27, 29, 160, 0, 81, 3, 54, 4, 21, 4, 29, 162, 0, 28, 42, 180, 0, 96, 21, 4, 42, 180, 0, 102]
abbrev dktX0_tryOrders_0 : List UInt8 := dkwX0_tryOrders_0 ++ dktX0_tryOrders_1
theorem dksX0_tryOrders_0 : cX0_tryOrders.data.toList.drop 0 = dktX0_tryOrders_0 := by decide +kernel
theorem dksX0_tryOrders_1 : cX0_tryOrders.data.toList.drop 24 = dktX0_tryOrders_1 := dk_seg dksX0_tryOrders_0 24 rfl rfl
theorem dksX0_tryOrders_2 : cX0_tryOrders.data.toList.drop 46 = dktX0_tryOrders_2 := dk_seg dksX0_tryOrders_1 22 rfl rfl
theorem dksX0_tryOrders_3 : cX0_tryOrders.data.toList.drop 69 = dktX0_tryOrders_3 := dk_seg dksX0_tryOrders_2 23 rfl rfl
theorem dksX0_tryOrders_4 : cX0_tryOrders.data.toList.drop 93 = dktX0_tryOrders_4 := dk_seg dksX0_tryOrders_3 24 rfl rfl
theorem dksX0_tryOrders_5 : cX0_tryOrders.data.toList.drop 117 = dktX0_tryOrders_5 := dk_seg dksX0_tryOrders_4 24 rfl rfl
theorem dX0_tryOrders_0 : decode cX0_tryOrders 0 = .ok (.iload_n 1, 1) := dk_27 (dk_at dksX0_tryOrders_0 0 rfl rfl)
theorem dX0_tryOrders_1 : decode cX0_tryOrders 1 = .ok (.iload_n 3, 1) := dk_29 (dk_at dksX0_tryOrders_0 1 rfl rfl)
theorem dX0_tryOrders_2 : decode cX0_tryOrders 2 = .ok (.if_icmp .ne 81, 3) := dk_160 0 81 (dk_at dksX0_tryOrders_0 2 rfl rfl)
theorem dX0_tryOrders_5 : decode cX0_tryOrders 5 = .ok (.iconst 0, 1) := dk_3 (dk_at dksX0_tryOrders_0 5 rfl rfl)
theorem dX0_tryOrders_6 : decode cX0_tryOrders 6 = .ok (.istore 4, 2) := dk_54 4 (dk_at dksX0_tryOrders_0 6 rfl rfl)
theorem dX0_tryOrders_8 : decode cX0_tryOrders 8 = .ok (.iload 4, 2) := dk_21 4 (dk_at dksX0_tryOrders_0 8 rfl rfl)
theorem dX0_tryOrders_10 : decode cX0_tryOrders 10 = .ok (.iload_n 3, 1) := dk_29 (dk_at dksX0_tryOrders_0 10 rfl rfl)
theorem dX0_tryOrders_11 : decode cX0_tryOrders 11 = .ok (.if_icmp .ge 28, 3) := dk_162 0 28 (dk_at dksX0_tryOrders_0 11 rfl rfl)
theorem dX0_tryOrders_14 : decode cX0_tryOrders 14 = .ok (.aload_n 0, 1) := dk_42 (dk_at dksX0_tryOrders_0 14 rfl rfl)
theorem dX0_tryOrders_15 : decode cX0_tryOrders 15 = .ok (.getfield 96, 3) := dk_180 0 96 (dk_at dksX0_tryOrders_0 15 rfl rfl)
theorem dX0_tryOrders_18 : decode cX0_tryOrders 18 = .ok (.iload 4, 2) := dk_21 4 (dk_at dksX0_tryOrders_0 18 rfl rfl)
theorem dX0_tryOrders_20 : decode cX0_tryOrders 20 = .ok (.aload_n 0, 1) := dk_42 (dk_at dksX0_tryOrders_0 20 rfl rfl)
theorem dX0_tryOrders_21 : decode cX0_tryOrders 21 = .ok (.getfield 102, 3) := dk_180 0 102 (dk_at dksX0_tryOrders_0 21 rfl rfl)
theorem dX0_tryOrders_24 : decode cX0_tryOrders 24 = .ok (.aload_n 0, 1) := dk_42 (dk_at dksX0_tryOrders_1 0 rfl rfl)
theorem dX0_tryOrders_25 : decode cX0_tryOrders 25 = .ok (.getfield 105, 3) := dk_180 0 105 (dk_at dksX0_tryOrders_1 1 rfl rfl)
theorem dX0_tryOrders_28 : decode cX0_tryOrders 28 = .ok (.iload 4, 2) := dk_21 4 (dk_at dksX0_tryOrders_1 4 rfl rfl)
theorem dX0_tryOrders_30 : decode cX0_tryOrders 30 = .ok (.iaload, 1) := dk_46 (dk_at dksX0_tryOrders_1 6 rfl rfl)
theorem dX0_tryOrders_31 : decode cX0_tryOrders 31 = .ok (.iaload, 1) := dk_46 (dk_at dksX0_tryOrders_1 7 rfl rfl)
theorem dX0_tryOrders_32 : decode cX0_tryOrders 32 = .ok (.iastore, 1) := dk_79 (dk_at dksX0_tryOrders_1 8 rfl rfl)
theorem dX0_tryOrders_33 : decode cX0_tryOrders 33 = .ok (.iinc 4 1, 3) := dk_132 4 1 (dk_at dksX0_tryOrders_1 9 rfl rfl)
theorem dX0_tryOrders_36 : decode cX0_tryOrders 36 = .ok (.goto (-28), 3) := dk_167 255 228 (dk_at dksX0_tryOrders_1 12 rfl rfl)
theorem dX0_tryOrders_39 : decode cX0_tryOrders 39 = .ok (.aload_n 0, 1) := dk_42 (dk_at dksX0_tryOrders_1 15 rfl rfl)
theorem dX0_tryOrders_40 : decode cX0_tryOrders 40 = .ok (.invokevirtual 370, 3) := dk_182 1 114 (dk_at dksX0_tryOrders_1 16 rfl rfl)
theorem dX0_tryOrders_43 : decode cX0_tryOrders 43 = .ok (.istore 4, 2) := dk_54 4 (dk_at dksX0_tryOrders_1 19 rfl rfl)
theorem dX0_tryOrders_45 : decode cX0_tryOrders 45 = .ok (.aload_n 0, 1) := dk_42 (dk_at dksX0_tryOrders_1 21 rfl rfl)
theorem dX0_tryOrders_46 : decode cX0_tryOrders 46 = .ok (.getfield 407, 3) := dk_180 1 151 (dk_at dksX0_tryOrders_2 0 rfl rfl)
theorem dX0_tryOrders_49 : decode cX0_tryOrders 49 = .ok (.ifCond .lt 13, 3) := dk_155 0 13 (dk_at dksX0_tryOrders_2 3 rfl rfl)
theorem dX0_tryOrders_52 : decode cX0_tryOrders 52 = .ok (.iload 4, 2) := dk_21 4 (dk_at dksX0_tryOrders_2 6 rfl rfl)
theorem dX0_tryOrders_54 : decode cX0_tryOrders 54 = .ok (.aload_n 0, 1) := dk_42 (dk_at dksX0_tryOrders_2 8 rfl rfl)
theorem dX0_tryOrders_55 : decode cX0_tryOrders 55 = .ok (.getfield 407, 3) := dk_180 1 151 (dk_at dksX0_tryOrders_2 9 rfl rfl)
theorem dX0_tryOrders_58 : decode cX0_tryOrders 58 = .ok (.if_icmp .lt 4, 3) := dk_161 0 4 (dk_at dksX0_tryOrders_2 12 rfl rfl)
theorem dX0_tryOrders_61 : decode cX0_tryOrders 61 = .ok (.return_, 1) := dk_177 (dk_at dksX0_tryOrders_2 15 rfl rfl)
theorem dX0_tryOrders_62 : decode cX0_tryOrders 62 = .ok (.aload_n 0, 1) := dk_42 (dk_at dksX0_tryOrders_2 16 rfl rfl)
theorem dX0_tryOrders_63 : decode cX0_tryOrders 63 = .ok (.iload 4, 2) := dk_21 4 (dk_at dksX0_tryOrders_2 17 rfl rfl)
theorem dX0_tryOrders_65 : decode cX0_tryOrders 65 = .ok (.putfield 407, 3) := dk_181 1 151 (dk_at dksX0_tryOrders_2 19 rfl rfl)
theorem dX0_tryOrders_68 : decode cX0_tryOrders 68 = .ok (.aload_n 0, 1) := dk_42 (dk_at dksX0_tryOrders_2 22 rfl rfl)
theorem dX0_tryOrders_69 : decode cX0_tryOrders 69 = .ok (.getfield 105, 3) := dk_180 0 105 (dk_at dksX0_tryOrders_3 0 rfl rfl)
theorem dX0_tryOrders_72 : decode cX0_tryOrders 72 = .ok (.iconst 0, 1) := dk_3 (dk_at dksX0_tryOrders_3 3 rfl rfl)
theorem dX0_tryOrders_73 : decode cX0_tryOrders 73 = .ok (.aload_n 0, 1) := dk_42 (dk_at dksX0_tryOrders_3 4 rfl rfl)
theorem dX0_tryOrders_74 : decode cX0_tryOrders 74 = .ok (.getfield 108, 3) := dk_180 0 108 (dk_at dksX0_tryOrders_3 5 rfl rfl)
theorem dX0_tryOrders_77 : decode cX0_tryOrders 77 = .ok (.iconst 0, 1) := dk_3 (dk_at dksX0_tryOrders_3 8 rfl rfl)
theorem dX0_tryOrders_78 : decode cX0_tryOrders 78 = .ok (.iload_n 3, 1) := dk_29 (dk_at dksX0_tryOrders_3 9 rfl rfl)
theorem dX0_tryOrders_79 : decode cX0_tryOrders 79 = .ok (.invokestatic 401, 3) := dk_184 1 145 (dk_at dksX0_tryOrders_3 10 rfl rfl)
theorem dX0_tryOrders_82 : decode cX0_tryOrders 82 = .ok (.return_, 1) := dk_177 (dk_at dksX0_tryOrders_3 13 rfl rfl)
theorem dX0_tryOrders_83 : decode cX0_tryOrders 83 = .ok (.iconst 0, 1) := dk_3 (dk_at dksX0_tryOrders_3 14 rfl rfl)
theorem dX0_tryOrders_84 : decode cX0_tryOrders 84 = .ok (.istore 4, 2) := dk_54 4 (dk_at dksX0_tryOrders_3 15 rfl rfl)
theorem dX0_tryOrders_86 : decode cX0_tryOrders 86 = .ok (.iload 4, 2) := dk_21 4 (dk_at dksX0_tryOrders_3 17 rfl rfl)
theorem dX0_tryOrders_88 : decode cX0_tryOrders 88 = .ok (.iload_n 3, 1) := dk_29 (dk_at dksX0_tryOrders_3 19 rfl rfl)
theorem dX0_tryOrders_89 : decode cX0_tryOrders 89 = .ok (.if_icmp .ge 43, 3) := dk_162 0 43 (dk_at dksX0_tryOrders_3 20 rfl rfl)
theorem dX0_tryOrders_92 : decode cX0_tryOrders 92 = .ok (.iload_n 2, 1) := dk_28 (dk_at dksX0_tryOrders_3 23 rfl rfl)
theorem dX0_tryOrders_93 : decode cX0_tryOrders 93 = .ok (.iload 4, 2) := dk_21 4 (dk_at dksX0_tryOrders_4 0 rfl rfl)
theorem dX0_tryOrders_95 : decode cX0_tryOrders 95 = .ok (.invokestatic 245, 3) := dk_184 0 245 (dk_at dksX0_tryOrders_4 2 rfl rfl)
theorem dX0_tryOrders_98 : decode cX0_tryOrders 98 = .ok (.ifCond .eq 6, 3) := dk_153 0 6 (dk_at dksX0_tryOrders_4 5 rfl rfl)
theorem dX0_tryOrders_101 : decode cX0_tryOrders 101 = .ok (.goto 25, 3) := dk_167 0 25 (dk_at dksX0_tryOrders_4 8 rfl rfl)
theorem dX0_tryOrders_104 : decode cX0_tryOrders 104 = .ok (.aload_n 0, 1) := dk_42 (dk_at dksX0_tryOrders_4 11 rfl rfl)
theorem dX0_tryOrders_105 : decode cX0_tryOrders 105 = .ok (.getfield 105, 3) := dk_180 0 105 (dk_at dksX0_tryOrders_4 12 rfl rfl)
theorem dX0_tryOrders_108 : decode cX0_tryOrders 108 = .ok (.iload_n 1, 1) := dk_27 (dk_at dksX0_tryOrders_4 15 rfl rfl)
theorem dX0_tryOrders_109 : decode cX0_tryOrders 109 = .ok (.iload 4, 2) := dk_21 4 (dk_at dksX0_tryOrders_4 16 rfl rfl)
theorem dX0_tryOrders_111 : decode cX0_tryOrders 111 = .ok (.iastore, 1) := dk_79 (dk_at dksX0_tryOrders_4 18 rfl rfl)
theorem dX0_tryOrders_112 : decode cX0_tryOrders 112 = .ok (.aload_n 0, 1) := dk_42 (dk_at dksX0_tryOrders_4 19 rfl rfl)
theorem dX0_tryOrders_113 : decode cX0_tryOrders 113 = .ok (.iload_n 1, 1) := dk_27 (dk_at dksX0_tryOrders_4 20 rfl rfl)
theorem dX0_tryOrders_114 : decode cX0_tryOrders 114 = .ok (.iconst 1, 1) := dk_4 (dk_at dksX0_tryOrders_4 21 rfl rfl)
theorem dX0_tryOrders_115 : decode cX0_tryOrders 115 = .ok (.iadd, 1) := dk_96 (dk_at dksX0_tryOrders_4 22 rfl rfl)
theorem dX0_tryOrders_116 : decode cX0_tryOrders 116 = .ok (.iload_n 2, 1) := dk_28 (dk_at dksX0_tryOrders_4 23 rfl rfl)
theorem dX0_tryOrders_117 : decode cX0_tryOrders 117 = .ok (.iconst 1, 1) := dk_4 (dk_at dksX0_tryOrders_5 0 rfl rfl)
theorem dX0_tryOrders_118 : decode cX0_tryOrders 118 = .ok (.iload 4, 2) := dk_21 4 (dk_at dksX0_tryOrders_5 1 rfl rfl)
theorem dX0_tryOrders_120 : decode cX0_tryOrders 120 = .ok (.ishl, 1) := dk_120 (dk_at dksX0_tryOrders_5 3 rfl rfl)
theorem dX0_tryOrders_121 : decode cX0_tryOrders 121 = .ok (.ior, 1) := dk_128 (dk_at dksX0_tryOrders_5 4 rfl rfl)
theorem dX0_tryOrders_122 : decode cX0_tryOrders 122 = .ok (.iload_n 3, 1) := dk_29 (dk_at dksX0_tryOrders_5 5 rfl rfl)
theorem dX0_tryOrders_123 : decode cX0_tryOrders 123 = .ok (.invokevirtual 410, 3) := dk_182 1 154 (dk_at dksX0_tryOrders_5 6 rfl rfl)
theorem dX0_tryOrders_126 : decode cX0_tryOrders 126 = .ok (.iinc 4 1, 3) := dk_132 4 1 (dk_at dksX0_tryOrders_5 9 rfl rfl)
theorem dX0_tryOrders_129 : decode cX0_tryOrders 129 = .ok (.goto (-43), 3) := dk_167 255 213 (dk_at dksX0_tryOrders_5 12 rfl rfl)
theorem dX0_tryOrders_132 : decode cX0_tryOrders 132 = .ok (.return_, 1) := dk_177 (dk_at dksX0_tryOrders_5 15 rfl rfl)
abbrev cX0_tin : ByteArray := prog_1_method_60_code
def yX0_tin : MethodName := ⟨RX0, "tin", "(II)J"⟩
def dkwX0_tin_7 : List UInt8 := [184, 1, 170, 173]
abbrev dktX0_tin_7 : List UInt8 := dkwX0_tin_7 ++ []
def dkwX0_tin_6 : List UInt8 := [167, 255, 212, 132, 6, 1, 167, 255, 152, 22, 4, 42, 180, 0, 71, 180, 0, 3, 133, 105, 20, 1, 168, 28]
abbrev dktX0_tin_6 : List UInt8 := dkwX0_tin_6 ++ dktX0_tin_7
def dkwX0_tin_5 : List UInt8 := [46, 100, 184, 1, 86, 42, 180, 0, 58, 21, 7, 50, 180, 0, 3, 104, 133, 97, 55, 4, 132, 7, 1]
abbrev dktX0_tin_5 : List UInt8 := dkwX0_tin_5 ++ dktX0_tin_6
def dkwX0_tin_4 : List UInt8 := [3, 54, 7, 21, 7, 7, 162, 0, 44, 22, 4, 3, 42, 180, 0, 93, 21, 7, 182, 1, 165, 45, 21, 7]
abbrev dktX0_tin_4 : List UInt8 := dkwX0_tin_4 ++ dktX0_tin_5
def dkwX0_tin_3 : List UInt8 := [182, 1, 165, 79, 132, 7, 1, 167, 255, 234, 42, 180, 0, 93, 42, 180, 0, 96, 21, 6, 46, 182, 1, 106]
abbrev dktX0_tin_3 : List UInt8 := dkwX0_tin_3 ++ dktX0_tin_4
def dkwX0_tin_2 : List UInt8 := [180, 1, 89, 162, 0, 101, 3, 54, 7, 21, 7, 7, 162, 0, 22, 45, 21, 7, 42, 180, 0, 93, 21, 7]
abbrev dktX0_tin_2 : List UInt8 := dkwX0_tin_2 ++ dktX0_tin_3
def dkwX0_tin_1 : List UInt8 := [180, 0, 93, 42, 180, 0, 89, 182, 1, 102, 7, 188, 10, 78, 9, 55, 4, 3, 54, 6, 21, 6, 42]
abbrev dktX0_tin_1 : List UInt8 := dkwX0_tin_1 ++ dktX0_tin_2
def dkwX0_tin_0 : List UInt8 := [28, 133, 9, 10, 184, 0, 147, 153, 0, 11, 42, 27, 182, 1, 99, 156, 0, 7, 20, 1, 163, 173, 42]
abbrev dktX0_tin_0 : List UInt8 := dkwX0_tin_0 ++ dktX0_tin_1
theorem dksX0_tin_0 : cX0_tin.data.toList.drop 0 = dktX0_tin_0 := by decide +kernel
theorem dksX0_tin_1 : cX0_tin.data.toList.drop 23 = dktX0_tin_1 := dk_seg dksX0_tin_0 23 rfl rfl
theorem dksX0_tin_2 : cX0_tin.data.toList.drop 46 = dktX0_tin_2 := dk_seg dksX0_tin_1 23 rfl rfl
theorem dksX0_tin_3 : cX0_tin.data.toList.drop 70 = dktX0_tin_3 := dk_seg dksX0_tin_2 24 rfl rfl
theorem dksX0_tin_4 : cX0_tin.data.toList.drop 94 = dktX0_tin_4 := dk_seg dksX0_tin_3 24 rfl rfl
theorem dksX0_tin_5 : cX0_tin.data.toList.drop 118 = dktX0_tin_5 := dk_seg dksX0_tin_4 24 rfl rfl
theorem dksX0_tin_6 : cX0_tin.data.toList.drop 141 = dktX0_tin_6 := dk_seg dksX0_tin_5 23 rfl rfl
theorem dksX0_tin_7 : cX0_tin.data.toList.drop 165 = dktX0_tin_7 := dk_seg dksX0_tin_6 24 rfl rfl
theorem dX0_tin_0 : decode cX0_tin 0 = .ok (.iload_n 2, 1) := dk_28 (dk_at dksX0_tin_0 0 rfl rfl)
theorem dX0_tin_1 : decode cX0_tin 1 = .ok (.i2l, 1) := dk_133 (dk_at dksX0_tin_0 1 rfl rfl)
theorem dX0_tin_2 : decode cX0_tin 2 = .ok (.lconst 0, 1) := dk_9 (dk_at dksX0_tin_0 2 rfl rfl)
theorem dX0_tin_3 : decode cX0_tin 3 = .ok (.lconst 1, 1) := dk_10 (dk_at dksX0_tin_0 3 rfl rfl)
theorem dX0_tin_4 : decode cX0_tin 4 = .ok (.invokestatic 147, 3) := dk_184 0 147 (dk_at dksX0_tin_0 4 rfl rfl)
theorem dX0_tin_7 : decode cX0_tin 7 = .ok (.ifCond .eq 11, 3) := dk_153 0 11 (dk_at dksX0_tin_0 7 rfl rfl)
theorem dX0_tin_10 : decode cX0_tin 10 = .ok (.aload_n 0, 1) := dk_42 (dk_at dksX0_tin_0 10 rfl rfl)
theorem dX0_tin_11 : decode cX0_tin 11 = .ok (.iload_n 1, 1) := dk_27 (dk_at dksX0_tin_0 11 rfl rfl)
theorem dX0_tin_12 : decode cX0_tin 12 = .ok (.invokevirtual 355, 3) := dk_182 1 99 (dk_at dksX0_tin_0 12 rfl rfl)
theorem dX0_tin_15 : decode cX0_tin 15 = .ok (.ifCond .ge 7, 3) := dk_156 0 7 (dk_at dksX0_tin_0 15 rfl rfl)
theorem dX0_tin_18 : decode cX0_tin 18 = .ok (.ldc2_w 419, 3) := dk_20 1 163 (dk_at dksX0_tin_0 18 rfl rfl)
theorem dX0_tin_21 : decode cX0_tin 21 = .ok (.lreturn, 1) := dk_173 (dk_at dksX0_tin_0 21 rfl rfl)
theorem dX0_tin_22 : decode cX0_tin 22 = .ok (.aload_n 0, 1) := dk_42 (dk_at dksX0_tin_0 22 rfl rfl)
theorem dX0_tin_23 : decode cX0_tin 23 = .ok (.getfield 93, 3) := dk_180 0 93 (dk_at dksX0_tin_1 0 rfl rfl)
theorem dX0_tin_26 : decode cX0_tin 26 = .ok (.aload_n 0, 1) := dk_42 (dk_at dksX0_tin_1 3 rfl rfl)
theorem dX0_tin_27 : decode cX0_tin 27 = .ok (.getfield 89, 3) := dk_180 0 89 (dk_at dksX0_tin_1 4 rfl rfl)
theorem dX0_tin_30 : decode cX0_tin 30 = .ok (.invokevirtual 358, 3) := dk_182 1 102 (dk_at dksX0_tin_1 7 rfl rfl)
theorem dX0_tin_33 : decode cX0_tin 33 = .ok (.iconst 4, 1) := dk_7 (dk_at dksX0_tin_1 10 rfl rfl)
theorem dX0_tin_34 : decode cX0_tin 34 = .ok (.newarray .int, 2) := dk_188_10 (dk_at dksX0_tin_1 11 rfl rfl)
theorem dX0_tin_36 : decode cX0_tin 36 = .ok (.astore_n 3, 1) := dk_78 (dk_at dksX0_tin_1 13 rfl rfl)
theorem dX0_tin_37 : decode cX0_tin 37 = .ok (.lconst 0, 1) := dk_9 (dk_at dksX0_tin_1 14 rfl rfl)
theorem dX0_tin_38 : decode cX0_tin 38 = .ok (.lstore 4, 2) := dk_55 4 (dk_at dksX0_tin_1 15 rfl rfl)
theorem dX0_tin_40 : decode cX0_tin 40 = .ok (.iconst 0, 1) := dk_3 (dk_at dksX0_tin_1 17 rfl rfl)
theorem dX0_tin_41 : decode cX0_tin 41 = .ok (.istore 6, 2) := dk_54 6 (dk_at dksX0_tin_1 18 rfl rfl)
theorem dX0_tin_43 : decode cX0_tin 43 = .ok (.iload 6, 2) := dk_21 6 (dk_at dksX0_tin_1 20 rfl rfl)
theorem dX0_tin_45 : decode cX0_tin 45 = .ok (.aload_n 0, 1) := dk_42 (dk_at dksX0_tin_1 22 rfl rfl)
theorem dX0_tin_46 : decode cX0_tin 46 = .ok (.getfield 345, 3) := dk_180 1 89 (dk_at dksX0_tin_2 0 rfl rfl)
theorem dX0_tin_49 : decode cX0_tin 49 = .ok (.if_icmp .ge 101, 3) := dk_162 0 101 (dk_at dksX0_tin_2 3 rfl rfl)
theorem dX0_tin_52 : decode cX0_tin 52 = .ok (.iconst 0, 1) := dk_3 (dk_at dksX0_tin_2 6 rfl rfl)
theorem dX0_tin_53 : decode cX0_tin 53 = .ok (.istore 7, 2) := dk_54 7 (dk_at dksX0_tin_2 7 rfl rfl)
theorem dX0_tin_55 : decode cX0_tin 55 = .ok (.iload 7, 2) := dk_21 7 (dk_at dksX0_tin_2 9 rfl rfl)
theorem dX0_tin_57 : decode cX0_tin 57 = .ok (.iconst 4, 1) := dk_7 (dk_at dksX0_tin_2 11 rfl rfl)
theorem dX0_tin_58 : decode cX0_tin 58 = .ok (.if_icmp .ge 22, 3) := dk_162 0 22 (dk_at dksX0_tin_2 12 rfl rfl)
theorem dX0_tin_61 : decode cX0_tin 61 = .ok (.aload_n 3, 1) := dk_45 (dk_at dksX0_tin_2 15 rfl rfl)
theorem dX0_tin_62 : decode cX0_tin 62 = .ok (.iload 7, 2) := dk_21 7 (dk_at dksX0_tin_2 16 rfl rfl)
theorem dX0_tin_64 : decode cX0_tin 64 = .ok (.aload_n 0, 1) := dk_42 (dk_at dksX0_tin_2 18 rfl rfl)
theorem dX0_tin_65 : decode cX0_tin 65 = .ok (.getfield 93, 3) := dk_180 0 93 (dk_at dksX0_tin_2 19 rfl rfl)
theorem dX0_tin_68 : decode cX0_tin 68 = .ok (.iload 7, 2) := dk_21 7 (dk_at dksX0_tin_2 22 rfl rfl)
theorem dX0_tin_70 : decode cX0_tin 70 = .ok (.invokevirtual 421, 3) := dk_182 1 165 (dk_at dksX0_tin_3 0 rfl rfl)
theorem dX0_tin_73 : decode cX0_tin 73 = .ok (.iastore, 1) := dk_79 (dk_at dksX0_tin_3 3 rfl rfl)
theorem dX0_tin_74 : decode cX0_tin 74 = .ok (.iinc 7 1, 3) := dk_132 7 1 (dk_at dksX0_tin_3 4 rfl rfl)
theorem dX0_tin_77 : decode cX0_tin 77 = .ok (.goto (-22), 3) := dk_167 255 234 (dk_at dksX0_tin_3 7 rfl rfl)
theorem dX0_tin_80 : decode cX0_tin 80 = .ok (.aload_n 0, 1) := dk_42 (dk_at dksX0_tin_3 10 rfl rfl)
theorem dX0_tin_81 : decode cX0_tin 81 = .ok (.getfield 93, 3) := dk_180 0 93 (dk_at dksX0_tin_3 11 rfl rfl)
theorem dX0_tin_84 : decode cX0_tin 84 = .ok (.aload_n 0, 1) := dk_42 (dk_at dksX0_tin_3 14 rfl rfl)
theorem dX0_tin_85 : decode cX0_tin 85 = .ok (.getfield 96, 3) := dk_180 0 96 (dk_at dksX0_tin_3 15 rfl rfl)
theorem dX0_tin_88 : decode cX0_tin 88 = .ok (.iload 6, 2) := dk_21 6 (dk_at dksX0_tin_3 18 rfl rfl)
theorem dX0_tin_90 : decode cX0_tin 90 = .ok (.iaload, 1) := dk_46 (dk_at dksX0_tin_3 20 rfl rfl)
theorem dX0_tin_91 : decode cX0_tin 91 = .ok (.invokevirtual 362, 3) := dk_182 1 106 (dk_at dksX0_tin_3 21 rfl rfl)
theorem dX0_tin_94 : decode cX0_tin 94 = .ok (.iconst 0, 1) := dk_3 (dk_at dksX0_tin_4 0 rfl rfl)
theorem dX0_tin_95 : decode cX0_tin 95 = .ok (.istore 7, 2) := dk_54 7 (dk_at dksX0_tin_4 1 rfl rfl)
theorem dX0_tin_97 : decode cX0_tin 97 = .ok (.iload 7, 2) := dk_21 7 (dk_at dksX0_tin_4 3 rfl rfl)
theorem dX0_tin_99 : decode cX0_tin 99 = .ok (.iconst 4, 1) := dk_7 (dk_at dksX0_tin_4 5 rfl rfl)
theorem dX0_tin_100 : decode cX0_tin 100 = .ok (.if_icmp .ge 44, 3) := dk_162 0 44 (dk_at dksX0_tin_4 6 rfl rfl)
theorem dX0_tin_103 : decode cX0_tin 103 = .ok (.lload 4, 2) := dk_22 4 (dk_at dksX0_tin_4 9 rfl rfl)
theorem dX0_tin_105 : decode cX0_tin 105 = .ok (.iconst 0, 1) := dk_3 (dk_at dksX0_tin_4 11 rfl rfl)
theorem dX0_tin_106 : decode cX0_tin 106 = .ok (.aload_n 0, 1) := dk_42 (dk_at dksX0_tin_4 12 rfl rfl)
theorem dX0_tin_107 : decode cX0_tin 107 = .ok (.getfield 93, 3) := dk_180 0 93 (dk_at dksX0_tin_4 13 rfl rfl)
theorem dX0_tin_110 : decode cX0_tin 110 = .ok (.iload 7, 2) := dk_21 7 (dk_at dksX0_tin_4 16 rfl rfl)
theorem dX0_tin_112 : decode cX0_tin 112 = .ok (.invokevirtual 421, 3) := dk_182 1 165 (dk_at dksX0_tin_4 18 rfl rfl)
theorem dX0_tin_115 : decode cX0_tin 115 = .ok (.aload_n 3, 1) := dk_45 (dk_at dksX0_tin_4 21 rfl rfl)
theorem dX0_tin_116 : decode cX0_tin 116 = .ok (.iload 7, 2) := dk_21 7 (dk_at dksX0_tin_4 22 rfl rfl)
theorem dX0_tin_118 : decode cX0_tin 118 = .ok (.iaload, 1) := dk_46 (dk_at dksX0_tin_5 0 rfl rfl)
theorem dX0_tin_119 : decode cX0_tin 119 = .ok (.isub, 1) := dk_100 (dk_at dksX0_tin_5 1 rfl rfl)
theorem dX0_tin_120 : decode cX0_tin 120 = .ok (.invokestatic 342, 3) := dk_184 1 86 (dk_at dksX0_tin_5 2 rfl rfl)
theorem dX0_tin_123 : decode cX0_tin 123 = .ok (.aload_n 0, 1) := dk_42 (dk_at dksX0_tin_5 5 rfl rfl)
theorem dX0_tin_124 : decode cX0_tin 124 = .ok (.getfield 58, 3) := dk_180 0 58 (dk_at dksX0_tin_5 6 rfl rfl)
theorem dX0_tin_127 : decode cX0_tin 127 = .ok (.iload 7, 2) := dk_21 7 (dk_at dksX0_tin_5 9 rfl rfl)
theorem dX0_tin_129 : decode cX0_tin 129 = .ok (.aaload, 1) := dk_50 (dk_at dksX0_tin_5 11 rfl rfl)
theorem dX0_tin_130 : decode cX0_tin 130 = .ok (.getfield 3, 3) := dk_180 0 3 (dk_at dksX0_tin_5 12 rfl rfl)
theorem dX0_tin_133 : decode cX0_tin 133 = .ok (.imul, 1) := dk_104 (dk_at dksX0_tin_5 15 rfl rfl)
theorem dX0_tin_134 : decode cX0_tin 134 = .ok (.i2l, 1) := dk_133 (dk_at dksX0_tin_5 16 rfl rfl)
theorem dX0_tin_135 : decode cX0_tin 135 = .ok (.ladd, 1) := dk_97 (dk_at dksX0_tin_5 17 rfl rfl)
theorem dX0_tin_136 : decode cX0_tin 136 = .ok (.lstore 4, 2) := dk_55 4 (dk_at dksX0_tin_5 18 rfl rfl)
theorem dX0_tin_138 : decode cX0_tin 138 = .ok (.iinc 7 1, 3) := dk_132 7 1 (dk_at dksX0_tin_5 20 rfl rfl)
theorem dX0_tin_141 : decode cX0_tin 141 = .ok (.goto (-44), 3) := dk_167 255 212 (dk_at dksX0_tin_6 0 rfl rfl)
theorem dX0_tin_144 : decode cX0_tin 144 = .ok (.iinc 6 1, 3) := dk_132 6 1 (dk_at dksX0_tin_6 3 rfl rfl)
theorem dX0_tin_147 : decode cX0_tin 147 = .ok (.goto (-104), 3) := dk_167 255 152 (dk_at dksX0_tin_6 6 rfl rfl)
theorem dX0_tin_150 : decode cX0_tin 150 = .ok (.lload 4, 2) := dk_22 4 (dk_at dksX0_tin_6 9 rfl rfl)
theorem dX0_tin_152 : decode cX0_tin 152 = .ok (.aload_n 0, 1) := dk_42 (dk_at dksX0_tin_6 11 rfl rfl)
theorem dX0_tin_153 : decode cX0_tin 153 = .ok (.getfield 71, 3) := dk_180 0 71 (dk_at dksX0_tin_6 12 rfl rfl)
theorem dX0_tin_156 : decode cX0_tin 156 = .ok (.getfield 3, 3) := dk_180 0 3 (dk_at dksX0_tin_6 15 rfl rfl)
theorem dX0_tin_159 : decode cX0_tin 159 = .ok (.i2l, 1) := dk_133 (dk_at dksX0_tin_6 18 rfl rfl)
theorem dX0_tin_160 : decode cX0_tin 160 = .ok (.lmul, 1) := dk_105 (dk_at dksX0_tin_6 19 rfl rfl)
theorem dX0_tin_161 : decode cX0_tin 161 = .ok (.ldc2_w 424, 3) := dk_20 1 168 (dk_at dksX0_tin_6 20 rfl rfl)
theorem dX0_tin_164 : decode cX0_tin 164 = .ok (.iload_n 2, 1) := dk_28 (dk_at dksX0_tin_6 23 rfl rfl)
theorem dX0_tin_165 : decode cX0_tin 165 = .ok (.invokestatic 426, 3) := dk_184 1 170 (dk_at dksX0_tin_7 0 rfl rfl)
theorem dX0_tin_168 : decode cX0_tin 168 = .ok (.lreturn, 1) := dk_173 (dk_at dksX0_tin_7 3 rfl rfl)
abbrev cX0_partOf : ByteArray := prog_1_method_59_code
def yX0_partOf : MethodName := ⟨RX0, "partOf", "(JJI)J"⟩
def dkwX0_partOf_1 : List UInt8 := [22, 5, 109, 167, 0, 7, 32, 22, 5, 109, 173]
abbrev dktX0_partOf_1 : List UInt8 := dkwX0_partOf_1 ++ []
def dkwX0_partOf_0 : List UInt8 := [30, 9, 148, 154, 0, 7, 21, 4, 133, 173, 30, 32, 184, 1, 157, 55, 5, 21, 4, 154, 0, 10, 30]
abbrev dktX0_partOf_0 : List UInt8 := dkwX0_partOf_0 ++ dktX0_partOf_1
theorem dksX0_partOf_0 : cX0_partOf.data.toList.drop 0 = dktX0_partOf_0 := by decide +kernel
theorem dksX0_partOf_1 : cX0_partOf.data.toList.drop 23 = dktX0_partOf_1 := dk_seg dksX0_partOf_0 23 rfl rfl
theorem dX0_partOf_0 : decode cX0_partOf 0 = .ok (.lload_n 0, 1) := dk_30 (dk_at dksX0_partOf_0 0 rfl rfl)
theorem dX0_partOf_1 : decode cX0_partOf 1 = .ok (.lconst 0, 1) := dk_9 (dk_at dksX0_partOf_0 1 rfl rfl)
theorem dX0_partOf_2 : decode cX0_partOf 2 = .ok (.lcmp, 1) := dk_148 (dk_at dksX0_partOf_0 2 rfl rfl)
theorem dX0_partOf_3 : decode cX0_partOf 3 = .ok (.ifCond .ne 7, 3) := dk_154 0 7 (dk_at dksX0_partOf_0 3 rfl rfl)
theorem dX0_partOf_6 : decode cX0_partOf 6 = .ok (.iload 4, 2) := dk_21 4 (dk_at dksX0_partOf_0 6 rfl rfl)
theorem dX0_partOf_8 : decode cX0_partOf 8 = .ok (.i2l, 1) := dk_133 (dk_at dksX0_partOf_0 8 rfl rfl)
theorem dX0_partOf_9 : decode cX0_partOf 9 = .ok (.lreturn, 1) := dk_173 (dk_at dksX0_partOf_0 9 rfl rfl)
theorem dX0_partOf_10 : decode cX0_partOf 10 = .ok (.lload_n 0, 1) := dk_30 (dk_at dksX0_partOf_0 10 rfl rfl)
theorem dX0_partOf_11 : decode cX0_partOf 11 = .ok (.lload_n 2, 1) := dk_32 (dk_at dksX0_partOf_0 11 rfl rfl)
theorem dX0_partOf_12 : decode cX0_partOf 12 = .ok (.invokestatic 413, 3) := dk_184 1 157 (dk_at dksX0_partOf_0 12 rfl rfl)
theorem dX0_partOf_15 : decode cX0_partOf 15 = .ok (.lstore 5, 2) := dk_55 5 (dk_at dksX0_partOf_0 15 rfl rfl)
theorem dX0_partOf_17 : decode cX0_partOf 17 = .ok (.iload 4, 2) := dk_21 4 (dk_at dksX0_partOf_0 17 rfl rfl)
theorem dX0_partOf_19 : decode cX0_partOf 19 = .ok (.ifCond .ne 10, 3) := dk_154 0 10 (dk_at dksX0_partOf_0 19 rfl rfl)
theorem dX0_partOf_22 : decode cX0_partOf 22 = .ok (.lload_n 0, 1) := dk_30 (dk_at dksX0_partOf_0 22 rfl rfl)
theorem dX0_partOf_23 : decode cX0_partOf 23 = .ok (.lload 5, 2) := dk_22 5 (dk_at dksX0_partOf_1 0 rfl rfl)
theorem dX0_partOf_25 : decode cX0_partOf 25 = .ok (.ldiv, 1) := dk_109 (dk_at dksX0_partOf_1 2 rfl rfl)
theorem dX0_partOf_26 : decode cX0_partOf 26 = .ok (.goto 7, 3) := dk_167 0 7 (dk_at dksX0_partOf_1 3 rfl rfl)
theorem dX0_partOf_29 : decode cX0_partOf 29 = .ok (.lload_n 2, 1) := dk_32 (dk_at dksX0_partOf_1 6 rfl rfl)
theorem dX0_partOf_30 : decode cX0_partOf 30 = .ok (.lload 5, 2) := dk_22 5 (dk_at dksX0_partOf_1 7 rfl rfl)
theorem dX0_partOf_32 : decode cX0_partOf 32 = .ok (.ldiv, 1) := dk_109 (dk_at dksX0_partOf_1 9 rfl rfl)
theorem dX0_partOf_33 : decode cX0_partOf 33 = .ok (.lreturn, 1) := dk_173 (dk_at dksX0_partOf_1 10 rfl rfl)
abbrev cX0_common : ByteArray := prog_1_method_58_code
def yX0_common : MethodName := ⟨RX0, "common", "(JJ)J"⟩
def dkwX0_common_0 : List UInt8 := [32, 9, 148, 154, 0, 7, 30, 167, 0, 10, 32, 30, 32, 113, 184, 1, 157, 173]
abbrev dktX0_common_0 : List UInt8 := dkwX0_common_0 ++ []
theorem dksX0_common_0 : cX0_common.data.toList.drop 0 = dktX0_common_0 := by decide +kernel
theorem dX0_common_0 : decode cX0_common 0 = .ok (.lload_n 2, 1) := dk_32 (dk_at dksX0_common_0 0 rfl rfl)
theorem dX0_common_1 : decode cX0_common 1 = .ok (.lconst 0, 1) := dk_9 (dk_at dksX0_common_0 1 rfl rfl)
theorem dX0_common_2 : decode cX0_common 2 = .ok (.lcmp, 1) := dk_148 (dk_at dksX0_common_0 2 rfl rfl)
theorem dX0_common_3 : decode cX0_common 3 = .ok (.ifCond .ne 7, 3) := dk_154 0 7 (dk_at dksX0_common_0 3 rfl rfl)
theorem dX0_common_6 : decode cX0_common 6 = .ok (.lload_n 0, 1) := dk_30 (dk_at dksX0_common_0 6 rfl rfl)
theorem dX0_common_7 : decode cX0_common 7 = .ok (.goto 10, 3) := dk_167 0 10 (dk_at dksX0_common_0 7 rfl rfl)
theorem dX0_common_10 : decode cX0_common 10 = .ok (.lload_n 2, 1) := dk_32 (dk_at dksX0_common_0 10 rfl rfl)
theorem dX0_common_11 : decode cX0_common 11 = .ok (.lload_n 0, 1) := dk_30 (dk_at dksX0_common_0 11 rfl rfl)
theorem dX0_common_12 : decode cX0_common 12 = .ok (.lload_n 2, 1) := dk_32 (dk_at dksX0_common_0 12 rfl rfl)
theorem dX0_common_13 : decode cX0_common 13 = .ok (.lrem, 1) := dk_113 (dk_at dksX0_common_0 13 rfl rfl)
theorem dX0_common_14 : decode cX0_common 14 = .ok (.invokestatic 413, 3) := dk_184 1 157 (dk_at dksX0_common_0 14 rfl rfl)
theorem dX0_common_17 : decode cX0_common 17 = .ok (.lreturn, 1) := dk_173 (dk_at dksX0_common_0 17 rfl rfl)
abbrev cX0_who : ByteArray := prog_1_method_63_code
def yX0_who : MethodName := ⟨RX0, "who", "(III)I"⟩
def dkwX0_who_3 : List UInt8 := [180, 0, 115, 29, 46, 172]
abbrev dktX0_who_3 : List UInt8 := dkwX0_who_3 ++ []
def dkwX0_who_2 : List UInt8 := [50, 192, 0, 192, 58, 4, 29, 25, 4, 190, 161, 0, 5, 2, 172, 42, 25, 4, 28, 182, 1, 181, 42]
abbrev dktX0_who_2 : List UInt8 := dkwX0_who_2 ++ dktX0_who_3
def dkwX0_who_1 : List UInt8 := [154, 0, 5, 2, 172, 42, 27, 182, 1, 92, 156, 0, 9, 42, 27, 182, 1, 92, 172, 42, 180, 0, 139, 27]
abbrev dktX0_who_1 : List UInt8 := dkwX0_who_1 ++ dktX0_who_2
def dkwX0_who_0 : List UInt8 := [27, 184, 0, 194, 153, 0, 22, 28, 184, 0, 178, 153, 0, 15, 29, 133, 9, 20, 1, 129, 184, 0, 147]
abbrev dktX0_who_0 : List UInt8 := dkwX0_who_0 ++ dktX0_who_1
theorem dksX0_who_0 : cX0_who.data.toList.drop 0 = dktX0_who_0 := by decide +kernel
theorem dksX0_who_1 : cX0_who.data.toList.drop 23 = dktX0_who_1 := dk_seg dksX0_who_0 23 rfl rfl
theorem dksX0_who_2 : cX0_who.data.toList.drop 47 = dktX0_who_2 := dk_seg dksX0_who_1 24 rfl rfl
theorem dksX0_who_3 : cX0_who.data.toList.drop 70 = dktX0_who_3 := dk_seg dksX0_who_2 23 rfl rfl
theorem dX0_who_0 : decode cX0_who 0 = .ok (.iload_n 1, 1) := dk_27 (dk_at dksX0_who_0 0 rfl rfl)
theorem dX0_who_1 : decode cX0_who 1 = .ok (.invokestatic 194, 3) := dk_184 0 194 (dk_at dksX0_who_0 1 rfl rfl)
theorem dX0_who_4 : decode cX0_who 4 = .ok (.ifCond .eq 22, 3) := dk_153 0 22 (dk_at dksX0_who_0 4 rfl rfl)
theorem dX0_who_7 : decode cX0_who 7 = .ok (.iload_n 2, 1) := dk_28 (dk_at dksX0_who_0 7 rfl rfl)
theorem dX0_who_8 : decode cX0_who 8 = .ok (.invokestatic 178, 3) := dk_184 0 178 (dk_at dksX0_who_0 8 rfl rfl)
theorem dX0_who_11 : decode cX0_who 11 = .ok (.ifCond .eq 15, 3) := dk_153 0 15 (dk_at dksX0_who_0 11 rfl rfl)
theorem dX0_who_14 : decode cX0_who 14 = .ok (.iload_n 3, 1) := dk_29 (dk_at dksX0_who_0 14 rfl rfl)
theorem dX0_who_15 : decode cX0_who 15 = .ok (.i2l, 1) := dk_133 (dk_at dksX0_who_0 15 rfl rfl)
theorem dX0_who_16 : decode cX0_who 16 = .ok (.lconst 0, 1) := dk_9 (dk_at dksX0_who_0 16 rfl rfl)
theorem dX0_who_17 : decode cX0_who 17 = .ok (.ldc2_w 385, 3) := dk_20 1 129 (dk_at dksX0_who_0 17 rfl rfl)
theorem dX0_who_20 : decode cX0_who 20 = .ok (.invokestatic 147, 3) := dk_184 0 147 (dk_at dksX0_who_0 20 rfl rfl)
theorem dX0_who_23 : decode cX0_who 23 = .ok (.ifCond .ne 5, 3) := dk_154 0 5 (dk_at dksX0_who_1 0 rfl rfl)
theorem dX0_who_26 : decode cX0_who 26 = .ok (.iconst (-1), 1) := dk_2 (dk_at dksX0_who_1 3 rfl rfl)
theorem dX0_who_27 : decode cX0_who 27 = .ok (.ireturn, 1) := dk_172 (dk_at dksX0_who_1 4 rfl rfl)
theorem dX0_who_28 : decode cX0_who 28 = .ok (.aload_n 0, 1) := dk_42 (dk_at dksX0_who_1 5 rfl rfl)
theorem dX0_who_29 : decode cX0_who 29 = .ok (.iload_n 1, 1) := dk_27 (dk_at dksX0_who_1 6 rfl rfl)
theorem dX0_who_30 : decode cX0_who 30 = .ok (.invokevirtual 348, 3) := dk_182 1 92 (dk_at dksX0_who_1 7 rfl rfl)
theorem dX0_who_33 : decode cX0_who 33 = .ok (.ifCond .ge 9, 3) := dk_156 0 9 (dk_at dksX0_who_1 10 rfl rfl)
theorem dX0_who_36 : decode cX0_who 36 = .ok (.aload_n 0, 1) := dk_42 (dk_at dksX0_who_1 13 rfl rfl)
theorem dX0_who_37 : decode cX0_who 37 = .ok (.iload_n 1, 1) := dk_27 (dk_at dksX0_who_1 14 rfl rfl)
theorem dX0_who_38 : decode cX0_who 38 = .ok (.invokevirtual 348, 3) := dk_182 1 92 (dk_at dksX0_who_1 15 rfl rfl)
theorem dX0_who_41 : decode cX0_who 41 = .ok (.ireturn, 1) := dk_172 (dk_at dksX0_who_1 18 rfl rfl)
theorem dX0_who_42 : decode cX0_who 42 = .ok (.aload_n 0, 1) := dk_42 (dk_at dksX0_who_1 19 rfl rfl)
theorem dX0_who_43 : decode cX0_who 43 = .ok (.getfield 139, 3) := dk_180 0 139 (dk_at dksX0_who_1 20 rfl rfl)
theorem dX0_who_46 : decode cX0_who 46 = .ok (.iload_n 1, 1) := dk_27 (dk_at dksX0_who_1 23 rfl rfl)
theorem dX0_who_47 : decode cX0_who 47 = .ok (.aaload, 1) := dk_50 (dk_at dksX0_who_2 0 rfl rfl)
theorem dX0_who_48 : decode cX0_who 48 = .ok (.checkcast 192, 3) := dk_192 0 192 (dk_at dksX0_who_2 1 rfl rfl)
theorem dX0_who_51 : decode cX0_who 51 = .ok (.astore 4, 2) := dk_58 4 (dk_at dksX0_who_2 4 rfl rfl)
theorem dX0_who_53 : decode cX0_who 53 = .ok (.iload_n 3, 1) := dk_29 (dk_at dksX0_who_2 6 rfl rfl)
theorem dX0_who_54 : decode cX0_who 54 = .ok (.aload 4, 2) := dk_25 4 (dk_at dksX0_who_2 7 rfl rfl)
theorem dX0_who_56 : decode cX0_who 56 = .ok (.arraylength, 1) := dk_190 (dk_at dksX0_who_2 9 rfl rfl)
theorem dX0_who_57 : decode cX0_who 57 = .ok (.if_icmp .lt 5, 3) := dk_161 0 5 (dk_at dksX0_who_2 10 rfl rfl)
theorem dX0_who_60 : decode cX0_who 60 = .ok (.iconst (-1), 1) := dk_2 (dk_at dksX0_who_2 13 rfl rfl)
theorem dX0_who_61 : decode cX0_who 61 = .ok (.ireturn, 1) := dk_172 (dk_at dksX0_who_2 14 rfl rfl)
theorem dX0_who_62 : decode cX0_who 62 = .ok (.aload_n 0, 1) := dk_42 (dk_at dksX0_who_2 15 rfl rfl)
theorem dX0_who_63 : decode cX0_who 63 = .ok (.aload 4, 2) := dk_25 4 (dk_at dksX0_who_2 16 rfl rfl)
theorem dX0_who_65 : decode cX0_who 65 = .ok (.iload_n 2, 1) := dk_28 (dk_at dksX0_who_2 18 rfl rfl)
theorem dX0_who_66 : decode cX0_who 66 = .ok (.invokevirtual 437, 3) := dk_182 1 181 (dk_at dksX0_who_2 19 rfl rfl)
theorem dX0_who_69 : decode cX0_who 69 = .ok (.aload_n 0, 1) := dk_42 (dk_at dksX0_who_2 22 rfl rfl)
theorem dX0_who_70 : decode cX0_who 70 = .ok (.getfield 115, 3) := dk_180 0 115 (dk_at dksX0_who_3 0 rfl rfl)
theorem dX0_who_73 : decode cX0_who 73 = .ok (.iload_n 3, 1) := dk_29 (dk_at dksX0_who_3 3 rfl rfl)
theorem dX0_who_74 : decode cX0_who 74 = .ok (.iaload, 1) := dk_46 (dk_at dksX0_who_3 4 rfl rfl)
theorem dX0_who_75 : decode cX0_who 75 = .ok (.ireturn, 1) := dk_172 (dk_at dksX0_who_3 5 rfl rfl)
abbrev cX0_readBack : ByteArray := prog_1_method_62_code
def yX0_readBack : MethodName := ⟨RX0, "readBack", "([BI)V"⟩
def dkwX0_readBack_2 : List UInt8 := [184, 1, 77, 182, 1, 177, 177]
abbrev dktX0_readBack_2 : List UInt8 := dkwX0_readBack_2 ++ []
def dkwX0_readBack_1 : List UInt8 := [167, 255, 240, 42, 180, 0, 111, 3, 50, 42, 180, 0, 89, 182, 1, 102, 42, 43, 28, 3, 16, 6, 43, 190]
abbrev dktX0_readBack_1 : List UInt8 := dkwX0_readBack_1 ++ dktX0_readBack_2
def dkwX0_readBack_0 : List UInt8 := [42, 3, 181, 1, 174, 3, 62, 29, 16, 6, 162, 0, 16, 42, 180, 0, 115, 29, 3, 79, 132, 3, 1]
abbrev dktX0_readBack_0 : List UInt8 := dkwX0_readBack_0 ++ dktX0_readBack_1
theorem dksX0_readBack_0 : cX0_readBack.data.toList.drop 0 = dktX0_readBack_0 := by decide +kernel
theorem dksX0_readBack_1 : cX0_readBack.data.toList.drop 23 = dktX0_readBack_1 := dk_seg dksX0_readBack_0 23 rfl rfl
theorem dksX0_readBack_2 : cX0_readBack.data.toList.drop 47 = dktX0_readBack_2 := dk_seg dksX0_readBack_1 24 rfl rfl
theorem dX0_readBack_0 : decode cX0_readBack 0 = .ok (.aload_n 0, 1) := dk_42 (dk_at dksX0_readBack_0 0 rfl rfl)
theorem dX0_readBack_1 : decode cX0_readBack 1 = .ok (.iconst 0, 1) := dk_3 (dk_at dksX0_readBack_0 1 rfl rfl)
theorem dX0_readBack_2 : decode cX0_readBack 2 = .ok (.putfield 430, 3) := dk_181 1 174 (dk_at dksX0_readBack_0 2 rfl rfl)
theorem dX0_readBack_5 : decode cX0_readBack 5 = .ok (.iconst 0, 1) := dk_3 (dk_at dksX0_readBack_0 5 rfl rfl)
theorem dX0_readBack_6 : decode cX0_readBack 6 = .ok (.istore_n 3, 1) := dk_62 (dk_at dksX0_readBack_0 6 rfl rfl)
theorem dX0_readBack_7 : decode cX0_readBack 7 = .ok (.iload_n 3, 1) := dk_29 (dk_at dksX0_readBack_0 7 rfl rfl)
theorem dX0_readBack_8 : decode cX0_readBack 8 = .ok (.bipush 6, 2) := dk_16 6 (dk_at dksX0_readBack_0 8 rfl rfl)
theorem dX0_readBack_10 : decode cX0_readBack 10 = .ok (.if_icmp .ge 16, 3) := dk_162 0 16 (dk_at dksX0_readBack_0 10 rfl rfl)
theorem dX0_readBack_13 : decode cX0_readBack 13 = .ok (.aload_n 0, 1) := dk_42 (dk_at dksX0_readBack_0 13 rfl rfl)
theorem dX0_readBack_14 : decode cX0_readBack 14 = .ok (.getfield 115, 3) := dk_180 0 115 (dk_at dksX0_readBack_0 14 rfl rfl)
theorem dX0_readBack_17 : decode cX0_readBack 17 = .ok (.iload_n 3, 1) := dk_29 (dk_at dksX0_readBack_0 17 rfl rfl)
theorem dX0_readBack_18 : decode cX0_readBack 18 = .ok (.iconst 0, 1) := dk_3 (dk_at dksX0_readBack_0 18 rfl rfl)
theorem dX0_readBack_19 : decode cX0_readBack 19 = .ok (.iastore, 1) := dk_79 (dk_at dksX0_readBack_0 19 rfl rfl)
theorem dX0_readBack_20 : decode cX0_readBack 20 = .ok (.iinc 3 1, 3) := dk_132 3 1 (dk_at dksX0_readBack_0 20 rfl rfl)
theorem dX0_readBack_23 : decode cX0_readBack 23 = .ok (.goto (-16), 3) := dk_167 255 240 (dk_at dksX0_readBack_1 0 rfl rfl)
theorem dX0_readBack_26 : decode cX0_readBack 26 = .ok (.aload_n 0, 1) := dk_42 (dk_at dksX0_readBack_1 3 rfl rfl)
theorem dX0_readBack_27 : decode cX0_readBack 27 = .ok (.getfield 111, 3) := dk_180 0 111 (dk_at dksX0_readBack_1 4 rfl rfl)
theorem dX0_readBack_30 : decode cX0_readBack 30 = .ok (.iconst 0, 1) := dk_3 (dk_at dksX0_readBack_1 7 rfl rfl)
theorem dX0_readBack_31 : decode cX0_readBack 31 = .ok (.aaload, 1) := dk_50 (dk_at dksX0_readBack_1 8 rfl rfl)
theorem dX0_readBack_32 : decode cX0_readBack 32 = .ok (.aload_n 0, 1) := dk_42 (dk_at dksX0_readBack_1 9 rfl rfl)
theorem dX0_readBack_33 : decode cX0_readBack 33 = .ok (.getfield 89, 3) := dk_180 0 89 (dk_at dksX0_readBack_1 10 rfl rfl)
theorem dX0_readBack_36 : decode cX0_readBack 36 = .ok (.invokevirtual 358, 3) := dk_182 1 102 (dk_at dksX0_readBack_1 13 rfl rfl)
theorem dX0_readBack_39 : decode cX0_readBack 39 = .ok (.aload_n 0, 1) := dk_42 (dk_at dksX0_readBack_1 16 rfl rfl)
theorem dX0_readBack_40 : decode cX0_readBack 40 = .ok (.aload_n 1, 1) := dk_43 (dk_at dksX0_readBack_1 17 rfl rfl)
theorem dX0_readBack_41 : decode cX0_readBack 41 = .ok (.iload_n 2, 1) := dk_28 (dk_at dksX0_readBack_1 18 rfl rfl)
theorem dX0_readBack_42 : decode cX0_readBack 42 = .ok (.iconst 0, 1) := dk_3 (dk_at dksX0_readBack_1 19 rfl rfl)
theorem dX0_readBack_43 : decode cX0_readBack 43 = .ok (.bipush 6, 2) := dk_16 6 (dk_at dksX0_readBack_1 20 rfl rfl)
theorem dX0_readBack_45 : decode cX0_readBack 45 = .ok (.aload_n 1, 1) := dk_43 (dk_at dksX0_readBack_1 22 rfl rfl)
theorem dX0_readBack_46 : decode cX0_readBack 46 = .ok (.arraylength, 1) := dk_190 (dk_at dksX0_readBack_1 23 rfl rfl)
theorem dX0_readBack_47 : decode cX0_readBack 47 = .ok (.invokestatic 333, 3) := dk_184 1 77 (dk_at dksX0_readBack_2 0 rfl rfl)
theorem dX0_readBack_50 : decode cX0_readBack 50 = .ok (.invokevirtual 433, 3) := dk_182 1 177 (dk_at dksX0_readBack_2 3 rfl rfl)
theorem dX0_readBack_53 : decode cX0_readBack 53 = .ok (.return_, 1) := dk_177 (dk_at dksX0_readBack_2 6 rfl rfl)
abbrev cX0_goDeeper : ByteArray := prog_1_method_61_code
def yX0_goDeeper : MethodName := ⟨RX0, "goDeeper", "([BIII)V"⟩
def dkwX0_goDeeper_6 : List UInt8 := [79, 42, 43, 28, 29, 4, 96, 21, 4, 182, 1, 177, 132, 5, 1, 167, 255, 152, 177]
abbrev dktX0_goDeeper_6 : List UInt8 := dkwX0_goDeeper_6 ++ []
def dkwX0_goDeeper_5 : List UInt8 := [167, 0, 36, 42, 180, 0, 118, 29, 21, 5, 2, 160, 0, 9, 17, 0, 128, 167, 0, 7, 4, 21, 5, 120]
abbrev dktX0_goDeeper_5 : List UInt8 := dkwX0_goDeeper_5 ++ dktX0_goDeeper_6
def dkwX0_goDeeper_4 : List UInt8 := [51, 2, 159, 0, 25, 43, 29, 51, 42, 180, 0, 111, 29, 4, 96, 50, 180, 0, 236, 28, 46, 159, 0, 6]
abbrev dktX0_goDeeper_4 : List UInt8 := dkwX0_goDeeper_4 ++ dktX0_goDeeper_5
def dkwX0_goDeeper_3 : List UInt8 := [42, 180, 0, 111, 29, 50, 182, 1, 102, 42, 180, 0, 111, 29, 4, 96, 50, 21, 5, 182, 1, 106, 43, 29]
abbrev dktX0_goDeeper_3 : List UInt8 := dkwX0_goDeeper_3 ++ dktX0_goDeeper_4
def dkwX0_goDeeper_2 : List UInt8 := [167, 255, 229, 177, 2, 54, 5, 21, 5, 42, 180, 0, 169, 162, 0, 101, 42, 180, 0, 111, 29, 4, 96, 50]
abbrev dktX0_goDeeper_2 : List UInt8 := dkwX0_goDeeper_2 ++ dktX0_goDeeper_3
def dkwX0_goDeeper_1 : List UInt8 := [162, 0, 26, 42, 180, 0, 115, 21, 5, 92, 46, 42, 180, 0, 118, 21, 5, 46, 128, 79, 132, 5, 1]
abbrev dktX0_goDeeper_1 : List UInt8 := dkwX0_goDeeper_1 ++ dktX0_goDeeper_2
def dkwX0_goDeeper_0 : List UInt8 := [29, 21, 4, 160, 0, 47, 42, 89, 180, 1, 174, 4, 96, 181, 1, 174, 3, 54, 5, 21, 5, 21, 4]
abbrev dktX0_goDeeper_0 : List UInt8 := dkwX0_goDeeper_0 ++ dktX0_goDeeper_1
theorem dksX0_goDeeper_0 : cX0_goDeeper.data.toList.drop 0 = dktX0_goDeeper_0 := by decide +kernel
theorem dksX0_goDeeper_1 : cX0_goDeeper.data.toList.drop 23 = dktX0_goDeeper_1 := dk_seg dksX0_goDeeper_0 23 rfl rfl
theorem dksX0_goDeeper_2 : cX0_goDeeper.data.toList.drop 46 = dktX0_goDeeper_2 := dk_seg dksX0_goDeeper_1 23 rfl rfl
theorem dksX0_goDeeper_3 : cX0_goDeeper.data.toList.drop 70 = dktX0_goDeeper_3 := dk_seg dksX0_goDeeper_2 24 rfl rfl
theorem dksX0_goDeeper_4 : cX0_goDeeper.data.toList.drop 94 = dktX0_goDeeper_4 := dk_seg dksX0_goDeeper_3 24 rfl rfl
theorem dksX0_goDeeper_5 : cX0_goDeeper.data.toList.drop 118 = dktX0_goDeeper_5 := dk_seg dksX0_goDeeper_4 24 rfl rfl
theorem dksX0_goDeeper_6 : cX0_goDeeper.data.toList.drop 142 = dktX0_goDeeper_6 := dk_seg dksX0_goDeeper_5 24 rfl rfl
theorem dX0_goDeeper_0 : decode cX0_goDeeper 0 = .ok (.iload_n 3, 1) := dk_29 (dk_at dksX0_goDeeper_0 0 rfl rfl)
theorem dX0_goDeeper_1 : decode cX0_goDeeper 1 = .ok (.iload 4, 2) := dk_21 4 (dk_at dksX0_goDeeper_0 1 rfl rfl)
theorem dX0_goDeeper_3 : decode cX0_goDeeper 3 = .ok (.if_icmp .ne 47, 3) := dk_160 0 47 (dk_at dksX0_goDeeper_0 3 rfl rfl)
theorem dX0_goDeeper_6 : decode cX0_goDeeper 6 = .ok (.aload_n 0, 1) := dk_42 (dk_at dksX0_goDeeper_0 6 rfl rfl)
theorem dX0_goDeeper_7 : decode cX0_goDeeper 7 = .ok (.dup, 1) := dk_89 (dk_at dksX0_goDeeper_0 7 rfl rfl)
theorem dX0_goDeeper_8 : decode cX0_goDeeper 8 = .ok (.getfield 430, 3) := dk_180 1 174 (dk_at dksX0_goDeeper_0 8 rfl rfl)
theorem dX0_goDeeper_11 : decode cX0_goDeeper 11 = .ok (.iconst 1, 1) := dk_4 (dk_at dksX0_goDeeper_0 11 rfl rfl)
theorem dX0_goDeeper_12 : decode cX0_goDeeper 12 = .ok (.iadd, 1) := dk_96 (dk_at dksX0_goDeeper_0 12 rfl rfl)
theorem dX0_goDeeper_13 : decode cX0_goDeeper 13 = .ok (.putfield 430, 3) := dk_181 1 174 (dk_at dksX0_goDeeper_0 13 rfl rfl)
theorem dX0_goDeeper_16 : decode cX0_goDeeper 16 = .ok (.iconst 0, 1) := dk_3 (dk_at dksX0_goDeeper_0 16 rfl rfl)
theorem dX0_goDeeper_17 : decode cX0_goDeeper 17 = .ok (.istore 5, 2) := dk_54 5 (dk_at dksX0_goDeeper_0 17 rfl rfl)
theorem dX0_goDeeper_19 : decode cX0_goDeeper 19 = .ok (.iload 5, 2) := dk_21 5 (dk_at dksX0_goDeeper_0 19 rfl rfl)
theorem dX0_goDeeper_21 : decode cX0_goDeeper 21 = .ok (.iload 4, 2) := dk_21 4 (dk_at dksX0_goDeeper_0 21 rfl rfl)
theorem dX0_goDeeper_23 : decode cX0_goDeeper 23 = .ok (.if_icmp .ge 26, 3) := dk_162 0 26 (dk_at dksX0_goDeeper_1 0 rfl rfl)
theorem dX0_goDeeper_26 : decode cX0_goDeeper 26 = .ok (.aload_n 0, 1) := dk_42 (dk_at dksX0_goDeeper_1 3 rfl rfl)
theorem dX0_goDeeper_27 : decode cX0_goDeeper 27 = .ok (.getfield 115, 3) := dk_180 0 115 (dk_at dksX0_goDeeper_1 4 rfl rfl)
theorem dX0_goDeeper_30 : decode cX0_goDeeper 30 = .ok (.iload 5, 2) := dk_21 5 (dk_at dksX0_goDeeper_1 7 rfl rfl)
theorem dX0_goDeeper_32 : decode cX0_goDeeper 32 = .ok (.dup2, 1) := dk_92 (dk_at dksX0_goDeeper_1 9 rfl rfl)
theorem dX0_goDeeper_33 : decode cX0_goDeeper 33 = .ok (.iaload, 1) := dk_46 (dk_at dksX0_goDeeper_1 10 rfl rfl)
theorem dX0_goDeeper_34 : decode cX0_goDeeper 34 = .ok (.aload_n 0, 1) := dk_42 (dk_at dksX0_goDeeper_1 11 rfl rfl)
theorem dX0_goDeeper_35 : decode cX0_goDeeper 35 = .ok (.getfield 118, 3) := dk_180 0 118 (dk_at dksX0_goDeeper_1 12 rfl rfl)
theorem dX0_goDeeper_38 : decode cX0_goDeeper 38 = .ok (.iload 5, 2) := dk_21 5 (dk_at dksX0_goDeeper_1 15 rfl rfl)
theorem dX0_goDeeper_40 : decode cX0_goDeeper 40 = .ok (.iaload, 1) := dk_46 (dk_at dksX0_goDeeper_1 17 rfl rfl)
theorem dX0_goDeeper_41 : decode cX0_goDeeper 41 = .ok (.ior, 1) := dk_128 (dk_at dksX0_goDeeper_1 18 rfl rfl)
theorem dX0_goDeeper_42 : decode cX0_goDeeper 42 = .ok (.iastore, 1) := dk_79 (dk_at dksX0_goDeeper_1 19 rfl rfl)
theorem dX0_goDeeper_43 : decode cX0_goDeeper 43 = .ok (.iinc 5 1, 3) := dk_132 5 1 (dk_at dksX0_goDeeper_1 20 rfl rfl)
theorem dX0_goDeeper_46 : decode cX0_goDeeper 46 = .ok (.goto (-27), 3) := dk_167 255 229 (dk_at dksX0_goDeeper_2 0 rfl rfl)
theorem dX0_goDeeper_49 : decode cX0_goDeeper 49 = .ok (.return_, 1) := dk_177 (dk_at dksX0_goDeeper_2 3 rfl rfl)
theorem dX0_goDeeper_50 : decode cX0_goDeeper 50 = .ok (.iconst (-1), 1) := dk_2 (dk_at dksX0_goDeeper_2 4 rfl rfl)
theorem dX0_goDeeper_51 : decode cX0_goDeeper 51 = .ok (.istore 5, 2) := dk_54 5 (dk_at dksX0_goDeeper_2 5 rfl rfl)
theorem dX0_goDeeper_53 : decode cX0_goDeeper 53 = .ok (.iload 5, 2) := dk_21 5 (dk_at dksX0_goDeeper_2 7 rfl rfl)
theorem dX0_goDeeper_55 : decode cX0_goDeeper 55 = .ok (.aload_n 0, 1) := dk_42 (dk_at dksX0_goDeeper_2 9 rfl rfl)
theorem dX0_goDeeper_56 : decode cX0_goDeeper 56 = .ok (.getfield 169, 3) := dk_180 0 169 (dk_at dksX0_goDeeper_2 10 rfl rfl)
theorem dX0_goDeeper_59 : decode cX0_goDeeper 59 = .ok (.if_icmp .ge 101, 3) := dk_162 0 101 (dk_at dksX0_goDeeper_2 13 rfl rfl)
theorem dX0_goDeeper_62 : decode cX0_goDeeper 62 = .ok (.aload_n 0, 1) := dk_42 (dk_at dksX0_goDeeper_2 16 rfl rfl)
theorem dX0_goDeeper_63 : decode cX0_goDeeper 63 = .ok (.getfield 111, 3) := dk_180 0 111 (dk_at dksX0_goDeeper_2 17 rfl rfl)
theorem dX0_goDeeper_66 : decode cX0_goDeeper 66 = .ok (.iload_n 3, 1) := dk_29 (dk_at dksX0_goDeeper_2 20 rfl rfl)
theorem dX0_goDeeper_67 : decode cX0_goDeeper 67 = .ok (.iconst 1, 1) := dk_4 (dk_at dksX0_goDeeper_2 21 rfl rfl)
theorem dX0_goDeeper_68 : decode cX0_goDeeper 68 = .ok (.iadd, 1) := dk_96 (dk_at dksX0_goDeeper_2 22 rfl rfl)
theorem dX0_goDeeper_69 : decode cX0_goDeeper 69 = .ok (.aaload, 1) := dk_50 (dk_at dksX0_goDeeper_2 23 rfl rfl)
theorem dX0_goDeeper_70 : decode cX0_goDeeper 70 = .ok (.aload_n 0, 1) := dk_42 (dk_at dksX0_goDeeper_3 0 rfl rfl)
theorem dX0_goDeeper_71 : decode cX0_goDeeper 71 = .ok (.getfield 111, 3) := dk_180 0 111 (dk_at dksX0_goDeeper_3 1 rfl rfl)
theorem dX0_goDeeper_74 : decode cX0_goDeeper 74 = .ok (.iload_n 3, 1) := dk_29 (dk_at dksX0_goDeeper_3 4 rfl rfl)
theorem dX0_goDeeper_75 : decode cX0_goDeeper 75 = .ok (.aaload, 1) := dk_50 (dk_at dksX0_goDeeper_3 5 rfl rfl)
theorem dX0_goDeeper_76 : decode cX0_goDeeper 76 = .ok (.invokevirtual 358, 3) := dk_182 1 102 (dk_at dksX0_goDeeper_3 6 rfl rfl)
theorem dX0_goDeeper_79 : decode cX0_goDeeper 79 = .ok (.aload_n 0, 1) := dk_42 (dk_at dksX0_goDeeper_3 9 rfl rfl)
theorem dX0_goDeeper_80 : decode cX0_goDeeper 80 = .ok (.getfield 111, 3) := dk_180 0 111 (dk_at dksX0_goDeeper_3 10 rfl rfl)
theorem dX0_goDeeper_83 : decode cX0_goDeeper 83 = .ok (.iload_n 3, 1) := dk_29 (dk_at dksX0_goDeeper_3 13 rfl rfl)
theorem dX0_goDeeper_84 : decode cX0_goDeeper 84 = .ok (.iconst 1, 1) := dk_4 (dk_at dksX0_goDeeper_3 14 rfl rfl)
theorem dX0_goDeeper_85 : decode cX0_goDeeper 85 = .ok (.iadd, 1) := dk_96 (dk_at dksX0_goDeeper_3 15 rfl rfl)
theorem dX0_goDeeper_86 : decode cX0_goDeeper 86 = .ok (.aaload, 1) := dk_50 (dk_at dksX0_goDeeper_3 16 rfl rfl)
theorem dX0_goDeeper_87 : decode cX0_goDeeper 87 = .ok (.iload 5, 2) := dk_21 5 (dk_at dksX0_goDeeper_3 17 rfl rfl)
theorem dX0_goDeeper_89 : decode cX0_goDeeper 89 = .ok (.invokevirtual 362, 3) := dk_182 1 106 (dk_at dksX0_goDeeper_3 19 rfl rfl)
theorem dX0_goDeeper_92 : decode cX0_goDeeper 92 = .ok (.aload_n 1, 1) := dk_43 (dk_at dksX0_goDeeper_3 22 rfl rfl)
theorem dX0_goDeeper_93 : decode cX0_goDeeper 93 = .ok (.iload_n 3, 1) := dk_29 (dk_at dksX0_goDeeper_3 23 rfl rfl)
theorem dX0_goDeeper_94 : decode cX0_goDeeper 94 = .ok (.baload, 1) := dk_51 (dk_at dksX0_goDeeper_4 0 rfl rfl)
theorem dX0_goDeeper_95 : decode cX0_goDeeper 95 = .ok (.iconst (-1), 1) := dk_2 (dk_at dksX0_goDeeper_4 1 rfl rfl)
theorem dX0_goDeeper_96 : decode cX0_goDeeper 96 = .ok (.if_icmp .eq 25, 3) := dk_159 0 25 (dk_at dksX0_goDeeper_4 2 rfl rfl)
theorem dX0_goDeeper_99 : decode cX0_goDeeper 99 = .ok (.aload_n 1, 1) := dk_43 (dk_at dksX0_goDeeper_4 5 rfl rfl)
theorem dX0_goDeeper_100 : decode cX0_goDeeper 100 = .ok (.iload_n 3, 1) := dk_29 (dk_at dksX0_goDeeper_4 6 rfl rfl)
theorem dX0_goDeeper_101 : decode cX0_goDeeper 101 = .ok (.baload, 1) := dk_51 (dk_at dksX0_goDeeper_4 7 rfl rfl)
theorem dX0_goDeeper_102 : decode cX0_goDeeper 102 = .ok (.aload_n 0, 1) := dk_42 (dk_at dksX0_goDeeper_4 8 rfl rfl)
theorem dX0_goDeeper_103 : decode cX0_goDeeper 103 = .ok (.getfield 111, 3) := dk_180 0 111 (dk_at dksX0_goDeeper_4 9 rfl rfl)
theorem dX0_goDeeper_106 : decode cX0_goDeeper 106 = .ok (.iload_n 3, 1) := dk_29 (dk_at dksX0_goDeeper_4 12 rfl rfl)
theorem dX0_goDeeper_107 : decode cX0_goDeeper 107 = .ok (.iconst 1, 1) := dk_4 (dk_at dksX0_goDeeper_4 13 rfl rfl)
theorem dX0_goDeeper_108 : decode cX0_goDeeper 108 = .ok (.iadd, 1) := dk_96 (dk_at dksX0_goDeeper_4 14 rfl rfl)
theorem dX0_goDeeper_109 : decode cX0_goDeeper 109 = .ok (.aaload, 1) := dk_50 (dk_at dksX0_goDeeper_4 15 rfl rfl)
theorem dX0_goDeeper_110 : decode cX0_goDeeper 110 = .ok (.getfield 236, 3) := dk_180 0 236 (dk_at dksX0_goDeeper_4 16 rfl rfl)
theorem dX0_goDeeper_113 : decode cX0_goDeeper 113 = .ok (.iload_n 2, 1) := dk_28 (dk_at dksX0_goDeeper_4 19 rfl rfl)
theorem dX0_goDeeper_114 : decode cX0_goDeeper 114 = .ok (.iaload, 1) := dk_46 (dk_at dksX0_goDeeper_4 20 rfl rfl)
theorem dX0_goDeeper_115 : decode cX0_goDeeper 115 = .ok (.if_icmp .eq 6, 3) := dk_159 0 6 (dk_at dksX0_goDeeper_4 21 rfl rfl)
theorem dX0_goDeeper_118 : decode cX0_goDeeper 118 = .ok (.goto 36, 3) := dk_167 0 36 (dk_at dksX0_goDeeper_5 0 rfl rfl)
theorem dX0_goDeeper_121 : decode cX0_goDeeper 121 = .ok (.aload_n 0, 1) := dk_42 (dk_at dksX0_goDeeper_5 3 rfl rfl)
theorem dX0_goDeeper_122 : decode cX0_goDeeper 122 = .ok (.getfield 118, 3) := dk_180 0 118 (dk_at dksX0_goDeeper_5 4 rfl rfl)
theorem dX0_goDeeper_125 : decode cX0_goDeeper 125 = .ok (.iload_n 3, 1) := dk_29 (dk_at dksX0_goDeeper_5 7 rfl rfl)
theorem dX0_goDeeper_126 : decode cX0_goDeeper 126 = .ok (.iload 5, 2) := dk_21 5 (dk_at dksX0_goDeeper_5 8 rfl rfl)
theorem dX0_goDeeper_128 : decode cX0_goDeeper 128 = .ok (.iconst (-1), 1) := dk_2 (dk_at dksX0_goDeeper_5 10 rfl rfl)
theorem dX0_goDeeper_129 : decode cX0_goDeeper 129 = .ok (.if_icmp .ne 9, 3) := dk_160 0 9 (dk_at dksX0_goDeeper_5 11 rfl rfl)
theorem dX0_goDeeper_132 : decode cX0_goDeeper 132 = .ok (.sipush 128, 3) := dk_17 0 128 (dk_at dksX0_goDeeper_5 14 rfl rfl)
theorem dX0_goDeeper_135 : decode cX0_goDeeper 135 = .ok (.goto 7, 3) := dk_167 0 7 (dk_at dksX0_goDeeper_5 17 rfl rfl)
theorem dX0_goDeeper_138 : decode cX0_goDeeper 138 = .ok (.iconst 1, 1) := dk_4 (dk_at dksX0_goDeeper_5 20 rfl rfl)
theorem dX0_goDeeper_139 : decode cX0_goDeeper 139 = .ok (.iload 5, 2) := dk_21 5 (dk_at dksX0_goDeeper_5 21 rfl rfl)
theorem dX0_goDeeper_141 : decode cX0_goDeeper 141 = .ok (.ishl, 1) := dk_120 (dk_at dksX0_goDeeper_5 23 rfl rfl)
theorem dX0_goDeeper_142 : decode cX0_goDeeper 142 = .ok (.iastore, 1) := dk_79 (dk_at dksX0_goDeeper_6 0 rfl rfl)
theorem dX0_goDeeper_143 : decode cX0_goDeeper 143 = .ok (.aload_n 0, 1) := dk_42 (dk_at dksX0_goDeeper_6 1 rfl rfl)
theorem dX0_goDeeper_144 : decode cX0_goDeeper 144 = .ok (.aload_n 1, 1) := dk_43 (dk_at dksX0_goDeeper_6 2 rfl rfl)
theorem dX0_goDeeper_145 : decode cX0_goDeeper 145 = .ok (.iload_n 2, 1) := dk_28 (dk_at dksX0_goDeeper_6 3 rfl rfl)
theorem dX0_goDeeper_146 : decode cX0_goDeeper 146 = .ok (.iload_n 3, 1) := dk_29 (dk_at dksX0_goDeeper_6 4 rfl rfl)
theorem dX0_goDeeper_147 : decode cX0_goDeeper 147 = .ok (.iconst 1, 1) := dk_4 (dk_at dksX0_goDeeper_6 5 rfl rfl)
theorem dX0_goDeeper_148 : decode cX0_goDeeper 148 = .ok (.iadd, 1) := dk_96 (dk_at dksX0_goDeeper_6 6 rfl rfl)
theorem dX0_goDeeper_149 : decode cX0_goDeeper 149 = .ok (.iload 4, 2) := dk_21 4 (dk_at dksX0_goDeeper_6 7 rfl rfl)
theorem dX0_goDeeper_151 : decode cX0_goDeeper 151 = .ok (.invokevirtual 433, 3) := dk_182 1 177 (dk_at dksX0_goDeeper_6 9 rfl rfl)
theorem dX0_goDeeper_154 : decode cX0_goDeeper 154 = .ok (.iinc 5 1, 3) := dk_132 5 1 (dk_at dksX0_goDeeper_6 12 rfl rfl)
theorem dX0_goDeeper_157 : decode cX0_goDeeper 157 = .ok (.goto (-104), 3) := dk_167 255 152 (dk_at dksX0_goDeeper_6 15 rfl rfl)
theorem dX0_goDeeper_160 : decode cX0_goDeeper 160 = .ok (.return_, 1) := dk_177 (dk_at dksX0_goDeeper_6 18 rfl rfl)
abbrev cX0_ways : ByteArray := prog_1_method_64_code
def yX0_ways : MethodName := ⟨RX0, "ways", "(II)I"⟩
def dkwX0_ways_2 : List UInt8 := [172]
abbrev dktX0_ways_2 : List UInt8 := dkwX0_ways_2 ++ []
def dkwX0_ways_1 : List UInt8 := [42, 27, 182, 1, 92, 172, 42, 42, 180, 0, 139, 27, 50, 192, 0, 192, 28, 182, 1, 181, 42, 180, 1, 174]
abbrev dktX0_ways_1 : List UInt8 := dkwX0_ways_1 ++ dktX0_ways_2
def dkwX0_ways_0 : List UInt8 := [27, 184, 0, 194, 153, 0, 10, 28, 184, 0, 178, 154, 0, 5, 2, 172, 42, 27, 182, 1, 92, 156, 0, 9]
abbrev dktX0_ways_0 : List UInt8 := dkwX0_ways_0 ++ dktX0_ways_1
theorem dksX0_ways_0 : cX0_ways.data.toList.drop 0 = dktX0_ways_0 := by decide +kernel
theorem dksX0_ways_1 : cX0_ways.data.toList.drop 24 = dktX0_ways_1 := dk_seg dksX0_ways_0 24 rfl rfl
theorem dksX0_ways_2 : cX0_ways.data.toList.drop 48 = dktX0_ways_2 := dk_seg dksX0_ways_1 24 rfl rfl
theorem dX0_ways_0 : decode cX0_ways 0 = .ok (.iload_n 1, 1) := dk_27 (dk_at dksX0_ways_0 0 rfl rfl)
theorem dX0_ways_1 : decode cX0_ways 1 = .ok (.invokestatic 194, 3) := dk_184 0 194 (dk_at dksX0_ways_0 1 rfl rfl)
theorem dX0_ways_4 : decode cX0_ways 4 = .ok (.ifCond .eq 10, 3) := dk_153 0 10 (dk_at dksX0_ways_0 4 rfl rfl)
theorem dX0_ways_7 : decode cX0_ways 7 = .ok (.iload_n 2, 1) := dk_28 (dk_at dksX0_ways_0 7 rfl rfl)
theorem dX0_ways_8 : decode cX0_ways 8 = .ok (.invokestatic 178, 3) := dk_184 0 178 (dk_at dksX0_ways_0 8 rfl rfl)
theorem dX0_ways_11 : decode cX0_ways 11 = .ok (.ifCond .ne 5, 3) := dk_154 0 5 (dk_at dksX0_ways_0 11 rfl rfl)
theorem dX0_ways_14 : decode cX0_ways 14 = .ok (.iconst (-1), 1) := dk_2 (dk_at dksX0_ways_0 14 rfl rfl)
theorem dX0_ways_15 : decode cX0_ways 15 = .ok (.ireturn, 1) := dk_172 (dk_at dksX0_ways_0 15 rfl rfl)
theorem dX0_ways_16 : decode cX0_ways 16 = .ok (.aload_n 0, 1) := dk_42 (dk_at dksX0_ways_0 16 rfl rfl)
theorem dX0_ways_17 : decode cX0_ways 17 = .ok (.iload_n 1, 1) := dk_27 (dk_at dksX0_ways_0 17 rfl rfl)
theorem dX0_ways_18 : decode cX0_ways 18 = .ok (.invokevirtual 348, 3) := dk_182 1 92 (dk_at dksX0_ways_0 18 rfl rfl)
theorem dX0_ways_21 : decode cX0_ways 21 = .ok (.ifCond .ge 9, 3) := dk_156 0 9 (dk_at dksX0_ways_0 21 rfl rfl)
theorem dX0_ways_24 : decode cX0_ways 24 = .ok (.aload_n 0, 1) := dk_42 (dk_at dksX0_ways_1 0 rfl rfl)
theorem dX0_ways_25 : decode cX0_ways 25 = .ok (.iload_n 1, 1) := dk_27 (dk_at dksX0_ways_1 1 rfl rfl)
theorem dX0_ways_26 : decode cX0_ways 26 = .ok (.invokevirtual 348, 3) := dk_182 1 92 (dk_at dksX0_ways_1 2 rfl rfl)
theorem dX0_ways_29 : decode cX0_ways 29 = .ok (.ireturn, 1) := dk_172 (dk_at dksX0_ways_1 5 rfl rfl)
theorem dX0_ways_30 : decode cX0_ways 30 = .ok (.aload_n 0, 1) := dk_42 (dk_at dksX0_ways_1 6 rfl rfl)
theorem dX0_ways_31 : decode cX0_ways 31 = .ok (.aload_n 0, 1) := dk_42 (dk_at dksX0_ways_1 7 rfl rfl)
theorem dX0_ways_32 : decode cX0_ways 32 = .ok (.getfield 139, 3) := dk_180 0 139 (dk_at dksX0_ways_1 8 rfl rfl)
theorem dX0_ways_35 : decode cX0_ways 35 = .ok (.iload_n 1, 1) := dk_27 (dk_at dksX0_ways_1 11 rfl rfl)
theorem dX0_ways_36 : decode cX0_ways 36 = .ok (.aaload, 1) := dk_50 (dk_at dksX0_ways_1 12 rfl rfl)
theorem dX0_ways_37 : decode cX0_ways 37 = .ok (.checkcast 192, 3) := dk_192 0 192 (dk_at dksX0_ways_1 13 rfl rfl)
theorem dX0_ways_40 : decode cX0_ways 40 = .ok (.iload_n 2, 1) := dk_28 (dk_at dksX0_ways_1 16 rfl rfl)
theorem dX0_ways_41 : decode cX0_ways 41 = .ok (.invokevirtual 437, 3) := dk_182 1 181 (dk_at dksX0_ways_1 17 rfl rfl)
theorem dX0_ways_44 : decode cX0_ways 44 = .ok (.aload_n 0, 1) := dk_42 (dk_at dksX0_ways_1 20 rfl rfl)
theorem dX0_ways_45 : decode cX0_ways 45 = .ok (.getfield 430, 3) := dk_180 1 174 (dk_at dksX0_ways_1 21 rfl rfl)
theorem dX0_ways_48 : decode cX0_ways 48 = .ok (.ireturn, 1) := dk_172 (dk_at dksX0_ways_2 0 rfl rfl)
abbrev cX0_judge : ByteArray := prog_1_method_65_code
def yX0_judge : MethodName := ⟨RX0, "judge", "(II)I"⟩
def dkwX0_judge_8 : List UInt8 := [132, 4, 1, 167, 255, 196, 16, 254, 172]
abbrev dktX0_judge_8 : List UInt8 := dkwX0_judge_8 ++ []
def dkwX0_judge_7 : List UInt8 := [159, 0, 22, 45, 21, 4, 51, 42, 180, 0, 93, 180, 0, 236, 28, 46, 159, 0, 6, 21, 4, 172]
abbrev dktX0_judge_7 : List UInt8 := dkwX0_judge_7 ++ dktX0_judge_8
def dkwX0_judge_6 : List UInt8 := [45, 190, 162, 0, 50, 42, 180, 0, 93, 42, 180, 0, 96, 21, 4, 46, 182, 1, 106, 45, 21, 4, 51, 2]
abbrev dktX0_judge_6 : List UInt8 := dkwX0_judge_6 ++ dktX0_judge_7
def dkwX0_judge_5 : List UInt8 := [180, 0, 93, 42, 180, 0, 89, 182, 1, 102, 3, 54, 4, 21, 4, 42, 180, 1, 89, 162, 0, 57, 21, 4]
abbrev dktX0_judge_5 : List UInt8 := dkwX0_judge_5 ++ dktX0_judge_6
def dkwX0_judge_4 : List UInt8 := [16, 10, 108, 50, 192, 0, 192, 182, 1, 95, 42, 180, 0, 139, 27, 16, 10, 112, 50, 192, 0, 192, 78, 42]
abbrev dktX0_judge_4 : List UInt8 := dkwX0_judge_4 ++ dktX0_judge_5
def dkwX0_judge_3 : List UInt8 := [155, 0, 14, 42, 27, 16, 10, 112, 182, 1, 92, 156, 0, 6, 16, 244, 172, 42, 42, 180, 0, 139, 27]
abbrev dktX0_judge_3 : List UInt8 := dkwX0_judge_3 ++ dktX0_judge_4
def dkwX0_judge_2 : List UInt8 := [180, 0, 139, 27, 16, 10, 112, 50, 199, 0, 6, 16, 245, 172, 42, 27, 16, 10, 108, 182, 1, 92]
abbrev dktX0_judge_2 : List UInt8 := dkwX0_judge_2 ++ dktX0_judge_3
def dkwX0_judge_1 : List UInt8 := [28, 184, 0, 178, 154, 0, 5, 2, 172, 42, 180, 0, 139, 27, 16, 10, 108, 50, 198, 0, 15, 42]
abbrev dktX0_judge_1 : List UInt8 := dkwX0_judge_1 ++ dktX0_judge_2
def dkwX0_judge_0 : List UInt8 := [27, 155, 0, 30, 27, 16, 10, 108, 184, 0, 194, 153, 0, 20, 27, 16, 10, 112, 184, 0, 194, 153, 0, 10]
abbrev dktX0_judge_0 : List UInt8 := dkwX0_judge_0 ++ dktX0_judge_1
theorem dksX0_judge_0 : cX0_judge.data.toList.drop 0 = dktX0_judge_0 := by decide +kernel
theorem dksX0_judge_1 : cX0_judge.data.toList.drop 24 = dktX0_judge_1 := dk_seg dksX0_judge_0 24 rfl rfl
theorem dksX0_judge_2 : cX0_judge.data.toList.drop 46 = dktX0_judge_2 := dk_seg dksX0_judge_1 22 rfl rfl
theorem dksX0_judge_3 : cX0_judge.data.toList.drop 68 = dktX0_judge_3 := dk_seg dksX0_judge_2 22 rfl rfl
theorem dksX0_judge_4 : cX0_judge.data.toList.drop 91 = dktX0_judge_4 := dk_seg dksX0_judge_3 23 rfl rfl
theorem dksX0_judge_5 : cX0_judge.data.toList.drop 115 = dktX0_judge_5 := dk_seg dksX0_judge_4 24 rfl rfl
theorem dksX0_judge_6 : cX0_judge.data.toList.drop 139 = dktX0_judge_6 := dk_seg dksX0_judge_5 24 rfl rfl
theorem dksX0_judge_7 : cX0_judge.data.toList.drop 163 = dktX0_judge_7 := dk_seg dksX0_judge_6 24 rfl rfl
theorem dksX0_judge_8 : cX0_judge.data.toList.drop 185 = dktX0_judge_8 := dk_seg dksX0_judge_7 22 rfl rfl
theorem dX0_judge_0 : decode cX0_judge 0 = .ok (.iload_n 1, 1) := dk_27 (dk_at dksX0_judge_0 0 rfl rfl)
theorem dX0_judge_1 : decode cX0_judge 1 = .ok (.ifCond .lt 30, 3) := dk_155 0 30 (dk_at dksX0_judge_0 1 rfl rfl)
theorem dX0_judge_4 : decode cX0_judge 4 = .ok (.iload_n 1, 1) := dk_27 (dk_at dksX0_judge_0 4 rfl rfl)
theorem dX0_judge_5 : decode cX0_judge 5 = .ok (.bipush 10, 2) := dk_16 10 (dk_at dksX0_judge_0 5 rfl rfl)
theorem dX0_judge_7 : decode cX0_judge 7 = .ok (.idiv, 1) := dk_108 (dk_at dksX0_judge_0 7 rfl rfl)
theorem dX0_judge_8 : decode cX0_judge 8 = .ok (.invokestatic 194, 3) := dk_184 0 194 (dk_at dksX0_judge_0 8 rfl rfl)
theorem dX0_judge_11 : decode cX0_judge 11 = .ok (.ifCond .eq 20, 3) := dk_153 0 20 (dk_at dksX0_judge_0 11 rfl rfl)
theorem dX0_judge_14 : decode cX0_judge 14 = .ok (.iload_n 1, 1) := dk_27 (dk_at dksX0_judge_0 14 rfl rfl)
theorem dX0_judge_15 : decode cX0_judge 15 = .ok (.bipush 10, 2) := dk_16 10 (dk_at dksX0_judge_0 15 rfl rfl)
theorem dX0_judge_17 : decode cX0_judge 17 = .ok (.irem, 1) := dk_112 (dk_at dksX0_judge_0 17 rfl rfl)
theorem dX0_judge_18 : decode cX0_judge 18 = .ok (.invokestatic 194, 3) := dk_184 0 194 (dk_at dksX0_judge_0 18 rfl rfl)
theorem dX0_judge_21 : decode cX0_judge 21 = .ok (.ifCond .eq 10, 3) := dk_153 0 10 (dk_at dksX0_judge_0 21 rfl rfl)
theorem dX0_judge_24 : decode cX0_judge 24 = .ok (.iload_n 2, 1) := dk_28 (dk_at dksX0_judge_1 0 rfl rfl)
theorem dX0_judge_25 : decode cX0_judge 25 = .ok (.invokestatic 178, 3) := dk_184 0 178 (dk_at dksX0_judge_1 1 rfl rfl)
theorem dX0_judge_28 : decode cX0_judge 28 = .ok (.ifCond .ne 5, 3) := dk_154 0 5 (dk_at dksX0_judge_1 4 rfl rfl)
theorem dX0_judge_31 : decode cX0_judge 31 = .ok (.iconst (-1), 1) := dk_2 (dk_at dksX0_judge_1 7 rfl rfl)
theorem dX0_judge_32 : decode cX0_judge 32 = .ok (.ireturn, 1) := dk_172 (dk_at dksX0_judge_1 8 rfl rfl)
theorem dX0_judge_33 : decode cX0_judge 33 = .ok (.aload_n 0, 1) := dk_42 (dk_at dksX0_judge_1 9 rfl rfl)
theorem dX0_judge_34 : decode cX0_judge 34 = .ok (.getfield 139, 3) := dk_180 0 139 (dk_at dksX0_judge_1 10 rfl rfl)
theorem dX0_judge_37 : decode cX0_judge 37 = .ok (.iload_n 1, 1) := dk_27 (dk_at dksX0_judge_1 13 rfl rfl)
theorem dX0_judge_38 : decode cX0_judge 38 = .ok (.bipush 10, 2) := dk_16 10 (dk_at dksX0_judge_1 14 rfl rfl)
theorem dX0_judge_40 : decode cX0_judge 40 = .ok (.idiv, 1) := dk_108 (dk_at dksX0_judge_1 16 rfl rfl)
theorem dX0_judge_41 : decode cX0_judge 41 = .ok (.aaload, 1) := dk_50 (dk_at dksX0_judge_1 17 rfl rfl)
theorem dX0_judge_42 : decode cX0_judge 42 = .ok (.ifnull 15, 3) := dk_198 0 15 (dk_at dksX0_judge_1 18 rfl rfl)
theorem dX0_judge_45 : decode cX0_judge 45 = .ok (.aload_n 0, 1) := dk_42 (dk_at dksX0_judge_1 21 rfl rfl)
theorem dX0_judge_46 : decode cX0_judge 46 = .ok (.getfield 139, 3) := dk_180 0 139 (dk_at dksX0_judge_2 0 rfl rfl)
theorem dX0_judge_49 : decode cX0_judge 49 = .ok (.iload_n 1, 1) := dk_27 (dk_at dksX0_judge_2 3 rfl rfl)
theorem dX0_judge_50 : decode cX0_judge 50 = .ok (.bipush 10, 2) := dk_16 10 (dk_at dksX0_judge_2 4 rfl rfl)
theorem dX0_judge_52 : decode cX0_judge 52 = .ok (.irem, 1) := dk_112 (dk_at dksX0_judge_2 6 rfl rfl)
theorem dX0_judge_53 : decode cX0_judge 53 = .ok (.aaload, 1) := dk_50 (dk_at dksX0_judge_2 7 rfl rfl)
theorem dX0_judge_54 : decode cX0_judge 54 = .ok (.ifnonnull 6, 3) := dk_199 0 6 (dk_at dksX0_judge_2 8 rfl rfl)
theorem dX0_judge_57 : decode cX0_judge 57 = .ok (.bipush (-11), 2) := dk_16 245 (dk_at dksX0_judge_2 11 rfl rfl)
theorem dX0_judge_59 : decode cX0_judge 59 = .ok (.ireturn, 1) := dk_172 (dk_at dksX0_judge_2 13 rfl rfl)
theorem dX0_judge_60 : decode cX0_judge 60 = .ok (.aload_n 0, 1) := dk_42 (dk_at dksX0_judge_2 14 rfl rfl)
theorem dX0_judge_61 : decode cX0_judge 61 = .ok (.iload_n 1, 1) := dk_27 (dk_at dksX0_judge_2 15 rfl rfl)
theorem dX0_judge_62 : decode cX0_judge 62 = .ok (.bipush 10, 2) := dk_16 10 (dk_at dksX0_judge_2 16 rfl rfl)
theorem dX0_judge_64 : decode cX0_judge 64 = .ok (.idiv, 1) := dk_108 (dk_at dksX0_judge_2 18 rfl rfl)
theorem dX0_judge_65 : decode cX0_judge 65 = .ok (.invokevirtual 348, 3) := dk_182 1 92 (dk_at dksX0_judge_2 19 rfl rfl)
theorem dX0_judge_68 : decode cX0_judge 68 = .ok (.ifCond .lt 14, 3) := dk_155 0 14 (dk_at dksX0_judge_3 0 rfl rfl)
theorem dX0_judge_71 : decode cX0_judge 71 = .ok (.aload_n 0, 1) := dk_42 (dk_at dksX0_judge_3 3 rfl rfl)
theorem dX0_judge_72 : decode cX0_judge 72 = .ok (.iload_n 1, 1) := dk_27 (dk_at dksX0_judge_3 4 rfl rfl)
theorem dX0_judge_73 : decode cX0_judge 73 = .ok (.bipush 10, 2) := dk_16 10 (dk_at dksX0_judge_3 5 rfl rfl)
theorem dX0_judge_75 : decode cX0_judge 75 = .ok (.irem, 1) := dk_112 (dk_at dksX0_judge_3 7 rfl rfl)
theorem dX0_judge_76 : decode cX0_judge 76 = .ok (.invokevirtual 348, 3) := dk_182 1 92 (dk_at dksX0_judge_3 8 rfl rfl)
theorem dX0_judge_79 : decode cX0_judge 79 = .ok (.ifCond .ge 6, 3) := dk_156 0 6 (dk_at dksX0_judge_3 11 rfl rfl)
theorem dX0_judge_82 : decode cX0_judge 82 = .ok (.bipush (-12), 2) := dk_16 244 (dk_at dksX0_judge_3 14 rfl rfl)
theorem dX0_judge_84 : decode cX0_judge 84 = .ok (.ireturn, 1) := dk_172 (dk_at dksX0_judge_3 16 rfl rfl)
theorem dX0_judge_85 : decode cX0_judge 85 = .ok (.aload_n 0, 1) := dk_42 (dk_at dksX0_judge_3 17 rfl rfl)
theorem dX0_judge_86 : decode cX0_judge 86 = .ok (.aload_n 0, 1) := dk_42 (dk_at dksX0_judge_3 18 rfl rfl)
theorem dX0_judge_87 : decode cX0_judge 87 = .ok (.getfield 139, 3) := dk_180 0 139 (dk_at dksX0_judge_3 19 rfl rfl)
theorem dX0_judge_90 : decode cX0_judge 90 = .ok (.iload_n 1, 1) := dk_27 (dk_at dksX0_judge_3 22 rfl rfl)
theorem dX0_judge_91 : decode cX0_judge 91 = .ok (.bipush 10, 2) := dk_16 10 (dk_at dksX0_judge_4 0 rfl rfl)
theorem dX0_judge_93 : decode cX0_judge 93 = .ok (.idiv, 1) := dk_108 (dk_at dksX0_judge_4 2 rfl rfl)
theorem dX0_judge_94 : decode cX0_judge 94 = .ok (.aaload, 1) := dk_50 (dk_at dksX0_judge_4 3 rfl rfl)
theorem dX0_judge_95 : decode cX0_judge 95 = .ok (.checkcast 192, 3) := dk_192 0 192 (dk_at dksX0_judge_4 4 rfl rfl)
theorem dX0_judge_98 : decode cX0_judge 98 = .ok (.invokevirtual 351, 3) := dk_182 1 95 (dk_at dksX0_judge_4 7 rfl rfl)
theorem dX0_judge_101 : decode cX0_judge 101 = .ok (.aload_n 0, 1) := dk_42 (dk_at dksX0_judge_4 10 rfl rfl)
theorem dX0_judge_102 : decode cX0_judge 102 = .ok (.getfield 139, 3) := dk_180 0 139 (dk_at dksX0_judge_4 11 rfl rfl)
theorem dX0_judge_105 : decode cX0_judge 105 = .ok (.iload_n 1, 1) := dk_27 (dk_at dksX0_judge_4 14 rfl rfl)
theorem dX0_judge_106 : decode cX0_judge 106 = .ok (.bipush 10, 2) := dk_16 10 (dk_at dksX0_judge_4 15 rfl rfl)
theorem dX0_judge_108 : decode cX0_judge 108 = .ok (.irem, 1) := dk_112 (dk_at dksX0_judge_4 17 rfl rfl)
theorem dX0_judge_109 : decode cX0_judge 109 = .ok (.aaload, 1) := dk_50 (dk_at dksX0_judge_4 18 rfl rfl)
theorem dX0_judge_110 : decode cX0_judge 110 = .ok (.checkcast 192, 3) := dk_192 0 192 (dk_at dksX0_judge_4 19 rfl rfl)
theorem dX0_judge_113 : decode cX0_judge 113 = .ok (.astore_n 3, 1) := dk_78 (dk_at dksX0_judge_4 22 rfl rfl)
theorem dX0_judge_114 : decode cX0_judge 114 = .ok (.aload_n 0, 1) := dk_42 (dk_at dksX0_judge_4 23 rfl rfl)
theorem dX0_judge_115 : decode cX0_judge 115 = .ok (.getfield 93, 3) := dk_180 0 93 (dk_at dksX0_judge_5 0 rfl rfl)
theorem dX0_judge_118 : decode cX0_judge 118 = .ok (.aload_n 0, 1) := dk_42 (dk_at dksX0_judge_5 3 rfl rfl)
theorem dX0_judge_119 : decode cX0_judge 119 = .ok (.getfield 89, 3) := dk_180 0 89 (dk_at dksX0_judge_5 4 rfl rfl)
theorem dX0_judge_122 : decode cX0_judge 122 = .ok (.invokevirtual 358, 3) := dk_182 1 102 (dk_at dksX0_judge_5 7 rfl rfl)
theorem dX0_judge_125 : decode cX0_judge 125 = .ok (.iconst 0, 1) := dk_3 (dk_at dksX0_judge_5 10 rfl rfl)
theorem dX0_judge_126 : decode cX0_judge 126 = .ok (.istore 4, 2) := dk_54 4 (dk_at dksX0_judge_5 11 rfl rfl)
theorem dX0_judge_128 : decode cX0_judge 128 = .ok (.iload 4, 2) := dk_21 4 (dk_at dksX0_judge_5 13 rfl rfl)
theorem dX0_judge_130 : decode cX0_judge 130 = .ok (.aload_n 0, 1) := dk_42 (dk_at dksX0_judge_5 15 rfl rfl)
theorem dX0_judge_131 : decode cX0_judge 131 = .ok (.getfield 345, 3) := dk_180 1 89 (dk_at dksX0_judge_5 16 rfl rfl)
theorem dX0_judge_134 : decode cX0_judge 134 = .ok (.if_icmp .ge 57, 3) := dk_162 0 57 (dk_at dksX0_judge_5 19 rfl rfl)
theorem dX0_judge_137 : decode cX0_judge 137 = .ok (.iload 4, 2) := dk_21 4 (dk_at dksX0_judge_5 22 rfl rfl)
theorem dX0_judge_139 : decode cX0_judge 139 = .ok (.aload_n 3, 1) := dk_45 (dk_at dksX0_judge_6 0 rfl rfl)
theorem dX0_judge_140 : decode cX0_judge 140 = .ok (.arraylength, 1) := dk_190 (dk_at dksX0_judge_6 1 rfl rfl)
theorem dX0_judge_141 : decode cX0_judge 141 = .ok (.if_icmp .ge 50, 3) := dk_162 0 50 (dk_at dksX0_judge_6 2 rfl rfl)
theorem dX0_judge_144 : decode cX0_judge 144 = .ok (.aload_n 0, 1) := dk_42 (dk_at dksX0_judge_6 5 rfl rfl)
theorem dX0_judge_145 : decode cX0_judge 145 = .ok (.getfield 93, 3) := dk_180 0 93 (dk_at dksX0_judge_6 6 rfl rfl)
theorem dX0_judge_148 : decode cX0_judge 148 = .ok (.aload_n 0, 1) := dk_42 (dk_at dksX0_judge_6 9 rfl rfl)
theorem dX0_judge_149 : decode cX0_judge 149 = .ok (.getfield 96, 3) := dk_180 0 96 (dk_at dksX0_judge_6 10 rfl rfl)
theorem dX0_judge_152 : decode cX0_judge 152 = .ok (.iload 4, 2) := dk_21 4 (dk_at dksX0_judge_6 13 rfl rfl)
theorem dX0_judge_154 : decode cX0_judge 154 = .ok (.iaload, 1) := dk_46 (dk_at dksX0_judge_6 15 rfl rfl)
theorem dX0_judge_155 : decode cX0_judge 155 = .ok (.invokevirtual 362, 3) := dk_182 1 106 (dk_at dksX0_judge_6 16 rfl rfl)
theorem dX0_judge_158 : decode cX0_judge 158 = .ok (.aload_n 3, 1) := dk_45 (dk_at dksX0_judge_6 19 rfl rfl)
theorem dX0_judge_159 : decode cX0_judge 159 = .ok (.iload 4, 2) := dk_21 4 (dk_at dksX0_judge_6 20 rfl rfl)
theorem dX0_judge_161 : decode cX0_judge 161 = .ok (.baload, 1) := dk_51 (dk_at dksX0_judge_6 22 rfl rfl)
theorem dX0_judge_162 : decode cX0_judge 162 = .ok (.iconst (-1), 1) := dk_2 (dk_at dksX0_judge_6 23 rfl rfl)
theorem dX0_judge_163 : decode cX0_judge 163 = .ok (.if_icmp .eq 22, 3) := dk_159 0 22 (dk_at dksX0_judge_7 0 rfl rfl)
theorem dX0_judge_166 : decode cX0_judge 166 = .ok (.aload_n 3, 1) := dk_45 (dk_at dksX0_judge_7 3 rfl rfl)
theorem dX0_judge_167 : decode cX0_judge 167 = .ok (.iload 4, 2) := dk_21 4 (dk_at dksX0_judge_7 4 rfl rfl)
theorem dX0_judge_169 : decode cX0_judge 169 = .ok (.baload, 1) := dk_51 (dk_at dksX0_judge_7 6 rfl rfl)
theorem dX0_judge_170 : decode cX0_judge 170 = .ok (.aload_n 0, 1) := dk_42 (dk_at dksX0_judge_7 7 rfl rfl)
theorem dX0_judge_171 : decode cX0_judge 171 = .ok (.getfield 93, 3) := dk_180 0 93 (dk_at dksX0_judge_7 8 rfl rfl)
theorem dX0_judge_174 : decode cX0_judge 174 = .ok (.getfield 236, 3) := dk_180 0 236 (dk_at dksX0_judge_7 11 rfl rfl)
theorem dX0_judge_177 : decode cX0_judge 177 = .ok (.iload_n 2, 1) := dk_28 (dk_at dksX0_judge_7 14 rfl rfl)
theorem dX0_judge_178 : decode cX0_judge 178 = .ok (.iaload, 1) := dk_46 (dk_at dksX0_judge_7 15 rfl rfl)
theorem dX0_judge_179 : decode cX0_judge 179 = .ok (.if_icmp .eq 6, 3) := dk_159 0 6 (dk_at dksX0_judge_7 16 rfl rfl)
theorem dX0_judge_182 : decode cX0_judge 182 = .ok (.iload 4, 2) := dk_21 4 (dk_at dksX0_judge_7 19 rfl rfl)
theorem dX0_judge_184 : decode cX0_judge 184 = .ok (.ireturn, 1) := dk_172 (dk_at dksX0_judge_7 21 rfl rfl)
theorem dX0_judge_185 : decode cX0_judge 185 = .ok (.iinc 4 1, 3) := dk_132 4 1 (dk_at dksX0_judge_8 0 rfl rfl)
theorem dX0_judge_188 : decode cX0_judge 188 = .ok (.goto (-60), 3) := dk_167 255 196 (dk_at dksX0_judge_8 3 rfl rfl)
theorem dX0_judge_191 : decode cX0_judge 191 = .ok (.bipush (-2), 2) := dk_16 254 (dk_at dksX0_judge_8 6 rfl rfl)
theorem dX0_judge_193 : decode cX0_judge 193 = .ok (.ireturn, 1) := dk_172 (dk_at dksX0_judge_8 8 rfl rfl)
abbrev cX0_since : ByteArray := prog_1_method_66_code
def yX0_since : MethodName := ⟨RX0, "since", "(III)I"⟩
def dkwX0_since_4 : List UInt8 := [163, 0, 7, 21, 5, 54, 4, 132, 5, 1, 167, 255, 214, 21, 4, 172]
abbrev dktX0_since_4 : List UInt8 := dkwX0_since_4 ++ []
def dkwX0_since_3 : List UInt8 := [180, 0, 93, 42, 180, 0, 96, 21, 5, 46, 182, 1, 106, 42, 180, 0, 93, 28, 182, 1, 165, 29]
abbrev dktX0_since_3 : List UInt8 := dkwX0_since_3 ++ dktX0_since_4
def dkwX0_since_2 : List UInt8 := [180, 0, 89, 182, 1, 102, 16, 254, 54, 4, 3, 54, 5, 21, 5, 42, 180, 1, 89, 162, 0, 39, 42]
abbrev dktX0_since_2 : List UInt8 := dkwX0_since_2 ++ dktX0_since_3
def dkwX0_since_1 : List UInt8 := [154, 0, 5, 2, 172, 42, 27, 182, 1, 99, 156, 0, 9, 42, 27, 182, 1, 92, 172, 42, 180, 0, 93, 42]
abbrev dktX0_since_1 : List UInt8 := dkwX0_since_1 ++ dktX0_since_2
def dkwX0_since_0 : List UInt8 := [27, 184, 0, 194, 153, 0, 22, 28, 184, 0, 178, 153, 0, 15, 29, 133, 9, 20, 1, 109, 184, 0, 147]
abbrev dktX0_since_0 : List UInt8 := dkwX0_since_0 ++ dktX0_since_1
theorem dksX0_since_0 : cX0_since.data.toList.drop 0 = dktX0_since_0 := by decide +kernel
theorem dksX0_since_1 : cX0_since.data.toList.drop 23 = dktX0_since_1 := dk_seg dksX0_since_0 23 rfl rfl
theorem dksX0_since_2 : cX0_since.data.toList.drop 47 = dktX0_since_2 := dk_seg dksX0_since_1 24 rfl rfl
theorem dksX0_since_3 : cX0_since.data.toList.drop 70 = dktX0_since_3 := dk_seg dksX0_since_2 23 rfl rfl
theorem dksX0_since_4 : cX0_since.data.toList.drop 92 = dktX0_since_4 := dk_seg dksX0_since_3 22 rfl rfl
theorem dX0_since_0 : decode cX0_since 0 = .ok (.iload_n 1, 1) := dk_27 (dk_at dksX0_since_0 0 rfl rfl)
theorem dX0_since_1 : decode cX0_since 1 = .ok (.invokestatic 194, 3) := dk_184 0 194 (dk_at dksX0_since_0 1 rfl rfl)
theorem dX0_since_4 : decode cX0_since 4 = .ok (.ifCond .eq 22, 3) := dk_153 0 22 (dk_at dksX0_since_0 4 rfl rfl)
theorem dX0_since_7 : decode cX0_since 7 = .ok (.iload_n 2, 1) := dk_28 (dk_at dksX0_since_0 7 rfl rfl)
theorem dX0_since_8 : decode cX0_since 8 = .ok (.invokestatic 178, 3) := dk_184 0 178 (dk_at dksX0_since_0 8 rfl rfl)
theorem dX0_since_11 : decode cX0_since 11 = .ok (.ifCond .eq 15, 3) := dk_153 0 15 (dk_at dksX0_since_0 11 rfl rfl)
theorem dX0_since_14 : decode cX0_since 14 = .ok (.iload_n 3, 1) := dk_29 (dk_at dksX0_since_0 14 rfl rfl)
theorem dX0_since_15 : decode cX0_since 15 = .ok (.i2l, 1) := dk_133 (dk_at dksX0_since_0 15 rfl rfl)
theorem dX0_since_16 : decode cX0_since 16 = .ok (.lconst 0, 1) := dk_9 (dk_at dksX0_since_0 16 rfl rfl)
theorem dX0_since_17 : decode cX0_since 17 = .ok (.ldc2_w 365, 3) := dk_20 1 109 (dk_at dksX0_since_0 17 rfl rfl)
theorem dX0_since_20 : decode cX0_since 20 = .ok (.invokestatic 147, 3) := dk_184 0 147 (dk_at dksX0_since_0 20 rfl rfl)
theorem dX0_since_23 : decode cX0_since 23 = .ok (.ifCond .ne 5, 3) := dk_154 0 5 (dk_at dksX0_since_1 0 rfl rfl)
theorem dX0_since_26 : decode cX0_since 26 = .ok (.iconst (-1), 1) := dk_2 (dk_at dksX0_since_1 3 rfl rfl)
theorem dX0_since_27 : decode cX0_since 27 = .ok (.ireturn, 1) := dk_172 (dk_at dksX0_since_1 4 rfl rfl)
theorem dX0_since_28 : decode cX0_since 28 = .ok (.aload_n 0, 1) := dk_42 (dk_at dksX0_since_1 5 rfl rfl)
theorem dX0_since_29 : decode cX0_since 29 = .ok (.iload_n 1, 1) := dk_27 (dk_at dksX0_since_1 6 rfl rfl)
theorem dX0_since_30 : decode cX0_since 30 = .ok (.invokevirtual 355, 3) := dk_182 1 99 (dk_at dksX0_since_1 7 rfl rfl)
theorem dX0_since_33 : decode cX0_since 33 = .ok (.ifCond .ge 9, 3) := dk_156 0 9 (dk_at dksX0_since_1 10 rfl rfl)
theorem dX0_since_36 : decode cX0_since 36 = .ok (.aload_n 0, 1) := dk_42 (dk_at dksX0_since_1 13 rfl rfl)
theorem dX0_since_37 : decode cX0_since 37 = .ok (.iload_n 1, 1) := dk_27 (dk_at dksX0_since_1 14 rfl rfl)
theorem dX0_since_38 : decode cX0_since 38 = .ok (.invokevirtual 348, 3) := dk_182 1 92 (dk_at dksX0_since_1 15 rfl rfl)
theorem dX0_since_41 : decode cX0_since 41 = .ok (.ireturn, 1) := dk_172 (dk_at dksX0_since_1 18 rfl rfl)
theorem dX0_since_42 : decode cX0_since 42 = .ok (.aload_n 0, 1) := dk_42 (dk_at dksX0_since_1 19 rfl rfl)
theorem dX0_since_43 : decode cX0_since 43 = .ok (.getfield 93, 3) := dk_180 0 93 (dk_at dksX0_since_1 20 rfl rfl)
theorem dX0_since_46 : decode cX0_since 46 = .ok (.aload_n 0, 1) := dk_42 (dk_at dksX0_since_1 23 rfl rfl)
theorem dX0_since_47 : decode cX0_since 47 = .ok (.getfield 89, 3) := dk_180 0 89 (dk_at dksX0_since_2 0 rfl rfl)
theorem dX0_since_50 : decode cX0_since 50 = .ok (.invokevirtual 358, 3) := dk_182 1 102 (dk_at dksX0_since_2 3 rfl rfl)
theorem dX0_since_53 : decode cX0_since 53 = .ok (.bipush (-2), 2) := dk_16 254 (dk_at dksX0_since_2 6 rfl rfl)
theorem dX0_since_55 : decode cX0_since 55 = .ok (.istore 4, 2) := dk_54 4 (dk_at dksX0_since_2 8 rfl rfl)
theorem dX0_since_57 : decode cX0_since 57 = .ok (.iconst 0, 1) := dk_3 (dk_at dksX0_since_2 10 rfl rfl)
theorem dX0_since_58 : decode cX0_since 58 = .ok (.istore 5, 2) := dk_54 5 (dk_at dksX0_since_2 11 rfl rfl)
theorem dX0_since_60 : decode cX0_since 60 = .ok (.iload 5, 2) := dk_21 5 (dk_at dksX0_since_2 13 rfl rfl)
theorem dX0_since_62 : decode cX0_since 62 = .ok (.aload_n 0, 1) := dk_42 (dk_at dksX0_since_2 15 rfl rfl)
theorem dX0_since_63 : decode cX0_since 63 = .ok (.getfield 345, 3) := dk_180 1 89 (dk_at dksX0_since_2 16 rfl rfl)
theorem dX0_since_66 : decode cX0_since 66 = .ok (.if_icmp .ge 39, 3) := dk_162 0 39 (dk_at dksX0_since_2 19 rfl rfl)
theorem dX0_since_69 : decode cX0_since 69 = .ok (.aload_n 0, 1) := dk_42 (dk_at dksX0_since_2 22 rfl rfl)
theorem dX0_since_70 : decode cX0_since 70 = .ok (.getfield 93, 3) := dk_180 0 93 (dk_at dksX0_since_3 0 rfl rfl)
theorem dX0_since_73 : decode cX0_since 73 = .ok (.aload_n 0, 1) := dk_42 (dk_at dksX0_since_3 3 rfl rfl)
theorem dX0_since_74 : decode cX0_since 74 = .ok (.getfield 96, 3) := dk_180 0 96 (dk_at dksX0_since_3 4 rfl rfl)
theorem dX0_since_77 : decode cX0_since 77 = .ok (.iload 5, 2) := dk_21 5 (dk_at dksX0_since_3 7 rfl rfl)
theorem dX0_since_79 : decode cX0_since 79 = .ok (.iaload, 1) := dk_46 (dk_at dksX0_since_3 9 rfl rfl)
theorem dX0_since_80 : decode cX0_since 80 = .ok (.invokevirtual 362, 3) := dk_182 1 106 (dk_at dksX0_since_3 10 rfl rfl)
theorem dX0_since_83 : decode cX0_since 83 = .ok (.aload_n 0, 1) := dk_42 (dk_at dksX0_since_3 13 rfl rfl)
theorem dX0_since_84 : decode cX0_since 84 = .ok (.getfield 93, 3) := dk_180 0 93 (dk_at dksX0_since_3 14 rfl rfl)
theorem dX0_since_87 : decode cX0_since 87 = .ok (.iload_n 2, 1) := dk_28 (dk_at dksX0_since_3 17 rfl rfl)
theorem dX0_since_88 : decode cX0_since 88 = .ok (.invokevirtual 421, 3) := dk_182 1 165 (dk_at dksX0_since_3 18 rfl rfl)
theorem dX0_since_91 : decode cX0_since 91 = .ok (.iload_n 3, 1) := dk_29 (dk_at dksX0_since_3 21 rfl rfl)
theorem dX0_since_92 : decode cX0_since 92 = .ok (.if_icmp .gt 7, 3) := dk_163 0 7 (dk_at dksX0_since_4 0 rfl rfl)
theorem dX0_since_95 : decode cX0_since 95 = .ok (.iload 5, 2) := dk_21 5 (dk_at dksX0_since_4 3 rfl rfl)
theorem dX0_since_97 : decode cX0_since 97 = .ok (.istore 4, 2) := dk_54 4 (dk_at dksX0_since_4 5 rfl rfl)
theorem dX0_since_99 : decode cX0_since 99 = .ok (.iinc 5 1, 3) := dk_132 5 1 (dk_at dksX0_since_4 7 rfl rfl)
theorem dX0_since_102 : decode cX0_since 102 = .ok (.goto (-42), 3) := dk_167 255 214 (dk_at dksX0_since_4 10 rfl rfl)
theorem dX0_since_105 : decode cX0_since 105 = .ok (.iload 4, 2) := dk_21 4 (dk_at dksX0_since_4 13 rfl rfl)
theorem dX0_since_107 : decode cX0_since 107 = .ok (.ireturn, 1) := dk_172 (dk_at dksX0_since_4 15 rfl rfl)
abbrev cX0_drawn : ByteArray := prog_1_method_67_code
def yX0_drawn : MethodName := ⟨RX0, "drawn", "(III)I"⟩
def dkwX0_drawn_6 : List UInt8 := [21, 5, 167, 0, 5, 21, 6, 172]
abbrev dktX0_drawn_6 : List UInt8 := dkwX0_drawn_6 ++ []
def dkwX0_drawn_5 : List UInt8 := [180, 0, 93, 180, 0, 236, 3, 46, 184, 1, 77, 54, 6, 132, 7, 1, 167, 255, 171, 29, 154, 0, 8]
abbrev dktX0_drawn_5 : List UInt8 := dkwX0_drawn_5 ++ dktX0_drawn_6
def dkwX0_drawn_4 : List UInt8 := [167, 0, 5, 21, 8, 182, 1, 106, 21, 5, 42, 180, 0, 93, 182, 1, 111, 96, 54, 5, 21, 6, 42]
abbrev dktX0_drawn_4 : List UInt8 := dkwX0_drawn_4 ++ dktX0_drawn_5
def dkwX0_drawn_3 : List UInt8 := [180, 0, 169, 4, 96, 112, 54, 8, 42, 180, 0, 93, 21, 8, 42, 180, 0, 169, 160, 0, 7, 2]
abbrev dktX0_drawn_3 : List UInt8 := dkwX0_drawn_3 ++ dktX0_drawn_4
def dkwX0_drawn_2 : List UInt8 := [21, 7, 28, 162, 0, 85, 21, 4, 19, 1, 187, 104, 17, 48, 57, 96, 54, 4, 21, 4, 16, 8, 124, 42]
abbrev dktX0_drawn_2 : List UInt8 := dkwX0_drawn_2 ++ dktX0_drawn_3
def dkwX0_drawn_1 : List UInt8 := [42, 180, 0, 93, 42, 180, 0, 89, 182, 1, 102, 27, 54, 4, 3, 54, 5, 16, 99, 54, 6, 3, 54, 7]
abbrev dktX0_drawn_1 : List UInt8 := dkwX0_drawn_1 ++ dktX0_drawn_2
def dkwX0_drawn_0 : List UInt8 := [28, 133, 10, 20, 1, 185, 184, 0, 147, 153, 0, 13, 29, 133, 9, 10, 184, 0, 147, 154, 0, 5, 2, 172]
abbrev dktX0_drawn_0 : List UInt8 := dkwX0_drawn_0 ++ dktX0_drawn_1
theorem dksX0_drawn_0 : cX0_drawn.data.toList.drop 0 = dktX0_drawn_0 := by decide +kernel
theorem dksX0_drawn_1 : cX0_drawn.data.toList.drop 24 = dktX0_drawn_1 := dk_seg dksX0_drawn_0 24 rfl rfl
theorem dksX0_drawn_2 : cX0_drawn.data.toList.drop 48 = dktX0_drawn_2 := dk_seg dksX0_drawn_1 24 rfl rfl
theorem dksX0_drawn_3 : cX0_drawn.data.toList.drop 72 = dktX0_drawn_3 := dk_seg dksX0_drawn_2 24 rfl rfl
theorem dksX0_drawn_4 : cX0_drawn.data.toList.drop 94 = dktX0_drawn_4 := dk_seg dksX0_drawn_3 22 rfl rfl
theorem dksX0_drawn_5 : cX0_drawn.data.toList.drop 117 = dktX0_drawn_5 := dk_seg dksX0_drawn_4 23 rfl rfl
theorem dksX0_drawn_6 : cX0_drawn.data.toList.drop 140 = dktX0_drawn_6 := dk_seg dksX0_drawn_5 23 rfl rfl
theorem dX0_drawn_0 : decode cX0_drawn 0 = .ok (.iload_n 2, 1) := dk_28 (dk_at dksX0_drawn_0 0 rfl rfl)
theorem dX0_drawn_1 : decode cX0_drawn 1 = .ok (.i2l, 1) := dk_133 (dk_at dksX0_drawn_0 1 rfl rfl)
theorem dX0_drawn_2 : decode cX0_drawn 2 = .ok (.lconst 1, 1) := dk_10 (dk_at dksX0_drawn_0 2 rfl rfl)
theorem dX0_drawn_3 : decode cX0_drawn 3 = .ok (.ldc2_w 441, 3) := dk_20 1 185 (dk_at dksX0_drawn_0 3 rfl rfl)
theorem dX0_drawn_6 : decode cX0_drawn 6 = .ok (.invokestatic 147, 3) := dk_184 0 147 (dk_at dksX0_drawn_0 6 rfl rfl)
theorem dX0_drawn_9 : decode cX0_drawn 9 = .ok (.ifCond .eq 13, 3) := dk_153 0 13 (dk_at dksX0_drawn_0 9 rfl rfl)
theorem dX0_drawn_12 : decode cX0_drawn 12 = .ok (.iload_n 3, 1) := dk_29 (dk_at dksX0_drawn_0 12 rfl rfl)
theorem dX0_drawn_13 : decode cX0_drawn 13 = .ok (.i2l, 1) := dk_133 (dk_at dksX0_drawn_0 13 rfl rfl)
theorem dX0_drawn_14 : decode cX0_drawn 14 = .ok (.lconst 0, 1) := dk_9 (dk_at dksX0_drawn_0 14 rfl rfl)
theorem dX0_drawn_15 : decode cX0_drawn 15 = .ok (.lconst 1, 1) := dk_10 (dk_at dksX0_drawn_0 15 rfl rfl)
theorem dX0_drawn_16 : decode cX0_drawn 16 = .ok (.invokestatic 147, 3) := dk_184 0 147 (dk_at dksX0_drawn_0 16 rfl rfl)
theorem dX0_drawn_19 : decode cX0_drawn 19 = .ok (.ifCond .ne 5, 3) := dk_154 0 5 (dk_at dksX0_drawn_0 19 rfl rfl)
theorem dX0_drawn_22 : decode cX0_drawn 22 = .ok (.iconst (-1), 1) := dk_2 (dk_at dksX0_drawn_0 22 rfl rfl)
theorem dX0_drawn_23 : decode cX0_drawn 23 = .ok (.ireturn, 1) := dk_172 (dk_at dksX0_drawn_0 23 rfl rfl)
theorem dX0_drawn_24 : decode cX0_drawn 24 = .ok (.aload_n 0, 1) := dk_42 (dk_at dksX0_drawn_1 0 rfl rfl)
theorem dX0_drawn_25 : decode cX0_drawn 25 = .ok (.getfield 93, 3) := dk_180 0 93 (dk_at dksX0_drawn_1 1 rfl rfl)
theorem dX0_drawn_28 : decode cX0_drawn 28 = .ok (.aload_n 0, 1) := dk_42 (dk_at dksX0_drawn_1 4 rfl rfl)
theorem dX0_drawn_29 : decode cX0_drawn 29 = .ok (.getfield 89, 3) := dk_180 0 89 (dk_at dksX0_drawn_1 5 rfl rfl)
theorem dX0_drawn_32 : decode cX0_drawn 32 = .ok (.invokevirtual 358, 3) := dk_182 1 102 (dk_at dksX0_drawn_1 8 rfl rfl)
theorem dX0_drawn_35 : decode cX0_drawn 35 = .ok (.iload_n 1, 1) := dk_27 (dk_at dksX0_drawn_1 11 rfl rfl)
theorem dX0_drawn_36 : decode cX0_drawn 36 = .ok (.istore 4, 2) := dk_54 4 (dk_at dksX0_drawn_1 12 rfl rfl)
theorem dX0_drawn_38 : decode cX0_drawn 38 = .ok (.iconst 0, 1) := dk_3 (dk_at dksX0_drawn_1 14 rfl rfl)
theorem dX0_drawn_39 : decode cX0_drawn 39 = .ok (.istore 5, 2) := dk_54 5 (dk_at dksX0_drawn_1 15 rfl rfl)
theorem dX0_drawn_41 : decode cX0_drawn 41 = .ok (.bipush 99, 2) := dk_16 99 (dk_at dksX0_drawn_1 17 rfl rfl)
theorem dX0_drawn_43 : decode cX0_drawn 43 = .ok (.istore 6, 2) := dk_54 6 (dk_at dksX0_drawn_1 19 rfl rfl)
theorem dX0_drawn_45 : decode cX0_drawn 45 = .ok (.iconst 0, 1) := dk_3 (dk_at dksX0_drawn_1 21 rfl rfl)
theorem dX0_drawn_46 : decode cX0_drawn 46 = .ok (.istore 7, 2) := dk_54 7 (dk_at dksX0_drawn_1 22 rfl rfl)
theorem dX0_drawn_48 : decode cX0_drawn 48 = .ok (.iload 7, 2) := dk_21 7 (dk_at dksX0_drawn_2 0 rfl rfl)
theorem dX0_drawn_50 : decode cX0_drawn 50 = .ok (.iload_n 2, 1) := dk_28 (dk_at dksX0_drawn_2 2 rfl rfl)
theorem dX0_drawn_51 : decode cX0_drawn 51 = .ok (.if_icmp .ge 85, 3) := dk_162 0 85 (dk_at dksX0_drawn_2 3 rfl rfl)
theorem dX0_drawn_54 : decode cX0_drawn 54 = .ok (.iload 4, 2) := dk_21 4 (dk_at dksX0_drawn_2 6 rfl rfl)
theorem dX0_drawn_56 : decode cX0_drawn 56 = .ok (.ldc_w 443, 3) := dk_19 1 187 (dk_at dksX0_drawn_2 8 rfl rfl)
theorem dX0_drawn_59 : decode cX0_drawn 59 = .ok (.imul, 1) := dk_104 (dk_at dksX0_drawn_2 11 rfl rfl)
theorem dX0_drawn_60 : decode cX0_drawn 60 = .ok (.sipush 12345, 3) := dk_17 48 57 (dk_at dksX0_drawn_2 12 rfl rfl)
theorem dX0_drawn_63 : decode cX0_drawn 63 = .ok (.iadd, 1) := dk_96 (dk_at dksX0_drawn_2 15 rfl rfl)
theorem dX0_drawn_64 : decode cX0_drawn 64 = .ok (.istore 4, 2) := dk_54 4 (dk_at dksX0_drawn_2 16 rfl rfl)
theorem dX0_drawn_66 : decode cX0_drawn 66 = .ok (.iload 4, 2) := dk_21 4 (dk_at dksX0_drawn_2 18 rfl rfl)
theorem dX0_drawn_68 : decode cX0_drawn 68 = .ok (.bipush 8, 2) := dk_16 8 (dk_at dksX0_drawn_2 20 rfl rfl)
theorem dX0_drawn_70 : decode cX0_drawn 70 = .ok (.iushr, 1) := dk_124 (dk_at dksX0_drawn_2 22 rfl rfl)
theorem dX0_drawn_71 : decode cX0_drawn 71 = .ok (.aload_n 0, 1) := dk_42 (dk_at dksX0_drawn_2 23 rfl rfl)
theorem dX0_drawn_72 : decode cX0_drawn 72 = .ok (.getfield 169, 3) := dk_180 0 169 (dk_at dksX0_drawn_3 0 rfl rfl)
theorem dX0_drawn_75 : decode cX0_drawn 75 = .ok (.iconst 1, 1) := dk_4 (dk_at dksX0_drawn_3 3 rfl rfl)
theorem dX0_drawn_76 : decode cX0_drawn 76 = .ok (.iadd, 1) := dk_96 (dk_at dksX0_drawn_3 4 rfl rfl)
theorem dX0_drawn_77 : decode cX0_drawn 77 = .ok (.irem, 1) := dk_112 (dk_at dksX0_drawn_3 5 rfl rfl)
theorem dX0_drawn_78 : decode cX0_drawn 78 = .ok (.istore 8, 2) := dk_54 8 (dk_at dksX0_drawn_3 6 rfl rfl)
theorem dX0_drawn_80 : decode cX0_drawn 80 = .ok (.aload_n 0, 1) := dk_42 (dk_at dksX0_drawn_3 8 rfl rfl)
theorem dX0_drawn_81 : decode cX0_drawn 81 = .ok (.getfield 93, 3) := dk_180 0 93 (dk_at dksX0_drawn_3 9 rfl rfl)
theorem dX0_drawn_84 : decode cX0_drawn 84 = .ok (.iload 8, 2) := dk_21 8 (dk_at dksX0_drawn_3 12 rfl rfl)
theorem dX0_drawn_86 : decode cX0_drawn 86 = .ok (.aload_n 0, 1) := dk_42 (dk_at dksX0_drawn_3 14 rfl rfl)
theorem dX0_drawn_87 : decode cX0_drawn 87 = .ok (.getfield 169, 3) := dk_180 0 169 (dk_at dksX0_drawn_3 15 rfl rfl)
theorem dX0_drawn_90 : decode cX0_drawn 90 = .ok (.if_icmp .ne 7, 3) := dk_160 0 7 (dk_at dksX0_drawn_3 18 rfl rfl)
theorem dX0_drawn_93 : decode cX0_drawn 93 = .ok (.iconst (-1), 1) := dk_2 (dk_at dksX0_drawn_3 21 rfl rfl)
theorem dX0_drawn_94 : decode cX0_drawn 94 = .ok (.goto 5, 3) := dk_167 0 5 (dk_at dksX0_drawn_4 0 rfl rfl)
theorem dX0_drawn_97 : decode cX0_drawn 97 = .ok (.iload 8, 2) := dk_21 8 (dk_at dksX0_drawn_4 3 rfl rfl)
theorem dX0_drawn_99 : decode cX0_drawn 99 = .ok (.invokevirtual 362, 3) := dk_182 1 106 (dk_at dksX0_drawn_4 5 rfl rfl)
theorem dX0_drawn_102 : decode cX0_drawn 102 = .ok (.iload 5, 2) := dk_21 5 (dk_at dksX0_drawn_4 8 rfl rfl)
theorem dX0_drawn_104 : decode cX0_drawn 104 = .ok (.aload_n 0, 1) := dk_42 (dk_at dksX0_drawn_4 10 rfl rfl)
theorem dX0_drawn_105 : decode cX0_drawn 105 = .ok (.getfield 93, 3) := dk_180 0 93 (dk_at dksX0_drawn_4 11 rfl rfl)
theorem dX0_drawn_108 : decode cX0_drawn 108 = .ok (.invokevirtual 367, 3) := dk_182 1 111 (dk_at dksX0_drawn_4 14 rfl rfl)
theorem dX0_drawn_111 : decode cX0_drawn 111 = .ok (.iadd, 1) := dk_96 (dk_at dksX0_drawn_4 17 rfl rfl)
theorem dX0_drawn_112 : decode cX0_drawn 112 = .ok (.istore 5, 2) := dk_54 5 (dk_at dksX0_drawn_4 18 rfl rfl)
theorem dX0_drawn_114 : decode cX0_drawn 114 = .ok (.iload 6, 2) := dk_21 6 (dk_at dksX0_drawn_4 20 rfl rfl)
theorem dX0_drawn_116 : decode cX0_drawn 116 = .ok (.aload_n 0, 1) := dk_42 (dk_at dksX0_drawn_4 22 rfl rfl)
theorem dX0_drawn_117 : decode cX0_drawn 117 = .ok (.getfield 93, 3) := dk_180 0 93 (dk_at dksX0_drawn_5 0 rfl rfl)
theorem dX0_drawn_120 : decode cX0_drawn 120 = .ok (.getfield 236, 3) := dk_180 0 236 (dk_at dksX0_drawn_5 3 rfl rfl)
theorem dX0_drawn_123 : decode cX0_drawn 123 = .ok (.iconst 0, 1) := dk_3 (dk_at dksX0_drawn_5 6 rfl rfl)
theorem dX0_drawn_124 : decode cX0_drawn 124 = .ok (.iaload, 1) := dk_46 (dk_at dksX0_drawn_5 7 rfl rfl)
theorem dX0_drawn_125 : decode cX0_drawn 125 = .ok (.invokestatic 333, 3) := dk_184 1 77 (dk_at dksX0_drawn_5 8 rfl rfl)
theorem dX0_drawn_128 : decode cX0_drawn 128 = .ok (.istore 6, 2) := dk_54 6 (dk_at dksX0_drawn_5 11 rfl rfl)
theorem dX0_drawn_130 : decode cX0_drawn 130 = .ok (.iinc 7 1, 3) := dk_132 7 1 (dk_at dksX0_drawn_5 13 rfl rfl)
theorem dX0_drawn_133 : decode cX0_drawn 133 = .ok (.goto (-85), 3) := dk_167 255 171 (dk_at dksX0_drawn_5 16 rfl rfl)
theorem dX0_drawn_136 : decode cX0_drawn 136 = .ok (.iload_n 3, 1) := dk_29 (dk_at dksX0_drawn_5 19 rfl rfl)
theorem dX0_drawn_137 : decode cX0_drawn 137 = .ok (.ifCond .ne 8, 3) := dk_154 0 8 (dk_at dksX0_drawn_5 20 rfl rfl)
theorem dX0_drawn_140 : decode cX0_drawn 140 = .ok (.iload 5, 2) := dk_21 5 (dk_at dksX0_drawn_6 0 rfl rfl)
theorem dX0_drawn_142 : decode cX0_drawn 142 = .ok (.goto 5, 3) := dk_167 0 5 (dk_at dksX0_drawn_6 2 rfl rfl)
theorem dX0_drawn_145 : decode cX0_drawn 145 = .ok (.iload 6, 2) := dk_21 6 (dk_at dksX0_drawn_6 5 rfl rfl)
theorem dX0_drawn_147 : decode cX0_drawn 147 = .ok (.ireturn, 1) := dk_172 (dk_at dksX0_drawn_6 7 rfl rfl)
abbrev cX0_night : ByteArray := prog_1_method_68_code
def yX0_night : MethodName := ⟨RX0, "night", "(I)I"⟩
def dkwX0_night_3 : List UInt8 := [28, 172]
abbrev dktX0_night_3 : List UInt8 := dkwX0_night_3 ++ []
def dkwX0_night_2 : List UInt8 := [28, 42, 180, 0, 121, 5, 46, 164, 0, 17, 42, 180, 0, 121, 5, 28, 79, 42, 180, 0, 121, 6, 27, 79]
abbrev dktX0_night_2 : List UInt8 := dkwX0_night_2 ++ dktX0_night_3
def dkwX0_night_1 : List UInt8 := [182, 1, 111, 61, 42, 180, 0, 121, 3, 92, 46, 4, 96, 79, 42, 180, 0, 121, 4, 92, 46, 28, 96, 79]
abbrev dktX0_night_1 : List UInt8 := dkwX0_night_1 ++ dktX0_night_2
def dkwX0_night_0 : List UInt8 := [42, 27, 133, 182, 0, 174, 154, 0, 5, 2, 172, 42, 180, 0, 89, 27, 182, 1, 106, 42, 180, 0, 89]
abbrev dktX0_night_0 : List UInt8 := dkwX0_night_0 ++ dktX0_night_1
theorem dksX0_night_0 : cX0_night.data.toList.drop 0 = dktX0_night_0 := by decide +kernel
theorem dksX0_night_1 : cX0_night.data.toList.drop 23 = dktX0_night_1 := dk_seg dksX0_night_0 23 rfl rfl
theorem dksX0_night_2 : cX0_night.data.toList.drop 47 = dktX0_night_2 := dk_seg dksX0_night_1 24 rfl rfl
theorem dksX0_night_3 : cX0_night.data.toList.drop 71 = dktX0_night_3 := dk_seg dksX0_night_2 24 rfl rfl
theorem dX0_night_0 : decode cX0_night 0 = .ok (.aload_n 0, 1) := dk_42 (dk_at dksX0_night_0 0 rfl rfl)
theorem dX0_night_1 : decode cX0_night 1 = .ok (.iload_n 1, 1) := dk_27 (dk_at dksX0_night_0 1 rfl rfl)
theorem dX0_night_2 : decode cX0_night 2 = .ok (.i2l, 1) := dk_133 (dk_at dksX0_night_0 2 rfl rfl)
theorem dX0_night_3 : decode cX0_night 3 = .ok (.invokevirtual 174, 3) := dk_182 0 174 (dk_at dksX0_night_0 3 rfl rfl)
theorem dX0_night_6 : decode cX0_night 6 = .ok (.ifCond .ne 5, 3) := dk_154 0 5 (dk_at dksX0_night_0 6 rfl rfl)
theorem dX0_night_9 : decode cX0_night 9 = .ok (.iconst (-1), 1) := dk_2 (dk_at dksX0_night_0 9 rfl rfl)
theorem dX0_night_10 : decode cX0_night 10 = .ok (.ireturn, 1) := dk_172 (dk_at dksX0_night_0 10 rfl rfl)
theorem dX0_night_11 : decode cX0_night 11 = .ok (.aload_n 0, 1) := dk_42 (dk_at dksX0_night_0 11 rfl rfl)
theorem dX0_night_12 : decode cX0_night 12 = .ok (.getfield 89, 3) := dk_180 0 89 (dk_at dksX0_night_0 12 rfl rfl)
theorem dX0_night_15 : decode cX0_night 15 = .ok (.iload_n 1, 1) := dk_27 (dk_at dksX0_night_0 15 rfl rfl)
theorem dX0_night_16 : decode cX0_night 16 = .ok (.invokevirtual 362, 3) := dk_182 1 106 (dk_at dksX0_night_0 16 rfl rfl)
theorem dX0_night_19 : decode cX0_night 19 = .ok (.aload_n 0, 1) := dk_42 (dk_at dksX0_night_0 19 rfl rfl)
theorem dX0_night_20 : decode cX0_night 20 = .ok (.getfield 89, 3) := dk_180 0 89 (dk_at dksX0_night_0 20 rfl rfl)
theorem dX0_night_23 : decode cX0_night 23 = .ok (.invokevirtual 367, 3) := dk_182 1 111 (dk_at dksX0_night_1 0 rfl rfl)
theorem dX0_night_26 : decode cX0_night 26 = .ok (.istore_n 2, 1) := dk_61 (dk_at dksX0_night_1 3 rfl rfl)
theorem dX0_night_27 : decode cX0_night 27 = .ok (.aload_n 0, 1) := dk_42 (dk_at dksX0_night_1 4 rfl rfl)
theorem dX0_night_28 : decode cX0_night 28 = .ok (.getfield 121, 3) := dk_180 0 121 (dk_at dksX0_night_1 5 rfl rfl)
theorem dX0_night_31 : decode cX0_night 31 = .ok (.iconst 0, 1) := dk_3 (dk_at dksX0_night_1 8 rfl rfl)
theorem dX0_night_32 : decode cX0_night 32 = .ok (.dup2, 1) := dk_92 (dk_at dksX0_night_1 9 rfl rfl)
theorem dX0_night_33 : decode cX0_night 33 = .ok (.iaload, 1) := dk_46 (dk_at dksX0_night_1 10 rfl rfl)
theorem dX0_night_34 : decode cX0_night 34 = .ok (.iconst 1, 1) := dk_4 (dk_at dksX0_night_1 11 rfl rfl)
theorem dX0_night_35 : decode cX0_night 35 = .ok (.iadd, 1) := dk_96 (dk_at dksX0_night_1 12 rfl rfl)
theorem dX0_night_36 : decode cX0_night 36 = .ok (.iastore, 1) := dk_79 (dk_at dksX0_night_1 13 rfl rfl)
theorem dX0_night_37 : decode cX0_night 37 = .ok (.aload_n 0, 1) := dk_42 (dk_at dksX0_night_1 14 rfl rfl)
theorem dX0_night_38 : decode cX0_night 38 = .ok (.getfield 121, 3) := dk_180 0 121 (dk_at dksX0_night_1 15 rfl rfl)
theorem dX0_night_41 : decode cX0_night 41 = .ok (.iconst 1, 1) := dk_4 (dk_at dksX0_night_1 18 rfl rfl)
theorem dX0_night_42 : decode cX0_night 42 = .ok (.dup2, 1) := dk_92 (dk_at dksX0_night_1 19 rfl rfl)
theorem dX0_night_43 : decode cX0_night 43 = .ok (.iaload, 1) := dk_46 (dk_at dksX0_night_1 20 rfl rfl)
theorem dX0_night_44 : decode cX0_night 44 = .ok (.iload_n 2, 1) := dk_28 (dk_at dksX0_night_1 21 rfl rfl)
theorem dX0_night_45 : decode cX0_night 45 = .ok (.iadd, 1) := dk_96 (dk_at dksX0_night_1 22 rfl rfl)
theorem dX0_night_46 : decode cX0_night 46 = .ok (.iastore, 1) := dk_79 (dk_at dksX0_night_1 23 rfl rfl)
theorem dX0_night_47 : decode cX0_night 47 = .ok (.iload_n 2, 1) := dk_28 (dk_at dksX0_night_2 0 rfl rfl)
theorem dX0_night_48 : decode cX0_night 48 = .ok (.aload_n 0, 1) := dk_42 (dk_at dksX0_night_2 1 rfl rfl)
theorem dX0_night_49 : decode cX0_night 49 = .ok (.getfield 121, 3) := dk_180 0 121 (dk_at dksX0_night_2 2 rfl rfl)
theorem dX0_night_52 : decode cX0_night 52 = .ok (.iconst 2, 1) := dk_5 (dk_at dksX0_night_2 5 rfl rfl)
theorem dX0_night_53 : decode cX0_night 53 = .ok (.iaload, 1) := dk_46 (dk_at dksX0_night_2 6 rfl rfl)
theorem dX0_night_54 : decode cX0_night 54 = .ok (.if_icmp .le 17, 3) := dk_164 0 17 (dk_at dksX0_night_2 7 rfl rfl)
theorem dX0_night_57 : decode cX0_night 57 = .ok (.aload_n 0, 1) := dk_42 (dk_at dksX0_night_2 10 rfl rfl)
theorem dX0_night_58 : decode cX0_night 58 = .ok (.getfield 121, 3) := dk_180 0 121 (dk_at dksX0_night_2 11 rfl rfl)
theorem dX0_night_61 : decode cX0_night 61 = .ok (.iconst 2, 1) := dk_5 (dk_at dksX0_night_2 14 rfl rfl)
theorem dX0_night_62 : decode cX0_night 62 = .ok (.iload_n 2, 1) := dk_28 (dk_at dksX0_night_2 15 rfl rfl)
theorem dX0_night_63 : decode cX0_night 63 = .ok (.iastore, 1) := dk_79 (dk_at dksX0_night_2 16 rfl rfl)
theorem dX0_night_64 : decode cX0_night 64 = .ok (.aload_n 0, 1) := dk_42 (dk_at dksX0_night_2 17 rfl rfl)
theorem dX0_night_65 : decode cX0_night 65 = .ok (.getfield 121, 3) := dk_180 0 121 (dk_at dksX0_night_2 18 rfl rfl)
theorem dX0_night_68 : decode cX0_night 68 = .ok (.iconst 3, 1) := dk_6 (dk_at dksX0_night_2 21 rfl rfl)
theorem dX0_night_69 : decode cX0_night 69 = .ok (.iload_n 1, 1) := dk_27 (dk_at dksX0_night_2 22 rfl rfl)
theorem dX0_night_70 : decode cX0_night 70 = .ok (.iastore, 1) := dk_79 (dk_at dksX0_night_2 23 rfl rfl)
theorem dX0_night_71 : decode cX0_night 71 = .ok (.iload_n 2, 1) := dk_28 (dk_at dksX0_night_3 0 rfl rfl)
theorem dX0_night_72 : decode cX0_night 72 = .ok (.ireturn, 1) := dk_172 (dk_at dksX0_night_3 1 rfl rfl)
abbrev cX0_set : ByteArray := prog_1_method_69_code
def yX0_set : MethodName := ⟨RX0, "set", "(II)I"⟩
def dkwX0_set_1 : List UInt8 := [180, 0, 89, 180, 0, 236, 27, 46, 62, 42, 180, 0, 89, 180, 0, 236, 27, 28, 79, 29, 172]
abbrev dktX0_set_1 : List UInt8 := dkwX0_set_1 ++ []
def dkwX0_set_0 : List UInt8 := [27, 184, 0, 178, 153, 0, 15, 28, 133, 9, 20, 1, 109, 184, 0, 147, 154, 0, 5, 2, 172, 42]
abbrev dktX0_set_0 : List UInt8 := dkwX0_set_0 ++ dktX0_set_1
theorem dksX0_set_0 : cX0_set.data.toList.drop 0 = dktX0_set_0 := by decide +kernel
theorem dksX0_set_1 : cX0_set.data.toList.drop 22 = dktX0_set_1 := dk_seg dksX0_set_0 22 rfl rfl
theorem dX0_set_0 : decode cX0_set 0 = .ok (.iload_n 1, 1) := dk_27 (dk_at dksX0_set_0 0 rfl rfl)
theorem dX0_set_1 : decode cX0_set 1 = .ok (.invokestatic 178, 3) := dk_184 0 178 (dk_at dksX0_set_0 1 rfl rfl)
theorem dX0_set_4 : decode cX0_set 4 = .ok (.ifCond .eq 15, 3) := dk_153 0 15 (dk_at dksX0_set_0 4 rfl rfl)
theorem dX0_set_7 : decode cX0_set 7 = .ok (.iload_n 2, 1) := dk_28 (dk_at dksX0_set_0 7 rfl rfl)
theorem dX0_set_8 : decode cX0_set 8 = .ok (.i2l, 1) := dk_133 (dk_at dksX0_set_0 8 rfl rfl)
theorem dX0_set_9 : decode cX0_set 9 = .ok (.lconst 0, 1) := dk_9 (dk_at dksX0_set_0 9 rfl rfl)
theorem dX0_set_10 : decode cX0_set 10 = .ok (.ldc2_w 365, 3) := dk_20 1 109 (dk_at dksX0_set_0 10 rfl rfl)
theorem dX0_set_13 : decode cX0_set 13 = .ok (.invokestatic 147, 3) := dk_184 0 147 (dk_at dksX0_set_0 13 rfl rfl)
theorem dX0_set_16 : decode cX0_set 16 = .ok (.ifCond .ne 5, 3) := dk_154 0 5 (dk_at dksX0_set_0 16 rfl rfl)
theorem dX0_set_19 : decode cX0_set 19 = .ok (.iconst (-1), 1) := dk_2 (dk_at dksX0_set_0 19 rfl rfl)
theorem dX0_set_20 : decode cX0_set 20 = .ok (.ireturn, 1) := dk_172 (dk_at dksX0_set_0 20 rfl rfl)
theorem dX0_set_21 : decode cX0_set 21 = .ok (.aload_n 0, 1) := dk_42 (dk_at dksX0_set_0 21 rfl rfl)
theorem dX0_set_22 : decode cX0_set 22 = .ok (.getfield 89, 3) := dk_180 0 89 (dk_at dksX0_set_1 0 rfl rfl)
theorem dX0_set_25 : decode cX0_set 25 = .ok (.getfield 236, 3) := dk_180 0 236 (dk_at dksX0_set_1 3 rfl rfl)
theorem dX0_set_28 : decode cX0_set 28 = .ok (.iload_n 1, 1) := dk_27 (dk_at dksX0_set_1 6 rfl rfl)
theorem dX0_set_29 : decode cX0_set 29 = .ok (.iaload, 1) := dk_46 (dk_at dksX0_set_1 7 rfl rfl)
theorem dX0_set_30 : decode cX0_set 30 = .ok (.istore_n 3, 1) := dk_62 (dk_at dksX0_set_1 8 rfl rfl)
theorem dX0_set_31 : decode cX0_set 31 = .ok (.aload_n 0, 1) := dk_42 (dk_at dksX0_set_1 9 rfl rfl)
theorem dX0_set_32 : decode cX0_set 32 = .ok (.getfield 89, 3) := dk_180 0 89 (dk_at dksX0_set_1 10 rfl rfl)
theorem dX0_set_35 : decode cX0_set 35 = .ok (.getfield 236, 3) := dk_180 0 236 (dk_at dksX0_set_1 13 rfl rfl)
theorem dX0_set_38 : decode cX0_set 38 = .ok (.iload_n 1, 1) := dk_27 (dk_at dksX0_set_1 16 rfl rfl)
theorem dX0_set_39 : decode cX0_set 39 = .ok (.iload_n 2, 1) := dk_28 (dk_at dksX0_set_1 17 rfl rfl)
theorem dX0_set_40 : decode cX0_set 40 = .ok (.iastore, 1) := dk_79 (dk_at dksX0_set_1 18 rfl rfl)
theorem dX0_set_41 : decode cX0_set 41 = .ok (.iload_n 3, 1) := dk_29 (dk_at dksX0_set_1 19 rfl rfl)
theorem dX0_set_42 : decode cX0_set 42 = .ok (.ireturn, 1) := dk_172 (dk_at dksX0_set_1 20 rfl rfl)
abbrev cX0_forget : ByteArray := prog_1_method_70_code
def yX0_forget : MethodName := ⟨RX0, "forget", "(I)I"⟩
def dkwX0_forget_1 : List UInt8 := [180, 0, 89, 89, 180, 0, 242, 4, 27, 120, 2, 130, 126, 181, 0, 242, 28, 172]
abbrev dktX0_forget_1 : List UInt8 := dkwX0_forget_1 ++ []
def dkwX0_forget_0 : List UInt8 := [42, 27, 133, 182, 0, 174, 154, 0, 5, 2, 172, 42, 180, 0, 89, 180, 0, 242, 27, 122, 4, 126, 61, 42]
abbrev dktX0_forget_0 : List UInt8 := dkwX0_forget_0 ++ dktX0_forget_1
theorem dksX0_forget_0 : cX0_forget.data.toList.drop 0 = dktX0_forget_0 := by decide +kernel
theorem dksX0_forget_1 : cX0_forget.data.toList.drop 24 = dktX0_forget_1 := dk_seg dksX0_forget_0 24 rfl rfl
theorem dX0_forget_0 : decode cX0_forget 0 = .ok (.aload_n 0, 1) := dk_42 (dk_at dksX0_forget_0 0 rfl rfl)
theorem dX0_forget_1 : decode cX0_forget 1 = .ok (.iload_n 1, 1) := dk_27 (dk_at dksX0_forget_0 1 rfl rfl)
theorem dX0_forget_2 : decode cX0_forget 2 = .ok (.i2l, 1) := dk_133 (dk_at dksX0_forget_0 2 rfl rfl)
theorem dX0_forget_3 : decode cX0_forget 3 = .ok (.invokevirtual 174, 3) := dk_182 0 174 (dk_at dksX0_forget_0 3 rfl rfl)
theorem dX0_forget_6 : decode cX0_forget 6 = .ok (.ifCond .ne 5, 3) := dk_154 0 5 (dk_at dksX0_forget_0 6 rfl rfl)
theorem dX0_forget_9 : decode cX0_forget 9 = .ok (.iconst (-1), 1) := dk_2 (dk_at dksX0_forget_0 9 rfl rfl)
theorem dX0_forget_10 : decode cX0_forget 10 = .ok (.ireturn, 1) := dk_172 (dk_at dksX0_forget_0 10 rfl rfl)
theorem dX0_forget_11 : decode cX0_forget 11 = .ok (.aload_n 0, 1) := dk_42 (dk_at dksX0_forget_0 11 rfl rfl)
theorem dX0_forget_12 : decode cX0_forget 12 = .ok (.getfield 89, 3) := dk_180 0 89 (dk_at dksX0_forget_0 12 rfl rfl)
theorem dX0_forget_15 : decode cX0_forget 15 = .ok (.getfield 242, 3) := dk_180 0 242 (dk_at dksX0_forget_0 15 rfl rfl)
theorem dX0_forget_18 : decode cX0_forget 18 = .ok (.iload_n 1, 1) := dk_27 (dk_at dksX0_forget_0 18 rfl rfl)
theorem dX0_forget_19 : decode cX0_forget 19 = .ok (.ishr, 1) := dk_122 (dk_at dksX0_forget_0 19 rfl rfl)
theorem dX0_forget_20 : decode cX0_forget 20 = .ok (.iconst 1, 1) := dk_4 (dk_at dksX0_forget_0 20 rfl rfl)
theorem dX0_forget_21 : decode cX0_forget 21 = .ok (.iand, 1) := dk_126 (dk_at dksX0_forget_0 21 rfl rfl)
theorem dX0_forget_22 : decode cX0_forget 22 = .ok (.istore_n 2, 1) := dk_61 (dk_at dksX0_forget_0 22 rfl rfl)
theorem dX0_forget_23 : decode cX0_forget 23 = .ok (.aload_n 0, 1) := dk_42 (dk_at dksX0_forget_0 23 rfl rfl)
theorem dX0_forget_24 : decode cX0_forget 24 = .ok (.getfield 89, 3) := dk_180 0 89 (dk_at dksX0_forget_1 0 rfl rfl)
theorem dX0_forget_27 : decode cX0_forget 27 = .ok (.dup, 1) := dk_89 (dk_at dksX0_forget_1 3 rfl rfl)
theorem dX0_forget_28 : decode cX0_forget 28 = .ok (.getfield 242, 3) := dk_180 0 242 (dk_at dksX0_forget_1 4 rfl rfl)
theorem dX0_forget_31 : decode cX0_forget 31 = .ok (.iconst 1, 1) := dk_4 (dk_at dksX0_forget_1 7 rfl rfl)
theorem dX0_forget_32 : decode cX0_forget 32 = .ok (.iload_n 1, 1) := dk_27 (dk_at dksX0_forget_1 8 rfl rfl)
theorem dX0_forget_33 : decode cX0_forget 33 = .ok (.ishl, 1) := dk_120 (dk_at dksX0_forget_1 9 rfl rfl)
theorem dX0_forget_34 : decode cX0_forget 34 = .ok (.iconst (-1), 1) := dk_2 (dk_at dksX0_forget_1 10 rfl rfl)
theorem dX0_forget_35 : decode cX0_forget 35 = .ok (.ixor, 1) := dk_130 (dk_at dksX0_forget_1 11 rfl rfl)
theorem dX0_forget_36 : decode cX0_forget 36 = .ok (.iand, 1) := dk_126 (dk_at dksX0_forget_1 12 rfl rfl)
theorem dX0_forget_37 : decode cX0_forget 37 = .ok (.putfield 242, 3) := dk_181 0 242 (dk_at dksX0_forget_1 13 rfl rfl)
theorem dX0_forget_40 : decode cX0_forget 40 = .ok (.iload_n 2, 1) := dk_28 (dk_at dksX0_forget_1 16 rfl rfl)
theorem dX0_forget_41 : decode cX0_forget 41 = .ok (.ireturn, 1) := dk_172 (dk_at dksX0_forget_1 17 rfl rfl)
abbrev cX0_led : ByteArray := prog_1_method_71_code
def yX0_led : MethodName := ⟨RX0, "led", "(I)I"⟩
def dkwX0_led_0 : List UInt8 := [27, 133, 9, 20, 0, 172, 184, 0, 147, 153, 0, 12, 42, 180, 0, 121, 27, 46, 167, 0, 4, 2, 172]
abbrev dktX0_led_0 : List UInt8 := dkwX0_led_0 ++ []
theorem dksX0_led_0 : cX0_led.data.toList.drop 0 = dktX0_led_0 := by decide +kernel
theorem dX0_led_0 : decode cX0_led 0 = .ok (.iload_n 1, 1) := dk_27 (dk_at dksX0_led_0 0 rfl rfl)
theorem dX0_led_1 : decode cX0_led 1 = .ok (.i2l, 1) := dk_133 (dk_at dksX0_led_0 1 rfl rfl)
theorem dX0_led_2 : decode cX0_led 2 = .ok (.lconst 0, 1) := dk_9 (dk_at dksX0_led_0 2 rfl rfl)
theorem dX0_led_3 : decode cX0_led 3 = .ok (.ldc2_w 172, 3) := dk_20 0 172 (dk_at dksX0_led_0 3 rfl rfl)
theorem dX0_led_6 : decode cX0_led 6 = .ok (.invokestatic 147, 3) := dk_184 0 147 (dk_at dksX0_led_0 6 rfl rfl)
theorem dX0_led_9 : decode cX0_led 9 = .ok (.ifCond .eq 12, 3) := dk_153 0 12 (dk_at dksX0_led_0 9 rfl rfl)
theorem dX0_led_12 : decode cX0_led 12 = .ok (.aload_n 0, 1) := dk_42 (dk_at dksX0_led_0 12 rfl rfl)
theorem dX0_led_13 : decode cX0_led 13 = .ok (.getfield 121, 3) := dk_180 0 121 (dk_at dksX0_led_0 13 rfl rfl)
theorem dX0_led_16 : decode cX0_led 16 = .ok (.iload_n 1, 1) := dk_27 (dk_at dksX0_led_0 16 rfl rfl)
theorem dX0_led_17 : decode cX0_led 17 = .ok (.iaload, 1) := dk_46 (dk_at dksX0_led_0 17 rfl rfl)
theorem dX0_led_18 : decode cX0_led 18 = .ok (.goto 4, 3) := dk_167 0 4 (dk_at dksX0_led_0 18 rfl rfl)
theorem dX0_led_21 : decode cX0_led 21 = .ok (.iconst (-1), 1) := dk_2 (dk_at dksX0_led_0 21 rfl rfl)
theorem dX0_led_22 : decode cX0_led 22 = .ok (.ireturn, 1) := dk_172 (dk_at dksX0_led_0 22 rfl rfl)
abbrev cX0_image : ByteArray := prog_1_method_72_code
def yX0_image : MethodName := ⟨RX0, "image", "()I"⟩
def dkwX0_image_1 : List UInt8 := [180, 0, 127, 3, 7, 184, 1, 145, 42, 180, 0, 121, 3, 46, 172]
abbrev dktX0_image_1 : List UInt8 := dkwX0_image_1 ++ []
def dkwX0_image_0 : List UInt8 := [42, 4, 181, 1, 188, 42, 180, 0, 124, 42, 180, 0, 89, 182, 1, 102, 42, 180, 0, 121, 3, 42]
abbrev dktX0_image_0 : List UInt8 := dkwX0_image_0 ++ dktX0_image_1
theorem dksX0_image_0 : cX0_image.data.toList.drop 0 = dktX0_image_0 := by decide +kernel
theorem dksX0_image_1 : cX0_image.data.toList.drop 22 = dktX0_image_1 := dk_seg dksX0_image_0 22 rfl rfl
theorem dX0_image_0 : decode cX0_image 0 = .ok (.aload_n 0, 1) := dk_42 (dk_at dksX0_image_0 0 rfl rfl)
theorem dX0_image_1 : decode cX0_image 1 = .ok (.iconst 1, 1) := dk_4 (dk_at dksX0_image_0 1 rfl rfl)
theorem dX0_image_2 : decode cX0_image 2 = .ok (.putfield 444, 3) := dk_181 1 188 (dk_at dksX0_image_0 2 rfl rfl)
theorem dX0_image_5 : decode cX0_image 5 = .ok (.aload_n 0, 1) := dk_42 (dk_at dksX0_image_0 5 rfl rfl)
theorem dX0_image_6 : decode cX0_image 6 = .ok (.getfield 124, 3) := dk_180 0 124 (dk_at dksX0_image_0 6 rfl rfl)
theorem dX0_image_9 : decode cX0_image 9 = .ok (.aload_n 0, 1) := dk_42 (dk_at dksX0_image_0 9 rfl rfl)
theorem dX0_image_10 : decode cX0_image 10 = .ok (.getfield 89, 3) := dk_180 0 89 (dk_at dksX0_image_0 10 rfl rfl)
theorem dX0_image_13 : decode cX0_image 13 = .ok (.invokevirtual 358, 3) := dk_182 1 102 (dk_at dksX0_image_0 13 rfl rfl)
theorem dX0_image_16 : decode cX0_image 16 = .ok (.aload_n 0, 1) := dk_42 (dk_at dksX0_image_0 16 rfl rfl)
theorem dX0_image_17 : decode cX0_image 17 = .ok (.getfield 121, 3) := dk_180 0 121 (dk_at dksX0_image_0 17 rfl rfl)
theorem dX0_image_20 : decode cX0_image 20 = .ok (.iconst 0, 1) := dk_3 (dk_at dksX0_image_0 20 rfl rfl)
theorem dX0_image_21 : decode cX0_image 21 = .ok (.aload_n 0, 1) := dk_42 (dk_at dksX0_image_0 21 rfl rfl)
theorem dX0_image_22 : decode cX0_image 22 = .ok (.getfield 127, 3) := dk_180 0 127 (dk_at dksX0_image_1 0 rfl rfl)
theorem dX0_image_25 : decode cX0_image 25 = .ok (.iconst 0, 1) := dk_3 (dk_at dksX0_image_1 3 rfl rfl)
theorem dX0_image_26 : decode cX0_image 26 = .ok (.iconst 4, 1) := dk_7 (dk_at dksX0_image_1 4 rfl rfl)
theorem dX0_image_27 : decode cX0_image 27 = .ok (.invokestatic 401, 3) := dk_184 1 145 (dk_at dksX0_image_1 5 rfl rfl)
theorem dX0_image_30 : decode cX0_image 30 = .ok (.aload_n 0, 1) := dk_42 (dk_at dksX0_image_1 8 rfl rfl)
theorem dX0_image_31 : decode cX0_image 31 = .ok (.getfield 121, 3) := dk_180 0 121 (dk_at dksX0_image_1 9 rfl rfl)
theorem dX0_image_34 : decode cX0_image 34 = .ok (.iconst 0, 1) := dk_3 (dk_at dksX0_image_1 12 rfl rfl)
theorem dX0_image_35 : decode cX0_image 35 = .ok (.iaload, 1) := dk_46 (dk_at dksX0_image_1 13 rfl rfl)
theorem dX0_image_36 : decode cX0_image 36 = .ok (.ireturn, 1) := dk_172 (dk_at dksX0_image_1 14 rfl rfl)
abbrev cX0_back : ByteArray := prog_1_method_73_code
def yX0_back : MethodName := ⟨RX0, "back", "()I"⟩
def dkwX0_back_1 : List UInt8 := [180, 0, 127, 3, 42, 180, 0, 121, 3, 7, 184, 1, 145, 42, 180, 0, 121, 3, 46, 172]
abbrev dktX0_back_1 : List UInt8 := dkwX0_back_1 ++ []
def dkwX0_back_0 : List UInt8 := [42, 180, 1, 188, 154, 0, 6, 16, 251, 172, 42, 180, 0, 89, 42, 180, 0, 124, 182, 1, 102, 42]
abbrev dktX0_back_0 : List UInt8 := dkwX0_back_0 ++ dktX0_back_1
theorem dksX0_back_0 : cX0_back.data.toList.drop 0 = dktX0_back_0 := by decide +kernel
theorem dksX0_back_1 : cX0_back.data.toList.drop 22 = dktX0_back_1 := dk_seg dksX0_back_0 22 rfl rfl
theorem dX0_back_0 : decode cX0_back 0 = .ok (.aload_n 0, 1) := dk_42 (dk_at dksX0_back_0 0 rfl rfl)
theorem dX0_back_1 : decode cX0_back 1 = .ok (.getfield 444, 3) := dk_180 1 188 (dk_at dksX0_back_0 1 rfl rfl)
theorem dX0_back_4 : decode cX0_back 4 = .ok (.ifCond .ne 6, 3) := dk_154 0 6 (dk_at dksX0_back_0 4 rfl rfl)
theorem dX0_back_7 : decode cX0_back 7 = .ok (.bipush (-5), 2) := dk_16 251 (dk_at dksX0_back_0 7 rfl rfl)
theorem dX0_back_9 : decode cX0_back 9 = .ok (.ireturn, 1) := dk_172 (dk_at dksX0_back_0 9 rfl rfl)
theorem dX0_back_10 : decode cX0_back 10 = .ok (.aload_n 0, 1) := dk_42 (dk_at dksX0_back_0 10 rfl rfl)
theorem dX0_back_11 : decode cX0_back 11 = .ok (.getfield 89, 3) := dk_180 0 89 (dk_at dksX0_back_0 11 rfl rfl)
theorem dX0_back_14 : decode cX0_back 14 = .ok (.aload_n 0, 1) := dk_42 (dk_at dksX0_back_0 14 rfl rfl)
theorem dX0_back_15 : decode cX0_back 15 = .ok (.getfield 124, 3) := dk_180 0 124 (dk_at dksX0_back_0 15 rfl rfl)
theorem dX0_back_18 : decode cX0_back 18 = .ok (.invokevirtual 358, 3) := dk_182 1 102 (dk_at dksX0_back_0 18 rfl rfl)
theorem dX0_back_21 : decode cX0_back 21 = .ok (.aload_n 0, 1) := dk_42 (dk_at dksX0_back_0 21 rfl rfl)
theorem dX0_back_22 : decode cX0_back 22 = .ok (.getfield 127, 3) := dk_180 0 127 (dk_at dksX0_back_1 0 rfl rfl)
theorem dX0_back_25 : decode cX0_back 25 = .ok (.iconst 0, 1) := dk_3 (dk_at dksX0_back_1 3 rfl rfl)
theorem dX0_back_26 : decode cX0_back 26 = .ok (.aload_n 0, 1) := dk_42 (dk_at dksX0_back_1 4 rfl rfl)
theorem dX0_back_27 : decode cX0_back 27 = .ok (.getfield 121, 3) := dk_180 0 121 (dk_at dksX0_back_1 5 rfl rfl)
theorem dX0_back_30 : decode cX0_back 30 = .ok (.iconst 0, 1) := dk_3 (dk_at dksX0_back_1 8 rfl rfl)
theorem dX0_back_31 : decode cX0_back 31 = .ok (.iconst 4, 1) := dk_7 (dk_at dksX0_back_1 9 rfl rfl)
theorem dX0_back_32 : decode cX0_back 32 = .ok (.invokestatic 401, 3) := dk_184 1 145 (dk_at dksX0_back_1 10 rfl rfl)
theorem dX0_back_35 : decode cX0_back 35 = .ok (.aload_n 0, 1) := dk_42 (dk_at dksX0_back_1 13 rfl rfl)
theorem dX0_back_36 : decode cX0_back 36 = .ok (.getfield 121, 3) := dk_180 0 121 (dk_at dksX0_back_1 14 rfl rfl)
theorem dX0_back_39 : decode cX0_back 39 = .ok (.iconst 0, 1) := dk_3 (dk_at dksX0_back_1 17 rfl rfl)
theorem dX0_back_40 : decode cX0_back 40 = .ok (.iaload, 1) := dk_46 (dk_at dksX0_back_1 18 rfl rfl)
theorem dX0_back_41 : decode cX0_back 41 = .ok (.ireturn, 1) := dk_172 (dk_at dksX0_back_1 19 rfl rfl)
abbrev cX0_body : ByteArray := prog_1_method_76_code
def yX0_body : MethodName := ⟨RX0, "body", "(I)I"⟩
def dkwX0_body_2 : List UInt8 := [96, 181, 1, 192, 172]
abbrev dktX0_body_2 : List UInt8 := dkwX0_body_2 ++ []
def dkwX0_body_1 : List UInt8 := [16, 253, 172, 42, 180, 0, 132, 42, 180, 1, 192, 42, 27, 182, 1, 217, 83, 42, 89, 180, 1, 192, 90, 4]
abbrev dktX0_body_1 : List UInt8 := dkwX0_body_1 ++ dktX0_body_2
def dkwX0_body_0 : List UInt8 := [27, 133, 9, 20, 0, 197, 184, 0, 147, 154, 0, 5, 2, 172, 42, 180, 1, 192, 16, 50, 160, 0, 6]
abbrev dktX0_body_0 : List UInt8 := dkwX0_body_0 ++ dktX0_body_1
theorem dksX0_body_0 : cX0_body.data.toList.drop 0 = dktX0_body_0 := by decide +kernel
theorem dksX0_body_1 : cX0_body.data.toList.drop 23 = dktX0_body_1 := dk_seg dksX0_body_0 23 rfl rfl
theorem dksX0_body_2 : cX0_body.data.toList.drop 47 = dktX0_body_2 := dk_seg dksX0_body_1 24 rfl rfl
theorem dX0_body_0 : decode cX0_body 0 = .ok (.iload_n 1, 1) := dk_27 (dk_at dksX0_body_0 0 rfl rfl)
theorem dX0_body_1 : decode cX0_body 1 = .ok (.i2l, 1) := dk_133 (dk_at dksX0_body_0 1 rfl rfl)
theorem dX0_body_2 : decode cX0_body 2 = .ok (.lconst 0, 1) := dk_9 (dk_at dksX0_body_0 2 rfl rfl)
theorem dX0_body_3 : decode cX0_body 3 = .ok (.ldc2_w 197, 3) := dk_20 0 197 (dk_at dksX0_body_0 3 rfl rfl)
theorem dX0_body_6 : decode cX0_body 6 = .ok (.invokestatic 147, 3) := dk_184 0 147 (dk_at dksX0_body_0 6 rfl rfl)
theorem dX0_body_9 : decode cX0_body 9 = .ok (.ifCond .ne 5, 3) := dk_154 0 5 (dk_at dksX0_body_0 9 rfl rfl)
theorem dX0_body_12 : decode cX0_body 12 = .ok (.iconst (-1), 1) := dk_2 (dk_at dksX0_body_0 12 rfl rfl)
theorem dX0_body_13 : decode cX0_body 13 = .ok (.ireturn, 1) := dk_172 (dk_at dksX0_body_0 13 rfl rfl)
theorem dX0_body_14 : decode cX0_body 14 = .ok (.aload_n 0, 1) := dk_42 (dk_at dksX0_body_0 14 rfl rfl)
theorem dX0_body_15 : decode cX0_body 15 = .ok (.getfield 448, 3) := dk_180 1 192 (dk_at dksX0_body_0 15 rfl rfl)
theorem dX0_body_18 : decode cX0_body 18 = .ok (.bipush 50, 2) := dk_16 50 (dk_at dksX0_body_0 18 rfl rfl)
theorem dX0_body_20 : decode cX0_body 20 = .ok (.if_icmp .ne 6, 3) := dk_160 0 6 (dk_at dksX0_body_0 20 rfl rfl)
theorem dX0_body_23 : decode cX0_body 23 = .ok (.bipush (-3), 2) := dk_16 253 (dk_at dksX0_body_1 0 rfl rfl)
theorem dX0_body_25 : decode cX0_body 25 = .ok (.ireturn, 1) := dk_172 (dk_at dksX0_body_1 2 rfl rfl)
theorem dX0_body_26 : decode cX0_body 26 = .ok (.aload_n 0, 1) := dk_42 (dk_at dksX0_body_1 3 rfl rfl)
theorem dX0_body_27 : decode cX0_body 27 = .ok (.getfield 132, 3) := dk_180 0 132 (dk_at dksX0_body_1 4 rfl rfl)
theorem dX0_body_30 : decode cX0_body 30 = .ok (.aload_n 0, 1) := dk_42 (dk_at dksX0_body_1 7 rfl rfl)
theorem dX0_body_31 : decode cX0_body 31 = .ok (.getfield 448, 3) := dk_180 1 192 (dk_at dksX0_body_1 8 rfl rfl)
theorem dX0_body_34 : decode cX0_body 34 = .ok (.aload_n 0, 1) := dk_42 (dk_at dksX0_body_1 11 rfl rfl)
theorem dX0_body_35 : decode cX0_body 35 = .ok (.iload_n 1, 1) := dk_27 (dk_at dksX0_body_1 12 rfl rfl)
theorem dX0_body_36 : decode cX0_body 36 = .ok (.invokevirtual 473, 3) := dk_182 1 217 (dk_at dksX0_body_1 13 rfl rfl)
theorem dX0_body_39 : decode cX0_body 39 = .ok (.aastore, 1) := dk_83 (dk_at dksX0_body_1 16 rfl rfl)
theorem dX0_body_40 : decode cX0_body 40 = .ok (.aload_n 0, 1) := dk_42 (dk_at dksX0_body_1 17 rfl rfl)
theorem dX0_body_41 : decode cX0_body 41 = .ok (.dup, 1) := dk_89 (dk_at dksX0_body_1 18 rfl rfl)
theorem dX0_body_42 : decode cX0_body 42 = .ok (.getfield 448, 3) := dk_180 1 192 (dk_at dksX0_body_1 19 rfl rfl)
theorem dX0_body_45 : decode cX0_body 45 = .ok (.dup_x1, 1) := dk_90 (dk_at dksX0_body_1 22 rfl rfl)
theorem dX0_body_46 : decode cX0_body 46 = .ok (.iconst 1, 1) := dk_4 (dk_at dksX0_body_1 23 rfl rfl)
theorem dX0_body_47 : decode cX0_body 47 = .ok (.iadd, 1) := dk_96 (dk_at dksX0_body_2 0 rfl rfl)
theorem dX0_body_48 : decode cX0_body 48 = .ok (.putfield 448, 3) := dk_181 1 192 (dk_at dksX0_body_2 1 rfl rfl)
theorem dX0_body_51 : decode cX0_body 51 = .ok (.ireturn, 1) := dk_172 (dk_at dksX0_body_2 4 rfl rfl)
abbrev cX0_made : ByteArray := prog_1_method_75_code
def yX0_made : MethodName := ⟨RX0, "made", "(I)LLeftAsFound$Body;"⟩
def dkwX0_made_6 : List UInt8 := [187, 0, 130, 89, 42, 42, 180, 1, 192, 183, 1, 216, 176]
abbrev dktX0_made_6 : List UInt8 := dkwX0_made_6 ++ []
def dkwX0_made_5 : List UInt8 := [42, 42, 180, 1, 192, 183, 1, 212, 176, 187, 1, 213, 89, 42, 42, 180, 1, 192, 183, 1, 215, 176]
abbrev dktX0_made_5 : List UInt8 := dkwX0_made_5 ++ dktX0_made_6
def dkwX0_made_4 : List UInt8 := [180, 1, 192, 183, 1, 206, 176, 187, 1, 207, 89, 42, 42, 180, 1, 192, 183, 1, 209, 176, 187, 1, 210, 89]
abbrev dktX0_made_4 : List UInt8 := dkwX0_made_4 ++ dktX0_made_5
def dkwX0_made_3 : List UInt8 := [183, 1, 200, 176, 187, 1, 201, 89, 42, 42, 180, 1, 192, 183, 1, 203, 176, 187, 1, 204, 89, 42, 42]
abbrev dktX0_made_3 : List UInt8 := dkwX0_made_3 ++ dktX0_made_4
def dkwX0_made_2 : List UInt8 := [187, 1, 195, 89, 42, 42, 180, 1, 192, 183, 1, 197, 176, 187, 1, 198, 89, 42, 42, 180, 1, 192]
abbrev dktX0_made_2 : List UInt8 := dkwX0_made_2 ++ dktX0_made_3
def dkwX0_made_1 : List UInt8 := [170, 0, 0, 0, 0, 0, 134, 0, 0, 0, 1, 0, 0, 0, 7, 0, 0, 0, 43, 0, 0, 0, 56, 0, 0, 0, 69, 0, 0, 0, 82, 0, 0, 0, 95, 0, 0, 0, 108, 0, 0, 0, 121]
abbrev dktX0_made_1 : List UInt8 := dkwX0_made_1 ++ dktX0_made_2
def dkwX0_made_0 : List UInt8 := [27]
abbrev dktX0_made_0 : List UInt8 := dkwX0_made_0 ++ dktX0_made_1
theorem dksX0_made_0 : cX0_made.data.toList.drop 0 = dktX0_made_0 := by decide +kernel
theorem dksX0_made_1 : cX0_made.data.toList.drop 1 = dktX0_made_1 := dk_seg dksX0_made_0 1 rfl rfl
theorem dksX0_made_2 : cX0_made.data.toList.drop 44 = dktX0_made_2 := dk_seg dksX0_made_1 43 rfl rfl
theorem dksX0_made_3 : cX0_made.data.toList.drop 66 = dktX0_made_3 := dk_seg dksX0_made_2 22 rfl rfl
theorem dksX0_made_4 : cX0_made.data.toList.drop 89 = dktX0_made_4 := dk_seg dksX0_made_3 23 rfl rfl
theorem dksX0_made_5 : cX0_made.data.toList.drop 113 = dktX0_made_5 := dk_seg dksX0_made_4 24 rfl rfl
theorem dksX0_made_6 : cX0_made.data.toList.drop 135 = dktX0_made_6 := dk_seg dksX0_made_5 22 rfl rfl
theorem dX0_made_0 : decode cX0_made 0 = .ok (.iload_n 1, 1) := dk_27 (dk_at dksX0_made_0 0 rfl rfl)
theorem dX0_made_1 : decode cX0_made 1 = .ok (.tableswitch 134 1 7 #[43, 56, 69, 82, 95, 108, 121], 43) := by decide +kernel
theorem dX0_made_44 : decode cX0_made 44 = .ok (.new 451, 3) := dk_187 1 195 (dk_at dksX0_made_2 0 rfl rfl)
theorem dX0_made_47 : decode cX0_made 47 = .ok (.dup, 1) := dk_89 (dk_at dksX0_made_2 3 rfl rfl)
theorem dX0_made_48 : decode cX0_made 48 = .ok (.aload_n 0, 1) := dk_42 (dk_at dksX0_made_2 4 rfl rfl)
theorem dX0_made_49 : decode cX0_made 49 = .ok (.aload_n 0, 1) := dk_42 (dk_at dksX0_made_2 5 rfl rfl)
theorem dX0_made_50 : decode cX0_made 50 = .ok (.getfield 448, 3) := dk_180 1 192 (dk_at dksX0_made_2 6 rfl rfl)
theorem dX0_made_53 : decode cX0_made 53 = .ok (.invokespecial 453, 3) := dk_183 1 197 (dk_at dksX0_made_2 9 rfl rfl)
theorem dX0_made_56 : decode cX0_made 56 = .ok (.areturn, 1) := dk_176 (dk_at dksX0_made_2 12 rfl rfl)
theorem dX0_made_57 : decode cX0_made 57 = .ok (.new 454, 3) := dk_187 1 198 (dk_at dksX0_made_2 13 rfl rfl)
theorem dX0_made_60 : decode cX0_made 60 = .ok (.dup, 1) := dk_89 (dk_at dksX0_made_2 16 rfl rfl)
theorem dX0_made_61 : decode cX0_made 61 = .ok (.aload_n 0, 1) := dk_42 (dk_at dksX0_made_2 17 rfl rfl)
theorem dX0_made_62 : decode cX0_made 62 = .ok (.aload_n 0, 1) := dk_42 (dk_at dksX0_made_2 18 rfl rfl)
theorem dX0_made_63 : decode cX0_made 63 = .ok (.getfield 448, 3) := dk_180 1 192 (dk_at dksX0_made_2 19 rfl rfl)
theorem dX0_made_66 : decode cX0_made 66 = .ok (.invokespecial 456, 3) := dk_183 1 200 (dk_at dksX0_made_3 0 rfl rfl)
theorem dX0_made_69 : decode cX0_made 69 = .ok (.areturn, 1) := dk_176 (dk_at dksX0_made_3 3 rfl rfl)
theorem dX0_made_70 : decode cX0_made 70 = .ok (.new 457, 3) := dk_187 1 201 (dk_at dksX0_made_3 4 rfl rfl)
theorem dX0_made_73 : decode cX0_made 73 = .ok (.dup, 1) := dk_89 (dk_at dksX0_made_3 7 rfl rfl)
theorem dX0_made_74 : decode cX0_made 74 = .ok (.aload_n 0, 1) := dk_42 (dk_at dksX0_made_3 8 rfl rfl)
theorem dX0_made_75 : decode cX0_made 75 = .ok (.aload_n 0, 1) := dk_42 (dk_at dksX0_made_3 9 rfl rfl)
theorem dX0_made_76 : decode cX0_made 76 = .ok (.getfield 448, 3) := dk_180 1 192 (dk_at dksX0_made_3 10 rfl rfl)
theorem dX0_made_79 : decode cX0_made 79 = .ok (.invokespecial 459, 3) := dk_183 1 203 (dk_at dksX0_made_3 13 rfl rfl)
theorem dX0_made_82 : decode cX0_made 82 = .ok (.areturn, 1) := dk_176 (dk_at dksX0_made_3 16 rfl rfl)
theorem dX0_made_83 : decode cX0_made 83 = .ok (.new 460, 3) := dk_187 1 204 (dk_at dksX0_made_3 17 rfl rfl)
theorem dX0_made_86 : decode cX0_made 86 = .ok (.dup, 1) := dk_89 (dk_at dksX0_made_3 20 rfl rfl)
theorem dX0_made_87 : decode cX0_made 87 = .ok (.aload_n 0, 1) := dk_42 (dk_at dksX0_made_3 21 rfl rfl)
theorem dX0_made_88 : decode cX0_made 88 = .ok (.aload_n 0, 1) := dk_42 (dk_at dksX0_made_3 22 rfl rfl)
theorem dX0_made_89 : decode cX0_made 89 = .ok (.getfield 448, 3) := dk_180 1 192 (dk_at dksX0_made_4 0 rfl rfl)
theorem dX0_made_92 : decode cX0_made 92 = .ok (.invokespecial 462, 3) := dk_183 1 206 (dk_at dksX0_made_4 3 rfl rfl)
theorem dX0_made_95 : decode cX0_made 95 = .ok (.areturn, 1) := dk_176 (dk_at dksX0_made_4 6 rfl rfl)
theorem dX0_made_96 : decode cX0_made 96 = .ok (.new 463, 3) := dk_187 1 207 (dk_at dksX0_made_4 7 rfl rfl)
theorem dX0_made_99 : decode cX0_made 99 = .ok (.dup, 1) := dk_89 (dk_at dksX0_made_4 10 rfl rfl)
theorem dX0_made_100 : decode cX0_made 100 = .ok (.aload_n 0, 1) := dk_42 (dk_at dksX0_made_4 11 rfl rfl)
theorem dX0_made_101 : decode cX0_made 101 = .ok (.aload_n 0, 1) := dk_42 (dk_at dksX0_made_4 12 rfl rfl)
theorem dX0_made_102 : decode cX0_made 102 = .ok (.getfield 448, 3) := dk_180 1 192 (dk_at dksX0_made_4 13 rfl rfl)
theorem dX0_made_105 : decode cX0_made 105 = .ok (.invokespecial 465, 3) := dk_183 1 209 (dk_at dksX0_made_4 16 rfl rfl)
theorem dX0_made_108 : decode cX0_made 108 = .ok (.areturn, 1) := dk_176 (dk_at dksX0_made_4 19 rfl rfl)
theorem dX0_made_109 : decode cX0_made 109 = .ok (.new 466, 3) := dk_187 1 210 (dk_at dksX0_made_4 20 rfl rfl)
theorem dX0_made_112 : decode cX0_made 112 = .ok (.dup, 1) := dk_89 (dk_at dksX0_made_4 23 rfl rfl)
theorem dX0_made_113 : decode cX0_made 113 = .ok (.aload_n 0, 1) := dk_42 (dk_at dksX0_made_5 0 rfl rfl)
theorem dX0_made_114 : decode cX0_made 114 = .ok (.aload_n 0, 1) := dk_42 (dk_at dksX0_made_5 1 rfl rfl)
theorem dX0_made_115 : decode cX0_made 115 = .ok (.getfield 448, 3) := dk_180 1 192 (dk_at dksX0_made_5 2 rfl rfl)
theorem dX0_made_118 : decode cX0_made 118 = .ok (.invokespecial 468, 3) := dk_183 1 212 (dk_at dksX0_made_5 5 rfl rfl)
theorem dX0_made_121 : decode cX0_made 121 = .ok (.areturn, 1) := dk_176 (dk_at dksX0_made_5 8 rfl rfl)
theorem dX0_made_122 : decode cX0_made 122 = .ok (.new 469, 3) := dk_187 1 213 (dk_at dksX0_made_5 9 rfl rfl)
theorem dX0_made_125 : decode cX0_made 125 = .ok (.dup, 1) := dk_89 (dk_at dksX0_made_5 12 rfl rfl)
theorem dX0_made_126 : decode cX0_made 126 = .ok (.aload_n 0, 1) := dk_42 (dk_at dksX0_made_5 13 rfl rfl)
theorem dX0_made_127 : decode cX0_made 127 = .ok (.aload_n 0, 1) := dk_42 (dk_at dksX0_made_5 14 rfl rfl)
theorem dX0_made_128 : decode cX0_made 128 = .ok (.getfield 448, 3) := dk_180 1 192 (dk_at dksX0_made_5 15 rfl rfl)
theorem dX0_made_131 : decode cX0_made 131 = .ok (.invokespecial 471, 3) := dk_183 1 215 (dk_at dksX0_made_5 18 rfl rfl)
theorem dX0_made_134 : decode cX0_made 134 = .ok (.areturn, 1) := dk_176 (dk_at dksX0_made_5 21 rfl rfl)
theorem dX0_made_135 : decode cX0_made 135 = .ok (.new 130, 3) := dk_187 0 130 (dk_at dksX0_made_6 0 rfl rfl)
theorem dX0_made_138 : decode cX0_made 138 = .ok (.dup, 1) := dk_89 (dk_at dksX0_made_6 3 rfl rfl)
theorem dX0_made_139 : decode cX0_made 139 = .ok (.aload_n 0, 1) := dk_42 (dk_at dksX0_made_6 4 rfl rfl)
theorem dX0_made_140 : decode cX0_made 140 = .ok (.aload_n 0, 1) := dk_42 (dk_at dksX0_made_6 5 rfl rfl)
theorem dX0_made_141 : decode cX0_made 141 = .ok (.getfield 448, 3) := dk_180 1 192 (dk_at dksX0_made_6 6 rfl rfl)
theorem dX0_made_144 : decode cX0_made 144 = .ok (.invokespecial 472, 3) := dk_183 1 216 (dk_at dksX0_made_6 9 rfl rfl)
theorem dX0_made_147 : decode cX0_made 147 = .ok (.areturn, 1) := dk_176 (dk_at dksX0_made_6 12 rfl rfl)
abbrev cX0_act : ByteArray := prog_1_method_77_code
def yX0_act : MethodName := ⟨RX0, "act", "(III)I"⟩
def dkwX0_act_4 : List UInt8 := [182, 1, 234, 172]
abbrev dktX0_act_4 : List UInt8 := dkwX0_act_4 ++ []
def dkwX0_act_3 : List UInt8 := [25, 4, 29, 182, 1, 227, 172, 25, 4, 29, 182, 1, 229, 172, 25, 4, 29, 182, 1, 232, 172, 25, 4, 29]
abbrev dktX0_act_3 : List UInt8 := dkwX0_act_3 ++ dktX0_act_4
def dkwX0_act_2 : List UInt8 := [170, 0, 0, 0, 0, 0, 0, 49, 0, 0, 0, 0, 0, 0, 0, 2, 0, 0, 0, 28, 0, 0, 0, 35, 0, 0, 0, 42]
abbrev dktX0_act_2 : List UInt8 := dkwX0_act_2 ++ dktX0_act_3
def dkwX0_act_1 : List UInt8 := [154, 0, 5, 3, 172, 42, 180, 0, 132, 27, 50, 58, 4, 28]
abbrev dktX0_act_1 : List UInt8 := dkwX0_act_1 ++ dktX0_act_2
def dkwX0_act_0 : List UInt8 := [42, 3, 181, 1, 221, 42, 27, 182, 1, 224, 153, 0, 15, 28, 133, 9, 20, 0, 172, 184, 0, 147]
abbrev dktX0_act_0 : List UInt8 := dkwX0_act_0 ++ dktX0_act_1
theorem dksX0_act_0 : cX0_act.data.toList.drop 0 = dktX0_act_0 := by decide +kernel
theorem dksX0_act_1 : cX0_act.data.toList.drop 22 = dktX0_act_1 := dk_seg dksX0_act_0 22 rfl rfl
theorem dksX0_act_2 : cX0_act.data.toList.drop 36 = dktX0_act_2 := dk_seg dksX0_act_1 14 rfl rfl
theorem dksX0_act_3 : cX0_act.data.toList.drop 64 = dktX0_act_3 := dk_seg dksX0_act_2 28 rfl rfl
theorem dksX0_act_4 : cX0_act.data.toList.drop 88 = dktX0_act_4 := dk_seg dksX0_act_3 24 rfl rfl
theorem dX0_act_0 : decode cX0_act 0 = .ok (.aload_n 0, 1) := dk_42 (dk_at dksX0_act_0 0 rfl rfl)
theorem dX0_act_1 : decode cX0_act 1 = .ok (.iconst 0, 1) := dk_3 (dk_at dksX0_act_0 1 rfl rfl)
theorem dX0_act_2 : decode cX0_act 2 = .ok (.putfield 477, 3) := dk_181 1 221 (dk_at dksX0_act_0 2 rfl rfl)
theorem dX0_act_5 : decode cX0_act 5 = .ok (.aload_n 0, 1) := dk_42 (dk_at dksX0_act_0 5 rfl rfl)
theorem dX0_act_6 : decode cX0_act 6 = .ok (.iload_n 1, 1) := dk_27 (dk_at dksX0_act_0 6 rfl rfl)
theorem dX0_act_7 : decode cX0_act 7 = .ok (.invokevirtual 480, 3) := dk_182 1 224 (dk_at dksX0_act_0 7 rfl rfl)
theorem dX0_act_10 : decode cX0_act 10 = .ok (.ifCond .eq 15, 3) := dk_153 0 15 (dk_at dksX0_act_0 10 rfl rfl)
theorem dX0_act_13 : decode cX0_act 13 = .ok (.iload_n 2, 1) := dk_28 (dk_at dksX0_act_0 13 rfl rfl)
theorem dX0_act_14 : decode cX0_act 14 = .ok (.i2l, 1) := dk_133 (dk_at dksX0_act_0 14 rfl rfl)
theorem dX0_act_15 : decode cX0_act 15 = .ok (.lconst 0, 1) := dk_9 (dk_at dksX0_act_0 15 rfl rfl)
theorem dX0_act_16 : decode cX0_act 16 = .ok (.ldc2_w 172, 3) := dk_20 0 172 (dk_at dksX0_act_0 16 rfl rfl)
theorem dX0_act_19 : decode cX0_act 19 = .ok (.invokestatic 147, 3) := dk_184 0 147 (dk_at dksX0_act_0 19 rfl rfl)
theorem dX0_act_22 : decode cX0_act 22 = .ok (.ifCond .ne 5, 3) := dk_154 0 5 (dk_at dksX0_act_1 0 rfl rfl)
theorem dX0_act_25 : decode cX0_act 25 = .ok (.iconst 0, 1) := dk_3 (dk_at dksX0_act_1 3 rfl rfl)
theorem dX0_act_26 : decode cX0_act 26 = .ok (.ireturn, 1) := dk_172 (dk_at dksX0_act_1 4 rfl rfl)
theorem dX0_act_27 : decode cX0_act 27 = .ok (.aload_n 0, 1) := dk_42 (dk_at dksX0_act_1 5 rfl rfl)
theorem dX0_act_28 : decode cX0_act 28 = .ok (.getfield 132, 3) := dk_180 0 132 (dk_at dksX0_act_1 6 rfl rfl)
theorem dX0_act_31 : decode cX0_act 31 = .ok (.iload_n 1, 1) := dk_27 (dk_at dksX0_act_1 9 rfl rfl)
theorem dX0_act_32 : decode cX0_act 32 = .ok (.aaload, 1) := dk_50 (dk_at dksX0_act_1 10 rfl rfl)
theorem dX0_act_33 : decode cX0_act 33 = .ok (.astore 4, 2) := dk_58 4 (dk_at dksX0_act_1 11 rfl rfl)
theorem dX0_act_35 : decode cX0_act 35 = .ok (.iload_n 2, 1) := dk_28 (dk_at dksX0_act_1 13 rfl rfl)
theorem dX0_act_36 : decode cX0_act 36 = .ok (.tableswitch 49 0 2 #[28, 35, 42], 28) := by decide +kernel
theorem dX0_act_64 : decode cX0_act 64 = .ok (.aload 4, 2) := dk_25 4 (dk_at dksX0_act_3 0 rfl rfl)
theorem dX0_act_66 : decode cX0_act 66 = .ok (.iload_n 3, 1) := dk_29 (dk_at dksX0_act_3 2 rfl rfl)
theorem dX0_act_67 : decode cX0_act 67 = .ok (.invokevirtual 483, 3) := dk_182 1 227 (dk_at dksX0_act_3 3 rfl rfl)
theorem dX0_act_70 : decode cX0_act 70 = .ok (.ireturn, 1) := dk_172 (dk_at dksX0_act_3 6 rfl rfl)
theorem dX0_act_71 : decode cX0_act 71 = .ok (.aload 4, 2) := dk_25 4 (dk_at dksX0_act_3 7 rfl rfl)
theorem dX0_act_73 : decode cX0_act 73 = .ok (.iload_n 3, 1) := dk_29 (dk_at dksX0_act_3 9 rfl rfl)
theorem dX0_act_74 : decode cX0_act 74 = .ok (.invokevirtual 485, 3) := dk_182 1 229 (dk_at dksX0_act_3 10 rfl rfl)
theorem dX0_act_77 : decode cX0_act 77 = .ok (.ireturn, 1) := dk_172 (dk_at dksX0_act_3 13 rfl rfl)
theorem dX0_act_78 : decode cX0_act 78 = .ok (.aload 4, 2) := dk_25 4 (dk_at dksX0_act_3 14 rfl rfl)
theorem dX0_act_80 : decode cX0_act 80 = .ok (.iload_n 3, 1) := dk_29 (dk_at dksX0_act_3 16 rfl rfl)
theorem dX0_act_81 : decode cX0_act 81 = .ok (.invokevirtual 488, 3) := dk_182 1 232 (dk_at dksX0_act_3 17 rfl rfl)
theorem dX0_act_84 : decode cX0_act 84 = .ok (.ireturn, 1) := dk_172 (dk_at dksX0_act_3 20 rfl rfl)
theorem dX0_act_85 : decode cX0_act 85 = .ok (.aload 4, 2) := dk_25 4 (dk_at dksX0_act_3 21 rfl rfl)
theorem dX0_act_87 : decode cX0_act 87 = .ok (.iload_n 3, 1) := dk_29 (dk_at dksX0_act_3 23 rfl rfl)
theorem dX0_act_88 : decode cX0_act 88 = .ok (.invokevirtual 490, 3) := dk_182 1 234 (dk_at dksX0_act_4 0 rfl rfl)
theorem dX0_act_91 : decode cX0_act 91 = .ok (.ireturn, 1) := dk_172 (dk_at dksX0_act_4 3 rfl rfl)
abbrev cX0_isBody : ByteArray := prog_1_method_74_code
def yX0_isBody : MethodName := ⟨RX0, "isBody", "(I)Z"⟩
def dkwX0_isBody_0 : List UInt8 := [27, 133, 9, 42, 180, 1, 192, 4, 100, 133, 184, 0, 147, 172]
abbrev dktX0_isBody_0 : List UInt8 := dkwX0_isBody_0 ++ []
theorem dksX0_isBody_0 : cX0_isBody.data.toList.drop 0 = dktX0_isBody_0 := by decide +kernel
theorem dX0_isBody_0 : decode cX0_isBody 0 = .ok (.iload_n 1, 1) := dk_27 (dk_at dksX0_isBody_0 0 rfl rfl)
theorem dX0_isBody_1 : decode cX0_isBody 1 = .ok (.i2l, 1) := dk_133 (dk_at dksX0_isBody_0 1 rfl rfl)
theorem dX0_isBody_2 : decode cX0_isBody 2 = .ok (.lconst 0, 1) := dk_9 (dk_at dksX0_isBody_0 2 rfl rfl)
theorem dX0_isBody_3 : decode cX0_isBody 3 = .ok (.aload_n 0, 1) := dk_42 (dk_at dksX0_isBody_0 3 rfl rfl)
theorem dX0_isBody_4 : decode cX0_isBody 4 = .ok (.getfield 448, 3) := dk_180 1 192 (dk_at dksX0_isBody_0 4 rfl rfl)
theorem dX0_isBody_7 : decode cX0_isBody 7 = .ok (.iconst 1, 1) := dk_4 (dk_at dksX0_isBody_0 7 rfl rfl)
theorem dX0_isBody_8 : decode cX0_isBody 8 = .ok (.isub, 1) := dk_100 (dk_at dksX0_isBody_0 8 rfl rfl)
theorem dX0_isBody_9 : decode cX0_isBody 9 = .ok (.i2l, 1) := dk_133 (dk_at dksX0_isBody_0 9 rfl rfl)
theorem dX0_isBody_10 : decode cX0_isBody 10 = .ok (.invokestatic 147, 3) := dk_184 0 147 (dk_at dksX0_isBody_0 10 rfl rfl)
theorem dX0_isBody_13 : decode cX0_isBody 13 = .ok (.ireturn, 1) := dk_172 (dk_at dksX0_isBody_0 13 rfl rfl)
abbrev cX0_trace : ByteArray := prog_1_method_78_code
def yX0_trace : MethodName := ⟨RX0, "trace", "(I)I"⟩
def dkwX0_trace_1 : List UInt8 := [180, 0, 136, 27, 46, 167, 0, 4, 2, 172]
abbrev dktX0_trace_1 : List UInt8 := dkwX0_trace_1 ++ []
def dkwX0_trace_0 : List UInt8 := [27, 133, 9, 42, 180, 1, 221, 16, 24, 184, 1, 77, 4, 100, 133, 184, 0, 147, 153, 0, 12, 42]
abbrev dktX0_trace_0 : List UInt8 := dkwX0_trace_0 ++ dktX0_trace_1
theorem dksX0_trace_0 : cX0_trace.data.toList.drop 0 = dktX0_trace_0 := by decide +kernel
theorem dksX0_trace_1 : cX0_trace.data.toList.drop 22 = dktX0_trace_1 := dk_seg dksX0_trace_0 22 rfl rfl
theorem dX0_trace_0 : decode cX0_trace 0 = .ok (.iload_n 1, 1) := dk_27 (dk_at dksX0_trace_0 0 rfl rfl)
theorem dX0_trace_1 : decode cX0_trace 1 = .ok (.i2l, 1) := dk_133 (dk_at dksX0_trace_0 1 rfl rfl)
theorem dX0_trace_2 : decode cX0_trace 2 = .ok (.lconst 0, 1) := dk_9 (dk_at dksX0_trace_0 2 rfl rfl)
theorem dX0_trace_3 : decode cX0_trace 3 = .ok (.aload_n 0, 1) := dk_42 (dk_at dksX0_trace_0 3 rfl rfl)
theorem dX0_trace_4 : decode cX0_trace 4 = .ok (.getfield 477, 3) := dk_180 1 221 (dk_at dksX0_trace_0 4 rfl rfl)
theorem dX0_trace_7 : decode cX0_trace 7 = .ok (.bipush 24, 2) := dk_16 24 (dk_at dksX0_trace_0 7 rfl rfl)
theorem dX0_trace_9 : decode cX0_trace 9 = .ok (.invokestatic 333, 3) := dk_184 1 77 (dk_at dksX0_trace_0 9 rfl rfl)
theorem dX0_trace_12 : decode cX0_trace 12 = .ok (.iconst 1, 1) := dk_4 (dk_at dksX0_trace_0 12 rfl rfl)
theorem dX0_trace_13 : decode cX0_trace 13 = .ok (.isub, 1) := dk_100 (dk_at dksX0_trace_0 13 rfl rfl)
theorem dX0_trace_14 : decode cX0_trace 14 = .ok (.i2l, 1) := dk_133 (dk_at dksX0_trace_0 14 rfl rfl)
theorem dX0_trace_15 : decode cX0_trace 15 = .ok (.invokestatic 147, 3) := dk_184 0 147 (dk_at dksX0_trace_0 15 rfl rfl)
theorem dX0_trace_18 : decode cX0_trace 18 = .ok (.ifCond .eq 12, 3) := dk_153 0 12 (dk_at dksX0_trace_0 18 rfl rfl)
theorem dX0_trace_21 : decode cX0_trace 21 = .ok (.aload_n 0, 1) := dk_42 (dk_at dksX0_trace_0 21 rfl rfl)
theorem dX0_trace_22 : decode cX0_trace 22 = .ok (.getfield 136, 3) := dk_180 0 136 (dk_at dksX0_trace_1 0 rfl rfl)
theorem dX0_trace_25 : decode cX0_trace 25 = .ok (.iload_n 1, 1) := dk_27 (dk_at dksX0_trace_1 3 rfl rfl)
theorem dX0_trace_26 : decode cX0_trace 26 = .ok (.iaload, 1) := dk_46 (dk_at dksX0_trace_1 4 rfl rfl)
theorem dX0_trace_27 : decode cX0_trace 27 = .ok (.goto 4, 3) := dk_167 0 4 (dk_at dksX0_trace_1 5 rfl rfl)
theorem dX0_trace_30 : decode cX0_trace 30 = .ok (.iconst (-1), 1) := dk_2 (dk_at dksX0_trace_1 8 rfl rfl)
theorem dX0_trace_31 : decode cX0_trace 31 = .ok (.ireturn, 1) := dk_172 (dk_at dksX0_trace_1 9 rfl rfl)
abbrev cX0_keep : ByteArray := prog_1_method_80_code
def yX0_keep : MethodName := ⟨RX0, "keep", "(II)I"⟩
def dkwX0_keep_1 : List UInt8 := [180, 0, 139, 27, 28, 2, 160, 0, 7, 1, 167, 0, 9, 42, 180, 0, 132, 28, 50, 83, 4, 172]
abbrev dktX0_keep_1 : List UInt8 := dkwX0_keep_1 ++ []
def dkwX0_keep_0 : List UInt8 := [27, 184, 0, 194, 153, 0, 16, 28, 2, 159, 0, 13, 42, 28, 182, 1, 224, 154, 0, 5, 2, 172, 42]
abbrev dktX0_keep_0 : List UInt8 := dkwX0_keep_0 ++ dktX0_keep_1
theorem dksX0_keep_0 : cX0_keep.data.toList.drop 0 = dktX0_keep_0 := by decide +kernel
theorem dksX0_keep_1 : cX0_keep.data.toList.drop 23 = dktX0_keep_1 := dk_seg dksX0_keep_0 23 rfl rfl
theorem dX0_keep_0 : decode cX0_keep 0 = .ok (.iload_n 1, 1) := dk_27 (dk_at dksX0_keep_0 0 rfl rfl)
theorem dX0_keep_1 : decode cX0_keep 1 = .ok (.invokestatic 194, 3) := dk_184 0 194 (dk_at dksX0_keep_0 1 rfl rfl)
theorem dX0_keep_4 : decode cX0_keep 4 = .ok (.ifCond .eq 16, 3) := dk_153 0 16 (dk_at dksX0_keep_0 4 rfl rfl)
theorem dX0_keep_7 : decode cX0_keep 7 = .ok (.iload_n 2, 1) := dk_28 (dk_at dksX0_keep_0 7 rfl rfl)
theorem dX0_keep_8 : decode cX0_keep 8 = .ok (.iconst (-1), 1) := dk_2 (dk_at dksX0_keep_0 8 rfl rfl)
theorem dX0_keep_9 : decode cX0_keep 9 = .ok (.if_icmp .eq 13, 3) := dk_159 0 13 (dk_at dksX0_keep_0 9 rfl rfl)
theorem dX0_keep_12 : decode cX0_keep 12 = .ok (.aload_n 0, 1) := dk_42 (dk_at dksX0_keep_0 12 rfl rfl)
theorem dX0_keep_13 : decode cX0_keep 13 = .ok (.iload_n 2, 1) := dk_28 (dk_at dksX0_keep_0 13 rfl rfl)
theorem dX0_keep_14 : decode cX0_keep 14 = .ok (.invokevirtual 480, 3) := dk_182 1 224 (dk_at dksX0_keep_0 14 rfl rfl)
theorem dX0_keep_17 : decode cX0_keep 17 = .ok (.ifCond .ne 5, 3) := dk_154 0 5 (dk_at dksX0_keep_0 17 rfl rfl)
theorem dX0_keep_20 : decode cX0_keep 20 = .ok (.iconst (-1), 1) := dk_2 (dk_at dksX0_keep_0 20 rfl rfl)
theorem dX0_keep_21 : decode cX0_keep 21 = .ok (.ireturn, 1) := dk_172 (dk_at dksX0_keep_0 21 rfl rfl)
theorem dX0_keep_22 : decode cX0_keep 22 = .ok (.aload_n 0, 1) := dk_42 (dk_at dksX0_keep_0 22 rfl rfl)
theorem dX0_keep_23 : decode cX0_keep 23 = .ok (.getfield 139, 3) := dk_180 0 139 (dk_at dksX0_keep_1 0 rfl rfl)
theorem dX0_keep_26 : decode cX0_keep 26 = .ok (.iload_n 1, 1) := dk_27 (dk_at dksX0_keep_1 3 rfl rfl)
theorem dX0_keep_27 : decode cX0_keep 27 = .ok (.iload_n 2, 1) := dk_28 (dk_at dksX0_keep_1 4 rfl rfl)
theorem dX0_keep_28 : decode cX0_keep 28 = .ok (.iconst (-1), 1) := dk_2 (dk_at dksX0_keep_1 5 rfl rfl)
theorem dX0_keep_29 : decode cX0_keep 29 = .ok (.if_icmp .ne 7, 3) := dk_160 0 7 (dk_at dksX0_keep_1 6 rfl rfl)
theorem dX0_keep_32 : decode cX0_keep 32 = .ok (.aconst_null, 1) := dk_1 (dk_at dksX0_keep_1 9 rfl rfl)
theorem dX0_keep_33 : decode cX0_keep 33 = .ok (.goto 9, 3) := dk_167 0 9 (dk_at dksX0_keep_1 10 rfl rfl)
theorem dX0_keep_36 : decode cX0_keep 36 = .ok (.aload_n 0, 1) := dk_42 (dk_at dksX0_keep_1 13 rfl rfl)
theorem dX0_keep_37 : decode cX0_keep 37 = .ok (.getfield 132, 3) := dk_180 0 132 (dk_at dksX0_keep_1 14 rfl rfl)
theorem dX0_keep_40 : decode cX0_keep 40 = .ok (.iload_n 2, 1) := dk_28 (dk_at dksX0_keep_1 17 rfl rfl)
theorem dX0_keep_41 : decode cX0_keep 41 = .ok (.aaload, 1) := dk_50 (dk_at dksX0_keep_1 18 rfl rfl)
theorem dX0_keep_42 : decode cX0_keep 42 = .ok (.aastore, 1) := dk_83 (dk_at dksX0_keep_1 19 rfl rfl)
theorem dX0_keep_43 : decode cX0_keep 43 = .ok (.iconst 1, 1) := dk_4 (dk_at dksX0_keep_1 20 rfl rfl)
theorem dX0_keep_44 : decode cX0_keep 44 = .ok (.ireturn, 1) := dk_172 (dk_at dksX0_keep_1 21 rfl rfl)
abbrev cX0_row : ByteArray := prog_1_method_81_code
def yX0_row : MethodName := ⟨RX0, "row", "(III)I"⟩
def dkwX0_row_5 : List UInt8 := [42, 180, 0, 139, 27, 29, 188, 4, 83, 4, 172]
abbrev dktX0_row_5 : List UInt8 := dkwX0_row_5 ++ []
def dkwX0_row_4 : List UInt8 := [42, 180, 0, 139, 27, 29, 188, 10, 83, 167, 0, 24, 42, 180, 0, 139, 27, 29, 188, 11, 83, 167, 0, 12]
abbrev dktX0_row_4 : List UInt8 := dkwX0_row_4 ++ dktX0_row_5
def dkwX0_row_3 : List UInt8 := [42, 180, 0, 139, 27, 29, 188, 8, 83, 167, 0, 48, 42, 180, 0, 139, 27, 29, 188, 9, 83, 167, 0, 36]
abbrev dktX0_row_3 : List UInt8 := dkwX0_row_3 ++ dktX0_row_4
def dkwX0_row_2 : List UInt8 := [170, 0, 0, 0, 77, 0, 0, 0, 0, 0, 0, 0, 3, 0, 0, 0, 29, 0, 0, 0, 41, 0, 0, 0, 53, 0, 0, 0, 65]
abbrev dktX0_row_2 : List UInt8 := dkwX0_row_2 ++ dktX0_row_3
def dkwX0_row_1 : List UInt8 := [164, 0, 5, 2, 172, 29, 156, 0, 6, 16, 242, 172, 28]
abbrev dktX0_row_1 : List UInt8 := dkwX0_row_1 ++ dktX0_row_2
def dkwX0_row_0 : List UInt8 := [27, 184, 0, 194, 153, 0, 21, 28, 133, 9, 20, 1, 237, 184, 0, 147, 153, 0, 9, 29, 16, 60]
abbrev dktX0_row_0 : List UInt8 := dkwX0_row_0 ++ dktX0_row_1
theorem dksX0_row_0 : cX0_row.data.toList.drop 0 = dktX0_row_0 := by decide +kernel
theorem dksX0_row_1 : cX0_row.data.toList.drop 22 = dktX0_row_1 := dk_seg dksX0_row_0 22 rfl rfl
theorem dksX0_row_2 : cX0_row.data.toList.drop 35 = dktX0_row_2 := dk_seg dksX0_row_1 13 rfl rfl
theorem dksX0_row_3 : cX0_row.data.toList.drop 64 = dktX0_row_3 := dk_seg dksX0_row_2 29 rfl rfl
theorem dksX0_row_4 : cX0_row.data.toList.drop 88 = dktX0_row_4 := dk_seg dksX0_row_3 24 rfl rfl
theorem dksX0_row_5 : cX0_row.data.toList.drop 112 = dktX0_row_5 := dk_seg dksX0_row_4 24 rfl rfl
theorem dX0_row_0 : decode cX0_row 0 = .ok (.iload_n 1, 1) := dk_27 (dk_at dksX0_row_0 0 rfl rfl)
theorem dX0_row_1 : decode cX0_row 1 = .ok (.invokestatic 194, 3) := dk_184 0 194 (dk_at dksX0_row_0 1 rfl rfl)
theorem dX0_row_4 : decode cX0_row 4 = .ok (.ifCond .eq 21, 3) := dk_153 0 21 (dk_at dksX0_row_0 4 rfl rfl)
theorem dX0_row_7 : decode cX0_row 7 = .ok (.iload_n 2, 1) := dk_28 (dk_at dksX0_row_0 7 rfl rfl)
theorem dX0_row_8 : decode cX0_row 8 = .ok (.i2l, 1) := dk_133 (dk_at dksX0_row_0 8 rfl rfl)
theorem dX0_row_9 : decode cX0_row 9 = .ok (.lconst 0, 1) := dk_9 (dk_at dksX0_row_0 9 rfl rfl)
theorem dX0_row_10 : decode cX0_row 10 = .ok (.ldc2_w 493, 3) := dk_20 1 237 (dk_at dksX0_row_0 10 rfl rfl)
theorem dX0_row_13 : decode cX0_row 13 = .ok (.invokestatic 147, 3) := dk_184 0 147 (dk_at dksX0_row_0 13 rfl rfl)
theorem dX0_row_16 : decode cX0_row 16 = .ok (.ifCond .eq 9, 3) := dk_153 0 9 (dk_at dksX0_row_0 16 rfl rfl)
theorem dX0_row_19 : decode cX0_row 19 = .ok (.iload_n 3, 1) := dk_29 (dk_at dksX0_row_0 19 rfl rfl)
theorem dX0_row_20 : decode cX0_row 20 = .ok (.bipush 60, 2) := dk_16 60 (dk_at dksX0_row_0 20 rfl rfl)
theorem dX0_row_22 : decode cX0_row 22 = .ok (.if_icmp .le 5, 3) := dk_164 0 5 (dk_at dksX0_row_1 0 rfl rfl)
theorem dX0_row_25 : decode cX0_row 25 = .ok (.iconst (-1), 1) := dk_2 (dk_at dksX0_row_1 3 rfl rfl)
theorem dX0_row_26 : decode cX0_row 26 = .ok (.ireturn, 1) := dk_172 (dk_at dksX0_row_1 4 rfl rfl)
theorem dX0_row_27 : decode cX0_row 27 = .ok (.iload_n 3, 1) := dk_29 (dk_at dksX0_row_1 5 rfl rfl)
theorem dX0_row_28 : decode cX0_row 28 = .ok (.ifCond .ge 6, 3) := dk_156 0 6 (dk_at dksX0_row_1 6 rfl rfl)
theorem dX0_row_31 : decode cX0_row 31 = .ok (.bipush (-14), 2) := dk_16 242 (dk_at dksX0_row_1 9 rfl rfl)
theorem dX0_row_33 : decode cX0_row 33 = .ok (.ireturn, 1) := dk_172 (dk_at dksX0_row_1 11 rfl rfl)
theorem dX0_row_34 : decode cX0_row 34 = .ok (.iload_n 2, 1) := dk_28 (dk_at dksX0_row_1 12 rfl rfl)
theorem dX0_row_35 : decode cX0_row 35 = .ok (.tableswitch 77 0 3 #[29, 41, 53, 65], 29) := by decide +kernel
theorem dX0_row_64 : decode cX0_row 64 = .ok (.aload_n 0, 1) := dk_42 (dk_at dksX0_row_3 0 rfl rfl)
theorem dX0_row_65 : decode cX0_row 65 = .ok (.getfield 139, 3) := dk_180 0 139 (dk_at dksX0_row_3 1 rfl rfl)
theorem dX0_row_68 : decode cX0_row 68 = .ok (.iload_n 1, 1) := dk_27 (dk_at dksX0_row_3 4 rfl rfl)
theorem dX0_row_69 : decode cX0_row 69 = .ok (.iload_n 3, 1) := dk_29 (dk_at dksX0_row_3 5 rfl rfl)
theorem dX0_row_70 : decode cX0_row 70 = .ok (.newarray .byte, 2) := dk_188_8 (dk_at dksX0_row_3 6 rfl rfl)
theorem dX0_row_72 : decode cX0_row 72 = .ok (.aastore, 1) := dk_83 (dk_at dksX0_row_3 8 rfl rfl)
theorem dX0_row_73 : decode cX0_row 73 = .ok (.goto 48, 3) := dk_167 0 48 (dk_at dksX0_row_3 9 rfl rfl)
theorem dX0_row_76 : decode cX0_row 76 = .ok (.aload_n 0, 1) := dk_42 (dk_at dksX0_row_3 12 rfl rfl)
theorem dX0_row_77 : decode cX0_row 77 = .ok (.getfield 139, 3) := dk_180 0 139 (dk_at dksX0_row_3 13 rfl rfl)
theorem dX0_row_80 : decode cX0_row 80 = .ok (.iload_n 1, 1) := dk_27 (dk_at dksX0_row_3 16 rfl rfl)
theorem dX0_row_81 : decode cX0_row 81 = .ok (.iload_n 3, 1) := dk_29 (dk_at dksX0_row_3 17 rfl rfl)
theorem dX0_row_82 : decode cX0_row 82 = .ok (.newarray .short, 2) := dk_188_9 (dk_at dksX0_row_3 18 rfl rfl)
theorem dX0_row_84 : decode cX0_row 84 = .ok (.aastore, 1) := dk_83 (dk_at dksX0_row_3 20 rfl rfl)
theorem dX0_row_85 : decode cX0_row 85 = .ok (.goto 36, 3) := dk_167 0 36 (dk_at dksX0_row_3 21 rfl rfl)
theorem dX0_row_88 : decode cX0_row 88 = .ok (.aload_n 0, 1) := dk_42 (dk_at dksX0_row_4 0 rfl rfl)
theorem dX0_row_89 : decode cX0_row 89 = .ok (.getfield 139, 3) := dk_180 0 139 (dk_at dksX0_row_4 1 rfl rfl)
theorem dX0_row_92 : decode cX0_row 92 = .ok (.iload_n 1, 1) := dk_27 (dk_at dksX0_row_4 4 rfl rfl)
theorem dX0_row_93 : decode cX0_row 93 = .ok (.iload_n 3, 1) := dk_29 (dk_at dksX0_row_4 5 rfl rfl)
theorem dX0_row_94 : decode cX0_row 94 = .ok (.newarray .int, 2) := dk_188_10 (dk_at dksX0_row_4 6 rfl rfl)
theorem dX0_row_96 : decode cX0_row 96 = .ok (.aastore, 1) := dk_83 (dk_at dksX0_row_4 8 rfl rfl)
theorem dX0_row_97 : decode cX0_row 97 = .ok (.goto 24, 3) := dk_167 0 24 (dk_at dksX0_row_4 9 rfl rfl)
theorem dX0_row_100 : decode cX0_row 100 = .ok (.aload_n 0, 1) := dk_42 (dk_at dksX0_row_4 12 rfl rfl)
theorem dX0_row_101 : decode cX0_row 101 = .ok (.getfield 139, 3) := dk_180 0 139 (dk_at dksX0_row_4 13 rfl rfl)
theorem dX0_row_104 : decode cX0_row 104 = .ok (.iload_n 1, 1) := dk_27 (dk_at dksX0_row_4 16 rfl rfl)
theorem dX0_row_105 : decode cX0_row 105 = .ok (.iload_n 3, 1) := dk_29 (dk_at dksX0_row_4 17 rfl rfl)
theorem dX0_row_106 : decode cX0_row 106 = .ok (.newarray .long, 2) := dk_188_11 (dk_at dksX0_row_4 18 rfl rfl)
theorem dX0_row_108 : decode cX0_row 108 = .ok (.aastore, 1) := dk_83 (dk_at dksX0_row_4 20 rfl rfl)
theorem dX0_row_109 : decode cX0_row 109 = .ok (.goto 12, 3) := dk_167 0 12 (dk_at dksX0_row_4 21 rfl rfl)
theorem dX0_row_112 : decode cX0_row 112 = .ok (.aload_n 0, 1) := dk_42 (dk_at dksX0_row_5 0 rfl rfl)
theorem dX0_row_113 : decode cX0_row 113 = .ok (.getfield 139, 3) := dk_180 0 139 (dk_at dksX0_row_5 1 rfl rfl)
theorem dX0_row_116 : decode cX0_row 116 = .ok (.iload_n 1, 1) := dk_27 (dk_at dksX0_row_5 4 rfl rfl)
theorem dX0_row_117 : decode cX0_row 117 = .ok (.iload_n 3, 1) := dk_29 (dk_at dksX0_row_5 5 rfl rfl)
theorem dX0_row_118 : decode cX0_row 118 = .ok (.newarray .boolean, 2) := dk_188_4 (dk_at dksX0_row_5 6 rfl rfl)
theorem dX0_row_120 : decode cX0_row 120 = .ok (.aastore, 1) := dk_83 (dk_at dksX0_row_5 8 rfl rfl)
theorem dX0_row_121 : decode cX0_row 121 = .ok (.iconst 1, 1) := dk_4 (dk_at dksX0_row_5 9 rfl rfl)
theorem dX0_row_122 : decode cX0_row 122 = .ok (.ireturn, 1) := dk_172 (dk_at dksX0_row_5 10 rfl rfl)
abbrev cX0_put : ByteArray := prog_1_method_85_code
def yX0_put : MethodName := ⟨RX0, "put", "(IIJ)I"⟩
def dkwX0_put_5 : List UInt8 := [167, 0, 21, 25, 6, 192, 1, 244, 28, 33, 9, 148, 153, 0, 7, 4, 167, 0, 4, 3, 84, 4, 172]
abbrev dktX0_put_5 : List UInt8 := dkwX0_put_5 ++ []
def dkwX0_put_4 : List UInt8 := [167, 0, 44, 25, 6, 192, 1, 241, 28, 33, 136, 79, 167, 0, 32, 25, 6, 192, 1, 242, 28, 33, 80]
abbrev dktX0_put_4 : List UInt8 := dkwX0_put_4 ++ dktX0_put_5
def dkwX0_put_3 : List UInt8 := [25, 6, 192, 0, 192, 28, 33, 136, 145, 84, 167, 0, 57, 25, 6, 192, 1, 239, 28, 33, 136, 147, 86]
abbrev dktX0_put_3 : List UInt8 := dkwX0_put_3 ++ dktX0_put_4
def dkwX0_put_2 : List UInt8 := [170, 0, 0, 0, 0, 0, 80, 0, 0, 0, 0, 0, 0, 0, 3, 0, 0, 0, 31, 0, 0, 0, 44, 0, 0, 0, 57, 0, 0, 0, 69]
abbrev dktX0_put_2 : List UInt8 := dkwX0_put_2 ++ dktX0_put_3
def dkwX0_put_1 : List UInt8 := [25, 6, 184, 0, 199]
abbrev dktX0_put_1 : List UInt8 := dkwX0_put_1 ++ dktX0_put_2
def dkwX0_put_0 : List UInt8 := [42, 27, 28, 182, 1, 249, 54, 5, 21, 5, 153, 0, 6, 21, 5, 172, 42, 180, 0, 139, 27, 50, 58, 6]
abbrev dktX0_put_0 : List UInt8 := dkwX0_put_0 ++ dktX0_put_1
theorem dksX0_put_0 : cX0_put.data.toList.drop 0 = dktX0_put_0 := by decide +kernel
theorem dksX0_put_1 : cX0_put.data.toList.drop 24 = dktX0_put_1 := dk_seg dksX0_put_0 24 rfl rfl
theorem dksX0_put_2 : cX0_put.data.toList.drop 29 = dktX0_put_2 := dk_seg dksX0_put_1 5 rfl rfl
theorem dksX0_put_3 : cX0_put.data.toList.drop 60 = dktX0_put_3 := dk_seg dksX0_put_2 31 rfl rfl
theorem dksX0_put_4 : cX0_put.data.toList.drop 83 = dktX0_put_4 := dk_seg dksX0_put_3 23 rfl rfl
theorem dksX0_put_5 : cX0_put.data.toList.drop 106 = dktX0_put_5 := dk_seg dksX0_put_4 23 rfl rfl
theorem dX0_put_0 : decode cX0_put 0 = .ok (.aload_n 0, 1) := dk_42 (dk_at dksX0_put_0 0 rfl rfl)
theorem dX0_put_1 : decode cX0_put 1 = .ok (.iload_n 1, 1) := dk_27 (dk_at dksX0_put_0 1 rfl rfl)
theorem dX0_put_2 : decode cX0_put 2 = .ok (.iload_n 2, 1) := dk_28 (dk_at dksX0_put_0 2 rfl rfl)
theorem dX0_put_3 : decode cX0_put 3 = .ok (.invokevirtual 505, 3) := dk_182 1 249 (dk_at dksX0_put_0 3 rfl rfl)
theorem dX0_put_6 : decode cX0_put 6 = .ok (.istore 5, 2) := dk_54 5 (dk_at dksX0_put_0 6 rfl rfl)
theorem dX0_put_8 : decode cX0_put 8 = .ok (.iload 5, 2) := dk_21 5 (dk_at dksX0_put_0 8 rfl rfl)
theorem dX0_put_10 : decode cX0_put 10 = .ok (.ifCond .eq 6, 3) := dk_153 0 6 (dk_at dksX0_put_0 10 rfl rfl)
theorem dX0_put_13 : decode cX0_put 13 = .ok (.iload 5, 2) := dk_21 5 (dk_at dksX0_put_0 13 rfl rfl)
theorem dX0_put_15 : decode cX0_put 15 = .ok (.ireturn, 1) := dk_172 (dk_at dksX0_put_0 15 rfl rfl)
theorem dX0_put_16 : decode cX0_put 16 = .ok (.aload_n 0, 1) := dk_42 (dk_at dksX0_put_0 16 rfl rfl)
theorem dX0_put_17 : decode cX0_put 17 = .ok (.getfield 139, 3) := dk_180 0 139 (dk_at dksX0_put_0 17 rfl rfl)
theorem dX0_put_20 : decode cX0_put 20 = .ok (.iload_n 1, 1) := dk_27 (dk_at dksX0_put_0 20 rfl rfl)
theorem dX0_put_21 : decode cX0_put 21 = .ok (.aaload, 1) := dk_50 (dk_at dksX0_put_0 21 rfl rfl)
theorem dX0_put_22 : decode cX0_put 22 = .ok (.astore 6, 2) := dk_58 6 (dk_at dksX0_put_0 22 rfl rfl)
theorem dX0_put_24 : decode cX0_put 24 = .ok (.aload 6, 2) := dk_25 6 (dk_at dksX0_put_1 0 rfl rfl)
theorem dX0_put_26 : decode cX0_put 26 = .ok (.invokestatic 199, 3) := dk_184 0 199 (dk_at dksX0_put_1 2 rfl rfl)
theorem dX0_put_29 : decode cX0_put 29 = .ok (.tableswitch 80 0 3 #[31, 44, 57, 69], 31) := by decide +kernel
theorem dX0_put_60 : decode cX0_put 60 = .ok (.aload 6, 2) := dk_25 6 (dk_at dksX0_put_3 0 rfl rfl)
theorem dX0_put_62 : decode cX0_put 62 = .ok (.checkcast 192, 3) := dk_192 0 192 (dk_at dksX0_put_3 2 rfl rfl)
theorem dX0_put_65 : decode cX0_put 65 = .ok (.iload_n 2, 1) := dk_28 (dk_at dksX0_put_3 5 rfl rfl)
theorem dX0_put_66 : decode cX0_put 66 = .ok (.lload_n 3, 1) := dk_33 (dk_at dksX0_put_3 6 rfl rfl)
theorem dX0_put_67 : decode cX0_put 67 = .ok (.l2i, 1) := dk_136 (dk_at dksX0_put_3 7 rfl rfl)
theorem dX0_put_68 : decode cX0_put 68 = .ok (.i2b, 1) := dk_145 (dk_at dksX0_put_3 8 rfl rfl)
theorem dX0_put_69 : decode cX0_put 69 = .ok (.bastore, 1) := dk_84 (dk_at dksX0_put_3 9 rfl rfl)
theorem dX0_put_70 : decode cX0_put 70 = .ok (.goto 57, 3) := dk_167 0 57 (dk_at dksX0_put_3 10 rfl rfl)
theorem dX0_put_73 : decode cX0_put 73 = .ok (.aload 6, 2) := dk_25 6 (dk_at dksX0_put_3 13 rfl rfl)
theorem dX0_put_75 : decode cX0_put 75 = .ok (.checkcast 495, 3) := dk_192 1 239 (dk_at dksX0_put_3 15 rfl rfl)
theorem dX0_put_78 : decode cX0_put 78 = .ok (.iload_n 2, 1) := dk_28 (dk_at dksX0_put_3 18 rfl rfl)
theorem dX0_put_79 : decode cX0_put 79 = .ok (.lload_n 3, 1) := dk_33 (dk_at dksX0_put_3 19 rfl rfl)
theorem dX0_put_80 : decode cX0_put 80 = .ok (.l2i, 1) := dk_136 (dk_at dksX0_put_3 20 rfl rfl)
theorem dX0_put_81 : decode cX0_put 81 = .ok (.i2s, 1) := dk_147 (dk_at dksX0_put_3 21 rfl rfl)
theorem dX0_put_82 : decode cX0_put 82 = .ok (.sastore, 1) := dk_86 (dk_at dksX0_put_3 22 rfl rfl)
theorem dX0_put_83 : decode cX0_put 83 = .ok (.goto 44, 3) := dk_167 0 44 (dk_at dksX0_put_4 0 rfl rfl)
theorem dX0_put_86 : decode cX0_put 86 = .ok (.aload 6, 2) := dk_25 6 (dk_at dksX0_put_4 3 rfl rfl)
theorem dX0_put_88 : decode cX0_put 88 = .ok (.checkcast 497, 3) := dk_192 1 241 (dk_at dksX0_put_4 5 rfl rfl)
theorem dX0_put_91 : decode cX0_put 91 = .ok (.iload_n 2, 1) := dk_28 (dk_at dksX0_put_4 8 rfl rfl)
theorem dX0_put_92 : decode cX0_put 92 = .ok (.lload_n 3, 1) := dk_33 (dk_at dksX0_put_4 9 rfl rfl)
theorem dX0_put_93 : decode cX0_put 93 = .ok (.l2i, 1) := dk_136 (dk_at dksX0_put_4 10 rfl rfl)
theorem dX0_put_94 : decode cX0_put 94 = .ok (.iastore, 1) := dk_79 (dk_at dksX0_put_4 11 rfl rfl)
theorem dX0_put_95 : decode cX0_put 95 = .ok (.goto 32, 3) := dk_167 0 32 (dk_at dksX0_put_4 12 rfl rfl)
theorem dX0_put_98 : decode cX0_put 98 = .ok (.aload 6, 2) := dk_25 6 (dk_at dksX0_put_4 15 rfl rfl)
theorem dX0_put_100 : decode cX0_put 100 = .ok (.checkcast 498, 3) := dk_192 1 242 (dk_at dksX0_put_4 17 rfl rfl)
theorem dX0_put_103 : decode cX0_put 103 = .ok (.iload_n 2, 1) := dk_28 (dk_at dksX0_put_4 20 rfl rfl)
theorem dX0_put_104 : decode cX0_put 104 = .ok (.lload_n 3, 1) := dk_33 (dk_at dksX0_put_4 21 rfl rfl)
theorem dX0_put_105 : decode cX0_put 105 = .ok (.lastore, 1) := dk_80 (dk_at dksX0_put_4 22 rfl rfl)
theorem dX0_put_106 : decode cX0_put 106 = .ok (.goto 21, 3) := dk_167 0 21 (dk_at dksX0_put_5 0 rfl rfl)
theorem dX0_put_109 : decode cX0_put 109 = .ok (.aload 6, 2) := dk_25 6 (dk_at dksX0_put_5 3 rfl rfl)
theorem dX0_put_111 : decode cX0_put 111 = .ok (.checkcast 500, 3) := dk_192 1 244 (dk_at dksX0_put_5 5 rfl rfl)
theorem dX0_put_114 : decode cX0_put 114 = .ok (.iload_n 2, 1) := dk_28 (dk_at dksX0_put_5 8 rfl rfl)
theorem dX0_put_115 : decode cX0_put 115 = .ok (.lload_n 3, 1) := dk_33 (dk_at dksX0_put_5 9 rfl rfl)
theorem dX0_put_116 : decode cX0_put 116 = .ok (.lconst 0, 1) := dk_9 (dk_at dksX0_put_5 10 rfl rfl)
theorem dX0_put_117 : decode cX0_put 117 = .ok (.lcmp, 1) := dk_148 (dk_at dksX0_put_5 11 rfl rfl)
theorem dX0_put_118 : decode cX0_put 118 = .ok (.ifCond .eq 7, 3) := dk_153 0 7 (dk_at dksX0_put_5 12 rfl rfl)
theorem dX0_put_121 : decode cX0_put 121 = .ok (.iconst 1, 1) := dk_4 (dk_at dksX0_put_5 15 rfl rfl)
theorem dX0_put_122 : decode cX0_put 122 = .ok (.goto 4, 3) := dk_167 0 4 (dk_at dksX0_put_5 16 rfl rfl)
theorem dX0_put_125 : decode cX0_put 125 = .ok (.iconst 0, 1) := dk_3 (dk_at dksX0_put_5 19 rfl rfl)
theorem dX0_put_126 : decode cX0_put 126 = .ok (.bastore, 1) := dk_84 (dk_at dksX0_put_5 20 rfl rfl)
theorem dX0_put_127 : decode cX0_put 127 = .ok (.iconst 1, 1) := dk_4 (dk_at dksX0_put_5 21 rfl rfl)
theorem dX0_put_128 : decode cX0_put 128 = .ok (.ireturn, 1) := dk_172 (dk_at dksX0_put_5 22 rfl rfl)
abbrev cX0_refusal : ByteArray := prog_1_method_84_code
def yX0_refusal : MethodName := ⟨RX0, "refusal", "(II)I"⟩
def dkwX0_refusal_2 : List UInt8 := [153, 0, 7, 3, 167, 0, 5, 16, 243, 172]
abbrev dktX0_refusal_2 : List UInt8 := dkwX0_refusal_2 ++ []
def dkwX0_refusal_1 : List UInt8 := [184, 0, 199, 2, 160, 0, 6, 16, 244, 172, 28, 133, 9, 45, 184, 1, 246, 4, 100, 133, 184, 0, 147]
abbrev dktX0_refusal_1 : List UInt8 := dkwX0_refusal_1 ++ dktX0_refusal_2
def dkwX0_refusal_0 : List UInt8 := [27, 184, 0, 194, 154, 0, 5, 2, 172, 42, 180, 0, 139, 27, 50, 78, 45, 199, 0, 6, 16, 245, 172, 45]
abbrev dktX0_refusal_0 : List UInt8 := dkwX0_refusal_0 ++ dktX0_refusal_1
theorem dksX0_refusal_0 : cX0_refusal.data.toList.drop 0 = dktX0_refusal_0 := by decide +kernel
theorem dksX0_refusal_1 : cX0_refusal.data.toList.drop 24 = dktX0_refusal_1 := dk_seg dksX0_refusal_0 24 rfl rfl
theorem dksX0_refusal_2 : cX0_refusal.data.toList.drop 47 = dktX0_refusal_2 := dk_seg dksX0_refusal_1 23 rfl rfl
theorem dX0_refusal_0 : decode cX0_refusal 0 = .ok (.iload_n 1, 1) := dk_27 (dk_at dksX0_refusal_0 0 rfl rfl)
theorem dX0_refusal_1 : decode cX0_refusal 1 = .ok (.invokestatic 194, 3) := dk_184 0 194 (dk_at dksX0_refusal_0 1 rfl rfl)
theorem dX0_refusal_4 : decode cX0_refusal 4 = .ok (.ifCond .ne 5, 3) := dk_154 0 5 (dk_at dksX0_refusal_0 4 rfl rfl)
theorem dX0_refusal_7 : decode cX0_refusal 7 = .ok (.iconst (-1), 1) := dk_2 (dk_at dksX0_refusal_0 7 rfl rfl)
theorem dX0_refusal_8 : decode cX0_refusal 8 = .ok (.ireturn, 1) := dk_172 (dk_at dksX0_refusal_0 8 rfl rfl)
theorem dX0_refusal_9 : decode cX0_refusal 9 = .ok (.aload_n 0, 1) := dk_42 (dk_at dksX0_refusal_0 9 rfl rfl)
theorem dX0_refusal_10 : decode cX0_refusal 10 = .ok (.getfield 139, 3) := dk_180 0 139 (dk_at dksX0_refusal_0 10 rfl rfl)
theorem dX0_refusal_13 : decode cX0_refusal 13 = .ok (.iload_n 1, 1) := dk_27 (dk_at dksX0_refusal_0 13 rfl rfl)
theorem dX0_refusal_14 : decode cX0_refusal 14 = .ok (.aaload, 1) := dk_50 (dk_at dksX0_refusal_0 14 rfl rfl)
theorem dX0_refusal_15 : decode cX0_refusal 15 = .ok (.astore_n 3, 1) := dk_78 (dk_at dksX0_refusal_0 15 rfl rfl)
theorem dX0_refusal_16 : decode cX0_refusal 16 = .ok (.aload_n 3, 1) := dk_45 (dk_at dksX0_refusal_0 16 rfl rfl)
theorem dX0_refusal_17 : decode cX0_refusal 17 = .ok (.ifnonnull 6, 3) := dk_199 0 6 (dk_at dksX0_refusal_0 17 rfl rfl)
theorem dX0_refusal_20 : decode cX0_refusal 20 = .ok (.bipush (-11), 2) := dk_16 245 (dk_at dksX0_refusal_0 20 rfl rfl)
theorem dX0_refusal_22 : decode cX0_refusal 22 = .ok (.ireturn, 1) := dk_172 (dk_at dksX0_refusal_0 22 rfl rfl)
theorem dX0_refusal_23 : decode cX0_refusal 23 = .ok (.aload_n 3, 1) := dk_45 (dk_at dksX0_refusal_0 23 rfl rfl)
theorem dX0_refusal_24 : decode cX0_refusal 24 = .ok (.invokestatic 199, 3) := dk_184 0 199 (dk_at dksX0_refusal_1 0 rfl rfl)
theorem dX0_refusal_27 : decode cX0_refusal 27 = .ok (.iconst (-1), 1) := dk_2 (dk_at dksX0_refusal_1 3 rfl rfl)
theorem dX0_refusal_28 : decode cX0_refusal 28 = .ok (.if_icmp .ne 6, 3) := dk_160 0 6 (dk_at dksX0_refusal_1 4 rfl rfl)
theorem dX0_refusal_31 : decode cX0_refusal 31 = .ok (.bipush (-12), 2) := dk_16 244 (dk_at dksX0_refusal_1 7 rfl rfl)
theorem dX0_refusal_33 : decode cX0_refusal 33 = .ok (.ireturn, 1) := dk_172 (dk_at dksX0_refusal_1 9 rfl rfl)
theorem dX0_refusal_34 : decode cX0_refusal 34 = .ok (.iload_n 2, 1) := dk_28 (dk_at dksX0_refusal_1 10 rfl rfl)
theorem dX0_refusal_35 : decode cX0_refusal 35 = .ok (.i2l, 1) := dk_133 (dk_at dksX0_refusal_1 11 rfl rfl)
theorem dX0_refusal_36 : decode cX0_refusal 36 = .ok (.lconst 0, 1) := dk_9 (dk_at dksX0_refusal_1 12 rfl rfl)
theorem dX0_refusal_37 : decode cX0_refusal 37 = .ok (.aload_n 3, 1) := dk_45 (dk_at dksX0_refusal_1 13 rfl rfl)
theorem dX0_refusal_38 : decode cX0_refusal 38 = .ok (.invokestatic 502, 3) := dk_184 1 246 (dk_at dksX0_refusal_1 14 rfl rfl)
theorem dX0_refusal_41 : decode cX0_refusal 41 = .ok (.iconst 1, 1) := dk_4 (dk_at dksX0_refusal_1 17 rfl rfl)
theorem dX0_refusal_42 : decode cX0_refusal 42 = .ok (.isub, 1) := dk_100 (dk_at dksX0_refusal_1 18 rfl rfl)
theorem dX0_refusal_43 : decode cX0_refusal 43 = .ok (.i2l, 1) := dk_133 (dk_at dksX0_refusal_1 19 rfl rfl)
theorem dX0_refusal_44 : decode cX0_refusal 44 = .ok (.invokestatic 147, 3) := dk_184 0 147 (dk_at dksX0_refusal_1 20 rfl rfl)
theorem dX0_refusal_47 : decode cX0_refusal 47 = .ok (.ifCond .eq 7, 3) := dk_153 0 7 (dk_at dksX0_refusal_2 0 rfl rfl)
theorem dX0_refusal_50 : decode cX0_refusal 50 = .ok (.iconst 0, 1) := dk_3 (dk_at dksX0_refusal_2 3 rfl rfl)
theorem dX0_refusal_51 : decode cX0_refusal 51 = .ok (.goto 5, 3) := dk_167 0 5 (dk_at dksX0_refusal_2 4 rfl rfl)
theorem dX0_refusal_54 : decode cX0_refusal 54 = .ok (.bipush (-13), 2) := dk_16 243 (dk_at dksX0_refusal_2 7 rfl rfl)
theorem dX0_refusal_56 : decode cX0_refusal 56 = .ok (.ireturn, 1) := dk_172 (dk_at dksX0_refusal_2 9 rfl rfl)
abbrev cX0_sizeOf : ByteArray := prog_1_method_83_code
def yX0_sizeOf : MethodName := ⟨RX0, "sizeOf", "(Ljava/lang/Object;)I"⟩
def dkwX0_sizeOf_3 : List UInt8 := [42, 192, 1, 244, 190, 172]
abbrev dktX0_sizeOf_3 : List UInt8 := dkwX0_sizeOf_3 ++ []
def dkwX0_sizeOf_2 : List UInt8 := [42, 192, 0, 192, 190, 172, 42, 192, 1, 239, 190, 172, 42, 192, 1, 241, 190, 172, 42, 192, 1, 242, 190, 172]
abbrev dktX0_sizeOf_2 : List UInt8 := dkwX0_sizeOf_2 ++ dktX0_sizeOf_3
def dkwX0_sizeOf_1 : List UInt8 := [170, 0, 0, 0, 0, 0, 0, 56, 0, 0, 0, 0, 0, 0, 0, 3, 0, 0, 0, 32, 0, 0, 0, 38, 0, 0, 0, 44, 0, 0, 0, 50]
abbrev dktX0_sizeOf_1 : List UInt8 := dkwX0_sizeOf_1 ++ dktX0_sizeOf_2
def dkwX0_sizeOf_0 : List UInt8 := [42, 184, 0, 199]
abbrev dktX0_sizeOf_0 : List UInt8 := dkwX0_sizeOf_0 ++ dktX0_sizeOf_1
theorem dksX0_sizeOf_0 : cX0_sizeOf.data.toList.drop 0 = dktX0_sizeOf_0 := by decide +kernel
theorem dksX0_sizeOf_1 : cX0_sizeOf.data.toList.drop 4 = dktX0_sizeOf_1 := dk_seg dksX0_sizeOf_0 4 rfl rfl
theorem dksX0_sizeOf_2 : cX0_sizeOf.data.toList.drop 36 = dktX0_sizeOf_2 := dk_seg dksX0_sizeOf_1 32 rfl rfl
theorem dksX0_sizeOf_3 : cX0_sizeOf.data.toList.drop 60 = dktX0_sizeOf_3 := dk_seg dksX0_sizeOf_2 24 rfl rfl
theorem dX0_sizeOf_0 : decode cX0_sizeOf 0 = .ok (.aload_n 0, 1) := dk_42 (dk_at dksX0_sizeOf_0 0 rfl rfl)
theorem dX0_sizeOf_1 : decode cX0_sizeOf 1 = .ok (.invokestatic 199, 3) := dk_184 0 199 (dk_at dksX0_sizeOf_0 1 rfl rfl)
theorem dX0_sizeOf_4 : decode cX0_sizeOf 4 = .ok (.tableswitch 56 0 3 #[32, 38, 44, 50], 32) := by decide +kernel
theorem dX0_sizeOf_36 : decode cX0_sizeOf 36 = .ok (.aload_n 0, 1) := dk_42 (dk_at dksX0_sizeOf_2 0 rfl rfl)
theorem dX0_sizeOf_37 : decode cX0_sizeOf 37 = .ok (.checkcast 192, 3) := dk_192 0 192 (dk_at dksX0_sizeOf_2 1 rfl rfl)
theorem dX0_sizeOf_40 : decode cX0_sizeOf 40 = .ok (.arraylength, 1) := dk_190 (dk_at dksX0_sizeOf_2 4 rfl rfl)
theorem dX0_sizeOf_41 : decode cX0_sizeOf 41 = .ok (.ireturn, 1) := dk_172 (dk_at dksX0_sizeOf_2 5 rfl rfl)
theorem dX0_sizeOf_42 : decode cX0_sizeOf 42 = .ok (.aload_n 0, 1) := dk_42 (dk_at dksX0_sizeOf_2 6 rfl rfl)
theorem dX0_sizeOf_43 : decode cX0_sizeOf 43 = .ok (.checkcast 495, 3) := dk_192 1 239 (dk_at dksX0_sizeOf_2 7 rfl rfl)
theorem dX0_sizeOf_46 : decode cX0_sizeOf 46 = .ok (.arraylength, 1) := dk_190 (dk_at dksX0_sizeOf_2 10 rfl rfl)
theorem dX0_sizeOf_47 : decode cX0_sizeOf 47 = .ok (.ireturn, 1) := dk_172 (dk_at dksX0_sizeOf_2 11 rfl rfl)
theorem dX0_sizeOf_48 : decode cX0_sizeOf 48 = .ok (.aload_n 0, 1) := dk_42 (dk_at dksX0_sizeOf_2 12 rfl rfl)
theorem dX0_sizeOf_49 : decode cX0_sizeOf 49 = .ok (.checkcast 497, 3) := dk_192 1 241 (dk_at dksX0_sizeOf_2 13 rfl rfl)
theorem dX0_sizeOf_52 : decode cX0_sizeOf 52 = .ok (.arraylength, 1) := dk_190 (dk_at dksX0_sizeOf_2 16 rfl rfl)
theorem dX0_sizeOf_53 : decode cX0_sizeOf 53 = .ok (.ireturn, 1) := dk_172 (dk_at dksX0_sizeOf_2 17 rfl rfl)
theorem dX0_sizeOf_54 : decode cX0_sizeOf 54 = .ok (.aload_n 0, 1) := dk_42 (dk_at dksX0_sizeOf_2 18 rfl rfl)
theorem dX0_sizeOf_55 : decode cX0_sizeOf 55 = .ok (.checkcast 498, 3) := dk_192 1 242 (dk_at dksX0_sizeOf_2 19 rfl rfl)
theorem dX0_sizeOf_58 : decode cX0_sizeOf 58 = .ok (.arraylength, 1) := dk_190 (dk_at dksX0_sizeOf_2 22 rfl rfl)
theorem dX0_sizeOf_59 : decode cX0_sizeOf 59 = .ok (.ireturn, 1) := dk_172 (dk_at dksX0_sizeOf_2 23 rfl rfl)
theorem dX0_sizeOf_60 : decode cX0_sizeOf 60 = .ok (.aload_n 0, 1) := dk_42 (dk_at dksX0_sizeOf_3 0 rfl rfl)
theorem dX0_sizeOf_61 : decode cX0_sizeOf 61 = .ok (.checkcast 500, 3) := dk_192 1 244 (dk_at dksX0_sizeOf_3 1 rfl rfl)
theorem dX0_sizeOf_64 : decode cX0_sizeOf 64 = .ok (.arraylength, 1) := dk_190 (dk_at dksX0_sizeOf_3 4 rfl rfl)
theorem dX0_sizeOf_65 : decode cX0_sizeOf 65 = .ok (.ireturn, 1) := dk_172 (dk_at dksX0_sizeOf_3 5 rfl rfl)
abbrev cX0_element : ByteArray := prog_1_method_86_code
def yX0_element : MethodName := ⟨RX0, "element", "(II)J"⟩
def dkwX0_element_3 : List UInt8 := [45, 192, 1, 242, 28, 47, 173, 45, 192, 1, 244, 28, 51, 153, 0, 7, 10, 167, 0, 4, 9, 173]
abbrev dktX0_element_3 : List UInt8 := dkwX0_element_3 ++ []
def dkwX0_element_2 : List UInt8 := [45, 192, 0, 192, 28, 51, 133, 173, 45, 192, 1, 239, 28, 53, 133, 173, 45, 192, 1, 241, 28, 46, 133, 173]
abbrev dktX0_element_2 : List UInt8 := dkwX0_element_2 ++ dktX0_element_3
def dkwX0_element_1 : List UInt8 := [170, 0, 0, 0, 0, 0, 0, 63, 0, 0, 0, 0, 0, 0, 0, 3, 0, 0, 0, 32, 0, 0, 0, 40, 0, 0, 0, 48, 0, 0, 0, 56]
abbrev dktX0_element_1 : List UInt8 := dkwX0_element_1 ++ dktX0_element_2
def dkwX0_element_0 : List UInt8 := [42, 27, 28, 182, 1, 249, 153, 0, 7, 20, 1, 163, 173, 42, 180, 0, 139, 27, 50, 78, 45, 184, 0, 199]
abbrev dktX0_element_0 : List UInt8 := dkwX0_element_0 ++ dktX0_element_1
theorem dksX0_element_0 : cX0_element.data.toList.drop 0 = dktX0_element_0 := by decide +kernel
theorem dksX0_element_1 : cX0_element.data.toList.drop 24 = dktX0_element_1 := dk_seg dksX0_element_0 24 rfl rfl
theorem dksX0_element_2 : cX0_element.data.toList.drop 56 = dktX0_element_2 := dk_seg dksX0_element_1 32 rfl rfl
theorem dksX0_element_3 : cX0_element.data.toList.drop 80 = dktX0_element_3 := dk_seg dksX0_element_2 24 rfl rfl
theorem dX0_element_0 : decode cX0_element 0 = .ok (.aload_n 0, 1) := dk_42 (dk_at dksX0_element_0 0 rfl rfl)
theorem dX0_element_1 : decode cX0_element 1 = .ok (.iload_n 1, 1) := dk_27 (dk_at dksX0_element_0 1 rfl rfl)
theorem dX0_element_2 : decode cX0_element 2 = .ok (.iload_n 2, 1) := dk_28 (dk_at dksX0_element_0 2 rfl rfl)
theorem dX0_element_3 : decode cX0_element 3 = .ok (.invokevirtual 505, 3) := dk_182 1 249 (dk_at dksX0_element_0 3 rfl rfl)
theorem dX0_element_6 : decode cX0_element 6 = .ok (.ifCond .eq 7, 3) := dk_153 0 7 (dk_at dksX0_element_0 6 rfl rfl)
theorem dX0_element_9 : decode cX0_element 9 = .ok (.ldc2_w 419, 3) := dk_20 1 163 (dk_at dksX0_element_0 9 rfl rfl)
theorem dX0_element_12 : decode cX0_element 12 = .ok (.lreturn, 1) := dk_173 (dk_at dksX0_element_0 12 rfl rfl)
theorem dX0_element_13 : decode cX0_element 13 = .ok (.aload_n 0, 1) := dk_42 (dk_at dksX0_element_0 13 rfl rfl)
theorem dX0_element_14 : decode cX0_element 14 = .ok (.getfield 139, 3) := dk_180 0 139 (dk_at dksX0_element_0 14 rfl rfl)
theorem dX0_element_17 : decode cX0_element 17 = .ok (.iload_n 1, 1) := dk_27 (dk_at dksX0_element_0 17 rfl rfl)
theorem dX0_element_18 : decode cX0_element 18 = .ok (.aaload, 1) := dk_50 (dk_at dksX0_element_0 18 rfl rfl)
theorem dX0_element_19 : decode cX0_element 19 = .ok (.astore_n 3, 1) := dk_78 (dk_at dksX0_element_0 19 rfl rfl)
theorem dX0_element_20 : decode cX0_element 20 = .ok (.aload_n 3, 1) := dk_45 (dk_at dksX0_element_0 20 rfl rfl)
theorem dX0_element_21 : decode cX0_element 21 = .ok (.invokestatic 199, 3) := dk_184 0 199 (dk_at dksX0_element_0 21 rfl rfl)
theorem dX0_element_24 : decode cX0_element 24 = .ok (.tableswitch 63 0 3 #[32, 40, 48, 56], 32) := by decide +kernel
theorem dX0_element_56 : decode cX0_element 56 = .ok (.aload_n 3, 1) := dk_45 (dk_at dksX0_element_2 0 rfl rfl)
theorem dX0_element_57 : decode cX0_element 57 = .ok (.checkcast 192, 3) := dk_192 0 192 (dk_at dksX0_element_2 1 rfl rfl)
theorem dX0_element_60 : decode cX0_element 60 = .ok (.iload_n 2, 1) := dk_28 (dk_at dksX0_element_2 4 rfl rfl)
theorem dX0_element_61 : decode cX0_element 61 = .ok (.baload, 1) := dk_51 (dk_at dksX0_element_2 5 rfl rfl)
theorem dX0_element_62 : decode cX0_element 62 = .ok (.i2l, 1) := dk_133 (dk_at dksX0_element_2 6 rfl rfl)
theorem dX0_element_63 : decode cX0_element 63 = .ok (.lreturn, 1) := dk_173 (dk_at dksX0_element_2 7 rfl rfl)
theorem dX0_element_64 : decode cX0_element 64 = .ok (.aload_n 3, 1) := dk_45 (dk_at dksX0_element_2 8 rfl rfl)
theorem dX0_element_65 : decode cX0_element 65 = .ok (.checkcast 495, 3) := dk_192 1 239 (dk_at dksX0_element_2 9 rfl rfl)
theorem dX0_element_68 : decode cX0_element 68 = .ok (.iload_n 2, 1) := dk_28 (dk_at dksX0_element_2 12 rfl rfl)
theorem dX0_element_69 : decode cX0_element 69 = .ok (.saload, 1) := dk_53 (dk_at dksX0_element_2 13 rfl rfl)
theorem dX0_element_70 : decode cX0_element 70 = .ok (.i2l, 1) := dk_133 (dk_at dksX0_element_2 14 rfl rfl)
theorem dX0_element_71 : decode cX0_element 71 = .ok (.lreturn, 1) := dk_173 (dk_at dksX0_element_2 15 rfl rfl)
theorem dX0_element_72 : decode cX0_element 72 = .ok (.aload_n 3, 1) := dk_45 (dk_at dksX0_element_2 16 rfl rfl)
theorem dX0_element_73 : decode cX0_element 73 = .ok (.checkcast 497, 3) := dk_192 1 241 (dk_at dksX0_element_2 17 rfl rfl)
theorem dX0_element_76 : decode cX0_element 76 = .ok (.iload_n 2, 1) := dk_28 (dk_at dksX0_element_2 20 rfl rfl)
theorem dX0_element_77 : decode cX0_element 77 = .ok (.iaload, 1) := dk_46 (dk_at dksX0_element_2 21 rfl rfl)
theorem dX0_element_78 : decode cX0_element 78 = .ok (.i2l, 1) := dk_133 (dk_at dksX0_element_2 22 rfl rfl)
theorem dX0_element_79 : decode cX0_element 79 = .ok (.lreturn, 1) := dk_173 (dk_at dksX0_element_2 23 rfl rfl)
theorem dX0_element_80 : decode cX0_element 80 = .ok (.aload_n 3, 1) := dk_45 (dk_at dksX0_element_3 0 rfl rfl)
theorem dX0_element_81 : decode cX0_element 81 = .ok (.checkcast 498, 3) := dk_192 1 242 (dk_at dksX0_element_3 1 rfl rfl)
theorem dX0_element_84 : decode cX0_element 84 = .ok (.iload_n 2, 1) := dk_28 (dk_at dksX0_element_3 4 rfl rfl)
theorem dX0_element_85 : decode cX0_element 85 = .ok (.laload, 1) := dk_47 (dk_at dksX0_element_3 5 rfl rfl)
theorem dX0_element_86 : decode cX0_element 86 = .ok (.lreturn, 1) := dk_173 (dk_at dksX0_element_3 6 rfl rfl)
theorem dX0_element_87 : decode cX0_element 87 = .ok (.aload_n 3, 1) := dk_45 (dk_at dksX0_element_3 7 rfl rfl)
theorem dX0_element_88 : decode cX0_element 88 = .ok (.checkcast 500, 3) := dk_192 1 244 (dk_at dksX0_element_3 8 rfl rfl)
theorem dX0_element_91 : decode cX0_element 91 = .ok (.iload_n 2, 1) := dk_28 (dk_at dksX0_element_3 11 rfl rfl)
theorem dX0_element_92 : decode cX0_element 92 = .ok (.baload, 1) := dk_51 (dk_at dksX0_element_3 12 rfl rfl)
theorem dX0_element_93 : decode cX0_element 93 = .ok (.ifCond .eq 7, 3) := dk_153 0 7 (dk_at dksX0_element_3 13 rfl rfl)
theorem dX0_element_96 : decode cX0_element 96 = .ok (.lconst 1, 1) := dk_10 (dk_at dksX0_element_3 16 rfl rfl)
theorem dX0_element_97 : decode cX0_element 97 = .ok (.goto 4, 3) := dk_167 0 4 (dk_at dksX0_element_3 17 rfl rfl)
theorem dX0_element_100 : decode cX0_element 100 = .ok (.lconst 0, 1) := dk_9 (dk_at dksX0_element_3 20 rfl rfl)
theorem dX0_element_101 : decode cX0_element 101 = .ok (.lreturn, 1) := dk_173 (dk_at dksX0_element_3 21 rfl rfl)
abbrev cX0_shift : ByteArray := prog_1_method_87_code
def yX0_shift : MethodName := ⟨RX0, "shift", "(IIIII)I"⟩
def dkwX0_shift_5 : List UInt8 := [21, 4, 21, 5, 184, 1, 145, 21, 5, 172]
abbrev dktX0_shift_5 : List UInt8 := dkwX0_shift_5 ++ []
def dkwX0_shift_4 : List UInt8 := [163, 0, 16, 21, 4, 25, 7, 184, 1, 246, 21, 5, 100, 164, 0, 6, 16, 243, 172, 25, 6, 28, 25, 7]
abbrev dktX0_shift_4 : List UInt8 := dkwX0_shift_4 ++ dktX0_shift_5
def dkwX0_shift_3 : List UInt8 := [21, 5, 155, 0, 37, 28, 155, 0, 33, 21, 4, 155, 0, 28, 28, 25, 6, 184, 1, 246, 21, 5, 100]
abbrev dktX0_shift_3 : List UInt8 := dkwX0_shift_3 ++ dktX0_shift_4
def dkwX0_shift_2 : List UInt8 := [184, 0, 199, 2, 159, 0, 16, 25, 6, 184, 0, 199, 25, 7, 184, 0, 199, 159, 0, 6, 16, 244, 172]
abbrev dktX0_shift_2 : List UInt8 := dkwX0_shift_2 ++ dktX0_shift_3
def dkwX0_shift_1 : List UInt8 := [42, 180, 0, 139, 29, 50, 58, 7, 25, 6, 198, 0, 8, 25, 7, 199, 0, 6, 16, 245, 172, 25, 6]
abbrev dktX0_shift_1 : List UInt8 := dkwX0_shift_1 ++ dktX0_shift_2
def dkwX0_shift_0 : List UInt8 := [27, 184, 0, 194, 153, 0, 10, 29, 184, 0, 194, 154, 0, 5, 2, 172, 42, 180, 0, 139, 27, 50, 58, 6]
abbrev dktX0_shift_0 : List UInt8 := dkwX0_shift_0 ++ dktX0_shift_1
theorem dksX0_shift_0 : cX0_shift.data.toList.drop 0 = dktX0_shift_0 := by decide +kernel
theorem dksX0_shift_1 : cX0_shift.data.toList.drop 24 = dktX0_shift_1 := dk_seg dksX0_shift_0 24 rfl rfl
theorem dksX0_shift_2 : cX0_shift.data.toList.drop 47 = dktX0_shift_2 := dk_seg dksX0_shift_1 23 rfl rfl
theorem dksX0_shift_3 : cX0_shift.data.toList.drop 70 = dktX0_shift_3 := dk_seg dksX0_shift_2 23 rfl rfl
theorem dksX0_shift_4 : cX0_shift.data.toList.drop 93 = dktX0_shift_4 := dk_seg dksX0_shift_3 23 rfl rfl
theorem dksX0_shift_5 : cX0_shift.data.toList.drop 117 = dktX0_shift_5 := dk_seg dksX0_shift_4 24 rfl rfl
theorem dX0_shift_0 : decode cX0_shift 0 = .ok (.iload_n 1, 1) := dk_27 (dk_at dksX0_shift_0 0 rfl rfl)
theorem dX0_shift_1 : decode cX0_shift 1 = .ok (.invokestatic 194, 3) := dk_184 0 194 (dk_at dksX0_shift_0 1 rfl rfl)
theorem dX0_shift_4 : decode cX0_shift 4 = .ok (.ifCond .eq 10, 3) := dk_153 0 10 (dk_at dksX0_shift_0 4 rfl rfl)
theorem dX0_shift_7 : decode cX0_shift 7 = .ok (.iload_n 3, 1) := dk_29 (dk_at dksX0_shift_0 7 rfl rfl)
theorem dX0_shift_8 : decode cX0_shift 8 = .ok (.invokestatic 194, 3) := dk_184 0 194 (dk_at dksX0_shift_0 8 rfl rfl)
theorem dX0_shift_11 : decode cX0_shift 11 = .ok (.ifCond .ne 5, 3) := dk_154 0 5 (dk_at dksX0_shift_0 11 rfl rfl)
theorem dX0_shift_14 : decode cX0_shift 14 = .ok (.iconst (-1), 1) := dk_2 (dk_at dksX0_shift_0 14 rfl rfl)
theorem dX0_shift_15 : decode cX0_shift 15 = .ok (.ireturn, 1) := dk_172 (dk_at dksX0_shift_0 15 rfl rfl)
theorem dX0_shift_16 : decode cX0_shift 16 = .ok (.aload_n 0, 1) := dk_42 (dk_at dksX0_shift_0 16 rfl rfl)
theorem dX0_shift_17 : decode cX0_shift 17 = .ok (.getfield 139, 3) := dk_180 0 139 (dk_at dksX0_shift_0 17 rfl rfl)
theorem dX0_shift_20 : decode cX0_shift 20 = .ok (.iload_n 1, 1) := dk_27 (dk_at dksX0_shift_0 20 rfl rfl)
theorem dX0_shift_21 : decode cX0_shift 21 = .ok (.aaload, 1) := dk_50 (dk_at dksX0_shift_0 21 rfl rfl)
theorem dX0_shift_22 : decode cX0_shift 22 = .ok (.astore 6, 2) := dk_58 6 (dk_at dksX0_shift_0 22 rfl rfl)
theorem dX0_shift_24 : decode cX0_shift 24 = .ok (.aload_n 0, 1) := dk_42 (dk_at dksX0_shift_1 0 rfl rfl)
theorem dX0_shift_25 : decode cX0_shift 25 = .ok (.getfield 139, 3) := dk_180 0 139 (dk_at dksX0_shift_1 1 rfl rfl)
theorem dX0_shift_28 : decode cX0_shift 28 = .ok (.iload_n 3, 1) := dk_29 (dk_at dksX0_shift_1 4 rfl rfl)
theorem dX0_shift_29 : decode cX0_shift 29 = .ok (.aaload, 1) := dk_50 (dk_at dksX0_shift_1 5 rfl rfl)
theorem dX0_shift_30 : decode cX0_shift 30 = .ok (.astore 7, 2) := dk_58 7 (dk_at dksX0_shift_1 6 rfl rfl)
theorem dX0_shift_32 : decode cX0_shift 32 = .ok (.aload 6, 2) := dk_25 6 (dk_at dksX0_shift_1 8 rfl rfl)
theorem dX0_shift_34 : decode cX0_shift 34 = .ok (.ifnull 8, 3) := dk_198 0 8 (dk_at dksX0_shift_1 10 rfl rfl)
theorem dX0_shift_37 : decode cX0_shift 37 = .ok (.aload 7, 2) := dk_25 7 (dk_at dksX0_shift_1 13 rfl rfl)
theorem dX0_shift_39 : decode cX0_shift 39 = .ok (.ifnonnull 6, 3) := dk_199 0 6 (dk_at dksX0_shift_1 15 rfl rfl)
theorem dX0_shift_42 : decode cX0_shift 42 = .ok (.bipush (-11), 2) := dk_16 245 (dk_at dksX0_shift_1 18 rfl rfl)
theorem dX0_shift_44 : decode cX0_shift 44 = .ok (.ireturn, 1) := dk_172 (dk_at dksX0_shift_1 20 rfl rfl)
theorem dX0_shift_45 : decode cX0_shift 45 = .ok (.aload 6, 2) := dk_25 6 (dk_at dksX0_shift_1 21 rfl rfl)
theorem dX0_shift_47 : decode cX0_shift 47 = .ok (.invokestatic 199, 3) := dk_184 0 199 (dk_at dksX0_shift_2 0 rfl rfl)
theorem dX0_shift_50 : decode cX0_shift 50 = .ok (.iconst (-1), 1) := dk_2 (dk_at dksX0_shift_2 3 rfl rfl)
theorem dX0_shift_51 : decode cX0_shift 51 = .ok (.if_icmp .eq 16, 3) := dk_159 0 16 (dk_at dksX0_shift_2 4 rfl rfl)
theorem dX0_shift_54 : decode cX0_shift 54 = .ok (.aload 6, 2) := dk_25 6 (dk_at dksX0_shift_2 7 rfl rfl)
theorem dX0_shift_56 : decode cX0_shift 56 = .ok (.invokestatic 199, 3) := dk_184 0 199 (dk_at dksX0_shift_2 9 rfl rfl)
theorem dX0_shift_59 : decode cX0_shift 59 = .ok (.aload 7, 2) := dk_25 7 (dk_at dksX0_shift_2 12 rfl rfl)
theorem dX0_shift_61 : decode cX0_shift 61 = .ok (.invokestatic 199, 3) := dk_184 0 199 (dk_at dksX0_shift_2 14 rfl rfl)
theorem dX0_shift_64 : decode cX0_shift 64 = .ok (.if_icmp .eq 6, 3) := dk_159 0 6 (dk_at dksX0_shift_2 17 rfl rfl)
theorem dX0_shift_67 : decode cX0_shift 67 = .ok (.bipush (-12), 2) := dk_16 244 (dk_at dksX0_shift_2 20 rfl rfl)
theorem dX0_shift_69 : decode cX0_shift 69 = .ok (.ireturn, 1) := dk_172 (dk_at dksX0_shift_2 22 rfl rfl)
theorem dX0_shift_70 : decode cX0_shift 70 = .ok (.iload 5, 2) := dk_21 5 (dk_at dksX0_shift_3 0 rfl rfl)
theorem dX0_shift_72 : decode cX0_shift 72 = .ok (.ifCond .lt 37, 3) := dk_155 0 37 (dk_at dksX0_shift_3 2 rfl rfl)
theorem dX0_shift_75 : decode cX0_shift 75 = .ok (.iload_n 2, 1) := dk_28 (dk_at dksX0_shift_3 5 rfl rfl)
theorem dX0_shift_76 : decode cX0_shift 76 = .ok (.ifCond .lt 33, 3) := dk_155 0 33 (dk_at dksX0_shift_3 6 rfl rfl)
theorem dX0_shift_79 : decode cX0_shift 79 = .ok (.iload 4, 2) := dk_21 4 (dk_at dksX0_shift_3 9 rfl rfl)
theorem dX0_shift_81 : decode cX0_shift 81 = .ok (.ifCond .lt 28, 3) := dk_155 0 28 (dk_at dksX0_shift_3 11 rfl rfl)
theorem dX0_shift_84 : decode cX0_shift 84 = .ok (.iload_n 2, 1) := dk_28 (dk_at dksX0_shift_3 14 rfl rfl)
theorem dX0_shift_85 : decode cX0_shift 85 = .ok (.aload 6, 2) := dk_25 6 (dk_at dksX0_shift_3 15 rfl rfl)
theorem dX0_shift_87 : decode cX0_shift 87 = .ok (.invokestatic 502, 3) := dk_184 1 246 (dk_at dksX0_shift_3 17 rfl rfl)
theorem dX0_shift_90 : decode cX0_shift 90 = .ok (.iload 5, 2) := dk_21 5 (dk_at dksX0_shift_3 20 rfl rfl)
theorem dX0_shift_92 : decode cX0_shift 92 = .ok (.isub, 1) := dk_100 (dk_at dksX0_shift_3 22 rfl rfl)
theorem dX0_shift_93 : decode cX0_shift 93 = .ok (.if_icmp .gt 16, 3) := dk_163 0 16 (dk_at dksX0_shift_4 0 rfl rfl)
theorem dX0_shift_96 : decode cX0_shift 96 = .ok (.iload 4, 2) := dk_21 4 (dk_at dksX0_shift_4 3 rfl rfl)
theorem dX0_shift_98 : decode cX0_shift 98 = .ok (.aload 7, 2) := dk_25 7 (dk_at dksX0_shift_4 5 rfl rfl)
theorem dX0_shift_100 : decode cX0_shift 100 = .ok (.invokestatic 502, 3) := dk_184 1 246 (dk_at dksX0_shift_4 7 rfl rfl)
theorem dX0_shift_103 : decode cX0_shift 103 = .ok (.iload 5, 2) := dk_21 5 (dk_at dksX0_shift_4 10 rfl rfl)
theorem dX0_shift_105 : decode cX0_shift 105 = .ok (.isub, 1) := dk_100 (dk_at dksX0_shift_4 12 rfl rfl)
theorem dX0_shift_106 : decode cX0_shift 106 = .ok (.if_icmp .le 6, 3) := dk_164 0 6 (dk_at dksX0_shift_4 13 rfl rfl)
theorem dX0_shift_109 : decode cX0_shift 109 = .ok (.bipush (-13), 2) := dk_16 243 (dk_at dksX0_shift_4 16 rfl rfl)
theorem dX0_shift_111 : decode cX0_shift 111 = .ok (.ireturn, 1) := dk_172 (dk_at dksX0_shift_4 18 rfl rfl)
theorem dX0_shift_112 : decode cX0_shift 112 = .ok (.aload 6, 2) := dk_25 6 (dk_at dksX0_shift_4 19 rfl rfl)
theorem dX0_shift_114 : decode cX0_shift 114 = .ok (.iload_n 2, 1) := dk_28 (dk_at dksX0_shift_4 21 rfl rfl)
theorem dX0_shift_115 : decode cX0_shift 115 = .ok (.aload 7, 2) := dk_25 7 (dk_at dksX0_shift_4 22 rfl rfl)
theorem dX0_shift_117 : decode cX0_shift 117 = .ok (.iload 4, 2) := dk_21 4 (dk_at dksX0_shift_5 0 rfl rfl)
theorem dX0_shift_119 : decode cX0_shift 119 = .ok (.iload 5, 2) := dk_21 5 (dk_at dksX0_shift_5 2 rfl rfl)
theorem dX0_shift_121 : decode cX0_shift 121 = .ok (.invokestatic 401, 3) := dk_184 1 145 (dk_at dksX0_shift_5 4 rfl rfl)
theorem dX0_shift_124 : decode cX0_shift 124 = .ok (.iload 5, 2) := dk_21 5 (dk_at dksX0_shift_5 7 rfl rfl)
theorem dX0_shift_126 : decode cX0_shift 126 = .ok (.ireturn, 1) := dk_172 (dk_at dksX0_shift_5 9 rfl rfl)
abbrev cX0_taken : ByteArray := prog_1_method_88_code
def yX0_taken : MethodName := ⟨RX0, "taken", "(II)I"⟩
def dkwX0_taken_3 : List UInt8 := [172]
abbrev dktX0_taken_3 : List UInt8 := dkwX0_taken_3 ++ []
def dkwX0_taken_2 : List UInt8 := [192, 0, 130, 58, 4, 25, 4, 28, 182, 1, 252, 153, 0, 11, 25, 4, 182, 1, 255, 167, 0, 5, 16, 244]
abbrev dktX0_taken_2 : List UInt8 := dkwX0_taken_2 ++ dktX0_taken_3
def dkwX0_taken_1 : List UInt8 := [180, 0, 139, 27, 50, 78, 45, 199, 0, 6, 16, 245, 172, 45, 193, 0, 130, 154, 0, 6, 16, 244, 172, 45]
abbrev dktX0_taken_1 : List UInt8 := dkwX0_taken_1 ++ dktX0_taken_2
def dkwX0_taken_0 : List UInt8 := [27, 184, 0, 194, 153, 0, 15, 28, 133, 9, 20, 0, 197, 184, 0, 147, 154, 0, 5, 2, 172, 42]
abbrev dktX0_taken_0 : List UInt8 := dkwX0_taken_0 ++ dktX0_taken_1
theorem dksX0_taken_0 : cX0_taken.data.toList.drop 0 = dktX0_taken_0 := by decide +kernel
theorem dksX0_taken_1 : cX0_taken.data.toList.drop 22 = dktX0_taken_1 := dk_seg dksX0_taken_0 22 rfl rfl
theorem dksX0_taken_2 : cX0_taken.data.toList.drop 46 = dktX0_taken_2 := dk_seg dksX0_taken_1 24 rfl rfl
theorem dksX0_taken_3 : cX0_taken.data.toList.drop 70 = dktX0_taken_3 := dk_seg dksX0_taken_2 24 rfl rfl
theorem dX0_taken_0 : decode cX0_taken 0 = .ok (.iload_n 1, 1) := dk_27 (dk_at dksX0_taken_0 0 rfl rfl)
theorem dX0_taken_1 : decode cX0_taken 1 = .ok (.invokestatic 194, 3) := dk_184 0 194 (dk_at dksX0_taken_0 1 rfl rfl)
theorem dX0_taken_4 : decode cX0_taken 4 = .ok (.ifCond .eq 15, 3) := dk_153 0 15 (dk_at dksX0_taken_0 4 rfl rfl)
theorem dX0_taken_7 : decode cX0_taken 7 = .ok (.iload_n 2, 1) := dk_28 (dk_at dksX0_taken_0 7 rfl rfl)
theorem dX0_taken_8 : decode cX0_taken 8 = .ok (.i2l, 1) := dk_133 (dk_at dksX0_taken_0 8 rfl rfl)
theorem dX0_taken_9 : decode cX0_taken 9 = .ok (.lconst 0, 1) := dk_9 (dk_at dksX0_taken_0 9 rfl rfl)
theorem dX0_taken_10 : decode cX0_taken 10 = .ok (.ldc2_w 197, 3) := dk_20 0 197 (dk_at dksX0_taken_0 10 rfl rfl)
theorem dX0_taken_13 : decode cX0_taken 13 = .ok (.invokestatic 147, 3) := dk_184 0 147 (dk_at dksX0_taken_0 13 rfl rfl)
theorem dX0_taken_16 : decode cX0_taken 16 = .ok (.ifCond .ne 5, 3) := dk_154 0 5 (dk_at dksX0_taken_0 16 rfl rfl)
theorem dX0_taken_19 : decode cX0_taken 19 = .ok (.iconst (-1), 1) := dk_2 (dk_at dksX0_taken_0 19 rfl rfl)
theorem dX0_taken_20 : decode cX0_taken 20 = .ok (.ireturn, 1) := dk_172 (dk_at dksX0_taken_0 20 rfl rfl)
theorem dX0_taken_21 : decode cX0_taken 21 = .ok (.aload_n 0, 1) := dk_42 (dk_at dksX0_taken_0 21 rfl rfl)
theorem dX0_taken_22 : decode cX0_taken 22 = .ok (.getfield 139, 3) := dk_180 0 139 (dk_at dksX0_taken_1 0 rfl rfl)
theorem dX0_taken_25 : decode cX0_taken 25 = .ok (.iload_n 1, 1) := dk_27 (dk_at dksX0_taken_1 3 rfl rfl)
theorem dX0_taken_26 : decode cX0_taken 26 = .ok (.aaload, 1) := dk_50 (dk_at dksX0_taken_1 4 rfl rfl)
theorem dX0_taken_27 : decode cX0_taken 27 = .ok (.astore_n 3, 1) := dk_78 (dk_at dksX0_taken_1 5 rfl rfl)
theorem dX0_taken_28 : decode cX0_taken 28 = .ok (.aload_n 3, 1) := dk_45 (dk_at dksX0_taken_1 6 rfl rfl)
theorem dX0_taken_29 : decode cX0_taken 29 = .ok (.ifnonnull 6, 3) := dk_199 0 6 (dk_at dksX0_taken_1 7 rfl rfl)
theorem dX0_taken_32 : decode cX0_taken 32 = .ok (.bipush (-11), 2) := dk_16 245 (dk_at dksX0_taken_1 10 rfl rfl)
theorem dX0_taken_34 : decode cX0_taken 34 = .ok (.ireturn, 1) := dk_172 (dk_at dksX0_taken_1 12 rfl rfl)
theorem dX0_taken_35 : decode cX0_taken 35 = .ok (.aload_n 3, 1) := dk_45 (dk_at dksX0_taken_1 13 rfl rfl)
theorem dX0_taken_36 : decode cX0_taken 36 = .ok (.instanceof 130, 3) := dk_193 0 130 (dk_at dksX0_taken_1 14 rfl rfl)
theorem dX0_taken_39 : decode cX0_taken 39 = .ok (.ifCond .ne 6, 3) := dk_154 0 6 (dk_at dksX0_taken_1 17 rfl rfl)
theorem dX0_taken_42 : decode cX0_taken 42 = .ok (.bipush (-12), 2) := dk_16 244 (dk_at dksX0_taken_1 20 rfl rfl)
theorem dX0_taken_44 : decode cX0_taken 44 = .ok (.ireturn, 1) := dk_172 (dk_at dksX0_taken_1 22 rfl rfl)
theorem dX0_taken_45 : decode cX0_taken 45 = .ok (.aload_n 3, 1) := dk_45 (dk_at dksX0_taken_1 23 rfl rfl)
theorem dX0_taken_46 : decode cX0_taken 46 = .ok (.checkcast 130, 3) := dk_192 0 130 (dk_at dksX0_taken_2 0 rfl rfl)
theorem dX0_taken_49 : decode cX0_taken 49 = .ok (.astore 4, 2) := dk_58 4 (dk_at dksX0_taken_2 3 rfl rfl)
theorem dX0_taken_51 : decode cX0_taken 51 = .ok (.aload 4, 2) := dk_25 4 (dk_at dksX0_taken_2 5 rfl rfl)
theorem dX0_taken_53 : decode cX0_taken 53 = .ok (.iload_n 2, 1) := dk_28 (dk_at dksX0_taken_2 7 rfl rfl)
theorem dX0_taken_54 : decode cX0_taken 54 = .ok (.invokevirtual 508, 3) := dk_182 1 252 (dk_at dksX0_taken_2 8 rfl rfl)
theorem dX0_taken_57 : decode cX0_taken 57 = .ok (.ifCond .eq 11, 3) := dk_153 0 11 (dk_at dksX0_taken_2 11 rfl rfl)
theorem dX0_taken_60 : decode cX0_taken 60 = .ok (.aload 4, 2) := dk_25 4 (dk_at dksX0_taken_2 14 rfl rfl)
theorem dX0_taken_62 : decode cX0_taken 62 = .ok (.invokevirtual 511, 3) := dk_182 1 255 (dk_at dksX0_taken_2 16 rfl rfl)
theorem dX0_taken_65 : decode cX0_taken 65 = .ok (.goto 5, 3) := dk_167 0 5 (dk_at dksX0_taken_2 19 rfl rfl)
theorem dX0_taken_68 : decode cX0_taken 68 = .ok (.bipush (-12), 2) := dk_16 244 (dk_at dksX0_taken_2 22 rfl rfl)
theorem dX0_taken_70 : decode cX0_taken 70 = .ok (.ireturn, 1) := dk_172 (dk_at dksX0_taken_3 0 rfl rfl)
abbrev cX0_count : ByteArray := prog_1_method_89_code
def yX0_count : MethodName := ⟨RX0, "count", "(I)I"⟩
def dkwX0_count_3 : List UInt8 := [180, 0, 9, 172, 42, 180, 1, 192, 172, 42, 180, 1, 221, 172, 2, 172]
abbrev dktX0_count_3 : List UInt8 := dkwX0_count_3 ++ []
def dkwX0_count_2 : List UInt8 := [42, 180, 0, 169, 172, 42, 180, 0, 89, 180, 0, 242, 184, 2, 2, 172, 42, 180, 0, 151, 172, 42]
abbrev dktX0_count_2 : List UInt8 := dkwX0_count_2 ++ dktX0_count_3
def dkwX0_count_1 : List UInt8 := [170, 0, 0, 0, 0, 0, 75, 0, 0, 0, 0, 0, 0, 0, 5, 0, 0, 0, 39, 0, 0, 0, 44, 0, 0, 0, 55, 0, 0, 0, 60, 0, 0, 0, 65, 0, 0, 0, 70]
abbrev dktX0_count_1 : List UInt8 := dkwX0_count_1 ++ dktX0_count_2
def dkwX0_count_0 : List UInt8 := [27]
abbrev dktX0_count_0 : List UInt8 := dkwX0_count_0 ++ dktX0_count_1
theorem dksX0_count_0 : cX0_count.data.toList.drop 0 = dktX0_count_0 := by decide +kernel
theorem dksX0_count_1 : cX0_count.data.toList.drop 1 = dktX0_count_1 := dk_seg dksX0_count_0 1 rfl rfl
theorem dksX0_count_2 : cX0_count.data.toList.drop 40 = dktX0_count_2 := dk_seg dksX0_count_1 39 rfl rfl
theorem dksX0_count_3 : cX0_count.data.toList.drop 62 = dktX0_count_3 := dk_seg dksX0_count_2 22 rfl rfl
theorem dX0_count_0 : decode cX0_count 0 = .ok (.iload_n 1, 1) := dk_27 (dk_at dksX0_count_0 0 rfl rfl)
theorem dX0_count_1 : decode cX0_count 1 = .ok (.tableswitch 75 0 5 #[39, 44, 55, 60, 65, 70], 39) := by decide +kernel
theorem dX0_count_40 : decode cX0_count 40 = .ok (.aload_n 0, 1) := dk_42 (dk_at dksX0_count_2 0 rfl rfl)
theorem dX0_count_41 : decode cX0_count 41 = .ok (.getfield 169, 3) := dk_180 0 169 (dk_at dksX0_count_2 1 rfl rfl)
theorem dX0_count_44 : decode cX0_count 44 = .ok (.ireturn, 1) := dk_172 (dk_at dksX0_count_2 4 rfl rfl)
theorem dX0_count_45 : decode cX0_count 45 = .ok (.aload_n 0, 1) := dk_42 (dk_at dksX0_count_2 5 rfl rfl)
theorem dX0_count_46 : decode cX0_count 46 = .ok (.getfield 89, 3) := dk_180 0 89 (dk_at dksX0_count_2 6 rfl rfl)
theorem dX0_count_49 : decode cX0_count 49 = .ok (.getfield 242, 3) := dk_180 0 242 (dk_at dksX0_count_2 9 rfl rfl)
theorem dX0_count_52 : decode cX0_count 52 = .ok (.invokestatic 514, 3) := dk_184 2 2 (dk_at dksX0_count_2 12 rfl rfl)
theorem dX0_count_55 : decode cX0_count 55 = .ok (.ireturn, 1) := dk_172 (dk_at dksX0_count_2 15 rfl rfl)
theorem dX0_count_56 : decode cX0_count 56 = .ok (.aload_n 0, 1) := dk_42 (dk_at dksX0_count_2 16 rfl rfl)
theorem dX0_count_57 : decode cX0_count 57 = .ok (.getfield 151, 3) := dk_180 0 151 (dk_at dksX0_count_2 17 rfl rfl)
theorem dX0_count_60 : decode cX0_count 60 = .ok (.ireturn, 1) := dk_172 (dk_at dksX0_count_2 20 rfl rfl)
theorem dX0_count_61 : decode cX0_count 61 = .ok (.aload_n 0, 1) := dk_42 (dk_at dksX0_count_2 21 rfl rfl)
theorem dX0_count_62 : decode cX0_count 62 = .ok (.getfield 9, 3) := dk_180 0 9 (dk_at dksX0_count_3 0 rfl rfl)
theorem dX0_count_65 : decode cX0_count 65 = .ok (.ireturn, 1) := dk_172 (dk_at dksX0_count_3 3 rfl rfl)
theorem dX0_count_66 : decode cX0_count 66 = .ok (.aload_n 0, 1) := dk_42 (dk_at dksX0_count_3 4 rfl rfl)
theorem dX0_count_67 : decode cX0_count 67 = .ok (.getfield 448, 3) := dk_180 1 192 (dk_at dksX0_count_3 5 rfl rfl)
theorem dX0_count_70 : decode cX0_count 70 = .ok (.ireturn, 1) := dk_172 (dk_at dksX0_count_3 8 rfl rfl)
theorem dX0_count_71 : decode cX0_count 71 = .ok (.aload_n 0, 1) := dk_42 (dk_at dksX0_count_3 9 rfl rfl)
theorem dX0_count_72 : decode cX0_count 72 = .ok (.getfield 477, 3) := dk_180 1 221 (dk_at dksX0_count_3 10 rfl rfl)
theorem dX0_count_75 : decode cX0_count 75 = .ok (.ireturn, 1) := dk_172 (dk_at dksX0_count_3 13 rfl rfl)
theorem dX0_count_76 : decode cX0_count 76 = .ok (.iconst (-1), 1) := dk_2 (dk_at dksX0_count_3 14 rfl rfl)
theorem dX0_count_77 : decode cX0_count 77 = .ok (.ireturn, 1) := dk_172 (dk_at dksX0_count_3 15 rfl rfl)
abbrev cX0_ones : ByteArray := prog_1_method_4_code
def yX0_ones : MethodName := ⟨RX0, "ones", "(I)I"⟩
def dkwX0_ones_0 : List UInt8 := [3, 60, 26, 61, 28, 153, 0, 15, 132, 1, 1, 28, 28, 4, 100, 126, 61, 167, 255, 243, 27, 172]
abbrev dktX0_ones_0 : List UInt8 := dkwX0_ones_0 ++ []
theorem dksX0_ones_0 : cX0_ones.data.toList.drop 0 = dktX0_ones_0 := by decide +kernel
theorem dX0_ones_0 : decode cX0_ones 0 = .ok (.iconst 0, 1) := dk_3 (dk_at dksX0_ones_0 0 rfl rfl)
theorem dX0_ones_1 : decode cX0_ones 1 = .ok (.istore_n 1, 1) := dk_60 (dk_at dksX0_ones_0 1 rfl rfl)
theorem dX0_ones_2 : decode cX0_ones 2 = .ok (.iload_n 0, 1) := dk_26 (dk_at dksX0_ones_0 2 rfl rfl)
theorem dX0_ones_3 : decode cX0_ones 3 = .ok (.istore_n 2, 1) := dk_61 (dk_at dksX0_ones_0 3 rfl rfl)
theorem dX0_ones_4 : decode cX0_ones 4 = .ok (.iload_n 2, 1) := dk_28 (dk_at dksX0_ones_0 4 rfl rfl)
theorem dX0_ones_5 : decode cX0_ones 5 = .ok (.ifCond .eq 15, 3) := dk_153 0 15 (dk_at dksX0_ones_0 5 rfl rfl)
theorem dX0_ones_8 : decode cX0_ones 8 = .ok (.iinc 1 1, 3) := dk_132 1 1 (dk_at dksX0_ones_0 8 rfl rfl)
theorem dX0_ones_11 : decode cX0_ones 11 = .ok (.iload_n 2, 1) := dk_28 (dk_at dksX0_ones_0 11 rfl rfl)
theorem dX0_ones_12 : decode cX0_ones 12 = .ok (.iload_n 2, 1) := dk_28 (dk_at dksX0_ones_0 12 rfl rfl)
theorem dX0_ones_13 : decode cX0_ones 13 = .ok (.iconst 1, 1) := dk_4 (dk_at dksX0_ones_0 13 rfl rfl)
theorem dX0_ones_14 : decode cX0_ones 14 = .ok (.isub, 1) := dk_100 (dk_at dksX0_ones_0 14 rfl rfl)
theorem dX0_ones_15 : decode cX0_ones 15 = .ok (.iand, 1) := dk_126 (dk_at dksX0_ones_0 15 rfl rfl)
theorem dX0_ones_16 : decode cX0_ones 16 = .ok (.istore_n 2, 1) := dk_61 (dk_at dksX0_ones_0 16 rfl rfl)
theorem dX0_ones_17 : decode cX0_ones 17 = .ok (.goto (-13), 3) := dk_167 255 243 (dk_at dksX0_ones_0 17 rfl rfl)
theorem dX0_ones_20 : decode cX0_ones 20 = .ok (.iload_n 1, 1) := dk_27 (dk_at dksX0_ones_0 20 rfl rfl)
theorem dX0_ones_21 : decode cX0_ones 21 = .ok (.ireturn, 1) := dk_172 (dk_at dksX0_ones_0 21 rfl rfl)
theorem q95 : (Jvm.Cond.initialized "LeftAsFound") ∈ lw_all := lw_g (lw_at lw_m1 1 rfl) rfl
theorem q123 : (Jvm.Cond.instanceMethod ({ cls := "LeftAsFound", name := "undo", desc := "()I" } : Jvm.MethodName)) ∈ lw_all := lw_g (lw_at lw_m1 29 rfl) rfl
theorem q124 : (Jvm.Cond.selects "LeftAsFound" ({ cls := "LeftAsFound", name := "undo", desc := "()I" } : Jvm.MethodName) ({ cls := "LeftAsFound", name := "undo", desc := "()I" } : Jvm.MethodName)) ∈ lw_all := lw_g (lw_at lw_m1 30 rfl) rfl
theorem q125 : (Jvm.Cond.code ({ cls := "LeftAsFound", name := "undo", desc := "()I" } : Jvm.MethodName) prog_1_method_6_code (1 : Nat) (Option.some Jvm.ClassFile.FieldType.int)) ∈ lw_all := lw_g (lw_at lw_m1 31 rfl) rfl
theorem q127 : (Jvm.Cond.instanceMethod ({ cls := "LeftAsFound", name := "redo", desc := "()I" } : Jvm.MethodName)) ∈ lw_all := lw_g (lw_at lw_m1 33 rfl) rfl
theorem q128 : (Jvm.Cond.selects "LeftAsFound" ({ cls := "LeftAsFound", name := "redo", desc := "()I" } : Jvm.MethodName) ({ cls := "LeftAsFound", name := "redo", desc := "()I" } : Jvm.MethodName)) ∈ lw_all := lw_g (lw_at lw_m1 34 rfl) rfl
theorem q129 : (Jvm.Cond.code ({ cls := "LeftAsFound", name := "redo", desc := "()I" } : Jvm.MethodName) prog_1_method_7_code (1 : Nat) (Option.some Jvm.ClassFile.FieldType.int)) ∈ lw_all := lw_g (lw_at lw_m1 35 rfl) rfl
theorem q131 : (Jvm.Cond.instantiable "LeftAsFound" (42 : Nat)) ∈ lw_all := lw_g (lw_at lw_m1 37 rfl) rfl
theorem q133 : (Jvm.Cond.instanceMethod ({ cls := "LeftAsFound", name := "<init>", desc := "()V" } : Jvm.MethodName)) ∈ lw_all := lw_g (lw_at lw_m1 39 rfl) rfl
theorem q134 : (Jvm.Cond.code ({ cls := "LeftAsFound", name := "<init>", desc := "()V" } : Jvm.MethodName) prog_1_method_8_code (2 : Nat) (Option.none : Option Jvm.ClassFile.FieldType)) ∈ lw_all := lw_g (lw_at lw_m1 40 rfl) rfl
theorem q135 : (Jvm.Cond.methodLink "LeftAsFound" (31 : Nat) ({ cls := "java/lang/Object", name := "<init>", desc := "()V" } : Jvm.MethodName)) ∈ lw_all := lw_g (lw_at lw_m1 41 rfl) rfl
theorem q138 : (Jvm.Cond.classLink "LeftAsFound" (17 : Nat) "LeftAsFound$Change") ∈ lw_all := lw_g (lw_at lw_m1 44 rfl) rfl
theorem q140 : (Jvm.Cond.classLink "LeftAsFound" (41 : Nat) "LeftAsFound$Fault") ∈ lw_all := lw_g (lw_at lw_m1 46 rfl) rfl
theorem q180 : (Jvm.Cond.methodLink "LeftAsFound" (43 : Nat) ({ cls := "LeftAsFound$Fault", name := "<init>", desc := "()V" } : Jvm.MethodName)) ∈ lw_all := lw_g (lw_at lw_m1 86 rfl) rfl
theorem q206 : (Jvm.Cond.classLink "LeftAsFound" (48 : Nat) "LeftAsFound$Guest") ∈ lw_all := lw_g (lw_at lw_m1 112 rfl) rfl
theorem q208 : (Jvm.Cond.classLink "LeftAsFound" (4 : Nat) "LeftAsFound$Held") ∈ lw_all := lw_g (lw_at lw_m1 114 rfl) rfl
theorem q210 : (Jvm.Cond.methodLink "LeftAsFound" (61 : Nat) ({ cls := "LeftAsFound", name := "heldAt", desc := "(I)LLeftAsFound$Held;" } : Jvm.MethodName)) ∈ lw_all := lw_g (lw_at lw_m1 116 rfl) rfl
theorem q211 : (Jvm.Cond.static ({ cls := "LeftAsFound", name := "heldAt", desc := "(I)LLeftAsFound$Held;" } : Jvm.MethodName)) ∈ lw_all := lw_g (lw_at lw_m1 117 rfl) rfl
theorem q212 : (Jvm.Cond.code ({ cls := "LeftAsFound", name := "heldAt", desc := "(I)LLeftAsFound$Held;" } : Jvm.MethodName) prog_1_method_9_code (2 : Nat) (Option.some (Jvm.ClassFile.FieldType.object "LeftAsFound$Held"))) ∈ lw_all := lw_g (lw_at lw_m1 118 rfl) rfl
theorem q214 : (Jvm.Cond.methodLinkNest "LeftAsFound" (144 : Nat) ({ cls := "LeftAsFound$Held", name := "<init>", desc := "()V" } : Jvm.MethodName) "LeftAsFound") ∈ lw_tbl := lw_at lw_m1 120 rfl
theorem q219 : (Jvm.Cond.fieldLinkNest "LeftAsFound" (3 : Nat) "LeftAsFound$Held" "v" "I" "LeftAsFound") ∈ lw_tbl := lw_at lw_m1 125 rfl
theorem q223 : (Jvm.Cond.classLink "LeftAsFound" (74 : Nat) "LeftAsFound$Torn") ∈ lw_all := lw_g (lw_at lw_m1 129 rfl) rfl
theorem q232 : (Jvm.Cond.methodLink "LeftAsFound" (76 : Nat) ({ cls := "LeftAsFound$Torn", name := "<init>", desc := "()V" } : Jvm.MethodName)) ∈ lw_all := lw_g (lw_at lw_m1 138 rfl) rfl
theorem q238 : (Jvm.Cond.classLink "LeftAsFound" (84 : Nat) "LeftAsFound$Hut") ∈ lw_all := lw_g (lw_at lw_m1 144 rfl) rfl
theorem q240 : (Jvm.Cond.methodLink "LeftAsFound" (86 : Nat) ({ cls := "LeftAsFound$Hut", name := "<init>", desc := "(LLeftAsFound;)V" } : Jvm.MethodName)) ∈ lw_all := lw_g (lw_at lw_m1 146 rfl) rfl
theorem q245 : (Jvm.Cond.fieldLinkNest "LeftAsFound" (236 : Nat) "LeftAsFound$Hut" "levels" "[I" "LeftAsFound") ∈ lw_tbl := lw_at lw_m1 151 rfl
theorem q247 : (Jvm.Cond.fieldLinkNest "LeftAsFound" (239 : Nat) "LeftAsFound$Hut" "book" "[I" "LeftAsFound") ∈ lw_tbl := lw_at lw_m1 153 rfl
theorem q249 : (Jvm.Cond.fieldLinkNest "LeftAsFound" (249 : Nat) "LeftAsFound$Hut" "first" "[I" "LeftAsFound") ∈ lw_tbl := lw_at lw_m1 155 rfl
theorem q251 : (Jvm.Cond.fieldLinkNest "LeftAsFound" (242 : Nat) "LeftAsFound$Hut" "there" "I" "LeftAsFound") ∈ lw_tbl := lw_at lw_m1 157 rfl
theorem q271 : (Jvm.Cond.classLink "LeftAsFound" (130 : Nat) "LeftAsFound$Body") ∈ lw_all := lw_g (lw_at lw_m1 177 rfl) rfl
theorem q273 : (Jvm.Cond.classLink "LeftAsFound" (32 : Nat) "java/lang/Object") ∈ lw_all := lw_g (lw_at lw_m1 179 rfl) rfl
theorem q276 : (Jvm.Cond.methodLinkNest "LeftAsFound" (143 : Nat) ({ cls := "LeftAsFound$Change", name := "<init>", desc := "()V" } : Jvm.MethodName) "LeftAsFound") ∈ lw_tbl := lw_at lw_m1 182 rfl
theorem q280 : (Jvm.Cond.fieldLinkNest "LeftAsFound" (16 : Nat) "LeftAsFound$Change" "of" "LLeftAsFound$Held;" "LeftAsFound") ∈ lw_tbl := lw_at lw_m1 186 rfl
theorem q281 : (Jvm.Cond.fieldLinkNest "LeftAsFound" (22 : Nat) "LeftAsFound$Change" "was" "I" "LeftAsFound") ∈ lw_tbl := lw_at lw_m1 187 rfl
theorem q282 : (Jvm.Cond.fieldLinkNest "LeftAsFound" (25 : Nat) "LeftAsFound$Change" "is" "I" "LeftAsFound") ∈ lw_tbl := lw_at lw_m1 188 rfl
theorem q290 : (Jvm.Cond.fieldLink "LeftAsFound" (12 : Nat) "LeftAsFound" "changes" "[LLeftAsFound$Change;") ∈ lw_all := lw_g (lw_at lw_m1 196 rfl) rfl
theorem q291 : (Jvm.Cond.fieldLink "LeftAsFound" (28 : Nat) "LeftAsFound" "changeMany" "I") ∈ lw_all := lw_g (lw_at lw_m1 197 rfl) rfl
theorem q292 : (Jvm.Cond.fieldLink "LeftAsFound" (9 : Nat) "LeftAsFound" "done" "I") ∈ lw_all := lw_g (lw_at lw_m1 198 rfl) rfl
theorem q293 : (Jvm.Cond.fieldLink "LeftAsFound" (37 : Nat) "LeftAsFound" "tape" "[I") ∈ lw_all := lw_g (lw_at lw_m1 199 rfl) rfl
theorem q294 : (Jvm.Cond.fieldLink "LeftAsFound" (151 : Nat) "LeftAsFound" "length" "I") ∈ lw_all := lw_g (lw_at lw_m1 200 rfl) rfl
theorem q295 : (Jvm.Cond.fieldLink "LeftAsFound" (44 : Nat) "LeftAsFound" "fault" "LLeftAsFound$Fault;") ∈ lw_all := lw_g (lw_at lw_m1 201 rfl) rfl
theorem q296 : (Jvm.Cond.fieldLink "LeftAsFound" (154 : Nat) "LeftAsFound" "at" "I") ∈ lw_all := lw_g (lw_at lw_m1 202 rfl) rfl
theorem q298 : (Jvm.Cond.fieldLink "LeftAsFound" (50 : Nat) "LeftAsFound" "guests" "[LLeftAsFound$Guest;") ∈ lw_all := lw_g (lw_at lw_m1 204 rfl) rfl
theorem q299 : (Jvm.Cond.fieldLink "LeftAsFound" (169 : Nat) "LeftAsFound" "guestMany" "I") ∈ lw_all := lw_g (lw_at lw_m1 205 rfl) rfl
theorem q301 : (Jvm.Cond.fieldLink "LeftAsFound" (54 : Nat) "LeftAsFound" "oughts" "[LLeftAsFound$Held;") ∈ lw_all := lw_g (lw_at lw_m1 207 rfl) rfl
theorem q303 : (Jvm.Cond.fieldLink "LeftAsFound" (58 : Nat) "LeftAsFound" "worths" "[LLeftAsFound$Held;") ∈ lw_all := lw_g (lw_at lw_m1 209 rfl) rfl
theorem q304 : (Jvm.Cond.fieldLink "LeftAsFound" (65 : Nat) "LeftAsFound" "rule" "LLeftAsFound$Held;") ∈ lw_all := lw_g (lw_at lw_m1 210 rfl) rfl
theorem q305 : (Jvm.Cond.fieldLink "LeftAsFound" (68 : Nat) "LeftAsFound" "price" "LLeftAsFound$Held;") ∈ lw_all := lw_g (lw_at lw_m1 211 rfl) rfl
theorem q306 : (Jvm.Cond.fieldLink "LeftAsFound" (71 : Nat) "LeftAsFound" "honest" "LLeftAsFound$Held;") ∈ lw_all := lw_g (lw_at lw_m1 212 rfl) rfl
theorem q307 : (Jvm.Cond.fieldLink "LeftAsFound" (77 : Nat) "LeftAsFound" "torn" "LLeftAsFound$Torn;") ∈ lw_all := lw_g (lw_at lw_m1 213 rfl) rfl
theorem q309 : (Jvm.Cond.fieldLink "LeftAsFound" (81 : Nat) "LeftAsFound" "names" "[I") ∈ lw_all := lw_g (lw_at lw_m1 215 rfl) rfl
theorem q310 : (Jvm.Cond.fieldLink "LeftAsFound" (269 : Nat) "LeftAsFound" "opened" "I") ∈ lw_all := lw_g (lw_at lw_m1 216 rfl) rfl
theorem q311 : (Jvm.Cond.fieldLink "LeftAsFound" (325 : Nat) "LeftAsFound" "leaving" "LLeftAsFound$Line;") ∈ lw_all := lw_g (lw_at lw_m1 217 rfl) rfl
theorem q312 : (Jvm.Cond.fieldLink "LeftAsFound" (89 : Nat) "LeftAsFound" "self" "LLeftAsFound$Hut;") ∈ lw_all := lw_g (lw_at lw_m1 218 rfl) rfl
theorem q313 : (Jvm.Cond.fieldLink "LeftAsFound" (93 : Nat) "LeftAsFound" "thought" "LLeftAsFound$Hut;") ∈ lw_all := lw_g (lw_at lw_m1 219 rfl) rfl
theorem q314 : (Jvm.Cond.fieldLink "LeftAsFound" (96 : Nat) "LeftAsFound" "comes" "[I") ∈ lw_all := lw_g (lw_at lw_m1 220 rfl) rfl
theorem q315 : (Jvm.Cond.fieldLink "LeftAsFound" (345 : Nat) "LeftAsFound" "nightMany" "I") ∈ lw_all := lw_g (lw_at lw_m1 221 rfl) rfl
theorem q316 : (Jvm.Cond.fieldLink "LeftAsFound" (99 : Nat) "LeftAsFound" "states" "[I") ∈ lw_all := lw_g (lw_at lw_m1 222 rfl) rfl
theorem q317 : (Jvm.Cond.fieldLink "LeftAsFound" (379 : Nat) "LeftAsFound" "restAt" "I") ∈ lw_all := lw_g (lw_at lw_m1 223 rfl) rfl
theorem q318 : (Jvm.Cond.fieldLink "LeftAsFound" (382 : Nat) "LeftAsFound" "round" "I") ∈ lw_all := lw_g (lw_at lw_m1 224 rfl) rfl
theorem q319 : (Jvm.Cond.fieldLink "LeftAsFound" (102 : Nat) "LeftAsFound" "asTold" "[I") ∈ lw_all := lw_g (lw_at lw_m1 225 rfl) rfl
theorem q320 : (Jvm.Cond.fieldLink "LeftAsFound" (105 : Nat) "LeftAsFound" "order" "[I") ∈ lw_all := lw_g (lw_at lw_m1 226 rfl) rfl
theorem q321 : (Jvm.Cond.fieldLink "LeftAsFound" (108 : Nat) "LeftAsFound" "bestOrder" "[I") ∈ lw_all := lw_g (lw_at lw_m1 227 rfl) rfl
theorem q322 : (Jvm.Cond.fieldLink "LeftAsFound" (407 : Nat) "LeftAsFound" "leastLoss" "I") ∈ lw_all := lw_g (lw_at lw_m1 228 rfl) rfl
theorem q323 : (Jvm.Cond.fieldLink "LeftAsFound" (111 : Nat) "LeftAsFound" "behind" "[LLeftAsFound$Hut;") ∈ lw_all := lw_g (lw_at lw_m1 229 rfl) rfl
theorem q324 : (Jvm.Cond.fieldLink "LeftAsFound" (115 : Nat) "LeftAsFound" "maySet" "[I") ∈ lw_all := lw_g (lw_at lw_m1 230 rfl) rfl
theorem q325 : (Jvm.Cond.fieldLink "LeftAsFound" (118 : Nat) "LeftAsFound" "path" "[I") ∈ lw_all := lw_g (lw_at lw_m1 231 rfl) rfl
theorem q326 : (Jvm.Cond.fieldLink "LeftAsFound" (430 : Nat) "LeftAsFound" "wayMany" "I") ∈ lw_all := lw_g (lw_at lw_m1 232 rfl) rfl
theorem q327 : (Jvm.Cond.fieldLink "LeftAsFound" (121 : Nat) "LeftAsFound" "ledNow" "[I") ∈ lw_all := lw_g (lw_at lw_m1 233 rfl) rfl
theorem q328 : (Jvm.Cond.fieldLink "LeftAsFound" (444 : Nat) "LeftAsFound" "isKept" "Z") ∈ lw_all := lw_g (lw_at lw_m1 234 rfl) rfl
theorem q329 : (Jvm.Cond.fieldLink "LeftAsFound" (124 : Nat) "LeftAsFound" "imageHut" "LLeftAsFound$Hut;") ∈ lw_all := lw_g (lw_at lw_m1 235 rfl) rfl
theorem q330 : (Jvm.Cond.fieldLink "LeftAsFound" (127 : Nat) "LeftAsFound" "imageLed" "[I") ∈ lw_all := lw_g (lw_at lw_m1 236 rfl) rfl
theorem q331 : (Jvm.Cond.fieldLink "LeftAsFound" (132 : Nat) "LeftAsFound" "bodies" "[LLeftAsFound$Body;") ∈ lw_all := lw_g (lw_at lw_m1 237 rfl) rfl
theorem q332 : (Jvm.Cond.fieldLink "LeftAsFound" (448 : Nat) "LeftAsFound" "bodyMany" "I") ∈ lw_all := lw_g (lw_at lw_m1 238 rfl) rfl
theorem q334 : (Jvm.Cond.fieldLink "LeftAsFound" (136 : Nat) "LeftAsFound" "trace" "[I") ∈ lw_all := lw_g (lw_at lw_m2 0 rfl) rfl
theorem q336 : (Jvm.Cond.fieldLink "LeftAsFound" (477 : Nat) "LeftAsFound" "ran" "I") ∈ lw_all := lw_g (lw_at lw_m2 2 rfl) rfl
theorem q337 : (Jvm.Cond.fieldLink "LeftAsFound" (139 : Nat) "LeftAsFound" "shelves" "[Ljava/lang/Object;") ∈ lw_all := lw_g (lw_at lw_m2 3 rfl) rfl
theorem q338 : (Jvm.Cond.laysFinal "LeftAsFound" "LeftAsFound" "changes" "[LLeftAsFound$Change;") ∈ lw_all := lw_g (lw_at lw_m2 4 rfl) rfl
theorem q339 : (Jvm.Cond.soleField "LeftAsFound" "changes") ∈ lw_all := lw_g (lw_at lw_m2 5 rfl) rfl
theorem q340 : (Jvm.Cond.lays "LeftAsFound" "LeftAsFound" "changeMany" "I") ∈ lw_all := lw_g (lw_at lw_m2 6 rfl) rfl
theorem q341 : (Jvm.Cond.soleField "LeftAsFound" "changeMany") ∈ lw_all := lw_g (lw_at lw_m2 7 rfl) rfl
theorem q342 : (Jvm.Cond.lays "LeftAsFound" "LeftAsFound" "done" "I") ∈ lw_all := lw_g (lw_at lw_m2 8 rfl) rfl
theorem q343 : (Jvm.Cond.soleField "LeftAsFound" "done") ∈ lw_all := lw_g (lw_at lw_m2 9 rfl) rfl
theorem q344 : (Jvm.Cond.laysFinal "LeftAsFound" "LeftAsFound" "tape" "[I") ∈ lw_all := lw_g (lw_at lw_m2 10 rfl) rfl
theorem q345 : (Jvm.Cond.soleField "LeftAsFound" "tape") ∈ lw_all := lw_g (lw_at lw_m2 11 rfl) rfl
theorem q346 : (Jvm.Cond.lays "LeftAsFound" "LeftAsFound" "length" "I") ∈ lw_all := lw_g (lw_at lw_m2 12 rfl) rfl
theorem q347 : (Jvm.Cond.soleField "LeftAsFound" "length") ∈ lw_all := lw_g (lw_at lw_m2 13 rfl) rfl
theorem q348 : (Jvm.Cond.laysFinal "LeftAsFound" "LeftAsFound" "fault" "LLeftAsFound$Fault;") ∈ lw_all := lw_g (lw_at lw_m2 14 rfl) rfl
theorem q349 : (Jvm.Cond.soleField "LeftAsFound" "fault") ∈ lw_all := lw_g (lw_at lw_m2 15 rfl) rfl
theorem q350 : (Jvm.Cond.lays "LeftAsFound" "LeftAsFound" "at" "I") ∈ lw_all := lw_g (lw_at lw_m2 16 rfl) rfl
theorem q351 : (Jvm.Cond.soleField "LeftAsFound" "at") ∈ lw_all := lw_g (lw_at lw_m2 17 rfl) rfl
theorem q352 : (Jvm.Cond.laysFinal "LeftAsFound" "LeftAsFound" "guests" "[LLeftAsFound$Guest;") ∈ lw_all := lw_g (lw_at lw_m2 18 rfl) rfl
theorem q353 : (Jvm.Cond.soleField "LeftAsFound" "guests") ∈ lw_all := lw_g (lw_at lw_m2 19 rfl) rfl
theorem q354 : (Jvm.Cond.lays "LeftAsFound" "LeftAsFound" "guestMany" "I") ∈ lw_all := lw_g (lw_at lw_m2 20 rfl) rfl
theorem q355 : (Jvm.Cond.soleField "LeftAsFound" "guestMany") ∈ lw_all := lw_g (lw_at lw_m2 21 rfl) rfl
theorem q356 : (Jvm.Cond.laysFinal "LeftAsFound" "LeftAsFound" "oughts" "[LLeftAsFound$Held;") ∈ lw_all := lw_g (lw_at lw_m2 22 rfl) rfl
theorem q357 : (Jvm.Cond.soleField "LeftAsFound" "oughts") ∈ lw_all := lw_g (lw_at lw_m2 23 rfl) rfl
theorem q358 : (Jvm.Cond.laysFinal "LeftAsFound" "LeftAsFound" "worths" "[LLeftAsFound$Held;") ∈ lw_all := lw_g (lw_at lw_m2 24 rfl) rfl
theorem q359 : (Jvm.Cond.soleField "LeftAsFound" "worths") ∈ lw_all := lw_g (lw_at lw_m2 25 rfl) rfl
theorem q360 : (Jvm.Cond.laysFinal "LeftAsFound" "LeftAsFound" "rule" "LLeftAsFound$Held;") ∈ lw_all := lw_g (lw_at lw_m2 26 rfl) rfl
theorem q361 : (Jvm.Cond.soleField "LeftAsFound" "rule") ∈ lw_all := lw_g (lw_at lw_m2 27 rfl) rfl
theorem q362 : (Jvm.Cond.laysFinal "LeftAsFound" "LeftAsFound" "price" "LLeftAsFound$Held;") ∈ lw_all := lw_g (lw_at lw_m2 28 rfl) rfl
theorem q363 : (Jvm.Cond.soleField "LeftAsFound" "price") ∈ lw_all := lw_g (lw_at lw_m2 29 rfl) rfl
theorem q364 : (Jvm.Cond.laysFinal "LeftAsFound" "LeftAsFound" "honest" "LLeftAsFound$Held;") ∈ lw_all := lw_g (lw_at lw_m2 30 rfl) rfl
theorem q365 : (Jvm.Cond.soleField "LeftAsFound" "honest") ∈ lw_all := lw_g (lw_at lw_m2 31 rfl) rfl
theorem q366 : (Jvm.Cond.laysFinal "LeftAsFound" "LeftAsFound" "torn" "LLeftAsFound$Torn;") ∈ lw_all := lw_g (lw_at lw_m2 32 rfl) rfl
theorem q367 : (Jvm.Cond.soleField "LeftAsFound" "torn") ∈ lw_all := lw_g (lw_at lw_m2 33 rfl) rfl
theorem q368 : (Jvm.Cond.laysFinal "LeftAsFound" "LeftAsFound" "names" "[I") ∈ lw_all := lw_g (lw_at lw_m2 34 rfl) rfl
theorem q369 : (Jvm.Cond.soleField "LeftAsFound" "names") ∈ lw_all := lw_g (lw_at lw_m2 35 rfl) rfl
theorem q370 : (Jvm.Cond.lays "LeftAsFound" "LeftAsFound" "opened" "I") ∈ lw_all := lw_g (lw_at lw_m2 36 rfl) rfl
theorem q371 : (Jvm.Cond.soleField "LeftAsFound" "opened") ∈ lw_all := lw_g (lw_at lw_m2 37 rfl) rfl
theorem q372 : (Jvm.Cond.lays "LeftAsFound" "LeftAsFound" "leaving" "LLeftAsFound$Line;") ∈ lw_all := lw_g (lw_at lw_m2 38 rfl) rfl
theorem q373 : (Jvm.Cond.soleField "LeftAsFound" "leaving") ∈ lw_all := lw_g (lw_at lw_m2 39 rfl) rfl
theorem q374 : (Jvm.Cond.laysFinal "LeftAsFound" "LeftAsFound" "self" "LLeftAsFound$Hut;") ∈ lw_all := lw_g (lw_at lw_m2 40 rfl) rfl
theorem q375 : (Jvm.Cond.soleField "LeftAsFound" "self") ∈ lw_all := lw_g (lw_at lw_m2 41 rfl) rfl
theorem q376 : (Jvm.Cond.laysFinal "LeftAsFound" "LeftAsFound" "thought" "LLeftAsFound$Hut;") ∈ lw_all := lw_g (lw_at lw_m2 42 rfl) rfl
theorem q377 : (Jvm.Cond.soleField "LeftAsFound" "thought") ∈ lw_all := lw_g (lw_at lw_m2 43 rfl) rfl
theorem q378 : (Jvm.Cond.laysFinal "LeftAsFound" "LeftAsFound" "comes" "[I") ∈ lw_all := lw_g (lw_at lw_m2 44 rfl) rfl
theorem q379 : (Jvm.Cond.soleField "LeftAsFound" "comes") ∈ lw_all := lw_g (lw_at lw_m2 45 rfl) rfl
theorem q380 : (Jvm.Cond.lays "LeftAsFound" "LeftAsFound" "nightMany" "I") ∈ lw_all := lw_g (lw_at lw_m2 46 rfl) rfl
theorem q381 : (Jvm.Cond.soleField "LeftAsFound" "nightMany") ∈ lw_all := lw_g (lw_at lw_m2 47 rfl) rfl
theorem q382 : (Jvm.Cond.laysFinal "LeftAsFound" "LeftAsFound" "states" "[I") ∈ lw_all := lw_g (lw_at lw_m2 48 rfl) rfl
theorem q383 : (Jvm.Cond.soleField "LeftAsFound" "states") ∈ lw_all := lw_g (lw_at lw_m2 49 rfl) rfl
theorem q384 : (Jvm.Cond.lays "LeftAsFound" "LeftAsFound" "restAt" "I") ∈ lw_all := lw_g (lw_at lw_m2 50 rfl) rfl
theorem q385 : (Jvm.Cond.soleField "LeftAsFound" "restAt") ∈ lw_all := lw_g (lw_at lw_m2 51 rfl) rfl
theorem q386 : (Jvm.Cond.lays "LeftAsFound" "LeftAsFound" "round" "I") ∈ lw_all := lw_g (lw_at lw_m2 52 rfl) rfl
theorem q387 : (Jvm.Cond.soleField "LeftAsFound" "round") ∈ lw_all := lw_g (lw_at lw_m2 53 rfl) rfl
theorem q388 : (Jvm.Cond.laysFinal "LeftAsFound" "LeftAsFound" "asTold" "[I") ∈ lw_all := lw_g (lw_at lw_m2 54 rfl) rfl
theorem q389 : (Jvm.Cond.soleField "LeftAsFound" "asTold") ∈ lw_all := lw_g (lw_at lw_m2 55 rfl) rfl
theorem q390 : (Jvm.Cond.laysFinal "LeftAsFound" "LeftAsFound" "order" "[I") ∈ lw_all := lw_g (lw_at lw_m2 56 rfl) rfl
theorem q391 : (Jvm.Cond.soleField "LeftAsFound" "order") ∈ lw_all := lw_g (lw_at lw_m2 57 rfl) rfl
theorem q392 : (Jvm.Cond.laysFinal "LeftAsFound" "LeftAsFound" "bestOrder" "[I") ∈ lw_all := lw_g (lw_at lw_m2 58 rfl) rfl
theorem q393 : (Jvm.Cond.soleField "LeftAsFound" "bestOrder") ∈ lw_all := lw_g (lw_at lw_m2 59 rfl) rfl
theorem q394 : (Jvm.Cond.lays "LeftAsFound" "LeftAsFound" "leastLoss" "I") ∈ lw_all := lw_g (lw_at lw_m2 60 rfl) rfl
theorem q395 : (Jvm.Cond.soleField "LeftAsFound" "leastLoss") ∈ lw_all := lw_g (lw_at lw_m2 61 rfl) rfl
theorem q396 : (Jvm.Cond.laysFinal "LeftAsFound" "LeftAsFound" "behind" "[LLeftAsFound$Hut;") ∈ lw_all := lw_g (lw_at lw_m2 62 rfl) rfl
theorem q397 : (Jvm.Cond.soleField "LeftAsFound" "behind") ∈ lw_all := lw_g (lw_at lw_m2 63 rfl) rfl
theorem q398 : (Jvm.Cond.laysFinal "LeftAsFound" "LeftAsFound" "maySet" "[I") ∈ lw_all := lw_g (lw_at lw_m2 64 rfl) rfl
theorem q399 : (Jvm.Cond.soleField "LeftAsFound" "maySet") ∈ lw_all := lw_g (lw_at lw_m2 65 rfl) rfl
theorem q400 : (Jvm.Cond.laysFinal "LeftAsFound" "LeftAsFound" "path" "[I") ∈ lw_all := lw_g (lw_at lw_m2 66 rfl) rfl
theorem q401 : (Jvm.Cond.soleField "LeftAsFound" "path") ∈ lw_all := lw_g (lw_at lw_m2 67 rfl) rfl
theorem q402 : (Jvm.Cond.lays "LeftAsFound" "LeftAsFound" "wayMany" "I") ∈ lw_all := lw_g (lw_at lw_m2 68 rfl) rfl
theorem q403 : (Jvm.Cond.soleField "LeftAsFound" "wayMany") ∈ lw_all := lw_g (lw_at lw_m2 69 rfl) rfl
theorem q404 : (Jvm.Cond.laysFinal "LeftAsFound" "LeftAsFound" "ledNow" "[I") ∈ lw_all := lw_g (lw_at lw_m2 70 rfl) rfl
theorem q405 : (Jvm.Cond.soleField "LeftAsFound" "ledNow") ∈ lw_all := lw_g (lw_at lw_m2 71 rfl) rfl
theorem q406 : (Jvm.Cond.lays "LeftAsFound" "LeftAsFound" "isKept" "Z") ∈ lw_all := lw_g (lw_at lw_m2 72 rfl) rfl
theorem q407 : (Jvm.Cond.soleField "LeftAsFound" "isKept") ∈ lw_all := lw_g (lw_at lw_m2 73 rfl) rfl
theorem q408 : (Jvm.Cond.laysFinal "LeftAsFound" "LeftAsFound" "imageHut" "LLeftAsFound$Hut;") ∈ lw_all := lw_g (lw_at lw_m2 74 rfl) rfl
theorem q409 : (Jvm.Cond.soleField "LeftAsFound" "imageHut") ∈ lw_all := lw_g (lw_at lw_m2 75 rfl) rfl
theorem q410 : (Jvm.Cond.laysFinal "LeftAsFound" "LeftAsFound" "imageLed" "[I") ∈ lw_all := lw_g (lw_at lw_m2 76 rfl) rfl
theorem q411 : (Jvm.Cond.soleField "LeftAsFound" "imageLed") ∈ lw_all := lw_g (lw_at lw_m2 77 rfl) rfl
theorem q412 : (Jvm.Cond.laysFinal "LeftAsFound" "LeftAsFound" "bodies" "[LLeftAsFound$Body;") ∈ lw_all := lw_g (lw_at lw_m2 78 rfl) rfl
theorem q413 : (Jvm.Cond.soleField "LeftAsFound" "bodies") ∈ lw_all := lw_g (lw_at lw_m2 79 rfl) rfl
theorem q414 : (Jvm.Cond.lays "LeftAsFound" "LeftAsFound" "bodyMany" "I") ∈ lw_all := lw_g (lw_at lw_m2 80 rfl) rfl
theorem q415 : (Jvm.Cond.soleField "LeftAsFound" "bodyMany") ∈ lw_all := lw_g (lw_at lw_m2 81 rfl) rfl
theorem q416 : (Jvm.Cond.laysFinal "LeftAsFound" "LeftAsFound" "trace" "[I") ∈ lw_all := lw_g (lw_at lw_m2 82 rfl) rfl
theorem q417 : (Jvm.Cond.soleField "LeftAsFound" "trace") ∈ lw_all := lw_g (lw_at lw_m2 83 rfl) rfl
theorem q418 : (Jvm.Cond.lays "LeftAsFound" "LeftAsFound" "ran" "I") ∈ lw_all := lw_g (lw_at lw_m2 84 rfl) rfl
theorem q419 : (Jvm.Cond.soleField "LeftAsFound" "ran") ∈ lw_all := lw_g (lw_at lw_m2 85 rfl) rfl
theorem q420 : (Jvm.Cond.laysFinal "LeftAsFound" "LeftAsFound" "shelves" "[Ljava/lang/Object;") ∈ lw_all := lw_g (lw_at lw_m2 86 rfl) rfl
theorem q421 : (Jvm.Cond.soleField "LeftAsFound" "shelves") ∈ lw_all := lw_g (lw_at lw_m2 87 rfl) rfl
theorem q422 : (Jvm.Cond.superclass "LeftAsFound" "java/lang/Object") ∈ lw_all := lw_g (lw_at lw_m2 88 rfl) rfl
theorem q424 : (Jvm.Cond.instanceMethod ({ cls := "LeftAsFound", name := "feed", desc := "(I)I" } : Jvm.MethodName)) ∈ lw_all := lw_g (lw_at lw_m2 90 rfl) rfl
theorem q425 : (Jvm.Cond.selects "LeftAsFound" ({ cls := "LeftAsFound", name := "feed", desc := "(I)I" } : Jvm.MethodName) ({ cls := "LeftAsFound", name := "feed", desc := "(I)I" } : Jvm.MethodName)) ∈ lw_all := lw_g (lw_at lw_m2 91 rfl) rfl
theorem q426 : (Jvm.Cond.code ({ cls := "LeftAsFound", name := "feed", desc := "(I)I" } : Jvm.MethodName) prog_1_method_10_code (2 : Nat) (Option.some Jvm.ClassFile.FieldType.int)) ∈ lw_all := lw_g (lw_at lw_m2 92 rfl) rfl
theorem q427 : (Jvm.Cond.constantLong "LeftAsFound" (145 : Nat) (255 : Int64)) ∈ lw_all := lw_g (lw_at lw_m2 93 rfl) rfl
theorem q428 : (Jvm.Cond.methodLink "LeftAsFound" (147 : Nat) ({ cls := "LeftAsFound", name := "within", desc := "(JJJ)Z" } : Jvm.MethodName)) ∈ lw_all := lw_g (lw_at lw_m2 94 rfl) rfl
theorem q429 : (Jvm.Cond.static ({ cls := "LeftAsFound", name := "within", desc := "(JJJ)Z" } : Jvm.MethodName)) ∈ lw_all := lw_g (lw_at lw_m2 95 rfl) rfl
theorem q430 : (Jvm.Cond.code ({ cls := "LeftAsFound", name := "within", desc := "(JJJ)Z" } : Jvm.MethodName) prog_1_method_1_code (6 : Nat) (Option.some Jvm.ClassFile.FieldType.boolean)) ∈ lw_all := lw_g (lw_at lw_m2 96 rfl) rfl
theorem q432 : (Jvm.Cond.instanceMethod ({ cls := "LeftAsFound", name := "guest", desc := "(II)I" } : Jvm.MethodName)) ∈ lw_all := lw_g (lw_at lw_m2 98 rfl) rfl
theorem q433 : (Jvm.Cond.selects "LeftAsFound" ({ cls := "LeftAsFound", name := "guest", desc := "(II)I" } : Jvm.MethodName) ({ cls := "LeftAsFound", name := "guest", desc := "(II)I" } : Jvm.MethodName)) ∈ lw_all := lw_g (lw_at lw_m2 99 rfl) rfl
theorem q434 : (Jvm.Cond.code ({ cls := "LeftAsFound", name := "guest", desc := "(II)I" } : Jvm.MethodName) prog_1_method_19_code (3 : Nat) (Option.some Jvm.ClassFile.FieldType.int)) ∈ lw_all := lw_g (lw_at lw_m2 100 rfl) rfl
theorem q435 : (Jvm.Cond.methodLink "LeftAsFound" (185 : Nat) ({ cls := "LeftAsFound", name := "mayBe", desc := "(III)Z" } : Jvm.MethodName)) ∈ lw_all := lw_g (lw_at lw_m2 101 rfl) rfl
theorem q436 : (Jvm.Cond.static ({ cls := "LeftAsFound", name := "mayBe", desc := "(III)Z" } : Jvm.MethodName)) ∈ lw_all := lw_g (lw_at lw_m2 102 rfl) rfl
theorem q437 : (Jvm.Cond.code ({ cls := "LeftAsFound", name := "mayBe", desc := "(III)Z" } : Jvm.MethodName) prog_1_method_18_code (3 : Nat) (Option.some Jvm.ClassFile.FieldType.boolean)) ∈ lw_all := lw_g (lw_at lw_m2 103 rfl) rfl
theorem q438 : (Jvm.Cond.constantLong "LeftAsFound" (181 : Nat) (9 : Int64)) ∈ lw_all := lw_g (lw_at lw_m2 104 rfl) rfl
theorem q439 : (Jvm.Cond.constantLong "LeftAsFound" (183 : Nat) (50 : Int64)) ∈ lw_all := lw_g (lw_at lw_m2 105 rfl) rfl
theorem q440 : (Jvm.Cond.constantLong "LeftAsFound" (172 : Nat) (3 : Int64)) ∈ lw_all := lw_g (lw_at lw_m2 106 rfl) rfl
theorem q442 : (Jvm.Cond.methodLink "LeftAsFound" (189 : Nat) ({ cls := "LeftAsFound$Guest", name := "<init>", desc := "(III)V" } : Jvm.MethodName)) ∈ lw_all := lw_g (lw_at lw_m2 108 rfl) rfl
theorem q449 : (Jvm.Cond.fieldLinkNest "LeftAsFound" (212 : Nat) "LeftAsFound$Guest" "takes" "[LLeftAsFound$Held;" "LeftAsFound") ∈ lw_tbl := lw_at lw_m2 115 rfl
theorem q451 : (Jvm.Cond.fieldLinkNest "LeftAsFound" (215 : Nat) "LeftAsFound$Guest" "brings" "[LLeftAsFound$Held;" "LeftAsFound") ∈ lw_tbl := lw_at lw_m2 117 rfl
theorem q453 : (Jvm.Cond.fieldLinkNest "LeftAsFound" (218 : Nat) "LeftAsFound$Guest" "sees" "LLeftAsFound$Held;" "LeftAsFound") ∈ lw_tbl := lw_at lw_m2 119 rfl
theorem q456 : (Jvm.Cond.fieldLinkNest "LeftAsFound" (221 : Nat) "LeftAsFound$Guest" "believes" "LLeftAsFound$Held;" "LeftAsFound") ∈ lw_tbl := lw_at lw_m2 122 rfl
theorem q467 : (Jvm.Cond.instanceMethod ({ cls := "LeftAsFound", name := "guests", desc := "(III)I" } : Jvm.MethodName)) ∈ lw_all := lw_g (lw_at lw_m2 133 rfl) rfl
theorem q468 : (Jvm.Cond.selects "LeftAsFound" ({ cls := "LeftAsFound", name := "guests", desc := "(III)I" } : Jvm.MethodName) ({ cls := "LeftAsFound", name := "guests", desc := "(III)I" } : Jvm.MethodName)) ∈ lw_all := lw_g (lw_at lw_m2 134 rfl) rfl
theorem q469 : (Jvm.Cond.codeWith ({ cls := "LeftAsFound", name := "guests", desc := "(III)I" } : Jvm.MethodName) prog_1_method_21_code (12 : Nat) (Option.some Jvm.ClassFile.FieldType.int) [((54 : Nat), (169 : Nat), (172 : Nat), (74 : Nat))]) ∈ lw_all := lw_g (lw_at lw_m2 135 rfl) rfl
theorem q470 : (Jvm.Cond.methodLink "LeftAsFound" (194 : Nat) ({ cls := "LeftAsFound", name := "isShelf", desc := "(I)Z" } : Jvm.MethodName)) ∈ lw_all := lw_g (lw_at lw_m2 136 rfl) rfl
theorem q471 : (Jvm.Cond.static ({ cls := "LeftAsFound", name := "isShelf", desc := "(I)Z" } : Jvm.MethodName)) ∈ lw_all := lw_g (lw_at lw_m2 137 rfl) rfl
theorem q472 : (Jvm.Cond.code ({ cls := "LeftAsFound", name := "isShelf", desc := "(I)Z" } : Jvm.MethodName) prog_1_method_79_code (1 : Nat) (Option.some Jvm.ClassFile.FieldType.boolean)) ∈ lw_all := lw_g (lw_at lw_m2 138 rfl) rfl
theorem q473 : (Jvm.Cond.constantLong "LeftAsFound" (385 : Nat) (5 : Int64)) ∈ lw_all := lw_g (lw_at lw_m2 139 rfl) rfl
theorem q474 : (Jvm.Cond.constantLong "LeftAsFound" (197 : Nat) (7 : Int64)) ∈ lw_all := lw_g (lw_at lw_m2 140 rfl) rfl
theorem q475 : (Jvm.Cond.methodLink "LeftAsFound" (199 : Nat) ({ cls := "LeftAsFound", name := "sortOf", desc := "(Ljava/lang/Object;)I" } : Jvm.MethodName)) ∈ lw_all := lw_g (lw_at lw_m2 141 rfl) rfl
theorem q476 : (Jvm.Cond.static ({ cls := "LeftAsFound", name := "sortOf", desc := "(Ljava/lang/Object;)I" } : Jvm.MethodName)) ∈ lw_all := lw_g (lw_at lw_m2 142 rfl) rfl
theorem q477 : (Jvm.Cond.code ({ cls := "LeftAsFound", name := "sortOf", desc := "(Ljava/lang/Object;)I" } : Jvm.MethodName) prog_1_method_82_code (1 : Nat) (Option.some Jvm.ClassFile.FieldType.int)) ∈ lw_all := lw_g (lw_at lw_m2 143 rfl) rfl
theorem q478 : (Jvm.Cond.classLink "LeftAsFound" (192 : Nat) "[B") ∈ lw_all := lw_g (lw_at lw_m2 144 rfl) rfl
theorem q479 : (Jvm.Cond.classLink "LeftAsFound" (495 : Nat) "[S") ∈ lw_all := lw_g (lw_at lw_m2 145 rfl) rfl
theorem q480 : (Jvm.Cond.classLink "LeftAsFound" (497 : Nat) "[I") ∈ lw_all := lw_g (lw_at lw_m2 146 rfl) rfl
theorem q481 : (Jvm.Cond.classLink "LeftAsFound" (498 : Nat) "[J") ∈ lw_all := lw_g (lw_at lw_m2 147 rfl) rfl
theorem q482 : (Jvm.Cond.classLink "LeftAsFound" (500 : Nat) "[Z") ∈ lw_all := lw_g (lw_at lw_m2 148 rfl) rfl
theorem q483 : (Jvm.Cond.methodLink "LeftAsFound" (203 : Nat) ({ cls := "LeftAsFound", name := "toldIn", desc := "(Ljava/lang/Object;J)I" } : Jvm.MethodName)) ∈ lw_all := lw_g (lw_at lw_m2 149 rfl) rfl
theorem q484 : (Jvm.Cond.privateMethod ({ cls := "LeftAsFound", name := "toldIn", desc := "(Ljava/lang/Object;J)I" } : Jvm.MethodName)) ∈ lw_tbl := lw_at lw_m2 150 rfl
theorem q485 : (Jvm.Cond.instanceMethod ({ cls := "LeftAsFound", name := "toldIn", desc := "(Ljava/lang/Object;J)I" } : Jvm.MethodName)) ∈ lw_all := lw_g (lw_at lw_m2 151 rfl) rfl
theorem q486 : (Jvm.Cond.code ({ cls := "LeftAsFound", name := "toldIn", desc := "(Ljava/lang/Object;J)I" } : Jvm.MethodName) prog_1_method_20_code (4 : Nat) (Option.some Jvm.ClassFile.FieldType.int)) ∈ lw_all := lw_g (lw_at lw_m2 152 rfl) rfl
theorem q487 : (Jvm.Cond.constantLong "LeftAsFound" (207 : Nat) (2 : Int64)) ∈ lw_all := lw_g (lw_at lw_m2 153 rfl) rfl
theorem q489 : (Jvm.Cond.instanceMethod ({ cls := "LeftAsFound", name := "mend", desc := "(III)I" } : Jvm.MethodName)) ∈ lw_all := lw_g (lw_at lw_m2 155 rfl) rfl
theorem q490 : (Jvm.Cond.selects "LeftAsFound" ({ cls := "LeftAsFound", name := "mend", desc := "(III)I" } : Jvm.MethodName) ({ cls := "LeftAsFound", name := "mend", desc := "(III)I" } : Jvm.MethodName)) ∈ lw_all := lw_g (lw_at lw_m2 156 rfl) rfl
theorem q491 : (Jvm.Cond.code ({ cls := "LeftAsFound", name := "mend", desc := "(III)I" } : Jvm.MethodName) prog_1_method_24_code (5 : Nat) (Option.some Jvm.ClassFile.FieldType.int)) ∈ lw_all := lw_g (lw_at lw_m2 157 rfl) rfl
theorem q492 : (Jvm.Cond.methodLink "LeftAsFound" (224 : Nat) ({ cls := "LeftAsFound", name := "held", desc := "(II)LLeftAsFound$Held;" } : Jvm.MethodName)) ∈ lw_all := lw_g (lw_at lw_m2 158 rfl) rfl
theorem q493 : (Jvm.Cond.privateMethod ({ cls := "LeftAsFound", name := "held", desc := "(II)LLeftAsFound$Held;" } : Jvm.MethodName)) ∈ lw_tbl := lw_at lw_m2 159 rfl
theorem q494 : (Jvm.Cond.instanceMethod ({ cls := "LeftAsFound", name := "held", desc := "(II)LLeftAsFound$Held;" } : Jvm.MethodName)) ∈ lw_all := lw_g (lw_at lw_m2 160 rfl) rfl
theorem q495 : (Jvm.Cond.code ({ cls := "LeftAsFound", name := "held", desc := "(II)LLeftAsFound$Held;" } : Jvm.MethodName) prog_1_method_22_code (3 : Nat) (Option.some (Jvm.ClassFile.FieldType.object "LeftAsFound$Held"))) ∈ lw_all := lw_g (lw_at lw_m2 161 rfl) rfl
theorem q496 : (Jvm.Cond.methodLink "LeftAsFound" (178 : Nat) ({ cls := "LeftAsFound", name := "isThing", desc := "(I)Z" } : Jvm.MethodName)) ∈ lw_all := lw_g (lw_at lw_m2 162 rfl) rfl
theorem q497 : (Jvm.Cond.static ({ cls := "LeftAsFound", name := "isThing", desc := "(I)Z" } : Jvm.MethodName)) ∈ lw_all := lw_g (lw_at lw_m2 163 rfl) rfl
theorem q498 : (Jvm.Cond.code ({ cls := "LeftAsFound", name := "isThing", desc := "(I)Z" } : Jvm.MethodName) prog_1_method_16_code (1 : Nat) (Option.some Jvm.ClassFile.FieldType.boolean)) ∈ lw_all := lw_g (lw_at lw_m2 164 rfl) rfl
theorem q499 : (Jvm.Cond.methodLink "LeftAsFound" (209 : Nat) ({ cls := "LeftAsFound", name := "isGt", desc := "(I)Z" } : Jvm.MethodName)) ∈ lw_all := lw_g (lw_at lw_m2 165 rfl) rfl
theorem q500 : (Jvm.Cond.privateMethod ({ cls := "LeftAsFound", name := "isGt", desc := "(I)Z" } : Jvm.MethodName)) ∈ lw_tbl := lw_at lw_m2 166 rfl
theorem q501 : (Jvm.Cond.instanceMethod ({ cls := "LeftAsFound", name := "isGt", desc := "(I)Z" } : Jvm.MethodName)) ∈ lw_all := lw_g (lw_at lw_m2 167 rfl) rfl
theorem q502 : (Jvm.Cond.code ({ cls := "LeftAsFound", name := "isGt", desc := "(I)Z" } : Jvm.MethodName) prog_1_method_17_code (2 : Nat) (Option.some Jvm.ClassFile.FieldType.boolean)) ∈ lw_all := lw_g (lw_at lw_m2 168 rfl) rfl
theorem q503 : (Jvm.Cond.methodLink "LeftAsFound" (174 : Nat) ({ cls := "LeftAsFound", name := "isGuest", desc := "(J)Z" } : Jvm.MethodName)) ∈ lw_all := lw_g (lw_at lw_m2 169 rfl) rfl
theorem q504 : (Jvm.Cond.privateMethod ({ cls := "LeftAsFound", name := "isGuest", desc := "(J)Z" } : Jvm.MethodName)) ∈ lw_tbl := lw_at lw_m2 170 rfl
theorem q505 : (Jvm.Cond.instanceMethod ({ cls := "LeftAsFound", name := "isGuest", desc := "(J)Z" } : Jvm.MethodName)) ∈ lw_all := lw_g (lw_at lw_m2 171 rfl) rfl
theorem q506 : (Jvm.Cond.code ({ cls := "LeftAsFound", name := "isGuest", desc := "(J)Z" } : Jvm.MethodName) prog_1_method_15_code (3 : Nat) (Option.some Jvm.ClassFile.FieldType.boolean)) ∈ lw_all := lw_g (lw_at lw_m2 172 rfl) rfl
theorem q507 : (Jvm.Cond.methodLink "LeftAsFound" (228 : Nat) ({ cls := "LeftAsFound", name := "greatest", desc := "(I)I" } : Jvm.MethodName)) ∈ lw_all := lw_g (lw_at lw_m2 173 rfl) rfl
theorem q508 : (Jvm.Cond.static ({ cls := "LeftAsFound", name := "greatest", desc := "(I)I" } : Jvm.MethodName)) ∈ lw_all := lw_g (lw_at lw_m2 174 rfl) rfl
theorem q509 : (Jvm.Cond.code ({ cls := "LeftAsFound", name := "greatest", desc := "(I)I" } : Jvm.MethodName) prog_1_method_23_code (1 : Nat) (Option.some Jvm.ClassFile.FieldType.int)) ∈ lw_all := lw_g (lw_at lw_m2 175 rfl) rfl
theorem q510 : (Jvm.Cond.methodLink "LeftAsFound" (232 : Nat) ({ cls := "LeftAsFound", name := "become", desc := "(LLeftAsFound$Held;I)I" } : Jvm.MethodName)) ∈ lw_all := lw_g (lw_at lw_m2 176 rfl) rfl
theorem q511 : (Jvm.Cond.privateMethod ({ cls := "LeftAsFound", name := "become", desc := "(LLeftAsFound$Held;I)I" } : Jvm.MethodName)) ∈ lw_tbl := lw_at lw_m2 177 rfl
theorem q512 : (Jvm.Cond.instanceMethod ({ cls := "LeftAsFound", name := "become", desc := "(LLeftAsFound$Held;I)I" } : Jvm.MethodName)) ∈ lw_all := lw_g (lw_at lw_m2 178 rfl) rfl
theorem q513 : (Jvm.Cond.code ({ cls := "LeftAsFound", name := "become", desc := "(LLeftAsFound$Held;I)I" } : Jvm.MethodName) prog_1_method_5_code (6 : Nat) (Option.some Jvm.ClassFile.FieldType.int)) ∈ lw_all := lw_g (lw_at lw_m2 179 rfl) rfl
theorem q515 : (Jvm.Cond.instanceMethod ({ cls := "LeftAsFound", name := "of", desc := "(II)I" } : Jvm.MethodName)) ∈ lw_all := lw_g (lw_at lw_m2 181 rfl) rfl
theorem q516 : (Jvm.Cond.selects "LeftAsFound" ({ cls := "LeftAsFound", name := "of", desc := "(II)I" } : Jvm.MethodName) ({ cls := "LeftAsFound", name := "of", desc := "(II)I" } : Jvm.MethodName)) ∈ lw_all := lw_g (lw_at lw_m2 182 rfl) rfl
theorem q517 : (Jvm.Cond.code ({ cls := "LeftAsFound", name := "of", desc := "(II)I" } : Jvm.MethodName) prog_1_method_25_code (4 : Nat) (Option.some Jvm.ClassFile.FieldType.int)) ∈ lw_all := lw_g (lw_at lw_m2 183 rfl) rfl
theorem q518 : (Jvm.Cond.methodLink "LeftAsFound" (245 : Nat) ({ cls := "LeftAsFound", name := "isIn", desc := "(II)Z" } : Jvm.MethodName)) ∈ lw_all := lw_g (lw_at lw_m2 184 rfl) rfl
theorem q519 : (Jvm.Cond.static ({ cls := "LeftAsFound", name := "isIn", desc := "(II)Z" } : Jvm.MethodName)) ∈ lw_all := lw_g (lw_at lw_m2 185 rfl) rfl
theorem q520 : (Jvm.Cond.code ({ cls := "LeftAsFound", name := "isIn", desc := "(II)Z" } : Jvm.MethodName) prog_1_method_3_code (2 : Nat) (Option.some Jvm.ClassFile.FieldType.boolean)) ∈ lw_all := lw_g (lw_at lw_m2 186 rfl) rfl
theorem q522 : (Jvm.Cond.instanceMethod ({ cls := "LeftAsFound", name := "law", desc := "()I" } : Jvm.MethodName)) ∈ lw_all := lw_g (lw_at lw_m2 188 rfl) rfl
theorem q523 : (Jvm.Cond.selects "LeftAsFound" ({ cls := "LeftAsFound", name := "law", desc := "()I" } : Jvm.MethodName) ({ cls := "LeftAsFound", name := "law", desc := "()I" } : Jvm.MethodName)) ∈ lw_all := lw_g (lw_at lw_m2 189 rfl) rfl
theorem q524 : (Jvm.Cond.codeWith ({ cls := "LeftAsFound", name := "law", desc := "()I" } : Jvm.MethodName) prog_1_method_35_code (4 : Nat) (Option.some Jvm.ClassFile.FieldType.int) [((5 : Nat), (15 : Nat), (22 : Nat), (41 : Nat)), ((5 : Nat), (15 : Nat), (38 : Nat), (0 : Nat)), ((22 : Nat), (31 : Nat), (38 : Nat), (0 : Nat))]) ∈ lw_all := lw_g (lw_at lw_m2 190 rfl) rfl
theorem q525 : (Jvm.Cond.methodLink "LeftAsFound" (322 : Nat) ({ cls := "LeftAsFound", name := "readLaw", desc := "()LLeftAsFound$Line;" } : Jvm.MethodName)) ∈ lw_all := lw_g (lw_at lw_m2 191 rfl) rfl
theorem q526 : (Jvm.Cond.privateMethod ({ cls := "LeftAsFound", name := "readLaw", desc := "()LLeftAsFound$Line;" } : Jvm.MethodName)) ∈ lw_tbl := lw_at lw_m2 192 rfl
theorem q527 : (Jvm.Cond.instanceMethod ({ cls := "LeftAsFound", name := "readLaw", desc := "()LLeftAsFound$Line;" } : Jvm.MethodName)) ∈ lw_all := lw_g (lw_at lw_m2 193 rfl) rfl
theorem q528 : (Jvm.Cond.code ({ cls := "LeftAsFound", name := "readLaw", desc := "()LLeftAsFound$Line;" } : Jvm.MethodName) prog_1_method_34_code (3 : Nat) (Option.some (Jvm.ClassFile.FieldType.object "LeftAsFound$Line"))) ∈ lw_all := lw_g (lw_at lw_m2 194 rfl) rfl
theorem q529 : (Jvm.Cond.methodLink "LeftAsFound" (314 : Nat) ({ cls := "LeftAsFound", name := "readLine", desc := "()LLeftAsFound$Line;" } : Jvm.MethodName)) ∈ lw_all := lw_g (lw_at lw_m2 195 rfl) rfl
theorem q530 : (Jvm.Cond.privateMethod ({ cls := "LeftAsFound", name := "readLine", desc := "()LLeftAsFound$Line;" } : Jvm.MethodName)) ∈ lw_tbl := lw_at lw_m2 196 rfl
theorem q531 : (Jvm.Cond.instanceMethod ({ cls := "LeftAsFound", name := "readLine", desc := "()LLeftAsFound$Line;" } : Jvm.MethodName)) ∈ lw_all := lw_g (lw_at lw_m2 197 rfl) rfl
theorem q532 : (Jvm.Cond.code ({ cls := "LeftAsFound", name := "readLine", desc := "()LLeftAsFound$Line;" } : Jvm.MethodName) prog_1_method_33_code (2 : Nat) (Option.some (Jvm.ClassFile.FieldType.object "LeftAsFound$Line"))) ∈ lw_all := lw_g (lw_at lw_m2 198 rfl) rfl
theorem q533 : (Jvm.Cond.classLink "LeftAsFound" (304 : Nat) "LeftAsFound$Line") ∈ lw_all := lw_g (lw_at lw_m2 199 rfl) rfl
theorem q535 : (Jvm.Cond.methodLinkNest "LeftAsFound" (306 : Nat) ({ cls := "LeftAsFound$Line", name := "<init>", desc := "()V" } : Jvm.MethodName) "LeftAsFound") ∈ lw_tbl := lw_at lw_m2 201 rfl
theorem q539 : (Jvm.Cond.fieldLinkNest "LeftAsFound" (311 : Nat) "LeftAsFound$Line" "asked" "LLeftAsFound$Term;" "LeftAsFound") ∈ lw_tbl := lw_at lw_m2 205 rfl
theorem q540 : (Jvm.Cond.fieldLinkNest "LeftAsFound" (307 : Nat) "LeftAsFound$Line" "counts" "LLeftAsFound$Term;" "LeftAsFound") ∈ lw_tbl := lw_at lw_m2 206 rfl
theorem q541 : (Jvm.Cond.fieldLinkNest "LeftAsFound" (318 : Nat) "LeftAsFound$Line" "next" "LLeftAsFound$Line;" "LeftAsFound") ∈ lw_tbl := lw_at lw_m2 207 rfl
theorem q549 : (Jvm.Cond.methodLink "LeftAsFound" (272 : Nat) ({ cls := "LeftAsFound", name := "readEither", desc := "()LLeftAsFound$Term;" } : Jvm.MethodName)) ∈ lw_all := lw_g (lw_at lw_m2 215 rfl) rfl
theorem q550 : (Jvm.Cond.privateMethod ({ cls := "LeftAsFound", name := "readEither", desc := "()LLeftAsFound$Term;" } : Jvm.MethodName)) ∈ lw_tbl := lw_at lw_m2 216 rfl
theorem q551 : (Jvm.Cond.instanceMethod ({ cls := "LeftAsFound", name := "readEither", desc := "()LLeftAsFound$Term;" } : Jvm.MethodName)) ∈ lw_all := lw_g (lw_at lw_m2 217 rfl) rfl
theorem q552 : (Jvm.Cond.code ({ cls := "LeftAsFound", name := "readEither", desc := "()LLeftAsFound$Term;" } : Jvm.MethodName) prog_1_method_32_code (2 : Nat) (Option.some (Jvm.ClassFile.FieldType.object "LeftAsFound$Term"))) ∈ lw_all := lw_g (lw_at lw_m2 218 rfl) rfl
theorem q553 : (Jvm.Cond.methodLink "LeftAsFound" (301 : Nat) ({ cls := "LeftAsFound", name := "readAll", desc := "()LLeftAsFound$Term;" } : Jvm.MethodName)) ∈ lw_all := lw_g (lw_at lw_m2 219 rfl) rfl
theorem q554 : (Jvm.Cond.privateMethod ({ cls := "LeftAsFound", name := "readAll", desc := "()LLeftAsFound$Term;" } : Jvm.MethodName)) ∈ lw_tbl := lw_at lw_m2 220 rfl
theorem q555 : (Jvm.Cond.instanceMethod ({ cls := "LeftAsFound", name := "readAll", desc := "()LLeftAsFound$Term;" } : Jvm.MethodName)) ∈ lw_all := lw_g (lw_at lw_m2 221 rfl) rfl
theorem q556 : (Jvm.Cond.code ({ cls := "LeftAsFound", name := "readAll", desc := "()LLeftAsFound$Term;" } : Jvm.MethodName) prog_1_method_31_code (2 : Nat) (Option.some (Jvm.ClassFile.FieldType.object "LeftAsFound$Term"))) ∈ lw_all := lw_g (lw_at lw_m2 222 rfl) rfl
theorem q557 : (Jvm.Cond.methodLink "LeftAsFound" (298 : Nat) ({ cls := "LeftAsFound", name := "readLike", desc := "()LLeftAsFound$Term;" } : Jvm.MethodName)) ∈ lw_all := lw_g (lw_at lw_m2 223 rfl) rfl
theorem q558 : (Jvm.Cond.privateMethod ({ cls := "LeftAsFound", name := "readLike", desc := "()LLeftAsFound$Term;" } : Jvm.MethodName)) ∈ lw_tbl := lw_at lw_m2 224 rfl
theorem q559 : (Jvm.Cond.instanceMethod ({ cls := "LeftAsFound", name := "readLike", desc := "()LLeftAsFound$Term;" } : Jvm.MethodName)) ∈ lw_all := lw_g (lw_at lw_m2 225 rfl) rfl
theorem q560 : (Jvm.Cond.code ({ cls := "LeftAsFound", name := "readLike", desc := "()LLeftAsFound$Term;" } : Jvm.MethodName) prog_1_method_30_code (3 : Nat) (Option.some (Jvm.ClassFile.FieldType.object "LeftAsFound$Term"))) ∈ lw_all := lw_g (lw_at lw_m2 226 rfl) rfl
theorem q561 : (Jvm.Cond.methodLink "LeftAsFound" (295 : Nat) ({ cls := "LeftAsFound", name := "readPlus", desc := "()LLeftAsFound$Term;" } : Jvm.MethodName)) ∈ lw_all := lw_g (lw_at lw_m2 227 rfl) rfl
theorem q562 : (Jvm.Cond.privateMethod ({ cls := "LeftAsFound", name := "readPlus", desc := "()LLeftAsFound$Term;" } : Jvm.MethodName)) ∈ lw_tbl := lw_at lw_m2 228 rfl
theorem q563 : (Jvm.Cond.instanceMethod ({ cls := "LeftAsFound", name := "readPlus", desc := "()LLeftAsFound$Term;" } : Jvm.MethodName)) ∈ lw_all := lw_g (lw_at lw_m2 229 rfl) rfl
theorem q564 : (Jvm.Cond.code ({ cls := "LeftAsFound", name := "readPlus", desc := "()LLeftAsFound$Term;" } : Jvm.MethodName) prog_1_method_29_code (3 : Nat) (Option.some (Jvm.ClassFile.FieldType.object "LeftAsFound$Term"))) ∈ lw_all := lw_g (lw_at lw_m2 230 rfl) rfl
theorem q565 : (Jvm.Cond.methodLink "LeftAsFound" (292 : Nat) ({ cls := "LeftAsFound", name := "readTimes", desc := "()LLeftAsFound$Term;" } : Jvm.MethodName)) ∈ lw_all := lw_g (lw_at lw_m2 231 rfl) rfl
theorem q566 : (Jvm.Cond.privateMethod ({ cls := "LeftAsFound", name := "readTimes", desc := "()LLeftAsFound$Term;" } : Jvm.MethodName)) ∈ lw_tbl := lw_at lw_m2 232 rfl
theorem q567 : (Jvm.Cond.instanceMethod ({ cls := "LeftAsFound", name := "readTimes", desc := "()LLeftAsFound$Term;" } : Jvm.MethodName)) ∈ lw_all := lw_g (lw_at lw_m2 233 rfl) rfl
theorem q568 : (Jvm.Cond.code ({ cls := "LeftAsFound", name := "readTimes", desc := "()LLeftAsFound$Term;" } : Jvm.MethodName) prog_1_method_28_code (3 : Nat) (Option.some (Jvm.ClassFile.FieldType.object "LeftAsFound$Term"))) ∈ lw_all := lw_g (lw_at lw_m2 234 rfl) rfl
theorem q569 : (Jvm.Cond.methodLink "LeftAsFound" (278 : Nat) ({ cls := "LeftAsFound", name := "readOne", desc := "()LLeftAsFound$Term;" } : Jvm.MethodName)) ∈ lw_all := lw_g (lw_at lw_m2 235 rfl) rfl
theorem q570 : (Jvm.Cond.privateMethod ({ cls := "LeftAsFound", name := "readOne", desc := "()LLeftAsFound$Term;" } : Jvm.MethodName)) ∈ lw_tbl := lw_at lw_m2 236 rfl
theorem q571 : (Jvm.Cond.instanceMethod ({ cls := "LeftAsFound", name := "readOne", desc := "()LLeftAsFound$Term;" } : Jvm.MethodName)) ∈ lw_all := lw_g (lw_at lw_m2 237 rfl) rfl
theorem q572 : (Jvm.Cond.code ({ cls := "LeftAsFound", name := "readOne", desc := "()LLeftAsFound$Term;" } : Jvm.MethodName) prog_1_method_27_code (4 : Nat) (Option.some (Jvm.ClassFile.FieldType.object "LeftAsFound$Term"))) ∈ lw_all := lw_g (lw_at lw_m2 238 rfl) rfl
theorem q573 : (Jvm.Cond.methodLink "LeftAsFound" (252 : Nat) ({ cls := "LeftAsFound", name := "isDigit", desc := "()Z" } : Jvm.MethodName)) ∈ lw_all := lw_g (lw_at lw_m2 239 rfl) rfl
theorem q574 : (Jvm.Cond.privateMethod ({ cls := "LeftAsFound", name := "isDigit", desc := "()Z" } : Jvm.MethodName)) ∈ lw_tbl := lw_at lw_m3 0 rfl
theorem q575 : (Jvm.Cond.instanceMethod ({ cls := "LeftAsFound", name := "isDigit", desc := "()Z" } : Jvm.MethodName)) ∈ lw_all := lw_g (lw_at lw_m3 1 rfl) rfl
theorem q576 : (Jvm.Cond.code ({ cls := "LeftAsFound", name := "isDigit", desc := "()Z" } : Jvm.MethodName) prog_1_method_14_code (1 : Nat) (Option.some Jvm.ClassFile.FieldType.boolean)) ∈ lw_all := lw_g (lw_at lw_m3 2 rfl) rfl
theorem q577 : (Jvm.Cond.methodLink "LeftAsFound" (157 : Nat) ({ cls := "LeftAsFound", name := "peek", desc := "()I" } : Jvm.MethodName)) ∈ lw_all := lw_g (lw_at lw_m3 3 rfl) rfl
theorem q578 : (Jvm.Cond.privateMethod ({ cls := "LeftAsFound", name := "peek", desc := "()I" } : Jvm.MethodName)) ∈ lw_tbl := lw_at lw_m3 4 rfl
theorem q579 : (Jvm.Cond.instanceMethod ({ cls := "LeftAsFound", name := "peek", desc := "()I" } : Jvm.MethodName)) ∈ lw_all := lw_g (lw_at lw_m3 5 rfl) rfl
theorem q580 : (Jvm.Cond.code ({ cls := "LeftAsFound", name := "peek", desc := "()I" } : Jvm.MethodName) prog_1_method_11_code (1 : Nat) (Option.some Jvm.ClassFile.FieldType.int)) ∈ lw_all := lw_g (lw_at lw_m3 6 rfl) rfl
theorem q581 : (Jvm.Cond.constantLong "LeftAsFound" (165 : Nat) (48 : Int64)) ∈ lw_all := lw_g (lw_at lw_m3 7 rfl) rfl
theorem q582 : (Jvm.Cond.constantLong "LeftAsFound" (167 : Nat) (57 : Int64)) ∈ lw_all := lw_g (lw_at lw_m3 8 rfl) rfl
theorem q583 : (Jvm.Cond.classLink "LeftAsFound" (256 : Nat) "LeftAsFound$Figure") ∈ lw_all := lw_g (lw_at lw_m3 9 rfl) rfl
theorem q585 : (Jvm.Cond.methodLink "LeftAsFound" (258 : Nat) ({ cls := "LeftAsFound$Figure", name := "<init>", desc := "(I)V" } : Jvm.MethodName)) ∈ lw_all := lw_g (lw_at lw_m3 11 rfl) rfl
theorem q596 : (Jvm.Cond.methodLink "LeftAsFound" (261 : Nat) ({ cls := "LeftAsFound", name := "nameOf", desc := "(I)I" } : Jvm.MethodName)) ∈ lw_all := lw_g (lw_at lw_m3 22 rfl) rfl
theorem q597 : (Jvm.Cond.static ({ cls := "LeftAsFound", name := "nameOf", desc := "(I)I" } : Jvm.MethodName)) ∈ lw_all := lw_g (lw_at lw_m3 23 rfl) rfl
theorem q598 : (Jvm.Cond.code ({ cls := "LeftAsFound", name := "nameOf", desc := "(I)I" } : Jvm.MethodName) prog_1_method_26_code (1 : Nat) (Option.some Jvm.ClassFile.FieldType.int)) ∈ lw_all := lw_g (lw_at lw_m3 24 rfl) rfl
theorem q599 : (Jvm.Cond.classLink "LeftAsFound" (264 : Nat) "LeftAsFound$Named") ∈ lw_all := lw_g (lw_at lw_m3 25 rfl) rfl
theorem q601 : (Jvm.Cond.methodLink "LeftAsFound" (266 : Nat) ({ cls := "LeftAsFound$Named", name := "<init>", desc := "(LLeftAsFound;I)V" } : Jvm.MethodName)) ∈ lw_all := lw_g (lw_at lw_m3 27 rfl) rfl
theorem q612 : (Jvm.Cond.classLink "LeftAsFound" (276 : Nat) "LeftAsFound$Signed") ∈ lw_all := lw_g (lw_at lw_m3 38 rfl) rfl
theorem q614 : (Jvm.Cond.methodLink "LeftAsFound" (281 : Nat) ({ cls := "LeftAsFound$Signed", name := "<init>", desc := "(ILLeftAsFound$Term;)V" } : Jvm.MethodName)) ∈ lw_all := lw_g (lw_at lw_m3 40 rfl) rfl
theorem q625 : (Jvm.Cond.methodLink "LeftAsFound" (284 : Nat) ({ cls := "LeftAsFound", name := "expect", desc := "(I)V" } : Jvm.MethodName)) ∈ lw_all := lw_g (lw_at lw_m3 51 rfl) rfl
theorem q626 : (Jvm.Cond.privateMethod ({ cls := "LeftAsFound", name := "expect", desc := "(I)V" } : Jvm.MethodName)) ∈ lw_tbl := lw_at lw_m3 52 rfl
theorem q627 : (Jvm.Cond.instanceMethod ({ cls := "LeftAsFound", name := "expect", desc := "(I)V" } : Jvm.MethodName)) ∈ lw_all := lw_g (lw_at lw_m3 53 rfl) rfl
theorem q628 : (Jvm.Cond.code ({ cls := "LeftAsFound", name := "expect", desc := "(I)V" } : Jvm.MethodName) prog_1_method_13_code (2 : Nat) (Option.none : Option Jvm.ClassFile.FieldType)) ∈ lw_all := lw_g (lw_at lw_m3 54 rfl) rfl
theorem q629 : (Jvm.Cond.methodLink "LeftAsFound" (161 : Nat) ({ cls := "LeftAsFound", name := "take", desc := "(I)Z" } : Jvm.MethodName)) ∈ lw_all := lw_g (lw_at lw_m3 55 rfl) rfl
theorem q630 : (Jvm.Cond.privateMethod ({ cls := "LeftAsFound", name := "take", desc := "(I)Z" } : Jvm.MethodName)) ∈ lw_tbl := lw_at lw_m3 56 rfl
theorem q631 : (Jvm.Cond.instanceMethod ({ cls := "LeftAsFound", name := "take", desc := "(I)Z" } : Jvm.MethodName)) ∈ lw_all := lw_g (lw_at lw_m3 57 rfl) rfl
theorem q632 : (Jvm.Cond.code ({ cls := "LeftAsFound", name := "take", desc := "(I)Z" } : Jvm.MethodName) prog_1_method_12_code (2 : Nat) (Option.some Jvm.ClassFile.FieldType.boolean)) ∈ lw_all := lw_g (lw_at lw_m3 58 rfl) rfl
theorem q633 : (Jvm.Cond.classLink "LeftAsFound" (287 : Nat) "LeftAsFound$Both") ∈ lw_all := lw_g (lw_at lw_m3 59 rfl) rfl
theorem q635 : (Jvm.Cond.methodLink "LeftAsFound" (289 : Nat) ({ cls := "LeftAsFound$Both", name := "<init>", desc := "(ILLeftAsFound$Term;LLeftAsFound$Term;)V" } : Jvm.MethodName)) ∈ lw_all := lw_g (lw_at lw_m3 61 rfl) rfl
theorem q650 : (Jvm.Cond.instanceMethod ({ cls := "LeftAsFound", name := "level", desc := "(III)I" } : Jvm.MethodName)) ∈ lw_all := lw_g (lw_at lw_m3 76 rfl) rfl
theorem q651 : (Jvm.Cond.selects "LeftAsFound" ({ cls := "LeftAsFound", name := "level", desc := "(III)I" } : Jvm.MethodName) ({ cls := "LeftAsFound", name := "level", desc := "(III)I" } : Jvm.MethodName)) ∈ lw_all := lw_g (lw_at lw_m3 77 rfl) rfl
theorem q652 : (Jvm.Cond.code ({ cls := "LeftAsFound", name := "level", desc := "(III)I" } : Jvm.MethodName) prog_1_method_41_code (5 : Nat) (Option.some Jvm.ClassFile.FieldType.int)) ∈ lw_all := lw_g (lw_at lw_m3 78 rfl) rfl
theorem q653 : (Jvm.Cond.methodLink "LeftAsFound" (355 : Nat) ({ cls := "LeftAsFound", name := "takes1Row", desc := "(I)I" } : Jvm.MethodName)) ∈ lw_all := lw_g (lw_at lw_m3 79 rfl) rfl
theorem q654 : (Jvm.Cond.privateMethod ({ cls := "LeftAsFound", name := "takes1Row", desc := "(I)I" } : Jvm.MethodName)) ∈ lw_tbl := lw_at lw_m3 80 rfl
theorem q655 : (Jvm.Cond.instanceMethod ({ cls := "LeftAsFound", name := "takes1Row", desc := "(I)I" } : Jvm.MethodName)) ∈ lw_all := lw_g (lw_at lw_m3 81 rfl) rfl
theorem q656 : (Jvm.Cond.code ({ cls := "LeftAsFound", name := "takes1Row", desc := "(I)I" } : Jvm.MethodName) prog_1_method_40_code (3 : Nat) (Option.some Jvm.ClassFile.FieldType.int)) ∈ lw_all := lw_g (lw_at lw_m3 82 rfl) rfl
theorem q657 : (Jvm.Cond.methodLink "LeftAsFound" (348 : Nat) ({ cls := "LeftAsFound", name := "lookAt", desc := "(I)I" } : Jvm.MethodName)) ∈ lw_all := lw_g (lw_at lw_m3 83 rfl) rfl
theorem q658 : (Jvm.Cond.privateMethod ({ cls := "LeftAsFound", name := "lookAt", desc := "(I)I" } : Jvm.MethodName)) ∈ lw_tbl := lw_at lw_m3 84 rfl
theorem q659 : (Jvm.Cond.instanceMethod ({ cls := "LeftAsFound", name := "lookAt", desc := "(I)I" } : Jvm.MethodName)) ∈ lw_all := lw_g (lw_at lw_m3 85 rfl) rfl
theorem q660 : (Jvm.Cond.code ({ cls := "LeftAsFound", name := "lookAt", desc := "(I)I" } : Jvm.MethodName) prog_1_method_38_code (3 : Nat) (Option.some Jvm.ClassFile.FieldType.int)) ∈ lw_all := lw_g (lw_at lw_m3 86 rfl) rfl
theorem q661 : (Jvm.Cond.methodLink "LeftAsFound" (351 : Nat) ({ cls := "LeftAsFound", name := "takeRow", desc := "([B)V" } : Jvm.MethodName)) ∈ lw_all := lw_g (lw_at lw_m3 87 rfl) rfl
theorem q662 : (Jvm.Cond.privateMethod ({ cls := "LeftAsFound", name := "takeRow", desc := "([B)V" } : Jvm.MethodName)) ∈ lw_tbl := lw_at lw_m3 88 rfl
theorem q663 : (Jvm.Cond.instanceMethod ({ cls := "LeftAsFound", name := "takeRow", desc := "([B)V" } : Jvm.MethodName)) ∈ lw_all := lw_g (lw_at lw_m3 89 rfl) rfl
theorem q664 : (Jvm.Cond.code ({ cls := "LeftAsFound", name := "takeRow", desc := "([B)V" } : Jvm.MethodName) prog_1_method_39_code (3 : Nat) (Option.none : Option Jvm.ClassFile.FieldType)) ∈ lw_all := lw_g (lw_at lw_m3 90 rfl) rfl
theorem q665 : (Jvm.Cond.methodLink "LeftAsFound" (333 : Nat) ({ cls := "java/lang/Math", name := "min", desc := "(II)I" } : Jvm.MethodName)) ∈ lw_all := lw_g (lw_at lw_m3 91 rfl) rfl
theorem q668 : (Jvm.Cond.methodLink "LeftAsFound" (358 : Nat) ({ cls := "LeftAsFound$Hut", name := "beAs", desc := "(LLeftAsFound$Hut;)V" } : Jvm.MethodName)) ∈ lw_all := lw_g (lw_at lw_m3 94 rfl) rfl
theorem q675 : (Jvm.Cond.methodLink "LeftAsFound" (362 : Nat) ({ cls := "LeftAsFound$Hut", name := "night", desc := "(I)V" } : Jvm.MethodName)) ∈ lw_all := lw_g (lw_at lw_m3 101 rfl) rfl
theorem q685 : (Jvm.Cond.privateMethod ({ cls := "LeftAsFound", name := "leftBy", desc := "(LLeftAsFound$Guest;III)I" } : Jvm.MethodName)) ∈ lw_tbl := lw_at lw_m3 111 rfl
theorem q686 : (Jvm.Cond.instanceMethod ({ cls := "LeftAsFound", name := "leftBy", desc := "(LLeftAsFound$Guest;III)I" } : Jvm.MethodName)) ∈ lw_all := lw_g (lw_at lw_m3 112 rfl) rfl
theorem q687 : (Jvm.Cond.code ({ cls := "LeftAsFound", name := "leftBy", desc := "(LLeftAsFound$Guest;III)I" } : Jvm.MethodName) prog_1_method_37_code (9 : Nat) (Option.some Jvm.ClassFile.FieldType.int)) ∈ lw_all := lw_g (lw_at lw_m3 113 rfl) rfl
theorem q688 : (Jvm.Cond.methodLink "LeftAsFound" (339 : Nat) ({ cls := "LeftAsFound", name := "ruled", desc := "()I" } : Jvm.MethodName)) ∈ lw_all := lw_g (lw_at lw_m3 114 rfl) rfl
theorem q689 : (Jvm.Cond.privateMethod ({ cls := "LeftAsFound", name := "ruled", desc := "()I" } : Jvm.MethodName)) ∈ lw_tbl := lw_at lw_m3 115 rfl
theorem q690 : (Jvm.Cond.instanceMethod ({ cls := "LeftAsFound", name := "ruled", desc := "()I" } : Jvm.MethodName)) ∈ lw_all := lw_g (lw_at lw_m3 116 rfl) rfl
theorem q691 : (Jvm.Cond.code ({ cls := "LeftAsFound", name := "ruled", desc := "()I" } : Jvm.MethodName) prog_1_method_36_code (2 : Nat) (Option.some Jvm.ClassFile.FieldType.int)) ∈ lw_all := lw_g (lw_at lw_m3 117 rfl) rfl
theorem q692 : (Jvm.Cond.methodLink "LeftAsFound" (328 : Nat) ({ cls := "LeftAsFound$Term", name := "value", desc := "()I" } : Jvm.MethodName)) ∈ lw_all := lw_g (lw_at lw_m3 118 rfl) rfl
theorem q707 : (Jvm.Cond.static ({ cls := "LeftAsFound", name := "bit", desc := "(Z)I" } : Jvm.MethodName)) ∈ lw_all := lw_g (lw_at lw_m3 133 rfl) rfl
theorem q708 : (Jvm.Cond.code ({ cls := "LeftAsFound", name := "bit", desc := "(Z)I" } : Jvm.MethodName) prog_1_method_2_code (1 : Nat) (Option.some Jvm.ClassFile.FieldType.int)) ∈ lw_all := lw_g (lw_at lw_m3 134 rfl) rfl
theorem q713 : (Jvm.Cond.methodLink "LeftAsFound" (342 : Nat) ({ cls := "java/lang/Math", name := "max", desc := "(II)I" } : Jvm.MethodName)) ∈ lw_all := lw_g (lw_at lw_m3 139 rfl) rfl
theorem q717 : (Jvm.Cond.instanceMethod ({ cls := "LeftAsFound", name := "lowest", desc := "(II)I" } : Jvm.MethodName)) ∈ lw_all := lw_g (lw_at lw_m3 143 rfl) rfl
theorem q718 : (Jvm.Cond.selects "LeftAsFound" ({ cls := "LeftAsFound", name := "lowest", desc := "(II)I" } : Jvm.MethodName) ({ cls := "LeftAsFound", name := "lowest", desc := "(II)I" } : Jvm.MethodName)) ∈ lw_all := lw_g (lw_at lw_m3 144 rfl) rfl
theorem q719 : (Jvm.Cond.code ({ cls := "LeftAsFound", name := "lowest", desc := "(II)I" } : Jvm.MethodName) prog_1_method_42_code (5 : Nat) (Option.some Jvm.ClassFile.FieldType.int)) ∈ lw_all := lw_g (lw_at lw_m3 145 rfl) rfl
theorem q721 : (Jvm.Cond.instanceMethod ({ cls := "LeftAsFound", name := "below", desc := "(III)I" } : Jvm.MethodName)) ∈ lw_all := lw_g (lw_at lw_m3 147 rfl) rfl
theorem q722 : (Jvm.Cond.selects "LeftAsFound" ({ cls := "LeftAsFound", name := "below", desc := "(III)I" } : Jvm.MethodName) ({ cls := "LeftAsFound", name := "below", desc := "(III)I" } : Jvm.MethodName)) ∈ lw_all := lw_g (lw_at lw_m3 148 rfl) rfl
theorem q723 : (Jvm.Cond.code ({ cls := "LeftAsFound", name := "below", desc := "(III)I" } : Jvm.MethodName) prog_1_method_43_code (5 : Nat) (Option.some Jvm.ClassFile.FieldType.int)) ∈ lw_all := lw_g (lw_at lw_m3 149 rfl) rfl
theorem q724 : (Jvm.Cond.constantLong "LeftAsFound" (365 : Nat) (99 : Int64)) ∈ lw_all := lw_g (lw_at lw_m3 150 rfl) rfl
theorem q726 : (Jvm.Cond.instanceMethod ({ cls := "LeftAsFound", name := "loss", desc := "(I)I" } : Jvm.MethodName)) ∈ lw_all := lw_g (lw_at lw_m3 152 rfl) rfl
theorem q727 : (Jvm.Cond.selects "LeftAsFound" ({ cls := "LeftAsFound", name := "loss", desc := "(I)I" } : Jvm.MethodName) ({ cls := "LeftAsFound", name := "loss", desc := "(I)I" } : Jvm.MethodName)) ∈ lw_all := lw_g (lw_at lw_m3 153 rfl) rfl
theorem q728 : (Jvm.Cond.code ({ cls := "LeftAsFound", name := "loss", desc := "(I)I" } : Jvm.MethodName) prog_1_method_45_code (3 : Nat) (Option.some Jvm.ClassFile.FieldType.int)) ∈ lw_all := lw_g (lw_at lw_m3 154 rfl) rfl
theorem q729 : (Jvm.Cond.methodLink "LeftAsFound" (370 : Nat) ({ cls := "LeftAsFound", name := "lossOfRow", desc := "()I" } : Jvm.MethodName)) ∈ lw_all := lw_g (lw_at lw_m3 155 rfl) rfl
theorem q730 : (Jvm.Cond.privateMethod ({ cls := "LeftAsFound", name := "lossOfRow", desc := "()I" } : Jvm.MethodName)) ∈ lw_tbl := lw_at lw_m3 156 rfl
theorem q731 : (Jvm.Cond.instanceMethod ({ cls := "LeftAsFound", name := "lossOfRow", desc := "()I" } : Jvm.MethodName)) ∈ lw_all := lw_g (lw_at lw_m3 157 rfl) rfl
theorem q732 : (Jvm.Cond.code ({ cls := "LeftAsFound", name := "lossOfRow", desc := "()I" } : Jvm.MethodName) prog_1_method_44_code (3 : Nat) (Option.some Jvm.ClassFile.FieldType.int)) ∈ lw_all := lw_g (lw_at lw_m3 158 rfl) rfl
theorem q733 : (Jvm.Cond.methodLink "LeftAsFound" (367 : Nat) ({ cls := "LeftAsFound$Hut", name := "loss", desc := "()I" } : Jvm.MethodName)) ∈ lw_all := lw_g (lw_at lw_m3 159 rfl) rfl
theorem q743 : (Jvm.Cond.instanceMethod ({ cls := "LeftAsFound", name := "rest", desc := "(II)I" } : Jvm.MethodName)) ∈ lw_all := lw_g (lw_at lw_m3 169 rfl) rfl
theorem q744 : (Jvm.Cond.selects "LeftAsFound" ({ cls := "LeftAsFound", name := "rest", desc := "(II)I" } : Jvm.MethodName) ({ cls := "LeftAsFound", name := "rest", desc := "(II)I" } : Jvm.MethodName)) ∈ lw_all := lw_g (lw_at lw_m3 170 rfl) rfl
theorem q745 : (Jvm.Cond.code ({ cls := "LeftAsFound", name := "rest", desc := "(II)I" } : Jvm.MethodName) prog_1_method_49_code (3 : Nat) (Option.some Jvm.ClassFile.FieldType.int)) ∈ lw_all := lw_g (lw_at lw_m3 171 rfl) rfl
theorem q746 : (Jvm.Cond.methodLink "LeftAsFound" (387 : Nat) ({ cls := "LeftAsFound", name := "findRest", desc := "()Z" } : Jvm.MethodName)) ∈ lw_all := lw_g (lw_at lw_m3 172 rfl) rfl
theorem q747 : (Jvm.Cond.privateMethod ({ cls := "LeftAsFound", name := "findRest", desc := "()Z" } : Jvm.MethodName)) ∈ lw_tbl := lw_at lw_m3 173 rfl
theorem q748 : (Jvm.Cond.instanceMethod ({ cls := "LeftAsFound", name := "findRest", desc := "()Z" } : Jvm.MethodName)) ∈ lw_all := lw_g (lw_at lw_m3 174 rfl) rfl
theorem q749 : (Jvm.Cond.code ({ cls := "LeftAsFound", name := "findRest", desc := "()Z" } : Jvm.MethodName) prog_1_method_48_code (3 : Nat) (Option.some Jvm.ClassFile.FieldType.boolean)) ∈ lw_all := lw_g (lw_at lw_m3 175 rfl) rfl
theorem q750 : (Jvm.Cond.methodLink "LeftAsFound" (373 : Nat) ({ cls := "LeftAsFound", name := "keepState", desc := "(I)V" } : Jvm.MethodName)) ∈ lw_all := lw_g (lw_at lw_m3 176 rfl) rfl
theorem q751 : (Jvm.Cond.privateMethod ({ cls := "LeftAsFound", name := "keepState", desc := "(I)V" } : Jvm.MethodName)) ∈ lw_tbl := lw_at lw_m3 177 rfl
theorem q752 : (Jvm.Cond.instanceMethod ({ cls := "LeftAsFound", name := "keepState", desc := "(I)V" } : Jvm.MethodName)) ∈ lw_all := lw_g (lw_at lw_m3 178 rfl) rfl
theorem q753 : (Jvm.Cond.code ({ cls := "LeftAsFound", name := "keepState", desc := "(I)V" } : Jvm.MethodName) prog_1_method_46_code (4 : Nat) (Option.none : Option Jvm.ClassFile.FieldType)) ∈ lw_all := lw_g (lw_at lw_m3 179 rfl) rfl
theorem q754 : (Jvm.Cond.methodLink "LeftAsFound" (376 : Nat) ({ cls := "LeftAsFound", name := "isLike", desc := "(II)Z" } : Jvm.MethodName)) ∈ lw_all := lw_g (lw_at lw_m3 180 rfl) rfl
theorem q755 : (Jvm.Cond.privateMethod ({ cls := "LeftAsFound", name := "isLike", desc := "(II)Z" } : Jvm.MethodName)) ∈ lw_tbl := lw_at lw_m3 181 rfl
theorem q756 : (Jvm.Cond.instanceMethod ({ cls := "LeftAsFound", name := "isLike", desc := "(II)Z" } : Jvm.MethodName)) ∈ lw_all := lw_g (lw_at lw_m3 182 rfl) rfl
theorem q757 : (Jvm.Cond.code ({ cls := "LeftAsFound", name := "isLike", desc := "(II)Z" } : Jvm.MethodName) prog_1_method_47_code (4 : Nat) (Option.some Jvm.ClassFile.FieldType.boolean)) ∈ lw_all := lw_g (lw_at lw_m3 183 rfl) rfl
theorem q759 : (Jvm.Cond.instanceMethod ({ cls := "LeftAsFound", name := "often", desc := "(III)I" } : Jvm.MethodName)) ∈ lw_all := lw_g (lw_at lw_m3 185 rfl) rfl
theorem q760 : (Jvm.Cond.selects "LeftAsFound" ({ cls := "LeftAsFound", name := "often", desc := "(III)I" } : Jvm.MethodName) ({ cls := "LeftAsFound", name := "often", desc := "(III)I" } : Jvm.MethodName)) ∈ lw_all := lw_g (lw_at lw_m3 186 rfl) rfl
theorem q761 : (Jvm.Cond.code ({ cls := "LeftAsFound", name := "often", desc := "(III)I" } : Jvm.MethodName) prog_1_method_52_code (5 : Nat) (Option.some Jvm.ClassFile.FieldType.int)) ∈ lw_all := lw_g (lw_at lw_m3 187 rfl) rfl
theorem q762 : (Jvm.Cond.methodLink "LeftAsFound" (393 : Nat) ({ cls := "LeftAsFound", name := "staysAbove", desc := "(IIII)Z" } : Jvm.MethodName)) ∈ lw_all := lw_g (lw_at lw_m3 188 rfl) rfl
theorem q763 : (Jvm.Cond.privateMethod ({ cls := "LeftAsFound", name := "staysAbove", desc := "(IIII)Z" } : Jvm.MethodName)) ∈ lw_tbl := lw_at lw_m3 189 rfl
theorem q764 : (Jvm.Cond.instanceMethod ({ cls := "LeftAsFound", name := "staysAbove", desc := "(IIII)Z" } : Jvm.MethodName)) ∈ lw_all := lw_g (lw_at lw_m3 190 rfl) rfl
theorem q765 : (Jvm.Cond.code ({ cls := "LeftAsFound", name := "staysAbove", desc := "(IIII)Z" } : Jvm.MethodName) prog_1_method_51_code (7 : Nat) (Option.some Jvm.ClassFile.FieldType.boolean)) ∈ lw_all := lw_g (lw_at lw_m3 191 rfl) rfl
theorem q766 : (Jvm.Cond.methodLink "LeftAsFound" (390 : Nat) ({ cls := "LeftAsFound", name := "comesAt", desc := "(I)I" } : Jvm.MethodName)) ∈ lw_all := lw_g (lw_at lw_m3 192 rfl) rfl
theorem q767 : (Jvm.Cond.privateMethod ({ cls := "LeftAsFound", name := "comesAt", desc := "(I)I" } : Jvm.MethodName)) ∈ lw_tbl := lw_at lw_m3 193 rfl
theorem q768 : (Jvm.Cond.instanceMethod ({ cls := "LeftAsFound", name := "comesAt", desc := "(I)I" } : Jvm.MethodName)) ∈ lw_all := lw_g (lw_at lw_m3 194 rfl) rfl
theorem q769 : (Jvm.Cond.code ({ cls := "LeftAsFound", name := "comesAt", desc := "(I)I" } : Jvm.MethodName) prog_1_method_50_code (2 : Nat) (Option.some Jvm.ClassFile.FieldType.int)) ∈ lw_all := lw_g (lw_at lw_m3 195 rfl) rfl
theorem q771 : (Jvm.Cond.instanceMethod ({ cls := "LeftAsFound", name := "warden", desc := "(II)I" } : Jvm.MethodName)) ∈ lw_all := lw_g (lw_at lw_m3 197 rfl) rfl
theorem q772 : (Jvm.Cond.selects "LeftAsFound" ({ cls := "LeftAsFound", name := "warden", desc := "(II)I" } : Jvm.MethodName) ({ cls := "LeftAsFound", name := "warden", desc := "(II)I" } : Jvm.MethodName)) ∈ lw_all := lw_g (lw_at lw_m3 198 rfl) rfl
theorem q773 : (Jvm.Cond.code ({ cls := "LeftAsFound", name := "warden", desc := "(II)I" } : Jvm.MethodName) prog_1_method_54_code (7 : Nat) (Option.some Jvm.ClassFile.FieldType.int)) ∈ lw_all := lw_g (lw_at lw_m3 199 rfl) rfl
theorem q774 : (Jvm.Cond.constant "LeftAsFound" (397 : Nat) (-2000000000 : Int32)) ∈ lw_all := lw_g (lw_at lw_m3 200 rfl) rfl
theorem q775 : (Jvm.Cond.methodLink "LeftAsFound" (398 : Nat) ({ cls := "LeftAsFound", name := "wardenCost", desc := "(I)I" } : Jvm.MethodName)) ∈ lw_all := lw_g (lw_at lw_m3 201 rfl) rfl
theorem q776 : (Jvm.Cond.privateMethod ({ cls := "LeftAsFound", name := "wardenCost", desc := "(I)I" } : Jvm.MethodName)) ∈ lw_tbl := lw_at lw_m3 202 rfl
theorem q777 : (Jvm.Cond.instanceMethod ({ cls := "LeftAsFound", name := "wardenCost", desc := "(I)I" } : Jvm.MethodName)) ∈ lw_all := lw_g (lw_at lw_m3 203 rfl) rfl
theorem q778 : (Jvm.Cond.code ({ cls := "LeftAsFound", name := "wardenCost", desc := "(I)I" } : Jvm.MethodName) prog_1_method_53_code (5 : Nat) (Option.some Jvm.ClassFile.FieldType.int)) ∈ lw_all := lw_g (lw_at lw_m3 204 rfl) rfl
theorem q780 : (Jvm.Cond.instanceMethod ({ cls := "LeftAsFound", name := "spoils", desc := "(II)I" } : Jvm.MethodName)) ∈ lw_all := lw_g (lw_at lw_m3 206 rfl) rfl
theorem q781 : (Jvm.Cond.selects "LeftAsFound" ({ cls := "LeftAsFound", name := "spoils", desc := "(II)I" } : Jvm.MethodName) ({ cls := "LeftAsFound", name := "spoils", desc := "(II)I" } : Jvm.MethodName)) ∈ lw_all := lw_g (lw_at lw_m3 207 rfl) rfl
theorem q782 : (Jvm.Cond.code ({ cls := "LeftAsFound", name := "spoils", desc := "(II)I" } : Jvm.MethodName) prog_1_method_55_code (8 : Nat) (Option.some Jvm.ClassFile.FieldType.int)) ∈ lw_all := lw_g (lw_at lw_m3 208 rfl) rfl
theorem q783 : (Jvm.Cond.methodLink "LeftAsFound" (401 : Nat) ({ cls := "java/lang/System", name := "arraycopy", desc := "(Ljava/lang/Object;ILjava/lang/Object;II)V" } : Jvm.MethodName)) ∈ lw_all := lw_g (lw_at lw_m3 209 rfl) rfl
theorem q785 : (Jvm.Cond.instanceMethod ({ cls := "LeftAsFound", name := "order", desc := "(II)I" } : Jvm.MethodName)) ∈ lw_all := lw_g (lw_at lw_m3 211 rfl) rfl
theorem q786 : (Jvm.Cond.selects "LeftAsFound" ({ cls := "LeftAsFound", name := "order", desc := "(II)I" } : Jvm.MethodName) ({ cls := "LeftAsFound", name := "order", desc := "(II)I" } : Jvm.MethodName)) ∈ lw_all := lw_g (lw_at lw_m3 212 rfl) rfl
theorem q787 : (Jvm.Cond.code ({ cls := "LeftAsFound", name := "order", desc := "(II)I" } : Jvm.MethodName) prog_1_method_57_code (4 : Nat) (Option.some Jvm.ClassFile.FieldType.int)) ∈ lw_all := lw_g (lw_at lw_m3 213 rfl) rfl
theorem q788 : (Jvm.Cond.methodLink "LeftAsFound" (410 : Nat) ({ cls := "LeftAsFound", name := "tryOrders", desc := "(III)V" } : Jvm.MethodName)) ∈ lw_all := lw_g (lw_at lw_m3 214 rfl) rfl
theorem q789 : (Jvm.Cond.privateMethod ({ cls := "LeftAsFound", name := "tryOrders", desc := "(III)V" } : Jvm.MethodName)) ∈ lw_tbl := lw_at lw_m3 215 rfl
theorem q790 : (Jvm.Cond.instanceMethod ({ cls := "LeftAsFound", name := "tryOrders", desc := "(III)V" } : Jvm.MethodName)) ∈ lw_all := lw_g (lw_at lw_m3 216 rfl) rfl
theorem q791 : (Jvm.Cond.code ({ cls := "LeftAsFound", name := "tryOrders", desc := "(III)V" } : Jvm.MethodName) prog_1_method_56_code (5 : Nat) (Option.none : Option Jvm.ClassFile.FieldType)) ∈ lw_all := lw_g (lw_at lw_m3 217 rfl) rfl
theorem q793 : (Jvm.Cond.instanceMethod ({ cls := "LeftAsFound", name := "tin", desc := "(II)J" } : Jvm.MethodName)) ∈ lw_all := lw_g (lw_at lw_m3 219 rfl) rfl
theorem q794 : (Jvm.Cond.selects "LeftAsFound" ({ cls := "LeftAsFound", name := "tin", desc := "(II)J" } : Jvm.MethodName) ({ cls := "LeftAsFound", name := "tin", desc := "(II)J" } : Jvm.MethodName)) ∈ lw_all := lw_g (lw_at lw_m3 220 rfl) rfl
theorem q795 : (Jvm.Cond.code ({ cls := "LeftAsFound", name := "tin", desc := "(II)J" } : Jvm.MethodName) prog_1_method_60_code (8 : Nat) (Option.some Jvm.ClassFile.FieldType.long)) ∈ lw_all := lw_g (lw_at lw_m3 221 rfl) rfl
theorem q796 : (Jvm.Cond.constantLong "LeftAsFound" (419 : Nat) (-9223372036854775808 : Int64)) ∈ lw_all := lw_g (lw_at lw_m3 222 rfl) rfl
theorem q797 : (Jvm.Cond.methodLink "LeftAsFound" (421 : Nat) ({ cls := "LeftAsFound$Hut", name := "lacks", desc := "(I)I" } : Jvm.MethodName)) ∈ lw_all := lw_g (lw_at lw_m3 223 rfl) rfl
theorem q798 : (Jvm.Cond.constantLong "LeftAsFound" (424 : Nat) (12 : Int64)) ∈ lw_all := lw_g (lw_at lw_m3 224 rfl) rfl
theorem q799 : (Jvm.Cond.methodLink "LeftAsFound" (426 : Nat) ({ cls := "LeftAsFound", name := "partOf", desc := "(JJI)J" } : Jvm.MethodName)) ∈ lw_all := lw_g (lw_at lw_m3 225 rfl) rfl
theorem q800 : (Jvm.Cond.static ({ cls := "LeftAsFound", name := "partOf", desc := "(JJI)J" } : Jvm.MethodName)) ∈ lw_all := lw_g (lw_at lw_m3 226 rfl) rfl
theorem q801 : (Jvm.Cond.code ({ cls := "LeftAsFound", name := "partOf", desc := "(JJI)J" } : Jvm.MethodName) prog_1_method_59_code (7 : Nat) (Option.some Jvm.ClassFile.FieldType.long)) ∈ lw_all := lw_g (lw_at lw_m3 227 rfl) rfl
theorem q802 : (Jvm.Cond.methodLink "LeftAsFound" (413 : Nat) ({ cls := "LeftAsFound", name := "common", desc := "(JJ)J" } : Jvm.MethodName)) ∈ lw_all := lw_g (lw_at lw_m3 228 rfl) rfl
theorem q803 : (Jvm.Cond.static ({ cls := "LeftAsFound", name := "common", desc := "(JJ)J" } : Jvm.MethodName)) ∈ lw_all := lw_g (lw_at lw_m3 229 rfl) rfl
theorem q804 : (Jvm.Cond.code ({ cls := "LeftAsFound", name := "common", desc := "(JJ)J" } : Jvm.MethodName) prog_1_method_58_code (4 : Nat) (Option.some Jvm.ClassFile.FieldType.long)) ∈ lw_all := lw_g (lw_at lw_m3 230 rfl) rfl
theorem q806 : (Jvm.Cond.instanceMethod ({ cls := "LeftAsFound", name := "who", desc := "(III)I" } : Jvm.MethodName)) ∈ lw_all := lw_g (lw_at lw_m3 232 rfl) rfl
theorem q807 : (Jvm.Cond.selects "LeftAsFound" ({ cls := "LeftAsFound", name := "who", desc := "(III)I" } : Jvm.MethodName) ({ cls := "LeftAsFound", name := "who", desc := "(III)I" } : Jvm.MethodName)) ∈ lw_all := lw_g (lw_at lw_m3 233 rfl) rfl
theorem q808 : (Jvm.Cond.code ({ cls := "LeftAsFound", name := "who", desc := "(III)I" } : Jvm.MethodName) prog_1_method_63_code (5 : Nat) (Option.some Jvm.ClassFile.FieldType.int)) ∈ lw_all := lw_g (lw_at lw_m3 234 rfl) rfl
theorem q809 : (Jvm.Cond.methodLink "LeftAsFound" (437 : Nat) ({ cls := "LeftAsFound", name := "readBack", desc := "([BI)V" } : Jvm.MethodName)) ∈ lw_all := lw_g (lw_at lw_m3 235 rfl) rfl
theorem q810 : (Jvm.Cond.privateMethod ({ cls := "LeftAsFound", name := "readBack", desc := "([BI)V" } : Jvm.MethodName)) ∈ lw_tbl := lw_at lw_m3 236 rfl
theorem q811 : (Jvm.Cond.instanceMethod ({ cls := "LeftAsFound", name := "readBack", desc := "([BI)V" } : Jvm.MethodName)) ∈ lw_all := lw_g (lw_at lw_m3 237 rfl) rfl
theorem q812 : (Jvm.Cond.code ({ cls := "LeftAsFound", name := "readBack", desc := "([BI)V" } : Jvm.MethodName) prog_1_method_62_code (4 : Nat) (Option.none : Option Jvm.ClassFile.FieldType)) ∈ lw_all := lw_g (lw_at lw_m3 238 rfl) rfl
theorem q813 : (Jvm.Cond.methodLink "LeftAsFound" (433 : Nat) ({ cls := "LeftAsFound", name := "goDeeper", desc := "([BIII)V" } : Jvm.MethodName)) ∈ lw_all := lw_g (lw_at lw_m3 239 rfl) rfl
theorem q814 : (Jvm.Cond.privateMethod ({ cls := "LeftAsFound", name := "goDeeper", desc := "([BIII)V" } : Jvm.MethodName)) ∈ lw_tbl := lw_at lw_m4 0 rfl
theorem q815 : (Jvm.Cond.instanceMethod ({ cls := "LeftAsFound", name := "goDeeper", desc := "([BIII)V" } : Jvm.MethodName)) ∈ lw_all := lw_g (lw_at lw_m4 1 rfl) rfl
theorem q816 : (Jvm.Cond.code ({ cls := "LeftAsFound", name := "goDeeper", desc := "([BIII)V" } : Jvm.MethodName) prog_1_method_61_code (6 : Nat) (Option.none : Option Jvm.ClassFile.FieldType)) ∈ lw_all := lw_g (lw_at lw_m4 2 rfl) rfl
theorem q818 : (Jvm.Cond.instanceMethod ({ cls := "LeftAsFound", name := "ways", desc := "(II)I" } : Jvm.MethodName)) ∈ lw_all := lw_g (lw_at lw_m4 4 rfl) rfl
theorem q819 : (Jvm.Cond.selects "LeftAsFound" ({ cls := "LeftAsFound", name := "ways", desc := "(II)I" } : Jvm.MethodName) ({ cls := "LeftAsFound", name := "ways", desc := "(II)I" } : Jvm.MethodName)) ∈ lw_all := lw_g (lw_at lw_m4 5 rfl) rfl
theorem q820 : (Jvm.Cond.code ({ cls := "LeftAsFound", name := "ways", desc := "(II)I" } : Jvm.MethodName) prog_1_method_64_code (3 : Nat) (Option.some Jvm.ClassFile.FieldType.int)) ∈ lw_all := lw_g (lw_at lw_m4 6 rfl) rfl
theorem q822 : (Jvm.Cond.instanceMethod ({ cls := "LeftAsFound", name := "judge", desc := "(II)I" } : Jvm.MethodName)) ∈ lw_all := lw_g (lw_at lw_m4 8 rfl) rfl
theorem q823 : (Jvm.Cond.selects "LeftAsFound" ({ cls := "LeftAsFound", name := "judge", desc := "(II)I" } : Jvm.MethodName) ({ cls := "LeftAsFound", name := "judge", desc := "(II)I" } : Jvm.MethodName)) ∈ lw_all := lw_g (lw_at lw_m4 9 rfl) rfl
theorem q824 : (Jvm.Cond.code ({ cls := "LeftAsFound", name := "judge", desc := "(II)I" } : Jvm.MethodName) prog_1_method_65_code (5 : Nat) (Option.some Jvm.ClassFile.FieldType.int)) ∈ lw_all := lw_g (lw_at lw_m4 10 rfl) rfl
theorem q826 : (Jvm.Cond.instanceMethod ({ cls := "LeftAsFound", name := "since", desc := "(III)I" } : Jvm.MethodName)) ∈ lw_all := lw_g (lw_at lw_m4 12 rfl) rfl
theorem q827 : (Jvm.Cond.selects "LeftAsFound" ({ cls := "LeftAsFound", name := "since", desc := "(III)I" } : Jvm.MethodName) ({ cls := "LeftAsFound", name := "since", desc := "(III)I" } : Jvm.MethodName)) ∈ lw_all := lw_g (lw_at lw_m4 13 rfl) rfl
theorem q828 : (Jvm.Cond.code ({ cls := "LeftAsFound", name := "since", desc := "(III)I" } : Jvm.MethodName) prog_1_method_66_code (6 : Nat) (Option.some Jvm.ClassFile.FieldType.int)) ∈ lw_all := lw_g (lw_at lw_m4 14 rfl) rfl
theorem q830 : (Jvm.Cond.instanceMethod ({ cls := "LeftAsFound", name := "drawn", desc := "(III)I" } : Jvm.MethodName)) ∈ lw_all := lw_g (lw_at lw_m4 16 rfl) rfl
theorem q831 : (Jvm.Cond.selects "LeftAsFound" ({ cls := "LeftAsFound", name := "drawn", desc := "(III)I" } : Jvm.MethodName) ({ cls := "LeftAsFound", name := "drawn", desc := "(III)I" } : Jvm.MethodName)) ∈ lw_all := lw_g (lw_at lw_m4 17 rfl) rfl
theorem q832 : (Jvm.Cond.code ({ cls := "LeftAsFound", name := "drawn", desc := "(III)I" } : Jvm.MethodName) prog_1_method_67_code (9 : Nat) (Option.some Jvm.ClassFile.FieldType.int)) ∈ lw_all := lw_g (lw_at lw_m4 18 rfl) rfl
theorem q833 : (Jvm.Cond.constantLong "LeftAsFound" (441 : Nat) (60 : Int64)) ∈ lw_all := lw_g (lw_at lw_m4 19 rfl) rfl
theorem q834 : (Jvm.Cond.constant "LeftAsFound" (443 : Nat) (1103515245 : Int32)) ∈ lw_all := lw_g (lw_at lw_m4 20 rfl) rfl
theorem q836 : (Jvm.Cond.instanceMethod ({ cls := "LeftAsFound", name := "night", desc := "(I)I" } : Jvm.MethodName)) ∈ lw_all := lw_g (lw_at lw_m4 22 rfl) rfl
theorem q837 : (Jvm.Cond.selects "LeftAsFound" ({ cls := "LeftAsFound", name := "night", desc := "(I)I" } : Jvm.MethodName) ({ cls := "LeftAsFound", name := "night", desc := "(I)I" } : Jvm.MethodName)) ∈ lw_all := lw_g (lw_at lw_m4 23 rfl) rfl
theorem q838 : (Jvm.Cond.code ({ cls := "LeftAsFound", name := "night", desc := "(I)I" } : Jvm.MethodName) prog_1_method_68_code (3 : Nat) (Option.some Jvm.ClassFile.FieldType.int)) ∈ lw_all := lw_g (lw_at lw_m4 24 rfl) rfl
theorem q840 : (Jvm.Cond.instanceMethod ({ cls := "LeftAsFound", name := "set", desc := "(II)I" } : Jvm.MethodName)) ∈ lw_all := lw_g (lw_at lw_m4 26 rfl) rfl
theorem q841 : (Jvm.Cond.selects "LeftAsFound" ({ cls := "LeftAsFound", name := "set", desc := "(II)I" } : Jvm.MethodName) ({ cls := "LeftAsFound", name := "set", desc := "(II)I" } : Jvm.MethodName)) ∈ lw_all := lw_g (lw_at lw_m4 27 rfl) rfl
theorem q842 : (Jvm.Cond.code ({ cls := "LeftAsFound", name := "set", desc := "(II)I" } : Jvm.MethodName) prog_1_method_69_code (4 : Nat) (Option.some Jvm.ClassFile.FieldType.int)) ∈ lw_all := lw_g (lw_at lw_m4 28 rfl) rfl
theorem q844 : (Jvm.Cond.instanceMethod ({ cls := "LeftAsFound", name := "forget", desc := "(I)I" } : Jvm.MethodName)) ∈ lw_all := lw_g (lw_at lw_m4 30 rfl) rfl
theorem q845 : (Jvm.Cond.selects "LeftAsFound" ({ cls := "LeftAsFound", name := "forget", desc := "(I)I" } : Jvm.MethodName) ({ cls := "LeftAsFound", name := "forget", desc := "(I)I" } : Jvm.MethodName)) ∈ lw_all := lw_g (lw_at lw_m4 31 rfl) rfl
theorem q846 : (Jvm.Cond.code ({ cls := "LeftAsFound", name := "forget", desc := "(I)I" } : Jvm.MethodName) prog_1_method_70_code (3 : Nat) (Option.some Jvm.ClassFile.FieldType.int)) ∈ lw_all := lw_g (lw_at lw_m4 32 rfl) rfl
theorem q848 : (Jvm.Cond.instanceMethod ({ cls := "LeftAsFound", name := "led", desc := "(I)I" } : Jvm.MethodName)) ∈ lw_all := lw_g (lw_at lw_m4 34 rfl) rfl
theorem q849 : (Jvm.Cond.selects "LeftAsFound" ({ cls := "LeftAsFound", name := "led", desc := "(I)I" } : Jvm.MethodName) ({ cls := "LeftAsFound", name := "led", desc := "(I)I" } : Jvm.MethodName)) ∈ lw_all := lw_g (lw_at lw_m4 35 rfl) rfl
theorem q850 : (Jvm.Cond.code ({ cls := "LeftAsFound", name := "led", desc := "(I)I" } : Jvm.MethodName) prog_1_method_71_code (2 : Nat) (Option.some Jvm.ClassFile.FieldType.int)) ∈ lw_all := lw_g (lw_at lw_m4 36 rfl) rfl
theorem q852 : (Jvm.Cond.instanceMethod ({ cls := "LeftAsFound", name := "image", desc := "()I" } : Jvm.MethodName)) ∈ lw_all := lw_g (lw_at lw_m4 38 rfl) rfl
theorem q853 : (Jvm.Cond.selects "LeftAsFound" ({ cls := "LeftAsFound", name := "image", desc := "()I" } : Jvm.MethodName) ({ cls := "LeftAsFound", name := "image", desc := "()I" } : Jvm.MethodName)) ∈ lw_all := lw_g (lw_at lw_m4 39 rfl) rfl
theorem q854 : (Jvm.Cond.code ({ cls := "LeftAsFound", name := "image", desc := "()I" } : Jvm.MethodName) prog_1_method_72_code (1 : Nat) (Option.some Jvm.ClassFile.FieldType.int)) ∈ lw_all := lw_g (lw_at lw_m4 40 rfl) rfl
theorem q856 : (Jvm.Cond.instanceMethod ({ cls := "LeftAsFound", name := "back", desc := "()I" } : Jvm.MethodName)) ∈ lw_all := lw_g (lw_at lw_m4 42 rfl) rfl
theorem q857 : (Jvm.Cond.selects "LeftAsFound" ({ cls := "LeftAsFound", name := "back", desc := "()I" } : Jvm.MethodName) ({ cls := "LeftAsFound", name := "back", desc := "()I" } : Jvm.MethodName)) ∈ lw_all := lw_g (lw_at lw_m4 43 rfl) rfl
theorem q858 : (Jvm.Cond.code ({ cls := "LeftAsFound", name := "back", desc := "()I" } : Jvm.MethodName) prog_1_method_73_code (1 : Nat) (Option.some Jvm.ClassFile.FieldType.int)) ∈ lw_all := lw_g (lw_at lw_m4 44 rfl) rfl
theorem q860 : (Jvm.Cond.instanceMethod ({ cls := "LeftAsFound", name := "body", desc := "(I)I" } : Jvm.MethodName)) ∈ lw_all := lw_g (lw_at lw_m4 46 rfl) rfl
theorem q861 : (Jvm.Cond.selects "LeftAsFound" ({ cls := "LeftAsFound", name := "body", desc := "(I)I" } : Jvm.MethodName) ({ cls := "LeftAsFound", name := "body", desc := "(I)I" } : Jvm.MethodName)) ∈ lw_all := lw_g (lw_at lw_m4 47 rfl) rfl
theorem q862 : (Jvm.Cond.code ({ cls := "LeftAsFound", name := "body", desc := "(I)I" } : Jvm.MethodName) prog_1_method_76_code (2 : Nat) (Option.some Jvm.ClassFile.FieldType.int)) ∈ lw_all := lw_g (lw_at lw_m4 48 rfl) rfl
theorem q863 : (Jvm.Cond.methodLink "LeftAsFound" (473 : Nat) ({ cls := "LeftAsFound", name := "made", desc := "(I)LLeftAsFound$Body;" } : Jvm.MethodName)) ∈ lw_all := lw_g (lw_at lw_m4 49 rfl) rfl
theorem q864 : (Jvm.Cond.privateMethod ({ cls := "LeftAsFound", name := "made", desc := "(I)LLeftAsFound$Body;" } : Jvm.MethodName)) ∈ lw_tbl := lw_at lw_m4 50 rfl
theorem q865 : (Jvm.Cond.instanceMethod ({ cls := "LeftAsFound", name := "made", desc := "(I)LLeftAsFound$Body;" } : Jvm.MethodName)) ∈ lw_all := lw_g (lw_at lw_m4 51 rfl) rfl
theorem q866 : (Jvm.Cond.code ({ cls := "LeftAsFound", name := "made", desc := "(I)LLeftAsFound$Body;" } : Jvm.MethodName) prog_1_method_75_code (2 : Nat) (Option.some (Jvm.ClassFile.FieldType.object "LeftAsFound$Body"))) ∈ lw_all := lw_g (lw_at lw_m4 52 rfl) rfl
theorem q867 : (Jvm.Cond.classLink "LeftAsFound" (451 : Nat) "LeftAsFound$FoundStay") ∈ lw_all := lw_g (lw_at lw_m4 53 rfl) rfl
theorem q869 : (Jvm.Cond.methodLink "LeftAsFound" (453 : Nat) ({ cls := "LeftAsFound$FoundStay", name := "<init>", desc := "(LLeftAsFound;I)V" } : Jvm.MethodName)) ∈ lw_all := lw_g (lw_at lw_m4 55 rfl) rfl
theorem q886 : (Jvm.Cond.classLink "LeftAsFound" (454 : Nat) "LeftAsFound$TakenStay") ∈ lw_all := lw_g (lw_at lw_m4 72 rfl) rfl
theorem q888 : (Jvm.Cond.methodLink "LeftAsFound" (456 : Nat) ({ cls := "LeftAsFound$TakenStay", name := "<init>", desc := "(LLeftAsFound;I)V" } : Jvm.MethodName)) ∈ lw_all := lw_g (lw_at lw_m4 74 rfl) rfl
theorem q898 : (Jvm.Cond.classLink "LeftAsFound" (457 : Nat) "LeftAsFound$BroughtStay") ∈ lw_all := lw_g (lw_at lw_m4 84 rfl) rfl
theorem q900 : (Jvm.Cond.methodLink "LeftAsFound" (459 : Nat) ({ cls := "LeftAsFound$BroughtStay", name := "<init>", desc := "(LLeftAsFound;I)V" } : Jvm.MethodName)) ∈ lw_all := lw_g (lw_at lw_m4 86 rfl) rfl
theorem q911 : (Jvm.Cond.classLink "LeftAsFound" (460 : Nat) "LeftAsFound$SeenStay") ∈ lw_all := lw_g (lw_at lw_m4 97 rfl) rfl
theorem q913 : (Jvm.Cond.methodLink "LeftAsFound" (462 : Nat) ({ cls := "LeftAsFound$SeenStay", name := "<init>", desc := "(LLeftAsFound;I)V" } : Jvm.MethodName)) ∈ lw_all := lw_g (lw_at lw_m4 99 rfl) rfl
theorem q924 : (Jvm.Cond.classLink "LeftAsFound" (463 : Nat) "LeftAsFound$WrittenStay") ∈ lw_all := lw_g (lw_at lw_m4 110 rfl) rfl
theorem q926 : (Jvm.Cond.methodLink "LeftAsFound" (465 : Nat) ({ cls := "LeftAsFound$WrittenStay", name := "<init>", desc := "(LLeftAsFound;I)V" } : Jvm.MethodName)) ∈ lw_all := lw_g (lw_at lw_m4 112 rfl) rfl
theorem q938 : (Jvm.Cond.classLink "LeftAsFound" (466 : Nat) "LeftAsFound$BareStay") ∈ lw_all := lw_g (lw_at lw_m4 124 rfl) rfl
theorem q940 : (Jvm.Cond.methodLink "LeftAsFound" (468 : Nat) ({ cls := "LeftAsFound$BareStay", name := "<init>", desc := "(LLeftAsFound;I)V" } : Jvm.MethodName)) ∈ lw_all := lw_g (lw_at lw_m4 126 rfl) rfl
theorem q950 : (Jvm.Cond.classLink "LeftAsFound" (469 : Nat) "LeftAsFound$MouseStay") ∈ lw_all := lw_g (lw_at lw_m4 136 rfl) rfl
theorem q952 : (Jvm.Cond.methodLink "LeftAsFound" (471 : Nat) ({ cls := "LeftAsFound$MouseStay", name := "<init>", desc := "(LLeftAsFound;I)V" } : Jvm.MethodName)) ∈ lw_all := lw_g (lw_at lw_m4 138 rfl) rfl
theorem q964 : (Jvm.Cond.methodLink "LeftAsFound" (472 : Nat) ({ cls := "LeftAsFound$Body", name := "<init>", desc := "(LLeftAsFound;I)V" } : Jvm.MethodName)) ∈ lw_all := lw_g (lw_at lw_m4 150 rfl) rfl
theorem q969 : (Jvm.Cond.instanceMethod ({ cls := "LeftAsFound", name := "act", desc := "(III)I" } : Jvm.MethodName)) ∈ lw_all := lw_g (lw_at lw_m4 155 rfl) rfl
theorem q970 : (Jvm.Cond.selects "LeftAsFound" ({ cls := "LeftAsFound", name := "act", desc := "(III)I" } : Jvm.MethodName) ({ cls := "LeftAsFound", name := "act", desc := "(III)I" } : Jvm.MethodName)) ∈ lw_all := lw_g (lw_at lw_m4 156 rfl) rfl
theorem q971 : (Jvm.Cond.code ({ cls := "LeftAsFound", name := "act", desc := "(III)I" } : Jvm.MethodName) prog_1_method_77_code (5 : Nat) (Option.some Jvm.ClassFile.FieldType.int)) ∈ lw_all := lw_g (lw_at lw_m4 157 rfl) rfl
theorem q972 : (Jvm.Cond.methodLink "LeftAsFound" (480 : Nat) ({ cls := "LeftAsFound", name := "isBody", desc := "(I)Z" } : Jvm.MethodName)) ∈ lw_all := lw_g (lw_at lw_m4 158 rfl) rfl
theorem q973 : (Jvm.Cond.privateMethod ({ cls := "LeftAsFound", name := "isBody", desc := "(I)Z" } : Jvm.MethodName)) ∈ lw_tbl := lw_at lw_m4 159 rfl
theorem q974 : (Jvm.Cond.instanceMethod ({ cls := "LeftAsFound", name := "isBody", desc := "(I)Z" } : Jvm.MethodName)) ∈ lw_all := lw_g (lw_at lw_m4 160 rfl) rfl
theorem q975 : (Jvm.Cond.code ({ cls := "LeftAsFound", name := "isBody", desc := "(I)Z" } : Jvm.MethodName) prog_1_method_74_code (2 : Nat) (Option.some Jvm.ClassFile.FieldType.boolean)) ∈ lw_all := lw_g (lw_at lw_m4 161 rfl) rfl
theorem q1061 : (Jvm.Cond.methodLink "LeftAsFound" (485 : Nat) ({ cls := "LeftAsFound$Body", name := "leaves", desc := "(I)I" } : Jvm.MethodName)) ∈ lw_all := lw_g (lw_at lw_m5 7 rfl) rfl
theorem q1100 : (Jvm.Cond.methodLink "LeftAsFound" (488 : Nat) ({ cls := "LeftAsFound$Body", name := "sees", desc := "(I)I" } : Jvm.MethodName)) ∈ lw_all := lw_g (lw_at lw_m5 46 rfl) rfl
theorem q1198 : (Jvm.Cond.instanceMethod ({ cls := "LeftAsFound", name := "trace", desc := "(I)I" } : Jvm.MethodName)) ∈ lw_all := lw_g (lw_at lw_m5 144 rfl) rfl
theorem q1199 : (Jvm.Cond.selects "LeftAsFound" ({ cls := "LeftAsFound", name := "trace", desc := "(I)I" } : Jvm.MethodName) ({ cls := "LeftAsFound", name := "trace", desc := "(I)I" } : Jvm.MethodName)) ∈ lw_all := lw_g (lw_at lw_m5 145 rfl) rfl
theorem q1200 : (Jvm.Cond.code ({ cls := "LeftAsFound", name := "trace", desc := "(I)I" } : Jvm.MethodName) prog_1_method_78_code (2 : Nat) (Option.some Jvm.ClassFile.FieldType.int)) ∈ lw_all := lw_g (lw_at lw_m5 146 rfl) rfl
theorem q1202 : (Jvm.Cond.instanceMethod ({ cls := "LeftAsFound", name := "keep", desc := "(II)I" } : Jvm.MethodName)) ∈ lw_all := lw_g (lw_at lw_m5 148 rfl) rfl
theorem q1203 : (Jvm.Cond.selects "LeftAsFound" ({ cls := "LeftAsFound", name := "keep", desc := "(II)I" } : Jvm.MethodName) ({ cls := "LeftAsFound", name := "keep", desc := "(II)I" } : Jvm.MethodName)) ∈ lw_all := lw_g (lw_at lw_m5 149 rfl) rfl
theorem q1204 : (Jvm.Cond.code ({ cls := "LeftAsFound", name := "keep", desc := "(II)I" } : Jvm.MethodName) prog_1_method_80_code (3 : Nat) (Option.some Jvm.ClassFile.FieldType.int)) ∈ lw_all := lw_g (lw_at lw_m5 150 rfl) rfl
theorem q1206 : (Jvm.Cond.instanceMethod ({ cls := "LeftAsFound", name := "row", desc := "(III)I" } : Jvm.MethodName)) ∈ lw_all := lw_g (lw_at lw_m5 152 rfl) rfl
theorem q1207 : (Jvm.Cond.selects "LeftAsFound" ({ cls := "LeftAsFound", name := "row", desc := "(III)I" } : Jvm.MethodName) ({ cls := "LeftAsFound", name := "row", desc := "(III)I" } : Jvm.MethodName)) ∈ lw_all := lw_g (lw_at lw_m5 153 rfl) rfl
theorem q1208 : (Jvm.Cond.code ({ cls := "LeftAsFound", name := "row", desc := "(III)I" } : Jvm.MethodName) prog_1_method_81_code (4 : Nat) (Option.some Jvm.ClassFile.FieldType.int)) ∈ lw_all := lw_g (lw_at lw_m5 154 rfl) rfl
theorem q1209 : (Jvm.Cond.constantLong "LeftAsFound" (493 : Nat) (4 : Int64)) ∈ lw_all := lw_g (lw_at lw_m5 155 rfl) rfl
theorem q1215 : (Jvm.Cond.instanceMethod ({ cls := "LeftAsFound", name := "put", desc := "(IIJ)I" } : Jvm.MethodName)) ∈ lw_all := lw_g (lw_at lw_m5 161 rfl) rfl
theorem q1216 : (Jvm.Cond.selects "LeftAsFound" ({ cls := "LeftAsFound", name := "put", desc := "(IIJ)I" } : Jvm.MethodName) ({ cls := "LeftAsFound", name := "put", desc := "(IIJ)I" } : Jvm.MethodName)) ∈ lw_all := lw_g (lw_at lw_m5 162 rfl) rfl
theorem q1217 : (Jvm.Cond.code ({ cls := "LeftAsFound", name := "put", desc := "(IIJ)I" } : Jvm.MethodName) prog_1_method_85_code (7 : Nat) (Option.some Jvm.ClassFile.FieldType.int)) ∈ lw_all := lw_g (lw_at lw_m5 163 rfl) rfl
theorem q1218 : (Jvm.Cond.methodLink "LeftAsFound" (505 : Nat) ({ cls := "LeftAsFound", name := "refusal", desc := "(II)I" } : Jvm.MethodName)) ∈ lw_all := lw_g (lw_at lw_m5 164 rfl) rfl
theorem q1219 : (Jvm.Cond.privateMethod ({ cls := "LeftAsFound", name := "refusal", desc := "(II)I" } : Jvm.MethodName)) ∈ lw_tbl := lw_at lw_m5 165 rfl
theorem q1220 : (Jvm.Cond.instanceMethod ({ cls := "LeftAsFound", name := "refusal", desc := "(II)I" } : Jvm.MethodName)) ∈ lw_all := lw_g (lw_at lw_m5 166 rfl) rfl
theorem q1221 : (Jvm.Cond.code ({ cls := "LeftAsFound", name := "refusal", desc := "(II)I" } : Jvm.MethodName) prog_1_method_84_code (4 : Nat) (Option.some Jvm.ClassFile.FieldType.int)) ∈ lw_all := lw_g (lw_at lw_m5 167 rfl) rfl
theorem q1222 : (Jvm.Cond.methodLink "LeftAsFound" (502 : Nat) ({ cls := "LeftAsFound", name := "sizeOf", desc := "(Ljava/lang/Object;)I" } : Jvm.MethodName)) ∈ lw_all := lw_g (lw_at lw_m5 168 rfl) rfl
theorem q1223 : (Jvm.Cond.static ({ cls := "LeftAsFound", name := "sizeOf", desc := "(Ljava/lang/Object;)I" } : Jvm.MethodName)) ∈ lw_all := lw_g (lw_at lw_m5 169 rfl) rfl
theorem q1224 : (Jvm.Cond.code ({ cls := "LeftAsFound", name := "sizeOf", desc := "(Ljava/lang/Object;)I" } : Jvm.MethodName) prog_1_method_83_code (1 : Nat) (Option.some Jvm.ClassFile.FieldType.int)) ∈ lw_all := lw_g (lw_at lw_m5 170 rfl) rfl
theorem q1226 : (Jvm.Cond.instanceMethod ({ cls := "LeftAsFound", name := "element", desc := "(II)J" } : Jvm.MethodName)) ∈ lw_all := lw_g (lw_at lw_m5 172 rfl) rfl
theorem q1227 : (Jvm.Cond.selects "LeftAsFound" ({ cls := "LeftAsFound", name := "element", desc := "(II)J" } : Jvm.MethodName) ({ cls := "LeftAsFound", name := "element", desc := "(II)J" } : Jvm.MethodName)) ∈ lw_all := lw_g (lw_at lw_m5 173 rfl) rfl
theorem q1228 : (Jvm.Cond.code ({ cls := "LeftAsFound", name := "element", desc := "(II)J" } : Jvm.MethodName) prog_1_method_86_code (4 : Nat) (Option.some Jvm.ClassFile.FieldType.long)) ∈ lw_all := lw_g (lw_at lw_m5 174 rfl) rfl
theorem q1230 : (Jvm.Cond.instanceMethod ({ cls := "LeftAsFound", name := "shift", desc := "(IIIII)I" } : Jvm.MethodName)) ∈ lw_all := lw_g (lw_at lw_m5 176 rfl) rfl
theorem q1231 : (Jvm.Cond.selects "LeftAsFound" ({ cls := "LeftAsFound", name := "shift", desc := "(IIIII)I" } : Jvm.MethodName) ({ cls := "LeftAsFound", name := "shift", desc := "(IIIII)I" } : Jvm.MethodName)) ∈ lw_all := lw_g (lw_at lw_m5 177 rfl) rfl
theorem q1232 : (Jvm.Cond.code ({ cls := "LeftAsFound", name := "shift", desc := "(IIIII)I" } : Jvm.MethodName) prog_1_method_87_code (8 : Nat) (Option.some Jvm.ClassFile.FieldType.int)) ∈ lw_all := lw_g (lw_at lw_m5 178 rfl) rfl
theorem q1234 : (Jvm.Cond.instanceMethod ({ cls := "LeftAsFound", name := "taken", desc := "(II)I" } : Jvm.MethodName)) ∈ lw_all := lw_g (lw_at lw_m5 180 rfl) rfl
theorem q1235 : (Jvm.Cond.selects "LeftAsFound" ({ cls := "LeftAsFound", name := "taken", desc := "(II)I" } : Jvm.MethodName) ({ cls := "LeftAsFound", name := "taken", desc := "(II)I" } : Jvm.MethodName)) ∈ lw_all := lw_g (lw_at lw_m5 181 rfl) rfl
theorem q1236 : (Jvm.Cond.code ({ cls := "LeftAsFound", name := "taken", desc := "(II)I" } : Jvm.MethodName) prog_1_method_88_code (5 : Nat) (Option.some Jvm.ClassFile.FieldType.int)) ∈ lw_all := lw_g (lw_at lw_m5 182 rfl) rfl
theorem q1237 : (Jvm.Cond.methodLink "LeftAsFound" (508 : Nat) ({ cls := "LeftAsFound$Body", name := "isUnder", desc := "(I)Z" } : Jvm.MethodName)) ∈ lw_all := lw_g (lw_at lw_m5 183 rfl) rfl
theorem q1270 : (Jvm.Cond.methodLink "LeftAsFound" (511 : Nat) ({ cls := "LeftAsFound$Body", name := "kind", desc := "()I" } : Jvm.MethodName)) ∈ lw_all := lw_g (lw_at lw_m5 216 rfl) rfl
theorem q1297 : (Jvm.Cond.instanceMethod ({ cls := "LeftAsFound", name := "count", desc := "(I)I" } : Jvm.MethodName)) ∈ lw_all := lw_g (lw_at lw_m6 3 rfl) rfl
theorem q1298 : (Jvm.Cond.selects "LeftAsFound" ({ cls := "LeftAsFound", name := "count", desc := "(I)I" } : Jvm.MethodName) ({ cls := "LeftAsFound", name := "count", desc := "(I)I" } : Jvm.MethodName)) ∈ lw_all := lw_g (lw_at lw_m6 4 rfl) rfl
theorem q1299 : (Jvm.Cond.code ({ cls := "LeftAsFound", name := "count", desc := "(I)I" } : Jvm.MethodName) prog_1_method_89_code (2 : Nat) (Option.some Jvm.ClassFile.FieldType.int)) ∈ lw_all := lw_g (lw_at lw_m6 5 rfl) rfl
theorem q1300 : (Jvm.Cond.methodLink "LeftAsFound" (514 : Nat) ({ cls := "LeftAsFound", name := "ones", desc := "(I)I" } : Jvm.MethodName)) ∈ lw_all := lw_g (lw_at lw_m6 6 rfl) rfl
theorem q1301 : (Jvm.Cond.static ({ cls := "LeftAsFound", name := "ones", desc := "(I)I" } : Jvm.MethodName)) ∈ lw_all := lw_g (lw_at lw_m6 7 rfl) rfl
theorem q1302 : (Jvm.Cond.code ({ cls := "LeftAsFound", name := "ones", desc := "(I)I" } : Jvm.MethodName) prog_1_method_4_code (3 : Nat) (Option.some Jvm.ClassFile.FieldType.int)) ∈ lw_all := lw_g (lw_at lw_m6 8 rfl) rfl
theorem q1939 : (Jvm.Cond.castable "LeftAsFound" "java/lang/Object") ∈ lw_tbl := lw_at lw_m8 165 rfl
theorem in_X0 : ∀ w ∈ wsX00, w ∈ lw_all := lw_in wsX00 [338, 340, 342, 344, 346, 348, 350, 352, 354, 356, 358, 360, 362, 364, 366, 368, 370, 372, 374, 376, 378, 380, 382, 384, 386, 388, 390, 392, 394, 396, 398, 400, 402, 404, 406, 408, 410, 412, 414, 416, 418, 420] (by decide +kernel) (by decide +kernel)
