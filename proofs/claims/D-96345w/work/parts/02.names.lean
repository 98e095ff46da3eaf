/-! java/lang/Throwable -/
set_option maxRecDepth 100000
def RJ0 : String := "java/lang/Throwable"
def TJ0 : u_T := fun k => match k with
  | 0 => ("java/lang/Throwable", "cause", "Ljava/lang/Throwable;", false)
  | 1 => ("java/lang/Throwable", "stackTrace", "[Ljava/lang/StackTraceElement;", false)
  | 2 => ("java/lang/Throwable", "suppressedExceptions", "Ljava/util/List;", false)
  | 3 => ("java/lang/Throwable", "detailMessage", "Ljava/lang/String;", false)
  | _ => ("java/lang/Throwable", "backtrace", "Ljava/lang/Object;", false)
def tyJ0 : Nat → FieldType := fun k => match k with
  | 0 => .object "java/lang/Throwable"
  | 1 => .array (.object "java/lang/StackTraceElement")
  | 2 => .object "java/util/List"
  | 3 => .object "java/lang/String"
  | _ => .object "java/lang/Object"
abbrev wsJ00 : List Cond := u_ws RJ0 TJ0 5
theorem nmJ0 : ∀ a, a < 5 → ∀ b, b < 5 → a ≠ b → (TJ0 a).2.1 ≠ (TJ0 b).2.1 := by decide +kernel
theorem tyJ0_ok : ∀ k, k < 5 → parseFieldDescriptor (TJ0 k).2.2.1 = some (tyJ0 k) := by decide +kernel
abbrev cJ0_init : ByteArray := prog_30_method_1_code
def yJ0_init : MethodName := ⟨RJ0, "<init>", "()V"⟩
def dkwJ0_init_1 : List UInt8 := [182, 0, 27, 87, 177]
abbrev dktJ0_init_1 : List UInt8 := dkwJ0_init_1 ++ []
def dkwJ0_init_0 : List UInt8 := [42, 183, 0, 1, 42, 42, 181, 0, 7, 42, 178, 0, 13, 181, 0, 17, 42, 178, 0, 20, 181, 0, 24, 42]
abbrev dktJ0_init_0 : List UInt8 := dkwJ0_init_0 ++ dktJ0_init_1
theorem dksJ0_init_0 : cJ0_init.data.toList.drop 0 = dktJ0_init_0 := by decide +kernel
theorem dksJ0_init_1 : cJ0_init.data.toList.drop 24 = dktJ0_init_1 := dk_seg dksJ0_init_0 24 rfl rfl
theorem dJ0_init_0 : decode cJ0_init 0 = .ok (.aload_n 0, 1) := dk_42 (dk_at dksJ0_init_0 0 rfl rfl)
theorem dJ0_init_1 : decode cJ0_init 1 = .ok (.invokespecial 1, 3) := dk_183 0 1 (dk_at dksJ0_init_0 1 rfl rfl)
theorem dJ0_init_4 : decode cJ0_init 4 = .ok (.aload_n 0, 1) := dk_42 (dk_at dksJ0_init_0 4 rfl rfl)
theorem dJ0_init_5 : decode cJ0_init 5 = .ok (.aload_n 0, 1) := dk_42 (dk_at dksJ0_init_0 5 rfl rfl)
theorem dJ0_init_6 : decode cJ0_init 6 = .ok (.putfield 7, 3) := dk_181 0 7 (dk_at dksJ0_init_0 6 rfl rfl)
theorem dJ0_init_9 : decode cJ0_init 9 = .ok (.aload_n 0, 1) := dk_42 (dk_at dksJ0_init_0 9 rfl rfl)
theorem dJ0_init_10 : decode cJ0_init 10 = .ok (.getstatic 13, 3) := dk_178 0 13 (dk_at dksJ0_init_0 10 rfl rfl)
theorem dJ0_init_13 : decode cJ0_init 13 = .ok (.putfield 17, 3) := dk_181 0 17 (dk_at dksJ0_init_0 13 rfl rfl)
theorem dJ0_init_16 : decode cJ0_init 16 = .ok (.aload_n 0, 1) := dk_42 (dk_at dksJ0_init_0 16 rfl rfl)
theorem dJ0_init_17 : decode cJ0_init 17 = .ok (.getstatic 20, 3) := dk_178 0 20 (dk_at dksJ0_init_0 17 rfl rfl)
theorem dJ0_init_20 : decode cJ0_init 20 = .ok (.putfield 24, 3) := dk_181 0 24 (dk_at dksJ0_init_0 20 rfl rfl)
theorem dJ0_init_23 : decode cJ0_init 23 = .ok (.aload_n 0, 1) := dk_42 (dk_at dksJ0_init_0 23 rfl rfl)
theorem dJ0_init_24 : decode cJ0_init 24 = .ok (.invokevirtual 27, 3) := dk_182 0 27 (dk_at dksJ0_init_1 0 rfl rfl)
theorem dJ0_init_27 : decode cJ0_init 27 = .ok (.pop, 1) := dk_87 (dk_at dksJ0_init_1 3 rfl rfl)
theorem dJ0_init_28 : decode cJ0_init 28 = .ok (.return_, 1) := dk_177 (dk_at dksJ0_init_1 4 rfl rfl)
abbrev cJ0_init_2 : ByteArray := prog_30_method_5_code
def yJ0_init_2 : MethodName := ⟨RJ0, "<init>", "(Ljava/lang/String;Ljava/lang/Throwable;ZZ)V"⟩
def dkwJ0_init_2_2 : List UInt8 := [44, 181, 0, 7, 29, 154, 0, 8, 42, 1, 181, 0, 24, 177]
abbrev dktJ0_init_2_2 : List UInt8 := dkwJ0_init_2_2 ++ []
def dkwJ0_init_2_1 : List UInt8 := [21, 4, 153, 0, 11, 42, 182, 0, 27, 87, 167, 0, 8, 42, 1, 181, 0, 17, 42, 43, 181, 0, 31, 42]
abbrev dktJ0_init_2_1 : List UInt8 := dkwJ0_init_2_1 ++ dktJ0_init_2_2
def dkwJ0_init_2_0 : List UInt8 := [42, 183, 0, 1, 42, 42, 181, 0, 7, 42, 178, 0, 13, 181, 0, 17, 42, 178, 0, 20, 181, 0, 24]
abbrev dktJ0_init_2_0 : List UInt8 := dkwJ0_init_2_0 ++ dktJ0_init_2_1
theorem dksJ0_init_2_0 : cJ0_init_2.data.toList.drop 0 = dktJ0_init_2_0 := by decide +kernel
theorem dksJ0_init_2_1 : cJ0_init_2.data.toList.drop 23 = dktJ0_init_2_1 := dk_seg dksJ0_init_2_0 23 rfl rfl
theorem dksJ0_init_2_2 : cJ0_init_2.data.toList.drop 47 = dktJ0_init_2_2 := dk_seg dksJ0_init_2_1 24 rfl rfl
theorem dJ0_init_2_0 : decode cJ0_init_2 0 = .ok (.aload_n 0, 1) := dk_42 (dk_at dksJ0_init_2_0 0 rfl rfl)
theorem dJ0_init_2_1 : decode cJ0_init_2 1 = .ok (.invokespecial 1, 3) := dk_183 0 1 (dk_at dksJ0_init_2_0 1 rfl rfl)
theorem dJ0_init_2_4 : decode cJ0_init_2 4 = .ok (.aload_n 0, 1) := dk_42 (dk_at dksJ0_init_2_0 4 rfl rfl)
theorem dJ0_init_2_5 : decode cJ0_init_2 5 = .ok (.aload_n 0, 1) := dk_42 (dk_at dksJ0_init_2_0 5 rfl rfl)
theorem dJ0_init_2_6 : decode cJ0_init_2 6 = .ok (.putfield 7, 3) := dk_181 0 7 (dk_at dksJ0_init_2_0 6 rfl rfl)
theorem dJ0_init_2_9 : decode cJ0_init_2 9 = .ok (.aload_n 0, 1) := dk_42 (dk_at dksJ0_init_2_0 9 rfl rfl)
theorem dJ0_init_2_10 : decode cJ0_init_2 10 = .ok (.getstatic 13, 3) := dk_178 0 13 (dk_at dksJ0_init_2_0 10 rfl rfl)
theorem dJ0_init_2_13 : decode cJ0_init_2 13 = .ok (.putfield 17, 3) := dk_181 0 17 (dk_at dksJ0_init_2_0 13 rfl rfl)
theorem dJ0_init_2_16 : decode cJ0_init_2 16 = .ok (.aload_n 0, 1) := dk_42 (dk_at dksJ0_init_2_0 16 rfl rfl)
theorem dJ0_init_2_17 : decode cJ0_init_2 17 = .ok (.getstatic 20, 3) := dk_178 0 20 (dk_at dksJ0_init_2_0 17 rfl rfl)
theorem dJ0_init_2_20 : decode cJ0_init_2 20 = .ok (.putfield 24, 3) := dk_181 0 24 (dk_at dksJ0_init_2_0 20 rfl rfl)
theorem dJ0_init_2_23 : decode cJ0_init_2 23 = .ok (.iload 4, 2) := dk_21 4 (dk_at dksJ0_init_2_1 0 rfl rfl)
theorem dJ0_init_2_25 : decode cJ0_init_2 25 = .ok (.ifCond .eq 11, 3) := dk_153 0 11 (dk_at dksJ0_init_2_1 2 rfl rfl)
theorem dJ0_init_2_28 : decode cJ0_init_2 28 = .ok (.aload_n 0, 1) := dk_42 (dk_at dksJ0_init_2_1 5 rfl rfl)
theorem dJ0_init_2_29 : decode cJ0_init_2 29 = .ok (.invokevirtual 27, 3) := dk_182 0 27 (dk_at dksJ0_init_2_1 6 rfl rfl)
theorem dJ0_init_2_32 : decode cJ0_init_2 32 = .ok (.pop, 1) := dk_87 (dk_at dksJ0_init_2_1 9 rfl rfl)
theorem dJ0_init_2_33 : decode cJ0_init_2 33 = .ok (.goto 8, 3) := dk_167 0 8 (dk_at dksJ0_init_2_1 10 rfl rfl)
theorem dJ0_init_2_36 : decode cJ0_init_2 36 = .ok (.aload_n 0, 1) := dk_42 (dk_at dksJ0_init_2_1 13 rfl rfl)
theorem dJ0_init_2_37 : decode cJ0_init_2 37 = .ok (.aconst_null, 1) := dk_1 (dk_at dksJ0_init_2_1 14 rfl rfl)
theorem dJ0_init_2_38 : decode cJ0_init_2 38 = .ok (.putfield 17, 3) := dk_181 0 17 (dk_at dksJ0_init_2_1 15 rfl rfl)
theorem dJ0_init_2_41 : decode cJ0_init_2 41 = .ok (.aload_n 0, 1) := dk_42 (dk_at dksJ0_init_2_1 18 rfl rfl)
theorem dJ0_init_2_42 : decode cJ0_init_2 42 = .ok (.aload_n 1, 1) := dk_43 (dk_at dksJ0_init_2_1 19 rfl rfl)
theorem dJ0_init_2_43 : decode cJ0_init_2 43 = .ok (.putfield 31, 3) := dk_181 0 31 (dk_at dksJ0_init_2_1 20 rfl rfl)
theorem dJ0_init_2_46 : decode cJ0_init_2 46 = .ok (.aload_n 0, 1) := dk_42 (dk_at dksJ0_init_2_1 23 rfl rfl)
theorem dJ0_init_2_47 : decode cJ0_init_2 47 = .ok (.aload_n 2, 1) := dk_44 (dk_at dksJ0_init_2_2 0 rfl rfl)
theorem dJ0_init_2_48 : decode cJ0_init_2 48 = .ok (.putfield 7, 3) := dk_181 0 7 (dk_at dksJ0_init_2_2 1 rfl rfl)
theorem dJ0_init_2_51 : decode cJ0_init_2 51 = .ok (.iload_n 3, 1) := dk_29 (dk_at dksJ0_init_2_2 4 rfl rfl)
theorem dJ0_init_2_52 : decode cJ0_init_2 52 = .ok (.ifCond .ne 8, 3) := dk_154 0 8 (dk_at dksJ0_init_2_2 5 rfl rfl)
theorem dJ0_init_2_55 : decode cJ0_init_2 55 = .ok (.aload_n 0, 1) := dk_42 (dk_at dksJ0_init_2_2 8 rfl rfl)
theorem dJ0_init_2_56 : decode cJ0_init_2 56 = .ok (.aconst_null, 1) := dk_1 (dk_at dksJ0_init_2_2 9 rfl rfl)
theorem dJ0_init_2_57 : decode cJ0_init_2 57 = .ok (.putfield 24, 3) := dk_181 0 24 (dk_at dksJ0_init_2_2 10 rfl rfl)
theorem dJ0_init_2_60 : decode cJ0_init_2 60 = .ok (.return_, 1) := dk_177 (dk_at dksJ0_init_2_2 13 rfl rfl)
theorem q96 : (Jvm.Cond.initialized "java/lang/Throwable") ∈ lw_all := lw_g (lw_at lw_m1 2 rfl) rfl
theorem q147 : (Jvm.Cond.declares ({ cls := "java/lang/Throwable", name := "<init>", desc := "()V" } : Jvm.MethodName)) ∈ lw_tbl := lw_at lw_m1 53 rfl
theorem q148 : (Jvm.Cond.declares ({ cls := "java/lang/Throwable", name := "<init>", desc := "(Ljava/lang/String;)V" } : Jvm.MethodName)) ∈ lw_tbl := lw_at lw_m1 54 rfl
theorem q152 : (Jvm.Cond.lays "java/lang/Throwable" "java/lang/Throwable" "cause" "Ljava/lang/Throwable;") ∈ lw_all := lw_g (lw_at lw_m1 58 rfl) rfl
theorem q154 : (Jvm.Cond.lays "java/lang/Throwable" "java/lang/Throwable" "stackTrace" "[Ljava/lang/StackTraceElement;") ∈ lw_all := lw_g (lw_at lw_m1 60 rfl) rfl
theorem q156 : (Jvm.Cond.lays "java/lang/Throwable" "java/lang/Throwable" "suppressedExceptions" "Ljava/util/List;") ∈ lw_all := lw_g (lw_at lw_m1 62 rfl) rfl
theorem q158 : (Jvm.Cond.lays "java/lang/Throwable" "java/lang/Throwable" "detailMessage" "Ljava/lang/String;") ∈ lw_all := lw_g (lw_at lw_m1 64 rfl) rfl
theorem q160 : (Jvm.Cond.lays "java/lang/Throwable" "java/lang/Throwable" "backtrace" "Ljava/lang/Object;") ∈ lw_all := lw_g (lw_at lw_m1 66 rfl) rfl
theorem q161 : (Jvm.Cond.fieldLink "java/lang/Throwable" (198 : Nat) "java/lang/Throwable" "backtrace" "Ljava/lang/Object;") ∈ lw_all := lw_g (lw_at lw_m1 67 rfl) rfl
theorem q162 : (Jvm.Cond.superclass "java/lang/Throwable" "java/lang/Object") ∈ lw_all := lw_g (lw_at lw_m1 68 rfl) rfl
theorem q163 : (Jvm.Cond.instanceMethod ({ cls := "java/lang/Throwable", name := "<init>", desc := "()V" } : Jvm.MethodName)) ∈ lw_all := lw_g (lw_at lw_m1 69 rfl) rfl
theorem q164 : (Jvm.Cond.code ({ cls := "java/lang/Throwable", name := "<init>", desc := "()V" } : Jvm.MethodName) prog_30_method_1_code (1 : Nat) (Option.none : Option Jvm.ClassFile.FieldType)) ∈ lw_all := lw_g (lw_at lw_m1 70 rfl) rfl
theorem q165 : (Jvm.Cond.methodLink "java/lang/Throwable" (1 : Nat) ({ cls := "java/lang/Object", name := "<init>", desc := "()V" } : Jvm.MethodName)) ∈ lw_all := lw_g (lw_at lw_m1 71 rfl) rfl
theorem q166 : (Jvm.Cond.fieldLink "java/lang/Throwable" (13 : Nat) "java/lang/Throwable" "UNASSIGNED_STACK" "[Ljava/lang/StackTraceElement;") ∈ lw_all := lw_g (lw_at lw_m1 72 rfl) rfl
theorem q167 : (Jvm.Cond.laysStatic "java/lang/Throwable" "UNASSIGNED_STACK" "[Ljava/lang/StackTraceElement;") ∈ lw_tbl := lw_at lw_m1 73 rfl
theorem q168 : (Jvm.Cond.fieldLink "java/lang/Throwable" (20 : Nat) "java/lang/Throwable" "SUPPRESSED_SENTINEL" "Ljava/util/List;") ∈ lw_all := lw_g (lw_at lw_m1 74 rfl) rfl
theorem q169 : (Jvm.Cond.laysStatic "java/lang/Throwable" "SUPPRESSED_SENTINEL" "Ljava/util/List;") ∈ lw_tbl := lw_at lw_m1 75 rfl
theorem q170 : (Jvm.Cond.methodLink "java/lang/Throwable" (27 : Nat) ({ cls := "java/lang/Throwable", name := "fillInStackTrace", desc := "()Ljava/lang/Throwable;" } : Jvm.MethodName)) ∈ lw_all := lw_g (lw_at lw_m1 76 rfl) rfl
theorem q171 : (Jvm.Cond.instanceMethod ({ cls := "java/lang/Throwable", name := "fillInStackTrace", desc := "()Ljava/lang/Throwable;" } : Jvm.MethodName)) ∈ lw_all := lw_g (lw_at lw_m1 77 rfl) rfl
theorem q172 : (Jvm.Cond.sameMethod "java/lang/Throwable" "java/lang/Throwable" "fillInStackTrace" "()Ljava/lang/Throwable;") ∈ lw_all := lw_g (lw_at lw_m1 78 rfl) rfl
theorem q174 : (Jvm.Cond.codeSync ({ cls := "java/lang/Throwable", name := "fillInStackTrace", desc := "()Ljava/lang/Throwable;" } : Jvm.MethodName) prog_30_method_18_code (1 : Nat) (Option.some (Jvm.ClassFile.FieldType.object "java/lang/Throwable"))) ∈ lw_all := lw_g (lw_at lw_m1 80 rfl) rfl
theorem q175 : (Jvm.Cond.methodLink "java/lang/Throwable" (202 : Nat) ({ cls := "java/lang/Throwable", name := "fillInStackTrace", desc := "(I)Ljava/lang/Throwable;" } : Jvm.MethodName)) ∈ lw_all := lw_g (lw_at lw_m1 81 rfl) rfl
theorem q176 : (Jvm.Cond.privateMethod ({ cls := "java/lang/Throwable", name := "fillInStackTrace", desc := "(I)Ljava/lang/Throwable;" } : Jvm.MethodName)) ∈ lw_tbl := lw_at lw_m1 82 rfl
theorem q177 : (Jvm.Cond.instanceMethod ({ cls := "java/lang/Throwable", name := "fillInStackTrace", desc := "(I)Ljava/lang/Throwable;" } : Jvm.MethodName)) ∈ lw_all := lw_g (lw_at lw_m1 83 rfl) rfl
theorem q178 : (Jvm.Cond.instantiable "java/lang/Throwable" (6 : Nat)) ∈ lw_all := lw_g (lw_at lw_m1 84 rfl) rfl
theorem q179 : (Jvm.Cond.native ({ cls := "java/lang/Throwable", name := "fillInStackTrace", desc := "(I)Ljava/lang/Throwable;" } : Jvm.MethodName)) ∈ lw_all := lw_g (lw_at lw_m1 85 rfl) rfl
theorem q190 : (Jvm.Cond.instanceMethod ({ cls := "java/lang/Throwable", name := "<init>", desc := "(Ljava/lang/String;Ljava/lang/Throwable;ZZ)V" } : Jvm.MethodName)) ∈ lw_all := lw_g (lw_at lw_m1 96 rfl) rfl
theorem q191 : (Jvm.Cond.code ({ cls := "java/lang/Throwable", name := "<init>", desc := "(Ljava/lang/String;Ljava/lang/Throwable;ZZ)V" } : Jvm.MethodName) prog_30_method_5_code (5 : Nat) (Option.none : Option Jvm.ClassFile.FieldType)) ∈ lw_all := lw_g (lw_at lw_m1 97 rfl) rfl
theorem q192 : (Jvm.Cond.fieldLink "java/lang/Throwable" (198 : Nat) "java/lang/Throwable" "backtrace" "Ljava/lang/Object;") ∈ lw_all := lw_g (lw_at lw_m1 98 rfl) rfl
theorem q193 : (Jvm.Cond.fieldLink "java/lang/Throwable" (31 : Nat) "java/lang/Throwable" "detailMessage" "Ljava/lang/String;") ∈ lw_all := lw_g (lw_at lw_m1 99 rfl) rfl
theorem q194 : (Jvm.Cond.fieldLink "java/lang/Throwable" (7 : Nat) "java/lang/Throwable" "cause" "Ljava/lang/Throwable;") ∈ lw_all := lw_g (lw_at lw_m1 100 rfl) rfl
theorem q195 : (Jvm.Cond.fieldLink "java/lang/Throwable" (17 : Nat) "java/lang/Throwable" "stackTrace" "[Ljava/lang/StackTraceElement;") ∈ lw_all := lw_g (lw_at lw_m1 101 rfl) rfl
theorem q196 : (Jvm.Cond.fieldLink "java/lang/Throwable" (24 : Nat) "java/lang/Throwable" "suppressedExceptions" "Ljava/util/List;") ∈ lw_all := lw_g (lw_at lw_m1 102 rfl) rfl
theorem q197 : (Jvm.Cond.soleField "java/lang/Throwable" "backtrace") ∈ lw_all := lw_g (lw_at lw_m1 103 rfl) rfl
theorem q198 : (Jvm.Cond.soleField "java/lang/Throwable" "detailMessage") ∈ lw_all := lw_g (lw_at lw_m1 104 rfl) rfl
theorem q199 : (Jvm.Cond.soleField "java/lang/Throwable" "cause") ∈ lw_all := lw_g (lw_at lw_m1 105 rfl) rfl
theorem q200 : (Jvm.Cond.soleField "java/lang/Throwable" "stackTrace") ∈ lw_all := lw_g (lw_at lw_m1 106 rfl) rfl
theorem q202 : (Jvm.Cond.soleField "java/lang/Throwable" "depth") ∈ lw_all := lw_g (lw_at lw_m1 108 rfl) rfl
theorem q203 : (Jvm.Cond.soleField "java/lang/Throwable" "suppressedExceptions") ∈ lw_all := lw_g (lw_at lw_m1 109 rfl) rfl
theorem q1906 : (Jvm.Cond.sameMethod "java/lang/Throwable" "java/lang/Throwable" "fillInStackTrace" "(I)Ljava/lang/Throwable;") ∈ lw_all := lw_g (lw_at lw_m8 132 rfl) rfl
theorem q1960 : (Jvm.Cond.castable "java/lang/Throwable" "java/lang/Object") ∈ lw_tbl := lw_at lw_m8 186 rfl
theorem in_J0 : ∀ w ∈ wsJ00, w ∈ lw_all := lw_in wsJ00 [152, 154, 156, 158, 160] (by decide +kernel) (by decide +kernel)

/-! java/lang/Exception -/
set_option maxRecDepth 100000
def RJ1 : String := "java/lang/Exception"
abbrev cJ1_init : ByteArray := prog_26_method_5_code
def yJ1_init : MethodName := ⟨RJ1, "<init>", "(Ljava/lang/String;Ljava/lang/Throwable;ZZ)V"⟩
def dkwJ1_init_0 : List UInt8 := [42, 43, 44, 29, 21, 4, 183, 0, 16, 177]
abbrev dktJ1_init_0 : List UInt8 := dkwJ1_init_0 ++ []
theorem dksJ1_init_0 : cJ1_init.data.toList.drop 0 = dktJ1_init_0 := by decide +kernel
theorem dJ1_init_0 : decode cJ1_init 0 = .ok (.aload_n 0, 1) := dk_42 (dk_at dksJ1_init_0 0 rfl rfl)
theorem dJ1_init_1 : decode cJ1_init 1 = .ok (.aload_n 1, 1) := dk_43 (dk_at dksJ1_init_0 1 rfl rfl)
theorem dJ1_init_2 : decode cJ1_init 2 = .ok (.aload_n 2, 1) := dk_44 (dk_at dksJ1_init_0 2 rfl rfl)
theorem dJ1_init_3 : decode cJ1_init 3 = .ok (.iload_n 3, 1) := dk_29 (dk_at dksJ1_init_0 3 rfl rfl)
theorem dJ1_init_4 : decode cJ1_init 4 = .ok (.iload 4, 2) := dk_21 4 (dk_at dksJ1_init_0 4 rfl rfl)
theorem dJ1_init_6 : decode cJ1_init 6 = .ok (.invokespecial 16, 3) := dk_183 0 16 (dk_at dksJ1_init_0 6 rfl rfl)
theorem dJ1_init_9 : decode cJ1_init 9 = .ok (.return_, 1) := dk_177 (dk_at dksJ1_init_0 9 rfl rfl)
theorem q97 : (Jvm.Cond.initialized "java/lang/Exception") ∈ lw_all := lw_g (lw_at lw_m1 3 rfl) rfl
theorem q145 : (Jvm.Cond.declares ({ cls := "java/lang/Exception", name := "<init>", desc := "()V" } : Jvm.MethodName)) ∈ lw_tbl := lw_at lw_m1 51 rfl
theorem q146 : (Jvm.Cond.declares ({ cls := "java/lang/Exception", name := "<init>", desc := "(Ljava/lang/String;)V" } : Jvm.MethodName)) ∈ lw_tbl := lw_at lw_m1 52 rfl
theorem q187 : (Jvm.Cond.instanceMethod ({ cls := "java/lang/Exception", name := "<init>", desc := "(Ljava/lang/String;Ljava/lang/Throwable;ZZ)V" } : Jvm.MethodName)) ∈ lw_all := lw_g (lw_at lw_m1 93 rfl) rfl
theorem q188 : (Jvm.Cond.code ({ cls := "java/lang/Exception", name := "<init>", desc := "(Ljava/lang/String;Ljava/lang/Throwable;ZZ)V" } : Jvm.MethodName) prog_26_method_5_code (5 : Nat) (Option.none : Option Jvm.ClassFile.FieldType)) ∈ lw_all := lw_g (lw_at lw_m1 94 rfl) rfl
theorem q189 : (Jvm.Cond.methodLink "java/lang/Exception" (16 : Nat) ({ cls := "java/lang/Throwable", name := "<init>", desc := "(Ljava/lang/String;Ljava/lang/Throwable;ZZ)V" } : Jvm.MethodName)) ∈ lw_all := lw_g (lw_at lw_m1 95 rfl) rfl

/-! java/lang/RuntimeException -/
set_option maxRecDepth 100000
def RJ2 : String := "java/lang/RuntimeException"
abbrev cJ2_init : ByteArray := prog_28_method_5_code
def yJ2_init : MethodName := ⟨RJ2, "<init>", "(Ljava/lang/String;Ljava/lang/Throwable;ZZ)V"⟩
def dkwJ2_init_0 : List UInt8 := [42, 43, 44, 29, 21, 4, 183, 0, 16, 177]
abbrev dktJ2_init_0 : List UInt8 := dkwJ2_init_0 ++ []
theorem dksJ2_init_0 : cJ2_init.data.toList.drop 0 = dktJ2_init_0 := by decide +kernel
theorem dJ2_init_0 : decode cJ2_init 0 = .ok (.aload_n 0, 1) := dk_42 (dk_at dksJ2_init_0 0 rfl rfl)
theorem dJ2_init_1 : decode cJ2_init 1 = .ok (.aload_n 1, 1) := dk_43 (dk_at dksJ2_init_0 1 rfl rfl)
theorem dJ2_init_2 : decode cJ2_init 2 = .ok (.aload_n 2, 1) := dk_44 (dk_at dksJ2_init_0 2 rfl rfl)
theorem dJ2_init_3 : decode cJ2_init 3 = .ok (.iload_n 3, 1) := dk_29 (dk_at dksJ2_init_0 3 rfl rfl)
theorem dJ2_init_4 : decode cJ2_init 4 = .ok (.iload 4, 2) := dk_21 4 (dk_at dksJ2_init_0 4 rfl rfl)
theorem dJ2_init_6 : decode cJ2_init 6 = .ok (.invokespecial 16, 3) := dk_183 0 16 (dk_at dksJ2_init_0 6 rfl rfl)
theorem dJ2_init_9 : decode cJ2_init 9 = .ok (.return_, 1) := dk_177 (dk_at dksJ2_init_0 9 rfl rfl)
theorem q98 : (Jvm.Cond.initialized "java/lang/RuntimeException") ∈ lw_all := lw_g (lw_at lw_m1 4 rfl) rfl
theorem q143 : (Jvm.Cond.declares ({ cls := "java/lang/RuntimeException", name := "<init>", desc := "()V" } : Jvm.MethodName)) ∈ lw_tbl := lw_at lw_m1 49 rfl
theorem q144 : (Jvm.Cond.declares ({ cls := "java/lang/RuntimeException", name := "<init>", desc := "(Ljava/lang/String;)V" } : Jvm.MethodName)) ∈ lw_tbl := lw_at lw_m1 50 rfl
theorem q184 : (Jvm.Cond.instanceMethod ({ cls := "java/lang/RuntimeException", name := "<init>", desc := "(Ljava/lang/String;Ljava/lang/Throwable;ZZ)V" } : Jvm.MethodName)) ∈ lw_all := lw_g (lw_at lw_m1 90 rfl) rfl
theorem q185 : (Jvm.Cond.code ({ cls := "java/lang/RuntimeException", name := "<init>", desc := "(Ljava/lang/String;Ljava/lang/Throwable;ZZ)V" } : Jvm.MethodName) prog_28_method_5_code (5 : Nat) (Option.none : Option Jvm.ClassFile.FieldType)) ∈ lw_all := lw_g (lw_at lw_m1 91 rfl) rfl
theorem q186 : (Jvm.Cond.methodLink "java/lang/RuntimeException" (16 : Nat) ({ cls := "java/lang/Exception", name := "<init>", desc := "(Ljava/lang/String;Ljava/lang/Throwable;ZZ)V" } : Jvm.MethodName)) ∈ lw_all := lw_g (lw_at lw_m1 92 rfl) rfl

/-! java/lang/Math -/
set_option maxRecDepth 100000
def RJ3 : String := "java/lang/Math"
abbrev cJ3_min : ByteArray := prog_27_method_69_code
def yJ3_min : MethodName := ⟨RJ3, "min", "(II)I"⟩
def dkwJ3_min_0 : List UInt8 := [26, 27, 163, 0, 7, 26, 167, 0, 4, 27, 172]
abbrev dktJ3_min_0 : List UInt8 := dkwJ3_min_0 ++ []
theorem dksJ3_min_0 : cJ3_min.data.toList.drop 0 = dktJ3_min_0 := by decide +kernel
theorem dJ3_min_0 : decode cJ3_min 0 = .ok (.iload_n 0, 1) := dk_26 (dk_at dksJ3_min_0 0 rfl rfl)
theorem dJ3_min_1 : decode cJ3_min 1 = .ok (.iload_n 1, 1) := dk_27 (dk_at dksJ3_min_0 1 rfl rfl)
theorem dJ3_min_2 : decode cJ3_min 2 = .ok (.if_icmp .gt 7, 3) := dk_163 0 7 (dk_at dksJ3_min_0 2 rfl rfl)
theorem dJ3_min_5 : decode cJ3_min 5 = .ok (.iload_n 0, 1) := dk_26 (dk_at dksJ3_min_0 5 rfl rfl)
theorem dJ3_min_6 : decode cJ3_min 6 = .ok (.goto 4, 3) := dk_167 0 4 (dk_at dksJ3_min_0 6 rfl rfl)
theorem dJ3_min_9 : decode cJ3_min 9 = .ok (.iload_n 1, 1) := dk_27 (dk_at dksJ3_min_0 9 rfl rfl)
theorem dJ3_min_10 : decode cJ3_min 10 = .ok (.ireturn, 1) := dk_172 (dk_at dksJ3_min_0 10 rfl rfl)
abbrev cJ3_max : ByteArray := prog_27_method_65_code
def yJ3_max : MethodName := ⟨RJ3, "max", "(II)I"⟩
def dkwJ3_max_0 : List UInt8 := [26, 27, 161, 0, 7, 26, 167, 0, 4, 27, 172]
abbrev dktJ3_max_0 : List UInt8 := dkwJ3_max_0 ++ []
theorem dksJ3_max_0 : cJ3_max.data.toList.drop 0 = dktJ3_max_0 := by decide +kernel
theorem dJ3_max_0 : decode cJ3_max 0 = .ok (.iload_n 0, 1) := dk_26 (dk_at dksJ3_max_0 0 rfl rfl)
theorem dJ3_max_1 : decode cJ3_max 1 = .ok (.iload_n 1, 1) := dk_27 (dk_at dksJ3_max_0 1 rfl rfl)
theorem dJ3_max_2 : decode cJ3_max 2 = .ok (.if_icmp .lt 7, 3) := dk_161 0 7 (dk_at dksJ3_max_0 2 rfl rfl)
theorem dJ3_max_5 : decode cJ3_max 5 = .ok (.iload_n 0, 1) := dk_26 (dk_at dksJ3_max_0 5 rfl rfl)
theorem dJ3_max_6 : decode cJ3_max 6 = .ok (.goto 4, 3) := dk_167 0 4 (dk_at dksJ3_max_0 6 rfl rfl)
theorem dJ3_max_9 : decode cJ3_max 9 = .ok (.iload_n 1, 1) := dk_27 (dk_at dksJ3_max_0 9 rfl rfl)
theorem dJ3_max_10 : decode cJ3_max 10 = .ok (.ireturn, 1) := dk_172 (dk_at dksJ3_max_0 10 rfl rfl)
theorem q112 : (Jvm.Cond.initialized "java/lang/Math") ∈ lw_all := lw_g (lw_at lw_m1 18 rfl) rfl
theorem q666 : (Jvm.Cond.static ({ cls := "java/lang/Math", name := "min", desc := "(II)I" } : Jvm.MethodName)) ∈ lw_all := lw_g (lw_at lw_m3 92 rfl) rfl
theorem q667 : (Jvm.Cond.code ({ cls := "java/lang/Math", name := "min", desc := "(II)I" } : Jvm.MethodName) prog_27_method_69_code (2 : Nat) (Option.some Jvm.ClassFile.FieldType.int)) ∈ lw_all := lw_g (lw_at lw_m3 93 rfl) rfl
theorem q714 : (Jvm.Cond.static ({ cls := "java/lang/Math", name := "max", desc := "(II)I" } : Jvm.MethodName)) ∈ lw_all := lw_g (lw_at lw_m3 140 rfl) rfl
theorem q715 : (Jvm.Cond.code ({ cls := "java/lang/Math", name := "max", desc := "(II)I" } : Jvm.MethodName) prog_27_method_65_code (2 : Nat) (Option.some Jvm.ClassFile.FieldType.int)) ∈ lw_all := lw_g (lw_at lw_m3 141 rfl) rfl

/-! java/lang/Object -/
set_option maxRecDepth 100000
def RJ4 : String := "java/lang/Object"
abbrev cJ4_init : ByteArray := object_method_1_code
def yJ4_init : MethodName := ⟨RJ4, "<init>", "()V"⟩
theorem dJ4_init_0 : decode cJ4_init 0 = .ok (.return_, 1) := by decide +kernel
theorem q136 : (Jvm.Cond.instanceMethod ({ cls := "java/lang/Object", name := "<init>", desc := "()V" } : Jvm.MethodName)) ∈ lw_all := lw_g (lw_at lw_m1 42 rfl) rfl
theorem q137 : (Jvm.Cond.code ({ cls := "java/lang/Object", name := "<init>", desc := "()V" } : Jvm.MethodName) object_method_1_code (1 : Nat) (Option.none : Option Jvm.ClassFile.FieldType)) ∈ lw_all := lw_g (lw_at lw_m1 43 rfl) rfl

/-! LeftAsFound$Fault -/
set_option maxRecDepth 100000
def RX1 : String := "LeftAsFound$Fault"
def TX1 : u_T := fun k => match k with
  | 0 => ("java/lang/Throwable", "cause", "Ljava/lang/Throwable;", false)
  | 1 => ("java/lang/Throwable", "stackTrace", "[Ljava/lang/StackTraceElement;", false)
  | 2 => ("java/lang/Throwable", "suppressedExceptions", "Ljava/util/List;", false)
  | 3 => ("java/lang/Throwable", "detailMessage", "Ljava/lang/String;", false)
  | 4 => ("java/lang/Throwable", "backtrace", "Ljava/lang/Object;", false)
  | _ => ("java/lang/Throwable", "depth", "I", false)
def tyX1 : Nat → FieldType := fun k => match k with
  | 0 => .object "java/lang/Throwable"
  | 1 => .array (.object "java/lang/StackTraceElement")
  | 2 => .object "java/util/List"
  | 3 => .object "java/lang/String"
  | 4 => .object "java/lang/Object"
  | _ => .int
abbrev wsX10 : List Cond := u_ws RX1 TX1 6
theorem nmX1 : ∀ a, a < 6 → ∀ b, b < 6 → a ≠ b → (TX1 a).2.1 ≠ (TX1 b).2.1 := by decide +kernel
theorem tyX1_ok : ∀ k, k < 6 → parseFieldDescriptor (TX1 k).2.2.1 = some (tyX1 k) := by decide +kernel
abbrev cX1_init : ByteArray := prog_8_method_1_code
def yX1_init : MethodName := ⟨RX1, "<init>", "()V"⟩
def dkwX1_init_0 : List UInt8 := [42, 1, 1, 3, 3, 183, 0, 1, 177]
abbrev dktX1_init_0 : List UInt8 := dkwX1_init_0 ++ []
theorem dksX1_init_0 : cX1_init.data.toList.drop 0 = dktX1_init_0 := by decide +kernel
theorem dX1_init_0 : decode cX1_init 0 = .ok (.aload_n 0, 1) := dk_42 (dk_at dksX1_init_0 0 rfl rfl)
theorem dX1_init_1 : decode cX1_init 1 = .ok (.aconst_null, 1) := dk_1 (dk_at dksX1_init_0 1 rfl rfl)
theorem dX1_init_2 : decode cX1_init 2 = .ok (.aconst_null, 1) := dk_1 (dk_at dksX1_init_0 2 rfl rfl)
theorem dX1_init_3 : decode cX1_init 3 = .ok (.iconst 0, 1) := dk_3 (dk_at dksX1_init_0 3 rfl rfl)
theorem dX1_init_4 : decode cX1_init 4 = .ok (.iconst 0, 1) := dk_3 (dk_at dksX1_init_0 4 rfl rfl)
theorem dX1_init_5 : decode cX1_init 5 = .ok (.invokespecial 1, 3) := dk_183 0 1 (dk_at dksX1_init_0 5 rfl rfl)
theorem dX1_init_8 : decode cX1_init 8 = .ok (.return_, 1) := dk_177 (dk_at dksX1_init_0 8 rfl rfl)
theorem q99 : (Jvm.Cond.initialized "LeftAsFound$Fault") ∈ lw_all := lw_g (lw_at lw_m1 5 rfl) rfl
theorem q141 : (Jvm.Cond.instantiable "LeftAsFound$Fault" (6 : Nat)) ∈ lw_all := lw_g (lw_at lw_m1 47 rfl) rfl
theorem q142 : (Jvm.Cond.castable "LeftAsFound$Fault" "LeftAsFound$Fault") ∈ lw_tbl := lw_at lw_m1 48 rfl
theorem q149 : (Jvm.Cond.selects "LeftAsFound$Fault" ({ cls := "java/lang/Throwable", name := "fillInStackTrace", desc := "(I)Ljava/lang/Throwable;" } : Jvm.MethodName) ({ cls := "java/lang/Throwable", name := "fillInStackTrace", desc := "(I)Ljava/lang/Throwable;" } : Jvm.MethodName)) ∈ lw_all := lw_g (lw_at lw_m1 55 rfl) rfl
theorem q150 : (Jvm.Cond.selects "LeftAsFound$Fault" ({ cls := "java/lang/Throwable", name := "fillInStackTrace", desc := "()Ljava/lang/Throwable;" } : Jvm.MethodName) ({ cls := "java/lang/Throwable", name := "fillInStackTrace", desc := "()Ljava/lang/Throwable;" } : Jvm.MethodName)) ∈ lw_all := lw_g (lw_at lw_m1 56 rfl) rfl
theorem q151 : (Jvm.Cond.lays "LeftAsFound$Fault" "java/lang/Throwable" "cause" "Ljava/lang/Throwable;") ∈ lw_all := lw_g (lw_at lw_m1 57 rfl) rfl
theorem q153 : (Jvm.Cond.lays "LeftAsFound$Fault" "java/lang/Throwable" "stackTrace" "[Ljava/lang/StackTraceElement;") ∈ lw_all := lw_g (lw_at lw_m1 59 rfl) rfl
theorem q155 : (Jvm.Cond.lays "LeftAsFound$Fault" "java/lang/Throwable" "suppressedExceptions" "Ljava/util/List;") ∈ lw_all := lw_g (lw_at lw_m1 61 rfl) rfl
theorem q157 : (Jvm.Cond.lays "LeftAsFound$Fault" "java/lang/Throwable" "detailMessage" "Ljava/lang/String;") ∈ lw_all := lw_g (lw_at lw_m1 63 rfl) rfl
theorem q159 : (Jvm.Cond.lays "LeftAsFound$Fault" "java/lang/Throwable" "backtrace" "Ljava/lang/Object;") ∈ lw_all := lw_g (lw_at lw_m1 65 rfl) rfl
theorem q181 : (Jvm.Cond.instanceMethod ({ cls := "LeftAsFound$Fault", name := "<init>", desc := "()V" } : Jvm.MethodName)) ∈ lw_all := lw_g (lw_at lw_m1 87 rfl) rfl
theorem q182 : (Jvm.Cond.code ({ cls := "LeftAsFound$Fault", name := "<init>", desc := "()V" } : Jvm.MethodName) prog_8_method_1_code (1 : Nat) (Option.none : Option Jvm.ClassFile.FieldType)) ∈ lw_all := lw_g (lw_at lw_m1 88 rfl) rfl
theorem q183 : (Jvm.Cond.methodLink "LeftAsFound$Fault" (1 : Nat) ({ cls := "java/lang/RuntimeException", name := "<init>", desc := "(Ljava/lang/String;Ljava/lang/Throwable;ZZ)V" } : Jvm.MethodName)) ∈ lw_all := lw_g (lw_at lw_m1 89 rfl) rfl
theorem q201 : (Jvm.Cond.lays "LeftAsFound$Fault" "java/lang/Throwable" "depth" "I") ∈ lw_all := lw_g (lw_at lw_m1 107 rfl) rfl
theorem q204 : (Jvm.Cond.superclass "LeftAsFound$Fault" "java/lang/RuntimeException") ∈ lw_all := lw_g (lw_at lw_m1 110 rfl) rfl
theorem q1940 : (Jvm.Cond.castable "LeftAsFound$Fault" "java/lang/Object") ∈ lw_tbl := lw_at lw_m8 166 rfl
theorem in_X1 : ∀ w ∈ wsX10, w ∈ lw_all := lw_in wsX10 [151, 153, 155, 157, 159, 201] (by decide +kernel) (by decide +kernel)

/-! LeftAsFound$Figure -/
set_option maxRecDepth 100000
def RX10 : String := "LeftAsFound$Figure"
def TX10 : u_T := fun k => match k with
  | _ => ("LeftAsFound$Figure", "v", "I", true)
def tyX10 : Nat → FieldType := fun k => match k with
  | _ => .int
abbrev wsX100 : List Cond := u_ws RX10 TX10 1
theorem nmX10 : ∀ a, a < 1 → ∀ b, b < 1 → a ≠ b → (TX10 a).2.1 ≠ (TX10 b).2.1 := by decide +kernel
theorem tyX10_ok : ∀ k, k < 1 → parseFieldDescriptor (TX10 k).2.2.1 = some (tyX10 k) := by decide +kernel
abbrev cX10_init : ByteArray := prog_9_method_1_code
def yX10_init : MethodName := ⟨RX10, "<init>", "(I)V"⟩
def dkwX10_init_0 : List UInt8 := [42, 183, 0, 1, 42, 27, 181, 0, 7, 177]
abbrev dktX10_init_0 : List UInt8 := dkwX10_init_0 ++ []
theorem dksX10_init_0 : cX10_init.data.toList.drop 0 = dktX10_init_0 := by decide +kernel
theorem dX10_init_0 : decode cX10_init 0 = .ok (.aload_n 0, 1) := dk_42 (dk_at dksX10_init_0 0 rfl rfl)
theorem dX10_init_1 : decode cX10_init 1 = .ok (.invokespecial 1, 3) := dk_183 0 1 (dk_at dksX10_init_0 1 rfl rfl)
theorem dX10_init_4 : decode cX10_init 4 = .ok (.aload_n 0, 1) := dk_42 (dk_at dksX10_init_0 4 rfl rfl)
theorem dX10_init_5 : decode cX10_init 5 = .ok (.iload_n 1, 1) := dk_27 (dk_at dksX10_init_0 5 rfl rfl)
theorem dX10_init_6 : decode cX10_init 6 = .ok (.putfield 7, 3) := dk_181 0 7 (dk_at dksX10_init_0 6 rfl rfl)
theorem dX10_init_9 : decode cX10_init 9 = .ok (.return_, 1) := dk_177 (dk_at dksX10_init_0 9 rfl rfl)
abbrev cX10_value : ByteArray := prog_9_method_2_code
def yX10_value : MethodName := ⟨RX10, "value", "()I"⟩
theorem dX10_value_0 : decode cX10_value 0 = .ok (.aload_n 0, 1) := by decide +kernel
theorem dX10_value_1 : decode cX10_value 1 = .ok (.getfield 7, 3) := by decide +kernel
theorem dX10_value_4 : decode cX10_value 4 = .ok (.ireturn, 1) := by decide +kernel
theorem q108 : (Jvm.Cond.initialized "LeftAsFound$Figure") ∈ lw_all := lw_g (lw_at lw_m1 14 rfl) rfl
theorem q584 : (Jvm.Cond.instantiable "LeftAsFound$Figure" (1 : Nat)) ∈ lw_all := lw_g (lw_at lw_m3 10 rfl) rfl
theorem q586 : (Jvm.Cond.instanceMethod ({ cls := "LeftAsFound$Figure", name := "<init>", desc := "(I)V" } : Jvm.MethodName)) ∈ lw_all := lw_g (lw_at lw_m3 12 rfl) rfl
theorem q587 : (Jvm.Cond.code ({ cls := "LeftAsFound$Figure", name := "<init>", desc := "(I)V" } : Jvm.MethodName) prog_9_method_1_code (2 : Nat) (Option.none : Option Jvm.ClassFile.FieldType)) ∈ lw_all := lw_g (lw_at lw_m3 13 rfl) rfl
theorem q588 : (Jvm.Cond.methodLinkNest "LeftAsFound$Figure" (1 : Nat) ({ cls := "LeftAsFound$Term", name := "<init>", desc := "()V" } : Jvm.MethodName) "LeftAsFound") ∈ lw_tbl := lw_at lw_m3 14 rfl
theorem q592 : (Jvm.Cond.fieldLink "LeftAsFound$Figure" (7 : Nat) "LeftAsFound$Figure" "v" "I") ∈ lw_all := lw_g (lw_at lw_m3 18 rfl) rfl
theorem q593 : (Jvm.Cond.laysFinal "LeftAsFound$Figure" "LeftAsFound$Figure" "v" "I") ∈ lw_all := lw_g (lw_at lw_m3 19 rfl) rfl
theorem q594 : (Jvm.Cond.soleField "LeftAsFound$Figure" "v") ∈ lw_all := lw_g (lw_at lw_m3 20 rfl) rfl
theorem q595 : (Jvm.Cond.superclass "LeftAsFound$Figure" "LeftAsFound$Term") ∈ lw_all := lw_g (lw_at lw_m3 21 rfl) rfl
theorem q699 : (Jvm.Cond.instanceMethod ({ cls := "LeftAsFound$Figure", name := "value", desc := "()I" } : Jvm.MethodName)) ∈ lw_all := lw_g (lw_at lw_m3 125 rfl) rfl
theorem q700 : (Jvm.Cond.code ({ cls := "LeftAsFound$Figure", name := "value", desc := "()I" } : Jvm.MethodName) prog_9_method_2_code (1 : Nat) (Option.some Jvm.ClassFile.FieldType.int)) ∈ lw_all := lw_g (lw_at lw_m3 126 rfl) rfl
theorem q710 : (Jvm.Cond.selects "LeftAsFound$Figure" ({ cls := "LeftAsFound$Term", name := "value", desc := "()I" } : Jvm.MethodName) ({ cls := "LeftAsFound$Figure", name := "value", desc := "()I" } : Jvm.MethodName)) ∈ lw_all := lw_g (lw_at lw_m3 136 rfl) rfl
theorem q1948 : (Jvm.Cond.castable "LeftAsFound$Figure" "java/lang/Object") ∈ lw_tbl := lw_at lw_m8 174 rfl
theorem in_X10 : ∀ w ∈ wsX100, w ∈ lw_all := lw_in wsX100 [593] (by decide +kernel) (by decide +kernel)

/-! LeftAsFound$Named -/
set_option maxRecDepth 100000
def RX11 : String := "LeftAsFound$Named"
def TX11 : u_T := fun k => match k with
  | 0 => ("LeftAsFound$Named", "name", "I", true)
  | _ => ("LeftAsFound$Named", "this$0", "LLeftAsFound;", true)
def tyX11 : Nat → FieldType := fun k => match k with
  | 0 => .int
  | _ => .object "LeftAsFound"
abbrev wsX110 : List Cond := u_ws RX11 TX11 2
theorem nmX11 : ∀ a, a < 2 → ∀ b, b < 2 → a ≠ b → (TX11 a).2.1 ≠ (TX11 b).2.1 := by decide +kernel
theorem tyX11_ok : ∀ k, k < 2 → parseFieldDescriptor (TX11 k).2.2.1 = some (tyX11 k) := by decide +kernel
abbrev cX11_init : ByteArray := prog_16_method_1_code
def yX11_init : MethodName := ⟨RX11, "<init>", "(LLeftAsFound;I)V"⟩
def dkwX11_init_0 : List UInt8 := [42, 43, 181, 0, 1, 42, 183, 0, 7, 42, 28, 181, 0, 13, 177]
abbrev dktX11_init_0 : List UInt8 := dkwX11_init_0 ++ []
theorem dksX11_init_0 : cX11_init.data.toList.drop 0 = dktX11_init_0 := by decide +kernel
theorem dX11_init_0 : decode cX11_init 0 = .ok (.aload_n 0, 1) := dk_42 (dk_at dksX11_init_0 0 rfl rfl)
theorem dX11_init_1 : decode cX11_init 1 = .ok (.aload_n 1, 1) := dk_43 (dk_at dksX11_init_0 1 rfl rfl)
theorem dX11_init_2 : decode cX11_init 2 = .ok (.putfield 1, 3) := dk_181 0 1 (dk_at dksX11_init_0 2 rfl rfl)
theorem dX11_init_5 : decode cX11_init 5 = .ok (.aload_n 0, 1) := dk_42 (dk_at dksX11_init_0 5 rfl rfl)
theorem dX11_init_6 : decode cX11_init 6 = .ok (.invokespecial 7, 3) := dk_183 0 7 (dk_at dksX11_init_0 6 rfl rfl)
theorem dX11_init_9 : decode cX11_init 9 = .ok (.aload_n 0, 1) := dk_42 (dk_at dksX11_init_0 9 rfl rfl)
theorem dX11_init_10 : decode cX11_init 10 = .ok (.iload_n 2, 1) := dk_28 (dk_at dksX11_init_0 10 rfl rfl)
theorem dX11_init_11 : decode cX11_init 11 = .ok (.putfield 13, 3) := dk_181 0 13 (dk_at dksX11_init_0 11 rfl rfl)
theorem dX11_init_14 : decode cX11_init 14 = .ok (.return_, 1) := dk_177 (dk_at dksX11_init_0 14 rfl rfl)
abbrev cX11_value : ByteArray := prog_16_method_2_code
def yX11_value : MethodName := ⟨RX11, "value", "()I"⟩
def dkwX11_value_0 : List UInt8 := [42, 180, 0, 1, 180, 0, 17, 42, 180, 0, 13, 46, 172]
abbrev dktX11_value_0 : List UInt8 := dkwX11_value_0 ++ []
theorem dksX11_value_0 : cX11_value.data.toList.drop 0 = dktX11_value_0 := by decide +kernel
theorem dX11_value_0 : decode cX11_value 0 = .ok (.aload_n 0, 1) := dk_42 (dk_at dksX11_value_0 0 rfl rfl)
theorem dX11_value_1 : decode cX11_value 1 = .ok (.getfield 1, 3) := dk_180 0 1 (dk_at dksX11_value_0 1 rfl rfl)
theorem dX11_value_4 : decode cX11_value 4 = .ok (.getfield 17, 3) := dk_180 0 17 (dk_at dksX11_value_0 4 rfl rfl)
theorem dX11_value_7 : decode cX11_value 7 = .ok (.aload_n 0, 1) := dk_42 (dk_at dksX11_value_0 7 rfl rfl)
theorem dX11_value_8 : decode cX11_value 8 = .ok (.getfield 13, 3) := dk_180 0 13 (dk_at dksX11_value_0 8 rfl rfl)
theorem dX11_value_11 : decode cX11_value 11 = .ok (.iaload, 1) := dk_46 (dk_at dksX11_value_0 11 rfl rfl)
theorem dX11_value_12 : decode cX11_value 12 = .ok (.ireturn, 1) := dk_172 (dk_at dksX11_value_0 12 rfl rfl)
theorem q109 : (Jvm.Cond.initialized "LeftAsFound$Named") ∈ lw_all := lw_g (lw_at lw_m1 15 rfl) rfl
theorem q308 : (Jvm.Cond.fieldLinkNest "LeftAsFound$Named" (17 : Nat) "LeftAsFound" "names" "[I" "LeftAsFound") ∈ lw_tbl := lw_at lw_m1 214 rfl
theorem q600 : (Jvm.Cond.instantiable "LeftAsFound$Named" (2 : Nat)) ∈ lw_all := lw_g (lw_at lw_m3 26 rfl) rfl
theorem q602 : (Jvm.Cond.instanceMethod ({ cls := "LeftAsFound$Named", name := "<init>", desc := "(LLeftAsFound;I)V" } : Jvm.MethodName)) ∈ lw_all := lw_g (lw_at lw_m3 28 rfl) rfl
theorem q603 : (Jvm.Cond.code ({ cls := "LeftAsFound$Named", name := "<init>", desc := "(LLeftAsFound;I)V" } : Jvm.MethodName) prog_16_method_1_code (3 : Nat) (Option.none : Option Jvm.ClassFile.FieldType)) ∈ lw_all := lw_g (lw_at lw_m3 29 rfl) rfl
theorem q604 : (Jvm.Cond.methodLinkNest "LeftAsFound$Named" (7 : Nat) ({ cls := "LeftAsFound$Term", name := "<init>", desc := "()V" } : Jvm.MethodName) "LeftAsFound") ∈ lw_tbl := lw_at lw_m3 30 rfl
theorem q605 : (Jvm.Cond.fieldLink "LeftAsFound$Named" (13 : Nat) "LeftAsFound$Named" "name" "I") ∈ lw_all := lw_g (lw_at lw_m3 31 rfl) rfl
theorem q606 : (Jvm.Cond.fieldLink "LeftAsFound$Named" (1 : Nat) "LeftAsFound$Named" "this$0" "LLeftAsFound;") ∈ lw_all := lw_g (lw_at lw_m3 32 rfl) rfl
theorem q607 : (Jvm.Cond.laysFinal "LeftAsFound$Named" "LeftAsFound$Named" "name" "I") ∈ lw_all := lw_g (lw_at lw_m3 33 rfl) rfl
theorem q608 : (Jvm.Cond.soleField "LeftAsFound$Named" "name") ∈ lw_all := lw_g (lw_at lw_m3 34 rfl) rfl
theorem q609 : (Jvm.Cond.laysFinal "LeftAsFound$Named" "LeftAsFound$Named" "this$0" "LLeftAsFound;") ∈ lw_all := lw_g (lw_at lw_m3 35 rfl) rfl
theorem q610 : (Jvm.Cond.soleField "LeftAsFound$Named" "this$0") ∈ lw_all := lw_g (lw_at lw_m3 36 rfl) rfl
theorem q611 : (Jvm.Cond.superclass "LeftAsFound$Named" "LeftAsFound$Term") ∈ lw_all := lw_g (lw_at lw_m3 37 rfl) rfl
theorem q701 : (Jvm.Cond.instanceMethod ({ cls := "LeftAsFound$Named", name := "value", desc := "()I" } : Jvm.MethodName)) ∈ lw_all := lw_g (lw_at lw_m3 127 rfl) rfl
theorem q702 : (Jvm.Cond.code ({ cls := "LeftAsFound$Named", name := "value", desc := "()I" } : Jvm.MethodName) prog_16_method_2_code (1 : Nat) (Option.some Jvm.ClassFile.FieldType.int)) ∈ lw_all := lw_g (lw_at lw_m3 128 rfl) rfl
theorem q711 : (Jvm.Cond.selects "LeftAsFound$Named" ({ cls := "LeftAsFound$Term", name := "value", desc := "()I" } : Jvm.MethodName) ({ cls := "LeftAsFound$Named", name := "value", desc := "()I" } : Jvm.MethodName)) ∈ lw_all := lw_g (lw_at lw_m3 137 rfl) rfl
theorem q1949 : (Jvm.Cond.castable "LeftAsFound$Named" "java/lang/Object") ∈ lw_tbl := lw_at lw_m8 175 rfl
theorem in_X11 : ∀ w ∈ wsX110, w ∈ lw_all := lw_in wsX110 [607, 609] (by decide +kernel) (by decide +kernel)

/-! LeftAsFound$Signed -/
set_option maxRecDepth 100000
def RX12 : String := "LeftAsFound$Signed"
def TX12 : u_T := fun k => match k with
  | 0 => ("LeftAsFound$Signed", "sign", "I", true)
  | _ => ("LeftAsFound$Signed", "of", "LLeftAsFound$Term;", true)
def tyX12 : Nat → FieldType := fun k => match k with
  | 0 => .int
  | _ => .object "LeftAsFound$Term"
abbrev wsX120 : List Cond := u_ws RX12 TX12 2
theorem nmX12 : ∀ a, a < 2 → ∀ b, b < 2 → a ≠ b → (TX12 a).2.1 ≠ (TX12 b).2.1 := by decide +kernel
theorem tyX12_ok : ∀ k, k < 2 → parseFieldDescriptor (TX12 k).2.2.1 = some (tyX12 k) := by decide +kernel
abbrev cX12_init : ByteArray := prog_18_method_1_code
def yX12_init : MethodName := ⟨RX12, "<init>", "(ILLeftAsFound$Term;)V"⟩
def dkwX12_init_0 : List UInt8 := [42, 183, 0, 1, 42, 27, 181, 0, 7, 42, 44, 181, 0, 13, 177]
abbrev dktX12_init_0 : List UInt8 := dkwX12_init_0 ++ []
theorem dksX12_init_0 : cX12_init.data.toList.drop 0 = dktX12_init_0 := by decide +kernel
theorem dX12_init_0 : decode cX12_init 0 = .ok (.aload_n 0, 1) := dk_42 (dk_at dksX12_init_0 0 rfl rfl)
theorem dX12_init_1 : decode cX12_init 1 = .ok (.invokespecial 1, 3) := dk_183 0 1 (dk_at dksX12_init_0 1 rfl rfl)
theorem dX12_init_4 : decode cX12_init 4 = .ok (.aload_n 0, 1) := dk_42 (dk_at dksX12_init_0 4 rfl rfl)
theorem dX12_init_5 : decode cX12_init 5 = .ok (.iload_n 1, 1) := dk_27 (dk_at dksX12_init_0 5 rfl rfl)
theorem dX12_init_6 : decode cX12_init 6 = .ok (.putfield 7, 3) := dk_181 0 7 (dk_at dksX12_init_0 6 rfl rfl)
theorem dX12_init_9 : decode cX12_init 9 = .ok (.aload_n 0, 1) := dk_42 (dk_at dksX12_init_0 9 rfl rfl)
theorem dX12_init_10 : decode cX12_init 10 = .ok (.aload_n 2, 1) := dk_44 (dk_at dksX12_init_0 10 rfl rfl)
theorem dX12_init_11 : decode cX12_init 11 = .ok (.putfield 13, 3) := dk_181 0 13 (dk_at dksX12_init_0 11 rfl rfl)
theorem dX12_init_14 : decode cX12_init 14 = .ok (.return_, 1) := dk_177 (dk_at dksX12_init_0 14 rfl rfl)
abbrev cX12_value : ByteArray := prog_18_method_2_code
def yX12_value : MethodName := ⟨RX12, "value", "()I"⟩
def dkwX12_value_1 : List UInt8 := [184, 0, 21, 167, 0, 11, 42, 180, 0, 13, 182, 0, 17, 116, 172]
abbrev dktX12_value_1 : List UInt8 := dkwX12_value_1 ++ []
def dkwX12_value_0 : List UInt8 := [42, 180, 0, 7, 16, 33, 160, 0, 24, 42, 180, 0, 13, 182, 0, 17, 154, 0, 7, 4, 167, 0, 4, 3]
abbrev dktX12_value_0 : List UInt8 := dkwX12_value_0 ++ dktX12_value_1
theorem dksX12_value_0 : cX12_value.data.toList.drop 0 = dktX12_value_0 := by decide +kernel
theorem dksX12_value_1 : cX12_value.data.toList.drop 24 = dktX12_value_1 := dk_seg dksX12_value_0 24 rfl rfl
theorem dX12_value_0 : decode cX12_value 0 = .ok (.aload_n 0, 1) := dk_42 (dk_at dksX12_value_0 0 rfl rfl)
theorem dX12_value_1 : decode cX12_value 1 = .ok (.getfield 7, 3) := dk_180 0 7 (dk_at dksX12_value_0 1 rfl rfl)
theorem dX12_value_4 : decode cX12_value 4 = .ok (.bipush 33, 2) := dk_16 33 (dk_at dksX12_value_0 4 rfl rfl)
theorem dX12_value_6 : decode cX12_value 6 = .ok (.if_icmp .ne 24, 3) := dk_160 0 24 (dk_at dksX12_value_0 6 rfl rfl)
theorem dX12_value_9 : decode cX12_value 9 = .ok (.aload_n 0, 1) := dk_42 (dk_at dksX12_value_0 9 rfl rfl)
theorem dX12_value_10 : decode cX12_value 10 = .ok (.getfield 13, 3) := dk_180 0 13 (dk_at dksX12_value_0 10 rfl rfl)
theorem dX12_value_13 : decode cX12_value 13 = .ok (.invokevirtual 17, 3) := dk_182 0 17 (dk_at dksX12_value_0 13 rfl rfl)
theorem dX12_value_16 : decode cX12_value 16 = .ok (.ifCond .ne 7, 3) := dk_154 0 7 (dk_at dksX12_value_0 16 rfl rfl)
theorem dX12_value_19 : decode cX12_value 19 = .ok (.iconst 1, 1) := dk_4 (dk_at dksX12_value_0 19 rfl rfl)
theorem dX12_value_20 : decode cX12_value 20 = .ok (.goto 4, 3) := dk_167 0 4 (dk_at dksX12_value_0 20 rfl rfl)
theorem dX12_value_23 : decode cX12_value 23 = .ok (.iconst 0, 1) := dk_3 (dk_at dksX12_value_0 23 rfl rfl)
theorem dX12_value_24 : decode cX12_value 24 = .ok (.invokestatic 21, 3) := dk_184 0 21 (dk_at dksX12_value_1 0 rfl rfl)
theorem dX12_value_27 : decode cX12_value 27 = .ok (.goto 11, 3) := dk_167 0 11 (dk_at dksX12_value_1 3 rfl rfl)
theorem dX12_value_30 : decode cX12_value 30 = .ok (.aload_n 0, 1) := dk_42 (dk_at dksX12_value_1 6 rfl rfl)
theorem dX12_value_31 : decode cX12_value 31 = .ok (.getfield 13, 3) := dk_180 0 13 (dk_at dksX12_value_1 7 rfl rfl)
theorem dX12_value_34 : decode cX12_value 34 = .ok (.invokevirtual 17, 3) := dk_182 0 17 (dk_at dksX12_value_1 10 rfl rfl)
theorem dX12_value_37 : decode cX12_value 37 = .ok (.ineg, 1) := dk_116 (dk_at dksX12_value_1 13 rfl rfl)
theorem dX12_value_38 : decode cX12_value 38 = .ok (.ireturn, 1) := dk_172 (dk_at dksX12_value_1 14 rfl rfl)
theorem q110 : (Jvm.Cond.initialized "LeftAsFound$Signed") ∈ lw_all := lw_g (lw_at lw_m1 16 rfl) rfl
theorem q613 : (Jvm.Cond.instantiable "LeftAsFound$Signed" (2 : Nat)) ∈ lw_all := lw_g (lw_at lw_m3 39 rfl) rfl
theorem q615 : (Jvm.Cond.instanceMethod ({ cls := "LeftAsFound$Signed", name := "<init>", desc := "(ILLeftAsFound$Term;)V" } : Jvm.MethodName)) ∈ lw_all := lw_g (lw_at lw_m3 41 rfl) rfl
theorem q616 : (Jvm.Cond.code ({ cls := "LeftAsFound$Signed", name := "<init>", desc := "(ILLeftAsFound$Term;)V" } : Jvm.MethodName) prog_18_method_1_code (3 : Nat) (Option.none : Option Jvm.ClassFile.FieldType)) ∈ lw_all := lw_g (lw_at lw_m3 42 rfl) rfl
theorem q617 : (Jvm.Cond.methodLinkNest "LeftAsFound$Signed" (1 : Nat) ({ cls := "LeftAsFound$Term", name := "<init>", desc := "()V" } : Jvm.MethodName) "LeftAsFound") ∈ lw_tbl := lw_at lw_m3 43 rfl
theorem q618 : (Jvm.Cond.fieldLink "LeftAsFound$Signed" (7 : Nat) "LeftAsFound$Signed" "sign" "I") ∈ lw_all := lw_g (lw_at lw_m3 44 rfl) rfl
theorem q619 : (Jvm.Cond.fieldLink "LeftAsFound$Signed" (13 : Nat) "LeftAsFound$Signed" "of" "LLeftAsFound$Term;") ∈ lw_all := lw_g (lw_at lw_m3 45 rfl) rfl
theorem q620 : (Jvm.Cond.laysFinal "LeftAsFound$Signed" "LeftAsFound$Signed" "sign" "I") ∈ lw_all := lw_g (lw_at lw_m3 46 rfl) rfl
theorem q621 : (Jvm.Cond.soleField "LeftAsFound$Signed" "sign") ∈ lw_all := lw_g (lw_at lw_m3 47 rfl) rfl
theorem q622 : (Jvm.Cond.laysFinal "LeftAsFound$Signed" "LeftAsFound$Signed" "of" "LLeftAsFound$Term;") ∈ lw_all := lw_g (lw_at lw_m3 48 rfl) rfl
theorem q623 : (Jvm.Cond.soleField "LeftAsFound$Signed" "of") ∈ lw_all := lw_g (lw_at lw_m3 49 rfl) rfl
theorem q624 : (Jvm.Cond.superclass "LeftAsFound$Signed" "LeftAsFound$Term") ∈ lw_all := lw_g (lw_at lw_m3 50 rfl) rfl
theorem q703 : (Jvm.Cond.instanceMethod ({ cls := "LeftAsFound$Signed", name := "value", desc := "()I" } : Jvm.MethodName)) ∈ lw_all := lw_g (lw_at lw_m3 129 rfl) rfl
theorem q704 : (Jvm.Cond.code ({ cls := "LeftAsFound$Signed", name := "value", desc := "()I" } : Jvm.MethodName) prog_18_method_2_code (1 : Nat) (Option.some Jvm.ClassFile.FieldType.int)) ∈ lw_all := lw_g (lw_at lw_m3 130 rfl) rfl
theorem q705 : (Jvm.Cond.methodLink "LeftAsFound$Signed" (17 : Nat) ({ cls := "LeftAsFound$Term", name := "value", desc := "()I" } : Jvm.MethodName)) ∈ lw_all := lw_g (lw_at lw_m3 131 rfl) rfl
theorem q706 : (Jvm.Cond.methodLinkNest "LeftAsFound$Signed" (21 : Nat) ({ cls := "LeftAsFound", name := "bit", desc := "(Z)I" } : Jvm.MethodName) "LeftAsFound") ∈ lw_tbl := lw_at lw_m3 132 rfl
theorem q712 : (Jvm.Cond.selects "LeftAsFound$Signed" ({ cls := "LeftAsFound$Term", name := "value", desc := "()I" } : Jvm.MethodName) ({ cls := "LeftAsFound$Signed", name := "value", desc := "()I" } : Jvm.MethodName)) ∈ lw_all := lw_g (lw_at lw_m3 138 rfl) rfl
theorem q1950 : (Jvm.Cond.castable "LeftAsFound$Signed" "java/lang/Object") ∈ lw_tbl := lw_at lw_m8 176 rfl
theorem in_X12 : ∀ w ∈ wsX120, w ∈ lw_all := lw_in wsX120 [620, 622] (by decide +kernel) (by decide +kernel)

/-! LeftAsFound$Both -/
set_option maxRecDepth 100000
def RX13 : String := "LeftAsFound$Both"
def TX13 : u_T := fun k => match k with
  | 0 => ("LeftAsFound$Both", "sign", "I", true)
  | 1 => ("LeftAsFound$Both", "left", "LLeftAsFound$Term;", true)
  | _ => ("LeftAsFound$Both", "right", "LLeftAsFound$Term;", true)
def tyX13 : Nat → FieldType := fun k => match k with
  | 0 => .int
  | 1 => .object "LeftAsFound$Term"
  | _ => .object "LeftAsFound$Term"
abbrev wsX130 : List Cond := u_ws RX13 TX13 3
theorem nmX13 : ∀ a, a < 3 → ∀ b, b < 3 → a ≠ b → (TX13 a).2.1 ≠ (TX13 b).2.1 := by decide +kernel
theorem tyX13_ok : ∀ k, k < 3 → parseFieldDescriptor (TX13 k).2.2.1 = some (tyX13 k) := by decide +kernel
abbrev cX13_init : ByteArray := prog_4_method_1_code
def yX13_init : MethodName := ⟨RX13, "<init>", "(ILLeftAsFound$Term;LLeftAsFound$Term;)V"⟩
def dkwX13_init_0 : List UInt8 := [42, 183, 0, 1, 42, 27, 181, 0, 7, 42, 44, 181, 0, 13, 42, 45, 181, 0, 17, 177]
abbrev dktX13_init_0 : List UInt8 := dkwX13_init_0 ++ []
theorem dksX13_init_0 : cX13_init.data.toList.drop 0 = dktX13_init_0 := by decide +kernel
theorem dX13_init_0 : decode cX13_init 0 = .ok (.aload_n 0, 1) := dk_42 (dk_at dksX13_init_0 0 rfl rfl)
theorem dX13_init_1 : decode cX13_init 1 = .ok (.invokespecial 1, 3) := dk_183 0 1 (dk_at dksX13_init_0 1 rfl rfl)
theorem dX13_init_4 : decode cX13_init 4 = .ok (.aload_n 0, 1) := dk_42 (dk_at dksX13_init_0 4 rfl rfl)
theorem dX13_init_5 : decode cX13_init 5 = .ok (.iload_n 1, 1) := dk_27 (dk_at dksX13_init_0 5 rfl rfl)
theorem dX13_init_6 : decode cX13_init 6 = .ok (.putfield 7, 3) := dk_181 0 7 (dk_at dksX13_init_0 6 rfl rfl)
theorem dX13_init_9 : decode cX13_init 9 = .ok (.aload_n 0, 1) := dk_42 (dk_at dksX13_init_0 9 rfl rfl)
theorem dX13_init_10 : decode cX13_init 10 = .ok (.aload_n 2, 1) := dk_44 (dk_at dksX13_init_0 10 rfl rfl)
theorem dX13_init_11 : decode cX13_init 11 = .ok (.putfield 13, 3) := dk_181 0 13 (dk_at dksX13_init_0 11 rfl rfl)
theorem dX13_init_14 : decode cX13_init 14 = .ok (.aload_n 0, 1) := dk_42 (dk_at dksX13_init_0 14 rfl rfl)
theorem dX13_init_15 : decode cX13_init 15 = .ok (.aload_n 3, 1) := dk_45 (dk_at dksX13_init_0 15 rfl rfl)
theorem dX13_init_16 : decode cX13_init 16 = .ok (.putfield 17, 3) := dk_181 0 17 (dk_at dksX13_init_0 16 rfl rfl)
theorem dX13_init_19 : decode cX13_init 19 = .ok (.return_, 1) := dk_177 (dk_at dksX13_init_0 19 rfl rfl)
abbrev cX13_value : ByteArray := prog_4_method_2_code
def yX13_value : MethodName := ⟨RX13, "value", "()I"⟩
def dkwX13_value_6 : List UInt8 := [3, 167, 0, 6, 27, 28, 108, 172, 28, 154, 0, 7, 3, 167, 0, 6, 27, 28, 112, 172]
abbrev dktX13_value_6 : List UInt8 := dkwX13_value_6 ++ []
def dkwX13_value_5 : List UInt8 := [167, 0, 4, 3, 184, 0, 24, 172, 27, 28, 96, 172, 27, 28, 100, 172, 27, 28, 104, 172, 28, 154, 0, 7]
abbrev dktX13_value_5 : List UInt8 := dkwX13_value_5 ++ dktX13_value_6
def dkwX13_value_4 : List UInt8 := [184, 0, 24, 172, 27, 28, 160, 0, 7, 4, 167, 0, 4, 3, 184, 0, 24, 172, 27, 28, 164, 0, 7, 4]
abbrev dktX13_value_4 : List UInt8 := dkwX13_value_4 ++ dktX13_value_5
def dkwX13_value_3 : List UInt8 := [153, 0, 7, 4, 167, 0, 4, 3, 184, 0, 24, 172, 27, 28, 162, 0, 7, 4, 167, 0, 4, 3]
abbrev dktX13_value_3 : List UInt8 := dkwX13_value_3 ++ dktX13_value_4
def dkwX13_value_2 : List UInt8 := [27, 154, 0, 7, 28, 153, 0, 7, 4, 167, 0, 4, 3, 184, 0, 24, 172, 27, 153, 0, 11, 28]
abbrev dktX13_value_2 : List UInt8 := dkwX13_value_2 ++ dktX13_value_3
def dkwX13_value_1 : List UInt8 := [171, 0, 0, 0, 0, 0, 0, 184, 0, 0, 0, 9, 0, 0, 0, 38, 0, 0, 0, 101, 0, 0, 0, 42, 0, 0, 0, 168, 0, 0, 0, 43, 0, 0, 0, 160, 0, 0, 0, 45, 0, 0, 0, 164, 0, 0, 0, 47, 0, 0, 0, 172, 0, 0, 0, 60, 0, 0, 0, 118, 0, 0, 0, 61, 0, 0, 0, 132, 0, 0, 0, 62, 0, 0, 0, 146, 0, 0, 0, 124, 0, 0, 0, 84]
abbrev dktX13_value_1 : List UInt8 := dkwX13_value_1 ++ dktX13_value_2
def dkwX13_value_0 : List UInt8 := [42, 180, 0, 13, 182, 0, 20, 60, 42, 180, 0, 17, 182, 0, 20, 61, 42, 180, 0, 7]
abbrev dktX13_value_0 : List UInt8 := dkwX13_value_0 ++ dktX13_value_1
theorem dksX13_value_0 : cX13_value.data.toList.drop 0 = dktX13_value_0 := by decide +kernel
theorem dksX13_value_1 : cX13_value.data.toList.drop 20 = dktX13_value_1 := dk_seg dksX13_value_0 20 rfl rfl
theorem dksX13_value_2 : cX13_value.data.toList.drop 104 = dktX13_value_2 := dk_seg dksX13_value_1 84 rfl rfl
theorem dksX13_value_3 : cX13_value.data.toList.drop 126 = dktX13_value_3 := dk_seg dksX13_value_2 22 rfl rfl
theorem dksX13_value_4 : cX13_value.data.toList.drop 148 = dktX13_value_4 := dk_seg dksX13_value_3 22 rfl rfl
theorem dksX13_value_5 : cX13_value.data.toList.drop 172 = dktX13_value_5 := dk_seg dksX13_value_4 24 rfl rfl
theorem dksX13_value_6 : cX13_value.data.toList.drop 196 = dktX13_value_6 := dk_seg dksX13_value_5 24 rfl rfl
theorem dX13_value_0 : decode cX13_value 0 = .ok (.aload_n 0, 1) := dk_42 (dk_at dksX13_value_0 0 rfl rfl)
theorem dX13_value_1 : decode cX13_value 1 = .ok (.getfield 13, 3) := dk_180 0 13 (dk_at dksX13_value_0 1 rfl rfl)
theorem dX13_value_4 : decode cX13_value 4 = .ok (.invokevirtual 20, 3) := dk_182 0 20 (dk_at dksX13_value_0 4 rfl rfl)
theorem dX13_value_7 : decode cX13_value 7 = .ok (.istore_n 1, 1) := dk_60 (dk_at dksX13_value_0 7 rfl rfl)
theorem dX13_value_8 : decode cX13_value 8 = .ok (.aload_n 0, 1) := dk_42 (dk_at dksX13_value_0 8 rfl rfl)
theorem dX13_value_9 : decode cX13_value 9 = .ok (.getfield 17, 3) := dk_180 0 17 (dk_at dksX13_value_0 9 rfl rfl)
theorem dX13_value_12 : decode cX13_value 12 = .ok (.invokevirtual 20, 3) := dk_182 0 20 (dk_at dksX13_value_0 12 rfl rfl)
theorem dX13_value_15 : decode cX13_value 15 = .ok (.istore_n 2, 1) := dk_61 (dk_at dksX13_value_0 15 rfl rfl)
theorem dX13_value_16 : decode cX13_value 16 = .ok (.aload_n 0, 1) := dk_42 (dk_at dksX13_value_0 16 rfl rfl)
theorem dX13_value_17 : decode cX13_value 17 = .ok (.getfield 7, 3) := dk_180 0 7 (dk_at dksX13_value_0 17 rfl rfl)
theorem dX13_value_20 : decode cX13_value 20 = .ok (.lookupswitch 184 #[(38, 101), (42, 168), (43, 160), (45, 164), (47, 172), (60, 118), (61, 132), (62, 146), (124, 84)], 84) := by decide +kernel
theorem dX13_value_104 : decode cX13_value 104 = .ok (.iload_n 1, 1) := dk_27 (dk_at dksX13_value_2 0 rfl rfl)
theorem dX13_value_105 : decode cX13_value 105 = .ok (.ifCond .ne 7, 3) := dk_154 0 7 (dk_at dksX13_value_2 1 rfl rfl)
theorem dX13_value_108 : decode cX13_value 108 = .ok (.iload_n 2, 1) := dk_28 (dk_at dksX13_value_2 4 rfl rfl)
theorem dX13_value_109 : decode cX13_value 109 = .ok (.ifCond .eq 7, 3) := dk_153 0 7 (dk_at dksX13_value_2 5 rfl rfl)
theorem dX13_value_112 : decode cX13_value 112 = .ok (.iconst 1, 1) := dk_4 (dk_at dksX13_value_2 8 rfl rfl)
theorem dX13_value_113 : decode cX13_value 113 = .ok (.goto 4, 3) := dk_167 0 4 (dk_at dksX13_value_2 9 rfl rfl)
theorem dX13_value_116 : decode cX13_value 116 = .ok (.iconst 0, 1) := dk_3 (dk_at dksX13_value_2 12 rfl rfl)
theorem dX13_value_117 : decode cX13_value 117 = .ok (.invokestatic 24, 3) := dk_184 0 24 (dk_at dksX13_value_2 13 rfl rfl)
theorem dX13_value_120 : decode cX13_value 120 = .ok (.ireturn, 1) := dk_172 (dk_at dksX13_value_2 16 rfl rfl)
theorem dX13_value_121 : decode cX13_value 121 = .ok (.iload_n 1, 1) := dk_27 (dk_at dksX13_value_2 17 rfl rfl)
theorem dX13_value_122 : decode cX13_value 122 = .ok (.ifCond .eq 11, 3) := dk_153 0 11 (dk_at dksX13_value_2 18 rfl rfl)
theorem dX13_value_125 : decode cX13_value 125 = .ok (.iload_n 2, 1) := dk_28 (dk_at dksX13_value_2 21 rfl rfl)
theorem dX13_value_126 : decode cX13_value 126 = .ok (.ifCond .eq 7, 3) := dk_153 0 7 (dk_at dksX13_value_3 0 rfl rfl)
theorem dX13_value_129 : decode cX13_value 129 = .ok (.iconst 1, 1) := dk_4 (dk_at dksX13_value_3 3 rfl rfl)
theorem dX13_value_130 : decode cX13_value 130 = .ok (.goto 4, 3) := dk_167 0 4 (dk_at dksX13_value_3 4 rfl rfl)
theorem dX13_value_133 : decode cX13_value 133 = .ok (.iconst 0, 1) := dk_3 (dk_at dksX13_value_3 7 rfl rfl)
theorem dX13_value_134 : decode cX13_value 134 = .ok (.invokestatic 24, 3) := dk_184 0 24 (dk_at dksX13_value_3 8 rfl rfl)
theorem dX13_value_137 : decode cX13_value 137 = .ok (.ireturn, 1) := dk_172 (dk_at dksX13_value_3 11 rfl rfl)
theorem dX13_value_138 : decode cX13_value 138 = .ok (.iload_n 1, 1) := dk_27 (dk_at dksX13_value_3 12 rfl rfl)
theorem dX13_value_139 : decode cX13_value 139 = .ok (.iload_n 2, 1) := dk_28 (dk_at dksX13_value_3 13 rfl rfl)
theorem dX13_value_140 : decode cX13_value 140 = .ok (.if_icmp .ge 7, 3) := dk_162 0 7 (dk_at dksX13_value_3 14 rfl rfl)
theorem dX13_value_143 : decode cX13_value 143 = .ok (.iconst 1, 1) := dk_4 (dk_at dksX13_value_3 17 rfl rfl)
theorem dX13_value_144 : decode cX13_value 144 = .ok (.goto 4, 3) := dk_167 0 4 (dk_at dksX13_value_3 18 rfl rfl)
theorem dX13_value_147 : decode cX13_value 147 = .ok (.iconst 0, 1) := dk_3 (dk_at dksX13_value_3 21 rfl rfl)
theorem dX13_value_148 : decode cX13_value 148 = .ok (.invokestatic 24, 3) := dk_184 0 24 (dk_at dksX13_value_4 0 rfl rfl)
theorem dX13_value_151 : decode cX13_value 151 = .ok (.ireturn, 1) := dk_172 (dk_at dksX13_value_4 3 rfl rfl)
theorem dX13_value_152 : decode cX13_value 152 = .ok (.iload_n 1, 1) := dk_27 (dk_at dksX13_value_4 4 rfl rfl)
theorem dX13_value_153 : decode cX13_value 153 = .ok (.iload_n 2, 1) := dk_28 (dk_at dksX13_value_4 5 rfl rfl)
theorem dX13_value_154 : decode cX13_value 154 = .ok (.if_icmp .ne 7, 3) := dk_160 0 7 (dk_at dksX13_value_4 6 rfl rfl)
theorem dX13_value_157 : decode cX13_value 157 = .ok (.iconst 1, 1) := dk_4 (dk_at dksX13_value_4 9 rfl rfl)
theorem dX13_value_158 : decode cX13_value 158 = .ok (.goto 4, 3) := dk_167 0 4 (dk_at dksX13_value_4 10 rfl rfl)
theorem dX13_value_161 : decode cX13_value 161 = .ok (.iconst 0, 1) := dk_3 (dk_at dksX13_value_4 13 rfl rfl)
theorem dX13_value_162 : decode cX13_value 162 = .ok (.invokestatic 24, 3) := dk_184 0 24 (dk_at dksX13_value_4 14 rfl rfl)
theorem dX13_value_165 : decode cX13_value 165 = .ok (.ireturn, 1) := dk_172 (dk_at dksX13_value_4 17 rfl rfl)
theorem dX13_value_166 : decode cX13_value 166 = .ok (.iload_n 1, 1) := dk_27 (dk_at dksX13_value_4 18 rfl rfl)
theorem dX13_value_167 : decode cX13_value 167 = .ok (.iload_n 2, 1) := dk_28 (dk_at dksX13_value_4 19 rfl rfl)
theorem dX13_value_168 : decode cX13_value 168 = .ok (.if_icmp .le 7, 3) := dk_164 0 7 (dk_at dksX13_value_4 20 rfl rfl)
theorem dX13_value_171 : decode cX13_value 171 = .ok (.iconst 1, 1) := dk_4 (dk_at dksX13_value_4 23 rfl rfl)
theorem dX13_value_172 : decode cX13_value 172 = .ok (.goto 4, 3) := dk_167 0 4 (dk_at dksX13_value_5 0 rfl rfl)
theorem dX13_value_175 : decode cX13_value 175 = .ok (.iconst 0, 1) := dk_3 (dk_at dksX13_value_5 3 rfl rfl)
theorem dX13_value_176 : decode cX13_value 176 = .ok (.invokestatic 24, 3) := dk_184 0 24 (dk_at dksX13_value_5 4 rfl rfl)
theorem dX13_value_179 : decode cX13_value 179 = .ok (.ireturn, 1) := dk_172 (dk_at dksX13_value_5 7 rfl rfl)
theorem dX13_value_180 : decode cX13_value 180 = .ok (.iload_n 1, 1) := dk_27 (dk_at dksX13_value_5 8 rfl rfl)
theorem dX13_value_181 : decode cX13_value 181 = .ok (.iload_n 2, 1) := dk_28 (dk_at dksX13_value_5 9 rfl rfl)
theorem dX13_value_182 : decode cX13_value 182 = .ok (.iadd, 1) := dk_96 (dk_at dksX13_value_5 10 rfl rfl)
theorem dX13_value_183 : decode cX13_value 183 = .ok (.ireturn, 1) := dk_172 (dk_at dksX13_value_5 11 rfl rfl)
theorem dX13_value_184 : decode cX13_value 184 = .ok (.iload_n 1, 1) := dk_27 (dk_at dksX13_value_5 12 rfl rfl)
theorem dX13_value_185 : decode cX13_value 185 = .ok (.iload_n 2, 1) := dk_28 (dk_at dksX13_value_5 13 rfl rfl)
theorem dX13_value_186 : decode cX13_value 186 = .ok (.isub, 1) := dk_100 (dk_at dksX13_value_5 14 rfl rfl)
theorem dX13_value_187 : decode cX13_value 187 = .ok (.ireturn, 1) := dk_172 (dk_at dksX13_value_5 15 rfl rfl)
theorem dX13_value_188 : decode cX13_value 188 = .ok (.iload_n 1, 1) := dk_27 (dk_at dksX13_value_5 16 rfl rfl)
theorem dX13_value_189 : decode cX13_value 189 = .ok (.iload_n 2, 1) := dk_28 (dk_at dksX13_value_5 17 rfl rfl)
theorem dX13_value_190 : decode cX13_value 190 = .ok (.imul, 1) := dk_104 (dk_at dksX13_value_5 18 rfl rfl)
theorem dX13_value_191 : decode cX13_value 191 = .ok (.ireturn, 1) := dk_172 (dk_at dksX13_value_5 19 rfl rfl)
theorem dX13_value_192 : decode cX13_value 192 = .ok (.iload_n 2, 1) := dk_28 (dk_at dksX13_value_5 20 rfl rfl)
theorem dX13_value_193 : decode cX13_value 193 = .ok (.ifCond .ne 7, 3) := dk_154 0 7 (dk_at dksX13_value_5 21 rfl rfl)
theorem dX13_value_196 : decode cX13_value 196 = .ok (.iconst 0, 1) := dk_3 (dk_at dksX13_value_6 0 rfl rfl)
theorem dX13_value_197 : decode cX13_value 197 = .ok (.goto 6, 3) := dk_167 0 6 (dk_at dksX13_value_6 1 rfl rfl)
theorem dX13_value_200 : decode cX13_value 200 = .ok (.iload_n 1, 1) := dk_27 (dk_at dksX13_value_6 4 rfl rfl)
theorem dX13_value_201 : decode cX13_value 201 = .ok (.iload_n 2, 1) := dk_28 (dk_at dksX13_value_6 5 rfl rfl)
theorem dX13_value_202 : decode cX13_value 202 = .ok (.idiv, 1) := dk_108 (dk_at dksX13_value_6 6 rfl rfl)
theorem dX13_value_203 : decode cX13_value 203 = .ok (.ireturn, 1) := dk_172 (dk_at dksX13_value_6 7 rfl rfl)
theorem dX13_value_204 : decode cX13_value 204 = .ok (.iload_n 2, 1) := dk_28 (dk_at dksX13_value_6 8 rfl rfl)
theorem dX13_value_205 : decode cX13_value 205 = .ok (.ifCond .ne 7, 3) := dk_154 0 7 (dk_at dksX13_value_6 9 rfl rfl)
theorem dX13_value_208 : decode cX13_value 208 = .ok (.iconst 0, 1) := dk_3 (dk_at dksX13_value_6 12 rfl rfl)
theorem dX13_value_209 : decode cX13_value 209 = .ok (.goto 6, 3) := dk_167 0 6 (dk_at dksX13_value_6 13 rfl rfl)
theorem dX13_value_212 : decode cX13_value 212 = .ok (.iload_n 1, 1) := dk_27 (dk_at dksX13_value_6 16 rfl rfl)
theorem dX13_value_213 : decode cX13_value 213 = .ok (.iload_n 2, 1) := dk_28 (dk_at dksX13_value_6 17 rfl rfl)
theorem dX13_value_214 : decode cX13_value 214 = .ok (.irem, 1) := dk_112 (dk_at dksX13_value_6 18 rfl rfl)
theorem dX13_value_215 : decode cX13_value 215 = .ok (.ireturn, 1) := dk_172 (dk_at dksX13_value_6 19 rfl rfl)
theorem q111 : (Jvm.Cond.initialized "LeftAsFound$Both") ∈ lw_all := lw_g (lw_at lw_m1 17 rfl) rfl
theorem q634 : (Jvm.Cond.instantiable "LeftAsFound$Both" (3 : Nat)) ∈ lw_all := lw_g (lw_at lw_m3 60 rfl) rfl
theorem q636 : (Jvm.Cond.instanceMethod ({ cls := "LeftAsFound$Both", name := "<init>", desc := "(ILLeftAsFound$Term;LLeftAsFound$Term;)V" } : Jvm.MethodName)) ∈ lw_all := lw_g (lw_at lw_m3 62 rfl) rfl
theorem q637 : (Jvm.Cond.code ({ cls := "LeftAsFound$Both", name := "<init>", desc := "(ILLeftAsFound$Term;LLeftAsFound$Term;)V" } : Jvm.MethodName) prog_4_method_1_code (4 : Nat) (Option.none : Option Jvm.ClassFile.FieldType)) ∈ lw_all := lw_g (lw_at lw_m3 63 rfl) rfl
theorem q638 : (Jvm.Cond.methodLinkNest "LeftAsFound$Both" (1 : Nat) ({ cls := "LeftAsFound$Term", name := "<init>", desc := "()V" } : Jvm.MethodName) "LeftAsFound") ∈ lw_tbl := lw_at lw_m3 64 rfl
theorem q639 : (Jvm.Cond.fieldLink "LeftAsFound$Both" (7 : Nat) "LeftAsFound$Both" "sign" "I") ∈ lw_all := lw_g (lw_at lw_m3 65 rfl) rfl
theorem q640 : (Jvm.Cond.fieldLink "LeftAsFound$Both" (13 : Nat) "LeftAsFound$Both" "left" "LLeftAsFound$Term;") ∈ lw_all := lw_g (lw_at lw_m3 66 rfl) rfl
theorem q641 : (Jvm.Cond.fieldLink "LeftAsFound$Both" (17 : Nat) "LeftAsFound$Both" "right" "LLeftAsFound$Term;") ∈ lw_all := lw_g (lw_at lw_m3 67 rfl) rfl
theorem q642 : (Jvm.Cond.laysFinal "LeftAsFound$Both" "LeftAsFound$Both" "sign" "I") ∈ lw_all := lw_g (lw_at lw_m3 68 rfl) rfl
theorem q643 : (Jvm.Cond.soleField "LeftAsFound$Both" "sign") ∈ lw_all := lw_g (lw_at lw_m3 69 rfl) rfl
theorem q644 : (Jvm.Cond.laysFinal "LeftAsFound$Both" "LeftAsFound$Both" "left" "LLeftAsFound$Term;") ∈ lw_all := lw_g (lw_at lw_m3 70 rfl) rfl
theorem q645 : (Jvm.Cond.soleField "LeftAsFound$Both" "left") ∈ lw_all := lw_g (lw_at lw_m3 71 rfl) rfl
theorem q646 : (Jvm.Cond.laysFinal "LeftAsFound$Both" "LeftAsFound$Both" "right" "LLeftAsFound$Term;") ∈ lw_all := lw_g (lw_at lw_m3 72 rfl) rfl
theorem q647 : (Jvm.Cond.soleField "LeftAsFound$Both" "right") ∈ lw_all := lw_g (lw_at lw_m3 73 rfl) rfl
theorem q648 : (Jvm.Cond.superclass "LeftAsFound$Both" "LeftAsFound$Term") ∈ lw_all := lw_g (lw_at lw_m3 74 rfl) rfl
theorem q695 : (Jvm.Cond.selects "LeftAsFound$Both" ({ cls := "LeftAsFound$Term", name := "value", desc := "()I" } : Jvm.MethodName) ({ cls := "LeftAsFound$Both", name := "value", desc := "()I" } : Jvm.MethodName)) ∈ lw_all := lw_g (lw_at lw_m3 121 rfl) rfl
theorem q696 : (Jvm.Cond.instanceMethod ({ cls := "LeftAsFound$Both", name := "value", desc := "()I" } : Jvm.MethodName)) ∈ lw_all := lw_g (lw_at lw_m3 122 rfl) rfl
theorem q697 : (Jvm.Cond.code ({ cls := "LeftAsFound$Both", name := "value", desc := "()I" } : Jvm.MethodName) prog_4_method_2_code (3 : Nat) (Option.some Jvm.ClassFile.FieldType.int)) ∈ lw_all := lw_g (lw_at lw_m3 123 rfl) rfl
theorem q698 : (Jvm.Cond.methodLink "LeftAsFound$Both" (20 : Nat) ({ cls := "LeftAsFound$Term", name := "value", desc := "()I" } : Jvm.MethodName)) ∈ lw_all := lw_g (lw_at lw_m3 124 rfl) rfl
theorem q709 : (Jvm.Cond.methodLinkNest "LeftAsFound$Both" (24 : Nat) ({ cls := "LeftAsFound", name := "bit", desc := "(Z)I" } : Jvm.MethodName) "LeftAsFound") ∈ lw_tbl := lw_at lw_m3 135 rfl
theorem q1951 : (Jvm.Cond.castable "LeftAsFound$Both" "java/lang/Object") ∈ lw_tbl := lw_at lw_m8 177 rfl
theorem in_X13 : ∀ w ∈ wsX130, w ∈ lw_all := lw_in wsX130 [642, 644, 646] (by decide +kernel) (by decide +kernel)

/-! LeftAsFound$Body -/
set_option maxRecDepth 100000
def RX14 : String := "LeftAsFound$Body"
def TX14 : u_T := fun k => match k with
  | 0 => ("LeftAsFound$Body", "number", "I", true)
  | _ => ("LeftAsFound$Body", "this$0", "LLeftAsFound;", true)
def tyX14 : Nat → FieldType := fun k => match k with
  | 0 => .int
  | _ => .object "LeftAsFound"
abbrev wsX140 : List Cond := u_ws RX14 TX14 2
theorem nmX14 : ∀ a, a < 2 → ∀ b, b < 2 → a ≠ b → (TX14 a).2.1 ≠ (TX14 b).2.1 := by decide +kernel
theorem tyX14_ok : ∀ k, k < 2 → parseFieldDescriptor (TX14 k).2.2.1 = some (tyX14 k) := by decide +kernel
abbrev cX14_init : ByteArray := prog_3_method_1_code
def yX14_init : MethodName := ⟨RX14, "<init>", "(LLeftAsFound;I)V"⟩
def dkwX14_init_0 : List UInt8 := [42, 43, 181, 0, 3, 42, 183, 0, 9, 42, 28, 181, 0, 15, 177]
abbrev dktX14_init_0 : List UInt8 := dkwX14_init_0 ++ []
theorem dksX14_init_0 : cX14_init.data.toList.drop 0 = dktX14_init_0 := by decide +kernel
theorem dX14_init_0 : decode cX14_init 0 = .ok (.aload_n 0, 1) := dk_42 (dk_at dksX14_init_0 0 rfl rfl)
theorem dX14_init_1 : decode cX14_init 1 = .ok (.aload_n 1, 1) := dk_43 (dk_at dksX14_init_0 1 rfl rfl)
theorem dX14_init_2 : decode cX14_init 2 = .ok (.putfield 3, 3) := dk_181 0 3 (dk_at dksX14_init_0 2 rfl rfl)
theorem dX14_init_5 : decode cX14_init 5 = .ok (.aload_n 0, 1) := dk_42 (dk_at dksX14_init_0 5 rfl rfl)
theorem dX14_init_6 : decode cX14_init 6 = .ok (.invokespecial 9, 3) := dk_183 0 9 (dk_at dksX14_init_0 6 rfl rfl)
theorem dX14_init_9 : decode cX14_init 9 = .ok (.aload_n 0, 1) := dk_42 (dk_at dksX14_init_0 9 rfl rfl)
theorem dX14_init_10 : decode cX14_init 10 = .ok (.iload_n 2, 1) := dk_28 (dk_at dksX14_init_0 10 rfl rfl)
theorem dX14_init_11 : decode cX14_init 11 = .ok (.putfield 15, 3) := dk_181 0 15 (dk_at dksX14_init_0 11 rfl rfl)
theorem dX14_init_14 : decode cX14_init 14 = .ok (.return_, 1) := dk_177 (dk_at dksX14_init_0 14 rfl rfl)
abbrev cX14_begins : ByteArray := prog_3_method_5_code
def yX14_begins : MethodName := ⟨RX14, "begins", "(I)V"⟩
def dkwX14_begins_1 : List UInt8 := [180, 0, 19, 27, 79, 42, 180, 0, 3, 89, 180, 0, 19, 4, 96, 181, 0, 19, 177]
abbrev dktX14_begins_1 : List UInt8 := dkwX14_begins_1 ++ []
def dkwX14_begins_0 : List UInt8 := [42, 180, 0, 3, 180, 0, 19, 16, 24, 162, 0, 19, 42, 180, 0, 3, 180, 0, 22, 42, 180, 0, 3]
abbrev dktX14_begins_0 : List UInt8 := dkwX14_begins_0 ++ dktX14_begins_1
theorem dksX14_begins_0 : cX14_begins.data.toList.drop 0 = dktX14_begins_0 := by decide +kernel
theorem dksX14_begins_1 : cX14_begins.data.toList.drop 23 = dktX14_begins_1 := dk_seg dksX14_begins_0 23 rfl rfl
theorem dX14_begins_0 : decode cX14_begins 0 = .ok (.aload_n 0, 1) := dk_42 (dk_at dksX14_begins_0 0 rfl rfl)
theorem dX14_begins_1 : decode cX14_begins 1 = .ok (.getfield 3, 3) := dk_180 0 3 (dk_at dksX14_begins_0 1 rfl rfl)
theorem dX14_begins_4 : decode cX14_begins 4 = .ok (.getfield 19, 3) := dk_180 0 19 (dk_at dksX14_begins_0 4 rfl rfl)
theorem dX14_begins_7 : decode cX14_begins 7 = .ok (.bipush 24, 2) := dk_16 24 (dk_at dksX14_begins_0 7 rfl rfl)
theorem dX14_begins_9 : decode cX14_begins 9 = .ok (.if_icmp .ge 19, 3) := dk_162 0 19 (dk_at dksX14_begins_0 9 rfl rfl)
theorem dX14_begins_12 : decode cX14_begins 12 = .ok (.aload_n 0, 1) := dk_42 (dk_at dksX14_begins_0 12 rfl rfl)
theorem dX14_begins_13 : decode cX14_begins 13 = .ok (.getfield 3, 3) := dk_180 0 3 (dk_at dksX14_begins_0 13 rfl rfl)
theorem dX14_begins_16 : decode cX14_begins 16 = .ok (.getfield 22, 3) := dk_180 0 22 (dk_at dksX14_begins_0 16 rfl rfl)
theorem dX14_begins_19 : decode cX14_begins 19 = .ok (.aload_n 0, 1) := dk_42 (dk_at dksX14_begins_0 19 rfl rfl)
theorem dX14_begins_20 : decode cX14_begins 20 = .ok (.getfield 3, 3) := dk_180 0 3 (dk_at dksX14_begins_0 20 rfl rfl)
theorem dX14_begins_23 : decode cX14_begins 23 = .ok (.getfield 19, 3) := dk_180 0 19 (dk_at dksX14_begins_1 0 rfl rfl)
theorem dX14_begins_26 : decode cX14_begins 26 = .ok (.iload_n 1, 1) := dk_27 (dk_at dksX14_begins_1 3 rfl rfl)
theorem dX14_begins_27 : decode cX14_begins 27 = .ok (.iastore, 1) := dk_79 (dk_at dksX14_begins_1 4 rfl rfl)
theorem dX14_begins_28 : decode cX14_begins 28 = .ok (.aload_n 0, 1) := dk_42 (dk_at dksX14_begins_1 5 rfl rfl)
theorem dX14_begins_29 : decode cX14_begins 29 = .ok (.getfield 3, 3) := dk_180 0 3 (dk_at dksX14_begins_1 6 rfl rfl)
theorem dX14_begins_32 : decode cX14_begins 32 = .ok (.dup, 1) := dk_89 (dk_at dksX14_begins_1 9 rfl rfl)
theorem dX14_begins_33 : decode cX14_begins 33 = .ok (.getfield 19, 3) := dk_180 0 19 (dk_at dksX14_begins_1 10 rfl rfl)
theorem dX14_begins_36 : decode cX14_begins 36 = .ok (.iconst 1, 1) := dk_4 (dk_at dksX14_begins_1 13 rfl rfl)
theorem dX14_begins_37 : decode cX14_begins 37 = .ok (.iadd, 1) := dk_96 (dk_at dksX14_begins_1 14 rfl rfl)
theorem dX14_begins_38 : decode cX14_begins 38 = .ok (.putfield 19, 3) := dk_181 0 19 (dk_at dksX14_begins_1 15 rfl rfl)
theorem dX14_begins_41 : decode cX14_begins 41 = .ok (.return_, 1) := dk_177 (dk_at dksX14_begins_1 18 rfl rfl)
abbrev cX14_number : ByteArray := prog_3_method_4_code
def yX14_number : MethodName := ⟨RX14, "number", "()I"⟩
theorem dX14_number_0 : decode cX14_number 0 = .ok (.aload_n 0, 1) := by decide +kernel
theorem dX14_number_1 : decode cX14_number 1 = .ok (.getfield 15, 3) := by decide +kernel
theorem dX14_number_4 : decode cX14_number 4 = .ok (.ireturn, 1) := by decide +kernel
abbrev cX14_sees : ByteArray := prog_3_method_7_code
def yX14_sees : MethodName := ⟨RX14, "sees", "(I)I"⟩
def dkwX14_sees_0 : List UInt8 := [42, 16, 11, 182, 0, 26, 27, 42, 180, 0, 15, 130, 172]
abbrev dktX14_sees_0 : List UInt8 := dkwX14_sees_0 ++ []
theorem dksX14_sees_0 : cX14_sees.data.toList.drop 0 = dktX14_sees_0 := by decide +kernel
theorem dX14_sees_0 : decode cX14_sees 0 = .ok (.aload_n 0, 1) := dk_42 (dk_at dksX14_sees_0 0 rfl rfl)
theorem dX14_sees_1 : decode cX14_sees 1 = .ok (.bipush 11, 2) := dk_16 11 (dk_at dksX14_sees_0 1 rfl rfl)
theorem dX14_sees_3 : decode cX14_sees 3 = .ok (.invokevirtual 26, 3) := dk_182 0 26 (dk_at dksX14_sees_0 3 rfl rfl)
theorem dX14_sees_6 : decode cX14_sees 6 = .ok (.iload_n 1, 1) := dk_27 (dk_at dksX14_sees_0 6 rfl rfl)
theorem dX14_sees_7 : decode cX14_sees 7 = .ok (.aload_n 0, 1) := dk_42 (dk_at dksX14_sees_0 7 rfl rfl)
theorem dX14_sees_8 : decode cX14_sees 8 = .ok (.getfield 15, 3) := dk_180 0 15 (dk_at dksX14_sees_0 8 rfl rfl)
theorem dX14_sees_11 : decode cX14_sees 11 = .ok (.ixor, 1) := dk_130 (dk_at dksX14_sees_0 11 rfl rfl)
theorem dX14_sees_12 : decode cX14_sees 12 = .ok (.ireturn, 1) := dk_172 (dk_at dksX14_sees_0 12 rfl rfl)
abbrev cX14_leaves : ByteArray := prog_3_method_6_code
def yX14_leaves : MethodName := ⟨RX14, "leaves", "(I)I"⟩
def dkwX14_leaves_0 : List UInt8 := [42, 16, 10, 182, 0, 26, 42, 27, 182, 0, 30, 5, 104, 172]
abbrev dktX14_leaves_0 : List UInt8 := dkwX14_leaves_0 ++ []
theorem dksX14_leaves_0 : cX14_leaves.data.toList.drop 0 = dktX14_leaves_0 := by decide +kernel
theorem dX14_leaves_0 : decode cX14_leaves 0 = .ok (.aload_n 0, 1) := dk_42 (dk_at dksX14_leaves_0 0 rfl rfl)
theorem dX14_leaves_1 : decode cX14_leaves 1 = .ok (.bipush 10, 2) := dk_16 10 (dk_at dksX14_leaves_0 1 rfl rfl)
theorem dX14_leaves_3 : decode cX14_leaves 3 = .ok (.invokevirtual 26, 3) := dk_182 0 26 (dk_at dksX14_leaves_0 3 rfl rfl)
theorem dX14_leaves_6 : decode cX14_leaves 6 = .ok (.aload_n 0, 1) := dk_42 (dk_at dksX14_leaves_0 6 rfl rfl)
theorem dX14_leaves_7 : decode cX14_leaves 7 = .ok (.iload_n 1, 1) := dk_27 (dk_at dksX14_leaves_0 7 rfl rfl)
theorem dX14_leaves_8 : decode cX14_leaves 8 = .ok (.invokevirtual 30, 3) := dk_182 0 30 (dk_at dksX14_leaves_0 8 rfl rfl)
theorem dX14_leaves_11 : decode cX14_leaves 11 = .ok (.iconst 2, 1) := dk_5 (dk_at dksX14_leaves_0 11 rfl rfl)
theorem dX14_leaves_12 : decode cX14_leaves 12 = .ok (.imul, 1) := dk_104 (dk_at dksX14_leaves_0 12 rfl rfl)
theorem dX14_leaves_13 : decode cX14_leaves 13 = .ok (.ireturn, 1) := dk_172 (dk_at dksX14_leaves_0 13 rfl rfl)
abbrev cX14_isUnder : ByteArray := prog_3_method_3_code
def yX14_isUnder : MethodName := ⟨RX14, "isUnder", "(I)Z"⟩
def dkwX14_isUnder_0 : List UInt8 := [27, 154, 0, 7, 4, 167, 0, 4, 3, 172]
abbrev dktX14_isUnder_0 : List UInt8 := dkwX14_isUnder_0 ++ []
theorem dksX14_isUnder_0 : cX14_isUnder.data.toList.drop 0 = dktX14_isUnder_0 := by decide +kernel
theorem dX14_isUnder_0 : decode cX14_isUnder 0 = .ok (.iload_n 1, 1) := dk_27 (dk_at dksX14_isUnder_0 0 rfl rfl)
theorem dX14_isUnder_1 : decode cX14_isUnder 1 = .ok (.ifCond .ne 7, 3) := dk_154 0 7 (dk_at dksX14_isUnder_0 1 rfl rfl)
theorem dX14_isUnder_4 : decode cX14_isUnder 4 = .ok (.iconst 1, 1) := dk_4 (dk_at dksX14_isUnder_0 4 rfl rfl)
theorem dX14_isUnder_5 : decode cX14_isUnder 5 = .ok (.goto 4, 3) := dk_167 0 4 (dk_at dksX14_isUnder_0 5 rfl rfl)
theorem dX14_isUnder_8 : decode cX14_isUnder 8 = .ok (.iconst 0, 1) := dk_3 (dk_at dksX14_isUnder_0 8 rfl rfl)
theorem dX14_isUnder_9 : decode cX14_isUnder 9 = .ok (.ireturn, 1) := dk_172 (dk_at dksX14_isUnder_0 9 rfl rfl)
abbrev cX14_kind : ByteArray := prog_3_method_2_code
def yX14_kind : MethodName := ⟨RX14, "kind", "()I"⟩
theorem dX14_kind_0 : decode cX14_kind 0 = .ok (.iconst 0, 1) := by decide +kernel
theorem dX14_kind_1 : decode cX14_kind 1 = .ok (.ireturn, 1) := by decide +kernel
theorem q114 : (Jvm.Cond.initialized "LeftAsFound$Body") ∈ lw_all := lw_g (lw_at lw_m1 20 rfl) rfl
theorem q333 : (Jvm.Cond.fieldLinkNest "LeftAsFound$Body" (22 : Nat) "LeftAsFound" "trace" "[I" "LeftAsFound") ∈ lw_tbl := lw_at lw_m1 239 rfl
theorem q335 : (Jvm.Cond.fieldLinkNest "LeftAsFound$Body" (19 : Nat) "LeftAsFound" "ran" "I" "LeftAsFound") ∈ lw_tbl := lw_at lw_m2 1 rfl
theorem q873 : (Jvm.Cond.instanceMethod ({ cls := "LeftAsFound$Body", name := "<init>", desc := "(LLeftAsFound;I)V" } : Jvm.MethodName)) ∈ lw_all := lw_g (lw_at lw_m4 59 rfl) rfl
theorem q874 : (Jvm.Cond.code ({ cls := "LeftAsFound$Body", name := "<init>", desc := "(LLeftAsFound;I)V" } : Jvm.MethodName) prog_3_method_1_code (3 : Nat) (Option.none : Option Jvm.ClassFile.FieldType)) ∈ lw_all := lw_g (lw_at lw_m4 60 rfl) rfl
theorem q875 : (Jvm.Cond.methodLink "LeftAsFound$Body" (9 : Nat) ({ cls := "java/lang/Object", name := "<init>", desc := "()V" } : Jvm.MethodName)) ∈ lw_all := lw_g (lw_at lw_m4 61 rfl) rfl
theorem q877 : (Jvm.Cond.fieldLink "LeftAsFound$Body" (15 : Nat) "LeftAsFound$Body" "number" "I") ∈ lw_all := lw_g (lw_at lw_m4 63 rfl) rfl
theorem q878 : (Jvm.Cond.fieldLink "LeftAsFound$Body" (3 : Nat) "LeftAsFound$Body" "this$0" "LLeftAsFound;") ∈ lw_all := lw_g (lw_at lw_m4 64 rfl) rfl
theorem q882 : (Jvm.Cond.soleField "LeftAsFound$Body" "number") ∈ lw_all := lw_g (lw_at lw_m4 68 rfl) rfl
theorem q884 : (Jvm.Cond.soleField "LeftAsFound$Body" "this$0") ∈ lw_all := lw_g (lw_at lw_m4 70 rfl) rfl
theorem q963 : (Jvm.Cond.instantiable "LeftAsFound$Body" (2 : Nat)) ∈ lw_all := lw_g (lw_at lw_m4 149 rfl) rfl
theorem q965 : (Jvm.Cond.laysFinal "LeftAsFound$Body" "LeftAsFound$Body" "number" "I") ∈ lw_all := lw_g (lw_at lw_m4 151 rfl) rfl
theorem q966 : (Jvm.Cond.laysFinal "LeftAsFound$Body" "LeftAsFound$Body" "this$0" "LLeftAsFound;") ∈ lw_all := lw_g (lw_at lw_m4 152 rfl) rfl
theorem q967 : (Jvm.Cond.superclass "LeftAsFound$Body" "java/lang/Object") ∈ lw_all := lw_g (lw_at lw_m4 153 rfl) rfl
theorem q982 : (Jvm.Cond.declares ({ cls := "LeftAsFound$Body", name := "begins", desc := "(I)V" } : Jvm.MethodName)) ∈ lw_tbl := lw_at lw_m4 168 rfl
theorem q985 : (Jvm.Cond.instanceMethod ({ cls := "LeftAsFound$Body", name := "begins", desc := "(I)V" } : Jvm.MethodName)) ∈ lw_all := lw_g (lw_at lw_m4 171 rfl) rfl
theorem q986 : (Jvm.Cond.code ({ cls := "LeftAsFound$Body", name := "begins", desc := "(I)V" } : Jvm.MethodName) prog_3_method_5_code (2 : Nat) (Option.none : Option Jvm.ClassFile.FieldType)) ∈ lw_all := lw_g (lw_at lw_m4 172 rfl) rfl
theorem q996 : (Jvm.Cond.publicMethod ({ cls := "LeftAsFound$Body", name := "begins", desc := "(I)V" } : Jvm.MethodName)) ∈ lw_tbl := lw_at lw_m4 182 rfl
theorem q997 : (Jvm.Cond.castable "LeftAsFound$Body" "LeftAsFound$Comes") ∈ lw_tbl := lw_at lw_m4 183 rfl
theorem q998 : (Jvm.Cond.selects "LeftAsFound$Body" ({ cls := "LeftAsFound$Comes", name := "begins", desc := "(I)V" } : Jvm.MethodName) ({ cls := "LeftAsFound$Body", name := "begins", desc := "(I)V" } : Jvm.MethodName)) ∈ lw_all := lw_g (lw_at lw_m4 184 rfl) rfl
theorem q999 : (Jvm.Cond.unhidden "LeftAsFound$Body" "begins" "(I)V") ∈ lw_tbl := lw_at lw_m4 185 rfl
theorem q1024 : (Jvm.Cond.instanceMethod ({ cls := "LeftAsFound$Body", name := "number", desc := "()I" } : Jvm.MethodName)) ∈ lw_all := lw_g (lw_at lw_m4 210 rfl) rfl
theorem q1025 : (Jvm.Cond.publicMethod ({ cls := "LeftAsFound$Body", name := "number", desc := "()I" } : Jvm.MethodName)) ∈ lw_tbl := lw_at lw_m4 211 rfl
theorem q1026 : (Jvm.Cond.code ({ cls := "LeftAsFound$Body", name := "number", desc := "()I" } : Jvm.MethodName) prog_3_method_4_code (1 : Nat) (Option.some Jvm.ClassFile.FieldType.int)) ∈ lw_all := lw_g (lw_at lw_m4 212 rfl) rfl
theorem q1027 : (Jvm.Cond.selects "LeftAsFound$Body" ({ cls := "LeftAsFound$Comes", name := "number", desc := "()I" } : Jvm.MethodName) ({ cls := "LeftAsFound$Body", name := "number", desc := "()I" } : Jvm.MethodName)) ∈ lw_all := lw_g (lw_at lw_m4 213 rfl) rfl
theorem q1028 : (Jvm.Cond.unhidden "LeftAsFound$Body" "number" "()I") ∈ lw_tbl := lw_at lw_m4 214 rfl
theorem q1041 : (Jvm.Cond.unhidden "LeftAsFound$Body" "comes" "(I)I") ∈ lw_tbl := lw_at lw_m4 227 rfl
theorem q1062 : (Jvm.Cond.instanceMethod ({ cls := "LeftAsFound$Body", name := "leaves", desc := "(I)I" } : Jvm.MethodName)) ∈ lw_all := lw_g (lw_at lw_m5 8 rfl) rfl
theorem q1063 : (Jvm.Cond.selects "LeftAsFound$Body" ({ cls := "LeftAsFound$Body", name := "leaves", desc := "(I)I" } : Jvm.MethodName) ({ cls := "LeftAsFound$Body", name := "leaves", desc := "(I)I" } : Jvm.MethodName)) ∈ lw_all := lw_g (lw_at lw_m5 9 rfl) rfl
theorem q1064 : (Jvm.Cond.sameMethod "LeftAsFound$Body" "LeftAsFound$Body" "leaves" "(I)I") ∈ lw_all := lw_g (lw_at lw_m5 10 rfl) rfl
theorem q1088 : (Jvm.Cond.declares ({ cls := "LeftAsFound$Body", name := "leaves", desc := "(I)I" } : Jvm.MethodName)) ∈ lw_tbl := lw_at lw_m5 34 rfl
theorem q1091 : (Jvm.Cond.declares ({ cls := "LeftAsFound$Body", name := "sees", desc := "(I)I" } : Jvm.MethodName)) ∈ lw_tbl := lw_at lw_m5 37 rfl
theorem q1093 : (Jvm.Cond.instanceMethod ({ cls := "LeftAsFound$Body", name := "sees", desc := "(I)I" } : Jvm.MethodName)) ∈ lw_all := lw_g (lw_at lw_m5 39 rfl) rfl
theorem q1094 : (Jvm.Cond.code ({ cls := "LeftAsFound$Body", name := "sees", desc := "(I)I" } : Jvm.MethodName) prog_3_method_7_code (2 : Nat) (Option.some Jvm.ClassFile.FieldType.int)) ∈ lw_all := lw_g (lw_at lw_m5 40 rfl) rfl
theorem q1095 : (Jvm.Cond.methodLink "LeftAsFound$Body" (26 : Nat) ({ cls := "LeftAsFound$Body", name := "begins", desc := "(I)V" } : Jvm.MethodName)) ∈ lw_all := lw_g (lw_at lw_m5 41 rfl) rfl
theorem q1099 : (Jvm.Cond.code ({ cls := "LeftAsFound$Body", name := "leaves", desc := "(I)I" } : Jvm.MethodName) prog_3_method_6_code (2 : Nat) (Option.some Jvm.ClassFile.FieldType.int)) ∈ lw_all := lw_g (lw_at lw_m5 45 rfl) rfl
theorem q1113 : (Jvm.Cond.unhidden "LeftAsFound$Body" "tells" "(I)I") ∈ lw_tbl := lw_at lw_m5 59 rfl
theorem q1131 : (Jvm.Cond.castable "LeftAsFound$Body" "LeftAsFound$Tells") ∈ lw_tbl := lw_at lw_m5 77 rfl
theorem q1132 : (Jvm.Cond.selects "LeftAsFound$Body" ({ cls := "LeftAsFound$Tells", name := "begins", desc := "(I)V" } : Jvm.MethodName) ({ cls := "LeftAsFound$Body", name := "begins", desc := "(I)V" } : Jvm.MethodName)) ∈ lw_all := lw_g (lw_at lw_m5 78 rfl) rfl
theorem q1151 : (Jvm.Cond.publicMethod ({ cls := "LeftAsFound$Body", name := "leaves", desc := "(I)I" } : Jvm.MethodName)) ∈ lw_tbl := lw_at lw_m5 97 rfl
theorem q1152 : (Jvm.Cond.selects "LeftAsFound$Body" ({ cls := "LeftAsFound$Tells", name := "leaves", desc := "(I)I" } : Jvm.MethodName) ({ cls := "LeftAsFound$Body", name := "leaves", desc := "(I)I" } : Jvm.MethodName)) ∈ lw_all := lw_g (lw_at lw_m5 98 rfl) rfl
theorem q1153 : (Jvm.Cond.unhidden "LeftAsFound$Body" "leaves" "(I)I") ∈ lw_tbl := lw_at lw_m5 99 rfl
theorem q1175 : (Jvm.Cond.publicMethod ({ cls := "LeftAsFound$Body", name := "sees", desc := "(I)I" } : Jvm.MethodName)) ∈ lw_tbl := lw_at lw_m5 121 rfl
theorem q1176 : (Jvm.Cond.selects "LeftAsFound$Body" ({ cls := "LeftAsFound$Tells", name := "sees", desc := "(I)I" } : Jvm.MethodName) ({ cls := "LeftAsFound$Body", name := "sees", desc := "(I)I" } : Jvm.MethodName)) ∈ lw_all := lw_g (lw_at lw_m5 122 rfl) rfl
theorem q1177 : (Jvm.Cond.unhidden "LeftAsFound$Body" "sees" "(I)I") ∈ lw_tbl := lw_at lw_m5 123 rfl
theorem q1238 : (Jvm.Cond.instanceMethod ({ cls := "LeftAsFound$Body", name := "isUnder", desc := "(I)Z" } : Jvm.MethodName)) ∈ lw_all := lw_g (lw_at lw_m5 184 rfl) rfl
theorem q1239 : (Jvm.Cond.selects "LeftAsFound$Body" ({ cls := "LeftAsFound$Body", name := "isUnder", desc := "(I)Z" } : Jvm.MethodName) ({ cls := "LeftAsFound$Body", name := "isUnder", desc := "(I)Z" } : Jvm.MethodName)) ∈ lw_all := lw_g (lw_at lw_m5 185 rfl) rfl
theorem q1240 : (Jvm.Cond.sameMethod "LeftAsFound$Body" "LeftAsFound$Body" "isUnder" "(I)Z") ∈ lw_all := lw_g (lw_at lw_m5 186 rfl) rfl
theorem q1269 : (Jvm.Cond.code ({ cls := "LeftAsFound$Body", name := "isUnder", desc := "(I)Z" } : Jvm.MethodName) prog_3_method_3_code (2 : Nat) (Option.some Jvm.ClassFile.FieldType.boolean)) ∈ lw_all := lw_g (lw_at lw_m5 215 rfl) rfl
theorem q1271 : (Jvm.Cond.instanceMethod ({ cls := "LeftAsFound$Body", name := "kind", desc := "()I" } : Jvm.MethodName)) ∈ lw_all := lw_g (lw_at lw_m5 217 rfl) rfl
theorem q1272 : (Jvm.Cond.selects "LeftAsFound$Body" ({ cls := "LeftAsFound$Body", name := "kind", desc := "()I" } : Jvm.MethodName) ({ cls := "LeftAsFound$Body", name := "kind", desc := "()I" } : Jvm.MethodName)) ∈ lw_all := lw_g (lw_at lw_m5 218 rfl) rfl
theorem q1273 : (Jvm.Cond.sameMethod "LeftAsFound$Body" "LeftAsFound$Body" "kind" "()I") ∈ lw_all := lw_g (lw_at lw_m5 219 rfl) rfl
theorem q1295 : (Jvm.Cond.code ({ cls := "LeftAsFound$Body", name := "kind", desc := "()I" } : Jvm.MethodName) prog_3_method_2_code (1 : Nat) (Option.some Jvm.ClassFile.FieldType.int)) ∈ lw_all := lw_g (lw_at lw_m6 1 rfl) rfl
theorem q1909 : (Jvm.Cond.sameMethod "LeftAsFound$Body" "LeftAsFound$Body" "begins" "(I)V") ∈ lw_all := lw_g (lw_at lw_m8 135 rfl) rfl
theorem q1911 : (Jvm.Cond.selects "LeftAsFound$Body" ({ cls := "LeftAsFound$Body", name := "begins", desc := "(I)V" } : Jvm.MethodName) ({ cls := "LeftAsFound$Body", name := "begins", desc := "(I)V" } : Jvm.MethodName)) ∈ lw_all := lw_g (lw_at lw_m8 137 rfl) rfl
theorem q1918 : (Jvm.Cond.sameMethod "LeftAsFound$Body" "LeftAsFound$Body" "sees" "(I)I") ∈ lw_all := lw_g (lw_at lw_m8 144 rfl) rfl
theorem q1920 : (Jvm.Cond.selects "LeftAsFound$Body" ({ cls := "LeftAsFound$Body", name := "sees", desc := "(I)I" } : Jvm.MethodName) ({ cls := "LeftAsFound$Body", name := "sees", desc := "(I)I" } : Jvm.MethodName)) ∈ lw_all := lw_g (lw_at lw_m8 146 rfl) rfl
theorem q1959 : (Jvm.Cond.castable "LeftAsFound$Body" "java/lang/Object") ∈ lw_tbl := lw_at lw_m8 185 rfl
theorem in_X14 : ∀ w ∈ wsX140, w ∈ lw_all := lw_in wsX140 [965, 966] (by decide +kernel) (by decide +kernel)

/-! LeftAsFound$FoundStay -/
set_option maxRecDepth 100000
def RX15 : String := "LeftAsFound$FoundStay"
def TX15 : u_T := fun k => match k with
  | 0 => ("LeftAsFound$Body", "number", "I", true)
  | 1 => ("LeftAsFound$Body", "this$0", "LLeftAsFound;", true)
  | _ => ("LeftAsFound$FoundStay", "this$0", "LLeftAsFound;", true)
def tyX15 : Nat → FieldType := fun k => match k with
  | 0 => .int
  | 1 => .object "LeftAsFound"
  | _ => .object "LeftAsFound"
abbrev wsX150 : List Cond := u_ws RX15 TX15 3
-- two fields of one name: no nmX15
theorem tyX15_ok : ∀ k, k < 3 → parseFieldDescriptor (TX15 k).2.2.1 = some (tyX15 k) := by decide +kernel
abbrev cX15_init : ByteArray := prog_10_method_1_code
def yX15_init : MethodName := ⟨RX15, "<init>", "(LLeftAsFound;I)V"⟩
def dkwX15_init_0 : List UInt8 := [42, 43, 181, 0, 3, 42, 43, 28, 183, 0, 9, 177]
abbrev dktX15_init_0 : List UInt8 := dkwX15_init_0 ++ []
theorem dksX15_init_0 : cX15_init.data.toList.drop 0 = dktX15_init_0 := by decide +kernel
theorem dX15_init_0 : decode cX15_init 0 = .ok (.aload_n 0, 1) := dk_42 (dk_at dksX15_init_0 0 rfl rfl)
theorem dX15_init_1 : decode cX15_init 1 = .ok (.aload_n 1, 1) := dk_43 (dk_at dksX15_init_0 1 rfl rfl)
theorem dX15_init_2 : decode cX15_init 2 = .ok (.putfield 3, 3) := dk_181 0 3 (dk_at dksX15_init_0 2 rfl rfl)
theorem dX15_init_5 : decode cX15_init 5 = .ok (.aload_n 0, 1) := dk_42 (dk_at dksX15_init_0 5 rfl rfl)
theorem dX15_init_6 : decode cX15_init 6 = .ok (.aload_n 1, 1) := dk_43 (dk_at dksX15_init_0 6 rfl rfl)
theorem dX15_init_7 : decode cX15_init 7 = .ok (.iload_n 2, 1) := dk_28 (dk_at dksX15_init_0 7 rfl rfl)
theorem dX15_init_8 : decode cX15_init 8 = .ok (.invokespecial 9, 3) := dk_183 0 9 (dk_at dksX15_init_0 8 rfl rfl)
theorem dX15_init_11 : decode cX15_init 11 = .ok (.return_, 1) := dk_177 (dk_at dksX15_init_0 11 rfl rfl)
abbrev cX15_comes : ByteArray := prog_10_method_4_code
def yX15_comes : MethodName := ⟨RX15, "comes", "(I)I"⟩
def dkwX15_comes_0 : List UInt8 := [42, 16, 20, 182, 0, 19, 42, 27, 183, 0, 23, 6, 96, 172]
abbrev dktX15_comes_0 : List UInt8 := dkwX15_comes_0 ++ []
theorem dksX15_comes_0 : cX15_comes.data.toList.drop 0 = dktX15_comes_0 := by decide +kernel
theorem dX15_comes_0 : decode cX15_comes 0 = .ok (.aload_n 0, 1) := dk_42 (dk_at dksX15_comes_0 0 rfl rfl)
theorem dX15_comes_1 : decode cX15_comes 1 = .ok (.bipush 20, 2) := dk_16 20 (dk_at dksX15_comes_0 1 rfl rfl)
theorem dX15_comes_3 : decode cX15_comes 3 = .ok (.invokevirtual 19, 3) := dk_182 0 19 (dk_at dksX15_comes_0 3 rfl rfl)
theorem dX15_comes_6 : decode cX15_comes 6 = .ok (.aload_n 0, 1) := dk_42 (dk_at dksX15_comes_0 6 rfl rfl)
theorem dX15_comes_7 : decode cX15_comes 7 = .ok (.iload_n 1, 1) := dk_27 (dk_at dksX15_comes_0 7 rfl rfl)
theorem dX15_comes_8 : decode cX15_comes 8 = .ok (.invokespecial 23, 3) := dk_183 0 23 (dk_at dksX15_comes_0 8 rfl rfl)
theorem dX15_comes_11 : decode cX15_comes 11 = .ok (.iconst 3, 1) := dk_6 (dk_at dksX15_comes_0 11 rfl rfl)
theorem dX15_comes_12 : decode cX15_comes 12 = .ok (.iadd, 1) := dk_96 (dk_at dksX15_comes_0 12 rfl rfl)
theorem dX15_comes_13 : decode cX15_comes 13 = .ok (.ireturn, 1) := dk_172 (dk_at dksX15_comes_0 13 rfl rfl)
abbrev cX15_isUnder : ByteArray := prog_10_method_3_code
def yX15_isUnder : MethodName := ⟨RX15, "isUnder", "(I)Z"⟩
def dkwX15_isUnder_0 : List UInt8 := [27, 4, 159, 0, 11, 42, 27, 183, 0, 15, 153, 0, 7, 4, 167, 0, 4, 3, 172]
abbrev dktX15_isUnder_0 : List UInt8 := dkwX15_isUnder_0 ++ []
theorem dksX15_isUnder_0 : cX15_isUnder.data.toList.drop 0 = dktX15_isUnder_0 := by decide +kernel
theorem dX15_isUnder_0 : decode cX15_isUnder 0 = .ok (.iload_n 1, 1) := dk_27 (dk_at dksX15_isUnder_0 0 rfl rfl)
theorem dX15_isUnder_1 : decode cX15_isUnder 1 = .ok (.iconst 1, 1) := dk_4 (dk_at dksX15_isUnder_0 1 rfl rfl)
theorem dX15_isUnder_2 : decode cX15_isUnder 2 = .ok (.if_icmp .eq 11, 3) := dk_159 0 11 (dk_at dksX15_isUnder_0 2 rfl rfl)
theorem dX15_isUnder_5 : decode cX15_isUnder 5 = .ok (.aload_n 0, 1) := dk_42 (dk_at dksX15_isUnder_0 5 rfl rfl)
theorem dX15_isUnder_6 : decode cX15_isUnder 6 = .ok (.iload_n 1, 1) := dk_27 (dk_at dksX15_isUnder_0 6 rfl rfl)
theorem dX15_isUnder_7 : decode cX15_isUnder 7 = .ok (.invokespecial 15, 3) := dk_183 0 15 (dk_at dksX15_isUnder_0 7 rfl rfl)
theorem dX15_isUnder_10 : decode cX15_isUnder 10 = .ok (.ifCond .eq 7, 3) := dk_153 0 7 (dk_at dksX15_isUnder_0 10 rfl rfl)
theorem dX15_isUnder_13 : decode cX15_isUnder 13 = .ok (.iconst 1, 1) := dk_4 (dk_at dksX15_isUnder_0 13 rfl rfl)
theorem dX15_isUnder_14 : decode cX15_isUnder 14 = .ok (.goto 4, 3) := dk_167 0 4 (dk_at dksX15_isUnder_0 14 rfl rfl)
theorem dX15_isUnder_17 : decode cX15_isUnder 17 = .ok (.iconst 0, 1) := dk_3 (dk_at dksX15_isUnder_0 17 rfl rfl)
theorem dX15_isUnder_18 : decode cX15_isUnder 18 = .ok (.ireturn, 1) := dk_172 (dk_at dksX15_isUnder_0 18 rfl rfl)
abbrev cX15_kind : ByteArray := prog_10_method_2_code
def yX15_kind : MethodName := ⟨RX15, "kind", "()I"⟩
theorem dX15_kind_0 : decode cX15_kind 0 = .ok (.iconst 1, 1) := by decide +kernel
theorem dX15_kind_1 : decode cX15_kind 1 = .ok (.ireturn, 1) := by decide +kernel
theorem q115 : (Jvm.Cond.initialized "LeftAsFound$FoundStay") ∈ lw_all := lw_g (lw_at lw_m1 21 rfl) rfl
theorem q868 : (Jvm.Cond.instantiable "LeftAsFound$FoundStay" (3 : Nat)) ∈ lw_all := lw_g (lw_at lw_m4 54 rfl) rfl
theorem q870 : (Jvm.Cond.instanceMethod ({ cls := "LeftAsFound$FoundStay", name := "<init>", desc := "(LLeftAsFound;I)V" } : Jvm.MethodName)) ∈ lw_all := lw_g (lw_at lw_m4 56 rfl) rfl
theorem q871 : (Jvm.Cond.code ({ cls := "LeftAsFound$FoundStay", name := "<init>", desc := "(LLeftAsFound;I)V" } : Jvm.MethodName) prog_10_method_1_code (3 : Nat) (Option.none : Option Jvm.ClassFile.FieldType)) ∈ lw_all := lw_g (lw_at lw_m4 57 rfl) rfl
theorem q872 : (Jvm.Cond.methodLink "LeftAsFound$FoundStay" (9 : Nat) ({ cls := "LeftAsFound$Body", name := "<init>", desc := "(LLeftAsFound;I)V" } : Jvm.MethodName)) ∈ lw_all := lw_g (lw_at lw_m4 58 rfl) rfl
theorem q876 : (Jvm.Cond.fieldLink "LeftAsFound$FoundStay" (3 : Nat) "LeftAsFound$FoundStay" "this$0" "LLeftAsFound;") ∈ lw_all := lw_g (lw_at lw_m4 62 rfl) rfl
theorem q879 : (Jvm.Cond.laysFinal "LeftAsFound$FoundStay" "LeftAsFound$FoundStay" "this$0" "LLeftAsFound;") ∈ lw_all := lw_g (lw_at lw_m4 65 rfl) rfl
theorem q880 : (Jvm.Cond.soleField "LeftAsFound$FoundStay" "this$0") ∈ lw_all := lw_g (lw_at lw_m4 66 rfl) rfl
theorem q881 : (Jvm.Cond.laysFinal "LeftAsFound$FoundStay" "LeftAsFound$Body" "number" "I") ∈ lw_all := lw_g (lw_at lw_m4 67 rfl) rfl
theorem q883 : (Jvm.Cond.laysFinal "LeftAsFound$FoundStay" "LeftAsFound$Body" "this$0" "LLeftAsFound;") ∈ lw_all := lw_g (lw_at lw_m4 69 rfl) rfl
theorem q885 : (Jvm.Cond.superclass "LeftAsFound$FoundStay" "LeftAsFound$Body") ∈ lw_all := lw_g (lw_at lw_m4 71 rfl) rfl
theorem q1003 : (Jvm.Cond.castable "LeftAsFound$FoundStay" "LeftAsFound$Comes") ∈ lw_tbl := lw_at lw_m4 189 rfl
theorem q1004 : (Jvm.Cond.selects "LeftAsFound$FoundStay" ({ cls := "LeftAsFound$Comes", name := "begins", desc := "(I)V" } : Jvm.MethodName) ({ cls := "LeftAsFound$Body", name := "begins", desc := "(I)V" } : Jvm.MethodName)) ∈ lw_all := lw_g (lw_at lw_m4 190 rfl) rfl
theorem q1005 : (Jvm.Cond.unhidden "LeftAsFound$FoundStay" "begins" "(I)V") ∈ lw_tbl := lw_at lw_m4 191 rfl
theorem q1031 : (Jvm.Cond.selects "LeftAsFound$FoundStay" ({ cls := "LeftAsFound$Comes", name := "number", desc := "()I" } : Jvm.MethodName) ({ cls := "LeftAsFound$Body", name := "number", desc := "()I" } : Jvm.MethodName)) ∈ lw_all := lw_g (lw_at lw_m4 217 rfl) rfl
theorem q1032 : (Jvm.Cond.unhidden "LeftAsFound$FoundStay" "number" "()I") ∈ lw_tbl := lw_at lw_m4 218 rfl
theorem q1043 : (Jvm.Cond.selects "LeftAsFound$FoundStay" ({ cls := "LeftAsFound$Comes", name := "comes", desc := "(I)I" } : Jvm.MethodName) ({ cls := "LeftAsFound$FoundStay", name := "comes", desc := "(I)I" } : Jvm.MethodName)) ∈ lw_all := lw_g (lw_at lw_m4 229 rfl) rfl
theorem q1044 : (Jvm.Cond.instanceMethod ({ cls := "LeftAsFound$FoundStay", name := "comes", desc := "(I)I" } : Jvm.MethodName)) ∈ lw_all := lw_g (lw_at lw_m4 230 rfl) rfl
theorem q1045 : (Jvm.Cond.code ({ cls := "LeftAsFound$FoundStay", name := "comes", desc := "(I)I" } : Jvm.MethodName) prog_10_method_4_code (2 : Nat) (Option.some Jvm.ClassFile.FieldType.int)) ∈ lw_all := lw_g (lw_at lw_m4 231 rfl) rfl
theorem q1046 : (Jvm.Cond.methodLink "LeftAsFound$FoundStay" (19 : Nat) ({ cls := "LeftAsFound$FoundStay", name := "begins", desc := "(I)V" } : Jvm.MethodName)) ∈ lw_all := lw_g (lw_at lw_m4 232 rfl) rfl
theorem q1047 : (Jvm.Cond.sameMethod "LeftAsFound$FoundStay" "LeftAsFound$Body" "begins" "(I)V") ∈ lw_all := lw_g (lw_at lw_m4 233 rfl) rfl
theorem q1048 : (Jvm.Cond.selects "LeftAsFound$FoundStay" ({ cls := "LeftAsFound$FoundStay", name := "begins", desc := "(I)V" } : Jvm.MethodName) ({ cls := "LeftAsFound$Body", name := "begins", desc := "(I)V" } : Jvm.MethodName)) ∈ lw_all := lw_g (lw_at lw_m4 234 rfl) rfl
theorem q1082 : (Jvm.Cond.selects "LeftAsFound$FoundStay" ({ cls := "LeftAsFound$Body", name := "leaves", desc := "(I)I" } : Jvm.MethodName) ({ cls := "LeftAsFound$Body", name := "leaves", desc := "(I)I" } : Jvm.MethodName)) ∈ lw_all := lw_g (lw_at lw_m5 28 rfl) rfl
theorem q1115 : (Jvm.Cond.unhidden "LeftAsFound$FoundStay" "tells" "(I)I") ∈ lw_tbl := lw_at lw_m5 61 rfl
theorem q1135 : (Jvm.Cond.castable "LeftAsFound$FoundStay" "LeftAsFound$Tells") ∈ lw_tbl := lw_at lw_m5 81 rfl
theorem q1136 : (Jvm.Cond.selects "LeftAsFound$FoundStay" ({ cls := "LeftAsFound$Tells", name := "begins", desc := "(I)V" } : Jvm.MethodName) ({ cls := "LeftAsFound$Body", name := "begins", desc := "(I)V" } : Jvm.MethodName)) ∈ lw_all := lw_g (lw_at lw_m5 82 rfl) rfl
theorem q1157 : (Jvm.Cond.selects "LeftAsFound$FoundStay" ({ cls := "LeftAsFound$Tells", name := "leaves", desc := "(I)I" } : Jvm.MethodName) ({ cls := "LeftAsFound$Body", name := "leaves", desc := "(I)I" } : Jvm.MethodName)) ∈ lw_all := lw_g (lw_at lw_m5 103 rfl) rfl
theorem q1158 : (Jvm.Cond.unhidden "LeftAsFound$FoundStay" "leaves" "(I)I") ∈ lw_tbl := lw_at lw_m5 104 rfl
theorem q1181 : (Jvm.Cond.selects "LeftAsFound$FoundStay" ({ cls := "LeftAsFound$Tells", name := "sees", desc := "(I)I" } : Jvm.MethodName) ({ cls := "LeftAsFound$Body", name := "sees", desc := "(I)I" } : Jvm.MethodName)) ∈ lw_all := lw_g (lw_at lw_m5 127 rfl) rfl
theorem q1182 : (Jvm.Cond.unhidden "LeftAsFound$FoundStay" "sees" "(I)I") ∈ lw_tbl := lw_at lw_m5 128 rfl
theorem q1252 : (Jvm.Cond.selects "LeftAsFound$FoundStay" ({ cls := "LeftAsFound$Body", name := "isUnder", desc := "(I)Z" } : Jvm.MethodName) ({ cls := "LeftAsFound$FoundStay", name := "isUnder", desc := "(I)Z" } : Jvm.MethodName)) ∈ lw_all := lw_g (lw_at lw_m5 198 rfl) rfl
theorem q1253 : (Jvm.Cond.instanceMethod ({ cls := "LeftAsFound$FoundStay", name := "isUnder", desc := "(I)Z" } : Jvm.MethodName)) ∈ lw_all := lw_g (lw_at lw_m5 199 rfl) rfl
theorem q1254 : (Jvm.Cond.code ({ cls := "LeftAsFound$FoundStay", name := "isUnder", desc := "(I)Z" } : Jvm.MethodName) prog_10_method_3_code (2 : Nat) (Option.some Jvm.ClassFile.FieldType.boolean)) ∈ lw_all := lw_g (lw_at lw_m5 200 rfl) rfl
theorem q1255 : (Jvm.Cond.methodLink "LeftAsFound$FoundStay" (15 : Nat) ({ cls := "LeftAsFound$Body", name := "isUnder", desc := "(I)Z" } : Jvm.MethodName)) ∈ lw_all := lw_g (lw_at lw_m5 201 rfl) rfl
theorem q1280 : (Jvm.Cond.selects "LeftAsFound$FoundStay" ({ cls := "LeftAsFound$Body", name := "kind", desc := "()I" } : Jvm.MethodName) ({ cls := "LeftAsFound$FoundStay", name := "kind", desc := "()I" } : Jvm.MethodName)) ∈ lw_all := lw_g (lw_at lw_m5 226 rfl) rfl
theorem q1281 : (Jvm.Cond.instanceMethod ({ cls := "LeftAsFound$FoundStay", name := "kind", desc := "()I" } : Jvm.MethodName)) ∈ lw_all := lw_g (lw_at lw_m5 227 rfl) rfl
theorem q1282 : (Jvm.Cond.code ({ cls := "LeftAsFound$FoundStay", name := "kind", desc := "()I" } : Jvm.MethodName) prog_10_method_2_code (1 : Nat) (Option.some Jvm.ClassFile.FieldType.int)) ∈ lw_all := lw_g (lw_at lw_m5 228 rfl) rfl
theorem q1913 : (Jvm.Cond.selects "LeftAsFound$FoundStay" ({ cls := "LeftAsFound$Body", name := "begins", desc := "(I)V" } : Jvm.MethodName) ({ cls := "LeftAsFound$Body", name := "begins", desc := "(I)V" } : Jvm.MethodName)) ∈ lw_all := lw_g (lw_at lw_m8 139 rfl) rfl
theorem q1922 : (Jvm.Cond.selects "LeftAsFound$FoundStay" ({ cls := "LeftAsFound$Body", name := "sees", desc := "(I)I" } : Jvm.MethodName) ({ cls := "LeftAsFound$Body", name := "sees", desc := "(I)I" } : Jvm.MethodName)) ∈ lw_all := lw_g (lw_at lw_m8 148 rfl) rfl
theorem q1930 : (Jvm.Cond.sameMethod "LeftAsFound$FoundStay" "LeftAsFound$FoundStay" "isUnder" "(I)Z") ∈ lw_all := lw_g (lw_at lw_m8 156 rfl) rfl
theorem q1934 : (Jvm.Cond.castable "LeftAsFound$FoundStay" "LeftAsFound$Body") ∈ lw_tbl := lw_at lw_m8 160 rfl
theorem q1952 : (Jvm.Cond.castable "LeftAsFound$FoundStay" "java/lang/Object") ∈ lw_tbl := lw_at lw_m8 178 rfl
theorem in_X15 : ∀ w ∈ wsX150, w ∈ lw_all := lw_in wsX150 [881, 883, 879] (by decide +kernel) (by decide +kernel)

/-! LeftAsFound$TakenStay -/
set_option maxRecDepth 100000
def RX16 : String := "LeftAsFound$TakenStay"
def TX16 : u_T := fun k => match k with
  | 0 => ("LeftAsFound$Body", "number", "I", true)
  | 1 => ("LeftAsFound$Body", "this$0", "LLeftAsFound;", true)
  | _ => ("LeftAsFound$TakenStay", "this$0", "LLeftAsFound;", true)
def tyX16 : Nat → FieldType := fun k => match k with
  | 0 => .int
  | 1 => .object "LeftAsFound"
  | _ => .object "LeftAsFound"
abbrev wsX160 : List Cond := u_ws RX16 TX16 3
-- two fields of one name: no nmX16
theorem tyX16_ok : ∀ k, k < 3 → parseFieldDescriptor (TX16 k).2.2.1 = some (tyX16 k) := by decide +kernel
abbrev cX16_init : ByteArray := prog_19_method_1_code
def yX16_init : MethodName := ⟨RX16, "<init>", "(LLeftAsFound;I)V"⟩
def dkwX16_init_0 : List UInt8 := [42, 43, 181, 0, 3, 42, 43, 28, 183, 0, 9, 177]
abbrev dktX16_init_0 : List UInt8 := dkwX16_init_0 ++ []
theorem dksX16_init_0 : cX16_init.data.toList.drop 0 = dktX16_init_0 := by decide +kernel
theorem dX16_init_0 : decode cX16_init 0 = .ok (.aload_n 0, 1) := dk_42 (dk_at dksX16_init_0 0 rfl rfl)
theorem dX16_init_1 : decode cX16_init 1 = .ok (.aload_n 1, 1) := dk_43 (dk_at dksX16_init_0 1 rfl rfl)
theorem dX16_init_2 : decode cX16_init 2 = .ok (.putfield 3, 3) := dk_181 0 3 (dk_at dksX16_init_0 2 rfl rfl)
theorem dX16_init_5 : decode cX16_init 5 = .ok (.aload_n 0, 1) := dk_42 (dk_at dksX16_init_0 5 rfl rfl)
theorem dX16_init_6 : decode cX16_init 6 = .ok (.aload_n 1, 1) := dk_43 (dk_at dksX16_init_0 6 rfl rfl)
theorem dX16_init_7 : decode cX16_init 7 = .ok (.iload_n 2, 1) := dk_28 (dk_at dksX16_init_0 7 rfl rfl)
theorem dX16_init_8 : decode cX16_init 8 = .ok (.invokespecial 9, 3) := dk_183 0 9 (dk_at dksX16_init_0 8 rfl rfl)
theorem dX16_init_11 : decode cX16_init 11 = .ok (.return_, 1) := dk_177 (dk_at dksX16_init_0 11 rfl rfl)
abbrev cX16_leaves : ByteArray := prog_19_method_4_code
def yX16_leaves : MethodName := ⟨RX16, "leaves", "(I)I"⟩
def dkwX16_leaves_0 : List UInt8 := [42, 16, 30, 182, 0, 19, 42, 27, 183, 0, 23, 116, 172]
abbrev dktX16_leaves_0 : List UInt8 := dkwX16_leaves_0 ++ []
theorem dksX16_leaves_0 : cX16_leaves.data.toList.drop 0 = dktX16_leaves_0 := by decide +kernel
theorem dX16_leaves_0 : decode cX16_leaves 0 = .ok (.aload_n 0, 1) := dk_42 (dk_at dksX16_leaves_0 0 rfl rfl)
theorem dX16_leaves_1 : decode cX16_leaves 1 = .ok (.bipush 30, 2) := dk_16 30 (dk_at dksX16_leaves_0 1 rfl rfl)
theorem dX16_leaves_3 : decode cX16_leaves 3 = .ok (.invokevirtual 19, 3) := dk_182 0 19 (dk_at dksX16_leaves_0 3 rfl rfl)
theorem dX16_leaves_6 : decode cX16_leaves 6 = .ok (.aload_n 0, 1) := dk_42 (dk_at dksX16_leaves_0 6 rfl rfl)
theorem dX16_leaves_7 : decode cX16_leaves 7 = .ok (.iload_n 1, 1) := dk_27 (dk_at dksX16_leaves_0 7 rfl rfl)
theorem dX16_leaves_8 : decode cX16_leaves 8 = .ok (.invokespecial 23, 3) := dk_183 0 23 (dk_at dksX16_leaves_0 8 rfl rfl)
theorem dX16_leaves_11 : decode cX16_leaves 11 = .ok (.ineg, 1) := dk_116 (dk_at dksX16_leaves_0 11 rfl rfl)
theorem dX16_leaves_12 : decode cX16_leaves 12 = .ok (.ireturn, 1) := dk_172 (dk_at dksX16_leaves_0 12 rfl rfl)
abbrev cX16_isUnder : ByteArray := prog_19_method_3_code
def yX16_isUnder : MethodName := ⟨RX16, "isUnder", "(I)Z"⟩
def dkwX16_isUnder_0 : List UInt8 := [27, 5, 159, 0, 11, 42, 27, 183, 0, 15, 153, 0, 7, 4, 167, 0, 4, 3, 172]
abbrev dktX16_isUnder_0 : List UInt8 := dkwX16_isUnder_0 ++ []
theorem dksX16_isUnder_0 : cX16_isUnder.data.toList.drop 0 = dktX16_isUnder_0 := by decide +kernel
theorem dX16_isUnder_0 : decode cX16_isUnder 0 = .ok (.iload_n 1, 1) := dk_27 (dk_at dksX16_isUnder_0 0 rfl rfl)
theorem dX16_isUnder_1 : decode cX16_isUnder 1 = .ok (.iconst 2, 1) := dk_5 (dk_at dksX16_isUnder_0 1 rfl rfl)
theorem dX16_isUnder_2 : decode cX16_isUnder 2 = .ok (.if_icmp .eq 11, 3) := dk_159 0 11 (dk_at dksX16_isUnder_0 2 rfl rfl)
theorem dX16_isUnder_5 : decode cX16_isUnder 5 = .ok (.aload_n 0, 1) := dk_42 (dk_at dksX16_isUnder_0 5 rfl rfl)
theorem dX16_isUnder_6 : decode cX16_isUnder 6 = .ok (.iload_n 1, 1) := dk_27 (dk_at dksX16_isUnder_0 6 rfl rfl)
theorem dX16_isUnder_7 : decode cX16_isUnder 7 = .ok (.invokespecial 15, 3) := dk_183 0 15 (dk_at dksX16_isUnder_0 7 rfl rfl)
theorem dX16_isUnder_10 : decode cX16_isUnder 10 = .ok (.ifCond .eq 7, 3) := dk_153 0 7 (dk_at dksX16_isUnder_0 10 rfl rfl)
theorem dX16_isUnder_13 : decode cX16_isUnder 13 = .ok (.iconst 1, 1) := dk_4 (dk_at dksX16_isUnder_0 13 rfl rfl)
theorem dX16_isUnder_14 : decode cX16_isUnder 14 = .ok (.goto 4, 3) := dk_167 0 4 (dk_at dksX16_isUnder_0 14 rfl rfl)
theorem dX16_isUnder_17 : decode cX16_isUnder 17 = .ok (.iconst 0, 1) := dk_3 (dk_at dksX16_isUnder_0 17 rfl rfl)
theorem dX16_isUnder_18 : decode cX16_isUnder 18 = .ok (.ireturn, 1) := dk_172 (dk_at dksX16_isUnder_0 18 rfl rfl)
abbrev cX16_kind : ByteArray := prog_19_method_2_code
def yX16_kind : MethodName := ⟨RX16, "kind", "()I"⟩
theorem dX16_kind_0 : decode cX16_kind 0 = .ok (.iconst 2, 1) := by decide +kernel
theorem dX16_kind_1 : decode cX16_kind 1 = .ok (.ireturn, 1) := by decide +kernel
theorem q116 : (Jvm.Cond.initialized "LeftAsFound$TakenStay") ∈ lw_all := lw_g (lw_at lw_m1 22 rfl) rfl
theorem q887 : (Jvm.Cond.instantiable "LeftAsFound$TakenStay" (3 : Nat)) ∈ lw_all := lw_g (lw_at lw_m4 73 rfl) rfl
theorem q889 : (Jvm.Cond.instanceMethod ({ cls := "LeftAsFound$TakenStay", name := "<init>", desc := "(LLeftAsFound;I)V" } : Jvm.MethodName)) ∈ lw_all := lw_g (lw_at lw_m4 75 rfl) rfl
theorem q890 : (Jvm.Cond.code ({ cls := "LeftAsFound$TakenStay", name := "<init>", desc := "(LLeftAsFound;I)V" } : Jvm.MethodName) prog_19_method_1_code (3 : Nat) (Option.none : Option Jvm.ClassFile.FieldType)) ∈ lw_all := lw_g (lw_at lw_m4 76 rfl) rfl
theorem q891 : (Jvm.Cond.methodLink "LeftAsFound$TakenStay" (9 : Nat) ({ cls := "LeftAsFound$Body", name := "<init>", desc := "(LLeftAsFound;I)V" } : Jvm.MethodName)) ∈ lw_all := lw_g (lw_at lw_m4 77 rfl) rfl
theorem q892 : (Jvm.Cond.fieldLink "LeftAsFound$TakenStay" (3 : Nat) "LeftAsFound$TakenStay" "this$0" "LLeftAsFound;") ∈ lw_all := lw_g (lw_at lw_m4 78 rfl) rfl
theorem q893 : (Jvm.Cond.laysFinal "LeftAsFound$TakenStay" "LeftAsFound$TakenStay" "this$0" "LLeftAsFound;") ∈ lw_all := lw_g (lw_at lw_m4 79 rfl) rfl
theorem q894 : (Jvm.Cond.soleField "LeftAsFound$TakenStay" "this$0") ∈ lw_all := lw_g (lw_at lw_m4 80 rfl) rfl
theorem q895 : (Jvm.Cond.laysFinal "LeftAsFound$TakenStay" "LeftAsFound$Body" "number" "I") ∈ lw_all := lw_g (lw_at lw_m4 81 rfl) rfl
theorem q896 : (Jvm.Cond.laysFinal "LeftAsFound$TakenStay" "LeftAsFound$Body" "this$0" "LLeftAsFound;") ∈ lw_all := lw_g (lw_at lw_m4 82 rfl) rfl
theorem q897 : (Jvm.Cond.superclass "LeftAsFound$TakenStay" "LeftAsFound$Body") ∈ lw_all := lw_g (lw_at lw_m4 83 rfl) rfl
theorem q1012 : (Jvm.Cond.castable "LeftAsFound$TakenStay" "LeftAsFound$Comes") ∈ lw_tbl := lw_at lw_m4 198 rfl
theorem q1013 : (Jvm.Cond.selects "LeftAsFound$TakenStay" ({ cls := "LeftAsFound$Comes", name := "begins", desc := "(I)V" } : Jvm.MethodName) ({ cls := "LeftAsFound$Body", name := "begins", desc := "(I)V" } : Jvm.MethodName)) ∈ lw_all := lw_g (lw_at lw_m4 199 rfl) rfl
theorem q1014 : (Jvm.Cond.unhidden "LeftAsFound$TakenStay" "begins" "(I)V") ∈ lw_tbl := lw_at lw_m4 200 rfl
theorem q1037 : (Jvm.Cond.selects "LeftAsFound$TakenStay" ({ cls := "LeftAsFound$Comes", name := "number", desc := "()I" } : Jvm.MethodName) ({ cls := "LeftAsFound$Body", name := "number", desc := "()I" } : Jvm.MethodName)) ∈ lw_all := lw_g (lw_at lw_m4 223 rfl) rfl
theorem q1038 : (Jvm.Cond.unhidden "LeftAsFound$TakenStay" "number" "()I") ∈ lw_tbl := lw_at lw_m4 224 rfl
theorem q1058 : (Jvm.Cond.unhidden "LeftAsFound$TakenStay" "comes" "(I)I") ∈ lw_tbl := lw_at lw_m5 4 rfl
theorem q1074 : (Jvm.Cond.instanceMethod ({ cls := "LeftAsFound$TakenStay", name := "leaves", desc := "(I)I" } : Jvm.MethodName)) ∈ lw_all := lw_g (lw_at lw_m5 20 rfl) rfl
theorem q1075 : (Jvm.Cond.code ({ cls := "LeftAsFound$TakenStay", name := "leaves", desc := "(I)I" } : Jvm.MethodName) prog_19_method_4_code (2 : Nat) (Option.some Jvm.ClassFile.FieldType.int)) ∈ lw_all := lw_g (lw_at lw_m5 21 rfl) rfl
theorem q1076 : (Jvm.Cond.methodLink "LeftAsFound$TakenStay" (19 : Nat) ({ cls := "LeftAsFound$TakenStay", name := "begins", desc := "(I)V" } : Jvm.MethodName)) ∈ lw_all := lw_g (lw_at lw_m5 22 rfl) rfl
theorem q1077 : (Jvm.Cond.sameMethod "LeftAsFound$TakenStay" "LeftAsFound$Body" "begins" "(I)V") ∈ lw_all := lw_g (lw_at lw_m5 23 rfl) rfl
theorem q1079 : (Jvm.Cond.selects "LeftAsFound$TakenStay" ({ cls := "LeftAsFound$TakenStay", name := "begins", desc := "(I)V" } : Jvm.MethodName) ({ cls := "LeftAsFound$Body", name := "begins", desc := "(I)V" } : Jvm.MethodName)) ∈ lw_all := lw_g (lw_at lw_m5 25 rfl) rfl
theorem q1081 : (Jvm.Cond.methodLink "LeftAsFound$TakenStay" (23 : Nat) ({ cls := "LeftAsFound$Body", name := "leaves", desc := "(I)I" } : Jvm.MethodName)) ∈ lw_all := lw_g (lw_at lw_m5 27 rfl) rfl
theorem q1097 : (Jvm.Cond.selects "LeftAsFound$TakenStay" ({ cls := "LeftAsFound$Body", name := "leaves", desc := "(I)I" } : Jvm.MethodName) ({ cls := "LeftAsFound$TakenStay", name := "leaves", desc := "(I)I" } : Jvm.MethodName)) ∈ lw_all := lw_g (lw_at lw_m5 43 rfl) rfl
theorem q1104 : (Jvm.Cond.sameMethod "LeftAsFound$TakenStay" "LeftAsFound$Body" "sees" "(I)I") ∈ lw_all := lw_g (lw_at lw_m5 50 rfl) rfl
theorem q1141 : (Jvm.Cond.castable "LeftAsFound$TakenStay" "LeftAsFound$Tells") ∈ lw_tbl := lw_at lw_m5 87 rfl
theorem q1142 : (Jvm.Cond.selects "LeftAsFound$TakenStay" ({ cls := "LeftAsFound$Tells", name := "begins", desc := "(I)V" } : Jvm.MethodName) ({ cls := "LeftAsFound$Body", name := "begins", desc := "(I)V" } : Jvm.MethodName)) ∈ lw_all := lw_g (lw_at lw_m5 88 rfl) rfl
theorem q1164 : (Jvm.Cond.selects "LeftAsFound$TakenStay" ({ cls := "LeftAsFound$Tells", name := "leaves", desc := "(I)I" } : Jvm.MethodName) ({ cls := "LeftAsFound$TakenStay", name := "leaves", desc := "(I)I" } : Jvm.MethodName)) ∈ lw_all := lw_g (lw_at lw_m5 110 rfl) rfl
theorem q1165 : (Jvm.Cond.unhidden "LeftAsFound$TakenStay" "leaves" "(I)I") ∈ lw_tbl := lw_at lw_m5 111 rfl
theorem q1166 : (Jvm.Cond.publicMethod ({ cls := "LeftAsFound$TakenStay", name := "leaves", desc := "(I)I" } : Jvm.MethodName)) ∈ lw_tbl := lw_at lw_m5 112 rfl
theorem q1187 : (Jvm.Cond.selects "LeftAsFound$TakenStay" ({ cls := "LeftAsFound$Tells", name := "sees", desc := "(I)I" } : Jvm.MethodName) ({ cls := "LeftAsFound$Body", name := "sees", desc := "(I)I" } : Jvm.MethodName)) ∈ lw_all := lw_g (lw_at lw_m5 133 rfl) rfl
theorem q1188 : (Jvm.Cond.unhidden "LeftAsFound$TakenStay" "sees" "(I)I") ∈ lw_tbl := lw_at lw_m5 134 rfl
theorem q1192 : (Jvm.Cond.unhidden "LeftAsFound$TakenStay" "tells" "(I)I") ∈ lw_tbl := lw_at lw_m5 138 rfl
theorem q1249 : (Jvm.Cond.instanceMethod ({ cls := "LeftAsFound$TakenStay", name := "isUnder", desc := "(I)Z" } : Jvm.MethodName)) ∈ lw_all := lw_g (lw_at lw_m5 195 rfl) rfl
theorem q1250 : (Jvm.Cond.code ({ cls := "LeftAsFound$TakenStay", name := "isUnder", desc := "(I)Z" } : Jvm.MethodName) prog_19_method_3_code (2 : Nat) (Option.some Jvm.ClassFile.FieldType.boolean)) ∈ lw_all := lw_g (lw_at lw_m5 196 rfl) rfl
theorem q1251 : (Jvm.Cond.methodLink "LeftAsFound$TakenStay" (15 : Nat) ({ cls := "LeftAsFound$Body", name := "isUnder", desc := "(I)Z" } : Jvm.MethodName)) ∈ lw_all := lw_g (lw_at lw_m5 197 rfl) rfl
theorem q1264 : (Jvm.Cond.selects "LeftAsFound$TakenStay" ({ cls := "LeftAsFound$Body", name := "isUnder", desc := "(I)Z" } : Jvm.MethodName) ({ cls := "LeftAsFound$TakenStay", name := "isUnder", desc := "(I)Z" } : Jvm.MethodName)) ∈ lw_all := lw_g (lw_at lw_m5 210 rfl) rfl
theorem q1289 : (Jvm.Cond.selects "LeftAsFound$TakenStay" ({ cls := "LeftAsFound$Body", name := "kind", desc := "()I" } : Jvm.MethodName) ({ cls := "LeftAsFound$TakenStay", name := "kind", desc := "()I" } : Jvm.MethodName)) ∈ lw_all := lw_g (lw_at lw_m5 235 rfl) rfl
theorem q1290 : (Jvm.Cond.instanceMethod ({ cls := "LeftAsFound$TakenStay", name := "kind", desc := "()I" } : Jvm.MethodName)) ∈ lw_all := lw_g (lw_at lw_m5 236 rfl) rfl
theorem q1291 : (Jvm.Cond.code ({ cls := "LeftAsFound$TakenStay", name := "kind", desc := "()I" } : Jvm.MethodName) prog_19_method_2_code (1 : Nat) (Option.some Jvm.ClassFile.FieldType.int)) ∈ lw_all := lw_g (lw_at lw_m5 237 rfl) rfl
theorem q1908 : (Jvm.Cond.sameMethod "LeftAsFound$TakenStay" "LeftAsFound$TakenStay" "leaves" "(I)I") ∈ lw_all := lw_g (lw_at lw_m8 134 rfl) rfl
theorem q1916 : (Jvm.Cond.selects "LeftAsFound$TakenStay" ({ cls := "LeftAsFound$Body", name := "begins", desc := "(I)V" } : Jvm.MethodName) ({ cls := "LeftAsFound$Body", name := "begins", desc := "(I)V" } : Jvm.MethodName)) ∈ lw_all := lw_g (lw_at lw_m8 142 rfl) rfl
theorem q1925 : (Jvm.Cond.selects "LeftAsFound$TakenStay" ({ cls := "LeftAsFound$Body", name := "sees", desc := "(I)I" } : Jvm.MethodName) ({ cls := "LeftAsFound$Body", name := "sees", desc := "(I)I" } : Jvm.MethodName)) ∈ lw_all := lw_g (lw_at lw_m8 151 rfl) rfl
theorem q1928 : (Jvm.Cond.sameMethod "LeftAsFound$TakenStay" "LeftAsFound$TakenStay" "isUnder" "(I)Z") ∈ lw_all := lw_g (lw_at lw_m8 154 rfl) rfl
theorem q1937 : (Jvm.Cond.castable "LeftAsFound$TakenStay" "LeftAsFound$Body") ∈ lw_tbl := lw_at lw_m8 163 rfl
theorem q1953 : (Jvm.Cond.castable "LeftAsFound$TakenStay" "java/lang/Object") ∈ lw_tbl := lw_at lw_m8 179 rfl
theorem in_X16 : ∀ w ∈ wsX160, w ∈ lw_all := lw_in wsX160 [895, 896, 893] (by decide +kernel) (by decide +kernel)

/-! LeftAsFound$BroughtStay -/
set_option maxRecDepth 100000
def RX17 : String := "LeftAsFound$BroughtStay"
def TX17 : u_T := fun k => match k with
  | 0 => ("LeftAsFound$Body", "number", "I", true)
  | 1 => ("LeftAsFound$Body", "this$0", "LLeftAsFound;", true)
  | 2 => ("LeftAsFound$TakenStay", "this$0", "LLeftAsFound;", true)
  | _ => ("LeftAsFound$BroughtStay", "this$0", "LLeftAsFound;", true)
def tyX17 : Nat → FieldType := fun k => match k with
  | 0 => .int
  | 1 => .object "LeftAsFound"
  | 2 => .object "LeftAsFound"
  | _ => .object "LeftAsFound"
abbrev wsX170 : List Cond := u_ws RX17 TX17 4
-- two fields of one name: no nmX17
theorem tyX17_ok : ∀ k, k < 4 → parseFieldDescriptor (TX17 k).2.2.1 = some (tyX17 k) := by decide +kernel
abbrev cX17_init : ByteArray := prog_5_method_1_code
def yX17_init : MethodName := ⟨RX17, "<init>", "(LLeftAsFound;I)V"⟩
def dkwX17_init_0 : List UInt8 := [42, 43, 181, 0, 3, 42, 43, 28, 183, 0, 9, 177]
abbrev dktX17_init_0 : List UInt8 := dkwX17_init_0 ++ []
theorem dksX17_init_0 : cX17_init.data.toList.drop 0 = dktX17_init_0 := by decide +kernel
theorem dX17_init_0 : decode cX17_init 0 = .ok (.aload_n 0, 1) := dk_42 (dk_at dksX17_init_0 0 rfl rfl)
theorem dX17_init_1 : decode cX17_init 1 = .ok (.aload_n 1, 1) := dk_43 (dk_at dksX17_init_0 1 rfl rfl)
theorem dX17_init_2 : decode cX17_init 2 = .ok (.putfield 3, 3) := dk_181 0 3 (dk_at dksX17_init_0 2 rfl rfl)
theorem dX17_init_5 : decode cX17_init 5 = .ok (.aload_n 0, 1) := dk_42 (dk_at dksX17_init_0 5 rfl rfl)
theorem dX17_init_6 : decode cX17_init 6 = .ok (.aload_n 1, 1) := dk_43 (dk_at dksX17_init_0 6 rfl rfl)
theorem dX17_init_7 : decode cX17_init 7 = .ok (.iload_n 2, 1) := dk_28 (dk_at dksX17_init_0 7 rfl rfl)
theorem dX17_init_8 : decode cX17_init 8 = .ok (.invokespecial 9, 3) := dk_183 0 9 (dk_at dksX17_init_0 8 rfl rfl)
theorem dX17_init_11 : decode cX17_init 11 = .ok (.return_, 1) := dk_177 (dk_at dksX17_init_0 11 rfl rfl)
abbrev cX17_leaves : ByteArray := prog_5_method_5_code
def yX17_leaves : MethodName := ⟨RX17, "leaves", "(I)I"⟩
def dkwX17_leaves_0 : List UInt8 := [42, 16, 41, 182, 0, 19, 42, 27, 4, 96, 183, 0, 27, 172]
abbrev dktX17_leaves_0 : List UInt8 := dkwX17_leaves_0 ++ []
theorem dksX17_leaves_0 : cX17_leaves.data.toList.drop 0 = dktX17_leaves_0 := by decide +kernel
theorem dX17_leaves_0 : decode cX17_leaves 0 = .ok (.aload_n 0, 1) := dk_42 (dk_at dksX17_leaves_0 0 rfl rfl)
theorem dX17_leaves_1 : decode cX17_leaves 1 = .ok (.bipush 41, 2) := dk_16 41 (dk_at dksX17_leaves_0 1 rfl rfl)
theorem dX17_leaves_3 : decode cX17_leaves 3 = .ok (.invokevirtual 19, 3) := dk_182 0 19 (dk_at dksX17_leaves_0 3 rfl rfl)
theorem dX17_leaves_6 : decode cX17_leaves 6 = .ok (.aload_n 0, 1) := dk_42 (dk_at dksX17_leaves_0 6 rfl rfl)
theorem dX17_leaves_7 : decode cX17_leaves 7 = .ok (.iload_n 1, 1) := dk_27 (dk_at dksX17_leaves_0 7 rfl rfl)
theorem dX17_leaves_8 : decode cX17_leaves 8 = .ok (.iconst 1, 1) := dk_4 (dk_at dksX17_leaves_0 8 rfl rfl)
theorem dX17_leaves_9 : decode cX17_leaves 9 = .ok (.iadd, 1) := dk_96 (dk_at dksX17_leaves_0 9 rfl rfl)
theorem dX17_leaves_10 : decode cX17_leaves 10 = .ok (.invokespecial 27, 3) := dk_183 0 27 (dk_at dksX17_leaves_0 10 rfl rfl)
theorem dX17_leaves_13 : decode cX17_leaves 13 = .ok (.ireturn, 1) := dk_172 (dk_at dksX17_leaves_0 13 rfl rfl)
abbrev cX17_sees : ByteArray := prog_5_method_4_code
def yX17_sees : MethodName := ⟨RX17, "sees", "(I)I"⟩
def dkwX17_sees_0 : List UInt8 := [42, 16, 40, 182, 0, 19, 42, 27, 183, 0, 23, 6, 104, 172]
abbrev dktX17_sees_0 : List UInt8 := dkwX17_sees_0 ++ []
theorem dksX17_sees_0 : cX17_sees.data.toList.drop 0 = dktX17_sees_0 := by decide +kernel
theorem dX17_sees_0 : decode cX17_sees 0 = .ok (.aload_n 0, 1) := dk_42 (dk_at dksX17_sees_0 0 rfl rfl)
theorem dX17_sees_1 : decode cX17_sees 1 = .ok (.bipush 40, 2) := dk_16 40 (dk_at dksX17_sees_0 1 rfl rfl)
theorem dX17_sees_3 : decode cX17_sees 3 = .ok (.invokevirtual 19, 3) := dk_182 0 19 (dk_at dksX17_sees_0 3 rfl rfl)
theorem dX17_sees_6 : decode cX17_sees 6 = .ok (.aload_n 0, 1) := dk_42 (dk_at dksX17_sees_0 6 rfl rfl)
theorem dX17_sees_7 : decode cX17_sees 7 = .ok (.iload_n 1, 1) := dk_27 (dk_at dksX17_sees_0 7 rfl rfl)
theorem dX17_sees_8 : decode cX17_sees 8 = .ok (.invokespecial 23, 3) := dk_183 0 23 (dk_at dksX17_sees_0 8 rfl rfl)
theorem dX17_sees_11 : decode cX17_sees 11 = .ok (.iconst 3, 1) := dk_6 (dk_at dksX17_sees_0 11 rfl rfl)
theorem dX17_sees_12 : decode cX17_sees 12 = .ok (.imul, 1) := dk_104 (dk_at dksX17_sees_0 12 rfl rfl)
theorem dX17_sees_13 : decode cX17_sees 13 = .ok (.ireturn, 1) := dk_172 (dk_at dksX17_sees_0 13 rfl rfl)
abbrev cX17_isUnder : ByteArray := prog_5_method_3_code
def yX17_isUnder : MethodName := ⟨RX17, "isUnder", "(I)Z"⟩
def dkwX17_isUnder_0 : List UInt8 := [27, 6, 159, 0, 11, 42, 27, 183, 0, 15, 153, 0, 7, 4, 167, 0, 4, 3, 172]
abbrev dktX17_isUnder_0 : List UInt8 := dkwX17_isUnder_0 ++ []
theorem dksX17_isUnder_0 : cX17_isUnder.data.toList.drop 0 = dktX17_isUnder_0 := by decide +kernel
theorem dX17_isUnder_0 : decode cX17_isUnder 0 = .ok (.iload_n 1, 1) := dk_27 (dk_at dksX17_isUnder_0 0 rfl rfl)
theorem dX17_isUnder_1 : decode cX17_isUnder 1 = .ok (.iconst 3, 1) := dk_6 (dk_at dksX17_isUnder_0 1 rfl rfl)
theorem dX17_isUnder_2 : decode cX17_isUnder 2 = .ok (.if_icmp .eq 11, 3) := dk_159 0 11 (dk_at dksX17_isUnder_0 2 rfl rfl)
theorem dX17_isUnder_5 : decode cX17_isUnder 5 = .ok (.aload_n 0, 1) := dk_42 (dk_at dksX17_isUnder_0 5 rfl rfl)
theorem dX17_isUnder_6 : decode cX17_isUnder 6 = .ok (.iload_n 1, 1) := dk_27 (dk_at dksX17_isUnder_0 6 rfl rfl)
theorem dX17_isUnder_7 : decode cX17_isUnder 7 = .ok (.invokespecial 15, 3) := dk_183 0 15 (dk_at dksX17_isUnder_0 7 rfl rfl)
theorem dX17_isUnder_10 : decode cX17_isUnder 10 = .ok (.ifCond .eq 7, 3) := dk_153 0 7 (dk_at dksX17_isUnder_0 10 rfl rfl)
theorem dX17_isUnder_13 : decode cX17_isUnder 13 = .ok (.iconst 1, 1) := dk_4 (dk_at dksX17_isUnder_0 13 rfl rfl)
theorem dX17_isUnder_14 : decode cX17_isUnder 14 = .ok (.goto 4, 3) := dk_167 0 4 (dk_at dksX17_isUnder_0 14 rfl rfl)
theorem dX17_isUnder_17 : decode cX17_isUnder 17 = .ok (.iconst 0, 1) := dk_3 (dk_at dksX17_isUnder_0 17 rfl rfl)
theorem dX17_isUnder_18 : decode cX17_isUnder 18 = .ok (.ireturn, 1) := dk_172 (dk_at dksX17_isUnder_0 18 rfl rfl)
abbrev cX17_kind : ByteArray := prog_5_method_2_code
def yX17_kind : MethodName := ⟨RX17, "kind", "()I"⟩
theorem dX17_kind_0 : decode cX17_kind 0 = .ok (.iconst 3, 1) := by decide +kernel
theorem dX17_kind_1 : decode cX17_kind 1 = .ok (.ireturn, 1) := by decide +kernel
theorem q117 : (Jvm.Cond.initialized "LeftAsFound$BroughtStay") ∈ lw_all := lw_g (lw_at lw_m1 23 rfl) rfl
theorem q899 : (Jvm.Cond.instantiable "LeftAsFound$BroughtStay" (4 : Nat)) ∈ lw_all := lw_g (lw_at lw_m4 85 rfl) rfl
theorem q901 : (Jvm.Cond.instanceMethod ({ cls := "LeftAsFound$BroughtStay", name := "<init>", desc := "(LLeftAsFound;I)V" } : Jvm.MethodName)) ∈ lw_all := lw_g (lw_at lw_m4 87 rfl) rfl
theorem q902 : (Jvm.Cond.code ({ cls := "LeftAsFound$BroughtStay", name := "<init>", desc := "(LLeftAsFound;I)V" } : Jvm.MethodName) prog_5_method_1_code (3 : Nat) (Option.none : Option Jvm.ClassFile.FieldType)) ∈ lw_all := lw_g (lw_at lw_m4 88 rfl) rfl
theorem q903 : (Jvm.Cond.methodLink "LeftAsFound$BroughtStay" (9 : Nat) ({ cls := "LeftAsFound$TakenStay", name := "<init>", desc := "(LLeftAsFound;I)V" } : Jvm.MethodName)) ∈ lw_all := lw_g (lw_at lw_m4 89 rfl) rfl
theorem q904 : (Jvm.Cond.fieldLink "LeftAsFound$BroughtStay" (3 : Nat) "LeftAsFound$BroughtStay" "this$0" "LLeftAsFound;") ∈ lw_all := lw_g (lw_at lw_m4 90 rfl) rfl
theorem q905 : (Jvm.Cond.laysFinal "LeftAsFound$BroughtStay" "LeftAsFound$BroughtStay" "this$0" "LLeftAsFound;") ∈ lw_all := lw_g (lw_at lw_m4 91 rfl) rfl
theorem q906 : (Jvm.Cond.soleField "LeftAsFound$BroughtStay" "this$0") ∈ lw_all := lw_g (lw_at lw_m4 92 rfl) rfl
theorem q907 : (Jvm.Cond.laysFinal "LeftAsFound$BroughtStay" "LeftAsFound$TakenStay" "this$0" "LLeftAsFound;") ∈ lw_all := lw_g (lw_at lw_m4 93 rfl) rfl
theorem q908 : (Jvm.Cond.laysFinal "LeftAsFound$BroughtStay" "LeftAsFound$Body" "number" "I") ∈ lw_all := lw_g (lw_at lw_m4 94 rfl) rfl
theorem q909 : (Jvm.Cond.laysFinal "LeftAsFound$BroughtStay" "LeftAsFound$Body" "this$0" "LLeftAsFound;") ∈ lw_all := lw_g (lw_at lw_m4 95 rfl) rfl
theorem q910 : (Jvm.Cond.superclass "LeftAsFound$BroughtStay" "LeftAsFound$TakenStay") ∈ lw_all := lw_g (lw_at lw_m4 96 rfl) rfl
theorem q1000 : (Jvm.Cond.castable "LeftAsFound$BroughtStay" "LeftAsFound$Comes") ∈ lw_tbl := lw_at lw_m4 186 rfl
theorem q1001 : (Jvm.Cond.selects "LeftAsFound$BroughtStay" ({ cls := "LeftAsFound$Comes", name := "begins", desc := "(I)V" } : Jvm.MethodName) ({ cls := "LeftAsFound$Body", name := "begins", desc := "(I)V" } : Jvm.MethodName)) ∈ lw_all := lw_g (lw_at lw_m4 187 rfl) rfl
theorem q1002 : (Jvm.Cond.unhidden "LeftAsFound$BroughtStay" "begins" "(I)V") ∈ lw_tbl := lw_at lw_m4 188 rfl
theorem q1029 : (Jvm.Cond.selects "LeftAsFound$BroughtStay" ({ cls := "LeftAsFound$Comes", name := "number", desc := "()I" } : Jvm.MethodName) ({ cls := "LeftAsFound$Body", name := "number", desc := "()I" } : Jvm.MethodName)) ∈ lw_all := lw_g (lw_at lw_m4 215 rfl) rfl
theorem q1030 : (Jvm.Cond.unhidden "LeftAsFound$BroughtStay" "number" "()I") ∈ lw_tbl := lw_at lw_m4 216 rfl
theorem q1042 : (Jvm.Cond.unhidden "LeftAsFound$BroughtStay" "comes" "(I)I") ∈ lw_tbl := lw_at lw_m4 228 rfl
theorem q1066 : (Jvm.Cond.selects "LeftAsFound$BroughtStay" ({ cls := "LeftAsFound$Body", name := "leaves", desc := "(I)I" } : Jvm.MethodName) ({ cls := "LeftAsFound$BroughtStay", name := "leaves", desc := "(I)I" } : Jvm.MethodName)) ∈ lw_all := lw_g (lw_at lw_m5 12 rfl) rfl
theorem q1067 : (Jvm.Cond.instanceMethod ({ cls := "LeftAsFound$BroughtStay", name := "leaves", desc := "(I)I" } : Jvm.MethodName)) ∈ lw_all := lw_g (lw_at lw_m5 13 rfl) rfl
theorem q1068 : (Jvm.Cond.code ({ cls := "LeftAsFound$BroughtStay", name := "leaves", desc := "(I)I" } : Jvm.MethodName) prog_5_method_5_code (2 : Nat) (Option.some Jvm.ClassFile.FieldType.int)) ∈ lw_all := lw_g (lw_at lw_m5 14 rfl) rfl
theorem q1069 : (Jvm.Cond.methodLink "LeftAsFound$BroughtStay" (19 : Nat) ({ cls := "LeftAsFound$BroughtStay", name := "begins", desc := "(I)V" } : Jvm.MethodName)) ∈ lw_all := lw_g (lw_at lw_m5 15 rfl) rfl
theorem q1070 : (Jvm.Cond.sameMethod "LeftAsFound$BroughtStay" "LeftAsFound$Body" "begins" "(I)V") ∈ lw_all := lw_g (lw_at lw_m5 16 rfl) rfl
theorem q1071 : (Jvm.Cond.selects "LeftAsFound$BroughtStay" ({ cls := "LeftAsFound$BroughtStay", name := "begins", desc := "(I)V" } : Jvm.MethodName) ({ cls := "LeftAsFound$Body", name := "begins", desc := "(I)V" } : Jvm.MethodName)) ∈ lw_all := lw_g (lw_at lw_m5 17 rfl) rfl
theorem q1073 : (Jvm.Cond.methodLink "LeftAsFound$BroughtStay" (27 : Nat) ({ cls := "LeftAsFound$TakenStay", name := "leaves", desc := "(I)I" } : Jvm.MethodName)) ∈ lw_all := lw_g (lw_at lw_m5 19 rfl) rfl
theorem q1078 : (Jvm.Cond.selects "LeftAsFound$BroughtStay" ({ cls := "LeftAsFound$TakenStay", name := "begins", desc := "(I)V" } : Jvm.MethodName) ({ cls := "LeftAsFound$Body", name := "begins", desc := "(I)V" } : Jvm.MethodName)) ∈ lw_all := lw_g (lw_at lw_m5 24 rfl) rfl
theorem q1101 : (Jvm.Cond.instanceMethod ({ cls := "LeftAsFound$BroughtStay", name := "sees", desc := "(I)I" } : Jvm.MethodName)) ∈ lw_all := lw_g (lw_at lw_m5 47 rfl) rfl
theorem q1102 : (Jvm.Cond.code ({ cls := "LeftAsFound$BroughtStay", name := "sees", desc := "(I)I" } : Jvm.MethodName) prog_5_method_4_code (2 : Nat) (Option.some Jvm.ClassFile.FieldType.int)) ∈ lw_all := lw_g (lw_at lw_m5 48 rfl) rfl
theorem q1103 : (Jvm.Cond.methodLink "LeftAsFound$BroughtStay" (23 : Nat) ({ cls := "LeftAsFound$TakenStay", name := "sees", desc := "(I)I" } : Jvm.MethodName)) ∈ lw_all := lw_g (lw_at lw_m5 49 rfl) rfl
theorem q1114 : (Jvm.Cond.unhidden "LeftAsFound$BroughtStay" "tells" "(I)I") ∈ lw_tbl := lw_at lw_m5 60 rfl
theorem q1133 : (Jvm.Cond.castable "LeftAsFound$BroughtStay" "LeftAsFound$Tells") ∈ lw_tbl := lw_at lw_m5 79 rfl
theorem q1134 : (Jvm.Cond.selects "LeftAsFound$BroughtStay" ({ cls := "LeftAsFound$Tells", name := "begins", desc := "(I)V" } : Jvm.MethodName) ({ cls := "LeftAsFound$Body", name := "begins", desc := "(I)V" } : Jvm.MethodName)) ∈ lw_all := lw_g (lw_at lw_m5 80 rfl) rfl
theorem q1154 : (Jvm.Cond.selects "LeftAsFound$BroughtStay" ({ cls := "LeftAsFound$Tells", name := "leaves", desc := "(I)I" } : Jvm.MethodName) ({ cls := "LeftAsFound$BroughtStay", name := "leaves", desc := "(I)I" } : Jvm.MethodName)) ∈ lw_all := lw_g (lw_at lw_m5 100 rfl) rfl
theorem q1155 : (Jvm.Cond.unhidden "LeftAsFound$BroughtStay" "leaves" "(I)I") ∈ lw_tbl := lw_at lw_m5 101 rfl
theorem q1156 : (Jvm.Cond.publicMethod ({ cls := "LeftAsFound$BroughtStay", name := "leaves", desc := "(I)I" } : Jvm.MethodName)) ∈ lw_tbl := lw_at lw_m5 102 rfl
theorem q1178 : (Jvm.Cond.selects "LeftAsFound$BroughtStay" ({ cls := "LeftAsFound$Tells", name := "sees", desc := "(I)I" } : Jvm.MethodName) ({ cls := "LeftAsFound$BroughtStay", name := "sees", desc := "(I)I" } : Jvm.MethodName)) ∈ lw_all := lw_g (lw_at lw_m5 124 rfl) rfl
theorem q1179 : (Jvm.Cond.unhidden "LeftAsFound$BroughtStay" "sees" "(I)I") ∈ lw_tbl := lw_at lw_m5 125 rfl
theorem q1180 : (Jvm.Cond.publicMethod ({ cls := "LeftAsFound$BroughtStay", name := "sees", desc := "(I)I" } : Jvm.MethodName)) ∈ lw_tbl := lw_at lw_m5 126 rfl
theorem q1245 : (Jvm.Cond.selects "LeftAsFound$BroughtStay" ({ cls := "LeftAsFound$Body", name := "isUnder", desc := "(I)Z" } : Jvm.MethodName) ({ cls := "LeftAsFound$BroughtStay", name := "isUnder", desc := "(I)Z" } : Jvm.MethodName)) ∈ lw_all := lw_g (lw_at lw_m5 191 rfl) rfl
theorem q1246 : (Jvm.Cond.instanceMethod ({ cls := "LeftAsFound$BroughtStay", name := "isUnder", desc := "(I)Z" } : Jvm.MethodName)) ∈ lw_all := lw_g (lw_at lw_m5 192 rfl) rfl
theorem q1247 : (Jvm.Cond.code ({ cls := "LeftAsFound$BroughtStay", name := "isUnder", desc := "(I)Z" } : Jvm.MethodName) prog_5_method_3_code (2 : Nat) (Option.some Jvm.ClassFile.FieldType.boolean)) ∈ lw_all := lw_g (lw_at lw_m5 193 rfl) rfl
theorem q1248 : (Jvm.Cond.methodLink "LeftAsFound$BroughtStay" (15 : Nat) ({ cls := "LeftAsFound$TakenStay", name := "isUnder", desc := "(I)Z" } : Jvm.MethodName)) ∈ lw_all := lw_g (lw_at lw_m5 194 rfl) rfl
theorem q1277 : (Jvm.Cond.selects "LeftAsFound$BroughtStay" ({ cls := "LeftAsFound$Body", name := "kind", desc := "()I" } : Jvm.MethodName) ({ cls := "LeftAsFound$BroughtStay", name := "kind", desc := "()I" } : Jvm.MethodName)) ∈ lw_all := lw_g (lw_at lw_m5 223 rfl) rfl
theorem q1278 : (Jvm.Cond.instanceMethod ({ cls := "LeftAsFound$BroughtStay", name := "kind", desc := "()I" } : Jvm.MethodName)) ∈ lw_all := lw_g (lw_at lw_m5 224 rfl) rfl
theorem q1279 : (Jvm.Cond.code ({ cls := "LeftAsFound$BroughtStay", name := "kind", desc := "()I" } : Jvm.MethodName) prog_5_method_2_code (1 : Nat) (Option.some Jvm.ClassFile.FieldType.int)) ∈ lw_all := lw_g (lw_at lw_m5 225 rfl) rfl
theorem q1912 : (Jvm.Cond.selects "LeftAsFound$BroughtStay" ({ cls := "LeftAsFound$Body", name := "begins", desc := "(I)V" } : Jvm.MethodName) ({ cls := "LeftAsFound$Body", name := "begins", desc := "(I)V" } : Jvm.MethodName)) ∈ lw_all := lw_g (lw_at lw_m8 138 rfl) rfl
theorem q1921 : (Jvm.Cond.selects "LeftAsFound$BroughtStay" ({ cls := "LeftAsFound$Body", name := "sees", desc := "(I)I" } : Jvm.MethodName) ({ cls := "LeftAsFound$BroughtStay", name := "sees", desc := "(I)I" } : Jvm.MethodName)) ∈ lw_all := lw_g (lw_at lw_m8 147 rfl) rfl
theorem q1927 : (Jvm.Cond.sameMethod "LeftAsFound$BroughtStay" "LeftAsFound$BroughtStay" "sees" "(I)I") ∈ lw_all := lw_g (lw_at lw_m8 153 rfl) rfl
theorem q1931 : (Jvm.Cond.sameMethod "LeftAsFound$BroughtStay" "LeftAsFound$BroughtStay" "isUnder" "(I)Z") ∈ lw_all := lw_g (lw_at lw_m8 157 rfl) rfl
theorem q1933 : (Jvm.Cond.castable "LeftAsFound$BroughtStay" "LeftAsFound$Body") ∈ lw_tbl := lw_at lw_m8 159 rfl
theorem q1954 : (Jvm.Cond.castable "LeftAsFound$BroughtStay" "java/lang/Object") ∈ lw_tbl := lw_at lw_m8 180 rfl
theorem in_X17 : ∀ w ∈ wsX170, w ∈ lw_all := lw_in wsX170 [908, 909, 907, 905] (by decide +kernel) (by decide +kernel)

/-! LeftAsFound$SeenStay -/
set_option maxRecDepth 100000
def RX18 : String := "LeftAsFound$SeenStay"
def TX18 : u_T := fun k => match k with
  | 0 => ("LeftAsFound$Body", "number", "I", true)
  | 1 => ("LeftAsFound$Body", "this$0", "LLeftAsFound;", true)
  | 2 => ("LeftAsFound$FoundStay", "this$0", "LLeftAsFound;", true)
  | _ => ("LeftAsFound$SeenStay", "this$0", "LLeftAsFound;", true)
def tyX18 : Nat → FieldType := fun k => match k with
  | 0 => .int
  | 1 => .object "LeftAsFound"
  | 2 => .object "LeftAsFound"
  | _ => .object "LeftAsFound"
abbrev wsX180 : List Cond := u_ws RX18 TX18 4
-- two fields of one name: no nmX18
theorem tyX18_ok : ∀ k, k < 4 → parseFieldDescriptor (TX18 k).2.2.1 = some (tyX18 k) := by decide +kernel
abbrev cX18_init : ByteArray := prog_17_method_1_code
def yX18_init : MethodName := ⟨RX18, "<init>", "(LLeftAsFound;I)V"⟩
def dkwX18_init_0 : List UInt8 := [42, 43, 181, 0, 3, 42, 43, 28, 183, 0, 9, 177]
abbrev dktX18_init_0 : List UInt8 := dkwX18_init_0 ++ []
theorem dksX18_init_0 : cX18_init.data.toList.drop 0 = dktX18_init_0 := by decide +kernel
theorem dX18_init_0 : decode cX18_init 0 = .ok (.aload_n 0, 1) := dk_42 (dk_at dksX18_init_0 0 rfl rfl)
theorem dX18_init_1 : decode cX18_init 1 = .ok (.aload_n 1, 1) := dk_43 (dk_at dksX18_init_0 1 rfl rfl)
theorem dX18_init_2 : decode cX18_init 2 = .ok (.putfield 3, 3) := dk_181 0 3 (dk_at dksX18_init_0 2 rfl rfl)
theorem dX18_init_5 : decode cX18_init 5 = .ok (.aload_n 0, 1) := dk_42 (dk_at dksX18_init_0 5 rfl rfl)
theorem dX18_init_6 : decode cX18_init 6 = .ok (.aload_n 1, 1) := dk_43 (dk_at dksX18_init_0 6 rfl rfl)
theorem dX18_init_7 : decode cX18_init 7 = .ok (.iload_n 2, 1) := dk_28 (dk_at dksX18_init_0 7 rfl rfl)
theorem dX18_init_8 : decode cX18_init 8 = .ok (.invokespecial 9, 3) := dk_183 0 9 (dk_at dksX18_init_0 8 rfl rfl)
theorem dX18_init_11 : decode cX18_init 11 = .ok (.return_, 1) := dk_177 (dk_at dksX18_init_0 11 rfl rfl)
abbrev cX18_tells : ByteArray := prog_17_method_4_code
def yX18_tells : MethodName := ⟨RX18, "tells", "(I)I"⟩
def dkwX18_tells_0 : List UInt8 := [42, 16, 50, 182, 0, 19, 42, 27, 183, 0, 23, 8, 130, 172]
abbrev dktX18_tells_0 : List UInt8 := dkwX18_tells_0 ++ []
theorem dksX18_tells_0 : cX18_tells.data.toList.drop 0 = dktX18_tells_0 := by decide +kernel
theorem dX18_tells_0 : decode cX18_tells 0 = .ok (.aload_n 0, 1) := dk_42 (dk_at dksX18_tells_0 0 rfl rfl)
theorem dX18_tells_1 : decode cX18_tells 1 = .ok (.bipush 50, 2) := dk_16 50 (dk_at dksX18_tells_0 1 rfl rfl)
theorem dX18_tells_3 : decode cX18_tells 3 = .ok (.invokevirtual 19, 3) := dk_182 0 19 (dk_at dksX18_tells_0 3 rfl rfl)
theorem dX18_tells_6 : decode cX18_tells 6 = .ok (.aload_n 0, 1) := dk_42 (dk_at dksX18_tells_0 6 rfl rfl)
theorem dX18_tells_7 : decode cX18_tells 7 = .ok (.iload_n 1, 1) := dk_27 (dk_at dksX18_tells_0 7 rfl rfl)
theorem dX18_tells_8 : decode cX18_tells 8 = .ok (.invokespecial 23, 3) := dk_183 0 23 (dk_at dksX18_tells_0 8 rfl rfl)
theorem dX18_tells_11 : decode cX18_tells 11 = .ok (.iconst 5, 1) := dk_8 (dk_at dksX18_tells_0 11 rfl rfl)
theorem dX18_tells_12 : decode cX18_tells 12 = .ok (.ixor, 1) := dk_130 (dk_at dksX18_tells_0 12 rfl rfl)
theorem dX18_tells_13 : decode cX18_tells 13 = .ok (.ireturn, 1) := dk_172 (dk_at dksX18_tells_0 13 rfl rfl)
abbrev cX18_isUnder : ByteArray := prog_17_method_3_code
def yX18_isUnder : MethodName := ⟨RX18, "isUnder", "(I)Z"⟩
def dkwX18_isUnder_0 : List UInt8 := [27, 7, 159, 0, 11, 42, 27, 183, 0, 15, 153, 0, 7, 4, 167, 0, 4, 3, 172]
abbrev dktX18_isUnder_0 : List UInt8 := dkwX18_isUnder_0 ++ []
theorem dksX18_isUnder_0 : cX18_isUnder.data.toList.drop 0 = dktX18_isUnder_0 := by decide +kernel
theorem dX18_isUnder_0 : decode cX18_isUnder 0 = .ok (.iload_n 1, 1) := dk_27 (dk_at dksX18_isUnder_0 0 rfl rfl)
theorem dX18_isUnder_1 : decode cX18_isUnder 1 = .ok (.iconst 4, 1) := dk_7 (dk_at dksX18_isUnder_0 1 rfl rfl)
theorem dX18_isUnder_2 : decode cX18_isUnder 2 = .ok (.if_icmp .eq 11, 3) := dk_159 0 11 (dk_at dksX18_isUnder_0 2 rfl rfl)
theorem dX18_isUnder_5 : decode cX18_isUnder 5 = .ok (.aload_n 0, 1) := dk_42 (dk_at dksX18_isUnder_0 5 rfl rfl)
theorem dX18_isUnder_6 : decode cX18_isUnder 6 = .ok (.iload_n 1, 1) := dk_27 (dk_at dksX18_isUnder_0 6 rfl rfl)
theorem dX18_isUnder_7 : decode cX18_isUnder 7 = .ok (.invokespecial 15, 3) := dk_183 0 15 (dk_at dksX18_isUnder_0 7 rfl rfl)
theorem dX18_isUnder_10 : decode cX18_isUnder 10 = .ok (.ifCond .eq 7, 3) := dk_153 0 7 (dk_at dksX18_isUnder_0 10 rfl rfl)
theorem dX18_isUnder_13 : decode cX18_isUnder 13 = .ok (.iconst 1, 1) := dk_4 (dk_at dksX18_isUnder_0 13 rfl rfl)
theorem dX18_isUnder_14 : decode cX18_isUnder 14 = .ok (.goto 4, 3) := dk_167 0 4 (dk_at dksX18_isUnder_0 14 rfl rfl)
theorem dX18_isUnder_17 : decode cX18_isUnder 17 = .ok (.iconst 0, 1) := dk_3 (dk_at dksX18_isUnder_0 17 rfl rfl)
theorem dX18_isUnder_18 : decode cX18_isUnder 18 = .ok (.ireturn, 1) := dk_172 (dk_at dksX18_isUnder_0 18 rfl rfl)
abbrev cX18_kind : ByteArray := prog_17_method_2_code
def yX18_kind : MethodName := ⟨RX18, "kind", "()I"⟩
theorem dX18_kind_0 : decode cX18_kind 0 = .ok (.iconst 4, 1) := by decide +kernel
theorem dX18_kind_1 : decode cX18_kind 1 = .ok (.ireturn, 1) := by decide +kernel
theorem q118 : (Jvm.Cond.initialized "LeftAsFound$SeenStay") ∈ lw_all := lw_g (lw_at lw_m1 24 rfl) rfl
theorem q912 : (Jvm.Cond.instantiable "LeftAsFound$SeenStay" (4 : Nat)) ∈ lw_all := lw_g (lw_at lw_m4 98 rfl) rfl
theorem q914 : (Jvm.Cond.instanceMethod ({ cls := "LeftAsFound$SeenStay", name := "<init>", desc := "(LLeftAsFound;I)V" } : Jvm.MethodName)) ∈ lw_all := lw_g (lw_at lw_m4 100 rfl) rfl
theorem q915 : (Jvm.Cond.code ({ cls := "LeftAsFound$SeenStay", name := "<init>", desc := "(LLeftAsFound;I)V" } : Jvm.MethodName) prog_17_method_1_code (3 : Nat) (Option.none : Option Jvm.ClassFile.FieldType)) ∈ lw_all := lw_g (lw_at lw_m4 101 rfl) rfl
theorem q916 : (Jvm.Cond.methodLink "LeftAsFound$SeenStay" (9 : Nat) ({ cls := "LeftAsFound$FoundStay", name := "<init>", desc := "(LLeftAsFound;I)V" } : Jvm.MethodName)) ∈ lw_all := lw_g (lw_at lw_m4 102 rfl) rfl
theorem q917 : (Jvm.Cond.fieldLink "LeftAsFound$SeenStay" (3 : Nat) "LeftAsFound$SeenStay" "this$0" "LLeftAsFound;") ∈ lw_all := lw_g (lw_at lw_m4 103 rfl) rfl
theorem q918 : (Jvm.Cond.laysFinal "LeftAsFound$SeenStay" "LeftAsFound$SeenStay" "this$0" "LLeftAsFound;") ∈ lw_all := lw_g (lw_at lw_m4 104 rfl) rfl
theorem q919 : (Jvm.Cond.soleField "LeftAsFound$SeenStay" "this$0") ∈ lw_all := lw_g (lw_at lw_m4 105 rfl) rfl
theorem q920 : (Jvm.Cond.laysFinal "LeftAsFound$SeenStay" "LeftAsFound$FoundStay" "this$0" "LLeftAsFound;") ∈ lw_all := lw_g (lw_at lw_m4 106 rfl) rfl
theorem q921 : (Jvm.Cond.laysFinal "LeftAsFound$SeenStay" "LeftAsFound$Body" "number" "I") ∈ lw_all := lw_g (lw_at lw_m4 107 rfl) rfl
theorem q922 : (Jvm.Cond.laysFinal "LeftAsFound$SeenStay" "LeftAsFound$Body" "this$0" "LLeftAsFound;") ∈ lw_all := lw_g (lw_at lw_m4 108 rfl) rfl
theorem q923 : (Jvm.Cond.superclass "LeftAsFound$SeenStay" "LeftAsFound$FoundStay") ∈ lw_all := lw_g (lw_at lw_m4 109 rfl) rfl
theorem q1009 : (Jvm.Cond.castable "LeftAsFound$SeenStay" "LeftAsFound$Comes") ∈ lw_tbl := lw_at lw_m4 195 rfl
theorem q1010 : (Jvm.Cond.selects "LeftAsFound$SeenStay" ({ cls := "LeftAsFound$Comes", name := "begins", desc := "(I)V" } : Jvm.MethodName) ({ cls := "LeftAsFound$Body", name := "begins", desc := "(I)V" } : Jvm.MethodName)) ∈ lw_all := lw_g (lw_at lw_m4 196 rfl) rfl
theorem q1011 : (Jvm.Cond.unhidden "LeftAsFound$SeenStay" "begins" "(I)V") ∈ lw_tbl := lw_at lw_m4 197 rfl
theorem q1035 : (Jvm.Cond.selects "LeftAsFound$SeenStay" ({ cls := "LeftAsFound$Comes", name := "number", desc := "()I" } : Jvm.MethodName) ({ cls := "LeftAsFound$Body", name := "number", desc := "()I" } : Jvm.MethodName)) ∈ lw_all := lw_g (lw_at lw_m4 221 rfl) rfl
theorem q1036 : (Jvm.Cond.unhidden "LeftAsFound$SeenStay" "number" "()I") ∈ lw_tbl := lw_at lw_m4 222 rfl
theorem q1049 : (Jvm.Cond.selects "LeftAsFound$SeenStay" ({ cls := "LeftAsFound$FoundStay", name := "begins", desc := "(I)V" } : Jvm.MethodName) ({ cls := "LeftAsFound$Body", name := "begins", desc := "(I)V" } : Jvm.MethodName)) ∈ lw_all := lw_g (lw_at lw_m4 235 rfl) rfl
theorem q1057 : (Jvm.Cond.selects "LeftAsFound$SeenStay" ({ cls := "LeftAsFound$Comes", name := "comes", desc := "(I)I" } : Jvm.MethodName) ({ cls := "LeftAsFound$FoundStay", name := "comes", desc := "(I)I" } : Jvm.MethodName)) ∈ lw_all := lw_g (lw_at lw_m5 3 rfl) rfl
theorem q1096 : (Jvm.Cond.selects "LeftAsFound$SeenStay" ({ cls := "LeftAsFound$Body", name := "leaves", desc := "(I)I" } : Jvm.MethodName) ({ cls := "LeftAsFound$Body", name := "leaves", desc := "(I)I" } : Jvm.MethodName)) ∈ lw_all := lw_g (lw_at lw_m5 42 rfl) rfl
theorem q1117 : (Jvm.Cond.selects "LeftAsFound$SeenStay" ({ cls := "LeftAsFound$Tells", name := "tells", desc := "(I)I" } : Jvm.MethodName) ({ cls := "LeftAsFound$SeenStay", name := "tells", desc := "(I)I" } : Jvm.MethodName)) ∈ lw_all := lw_g (lw_at lw_m5 63 rfl) rfl
theorem q1118 : (Jvm.Cond.instanceMethod ({ cls := "LeftAsFound$SeenStay", name := "tells", desc := "(I)I" } : Jvm.MethodName)) ∈ lw_all := lw_g (lw_at lw_m5 64 rfl) rfl
theorem q1119 : (Jvm.Cond.code ({ cls := "LeftAsFound$SeenStay", name := "tells", desc := "(I)I" } : Jvm.MethodName) prog_17_method_4_code (2 : Nat) (Option.some Jvm.ClassFile.FieldType.int)) ∈ lw_all := lw_g (lw_at lw_m5 65 rfl) rfl
theorem q1120 : (Jvm.Cond.methodLink "LeftAsFound$SeenStay" (19 : Nat) ({ cls := "LeftAsFound$SeenStay", name := "begins", desc := "(I)V" } : Jvm.MethodName)) ∈ lw_all := lw_g (lw_at lw_m5 66 rfl) rfl
theorem q1121 : (Jvm.Cond.sameMethod "LeftAsFound$SeenStay" "LeftAsFound$Body" "begins" "(I)V") ∈ lw_all := lw_g (lw_at lw_m5 67 rfl) rfl
theorem q1122 : (Jvm.Cond.selects "LeftAsFound$SeenStay" ({ cls := "LeftAsFound$SeenStay", name := "begins", desc := "(I)V" } : Jvm.MethodName) ({ cls := "LeftAsFound$Body", name := "begins", desc := "(I)V" } : Jvm.MethodName)) ∈ lw_all := lw_g (lw_at lw_m5 68 rfl) rfl
theorem q1139 : (Jvm.Cond.castable "LeftAsFound$SeenStay" "LeftAsFound$Tells") ∈ lw_tbl := lw_at lw_m5 85 rfl
theorem q1140 : (Jvm.Cond.selects "LeftAsFound$SeenStay" ({ cls := "LeftAsFound$Tells", name := "begins", desc := "(I)V" } : Jvm.MethodName) ({ cls := "LeftAsFound$Body", name := "begins", desc := "(I)V" } : Jvm.MethodName)) ∈ lw_all := lw_g (lw_at lw_m5 86 rfl) rfl
theorem q1162 : (Jvm.Cond.selects "LeftAsFound$SeenStay" ({ cls := "LeftAsFound$Tells", name := "leaves", desc := "(I)I" } : Jvm.MethodName) ({ cls := "LeftAsFound$Body", name := "leaves", desc := "(I)I" } : Jvm.MethodName)) ∈ lw_all := lw_g (lw_at lw_m5 108 rfl) rfl
theorem q1163 : (Jvm.Cond.unhidden "LeftAsFound$SeenStay" "leaves" "(I)I") ∈ lw_tbl := lw_at lw_m5 109 rfl
theorem q1185 : (Jvm.Cond.selects "LeftAsFound$SeenStay" ({ cls := "LeftAsFound$Tells", name := "sees", desc := "(I)I" } : Jvm.MethodName) ({ cls := "LeftAsFound$Body", name := "sees", desc := "(I)I" } : Jvm.MethodName)) ∈ lw_all := lw_g (lw_at lw_m5 131 rfl) rfl
theorem q1186 : (Jvm.Cond.unhidden "LeftAsFound$SeenStay" "sees" "(I)I") ∈ lw_tbl := lw_at lw_m5 132 rfl
theorem q1260 : (Jvm.Cond.selects "LeftAsFound$SeenStay" ({ cls := "LeftAsFound$Body", name := "isUnder", desc := "(I)Z" } : Jvm.MethodName) ({ cls := "LeftAsFound$SeenStay", name := "isUnder", desc := "(I)Z" } : Jvm.MethodName)) ∈ lw_all := lw_g (lw_at lw_m5 206 rfl) rfl
theorem q1261 : (Jvm.Cond.instanceMethod ({ cls := "LeftAsFound$SeenStay", name := "isUnder", desc := "(I)Z" } : Jvm.MethodName)) ∈ lw_all := lw_g (lw_at lw_m5 207 rfl) rfl
theorem q1262 : (Jvm.Cond.code ({ cls := "LeftAsFound$SeenStay", name := "isUnder", desc := "(I)Z" } : Jvm.MethodName) prog_17_method_3_code (2 : Nat) (Option.some Jvm.ClassFile.FieldType.boolean)) ∈ lw_all := lw_g (lw_at lw_m5 208 rfl) rfl
theorem q1263 : (Jvm.Cond.methodLink "LeftAsFound$SeenStay" (15 : Nat) ({ cls := "LeftAsFound$FoundStay", name := "isUnder", desc := "(I)Z" } : Jvm.MethodName)) ∈ lw_all := lw_g (lw_at lw_m5 209 rfl) rfl
theorem q1286 : (Jvm.Cond.selects "LeftAsFound$SeenStay" ({ cls := "LeftAsFound$Body", name := "kind", desc := "()I" } : Jvm.MethodName) ({ cls := "LeftAsFound$SeenStay", name := "kind", desc := "()I" } : Jvm.MethodName)) ∈ lw_all := lw_g (lw_at lw_m5 232 rfl) rfl
theorem q1287 : (Jvm.Cond.instanceMethod ({ cls := "LeftAsFound$SeenStay", name := "kind", desc := "()I" } : Jvm.MethodName)) ∈ lw_all := lw_g (lw_at lw_m5 233 rfl) rfl
theorem q1288 : (Jvm.Cond.code ({ cls := "LeftAsFound$SeenStay", name := "kind", desc := "()I" } : Jvm.MethodName) prog_17_method_2_code (1 : Nat) (Option.some Jvm.ClassFile.FieldType.int)) ∈ lw_all := lw_g (lw_at lw_m5 234 rfl) rfl
theorem q1915 : (Jvm.Cond.selects "LeftAsFound$SeenStay" ({ cls := "LeftAsFound$Body", name := "begins", desc := "(I)V" } : Jvm.MethodName) ({ cls := "LeftAsFound$Body", name := "begins", desc := "(I)V" } : Jvm.MethodName)) ∈ lw_all := lw_g (lw_at lw_m8 141 rfl) rfl
theorem q1924 : (Jvm.Cond.selects "LeftAsFound$SeenStay" ({ cls := "LeftAsFound$Body", name := "sees", desc := "(I)I" } : Jvm.MethodName) ({ cls := "LeftAsFound$Body", name := "sees", desc := "(I)I" } : Jvm.MethodName)) ∈ lw_all := lw_g (lw_at lw_m8 150 rfl) rfl
theorem q1936 : (Jvm.Cond.castable "LeftAsFound$SeenStay" "LeftAsFound$Body") ∈ lw_tbl := lw_at lw_m8 162 rfl
theorem q1955 : (Jvm.Cond.castable "LeftAsFound$SeenStay" "java/lang/Object") ∈ lw_tbl := lw_at lw_m8 181 rfl
theorem in_X18 : ∀ w ∈ wsX180, w ∈ lw_all := lw_in wsX180 [921, 922, 920, 918] (by decide +kernel) (by decide +kernel)

/-! LeftAsFound$WrittenStay -/
set_option maxRecDepth 100000
def RX19 : String := "LeftAsFound$WrittenStay"
def TX19 : u_T := fun k => match k with
  | 0 => ("LeftAsFound$Body", "number", "I", true)
  | 1 => ("LeftAsFound$Body", "this$0", "LLeftAsFound;", true)
  | 2 => ("LeftAsFound$TakenStay", "this$0", "LLeftAsFound;", true)
  | 3 => ("LeftAsFound$BroughtStay", "this$0", "LLeftAsFound;", true)
  | _ => ("LeftAsFound$WrittenStay", "this$0", "LLeftAsFound;", true)
def tyX19 : Nat → FieldType := fun k => match k with
  | 0 => .int
  | 1 => .object "LeftAsFound"
  | 2 => .object "LeftAsFound"
  | 3 => .object "LeftAsFound"
  | _ => .object "LeftAsFound"
abbrev wsX190 : List Cond := u_ws RX19 TX19 5
-- two fields of one name: no nmX19
theorem tyX19_ok : ∀ k, k < 5 → parseFieldDescriptor (TX19 k).2.2.1 = some (tyX19 k) := by decide +kernel
abbrev cX19_init : ByteArray := prog_23_method_1_code
def yX19_init : MethodName := ⟨RX19, "<init>", "(LLeftAsFound;I)V"⟩
def dkwX19_init_0 : List UInt8 := [42, 43, 181, 0, 3, 42, 43, 28, 183, 0, 9, 177]
abbrev dktX19_init_0 : List UInt8 := dkwX19_init_0 ++ []
theorem dksX19_init_0 : cX19_init.data.toList.drop 0 = dktX19_init_0 := by decide +kernel
theorem dX19_init_0 : decode cX19_init 0 = .ok (.aload_n 0, 1) := dk_42 (dk_at dksX19_init_0 0 rfl rfl)
theorem dX19_init_1 : decode cX19_init 1 = .ok (.aload_n 1, 1) := dk_43 (dk_at dksX19_init_0 1 rfl rfl)
theorem dX19_init_2 : decode cX19_init 2 = .ok (.putfield 3, 3) := dk_181 0 3 (dk_at dksX19_init_0 2 rfl rfl)
theorem dX19_init_5 : decode cX19_init 5 = .ok (.aload_n 0, 1) := dk_42 (dk_at dksX19_init_0 5 rfl rfl)
theorem dX19_init_6 : decode cX19_init 6 = .ok (.aload_n 1, 1) := dk_43 (dk_at dksX19_init_0 6 rfl rfl)
theorem dX19_init_7 : decode cX19_init 7 = .ok (.iload_n 2, 1) := dk_28 (dk_at dksX19_init_0 7 rfl rfl)
theorem dX19_init_8 : decode cX19_init 8 = .ok (.invokespecial 9, 3) := dk_183 0 9 (dk_at dksX19_init_0 8 rfl rfl)
theorem dX19_init_11 : decode cX19_init 11 = .ok (.return_, 1) := dk_177 (dk_at dksX19_init_0 11 rfl rfl)
abbrev cX19_sees : ByteArray := prog_23_method_4_code
def yX19_sees : MethodName := ⟨RX19, "sees", "(I)I"⟩
def dkwX19_sees_0 : List UInt8 := [42, 16, 60, 182, 0, 19, 42, 27, 183, 0, 23, 61, 28, 42, 5, 182, 0, 27, 100, 172]
abbrev dktX19_sees_0 : List UInt8 := dkwX19_sees_0 ++ []
theorem dksX19_sees_0 : cX19_sees.data.toList.drop 0 = dktX19_sees_0 := by decide +kernel
theorem dX19_sees_0 : decode cX19_sees 0 = .ok (.aload_n 0, 1) := dk_42 (dk_at dksX19_sees_0 0 rfl rfl)
theorem dX19_sees_1 : decode cX19_sees 1 = .ok (.bipush 60, 2) := dk_16 60 (dk_at dksX19_sees_0 1 rfl rfl)
theorem dX19_sees_3 : decode cX19_sees 3 = .ok (.invokevirtual 19, 3) := dk_182 0 19 (dk_at dksX19_sees_0 3 rfl rfl)
theorem dX19_sees_6 : decode cX19_sees 6 = .ok (.aload_n 0, 1) := dk_42 (dk_at dksX19_sees_0 6 rfl rfl)
theorem dX19_sees_7 : decode cX19_sees 7 = .ok (.iload_n 1, 1) := dk_27 (dk_at dksX19_sees_0 7 rfl rfl)
theorem dX19_sees_8 : decode cX19_sees 8 = .ok (.invokespecial 23, 3) := dk_183 0 23 (dk_at dksX19_sees_0 8 rfl rfl)
theorem dX19_sees_11 : decode cX19_sees 11 = .ok (.istore_n 2, 1) := dk_61 (dk_at dksX19_sees_0 11 rfl rfl)
theorem dX19_sees_12 : decode cX19_sees 12 = .ok (.iload_n 2, 1) := dk_28 (dk_at dksX19_sees_0 12 rfl rfl)
theorem dX19_sees_13 : decode cX19_sees 13 = .ok (.aload_n 0, 1) := dk_42 (dk_at dksX19_sees_0 13 rfl rfl)
theorem dX19_sees_14 : decode cX19_sees 14 = .ok (.iconst 2, 1) := dk_5 (dk_at dksX19_sees_0 14 rfl rfl)
theorem dX19_sees_15 : decode cX19_sees 15 = .ok (.invokevirtual 27, 3) := dk_182 0 27 (dk_at dksX19_sees_0 15 rfl rfl)
theorem dX19_sees_18 : decode cX19_sees 18 = .ok (.isub, 1) := dk_100 (dk_at dksX19_sees_0 18 rfl rfl)
theorem dX19_sees_19 : decode cX19_sees 19 = .ok (.ireturn, 1) := dk_172 (dk_at dksX19_sees_0 19 rfl rfl)
abbrev cX19_tells : ByteArray := prog_23_method_5_code
def yX19_tells : MethodName := ⟨RX19, "tells", "(I)I"⟩
def dkwX19_tells_0 : List UInt8 := [42, 16, 61, 182, 0, 19, 42, 27, 183, 0, 30, 4, 96, 172]
abbrev dktX19_tells_0 : List UInt8 := dkwX19_tells_0 ++ []
theorem dksX19_tells_0 : cX19_tells.data.toList.drop 0 = dktX19_tells_0 := by decide +kernel
theorem dX19_tells_0 : decode cX19_tells 0 = .ok (.aload_n 0, 1) := dk_42 (dk_at dksX19_tells_0 0 rfl rfl)
theorem dX19_tells_1 : decode cX19_tells 1 = .ok (.bipush 61, 2) := dk_16 61 (dk_at dksX19_tells_0 1 rfl rfl)
theorem dX19_tells_3 : decode cX19_tells 3 = .ok (.invokevirtual 19, 3) := dk_182 0 19 (dk_at dksX19_tells_0 3 rfl rfl)
theorem dX19_tells_6 : decode cX19_tells 6 = .ok (.aload_n 0, 1) := dk_42 (dk_at dksX19_tells_0 6 rfl rfl)
theorem dX19_tells_7 : decode cX19_tells 7 = .ok (.iload_n 1, 1) := dk_27 (dk_at dksX19_tells_0 7 rfl rfl)
theorem dX19_tells_8 : decode cX19_tells 8 = .ok (.invokespecial 30, 3) := dk_183 0 30 (dk_at dksX19_tells_0 8 rfl rfl)
theorem dX19_tells_11 : decode cX19_tells 11 = .ok (.iconst 1, 1) := dk_4 (dk_at dksX19_tells_0 11 rfl rfl)
theorem dX19_tells_12 : decode cX19_tells 12 = .ok (.iadd, 1) := dk_96 (dk_at dksX19_tells_0 12 rfl rfl)
theorem dX19_tells_13 : decode cX19_tells 13 = .ok (.ireturn, 1) := dk_172 (dk_at dksX19_tells_0 13 rfl rfl)
abbrev cX19_isUnder : ByteArray := prog_23_method_3_code
def yX19_isUnder : MethodName := ⟨RX19, "isUnder", "(I)Z"⟩
def dkwX19_isUnder_0 : List UInt8 := [27, 8, 159, 0, 11, 42, 27, 183, 0, 15, 153, 0, 7, 4, 167, 0, 4, 3, 172]
abbrev dktX19_isUnder_0 : List UInt8 := dkwX19_isUnder_0 ++ []
theorem dksX19_isUnder_0 : cX19_isUnder.data.toList.drop 0 = dktX19_isUnder_0 := by decide +kernel
theorem dX19_isUnder_0 : decode cX19_isUnder 0 = .ok (.iload_n 1, 1) := dk_27 (dk_at dksX19_isUnder_0 0 rfl rfl)
theorem dX19_isUnder_1 : decode cX19_isUnder 1 = .ok (.iconst 5, 1) := dk_8 (dk_at dksX19_isUnder_0 1 rfl rfl)
theorem dX19_isUnder_2 : decode cX19_isUnder 2 = .ok (.if_icmp .eq 11, 3) := dk_159 0 11 (dk_at dksX19_isUnder_0 2 rfl rfl)
theorem dX19_isUnder_5 : decode cX19_isUnder 5 = .ok (.aload_n 0, 1) := dk_42 (dk_at dksX19_isUnder_0 5 rfl rfl)
theorem dX19_isUnder_6 : decode cX19_isUnder 6 = .ok (.iload_n 1, 1) := dk_27 (dk_at dksX19_isUnder_0 6 rfl rfl)
theorem dX19_isUnder_7 : decode cX19_isUnder 7 = .ok (.invokespecial 15, 3) := dk_183 0 15 (dk_at dksX19_isUnder_0 7 rfl rfl)
theorem dX19_isUnder_10 : decode cX19_isUnder 10 = .ok (.ifCond .eq 7, 3) := dk_153 0 7 (dk_at dksX19_isUnder_0 10 rfl rfl)
theorem dX19_isUnder_13 : decode cX19_isUnder 13 = .ok (.iconst 1, 1) := dk_4 (dk_at dksX19_isUnder_0 13 rfl rfl)
theorem dX19_isUnder_14 : decode cX19_isUnder 14 = .ok (.goto 4, 3) := dk_167 0 4 (dk_at dksX19_isUnder_0 14 rfl rfl)
theorem dX19_isUnder_17 : decode cX19_isUnder 17 = .ok (.iconst 0, 1) := dk_3 (dk_at dksX19_isUnder_0 17 rfl rfl)
theorem dX19_isUnder_18 : decode cX19_isUnder 18 = .ok (.ireturn, 1) := dk_172 (dk_at dksX19_isUnder_0 18 rfl rfl)
abbrev cX19_kind : ByteArray := prog_23_method_2_code
def yX19_kind : MethodName := ⟨RX19, "kind", "()I"⟩
theorem dX19_kind_0 : decode cX19_kind 0 = .ok (.iconst 5, 1) := by decide +kernel
theorem dX19_kind_1 : decode cX19_kind 1 = .ok (.ireturn, 1) := by decide +kernel
theorem q119 : (Jvm.Cond.initialized "LeftAsFound$WrittenStay") ∈ lw_all := lw_g (lw_at lw_m1 25 rfl) rfl
theorem q925 : (Jvm.Cond.instantiable "LeftAsFound$WrittenStay" (5 : Nat)) ∈ lw_all := lw_g (lw_at lw_m4 111 rfl) rfl
theorem q927 : (Jvm.Cond.instanceMethod ({ cls := "LeftAsFound$WrittenStay", name := "<init>", desc := "(LLeftAsFound;I)V" } : Jvm.MethodName)) ∈ lw_all := lw_g (lw_at lw_m4 113 rfl) rfl
theorem q928 : (Jvm.Cond.code ({ cls := "LeftAsFound$WrittenStay", name := "<init>", desc := "(LLeftAsFound;I)V" } : Jvm.MethodName) prog_23_method_1_code (3 : Nat) (Option.none : Option Jvm.ClassFile.FieldType)) ∈ lw_all := lw_g (lw_at lw_m4 114 rfl) rfl
theorem q929 : (Jvm.Cond.methodLink "LeftAsFound$WrittenStay" (9 : Nat) ({ cls := "LeftAsFound$BroughtStay", name := "<init>", desc := "(LLeftAsFound;I)V" } : Jvm.MethodName)) ∈ lw_all := lw_g (lw_at lw_m4 115 rfl) rfl
theorem q930 : (Jvm.Cond.fieldLink "LeftAsFound$WrittenStay" (3 : Nat) "LeftAsFound$WrittenStay" "this$0" "LLeftAsFound;") ∈ lw_all := lw_g (lw_at lw_m4 116 rfl) rfl
theorem q931 : (Jvm.Cond.laysFinal "LeftAsFound$WrittenStay" "LeftAsFound$WrittenStay" "this$0" "LLeftAsFound;") ∈ lw_all := lw_g (lw_at lw_m4 117 rfl) rfl
theorem q932 : (Jvm.Cond.soleField "LeftAsFound$WrittenStay" "this$0") ∈ lw_all := lw_g (lw_at lw_m4 118 rfl) rfl
theorem q933 : (Jvm.Cond.laysFinal "LeftAsFound$WrittenStay" "LeftAsFound$BroughtStay" "this$0" "LLeftAsFound;") ∈ lw_all := lw_g (lw_at lw_m4 119 rfl) rfl
theorem q934 : (Jvm.Cond.laysFinal "LeftAsFound$WrittenStay" "LeftAsFound$TakenStay" "this$0" "LLeftAsFound;") ∈ lw_all := lw_g (lw_at lw_m4 120 rfl) rfl
theorem q935 : (Jvm.Cond.laysFinal "LeftAsFound$WrittenStay" "LeftAsFound$Body" "number" "I") ∈ lw_all := lw_g (lw_at lw_m4 121 rfl) rfl
theorem q936 : (Jvm.Cond.laysFinal "LeftAsFound$WrittenStay" "LeftAsFound$Body" "this$0" "LLeftAsFound;") ∈ lw_all := lw_g (lw_at lw_m4 122 rfl) rfl
theorem q937 : (Jvm.Cond.superclass "LeftAsFound$WrittenStay" "LeftAsFound$BroughtStay") ∈ lw_all := lw_g (lw_at lw_m4 123 rfl) rfl
theorem q1015 : (Jvm.Cond.castable "LeftAsFound$WrittenStay" "LeftAsFound$Comes") ∈ lw_tbl := lw_at lw_m4 201 rfl
theorem q1016 : (Jvm.Cond.selects "LeftAsFound$WrittenStay" ({ cls := "LeftAsFound$Comes", name := "begins", desc := "(I)V" } : Jvm.MethodName) ({ cls := "LeftAsFound$Body", name := "begins", desc := "(I)V" } : Jvm.MethodName)) ∈ lw_all := lw_g (lw_at lw_m4 202 rfl) rfl
theorem q1017 : (Jvm.Cond.unhidden "LeftAsFound$WrittenStay" "begins" "(I)V") ∈ lw_tbl := lw_at lw_m4 203 rfl
theorem q1039 : (Jvm.Cond.selects "LeftAsFound$WrittenStay" ({ cls := "LeftAsFound$Comes", name := "number", desc := "()I" } : Jvm.MethodName) ({ cls := "LeftAsFound$Body", name := "number", desc := "()I" } : Jvm.MethodName)) ∈ lw_all := lw_g (lw_at lw_m4 225 rfl) rfl
theorem q1040 : (Jvm.Cond.unhidden "LeftAsFound$WrittenStay" "number" "()I") ∈ lw_tbl := lw_at lw_m4 226 rfl
theorem q1059 : (Jvm.Cond.unhidden "LeftAsFound$WrittenStay" "comes" "(I)I") ∈ lw_tbl := lw_at lw_m5 5 rfl
theorem q1072 : (Jvm.Cond.selects "LeftAsFound$WrittenStay" ({ cls := "LeftAsFound$BroughtStay", name := "begins", desc := "(I)V" } : Jvm.MethodName) ({ cls := "LeftAsFound$Body", name := "begins", desc := "(I)V" } : Jvm.MethodName)) ∈ lw_all := lw_g (lw_at lw_m5 18 rfl) rfl
theorem q1080 : (Jvm.Cond.selects "LeftAsFound$WrittenStay" ({ cls := "LeftAsFound$TakenStay", name := "begins", desc := "(I)V" } : Jvm.MethodName) ({ cls := "LeftAsFound$Body", name := "begins", desc := "(I)V" } : Jvm.MethodName)) ∈ lw_all := lw_g (lw_at lw_m5 26 rfl) rfl
theorem q1098 : (Jvm.Cond.selects "LeftAsFound$WrittenStay" ({ cls := "LeftAsFound$Body", name := "leaves", desc := "(I)I" } : Jvm.MethodName) ({ cls := "LeftAsFound$BroughtStay", name := "leaves", desc := "(I)I" } : Jvm.MethodName)) ∈ lw_all := lw_g (lw_at lw_m5 44 rfl) rfl
theorem q1105 : (Jvm.Cond.instanceMethod ({ cls := "LeftAsFound$WrittenStay", name := "sees", desc := "(I)I" } : Jvm.MethodName)) ∈ lw_all := lw_g (lw_at lw_m5 51 rfl) rfl
theorem q1106 : (Jvm.Cond.code ({ cls := "LeftAsFound$WrittenStay", name := "sees", desc := "(I)I" } : Jvm.MethodName) prog_23_method_4_code (3 : Nat) (Option.some Jvm.ClassFile.FieldType.int)) ∈ lw_all := lw_g (lw_at lw_m5 52 rfl) rfl
theorem q1107 : (Jvm.Cond.methodLink "LeftAsFound$WrittenStay" (19 : Nat) ({ cls := "LeftAsFound$WrittenStay", name := "begins", desc := "(I)V" } : Jvm.MethodName)) ∈ lw_all := lw_g (lw_at lw_m5 53 rfl) rfl
theorem q1108 : (Jvm.Cond.sameMethod "LeftAsFound$WrittenStay" "LeftAsFound$Body" "begins" "(I)V") ∈ lw_all := lw_g (lw_at lw_m5 54 rfl) rfl
theorem q1109 : (Jvm.Cond.selects "LeftAsFound$WrittenStay" ({ cls := "LeftAsFound$WrittenStay", name := "begins", desc := "(I)V" } : Jvm.MethodName) ({ cls := "LeftAsFound$Body", name := "begins", desc := "(I)V" } : Jvm.MethodName)) ∈ lw_all := lw_g (lw_at lw_m5 55 rfl) rfl
theorem q1110 : (Jvm.Cond.methodLink "LeftAsFound$WrittenStay" (23 : Nat) ({ cls := "LeftAsFound$BroughtStay", name := "sees", desc := "(I)I" } : Jvm.MethodName)) ∈ lw_all := lw_g (lw_at lw_m5 56 rfl) rfl
theorem q1143 : (Jvm.Cond.castable "LeftAsFound$WrittenStay" "LeftAsFound$Tells") ∈ lw_tbl := lw_at lw_m5 89 rfl
theorem q1144 : (Jvm.Cond.selects "LeftAsFound$WrittenStay" ({ cls := "LeftAsFound$Tells", name := "begins", desc := "(I)V" } : Jvm.MethodName) ({ cls := "LeftAsFound$Body", name := "begins", desc := "(I)V" } : Jvm.MethodName)) ∈ lw_all := lw_g (lw_at lw_m5 90 rfl) rfl
theorem q1167 : (Jvm.Cond.selects "LeftAsFound$WrittenStay" ({ cls := "LeftAsFound$Tells", name := "leaves", desc := "(I)I" } : Jvm.MethodName) ({ cls := "LeftAsFound$BroughtStay", name := "leaves", desc := "(I)I" } : Jvm.MethodName)) ∈ lw_all := lw_g (lw_at lw_m5 113 rfl) rfl
theorem q1168 : (Jvm.Cond.unhidden "LeftAsFound$WrittenStay" "leaves" "(I)I") ∈ lw_tbl := lw_at lw_m5 114 rfl
theorem q1189 : (Jvm.Cond.selects "LeftAsFound$WrittenStay" ({ cls := "LeftAsFound$Tells", name := "sees", desc := "(I)I" } : Jvm.MethodName) ({ cls := "LeftAsFound$WrittenStay", name := "sees", desc := "(I)I" } : Jvm.MethodName)) ∈ lw_all := lw_g (lw_at lw_m5 135 rfl) rfl
theorem q1190 : (Jvm.Cond.unhidden "LeftAsFound$WrittenStay" "sees" "(I)I") ∈ lw_tbl := lw_at lw_m5 136 rfl
theorem q1191 : (Jvm.Cond.publicMethod ({ cls := "LeftAsFound$WrittenStay", name := "sees", desc := "(I)I" } : Jvm.MethodName)) ∈ lw_tbl := lw_at lw_m5 137 rfl
theorem q1193 : (Jvm.Cond.selects "LeftAsFound$WrittenStay" ({ cls := "LeftAsFound$Tells", name := "tells", desc := "(I)I" } : Jvm.MethodName) ({ cls := "LeftAsFound$WrittenStay", name := "tells", desc := "(I)I" } : Jvm.MethodName)) ∈ lw_all := lw_g (lw_at lw_m5 139 rfl) rfl
theorem q1194 : (Jvm.Cond.instanceMethod ({ cls := "LeftAsFound$WrittenStay", name := "tells", desc := "(I)I" } : Jvm.MethodName)) ∈ lw_all := lw_g (lw_at lw_m5 140 rfl) rfl
theorem q1195 : (Jvm.Cond.code ({ cls := "LeftAsFound$WrittenStay", name := "tells", desc := "(I)I" } : Jvm.MethodName) prog_23_method_5_code (2 : Nat) (Option.some Jvm.ClassFile.FieldType.int)) ∈ lw_all := lw_g (lw_at lw_m5 141 rfl) rfl
theorem q1265 : (Jvm.Cond.selects "LeftAsFound$WrittenStay" ({ cls := "LeftAsFound$Body", name := "isUnder", desc := "(I)Z" } : Jvm.MethodName) ({ cls := "LeftAsFound$WrittenStay", name := "isUnder", desc := "(I)Z" } : Jvm.MethodName)) ∈ lw_all := lw_g (lw_at lw_m5 211 rfl) rfl
theorem q1266 : (Jvm.Cond.instanceMethod ({ cls := "LeftAsFound$WrittenStay", name := "isUnder", desc := "(I)Z" } : Jvm.MethodName)) ∈ lw_all := lw_g (lw_at lw_m5 212 rfl) rfl
theorem q1267 : (Jvm.Cond.code ({ cls := "LeftAsFound$WrittenStay", name := "isUnder", desc := "(I)Z" } : Jvm.MethodName) prog_23_method_3_code (2 : Nat) (Option.some Jvm.ClassFile.FieldType.boolean)) ∈ lw_all := lw_g (lw_at lw_m5 213 rfl) rfl
theorem q1268 : (Jvm.Cond.methodLink "LeftAsFound$WrittenStay" (15 : Nat) ({ cls := "LeftAsFound$BroughtStay", name := "isUnder", desc := "(I)Z" } : Jvm.MethodName)) ∈ lw_all := lw_g (lw_at lw_m5 214 rfl) rfl
theorem q1292 : (Jvm.Cond.selects "LeftAsFound$WrittenStay" ({ cls := "LeftAsFound$Body", name := "kind", desc := "()I" } : Jvm.MethodName) ({ cls := "LeftAsFound$WrittenStay", name := "kind", desc := "()I" } : Jvm.MethodName)) ∈ lw_all := lw_g (lw_at lw_m5 238 rfl) rfl
theorem q1293 : (Jvm.Cond.instanceMethod ({ cls := "LeftAsFound$WrittenStay", name := "kind", desc := "()I" } : Jvm.MethodName)) ∈ lw_all := lw_g (lw_at lw_m5 239 rfl) rfl
theorem q1294 : (Jvm.Cond.code ({ cls := "LeftAsFound$WrittenStay", name := "kind", desc := "()I" } : Jvm.MethodName) prog_23_method_2_code (1 : Nat) (Option.some Jvm.ClassFile.FieldType.int)) ∈ lw_all := lw_g (lw_at lw_m6 0 rfl) rfl
theorem q1917 : (Jvm.Cond.selects "LeftAsFound$WrittenStay" ({ cls := "LeftAsFound$Body", name := "begins", desc := "(I)V" } : Jvm.MethodName) ({ cls := "LeftAsFound$Body", name := "begins", desc := "(I)V" } : Jvm.MethodName)) ∈ lw_all := lw_g (lw_at lw_m8 143 rfl) rfl
theorem q1926 : (Jvm.Cond.selects "LeftAsFound$WrittenStay" ({ cls := "LeftAsFound$Body", name := "sees", desc := "(I)I" } : Jvm.MethodName) ({ cls := "LeftAsFound$WrittenStay", name := "sees", desc := "(I)I" } : Jvm.MethodName)) ∈ lw_all := lw_g (lw_at lw_m8 152 rfl) rfl
theorem q1938 : (Jvm.Cond.castable "LeftAsFound$WrittenStay" "LeftAsFound$Body") ∈ lw_tbl := lw_at lw_m8 164 rfl
theorem q1956 : (Jvm.Cond.castable "LeftAsFound$WrittenStay" "java/lang/Object") ∈ lw_tbl := lw_at lw_m8 182 rfl
theorem in_X19 : ∀ w ∈ wsX190, w ∈ lw_all := lw_in wsX190 [935, 936, 934, 933, 931] (by decide +kernel) (by decide +kernel)

/-! LeftAsFound$Held -/
set_option maxRecDepth 100000
def RX2 : String := "LeftAsFound$Held"
def TX2 : u_T := fun k => match k with
  | _ => ("LeftAsFound$Held", "v", "I", false)
def tyX2 : Nat → FieldType := fun k => match k with
  | _ => .int
abbrev wsX20 : List Cond := u_ws RX2 TX2 1
theorem nmX2 : ∀ a, a < 1 → ∀ b, b < 1 → a ≠ b → (TX2 a).2.1 ≠ (TX2 b).2.1 := by decide +kernel
theorem tyX2_ok : ∀ k, k < 1 → parseFieldDescriptor (TX2 k).2.2.1 = some (tyX2 k) := by decide +kernel
abbrev cX2_init : ByteArray := prog_12_method_1_code
def yX2_init : MethodName := ⟨RX2, "<init>", "()V"⟩
theorem dX2_init_0 : decode cX2_init 0 = .ok (.aload_n 0, 1) := by decide +kernel
theorem dX2_init_1 : decode cX2_init 1 = .ok (.invokespecial 1, 3) := by decide +kernel
theorem dX2_init_4 : decode cX2_init 4 = .ok (.return_, 1) := by decide +kernel
theorem q100 : (Jvm.Cond.initialized "LeftAsFound$Held") ∈ lw_all := lw_g (lw_at lw_m1 6 rfl) rfl
theorem q213 : (Jvm.Cond.instantiable "LeftAsFound$Held" (1 : Nat)) ∈ lw_all := lw_g (lw_at lw_m1 119 rfl) rfl
theorem q215 : (Jvm.Cond.instanceMethod ({ cls := "LeftAsFound$Held", name := "<init>", desc := "()V" } : Jvm.MethodName)) ∈ lw_all := lw_g (lw_at lw_m1 121 rfl) rfl
theorem q216 : (Jvm.Cond.code ({ cls := "LeftAsFound$Held", name := "<init>", desc := "()V" } : Jvm.MethodName) prog_12_method_1_code (1 : Nat) (Option.none : Option Jvm.ClassFile.FieldType)) ∈ lw_all := lw_g (lw_at lw_m1 122 rfl) rfl
theorem q217 : (Jvm.Cond.methodLink "LeftAsFound$Held" (1 : Nat) ({ cls := "java/lang/Object", name := "<init>", desc := "()V" } : Jvm.MethodName)) ∈ lw_all := lw_g (lw_at lw_m1 123 rfl) rfl
theorem q220 : (Jvm.Cond.lays "LeftAsFound$Held" "LeftAsFound$Held" "v" "I") ∈ lw_all := lw_g (lw_at lw_m1 126 rfl) rfl
theorem q221 : (Jvm.Cond.soleField "LeftAsFound$Held" "v") ∈ lw_all := lw_g (lw_at lw_m1 127 rfl) rfl
theorem q222 : (Jvm.Cond.superclass "LeftAsFound$Held" "java/lang/Object") ∈ lw_all := lw_g (lw_at lw_m1 128 rfl) rfl
theorem q1941 : (Jvm.Cond.castable "LeftAsFound$Held" "java/lang/Object") ∈ lw_tbl := lw_at lw_m8 167 rfl
theorem in_X2 : ∀ w ∈ wsX20, w ∈ lw_all := lw_in wsX20 [220] (by decide +kernel) (by decide +kernel)

/-! LeftAsFound$BareStay -/
set_option maxRecDepth 100000
def RX20 : String := "LeftAsFound$BareStay"
def TX20 : u_T := fun k => match k with
  | 0 => ("LeftAsFound$Body", "number", "I", true)
  | 1 => ("LeftAsFound$Body", "this$0", "LLeftAsFound;", true)
  | _ => ("LeftAsFound$BareStay", "this$0", "LLeftAsFound;", true)
def tyX20 : Nat → FieldType := fun k => match k with
  | 0 => .int
  | 1 => .object "LeftAsFound"
  | _ => .object "LeftAsFound"
abbrev wsX200 : List Cond := u_ws RX20 TX20 3
-- two fields of one name: no nmX20
theorem tyX20_ok : ∀ k, k < 3 → parseFieldDescriptor (TX20 k).2.2.1 = some (tyX20 k) := by decide +kernel
abbrev cX20_init : ByteArray := prog_2_method_1_code
def yX20_init : MethodName := ⟨RX20, "<init>", "(LLeftAsFound;I)V"⟩
def dkwX20_init_0 : List UInt8 := [42, 43, 181, 0, 3, 42, 43, 28, 183, 0, 9, 177]
abbrev dktX20_init_0 : List UInt8 := dkwX20_init_0 ++ []
theorem dksX20_init_0 : cX20_init.data.toList.drop 0 = dktX20_init_0 := by decide +kernel
theorem dX20_init_0 : decode cX20_init 0 = .ok (.aload_n 0, 1) := dk_42 (dk_at dksX20_init_0 0 rfl rfl)
theorem dX20_init_1 : decode cX20_init 1 = .ok (.aload_n 1, 1) := dk_43 (dk_at dksX20_init_0 1 rfl rfl)
theorem dX20_init_2 : decode cX20_init 2 = .ok (.putfield 3, 3) := dk_181 0 3 (dk_at dksX20_init_0 2 rfl rfl)
theorem dX20_init_5 : decode cX20_init 5 = .ok (.aload_n 0, 1) := dk_42 (dk_at dksX20_init_0 5 rfl rfl)
theorem dX20_init_6 : decode cX20_init 6 = .ok (.aload_n 1, 1) := dk_43 (dk_at dksX20_init_0 6 rfl rfl)
theorem dX20_init_7 : decode cX20_init 7 = .ok (.iload_n 2, 1) := dk_28 (dk_at dksX20_init_0 7 rfl rfl)
theorem dX20_init_8 : decode cX20_init 8 = .ok (.invokespecial 9, 3) := dk_183 0 9 (dk_at dksX20_init_0 8 rfl rfl)
theorem dX20_init_11 : decode cX20_init 11 = .ok (.return_, 1) := dk_177 (dk_at dksX20_init_0 11 rfl rfl)
abbrev cX20_comes : ByteArray := prog_2_method_4_code
def yX20_comes : MethodName := ⟨RX20, "comes", "(I)I"⟩
def dkwX20_comes_0 : List UInt8 := [42, 16, 70, 182, 0, 19, 42, 27, 183, 0, 23, 5, 104, 172]
abbrev dktX20_comes_0 : List UInt8 := dkwX20_comes_0 ++ []
theorem dksX20_comes_0 : cX20_comes.data.toList.drop 0 = dktX20_comes_0 := by decide +kernel
theorem dX20_comes_0 : decode cX20_comes 0 = .ok (.aload_n 0, 1) := dk_42 (dk_at dksX20_comes_0 0 rfl rfl)
theorem dX20_comes_1 : decode cX20_comes 1 = .ok (.bipush 70, 2) := dk_16 70 (dk_at dksX20_comes_0 1 rfl rfl)
theorem dX20_comes_3 : decode cX20_comes 3 = .ok (.invokevirtual 19, 3) := dk_182 0 19 (dk_at dksX20_comes_0 3 rfl rfl)
theorem dX20_comes_6 : decode cX20_comes 6 = .ok (.aload_n 0, 1) := dk_42 (dk_at dksX20_comes_0 6 rfl rfl)
theorem dX20_comes_7 : decode cX20_comes 7 = .ok (.iload_n 1, 1) := dk_27 (dk_at dksX20_comes_0 7 rfl rfl)
theorem dX20_comes_8 : decode cX20_comes 8 = .ok (.invokespecial 23, 3) := dk_183 0 23 (dk_at dksX20_comes_0 8 rfl rfl)
theorem dX20_comes_11 : decode cX20_comes 11 = .ok (.iconst 2, 1) := dk_5 (dk_at dksX20_comes_0 11 rfl rfl)
theorem dX20_comes_12 : decode cX20_comes 12 = .ok (.imul, 1) := dk_104 (dk_at dksX20_comes_0 12 rfl rfl)
theorem dX20_comes_13 : decode cX20_comes 13 = .ok (.ireturn, 1) := dk_172 (dk_at dksX20_comes_0 13 rfl rfl)
abbrev cX20_isUnder : ByteArray := prog_2_method_3_code
def yX20_isUnder : MethodName := ⟨RX20, "isUnder", "(I)Z"⟩
def dkwX20_isUnder_0 : List UInt8 := [27, 16, 6, 159, 0, 11, 42, 27, 183, 0, 15, 153, 0, 7, 4, 167, 0, 4, 3, 172]
abbrev dktX20_isUnder_0 : List UInt8 := dkwX20_isUnder_0 ++ []
theorem dksX20_isUnder_0 : cX20_isUnder.data.toList.drop 0 = dktX20_isUnder_0 := by decide +kernel
theorem dX20_isUnder_0 : decode cX20_isUnder 0 = .ok (.iload_n 1, 1) := dk_27 (dk_at dksX20_isUnder_0 0 rfl rfl)
theorem dX20_isUnder_1 : decode cX20_isUnder 1 = .ok (.bipush 6, 2) := dk_16 6 (dk_at dksX20_isUnder_0 1 rfl rfl)
theorem dX20_isUnder_3 : decode cX20_isUnder 3 = .ok (.if_icmp .eq 11, 3) := dk_159 0 11 (dk_at dksX20_isUnder_0 3 rfl rfl)
theorem dX20_isUnder_6 : decode cX20_isUnder 6 = .ok (.aload_n 0, 1) := dk_42 (dk_at dksX20_isUnder_0 6 rfl rfl)
theorem dX20_isUnder_7 : decode cX20_isUnder 7 = .ok (.iload_n 1, 1) := dk_27 (dk_at dksX20_isUnder_0 7 rfl rfl)
theorem dX20_isUnder_8 : decode cX20_isUnder 8 = .ok (.invokespecial 15, 3) := dk_183 0 15 (dk_at dksX20_isUnder_0 8 rfl rfl)
theorem dX20_isUnder_11 : decode cX20_isUnder 11 = .ok (.ifCond .eq 7, 3) := dk_153 0 7 (dk_at dksX20_isUnder_0 11 rfl rfl)
theorem dX20_isUnder_14 : decode cX20_isUnder 14 = .ok (.iconst 1, 1) := dk_4 (dk_at dksX20_isUnder_0 14 rfl rfl)
theorem dX20_isUnder_15 : decode cX20_isUnder 15 = .ok (.goto 4, 3) := dk_167 0 4 (dk_at dksX20_isUnder_0 15 rfl rfl)
theorem dX20_isUnder_18 : decode cX20_isUnder 18 = .ok (.iconst 0, 1) := dk_3 (dk_at dksX20_isUnder_0 18 rfl rfl)
theorem dX20_isUnder_19 : decode cX20_isUnder 19 = .ok (.ireturn, 1) := dk_172 (dk_at dksX20_isUnder_0 19 rfl rfl)
abbrev cX20_kind : ByteArray := prog_2_method_2_code
def yX20_kind : MethodName := ⟨RX20, "kind", "()I"⟩
theorem dX20_kind_0 : decode cX20_kind 0 = .ok (.bipush 6, 2) := by decide +kernel
theorem dX20_kind_2 : decode cX20_kind 2 = .ok (.ireturn, 1) := by decide +kernel
theorem q120 : (Jvm.Cond.initialized "LeftAsFound$BareStay") ∈ lw_all := lw_g (lw_at lw_m1 26 rfl) rfl
theorem q939 : (Jvm.Cond.instantiable "LeftAsFound$BareStay" (3 : Nat)) ∈ lw_all := lw_g (lw_at lw_m4 125 rfl) rfl
theorem q941 : (Jvm.Cond.instanceMethod ({ cls := "LeftAsFound$BareStay", name := "<init>", desc := "(LLeftAsFound;I)V" } : Jvm.MethodName)) ∈ lw_all := lw_g (lw_at lw_m4 127 rfl) rfl
theorem q942 : (Jvm.Cond.code ({ cls := "LeftAsFound$BareStay", name := "<init>", desc := "(LLeftAsFound;I)V" } : Jvm.MethodName) prog_2_method_1_code (3 : Nat) (Option.none : Option Jvm.ClassFile.FieldType)) ∈ lw_all := lw_g (lw_at lw_m4 128 rfl) rfl
theorem q943 : (Jvm.Cond.methodLink "LeftAsFound$BareStay" (9 : Nat) ({ cls := "LeftAsFound$Body", name := "<init>", desc := "(LLeftAsFound;I)V" } : Jvm.MethodName)) ∈ lw_all := lw_g (lw_at lw_m4 129 rfl) rfl
theorem q944 : (Jvm.Cond.fieldLink "LeftAsFound$BareStay" (3 : Nat) "LeftAsFound$BareStay" "this$0" "LLeftAsFound;") ∈ lw_all := lw_g (lw_at lw_m4 130 rfl) rfl
theorem q945 : (Jvm.Cond.laysFinal "LeftAsFound$BareStay" "LeftAsFound$BareStay" "this$0" "LLeftAsFound;") ∈ lw_all := lw_g (lw_at lw_m4 131 rfl) rfl
theorem q946 : (Jvm.Cond.soleField "LeftAsFound$BareStay" "this$0") ∈ lw_all := lw_g (lw_at lw_m4 132 rfl) rfl
theorem q947 : (Jvm.Cond.laysFinal "LeftAsFound$BareStay" "LeftAsFound$Body" "number" "I") ∈ lw_all := lw_g (lw_at lw_m4 133 rfl) rfl
theorem q948 : (Jvm.Cond.laysFinal "LeftAsFound$BareStay" "LeftAsFound$Body" "this$0" "LLeftAsFound;") ∈ lw_all := lw_g (lw_at lw_m4 134 rfl) rfl
theorem q949 : (Jvm.Cond.superclass "LeftAsFound$BareStay" "LeftAsFound$Body") ∈ lw_all := lw_g (lw_at lw_m4 135 rfl) rfl
theorem q977 : (Jvm.Cond.selects "LeftAsFound$BareStay" ({ cls := "LeftAsFound$Comes", name := "comes", desc := "(I)I" } : Jvm.MethodName) ({ cls := "LeftAsFound$BareStay", name := "comes", desc := "(I)I" } : Jvm.MethodName)) ∈ lw_all := lw_g (lw_at lw_m4 163 rfl) rfl
theorem q978 : (Jvm.Cond.instanceMethod ({ cls := "LeftAsFound$BareStay", name := "comes", desc := "(I)I" } : Jvm.MethodName)) ∈ lw_all := lw_g (lw_at lw_m4 164 rfl) rfl
theorem q979 : (Jvm.Cond.code ({ cls := "LeftAsFound$BareStay", name := "comes", desc := "(I)I" } : Jvm.MethodName) prog_2_method_4_code (2 : Nat) (Option.some Jvm.ClassFile.FieldType.int)) ∈ lw_all := lw_g (lw_at lw_m4 165 rfl) rfl
theorem q980 : (Jvm.Cond.methodLink "LeftAsFound$BareStay" (19 : Nat) ({ cls := "LeftAsFound$BareStay", name := "begins", desc := "(I)V" } : Jvm.MethodName)) ∈ lw_all := lw_g (lw_at lw_m4 166 rfl) rfl
theorem q981 : (Jvm.Cond.sameMethod "LeftAsFound$BareStay" "LeftAsFound$Body" "begins" "(I)V") ∈ lw_all := lw_g (lw_at lw_m4 167 rfl) rfl
theorem q983 : (Jvm.Cond.selects "LeftAsFound$BareStay" ({ cls := "LeftAsFound$BareStay", name := "begins", desc := "(I)V" } : Jvm.MethodName) ({ cls := "LeftAsFound$Body", name := "begins", desc := "(I)V" } : Jvm.MethodName)) ∈ lw_all := lw_g (lw_at lw_m4 169 rfl) rfl
theorem q993 : (Jvm.Cond.castable "LeftAsFound$BareStay" "LeftAsFound$Comes") ∈ lw_tbl := lw_at lw_m4 179 rfl
theorem q994 : (Jvm.Cond.selects "LeftAsFound$BareStay" ({ cls := "LeftAsFound$Comes", name := "begins", desc := "(I)V" } : Jvm.MethodName) ({ cls := "LeftAsFound$Body", name := "begins", desc := "(I)V" } : Jvm.MethodName)) ∈ lw_all := lw_g (lw_at lw_m4 180 rfl) rfl
theorem q995 : (Jvm.Cond.unhidden "LeftAsFound$BareStay" "begins" "(I)V") ∈ lw_tbl := lw_at lw_m4 181 rfl
theorem q1022 : (Jvm.Cond.selects "LeftAsFound$BareStay" ({ cls := "LeftAsFound$Comes", name := "number", desc := "()I" } : Jvm.MethodName) ({ cls := "LeftAsFound$Body", name := "number", desc := "()I" } : Jvm.MethodName)) ∈ lw_all := lw_g (lw_at lw_m4 208 rfl) rfl
theorem q1023 : (Jvm.Cond.unhidden "LeftAsFound$BareStay" "number" "()I") ∈ lw_tbl := lw_at lw_m4 209 rfl
theorem q1065 : (Jvm.Cond.selects "LeftAsFound$BareStay" ({ cls := "LeftAsFound$Body", name := "leaves", desc := "(I)I" } : Jvm.MethodName) ({ cls := "LeftAsFound$Body", name := "leaves", desc := "(I)I" } : Jvm.MethodName)) ∈ lw_all := lw_g (lw_at lw_m5 11 rfl) rfl
theorem q1087 : (Jvm.Cond.sameMethod "LeftAsFound$BareStay" "LeftAsFound$Body" "leaves" "(I)I") ∈ lw_all := lw_g (lw_at lw_m5 33 rfl) rfl
theorem q1112 : (Jvm.Cond.unhidden "LeftAsFound$BareStay" "tells" "(I)I") ∈ lw_tbl := lw_at lw_m5 58 rfl
theorem q1129 : (Jvm.Cond.castable "LeftAsFound$BareStay" "LeftAsFound$Tells") ∈ lw_tbl := lw_at lw_m5 75 rfl
theorem q1130 : (Jvm.Cond.selects "LeftAsFound$BareStay" ({ cls := "LeftAsFound$Tells", name := "begins", desc := "(I)V" } : Jvm.MethodName) ({ cls := "LeftAsFound$Body", name := "begins", desc := "(I)V" } : Jvm.MethodName)) ∈ lw_all := lw_g (lw_at lw_m5 76 rfl) rfl
theorem q1149 : (Jvm.Cond.selects "LeftAsFound$BareStay" ({ cls := "LeftAsFound$Tells", name := "leaves", desc := "(I)I" } : Jvm.MethodName) ({ cls := "LeftAsFound$Body", name := "leaves", desc := "(I)I" } : Jvm.MethodName)) ∈ lw_all := lw_g (lw_at lw_m5 95 rfl) rfl
theorem q1150 : (Jvm.Cond.unhidden "LeftAsFound$BareStay" "leaves" "(I)I") ∈ lw_tbl := lw_at lw_m5 96 rfl
theorem q1173 : (Jvm.Cond.selects "LeftAsFound$BareStay" ({ cls := "LeftAsFound$Tells", name := "sees", desc := "(I)I" } : Jvm.MethodName) ({ cls := "LeftAsFound$Body", name := "sees", desc := "(I)I" } : Jvm.MethodName)) ∈ lw_all := lw_g (lw_at lw_m5 119 rfl) rfl
theorem q1174 : (Jvm.Cond.unhidden "LeftAsFound$BareStay" "sees" "(I)I") ∈ lw_tbl := lw_at lw_m5 120 rfl
theorem q1241 : (Jvm.Cond.selects "LeftAsFound$BareStay" ({ cls := "LeftAsFound$Body", name := "isUnder", desc := "(I)Z" } : Jvm.MethodName) ({ cls := "LeftAsFound$BareStay", name := "isUnder", desc := "(I)Z" } : Jvm.MethodName)) ∈ lw_all := lw_g (lw_at lw_m5 187 rfl) rfl
theorem q1242 : (Jvm.Cond.instanceMethod ({ cls := "LeftAsFound$BareStay", name := "isUnder", desc := "(I)Z" } : Jvm.MethodName)) ∈ lw_all := lw_g (lw_at lw_m5 188 rfl) rfl
theorem q1243 : (Jvm.Cond.code ({ cls := "LeftAsFound$BareStay", name := "isUnder", desc := "(I)Z" } : Jvm.MethodName) prog_2_method_3_code (2 : Nat) (Option.some Jvm.ClassFile.FieldType.boolean)) ∈ lw_all := lw_g (lw_at lw_m5 189 rfl) rfl
theorem q1244 : (Jvm.Cond.methodLink "LeftAsFound$BareStay" (15 : Nat) ({ cls := "LeftAsFound$Body", name := "isUnder", desc := "(I)Z" } : Jvm.MethodName)) ∈ lw_all := lw_g (lw_at lw_m5 190 rfl) rfl
theorem q1274 : (Jvm.Cond.selects "LeftAsFound$BareStay" ({ cls := "LeftAsFound$Body", name := "kind", desc := "()I" } : Jvm.MethodName) ({ cls := "LeftAsFound$BareStay", name := "kind", desc := "()I" } : Jvm.MethodName)) ∈ lw_all := lw_g (lw_at lw_m5 220 rfl) rfl
theorem q1275 : (Jvm.Cond.instanceMethod ({ cls := "LeftAsFound$BareStay", name := "kind", desc := "()I" } : Jvm.MethodName)) ∈ lw_all := lw_g (lw_at lw_m5 221 rfl) rfl
theorem q1276 : (Jvm.Cond.code ({ cls := "LeftAsFound$BareStay", name := "kind", desc := "()I" } : Jvm.MethodName) prog_2_method_2_code (1 : Nat) (Option.some Jvm.ClassFile.FieldType.int)) ∈ lw_all := lw_g (lw_at lw_m5 222 rfl) rfl
theorem q1907 : (Jvm.Cond.sameMethod "LeftAsFound$BareStay" "LeftAsFound$BareStay" "comes" "(I)I") ∈ lw_all := lw_g (lw_at lw_m8 133 rfl) rfl
theorem q1910 : (Jvm.Cond.selects "LeftAsFound$BareStay" ({ cls := "LeftAsFound$Body", name := "begins", desc := "(I)V" } : Jvm.MethodName) ({ cls := "LeftAsFound$Body", name := "begins", desc := "(I)V" } : Jvm.MethodName)) ∈ lw_all := lw_g (lw_at lw_m8 136 rfl) rfl
theorem q1919 : (Jvm.Cond.selects "LeftAsFound$BareStay" ({ cls := "LeftAsFound$Body", name := "sees", desc := "(I)I" } : Jvm.MethodName) ({ cls := "LeftAsFound$Body", name := "sees", desc := "(I)I" } : Jvm.MethodName)) ∈ lw_all := lw_g (lw_at lw_m8 145 rfl) rfl
theorem q1929 : (Jvm.Cond.sameMethod "LeftAsFound$BareStay" "LeftAsFound$BareStay" "isUnder" "(I)Z") ∈ lw_all := lw_g (lw_at lw_m8 155 rfl) rfl
theorem q1932 : (Jvm.Cond.castable "LeftAsFound$BareStay" "LeftAsFound$Body") ∈ lw_tbl := lw_at lw_m8 158 rfl
theorem q1957 : (Jvm.Cond.castable "LeftAsFound$BareStay" "java/lang/Object") ∈ lw_tbl := lw_at lw_m8 183 rfl
theorem in_X20 : ∀ w ∈ wsX200, w ∈ lw_all := lw_in wsX200 [947, 948, 945] (by decide +kernel) (by decide +kernel)

/-! LeftAsFound$MouseStay -/
set_option maxRecDepth 100000
def RX21 : String := "LeftAsFound$MouseStay"
def TX21 : u_T := fun k => match k with
  | 0 => ("LeftAsFound$Body", "number", "I", true)
  | 1 => ("LeftAsFound$Body", "this$0", "LLeftAsFound;", true)
  | 2 => ("LeftAsFound$BareStay", "this$0", "LLeftAsFound;", true)
  | _ => ("LeftAsFound$MouseStay", "this$0", "LLeftAsFound;", true)
def tyX21 : Nat → FieldType := fun k => match k with
  | 0 => .int
  | 1 => .object "LeftAsFound"
  | 2 => .object "LeftAsFound"
  | _ => .object "LeftAsFound"
abbrev wsX210 : List Cond := u_ws RX21 TX21 4
-- two fields of one name: no nmX21
theorem tyX21_ok : ∀ k, k < 4 → parseFieldDescriptor (TX21 k).2.2.1 = some (tyX21 k) := by decide +kernel
abbrev cX21_init : ByteArray := prog_15_method_1_code
def yX21_init : MethodName := ⟨RX21, "<init>", "(LLeftAsFound;I)V"⟩
def dkwX21_init_0 : List UInt8 := [42, 43, 181, 0, 3, 42, 43, 28, 183, 0, 9, 177]
abbrev dktX21_init_0 : List UInt8 := dkwX21_init_0 ++ []
theorem dksX21_init_0 : cX21_init.data.toList.drop 0 = dktX21_init_0 := by decide +kernel
theorem dX21_init_0 : decode cX21_init 0 = .ok (.aload_n 0, 1) := dk_42 (dk_at dksX21_init_0 0 rfl rfl)
theorem dX21_init_1 : decode cX21_init 1 = .ok (.aload_n 1, 1) := dk_43 (dk_at dksX21_init_0 1 rfl rfl)
theorem dX21_init_2 : decode cX21_init 2 = .ok (.putfield 3, 3) := dk_181 0 3 (dk_at dksX21_init_0 2 rfl rfl)
theorem dX21_init_5 : decode cX21_init 5 = .ok (.aload_n 0, 1) := dk_42 (dk_at dksX21_init_0 5 rfl rfl)
theorem dX21_init_6 : decode cX21_init 6 = .ok (.aload_n 1, 1) := dk_43 (dk_at dksX21_init_0 6 rfl rfl)
theorem dX21_init_7 : decode cX21_init 7 = .ok (.iload_n 2, 1) := dk_28 (dk_at dksX21_init_0 7 rfl rfl)
theorem dX21_init_8 : decode cX21_init 8 = .ok (.invokespecial 9, 3) := dk_183 0 9 (dk_at dksX21_init_0 8 rfl rfl)
theorem dX21_init_11 : decode cX21_init 11 = .ok (.return_, 1) := dk_177 (dk_at dksX21_init_0 11 rfl rfl)
abbrev cX21_comes : ByteArray := prog_15_method_5_code
def yX21_comes : MethodName := ⟨RX21, "comes", "(I)I"⟩
def dkwX21_comes_0 : List UInt8 := [42, 16, 81, 182, 0, 19, 42, 27, 183, 0, 30, 4, 100, 172]
abbrev dktX21_comes_0 : List UInt8 := dkwX21_comes_0 ++ []
theorem dksX21_comes_0 : cX21_comes.data.toList.drop 0 = dktX21_comes_0 := by decide +kernel
theorem dX21_comes_0 : decode cX21_comes 0 = .ok (.aload_n 0, 1) := dk_42 (dk_at dksX21_comes_0 0 rfl rfl)
theorem dX21_comes_1 : decode cX21_comes 1 = .ok (.bipush 81, 2) := dk_16 81 (dk_at dksX21_comes_0 1 rfl rfl)
theorem dX21_comes_3 : decode cX21_comes 3 = .ok (.invokevirtual 19, 3) := dk_182 0 19 (dk_at dksX21_comes_0 3 rfl rfl)
theorem dX21_comes_6 : decode cX21_comes 6 = .ok (.aload_n 0, 1) := dk_42 (dk_at dksX21_comes_0 6 rfl rfl)
theorem dX21_comes_7 : decode cX21_comes 7 = .ok (.iload_n 1, 1) := dk_27 (dk_at dksX21_comes_0 7 rfl rfl)
theorem dX21_comes_8 : decode cX21_comes 8 = .ok (.invokespecial 30, 3) := dk_183 0 30 (dk_at dksX21_comes_0 8 rfl rfl)
theorem dX21_comes_11 : decode cX21_comes 11 = .ok (.iconst 1, 1) := dk_4 (dk_at dksX21_comes_0 11 rfl rfl)
theorem dX21_comes_12 : decode cX21_comes 12 = .ok (.isub, 1) := dk_100 (dk_at dksX21_comes_0 12 rfl rfl)
theorem dX21_comes_13 : decode cX21_comes 13 = .ok (.ireturn, 1) := dk_172 (dk_at dksX21_comes_0 13 rfl rfl)
abbrev cX21_leaves : ByteArray := prog_15_method_4_code
def yX21_leaves : MethodName := ⟨RX21, "leaves", "(I)I"⟩
def dkwX21_leaves_0 : List UInt8 := [42, 16, 80, 182, 0, 19, 42, 27, 183, 0, 23, 61, 28, 42, 5, 182, 0, 27, 96, 172]
abbrev dktX21_leaves_0 : List UInt8 := dkwX21_leaves_0 ++ []
theorem dksX21_leaves_0 : cX21_leaves.data.toList.drop 0 = dktX21_leaves_0 := by decide +kernel
theorem dX21_leaves_0 : decode cX21_leaves 0 = .ok (.aload_n 0, 1) := dk_42 (dk_at dksX21_leaves_0 0 rfl rfl)
theorem dX21_leaves_1 : decode cX21_leaves 1 = .ok (.bipush 80, 2) := dk_16 80 (dk_at dksX21_leaves_0 1 rfl rfl)
theorem dX21_leaves_3 : decode cX21_leaves 3 = .ok (.invokevirtual 19, 3) := dk_182 0 19 (dk_at dksX21_leaves_0 3 rfl rfl)
theorem dX21_leaves_6 : decode cX21_leaves 6 = .ok (.aload_n 0, 1) := dk_42 (dk_at dksX21_leaves_0 6 rfl rfl)
theorem dX21_leaves_7 : decode cX21_leaves 7 = .ok (.iload_n 1, 1) := dk_27 (dk_at dksX21_leaves_0 7 rfl rfl)
theorem dX21_leaves_8 : decode cX21_leaves 8 = .ok (.invokespecial 23, 3) := dk_183 0 23 (dk_at dksX21_leaves_0 8 rfl rfl)
theorem dX21_leaves_11 : decode cX21_leaves 11 = .ok (.istore_n 2, 1) := dk_61 (dk_at dksX21_leaves_0 11 rfl rfl)
theorem dX21_leaves_12 : decode cX21_leaves 12 = .ok (.iload_n 2, 1) := dk_28 (dk_at dksX21_leaves_0 12 rfl rfl)
theorem dX21_leaves_13 : decode cX21_leaves 13 = .ok (.aload_n 0, 1) := dk_42 (dk_at dksX21_leaves_0 13 rfl rfl)
theorem dX21_leaves_14 : decode cX21_leaves 14 = .ok (.iconst 2, 1) := dk_5 (dk_at dksX21_leaves_0 14 rfl rfl)
theorem dX21_leaves_15 : decode cX21_leaves 15 = .ok (.invokevirtual 27, 3) := dk_182 0 27 (dk_at dksX21_leaves_0 15 rfl rfl)
theorem dX21_leaves_18 : decode cX21_leaves 18 = .ok (.iadd, 1) := dk_96 (dk_at dksX21_leaves_0 18 rfl rfl)
theorem dX21_leaves_19 : decode cX21_leaves 19 = .ok (.ireturn, 1) := dk_172 (dk_at dksX21_leaves_0 19 rfl rfl)
abbrev cX21_isUnder : ByteArray := prog_15_method_3_code
def yX21_isUnder : MethodName := ⟨RX21, "isUnder", "(I)Z"⟩
def dkwX21_isUnder_0 : List UInt8 := [27, 16, 7, 159, 0, 11, 42, 27, 183, 0, 15, 153, 0, 7, 4, 167, 0, 4, 3, 172]
abbrev dktX21_isUnder_0 : List UInt8 := dkwX21_isUnder_0 ++ []
theorem dksX21_isUnder_0 : cX21_isUnder.data.toList.drop 0 = dktX21_isUnder_0 := by decide +kernel
theorem dX21_isUnder_0 : decode cX21_isUnder 0 = .ok (.iload_n 1, 1) := dk_27 (dk_at dksX21_isUnder_0 0 rfl rfl)
theorem dX21_isUnder_1 : decode cX21_isUnder 1 = .ok (.bipush 7, 2) := dk_16 7 (dk_at dksX21_isUnder_0 1 rfl rfl)
theorem dX21_isUnder_3 : decode cX21_isUnder 3 = .ok (.if_icmp .eq 11, 3) := dk_159 0 11 (dk_at dksX21_isUnder_0 3 rfl rfl)
theorem dX21_isUnder_6 : decode cX21_isUnder 6 = .ok (.aload_n 0, 1) := dk_42 (dk_at dksX21_isUnder_0 6 rfl rfl)
theorem dX21_isUnder_7 : decode cX21_isUnder 7 = .ok (.iload_n 1, 1) := dk_27 (dk_at dksX21_isUnder_0 7 rfl rfl)
theorem dX21_isUnder_8 : decode cX21_isUnder 8 = .ok (.invokespecial 15, 3) := dk_183 0 15 (dk_at dksX21_isUnder_0 8 rfl rfl)
theorem dX21_isUnder_11 : decode cX21_isUnder 11 = .ok (.ifCond .eq 7, 3) := dk_153 0 7 (dk_at dksX21_isUnder_0 11 rfl rfl)
theorem dX21_isUnder_14 : decode cX21_isUnder 14 = .ok (.iconst 1, 1) := dk_4 (dk_at dksX21_isUnder_0 14 rfl rfl)
theorem dX21_isUnder_15 : decode cX21_isUnder 15 = .ok (.goto 4, 3) := dk_167 0 4 (dk_at dksX21_isUnder_0 15 rfl rfl)
theorem dX21_isUnder_18 : decode cX21_isUnder 18 = .ok (.iconst 0, 1) := dk_3 (dk_at dksX21_isUnder_0 18 rfl rfl)
theorem dX21_isUnder_19 : decode cX21_isUnder 19 = .ok (.ireturn, 1) := dk_172 (dk_at dksX21_isUnder_0 19 rfl rfl)
abbrev cX21_kind : ByteArray := prog_15_method_2_code
def yX21_kind : MethodName := ⟨RX21, "kind", "()I"⟩
theorem dX21_kind_0 : decode cX21_kind 0 = .ok (.bipush 7, 2) := by decide +kernel
theorem dX21_kind_2 : decode cX21_kind 2 = .ok (.ireturn, 1) := by decide +kernel
theorem q121 : (Jvm.Cond.initialized "LeftAsFound$MouseStay") ∈ lw_all := lw_g (lw_at lw_m1 27 rfl) rfl
theorem q951 : (Jvm.Cond.instantiable "LeftAsFound$MouseStay" (4 : Nat)) ∈ lw_all := lw_g (lw_at lw_m4 137 rfl) rfl
theorem q953 : (Jvm.Cond.instanceMethod ({ cls := "LeftAsFound$MouseStay", name := "<init>", desc := "(LLeftAsFound;I)V" } : Jvm.MethodName)) ∈ lw_all := lw_g (lw_at lw_m4 139 rfl) rfl
theorem q954 : (Jvm.Cond.code ({ cls := "LeftAsFound$MouseStay", name := "<init>", desc := "(LLeftAsFound;I)V" } : Jvm.MethodName) prog_15_method_1_code (3 : Nat) (Option.none : Option Jvm.ClassFile.FieldType)) ∈ lw_all := lw_g (lw_at lw_m4 140 rfl) rfl
theorem q955 : (Jvm.Cond.methodLink "LeftAsFound$MouseStay" (9 : Nat) ({ cls := "LeftAsFound$BareStay", name := "<init>", desc := "(LLeftAsFound;I)V" } : Jvm.MethodName)) ∈ lw_all := lw_g (lw_at lw_m4 141 rfl) rfl
theorem q956 : (Jvm.Cond.fieldLink "LeftAsFound$MouseStay" (3 : Nat) "LeftAsFound$MouseStay" "this$0" "LLeftAsFound;") ∈ lw_all := lw_g (lw_at lw_m4 142 rfl) rfl
theorem q957 : (Jvm.Cond.laysFinal "LeftAsFound$MouseStay" "LeftAsFound$MouseStay" "this$0" "LLeftAsFound;") ∈ lw_all := lw_g (lw_at lw_m4 143 rfl) rfl
theorem q958 : (Jvm.Cond.soleField "LeftAsFound$MouseStay" "this$0") ∈ lw_all := lw_g (lw_at lw_m4 144 rfl) rfl
theorem q959 : (Jvm.Cond.laysFinal "LeftAsFound$MouseStay" "LeftAsFound$BareStay" "this$0" "LLeftAsFound;") ∈ lw_all := lw_g (lw_at lw_m4 145 rfl) rfl
theorem q960 : (Jvm.Cond.laysFinal "LeftAsFound$MouseStay" "LeftAsFound$Body" "number" "I") ∈ lw_all := lw_g (lw_at lw_m4 146 rfl) rfl
theorem q961 : (Jvm.Cond.laysFinal "LeftAsFound$MouseStay" "LeftAsFound$Body" "this$0" "LLeftAsFound;") ∈ lw_all := lw_g (lw_at lw_m4 147 rfl) rfl
theorem q962 : (Jvm.Cond.superclass "LeftAsFound$MouseStay" "LeftAsFound$BareStay") ∈ lw_all := lw_g (lw_at lw_m4 148 rfl) rfl
theorem q984 : (Jvm.Cond.selects "LeftAsFound$MouseStay" ({ cls := "LeftAsFound$BareStay", name := "begins", desc := "(I)V" } : Jvm.MethodName) ({ cls := "LeftAsFound$Body", name := "begins", desc := "(I)V" } : Jvm.MethodName)) ∈ lw_all := lw_g (lw_at lw_m4 170 rfl) rfl
theorem q1006 : (Jvm.Cond.castable "LeftAsFound$MouseStay" "LeftAsFound$Comes") ∈ lw_tbl := lw_at lw_m4 192 rfl
theorem q1007 : (Jvm.Cond.selects "LeftAsFound$MouseStay" ({ cls := "LeftAsFound$Comes", name := "begins", desc := "(I)V" } : Jvm.MethodName) ({ cls := "LeftAsFound$Body", name := "begins", desc := "(I)V" } : Jvm.MethodName)) ∈ lw_all := lw_g (lw_at lw_m4 193 rfl) rfl
theorem q1008 : (Jvm.Cond.unhidden "LeftAsFound$MouseStay" "begins" "(I)V") ∈ lw_tbl := lw_at lw_m4 194 rfl
theorem q1033 : (Jvm.Cond.selects "LeftAsFound$MouseStay" ({ cls := "LeftAsFound$Comes", name := "number", desc := "()I" } : Jvm.MethodName) ({ cls := "LeftAsFound$Body", name := "number", desc := "()I" } : Jvm.MethodName)) ∈ lw_all := lw_g (lw_at lw_m4 219 rfl) rfl
theorem q1034 : (Jvm.Cond.unhidden "LeftAsFound$MouseStay" "number" "()I") ∈ lw_tbl := lw_at lw_m4 220 rfl
theorem q1050 : (Jvm.Cond.selects "LeftAsFound$MouseStay" ({ cls := "LeftAsFound$Comes", name := "comes", desc := "(I)I" } : Jvm.MethodName) ({ cls := "LeftAsFound$MouseStay", name := "comes", desc := "(I)I" } : Jvm.MethodName)) ∈ lw_all := lw_g (lw_at lw_m4 236 rfl) rfl
theorem q1051 : (Jvm.Cond.instanceMethod ({ cls := "LeftAsFound$MouseStay", name := "comes", desc := "(I)I" } : Jvm.MethodName)) ∈ lw_all := lw_g (lw_at lw_m4 237 rfl) rfl
theorem q1052 : (Jvm.Cond.code ({ cls := "LeftAsFound$MouseStay", name := "comes", desc := "(I)I" } : Jvm.MethodName) prog_15_method_5_code (2 : Nat) (Option.some Jvm.ClassFile.FieldType.int)) ∈ lw_all := lw_g (lw_at lw_m4 238 rfl) rfl
theorem q1053 : (Jvm.Cond.methodLink "LeftAsFound$MouseStay" (19 : Nat) ({ cls := "LeftAsFound$MouseStay", name := "begins", desc := "(I)V" } : Jvm.MethodName)) ∈ lw_all := lw_g (lw_at lw_m4 239 rfl) rfl
theorem q1054 : (Jvm.Cond.sameMethod "LeftAsFound$MouseStay" "LeftAsFound$Body" "begins" "(I)V") ∈ lw_all := lw_g (lw_at lw_m5 0 rfl) rfl
theorem q1055 : (Jvm.Cond.selects "LeftAsFound$MouseStay" ({ cls := "LeftAsFound$MouseStay", name := "begins", desc := "(I)V" } : Jvm.MethodName) ({ cls := "LeftAsFound$Body", name := "begins", desc := "(I)V" } : Jvm.MethodName)) ∈ lw_all := lw_g (lw_at lw_m5 1 rfl) rfl
theorem q1056 : (Jvm.Cond.methodLink "LeftAsFound$MouseStay" (30 : Nat) ({ cls := "LeftAsFound$BareStay", name := "comes", desc := "(I)I" } : Jvm.MethodName)) ∈ lw_all := lw_g (lw_at lw_m5 2 rfl) rfl
theorem q1083 : (Jvm.Cond.selects "LeftAsFound$MouseStay" ({ cls := "LeftAsFound$Body", name := "leaves", desc := "(I)I" } : Jvm.MethodName) ({ cls := "LeftAsFound$MouseStay", name := "leaves", desc := "(I)I" } : Jvm.MethodName)) ∈ lw_all := lw_g (lw_at lw_m5 29 rfl) rfl
theorem q1084 : (Jvm.Cond.instanceMethod ({ cls := "LeftAsFound$MouseStay", name := "leaves", desc := "(I)I" } : Jvm.MethodName)) ∈ lw_all := lw_g (lw_at lw_m5 30 rfl) rfl
theorem q1085 : (Jvm.Cond.code ({ cls := "LeftAsFound$MouseStay", name := "leaves", desc := "(I)I" } : Jvm.MethodName) prog_15_method_4_code (3 : Nat) (Option.some Jvm.ClassFile.FieldType.int)) ∈ lw_all := lw_g (lw_at lw_m5 31 rfl) rfl
theorem q1086 : (Jvm.Cond.methodLink "LeftAsFound$MouseStay" (23 : Nat) ({ cls := "LeftAsFound$BareStay", name := "leaves", desc := "(I)I" } : Jvm.MethodName)) ∈ lw_all := lw_g (lw_at lw_m5 32 rfl) rfl
theorem q1089 : (Jvm.Cond.methodLink "LeftAsFound$MouseStay" (27 : Nat) ({ cls := "LeftAsFound$MouseStay", name := "sees", desc := "(I)I" } : Jvm.MethodName)) ∈ lw_all := lw_g (lw_at lw_m5 35 rfl) rfl
theorem q1090 : (Jvm.Cond.sameMethod "LeftAsFound$MouseStay" "LeftAsFound$Body" "sees" "(I)I") ∈ lw_all := lw_g (lw_at lw_m5 36 rfl) rfl
theorem q1092 : (Jvm.Cond.selects "LeftAsFound$MouseStay" ({ cls := "LeftAsFound$MouseStay", name := "sees", desc := "(I)I" } : Jvm.MethodName) ({ cls := "LeftAsFound$Body", name := "sees", desc := "(I)I" } : Jvm.MethodName)) ∈ lw_all := lw_g (lw_at lw_m5 38 rfl) rfl
theorem q1116 : (Jvm.Cond.unhidden "LeftAsFound$MouseStay" "tells" "(I)I") ∈ lw_tbl := lw_at lw_m5 62 rfl
theorem q1137 : (Jvm.Cond.castable "LeftAsFound$MouseStay" "LeftAsFound$Tells") ∈ lw_tbl := lw_at lw_m5 83 rfl
theorem q1138 : (Jvm.Cond.selects "LeftAsFound$MouseStay" ({ cls := "LeftAsFound$Tells", name := "begins", desc := "(I)V" } : Jvm.MethodName) ({ cls := "LeftAsFound$Body", name := "begins", desc := "(I)V" } : Jvm.MethodName)) ∈ lw_all := lw_g (lw_at lw_m5 84 rfl) rfl
theorem q1159 : (Jvm.Cond.selects "LeftAsFound$MouseStay" ({ cls := "LeftAsFound$Tells", name := "leaves", desc := "(I)I" } : Jvm.MethodName) ({ cls := "LeftAsFound$MouseStay", name := "leaves", desc := "(I)I" } : Jvm.MethodName)) ∈ lw_all := lw_g (lw_at lw_m5 105 rfl) rfl
theorem q1160 : (Jvm.Cond.unhidden "LeftAsFound$MouseStay" "leaves" "(I)I") ∈ lw_tbl := lw_at lw_m5 106 rfl
theorem q1161 : (Jvm.Cond.publicMethod ({ cls := "LeftAsFound$MouseStay", name := "leaves", desc := "(I)I" } : Jvm.MethodName)) ∈ lw_tbl := lw_at lw_m5 107 rfl
theorem q1183 : (Jvm.Cond.selects "LeftAsFound$MouseStay" ({ cls := "LeftAsFound$Tells", name := "sees", desc := "(I)I" } : Jvm.MethodName) ({ cls := "LeftAsFound$Body", name := "sees", desc := "(I)I" } : Jvm.MethodName)) ∈ lw_all := lw_g (lw_at lw_m5 129 rfl) rfl
theorem q1184 : (Jvm.Cond.unhidden "LeftAsFound$MouseStay" "sees" "(I)I") ∈ lw_tbl := lw_at lw_m5 130 rfl
theorem q1256 : (Jvm.Cond.selects "LeftAsFound$MouseStay" ({ cls := "LeftAsFound$Body", name := "isUnder", desc := "(I)Z" } : Jvm.MethodName) ({ cls := "LeftAsFound$MouseStay", name := "isUnder", desc := "(I)Z" } : Jvm.MethodName)) ∈ lw_all := lw_g (lw_at lw_m5 202 rfl) rfl
theorem q1257 : (Jvm.Cond.instanceMethod ({ cls := "LeftAsFound$MouseStay", name := "isUnder", desc := "(I)Z" } : Jvm.MethodName)) ∈ lw_all := lw_g (lw_at lw_m5 203 rfl) rfl
theorem q1258 : (Jvm.Cond.code ({ cls := "LeftAsFound$MouseStay", name := "isUnder", desc := "(I)Z" } : Jvm.MethodName) prog_15_method_3_code (2 : Nat) (Option.some Jvm.ClassFile.FieldType.boolean)) ∈ lw_all := lw_g (lw_at lw_m5 204 rfl) rfl
theorem q1259 : (Jvm.Cond.methodLink "LeftAsFound$MouseStay" (15 : Nat) ({ cls := "LeftAsFound$BareStay", name := "isUnder", desc := "(I)Z" } : Jvm.MethodName)) ∈ lw_all := lw_g (lw_at lw_m5 205 rfl) rfl
theorem q1283 : (Jvm.Cond.selects "LeftAsFound$MouseStay" ({ cls := "LeftAsFound$Body", name := "kind", desc := "()I" } : Jvm.MethodName) ({ cls := "LeftAsFound$MouseStay", name := "kind", desc := "()I" } : Jvm.MethodName)) ∈ lw_all := lw_g (lw_at lw_m5 229 rfl) rfl
theorem q1284 : (Jvm.Cond.instanceMethod ({ cls := "LeftAsFound$MouseStay", name := "kind", desc := "()I" } : Jvm.MethodName)) ∈ lw_all := lw_g (lw_at lw_m5 230 rfl) rfl
theorem q1285 : (Jvm.Cond.code ({ cls := "LeftAsFound$MouseStay", name := "kind", desc := "()I" } : Jvm.MethodName) prog_15_method_2_code (1 : Nat) (Option.some Jvm.ClassFile.FieldType.int)) ∈ lw_all := lw_g (lw_at lw_m5 231 rfl) rfl
theorem q1914 : (Jvm.Cond.selects "LeftAsFound$MouseStay" ({ cls := "LeftAsFound$Body", name := "begins", desc := "(I)V" } : Jvm.MethodName) ({ cls := "LeftAsFound$Body", name := "begins", desc := "(I)V" } : Jvm.MethodName)) ∈ lw_all := lw_g (lw_at lw_m8 140 rfl) rfl
theorem q1923 : (Jvm.Cond.selects "LeftAsFound$MouseStay" ({ cls := "LeftAsFound$Body", name := "sees", desc := "(I)I" } : Jvm.MethodName) ({ cls := "LeftAsFound$Body", name := "sees", desc := "(I)I" } : Jvm.MethodName)) ∈ lw_all := lw_g (lw_at lw_m8 149 rfl) rfl
theorem q1935 : (Jvm.Cond.castable "LeftAsFound$MouseStay" "LeftAsFound$Body") ∈ lw_tbl := lw_at lw_m8 161 rfl
theorem q1958 : (Jvm.Cond.castable "LeftAsFound$MouseStay" "java/lang/Object") ∈ lw_tbl := lw_at lw_m8 184 rfl
theorem in_X21 : ∀ w ∈ wsX210, w ∈ lw_all := lw_in wsX210 [960, 961, 959, 957] (by decide +kernel) (by decide +kernel)

/-! LeftAsFound$Comes -/
set_option maxRecDepth 100000
def RX22 : String := "LeftAsFound$Comes"
abbrev cX22_comes : ByteArray := prog_7_method_3_code
def yX22_comes : MethodName := ⟨RX22, "comes", "(I)I"⟩
def dkwX22_comes_0 : List UInt8 := [42, 4, 185, 0, 1, 2, 0, 27, 42, 185, 0, 7, 1, 0, 96, 172]
abbrev dktX22_comes_0 : List UInt8 := dkwX22_comes_0 ++ []
theorem dksX22_comes_0 : cX22_comes.data.toList.drop 0 = dktX22_comes_0 := by decide +kernel
theorem dX22_comes_0 : decode cX22_comes 0 = .ok (.aload_n 0, 1) := dk_42 (dk_at dksX22_comes_0 0 rfl rfl)
theorem dX22_comes_1 : decode cX22_comes 1 = .ok (.iconst 1, 1) := dk_4 (dk_at dksX22_comes_0 1 rfl rfl)
theorem dX22_comes_2 : decode cX22_comes 2 = .ok (.invokeinterface 1 2, 5) := by decide +kernel
theorem dX22_comes_7 : decode cX22_comes 7 = .ok (.iload_n 1, 1) := dk_27 (dk_at dksX22_comes_0 7 rfl rfl)
theorem dX22_comes_8 : decode cX22_comes 8 = .ok (.aload_n 0, 1) := dk_42 (dk_at dksX22_comes_0 8 rfl rfl)
theorem dX22_comes_9 : decode cX22_comes 9 = .ok (.invokeinterface 7 1, 5) := by decide +kernel
theorem dX22_comes_14 : decode cX22_comes 14 = .ok (.iadd, 1) := dk_96 (dk_at dksX22_comes_0 14 rfl rfl)
theorem dX22_comes_15 : decode cX22_comes 15 = .ok (.ireturn, 1) := dk_172 (dk_at dksX22_comes_0 15 rfl rfl)
theorem q976 : (Jvm.Cond.declares ({ cls := "LeftAsFound$Comes", name := "comes", desc := "(I)I" } : Jvm.MethodName)) ∈ lw_tbl := lw_at lw_m4 162 rfl
theorem q987 : (Jvm.Cond.instanceMethod ({ cls := "LeftAsFound$Comes", name := "comes", desc := "(I)I" } : Jvm.MethodName)) ∈ lw_all := lw_g (lw_at lw_m4 173 rfl) rfl
theorem q988 : (Jvm.Cond.code ({ cls := "LeftAsFound$Comes", name := "comes", desc := "(I)I" } : Jvm.MethodName) prog_7_method_3_code (2 : Nat) (Option.some Jvm.ClassFile.FieldType.int)) ∈ lw_all := lw_g (lw_at lw_m4 174 rfl) rfl
theorem q989 : (Jvm.Cond.interfaceEntry "LeftAsFound$Comes" (1 : Nat)) ∈ lw_tbl := lw_at lw_m4 175 rfl
theorem q990 : (Jvm.Cond.methodLink "LeftAsFound$Comes" (1 : Nat) ({ cls := "LeftAsFound$Comes", name := "begins", desc := "(I)V" } : Jvm.MethodName)) ∈ lw_all := lw_g (lw_at lw_m4 176 rfl) rfl
theorem q991 : (Jvm.Cond.interfaceMethod "LeftAsFound$Comes" "LeftAsFound$Comes" "begins" "(I)V") ∈ lw_tbl := lw_at lw_m4 177 rfl
theorem q992 : (Jvm.Cond.declares ({ cls := "LeftAsFound$Comes", name := "begins", desc := "(I)V" } : Jvm.MethodName)) ∈ lw_tbl := lw_at lw_m4 178 rfl
theorem q1018 : (Jvm.Cond.interfaceEntry "LeftAsFound$Comes" (7 : Nat)) ∈ lw_tbl := lw_at lw_m4 204 rfl
theorem q1019 : (Jvm.Cond.methodLink "LeftAsFound$Comes" (7 : Nat) ({ cls := "LeftAsFound$Comes", name := "number", desc := "()I" } : Jvm.MethodName)) ∈ lw_all := lw_g (lw_at lw_m4 205 rfl) rfl
theorem q1020 : (Jvm.Cond.interfaceMethod "LeftAsFound$Comes" "LeftAsFound$Comes" "number" "()I") ∈ lw_tbl := lw_at lw_m4 206 rfl
theorem q1021 : (Jvm.Cond.declares ({ cls := "LeftAsFound$Comes", name := "number", desc := "()I" } : Jvm.MethodName)) ∈ lw_tbl := lw_at lw_m4 207 rfl
theorem q1060 : (Jvm.Cond.publicMethod ({ cls := "LeftAsFound$Comes", name := "comes", desc := "(I)I" } : Jvm.MethodName)) ∈ lw_tbl := lw_at lw_m5 6 rfl

/-! LeftAsFound$Tells -/
set_option maxRecDepth 100000
def RX23 : String := "LeftAsFound$Tells"
abbrev cX23_tells : ByteArray := prog_20_method_4_code
def yX23_tells : MethodName := ⟨RX23, "tells", "(I)I"⟩
def dkwX23_tells_1 : List UInt8 := [172]
abbrev dktX23_tells_1 : List UInt8 := dkwX23_tells_1 ++ []
def dkwX23_tells_0 : List UInt8 := [42, 5, 185, 0, 1, 2, 0, 42, 27, 185, 0, 7, 2, 0, 61, 28, 42, 4, 185, 0, 11, 2, 0, 100]
abbrev dktX23_tells_0 : List UInt8 := dkwX23_tells_0 ++ dktX23_tells_1
theorem dksX23_tells_0 : cX23_tells.data.toList.drop 0 = dktX23_tells_0 := by decide +kernel
theorem dksX23_tells_1 : cX23_tells.data.toList.drop 24 = dktX23_tells_1 := dk_seg dksX23_tells_0 24 rfl rfl
theorem dX23_tells_0 : decode cX23_tells 0 = .ok (.aload_n 0, 1) := dk_42 (dk_at dksX23_tells_0 0 rfl rfl)
theorem dX23_tells_1 : decode cX23_tells 1 = .ok (.iconst 2, 1) := dk_5 (dk_at dksX23_tells_0 1 rfl rfl)
theorem dX23_tells_2 : decode cX23_tells 2 = .ok (.invokeinterface 1 2, 5) := by decide +kernel
theorem dX23_tells_7 : decode cX23_tells 7 = .ok (.aload_n 0, 1) := dk_42 (dk_at dksX23_tells_0 7 rfl rfl)
theorem dX23_tells_8 : decode cX23_tells 8 = .ok (.iload_n 1, 1) := dk_27 (dk_at dksX23_tells_0 8 rfl rfl)
theorem dX23_tells_9 : decode cX23_tells 9 = .ok (.invokeinterface 7 2, 5) := by decide +kernel
theorem dX23_tells_14 : decode cX23_tells 14 = .ok (.istore_n 2, 1) := dk_61 (dk_at dksX23_tells_0 14 rfl rfl)
theorem dX23_tells_15 : decode cX23_tells 15 = .ok (.iload_n 2, 1) := dk_28 (dk_at dksX23_tells_0 15 rfl rfl)
theorem dX23_tells_16 : decode cX23_tells 16 = .ok (.aload_n 0, 1) := dk_42 (dk_at dksX23_tells_0 16 rfl rfl)
theorem dX23_tells_17 : decode cX23_tells 17 = .ok (.iconst 1, 1) := dk_4 (dk_at dksX23_tells_0 17 rfl rfl)
theorem dX23_tells_18 : decode cX23_tells 18 = .ok (.invokeinterface 11 2, 5) := by decide +kernel
theorem dX23_tells_23 : decode cX23_tells 23 = .ok (.isub, 1) := dk_100 (dk_at dksX23_tells_0 23 rfl rfl)
theorem dX23_tells_24 : decode cX23_tells 24 = .ok (.ireturn, 1) := dk_172 (dk_at dksX23_tells_1 0 rfl rfl)
theorem q1111 : (Jvm.Cond.declares ({ cls := "LeftAsFound$Tells", name := "tells", desc := "(I)I" } : Jvm.MethodName)) ∈ lw_tbl := lw_at lw_m5 57 rfl
theorem q1123 : (Jvm.Cond.instanceMethod ({ cls := "LeftAsFound$Tells", name := "tells", desc := "(I)I" } : Jvm.MethodName)) ∈ lw_all := lw_g (lw_at lw_m5 69 rfl) rfl
theorem q1124 : (Jvm.Cond.code ({ cls := "LeftAsFound$Tells", name := "tells", desc := "(I)I" } : Jvm.MethodName) prog_20_method_4_code (3 : Nat) (Option.some Jvm.ClassFile.FieldType.int)) ∈ lw_all := lw_g (lw_at lw_m5 70 rfl) rfl
theorem q1125 : (Jvm.Cond.interfaceEntry "LeftAsFound$Tells" (1 : Nat)) ∈ lw_tbl := lw_at lw_m5 71 rfl
theorem q1126 : (Jvm.Cond.methodLink "LeftAsFound$Tells" (1 : Nat) ({ cls := "LeftAsFound$Tells", name := "begins", desc := "(I)V" } : Jvm.MethodName)) ∈ lw_all := lw_g (lw_at lw_m5 72 rfl) rfl
theorem q1127 : (Jvm.Cond.interfaceMethod "LeftAsFound$Tells" "LeftAsFound$Tells" "begins" "(I)V") ∈ lw_tbl := lw_at lw_m5 73 rfl
theorem q1128 : (Jvm.Cond.declares ({ cls := "LeftAsFound$Tells", name := "begins", desc := "(I)V" } : Jvm.MethodName)) ∈ lw_tbl := lw_at lw_m5 74 rfl
theorem q1145 : (Jvm.Cond.interfaceEntry "LeftAsFound$Tells" (7 : Nat)) ∈ lw_tbl := lw_at lw_m5 91 rfl
theorem q1146 : (Jvm.Cond.methodLink "LeftAsFound$Tells" (7 : Nat) ({ cls := "LeftAsFound$Tells", name := "leaves", desc := "(I)I" } : Jvm.MethodName)) ∈ lw_all := lw_g (lw_at lw_m5 92 rfl) rfl
theorem q1147 : (Jvm.Cond.interfaceMethod "LeftAsFound$Tells" "LeftAsFound$Tells" "leaves" "(I)I") ∈ lw_tbl := lw_at lw_m5 93 rfl
theorem q1148 : (Jvm.Cond.declares ({ cls := "LeftAsFound$Tells", name := "leaves", desc := "(I)I" } : Jvm.MethodName)) ∈ lw_tbl := lw_at lw_m5 94 rfl
theorem q1169 : (Jvm.Cond.interfaceEntry "LeftAsFound$Tells" (11 : Nat)) ∈ lw_tbl := lw_at lw_m5 115 rfl
theorem q1170 : (Jvm.Cond.methodLink "LeftAsFound$Tells" (11 : Nat) ({ cls := "LeftAsFound$Tells", name := "sees", desc := "(I)I" } : Jvm.MethodName)) ∈ lw_all := lw_g (lw_at lw_m5 116 rfl) rfl
theorem q1171 : (Jvm.Cond.interfaceMethod "LeftAsFound$Tells" "LeftAsFound$Tells" "sees" "(I)I") ∈ lw_tbl := lw_at lw_m5 117 rfl
theorem q1172 : (Jvm.Cond.declares ({ cls := "LeftAsFound$Tells", name := "sees", desc := "(I)I" } : Jvm.MethodName)) ∈ lw_tbl := lw_at lw_m5 118 rfl
theorem q1196 : (Jvm.Cond.publicMethod ({ cls := "LeftAsFound$Tells", name := "tells", desc := "(I)I" } : Jvm.MethodName)) ∈ lw_tbl := lw_at lw_m5 142 rfl

/-! LeftAsFound$Torn -/
set_option maxRecDepth 100000
def RX3 : String := "LeftAsFound$Torn"
def TX3 : u_T := fun k => match k with
  | 0 => ("java/lang/Throwable", "cause", "Ljava/lang/Throwable;", false)
  | 1 => ("java/lang/Throwable", "stackTrace", "[Ljava/lang/StackTraceElement;", false)
  | 2 => ("java/lang/Throwable", "suppressedExceptions", "Ljava/util/List;", false)
  | 3 => ("java/lang/Throwable", "detailMessage", "Ljava/lang/String;", false)
  | 4 => ("java/lang/Throwable", "backtrace", "Ljava/lang/Object;", false)
  | _ => ("java/lang/Throwable", "depth", "I", false)
def tyX3 : Nat → FieldType := fun k => match k with
  | 0 => .object "java/lang/Throwable"
  | 1 => .array (.object "java/lang/StackTraceElement")
  | 2 => .object "java/util/List"
  | 3 => .object "java/lang/String"
  | 4 => .object "java/lang/Object"
  | _ => .int
abbrev wsX30 : List Cond := u_ws RX3 TX3 6
theorem nmX3 : ∀ a, a < 6 → ∀ b, b < 6 → a ≠ b → (TX3 a).2.1 ≠ (TX3 b).2.1 := by decide +kernel
theorem tyX3_ok : ∀ k, k < 6 → parseFieldDescriptor (TX3 k).2.2.1 = some (tyX3 k) := by decide +kernel
abbrev cX3_init : ByteArray := prog_22_method_1_code
def yX3_init : MethodName := ⟨RX3, "<init>", "()V"⟩
def dkwX3_init_0 : List UInt8 := [42, 1, 1, 3, 3, 183, 0, 1, 177]
abbrev dktX3_init_0 : List UInt8 := dkwX3_init_0 ++ []
theorem dksX3_init_0 : cX3_init.data.toList.drop 0 = dktX3_init_0 := by decide +kernel
theorem dX3_init_0 : decode cX3_init 0 = .ok (.aload_n 0, 1) := dk_42 (dk_at dksX3_init_0 0 rfl rfl)
theorem dX3_init_1 : decode cX3_init 1 = .ok (.aconst_null, 1) := dk_1 (dk_at dksX3_init_0 1 rfl rfl)
theorem dX3_init_2 : decode cX3_init 2 = .ok (.aconst_null, 1) := dk_1 (dk_at dksX3_init_0 2 rfl rfl)
theorem dX3_init_3 : decode cX3_init 3 = .ok (.iconst 0, 1) := dk_3 (dk_at dksX3_init_0 3 rfl rfl)
theorem dX3_init_4 : decode cX3_init 4 = .ok (.iconst 0, 1) := dk_3 (dk_at dksX3_init_0 4 rfl rfl)
theorem dX3_init_5 : decode cX3_init 5 = .ok (.invokespecial 1, 3) := dk_183 0 1 (dk_at dksX3_init_0 5 rfl rfl)
theorem dX3_init_8 : decode cX3_init 8 = .ok (.return_, 1) := dk_177 (dk_at dksX3_init_0 8 rfl rfl)
theorem q101 : (Jvm.Cond.initialized "LeftAsFound$Torn") ∈ lw_all := lw_g (lw_at lw_m1 7 rfl) rfl
theorem q173 : (Jvm.Cond.selects "LeftAsFound$Torn" ({ cls := "java/lang/Throwable", name := "fillInStackTrace", desc := "()Ljava/lang/Throwable;" } : Jvm.MethodName) ({ cls := "java/lang/Throwable", name := "fillInStackTrace", desc := "()Ljava/lang/Throwable;" } : Jvm.MethodName)) ∈ lw_all := lw_g (lw_at lw_m1 79 rfl) rfl
theorem q224 : (Jvm.Cond.instantiable "LeftAsFound$Torn" (6 : Nat)) ∈ lw_all := lw_g (lw_at lw_m1 130 rfl) rfl
theorem q225 : (Jvm.Cond.castable "LeftAsFound$Torn" "LeftAsFound$Torn") ∈ lw_tbl := lw_at lw_m1 131 rfl
theorem q226 : (Jvm.Cond.selects "LeftAsFound$Torn" ({ cls := "java/lang/Throwable", name := "fillInStackTrace", desc := "(I)Ljava/lang/Throwable;" } : Jvm.MethodName) ({ cls := "java/lang/Throwable", name := "fillInStackTrace", desc := "(I)Ljava/lang/Throwable;" } : Jvm.MethodName)) ∈ lw_all := lw_g (lw_at lw_m1 132 rfl) rfl
theorem q227 : (Jvm.Cond.lays "LeftAsFound$Torn" "java/lang/Throwable" "cause" "Ljava/lang/Throwable;") ∈ lw_all := lw_g (lw_at lw_m1 133 rfl) rfl
theorem q228 : (Jvm.Cond.lays "LeftAsFound$Torn" "java/lang/Throwable" "stackTrace" "[Ljava/lang/StackTraceElement;") ∈ lw_all := lw_g (lw_at lw_m1 134 rfl) rfl
theorem q229 : (Jvm.Cond.lays "LeftAsFound$Torn" "java/lang/Throwable" "suppressedExceptions" "Ljava/util/List;") ∈ lw_all := lw_g (lw_at lw_m1 135 rfl) rfl
theorem q230 : (Jvm.Cond.lays "LeftAsFound$Torn" "java/lang/Throwable" "detailMessage" "Ljava/lang/String;") ∈ lw_all := lw_g (lw_at lw_m1 136 rfl) rfl
theorem q231 : (Jvm.Cond.lays "LeftAsFound$Torn" "java/lang/Throwable" "backtrace" "Ljava/lang/Object;") ∈ lw_all := lw_g (lw_at lw_m1 137 rfl) rfl
theorem q233 : (Jvm.Cond.instanceMethod ({ cls := "LeftAsFound$Torn", name := "<init>", desc := "()V" } : Jvm.MethodName)) ∈ lw_all := lw_g (lw_at lw_m1 139 rfl) rfl
theorem q234 : (Jvm.Cond.code ({ cls := "LeftAsFound$Torn", name := "<init>", desc := "()V" } : Jvm.MethodName) prog_22_method_1_code (1 : Nat) (Option.none : Option Jvm.ClassFile.FieldType)) ∈ lw_all := lw_g (lw_at lw_m1 140 rfl) rfl
theorem q235 : (Jvm.Cond.methodLink "LeftAsFound$Torn" (1 : Nat) ({ cls := "java/lang/RuntimeException", name := "<init>", desc := "(Ljava/lang/String;Ljava/lang/Throwable;ZZ)V" } : Jvm.MethodName)) ∈ lw_all := lw_g (lw_at lw_m1 141 rfl) rfl
theorem q236 : (Jvm.Cond.lays "LeftAsFound$Torn" "java/lang/Throwable" "depth" "I") ∈ lw_all := lw_g (lw_at lw_m1 142 rfl) rfl
theorem q237 : (Jvm.Cond.superclass "LeftAsFound$Torn" "java/lang/RuntimeException") ∈ lw_all := lw_g (lw_at lw_m1 143 rfl) rfl
theorem q1942 : (Jvm.Cond.castable "LeftAsFound$Torn" "java/lang/Object") ∈ lw_tbl := lw_at lw_m8 168 rfl
theorem in_X3 : ∀ w ∈ wsX30, w ∈ lw_all := lw_in wsX30 [227, 228, 229, 230, 231, 236] (by decide +kernel) (by decide +kernel)

/-! LeftAsFound$Hut -/
set_option maxRecDepth 100000
def RX4 : String := "LeftAsFound$Hut"
def TX4 : u_T := fun k => match k with
  | 0 => ("LeftAsFound$Hut", "levels", "[I", true)
  | 1 => ("LeftAsFound$Hut", "book", "[I", true)
  | 2 => ("LeftAsFound$Hut", "first", "[I", true)
  | 3 => ("LeftAsFound$Hut", "there", "I", false)
  | 4 => ("LeftAsFound$Hut", "isAhead", "Z", false)
  | 5 => ("LeftAsFound$Hut", "ahead", "[I", true)
  | _ => ("LeftAsFound$Hut", "this$0", "LLeftAsFound;", true)
def tyX4 : Nat → FieldType := fun k => match k with
  | 0 => .array .int
  | 1 => .array .int
  | 2 => .array .int
  | 3 => .int
  | 4 => .boolean
  | 5 => .array .int
  | _ => .object "LeftAsFound"
abbrev wsX40 : List Cond := u_ws RX4 TX4 7
theorem nmX4 : ∀ a, a < 7 → ∀ b, b < 7 → a ≠ b → (TX4 a).2.1 ≠ (TX4 b).2.1 := by decide +kernel
theorem tyX4_ok : ∀ k, k < 7 → parseFieldDescriptor (TX4 k).2.2.1 = some (tyX4 k) := by decide +kernel
abbrev cX4_init : ByteArray := prog_13_method_1_code
def yX4_init : MethodName := ⟨RX4, "<init>", "(LLeftAsFound;)V"⟩
def dkwX4_init_2 : List UInt8 := [180, 0, 15, 28, 16, 50, 79, 42, 180, 0, 19, 28, 16, 50, 79, 132, 2, 1, 167, 255, 232, 177]
abbrev dktX4_init_2 : List UInt8 := dkwX4_init_2 ++ []
def dkwX4_init_1 : List UInt8 := [16, 28, 188, 10, 181, 0, 22, 42, 7, 188, 10, 181, 0, 25, 3, 61, 28, 7, 162, 0, 25, 42]
abbrev dktX4_init_1 : List UInt8 := dkwX4_init_1 ++ dktX4_init_2
def dkwX4_init_0 : List UInt8 := [42, 43, 181, 0, 3, 42, 183, 0, 9, 42, 7, 188, 10, 181, 0, 15, 42, 7, 188, 10, 181, 0, 19, 42]
abbrev dktX4_init_0 : List UInt8 := dkwX4_init_0 ++ dktX4_init_1
theorem dksX4_init_0 : cX4_init.data.toList.drop 0 = dktX4_init_0 := by decide +kernel
theorem dksX4_init_1 : cX4_init.data.toList.drop 24 = dktX4_init_1 := dk_seg dksX4_init_0 24 rfl rfl
theorem dksX4_init_2 : cX4_init.data.toList.drop 46 = dktX4_init_2 := dk_seg dksX4_init_1 22 rfl rfl
theorem dX4_init_0 : decode cX4_init 0 = .ok (.aload_n 0, 1) := dk_42 (dk_at dksX4_init_0 0 rfl rfl)
theorem dX4_init_1 : decode cX4_init 1 = .ok (.aload_n 1, 1) := dk_43 (dk_at dksX4_init_0 1 rfl rfl)
theorem dX4_init_2 : decode cX4_init 2 = .ok (.putfield 3, 3) := dk_181 0 3 (dk_at dksX4_init_0 2 rfl rfl)
theorem dX4_init_5 : decode cX4_init 5 = .ok (.aload_n 0, 1) := dk_42 (dk_at dksX4_init_0 5 rfl rfl)
theorem dX4_init_6 : decode cX4_init 6 = .ok (.invokespecial 9, 3) := dk_183 0 9 (dk_at dksX4_init_0 6 rfl rfl)
theorem dX4_init_9 : decode cX4_init 9 = .ok (.aload_n 0, 1) := dk_42 (dk_at dksX4_init_0 9 rfl rfl)
theorem dX4_init_10 : decode cX4_init 10 = .ok (.iconst 4, 1) := dk_7 (dk_at dksX4_init_0 10 rfl rfl)
theorem dX4_init_11 : decode cX4_init 11 = .ok (.newarray .int, 2) := dk_188_10 (dk_at dksX4_init_0 11 rfl rfl)
theorem dX4_init_13 : decode cX4_init 13 = .ok (.putfield 15, 3) := dk_181 0 15 (dk_at dksX4_init_0 13 rfl rfl)
theorem dX4_init_16 : decode cX4_init 16 = .ok (.aload_n 0, 1) := dk_42 (dk_at dksX4_init_0 16 rfl rfl)
theorem dX4_init_17 : decode cX4_init 17 = .ok (.iconst 4, 1) := dk_7 (dk_at dksX4_init_0 17 rfl rfl)
theorem dX4_init_18 : decode cX4_init 18 = .ok (.newarray .int, 2) := dk_188_10 (dk_at dksX4_init_0 18 rfl rfl)
theorem dX4_init_20 : decode cX4_init 20 = .ok (.putfield 19, 3) := dk_181 0 19 (dk_at dksX4_init_0 20 rfl rfl)
theorem dX4_init_23 : decode cX4_init 23 = .ok (.aload_n 0, 1) := dk_42 (dk_at dksX4_init_0 23 rfl rfl)
theorem dX4_init_24 : decode cX4_init 24 = .ok (.bipush 28, 2) := dk_16 28 (dk_at dksX4_init_1 0 rfl rfl)
theorem dX4_init_26 : decode cX4_init 26 = .ok (.newarray .int, 2) := dk_188_10 (dk_at dksX4_init_1 2 rfl rfl)
theorem dX4_init_28 : decode cX4_init 28 = .ok (.putfield 22, 3) := dk_181 0 22 (dk_at dksX4_init_1 4 rfl rfl)
theorem dX4_init_31 : decode cX4_init 31 = .ok (.aload_n 0, 1) := dk_42 (dk_at dksX4_init_1 7 rfl rfl)
theorem dX4_init_32 : decode cX4_init 32 = .ok (.iconst 4, 1) := dk_7 (dk_at dksX4_init_1 8 rfl rfl)
theorem dX4_init_33 : decode cX4_init 33 = .ok (.newarray .int, 2) := dk_188_10 (dk_at dksX4_init_1 9 rfl rfl)
theorem dX4_init_35 : decode cX4_init 35 = .ok (.putfield 25, 3) := dk_181 0 25 (dk_at dksX4_init_1 11 rfl rfl)
theorem dX4_init_38 : decode cX4_init 38 = .ok (.iconst 0, 1) := dk_3 (dk_at dksX4_init_1 14 rfl rfl)
theorem dX4_init_39 : decode cX4_init 39 = .ok (.istore_n 2, 1) := dk_61 (dk_at dksX4_init_1 15 rfl rfl)
theorem dX4_init_40 : decode cX4_init 40 = .ok (.iload_n 2, 1) := dk_28 (dk_at dksX4_init_1 16 rfl rfl)
theorem dX4_init_41 : decode cX4_init 41 = .ok (.iconst 4, 1) := dk_7 (dk_at dksX4_init_1 17 rfl rfl)
theorem dX4_init_42 : decode cX4_init 42 = .ok (.if_icmp .ge 25, 3) := dk_162 0 25 (dk_at dksX4_init_1 18 rfl rfl)
theorem dX4_init_45 : decode cX4_init 45 = .ok (.aload_n 0, 1) := dk_42 (dk_at dksX4_init_1 21 rfl rfl)
theorem dX4_init_46 : decode cX4_init 46 = .ok (.getfield 15, 3) := dk_180 0 15 (dk_at dksX4_init_2 0 rfl rfl)
theorem dX4_init_49 : decode cX4_init 49 = .ok (.iload_n 2, 1) := dk_28 (dk_at dksX4_init_2 3 rfl rfl)
theorem dX4_init_50 : decode cX4_init 50 = .ok (.bipush 50, 2) := dk_16 50 (dk_at dksX4_init_2 4 rfl rfl)
theorem dX4_init_52 : decode cX4_init 52 = .ok (.iastore, 1) := dk_79 (dk_at dksX4_init_2 6 rfl rfl)
theorem dX4_init_53 : decode cX4_init 53 = .ok (.aload_n 0, 1) := dk_42 (dk_at dksX4_init_2 7 rfl rfl)
theorem dX4_init_54 : decode cX4_init 54 = .ok (.getfield 19, 3) := dk_180 0 19 (dk_at dksX4_init_2 8 rfl rfl)
theorem dX4_init_57 : decode cX4_init 57 = .ok (.iload_n 2, 1) := dk_28 (dk_at dksX4_init_2 11 rfl rfl)
theorem dX4_init_58 : decode cX4_init 58 = .ok (.bipush 50, 2) := dk_16 50 (dk_at dksX4_init_2 12 rfl rfl)
theorem dX4_init_60 : decode cX4_init 60 = .ok (.iastore, 1) := dk_79 (dk_at dksX4_init_2 14 rfl rfl)
theorem dX4_init_61 : decode cX4_init 61 = .ok (.iinc 2 1, 3) := dk_132 2 1 (dk_at dksX4_init_2 15 rfl rfl)
theorem dX4_init_64 : decode cX4_init 64 = .ok (.goto (-24), 3) := dk_167 255 232 (dk_at dksX4_init_2 18 rfl rfl)
theorem dX4_init_67 : decode cX4_init 67 = .ok (.return_, 1) := dk_177 (dk_at dksX4_init_2 21 rfl rfl)
abbrev cX4_beAs : ByteArray := prog_13_method_2_code
def yX4_beAs : MethodName := ⟨RX4, "beAs", "(LLeftAsFound$Hut;)V"⟩
def dkwX4_beAs_3 : List UInt8 := [181, 0, 38, 177]
abbrev dktX4_beAs_3 : List UInt8 := dkwX4_beAs_3 ++ []
def dkwX4_beAs_2 : List UInt8 := [42, 180, 0, 25, 3, 7, 184, 0, 28, 42, 43, 180, 0, 34, 181, 0, 34, 42, 43, 180, 0, 38]
abbrev dktX4_beAs_2 : List UInt8 := dkwX4_beAs_2 ++ dktX4_beAs_3
def dkwX4_beAs_1 : List UInt8 := [7, 184, 0, 28, 43, 180, 0, 22, 3, 42, 180, 0, 22, 3, 16, 28, 184, 0, 28, 43, 180, 0, 25, 3]
abbrev dktX4_beAs_1 : List UInt8 := dkwX4_beAs_1 ++ dktX4_beAs_2
def dkwX4_beAs_0 : List UInt8 := [43, 180, 0, 15, 3, 42, 180, 0, 15, 3, 7, 184, 0, 28, 43, 180, 0, 19, 3, 42, 180, 0, 19, 3]
abbrev dktX4_beAs_0 : List UInt8 := dkwX4_beAs_0 ++ dktX4_beAs_1
theorem dksX4_beAs_0 : cX4_beAs.data.toList.drop 0 = dktX4_beAs_0 := by decide +kernel
theorem dksX4_beAs_1 : cX4_beAs.data.toList.drop 24 = dktX4_beAs_1 := dk_seg dksX4_beAs_0 24 rfl rfl
theorem dksX4_beAs_2 : cX4_beAs.data.toList.drop 48 = dktX4_beAs_2 := dk_seg dksX4_beAs_1 24 rfl rfl
theorem dksX4_beAs_3 : cX4_beAs.data.toList.drop 70 = dktX4_beAs_3 := dk_seg dksX4_beAs_2 22 rfl rfl
theorem dX4_beAs_0 : decode cX4_beAs 0 = .ok (.aload_n 1, 1) := dk_43 (dk_at dksX4_beAs_0 0 rfl rfl)
theorem dX4_beAs_1 : decode cX4_beAs 1 = .ok (.getfield 15, 3) := dk_180 0 15 (dk_at dksX4_beAs_0 1 rfl rfl)
theorem dX4_beAs_4 : decode cX4_beAs 4 = .ok (.iconst 0, 1) := dk_3 (dk_at dksX4_beAs_0 4 rfl rfl)
theorem dX4_beAs_5 : decode cX4_beAs 5 = .ok (.aload_n 0, 1) := dk_42 (dk_at dksX4_beAs_0 5 rfl rfl)
theorem dX4_beAs_6 : decode cX4_beAs 6 = .ok (.getfield 15, 3) := dk_180 0 15 (dk_at dksX4_beAs_0 6 rfl rfl)
theorem dX4_beAs_9 : decode cX4_beAs 9 = .ok (.iconst 0, 1) := dk_3 (dk_at dksX4_beAs_0 9 rfl rfl)
theorem dX4_beAs_10 : decode cX4_beAs 10 = .ok (.iconst 4, 1) := dk_7 (dk_at dksX4_beAs_0 10 rfl rfl)
theorem dX4_beAs_11 : decode cX4_beAs 11 = .ok (.invokestatic 28, 3) := dk_184 0 28 (dk_at dksX4_beAs_0 11 rfl rfl)
theorem dX4_beAs_14 : decode cX4_beAs 14 = .ok (.aload_n 1, 1) := dk_43 (dk_at dksX4_beAs_0 14 rfl rfl)
theorem dX4_beAs_15 : decode cX4_beAs 15 = .ok (.getfield 19, 3) := dk_180 0 19 (dk_at dksX4_beAs_0 15 rfl rfl)
theorem dX4_beAs_18 : decode cX4_beAs 18 = .ok (.iconst 0, 1) := dk_3 (dk_at dksX4_beAs_0 18 rfl rfl)
theorem dX4_beAs_19 : decode cX4_beAs 19 = .ok (.aload_n 0, 1) := dk_42 (dk_at dksX4_beAs_0 19 rfl rfl)
theorem dX4_beAs_20 : decode cX4_beAs 20 = .ok (.getfield 19, 3) := dk_180 0 19 (dk_at dksX4_beAs_0 20 rfl rfl)
theorem dX4_beAs_23 : decode cX4_beAs 23 = .ok (.iconst 0, 1) := dk_3 (dk_at dksX4_beAs_0 23 rfl rfl)
theorem dX4_beAs_24 : decode cX4_beAs 24 = .ok (.iconst 4, 1) := dk_7 (dk_at dksX4_beAs_1 0 rfl rfl)
theorem dX4_beAs_25 : decode cX4_beAs 25 = .ok (.invokestatic 28, 3) := dk_184 0 28 (dk_at dksX4_beAs_1 1 rfl rfl)
theorem dX4_beAs_28 : decode cX4_beAs 28 = .ok (.aload_n 1, 1) := dk_43 (dk_at dksX4_beAs_1 4 rfl rfl)
theorem dX4_beAs_29 : decode cX4_beAs 29 = .ok (.getfield 22, 3) := dk_180 0 22 (dk_at dksX4_beAs_1 5 rfl rfl)
theorem dX4_beAs_32 : decode cX4_beAs 32 = .ok (.iconst 0, 1) := dk_3 (dk_at dksX4_beAs_1 8 rfl rfl)
theorem dX4_beAs_33 : decode cX4_beAs 33 = .ok (.aload_n 0, 1) := dk_42 (dk_at dksX4_beAs_1 9 rfl rfl)
theorem dX4_beAs_34 : decode cX4_beAs 34 = .ok (.getfield 22, 3) := dk_180 0 22 (dk_at dksX4_beAs_1 10 rfl rfl)
theorem dX4_beAs_37 : decode cX4_beAs 37 = .ok (.iconst 0, 1) := dk_3 (dk_at dksX4_beAs_1 13 rfl rfl)
theorem dX4_beAs_38 : decode cX4_beAs 38 = .ok (.bipush 28, 2) := dk_16 28 (dk_at dksX4_beAs_1 14 rfl rfl)
theorem dX4_beAs_40 : decode cX4_beAs 40 = .ok (.invokestatic 28, 3) := dk_184 0 28 (dk_at dksX4_beAs_1 16 rfl rfl)
theorem dX4_beAs_43 : decode cX4_beAs 43 = .ok (.aload_n 1, 1) := dk_43 (dk_at dksX4_beAs_1 19 rfl rfl)
theorem dX4_beAs_44 : decode cX4_beAs 44 = .ok (.getfield 25, 3) := dk_180 0 25 (dk_at dksX4_beAs_1 20 rfl rfl)
theorem dX4_beAs_47 : decode cX4_beAs 47 = .ok (.iconst 0, 1) := dk_3 (dk_at dksX4_beAs_1 23 rfl rfl)
theorem dX4_beAs_48 : decode cX4_beAs 48 = .ok (.aload_n 0, 1) := dk_42 (dk_at dksX4_beAs_2 0 rfl rfl)
theorem dX4_beAs_49 : decode cX4_beAs 49 = .ok (.getfield 25, 3) := dk_180 0 25 (dk_at dksX4_beAs_2 1 rfl rfl)
theorem dX4_beAs_52 : decode cX4_beAs 52 = .ok (.iconst 0, 1) := dk_3 (dk_at dksX4_beAs_2 4 rfl rfl)
theorem dX4_beAs_53 : decode cX4_beAs 53 = .ok (.iconst 4, 1) := dk_7 (dk_at dksX4_beAs_2 5 rfl rfl)
theorem dX4_beAs_54 : decode cX4_beAs 54 = .ok (.invokestatic 28, 3) := dk_184 0 28 (dk_at dksX4_beAs_2 6 rfl rfl)
theorem dX4_beAs_57 : decode cX4_beAs 57 = .ok (.aload_n 0, 1) := dk_42 (dk_at dksX4_beAs_2 9 rfl rfl)
theorem dX4_beAs_58 : decode cX4_beAs 58 = .ok (.aload_n 1, 1) := dk_43 (dk_at dksX4_beAs_2 10 rfl rfl)
theorem dX4_beAs_59 : decode cX4_beAs 59 = .ok (.getfield 34, 3) := dk_180 0 34 (dk_at dksX4_beAs_2 11 rfl rfl)
theorem dX4_beAs_62 : decode cX4_beAs 62 = .ok (.putfield 34, 3) := dk_181 0 34 (dk_at dksX4_beAs_2 14 rfl rfl)
theorem dX4_beAs_65 : decode cX4_beAs 65 = .ok (.aload_n 0, 1) := dk_42 (dk_at dksX4_beAs_2 17 rfl rfl)
theorem dX4_beAs_66 : decode cX4_beAs 66 = .ok (.aload_n 1, 1) := dk_43 (dk_at dksX4_beAs_2 18 rfl rfl)
theorem dX4_beAs_67 : decode cX4_beAs 67 = .ok (.getfield 38, 3) := dk_180 0 38 (dk_at dksX4_beAs_2 19 rfl rfl)
theorem dX4_beAs_70 : decode cX4_beAs 70 = .ok (.putfield 38, 3) := dk_181 0 38 (dk_at dksX4_beAs_3 0 rfl rfl)
theorem dX4_beAs_73 : decode cX4_beAs 73 = .ok (.return_, 1) := dk_177 (dk_at dksX4_beAs_3 3 rfl rfl)
abbrev cX4_night : ByteArray := prog_13_method_4_code
def yX4_night : MethodName := ⟨RX4, "night", "(I)V"⟩
def dkwX4_night_6 : List UInt8 := [177]
abbrev dktX4_night_6 : List UInt8 := dkwX4_night_6 ++ []
def dkwX4_night_5 : List UInt8 := [180, 0, 46, 180, 0, 52, 4, 160, 0, 17, 42, 180, 0, 15, 3, 42, 180, 0, 19, 3, 7, 184, 0, 28]
abbrev dktX4_night_5 : List UInt8 := dkwX4_night_5 ++ dktX4_night_6
def dkwX4_night_4 : List UInt8 := [28, 29, 79, 132, 2, 1, 167, 255, 204, 42, 4, 181, 0, 38, 42, 180, 0, 3, 180, 0, 42, 27, 50]
abbrev dktX4_night_4 : List UInt8 := dkwX4_night_4 ++ dktX4_night_5
def dkwX4_night_3 : List UInt8 := [180, 0, 3, 180, 0, 42, 27, 50, 28, 42, 180, 0, 15, 28, 46, 29, 182, 0, 69, 79, 42, 180, 0, 25]
abbrev dktX4_night_3 : List UInt8 := dkwX4_night_3 ++ dktX4_night_4
def dkwX4_night_2 : List UInt8 := [28, 7, 162, 0, 53, 42, 27, 28, 182, 0, 65, 62, 42, 180, 0, 15, 28, 42, 180, 0, 3, 42]
abbrev dktX4_night_2 : List UInt8 := dkwX4_night_2 ++ dktX4_night_3
def dkwX4_night_1 : List UInt8 := [180, 0, 22, 7, 27, 104, 7, 184, 0, 28, 42, 89, 180, 0, 34, 4, 27, 120, 128, 181, 0, 34, 3, 61]
abbrev dktX4_night_1 : List UInt8 := dkwX4_night_1 ++ dktX4_night_2
def dkwX4_night_0 : List UInt8 := [27, 2, 160, 0, 4, 177, 42, 180, 0, 34, 27, 184, 0, 61, 154, 0, 19, 42, 180, 0, 15, 3, 42]
abbrev dktX4_night_0 : List UInt8 := dkwX4_night_0 ++ dktX4_night_1
theorem dksX4_night_0 : cX4_night.data.toList.drop 0 = dktX4_night_0 := by decide +kernel
theorem dksX4_night_1 : cX4_night.data.toList.drop 23 = dktX4_night_1 := dk_seg dksX4_night_0 23 rfl rfl
theorem dksX4_night_2 : cX4_night.data.toList.drop 47 = dktX4_night_2 := dk_seg dksX4_night_1 24 rfl rfl
theorem dksX4_night_3 : cX4_night.data.toList.drop 69 = dktX4_night_3 := dk_seg dksX4_night_2 22 rfl rfl
theorem dksX4_night_4 : cX4_night.data.toList.drop 93 = dktX4_night_4 := dk_seg dksX4_night_3 24 rfl rfl
theorem dksX4_night_5 : cX4_night.data.toList.drop 116 = dktX4_night_5 := dk_seg dksX4_night_4 23 rfl rfl
theorem dksX4_night_6 : cX4_night.data.toList.drop 140 = dktX4_night_6 := dk_seg dksX4_night_5 24 rfl rfl
theorem dX4_night_0 : decode cX4_night 0 = .ok (.iload_n 1, 1) := dk_27 (dk_at dksX4_night_0 0 rfl rfl)
theorem dX4_night_1 : decode cX4_night 1 = .ok (.iconst (-1), 1) := dk_2 (dk_at dksX4_night_0 1 rfl rfl)
theorem dX4_night_2 : decode cX4_night 2 = .ok (.if_icmp .ne 4, 3) := dk_160 0 4 (dk_at dksX4_night_0 2 rfl rfl)
theorem dX4_night_5 : decode cX4_night 5 = .ok (.return_, 1) := dk_177 (dk_at dksX4_night_0 5 rfl rfl)
theorem dX4_night_6 : decode cX4_night 6 = .ok (.aload_n 0, 1) := dk_42 (dk_at dksX4_night_0 6 rfl rfl)
theorem dX4_night_7 : decode cX4_night 7 = .ok (.getfield 34, 3) := dk_180 0 34 (dk_at dksX4_night_0 7 rfl rfl)
theorem dX4_night_10 : decode cX4_night 10 = .ok (.iload_n 1, 1) := dk_27 (dk_at dksX4_night_0 10 rfl rfl)
theorem dX4_night_11 : decode cX4_night 11 = .ok (.invokestatic 61, 3) := dk_184 0 61 (dk_at dksX4_night_0 11 rfl rfl)
theorem dX4_night_14 : decode cX4_night 14 = .ok (.ifCond .ne 19, 3) := dk_154 0 19 (dk_at dksX4_night_0 14 rfl rfl)
theorem dX4_night_17 : decode cX4_night 17 = .ok (.aload_n 0, 1) := dk_42 (dk_at dksX4_night_0 17 rfl rfl)
theorem dX4_night_18 : decode cX4_night 18 = .ok (.getfield 15, 3) := dk_180 0 15 (dk_at dksX4_night_0 18 rfl rfl)
theorem dX4_night_21 : decode cX4_night 21 = .ok (.iconst 0, 1) := dk_3 (dk_at dksX4_night_0 21 rfl rfl)
theorem dX4_night_22 : decode cX4_night 22 = .ok (.aload_n 0, 1) := dk_42 (dk_at dksX4_night_0 22 rfl rfl)
theorem dX4_night_23 : decode cX4_night 23 = .ok (.getfield 22, 3) := dk_180 0 22 (dk_at dksX4_night_1 0 rfl rfl)
theorem dX4_night_26 : decode cX4_night 26 = .ok (.iconst 4, 1) := dk_7 (dk_at dksX4_night_1 3 rfl rfl)
theorem dX4_night_27 : decode cX4_night 27 = .ok (.iload_n 1, 1) := dk_27 (dk_at dksX4_night_1 4 rfl rfl)
theorem dX4_night_28 : decode cX4_night 28 = .ok (.imul, 1) := dk_104 (dk_at dksX4_night_1 5 rfl rfl)
theorem dX4_night_29 : decode cX4_night 29 = .ok (.iconst 4, 1) := dk_7 (dk_at dksX4_night_1 6 rfl rfl)
theorem dX4_night_30 : decode cX4_night 30 = .ok (.invokestatic 28, 3) := dk_184 0 28 (dk_at dksX4_night_1 7 rfl rfl)
theorem dX4_night_33 : decode cX4_night 33 = .ok (.aload_n 0, 1) := dk_42 (dk_at dksX4_night_1 10 rfl rfl)
theorem dX4_night_34 : decode cX4_night 34 = .ok (.dup, 1) := dk_89 (dk_at dksX4_night_1 11 rfl rfl)
theorem dX4_night_35 : decode cX4_night 35 = .ok (.getfield 34, 3) := dk_180 0 34 (dk_at dksX4_night_1 12 rfl rfl)
theorem dX4_night_38 : decode cX4_night 38 = .ok (.iconst 1, 1) := dk_4 (dk_at dksX4_night_1 15 rfl rfl)
theorem dX4_night_39 : decode cX4_night 39 = .ok (.iload_n 1, 1) := dk_27 (dk_at dksX4_night_1 16 rfl rfl)
theorem dX4_night_40 : decode cX4_night 40 = .ok (.ishl, 1) := dk_120 (dk_at dksX4_night_1 17 rfl rfl)
theorem dX4_night_41 : decode cX4_night 41 = .ok (.ior, 1) := dk_128 (dk_at dksX4_night_1 18 rfl rfl)
theorem dX4_night_42 : decode cX4_night 42 = .ok (.putfield 34, 3) := dk_181 0 34 (dk_at dksX4_night_1 19 rfl rfl)
theorem dX4_night_45 : decode cX4_night 45 = .ok (.iconst 0, 1) := dk_3 (dk_at dksX4_night_1 22 rfl rfl)
theorem dX4_night_46 : decode cX4_night 46 = .ok (.istore_n 2, 1) := dk_61 (dk_at dksX4_night_1 23 rfl rfl)
theorem dX4_night_47 : decode cX4_night 47 = .ok (.iload_n 2, 1) := dk_28 (dk_at dksX4_night_2 0 rfl rfl)
theorem dX4_night_48 : decode cX4_night 48 = .ok (.iconst 4, 1) := dk_7 (dk_at dksX4_night_2 1 rfl rfl)
theorem dX4_night_49 : decode cX4_night 49 = .ok (.if_icmp .ge 53, 3) := dk_162 0 53 (dk_at dksX4_night_2 2 rfl rfl)
theorem dX4_night_52 : decode cX4_night 52 = .ok (.aload_n 0, 1) := dk_42 (dk_at dksX4_night_2 5 rfl rfl)
theorem dX4_night_53 : decode cX4_night 53 = .ok (.iload_n 1, 1) := dk_27 (dk_at dksX4_night_2 6 rfl rfl)
theorem dX4_night_54 : decode cX4_night 54 = .ok (.iload_n 2, 1) := dk_28 (dk_at dksX4_night_2 7 rfl rfl)
theorem dX4_night_55 : decode cX4_night 55 = .ok (.invokevirtual 65, 3) := dk_182 0 65 (dk_at dksX4_night_2 8 rfl rfl)
theorem dX4_night_58 : decode cX4_night 58 = .ok (.istore_n 3, 1) := dk_62 (dk_at dksX4_night_2 11 rfl rfl)
theorem dX4_night_59 : decode cX4_night 59 = .ok (.aload_n 0, 1) := dk_42 (dk_at dksX4_night_2 12 rfl rfl)
theorem dX4_night_60 : decode cX4_night 60 = .ok (.getfield 15, 3) := dk_180 0 15 (dk_at dksX4_night_2 13 rfl rfl)
theorem dX4_night_63 : decode cX4_night 63 = .ok (.iload_n 2, 1) := dk_28 (dk_at dksX4_night_2 16 rfl rfl)
theorem dX4_night_64 : decode cX4_night 64 = .ok (.aload_n 0, 1) := dk_42 (dk_at dksX4_night_2 17 rfl rfl)
theorem dX4_night_65 : decode cX4_night 65 = .ok (.getfield 3, 3) := dk_180 0 3 (dk_at dksX4_night_2 18 rfl rfl)
theorem dX4_night_68 : decode cX4_night 68 = .ok (.aload_n 0, 1) := dk_42 (dk_at dksX4_night_2 21 rfl rfl)
theorem dX4_night_69 : decode cX4_night 69 = .ok (.getfield 3, 3) := dk_180 0 3 (dk_at dksX4_night_3 0 rfl rfl)
theorem dX4_night_72 : decode cX4_night 72 = .ok (.getfield 42, 3) := dk_180 0 42 (dk_at dksX4_night_3 3 rfl rfl)
theorem dX4_night_75 : decode cX4_night 75 = .ok (.iload_n 1, 1) := dk_27 (dk_at dksX4_night_3 6 rfl rfl)
theorem dX4_night_76 : decode cX4_night 76 = .ok (.aaload, 1) := dk_50 (dk_at dksX4_night_3 7 rfl rfl)
theorem dX4_night_77 : decode cX4_night 77 = .ok (.iload_n 2, 1) := dk_28 (dk_at dksX4_night_3 8 rfl rfl)
theorem dX4_night_78 : decode cX4_night 78 = .ok (.aload_n 0, 1) := dk_42 (dk_at dksX4_night_3 9 rfl rfl)
theorem dX4_night_79 : decode cX4_night 79 = .ok (.getfield 15, 3) := dk_180 0 15 (dk_at dksX4_night_3 10 rfl rfl)
theorem dX4_night_82 : decode cX4_night 82 = .ok (.iload_n 2, 1) := dk_28 (dk_at dksX4_night_3 13 rfl rfl)
theorem dX4_night_83 : decode cX4_night 83 = .ok (.iaload, 1) := dk_46 (dk_at dksX4_night_3 14 rfl rfl)
theorem dX4_night_84 : decode cX4_night 84 = .ok (.iload_n 3, 1) := dk_29 (dk_at dksX4_night_3 15 rfl rfl)
theorem dX4_night_85 : decode cX4_night 85 = .ok (.invokevirtual 69, 3) := dk_182 0 69 (dk_at dksX4_night_3 16 rfl rfl)
theorem dX4_night_88 : decode cX4_night 88 = .ok (.iastore, 1) := dk_79 (dk_at dksX4_night_3 19 rfl rfl)
theorem dX4_night_89 : decode cX4_night 89 = .ok (.aload_n 0, 1) := dk_42 (dk_at dksX4_night_3 20 rfl rfl)
theorem dX4_night_90 : decode cX4_night 90 = .ok (.getfield 25, 3) := dk_180 0 25 (dk_at dksX4_night_3 21 rfl rfl)
theorem dX4_night_93 : decode cX4_night 93 = .ok (.iload_n 2, 1) := dk_28 (dk_at dksX4_night_4 0 rfl rfl)
theorem dX4_night_94 : decode cX4_night 94 = .ok (.iload_n 3, 1) := dk_29 (dk_at dksX4_night_4 1 rfl rfl)
theorem dX4_night_95 : decode cX4_night 95 = .ok (.iastore, 1) := dk_79 (dk_at dksX4_night_4 2 rfl rfl)
theorem dX4_night_96 : decode cX4_night 96 = .ok (.iinc 2 1, 3) := dk_132 2 1 (dk_at dksX4_night_4 3 rfl rfl)
theorem dX4_night_99 : decode cX4_night 99 = .ok (.goto (-52), 3) := dk_167 255 204 (dk_at dksX4_night_4 6 rfl rfl)
theorem dX4_night_102 : decode cX4_night 102 = .ok (.aload_n 0, 1) := dk_42 (dk_at dksX4_night_4 9 rfl rfl)
theorem dX4_night_103 : decode cX4_night 103 = .ok (.iconst 1, 1) := dk_4 (dk_at dksX4_night_4 10 rfl rfl)
theorem dX4_night_104 : decode cX4_night 104 = .ok (.putfield 38, 3) := dk_181 0 38 (dk_at dksX4_night_4 11 rfl rfl)
theorem dX4_night_107 : decode cX4_night 107 = .ok (.aload_n 0, 1) := dk_42 (dk_at dksX4_night_4 14 rfl rfl)
theorem dX4_night_108 : decode cX4_night 108 = .ok (.getfield 3, 3) := dk_180 0 3 (dk_at dksX4_night_4 15 rfl rfl)
theorem dX4_night_111 : decode cX4_night 111 = .ok (.getfield 42, 3) := dk_180 0 42 (dk_at dksX4_night_4 18 rfl rfl)
theorem dX4_night_114 : decode cX4_night 114 = .ok (.iload_n 1, 1) := dk_27 (dk_at dksX4_night_4 21 rfl rfl)
theorem dX4_night_115 : decode cX4_night 115 = .ok (.aaload, 1) := dk_50 (dk_at dksX4_night_4 22 rfl rfl)
theorem dX4_night_116 : decode cX4_night 116 = .ok (.getfield 46, 3) := dk_180 0 46 (dk_at dksX4_night_5 0 rfl rfl)
theorem dX4_night_119 : decode cX4_night 119 = .ok (.getfield 52, 3) := dk_180 0 52 (dk_at dksX4_night_5 3 rfl rfl)
theorem dX4_night_122 : decode cX4_night 122 = .ok (.iconst 1, 1) := dk_4 (dk_at dksX4_night_5 6 rfl rfl)
theorem dX4_night_123 : decode cX4_night 123 = .ok (.if_icmp .ne 17, 3) := dk_160 0 17 (dk_at dksX4_night_5 7 rfl rfl)
theorem dX4_night_126 : decode cX4_night 126 = .ok (.aload_n 0, 1) := dk_42 (dk_at dksX4_night_5 10 rfl rfl)
theorem dX4_night_127 : decode cX4_night 127 = .ok (.getfield 15, 3) := dk_180 0 15 (dk_at dksX4_night_5 11 rfl rfl)
theorem dX4_night_130 : decode cX4_night 130 = .ok (.iconst 0, 1) := dk_3 (dk_at dksX4_night_5 14 rfl rfl)
theorem dX4_night_131 : decode cX4_night 131 = .ok (.aload_n 0, 1) := dk_42 (dk_at dksX4_night_5 15 rfl rfl)
theorem dX4_night_132 : decode cX4_night 132 = .ok (.getfield 19, 3) := dk_180 0 19 (dk_at dksX4_night_5 16 rfl rfl)
theorem dX4_night_135 : decode cX4_night 135 = .ok (.iconst 0, 1) := dk_3 (dk_at dksX4_night_5 19 rfl rfl)
theorem dX4_night_136 : decode cX4_night 136 = .ok (.iconst 4, 1) := dk_7 (dk_at dksX4_night_5 20 rfl rfl)
theorem dX4_night_137 : decode cX4_night 137 = .ok (.invokestatic 28, 3) := dk_184 0 28 (dk_at dksX4_night_5 21 rfl rfl)
theorem dX4_night_140 : decode cX4_night 140 = .ok (.return_, 1) := dk_177 (dk_at dksX4_night_6 0 rfl rfl)
abbrev cX4_believedBy : ByteArray := prog_13_method_3_code
def yX4_believedBy : MethodName := ⟨RX4, "believedBy", "(II)I"⟩
def dkwX4_believedBy_4 : List UInt8 := [172, 42, 180, 0, 3, 180, 0, 57, 28, 50, 180, 0, 52, 172]
abbrev dktX4_believedBy_4 : List UInt8 := dkwX4_believedBy_4 ++ []
def dkwX4_believedBy_3 : List UInt8 := [153, 0, 12, 42, 180, 0, 25, 28, 46, 167, 0, 15, 42, 180, 0, 3, 180, 0, 57, 28, 50, 180, 0, 52]
abbrev dktX4_believedBy_3 : List UInt8 := dkwX4_believedBy_3 ++ dktX4_believedBy_4
def dkwX4_believedBy_2 : List UInt8 := [42, 180, 0, 22, 7, 27, 104, 28, 96, 46, 172, 42, 180, 0, 19, 28, 46, 172, 42, 180, 0, 38]
abbrev dktX4_believedBy_2 : List UInt8 := dkwX4_believedBy_2 ++ dktX4_believedBy_3
def dkwX4_believedBy_1 : List UInt8 := [170, 0, 0, 0, 76, 0, 0, 0, 0, 0, 0, 0, 3, 0, 0, 0, 29, 0, 0, 0, 40, 0, 0, 0, 76, 0, 0, 0, 47]
abbrev dktX4_believedBy_1 : List UInt8 := dkwX4_believedBy_1 ++ dktX4_believedBy_2
def dkwX4_believedBy_0 : List UInt8 := [42, 180, 0, 3, 180, 0, 42, 27, 50, 180, 0, 46, 180, 0, 52]
abbrev dktX4_believedBy_0 : List UInt8 := dkwX4_believedBy_0 ++ dktX4_believedBy_1
theorem dksX4_believedBy_0 : cX4_believedBy.data.toList.drop 0 = dktX4_believedBy_0 := by decide +kernel
theorem dksX4_believedBy_1 : cX4_believedBy.data.toList.drop 15 = dktX4_believedBy_1 := dk_seg dksX4_believedBy_0 15 rfl rfl
theorem dksX4_believedBy_2 : cX4_believedBy.data.toList.drop 44 = dktX4_believedBy_2 := dk_seg dksX4_believedBy_1 29 rfl rfl
theorem dksX4_believedBy_3 : cX4_believedBy.data.toList.drop 66 = dktX4_believedBy_3 := dk_seg dksX4_believedBy_2 22 rfl rfl
theorem dksX4_believedBy_4 : cX4_believedBy.data.toList.drop 90 = dktX4_believedBy_4 := dk_seg dksX4_believedBy_3 24 rfl rfl
theorem dX4_believedBy_0 : decode cX4_believedBy 0 = .ok (.aload_n 0, 1) := dk_42 (dk_at dksX4_believedBy_0 0 rfl rfl)
theorem dX4_believedBy_1 : decode cX4_believedBy 1 = .ok (.getfield 3, 3) := dk_180 0 3 (dk_at dksX4_believedBy_0 1 rfl rfl)
theorem dX4_believedBy_4 : decode cX4_believedBy 4 = .ok (.getfield 42, 3) := dk_180 0 42 (dk_at dksX4_believedBy_0 4 rfl rfl)
theorem dX4_believedBy_7 : decode cX4_believedBy 7 = .ok (.iload_n 1, 1) := dk_27 (dk_at dksX4_believedBy_0 7 rfl rfl)
theorem dX4_believedBy_8 : decode cX4_believedBy 8 = .ok (.aaload, 1) := dk_50 (dk_at dksX4_believedBy_0 8 rfl rfl)
theorem dX4_believedBy_9 : decode cX4_believedBy 9 = .ok (.getfield 46, 3) := dk_180 0 46 (dk_at dksX4_believedBy_0 9 rfl rfl)
theorem dX4_believedBy_12 : decode cX4_believedBy 12 = .ok (.getfield 52, 3) := dk_180 0 52 (dk_at dksX4_believedBy_0 12 rfl rfl)
theorem dX4_believedBy_15 : decode cX4_believedBy 15 = .ok (.tableswitch 76 0 3 #[29, 40, 76, 47], 29) := by decide +kernel
theorem dX4_believedBy_44 : decode cX4_believedBy 44 = .ok (.aload_n 0, 1) := dk_42 (dk_at dksX4_believedBy_2 0 rfl rfl)
theorem dX4_believedBy_45 : decode cX4_believedBy 45 = .ok (.getfield 22, 3) := dk_180 0 22 (dk_at dksX4_believedBy_2 1 rfl rfl)
theorem dX4_believedBy_48 : decode cX4_believedBy 48 = .ok (.iconst 4, 1) := dk_7 (dk_at dksX4_believedBy_2 4 rfl rfl)
theorem dX4_believedBy_49 : decode cX4_believedBy 49 = .ok (.iload_n 1, 1) := dk_27 (dk_at dksX4_believedBy_2 5 rfl rfl)
theorem dX4_believedBy_50 : decode cX4_believedBy 50 = .ok (.imul, 1) := dk_104 (dk_at dksX4_believedBy_2 6 rfl rfl)
theorem dX4_believedBy_51 : decode cX4_believedBy 51 = .ok (.iload_n 2, 1) := dk_28 (dk_at dksX4_believedBy_2 7 rfl rfl)
theorem dX4_believedBy_52 : decode cX4_believedBy 52 = .ok (.iadd, 1) := dk_96 (dk_at dksX4_believedBy_2 8 rfl rfl)
theorem dX4_believedBy_53 : decode cX4_believedBy 53 = .ok (.iaload, 1) := dk_46 (dk_at dksX4_believedBy_2 9 rfl rfl)
theorem dX4_believedBy_54 : decode cX4_believedBy 54 = .ok (.ireturn, 1) := dk_172 (dk_at dksX4_believedBy_2 10 rfl rfl)
theorem dX4_believedBy_55 : decode cX4_believedBy 55 = .ok (.aload_n 0, 1) := dk_42 (dk_at dksX4_believedBy_2 11 rfl rfl)
theorem dX4_believedBy_56 : decode cX4_believedBy 56 = .ok (.getfield 19, 3) := dk_180 0 19 (dk_at dksX4_believedBy_2 12 rfl rfl)
theorem dX4_believedBy_59 : decode cX4_believedBy 59 = .ok (.iload_n 2, 1) := dk_28 (dk_at dksX4_believedBy_2 15 rfl rfl)
theorem dX4_believedBy_60 : decode cX4_believedBy 60 = .ok (.iaload, 1) := dk_46 (dk_at dksX4_believedBy_2 16 rfl rfl)
theorem dX4_believedBy_61 : decode cX4_believedBy 61 = .ok (.ireturn, 1) := dk_172 (dk_at dksX4_believedBy_2 17 rfl rfl)
theorem dX4_believedBy_62 : decode cX4_believedBy 62 = .ok (.aload_n 0, 1) := dk_42 (dk_at dksX4_believedBy_2 18 rfl rfl)
theorem dX4_believedBy_63 : decode cX4_believedBy 63 = .ok (.getfield 38, 3) := dk_180 0 38 (dk_at dksX4_believedBy_2 19 rfl rfl)
theorem dX4_believedBy_66 : decode cX4_believedBy 66 = .ok (.ifCond .eq 12, 3) := dk_153 0 12 (dk_at dksX4_believedBy_3 0 rfl rfl)
theorem dX4_believedBy_69 : decode cX4_believedBy 69 = .ok (.aload_n 0, 1) := dk_42 (dk_at dksX4_believedBy_3 3 rfl rfl)
theorem dX4_believedBy_70 : decode cX4_believedBy 70 = .ok (.getfield 25, 3) := dk_180 0 25 (dk_at dksX4_believedBy_3 4 rfl rfl)
theorem dX4_believedBy_73 : decode cX4_believedBy 73 = .ok (.iload_n 2, 1) := dk_28 (dk_at dksX4_believedBy_3 7 rfl rfl)
theorem dX4_believedBy_74 : decode cX4_believedBy 74 = .ok (.iaload, 1) := dk_46 (dk_at dksX4_believedBy_3 8 rfl rfl)
theorem dX4_believedBy_75 : decode cX4_believedBy 75 = .ok (.goto 15, 3) := dk_167 0 15 (dk_at dksX4_believedBy_3 9 rfl rfl)
theorem dX4_believedBy_78 : decode cX4_believedBy 78 = .ok (.aload_n 0, 1) := dk_42 (dk_at dksX4_believedBy_3 12 rfl rfl)
theorem dX4_believedBy_79 : decode cX4_believedBy 79 = .ok (.getfield 3, 3) := dk_180 0 3 (dk_at dksX4_believedBy_3 13 rfl rfl)
theorem dX4_believedBy_82 : decode cX4_believedBy 82 = .ok (.getfield 57, 3) := dk_180 0 57 (dk_at dksX4_believedBy_3 16 rfl rfl)
theorem dX4_believedBy_85 : decode cX4_believedBy 85 = .ok (.iload_n 2, 1) := dk_28 (dk_at dksX4_believedBy_3 19 rfl rfl)
theorem dX4_believedBy_86 : decode cX4_believedBy 86 = .ok (.aaload, 1) := dk_50 (dk_at dksX4_believedBy_3 20 rfl rfl)
theorem dX4_believedBy_87 : decode cX4_believedBy 87 = .ok (.getfield 52, 3) := dk_180 0 52 (dk_at dksX4_believedBy_3 21 rfl rfl)
theorem dX4_believedBy_90 : decode cX4_believedBy 90 = .ok (.ireturn, 1) := dk_172 (dk_at dksX4_believedBy_4 0 rfl rfl)
theorem dX4_believedBy_91 : decode cX4_believedBy 91 = .ok (.aload_n 0, 1) := dk_42 (dk_at dksX4_believedBy_4 1 rfl rfl)
theorem dX4_believedBy_92 : decode cX4_believedBy 92 = .ok (.getfield 3, 3) := dk_180 0 3 (dk_at dksX4_believedBy_4 2 rfl rfl)
theorem dX4_believedBy_95 : decode cX4_believedBy 95 = .ok (.getfield 57, 3) := dk_180 0 57 (dk_at dksX4_believedBy_4 5 rfl rfl)
theorem dX4_believedBy_98 : decode cX4_believedBy 98 = .ok (.iload_n 2, 1) := dk_28 (dk_at dksX4_believedBy_4 8 rfl rfl)
theorem dX4_believedBy_99 : decode cX4_believedBy 99 = .ok (.aaload, 1) := dk_50 (dk_at dksX4_believedBy_4 9 rfl rfl)
theorem dX4_believedBy_100 : decode cX4_believedBy 100 = .ok (.getfield 52, 3) := dk_180 0 52 (dk_at dksX4_believedBy_4 10 rfl rfl)
theorem dX4_believedBy_103 : decode cX4_believedBy 103 = .ok (.ireturn, 1) := dk_172 (dk_at dksX4_believedBy_4 13 rfl rfl)
abbrev cX4_loss : ByteArray := prog_13_method_6_code
def yX4_loss : MethodName := ⟨RX4, "loss", "()I"⟩
def dkwX4_loss_1 : List UInt8 := [180, 0, 52, 104, 96, 60, 132, 2, 1, 167, 255, 227, 27, 172]
abbrev dktX4_loss_1 : List UInt8 := dkwX4_loss_1 ++ []
def dkwX4_loss_0 : List UInt8 := [3, 60, 3, 61, 28, 7, 162, 0, 30, 27, 42, 28, 182, 0, 78, 42, 180, 0, 3, 180, 0, 82, 28, 50]
abbrev dktX4_loss_0 : List UInt8 := dkwX4_loss_0 ++ dktX4_loss_1
theorem dksX4_loss_0 : cX4_loss.data.toList.drop 0 = dktX4_loss_0 := by decide +kernel
theorem dksX4_loss_1 : cX4_loss.data.toList.drop 24 = dktX4_loss_1 := dk_seg dksX4_loss_0 24 rfl rfl
theorem dX4_loss_0 : decode cX4_loss 0 = .ok (.iconst 0, 1) := dk_3 (dk_at dksX4_loss_0 0 rfl rfl)
theorem dX4_loss_1 : decode cX4_loss 1 = .ok (.istore_n 1, 1) := dk_60 (dk_at dksX4_loss_0 1 rfl rfl)
theorem dX4_loss_2 : decode cX4_loss 2 = .ok (.iconst 0, 1) := dk_3 (dk_at dksX4_loss_0 2 rfl rfl)
theorem dX4_loss_3 : decode cX4_loss 3 = .ok (.istore_n 2, 1) := dk_61 (dk_at dksX4_loss_0 3 rfl rfl)
theorem dX4_loss_4 : decode cX4_loss 4 = .ok (.iload_n 2, 1) := dk_28 (dk_at dksX4_loss_0 4 rfl rfl)
theorem dX4_loss_5 : decode cX4_loss 5 = .ok (.iconst 4, 1) := dk_7 (dk_at dksX4_loss_0 5 rfl rfl)
theorem dX4_loss_6 : decode cX4_loss 6 = .ok (.if_icmp .ge 30, 3) := dk_162 0 30 (dk_at dksX4_loss_0 6 rfl rfl)
theorem dX4_loss_9 : decode cX4_loss 9 = .ok (.iload_n 1, 1) := dk_27 (dk_at dksX4_loss_0 9 rfl rfl)
theorem dX4_loss_10 : decode cX4_loss 10 = .ok (.aload_n 0, 1) := dk_42 (dk_at dksX4_loss_0 10 rfl rfl)
theorem dX4_loss_11 : decode cX4_loss 11 = .ok (.iload_n 2, 1) := dk_28 (dk_at dksX4_loss_0 11 rfl rfl)
theorem dX4_loss_12 : decode cX4_loss 12 = .ok (.invokevirtual 78, 3) := dk_182 0 78 (dk_at dksX4_loss_0 12 rfl rfl)
theorem dX4_loss_15 : decode cX4_loss 15 = .ok (.aload_n 0, 1) := dk_42 (dk_at dksX4_loss_0 15 rfl rfl)
theorem dX4_loss_16 : decode cX4_loss 16 = .ok (.getfield 3, 3) := dk_180 0 3 (dk_at dksX4_loss_0 16 rfl rfl)
theorem dX4_loss_19 : decode cX4_loss 19 = .ok (.getfield 82, 3) := dk_180 0 82 (dk_at dksX4_loss_0 19 rfl rfl)
theorem dX4_loss_22 : decode cX4_loss 22 = .ok (.iload_n 2, 1) := dk_28 (dk_at dksX4_loss_0 22 rfl rfl)
theorem dX4_loss_23 : decode cX4_loss 23 = .ok (.aaload, 1) := dk_50 (dk_at dksX4_loss_0 23 rfl rfl)
theorem dX4_loss_24 : decode cX4_loss 24 = .ok (.getfield 52, 3) := dk_180 0 52 (dk_at dksX4_loss_1 0 rfl rfl)
theorem dX4_loss_27 : decode cX4_loss 27 = .ok (.imul, 1) := dk_104 (dk_at dksX4_loss_1 3 rfl rfl)
theorem dX4_loss_28 : decode cX4_loss 28 = .ok (.iadd, 1) := dk_96 (dk_at dksX4_loss_1 4 rfl rfl)
theorem dX4_loss_29 : decode cX4_loss 29 = .ok (.istore_n 1, 1) := dk_60 (dk_at dksX4_loss_1 5 rfl rfl)
theorem dX4_loss_30 : decode cX4_loss 30 = .ok (.iinc 2 1, 3) := dk_132 2 1 (dk_at dksX4_loss_1 6 rfl rfl)
theorem dX4_loss_33 : decode cX4_loss 33 = .ok (.goto (-29), 3) := dk_167 255 227 (dk_at dksX4_loss_1 9 rfl rfl)
theorem dX4_loss_36 : decode cX4_loss 36 = .ok (.iload_n 1, 1) := dk_27 (dk_at dksX4_loss_1 12 rfl rfl)
theorem dX4_loss_37 : decode cX4_loss 37 = .ok (.ireturn, 1) := dk_172 (dk_at dksX4_loss_1 13 rfl rfl)
abbrev cX4_lacks : ByteArray := prog_13_method_5_code
def yX4_lacks : MethodName := ⟨RX4, "lacks", "(I)I"⟩
def dkwX4_lacks_0 : List UInt8 := [3, 42, 180, 0, 3, 180, 0, 57, 27, 50, 180, 0, 52, 42, 180, 0, 15, 27, 46, 100, 184, 0, 73, 172]
abbrev dktX4_lacks_0 : List UInt8 := dkwX4_lacks_0 ++ []
theorem dksX4_lacks_0 : cX4_lacks.data.toList.drop 0 = dktX4_lacks_0 := by decide +kernel
theorem dX4_lacks_0 : decode cX4_lacks 0 = .ok (.iconst 0, 1) := dk_3 (dk_at dksX4_lacks_0 0 rfl rfl)
theorem dX4_lacks_1 : decode cX4_lacks 1 = .ok (.aload_n 0, 1) := dk_42 (dk_at dksX4_lacks_0 1 rfl rfl)
theorem dX4_lacks_2 : decode cX4_lacks 2 = .ok (.getfield 3, 3) := dk_180 0 3 (dk_at dksX4_lacks_0 2 rfl rfl)
theorem dX4_lacks_5 : decode cX4_lacks 5 = .ok (.getfield 57, 3) := dk_180 0 57 (dk_at dksX4_lacks_0 5 rfl rfl)
theorem dX4_lacks_8 : decode cX4_lacks 8 = .ok (.iload_n 1, 1) := dk_27 (dk_at dksX4_lacks_0 8 rfl rfl)
theorem dX4_lacks_9 : decode cX4_lacks 9 = .ok (.aaload, 1) := dk_50 (dk_at dksX4_lacks_0 9 rfl rfl)
theorem dX4_lacks_10 : decode cX4_lacks 10 = .ok (.getfield 52, 3) := dk_180 0 52 (dk_at dksX4_lacks_0 10 rfl rfl)
theorem dX4_lacks_13 : decode cX4_lacks 13 = .ok (.aload_n 0, 1) := dk_42 (dk_at dksX4_lacks_0 13 rfl rfl)
theorem dX4_lacks_14 : decode cX4_lacks 14 = .ok (.getfield 15, 3) := dk_180 0 15 (dk_at dksX4_lacks_0 14 rfl rfl)
theorem dX4_lacks_17 : decode cX4_lacks 17 = .ok (.iload_n 1, 1) := dk_27 (dk_at dksX4_lacks_0 17 rfl rfl)
theorem dX4_lacks_18 : decode cX4_lacks 18 = .ok (.iaload, 1) := dk_46 (dk_at dksX4_lacks_0 18 rfl rfl)
theorem dX4_lacks_19 : decode cX4_lacks 19 = .ok (.isub, 1) := dk_100 (dk_at dksX4_lacks_0 19 rfl rfl)
theorem dX4_lacks_20 : decode cX4_lacks 20 = .ok (.invokestatic 73, 3) := dk_184 0 73 (dk_at dksX4_lacks_0 20 rfl rfl)
theorem dX4_lacks_23 : decode cX4_lacks 23 = .ok (.ireturn, 1) := dk_172 (dk_at dksX4_lacks_0 23 rfl rfl)
theorem q102 : (Jvm.Cond.initialized "LeftAsFound$Hut") ∈ lw_all := lw_g (lw_at lw_m1 8 rfl) rfl
theorem q218 : (Jvm.Cond.fieldLinkNest "LeftAsFound$Hut" (52 : Nat) "LeftAsFound$Held" "v" "I" "LeftAsFound") ∈ lw_tbl := lw_at lw_m1 124 rfl
theorem q239 : (Jvm.Cond.instantiable "LeftAsFound$Hut" (7 : Nat)) ∈ lw_all := lw_g (lw_at lw_m1 145 rfl) rfl
theorem q241 : (Jvm.Cond.instanceMethod ({ cls := "LeftAsFound$Hut", name := "<init>", desc := "(LLeftAsFound;)V" } : Jvm.MethodName)) ∈ lw_all := lw_g (lw_at lw_m1 147 rfl) rfl
theorem q242 : (Jvm.Cond.code ({ cls := "LeftAsFound$Hut", name := "<init>", desc := "(LLeftAsFound;)V" } : Jvm.MethodName) prog_13_method_1_code (3 : Nat) (Option.none : Option Jvm.ClassFile.FieldType)) ∈ lw_all := lw_g (lw_at lw_m1 148 rfl) rfl
theorem q243 : (Jvm.Cond.methodLink "LeftAsFound$Hut" (9 : Nat) ({ cls := "java/lang/Object", name := "<init>", desc := "()V" } : Jvm.MethodName)) ∈ lw_all := lw_g (lw_at lw_m1 149 rfl) rfl
theorem q244 : (Jvm.Cond.fieldLink "LeftAsFound$Hut" (15 : Nat) "LeftAsFound$Hut" "levels" "[I") ∈ lw_all := lw_g (lw_at lw_m1 150 rfl) rfl
theorem q246 : (Jvm.Cond.fieldLink "LeftAsFound$Hut" (19 : Nat) "LeftAsFound$Hut" "book" "[I") ∈ lw_all := lw_g (lw_at lw_m1 152 rfl) rfl
theorem q248 : (Jvm.Cond.fieldLink "LeftAsFound$Hut" (22 : Nat) "LeftAsFound$Hut" "first" "[I") ∈ lw_all := lw_g (lw_at lw_m1 154 rfl) rfl
theorem q250 : (Jvm.Cond.fieldLink "LeftAsFound$Hut" (34 : Nat) "LeftAsFound$Hut" "there" "I") ∈ lw_all := lw_g (lw_at lw_m1 156 rfl) rfl
theorem q252 : (Jvm.Cond.fieldLink "LeftAsFound$Hut" (38 : Nat) "LeftAsFound$Hut" "isAhead" "Z") ∈ lw_all := lw_g (lw_at lw_m1 158 rfl) rfl
theorem q253 : (Jvm.Cond.fieldLink "LeftAsFound$Hut" (25 : Nat) "LeftAsFound$Hut" "ahead" "[I") ∈ lw_all := lw_g (lw_at lw_m1 159 rfl) rfl
theorem q254 : (Jvm.Cond.fieldLink "LeftAsFound$Hut" (3 : Nat) "LeftAsFound$Hut" "this$0" "LLeftAsFound;") ∈ lw_all := lw_g (lw_at lw_m1 160 rfl) rfl
theorem q255 : (Jvm.Cond.laysFinal "LeftAsFound$Hut" "LeftAsFound$Hut" "levels" "[I") ∈ lw_all := lw_g (lw_at lw_m1 161 rfl) rfl
theorem q256 : (Jvm.Cond.soleField "LeftAsFound$Hut" "levels") ∈ lw_all := lw_g (lw_at lw_m1 162 rfl) rfl
theorem q257 : (Jvm.Cond.laysFinal "LeftAsFound$Hut" "LeftAsFound$Hut" "book" "[I") ∈ lw_all := lw_g (lw_at lw_m1 163 rfl) rfl
theorem q258 : (Jvm.Cond.soleField "LeftAsFound$Hut" "book") ∈ lw_all := lw_g (lw_at lw_m1 164 rfl) rfl
theorem q259 : (Jvm.Cond.laysFinal "LeftAsFound$Hut" "LeftAsFound$Hut" "first" "[I") ∈ lw_all := lw_g (lw_at lw_m1 165 rfl) rfl
theorem q260 : (Jvm.Cond.soleField "LeftAsFound$Hut" "first") ∈ lw_all := lw_g (lw_at lw_m1 166 rfl) rfl
theorem q261 : (Jvm.Cond.lays "LeftAsFound$Hut" "LeftAsFound$Hut" "there" "I") ∈ lw_all := lw_g (lw_at lw_m1 167 rfl) rfl
theorem q262 : (Jvm.Cond.soleField "LeftAsFound$Hut" "there") ∈ lw_all := lw_g (lw_at lw_m1 168 rfl) rfl
theorem q263 : (Jvm.Cond.lays "LeftAsFound$Hut" "LeftAsFound$Hut" "isAhead" "Z") ∈ lw_all := lw_g (lw_at lw_m1 169 rfl) rfl
theorem q264 : (Jvm.Cond.soleField "LeftAsFound$Hut" "isAhead") ∈ lw_all := lw_g (lw_at lw_m1 170 rfl) rfl
theorem q265 : (Jvm.Cond.laysFinal "LeftAsFound$Hut" "LeftAsFound$Hut" "ahead" "[I") ∈ lw_all := lw_g (lw_at lw_m1 171 rfl) rfl
theorem q266 : (Jvm.Cond.soleField "LeftAsFound$Hut" "ahead") ∈ lw_all := lw_g (lw_at lw_m1 172 rfl) rfl
theorem q267 : (Jvm.Cond.laysFinal "LeftAsFound$Hut" "LeftAsFound$Hut" "this$0" "LLeftAsFound;") ∈ lw_all := lw_g (lw_at lw_m1 173 rfl) rfl
theorem q268 : (Jvm.Cond.soleField "LeftAsFound$Hut" "this$0") ∈ lw_all := lw_g (lw_at lw_m1 174 rfl) rfl
theorem q269 : (Jvm.Cond.superclass "LeftAsFound$Hut" "java/lang/Object") ∈ lw_all := lw_g (lw_at lw_m1 175 rfl) rfl
theorem q297 : (Jvm.Cond.fieldLinkNest "LeftAsFound$Hut" (42 : Nat) "LeftAsFound" "guests" "[LLeftAsFound$Guest;" "LeftAsFound") ∈ lw_tbl := lw_at lw_m1 203 rfl
theorem q300 : (Jvm.Cond.fieldLinkNest "LeftAsFound$Hut" (57 : Nat) "LeftAsFound" "oughts" "[LLeftAsFound$Held;" "LeftAsFound") ∈ lw_tbl := lw_at lw_m1 206 rfl
theorem q302 : (Jvm.Cond.fieldLinkNest "LeftAsFound$Hut" (82 : Nat) "LeftAsFound" "worths" "[LLeftAsFound$Held;" "LeftAsFound") ∈ lw_tbl := lw_at lw_m1 208 rfl
theorem q455 : (Jvm.Cond.fieldLinkNest "LeftAsFound$Hut" (46 : Nat) "LeftAsFound$Guest" "believes" "LLeftAsFound$Held;" "LeftAsFound") ∈ lw_tbl := lw_at lw_m2 121 rfl
theorem q669 : (Jvm.Cond.instanceMethod ({ cls := "LeftAsFound$Hut", name := "beAs", desc := "(LLeftAsFound$Hut;)V" } : Jvm.MethodName)) ∈ lw_all := lw_g (lw_at lw_m3 95 rfl) rfl
theorem q670 : (Jvm.Cond.selects "LeftAsFound$Hut" ({ cls := "LeftAsFound$Hut", name := "beAs", desc := "(LLeftAsFound$Hut;)V" } : Jvm.MethodName) ({ cls := "LeftAsFound$Hut", name := "beAs", desc := "(LLeftAsFound$Hut;)V" } : Jvm.MethodName)) ∈ lw_all := lw_g (lw_at lw_m3 96 rfl) rfl
theorem q671 : (Jvm.Cond.code ({ cls := "LeftAsFound$Hut", name := "beAs", desc := "(LLeftAsFound$Hut;)V" } : Jvm.MethodName) prog_13_method_2_code (2 : Nat) (Option.none : Option Jvm.ClassFile.FieldType)) ∈ lw_all := lw_g (lw_at lw_m3 97 rfl) rfl
theorem q672 : (Jvm.Cond.methodLink "LeftAsFound$Hut" (28 : Nat) ({ cls := "java/lang/System", name := "arraycopy", desc := "(Ljava/lang/Object;ILjava/lang/Object;II)V" } : Jvm.MethodName)) ∈ lw_all := lw_g (lw_at lw_m3 98 rfl) rfl
theorem q676 : (Jvm.Cond.instanceMethod ({ cls := "LeftAsFound$Hut", name := "night", desc := "(I)V" } : Jvm.MethodName)) ∈ lw_all := lw_g (lw_at lw_m3 102 rfl) rfl
theorem q677 : (Jvm.Cond.selects "LeftAsFound$Hut" ({ cls := "LeftAsFound$Hut", name := "night", desc := "(I)V" } : Jvm.MethodName) ({ cls := "LeftAsFound$Hut", name := "night", desc := "(I)V" } : Jvm.MethodName)) ∈ lw_all := lw_g (lw_at lw_m3 103 rfl) rfl
theorem q678 : (Jvm.Cond.code ({ cls := "LeftAsFound$Hut", name := "night", desc := "(I)V" } : Jvm.MethodName) prog_13_method_4_code (4 : Nat) (Option.none : Option Jvm.ClassFile.FieldType)) ∈ lw_all := lw_g (lw_at lw_m3 104 rfl) rfl
theorem q679 : (Jvm.Cond.methodLinkNest "LeftAsFound$Hut" (61 : Nat) ({ cls := "LeftAsFound", name := "isIn", desc := "(II)Z" } : Jvm.MethodName) "LeftAsFound") ∈ lw_tbl := lw_at lw_m3 105 rfl
theorem q680 : (Jvm.Cond.methodLink "LeftAsFound$Hut" (65 : Nat) ({ cls := "LeftAsFound$Hut", name := "believedBy", desc := "(II)I" } : Jvm.MethodName)) ∈ lw_all := lw_g (lw_at lw_m3 106 rfl) rfl
theorem q681 : (Jvm.Cond.privateMethod ({ cls := "LeftAsFound$Hut", name := "believedBy", desc := "(II)I" } : Jvm.MethodName)) ∈ lw_tbl := lw_at lw_m3 107 rfl
theorem q682 : (Jvm.Cond.instanceMethod ({ cls := "LeftAsFound$Hut", name := "believedBy", desc := "(II)I" } : Jvm.MethodName)) ∈ lw_all := lw_g (lw_at lw_m3 108 rfl) rfl
theorem q683 : (Jvm.Cond.code ({ cls := "LeftAsFound$Hut", name := "believedBy", desc := "(II)I" } : Jvm.MethodName) prog_13_method_3_code (3 : Nat) (Option.some Jvm.ClassFile.FieldType.int)) ∈ lw_all := lw_g (lw_at lw_m3 109 rfl) rfl
theorem q684 : (Jvm.Cond.methodLinkNest "LeftAsFound$Hut" (69 : Nat) ({ cls := "LeftAsFound", name := "leftBy", desc := "(LLeftAsFound$Guest;III)I" } : Jvm.MethodName) "LeftAsFound") ∈ lw_tbl := lw_at lw_m3 110 rfl
theorem q734 : (Jvm.Cond.instanceMethod ({ cls := "LeftAsFound$Hut", name := "loss", desc := "()I" } : Jvm.MethodName)) ∈ lw_all := lw_g (lw_at lw_m3 160 rfl) rfl
theorem q735 : (Jvm.Cond.selects "LeftAsFound$Hut" ({ cls := "LeftAsFound$Hut", name := "loss", desc := "()I" } : Jvm.MethodName) ({ cls := "LeftAsFound$Hut", name := "loss", desc := "()I" } : Jvm.MethodName)) ∈ lw_all := lw_g (lw_at lw_m3 161 rfl) rfl
theorem q736 : (Jvm.Cond.code ({ cls := "LeftAsFound$Hut", name := "loss", desc := "()I" } : Jvm.MethodName) prog_13_method_6_code (3 : Nat) (Option.some Jvm.ClassFile.FieldType.int)) ∈ lw_all := lw_g (lw_at lw_m3 162 rfl) rfl
theorem q737 : (Jvm.Cond.methodLink "LeftAsFound$Hut" (78 : Nat) ({ cls := "LeftAsFound$Hut", name := "lacks", desc := "(I)I" } : Jvm.MethodName)) ∈ lw_all := lw_g (lw_at lw_m3 163 rfl) rfl
theorem q738 : (Jvm.Cond.instanceMethod ({ cls := "LeftAsFound$Hut", name := "lacks", desc := "(I)I" } : Jvm.MethodName)) ∈ lw_all := lw_g (lw_at lw_m3 164 rfl) rfl
theorem q739 : (Jvm.Cond.selects "LeftAsFound$Hut" ({ cls := "LeftAsFound$Hut", name := "lacks", desc := "(I)I" } : Jvm.MethodName) ({ cls := "LeftAsFound$Hut", name := "lacks", desc := "(I)I" } : Jvm.MethodName)) ∈ lw_all := lw_g (lw_at lw_m3 165 rfl) rfl
theorem q740 : (Jvm.Cond.code ({ cls := "LeftAsFound$Hut", name := "lacks", desc := "(I)I" } : Jvm.MethodName) prog_13_method_5_code (2 : Nat) (Option.some Jvm.ClassFile.FieldType.int)) ∈ lw_all := lw_g (lw_at lw_m3 166 rfl) rfl
theorem q741 : (Jvm.Cond.methodLink "LeftAsFound$Hut" (73 : Nat) ({ cls := "java/lang/Math", name := "max", desc := "(II)I" } : Jvm.MethodName)) ∈ lw_all := lw_g (lw_at lw_m3 167 rfl) rfl
theorem q1943 : (Jvm.Cond.castable "LeftAsFound$Hut" "java/lang/Object") ∈ lw_tbl := lw_at lw_m8 169 rfl
theorem in_X4 : ∀ w ∈ wsX40, w ∈ lw_all := lw_in wsX40 [255, 257, 259, 261, 263, 265, 267] (by decide +kernel) (by decide +kernel)

/-! LeftAsFound$Change -/
set_option maxRecDepth 100000
def RX5 : String := "LeftAsFound$Change"
def TX5 : u_T := fun k => match k with
  | 0 => ("LeftAsFound$Change", "of", "LLeftAsFound$Held;", false)
  | 1 => ("LeftAsFound$Change", "was", "I", false)
  | _ => ("LeftAsFound$Change", "is", "I", false)
def tyX5 : Nat → FieldType := fun k => match k with
  | 0 => .object "LeftAsFound$Held"
  | 1 => .int
  | _ => .int
abbrev wsX50 : List Cond := u_ws RX5 TX5 3
theorem nmX5 : ∀ a, a < 3 → ∀ b, b < 3 → a ≠ b → (TX5 a).2.1 ≠ (TX5 b).2.1 := by decide +kernel
theorem tyX5_ok : ∀ k, k < 3 → parseFieldDescriptor (TX5 k).2.2.1 = some (tyX5 k) := by decide +kernel
abbrev cX5_init : ByteArray := prog_6_method_1_code
def yX5_init : MethodName := ⟨RX5, "<init>", "()V"⟩
theorem dX5_init_0 : decode cX5_init 0 = .ok (.aload_n 0, 1) := by decide +kernel
theorem dX5_init_1 : decode cX5_init 1 = .ok (.invokespecial 1, 3) := by decide +kernel
theorem dX5_init_4 : decode cX5_init 4 = .ok (.return_, 1) := by decide +kernel
theorem q103 : (Jvm.Cond.initialized "LeftAsFound$Change") ∈ lw_all := lw_g (lw_at lw_m1 9 rfl) rfl
theorem q275 : (Jvm.Cond.instantiable "LeftAsFound$Change" (3 : Nat)) ∈ lw_all := lw_g (lw_at lw_m1 181 rfl) rfl
theorem q277 : (Jvm.Cond.instanceMethod ({ cls := "LeftAsFound$Change", name := "<init>", desc := "()V" } : Jvm.MethodName)) ∈ lw_all := lw_g (lw_at lw_m1 183 rfl) rfl
theorem q278 : (Jvm.Cond.code ({ cls := "LeftAsFound$Change", name := "<init>", desc := "()V" } : Jvm.MethodName) prog_6_method_1_code (1 : Nat) (Option.none : Option Jvm.ClassFile.FieldType)) ∈ lw_all := lw_g (lw_at lw_m1 184 rfl) rfl
theorem q279 : (Jvm.Cond.methodLink "LeftAsFound$Change" (1 : Nat) ({ cls := "java/lang/Object", name := "<init>", desc := "()V" } : Jvm.MethodName)) ∈ lw_all := lw_g (lw_at lw_m1 185 rfl) rfl
theorem q283 : (Jvm.Cond.lays "LeftAsFound$Change" "LeftAsFound$Change" "of" "LLeftAsFound$Held;") ∈ lw_all := lw_g (lw_at lw_m1 189 rfl) rfl
theorem q284 : (Jvm.Cond.soleField "LeftAsFound$Change" "of") ∈ lw_all := lw_g (lw_at lw_m1 190 rfl) rfl
theorem q285 : (Jvm.Cond.lays "LeftAsFound$Change" "LeftAsFound$Change" "was" "I") ∈ lw_all := lw_g (lw_at lw_m1 191 rfl) rfl
theorem q286 : (Jvm.Cond.soleField "LeftAsFound$Change" "was") ∈ lw_all := lw_g (lw_at lw_m1 192 rfl) rfl
theorem q287 : (Jvm.Cond.lays "LeftAsFound$Change" "LeftAsFound$Change" "is" "I") ∈ lw_all := lw_g (lw_at lw_m1 193 rfl) rfl
theorem q288 : (Jvm.Cond.soleField "LeftAsFound$Change" "is") ∈ lw_all := lw_g (lw_at lw_m1 194 rfl) rfl
theorem q289 : (Jvm.Cond.superclass "LeftAsFound$Change" "java/lang/Object") ∈ lw_all := lw_g (lw_at lw_m1 195 rfl) rfl
theorem q1944 : (Jvm.Cond.castable "LeftAsFound$Change" "java/lang/Object") ∈ lw_tbl := lw_at lw_m8 170 rfl
theorem in_X5 : ∀ w ∈ wsX50, w ∈ lw_all := lw_in wsX50 [283, 285, 287] (by decide +kernel) (by decide +kernel)

/-! LeftAsFound$Guest -/
set_option maxRecDepth 100000
def RX7 : String := "LeftAsFound$Guest"
def TX7 : u_T := fun k => match k with
  | 0 => ("LeftAsFound$Guest", "takes", "[LLeftAsFound$Held;", true)
  | 1 => ("LeftAsFound$Guest", "brings", "[LLeftAsFound$Held;", true)
  | 2 => ("LeftAsFound$Guest", "sees", "LLeftAsFound$Held;", true)
  | _ => ("LeftAsFound$Guest", "believes", "LLeftAsFound$Held;", true)
def tyX7 : Nat → FieldType := fun k => match k with
  | 0 => .array (.object "LeftAsFound$Held")
  | 1 => .array (.object "LeftAsFound$Held")
  | 2 => .object "LeftAsFound$Held"
  | _ => .object "LeftAsFound$Held"
abbrev wsX70 : List Cond := u_ws RX7 TX7 4
theorem nmX7 : ∀ a, a < 4 → ∀ b, b < 4 → a ≠ b → (TX7 a).2.1 ≠ (TX7 b).2.1 := by decide +kernel
theorem tyX7_ok : ∀ k, k < 4 → parseFieldDescriptor (TX7 k).2.2.1 = some (tyX7 k) := by decide +kernel
abbrev cX7_init : ByteArray := prog_11_method_1_code
def yX7_init : MethodName := ⟨RX7, "<init>", "(III)V"⟩
def dkwX7_init_3 : List UInt8 := [181, 0, 28, 177]
abbrev dktX7_init_3 : List UInt8 := dkwX7_init_3 ++ []
def dkwX7_init_2 : List UInt8 := [184, 0, 20, 83, 132, 4, 1, 167, 255, 225, 42, 28, 184, 0, 20, 181, 0, 24, 42, 29, 184, 0, 20]
abbrev dktX7_init_2 : List UInt8 := dkwX7_init_2 ++ dktX7_init_3
def dkwX7_init_1 : List UInt8 := [21, 4, 7, 162, 0, 31, 42, 180, 0, 11, 21, 4, 27, 184, 0, 20, 83, 42, 180, 0, 17, 21, 4, 3]
abbrev dktX7_init_1 : List UInt8 := dkwX7_init_1 ++ dktX7_init_2
def dkwX7_init_0 : List UInt8 := [42, 183, 0, 3, 42, 7, 189, 0, 9, 181, 0, 11, 42, 7, 189, 0, 9, 181, 0, 17, 3, 54, 4]
abbrev dktX7_init_0 : List UInt8 := dkwX7_init_0 ++ dktX7_init_1
theorem dksX7_init_0 : cX7_init.data.toList.drop 0 = dktX7_init_0 := by decide +kernel
theorem dksX7_init_1 : cX7_init.data.toList.drop 23 = dktX7_init_1 := dk_seg dksX7_init_0 23 rfl rfl
theorem dksX7_init_2 : cX7_init.data.toList.drop 47 = dktX7_init_2 := dk_seg dksX7_init_1 24 rfl rfl
theorem dksX7_init_3 : cX7_init.data.toList.drop 70 = dktX7_init_3 := dk_seg dksX7_init_2 23 rfl rfl
theorem dX7_init_0 : decode cX7_init 0 = .ok (.aload_n 0, 1) := dk_42 (dk_at dksX7_init_0 0 rfl rfl)
theorem dX7_init_1 : decode cX7_init 1 = .ok (.invokespecial 3, 3) := dk_183 0 3 (dk_at dksX7_init_0 1 rfl rfl)
theorem dX7_init_4 : decode cX7_init 4 = .ok (.aload_n 0, 1) := dk_42 (dk_at dksX7_init_0 4 rfl rfl)
theorem dX7_init_5 : decode cX7_init 5 = .ok (.iconst 4, 1) := dk_7 (dk_at dksX7_init_0 5 rfl rfl)
theorem dX7_init_6 : decode cX7_init 6 = .ok (.anewarray 9, 3) := dk_189 0 9 (dk_at dksX7_init_0 6 rfl rfl)
theorem dX7_init_9 : decode cX7_init 9 = .ok (.putfield 11, 3) := dk_181 0 11 (dk_at dksX7_init_0 9 rfl rfl)
theorem dX7_init_12 : decode cX7_init 12 = .ok (.aload_n 0, 1) := dk_42 (dk_at dksX7_init_0 12 rfl rfl)
theorem dX7_init_13 : decode cX7_init 13 = .ok (.iconst 4, 1) := dk_7 (dk_at dksX7_init_0 13 rfl rfl)
theorem dX7_init_14 : decode cX7_init 14 = .ok (.anewarray 9, 3) := dk_189 0 9 (dk_at dksX7_init_0 14 rfl rfl)
theorem dX7_init_17 : decode cX7_init 17 = .ok (.putfield 17, 3) := dk_181 0 17 (dk_at dksX7_init_0 17 rfl rfl)
theorem dX7_init_20 : decode cX7_init 20 = .ok (.iconst 0, 1) := dk_3 (dk_at dksX7_init_0 20 rfl rfl)
theorem dX7_init_21 : decode cX7_init 21 = .ok (.istore 4, 2) := dk_54 4 (dk_at dksX7_init_0 21 rfl rfl)
theorem dX7_init_23 : decode cX7_init 23 = .ok (.iload 4, 2) := dk_21 4 (dk_at dksX7_init_1 0 rfl rfl)
theorem dX7_init_25 : decode cX7_init 25 = .ok (.iconst 4, 1) := dk_7 (dk_at dksX7_init_1 2 rfl rfl)
theorem dX7_init_26 : decode cX7_init 26 = .ok (.if_icmp .ge 31, 3) := dk_162 0 31 (dk_at dksX7_init_1 3 rfl rfl)
theorem dX7_init_29 : decode cX7_init 29 = .ok (.aload_n 0, 1) := dk_42 (dk_at dksX7_init_1 6 rfl rfl)
theorem dX7_init_30 : decode cX7_init 30 = .ok (.getfield 11, 3) := dk_180 0 11 (dk_at dksX7_init_1 7 rfl rfl)
theorem dX7_init_33 : decode cX7_init 33 = .ok (.iload 4, 2) := dk_21 4 (dk_at dksX7_init_1 10 rfl rfl)
theorem dX7_init_35 : decode cX7_init 35 = .ok (.iload_n 1, 1) := dk_27 (dk_at dksX7_init_1 12 rfl rfl)
theorem dX7_init_36 : decode cX7_init 36 = .ok (.invokestatic 20, 3) := dk_184 0 20 (dk_at dksX7_init_1 13 rfl rfl)
theorem dX7_init_39 : decode cX7_init 39 = .ok (.aastore, 1) := dk_83 (dk_at dksX7_init_1 16 rfl rfl)
theorem dX7_init_40 : decode cX7_init 40 = .ok (.aload_n 0, 1) := dk_42 (dk_at dksX7_init_1 17 rfl rfl)
theorem dX7_init_41 : decode cX7_init 41 = .ok (.getfield 17, 3) := dk_180 0 17 (dk_at dksX7_init_1 18 rfl rfl)
theorem dX7_init_44 : decode cX7_init 44 = .ok (.iload 4, 2) := dk_21 4 (dk_at dksX7_init_1 21 rfl rfl)
theorem dX7_init_46 : decode cX7_init 46 = .ok (.iconst 0, 1) := dk_3 (dk_at dksX7_init_1 23 rfl rfl)
theorem dX7_init_47 : decode cX7_init 47 = .ok (.invokestatic 20, 3) := dk_184 0 20 (dk_at dksX7_init_2 0 rfl rfl)
theorem dX7_init_50 : decode cX7_init 50 = .ok (.aastore, 1) := dk_83 (dk_at dksX7_init_2 3 rfl rfl)
theorem dX7_init_51 : decode cX7_init 51 = .ok (.iinc 4 1, 3) := dk_132 4 1 (dk_at dksX7_init_2 4 rfl rfl)
theorem dX7_init_54 : decode cX7_init 54 = .ok (.goto (-31), 3) := dk_167 255 225 (dk_at dksX7_init_2 7 rfl rfl)
theorem dX7_init_57 : decode cX7_init 57 = .ok (.aload_n 0, 1) := dk_42 (dk_at dksX7_init_2 10 rfl rfl)
theorem dX7_init_58 : decode cX7_init 58 = .ok (.iload_n 2, 1) := dk_28 (dk_at dksX7_init_2 11 rfl rfl)
theorem dX7_init_59 : decode cX7_init 59 = .ok (.invokestatic 20, 3) := dk_184 0 20 (dk_at dksX7_init_2 12 rfl rfl)
theorem dX7_init_62 : decode cX7_init 62 = .ok (.putfield 24, 3) := dk_181 0 24 (dk_at dksX7_init_2 15 rfl rfl)
theorem dX7_init_65 : decode cX7_init 65 = .ok (.aload_n 0, 1) := dk_42 (dk_at dksX7_init_2 18 rfl rfl)
theorem dX7_init_66 : decode cX7_init 66 = .ok (.iload_n 3, 1) := dk_29 (dk_at dksX7_init_2 19 rfl rfl)
theorem dX7_init_67 : decode cX7_init 67 = .ok (.invokestatic 20, 3) := dk_184 0 20 (dk_at dksX7_init_2 20 rfl rfl)
theorem dX7_init_70 : decode cX7_init 70 = .ok (.putfield 28, 3) := dk_181 0 28 (dk_at dksX7_init_3 0 rfl rfl)
theorem dX7_init_73 : decode cX7_init 73 = .ok (.return_, 1) := dk_177 (dk_at dksX7_init_3 3 rfl rfl)
theorem q105 : (Jvm.Cond.initialized "LeftAsFound$Guest") ∈ lw_all := lw_g (lw_at lw_m1 11 rfl) rfl
theorem q441 : (Jvm.Cond.instantiable "LeftAsFound$Guest" (4 : Nat)) ∈ lw_all := lw_g (lw_at lw_m2 107 rfl) rfl
theorem q443 : (Jvm.Cond.instanceMethod ({ cls := "LeftAsFound$Guest", name := "<init>", desc := "(III)V" } : Jvm.MethodName)) ∈ lw_all := lw_g (lw_at lw_m2 109 rfl) rfl
theorem q444 : (Jvm.Cond.code ({ cls := "LeftAsFound$Guest", name := "<init>", desc := "(III)V" } : Jvm.MethodName) prog_11_method_1_code (5 : Nat) (Option.none : Option Jvm.ClassFile.FieldType)) ∈ lw_all := lw_g (lw_at lw_m2 110 rfl) rfl
theorem q445 : (Jvm.Cond.methodLink "LeftAsFound$Guest" (3 : Nat) ({ cls := "java/lang/Object", name := "<init>", desc := "()V" } : Jvm.MethodName)) ∈ lw_all := lw_g (lw_at lw_m2 111 rfl) rfl
theorem q446 : (Jvm.Cond.classLink "LeftAsFound$Guest" (9 : Nat) "LeftAsFound$Held") ∈ lw_all := lw_g (lw_at lw_m2 112 rfl) rfl
theorem q447 : (Jvm.Cond.methodLinkNest "LeftAsFound$Guest" (20 : Nat) ({ cls := "LeftAsFound", name := "heldAt", desc := "(I)LLeftAsFound$Held;" } : Jvm.MethodName) "LeftAsFound") ∈ lw_tbl := lw_at lw_m2 113 rfl
theorem q448 : (Jvm.Cond.fieldLink "LeftAsFound$Guest" (11 : Nat) "LeftAsFound$Guest" "takes" "[LLeftAsFound$Held;") ∈ lw_all := lw_g (lw_at lw_m2 114 rfl) rfl
theorem q450 : (Jvm.Cond.fieldLink "LeftAsFound$Guest" (17 : Nat) "LeftAsFound$Guest" "brings" "[LLeftAsFound$Held;") ∈ lw_all := lw_g (lw_at lw_m2 116 rfl) rfl
theorem q452 : (Jvm.Cond.fieldLink "LeftAsFound$Guest" (24 : Nat) "LeftAsFound$Guest" "sees" "LLeftAsFound$Held;") ∈ lw_all := lw_g (lw_at lw_m2 118 rfl) rfl
theorem q454 : (Jvm.Cond.fieldLink "LeftAsFound$Guest" (28 : Nat) "LeftAsFound$Guest" "believes" "LLeftAsFound$Held;") ∈ lw_all := lw_g (lw_at lw_m2 120 rfl) rfl
theorem q457 : (Jvm.Cond.laysFinal "LeftAsFound$Guest" "LeftAsFound$Guest" "takes" "[LLeftAsFound$Held;") ∈ lw_all := lw_g (lw_at lw_m2 123 rfl) rfl
theorem q458 : (Jvm.Cond.soleField "LeftAsFound$Guest" "takes") ∈ lw_all := lw_g (lw_at lw_m2 124 rfl) rfl
theorem q459 : (Jvm.Cond.laysFinal "LeftAsFound$Guest" "LeftAsFound$Guest" "brings" "[LLeftAsFound$Held;") ∈ lw_all := lw_g (lw_at lw_m2 125 rfl) rfl
theorem q460 : (Jvm.Cond.soleField "LeftAsFound$Guest" "brings") ∈ lw_all := lw_g (lw_at lw_m2 126 rfl) rfl
theorem q461 : (Jvm.Cond.laysFinal "LeftAsFound$Guest" "LeftAsFound$Guest" "sees" "LLeftAsFound$Held;") ∈ lw_all := lw_g (lw_at lw_m2 127 rfl) rfl
theorem q462 : (Jvm.Cond.soleField "LeftAsFound$Guest" "sees") ∈ lw_all := lw_g (lw_at lw_m2 128 rfl) rfl
theorem q463 : (Jvm.Cond.laysFinal "LeftAsFound$Guest" "LeftAsFound$Guest" "believes" "LLeftAsFound$Held;") ∈ lw_all := lw_g (lw_at lw_m2 129 rfl) rfl
theorem q464 : (Jvm.Cond.soleField "LeftAsFound$Guest" "believes") ∈ lw_all := lw_g (lw_at lw_m2 130 rfl) rfl
theorem q465 : (Jvm.Cond.superclass "LeftAsFound$Guest" "java/lang/Object") ∈ lw_all := lw_g (lw_at lw_m2 131 rfl) rfl
theorem q1946 : (Jvm.Cond.castable "LeftAsFound$Guest" "java/lang/Object") ∈ lw_tbl := lw_at lw_m8 172 rfl
theorem in_X7 : ∀ w ∈ wsX70, w ∈ lw_all := lw_in wsX70 [457, 459, 461, 463] (by decide +kernel) (by decide +kernel)

/-! LeftAsFound$Line -/
set_option maxRecDepth 100000
def RX8 : String := "LeftAsFound$Line"
def TX8 : u_T := fun k => match k with
  | 0 => ("LeftAsFound$Line", "asked", "LLeftAsFound$Term;", false)
  | 1 => ("LeftAsFound$Line", "counts", "LLeftAsFound$Term;", false)
  | _ => ("LeftAsFound$Line", "next", "LLeftAsFound$Line;", false)
def tyX8 : Nat → FieldType := fun k => match k with
  | 0 => .object "LeftAsFound$Term"
  | 1 => .object "LeftAsFound$Term"
  | _ => .object "LeftAsFound$Line"
abbrev wsX80 : List Cond := u_ws RX8 TX8 3
theorem nmX8 : ∀ a, a < 3 → ∀ b, b < 3 → a ≠ b → (TX8 a).2.1 ≠ (TX8 b).2.1 := by decide +kernel
theorem tyX8_ok : ∀ k, k < 3 → parseFieldDescriptor (TX8 k).2.2.1 = some (tyX8 k) := by decide +kernel
abbrev cX8_init : ByteArray := prog_14_method_1_code
def yX8_init : MethodName := ⟨RX8, "<init>", "()V"⟩
theorem dX8_init_0 : decode cX8_init 0 = .ok (.aload_n 0, 1) := by decide +kernel
theorem dX8_init_1 : decode cX8_init 1 = .ok (.invokespecial 1, 3) := by decide +kernel
theorem dX8_init_4 : decode cX8_init 4 = .ok (.return_, 1) := by decide +kernel
theorem q106 : (Jvm.Cond.initialized "LeftAsFound$Line") ∈ lw_all := lw_g (lw_at lw_m1 12 rfl) rfl
theorem q534 : (Jvm.Cond.instantiable "LeftAsFound$Line" (3 : Nat)) ∈ lw_all := lw_g (lw_at lw_m2 200 rfl) rfl
theorem q536 : (Jvm.Cond.instanceMethod ({ cls := "LeftAsFound$Line", name := "<init>", desc := "()V" } : Jvm.MethodName)) ∈ lw_all := lw_g (lw_at lw_m2 202 rfl) rfl
theorem q537 : (Jvm.Cond.code ({ cls := "LeftAsFound$Line", name := "<init>", desc := "()V" } : Jvm.MethodName) prog_14_method_1_code (1 : Nat) (Option.none : Option Jvm.ClassFile.FieldType)) ∈ lw_all := lw_g (lw_at lw_m2 203 rfl) rfl
theorem q538 : (Jvm.Cond.methodLink "LeftAsFound$Line" (1 : Nat) ({ cls := "java/lang/Object", name := "<init>", desc := "()V" } : Jvm.MethodName)) ∈ lw_all := lw_g (lw_at lw_m2 204 rfl) rfl
theorem q542 : (Jvm.Cond.lays "LeftAsFound$Line" "LeftAsFound$Line" "asked" "LLeftAsFound$Term;") ∈ lw_all := lw_g (lw_at lw_m2 208 rfl) rfl
theorem q543 : (Jvm.Cond.soleField "LeftAsFound$Line" "asked") ∈ lw_all := lw_g (lw_at lw_m2 209 rfl) rfl
theorem q544 : (Jvm.Cond.lays "LeftAsFound$Line" "LeftAsFound$Line" "counts" "LLeftAsFound$Term;") ∈ lw_all := lw_g (lw_at lw_m2 210 rfl) rfl
theorem q545 : (Jvm.Cond.soleField "LeftAsFound$Line" "counts") ∈ lw_all := lw_g (lw_at lw_m2 211 rfl) rfl
theorem q546 : (Jvm.Cond.lays "LeftAsFound$Line" "LeftAsFound$Line" "next" "LLeftAsFound$Line;") ∈ lw_all := lw_g (lw_at lw_m2 212 rfl) rfl
theorem q547 : (Jvm.Cond.soleField "LeftAsFound$Line" "next") ∈ lw_all := lw_g (lw_at lw_m2 213 rfl) rfl
theorem q548 : (Jvm.Cond.superclass "LeftAsFound$Line" "java/lang/Object") ∈ lw_all := lw_g (lw_at lw_m2 214 rfl) rfl
theorem q1947 : (Jvm.Cond.castable "LeftAsFound$Line" "java/lang/Object") ∈ lw_tbl := lw_at lw_m8 173 rfl
theorem in_X8 : ∀ w ∈ wsX80, w ∈ lw_all := lw_in wsX80 [542, 544, 546] (by decide +kernel) (by decide +kernel)

/-! LeftAsFound$Term -/
set_option maxRecDepth 100000
def RX9 : String := "LeftAsFound$Term"
abbrev cX9_init : ByteArray := prog_21_method_1_code
def yX9_init : MethodName := ⟨RX9, "<init>", "()V"⟩
theorem dX9_init_0 : decode cX9_init 0 = .ok (.aload_n 0, 1) := by decide +kernel
theorem dX9_init_1 : decode cX9_init 1 = .ok (.invokespecial 1, 3) := by decide +kernel
theorem dX9_init_4 : decode cX9_init 4 = .ok (.return_, 1) := by decide +kernel
theorem q107 : (Jvm.Cond.initialized "LeftAsFound$Term") ∈ lw_all := lw_g (lw_at lw_m1 13 rfl) rfl
theorem q589 : (Jvm.Cond.instanceMethod ({ cls := "LeftAsFound$Term", name := "<init>", desc := "()V" } : Jvm.MethodName)) ∈ lw_all := lw_g (lw_at lw_m3 15 rfl) rfl
theorem q590 : (Jvm.Cond.code ({ cls := "LeftAsFound$Term", name := "<init>", desc := "()V" } : Jvm.MethodName) prog_21_method_1_code (1 : Nat) (Option.none : Option Jvm.ClassFile.FieldType)) ∈ lw_all := lw_g (lw_at lw_m3 16 rfl) rfl
theorem q591 : (Jvm.Cond.methodLink "LeftAsFound$Term" (1 : Nat) ({ cls := "java/lang/Object", name := "<init>", desc := "()V" } : Jvm.MethodName)) ∈ lw_all := lw_g (lw_at lw_m3 17 rfl) rfl
theorem q693 : (Jvm.Cond.declares ({ cls := "LeftAsFound$Term", name := "value", desc := "()I" } : Jvm.MethodName)) ∈ lw_tbl := lw_at lw_m3 119 rfl
theorem q694 : (Jvm.Cond.sameMethod "LeftAsFound$Term" "LeftAsFound$Term" "value" "()I") ∈ lw_all := lw_g (lw_at lw_m3 120 rfl) rfl

theorem q94 : (Jvm.Cond.initialized "LeftAsFoundLaw") ∈ lw_all := lw_g (lw_at lw_m1 0 rfl) rfl
set_option maxRecDepth 100000
theorem q122 : (Jvm.Cond.methodLink "LeftAsFoundLaw" (126 : Nat) ({ cls := "LeftAsFound", name := "undo", desc := "()I" } : Jvm.MethodName)) ∈ lw_all := lw_g (lw_at lw_m1 28 rfl) rfl
theorem q126 : (Jvm.Cond.methodLink "LeftAsFoundLaw" (130 : Nat) ({ cls := "LeftAsFound", name := "redo", desc := "()I" } : Jvm.MethodName)) ∈ lw_all := lw_g (lw_at lw_m1 32 rfl) rfl
theorem q130 : (Jvm.Cond.classLink "LeftAsFoundLaw" (7 : Nat) "LeftAsFound") ∈ lw_all := lw_g (lw_at lw_m1 36 rfl) rfl
theorem q132 : (Jvm.Cond.methodLink "LeftAsFoundLaw" (9 : Nat) ({ cls := "LeftAsFound", name := "<init>", desc := "()V" } : Jvm.MethodName)) ∈ lw_all := lw_g (lw_at lw_m1 38 rfl) rfl
theorem q423 : (Jvm.Cond.methodLink "LeftAsFoundLaw" (31 : Nat) ({ cls := "LeftAsFound", name := "feed", desc := "(I)I" } : Jvm.MethodName)) ∈ lw_all := lw_g (lw_at lw_m2 89 rfl) rfl
theorem q431 : (Jvm.Cond.methodLink "LeftAsFoundLaw" (13 : Nat) ({ cls := "LeftAsFound", name := "guest", desc := "(II)I" } : Jvm.MethodName)) ∈ lw_all := lw_g (lw_at lw_m2 97 rfl) rfl
theorem q466 : (Jvm.Cond.methodLink "LeftAsFoundLaw" (18 : Nat) ({ cls := "LeftAsFound", name := "guests", desc := "(III)I" } : Jvm.MethodName)) ∈ lw_all := lw_g (lw_at lw_m2 132 rfl) rfl
theorem q488 : (Jvm.Cond.methodLink "LeftAsFoundLaw" (23 : Nat) ({ cls := "LeftAsFound", name := "mend", desc := "(III)I" } : Jvm.MethodName)) ∈ lw_all := lw_g (lw_at lw_m2 154 rfl) rfl
theorem q514 : (Jvm.Cond.methodLink "LeftAsFoundLaw" (27 : Nat) ({ cls := "LeftAsFound", name := "of", desc := "(II)I" } : Jvm.MethodName)) ∈ lw_all := lw_g (lw_at lw_m2 180 rfl) rfl
theorem q521 : (Jvm.Cond.methodLink "LeftAsFoundLaw" (36 : Nat) ({ cls := "LeftAsFound", name := "law", desc := "()I" } : Jvm.MethodName)) ∈ lw_all := lw_g (lw_at lw_m2 187 rfl) rfl
theorem q649 : (Jvm.Cond.methodLink "LeftAsFoundLaw" (41 : Nat) ({ cls := "LeftAsFound", name := "level", desc := "(III)I" } : Jvm.MethodName)) ∈ lw_all := lw_g (lw_at lw_m3 75 rfl) rfl
theorem q716 : (Jvm.Cond.methodLink "LeftAsFoundLaw" (45 : Nat) ({ cls := "LeftAsFound", name := "lowest", desc := "(II)I" } : Jvm.MethodName)) ∈ lw_all := lw_g (lw_at lw_m3 142 rfl) rfl
theorem q720 : (Jvm.Cond.methodLink "LeftAsFoundLaw" (49 : Nat) ({ cls := "LeftAsFound", name := "below", desc := "(III)I" } : Jvm.MethodName)) ∈ lw_all := lw_g (lw_at lw_m3 146 rfl) rfl
theorem q725 : (Jvm.Cond.methodLink "LeftAsFoundLaw" (53 : Nat) ({ cls := "LeftAsFound", name := "loss", desc := "(I)I" } : Jvm.MethodName)) ∈ lw_all := lw_g (lw_at lw_m3 151 rfl) rfl
theorem q742 : (Jvm.Cond.methodLink "LeftAsFoundLaw" (57 : Nat) ({ cls := "LeftAsFound", name := "rest", desc := "(II)I" } : Jvm.MethodName)) ∈ lw_all := lw_g (lw_at lw_m3 168 rfl) rfl
theorem q758 : (Jvm.Cond.methodLink "LeftAsFoundLaw" (61 : Nat) ({ cls := "LeftAsFound", name := "often", desc := "(III)I" } : Jvm.MethodName)) ∈ lw_all := lw_g (lw_at lw_m3 184 rfl) rfl
theorem q770 : (Jvm.Cond.methodLink "LeftAsFoundLaw" (65 : Nat) ({ cls := "LeftAsFound", name := "warden", desc := "(II)I" } : Jvm.MethodName)) ∈ lw_all := lw_g (lw_at lw_m3 196 rfl) rfl
theorem q779 : (Jvm.Cond.methodLink "LeftAsFoundLaw" (69 : Nat) ({ cls := "LeftAsFound", name := "spoils", desc := "(II)I" } : Jvm.MethodName)) ∈ lw_all := lw_g (lw_at lw_m3 205 rfl) rfl
theorem q784 : (Jvm.Cond.methodLink "LeftAsFoundLaw" (73 : Nat) ({ cls := "LeftAsFound", name := "order", desc := "(II)I" } : Jvm.MethodName)) ∈ lw_all := lw_g (lw_at lw_m3 210 rfl) rfl
theorem q792 : (Jvm.Cond.methodLink "LeftAsFoundLaw" (77 : Nat) ({ cls := "LeftAsFound", name := "tin", desc := "(II)J" } : Jvm.MethodName)) ∈ lw_all := lw_g (lw_at lw_m3 218 rfl) rfl
theorem q805 : (Jvm.Cond.methodLink "LeftAsFoundLaw" (82 : Nat) ({ cls := "LeftAsFound", name := "who", desc := "(III)I" } : Jvm.MethodName)) ∈ lw_all := lw_g (lw_at lw_m3 231 rfl) rfl
theorem q817 : (Jvm.Cond.methodLink "LeftAsFoundLaw" (86 : Nat) ({ cls := "LeftAsFound", name := "ways", desc := "(II)I" } : Jvm.MethodName)) ∈ lw_all := lw_g (lw_at lw_m4 3 rfl) rfl
theorem q821 : (Jvm.Cond.methodLink "LeftAsFoundLaw" (90 : Nat) ({ cls := "LeftAsFound", name := "judge", desc := "(II)I" } : Jvm.MethodName)) ∈ lw_all := lw_g (lw_at lw_m4 7 rfl) rfl
theorem q825 : (Jvm.Cond.methodLink "LeftAsFoundLaw" (94 : Nat) ({ cls := "LeftAsFound", name := "since", desc := "(III)I" } : Jvm.MethodName)) ∈ lw_all := lw_g (lw_at lw_m4 11 rfl) rfl
theorem q829 : (Jvm.Cond.methodLink "LeftAsFoundLaw" (98 : Nat) ({ cls := "LeftAsFound", name := "drawn", desc := "(III)I" } : Jvm.MethodName)) ∈ lw_all := lw_g (lw_at lw_m4 15 rfl) rfl
theorem q835 : (Jvm.Cond.methodLink "LeftAsFoundLaw" (102 : Nat) ({ cls := "LeftAsFound", name := "night", desc := "(I)I" } : Jvm.MethodName)) ∈ lw_all := lw_g (lw_at lw_m4 21 rfl) rfl
theorem q839 : (Jvm.Cond.methodLink "LeftAsFoundLaw" (106 : Nat) ({ cls := "LeftAsFound", name := "set", desc := "(II)I" } : Jvm.MethodName)) ∈ lw_all := lw_g (lw_at lw_m4 25 rfl) rfl
theorem q843 : (Jvm.Cond.methodLink "LeftAsFoundLaw" (110 : Nat) ({ cls := "LeftAsFound", name := "forget", desc := "(I)I" } : Jvm.MethodName)) ∈ lw_all := lw_g (lw_at lw_m4 29 rfl) rfl
theorem q847 : (Jvm.Cond.methodLink "LeftAsFoundLaw" (114 : Nat) ({ cls := "LeftAsFound", name := "led", desc := "(I)I" } : Jvm.MethodName)) ∈ lw_all := lw_g (lw_at lw_m4 33 rfl) rfl
theorem q851 : (Jvm.Cond.methodLink "LeftAsFoundLaw" (118 : Nat) ({ cls := "LeftAsFound", name := "image", desc := "()I" } : Jvm.MethodName)) ∈ lw_all := lw_g (lw_at lw_m4 37 rfl) rfl
theorem q855 : (Jvm.Cond.methodLink "LeftAsFoundLaw" (122 : Nat) ({ cls := "LeftAsFound", name := "back", desc := "()I" } : Jvm.MethodName)) ∈ lw_all := lw_g (lw_at lw_m4 41 rfl) rfl
theorem q859 : (Jvm.Cond.methodLink "LeftAsFoundLaw" (134 : Nat) ({ cls := "LeftAsFound", name := "body", desc := "(I)I" } : Jvm.MethodName)) ∈ lw_all := lw_g (lw_at lw_m4 45 rfl) rfl
theorem q968 : (Jvm.Cond.methodLink "LeftAsFoundLaw" (138 : Nat) ({ cls := "LeftAsFound", name := "act", desc := "(III)I" } : Jvm.MethodName)) ∈ lw_all := lw_g (lw_at lw_m4 154 rfl) rfl
theorem q1197 : (Jvm.Cond.methodLink "LeftAsFoundLaw" (142 : Nat) ({ cls := "LeftAsFound", name := "trace", desc := "(I)I" } : Jvm.MethodName)) ∈ lw_all := lw_g (lw_at lw_m5 143 rfl) rfl
theorem q1201 : (Jvm.Cond.methodLink "LeftAsFoundLaw" (146 : Nat) ({ cls := "LeftAsFound", name := "keep", desc := "(II)I" } : Jvm.MethodName)) ∈ lw_all := lw_g (lw_at lw_m5 147 rfl) rfl
theorem q1205 : (Jvm.Cond.methodLink "LeftAsFoundLaw" (150 : Nat) ({ cls := "LeftAsFound", name := "row", desc := "(III)I" } : Jvm.MethodName)) ∈ lw_all := lw_g (lw_at lw_m5 151 rfl) rfl
theorem q1214 : (Jvm.Cond.methodLink "LeftAsFoundLaw" (156 : Nat) ({ cls := "LeftAsFound", name := "put", desc := "(IIJ)I" } : Jvm.MethodName)) ∈ lw_all := lw_g (lw_at lw_m5 160 rfl) rfl
theorem q1225 : (Jvm.Cond.methodLink "LeftAsFoundLaw" (161 : Nat) ({ cls := "LeftAsFound", name := "element", desc := "(II)J" } : Jvm.MethodName)) ∈ lw_all := lw_g (lw_at lw_m5 171 rfl) rfl
theorem q1229 : (Jvm.Cond.methodLink "LeftAsFoundLaw" (165 : Nat) ({ cls := "LeftAsFound", name := "shift", desc := "(IIIII)I" } : Jvm.MethodName)) ∈ lw_all := lw_g (lw_at lw_m5 175 rfl) rfl
theorem q1233 : (Jvm.Cond.methodLink "LeftAsFoundLaw" (170 : Nat) ({ cls := "LeftAsFound", name := "taken", desc := "(II)I" } : Jvm.MethodName)) ∈ lw_all := lw_g (lw_at lw_m5 179 rfl) rfl
theorem q1296 : (Jvm.Cond.methodLink "LeftAsFoundLaw" (174 : Nat) ({ cls := "LeftAsFound", name := "count", desc := "(I)I" } : Jvm.MethodName)) ∈ lw_all := lw_g (lw_at lw_m6 2 rfl) rfl
theorem q1303 : (Jvm.Cond.classLink "LeftAsFoundLaw" (10 : Nat) "LeftAsFoundModel") ∈ lw_all := lw_g (lw_at lw_m6 9 rfl) rfl
theorem q1305 : (Jvm.Cond.methodLink "LeftAsFoundLaw" (12 : Nat) ({ cls := "LeftAsFoundModel", name := "<init>", desc := "()V" } : Jvm.MethodName)) ∈ lw_all := lw_g (lw_at lw_m6 11 rfl) rfl
theorem q1489 : (Jvm.Cond.methodLink "LeftAsFoundLaw" (17 : Nat) ({ cls := "LeftAsFoundModel", name := "guest", desc := "(II)I" } : Jvm.MethodName)) ∈ lw_all := lw_g (lw_at lw_m6 195 rfl) rfl
theorem q1500 : (Jvm.Cond.methodLink "LeftAsFoundLaw" (22 : Nat) ({ cls := "LeftAsFoundModel", name := "guests", desc := "(III)I" } : Jvm.MethodName)) ∈ lw_all := lw_g (lw_at lw_m6 206 rfl) rfl
theorem q1508 : (Jvm.Cond.methodLink "LeftAsFoundLaw" (129 : Nat) ({ cls := "LeftAsFoundModel", name := "undo", desc := "()I" } : Jvm.MethodName)) ∈ lw_all := lw_g (lw_at lw_m6 214 rfl) rfl
theorem q1519 : (Jvm.Cond.methodLink "LeftAsFoundLaw" (133 : Nat) ({ cls := "LeftAsFoundModel", name := "redo", desc := "()I" } : Jvm.MethodName)) ∈ lw_all := lw_g (lw_at lw_m6 225 rfl) rfl
theorem q1523 : (Jvm.Cond.methodLink "LeftAsFoundLaw" (26 : Nat) ({ cls := "LeftAsFoundModel", name := "mend", desc := "(III)I" } : Jvm.MethodName)) ∈ lw_all := lw_g (lw_at lw_m6 229 rfl) rfl
theorem q1553 : (Jvm.Cond.methodLink "LeftAsFoundLaw" (30 : Nat) ({ cls := "LeftAsFoundModel", name := "of", desc := "(II)I" } : Jvm.MethodName)) ∈ lw_all := lw_g (lw_at lw_m7 19 rfl) rfl
theorem q1557 : (Jvm.Cond.methodLink "LeftAsFoundLaw" (35 : Nat) ({ cls := "LeftAsFoundModel", name := "feed", desc := "(I)I" } : Jvm.MethodName)) ∈ lw_all := lw_g (lw_at lw_m7 23 rfl) rfl
theorem q1561 : (Jvm.Cond.methodLink "LeftAsFoundLaw" (40 : Nat) ({ cls := "LeftAsFoundModel", name := "law", desc := "()I" } : Jvm.MethodName)) ∈ lw_all := lw_g (lw_at lw_m7 27 rfl) rfl
theorem q1620 : (Jvm.Cond.methodLink "LeftAsFoundLaw" (44 : Nat) ({ cls := "LeftAsFoundModel", name := "level", desc := "(III)I" } : Jvm.MethodName)) ∈ lw_all := lw_g (lw_at lw_m7 86 rfl) rfl
theorem q1667 : (Jvm.Cond.methodLink "LeftAsFoundLaw" (48 : Nat) ({ cls := "LeftAsFoundModel", name := "lowest", desc := "(II)I" } : Jvm.MethodName)) ∈ lw_all := lw_g (lw_at lw_m7 133 rfl) rfl
theorem q1671 : (Jvm.Cond.methodLink "LeftAsFoundLaw" (52 : Nat) ({ cls := "LeftAsFoundModel", name := "below", desc := "(III)I" } : Jvm.MethodName)) ∈ lw_all := lw_g (lw_at lw_m7 137 rfl) rfl
theorem q1675 : (Jvm.Cond.methodLink "LeftAsFoundLaw" (56 : Nat) ({ cls := "LeftAsFoundModel", name := "loss", desc := "(I)I" } : Jvm.MethodName)) ∈ lw_all := lw_g (lw_at lw_m7 141 rfl) rfl
theorem q1691 : (Jvm.Cond.methodLink "LeftAsFoundLaw" (60 : Nat) ({ cls := "LeftAsFoundModel", name := "rest", desc := "(II)I" } : Jvm.MethodName)) ∈ lw_all := lw_g (lw_at lw_m7 157 rfl) rfl
theorem q1699 : (Jvm.Cond.methodLink "LeftAsFoundLaw" (64 : Nat) ({ cls := "LeftAsFoundModel", name := "often", desc := "(III)I" } : Jvm.MethodName)) ∈ lw_all := lw_g (lw_at lw_m7 165 rfl) rfl
theorem q1711 : (Jvm.Cond.methodLink "LeftAsFoundLaw" (68 : Nat) ({ cls := "LeftAsFoundModel", name := "warden", desc := "(II)I" } : Jvm.MethodName)) ∈ lw_all := lw_g (lw_at lw_m7 177 rfl) rfl
theorem q1720 : (Jvm.Cond.methodLink "LeftAsFoundLaw" (72 : Nat) ({ cls := "LeftAsFoundModel", name := "spoils", desc := "(II)I" } : Jvm.MethodName)) ∈ lw_all := lw_g (lw_at lw_m7 186 rfl) rfl
theorem q1728 : (Jvm.Cond.methodLink "LeftAsFoundLaw" (76 : Nat) ({ cls := "LeftAsFoundModel", name := "order", desc := "(II)I" } : Jvm.MethodName)) ∈ lw_all := lw_g (lw_at lw_m7 194 rfl) rfl
theorem q1736 : (Jvm.Cond.methodLink "LeftAsFoundLaw" (81 : Nat) ({ cls := "LeftAsFoundModel", name := "tin", desc := "(II)J" } : Jvm.MethodName)) ∈ lw_all := lw_g (lw_at lw_m7 202 rfl) rfl
theorem q1745 : (Jvm.Cond.methodLink "LeftAsFoundLaw" (85 : Nat) ({ cls := "LeftAsFoundModel", name := "who", desc := "(III)I" } : Jvm.MethodName)) ∈ lw_all := lw_g (lw_at lw_m7 211 rfl) rfl
theorem q1761 : (Jvm.Cond.methodLink "LeftAsFoundLaw" (89 : Nat) ({ cls := "LeftAsFoundModel", name := "ways", desc := "(II)I" } : Jvm.MethodName)) ∈ lw_all := lw_g (lw_at lw_m7 227 rfl) rfl
theorem q1765 : (Jvm.Cond.methodLink "LeftAsFoundLaw" (93 : Nat) ({ cls := "LeftAsFoundModel", name := "judge", desc := "(II)I" } : Jvm.MethodName)) ∈ lw_all := lw_g (lw_at lw_m7 231 rfl) rfl
theorem q1769 : (Jvm.Cond.methodLink "LeftAsFoundLaw" (97 : Nat) ({ cls := "LeftAsFoundModel", name := "since", desc := "(III)I" } : Jvm.MethodName)) ∈ lw_all := lw_g (lw_at lw_m7 235 rfl) rfl
theorem q1773 : (Jvm.Cond.methodLink "LeftAsFoundLaw" (101 : Nat) ({ cls := "LeftAsFoundModel", name := "drawn", desc := "(III)I" } : Jvm.MethodName)) ∈ lw_all := lw_g (lw_at lw_m7 239 rfl) rfl
theorem q1778 : (Jvm.Cond.methodLink "LeftAsFoundLaw" (105 : Nat) ({ cls := "LeftAsFoundModel", name := "night", desc := "(I)I" } : Jvm.MethodName)) ∈ lw_all := lw_g (lw_at lw_m8 4 rfl) rfl
theorem q1782 : (Jvm.Cond.methodLink "LeftAsFoundLaw" (109 : Nat) ({ cls := "LeftAsFoundModel", name := "set", desc := "(II)I" } : Jvm.MethodName)) ∈ lw_all := lw_g (lw_at lw_m8 8 rfl) rfl
theorem q1786 : (Jvm.Cond.methodLink "LeftAsFoundLaw" (113 : Nat) ({ cls := "LeftAsFoundModel", name := "forget", desc := "(I)I" } : Jvm.MethodName)) ∈ lw_all := lw_g (lw_at lw_m8 12 rfl) rfl
theorem q1790 : (Jvm.Cond.methodLink "LeftAsFoundLaw" (117 : Nat) ({ cls := "LeftAsFoundModel", name := "led", desc := "(I)I" } : Jvm.MethodName)) ∈ lw_all := lw_g (lw_at lw_m8 16 rfl) rfl
theorem q1794 : (Jvm.Cond.methodLink "LeftAsFoundLaw" (121 : Nat) ({ cls := "LeftAsFoundModel", name := "image", desc := "()I" } : Jvm.MethodName)) ∈ lw_all := lw_g (lw_at lw_m8 20 rfl) rfl
theorem q1798 : (Jvm.Cond.methodLink "LeftAsFoundLaw" (125 : Nat) ({ cls := "LeftAsFoundModel", name := "back", desc := "()I" } : Jvm.MethodName)) ∈ lw_all := lw_g (lw_at lw_m8 24 rfl) rfl
theorem q1802 : (Jvm.Cond.methodLink "LeftAsFoundLaw" (145 : Nat) ({ cls := "LeftAsFoundModel", name := "trace", desc := "(I)I" } : Jvm.MethodName)) ∈ lw_all := lw_g (lw_at lw_m8 28 rfl) rfl
theorem q1806 : (Jvm.Cond.methodLink "LeftAsFoundLaw" (137 : Nat) ({ cls := "LeftAsFoundModel", name := "body", desc := "(I)I" } : Jvm.MethodName)) ∈ lw_all := lw_g (lw_at lw_m8 32 rfl) rfl
theorem q1810 : (Jvm.Cond.methodLink "LeftAsFoundLaw" (141 : Nat) ({ cls := "LeftAsFoundModel", name := "act", desc := "(III)I" } : Jvm.MethodName)) ∈ lw_all := lw_g (lw_at lw_m8 36 rfl) rfl
theorem q1869 : (Jvm.Cond.methodLink "LeftAsFoundLaw" (177 : Nat) ({ cls := "LeftAsFoundModel", name := "count", desc := "(I)I" } : Jvm.MethodName)) ∈ lw_all := lw_g (lw_at lw_m8 95 rfl) rfl
theorem q1877 : (Jvm.Cond.methodLink "LeftAsFoundLaw" (149 : Nat) ({ cls := "LeftAsFoundModel", name := "keep", desc := "(II)I" } : Jvm.MethodName)) ∈ lw_all := lw_g (lw_at lw_m8 103 rfl) rfl
theorem q1881 : (Jvm.Cond.methodLink "LeftAsFoundLaw" (153 : Nat) ({ cls := "LeftAsFoundModel", name := "row", desc := "(III)I" } : Jvm.MethodName)) ∈ lw_all := lw_g (lw_at lw_m8 107 rfl) rfl
theorem q1885 : (Jvm.Cond.methodLink "LeftAsFoundLaw" (160 : Nat) ({ cls := "LeftAsFoundModel", name := "put", desc := "(IIJ)I" } : Jvm.MethodName)) ∈ lw_all := lw_g (lw_at lw_m8 111 rfl) rfl
theorem q1893 : (Jvm.Cond.methodLink "LeftAsFoundLaw" (164 : Nat) ({ cls := "LeftAsFoundModel", name := "element", desc := "(II)J" } : Jvm.MethodName)) ∈ lw_all := lw_g (lw_at lw_m8 119 rfl) rfl
theorem q1897 : (Jvm.Cond.methodLink "LeftAsFoundLaw" (169 : Nat) ({ cls := "LeftAsFoundModel", name := "shift", desc := "(IIIII)I" } : Jvm.MethodName)) ∈ lw_all := lw_g (lw_at lw_m8 123 rfl) rfl
theorem q1901 : (Jvm.Cond.methodLink "LeftAsFoundLaw" (173 : Nat) ({ cls := "LeftAsFoundModel", name := "taken", desc := "(II)I" } : Jvm.MethodName)) ∈ lw_all := lw_g (lw_at lw_m8 127 rfl) rfl
theorem q1905 : (Jvm.Cond.constantLong "LeftAsFoundLaw" (154 : Nat) (4294967295 : Int64)) ∈ lw_all := lw_g (lw_at lw_m8 131 rfl) rfl

theorem q1968 : (Jvm.Cond.castable "[B" "java/lang/Object") ∈ lw_tbl := lw_at lw_m8 194 rfl
set_option maxRecDepth 100000

theorem q1962 : (Jvm.Cond.castable "[I" "java/lang/Object") ∈ lw_tbl := lw_at lw_m8 188 rfl
set_option maxRecDepth 100000

theorem q1970 : (Jvm.Cond.castable "[J" "java/lang/Object") ∈ lw_tbl := lw_at lw_m8 196 rfl
set_option maxRecDepth 100000

theorem q1966 : (Jvm.Cond.castable "[LLeftAsFound$Body;" "java/lang/Object") ∈ lw_tbl := lw_at lw_m8 192 rfl
set_option maxRecDepth 100000

theorem q1961 : (Jvm.Cond.castable "[LLeftAsFound$Change;" "java/lang/Object") ∈ lw_tbl := lw_at lw_m8 187 rfl
set_option maxRecDepth 100000

theorem q1963 : (Jvm.Cond.castable "[LLeftAsFound$Guest;" "java/lang/Object") ∈ lw_tbl := lw_at lw_m8 189 rfl
set_option maxRecDepth 100000

theorem q1964 : (Jvm.Cond.castable "[LLeftAsFound$Held;" "java/lang/Object") ∈ lw_tbl := lw_at lw_m8 190 rfl
set_option maxRecDepth 100000

theorem q1965 : (Jvm.Cond.castable "[LLeftAsFound$Hut;" "java/lang/Object") ∈ lw_tbl := lw_at lw_m8 191 rfl
set_option maxRecDepth 100000

theorem q1967 : (Jvm.Cond.castable "[Ljava/lang/Object;" "java/lang/Object") ∈ lw_tbl := lw_at lw_m8 193 rfl
set_option maxRecDepth 100000

theorem q1969 : (Jvm.Cond.castable "[S" "java/lang/Object") ∈ lw_tbl := lw_at lw_m8 195 rfl
set_option maxRecDepth 100000

theorem q1971 : (Jvm.Cond.castable "[Z" "java/lang/Object") ∈ lw_tbl := lw_at lw_m8 197 rfl
set_option maxRecDepth 100000

theorem q113 : (Jvm.Cond.initialized "java/lang/System") ∈ lw_all := lw_g (lw_at lw_m1 19 rfl) rfl
set_option maxRecDepth 100000
theorem q673 : (Jvm.Cond.static ({ cls := "java/lang/System", name := "arraycopy", desc := "(Ljava/lang/Object;ILjava/lang/Object;II)V" } : Jvm.MethodName)) ∈ lw_all := lw_g (lw_at lw_m3 99 rfl) rfl
theorem q674 : (Jvm.Cond.native ({ cls := "java/lang/System", name := "arraycopy", desc := "(Ljava/lang/Object;ILjava/lang/Object;II)V" } : Jvm.MethodName)) ∈ lw_all := lw_g (lw_at lw_m3 100 rfl) rfl

theorem q139 : (Jvm.Cond.arrayOver (Jvm.ClassFile.FieldType.object "LeftAsFound$Change")) ∈ lw_tbl := lw_at lw_m1 45 rfl
set_option maxRecDepth 100000
theorem q205 : (Jvm.Cond.arrayClass Jvm.ClassFile.FieldType.int) ∈ lw_all := lw_g (lw_at lw_m1 111 rfl) rfl
theorem q207 : (Jvm.Cond.arrayOver (Jvm.ClassFile.FieldType.object "LeftAsFound$Guest")) ∈ lw_tbl := lw_at lw_m1 113 rfl
theorem q209 : (Jvm.Cond.arrayOver (Jvm.ClassFile.FieldType.object "LeftAsFound$Held")) ∈ lw_tbl := lw_at lw_m1 115 rfl
theorem q270 : (Jvm.Cond.arrayOver (Jvm.ClassFile.FieldType.object "LeftAsFound$Hut")) ∈ lw_tbl := lw_at lw_m1 176 rfl
theorem q272 : (Jvm.Cond.arrayOver (Jvm.ClassFile.FieldType.object "LeftAsFound$Body")) ∈ lw_tbl := lw_at lw_m1 178 rfl
theorem q274 : (Jvm.Cond.arrayOver (Jvm.ClassFile.FieldType.object "java/lang/Object")) ∈ lw_tbl := lw_at lw_m1 180 rfl
theorem q1210 : (Jvm.Cond.arrayClass Jvm.ClassFile.FieldType.byte) ∈ lw_all := lw_g (lw_at lw_m5 156 rfl) rfl
theorem q1211 : (Jvm.Cond.arrayClass Jvm.ClassFile.FieldType.short) ∈ lw_all := lw_g (lw_at lw_m5 157 rfl) rfl
theorem q1212 : (Jvm.Cond.arrayClass Jvm.ClassFile.FieldType.long) ∈ lw_all := lw_g (lw_at lw_m5 158 rfl) rfl
theorem q1213 : (Jvm.Cond.arrayClass Jvm.ClassFile.FieldType.boolean) ∈ lw_all := lw_g (lw_at lw_m5 159 rfl) rfl

