/-! CommaTablesModel$Trouble -/
set_option maxRecDepth 100000
def RX7 : String := "CommaTablesModel$Trouble"
def TX7 : u_T := fun k => match k with
  | _ => ("CommaTablesModel$Trouble", "place", "I", false)
def tyX7 : Nat → FieldType := fun k => match k with
  | _ => .int
abbrev wsX70 : List Cond := u_ws RX7 TX7 1
theorem nmX7 : ∀ a, a < 1 → ∀ b, b < 1 → a ≠ b → (TX7 a).2.1 ≠ (TX7 b).2.1 := by decide +kernel
theorem tyX7_ok : ∀ k, k < 1 → parseFieldDescriptor (TX7 k).2.2.1 = some (tyX7 k) := by decide +kernel
abbrev cX7_init : ByteArray := prog_16_method_1_code
def yX7_init : MethodName := ⟨RX7, "<init>", "()V"⟩
theorem dX7_init_0 : decode cX7_init 0 = .ok (.aload_n 0, 1) := by decide +kernel
theorem dX7_init_1 : decode cX7_init 1 = .ok (.invokespecial 1, 3) := by decide +kernel
theorem dX7_init_4 : decode cX7_init 4 = .ok (.return_, 1) := by decide +kernel
abbrev cX7_at : ByteArray := prog_16_method_2_code
def yX7_at : MethodName := ⟨RX7, "at", "(II)Ljava/lang/IllegalStateException;"⟩
theorem dX7_at_0 : decode cX7_at 0 = .ok (.aload_n 0, 1) := by decide +kernel
theorem dX7_at_1 : decode cX7_at 1 = .ok (.iload_n 2, 1) := by decide +kernel
theorem dX7_at_2 : decode cX7_at 2 = .ok (.putfield 7, 3) := by decide +kernel
theorem dX7_at_5 : decode cX7_at 5 = .ok (.new 13, 3) := by decide +kernel
theorem dX7_at_8 : decode cX7_at 8 = .ok (.dup, 1) := by decide +kernel
theorem dX7_at_9 : decode cX7_at 9 = .ok (.invokespecial 15, 3) := by decide +kernel
theorem dX7_at_12 : decode cX7_at 12 = .ok (.areturn, 1) := by decide +kernel
theorem q55 : (Jvm.Cond.initialized "CommaTablesModel$Trouble") ∈ lw_all := lw_g (lw_at lw_m1 12 rfl) rfl
theorem q700 : (Jvm.Cond.instantiable "CommaTablesModel$Trouble" (1 : Nat)) ∈ lw_all := lw_g (lw_at lw_m3 177 rfl) rfl
theorem q702 : (Jvm.Cond.instanceMethod ({ cls := "CommaTablesModel$Trouble", name := "<init>", desc := "()V" } : Jvm.MethodName)) ∈ lw_all := lw_g (lw_at lw_m3 179 rfl) rfl
theorem q703 : (Jvm.Cond.code ({ cls := "CommaTablesModel$Trouble", name := "<init>", desc := "()V" } : Jvm.MethodName) prog_16_method_1_code (1 : Nat) (Option.none : Option Jvm.ClassFile.FieldType)) ∈ lw_all := lw_g (lw_at lw_m3 180 rfl) rfl
theorem q704 : (Jvm.Cond.methodLink "CommaTablesModel$Trouble" (1 : Nat) ({ cls := "java/lang/Object", name := "<init>", desc := "()V" } : Jvm.MethodName)) ∈ lw_all := lw_g (lw_at lw_m3 181 rfl) rfl
theorem q705 : (Jvm.Cond.fieldLink "CommaTablesModel$Trouble" (7 : Nat) "CommaTablesModel$Trouble" "place" "I") ∈ lw_all := lw_g (lw_at lw_m3 182 rfl) rfl
theorem q707 : (Jvm.Cond.lays "CommaTablesModel$Trouble" "CommaTablesModel$Trouble" "place" "I") ∈ lw_all := lw_g (lw_at lw_m3 184 rfl) rfl
theorem q708 : (Jvm.Cond.soleField "CommaTablesModel$Trouble" "place") ∈ lw_all := lw_g (lw_at lw_m3 185 rfl) rfl
theorem q709 : (Jvm.Cond.superclass "CommaTablesModel$Trouble" "java/lang/Object") ∈ lw_all := lw_g (lw_at lw_m3 186 rfl) rfl
theorem q855 : (Jvm.Cond.instanceMethod ({ cls := "CommaTablesModel$Trouble", name := "at", desc := "(II)Ljava/lang/IllegalStateException;" } : Jvm.MethodName)) ∈ lw_all := lw_g (lw_at lw_m4 92 rfl) rfl
theorem q856 : (Jvm.Cond.selects "CommaTablesModel$Trouble" ({ cls := "CommaTablesModel$Trouble", name := "at", desc := "(II)Ljava/lang/IllegalStateException;" } : Jvm.MethodName) ({ cls := "CommaTablesModel$Trouble", name := "at", desc := "(II)Ljava/lang/IllegalStateException;" } : Jvm.MethodName)) ∈ lw_all := lw_g (lw_at lw_m4 93 rfl) rfl
theorem q857 : (Jvm.Cond.code ({ cls := "CommaTablesModel$Trouble", name := "at", desc := "(II)Ljava/lang/IllegalStateException;" } : Jvm.MethodName) prog_16_method_2_code (3 : Nat) (Option.some (Jvm.ClassFile.FieldType.object "java/lang/IllegalStateException"))) ∈ lw_all := lw_g (lw_at lw_m4 94 rfl) rfl
theorem q858 : (Jvm.Cond.classLink "CommaTablesModel$Trouble" (13 : Nat) "java/lang/IllegalStateException") ∈ lw_all := lw_g (lw_at lw_m4 95 rfl) rfl
theorem q859 : (Jvm.Cond.methodLink "CommaTablesModel$Trouble" (15 : Nat) ({ cls := "java/lang/IllegalStateException", name := "<init>", desc := "()V" } : Jvm.MethodName)) ∈ lw_all := lw_g (lw_at lw_m4 96 rfl) rfl
theorem q1093 : (Jvm.Cond.selects "CommaTablesModel$Trouble" ({ cls := "java/lang/Object", name := "getClass", desc := "()Ljava/lang/Class;" } : Jvm.MethodName) ({ cls := "java/lang/Object", name := "getClass", desc := "()Ljava/lang/Class;" } : Jvm.MethodName)) ∈ lw_all := lw_g (lw_at lw_m5 90 rfl) rfl
theorem q1349 : (Jvm.Cond.castable "CommaTablesModel$Trouble" "java/lang/Object") ∈ lw_tbl := lw_at lw_m6 106 rfl
theorem in_X7 : ∀ w ∈ wsX70, w ∈ lw_all := lw_in wsX70 [707] (by decide +kernel) (by decide +kernel)
/-! CommaTablesModel$Bytes -/
set_option maxRecDepth 100000
def RX8 : String := "CommaTablesModel$Bytes"
def TX8 : u_T := fun k => match k with
  | 0 => ("CommaTablesModel$Bytes", "row", "[B", true)
  | _ => ("CommaTablesModel$Bytes", "n", "I", false)
def tyX8 : Nat → FieldType := fun k => match k with
  | 0 => .array .byte
  | _ => .int
abbrev wsX80 : List Cond := u_ws RX8 TX8 2
theorem nmX8 : ∀ a, a < 2 → ∀ b, b < 2 → a ≠ b → (TX8 a).2.1 ≠ (TX8 b).2.1 := by decide +kernel
theorem tyX8_ok : ∀ k, k < 2 → parseFieldDescriptor (TX8 k).2.2.1 = some (tyX8 k) := by decide +kernel
abbrev cX8_init : ByteArray := prog_11_method_1_code
def yX8_init : MethodName := ⟨RX8, "<init>", "()V"⟩
theorem dX8_init_0 : decode cX8_init 0 = .ok (.aload_n 0, 1) := by decide +kernel
theorem dX8_init_1 : decode cX8_init 1 = .ok (.invokespecial 3, 3) := by decide +kernel
theorem dX8_init_4 : decode cX8_init 4 = .ok (.aload_n 0, 1) := by decide +kernel
theorem dX8_init_5 : decode cX8_init 5 = .ok (.sipush 30000, 3) := by decide +kernel
theorem dX8_init_8 : decode cX8_init 8 = .ok (.newarray .byte, 2) := by decide +kernel
theorem dX8_init_10 : decode cX8_init 10 = .ok (.putfield 9, 3) := by decide +kernel
theorem dX8_init_13 : decode cX8_init 13 = .ok (.return_, 1) := by decide +kernel
abbrev cX8_add : ByteArray := prog_11_method_2_code
def yX8_add : MethodName := ⟨RX8, "add", "(I)V"⟩
theorem dX8_add_0 : decode cX8_add 0 = .ok (.aload_n 0, 1) := by decide +kernel
theorem dX8_add_1 : decode cX8_add 1 = .ok (.getfield 15, 3) := by decide +kernel
theorem dX8_add_4 : decode cX8_add 4 = .ok (.sipush 30000, 3) := by decide +kernel
theorem dX8_add_7 : decode cX8_add 7 = .ok (.if_icmp .ge 14, 3) := by decide +kernel
theorem dX8_add_10 : decode cX8_add 10 = .ok (.aload_n 0, 1) := by decide +kernel
theorem dX8_add_11 : decode cX8_add 11 = .ok (.getfield 9, 3) := by decide +kernel
theorem dX8_add_14 : decode cX8_add 14 = .ok (.aload_n 0, 1) := by decide +kernel
theorem dX8_add_15 : decode cX8_add 15 = .ok (.getfield 15, 3) := by decide +kernel
theorem dX8_add_18 : decode cX8_add 18 = .ok (.iload_n 1, 1) := by decide +kernel
theorem dX8_add_19 : decode cX8_add 19 = .ok (.i2b, 1) := by decide +kernel
theorem dX8_add_20 : decode cX8_add 20 = .ok (.bastore, 1) := by decide +kernel
theorem dX8_add_21 : decode cX8_add 21 = .ok (.aload_n 0, 1) := by decide +kernel
theorem dX8_add_22 : decode cX8_add 22 = .ok (.dup, 1) := by decide +kernel
theorem dX8_add_23 : decode cX8_add 23 = .ok (.getfield 15, 3) := by decide +kernel
theorem dX8_add_26 : decode cX8_add 26 = .ok (.iconst 1, 1) := by decide +kernel
theorem dX8_add_27 : decode cX8_add 27 = .ok (.iadd, 1) := by decide +kernel
theorem dX8_add_28 : decode cX8_add 28 = .ok (.putfield 15, 3) := by decide +kernel
theorem dX8_add_31 : decode cX8_add 31 = .ok (.return_, 1) := by decide +kernel
theorem q56 : (Jvm.Cond.initialized "CommaTablesModel$Bytes") ∈ lw_all := lw_g (lw_at lw_m1 13 rfl) rfl
theorem q713 : (Jvm.Cond.instantiable "CommaTablesModel$Bytes" (2 : Nat)) ∈ lw_all := lw_g (lw_at lw_m3 190 rfl) rfl
theorem q715 : (Jvm.Cond.instanceMethod ({ cls := "CommaTablesModel$Bytes", name := "<init>", desc := "()V" } : Jvm.MethodName)) ∈ lw_all := lw_g (lw_at lw_m3 192 rfl) rfl
theorem q716 : (Jvm.Cond.code ({ cls := "CommaTablesModel$Bytes", name := "<init>", desc := "()V" } : Jvm.MethodName) prog_11_method_1_code (1 : Nat) (Option.none : Option Jvm.ClassFile.FieldType)) ∈ lw_all := lw_g (lw_at lw_m3 193 rfl) rfl
theorem q717 : (Jvm.Cond.methodLink "CommaTablesModel$Bytes" (3 : Nat) ({ cls := "java/lang/Object", name := "<init>", desc := "()V" } : Jvm.MethodName)) ∈ lw_all := lw_g (lw_at lw_m3 194 rfl) rfl
theorem q718 : (Jvm.Cond.fieldLink "CommaTablesModel$Bytes" (9 : Nat) "CommaTablesModel$Bytes" "row" "[B") ∈ lw_all := lw_g (lw_at lw_m3 195 rfl) rfl
theorem q720 : (Jvm.Cond.fieldLink "CommaTablesModel$Bytes" (15 : Nat) "CommaTablesModel$Bytes" "n" "I") ∈ lw_all := lw_g (lw_at lw_m3 197 rfl) rfl
theorem q722 : (Jvm.Cond.laysFinal "CommaTablesModel$Bytes" "CommaTablesModel$Bytes" "row" "[B") ∈ lw_all := lw_g (lw_at lw_m3 199 rfl) rfl
theorem q723 : (Jvm.Cond.soleField "CommaTablesModel$Bytes" "row") ∈ lw_all := lw_g (lw_at lw_m3 200 rfl) rfl
theorem q724 : (Jvm.Cond.lays "CommaTablesModel$Bytes" "CommaTablesModel$Bytes" "n" "I") ∈ lw_all := lw_g (lw_at lw_m3 201 rfl) rfl
theorem q725 : (Jvm.Cond.soleField "CommaTablesModel$Bytes" "n") ∈ lw_all := lw_g (lw_at lw_m3 202 rfl) rfl
theorem q726 : (Jvm.Cond.superclass "CommaTablesModel$Bytes" "java/lang/Object") ∈ lw_all := lw_g (lw_at lw_m3 203 rfl) rfl
theorem q1089 : (Jvm.Cond.selects "CommaTablesModel$Bytes" ({ cls := "java/lang/Object", name := "getClass", desc := "()Ljava/lang/Class;" } : Jvm.MethodName) ({ cls := "java/lang/Object", name := "getClass", desc := "()Ljava/lang/Class;" } : Jvm.MethodName)) ∈ lw_all := lw_g (lw_at lw_m5 86 rfl) rfl
theorem q1327 : (Jvm.Cond.instanceMethod ({ cls := "CommaTablesModel$Bytes", name := "add", desc := "(I)V" } : Jvm.MethodName)) ∈ lw_all := lw_g (lw_at lw_m6 84 rfl) rfl
theorem q1328 : (Jvm.Cond.selects "CommaTablesModel$Bytes" ({ cls := "CommaTablesModel$Bytes", name := "add", desc := "(I)V" } : Jvm.MethodName) ({ cls := "CommaTablesModel$Bytes", name := "add", desc := "(I)V" } : Jvm.MethodName)) ∈ lw_all := lw_g (lw_at lw_m6 85 rfl) rfl
theorem q1329 : (Jvm.Cond.code ({ cls := "CommaTablesModel$Bytes", name := "add", desc := "(I)V" } : Jvm.MethodName) prog_11_method_2_code (2 : Nat) (Option.none : Option Jvm.ClassFile.FieldType)) ∈ lw_all := lw_g (lw_at lw_m6 86 rfl) rfl
theorem q1350 : (Jvm.Cond.castable "CommaTablesModel$Bytes" "java/lang/Object") ∈ lw_tbl := lw_at lw_m6 107 rfl
theorem in_X8 : ∀ w ∈ wsX80, w ∈ lw_all := lw_in wsX80 [722, 724] (by decide +kernel) (by decide +kernel)
/-! CommaTablesModel$TableReader -/
set_option maxRecDepth 100000
def RX10 : String := "CommaTablesModel$TableReader"
def TX10 : u_T := fun k => match k with
  | 0 => ("CommaTablesModel$TableReader", "trouble", "LCommaTablesModel$Trouble;", true)
  | 1 => ("CommaTablesModel$TableReader", "text", "[B", true)
  | 2 => ("CommaTablesModel$TableReader", "size", "I", true)
  | 3 => ("CommaTablesModel$TableReader", "next", "I", false)
  | 4 => ("CommaTablesModel$TableReader", "quoted", "Z", false)
  | 5 => ("CommaTablesModel$TableReader", "table", "LCommaTablesModel$Table;", true)
  | _ => ("CommaTablesModel$TableReader", "bytes", "I", false)
def tyX10 : Nat → FieldType := fun k => match k with
  | 0 => .object "CommaTablesModel$Trouble"
  | 1 => .array .byte
  | 2 => .int
  | 3 => .int
  | 4 => .boolean
  | 5 => .object "CommaTablesModel$Table"
  | _ => .int
abbrev wsX100 : List Cond := u_ws RX10 TX10 7
theorem nmX10 : ∀ a, a < 7 → ∀ b, b < 7 → a ≠ b → (TX10 a).2.1 ≠ (TX10 b).2.1 := by decide +kernel
theorem tyX10_ok : ∀ k, k < 7 → parseFieldDescriptor (TX10 k).2.2.1 = some (tyX10 k) := by decide +kernel
abbrev cX10_init : ByteArray := prog_15_method_1_code
def yX10_init : MethodName := ⟨RX10, "<init>", "(LCommaTablesModel$Trouble;[BI)V"⟩
theorem dX10_init_0 : decode cX10_init 0 = .ok (.aload_n 0, 1) := by decide +kernel
theorem dX10_init_1 : decode cX10_init 1 = .ok (.invokespecial 3, 3) := by decide +kernel
theorem dX10_init_4 : decode cX10_init 4 = .ok (.aload_n 0, 1) := by decide +kernel
theorem dX10_init_5 : decode cX10_init 5 = .ok (.new 9, 3) := by decide +kernel
theorem dX10_init_8 : decode cX10_init 8 = .ok (.dup, 1) := by decide +kernel
theorem dX10_init_9 : decode cX10_init 9 = .ok (.invokespecial 11, 3) := by decide +kernel
theorem dX10_init_12 : decode cX10_init 12 = .ok (.putfield 12, 3) := by decide +kernel
theorem dX10_init_15 : decode cX10_init 15 = .ok (.aload_n 0, 1) := by decide +kernel
theorem dX10_init_16 : decode cX10_init 16 = .ok (.aload_n 1, 1) := by decide +kernel
theorem dX10_init_17 : decode cX10_init 17 = .ok (.putfield 18, 3) := by decide +kernel
theorem dX10_init_20 : decode cX10_init 20 = .ok (.aload_n 0, 1) := by decide +kernel
theorem dX10_init_21 : decode cX10_init 21 = .ok (.aload_n 2, 1) := by decide +kernel
theorem dX10_init_22 : decode cX10_init 22 = .ok (.putfield 22, 3) := by decide +kernel
theorem dX10_init_25 : decode cX10_init 25 = .ok (.aload_n 0, 1) := by decide +kernel
theorem dX10_init_26 : decode cX10_init 26 = .ok (.iload_n 3, 1) := by decide +kernel
theorem dX10_init_27 : decode cX10_init 27 = .ok (.putfield 26, 3) := by decide +kernel
theorem dX10_init_30 : decode cX10_init 30 = .ok (.aload_n 0, 1) := by decide +kernel
theorem dX10_init_31 : decode cX10_init 31 = .ok (.invokevirtual 30, 3) := by decide +kernel
theorem dX10_init_34 : decode cX10_init 34 = .ok (.iconst 1, 1) := by decide +kernel
theorem dX10_init_35 : decode cX10_init 35 = .ok (.istore 4, 2) := by decide +kernel
theorem dX10_init_37 : decode cX10_init 37 = .ok (.aload_n 0, 1) := by decide +kernel
theorem dX10_init_38 : decode cX10_init 38 = .ok (.getfield 33, 3) := by decide +kernel
theorem dX10_init_41 : decode cX10_init 41 = .ok (.iload_n 3, 1) := by decide +kernel
theorem dX10_init_42 : decode cX10_init 42 = .ok (.if_icmp .ge 30, 3) := by decide +kernel
theorem dX10_init_45 : decode cX10_init 45 = .ok (.iload 4, 2) := by decide +kernel
theorem dX10_init_47 : decode cX10_init 47 = .ok (.sipush 500, 3) := by decide +kernel
theorem dX10_init_50 : decode cX10_init 50 = .ok (.if_icmp .ne 12, 3) := by decide +kernel
theorem dX10_init_53 : decode cX10_init 53 = .ok (.aload_n 0, 1) := by decide +kernel
theorem dX10_init_54 : decode cX10_init 54 = .ok (.aload_n 0, 1) := by decide +kernel
theorem dX10_init_55 : decode cX10_init 55 = .ok (.getfield 33, 3) := by decide +kernel
theorem dX10_init_58 : decode cX10_init 58 = .ok (.invokevirtual 36, 3) := by decide +kernel
theorem dX10_init_61 : decode cX10_init 61 = .ok (.athrow, 1) := by decide +kernel
theorem dX10_init_62 : decode cX10_init 62 = .ok (.iinc 4 1, 3) := by decide +kernel
theorem dX10_init_65 : decode cX10_init 65 = .ok (.aload_n 0, 1) := by decide +kernel
theorem dX10_init_66 : decode cX10_init 66 = .ok (.invokevirtual 40, 3) := by decide +kernel
theorem dX10_init_69 : decode cX10_init 69 = .ok (.goto (-32), 3) := by decide +kernel
theorem dX10_init_72 : decode cX10_init 72 = .ok (.return_, 1) := by decide +kernel
abbrev cX10_names : ByteArray := prog_15_method_4_code
def yX10_names : MethodName := ⟨RX10, "names", "()V"⟩
theorem dX10_names_0 : decode cX10_names 0 = .ok (.iconst 1, 1) := by decide +kernel
theorem dX10_names_1 : decode cX10_names 1 = .ok (.istore_n 1, 1) := by decide +kernel
theorem dX10_names_2 : decode cX10_names 2 = .ok (.iload_n 1, 1) := by decide +kernel
theorem dX10_names_3 : decode cX10_names 3 = .ok (.ifCond .eq 167, 3) := by decide +kernel
theorem dX10_names_6 : decode cX10_names 6 = .ok (.aload_n 0, 1) := by decide +kernel
theorem dX10_names_7 : decode cX10_names 7 = .ok (.getfield 33, 3) := by decide +kernel
theorem dX10_names_10 : decode cX10_names 10 = .ok (.istore_n 2, 1) := by decide +kernel
theorem dX10_names_11 : decode cX10_names 11 = .ok (.aload_n 0, 1) := by decide +kernel
theorem dX10_names_12 : decode cX10_names 12 = .ok (.getfield 12, 3) := by decide +kernel
theorem dX10_names_15 : decode cX10_names 15 = .ok (.getfield 49, 3) := by decide +kernel
theorem dX10_names_18 : decode cX10_names 18 = .ok (.invokevirtual 52, 3) := by decide +kernel
theorem dX10_names_21 : decode cX10_names 21 = .ok (.bipush 16, 2) := by decide +kernel
theorem dX10_names_23 : decode cX10_names 23 = .ok (.if_icmp .ne 9, 3) := by decide +kernel
theorem dX10_names_26 : decode cX10_names 26 = .ok (.aload_n 0, 1) := by decide +kernel
theorem dX10_names_27 : decode cX10_names 27 = .ok (.iload_n 2, 1) := by decide +kernel
theorem dX10_names_28 : decode cX10_names 28 = .ok (.invokevirtual 36, 3) := by decide +kernel
theorem dX10_names_31 : decode cX10_names 31 = .ok (.athrow, 1) := by decide +kernel
theorem dX10_names_32 : decode cX10_names 32 = .ok (.aload_n 0, 1) := by decide +kernel
theorem dX10_names_33 : decode cX10_names 33 = .ok (.invokevirtual 57, 3) := by decide +kernel
theorem dX10_names_36 : decode cX10_names 36 = .ok (.astore_n 3, 1) := by decide +kernel
theorem dX10_names_37 : decode cX10_names 37 = .ok (.aload_n 0, 1) := by decide +kernel
theorem dX10_names_38 : decode cX10_names 38 = .ok (.invokevirtual 61, 3) := by decide +kernel
theorem dX10_names_41 : decode cX10_names 41 = .ok (.aload_n 3, 1) := by decide +kernel
theorem dX10_names_42 : decode cX10_names 42 = .ok (.invokevirtual 64, 3) := by decide +kernel
theorem dX10_names_45 : decode cX10_names 45 = .ok (.ifCond .ne 12, 3) := by decide +kernel
theorem dX10_names_48 : decode cX10_names 48 = .ok (.aload_n 3, 1) := by decide +kernel
theorem dX10_names_49 : decode cX10_names 49 = .ok (.invokevirtual 70, 3) := by decide +kernel
theorem dX10_names_52 : decode cX10_names 52 = .ok (.bipush 20, 2) := by decide +kernel
theorem dX10_names_54 : decode cX10_names 54 = .ok (.if_icmp .le 7, 3) := by decide +kernel
theorem dX10_names_57 : decode cX10_names 57 = .ok (.iconst 1, 1) := by decide +kernel
theorem dX10_names_58 : decode cX10_names 58 = .ok (.goto 4, 3) := by decide +kernel
theorem dX10_names_61 : decode cX10_names 61 = .ok (.iconst 0, 1) := by decide +kernel
theorem dX10_names_62 : decode cX10_names 62 = .ok (.istore 4, 2) := by decide +kernel
theorem dX10_names_64 : decode cX10_names 64 = .ok (.iconst 0, 1) := by decide +kernel
theorem dX10_names_65 : decode cX10_names 65 = .ok (.istore 5, 2) := by decide +kernel
theorem dX10_names_67 : decode cX10_names 67 = .ok (.iload 5, 2) := by decide +kernel
theorem dX10_names_69 : decode cX10_names 69 = .ok (.aload_n 0, 1) := by decide +kernel
theorem dX10_names_70 : decode cX10_names 70 = .ok (.getfield 12, 3) := by decide +kernel
theorem dX10_names_73 : decode cX10_names 73 = .ok (.getfield 49, 3) := by decide +kernel
theorem dX10_names_76 : decode cX10_names 76 = .ok (.invokevirtual 52, 3) := by decide +kernel
theorem dX10_names_79 : decode cX10_names 79 = .ok (.if_icmp .ge 35, 3) := by decide +kernel
theorem dX10_names_82 : decode cX10_names 82 = .ok (.iload 4, 2) := by decide +kernel
theorem dX10_names_84 : decode cX10_names 84 = .ok (.ifCond .ne 30, 3) := by decide +kernel
theorem dX10_names_87 : decode cX10_names 87 = .ok (.aload_n 0, 1) := by decide +kernel
theorem dX10_names_88 : decode cX10_names 88 = .ok (.getfield 12, 3) := by decide +kernel
theorem dX10_names_91 : decode cX10_names 91 = .ok (.getfield 49, 3) := by decide +kernel
theorem dX10_names_94 : decode cX10_names 94 = .ok (.iload 5, 2) := by decide +kernel
theorem dX10_names_96 : decode cX10_names 96 = .ok (.invokevirtual 73, 3) := by decide +kernel
theorem dX10_names_99 : decode cX10_names 99 = .ok (.checkcast 65, 3) := by decide +kernel
theorem dX10_names_102 : decode cX10_names 102 = .ok (.aload_n 3, 1) := by decide +kernel
theorem dX10_names_103 : decode cX10_names 103 = .ok (.invokevirtual 77, 3) := by decide +kernel
theorem dX10_names_106 : decode cX10_names 106 = .ok (.istore 4, 2) := by decide +kernel
theorem dX10_names_108 : decode cX10_names 108 = .ok (.iinc 5 1, 3) := by decide +kernel
theorem dX10_names_111 : decode cX10_names 111 = .ok (.goto (-44), 3) := by decide +kernel
theorem dX10_names_114 : decode cX10_names 114 = .ok (.iload 4, 2) := by decide +kernel
theorem dX10_names_116 : decode cX10_names 116 = .ok (.ifCond .eq 9, 3) := by decide +kernel
theorem dX10_names_119 : decode cX10_names 119 = .ok (.aload_n 0, 1) := by decide +kernel
theorem dX10_names_120 : decode cX10_names 120 = .ok (.iload_n 2, 1) := by decide +kernel
theorem dX10_names_121 : decode cX10_names 121 = .ok (.invokevirtual 36, 3) := by decide +kernel
theorem dX10_names_124 : decode cX10_names 124 = .ok (.athrow, 1) := by decide +kernel
theorem dX10_names_125 : decode cX10_names 125 = .ok (.aload_n 0, 1) := by decide +kernel
theorem dX10_names_126 : decode cX10_names 126 = .ok (.getfield 12, 3) := by decide +kernel
theorem dX10_names_129 : decode cX10_names 129 = .ok (.getfield 49, 3) := by decide +kernel
theorem dX10_names_132 : decode cX10_names 132 = .ok (.aload_n 3, 1) := by decide +kernel
theorem dX10_names_133 : decode cX10_names 133 = .ok (.invokevirtual 81, 3) := by decide +kernel
theorem dX10_names_136 : decode cX10_names 136 = .ok (.pop, 1) := by decide +kernel
theorem dX10_names_137 : decode cX10_names 137 = .ok (.aload_n 0, 1) := by decide +kernel
theorem dX10_names_138 : decode cX10_names 138 = .ok (.dup, 1) := by decide +kernel
theorem dX10_names_139 : decode cX10_names 139 = .ok (.getfield 84, 3) := by decide +kernel
theorem dX10_names_142 : decode cX10_names 142 = .ok (.aload_n 3, 1) := by decide +kernel
theorem dX10_names_143 : decode cX10_names 143 = .ok (.invokevirtual 70, 3) := by decide +kernel
theorem dX10_names_146 : decode cX10_names 146 = .ok (.iadd, 1) := by decide +kernel
theorem dX10_names_147 : decode cX10_names 147 = .ok (.putfield 84, 3) := by decide +kernel
theorem dX10_names_150 : decode cX10_names 150 = .ok (.aload_n 0, 1) := by decide +kernel
theorem dX10_names_151 : decode cX10_names 151 = .ok (.bipush 44, 2) := by decide +kernel
theorem dX10_names_153 : decode cX10_names 153 = .ok (.invokevirtual 87, 3) := by decide +kernel
theorem dX10_names_156 : decode cX10_names 156 = .ok (.istore_n 1, 1) := by decide +kernel
theorem dX10_names_157 : decode cX10_names 157 = .ok (.aload_n 0, 1) := by decide +kernel
theorem dX10_names_158 : decode cX10_names 158 = .ok (.dup, 1) := by decide +kernel
theorem dX10_names_159 : decode cX10_names 159 = .ok (.getfield 33, 3) := by decide +kernel
theorem dX10_names_162 : decode cX10_names 162 = .ok (.iconst 1, 1) := by decide +kernel
theorem dX10_names_163 : decode cX10_names 163 = .ok (.iadd, 1) := by decide +kernel
theorem dX10_names_164 : decode cX10_names 164 = .ok (.putfield 33, 3) := by decide +kernel
theorem dX10_names_167 : decode cX10_names 167 = .ok (.goto (-165), 3) := by decide +kernel
theorem dX10_names_170 : decode cX10_names 170 = .ok (.return_, 1) := by decide +kernel
abbrev cX10_wrong : ByteArray := prog_15_method_2_code
def yX10_wrong : MethodName := ⟨RX10, "wrong", "(I)Ljava/lang/IllegalStateException;"⟩
theorem dX10_wrong_0 : decode cX10_wrong 0 = .ok (.aload_n 0, 1) := by decide +kernel
theorem dX10_wrong_1 : decode cX10_wrong 1 = .ok (.getfield 18, 3) := by decide +kernel
theorem dX10_wrong_4 : decode cX10_wrong 4 = .ok (.iconst 1, 1) := by decide +kernel
theorem dX10_wrong_5 : decode cX10_wrong 5 = .ok (.iload_n 1, 1) := by decide +kernel
theorem dX10_wrong_6 : decode cX10_wrong 6 = .ok (.invokevirtual 43, 3) := by decide +kernel
theorem dX10_wrong_9 : decode cX10_wrong 9 = .ok (.areturn, 1) := by decide +kernel
abbrev cX10_word : ByteArray := prog_15_method_7_code
def yX10_word : MethodName := ⟨RX10, "word", "()Ljava/lang/String;"⟩
theorem dX10_word_0 : decode cX10_word 0 = .ok (.new 103, 3) := by decide +kernel
theorem dX10_word_3 : decode cX10_word 3 = .ok (.dup, 1) := by decide +kernel
theorem dX10_word_4 : decode cX10_word 4 = .ok (.invokespecial 105, 3) := by decide +kernel
theorem dX10_word_7 : decode cX10_word 7 = .ok (.astore_n 1, 1) := by decide +kernel
theorem dX10_word_8 : decode cX10_word 8 = .ok (.aload_n 0, 1) := by decide +kernel
theorem dX10_word_9 : decode cX10_word 9 = .ok (.aload_n 0, 1) := by decide +kernel
theorem dX10_word_10 : decode cX10_word 10 = .ok (.bipush 34, 2) := by decide +kernel
theorem dX10_word_12 : decode cX10_word 12 = .ok (.invokevirtual 87, 3) := by decide +kernel
theorem dX10_word_15 : decode cX10_word 15 = .ok (.putfield 96, 3) := by decide +kernel
theorem dX10_word_18 : decode cX10_word 18 = .ok (.aload_n 0, 1) := by decide +kernel
theorem dX10_word_19 : decode cX10_word 19 = .ok (.getfield 96, 3) := by decide +kernel
theorem dX10_word_22 : decode cX10_word 22 = .ok (.ifCond .ne 103, 3) := by decide +kernel
theorem dX10_word_25 : decode cX10_word 25 = .ok (.aload_n 0, 1) := by decide +kernel
theorem dX10_word_26 : decode cX10_word 26 = .ok (.getfield 33, 3) := by decide +kernel
theorem dX10_word_29 : decode cX10_word 29 = .ok (.aload_n 0, 1) := by decide +kernel
theorem dX10_word_30 : decode cX10_word 30 = .ok (.getfield 26, 3) := by decide +kernel
theorem dX10_word_33 : decode cX10_word 33 = .ok (.if_icmp .ge 87, 3) := by decide +kernel
theorem dX10_word_36 : decode cX10_word 36 = .ok (.aload_n 0, 1) := by decide +kernel
theorem dX10_word_37 : decode cX10_word 37 = .ok (.getfield 22, 3) := by decide +kernel
theorem dX10_word_40 : decode cX10_word 40 = .ok (.aload_n 0, 1) := by decide +kernel
theorem dX10_word_41 : decode cX10_word 41 = .ok (.getfield 33, 3) := by decide +kernel
theorem dX10_word_44 : decode cX10_word 44 = .ok (.baload, 1) := by decide +kernel
theorem dX10_word_45 : decode cX10_word 45 = .ok (.bipush 32, 2) := by decide +kernel
theorem dX10_word_47 : decode cX10_word 47 = .ok (.if_icmp .lt 73, 3) := by decide +kernel
theorem dX10_word_50 : decode cX10_word 50 = .ok (.aload_n 0, 1) := by decide +kernel
theorem dX10_word_51 : decode cX10_word 51 = .ok (.getfield 22, 3) := by decide +kernel
theorem dX10_word_54 : decode cX10_word 54 = .ok (.aload_n 0, 1) := by decide +kernel
theorem dX10_word_55 : decode cX10_word 55 = .ok (.getfield 33, 3) := by decide +kernel
theorem dX10_word_58 : decode cX10_word 58 = .ok (.baload, 1) := by decide +kernel
theorem dX10_word_59 : decode cX10_word 59 = .ok (.bipush 126, 2) := by decide +kernel
theorem dX10_word_61 : decode cX10_word 61 = .ok (.if_icmp .gt 59, 3) := by decide +kernel
theorem dX10_word_64 : decode cX10_word 64 = .ok (.aload_n 0, 1) := by decide +kernel
theorem dX10_word_65 : decode cX10_word 65 = .ok (.getfield 22, 3) := by decide +kernel
theorem dX10_word_68 : decode cX10_word 68 = .ok (.aload_n 0, 1) := by decide +kernel
theorem dX10_word_69 : decode cX10_word 69 = .ok (.getfield 33, 3) := by decide +kernel
theorem dX10_word_72 : decode cX10_word 72 = .ok (.baload, 1) := by decide +kernel
theorem dX10_word_73 : decode cX10_word 73 = .ok (.bipush 34, 2) := by decide +kernel
theorem dX10_word_75 : decode cX10_word 75 = .ok (.if_icmp .eq 45, 3) := by decide +kernel
theorem dX10_word_78 : decode cX10_word 78 = .ok (.aload_n 0, 1) := by decide +kernel
theorem dX10_word_79 : decode cX10_word 79 = .ok (.getfield 22, 3) := by decide +kernel
theorem dX10_word_82 : decode cX10_word 82 = .ok (.aload_n 0, 1) := by decide +kernel
theorem dX10_word_83 : decode cX10_word 83 = .ok (.getfield 33, 3) := by decide +kernel
theorem dX10_word_86 : decode cX10_word 86 = .ok (.baload, 1) := by decide +kernel
theorem dX10_word_87 : decode cX10_word 87 = .ok (.bipush 44, 2) := by decide +kernel
theorem dX10_word_89 : decode cX10_word 89 = .ok (.if_icmp .eq 31, 3) := by decide +kernel
theorem dX10_word_92 : decode cX10_word 92 = .ok (.aload_n 1, 1) := by decide +kernel
theorem dX10_word_93 : decode cX10_word 93 = .ok (.aload_n 0, 1) := by decide +kernel
theorem dX10_word_94 : decode cX10_word 94 = .ok (.getfield 22, 3) := by decide +kernel
theorem dX10_word_97 : decode cX10_word 97 = .ok (.aload_n 0, 1) := by decide +kernel
theorem dX10_word_98 : decode cX10_word 98 = .ok (.getfield 33, 3) := by decide +kernel
theorem dX10_word_101 : decode cX10_word 101 = .ok (.baload, 1) := by decide +kernel
theorem dX10_word_102 : decode cX10_word 102 = .ok (.i2c, 1) := by decide +kernel
theorem dX10_word_103 : decode cX10_word 103 = .ok (.invokevirtual 106, 3) := by decide +kernel
theorem dX10_word_106 : decode cX10_word 106 = .ok (.pop, 1) := by decide +kernel
theorem dX10_word_107 : decode cX10_word 107 = .ok (.aload_n 0, 1) := by decide +kernel
theorem dX10_word_108 : decode cX10_word 108 = .ok (.dup, 1) := by decide +kernel
theorem dX10_word_109 : decode cX10_word 109 = .ok (.getfield 33, 3) := by decide +kernel
theorem dX10_word_112 : decode cX10_word 112 = .ok (.iconst 1, 1) := by decide +kernel
theorem dX10_word_113 : decode cX10_word 113 = .ok (.iadd, 1) := by decide +kernel
theorem dX10_word_114 : decode cX10_word 114 = .ok (.putfield 33, 3) := by decide +kernel
theorem dX10_word_117 : decode cX10_word 117 = .ok (.goto (-92), 3) := by decide +kernel
theorem dX10_word_120 : decode cX10_word 120 = .ok (.aload_n 1, 1) := by decide +kernel
theorem dX10_word_121 : decode cX10_word 121 = .ok (.invokevirtual 110, 3) := by decide +kernel
theorem dX10_word_124 : decode cX10_word 124 = .ok (.areturn, 1) := by decide +kernel
theorem dX10_word_125 : decode cX10_word 125 = .ok (.aload_n 0, 1) := by decide +kernel
theorem dX10_word_126 : decode cX10_word 126 = .ok (.dup, 1) := by decide +kernel
theorem dX10_word_127 : decode cX10_word 127 = .ok (.getfield 33, 3) := by decide +kernel
theorem dX10_word_130 : decode cX10_word 130 = .ok (.iconst 1, 1) := by decide +kernel
theorem dX10_word_131 : decode cX10_word 131 = .ok (.iadd, 1) := by decide +kernel
theorem dX10_word_132 : decode cX10_word 132 = .ok (.putfield 33, 3) := by decide +kernel
theorem dX10_word_135 : decode cX10_word 135 = .ok (.iconst 1, 1) := by decide +kernel
theorem dX10_word_136 : decode cX10_word 136 = .ok (.istore_n 2, 1) := by decide +kernel
theorem dX10_word_137 : decode cX10_word 137 = .ok (.iload_n 2, 1) := by decide +kernel
theorem dX10_word_138 : decode cX10_word 138 = .ok (.ifCond .eq 121, 3) := by decide +kernel
theorem dX10_word_141 : decode cX10_word 141 = .ok (.aload_n 0, 1) := by decide +kernel
theorem dX10_word_142 : decode cX10_word 142 = .ok (.getfield 33, 3) := by decide +kernel
theorem dX10_word_145 : decode cX10_word 145 = .ok (.aload_n 0, 1) := by decide +kernel
theorem dX10_word_146 : decode cX10_word 146 = .ok (.getfield 26, 3) := by decide +kernel
theorem dX10_word_149 : decode cX10_word 149 = .ok (.if_icmp .eq 31, 3) := by decide +kernel
theorem dX10_word_152 : decode cX10_word 152 = .ok (.aload_n 0, 1) := by decide +kernel
theorem dX10_word_153 : decode cX10_word 153 = .ok (.getfield 22, 3) := by decide +kernel
theorem dX10_word_156 : decode cX10_word 156 = .ok (.aload_n 0, 1) := by decide +kernel
theorem dX10_word_157 : decode cX10_word 157 = .ok (.getfield 33, 3) := by decide +kernel
theorem dX10_word_160 : decode cX10_word 160 = .ok (.baload, 1) := by decide +kernel
theorem dX10_word_161 : decode cX10_word 161 = .ok (.bipush 32, 2) := by decide +kernel
theorem dX10_word_163 : decode cX10_word 163 = .ok (.if_icmp .lt 17, 3) := by decide +kernel
theorem dX10_word_166 : decode cX10_word 166 = .ok (.aload_n 0, 1) := by decide +kernel
theorem dX10_word_167 : decode cX10_word 167 = .ok (.getfield 22, 3) := by decide +kernel
theorem dX10_word_170 : decode cX10_word 170 = .ok (.aload_n 0, 1) := by decide +kernel
theorem dX10_word_171 : decode cX10_word 171 = .ok (.getfield 33, 3) := by decide +kernel
theorem dX10_word_174 : decode cX10_word 174 = .ok (.baload, 1) := by decide +kernel
theorem dX10_word_175 : decode cX10_word 175 = .ok (.bipush 126, 2) := by decide +kernel
theorem dX10_word_177 : decode cX10_word 177 = .ok (.if_icmp .le 12, 3) := by decide +kernel
theorem dX10_word_180 : decode cX10_word 180 = .ok (.aload_n 0, 1) := by decide +kernel
theorem dX10_word_181 : decode cX10_word 181 = .ok (.aload_n 0, 1) := by decide +kernel
theorem dX10_word_182 : decode cX10_word 182 = .ok (.getfield 33, 3) := by decide +kernel
theorem dX10_word_185 : decode cX10_word 185 = .ok (.invokevirtual 36, 3) := by decide +kernel
theorem dX10_word_188 : decode cX10_word 188 = .ok (.athrow, 1) := by decide +kernel
theorem dX10_word_189 : decode cX10_word 189 = .ok (.aload_n 0, 1) := by decide +kernel
theorem dX10_word_190 : decode cX10_word 190 = .ok (.getfield 22, 3) := by decide +kernel
theorem dX10_word_193 : decode cX10_word 193 = .ok (.aload_n 0, 1) := by decide +kernel
theorem dX10_word_194 : decode cX10_word 194 = .ok (.getfield 33, 3) := by decide +kernel
theorem dX10_word_197 : decode cX10_word 197 = .ok (.baload, 1) := by decide +kernel
theorem dX10_word_198 : decode cX10_word 198 = .ok (.istore_n 3, 1) := by decide +kernel
theorem dX10_word_199 : decode cX10_word 199 = .ok (.aload_n 0, 1) := by decide +kernel
theorem dX10_word_200 : decode cX10_word 200 = .ok (.dup, 1) := by decide +kernel
theorem dX10_word_201 : decode cX10_word 201 = .ok (.getfield 33, 3) := by decide +kernel
theorem dX10_word_204 : decode cX10_word 204 = .ok (.iconst 1, 1) := by decide +kernel
theorem dX10_word_205 : decode cX10_word 205 = .ok (.iadd, 1) := by decide +kernel
theorem dX10_word_206 : decode cX10_word 206 = .ok (.putfield 33, 3) := by decide +kernel
theorem dX10_word_209 : decode cX10_word 209 = .ok (.iload_n 3, 1) := by decide +kernel
theorem dX10_word_210 : decode cX10_word 210 = .ok (.bipush 34, 2) := by decide +kernel
theorem dX10_word_212 : decode cX10_word 212 = .ok (.if_icmp .eq 13, 3) := by decide +kernel
theorem dX10_word_215 : decode cX10_word 215 = .ok (.aload_n 1, 1) := by decide +kernel
theorem dX10_word_216 : decode cX10_word 216 = .ok (.iload_n 3, 1) := by decide +kernel
theorem dX10_word_217 : decode cX10_word 217 = .ok (.i2c, 1) := by decide +kernel
theorem dX10_word_218 : decode cX10_word 218 = .ok (.invokevirtual 106, 3) := by decide +kernel
theorem dX10_word_221 : decode cX10_word 221 = .ok (.pop, 1) := by decide +kernel
theorem dX10_word_222 : decode cX10_word 222 = .ok (.goto 34, 3) := by decide +kernel
theorem dX10_word_225 : decode cX10_word 225 = .ok (.aload_n 0, 1) := by decide +kernel
theorem dX10_word_226 : decode cX10_word 226 = .ok (.bipush 34, 2) := by decide +kernel
theorem dX10_word_228 : decode cX10_word 228 = .ok (.invokevirtual 87, 3) := by decide +kernel
theorem dX10_word_231 : decode cX10_word 231 = .ok (.ifCond .eq 23, 3) := by decide +kernel
theorem dX10_word_234 : decode cX10_word 234 = .ok (.aload_n 1, 1) := by decide +kernel
theorem dX10_word_235 : decode cX10_word 235 = .ok (.bipush 34, 2) := by decide +kernel
theorem dX10_word_237 : decode cX10_word 237 = .ok (.invokevirtual 106, 3) := by decide +kernel
theorem dX10_word_240 : decode cX10_word 240 = .ok (.pop, 1) := by decide +kernel
theorem dX10_word_241 : decode cX10_word 241 = .ok (.aload_n 0, 1) := by decide +kernel
theorem dX10_word_242 : decode cX10_word 242 = .ok (.dup, 1) := by decide +kernel
theorem dX10_word_243 : decode cX10_word 243 = .ok (.getfield 33, 3) := by decide +kernel
theorem dX10_word_246 : decode cX10_word 246 = .ok (.iconst 1, 1) := by decide +kernel
theorem dX10_word_247 : decode cX10_word 247 = .ok (.iadd, 1) := by decide +kernel
theorem dX10_word_248 : decode cX10_word 248 = .ok (.putfield 33, 3) := by decide +kernel
theorem dX10_word_251 : decode cX10_word 251 = .ok (.goto 5, 3) := by decide +kernel
theorem dX10_word_254 : decode cX10_word 254 = .ok (.iconst 0, 1) := by decide +kernel
theorem dX10_word_255 : decode cX10_word 255 = .ok (.istore_n 2, 1) := by decide +kernel
theorem dX10_word_256 : decode cX10_word 256 = .ok (.goto (-119), 3) := by decide +kernel
theorem dX10_word_259 : decode cX10_word 259 = .ok (.aload_n 1, 1) := by decide +kernel
theorem dX10_word_260 : decode cX10_word 260 = .ok (.invokevirtual 110, 3) := by decide +kernel
theorem dX10_word_263 : decode cX10_word 263 = .ok (.areturn, 1) := by decide +kernel
abbrev cX10_is : ByteArray := prog_15_method_3_code
def yX10_is : MethodName := ⟨RX10, "is", "(I)Z"⟩
theorem dX10_is_0 : decode cX10_is 0 = .ok (.aload_n 0, 1) := by decide +kernel
theorem dX10_is_1 : decode cX10_is 1 = .ok (.getfield 33, 3) := by decide +kernel
theorem dX10_is_4 : decode cX10_is 4 = .ok (.aload_n 0, 1) := by decide +kernel
theorem dX10_is_5 : decode cX10_is 5 = .ok (.getfield 26, 3) := by decide +kernel
theorem dX10_is_8 : decode cX10_is 8 = .ok (.if_icmp .ge 20, 3) := by decide +kernel
theorem dX10_is_11 : decode cX10_is 11 = .ok (.aload_n 0, 1) := by decide +kernel
theorem dX10_is_12 : decode cX10_is 12 = .ok (.getfield 22, 3) := by decide +kernel
theorem dX10_is_15 : decode cX10_is 15 = .ok (.aload_n 0, 1) := by decide +kernel
theorem dX10_is_16 : decode cX10_is 16 = .ok (.getfield 33, 3) := by decide +kernel
theorem dX10_is_19 : decode cX10_is 19 = .ok (.baload, 1) := by decide +kernel
theorem dX10_is_20 : decode cX10_is 20 = .ok (.iload_n 1, 1) := by decide +kernel
theorem dX10_is_21 : decode cX10_is 21 = .ok (.if_icmp .ne 7, 3) := by decide +kernel
theorem dX10_is_24 : decode cX10_is 24 = .ok (.iconst 1, 1) := by decide +kernel
theorem dX10_is_25 : decode cX10_is 25 = .ok (.goto 4, 3) := by decide +kernel
theorem dX10_is_28 : decode cX10_is 28 = .ok (.iconst 0, 1) := by decide +kernel
theorem dX10_is_29 : decode cX10_is 29 = .ok (.ireturn, 1) := by decide +kernel
abbrev cX10_mustEnd : ByteArray := prog_15_method_6_code
def yX10_mustEnd : MethodName := ⟨RX10, "mustEnd", "()V"⟩
theorem dX10_mustEnd_0 : decode cX10_mustEnd 0 = .ok (.aload_n 0, 1) := by decide +kernel
theorem dX10_mustEnd_1 : decode cX10_mustEnd 1 = .ok (.bipush 44, 2) := by decide +kernel
theorem dX10_mustEnd_3 : decode cX10_mustEnd 3 = .ok (.invokevirtual 87, 3) := by decide +kernel
theorem dX10_mustEnd_6 : decode cX10_mustEnd 6 = .ok (.ifCond .ne 21, 3) := by decide +kernel
theorem dX10_mustEnd_9 : decode cX10_mustEnd 9 = .ok (.aload_n 0, 1) := by decide +kernel
theorem dX10_mustEnd_10 : decode cX10_mustEnd 10 = .ok (.bipush 10, 2) := by decide +kernel
theorem dX10_mustEnd_12 : decode cX10_mustEnd 12 = .ok (.invokevirtual 87, 3) := by decide +kernel
theorem dX10_mustEnd_15 : decode cX10_mustEnd 15 = .ok (.ifCond .ne 12, 3) := by decide +kernel
theorem dX10_mustEnd_18 : decode cX10_mustEnd 18 = .ok (.aload_n 0, 1) := by decide +kernel
theorem dX10_mustEnd_19 : decode cX10_mustEnd 19 = .ok (.aload_n 0, 1) := by decide +kernel
theorem dX10_mustEnd_20 : decode cX10_mustEnd 20 = .ok (.getfield 33, 3) := by decide +kernel
theorem dX10_mustEnd_23 : decode cX10_mustEnd 23 = .ok (.invokevirtual 36, 3) := by decide +kernel
theorem dX10_mustEnd_26 : decode cX10_mustEnd 26 = .ok (.athrow, 1) := by decide +kernel
theorem dX10_mustEnd_27 : decode cX10_mustEnd 27 = .ok (.return_, 1) := by decide +kernel
abbrev cX10_line : ByteArray := prog_15_method_5_code
def yX10_line : MethodName := ⟨RX10, "line", "()V"⟩
theorem dX10_line_0 : decode cX10_line 0 = .ok (.iconst 1, 1) := by decide +kernel
theorem dX10_line_1 : decode cX10_line 1 = .ok (.istore_n 1, 1) := by decide +kernel
theorem dX10_line_2 : decode cX10_line 2 = .ok (.iconst 0, 1) := by decide +kernel
theorem dX10_line_3 : decode cX10_line 3 = .ok (.istore_n 2, 1) := by decide +kernel
theorem dX10_line_4 : decode cX10_line 4 = .ok (.iload_n 1, 1) := by decide +kernel
theorem dX10_line_5 : decode cX10_line 5 = .ok (.ifCond .eq 151, 3) := by decide +kernel
theorem dX10_line_8 : decode cX10_line 8 = .ok (.aload_n 0, 1) := by decide +kernel
theorem dX10_line_9 : decode cX10_line 9 = .ok (.getfield 33, 3) := by decide +kernel
theorem dX10_line_12 : decode cX10_line 12 = .ok (.istore_n 3, 1) := by decide +kernel
theorem dX10_line_13 : decode cX10_line 13 = .ok (.iload_n 2, 1) := by decide +kernel
theorem dX10_line_14 : decode cX10_line 14 = .ok (.aload_n 0, 1) := by decide +kernel
theorem dX10_line_15 : decode cX10_line 15 = .ok (.getfield 12, 3) := by decide +kernel
theorem dX10_line_18 : decode cX10_line 18 = .ok (.getfield 49, 3) := by decide +kernel
theorem dX10_line_21 : decode cX10_line 21 = .ok (.invokevirtual 52, 3) := by decide +kernel
theorem dX10_line_24 : decode cX10_line 24 = .ok (.if_icmp .ne 9, 3) := by decide +kernel
theorem dX10_line_27 : decode cX10_line 27 = .ok (.aload_n 0, 1) := by decide +kernel
theorem dX10_line_28 : decode cX10_line 28 = .ok (.iload_n 3, 1) := by decide +kernel
theorem dX10_line_29 : decode cX10_line 29 = .ok (.invokevirtual 36, 3) := by decide +kernel
theorem dX10_line_32 : decode cX10_line 32 = .ok (.athrow, 1) := by decide +kernel
theorem dX10_line_33 : decode cX10_line 33 = .ok (.aload_n 0, 1) := by decide +kernel
theorem dX10_line_34 : decode cX10_line 34 = .ok (.invokevirtual 57, 3) := by decide +kernel
theorem dX10_line_37 : decode cX10_line 37 = .ok (.astore 4, 2) := by decide +kernel
theorem dX10_line_39 : decode cX10_line 39 = .ok (.aload_n 0, 1) := by decide +kernel
theorem dX10_line_40 : decode cX10_line 40 = .ok (.invokevirtual 61, 3) := by decide +kernel
theorem dX10_line_43 : decode cX10_line 43 = .ok (.aload 4, 2) := by decide +kernel
theorem dX10_line_45 : decode cX10_line 45 = .ok (.invokevirtual 70, 3) := by decide +kernel
theorem dX10_line_48 : decode cX10_line 48 = .ok (.bipush 40, 2) := by decide +kernel
theorem dX10_line_50 : decode cX10_line 50 = .ok (.if_icmp .le 9, 3) := by decide +kernel
theorem dX10_line_53 : decode cX10_line 53 = .ok (.aload_n 0, 1) := by decide +kernel
theorem dX10_line_54 : decode cX10_line 54 = .ok (.iload_n 3, 1) := by decide +kernel
theorem dX10_line_55 : decode cX10_line 55 = .ok (.invokevirtual 36, 3) := by decide +kernel
theorem dX10_line_58 : decode cX10_line 58 = .ok (.athrow, 1) := by decide +kernel
theorem dX10_line_59 : decode cX10_line 59 = .ok (.aload_n 0, 1) := by decide +kernel
theorem dX10_line_60 : decode cX10_line 60 = .ok (.getfield 12, 3) := by decide +kernel
theorem dX10_line_63 : decode cX10_line 63 = .ok (.getfield 91, 3) := by decide +kernel
theorem dX10_line_66 : decode cX10_line 66 = .ok (.new 94, 3) := by decide +kernel
theorem dX10_line_69 : decode cX10_line 69 = .ok (.dup, 1) := by decide +kernel
theorem dX10_line_70 : decode cX10_line 70 = .ok (.aload 4, 2) := by decide +kernel
theorem dX10_line_72 : decode cX10_line 72 = .ok (.aload_n 0, 1) := by decide +kernel
theorem dX10_line_73 : decode cX10_line 73 = .ok (.getfield 96, 3) := by decide +kernel
theorem dX10_line_76 : decode cX10_line 76 = .ok (.invokespecial 100, 3) := by decide +kernel
theorem dX10_line_79 : decode cX10_line 79 = .ok (.invokevirtual 81, 3) := by decide +kernel
theorem dX10_line_82 : decode cX10_line 82 = .ok (.pop, 1) := by decide +kernel
theorem dX10_line_83 : decode cX10_line 83 = .ok (.aload_n 0, 1) := by decide +kernel
theorem dX10_line_84 : decode cX10_line 84 = .ok (.dup, 1) := by decide +kernel
theorem dX10_line_85 : decode cX10_line 85 = .ok (.getfield 84, 3) := by decide +kernel
theorem dX10_line_88 : decode cX10_line 88 = .ok (.aload 4, 2) := by decide +kernel
theorem dX10_line_90 : decode cX10_line 90 = .ok (.invokevirtual 70, 3) := by decide +kernel
theorem dX10_line_93 : decode cX10_line 93 = .ok (.iadd, 1) := by decide +kernel
theorem dX10_line_94 : decode cX10_line 94 = .ok (.putfield 84, 3) := by decide +kernel
theorem dX10_line_97 : decode cX10_line 97 = .ok (.iinc 2 1, 3) := by decide +kernel
theorem dX10_line_100 : decode cX10_line 100 = .ok (.aload_n 0, 1) := by decide +kernel
theorem dX10_line_101 : decode cX10_line 101 = .ok (.bipush 44, 2) := by decide +kernel
theorem dX10_line_103 : decode cX10_line 103 = .ok (.invokevirtual 87, 3) := by decide +kernel
theorem dX10_line_106 : decode cX10_line 106 = .ok (.istore_n 1, 1) := by decide +kernel
theorem dX10_line_107 : decode cX10_line 107 = .ok (.iload_n 1, 1) := by decide +kernel
theorem dX10_line_108 : decode cX10_line 108 = .ok (.ifCond .ne 35, 3) := by decide +kernel
theorem dX10_line_111 : decode cX10_line 111 = .ok (.aload_n 0, 1) := by decide +kernel
theorem dX10_line_112 : decode cX10_line 112 = .ok (.bipush 10, 2) := by decide +kernel
theorem dX10_line_114 : decode cX10_line 114 = .ok (.invokevirtual 87, 3) := by decide +kernel
theorem dX10_line_117 : decode cX10_line 117 = .ok (.ifCond .eq 26, 3) := by decide +kernel
theorem dX10_line_120 : decode cX10_line 120 = .ok (.iload_n 2, 1) := by decide +kernel
theorem dX10_line_121 : decode cX10_line 121 = .ok (.aload_n 0, 1) := by decide +kernel
theorem dX10_line_122 : decode cX10_line 122 = .ok (.getfield 12, 3) := by decide +kernel
theorem dX10_line_125 : decode cX10_line 125 = .ok (.getfield 49, 3) := by decide +kernel
theorem dX10_line_128 : decode cX10_line 128 = .ok (.invokevirtual 52, 3) := by decide +kernel
theorem dX10_line_131 : decode cX10_line 131 = .ok (.if_icmp .ge 12, 3) := by decide +kernel
theorem dX10_line_134 : decode cX10_line 134 = .ok (.aload_n 0, 1) := by decide +kernel
theorem dX10_line_135 : decode cX10_line 135 = .ok (.aload_n 0, 1) := by decide +kernel
theorem dX10_line_136 : decode cX10_line 136 = .ok (.getfield 33, 3) := by decide +kernel
theorem dX10_line_139 : decode cX10_line 139 = .ok (.invokevirtual 36, 3) := by decide +kernel
theorem dX10_line_142 : decode cX10_line 142 = .ok (.athrow, 1) := by decide +kernel
theorem dX10_line_143 : decode cX10_line 143 = .ok (.aload_n 0, 1) := by decide +kernel
theorem dX10_line_144 : decode cX10_line 144 = .ok (.dup, 1) := by decide +kernel
theorem dX10_line_145 : decode cX10_line 145 = .ok (.getfield 33, 3) := by decide +kernel
theorem dX10_line_148 : decode cX10_line 148 = .ok (.iconst 1, 1) := by decide +kernel
theorem dX10_line_149 : decode cX10_line 149 = .ok (.iadd, 1) := by decide +kernel
theorem dX10_line_150 : decode cX10_line 150 = .ok (.putfield 33, 3) := by decide +kernel
theorem dX10_line_153 : decode cX10_line 153 = .ok (.goto (-149), 3) := by decide +kernel
theorem dX10_line_156 : decode cX10_line 156 = .ok (.return_, 1) := by decide +kernel
theorem q62 : (Jvm.Cond.initialized "CommaTablesModel$TableReader") ∈ lw_all := lw_g (lw_at lw_m1 19 rfl) rfl
theorem q791 : (Jvm.Cond.instantiable "CommaTablesModel$TableReader" (7 : Nat)) ∈ lw_all := lw_g (lw_at lw_m4 28 rfl) rfl
theorem q793 : (Jvm.Cond.instanceMethod ({ cls := "CommaTablesModel$TableReader", name := "<init>", desc := "(LCommaTablesModel$Trouble;[BI)V" } : Jvm.MethodName)) ∈ lw_all := lw_g (lw_at lw_m4 30 rfl) rfl
theorem q794 : (Jvm.Cond.code ({ cls := "CommaTablesModel$TableReader", name := "<init>", desc := "(LCommaTablesModel$Trouble;[BI)V" } : Jvm.MethodName) prog_15_method_1_code (5 : Nat) (Option.none : Option Jvm.ClassFile.FieldType)) ∈ lw_all := lw_g (lw_at lw_m4 31 rfl) rfl
theorem q795 : (Jvm.Cond.methodLink "CommaTablesModel$TableReader" (3 : Nat) ({ cls := "java/lang/Object", name := "<init>", desc := "()V" } : Jvm.MethodName)) ∈ lw_all := lw_g (lw_at lw_m4 32 rfl) rfl
theorem q796 : (Jvm.Cond.classLink "CommaTablesModel$TableReader" (9 : Nat) "CommaTablesModel$Table") ∈ lw_all := lw_g (lw_at lw_m4 33 rfl) rfl
theorem q798 : (Jvm.Cond.methodLinkNest "CommaTablesModel$TableReader" (11 : Nat) ({ cls := "CommaTablesModel$Table", name := "<init>", desc := "()V" } : Jvm.MethodName) "CommaTablesModel") ∈ lw_tbl := lw_at lw_m4 35 rfl
theorem q829 : (Jvm.Cond.fieldLink "CommaTablesModel$TableReader" (49 : Nat) "CommaTablesModel$Table" "names" "Ljava/util/ArrayList;") ∈ lw_all := lw_g (lw_at lw_m4 66 rfl) rfl
theorem q832 : (Jvm.Cond.fieldLink "CommaTablesModel$TableReader" (91 : Nat) "CommaTablesModel$Table" "cells" "Ljava/util/ArrayList;") ∈ lw_all := lw_g (lw_at lw_m4 69 rfl) rfl
theorem q842 : (Jvm.Cond.methodLink "CommaTablesModel$TableReader" (30 : Nat) ({ cls := "CommaTablesModel$TableReader", name := "names", desc := "()V" } : Jvm.MethodName)) ∈ lw_all := lw_g (lw_at lw_m4 79 rfl) rfl
theorem q843 : (Jvm.Cond.privateMethod ({ cls := "CommaTablesModel$TableReader", name := "names", desc := "()V" } : Jvm.MethodName)) ∈ lw_tbl := lw_at lw_m4 80 rfl
theorem q844 : (Jvm.Cond.instanceMethod ({ cls := "CommaTablesModel$TableReader", name := "names", desc := "()V" } : Jvm.MethodName)) ∈ lw_all := lw_g (lw_at lw_m4 81 rfl) rfl
theorem q845 : (Jvm.Cond.code ({ cls := "CommaTablesModel$TableReader", name := "names", desc := "()V" } : Jvm.MethodName) prog_15_method_4_code (6 : Nat) (Option.none : Option Jvm.ClassFile.FieldType)) ∈ lw_all := lw_g (lw_at lw_m4 82 rfl) rfl
theorem q846 : (Jvm.Cond.methodLink "CommaTablesModel$TableReader" (52 : Nat) ({ cls := "java/util/ArrayList", name := "size", desc := "()I" } : Jvm.MethodName)) ∈ lw_all := lw_g (lw_at lw_m4 83 rfl) rfl
theorem q850 : (Jvm.Cond.methodLink "CommaTablesModel$TableReader" (36 : Nat) ({ cls := "CommaTablesModel$TableReader", name := "wrong", desc := "(I)Ljava/lang/IllegalStateException;" } : Jvm.MethodName)) ∈ lw_all := lw_g (lw_at lw_m4 87 rfl) rfl
theorem q851 : (Jvm.Cond.privateMethod ({ cls := "CommaTablesModel$TableReader", name := "wrong", desc := "(I)Ljava/lang/IllegalStateException;" } : Jvm.MethodName)) ∈ lw_tbl := lw_at lw_m4 88 rfl
theorem q852 : (Jvm.Cond.instanceMethod ({ cls := "CommaTablesModel$TableReader", name := "wrong", desc := "(I)Ljava/lang/IllegalStateException;" } : Jvm.MethodName)) ∈ lw_all := lw_g (lw_at lw_m4 89 rfl) rfl
theorem q853 : (Jvm.Cond.code ({ cls := "CommaTablesModel$TableReader", name := "wrong", desc := "(I)Ljava/lang/IllegalStateException;" } : Jvm.MethodName) prog_15_method_2_code (2 : Nat) (Option.some (Jvm.ClassFile.FieldType.object "java/lang/IllegalStateException"))) ∈ lw_all := lw_g (lw_at lw_m4 90 rfl) rfl
theorem q854 : (Jvm.Cond.methodLink "CommaTablesModel$TableReader" (43 : Nat) ({ cls := "CommaTablesModel$Trouble", name := "at", desc := "(II)Ljava/lang/IllegalStateException;" } : Jvm.MethodName)) ∈ lw_all := lw_g (lw_at lw_m4 91 rfl) rfl
theorem q860 : (Jvm.Cond.methodLink "CommaTablesModel$TableReader" (57 : Nat) ({ cls := "CommaTablesModel$TableReader", name := "word", desc := "()Ljava/lang/String;" } : Jvm.MethodName)) ∈ lw_all := lw_g (lw_at lw_m4 97 rfl) rfl
theorem q861 : (Jvm.Cond.privateMethod ({ cls := "CommaTablesModel$TableReader", name := "word", desc := "()Ljava/lang/String;" } : Jvm.MethodName)) ∈ lw_tbl := lw_at lw_m4 98 rfl
theorem q862 : (Jvm.Cond.instanceMethod ({ cls := "CommaTablesModel$TableReader", name := "word", desc := "()Ljava/lang/String;" } : Jvm.MethodName)) ∈ lw_all := lw_g (lw_at lw_m4 99 rfl) rfl
theorem q863 : (Jvm.Cond.code ({ cls := "CommaTablesModel$TableReader", name := "word", desc := "()Ljava/lang/String;" } : Jvm.MethodName) prog_15_method_7_code (4 : Nat) (Option.some (Jvm.ClassFile.FieldType.object "java/lang/String"))) ∈ lw_all := lw_g (lw_at lw_m4 100 rfl) rfl
theorem q864 : (Jvm.Cond.classLink "CommaTablesModel$TableReader" (103 : Nat) "java/lang/StringBuilder") ∈ lw_all := lw_g (lw_at lw_m4 101 rfl) rfl
theorem q866 : (Jvm.Cond.methodLink "CommaTablesModel$TableReader" (105 : Nat) ({ cls := "java/lang/StringBuilder", name := "<init>", desc := "()V" } : Jvm.MethodName)) ∈ lw_all := lw_g (lw_at lw_m4 103 rfl) rfl
theorem q894 : (Jvm.Cond.methodLink "CommaTablesModel$TableReader" (87 : Nat) ({ cls := "CommaTablesModel$TableReader", name := "is", desc := "(I)Z" } : Jvm.MethodName)) ∈ lw_all := lw_g (lw_at lw_m4 131 rfl) rfl
theorem q895 : (Jvm.Cond.privateMethod ({ cls := "CommaTablesModel$TableReader", name := "is", desc := "(I)Z" } : Jvm.MethodName)) ∈ lw_tbl := lw_at lw_m4 132 rfl
theorem q896 : (Jvm.Cond.instanceMethod ({ cls := "CommaTablesModel$TableReader", name := "is", desc := "(I)Z" } : Jvm.MethodName)) ∈ lw_all := lw_g (lw_at lw_m4 133 rfl) rfl
theorem q897 : (Jvm.Cond.code ({ cls := "CommaTablesModel$TableReader", name := "is", desc := "(I)Z" } : Jvm.MethodName) prog_15_method_3_code (2 : Nat) (Option.some Jvm.ClassFile.FieldType.boolean)) ∈ lw_all := lw_g (lw_at lw_m4 134 rfl) rfl
theorem q898 : (Jvm.Cond.methodLink "CommaTablesModel$TableReader" (106 : Nat) ({ cls := "java/lang/StringBuilder", name := "append", desc := "(C)Ljava/lang/StringBuilder;" } : Jvm.MethodName)) ∈ lw_all := lw_g (lw_at lw_m4 135 rfl) rfl
theorem q971 : (Jvm.Cond.methodLink "CommaTablesModel$TableReader" (110 : Nat) ({ cls := "java/lang/StringBuilder", name := "toString", desc := "()Ljava/lang/String;" } : Jvm.MethodName)) ∈ lw_all := lw_g (lw_at lw_m4 208 rfl) rfl
theorem q1028 : (Jvm.Cond.methodLink "CommaTablesModel$TableReader" (61 : Nat) ({ cls := "CommaTablesModel$TableReader", name := "mustEnd", desc := "()V" } : Jvm.MethodName)) ∈ lw_all := lw_g (lw_at lw_m5 25 rfl) rfl
theorem q1029 : (Jvm.Cond.privateMethod ({ cls := "CommaTablesModel$TableReader", name := "mustEnd", desc := "()V" } : Jvm.MethodName)) ∈ lw_tbl := lw_at lw_m5 26 rfl
theorem q1030 : (Jvm.Cond.instanceMethod ({ cls := "CommaTablesModel$TableReader", name := "mustEnd", desc := "()V" } : Jvm.MethodName)) ∈ lw_all := lw_g (lw_at lw_m5 27 rfl) rfl
theorem q1031 : (Jvm.Cond.code ({ cls := "CommaTablesModel$TableReader", name := "mustEnd", desc := "()V" } : Jvm.MethodName) prog_15_method_6_code (1 : Nat) (Option.none : Option Jvm.ClassFile.FieldType)) ∈ lw_all := lw_g (lw_at lw_m5 28 rfl) rfl
theorem q1032 : (Jvm.Cond.methodLink "CommaTablesModel$TableReader" (64 : Nat) ({ cls := "java/lang/String", name := "isEmpty", desc := "()Z" } : Jvm.MethodName)) ∈ lw_all := lw_g (lw_at lw_m5 29 rfl) rfl
theorem q1036 : (Jvm.Cond.methodLink "CommaTablesModel$TableReader" (70 : Nat) ({ cls := "java/lang/String", name := "length", desc := "()I" } : Jvm.MethodName)) ∈ lw_all := lw_g (lw_at lw_m5 33 rfl) rfl
theorem q1037 : (Jvm.Cond.methodLink "CommaTablesModel$TableReader" (73 : Nat) ({ cls := "java/util/ArrayList", name := "get", desc := "(I)Ljava/lang/Object;" } : Jvm.MethodName)) ∈ lw_all := lw_g (lw_at lw_m5 34 rfl) rfl
theorem q1049 : (Jvm.Cond.classLink "CommaTablesModel$TableReader" (65 : Nat) "java/lang/String") ∈ lw_all := lw_g (lw_at lw_m5 46 rfl) rfl
theorem q1050 : (Jvm.Cond.methodLink "CommaTablesModel$TableReader" (77 : Nat) ({ cls := "java/lang/String", name := "equals", desc := "(Ljava/lang/Object;)Z" } : Jvm.MethodName)) ∈ lw_all := lw_g (lw_at lw_m5 47 rfl) rfl
theorem q1058 : (Jvm.Cond.methodLink "CommaTablesModel$TableReader" (81 : Nat) ({ cls := "java/util/ArrayList", name := "add", desc := "(Ljava/lang/Object;)Z" } : Jvm.MethodName)) ∈ lw_all := lw_g (lw_at lw_m5 55 rfl) rfl
theorem q1092 : (Jvm.Cond.selects "CommaTablesModel$TableReader" ({ cls := "java/lang/Object", name := "getClass", desc := "()Ljava/lang/Class;" } : Jvm.MethodName) ({ cls := "java/lang/Object", name := "getClass", desc := "()Ljava/lang/Class;" } : Jvm.MethodName)) ∈ lw_all := lw_g (lw_at lw_m5 89 rfl) rfl
theorem q1107 : (Jvm.Cond.methodLink "CommaTablesModel$TableReader" (40 : Nat) ({ cls := "CommaTablesModel$TableReader", name := "line", desc := "()V" } : Jvm.MethodName)) ∈ lw_all := lw_g (lw_at lw_m5 104 rfl) rfl
theorem q1108 : (Jvm.Cond.privateMethod ({ cls := "CommaTablesModel$TableReader", name := "line", desc := "()V" } : Jvm.MethodName)) ∈ lw_tbl := lw_at lw_m5 105 rfl
theorem q1109 : (Jvm.Cond.instanceMethod ({ cls := "CommaTablesModel$TableReader", name := "line", desc := "()V" } : Jvm.MethodName)) ∈ lw_all := lw_g (lw_at lw_m5 106 rfl) rfl
theorem q1110 : (Jvm.Cond.code ({ cls := "CommaTablesModel$TableReader", name := "line", desc := "()V" } : Jvm.MethodName) prog_15_method_5_code (5 : Nat) (Option.none : Option Jvm.ClassFile.FieldType)) ∈ lw_all := lw_g (lw_at lw_m5 107 rfl) rfl
theorem q1111 : (Jvm.Cond.classLink "CommaTablesModel$TableReader" (94 : Nat) "CommaTablesModel$Cell") ∈ lw_all := lw_g (lw_at lw_m5 108 rfl) rfl
theorem q1113 : (Jvm.Cond.methodLink "CommaTablesModel$TableReader" (100 : Nat) ({ cls := "CommaTablesModel$Cell", name := "<init>", desc := "(Ljava/lang/String;Z)V" } : Jvm.MethodName)) ∈ lw_all := lw_g (lw_at lw_m5 110 rfl) rfl
theorem q1126 : (Jvm.Cond.fieldLink "CommaTablesModel$TableReader" (18 : Nat) "CommaTablesModel$TableReader" "trouble" "LCommaTablesModel$Trouble;") ∈ lw_all := lw_g (lw_at lw_m5 123 rfl) rfl
theorem q1127 : (Jvm.Cond.fieldLink "CommaTablesModel$TableReader" (22 : Nat) "CommaTablesModel$TableReader" "text" "[B") ∈ lw_all := lw_g (lw_at lw_m5 124 rfl) rfl
theorem q1128 : (Jvm.Cond.fieldLink "CommaTablesModel$TableReader" (26 : Nat) "CommaTablesModel$TableReader" "size" "I") ∈ lw_all := lw_g (lw_at lw_m5 125 rfl) rfl
theorem q1129 : (Jvm.Cond.fieldLink "CommaTablesModel$TableReader" (33 : Nat) "CommaTablesModel$TableReader" "next" "I") ∈ lw_all := lw_g (lw_at lw_m5 126 rfl) rfl
theorem q1130 : (Jvm.Cond.fieldLink "CommaTablesModel$TableReader" (96 : Nat) "CommaTablesModel$TableReader" "quoted" "Z") ∈ lw_all := lw_g (lw_at lw_m5 127 rfl) rfl
theorem q1131 : (Jvm.Cond.fieldLink "CommaTablesModel$TableReader" (12 : Nat) "CommaTablesModel$TableReader" "table" "LCommaTablesModel$Table;") ∈ lw_all := lw_g (lw_at lw_m5 128 rfl) rfl
theorem q1133 : (Jvm.Cond.fieldLink "CommaTablesModel$TableReader" (84 : Nat) "CommaTablesModel$TableReader" "bytes" "I") ∈ lw_all := lw_g (lw_at lw_m5 130 rfl) rfl
theorem q1135 : (Jvm.Cond.laysFinal "CommaTablesModel$TableReader" "CommaTablesModel$TableReader" "trouble" "LCommaTablesModel$Trouble;") ∈ lw_all := lw_g (lw_at lw_m5 132 rfl) rfl
theorem q1136 : (Jvm.Cond.soleField "CommaTablesModel$TableReader" "trouble") ∈ lw_all := lw_g (lw_at lw_m5 133 rfl) rfl
theorem q1137 : (Jvm.Cond.laysFinal "CommaTablesModel$TableReader" "CommaTablesModel$TableReader" "text" "[B") ∈ lw_all := lw_g (lw_at lw_m5 134 rfl) rfl
theorem q1138 : (Jvm.Cond.soleField "CommaTablesModel$TableReader" "text") ∈ lw_all := lw_g (lw_at lw_m5 135 rfl) rfl
theorem q1139 : (Jvm.Cond.laysFinal "CommaTablesModel$TableReader" "CommaTablesModel$TableReader" "size" "I") ∈ lw_all := lw_g (lw_at lw_m5 136 rfl) rfl
theorem q1140 : (Jvm.Cond.soleField "CommaTablesModel$TableReader" "size") ∈ lw_all := lw_g (lw_at lw_m5 137 rfl) rfl
theorem q1141 : (Jvm.Cond.lays "CommaTablesModel$TableReader" "CommaTablesModel$TableReader" "next" "I") ∈ lw_all := lw_g (lw_at lw_m5 138 rfl) rfl
theorem q1142 : (Jvm.Cond.soleField "CommaTablesModel$TableReader" "next") ∈ lw_all := lw_g (lw_at lw_m5 139 rfl) rfl
theorem q1143 : (Jvm.Cond.lays "CommaTablesModel$TableReader" "CommaTablesModel$TableReader" "quoted" "Z") ∈ lw_all := lw_g (lw_at lw_m5 140 rfl) rfl
theorem q1144 : (Jvm.Cond.soleField "CommaTablesModel$TableReader" "quoted") ∈ lw_all := lw_g (lw_at lw_m5 141 rfl) rfl
theorem q1145 : (Jvm.Cond.laysFinal "CommaTablesModel$TableReader" "CommaTablesModel$TableReader" "table" "LCommaTablesModel$Table;") ∈ lw_all := lw_g (lw_at lw_m5 142 rfl) rfl
theorem q1146 : (Jvm.Cond.soleField "CommaTablesModel$TableReader" "table") ∈ lw_all := lw_g (lw_at lw_m5 143 rfl) rfl
theorem q1147 : (Jvm.Cond.lays "CommaTablesModel$TableReader" "CommaTablesModel$TableReader" "bytes" "I") ∈ lw_all := lw_g (lw_at lw_m5 144 rfl) rfl
theorem q1148 : (Jvm.Cond.soleField "CommaTablesModel$TableReader" "bytes") ∈ lw_all := lw_g (lw_at lw_m5 145 rfl) rfl
theorem q1149 : (Jvm.Cond.superclass "CommaTablesModel$TableReader" "java/lang/Object") ∈ lw_all := lw_g (lw_at lw_m5 146 rfl) rfl
theorem q1351 : (Jvm.Cond.castable "CommaTablesModel$TableReader" "java/lang/Object") ∈ lw_tbl := lw_at lw_m6 108 rfl
theorem in_X10 : ∀ w ∈ wsX100, w ∈ lw_all := lw_in wsX100 [1135, 1137, 1139, 1141, 1143, 1145, 1147] (by decide +kernel) (by decide +kernel)
/-! CommaTablesModel$Table -/
set_option maxRecDepth 100000
def RX11 : String := "CommaTablesModel$Table"
def TX11 : u_T := fun k => match k with
  | 0 => ("CommaTablesModel$Table", "names", "Ljava/util/ArrayList;", true)
  | 1 => ("CommaTablesModel$Table", "cells", "Ljava/util/ArrayList;", true)
  | _ => ("CommaTablesModel$Table", "lanes", "[I", false)
def tyX11 : Nat → FieldType := fun k => match k with
  | 0 => .object "java/util/ArrayList"
  | 1 => .object "java/util/ArrayList"
  | _ => .array .int
abbrev wsX110 : List Cond := u_ws RX11 TX11 3
theorem nmX11 : ∀ a, a < 3 → ∀ b, b < 3 → a ≠ b → (TX11 a).2.1 ≠ (TX11 b).2.1 := by decide +kernel
theorem tyX11_ok : ∀ k, k < 3 → parseFieldDescriptor (TX11 k).2.2.1 = some (tyX11 k) := by decide +kernel
abbrev cX11_init : ByteArray := prog_14_method_1_code
def yX11_init : MethodName := ⟨RX11, "<init>", "()V"⟩
theorem dX11_init_0 : decode cX11_init 0 = .ok (.aload_n 0, 1) := by decide +kernel
theorem dX11_init_1 : decode cX11_init 1 = .ok (.invokespecial 1, 3) := by decide +kernel
theorem dX11_init_4 : decode cX11_init 4 = .ok (.aload_n 0, 1) := by decide +kernel
theorem dX11_init_5 : decode cX11_init 5 = .ok (.new 7, 3) := by decide +kernel
theorem dX11_init_8 : decode cX11_init 8 = .ok (.dup, 1) := by decide +kernel
theorem dX11_init_9 : decode cX11_init 9 = .ok (.invokespecial 9, 3) := by decide +kernel
theorem dX11_init_12 : decode cX11_init 12 = .ok (.putfield 10, 3) := by decide +kernel
theorem dX11_init_15 : decode cX11_init 15 = .ok (.aload_n 0, 1) := by decide +kernel
theorem dX11_init_16 : decode cX11_init 16 = .ok (.new 7, 3) := by decide +kernel
theorem dX11_init_19 : decode cX11_init 19 = .ok (.dup, 1) := by decide +kernel
theorem dX11_init_20 : decode cX11_init 20 = .ok (.invokespecial 9, 3) := by decide +kernel
theorem dX11_init_23 : decode cX11_init 23 = .ok (.putfield 16, 3) := by decide +kernel
theorem dX11_init_26 : decode cX11_init 26 = .ok (.return_, 1) := by decide +kernel
abbrev cX11_rows : ByteArray := prog_14_method_2_code
def yX11_rows : MethodName := ⟨RX11, "rows", "()I"⟩
theorem dX11_rows_0 : decode cX11_rows 0 = .ok (.aload_n 0, 1) := by decide +kernel
theorem dX11_rows_1 : decode cX11_rows 1 = .ok (.getfield 16, 3) := by decide +kernel
theorem dX11_rows_4 : decode cX11_rows 4 = .ok (.invokevirtual 19, 3) := by decide +kernel
theorem dX11_rows_7 : decode cX11_rows 7 = .ok (.aload_n 0, 1) := by decide +kernel
theorem dX11_rows_8 : decode cX11_rows 8 = .ok (.getfield 10, 3) := by decide +kernel
theorem dX11_rows_11 : decode cX11_rows 11 = .ok (.invokevirtual 19, 3) := by decide +kernel
theorem dX11_rows_14 : decode cX11_rows 14 = .ok (.idiv, 1) := by decide +kernel
theorem dX11_rows_15 : decode cX11_rows 15 = .ok (.ireturn, 1) := by decide +kernel
abbrev cX11_at : ByteArray := prog_14_method_3_code
def yX11_at : MethodName := ⟨RX11, "at", "(II)LCommaTablesModel$Cell;"⟩
theorem dX11_at_0 : decode cX11_at 0 = .ok (.aload_n 0, 1) := by decide +kernel
theorem dX11_at_1 : decode cX11_at 1 = .ok (.getfield 16, 3) := by decide +kernel
theorem dX11_at_4 : decode cX11_at 4 = .ok (.iload_n 1, 1) := by decide +kernel
theorem dX11_at_5 : decode cX11_at 5 = .ok (.aload_n 0, 1) := by decide +kernel
theorem dX11_at_6 : decode cX11_at 6 = .ok (.getfield 10, 3) := by decide +kernel
theorem dX11_at_9 : decode cX11_at 9 = .ok (.invokevirtual 19, 3) := by decide +kernel
theorem dX11_at_12 : decode cX11_at 12 = .ok (.imul, 1) := by decide +kernel
theorem dX11_at_13 : decode cX11_at 13 = .ok (.iload_n 2, 1) := by decide +kernel
theorem dX11_at_14 : decode cX11_at 14 = .ok (.iadd, 1) := by decide +kernel
theorem dX11_at_15 : decode cX11_at 15 = .ok (.invokevirtual 23, 3) := by decide +kernel
theorem dX11_at_18 : decode cX11_at 18 = .ok (.checkcast 27, 3) := by decide +kernel
theorem dX11_at_21 : decode cX11_at 21 = .ok (.areturn, 1) := by decide +kernel
theorem q63 : (Jvm.Cond.initialized "CommaTablesModel$Table") ∈ lw_all := lw_g (lw_at lw_m1 20 rfl) rfl
theorem q797 : (Jvm.Cond.instantiable "CommaTablesModel$Table" (3 : Nat)) ∈ lw_all := lw_g (lw_at lw_m4 34 rfl) rfl
theorem q799 : (Jvm.Cond.instanceMethod ({ cls := "CommaTablesModel$Table", name := "<init>", desc := "()V" } : Jvm.MethodName)) ∈ lw_all := lw_g (lw_at lw_m4 36 rfl) rfl
theorem q800 : (Jvm.Cond.code ({ cls := "CommaTablesModel$Table", name := "<init>", desc := "()V" } : Jvm.MethodName) prog_14_method_1_code (1 : Nat) (Option.none : Option Jvm.ClassFile.FieldType)) ∈ lw_all := lw_g (lw_at lw_m4 37 rfl) rfl
theorem q801 : (Jvm.Cond.methodLink "CommaTablesModel$Table" (1 : Nat) ({ cls := "java/lang/Object", name := "<init>", desc := "()V" } : Jvm.MethodName)) ∈ lw_all := lw_g (lw_at lw_m4 38 rfl) rfl
theorem q802 : (Jvm.Cond.classLink "CommaTablesModel$Table" (7 : Nat) "java/util/ArrayList") ∈ lw_all := lw_g (lw_at lw_m4 39 rfl) rfl
theorem q804 : (Jvm.Cond.methodLink "CommaTablesModel$Table" (9 : Nat) ({ cls := "java/util/ArrayList", name := "<init>", desc := "()V" } : Jvm.MethodName)) ∈ lw_all := lw_g (lw_at lw_m4 41 rfl) rfl
theorem q828 : (Jvm.Cond.fieldLink "CommaTablesModel$Table" (10 : Nat) "CommaTablesModel$Table" "names" "Ljava/util/ArrayList;") ∈ lw_all := lw_g (lw_at lw_m4 65 rfl) rfl
theorem q831 : (Jvm.Cond.fieldLink "CommaTablesModel$Table" (16 : Nat) "CommaTablesModel$Table" "cells" "Ljava/util/ArrayList;") ∈ lw_all := lw_g (lw_at lw_m4 68 rfl) rfl
theorem q835 : (Jvm.Cond.laysFinal "CommaTablesModel$Table" "CommaTablesModel$Table" "names" "Ljava/util/ArrayList;") ∈ lw_all := lw_g (lw_at lw_m4 72 rfl) rfl
theorem q836 : (Jvm.Cond.soleField "CommaTablesModel$Table" "names") ∈ lw_all := lw_g (lw_at lw_m4 73 rfl) rfl
theorem q837 : (Jvm.Cond.laysFinal "CommaTablesModel$Table" "CommaTablesModel$Table" "cells" "Ljava/util/ArrayList;") ∈ lw_all := lw_g (lw_at lw_m4 74 rfl) rfl
theorem q838 : (Jvm.Cond.soleField "CommaTablesModel$Table" "cells") ∈ lw_all := lw_g (lw_at lw_m4 75 rfl) rfl
theorem q839 : (Jvm.Cond.lays "CommaTablesModel$Table" "CommaTablesModel$Table" "lanes" "[I") ∈ lw_all := lw_g (lw_at lw_m4 76 rfl) rfl
theorem q840 : (Jvm.Cond.soleField "CommaTablesModel$Table" "lanes") ∈ lw_all := lw_g (lw_at lw_m4 77 rfl) rfl
theorem q841 : (Jvm.Cond.superclass "CommaTablesModel$Table" "java/lang/Object") ∈ lw_all := lw_g (lw_at lw_m4 78 rfl) rfl
theorem q1091 : (Jvm.Cond.selects "CommaTablesModel$Table" ({ cls := "java/lang/Object", name := "getClass", desc := "()Ljava/lang/Class;" } : Jvm.MethodName) ({ cls := "java/lang/Object", name := "getClass", desc := "()Ljava/lang/Class;" } : Jvm.MethodName)) ∈ lw_all := lw_g (lw_at lw_m5 88 rfl) rfl
theorem q1159 : (Jvm.Cond.instanceMethod ({ cls := "CommaTablesModel$Table", name := "rows", desc := "()I" } : Jvm.MethodName)) ∈ lw_all := lw_g (lw_at lw_m5 156 rfl) rfl
theorem q1160 : (Jvm.Cond.selects "CommaTablesModel$Table" ({ cls := "CommaTablesModel$Table", name := "rows", desc := "()I" } : Jvm.MethodName) ({ cls := "CommaTablesModel$Table", name := "rows", desc := "()I" } : Jvm.MethodName)) ∈ lw_all := lw_g (lw_at lw_m5 157 rfl) rfl
theorem q1161 : (Jvm.Cond.code ({ cls := "CommaTablesModel$Table", name := "rows", desc := "()I" } : Jvm.MethodName) prog_14_method_2_code (1 : Nat) (Option.some Jvm.ClassFile.FieldType.int)) ∈ lw_all := lw_g (lw_at lw_m5 158 rfl) rfl
theorem q1162 : (Jvm.Cond.methodLink "CommaTablesModel$Table" (19 : Nat) ({ cls := "java/util/ArrayList", name := "size", desc := "()I" } : Jvm.MethodName)) ∈ lw_all := lw_g (lw_at lw_m5 159 rfl) rfl
theorem q1164 : (Jvm.Cond.instanceMethod ({ cls := "CommaTablesModel$Table", name := "at", desc := "(II)LCommaTablesModel$Cell;" } : Jvm.MethodName)) ∈ lw_all := lw_g (lw_at lw_m5 161 rfl) rfl
theorem q1165 : (Jvm.Cond.selects "CommaTablesModel$Table" ({ cls := "CommaTablesModel$Table", name := "at", desc := "(II)LCommaTablesModel$Cell;" } : Jvm.MethodName) ({ cls := "CommaTablesModel$Table", name := "at", desc := "(II)LCommaTablesModel$Cell;" } : Jvm.MethodName)) ∈ lw_all := lw_g (lw_at lw_m5 162 rfl) rfl
theorem q1166 : (Jvm.Cond.code ({ cls := "CommaTablesModel$Table", name := "at", desc := "(II)LCommaTablesModel$Cell;" } : Jvm.MethodName) prog_14_method_3_code (3 : Nat) (Option.some (Jvm.ClassFile.FieldType.object "CommaTablesModel$Cell"))) ∈ lw_all := lw_g (lw_at lw_m5 163 rfl) rfl
theorem q1167 : (Jvm.Cond.methodLink "CommaTablesModel$Table" (23 : Nat) ({ cls := "java/util/ArrayList", name := "get", desc := "(I)Ljava/lang/Object;" } : Jvm.MethodName)) ∈ lw_all := lw_g (lw_at lw_m5 164 rfl) rfl
theorem q1168 : (Jvm.Cond.classLink "CommaTablesModel$Table" (27 : Nat) "CommaTablesModel$Cell") ∈ lw_all := lw_g (lw_at lw_m5 165 rfl) rfl
theorem q1340 : (Jvm.Cond.castable "CommaTablesModel$Table" "java/lang/Object") ∈ lw_tbl := lw_at lw_m6 97 rfl
theorem in_X11 : ∀ w ∈ wsX110, w ∈ lw_all := lw_in wsX110 [835, 837, 839] (by decide +kernel) (by decide +kernel)
/-! CommaTablesModel$Cell -/
set_option maxRecDepth 100000
def RX12 : String := "CommaTablesModel$Cell"
def TX12 : u_T := fun k => match k with
  | 0 => ("CommaTablesModel$Cell", "text", "Ljava/lang/String;", true)
  | _ => ("CommaTablesModel$Cell", "quoted", "Z", true)
def tyX12 : Nat → FieldType := fun k => match k with
  | 0 => .object "java/lang/String"
  | _ => .boolean
abbrev wsX120 : List Cond := u_ws RX12 TX12 2
theorem nmX12 : ∀ a, a < 2 → ∀ b, b < 2 → a ≠ b → (TX12 a).2.1 ≠ (TX12 b).2.1 := by decide +kernel
theorem tyX12_ok : ∀ k, k < 2 → parseFieldDescriptor (TX12 k).2.2.1 = some (tyX12 k) := by decide +kernel
abbrev cX12_init : ByteArray := prog_12_method_1_code
def yX12_init : MethodName := ⟨RX12, "<init>", "(Ljava/lang/String;Z)V"⟩
theorem dX12_init_0 : decode cX12_init 0 = .ok (.aload_n 0, 1) := by decide +kernel
theorem dX12_init_1 : decode cX12_init 1 = .ok (.invokespecial 1, 3) := by decide +kernel
theorem dX12_init_4 : decode cX12_init 4 = .ok (.aload_n 0, 1) := by decide +kernel
theorem dX12_init_5 : decode cX12_init 5 = .ok (.aload_n 1, 1) := by decide +kernel
theorem dX12_init_6 : decode cX12_init 6 = .ok (.putfield 7, 3) := by decide +kernel
theorem dX12_init_9 : decode cX12_init 9 = .ok (.aload_n 0, 1) := by decide +kernel
theorem dX12_init_10 : decode cX12_init 10 = .ok (.iload_n 2, 1) := by decide +kernel
theorem dX12_init_11 : decode cX12_init 11 = .ok (.putfield 13, 3) := by decide +kernel
theorem dX12_init_14 : decode cX12_init 14 = .ok (.return_, 1) := by decide +kernel
abbrev cX12_isMissing : ByteArray := prog_12_method_2_code
def yX12_isMissing : MethodName := ⟨RX12, "isMissing", "()Z"⟩
theorem dX12_isMissing_0 : decode cX12_isMissing 0 = .ok (.aload_n 0, 1) := by decide +kernel
theorem dX12_isMissing_1 : decode cX12_isMissing 1 = .ok (.getfield 13, 3) := by decide +kernel
theorem dX12_isMissing_4 : decode cX12_isMissing 4 = .ok (.ifCond .ne 17, 3) := by decide +kernel
theorem dX12_isMissing_7 : decode cX12_isMissing 7 = .ok (.aload_n 0, 1) := by decide +kernel
theorem dX12_isMissing_8 : decode cX12_isMissing 8 = .ok (.getfield 7, 3) := by decide +kernel
theorem dX12_isMissing_11 : decode cX12_isMissing 11 = .ok (.invokevirtual 17, 3) := by decide +kernel
theorem dX12_isMissing_14 : decode cX12_isMissing 14 = .ok (.ifCond .eq 7, 3) := by decide +kernel
theorem dX12_isMissing_17 : decode cX12_isMissing 17 = .ok (.iconst 1, 1) := by decide +kernel
theorem dX12_isMissing_18 : decode cX12_isMissing 18 = .ok (.goto 4, 3) := by decide +kernel
theorem dX12_isMissing_21 : decode cX12_isMissing 21 = .ok (.iconst 0, 1) := by decide +kernel
theorem dX12_isMissing_22 : decode cX12_isMissing 22 = .ok (.ireturn, 1) := by decide +kernel
theorem q74 : (Jvm.Cond.initialized "CommaTablesModel$Cell") ∈ lw_all := lw_g (lw_at lw_m1 31 rfl) rfl
theorem q1090 : (Jvm.Cond.selects "CommaTablesModel$Cell" ({ cls := "java/lang/Object", name := "getClass", desc := "()Ljava/lang/Class;" } : Jvm.MethodName) ({ cls := "java/lang/Object", name := "getClass", desc := "()Ljava/lang/Class;" } : Jvm.MethodName)) ∈ lw_all := lw_g (lw_at lw_m5 87 rfl) rfl
theorem q1112 : (Jvm.Cond.instantiable "CommaTablesModel$Cell" (2 : Nat)) ∈ lw_all := lw_g (lw_at lw_m5 109 rfl) rfl
theorem q1114 : (Jvm.Cond.instanceMethod ({ cls := "CommaTablesModel$Cell", name := "<init>", desc := "(Ljava/lang/String;Z)V" } : Jvm.MethodName)) ∈ lw_all := lw_g (lw_at lw_m5 111 rfl) rfl
theorem q1115 : (Jvm.Cond.code ({ cls := "CommaTablesModel$Cell", name := "<init>", desc := "(Ljava/lang/String;Z)V" } : Jvm.MethodName) prog_12_method_1_code (3 : Nat) (Option.none : Option Jvm.ClassFile.FieldType)) ∈ lw_all := lw_g (lw_at lw_m5 112 rfl) rfl
theorem q1116 : (Jvm.Cond.methodLink "CommaTablesModel$Cell" (1 : Nat) ({ cls := "java/lang/Object", name := "<init>", desc := "()V" } : Jvm.MethodName)) ∈ lw_all := lw_g (lw_at lw_m5 113 rfl) rfl
theorem q1117 : (Jvm.Cond.fieldLink "CommaTablesModel$Cell" (7 : Nat) "CommaTablesModel$Cell" "text" "Ljava/lang/String;") ∈ lw_all := lw_g (lw_at lw_m5 114 rfl) rfl
theorem q1119 : (Jvm.Cond.fieldLink "CommaTablesModel$Cell" (13 : Nat) "CommaTablesModel$Cell" "quoted" "Z") ∈ lw_all := lw_g (lw_at lw_m5 116 rfl) rfl
theorem q1121 : (Jvm.Cond.laysFinal "CommaTablesModel$Cell" "CommaTablesModel$Cell" "text" "Ljava/lang/String;") ∈ lw_all := lw_g (lw_at lw_m5 118 rfl) rfl
theorem q1122 : (Jvm.Cond.soleField "CommaTablesModel$Cell" "text") ∈ lw_all := lw_g (lw_at lw_m5 119 rfl) rfl
theorem q1123 : (Jvm.Cond.laysFinal "CommaTablesModel$Cell" "CommaTablesModel$Cell" "quoted" "Z") ∈ lw_all := lw_g (lw_at lw_m5 120 rfl) rfl
theorem q1124 : (Jvm.Cond.soleField "CommaTablesModel$Cell" "quoted") ∈ lw_all := lw_g (lw_at lw_m5 121 rfl) rfl
theorem q1125 : (Jvm.Cond.superclass "CommaTablesModel$Cell" "java/lang/Object") ∈ lw_all := lw_g (lw_at lw_m5 122 rfl) rfl
theorem q1170 : (Jvm.Cond.instanceMethod ({ cls := "CommaTablesModel$Cell", name := "isMissing", desc := "()Z" } : Jvm.MethodName)) ∈ lw_all := lw_g (lw_at lw_m5 167 rfl) rfl
theorem q1171 : (Jvm.Cond.selects "CommaTablesModel$Cell" ({ cls := "CommaTablesModel$Cell", name := "isMissing", desc := "()Z" } : Jvm.MethodName) ({ cls := "CommaTablesModel$Cell", name := "isMissing", desc := "()Z" } : Jvm.MethodName)) ∈ lw_all := lw_g (lw_at lw_m5 168 rfl) rfl
theorem q1172 : (Jvm.Cond.code ({ cls := "CommaTablesModel$Cell", name := "isMissing", desc := "()Z" } : Jvm.MethodName) prog_12_method_2_code (1 : Nat) (Option.some Jvm.ClassFile.FieldType.boolean)) ∈ lw_all := lw_g (lw_at lw_m5 169 rfl) rfl
theorem q1173 : (Jvm.Cond.methodLink "CommaTablesModel$Cell" (17 : Nat) ({ cls := "java/lang/String", name := "isEmpty", desc := "()Z" } : Jvm.MethodName)) ∈ lw_all := lw_g (lw_at lw_m5 170 rfl) rfl
theorem q1355 : (Jvm.Cond.castable "CommaTablesModel$Cell" "java/lang/Object") ∈ lw_tbl := lw_at lw_m6 112 rfl
theorem in_X12 : ∀ w ∈ wsX120, w ∈ lw_all := lw_in wsX120 [1121, 1123] (by decide +kernel) (by decide +kernel)
/-! CommaTablesModel$Soft -/
set_option maxRecDepth 100000
def RX14 : String := "CommaTablesModel$Soft"
abbrev cX14_of : ByteArray := prog_13_method_14_code
def yX14_of : MethodName := ⟨RX14, "of", "(JZ)J"⟩
theorem dX14_of_0 : decode cX14_of 0 = .ok (.lload_n 0, 1) := by decide +kernel
theorem dX14_of_1 : decode cX14_of 1 = .ok (.lconst 0, 1) := by decide +kernel
theorem dX14_of_2 : decode cX14_of 2 = .ok (.lcmp, 1) := by decide +kernel
theorem dX14_of_3 : decode cX14_of 3 = .ok (.ifCond .ne 5, 3) := by decide +kernel
theorem dX14_of_6 : decode cX14_of 6 = .ok (.lconst 0, 1) := by decide +kernel
theorem dX14_of_7 : decode cX14_of 7 = .ok (.lreturn, 1) := by decide +kernel
theorem dX14_of_8 : decode cX14_of 8 = .ok (.lload_n 0, 1) := by decide +kernel
theorem dX14_of_9 : decode cX14_of 9 = .ok (.lconst 0, 1) := by decide +kernel
theorem dX14_of_10 : decode cX14_of 10 = .ok (.lcmp, 1) := by decide +kernel
theorem dX14_of_11 : decode cX14_of 11 = .ok (.ifCond .ge 11, 3) := by decide +kernel
theorem dX14_of_14 : decode cX14_of 14 = .ok (.iload_n 2, 1) := by decide +kernel
theorem dX14_of_15 : decode cX14_of 15 = .ok (.ifCond .ne 7, 3) := by decide +kernel
theorem dX14_of_18 : decode cX14_of 18 = .ok (.iconst 1, 1) := by decide +kernel
theorem dX14_of_19 : decode cX14_of 19 = .ok (.goto 4, 3) := by decide +kernel
theorem dX14_of_22 : decode cX14_of 22 = .ok (.iconst 0, 1) := by decide +kernel
theorem dX14_of_23 : decode cX14_of 23 = .ok (.istore_n 3, 1) := by decide +kernel
theorem dX14_of_24 : decode cX14_of 24 = .ok (.iload_n 3, 1) := by decide +kernel
theorem dX14_of_25 : decode cX14_of 25 = .ok (.ifCond .eq 8, 3) := by decide +kernel
theorem dX14_of_28 : decode cX14_of 28 = .ok (.lload_n 0, 1) := by decide +kernel
theorem dX14_of_29 : decode cX14_of 29 = .ok (.lneg, 1) := by decide +kernel
theorem dX14_of_30 : decode cX14_of 30 = .ok (.goto 4, 3) := by decide +kernel
theorem dX14_of_33 : decode cX14_of 33 = .ok (.lload_n 0, 1) := by decide +kernel
theorem dX14_of_34 : decode cX14_of 34 = .ok (.lstore 4, 2) := by decide +kernel
theorem dX14_of_36 : decode cX14_of 36 = .ok (.lload 4, 2) := by decide +kernel
theorem dX14_of_38 : decode cX14_of 38 = .ok (.lconst 0, 1) := by decide +kernel
theorem dX14_of_39 : decode cX14_of 39 = .ok (.lcmp, 1) := by decide +kernel
theorem dX14_of_40 : decode cX14_of 40 = .ok (.ifCond .le 21, 3) := by decide +kernel
theorem dX14_of_43 : decode cX14_of 43 = .ok (.lload 4, 2) := by decide +kernel
theorem dX14_of_45 : decode cX14_of 45 = .ok (.ldc2_w 52, 3) := by decide +kernel
theorem dX14_of_48 : decode cX14_of 48 = .ok (.lcmp, 1) := by decide +kernel
theorem dX14_of_49 : decode cX14_of 49 = .ok (.ifCond .ge 12, 3) := by decide +kernel
theorem dX14_of_52 : decode cX14_of 52 = .ok (.iload_n 3, 1) := by decide +kernel
theorem dX14_of_53 : decode cX14_of 53 = .ok (.lload 4, 2) := by decide +kernel
theorem dX14_of_55 : decode cX14_of 55 = .ok (.iconst 0, 1) := by decide +kernel
theorem dX14_of_56 : decode cX14_of 56 = .ok (.iconst 0, 1) := by decide +kernel
theorem dX14_of_57 : decode cX14_of 57 = .ok (.invokestatic 44, 3) := by decide +kernel
theorem dX14_of_60 : decode cX14_of 60 = .ok (.lreturn, 1) := by decide +kernel
theorem dX14_of_61 : decode cX14_of 61 = .ok (.iload_n 3, 1) := by decide +kernel
theorem dX14_of_62 : decode cX14_of 62 = .ok (.lload 4, 2) := by decide +kernel
theorem dX14_of_64 : decode cX14_of 64 = .ok (.iconst 2, 1) := by decide +kernel
theorem dX14_of_65 : decode cX14_of 65 = .ok (.lushr, 1) := by decide +kernel
theorem dX14_of_66 : decode cX14_of 66 = .ok (.iconst 2, 1) := by decide +kernel
theorem dX14_of_67 : decode cX14_of 67 = .ok (.lload 4, 2) := by decide +kernel
theorem dX14_of_69 : decode cX14_of 69 = .ok (.ldc2_w 54, 3) := by decide +kernel
theorem dX14_of_72 : decode cX14_of 72 = .ok (.land, 1) := by decide +kernel
theorem dX14_of_73 : decode cX14_of 73 = .ok (.lconst 0, 1) := by decide +kernel
theorem dX14_of_74 : decode cX14_of 74 = .ok (.lcmp, 1) := by decide +kernel
theorem dX14_of_75 : decode cX14_of 75 = .ok (.ifCond .eq 7, 3) := by decide +kernel
theorem dX14_of_78 : decode cX14_of 78 = .ok (.iconst 1, 1) := by decide +kernel
theorem dX14_of_79 : decode cX14_of 79 = .ok (.goto 4, 3) := by decide +kernel
theorem dX14_of_82 : decode cX14_of 82 = .ok (.iconst 0, 1) := by decide +kernel
theorem dX14_of_83 : decode cX14_of 83 = .ok (.invokestatic 44, 3) := by decide +kernel
theorem dX14_of_86 : decode cX14_of 86 = .ok (.lreturn, 1) := by decide +kernel
abbrev cX14_made : ByteArray := prog_13_method_9_code
def yX14_made : MethodName := ⟨RX14, "made", "(ZJIZ)J"⟩
theorem dX14_made_0 : decode cX14_made 0 = .ok (.lload_n 1, 1) := by decide +kernel
theorem dX14_made_1 : decode cX14_made 1 = .ok (.iload_n 3, 1) := by decide +kernel
theorem dX14_made_2 : decode cX14_made 2 = .ok (.iload 4, 2) := by decide +kernel
theorem dX14_made_4 : decode cX14_made 4 = .ok (.bipush 53, 2) := by decide +kernel
theorem dX14_made_6 : decode cX14_made 6 = .ok (.sipush 1023, 3) := by decide +kernel
theorem dX14_made_9 : decode cX14_made 9 = .ok (.invokestatic 25, 3) := by decide +kernel
theorem dX14_made_12 : decode cX14_made 12 = .ok (.lstore 5, 2) := by decide +kernel
theorem dX14_made_14 : decode cX14_made 14 = .ok (.iload_n 0, 1) := by decide +kernel
theorem dX14_made_15 : decode cX14_made 15 = .ok (.ifCond .eq 12, 3) := by decide +kernel
theorem dX14_made_18 : decode cX14_made 18 = .ok (.lload 5, 2) := by decide +kernel
theorem dX14_made_20 : decode cX14_made 20 = .ok (.ldc2_w 15, 3) := by decide +kernel
theorem dX14_made_23 : decode cX14_made 23 = .ok (.lor, 1) := by decide +kernel
theorem dX14_made_24 : decode cX14_made 24 = .ok (.goto 5, 3) := by decide +kernel
theorem dX14_made_27 : decode cX14_made 27 = .ok (.lload 5, 2) := by decide +kernel
theorem dX14_made_29 : decode cX14_made 29 = .ok (.lreturn, 1) := by decide +kernel
abbrev cX14_rounded : ByteArray := prog_13_method_8_code
def yX14_rounded : MethodName := ⟨RX14, "rounded", "(JIZII)J"⟩
theorem dX14_rounded_0 : decode cX14_rounded 0 = .ok (.lload_n 0, 1) := by decide +kernel
theorem dX14_rounded_1 : decode cX14_rounded 1 = .ok (.lstore 6, 2) := by decide +kernel
theorem dX14_rounded_3 : decode cX14_rounded 3 = .ok (.iload_n 2, 1) := by decide +kernel
theorem dX14_rounded_4 : decode cX14_rounded 4 = .ok (.istore 8, 2) := by decide +kernel
theorem dX14_rounded_6 : decode cX14_rounded 6 = .ok (.lload 6, 2) := by decide +kernel
theorem dX14_rounded_8 : decode cX14_rounded 8 = .ok (.ldc2_w 23, 3) := by decide +kernel
theorem dX14_rounded_11 : decode cX14_rounded 11 = .ok (.lcmp, 1) := by decide +kernel
theorem dX14_rounded_12 : decode cX14_rounded 12 = .ok (.ifCond .ge 15, 3) := by decide +kernel
theorem dX14_rounded_15 : decode cX14_rounded 15 = .ok (.lload 6, 2) := by decide +kernel
theorem dX14_rounded_17 : decode cX14_rounded 17 = .ok (.iconst 1, 1) := by decide +kernel
theorem dX14_rounded_18 : decode cX14_rounded 18 = .ok (.lshl, 1) := by decide +kernel
theorem dX14_rounded_19 : decode cX14_rounded 19 = .ok (.lstore 6, 2) := by decide +kernel
theorem dX14_rounded_21 : decode cX14_rounded 21 = .ok (.iinc 8 (-1), 3) := by decide +kernel
theorem dX14_rounded_24 : decode cX14_rounded 24 = .ok (.goto (-18), 3) := by decide +kernel
theorem dX14_rounded_27 : decode cX14_rounded 27 = .ok (.iload 8, 2) := by decide +kernel
theorem dX14_rounded_29 : decode cX14_rounded 29 = .ok (.bipush 61, 2) := by decide +kernel
theorem dX14_rounded_31 : decode cX14_rounded 31 = .ok (.iadd, 1) := by decide +kernel
theorem dX14_rounded_32 : decode cX14_rounded 32 = .ok (.iload 5, 2) := by decide +kernel
theorem dX14_rounded_34 : decode cX14_rounded 34 = .ok (.iadd, 1) := by decide +kernel
theorem dX14_rounded_35 : decode cX14_rounded 35 = .ok (.istore 9, 2) := by decide +kernel
theorem dX14_rounded_37 : decode cX14_rounded 37 = .ok (.iconst 2, 1) := by decide +kernel
theorem dX14_rounded_38 : decode cX14_rounded 38 = .ok (.iload 5, 2) := by decide +kernel
theorem dX14_rounded_40 : decode cX14_rounded 40 = .ok (.imul, 1) := by decide +kernel
theorem dX14_rounded_41 : decode cX14_rounded 41 = .ok (.iconst 1, 1) := by decide +kernel
theorem dX14_rounded_42 : decode cX14_rounded 42 = .ok (.iadd, 1) := by decide +kernel
theorem dX14_rounded_43 : decode cX14_rounded 43 = .ok (.istore 10, 2) := by decide +kernel
theorem dX14_rounded_45 : decode cX14_rounded 45 = .ok (.iload 9, 2) := by decide +kernel
theorem dX14_rounded_47 : decode cX14_rounded 47 = .ok (.iload 10, 2) := by decide +kernel
theorem dX14_rounded_49 : decode cX14_rounded 49 = .ok (.if_icmp .lt 12, 3) := by decide +kernel
theorem dX14_rounded_52 : decode cX14_rounded 52 = .ok (.iload 10, 2) := by decide +kernel
theorem dX14_rounded_54 : decode cX14_rounded 54 = .ok (.i2l, 1) := by decide +kernel
theorem dX14_rounded_55 : decode cX14_rounded 55 = .ok (.iload 4, 2) := by decide +kernel
theorem dX14_rounded_57 : decode cX14_rounded 57 = .ok (.iconst 1, 1) := by decide +kernel
theorem dX14_rounded_58 : decode cX14_rounded 58 = .ok (.isub, 1) := by decide +kernel
theorem dX14_rounded_59 : decode cX14_rounded 59 = .ok (.lshl, 1) := by decide +kernel
theorem dX14_rounded_60 : decode cX14_rounded 60 = .ok (.lreturn, 1) := by decide +kernel
theorem dX14_rounded_61 : decode cX14_rounded 61 = .ok (.bipush 62, 2) := by decide +kernel
theorem dX14_rounded_63 : decode cX14_rounded 63 = .ok (.iload 4, 2) := by decide +kernel
theorem dX14_rounded_65 : decode cX14_rounded 65 = .ok (.isub, 1) := by decide +kernel
theorem dX14_rounded_66 : decode cX14_rounded 66 = .ok (.istore 11, 2) := by decide +kernel
theorem dX14_rounded_68 : decode cX14_rounded 68 = .ok (.iload 9, 2) := by decide +kernel
theorem dX14_rounded_70 : decode cX14_rounded 70 = .ok (.ifCond .gt 12, 3) := by decide +kernel
theorem dX14_rounded_73 : decode cX14_rounded 73 = .ok (.iload 11, 2) := by decide +kernel
theorem dX14_rounded_75 : decode cX14_rounded 75 = .ok (.iconst 1, 1) := by decide +kernel
theorem dX14_rounded_76 : decode cX14_rounded 76 = .ok (.iadd, 1) := by decide +kernel
theorem dX14_rounded_77 : decode cX14_rounded 77 = .ok (.iload 9, 2) := by decide +kernel
theorem dX14_rounded_79 : decode cX14_rounded 79 = .ok (.isub, 1) := by decide +kernel
theorem dX14_rounded_80 : decode cX14_rounded 80 = .ok (.istore 11, 2) := by decide +kernel
theorem dX14_rounded_82 : decode cX14_rounded 82 = .ok (.iload 11, 2) := by decide +kernel
theorem dX14_rounded_84 : decode cX14_rounded 84 = .ok (.bipush 62, 2) := by decide +kernel
theorem dX14_rounded_86 : decode cX14_rounded 86 = .ok (.if_icmp .le 5, 3) := by decide +kernel
theorem dX14_rounded_89 : decode cX14_rounded 89 = .ok (.lconst 0, 1) := by decide +kernel
theorem dX14_rounded_90 : decode cX14_rounded 90 = .ok (.lreturn, 1) := by decide +kernel
theorem dX14_rounded_91 : decode cX14_rounded 91 = .ok (.lload 6, 2) := by decide +kernel
theorem dX14_rounded_93 : decode cX14_rounded 93 = .ok (.iload 11, 2) := by decide +kernel
theorem dX14_rounded_95 : decode cX14_rounded 95 = .ok (.lushr, 1) := by decide +kernel
theorem dX14_rounded_96 : decode cX14_rounded 96 = .ok (.lstore 12, 2) := by decide +kernel
theorem dX14_rounded_98 : decode cX14_rounded 98 = .ok (.lload 6, 2) := by decide +kernel
theorem dX14_rounded_100 : decode cX14_rounded 100 = .ok (.lconst 1, 1) := by decide +kernel
theorem dX14_rounded_101 : decode cX14_rounded 101 = .ok (.iload 11, 2) := by decide +kernel
theorem dX14_rounded_103 : decode cX14_rounded 103 = .ok (.lshl, 1) := by decide +kernel
theorem dX14_rounded_104 : decode cX14_rounded 104 = .ok (.lconst 1, 1) := by decide +kernel
theorem dX14_rounded_105 : decode cX14_rounded 105 = .ok (.lsub, 1) := by decide +kernel
theorem dX14_rounded_106 : decode cX14_rounded 106 = .ok (.land, 1) := by decide +kernel
theorem dX14_rounded_107 : decode cX14_rounded 107 = .ok (.lstore 14, 2) := by decide +kernel
theorem dX14_rounded_109 : decode cX14_rounded 109 = .ok (.lconst 1, 1) := by decide +kernel
theorem dX14_rounded_110 : decode cX14_rounded 110 = .ok (.iload 11, 2) := by decide +kernel
theorem dX14_rounded_112 : decode cX14_rounded 112 = .ok (.iconst 1, 1) := by decide +kernel
theorem dX14_rounded_113 : decode cX14_rounded 113 = .ok (.isub, 1) := by decide +kernel
theorem dX14_rounded_114 : decode cX14_rounded 114 = .ok (.lshl, 1) := by decide +kernel
theorem dX14_rounded_115 : decode cX14_rounded 115 = .ok (.lstore 16, 2) := by decide +kernel
theorem dX14_rounded_117 : decode cX14_rounded 117 = .ok (.lload 14, 2) := by decide +kernel
theorem dX14_rounded_119 : decode cX14_rounded 119 = .ok (.lload 16, 2) := by decide +kernel
theorem dX14_rounded_121 : decode cX14_rounded 121 = .ok (.lcmp, 1) := by decide +kernel
theorem dX14_rounded_122 : decode cX14_rounded 122 = .ok (.ifCond .gt 24, 3) := by decide +kernel
theorem dX14_rounded_125 : decode cX14_rounded 125 = .ok (.lload 14, 2) := by decide +kernel
theorem dX14_rounded_127 : decode cX14_rounded 127 = .ok (.lload 16, 2) := by decide +kernel
theorem dX14_rounded_129 : decode cX14_rounded 129 = .ok (.lcmp, 1) := by decide +kernel
theorem dX14_rounded_130 : decode cX14_rounded 130 = .ok (.ifCond .ne 22, 3) := by decide +kernel
theorem dX14_rounded_133 : decode cX14_rounded 133 = .ok (.iload_n 3, 1) := by decide +kernel
theorem dX14_rounded_134 : decode cX14_rounded 134 = .ok (.ifCond .ne 12, 3) := by decide +kernel
theorem dX14_rounded_137 : decode cX14_rounded 137 = .ok (.lload 12, 2) := by decide +kernel
theorem dX14_rounded_139 : decode cX14_rounded 139 = .ok (.lconst 1, 1) := by decide +kernel
theorem dX14_rounded_140 : decode cX14_rounded 140 = .ok (.land, 1) := by decide +kernel
theorem dX14_rounded_141 : decode cX14_rounded 141 = .ok (.lconst 1, 1) := by decide +kernel
theorem dX14_rounded_142 : decode cX14_rounded 142 = .ok (.lcmp, 1) := by decide +kernel
theorem dX14_rounded_143 : decode cX14_rounded 143 = .ok (.ifCond .ne 9, 3) := by decide +kernel
theorem dX14_rounded_146 : decode cX14_rounded 146 = .ok (.lload 12, 2) := by decide +kernel
theorem dX14_rounded_148 : decode cX14_rounded 148 = .ok (.lconst 1, 1) := by decide +kernel
theorem dX14_rounded_149 : decode cX14_rounded 149 = .ok (.ladd, 1) := by decide +kernel
theorem dX14_rounded_150 : decode cX14_rounded 150 = .ok (.lstore 12, 2) := by decide +kernel
theorem dX14_rounded_152 : decode cX14_rounded 152 = .ok (.iload 9, 2) := by decide +kernel
theorem dX14_rounded_154 : decode cX14_rounded 154 = .ok (.ifCond .gt 8, 3) := by decide +kernel
theorem dX14_rounded_157 : decode cX14_rounded 157 = .ok (.lload 12, 2) := by decide +kernel
theorem dX14_rounded_159 : decode cX14_rounded 159 = .ok (.goto 16, 3) := by decide +kernel
theorem dX14_rounded_162 : decode cX14_rounded 162 = .ok (.iload 9, 2) := by decide +kernel
theorem dX14_rounded_164 : decode cX14_rounded 164 = .ok (.iconst 1, 1) := by decide +kernel
theorem dX14_rounded_165 : decode cX14_rounded 165 = .ok (.isub, 1) := by decide +kernel
theorem dX14_rounded_166 : decode cX14_rounded 166 = .ok (.i2l, 1) := by decide +kernel
theorem dX14_rounded_167 : decode cX14_rounded 167 = .ok (.iload 4, 2) := by decide +kernel
theorem dX14_rounded_169 : decode cX14_rounded 169 = .ok (.iconst 1, 1) := by decide +kernel
theorem dX14_rounded_170 : decode cX14_rounded 170 = .ok (.isub, 1) := by decide +kernel
theorem dX14_rounded_171 : decode cX14_rounded 171 = .ok (.lshl, 1) := by decide +kernel
theorem dX14_rounded_172 : decode cX14_rounded 172 = .ok (.lload 12, 2) := by decide +kernel
theorem dX14_rounded_174 : decode cX14_rounded 174 = .ok (.ladd, 1) := by decide +kernel
theorem dX14_rounded_175 : decode cX14_rounded 175 = .ok (.lreturn, 1) := by decide +kernel
abbrev cX14_divide : ByteArray := prog_13_method_12_code
def yX14_divide : MethodName := ⟨RX14, "divide", "(JJ)J"⟩
theorem dX14_divide_0 : decode cX14_divide 0 = .ok (.lload_n 0, 1) := by decide +kernel
theorem dX14_divide_1 : decode cX14_divide 1 = .ok (.lload_n 2, 1) := by decide +kernel
theorem dX14_divide_2 : decode cX14_divide 2 = .ok (.lxor, 1) := by decide +kernel
theorem dX14_divide_3 : decode cX14_divide 3 = .ok (.ldc2_w 15, 3) := by decide +kernel
theorem dX14_divide_6 : decode cX14_divide 6 = .ok (.land, 1) := by decide +kernel
theorem dX14_divide_7 : decode cX14_divide 7 = .ok (.lstore 4, 2) := by decide +kernel
theorem dX14_divide_9 : decode cX14_divide 9 = .ok (.lload_n 0, 1) := by decide +kernel
theorem dX14_divide_10 : decode cX14_divide 10 = .ok (.invokestatic 29, 3) := by decide +kernel
theorem dX14_divide_13 : decode cX14_divide 13 = .ok (.ifCond .ne 10, 3) := by decide +kernel
theorem dX14_divide_16 : decode cX14_divide 16 = .ok (.lload_n 2, 1) := by decide +kernel
theorem dX14_divide_17 : decode cX14_divide 17 = .ok (.invokestatic 33, 3) := by decide +kernel
theorem dX14_divide_20 : decode cX14_divide 20 = .ok (.ifCond .eq 10, 3) := by decide +kernel
theorem dX14_divide_23 : decode cX14_divide 23 = .ok (.lload 4, 2) := by decide +kernel
theorem dX14_divide_25 : decode cX14_divide 25 = .ok (.ldc2_w 13, 3) := by decide +kernel
theorem dX14_divide_28 : decode cX14_divide 28 = .ok (.lor, 1) := by decide +kernel
theorem dX14_divide_29 : decode cX14_divide 29 = .ok (.lreturn, 1) := by decide +kernel
theorem dX14_divide_30 : decode cX14_divide 30 = .ok (.lload_n 0, 1) := by decide +kernel
theorem dX14_divide_31 : decode cX14_divide 31 = .ok (.invokestatic 33, 3) := by decide +kernel
theorem dX14_divide_34 : decode cX14_divide 34 = .ok (.ifCond .ne 10, 3) := by decide +kernel
theorem dX14_divide_37 : decode cX14_divide 37 = .ok (.lload_n 2, 1) := by decide +kernel
theorem dX14_divide_38 : decode cX14_divide 38 = .ok (.invokestatic 29, 3) := by decide +kernel
theorem dX14_divide_41 : decode cX14_divide 41 = .ok (.ifCond .eq 6, 3) := by decide +kernel
theorem dX14_divide_44 : decode cX14_divide 44 = .ok (.lload 4, 2) := by decide +kernel
theorem dX14_divide_46 : decode cX14_divide 46 = .ok (.lreturn, 1) := by decide +kernel
theorem dX14_divide_47 : decode cX14_divide 47 = .ok (.lload_n 0, 1) := by decide +kernel
theorem dX14_divide_48 : decode cX14_divide 48 = .ok (.invokestatic 40, 3) := by decide +kernel
theorem dX14_divide_51 : decode cX14_divide 51 = .ok (.lstore 6, 2) := by decide +kernel
theorem dX14_divide_53 : decode cX14_divide 53 = .ok (.lload_n 2, 1) := by decide +kernel
theorem dX14_divide_54 : decode cX14_divide 54 = .ok (.invokestatic 40, 3) := by decide +kernel
theorem dX14_divide_57 : decode cX14_divide 57 = .ok (.lstore 8, 2) := by decide +kernel
theorem dX14_divide_59 : decode cX14_divide 59 = .ok (.lconst 0, 1) := by decide +kernel
theorem dX14_divide_60 : decode cX14_divide 60 = .ok (.lstore 10, 2) := by decide +kernel
theorem dX14_divide_62 : decode cX14_divide 62 = .ok (.iconst 0, 1) := by decide +kernel
theorem dX14_divide_63 : decode cX14_divide 63 = .ok (.istore 12, 2) := by decide +kernel
theorem dX14_divide_65 : decode cX14_divide 65 = .ok (.iload 12, 2) := by decide +kernel
theorem dX14_divide_67 : decode cX14_divide 67 = .ok (.bipush 57, 2) := by decide +kernel
theorem dX14_divide_69 : decode cX14_divide 69 = .ok (.if_icmp .ge 42, 3) := by decide +kernel
theorem dX14_divide_72 : decode cX14_divide 72 = .ok (.lload 10, 2) := by decide +kernel
theorem dX14_divide_74 : decode cX14_divide 74 = .ok (.iconst 1, 1) := by decide +kernel
theorem dX14_divide_75 : decode cX14_divide 75 = .ok (.lshl, 1) := by decide +kernel
theorem dX14_divide_76 : decode cX14_divide 76 = .ok (.lstore 10, 2) := by decide +kernel
theorem dX14_divide_78 : decode cX14_divide 78 = .ok (.lload 6, 2) := by decide +kernel
theorem dX14_divide_80 : decode cX14_divide 80 = .ok (.lload 8, 2) := by decide +kernel
theorem dX14_divide_82 : decode cX14_divide 82 = .ok (.lcmp, 1) := by decide +kernel
theorem dX14_divide_83 : decode cX14_divide 83 = .ok (.ifCond .lt 16, 3) := by decide +kernel
theorem dX14_divide_86 : decode cX14_divide 86 = .ok (.lload 6, 2) := by decide +kernel
theorem dX14_divide_88 : decode cX14_divide 88 = .ok (.lload 8, 2) := by decide +kernel
theorem dX14_divide_90 : decode cX14_divide 90 = .ok (.lsub, 1) := by decide +kernel
theorem dX14_divide_91 : decode cX14_divide 91 = .ok (.lstore 6, 2) := by decide +kernel
theorem dX14_divide_93 : decode cX14_divide 93 = .ok (.lload 10, 2) := by decide +kernel
theorem dX14_divide_95 : decode cX14_divide 95 = .ok (.lconst 1, 1) := by decide +kernel
theorem dX14_divide_96 : decode cX14_divide 96 = .ok (.lor, 1) := by decide +kernel
theorem dX14_divide_97 : decode cX14_divide 97 = .ok (.lstore 10, 2) := by decide +kernel
theorem dX14_divide_99 : decode cX14_divide 99 = .ok (.lload 6, 2) := by decide +kernel
theorem dX14_divide_101 : decode cX14_divide 101 = .ok (.iconst 1, 1) := by decide +kernel
theorem dX14_divide_102 : decode cX14_divide 102 = .ok (.lshl, 1) := by decide +kernel
theorem dX14_divide_103 : decode cX14_divide 103 = .ok (.lstore 6, 2) := by decide +kernel
theorem dX14_divide_105 : decode cX14_divide 105 = .ok (.iinc 12 1, 3) := by decide +kernel
theorem dX14_divide_108 : decode cX14_divide 108 = .ok (.goto (-43), 3) := by decide +kernel
theorem dX14_divide_111 : decode cX14_divide 111 = .ok (.lload 4, 2) := by decide +kernel
theorem dX14_divide_113 : decode cX14_divide 113 = .ok (.lconst 0, 1) := by decide +kernel
theorem dX14_divide_114 : decode cX14_divide 114 = .ok (.lcmp, 1) := by decide +kernel
theorem dX14_divide_115 : decode cX14_divide 115 = .ok (.ifCond .eq 7, 3) := by decide +kernel
theorem dX14_divide_118 : decode cX14_divide 118 = .ok (.iconst 1, 1) := by decide +kernel
theorem dX14_divide_119 : decode cX14_divide 119 = .ok (.goto 4, 3) := by decide +kernel
theorem dX14_divide_122 : decode cX14_divide 122 = .ok (.iconst 0, 1) := by decide +kernel
theorem dX14_divide_123 : decode cX14_divide 123 = .ok (.lload 10, 2) := by decide +kernel
theorem dX14_divide_125 : decode cX14_divide 125 = .ok (.lload_n 0, 1) := by decide +kernel
theorem dX14_divide_126 : decode cX14_divide 126 = .ok (.invokestatic 36, 3) := by decide +kernel
theorem dX14_divide_129 : decode cX14_divide 129 = .ok (.lload_n 2, 1) := by decide +kernel
theorem dX14_divide_130 : decode cX14_divide 130 = .ok (.invokestatic 36, 3) := by decide +kernel
theorem dX14_divide_133 : decode cX14_divide 133 = .ok (.isub, 1) := by decide +kernel
theorem dX14_divide_134 : decode cX14_divide 134 = .ok (.bipush 56, 2) := by decide +kernel
theorem dX14_divide_136 : decode cX14_divide 136 = .ok (.isub, 1) := by decide +kernel
theorem dX14_divide_137 : decode cX14_divide 137 = .ok (.lload 6, 2) := by decide +kernel
theorem dX14_divide_139 : decode cX14_divide 139 = .ok (.lconst 0, 1) := by decide +kernel
theorem dX14_divide_140 : decode cX14_divide 140 = .ok (.lcmp, 1) := by decide +kernel
theorem dX14_divide_141 : decode cX14_divide 141 = .ok (.ifCond .eq 7, 3) := by decide +kernel
theorem dX14_divide_144 : decode cX14_divide 144 = .ok (.iconst 1, 1) := by decide +kernel
theorem dX14_divide_145 : decode cX14_divide 145 = .ok (.goto 4, 3) := by decide +kernel
theorem dX14_divide_148 : decode cX14_divide 148 = .ok (.iconst 0, 1) := by decide +kernel
theorem dX14_divide_149 : decode cX14_divide 149 = .ok (.invokestatic 44, 3) := by decide +kernel
theorem dX14_divide_152 : decode cX14_divide 152 = .ok (.lreturn, 1) := by decide +kernel
abbrev cX14_isInfinite : ByteArray := prog_13_method_3_code
def yX14_isInfinite : MethodName := ⟨RX14, "isInfinite", "(J)Z"⟩
theorem dX14_isInfinite_0 : decode cX14_isInfinite 0 = .ok (.lload_n 0, 1) := by decide +kernel
theorem dX14_isInfinite_1 : decode cX14_isInfinite 1 = .ok (.ldc2_w 9, 3) := by decide +kernel
theorem dX14_isInfinite_4 : decode cX14_isInfinite 4 = .ok (.land, 1) := by decide +kernel
theorem dX14_isInfinite_5 : decode cX14_isInfinite 5 = .ok (.ldc2_w 13, 3) := by decide +kernel
theorem dX14_isInfinite_8 : decode cX14_isInfinite 8 = .ok (.lcmp, 1) := by decide +kernel
theorem dX14_isInfinite_9 : decode cX14_isInfinite 9 = .ok (.ifCond .ne 7, 3) := by decide +kernel
theorem dX14_isInfinite_12 : decode cX14_isInfinite 12 = .ok (.iconst 1, 1) := by decide +kernel
theorem dX14_isInfinite_13 : decode cX14_isInfinite 13 = .ok (.goto 4, 3) := by decide +kernel
theorem dX14_isInfinite_16 : decode cX14_isInfinite 16 = .ok (.iconst 0, 1) := by decide +kernel
theorem dX14_isInfinite_17 : decode cX14_isInfinite 17 = .ok (.ireturn, 1) := by decide +kernel
abbrev cX14_isZero : ByteArray := prog_13_method_4_code
def yX14_isZero : MethodName := ⟨RX14, "isZero", "(J)Z"⟩
theorem dX14_isZero_0 : decode cX14_isZero 0 = .ok (.lload_n 0, 1) := by decide +kernel
theorem dX14_isZero_1 : decode cX14_isZero 1 = .ok (.ldc2_w 9, 3) := by decide +kernel
theorem dX14_isZero_4 : decode cX14_isZero 4 = .ok (.land, 1) := by decide +kernel
theorem dX14_isZero_5 : decode cX14_isZero 5 = .ok (.lconst 0, 1) := by decide +kernel
theorem dX14_isZero_6 : decode cX14_isZero 6 = .ok (.lcmp, 1) := by decide +kernel
theorem dX14_isZero_7 : decode cX14_isZero 7 = .ok (.ifCond .ne 7, 3) := by decide +kernel
theorem dX14_isZero_10 : decode cX14_isZero 10 = .ok (.iconst 1, 1) := by decide +kernel
theorem dX14_isZero_11 : decode cX14_isZero 11 = .ok (.goto 4, 3) := by decide +kernel
theorem dX14_isZero_14 : decode cX14_isZero 14 = .ok (.iconst 0, 1) := by decide +kernel
theorem dX14_isZero_15 : decode cX14_isZero 15 = .ok (.ireturn, 1) := by decide +kernel
abbrev cX14_significand : ByteArray := prog_13_method_7_code
def yX14_significand : MethodName := ⟨RX14, "significand", "(J)J"⟩
theorem dX14_significand_0 : decode cX14_significand 0 = .ok (.lload_n 0, 1) := by decide +kernel
theorem dX14_significand_1 : decode cX14_significand 1 = .ok (.ldc2_w 19, 3) := by decide +kernel
theorem dX14_significand_4 : decode cX14_significand 4 = .ok (.land, 1) := by decide +kernel
theorem dX14_significand_5 : decode cX14_significand 5 = .ok (.lstore_n 2, 1) := by decide +kernel
theorem dX14_significand_6 : decode cX14_significand 6 = .ok (.lload_n 0, 1) := by decide +kernel
theorem dX14_significand_7 : decode cX14_significand 7 = .ok (.bipush 52, 2) := by decide +kernel
theorem dX14_significand_9 : decode cX14_significand 9 = .ok (.lshr, 1) := by decide +kernel
theorem dX14_significand_10 : decode cX14_significand 10 = .ok (.ldc2_w 17, 3) := by decide +kernel
theorem dX14_significand_13 : decode cX14_significand 13 = .ok (.land, 1) := by decide +kernel
theorem dX14_significand_14 : decode cX14_significand 14 = .ok (.lconst 0, 1) := by decide +kernel
theorem dX14_significand_15 : decode cX14_significand 15 = .ok (.lcmp, 1) := by decide +kernel
theorem dX14_significand_16 : decode cX14_significand 16 = .ok (.ifCond .le 9, 3) := by decide +kernel
theorem dX14_significand_19 : decode cX14_significand 19 = .ok (.lload_n 2, 1) := by decide +kernel
theorem dX14_significand_20 : decode cX14_significand 20 = .ok (.ldc2_w 21, 3) := by decide +kernel
theorem dX14_significand_23 : decode cX14_significand 23 = .ok (.lor, 1) := by decide +kernel
theorem dX14_significand_24 : decode cX14_significand 24 = .ok (.lreturn, 1) := by decide +kernel
theorem dX14_significand_25 : decode cX14_significand 25 = .ok (.lload_n 2, 1) := by decide +kernel
theorem dX14_significand_26 : decode cX14_significand 26 = .ok (.ldc2_w 21, 3) := by decide +kernel
theorem dX14_significand_29 : decode cX14_significand 29 = .ok (.lcmp, 1) := by decide +kernel
theorem dX14_significand_30 : decode cX14_significand 30 = .ok (.ifCond .ge 10, 3) := by decide +kernel
theorem dX14_significand_33 : decode cX14_significand 33 = .ok (.lload_n 2, 1) := by decide +kernel
theorem dX14_significand_34 : decode cX14_significand 34 = .ok (.iconst 1, 1) := by decide +kernel
theorem dX14_significand_35 : decode cX14_significand 35 = .ok (.lshl, 1) := by decide +kernel
theorem dX14_significand_36 : decode cX14_significand 36 = .ok (.lstore_n 2, 1) := by decide +kernel
theorem dX14_significand_37 : decode cX14_significand 37 = .ok (.goto (-12), 3) := by decide +kernel
theorem dX14_significand_40 : decode cX14_significand 40 = .ok (.lload_n 2, 1) := by decide +kernel
theorem dX14_significand_41 : decode cX14_significand 41 = .ok (.lreturn, 1) := by decide +kernel
abbrev cX14_exponent : ByteArray := prog_13_method_6_code
def yX14_exponent : MethodName := ⟨RX14, "exponent", "(J)I"⟩
theorem dX14_exponent_0 : decode cX14_exponent 0 = .ok (.lload_n 0, 1) := by decide +kernel
theorem dX14_exponent_1 : decode cX14_exponent 1 = .ok (.bipush 52, 2) := by decide +kernel
theorem dX14_exponent_3 : decode cX14_exponent 3 = .ok (.lshr, 1) := by decide +kernel
theorem dX14_exponent_4 : decode cX14_exponent 4 = .ok (.ldc2_w 17, 3) := by decide +kernel
theorem dX14_exponent_7 : decode cX14_exponent 7 = .ok (.land, 1) := by decide +kernel
theorem dX14_exponent_8 : decode cX14_exponent 8 = .ok (.l2i, 1) := by decide +kernel
theorem dX14_exponent_9 : decode cX14_exponent 9 = .ok (.istore_n 2, 1) := by decide +kernel
theorem dX14_exponent_10 : decode cX14_exponent 10 = .ok (.iload_n 2, 1) := by decide +kernel
theorem dX14_exponent_11 : decode cX14_exponent 11 = .ok (.ifCond .le 9, 3) := by decide +kernel
theorem dX14_exponent_14 : decode cX14_exponent 14 = .ok (.iload_n 2, 1) := by decide +kernel
theorem dX14_exponent_15 : decode cX14_exponent 15 = .ok (.sipush 1075, 3) := by decide +kernel
theorem dX14_exponent_18 : decode cX14_exponent 18 = .ok (.isub, 1) := by decide +kernel
theorem dX14_exponent_19 : decode cX14_exponent 19 = .ok (.ireturn, 1) := by decide +kernel
theorem dX14_exponent_20 : decode cX14_exponent 20 = .ok (.sipush (-1074), 3) := by decide +kernel
theorem dX14_exponent_23 : decode cX14_exponent 23 = .ok (.istore_n 3, 1) := by decide +kernel
theorem dX14_exponent_24 : decode cX14_exponent 24 = .ok (.lload_n 0, 1) := by decide +kernel
theorem dX14_exponent_25 : decode cX14_exponent 25 = .ok (.ldc2_w 19, 3) := by decide +kernel
theorem dX14_exponent_28 : decode cX14_exponent 28 = .ok (.land, 1) := by decide +kernel
theorem dX14_exponent_29 : decode cX14_exponent 29 = .ok (.lstore 4, 2) := by decide +kernel
theorem dX14_exponent_31 : decode cX14_exponent 31 = .ok (.lload 4, 2) := by decide +kernel
theorem dX14_exponent_33 : decode cX14_exponent 33 = .ok (.ldc2_w 21, 3) := by decide +kernel
theorem dX14_exponent_36 : decode cX14_exponent 36 = .ok (.lcmp, 1) := by decide +kernel
theorem dX14_exponent_37 : decode cX14_exponent 37 = .ok (.ifCond .ge 15, 3) := by decide +kernel
theorem dX14_exponent_40 : decode cX14_exponent 40 = .ok (.iinc 3 (-1), 3) := by decide +kernel
theorem dX14_exponent_43 : decode cX14_exponent 43 = .ok (.lload 4, 2) := by decide +kernel
theorem dX14_exponent_45 : decode cX14_exponent 45 = .ok (.iconst 1, 1) := by decide +kernel
theorem dX14_exponent_46 : decode cX14_exponent 46 = .ok (.lshl, 1) := by decide +kernel
theorem dX14_exponent_47 : decode cX14_exponent 47 = .ok (.lstore 4, 2) := by decide +kernel
theorem dX14_exponent_49 : decode cX14_exponent 49 = .ok (.goto (-18), 3) := by decide +kernel
theorem dX14_exponent_52 : decode cX14_exponent 52 = .ok (.iload_n 3, 1) := by decide +kernel
theorem dX14_exponent_53 : decode cX14_exponent 53 = .ok (.ireturn, 1) := by decide +kernel
abbrev cX14_negative : ByteArray := prog_13_method_5_code
def yX14_negative : MethodName := ⟨RX14, "negative", "(J)J"⟩
theorem dX14_negative_0 : decode cX14_negative 0 = .ok (.lload_n 0, 1) := by decide +kernel
theorem dX14_negative_1 : decode cX14_negative 1 = .ok (.ldc2_w 15, 3) := by decide +kernel
theorem dX14_negative_4 : decode cX14_negative 4 = .ok (.lxor, 1) := by decide +kernel
theorem dX14_negative_5 : decode cX14_negative 5 = .ok (.lreturn, 1) := by decide +kernel
theorem q80 : (Jvm.Cond.initialized "CommaTablesModel$Soft") ∈ lw_all := lw_g (lw_at lw_m1 37 rfl) rfl
theorem q1242 : (Jvm.Cond.static ({ cls := "CommaTablesModel$Soft", name := "of", desc := "(JZ)J" } : Jvm.MethodName)) ∈ lw_all := lw_g (lw_at lw_m5 239 rfl) rfl
theorem q1243 : (Jvm.Cond.code ({ cls := "CommaTablesModel$Soft", name := "of", desc := "(JZ)J" } : Jvm.MethodName) prog_13_method_14_code (6 : Nat) (Option.some Jvm.ClassFile.FieldType.long)) ∈ lw_all := lw_g (lw_at lw_m6 0 rfl) rfl
theorem q1244 : (Jvm.Cond.constantLong "CommaTablesModel$Soft" (52 : Nat) (4611686018427387904 : Int64)) ∈ lw_all := lw_g (lw_at lw_m6 1 rfl) rfl
theorem q1245 : (Jvm.Cond.methodLink "CommaTablesModel$Soft" (44 : Nat) ({ cls := "CommaTablesModel$Soft", name := "made", desc := "(ZJIZ)J" } : Jvm.MethodName)) ∈ lw_all := lw_g (lw_at lw_m6 2 rfl) rfl
theorem q1246 : (Jvm.Cond.static ({ cls := "CommaTablesModel$Soft", name := "made", desc := "(ZJIZ)J" } : Jvm.MethodName)) ∈ lw_all := lw_g (lw_at lw_m6 3 rfl) rfl
theorem q1247 : (Jvm.Cond.code ({ cls := "CommaTablesModel$Soft", name := "made", desc := "(ZJIZ)J" } : Jvm.MethodName) prog_13_method_9_code (7 : Nat) (Option.some Jvm.ClassFile.FieldType.long)) ∈ lw_all := lw_g (lw_at lw_m6 4 rfl) rfl
theorem q1248 : (Jvm.Cond.methodLink "CommaTablesModel$Soft" (25 : Nat) ({ cls := "CommaTablesModel$Soft", name := "rounded", desc := "(JIZII)J" } : Jvm.MethodName)) ∈ lw_all := lw_g (lw_at lw_m6 5 rfl) rfl
theorem q1249 : (Jvm.Cond.static ({ cls := "CommaTablesModel$Soft", name := "rounded", desc := "(JIZII)J" } : Jvm.MethodName)) ∈ lw_all := lw_g (lw_at lw_m6 6 rfl) rfl
theorem q1250 : (Jvm.Cond.code ({ cls := "CommaTablesModel$Soft", name := "rounded", desc := "(JIZII)J" } : Jvm.MethodName) prog_13_method_8_code (18 : Nat) (Option.some Jvm.ClassFile.FieldType.long)) ∈ lw_all := lw_g (lw_at lw_m6 7 rfl) rfl
theorem q1251 : (Jvm.Cond.constantLong "CommaTablesModel$Soft" (23 : Nat) (2305843009213693952 : Int64)) ∈ lw_all := lw_g (lw_at lw_m6 8 rfl) rfl
theorem q1252 : (Jvm.Cond.constantLong "CommaTablesModel$Soft" (15 : Nat) (-9223372036854775808 : Int64)) ∈ lw_all := lw_g (lw_at lw_m6 9 rfl) rfl
theorem q1253 : (Jvm.Cond.constantLong "CommaTablesModel$Soft" (54 : Nat) (3 : Int64)) ∈ lw_all := lw_g (lw_at lw_m6 10 rfl) rfl
theorem q1255 : (Jvm.Cond.static ({ cls := "CommaTablesModel$Soft", name := "divide", desc := "(JJ)J" } : Jvm.MethodName)) ∈ lw_all := lw_g (lw_at lw_m6 12 rfl) rfl
theorem q1256 : (Jvm.Cond.code ({ cls := "CommaTablesModel$Soft", name := "divide", desc := "(JJ)J" } : Jvm.MethodName) prog_13_method_12_code (13 : Nat) (Option.some Jvm.ClassFile.FieldType.long)) ∈ lw_all := lw_g (lw_at lw_m6 13 rfl) rfl
theorem q1257 : (Jvm.Cond.methodLink "CommaTablesModel$Soft" (29 : Nat) ({ cls := "CommaTablesModel$Soft", name := "isInfinite", desc := "(J)Z" } : Jvm.MethodName)) ∈ lw_all := lw_g (lw_at lw_m6 14 rfl) rfl
theorem q1258 : (Jvm.Cond.static ({ cls := "CommaTablesModel$Soft", name := "isInfinite", desc := "(J)Z" } : Jvm.MethodName)) ∈ lw_all := lw_g (lw_at lw_m6 15 rfl) rfl
theorem q1259 : (Jvm.Cond.code ({ cls := "CommaTablesModel$Soft", name := "isInfinite", desc := "(J)Z" } : Jvm.MethodName) prog_13_method_3_code (2 : Nat) (Option.some Jvm.ClassFile.FieldType.boolean)) ∈ lw_all := lw_g (lw_at lw_m6 16 rfl) rfl
theorem q1260 : (Jvm.Cond.constantLong "CommaTablesModel$Soft" (9 : Nat) (9223372036854775807 : Int64)) ∈ lw_all := lw_g (lw_at lw_m6 17 rfl) rfl
theorem q1261 : (Jvm.Cond.constantLong "CommaTablesModel$Soft" (13 : Nat) (9218868437227405312 : Int64)) ∈ lw_all := lw_g (lw_at lw_m6 18 rfl) rfl
theorem q1262 : (Jvm.Cond.methodLink "CommaTablesModel$Soft" (33 : Nat) ({ cls := "CommaTablesModel$Soft", name := "isZero", desc := "(J)Z" } : Jvm.MethodName)) ∈ lw_all := lw_g (lw_at lw_m6 19 rfl) rfl
theorem q1263 : (Jvm.Cond.static ({ cls := "CommaTablesModel$Soft", name := "isZero", desc := "(J)Z" } : Jvm.MethodName)) ∈ lw_all := lw_g (lw_at lw_m6 20 rfl) rfl
theorem q1264 : (Jvm.Cond.code ({ cls := "CommaTablesModel$Soft", name := "isZero", desc := "(J)Z" } : Jvm.MethodName) prog_13_method_4_code (2 : Nat) (Option.some Jvm.ClassFile.FieldType.boolean)) ∈ lw_all := lw_g (lw_at lw_m6 21 rfl) rfl
theorem q1265 : (Jvm.Cond.methodLink "CommaTablesModel$Soft" (40 : Nat) ({ cls := "CommaTablesModel$Soft", name := "significand", desc := "(J)J" } : Jvm.MethodName)) ∈ lw_all := lw_g (lw_at lw_m6 22 rfl) rfl
theorem q1266 : (Jvm.Cond.static ({ cls := "CommaTablesModel$Soft", name := "significand", desc := "(J)J" } : Jvm.MethodName)) ∈ lw_all := lw_g (lw_at lw_m6 23 rfl) rfl
theorem q1267 : (Jvm.Cond.code ({ cls := "CommaTablesModel$Soft", name := "significand", desc := "(J)J" } : Jvm.MethodName) prog_13_method_7_code (4 : Nat) (Option.some Jvm.ClassFile.FieldType.long)) ∈ lw_all := lw_g (lw_at lw_m6 24 rfl) rfl
theorem q1268 : (Jvm.Cond.constantLong "CommaTablesModel$Soft" (19 : Nat) (4503599627370495 : Int64)) ∈ lw_all := lw_g (lw_at lw_m6 25 rfl) rfl
theorem q1269 : (Jvm.Cond.constantLong "CommaTablesModel$Soft" (17 : Nat) (2047 : Int64)) ∈ lw_all := lw_g (lw_at lw_m6 26 rfl) rfl
theorem q1270 : (Jvm.Cond.constantLong "CommaTablesModel$Soft" (21 : Nat) (4503599627370496 : Int64)) ∈ lw_all := lw_g (lw_at lw_m6 27 rfl) rfl
theorem q1271 : (Jvm.Cond.methodLink "CommaTablesModel$Soft" (36 : Nat) ({ cls := "CommaTablesModel$Soft", name := "exponent", desc := "(J)I" } : Jvm.MethodName)) ∈ lw_all := lw_g (lw_at lw_m6 28 rfl) rfl
theorem q1272 : (Jvm.Cond.static ({ cls := "CommaTablesModel$Soft", name := "exponent", desc := "(J)I" } : Jvm.MethodName)) ∈ lw_all := lw_g (lw_at lw_m6 29 rfl) rfl
theorem q1273 : (Jvm.Cond.code ({ cls := "CommaTablesModel$Soft", name := "exponent", desc := "(J)I" } : Jvm.MethodName) prog_13_method_6_code (6 : Nat) (Option.some Jvm.ClassFile.FieldType.int)) ∈ lw_all := lw_g (lw_at lw_m6 30 rfl) rfl
theorem q1275 : (Jvm.Cond.static ({ cls := "CommaTablesModel$Soft", name := "negative", desc := "(J)J" } : Jvm.MethodName)) ∈ lw_all := lw_g (lw_at lw_m6 32 rfl) rfl
theorem q1276 : (Jvm.Cond.code ({ cls := "CommaTablesModel$Soft", name := "negative", desc := "(J)J" } : Jvm.MethodName) prog_13_method_5_code (2 : Nat) (Option.some Jvm.ClassFile.FieldType.long)) ∈ lw_all := lw_g (lw_at lw_m6 33 rfl) rfl
/-! the law's own entry -/
set_option maxRecDepth 100000
abbrev cL_law : ByteArray := code
theorem dL_law_0 : decode cL_law 0 = .ok (.new 7, 3) := by decide +kernel
theorem dL_law_3 : decode cL_law 3 = .ok (.dup, 1) := by decide +kernel
theorem dL_law_4 : decode cL_law 4 = .ok (.invokespecial 9, 3) := by decide +kernel
theorem dL_law_7 : decode cL_law 7 = .ok (.astore_n 1, 1) := by decide +kernel
theorem dL_law_8 : decode cL_law 8 = .ok (.new 10, 3) := by decide +kernel
theorem dL_law_11 : decode cL_law 11 = .ok (.dup, 1) := by decide +kernel
theorem dL_law_12 : decode cL_law 12 = .ok (.invokespecial 12, 3) := by decide +kernel
theorem dL_law_15 : decode cL_law 15 = .ok (.astore_n 2, 1) := by decide +kernel
theorem dL_law_16 : decode cL_law 16 = .ok (.iconst 0, 1) := by decide +kernel
theorem dL_law_17 : decode cL_law 17 = .ok (.istore_n 3, 1) := by decide +kernel
theorem dL_law_18 : decode cL_law 18 = .ok (.iload_n 3, 1) := by decide +kernel
theorem dL_law_19 : decode cL_law 19 = .ok (.aload_n 0, 1) := by decide +kernel
theorem dL_law_20 : decode cL_law 20 = .ok (.arraylength, 1) := by decide +kernel
theorem dL_law_21 : decode cL_law 21 = .ok (.bipush 6, 2) := by decide +kernel
theorem dL_law_23 : decode cL_law 23 = .ok (.isub, 1) := by decide +kernel
theorem dL_law_24 : decode cL_law 24 = .ok (.if_icmp .gt 583, 3) := by decide +kernel
theorem dL_law_27 : decode cL_law 27 = .ok (.aload_n 0, 1) := by decide +kernel
theorem dL_law_28 : decode cL_law 28 = .ok (.iload_n 3, 1) := by decide +kernel
theorem dL_law_29 : decode cL_law 29 = .ok (.iaload, 1) := by decide +kernel
theorem dL_law_30 : decode cL_law 30 = .ok (.bipush 15, 2) := by decide +kernel
theorem dL_law_32 : decode cL_law 32 = .ok (.iand, 1) := by decide +kernel
theorem dL_law_33 : decode cL_law 33 = .ok (.tableswitch 568 0 15 #[79, 142, 165, 178, 191, 214, 237, 260, 293, 337, 380, 423, 476, 499, 522, 545], 79) := by decide +kernel
theorem dL_law_112 : decode cL_law 112 = .ok (.aload_n 1, 1) := by decide +kernel
theorem dL_law_113 : decode cL_law 113 = .ok (.aload_n 0, 1) := by decide +kernel
theorem dL_law_114 : decode cL_law 114 = .ok (.iload_n 3, 1) := by decide +kernel
theorem dL_law_115 : decode cL_law 115 = .ok (.iconst 1, 1) := by decide +kernel
theorem dL_law_116 : decode cL_law 116 = .ok (.iadd, 1) := by decide +kernel
theorem dL_law_117 : decode cL_law 117 = .ok (.iaload, 1) := by decide +kernel
theorem dL_law_118 : decode cL_law 118 = .ok (.aload_n 0, 1) := by decide +kernel
theorem dL_law_119 : decode cL_law 119 = .ok (.iload_n 3, 1) := by decide +kernel
theorem dL_law_120 : decode cL_law 120 = .ok (.iconst 2, 1) := by decide +kernel
theorem dL_law_121 : decode cL_law 121 = .ok (.iadd, 1) := by decide +kernel
theorem dL_law_122 : decode cL_law 122 = .ok (.iaload, 1) := by decide +kernel
theorem dL_law_123 : decode cL_law 123 = .ok (.aload_n 0, 1) := by decide +kernel
theorem dL_law_124 : decode cL_law 124 = .ok (.iload_n 3, 1) := by decide +kernel
theorem dL_law_125 : decode cL_law 125 = .ok (.iconst 3, 1) := by decide +kernel
theorem dL_law_126 : decode cL_law 126 = .ok (.iadd, 1) := by decide +kernel
theorem dL_law_127 : decode cL_law 127 = .ok (.iaload, 1) := by decide +kernel
theorem dL_law_128 : decode cL_law 128 = .ok (.aload_n 0, 1) := by decide +kernel
theorem dL_law_129 : decode cL_law 129 = .ok (.iload_n 3, 1) := by decide +kernel
theorem dL_law_130 : decode cL_law 130 = .ok (.iconst 4, 1) := by decide +kernel
theorem dL_law_131 : decode cL_law 131 = .ok (.iadd, 1) := by decide +kernel
theorem dL_law_132 : decode cL_law 132 = .ok (.iaload, 1) := by decide +kernel
theorem dL_law_133 : decode cL_law 133 = .ok (.aload_n 0, 1) := by decide +kernel
theorem dL_law_134 : decode cL_law 134 = .ok (.iload_n 3, 1) := by decide +kernel
theorem dL_law_135 : decode cL_law 135 = .ok (.iconst 5, 1) := by decide +kernel
theorem dL_law_136 : decode cL_law 136 = .ok (.iadd, 1) := by decide +kernel
theorem dL_law_137 : decode cL_law 137 = .ok (.iaload, 1) := by decide +kernel
theorem dL_law_138 : decode cL_law 138 = .ok (.invokevirtual 13, 3) := by decide +kernel
theorem dL_law_141 : decode cL_law 141 = .ok (.aload_n 2, 1) := by decide +kernel
theorem dL_law_142 : decode cL_law 142 = .ok (.aload_n 0, 1) := by decide +kernel
theorem dL_law_143 : decode cL_law 143 = .ok (.iload_n 3, 1) := by decide +kernel
theorem dL_law_144 : decode cL_law 144 = .ok (.iconst 1, 1) := by decide +kernel
theorem dL_law_145 : decode cL_law 145 = .ok (.iadd, 1) := by decide +kernel
theorem dL_law_146 : decode cL_law 146 = .ok (.iaload, 1) := by decide +kernel
theorem dL_law_147 : decode cL_law 147 = .ok (.aload_n 0, 1) := by decide +kernel
theorem dL_law_148 : decode cL_law 148 = .ok (.iload_n 3, 1) := by decide +kernel
theorem dL_law_149 : decode cL_law 149 = .ok (.iconst 2, 1) := by decide +kernel
theorem dL_law_150 : decode cL_law 150 = .ok (.iadd, 1) := by decide +kernel
theorem dL_law_151 : decode cL_law 151 = .ok (.iaload, 1) := by decide +kernel
theorem dL_law_152 : decode cL_law 152 = .ok (.aload_n 0, 1) := by decide +kernel
theorem dL_law_153 : decode cL_law 153 = .ok (.iload_n 3, 1) := by decide +kernel
theorem dL_law_154 : decode cL_law 154 = .ok (.iconst 3, 1) := by decide +kernel
theorem dL_law_155 : decode cL_law 155 = .ok (.iadd, 1) := by decide +kernel
theorem dL_law_156 : decode cL_law 156 = .ok (.iaload, 1) := by decide +kernel
theorem dL_law_157 : decode cL_law 157 = .ok (.aload_n 0, 1) := by decide +kernel
theorem dL_law_158 : decode cL_law 158 = .ok (.iload_n 3, 1) := by decide +kernel
theorem dL_law_159 : decode cL_law 159 = .ok (.iconst 4, 1) := by decide +kernel
theorem dL_law_160 : decode cL_law 160 = .ok (.iadd, 1) := by decide +kernel
theorem dL_law_161 : decode cL_law 161 = .ok (.iaload, 1) := by decide +kernel
theorem dL_law_162 : decode cL_law 162 = .ok (.aload_n 0, 1) := by decide +kernel
theorem dL_law_163 : decode cL_law 163 = .ok (.iload_n 3, 1) := by decide +kernel
theorem dL_law_164 : decode cL_law 164 = .ok (.iconst 5, 1) := by decide +kernel
theorem dL_law_165 : decode cL_law 165 = .ok (.iadd, 1) := by decide +kernel
theorem dL_law_166 : decode cL_law 166 = .ok (.iaload, 1) := by decide +kernel
theorem dL_law_167 : decode cL_law 167 = .ok (.invokevirtual 17, 3) := by decide +kernel
theorem dL_law_170 : decode cL_law 170 = .ok (.if_icmp .eq 431, 3) := by decide +kernel
theorem dL_law_173 : decode cL_law 173 = .ok (.iconst 0, 1) := by decide +kernel
theorem dL_law_174 : decode cL_law 174 = .ok (.ireturn, 1) := by decide +kernel
theorem dL_law_175 : decode cL_law 175 = .ok (.aload_n 1, 1) := by decide +kernel
theorem dL_law_176 : decode cL_law 176 = .ok (.aload_n 0, 1) := by decide +kernel
theorem dL_law_177 : decode cL_law 177 = .ok (.iload_n 3, 1) := by decide +kernel
theorem dL_law_178 : decode cL_law 178 = .ok (.iconst 1, 1) := by decide +kernel
theorem dL_law_179 : decode cL_law 179 = .ok (.iadd, 1) := by decide +kernel
theorem dL_law_180 : decode cL_law 180 = .ok (.iaload, 1) := by decide +kernel
theorem dL_law_181 : decode cL_law 181 = .ok (.invokevirtual 18, 3) := by decide +kernel
theorem dL_law_184 : decode cL_law 184 = .ok (.aload_n 2, 1) := by decide +kernel
theorem dL_law_185 : decode cL_law 185 = .ok (.aload_n 0, 1) := by decide +kernel
theorem dL_law_186 : decode cL_law 186 = .ok (.iload_n 3, 1) := by decide +kernel
theorem dL_law_187 : decode cL_law 187 = .ok (.iconst 1, 1) := by decide +kernel
theorem dL_law_188 : decode cL_law 188 = .ok (.iadd, 1) := by decide +kernel
theorem dL_law_189 : decode cL_law 189 = .ok (.iaload, 1) := by decide +kernel
theorem dL_law_190 : decode cL_law 190 = .ok (.invokevirtual 22, 3) := by decide +kernel
theorem dL_law_193 : decode cL_law 193 = .ok (.if_icmp .eq 408, 3) := by decide +kernel
theorem dL_law_196 : decode cL_law 196 = .ok (.iconst 0, 1) := by decide +kernel
theorem dL_law_197 : decode cL_law 197 = .ok (.ireturn, 1) := by decide +kernel
theorem dL_law_198 : decode cL_law 198 = .ok (.aload_n 1, 1) := by decide +kernel
theorem dL_law_199 : decode cL_law 199 = .ok (.invokevirtual 23, 3) := by decide +kernel
theorem dL_law_202 : decode cL_law 202 = .ok (.aload_n 2, 1) := by decide +kernel
theorem dL_law_203 : decode cL_law 203 = .ok (.invokevirtual 27, 3) := by decide +kernel
theorem dL_law_206 : decode cL_law 206 = .ok (.if_icmp .eq 395, 3) := by decide +kernel
theorem dL_law_209 : decode cL_law 209 = .ok (.iconst 0, 1) := by decide +kernel
theorem dL_law_210 : decode cL_law 210 = .ok (.ireturn, 1) := by decide +kernel
theorem dL_law_211 : decode cL_law 211 = .ok (.aload_n 1, 1) := by decide +kernel
theorem dL_law_212 : decode cL_law 212 = .ok (.invokevirtual 28, 3) := by decide +kernel
theorem dL_law_215 : decode cL_law 215 = .ok (.aload_n 2, 1) := by decide +kernel
theorem dL_law_216 : decode cL_law 216 = .ok (.invokevirtual 31, 3) := by decide +kernel
theorem dL_law_219 : decode cL_law 219 = .ok (.if_icmp .eq 382, 3) := by decide +kernel
theorem dL_law_222 : decode cL_law 222 = .ok (.iconst 0, 1) := by decide +kernel
theorem dL_law_223 : decode cL_law 223 = .ok (.ireturn, 1) := by decide +kernel
theorem dL_law_224 : decode cL_law 224 = .ok (.aload_n 1, 1) := by decide +kernel
theorem dL_law_225 : decode cL_law 225 = .ok (.aload_n 0, 1) := by decide +kernel
theorem dL_law_226 : decode cL_law 226 = .ok (.iload_n 3, 1) := by decide +kernel
theorem dL_law_227 : decode cL_law 227 = .ok (.iconst 1, 1) := by decide +kernel
theorem dL_law_228 : decode cL_law 228 = .ok (.iadd, 1) := by decide +kernel
theorem dL_law_229 : decode cL_law 229 = .ok (.iaload, 1) := by decide +kernel
theorem dL_law_230 : decode cL_law 230 = .ok (.invokevirtual 32, 3) := by decide +kernel
theorem dL_law_233 : decode cL_law 233 = .ok (.aload_n 2, 1) := by decide +kernel
theorem dL_law_234 : decode cL_law 234 = .ok (.aload_n 0, 1) := by decide +kernel
theorem dL_law_235 : decode cL_law 235 = .ok (.iload_n 3, 1) := by decide +kernel
theorem dL_law_236 : decode cL_law 236 = .ok (.iconst 1, 1) := by decide +kernel
theorem dL_law_237 : decode cL_law 237 = .ok (.iadd, 1) := by decide +kernel
theorem dL_law_238 : decode cL_law 238 = .ok (.iaload, 1) := by decide +kernel
theorem dL_law_239 : decode cL_law 239 = .ok (.invokevirtual 35, 3) := by decide +kernel
theorem dL_law_242 : decode cL_law 242 = .ok (.if_icmp .eq 359, 3) := by decide +kernel
theorem dL_law_245 : decode cL_law 245 = .ok (.iconst 0, 1) := by decide +kernel
theorem dL_law_246 : decode cL_law 246 = .ok (.ireturn, 1) := by decide +kernel
theorem dL_law_247 : decode cL_law 247 = .ok (.aload_n 1, 1) := by decide +kernel
theorem dL_law_248 : decode cL_law 248 = .ok (.aload_n 0, 1) := by decide +kernel
theorem dL_law_249 : decode cL_law 249 = .ok (.iload_n 3, 1) := by decide +kernel
theorem dL_law_250 : decode cL_law 250 = .ok (.iconst 1, 1) := by decide +kernel
theorem dL_law_251 : decode cL_law 251 = .ok (.iadd, 1) := by decide +kernel
theorem dL_law_252 : decode cL_law 252 = .ok (.iaload, 1) := by decide +kernel
theorem dL_law_253 : decode cL_law 253 = .ok (.invokevirtual 36, 3) := by decide +kernel
theorem dL_law_256 : decode cL_law 256 = .ok (.aload_n 2, 1) := by decide +kernel
theorem dL_law_257 : decode cL_law 257 = .ok (.aload_n 0, 1) := by decide +kernel
theorem dL_law_258 : decode cL_law 258 = .ok (.iload_n 3, 1) := by decide +kernel
theorem dL_law_259 : decode cL_law 259 = .ok (.iconst 1, 1) := by decide +kernel
theorem dL_law_260 : decode cL_law 260 = .ok (.iadd, 1) := by decide +kernel
theorem dL_law_261 : decode cL_law 261 = .ok (.iaload, 1) := by decide +kernel
theorem dL_law_262 : decode cL_law 262 = .ok (.invokevirtual 39, 3) := by decide +kernel
theorem dL_law_265 : decode cL_law 265 = .ok (.if_icmp .eq 336, 3) := by decide +kernel
theorem dL_law_268 : decode cL_law 268 = .ok (.iconst 0, 1) := by decide +kernel
theorem dL_law_269 : decode cL_law 269 = .ok (.ireturn, 1) := by decide +kernel
theorem dL_law_270 : decode cL_law 270 = .ok (.aload_n 1, 1) := by decide +kernel
theorem dL_law_271 : decode cL_law 271 = .ok (.aload_n 0, 1) := by decide +kernel
theorem dL_law_272 : decode cL_law 272 = .ok (.iload_n 3, 1) := by decide +kernel
theorem dL_law_273 : decode cL_law 273 = .ok (.iconst 1, 1) := by decide +kernel
theorem dL_law_274 : decode cL_law 274 = .ok (.iadd, 1) := by decide +kernel
theorem dL_law_275 : decode cL_law 275 = .ok (.iaload, 1) := by decide +kernel
theorem dL_law_276 : decode cL_law 276 = .ok (.invokevirtual 40, 3) := by decide +kernel
theorem dL_law_279 : decode cL_law 279 = .ok (.aload_n 2, 1) := by decide +kernel
theorem dL_law_280 : decode cL_law 280 = .ok (.aload_n 0, 1) := by decide +kernel
theorem dL_law_281 : decode cL_law 281 = .ok (.iload_n 3, 1) := by decide +kernel
theorem dL_law_282 : decode cL_law 282 = .ok (.iconst 1, 1) := by decide +kernel
theorem dL_law_283 : decode cL_law 283 = .ok (.iadd, 1) := by decide +kernel
theorem dL_law_284 : decode cL_law 284 = .ok (.iaload, 1) := by decide +kernel
theorem dL_law_285 : decode cL_law 285 = .ok (.invokevirtual 43, 3) := by decide +kernel
theorem dL_law_288 : decode cL_law 288 = .ok (.if_icmp .eq 313, 3) := by decide +kernel
theorem dL_law_291 : decode cL_law 291 = .ok (.iconst 0, 1) := by decide +kernel
theorem dL_law_292 : decode cL_law 292 = .ok (.ireturn, 1) := by decide +kernel
theorem dL_law_293 : decode cL_law 293 = .ok (.aload_n 1, 1) := by decide +kernel
theorem dL_law_294 : decode cL_law 294 = .ok (.aload_n 0, 1) := by decide +kernel
theorem dL_law_295 : decode cL_law 295 = .ok (.iload_n 3, 1) := by decide +kernel
theorem dL_law_296 : decode cL_law 296 = .ok (.iconst 1, 1) := by decide +kernel
theorem dL_law_297 : decode cL_law 297 = .ok (.iadd, 1) := by decide +kernel
theorem dL_law_298 : decode cL_law 298 = .ok (.iaload, 1) := by decide +kernel
theorem dL_law_299 : decode cL_law 299 = .ok (.aload_n 0, 1) := by decide +kernel
theorem dL_law_300 : decode cL_law 300 = .ok (.iload_n 3, 1) := by decide +kernel
theorem dL_law_301 : decode cL_law 301 = .ok (.iconst 2, 1) := by decide +kernel
theorem dL_law_302 : decode cL_law 302 = .ok (.iadd, 1) := by decide +kernel
theorem dL_law_303 : decode cL_law 303 = .ok (.iaload, 1) := by decide +kernel
theorem dL_law_304 : decode cL_law 304 = .ok (.invokevirtual 44, 3) := by decide +kernel
theorem dL_law_307 : decode cL_law 307 = .ok (.aload_n 2, 1) := by decide +kernel
theorem dL_law_308 : decode cL_law 308 = .ok (.aload_n 0, 1) := by decide +kernel
theorem dL_law_309 : decode cL_law 309 = .ok (.iload_n 3, 1) := by decide +kernel
theorem dL_law_310 : decode cL_law 310 = .ok (.iconst 1, 1) := by decide +kernel
theorem dL_law_311 : decode cL_law 311 = .ok (.iadd, 1) := by decide +kernel
theorem dL_law_312 : decode cL_law 312 = .ok (.iaload, 1) := by decide +kernel
theorem dL_law_313 : decode cL_law 313 = .ok (.aload_n 0, 1) := by decide +kernel
theorem dL_law_314 : decode cL_law 314 = .ok (.iload_n 3, 1) := by decide +kernel
theorem dL_law_315 : decode cL_law 315 = .ok (.iconst 2, 1) := by decide +kernel
theorem dL_law_316 : decode cL_law 316 = .ok (.iadd, 1) := by decide +kernel
theorem dL_law_317 : decode cL_law 317 = .ok (.iaload, 1) := by decide +kernel
theorem dL_law_318 : decode cL_law 318 = .ok (.invokevirtual 48, 3) := by decide +kernel
theorem dL_law_321 : decode cL_law 321 = .ok (.if_icmp .eq 280, 3) := by decide +kernel
theorem dL_law_324 : decode cL_law 324 = .ok (.iconst 0, 1) := by decide +kernel
theorem dL_law_325 : decode cL_law 325 = .ok (.ireturn, 1) := by decide +kernel
theorem dL_law_326 : decode cL_law 326 = .ok (.aload_n 1, 1) := by decide +kernel
theorem dL_law_327 : decode cL_law 327 = .ok (.aload_n 0, 1) := by decide +kernel
theorem dL_law_328 : decode cL_law 328 = .ok (.iload_n 3, 1) := by decide +kernel
theorem dL_law_329 : decode cL_law 329 = .ok (.iconst 1, 1) := by decide +kernel
theorem dL_law_330 : decode cL_law 330 = .ok (.iadd, 1) := by decide +kernel
theorem dL_law_331 : decode cL_law 331 = .ok (.iaload, 1) := by decide +kernel
theorem dL_law_332 : decode cL_law 332 = .ok (.aload_n 0, 1) := by decide +kernel
theorem dL_law_333 : decode cL_law 333 = .ok (.iload_n 3, 1) := by decide +kernel
theorem dL_law_334 : decode cL_law 334 = .ok (.iconst 2, 1) := by decide +kernel
theorem dL_law_335 : decode cL_law 335 = .ok (.iadd, 1) := by decide +kernel
theorem dL_law_336 : decode cL_law 336 = .ok (.iaload, 1) := by decide +kernel
theorem dL_law_337 : decode cL_law 337 = .ok (.aload_n 0, 1) := by decide +kernel
theorem dL_law_338 : decode cL_law 338 = .ok (.iload_n 3, 1) := by decide +kernel
theorem dL_law_339 : decode cL_law 339 = .ok (.iconst 3, 1) := by decide +kernel
theorem dL_law_340 : decode cL_law 340 = .ok (.iadd, 1) := by decide +kernel
theorem dL_law_341 : decode cL_law 341 = .ok (.iaload, 1) := by decide +kernel
theorem dL_law_342 : decode cL_law 342 = .ok (.invokevirtual 49, 3) := by decide +kernel
theorem dL_law_345 : decode cL_law 345 = .ok (.aload_n 2, 1) := by decide +kernel
theorem dL_law_346 : decode cL_law 346 = .ok (.aload_n 0, 1) := by decide +kernel
theorem dL_law_347 : decode cL_law 347 = .ok (.iload_n 3, 1) := by decide +kernel
theorem dL_law_348 : decode cL_law 348 = .ok (.iconst 1, 1) := by decide +kernel
theorem dL_law_349 : decode cL_law 349 = .ok (.iadd, 1) := by decide +kernel
theorem dL_law_350 : decode cL_law 350 = .ok (.iaload, 1) := by decide +kernel
theorem dL_law_351 : decode cL_law 351 = .ok (.aload_n 0, 1) := by decide +kernel
theorem dL_law_352 : decode cL_law 352 = .ok (.iload_n 3, 1) := by decide +kernel
theorem dL_law_353 : decode cL_law 353 = .ok (.iconst 2, 1) := by decide +kernel
theorem dL_law_354 : decode cL_law 354 = .ok (.iadd, 1) := by decide +kernel
theorem dL_law_355 : decode cL_law 355 = .ok (.iaload, 1) := by decide +kernel
theorem dL_law_356 : decode cL_law 356 = .ok (.aload_n 0, 1) := by decide +kernel
theorem dL_law_357 : decode cL_law 357 = .ok (.iload_n 3, 1) := by decide +kernel
theorem dL_law_358 : decode cL_law 358 = .ok (.iconst 3, 1) := by decide +kernel
theorem dL_law_359 : decode cL_law 359 = .ok (.iadd, 1) := by decide +kernel
theorem dL_law_360 : decode cL_law 360 = .ok (.iaload, 1) := by decide +kernel
theorem dL_law_361 : decode cL_law 361 = .ok (.invokevirtual 53, 3) := by decide +kernel
theorem dL_law_364 : decode cL_law 364 = .ok (.lcmp, 1) := by decide +kernel
theorem dL_law_365 : decode cL_law 365 = .ok (.ifCond .eq 236, 3) := by decide +kernel
theorem dL_law_368 : decode cL_law 368 = .ok (.iconst 0, 1) := by decide +kernel
theorem dL_law_369 : decode cL_law 369 = .ok (.ireturn, 1) := by decide +kernel
theorem dL_law_370 : decode cL_law 370 = .ok (.aload_n 1, 1) := by decide +kernel
theorem dL_law_371 : decode cL_law 371 = .ok (.aload_n 0, 1) := by decide +kernel
theorem dL_law_372 : decode cL_law 372 = .ok (.iload_n 3, 1) := by decide +kernel
theorem dL_law_373 : decode cL_law 373 = .ok (.iconst 1, 1) := by decide +kernel
theorem dL_law_374 : decode cL_law 374 = .ok (.iadd, 1) := by decide +kernel
theorem dL_law_375 : decode cL_law 375 = .ok (.iaload, 1) := by decide +kernel
theorem dL_law_376 : decode cL_law 376 = .ok (.aload_n 0, 1) := by decide +kernel
theorem dL_law_377 : decode cL_law 377 = .ok (.iload_n 3, 1) := by decide +kernel
theorem dL_law_378 : decode cL_law 378 = .ok (.iconst 2, 1) := by decide +kernel
theorem dL_law_379 : decode cL_law 379 = .ok (.iadd, 1) := by decide +kernel
theorem dL_law_380 : decode cL_law 380 = .ok (.iaload, 1) := by decide +kernel
theorem dL_law_381 : decode cL_law 381 = .ok (.aload_n 0, 1) := by decide +kernel
theorem dL_law_382 : decode cL_law 382 = .ok (.iload_n 3, 1) := by decide +kernel
theorem dL_law_383 : decode cL_law 383 = .ok (.iconst 3, 1) := by decide +kernel
theorem dL_law_384 : decode cL_law 384 = .ok (.iadd, 1) := by decide +kernel
theorem dL_law_385 : decode cL_law 385 = .ok (.iaload, 1) := by decide +kernel
theorem dL_law_386 : decode cL_law 386 = .ok (.invokevirtual 54, 3) := by decide +kernel
theorem dL_law_389 : decode cL_law 389 = .ok (.aload_n 2, 1) := by decide +kernel
theorem dL_law_390 : decode cL_law 390 = .ok (.aload_n 0, 1) := by decide +kernel
theorem dL_law_391 : decode cL_law 391 = .ok (.iload_n 3, 1) := by decide +kernel
theorem dL_law_392 : decode cL_law 392 = .ok (.iconst 1, 1) := by decide +kernel
theorem dL_law_393 : decode cL_law 393 = .ok (.iadd, 1) := by decide +kernel
theorem dL_law_394 : decode cL_law 394 = .ok (.iaload, 1) := by decide +kernel
theorem dL_law_395 : decode cL_law 395 = .ok (.aload_n 0, 1) := by decide +kernel
theorem dL_law_396 : decode cL_law 396 = .ok (.iload_n 3, 1) := by decide +kernel
theorem dL_law_397 : decode cL_law 397 = .ok (.iconst 2, 1) := by decide +kernel
theorem dL_law_398 : decode cL_law 398 = .ok (.iadd, 1) := by decide +kernel
theorem dL_law_399 : decode cL_law 399 = .ok (.iaload, 1) := by decide +kernel
theorem dL_law_400 : decode cL_law 400 = .ok (.aload_n 0, 1) := by decide +kernel
theorem dL_law_401 : decode cL_law 401 = .ok (.iload_n 3, 1) := by decide +kernel
theorem dL_law_402 : decode cL_law 402 = .ok (.iconst 3, 1) := by decide +kernel
theorem dL_law_403 : decode cL_law 403 = .ok (.iadd, 1) := by decide +kernel
theorem dL_law_404 : decode cL_law 404 = .ok (.iaload, 1) := by decide +kernel
theorem dL_law_405 : decode cL_law 405 = .ok (.invokevirtual 58, 3) := by decide +kernel
theorem dL_law_408 : decode cL_law 408 = .ok (.if_icmp .eq 193, 3) := by decide +kernel
theorem dL_law_411 : decode cL_law 411 = .ok (.iconst 0, 1) := by decide +kernel
theorem dL_law_412 : decode cL_law 412 = .ok (.ireturn, 1) := by decide +kernel
theorem dL_law_413 : decode cL_law 413 = .ok (.aload_n 1, 1) := by decide +kernel
theorem dL_law_414 : decode cL_law 414 = .ok (.aload_n 0, 1) := by decide +kernel
theorem dL_law_415 : decode cL_law 415 = .ok (.iload_n 3, 1) := by decide +kernel
theorem dL_law_416 : decode cL_law 416 = .ok (.iconst 1, 1) := by decide +kernel
theorem dL_law_417 : decode cL_law 417 = .ok (.iadd, 1) := by decide +kernel
theorem dL_law_418 : decode cL_law 418 = .ok (.iaload, 1) := by decide +kernel
theorem dL_law_419 : decode cL_law 419 = .ok (.aload_n 0, 1) := by decide +kernel
theorem dL_law_420 : decode cL_law 420 = .ok (.iload_n 3, 1) := by decide +kernel
theorem dL_law_421 : decode cL_law 421 = .ok (.iconst 2, 1) := by decide +kernel
theorem dL_law_422 : decode cL_law 422 = .ok (.iadd, 1) := by decide +kernel
theorem dL_law_423 : decode cL_law 423 = .ok (.iaload, 1) := by decide +kernel
theorem dL_law_424 : decode cL_law 424 = .ok (.aload_n 0, 1) := by decide +kernel
theorem dL_law_425 : decode cL_law 425 = .ok (.iload_n 3, 1) := by decide +kernel
theorem dL_law_426 : decode cL_law 426 = .ok (.iconst 3, 1) := by decide +kernel
theorem dL_law_427 : decode cL_law 427 = .ok (.iadd, 1) := by decide +kernel
theorem dL_law_428 : decode cL_law 428 = .ok (.iaload, 1) := by decide +kernel
theorem dL_law_429 : decode cL_law 429 = .ok (.invokevirtual 59, 3) := by decide +kernel
theorem dL_law_432 : decode cL_law 432 = .ok (.aload_n 2, 1) := by decide +kernel
theorem dL_law_433 : decode cL_law 433 = .ok (.aload_n 0, 1) := by decide +kernel
theorem dL_law_434 : decode cL_law 434 = .ok (.iload_n 3, 1) := by decide +kernel
theorem dL_law_435 : decode cL_law 435 = .ok (.iconst 1, 1) := by decide +kernel
theorem dL_law_436 : decode cL_law 436 = .ok (.iadd, 1) := by decide +kernel
theorem dL_law_437 : decode cL_law 437 = .ok (.iaload, 1) := by decide +kernel
theorem dL_law_438 : decode cL_law 438 = .ok (.aload_n 0, 1) := by decide +kernel
theorem dL_law_439 : decode cL_law 439 = .ok (.iload_n 3, 1) := by decide +kernel
theorem dL_law_440 : decode cL_law 440 = .ok (.iconst 2, 1) := by decide +kernel
theorem dL_law_441 : decode cL_law 441 = .ok (.iadd, 1) := by decide +kernel
theorem dL_law_442 : decode cL_law 442 = .ok (.iaload, 1) := by decide +kernel
theorem dL_law_443 : decode cL_law 443 = .ok (.aload_n 0, 1) := by decide +kernel
theorem dL_law_444 : decode cL_law 444 = .ok (.iload_n 3, 1) := by decide +kernel
theorem dL_law_445 : decode cL_law 445 = .ok (.iconst 3, 1) := by decide +kernel
theorem dL_law_446 : decode cL_law 446 = .ok (.iadd, 1) := by decide +kernel
theorem dL_law_447 : decode cL_law 447 = .ok (.iaload, 1) := by decide +kernel
theorem dL_law_448 : decode cL_law 448 = .ok (.invokevirtual 63, 3) := by decide +kernel
theorem dL_law_451 : decode cL_law 451 = .ok (.if_icmp .eq 150, 3) := by decide +kernel
theorem dL_law_454 : decode cL_law 454 = .ok (.iconst 0, 1) := by decide +kernel
theorem dL_law_455 : decode cL_law 455 = .ok (.ireturn, 1) := by decide +kernel
theorem dL_law_456 : decode cL_law 456 = .ok (.aload_n 1, 1) := by decide +kernel
theorem dL_law_457 : decode cL_law 457 = .ok (.aload_n 0, 1) := by decide +kernel
theorem dL_law_458 : decode cL_law 458 = .ok (.iload_n 3, 1) := by decide +kernel
theorem dL_law_459 : decode cL_law 459 = .ok (.iconst 1, 1) := by decide +kernel
theorem dL_law_460 : decode cL_law 460 = .ok (.iadd, 1) := by decide +kernel
theorem dL_law_461 : decode cL_law 461 = .ok (.iaload, 1) := by decide +kernel
theorem dL_law_462 : decode cL_law 462 = .ok (.aload_n 0, 1) := by decide +kernel
theorem dL_law_463 : decode cL_law 463 = .ok (.iload_n 3, 1) := by decide +kernel
theorem dL_law_464 : decode cL_law 464 = .ok (.iconst 2, 1) := by decide +kernel
theorem dL_law_465 : decode cL_law 465 = .ok (.iadd, 1) := by decide +kernel
theorem dL_law_466 : decode cL_law 466 = .ok (.iaload, 1) := by decide +kernel
theorem dL_law_467 : decode cL_law 467 = .ok (.aload_n 0, 1) := by decide +kernel
theorem dL_law_468 : decode cL_law 468 = .ok (.iload_n 3, 1) := by decide +kernel
theorem dL_law_469 : decode cL_law 469 = .ok (.iconst 3, 1) := by decide +kernel
theorem dL_law_470 : decode cL_law 470 = .ok (.iadd, 1) := by decide +kernel
theorem dL_law_471 : decode cL_law 471 = .ok (.iaload, 1) := by decide +kernel
theorem dL_law_472 : decode cL_law 472 = .ok (.aload_n 0, 1) := by decide +kernel
theorem dL_law_473 : decode cL_law 473 = .ok (.iload_n 3, 1) := by decide +kernel
theorem dL_law_474 : decode cL_law 474 = .ok (.iconst 4, 1) := by decide +kernel
theorem dL_law_475 : decode cL_law 475 = .ok (.iadd, 1) := by decide +kernel
theorem dL_law_476 : decode cL_law 476 = .ok (.iaload, 1) := by decide +kernel
theorem dL_law_477 : decode cL_law 477 = .ok (.invokevirtual 64, 3) := by decide +kernel
theorem dL_law_480 : decode cL_law 480 = .ok (.aload_n 2, 1) := by decide +kernel
theorem dL_law_481 : decode cL_law 481 = .ok (.aload_n 0, 1) := by decide +kernel
theorem dL_law_482 : decode cL_law 482 = .ok (.iload_n 3, 1) := by decide +kernel
theorem dL_law_483 : decode cL_law 483 = .ok (.iconst 1, 1) := by decide +kernel
theorem dL_law_484 : decode cL_law 484 = .ok (.iadd, 1) := by decide +kernel
theorem dL_law_485 : decode cL_law 485 = .ok (.iaload, 1) := by decide +kernel
theorem dL_law_486 : decode cL_law 486 = .ok (.aload_n 0, 1) := by decide +kernel
theorem dL_law_487 : decode cL_law 487 = .ok (.iload_n 3, 1) := by decide +kernel
theorem dL_law_488 : decode cL_law 488 = .ok (.iconst 2, 1) := by decide +kernel
theorem dL_law_489 : decode cL_law 489 = .ok (.iadd, 1) := by decide +kernel
theorem dL_law_490 : decode cL_law 490 = .ok (.iaload, 1) := by decide +kernel
theorem dL_law_491 : decode cL_law 491 = .ok (.aload_n 0, 1) := by decide +kernel
theorem dL_law_492 : decode cL_law 492 = .ok (.iload_n 3, 1) := by decide +kernel
theorem dL_law_493 : decode cL_law 493 = .ok (.iconst 3, 1) := by decide +kernel
theorem dL_law_494 : decode cL_law 494 = .ok (.iadd, 1) := by decide +kernel
theorem dL_law_495 : decode cL_law 495 = .ok (.iaload, 1) := by decide +kernel
theorem dL_law_496 : decode cL_law 496 = .ok (.aload_n 0, 1) := by decide +kernel
theorem dL_law_497 : decode cL_law 497 = .ok (.iload_n 3, 1) := by decide +kernel
theorem dL_law_498 : decode cL_law 498 = .ok (.iconst 4, 1) := by decide +kernel
theorem dL_law_499 : decode cL_law 499 = .ok (.iadd, 1) := by decide +kernel
theorem dL_law_500 : decode cL_law 500 = .ok (.iaload, 1) := by decide +kernel
theorem dL_law_501 : decode cL_law 501 = .ok (.invokevirtual 68, 3) := by decide +kernel
theorem dL_law_504 : decode cL_law 504 = .ok (.if_icmp .eq 97, 3) := by decide +kernel
theorem dL_law_507 : decode cL_law 507 = .ok (.iconst 0, 1) := by decide +kernel
theorem dL_law_508 : decode cL_law 508 = .ok (.ireturn, 1) := by decide +kernel
theorem dL_law_509 : decode cL_law 509 = .ok (.aload_n 1, 1) := by decide +kernel
theorem dL_law_510 : decode cL_law 510 = .ok (.aload_n 0, 1) := by decide +kernel
theorem dL_law_511 : decode cL_law 511 = .ok (.iload_n 3, 1) := by decide +kernel
theorem dL_law_512 : decode cL_law 512 = .ok (.iconst 1, 1) := by decide +kernel
theorem dL_law_513 : decode cL_law 513 = .ok (.iadd, 1) := by decide +kernel
theorem dL_law_514 : decode cL_law 514 = .ok (.iaload, 1) := by decide +kernel
theorem dL_law_515 : decode cL_law 515 = .ok (.invokevirtual 69, 3) := by decide +kernel
theorem dL_law_518 : decode cL_law 518 = .ok (.aload_n 2, 1) := by decide +kernel
theorem dL_law_519 : decode cL_law 519 = .ok (.aload_n 0, 1) := by decide +kernel
theorem dL_law_520 : decode cL_law 520 = .ok (.iload_n 3, 1) := by decide +kernel
theorem dL_law_521 : decode cL_law 521 = .ok (.iconst 1, 1) := by decide +kernel
theorem dL_law_522 : decode cL_law 522 = .ok (.iadd, 1) := by decide +kernel
theorem dL_law_523 : decode cL_law 523 = .ok (.iaload, 1) := by decide +kernel
theorem dL_law_524 : decode cL_law 524 = .ok (.invokevirtual 72, 3) := by decide +kernel
theorem dL_law_527 : decode cL_law 527 = .ok (.if_icmp .eq 74, 3) := by decide +kernel
theorem dL_law_530 : decode cL_law 530 = .ok (.iconst 0, 1) := by decide +kernel
theorem dL_law_531 : decode cL_law 531 = .ok (.ireturn, 1) := by decide +kernel
theorem dL_law_532 : decode cL_law 532 = .ok (.aload_n 1, 1) := by decide +kernel
theorem dL_law_533 : decode cL_law 533 = .ok (.aload_n 0, 1) := by decide +kernel
theorem dL_law_534 : decode cL_law 534 = .ok (.iload_n 3, 1) := by decide +kernel
theorem dL_law_535 : decode cL_law 535 = .ok (.iconst 1, 1) := by decide +kernel
theorem dL_law_536 : decode cL_law 536 = .ok (.iadd, 1) := by decide +kernel
theorem dL_law_537 : decode cL_law 537 = .ok (.iaload, 1) := by decide +kernel
theorem dL_law_538 : decode cL_law 538 = .ok (.invokevirtual 73, 3) := by decide +kernel
theorem dL_law_541 : decode cL_law 541 = .ok (.aload_n 2, 1) := by decide +kernel
theorem dL_law_542 : decode cL_law 542 = .ok (.aload_n 0, 1) := by decide +kernel
theorem dL_law_543 : decode cL_law 543 = .ok (.iload_n 3, 1) := by decide +kernel
theorem dL_law_544 : decode cL_law 544 = .ok (.iconst 1, 1) := by decide +kernel
theorem dL_law_545 : decode cL_law 545 = .ok (.iadd, 1) := by decide +kernel
theorem dL_law_546 : decode cL_law 546 = .ok (.iaload, 1) := by decide +kernel
theorem dL_law_547 : decode cL_law 547 = .ok (.invokevirtual 76, 3) := by decide +kernel
theorem dL_law_550 : decode cL_law 550 = .ok (.if_icmp .eq 51, 3) := by decide +kernel
theorem dL_law_553 : decode cL_law 553 = .ok (.iconst 0, 1) := by decide +kernel
theorem dL_law_554 : decode cL_law 554 = .ok (.ireturn, 1) := by decide +kernel
theorem dL_law_555 : decode cL_law 555 = .ok (.aload_n 1, 1) := by decide +kernel
theorem dL_law_556 : decode cL_law 556 = .ok (.aload_n 0, 1) := by decide +kernel
theorem dL_law_557 : decode cL_law 557 = .ok (.iload_n 3, 1) := by decide +kernel
theorem dL_law_558 : decode cL_law 558 = .ok (.iconst 1, 1) := by decide +kernel
theorem dL_law_559 : decode cL_law 559 = .ok (.iadd, 1) := by decide +kernel
theorem dL_law_560 : decode cL_law 560 = .ok (.iaload, 1) := by decide +kernel
theorem dL_law_561 : decode cL_law 561 = .ok (.invokevirtual 77, 3) := by decide +kernel
theorem dL_law_564 : decode cL_law 564 = .ok (.aload_n 2, 1) := by decide +kernel
theorem dL_law_565 : decode cL_law 565 = .ok (.aload_n 0, 1) := by decide +kernel
theorem dL_law_566 : decode cL_law 566 = .ok (.iload_n 3, 1) := by decide +kernel
theorem dL_law_567 : decode cL_law 567 = .ok (.iconst 1, 1) := by decide +kernel
theorem dL_law_568 : decode cL_law 568 = .ok (.iadd, 1) := by decide +kernel
theorem dL_law_569 : decode cL_law 569 = .ok (.iaload, 1) := by decide +kernel
theorem dL_law_570 : decode cL_law 570 = .ok (.invokevirtual 80, 3) := by decide +kernel
theorem dL_law_573 : decode cL_law 573 = .ok (.if_icmp .eq 28, 3) := by decide +kernel
theorem dL_law_576 : decode cL_law 576 = .ok (.iconst 0, 1) := by decide +kernel
theorem dL_law_577 : decode cL_law 577 = .ok (.ireturn, 1) := by decide +kernel
theorem dL_law_578 : decode cL_law 578 = .ok (.aload_n 1, 1) := by decide +kernel
theorem dL_law_579 : decode cL_law 579 = .ok (.aload_n 0, 1) := by decide +kernel
theorem dL_law_580 : decode cL_law 580 = .ok (.iload_n 3, 1) := by decide +kernel
theorem dL_law_581 : decode cL_law 581 = .ok (.iconst 1, 1) := by decide +kernel
theorem dL_law_582 : decode cL_law 582 = .ok (.iadd, 1) := by decide +kernel
theorem dL_law_583 : decode cL_law 583 = .ok (.iaload, 1) := by decide +kernel
theorem dL_law_584 : decode cL_law 584 = .ok (.invokevirtual 81, 3) := by decide +kernel
theorem dL_law_587 : decode cL_law 587 = .ok (.aload_n 2, 1) := by decide +kernel
theorem dL_law_588 : decode cL_law 588 = .ok (.aload_n 0, 1) := by decide +kernel
theorem dL_law_589 : decode cL_law 589 = .ok (.iload_n 3, 1) := by decide +kernel
theorem dL_law_590 : decode cL_law 590 = .ok (.iconst 1, 1) := by decide +kernel
theorem dL_law_591 : decode cL_law 591 = .ok (.iadd, 1) := by decide +kernel
theorem dL_law_592 : decode cL_law 592 = .ok (.iaload, 1) := by decide +kernel
theorem dL_law_593 : decode cL_law 593 = .ok (.invokevirtual 84, 3) := by decide +kernel
theorem dL_law_596 : decode cL_law 596 = .ok (.if_icmp .eq 5, 3) := by decide +kernel
theorem dL_law_599 : decode cL_law 599 = .ok (.iconst 0, 1) := by decide +kernel
theorem dL_law_600 : decode cL_law 600 = .ok (.ireturn, 1) := by decide +kernel
theorem dL_law_601 : decode cL_law 601 = .ok (.iinc 3 6, 3) := by decide +kernel
theorem dL_law_604 : decode cL_law 604 = .ok (.goto (-586), 3) := by decide +kernel
theorem dL_law_607 : decode cL_law 607 = .ok (.iconst 1, 1) := by decide +kernel
theorem dL_law_608 : decode cL_law 608 = .ok (.ireturn, 1) := by decide +kernel
