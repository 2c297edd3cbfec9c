/-! CommaTables$Tables -/
set_option maxRecDepth 100000
def RX2 : String := "CommaTables$Tables"
def TX2 : u_T := fun k => match k with
  | 0 => ("CommaTables$Tables", "stop", "LCommaTables$Stop;", true)
  | 1 => ("CommaTables$Tables", "words", "LCommaTables$Words;", true)
  | 2 => ("CommaTables$Tables", "all", "[LCommaTables$Table;", true)
  | 3 => ("CommaTables$Tables", "made", "I", false)
  | 4 => ("CommaTables$Tables", "text", "[B", false)
  | 5 => ("CommaTables$Tables", "size", "I", false)
  | 6 => ("CommaTables$Tables", "at", "I", false)
  | 7 => ("CommaTables$Tables", "means", "[B", true)
  | 8 => ("CommaTables$Tables", "meant", "I", false)
  | 9 => ("CommaTables$Tables", "starts", "[I", true)
  | 10 => ("CommaTables$Tables", "lengths", "[B", true)
  | 11 => ("CommaTables$Tables", "count", "I", false)
  | 12 => ("CommaTables$Tables", "columns", "I", false)
  | 13 => ("CommaTables$Tables", "orders", "LCommaTables$Orders;", true)
  | _ => ("CommaTables$Tables", "ranks", "[J", true)
def tyX2 : Nat → FieldType := fun k => match k with
  | 0 => .object "CommaTables$Stop"
  | 1 => .object "CommaTables$Words"
  | 2 => .array (.object "CommaTables$Table")
  | 3 => .int
  | 4 => .array .byte
  | 5 => .int
  | 6 => .int
  | 7 => .array .byte
  | 8 => .int
  | 9 => .array .int
  | 10 => .array .byte
  | 11 => .int
  | 12 => .int
  | 13 => .object "CommaTables$Orders"
  | _ => .array .long
abbrev wsX20 : List Cond := u_ws RX2 TX2 15
set_option maxRecDepth 100000 in
theorem nmX2 : ∀ a, a < 15 → ∀ b, b < 15 → a ≠ b → (TX2 a).2.1 ≠ (TX2 b).2.1 := by decide +kernel
set_option maxRecDepth 100000 in
theorem tyX2_ok : ∀ k, k < 15 → parseFieldDescriptor (TX2 k).2.2.1 = some (tyX2 k) := by decide +kernel
abbrev cX2_init : ByteArray := prog_7_method_1_code
def yX2_init : MethodName := ⟨RX2, "<init>", "(LCommaTables$Stop;)V"⟩
theorem dX2_init_0 : decode cX2_init 0 = .ok (.aload_n 0, 1) := by decide +kernel
theorem dX2_init_1 : decode cX2_init 1 = .ok (.invokespecial 3, 3) := by decide +kernel
theorem dX2_init_4 : decode cX2_init 4 = .ok (.aload_n 0, 1) := by decide +kernel
theorem dX2_init_5 : decode cX2_init 5 = .ok (.new 9, 3) := by decide +kernel
theorem dX2_init_8 : decode cX2_init 8 = .ok (.dup, 1) := by decide +kernel
theorem dX2_init_9 : decode cX2_init 9 = .ok (.invokespecial 11, 3) := by decide +kernel
theorem dX2_init_12 : decode cX2_init 12 = .ok (.putfield 12, 3) := by decide +kernel
theorem dX2_init_15 : decode cX2_init 15 = .ok (.aload_n 0, 1) := by decide +kernel
theorem dX2_init_16 : decode cX2_init 16 = .ok (.bipush 41, 2) := by decide +kernel
theorem dX2_init_18 : decode cX2_init 18 = .ok (.anewarray 18, 3) := by decide +kernel
theorem dX2_init_21 : decode cX2_init 21 = .ok (.putfield 20, 3) := by decide +kernel
theorem dX2_init_24 : decode cX2_init 24 = .ok (.aload_n 0, 1) := by decide +kernel
theorem dX2_init_25 : decode cX2_init 25 = .ok (.sipush 16000, 3) := by decide +kernel
theorem dX2_init_28 : decode cX2_init 28 = .ok (.newarray .byte, 2) := by decide +kernel
theorem dX2_init_30 : decode cX2_init 30 = .ok (.putfield 24, 3) := by decide +kernel
theorem dX2_init_33 : decode cX2_init 33 = .ok (.aload_n 0, 1) := by decide +kernel
theorem dX2_init_34 : decode cX2_init 34 = .ok (.sipush 8000, 3) := by decide +kernel
theorem dX2_init_37 : decode cX2_init 37 = .ok (.newarray .int, 2) := by decide +kernel
theorem dX2_init_39 : decode cX2_init 39 = .ok (.putfield 28, 3) := by decide +kernel
theorem dX2_init_42 : decode cX2_init 42 = .ok (.aload_n 0, 1) := by decide +kernel
theorem dX2_init_43 : decode cX2_init 43 = .ok (.sipush 8000, 3) := by decide +kernel
theorem dX2_init_46 : decode cX2_init 46 = .ok (.newarray .byte, 2) := by decide +kernel
theorem dX2_init_48 : decode cX2_init 48 = .ok (.putfield 32, 3) := by decide +kernel
theorem dX2_init_51 : decode cX2_init 51 = .ok (.aload_n 0, 1) := by decide +kernel
theorem dX2_init_52 : decode cX2_init 52 = .ok (.new 35, 3) := by decide +kernel
theorem dX2_init_55 : decode cX2_init 55 = .ok (.dup, 1) := by decide +kernel
theorem dX2_init_56 : decode cX2_init 56 = .ok (.invokespecial 37, 3) := by decide +kernel
theorem dX2_init_59 : decode cX2_init 59 = .ok (.putfield 38, 3) := by decide +kernel
theorem dX2_init_62 : decode cX2_init 62 = .ok (.aload_n 0, 1) := by decide +kernel
theorem dX2_init_63 : decode cX2_init 63 = .ok (.sipush 500, 3) := by decide +kernel
theorem dX2_init_66 : decode cX2_init 66 = .ok (.newarray .long, 2) := by decide +kernel
theorem dX2_init_68 : decode cX2_init 68 = .ok (.putfield 42, 3) := by decide +kernel
theorem dX2_init_71 : decode cX2_init 71 = .ok (.aload_n 0, 1) := by decide +kernel
theorem dX2_init_72 : decode cX2_init 72 = .ok (.aload_n 1, 1) := by decide +kernel
theorem dX2_init_73 : decode cX2_init 73 = .ok (.putfield 46, 3) := by decide +kernel
theorem dX2_init_76 : decode cX2_init 76 = .ok (.return_, 1) := by decide +kernel
abbrev cX2_read : ByteArray := prog_7_method_7_code
def yX2_read : MethodName := ⟨RX2, "read", "([BI)I"⟩
theorem dX2_read_0 : decode cX2_read 0 = .ok (.aload_n 0, 1) := by decide +kernel
theorem dX2_read_1 : decode cX2_read 1 = .ok (.aload_n 1, 1) := by decide +kernel
theorem dX2_read_2 : decode cX2_read 2 = .ok (.putfield 69, 3) := by decide +kernel
theorem dX2_read_5 : decode cX2_read 5 = .ok (.aload_n 0, 1) := by decide +kernel
theorem dX2_read_6 : decode cX2_read 6 = .ok (.iload_n 2, 1) := by decide +kernel
theorem dX2_read_7 : decode cX2_read 7 = .ok (.putfield 66, 3) := by decide +kernel
theorem dX2_read_10 : decode cX2_read 10 = .ok (.aload_n 0, 1) := by decide +kernel
theorem dX2_read_11 : decode cX2_read 11 = .ok (.iconst 0, 1) := by decide +kernel
theorem dX2_read_12 : decode cX2_read 12 = .ok (.putfield 64, 3) := by decide +kernel
theorem dX2_read_15 : decode cX2_read 15 = .ok (.aload_n 0, 1) := by decide +kernel
theorem dX2_read_16 : decode cX2_read 16 = .ok (.iconst 0, 1) := by decide +kernel
theorem dX2_read_17 : decode cX2_read 17 = .ok (.putfield 72, 3) := by decide +kernel
theorem dX2_read_20 : decode cX2_read 20 = .ok (.aload_n 0, 1) := by decide +kernel
theorem dX2_read_21 : decode cX2_read 21 = .ok (.iconst 0, 1) := by decide +kernel
theorem dX2_read_22 : decode cX2_read 22 = .ok (.putfield 75, 3) := by decide +kernel
theorem dX2_read_25 : decode cX2_read 25 = .ok (.aload_n 0, 1) := by decide +kernel
theorem dX2_read_26 : decode cX2_read 26 = .ok (.bipush 16, 2) := by decide +kernel
theorem dX2_read_28 : decode cX2_read 28 = .ok (.putfield 78, 3) := by decide +kernel
theorem dX2_read_31 : decode cX2_read 31 = .ok (.aload_n 0, 1) := by decide +kernel
theorem dX2_read_32 : decode cX2_read 32 = .ok (.iconst 1, 1) := by decide +kernel
theorem dX2_read_33 : decode cX2_read 33 = .ok (.invokevirtual 81, 3) := by decide +kernel
theorem dX2_read_36 : decode cX2_read 36 = .ok (.aload_n 0, 1) := by decide +kernel
theorem dX2_read_37 : decode cX2_read 37 = .ok (.aload_n 0, 1) := by decide +kernel
theorem dX2_read_38 : decode cX2_read 38 = .ok (.getfield 75, 3) := by decide +kernel
theorem dX2_read_41 : decode cX2_read 41 = .ok (.putfield 78, 3) := by decide +kernel
theorem dX2_read_44 : decode cX2_read 44 = .ok (.iconst 1, 1) := by decide +kernel
theorem dX2_read_45 : decode cX2_read 45 = .ok (.istore_n 3, 1) := by decide +kernel
theorem dX2_read_46 : decode cX2_read 46 = .ok (.aload_n 0, 1) := by decide +kernel
theorem dX2_read_47 : decode cX2_read 47 = .ok (.getfield 64, 3) := by decide +kernel
theorem dX2_read_50 : decode cX2_read 50 = .ok (.aload_n 0, 1) := by decide +kernel
theorem dX2_read_51 : decode cX2_read 51 = .ok (.getfield 66, 3) := by decide +kernel
theorem dX2_read_54 : decode cX2_read 54 = .ok (.if_icmp .ge 30, 3) := by decide +kernel
theorem dX2_read_57 : decode cX2_read 57 = .ok (.iload_n 3, 1) := by decide +kernel
theorem dX2_read_58 : decode cX2_read 58 = .ok (.sipush 500, 3) := by decide +kernel
theorem dX2_read_61 : decode cX2_read 61 = .ok (.if_icmp .ne 12, 3) := by decide +kernel
theorem dX2_read_64 : decode cX2_read 64 = .ok (.aload_n 0, 1) := by decide +kernel
theorem dX2_read_65 : decode cX2_read 65 = .ok (.aload_n 0, 1) := by decide +kernel
theorem dX2_read_66 : decode cX2_read 66 = .ok (.getfield 64, 3) := by decide +kernel
theorem dX2_read_69 : decode cX2_read 69 = .ok (.invokevirtual 85, 3) := by decide +kernel
theorem dX2_read_72 : decode cX2_read 72 = .ok (.athrow, 1) := by decide +kernel
theorem dX2_read_73 : decode cX2_read 73 = .ok (.aload_n 0, 1) := by decide +kernel
theorem dX2_read_74 : decode cX2_read 74 = .ok (.iconst 0, 1) := by decide +kernel
theorem dX2_read_75 : decode cX2_read 75 = .ok (.invokevirtual 81, 3) := by decide +kernel
theorem dX2_read_78 : decode cX2_read 78 = .ok (.iinc 3 1, 3) := by decide +kernel
theorem dX2_read_81 : decode cX2_read 81 = .ok (.goto (-35), 3) := by decide +kernel
theorem dX2_read_84 : decode cX2_read 84 = .ok (.aload_n 0, 1) := by decide +kernel
theorem dX2_read_85 : decode cX2_read 85 = .ok (.iload_n 3, 1) := by decide +kernel
theorem dX2_read_86 : decode cX2_read 86 = .ok (.iconst 1, 1) := by decide +kernel
theorem dX2_read_87 : decode cX2_read 87 = .ok (.isub, 1) := by decide +kernel
theorem dX2_read_88 : decode cX2_read 88 = .ok (.invokevirtual 89, 3) := by decide +kernel
theorem dX2_read_91 : decode cX2_read 91 = .ok (.ireturn, 1) := by decide +kernel
abbrev cX2_line : ByteArray := prog_7_method_8_code
def yX2_line : MethodName := ⟨RX2, "line", "(Z)V"⟩
theorem dX2_line_0 : decode cX2_line 0 = .ok (.aload_n 0, 1) := by decide +kernel
theorem dX2_line_1 : decode cX2_line 1 = .ok (.getfield 75, 3) := by decide +kernel
theorem dX2_line_4 : decode cX2_line 4 = .ok (.istore_n 2, 1) := by decide +kernel
theorem dX2_line_5 : decode cX2_line 5 = .ok (.iconst 1, 1) := by decide +kernel
theorem dX2_line_6 : decode cX2_line 6 = .ok (.istore_n 3, 1) := by decide +kernel
theorem dX2_line_7 : decode cX2_line 7 = .ok (.iload_n 3, 1) := by decide +kernel
theorem dX2_line_8 : decode cX2_line 8 = .ok (.ifCond .eq 68, 3) := by decide +kernel
theorem dX2_line_11 : decode cX2_line 11 = .ok (.aload_n 0, 1) := by decide +kernel
theorem dX2_line_12 : decode cX2_line 12 = .ok (.getfield 64, 3) := by decide +kernel
theorem dX2_line_15 : decode cX2_line 15 = .ok (.istore 4, 2) := by decide +kernel
theorem dX2_line_17 : decode cX2_line 17 = .ok (.aload_n 0, 1) := by decide +kernel
theorem dX2_line_18 : decode cX2_line 18 = .ok (.getfield 75, 3) := by decide +kernel
theorem dX2_line_21 : decode cX2_line 21 = .ok (.iload_n 2, 1) := by decide +kernel
theorem dX2_line_22 : decode cX2_line 22 = .ok (.isub, 1) := by decide +kernel
theorem dX2_line_23 : decode cX2_line 23 = .ok (.aload_n 0, 1) := by decide +kernel
theorem dX2_line_24 : decode cX2_line 24 = .ok (.getfield 78, 3) := by decide +kernel
theorem dX2_line_27 : decode cX2_line 27 = .ok (.if_icmp .ne 10, 3) := by decide +kernel
theorem dX2_line_30 : decode cX2_line 30 = .ok (.aload_n 0, 1) := by decide +kernel
theorem dX2_line_31 : decode cX2_line 31 = .ok (.iload 4, 2) := by decide +kernel
theorem dX2_line_33 : decode cX2_line 33 = .ok (.invokevirtual 85, 3) := by decide +kernel
theorem dX2_line_36 : decode cX2_line 36 = .ok (.athrow, 1) := by decide +kernel
theorem dX2_line_37 : decode cX2_line 37 = .ok (.aload_n 0, 1) := by decide +kernel
theorem dX2_line_38 : decode cX2_line 38 = .ok (.iload_n 1, 1) := by decide +kernel
theorem dX2_line_39 : decode cX2_line 39 = .ok (.iload 4, 2) := by decide +kernel
theorem dX2_line_41 : decode cX2_line 41 = .ok (.invokevirtual 93, 3) := by decide +kernel
theorem dX2_line_44 : decode cX2_line 44 = .ok (.aload_n 0, 1) := by decide +kernel
theorem dX2_line_45 : decode cX2_line 45 = .ok (.invokevirtual 97, 3) := by decide +kernel
theorem dX2_line_48 : decode cX2_line 48 = .ok (.bipush 44, 2) := by decide +kernel
theorem dX2_line_50 : decode cX2_line 50 = .ok (.if_icmp .ne 7, 3) := by decide +kernel
theorem dX2_line_53 : decode cX2_line 53 = .ok (.iconst 1, 1) := by decide +kernel
theorem dX2_line_54 : decode cX2_line 54 = .ok (.goto 4, 3) := by decide +kernel
theorem dX2_line_57 : decode cX2_line 57 = .ok (.iconst 0, 1) := by decide +kernel
theorem dX2_line_58 : decode cX2_line 58 = .ok (.istore_n 3, 1) := by decide +kernel
theorem dX2_line_59 : decode cX2_line 59 = .ok (.iload_n 3, 1) := by decide +kernel
theorem dX2_line_60 : decode cX2_line 60 = .ok (.ifCond .eq 13, 3) := by decide +kernel
theorem dX2_line_63 : decode cX2_line 63 = .ok (.aload_n 0, 1) := by decide +kernel
theorem dX2_line_64 : decode cX2_line 64 = .ok (.dup, 1) := by decide +kernel
theorem dX2_line_65 : decode cX2_line 65 = .ok (.getfield 64, 3) := by decide +kernel
theorem dX2_line_68 : decode cX2_line 68 = .ok (.iconst 1, 1) := by decide +kernel
theorem dX2_line_69 : decode cX2_line 69 = .ok (.iadd, 1) := by decide +kernel
theorem dX2_line_70 : decode cX2_line 70 = .ok (.putfield 64, 3) := by decide +kernel
theorem dX2_line_73 : decode cX2_line 73 = .ok (.goto (-66), 3) := by decide +kernel
theorem dX2_line_76 : decode cX2_line 76 = .ok (.aload_n 0, 1) := by decide +kernel
theorem dX2_line_77 : decode cX2_line 77 = .ok (.invokevirtual 97, 3) := by decide +kernel
theorem dX2_line_80 : decode cX2_line 80 = .ok (.bipush 10, 2) := by decide +kernel
theorem dX2_line_82 : decode cX2_line 82 = .ok (.if_icmp .ne 20, 3) := by decide +kernel
theorem dX2_line_85 : decode cX2_line 85 = .ok (.aload_n 0, 1) := by decide +kernel
theorem dX2_line_86 : decode cX2_line 86 = .ok (.getfield 75, 3) := by decide +kernel
theorem dX2_line_89 : decode cX2_line 89 = .ok (.iload_n 2, 1) := by decide +kernel
theorem dX2_line_90 : decode cX2_line 90 = .ok (.isub, 1) := by decide +kernel
theorem dX2_line_91 : decode cX2_line 91 = .ok (.aload_n 0, 1) := by decide +kernel
theorem dX2_line_92 : decode cX2_line 92 = .ok (.getfield 78, 3) := by decide +kernel
theorem dX2_line_95 : decode cX2_line 95 = .ok (.if_icmp .ge 16, 3) := by decide +kernel
theorem dX2_line_98 : decode cX2_line 98 = .ok (.iload_n 1, 1) := by decide +kernel
theorem dX2_line_99 : decode cX2_line 99 = .ok (.ifCond .ne 12, 3) := by decide +kernel
theorem dX2_line_102 : decode cX2_line 102 = .ok (.aload_n 0, 1) := by decide +kernel
theorem dX2_line_103 : decode cX2_line 103 = .ok (.aload_n 0, 1) := by decide +kernel
theorem dX2_line_104 : decode cX2_line 104 = .ok (.getfield 64, 3) := by decide +kernel
theorem dX2_line_107 : decode cX2_line 107 = .ok (.invokevirtual 85, 3) := by decide +kernel
theorem dX2_line_110 : decode cX2_line 110 = .ok (.athrow, 1) := by decide +kernel
theorem dX2_line_111 : decode cX2_line 111 = .ok (.aload_n 0, 1) := by decide +kernel
theorem dX2_line_112 : decode cX2_line 112 = .ok (.dup, 1) := by decide +kernel
theorem dX2_line_113 : decode cX2_line 113 = .ok (.getfield 64, 3) := by decide +kernel
theorem dX2_line_116 : decode cX2_line 116 = .ok (.iconst 1, 1) := by decide +kernel
theorem dX2_line_117 : decode cX2_line 117 = .ok (.iadd, 1) := by decide +kernel
theorem dX2_line_118 : decode cX2_line 118 = .ok (.putfield 64, 3) := by decide +kernel
theorem dX2_line_121 : decode cX2_line 121 = .ok (.return_, 1) := by decide +kernel
abbrev cX2_wrong : ByteArray := prog_7_method_5_code
def yX2_wrong : MethodName := ⟨RX2, "wrong", "(I)Ljava/lang/IllegalStateException;"⟩
theorem dX2_wrong_0 : decode cX2_wrong 0 = .ok (.aload_n 0, 1) := by decide +kernel
theorem dX2_wrong_1 : decode cX2_wrong 1 = .ok (.getfield 46, 3) := by decide +kernel
theorem dX2_wrong_4 : decode cX2_wrong 4 = .ok (.bipush 20, 2) := by decide +kernel
theorem dX2_wrong_6 : decode cX2_wrong 6 = .ok (.iload_n 1, 1) := by decide +kernel
theorem dX2_wrong_7 : decode cX2_wrong 7 = .ok (.invokevirtual 58, 3) := by decide +kernel
theorem dX2_wrong_10 : decode cX2_wrong 10 = .ok (.areturn, 1) := by decide +kernel
abbrev cX2_cell : ByteArray := prog_7_method_9_code
def yX2_cell : MethodName := ⟨RX2, "cell", "(ZI)V"⟩
theorem dX2_cell_0 : decode cX2_cell 0 = .ok (.aload_n 0, 1) := by decide +kernel
theorem dX2_cell_1 : decode cX2_cell 1 = .ok (.getfield 28, 3) := by decide +kernel
theorem dX2_cell_4 : decode cX2_cell 4 = .ok (.aload_n 0, 1) := by decide +kernel
theorem dX2_cell_5 : decode cX2_cell 5 = .ok (.getfield 75, 3) := by decide +kernel
theorem dX2_cell_8 : decode cX2_cell 8 = .ok (.aload_n 0, 1) := by decide +kernel
theorem dX2_cell_9 : decode cX2_cell 9 = .ok (.getfield 72, 3) := by decide +kernel
theorem dX2_cell_12 : decode cX2_cell 12 = .ok (.iastore, 1) := by decide +kernel
theorem dX2_cell_13 : decode cX2_cell 13 = .ok (.aload_n 0, 1) := by decide +kernel
theorem dX2_cell_14 : decode cX2_cell 14 = .ok (.invokevirtual 97, 3) := by decide +kernel
theorem dX2_cell_17 : decode cX2_cell 17 = .ok (.bipush 34, 2) := by decide +kernel
theorem dX2_cell_19 : decode cX2_cell 19 = .ok (.if_icmp .ne 7, 3) := by decide +kernel
theorem dX2_cell_22 : decode cX2_cell 22 = .ok (.iconst 1, 1) := by decide +kernel
theorem dX2_cell_23 : decode cX2_cell 23 = .ok (.goto 4, 3) := by decide +kernel
theorem dX2_cell_26 : decode cX2_cell 26 = .ok (.iconst 0, 1) := by decide +kernel
theorem dX2_cell_27 : decode cX2_cell 27 = .ok (.istore_n 3, 1) := by decide +kernel
theorem dX2_cell_28 : decode cX2_cell 28 = .ok (.iload_n 3, 1) := by decide +kernel
theorem dX2_cell_29 : decode cX2_cell 29 = .ok (.ifCond .eq 10, 3) := by decide +kernel
theorem dX2_cell_32 : decode cX2_cell 32 = .ok (.aload_n 0, 1) := by decide +kernel
theorem dX2_cell_33 : decode cX2_cell 33 = .ok (.invokevirtual 101, 3) := by decide +kernel
theorem dX2_cell_36 : decode cX2_cell 36 = .ok (.goto 46, 3) := by decide +kernel
theorem dX2_cell_39 : decode cX2_cell 39 = .ok (.aload_n 0, 1) := by decide +kernel
theorem dX2_cell_40 : decode cX2_cell 40 = .ok (.invokevirtual 97, 3) := by decide +kernel
theorem dX2_cell_43 : decode cX2_cell 43 = .ok (.bipush 32, 2) := by decide +kernel
theorem dX2_cell_45 : decode cX2_cell 45 = .ok (.if_icmp .lt 37, 3) := by decide +kernel
theorem dX2_cell_48 : decode cX2_cell 48 = .ok (.aload_n 0, 1) := by decide +kernel
theorem dX2_cell_49 : decode cX2_cell 49 = .ok (.invokevirtual 97, 3) := by decide +kernel
theorem dX2_cell_52 : decode cX2_cell 52 = .ok (.bipush 126, 2) := by decide +kernel
theorem dX2_cell_54 : decode cX2_cell 54 = .ok (.if_icmp .gt 28, 3) := by decide +kernel
theorem dX2_cell_57 : decode cX2_cell 57 = .ok (.aload_n 0, 1) := by decide +kernel
theorem dX2_cell_58 : decode cX2_cell 58 = .ok (.invokevirtual 97, 3) := by decide +kernel
theorem dX2_cell_61 : decode cX2_cell 61 = .ok (.bipush 34, 2) := by decide +kernel
theorem dX2_cell_63 : decode cX2_cell 63 = .ok (.if_icmp .eq 19, 3) := by decide +kernel
theorem dX2_cell_66 : decode cX2_cell 66 = .ok (.aload_n 0, 1) := by decide +kernel
theorem dX2_cell_67 : decode cX2_cell 67 = .ok (.invokevirtual 97, 3) := by decide +kernel
theorem dX2_cell_70 : decode cX2_cell 70 = .ok (.bipush 44, 2) := by decide +kernel
theorem dX2_cell_72 : decode cX2_cell 72 = .ok (.if_icmp .eq 10, 3) := by decide +kernel
theorem dX2_cell_75 : decode cX2_cell 75 = .ok (.aload_n 0, 1) := by decide +kernel
theorem dX2_cell_76 : decode cX2_cell 76 = .ok (.invokevirtual 104, 3) := by decide +kernel
theorem dX2_cell_79 : decode cX2_cell 79 = .ok (.goto (-40), 3) := by decide +kernel
theorem dX2_cell_82 : decode cX2_cell 82 = .ok (.aload_n 0, 1) := by decide +kernel
theorem dX2_cell_83 : decode cX2_cell 83 = .ok (.getfield 72, 3) := by decide +kernel
theorem dX2_cell_86 : decode cX2_cell 86 = .ok (.aload_n 0, 1) := by decide +kernel
theorem dX2_cell_87 : decode cX2_cell 87 = .ok (.getfield 28, 3) := by decide +kernel
theorem dX2_cell_90 : decode cX2_cell 90 = .ok (.aload_n 0, 1) := by decide +kernel
theorem dX2_cell_91 : decode cX2_cell 91 = .ok (.getfield 75, 3) := by decide +kernel
theorem dX2_cell_94 : decode cX2_cell 94 = .ok (.iaload, 1) := by decide +kernel
theorem dX2_cell_95 : decode cX2_cell 95 = .ok (.isub, 1) := by decide +kernel
theorem dX2_cell_96 : decode cX2_cell 96 = .ok (.istore 4, 2) := by decide +kernel
theorem dX2_cell_98 : decode cX2_cell 98 = .ok (.aload_n 0, 1) := by decide +kernel
theorem dX2_cell_99 : decode cX2_cell 99 = .ok (.invokevirtual 97, 3) := by decide +kernel
theorem dX2_cell_102 : decode cX2_cell 102 = .ok (.bipush 44, 2) := by decide +kernel
theorem dX2_cell_104 : decode cX2_cell 104 = .ok (.if_icmp .eq 12, 3) := by decide +kernel
theorem dX2_cell_107 : decode cX2_cell 107 = .ok (.aload_n 0, 1) := by decide +kernel
theorem dX2_cell_108 : decode cX2_cell 108 = .ok (.invokevirtual 97, 3) := by decide +kernel
theorem dX2_cell_111 : decode cX2_cell 111 = .ok (.bipush 10, 2) := by decide +kernel
theorem dX2_cell_113 : decode cX2_cell 113 = .ok (.if_icmp .ne 7, 3) := by decide +kernel
theorem dX2_cell_116 : decode cX2_cell 116 = .ok (.iconst 1, 1) := by decide +kernel
theorem dX2_cell_117 : decode cX2_cell 117 = .ok (.goto 4, 3) := by decide +kernel
theorem dX2_cell_120 : decode cX2_cell 120 = .ok (.iconst 0, 1) := by decide +kernel
theorem dX2_cell_121 : decode cX2_cell 121 = .ok (.istore 5, 2) := by decide +kernel
theorem dX2_cell_123 : decode cX2_cell 123 = .ok (.iload 5, 2) := by decide +kernel
theorem dX2_cell_125 : decode cX2_cell 125 = .ok (.ifCond .ne 12, 3) := by decide +kernel
theorem dX2_cell_128 : decode cX2_cell 128 = .ok (.aload_n 0, 1) := by decide +kernel
theorem dX2_cell_129 : decode cX2_cell 129 = .ok (.aload_n 0, 1) := by decide +kernel
theorem dX2_cell_130 : decode cX2_cell 130 = .ok (.getfield 64, 3) := by decide +kernel
theorem dX2_cell_133 : decode cX2_cell 133 = .ok (.invokevirtual 85, 3) := by decide +kernel
theorem dX2_cell_136 : decode cX2_cell 136 = .ok (.athrow, 1) := by decide +kernel
theorem dX2_cell_137 : decode cX2_cell 137 = .ok (.iload 4, 2) := by decide +kernel
theorem dX2_cell_139 : decode cX2_cell 139 = .ok (.iload_n 1, 1) := by decide +kernel
theorem dX2_cell_140 : decode cX2_cell 140 = .ok (.ifCond .eq 8, 3) := by decide +kernel
theorem dX2_cell_143 : decode cX2_cell 143 = .ok (.bipush 20, 2) := by decide +kernel
theorem dX2_cell_145 : decode cX2_cell 145 = .ok (.goto 5, 3) := by decide +kernel
theorem dX2_cell_148 : decode cX2_cell 148 = .ok (.bipush 40, 2) := by decide +kernel
theorem dX2_cell_150 : decode cX2_cell 150 = .ok (.if_icmp .gt 12, 3) := by decide +kernel
theorem dX2_cell_153 : decode cX2_cell 153 = .ok (.iload_n 1, 1) := by decide +kernel
theorem dX2_cell_154 : decode cX2_cell 154 = .ok (.ifCond .eq 14, 3) := by decide +kernel
theorem dX2_cell_157 : decode cX2_cell 157 = .ok (.iload 4, 2) := by decide +kernel
theorem dX2_cell_159 : decode cX2_cell 159 = .ok (.ifCond .ne 9, 3) := by decide +kernel
theorem dX2_cell_162 : decode cX2_cell 162 = .ok (.aload_n 0, 1) := by decide +kernel
theorem dX2_cell_163 : decode cX2_cell 163 = .ok (.iload_n 2, 1) := by decide +kernel
theorem dX2_cell_164 : decode cX2_cell 164 = .ok (.invokevirtual 85, 3) := by decide +kernel
theorem dX2_cell_167 : decode cX2_cell 167 = .ok (.athrow, 1) := by decide +kernel
theorem dX2_cell_168 : decode cX2_cell 168 = .ok (.aload_n 0, 1) := by decide +kernel
theorem dX2_cell_169 : decode cX2_cell 169 = .ok (.getfield 32, 3) := by decide +kernel
theorem dX2_cell_172 : decode cX2_cell 172 = .ok (.aload_n 0, 1) := by decide +kernel
theorem dX2_cell_173 : decode cX2_cell 173 = .ok (.getfield 75, 3) := by decide +kernel
theorem dX2_cell_176 : decode cX2_cell 176 = .ok (.iload 4, 2) := by decide +kernel
theorem dX2_cell_178 : decode cX2_cell 178 = .ok (.ifCond .ne 11, 3) := by decide +kernel
theorem dX2_cell_181 : decode cX2_cell 181 = .ok (.iload_n 3, 1) := by decide +kernel
theorem dX2_cell_182 : decode cX2_cell 182 = .ok (.ifCond .ne 7, 3) := by decide +kernel
theorem dX2_cell_185 : decode cX2_cell 185 = .ok (.iconst (-1), 1) := by decide +kernel
theorem dX2_cell_186 : decode cX2_cell 186 = .ok (.goto 17, 3) := by decide +kernel
theorem dX2_cell_189 : decode cX2_cell 189 = .ok (.iload_n 3, 1) := by decide +kernel
theorem dX2_cell_190 : decode cX2_cell 190 = .ok (.ifCond .eq 11, 3) := by decide +kernel
theorem dX2_cell_193 : decode cX2_cell 193 = .ok (.iload 4, 2) := by decide +kernel
theorem dX2_cell_195 : decode cX2_cell 195 = .ok (.bipush 64, 2) := by decide +kernel
theorem dX2_cell_197 : decode cX2_cell 197 = .ok (.iadd, 1) := by decide +kernel
theorem dX2_cell_198 : decode cX2_cell 198 = .ok (.goto 5, 3) := by decide +kernel
theorem dX2_cell_201 : decode cX2_cell 201 = .ok (.iload 4, 2) := by decide +kernel
theorem dX2_cell_203 : decode cX2_cell 203 = .ok (.i2b, 1) := by decide +kernel
theorem dX2_cell_204 : decode cX2_cell 204 = .ok (.bastore, 1) := by decide +kernel
theorem dX2_cell_205 : decode cX2_cell 205 = .ok (.iconst 0, 1) := by decide +kernel
theorem dX2_cell_206 : decode cX2_cell 206 = .ok (.istore 6, 2) := by decide +kernel
theorem dX2_cell_208 : decode cX2_cell 208 = .ok (.iload 6, 2) := by decide +kernel
theorem dX2_cell_210 : decode cX2_cell 210 = .ok (.aload_n 0, 1) := by decide +kernel
theorem dX2_cell_211 : decode cX2_cell 211 = .ok (.getfield 75, 3) := by decide +kernel
theorem dX2_cell_214 : decode cX2_cell 214 = .ok (.if_icmp .ge 32, 3) := by decide +kernel
theorem dX2_cell_217 : decode cX2_cell 217 = .ok (.iload_n 1, 1) := by decide +kernel
theorem dX2_cell_218 : decode cX2_cell 218 = .ok (.ifCond .eq 28, 3) := by decide +kernel
theorem dX2_cell_221 : decode cX2_cell 221 = .ok (.aload_n 0, 1) := by decide +kernel
theorem dX2_cell_222 : decode cX2_cell 222 = .ok (.iload 6, 2) := by decide +kernel
theorem dX2_cell_224 : decode cX2_cell 224 = .ok (.aload_n 0, 1) := by decide +kernel
theorem dX2_cell_225 : decode cX2_cell 225 = .ok (.getfield 75, 3) := by decide +kernel
theorem dX2_cell_228 : decode cX2_cell 228 = .ok (.invokevirtual 107, 3) := by decide +kernel
theorem dX2_cell_231 : decode cX2_cell 231 = .ok (.ifCond .eq 9, 3) := by decide +kernel
theorem dX2_cell_234 : decode cX2_cell 234 = .ok (.aload_n 0, 1) := by decide +kernel
theorem dX2_cell_235 : decode cX2_cell 235 = .ok (.iload_n 2, 1) := by decide +kernel
theorem dX2_cell_236 : decode cX2_cell 236 = .ok (.invokevirtual 85, 3) := by decide +kernel
theorem dX2_cell_239 : decode cX2_cell 239 = .ok (.athrow, 1) := by decide +kernel
theorem dX2_cell_240 : decode cX2_cell 240 = .ok (.iinc 6 1, 3) := by decide +kernel
theorem dX2_cell_243 : decode cX2_cell 243 = .ok (.goto (-35), 3) := by decide +kernel
theorem dX2_cell_246 : decode cX2_cell 246 = .ok (.aload_n 0, 1) := by decide +kernel
theorem dX2_cell_247 : decode cX2_cell 247 = .ok (.dup, 1) := by decide +kernel
theorem dX2_cell_248 : decode cX2_cell 248 = .ok (.getfield 75, 3) := by decide +kernel
theorem dX2_cell_251 : decode cX2_cell 251 = .ok (.iconst 1, 1) := by decide +kernel
theorem dX2_cell_252 : decode cX2_cell 252 = .ok (.iadd, 1) := by decide +kernel
theorem dX2_cell_253 : decode cX2_cell 253 = .ok (.putfield 75, 3) := by decide +kernel
theorem dX2_cell_256 : decode cX2_cell 256 = .ok (.return_, 1) := by decide +kernel
abbrev cX2_look : ByteArray := prog_7_method_6_code
def yX2_look : MethodName := ⟨RX2, "look", "()I"⟩
theorem dX2_look_0 : decode cX2_look 0 = .ok (.aload_n 0, 1) := by decide +kernel
theorem dX2_look_1 : decode cX2_look 1 = .ok (.getfield 64, 3) := by decide +kernel
theorem dX2_look_4 : decode cX2_look 4 = .ok (.aload_n 0, 1) := by decide +kernel
theorem dX2_look_5 : decode cX2_look 5 = .ok (.getfield 66, 3) := by decide +kernel
theorem dX2_look_8 : decode cX2_look 8 = .ok (.if_icmp .ge 19, 3) := by decide +kernel
theorem dX2_look_11 : decode cX2_look 11 = .ok (.aload_n 0, 1) := by decide +kernel
theorem dX2_look_12 : decode cX2_look 12 = .ok (.getfield 69, 3) := by decide +kernel
theorem dX2_look_15 : decode cX2_look 15 = .ok (.aload_n 0, 1) := by decide +kernel
theorem dX2_look_16 : decode cX2_look 16 = .ok (.getfield 64, 3) := by decide +kernel
theorem dX2_look_19 : decode cX2_look 19 = .ok (.baload, 1) := by decide +kernel
theorem dX2_look_20 : decode cX2_look 20 = .ok (.sipush 255, 3) := by decide +kernel
theorem dX2_look_23 : decode cX2_look 23 = .ok (.iand, 1) := by decide +kernel
theorem dX2_look_24 : decode cX2_look 24 = .ok (.goto 4, 3) := by decide +kernel
theorem dX2_look_27 : decode cX2_look 27 = .ok (.iconst (-1), 1) := by decide +kernel
theorem dX2_look_28 : decode cX2_look 28 = .ok (.ireturn, 1) := by decide +kernel
abbrev cX2_quoted : ByteArray := prog_7_method_11_code
def yX2_quoted : MethodName := ⟨RX2, "quoted", "()V"⟩
theorem dX2_quoted_0 : decode cX2_quoted 0 = .ok (.aload_n 0, 1) := by decide +kernel
theorem dX2_quoted_1 : decode cX2_quoted 1 = .ok (.dup, 1) := by decide +kernel
theorem dX2_quoted_2 : decode cX2_quoted 2 = .ok (.getfield 64, 3) := by decide +kernel
theorem dX2_quoted_5 : decode cX2_quoted 5 = .ok (.iconst 1, 1) := by decide +kernel
theorem dX2_quoted_6 : decode cX2_quoted 6 = .ok (.iadd, 1) := by decide +kernel
theorem dX2_quoted_7 : decode cX2_quoted 7 = .ok (.putfield 64, 3) := by decide +kernel
theorem dX2_quoted_10 : decode cX2_quoted 10 = .ok (.iconst 1, 1) := by decide +kernel
theorem dX2_quoted_11 : decode cX2_quoted 11 = .ok (.istore_n 1, 1) := by decide +kernel
theorem dX2_quoted_12 : decode cX2_quoted 12 = .ok (.iload_n 1, 1) := by decide +kernel
theorem dX2_quoted_13 : decode cX2_quoted 13 = .ok (.ifCond .eq 78, 3) := by decide +kernel
theorem dX2_quoted_16 : decode cX2_quoted 16 = .ok (.aload_n 0, 1) := by decide +kernel
theorem dX2_quoted_17 : decode cX2_quoted 17 = .ok (.invokevirtual 97, 3) := by decide +kernel
theorem dX2_quoted_20 : decode cX2_quoted 20 = .ok (.istore_n 2, 1) := by decide +kernel
theorem dX2_quoted_21 : decode cX2_quoted 21 = .ok (.iload_n 2, 1) := by decide +kernel
theorem dX2_quoted_22 : decode cX2_quoted 22 = .ok (.bipush 32, 2) := by decide +kernel
theorem dX2_quoted_24 : decode cX2_quoted 24 = .ok (.if_icmp .lt 9, 3) := by decide +kernel
theorem dX2_quoted_27 : decode cX2_quoted 27 = .ok (.iload_n 2, 1) := by decide +kernel
theorem dX2_quoted_28 : decode cX2_quoted 28 = .ok (.bipush 126, 2) := by decide +kernel
theorem dX2_quoted_30 : decode cX2_quoted 30 = .ok (.if_icmp .le 12, 3) := by decide +kernel
theorem dX2_quoted_33 : decode cX2_quoted 33 = .ok (.aload_n 0, 1) := by decide +kernel
theorem dX2_quoted_34 : decode cX2_quoted 34 = .ok (.aload_n 0, 1) := by decide +kernel
theorem dX2_quoted_35 : decode cX2_quoted 35 = .ok (.getfield 64, 3) := by decide +kernel
theorem dX2_quoted_38 : decode cX2_quoted 38 = .ok (.invokevirtual 85, 3) := by decide +kernel
theorem dX2_quoted_41 : decode cX2_quoted 41 = .ok (.athrow, 1) := by decide +kernel
theorem dX2_quoted_42 : decode cX2_quoted 42 = .ok (.iload_n 2, 1) := by decide +kernel
theorem dX2_quoted_43 : decode cX2_quoted 43 = .ok (.bipush 34, 2) := by decide +kernel
theorem dX2_quoted_45 : decode cX2_quoted 45 = .ok (.if_icmp .eq 10, 3) := by decide +kernel
theorem dX2_quoted_48 : decode cX2_quoted 48 = .ok (.aload_n 0, 1) := by decide +kernel
theorem dX2_quoted_49 : decode cX2_quoted 49 = .ok (.invokevirtual 104, 3) := by decide +kernel
theorem dX2_quoted_52 : decode cX2_quoted 52 = .ok (.goto 36, 3) := by decide +kernel
theorem dX2_quoted_55 : decode cX2_quoted 55 = .ok (.aload_n 0, 1) := by decide +kernel
theorem dX2_quoted_56 : decode cX2_quoted 56 = .ok (.dup, 1) := by decide +kernel
theorem dX2_quoted_57 : decode cX2_quoted 57 = .ok (.getfield 64, 3) := by decide +kernel
theorem dX2_quoted_60 : decode cX2_quoted 60 = .ok (.iconst 1, 1) := by decide +kernel
theorem dX2_quoted_61 : decode cX2_quoted 61 = .ok (.iadd, 1) := by decide +kernel
theorem dX2_quoted_62 : decode cX2_quoted 62 = .ok (.putfield 64, 3) := by decide +kernel
theorem dX2_quoted_65 : decode cX2_quoted 65 = .ok (.aload_n 0, 1) := by decide +kernel
theorem dX2_quoted_66 : decode cX2_quoted 66 = .ok (.invokevirtual 97, 3) := by decide +kernel
theorem dX2_quoted_69 : decode cX2_quoted 69 = .ok (.bipush 34, 2) := by decide +kernel
theorem dX2_quoted_71 : decode cX2_quoted 71 = .ok (.if_icmp .ne 7, 3) := by decide +kernel
theorem dX2_quoted_74 : decode cX2_quoted 74 = .ok (.iconst 1, 1) := by decide +kernel
theorem dX2_quoted_75 : decode cX2_quoted 75 = .ok (.goto 4, 3) := by decide +kernel
theorem dX2_quoted_78 : decode cX2_quoted 78 = .ok (.iconst 0, 1) := by decide +kernel
theorem dX2_quoted_79 : decode cX2_quoted 79 = .ok (.istore_n 1, 1) := by decide +kernel
theorem dX2_quoted_80 : decode cX2_quoted 80 = .ok (.iload_n 1, 1) := by decide +kernel
theorem dX2_quoted_81 : decode cX2_quoted 81 = .ok (.ifCond .eq 7, 3) := by decide +kernel
theorem dX2_quoted_84 : decode cX2_quoted 84 = .ok (.aload_n 0, 1) := by decide +kernel
theorem dX2_quoted_85 : decode cX2_quoted 85 = .ok (.invokevirtual 104, 3) := by decide +kernel
theorem dX2_quoted_88 : decode cX2_quoted 88 = .ok (.goto (-76), 3) := by decide +kernel
theorem dX2_quoted_91 : decode cX2_quoted 91 = .ok (.return_, 1) := by decide +kernel
abbrev cX2_mean : ByteArray := prog_7_method_10_code
def yX2_mean : MethodName := ⟨RX2, "mean", "()V"⟩
theorem dX2_mean_0 : decode cX2_mean 0 = .ok (.aload_n 0, 1) := by decide +kernel
theorem dX2_mean_1 : decode cX2_mean 1 = .ok (.getfield 24, 3) := by decide +kernel
theorem dX2_mean_4 : decode cX2_mean 4 = .ok (.aload_n 0, 1) := by decide +kernel
theorem dX2_mean_5 : decode cX2_mean 5 = .ok (.getfield 72, 3) := by decide +kernel
theorem dX2_mean_8 : decode cX2_mean 8 = .ok (.aload_n 0, 1) := by decide +kernel
theorem dX2_mean_9 : decode cX2_mean 9 = .ok (.getfield 69, 3) := by decide +kernel
theorem dX2_mean_12 : decode cX2_mean 12 = .ok (.aload_n 0, 1) := by decide +kernel
theorem dX2_mean_13 : decode cX2_mean 13 = .ok (.getfield 64, 3) := by decide +kernel
theorem dX2_mean_16 : decode cX2_mean 16 = .ok (.baload, 1) := by decide +kernel
theorem dX2_mean_17 : decode cX2_mean 17 = .ok (.bastore, 1) := by decide +kernel
theorem dX2_mean_18 : decode cX2_mean 18 = .ok (.aload_n 0, 1) := by decide +kernel
theorem dX2_mean_19 : decode cX2_mean 19 = .ok (.dup, 1) := by decide +kernel
theorem dX2_mean_20 : decode cX2_mean 20 = .ok (.getfield 72, 3) := by decide +kernel
theorem dX2_mean_23 : decode cX2_mean 23 = .ok (.iconst 1, 1) := by decide +kernel
theorem dX2_mean_24 : decode cX2_mean 24 = .ok (.iadd, 1) := by decide +kernel
theorem dX2_mean_25 : decode cX2_mean 25 = .ok (.putfield 72, 3) := by decide +kernel
theorem dX2_mean_28 : decode cX2_mean 28 = .ok (.aload_n 0, 1) := by decide +kernel
theorem dX2_mean_29 : decode cX2_mean 29 = .ok (.dup, 1) := by decide +kernel
theorem dX2_mean_30 : decode cX2_mean 30 = .ok (.getfield 64, 3) := by decide +kernel
theorem dX2_mean_33 : decode cX2_mean 33 = .ok (.iconst 1, 1) := by decide +kernel
theorem dX2_mean_34 : decode cX2_mean 34 = .ok (.iadd, 1) := by decide +kernel
theorem dX2_mean_35 : decode cX2_mean 35 = .ok (.putfield 64, 3) := by decide +kernel
theorem dX2_mean_38 : decode cX2_mean 38 = .ok (.return_, 1) := by decide +kernel
abbrev cX2_isSame : ByteArray := prog_7_method_13_code
def yX2_isSame : MethodName := ⟨RX2, "isSame", "(II)Z"⟩
theorem dX2_isSame_0 : decode cX2_isSame 0 = .ok (.aload_n 0, 1) := by decide +kernel
theorem dX2_isSame_1 : decode cX2_isSame 1 = .ok (.iload_n 1, 1) := by decide +kernel
theorem dX2_isSame_2 : decode cX2_isSame 2 = .ok (.invokevirtual 111, 3) := by decide +kernel
theorem dX2_isSame_5 : decode cX2_isSame 5 = .ok (.aload_n 0, 1) := by decide +kernel
theorem dX2_isSame_6 : decode cX2_isSame 6 = .ok (.iload_n 2, 1) := by decide +kernel
theorem dX2_isSame_7 : decode cX2_isSame 7 = .ok (.invokevirtual 111, 3) := by decide +kernel
theorem dX2_isSame_10 : decode cX2_isSame 10 = .ok (.if_icmp .eq 5, 3) := by decide +kernel
theorem dX2_isSame_13 : decode cX2_isSame 13 = .ok (.iconst 0, 1) := by decide +kernel
theorem dX2_isSame_14 : decode cX2_isSame 14 = .ok (.ireturn, 1) := by decide +kernel
theorem dX2_isSame_15 : decode cX2_isSame 15 = .ok (.iconst 0, 1) := by decide +kernel
theorem dX2_isSame_16 : decode cX2_isSame 16 = .ok (.istore_n 3, 1) := by decide +kernel
theorem dX2_isSame_17 : decode cX2_isSame 17 = .ok (.iload_n 3, 1) := by decide +kernel
theorem dX2_isSame_18 : decode cX2_isSame 18 = .ok (.aload_n 0, 1) := by decide +kernel
theorem dX2_isSame_19 : decode cX2_isSame 19 = .ok (.iload_n 1, 1) := by decide +kernel
theorem dX2_isSame_20 : decode cX2_isSame 20 = .ok (.invokevirtual 111, 3) := by decide +kernel
theorem dX2_isSame_23 : decode cX2_isSame 23 = .ok (.if_icmp .ge 40, 3) := by decide +kernel
theorem dX2_isSame_26 : decode cX2_isSame 26 = .ok (.aload_n 0, 1) := by decide +kernel
theorem dX2_isSame_27 : decode cX2_isSame 27 = .ok (.getfield 24, 3) := by decide +kernel
theorem dX2_isSame_30 : decode cX2_isSame 30 = .ok (.aload_n 0, 1) := by decide +kernel
theorem dX2_isSame_31 : decode cX2_isSame 31 = .ok (.getfield 28, 3) := by decide +kernel
theorem dX2_isSame_34 : decode cX2_isSame 34 = .ok (.iload_n 1, 1) := by decide +kernel
theorem dX2_isSame_35 : decode cX2_isSame 35 = .ok (.iaload, 1) := by decide +kernel
theorem dX2_isSame_36 : decode cX2_isSame 36 = .ok (.iload_n 3, 1) := by decide +kernel
theorem dX2_isSame_37 : decode cX2_isSame 37 = .ok (.iadd, 1) := by decide +kernel
theorem dX2_isSame_38 : decode cX2_isSame 38 = .ok (.baload, 1) := by decide +kernel
theorem dX2_isSame_39 : decode cX2_isSame 39 = .ok (.aload_n 0, 1) := by decide +kernel
theorem dX2_isSame_40 : decode cX2_isSame 40 = .ok (.getfield 24, 3) := by decide +kernel
theorem dX2_isSame_43 : decode cX2_isSame 43 = .ok (.aload_n 0, 1) := by decide +kernel
theorem dX2_isSame_44 : decode cX2_isSame 44 = .ok (.getfield 28, 3) := by decide +kernel
theorem dX2_isSame_47 : decode cX2_isSame 47 = .ok (.iload_n 2, 1) := by decide +kernel
theorem dX2_isSame_48 : decode cX2_isSame 48 = .ok (.iaload, 1) := by decide +kernel
theorem dX2_isSame_49 : decode cX2_isSame 49 = .ok (.iload_n 3, 1) := by decide +kernel
theorem dX2_isSame_50 : decode cX2_isSame 50 = .ok (.iadd, 1) := by decide +kernel
theorem dX2_isSame_51 : decode cX2_isSame 51 = .ok (.baload, 1) := by decide +kernel
theorem dX2_isSame_52 : decode cX2_isSame 52 = .ok (.if_icmp .eq 5, 3) := by decide +kernel
theorem dX2_isSame_55 : decode cX2_isSame 55 = .ok (.iconst 0, 1) := by decide +kernel
theorem dX2_isSame_56 : decode cX2_isSame 56 = .ok (.ireturn, 1) := by decide +kernel
theorem dX2_isSame_57 : decode cX2_isSame 57 = .ok (.iinc 3 1, 3) := by decide +kernel
theorem dX2_isSame_60 : decode cX2_isSame 60 = .ok (.goto (-43), 3) := by decide +kernel
theorem dX2_isSame_63 : decode cX2_isSame 63 = .ok (.iconst 1, 1) := by decide +kernel
theorem dX2_isSame_64 : decode cX2_isSame 64 = .ok (.ireturn, 1) := by decide +kernel
abbrev cX2_length : ByteArray := prog_7_method_12_code
def yX2_length : MethodName := ⟨RX2, "length", "(I)I"⟩
theorem dX2_length_0 : decode cX2_length 0 = .ok (.aload_n 0, 1) := by decide +kernel
theorem dX2_length_1 : decode cX2_length 1 = .ok (.getfield 32, 3) := by decide +kernel
theorem dX2_length_4 : decode cX2_length 4 = .ok (.iload_n 1, 1) := by decide +kernel
theorem dX2_length_5 : decode cX2_length 5 = .ok (.baload, 1) := by decide +kernel
theorem dX2_length_6 : decode cX2_length 6 = .ok (.ifCond .ge 7, 3) := by decide +kernel
theorem dX2_length_9 : decode cX2_length 9 = .ok (.iconst 0, 1) := by decide +kernel
theorem dX2_length_10 : decode cX2_length 10 = .ok (.goto 12, 3) := by decide +kernel
theorem dX2_length_13 : decode cX2_length 13 = .ok (.aload_n 0, 1) := by decide +kernel
theorem dX2_length_14 : decode cX2_length 14 = .ok (.getfield 32, 3) := by decide +kernel
theorem dX2_length_17 : decode cX2_length 17 = .ok (.iload_n 1, 1) := by decide +kernel
theorem dX2_length_18 : decode cX2_length 18 = .ok (.baload, 1) := by decide +kernel
theorem dX2_length_19 : decode cX2_length 19 = .ok (.bipush 63, 2) := by decide +kernel
theorem dX2_length_21 : decode cX2_length 21 = .ok (.iand, 1) := by decide +kernel
theorem dX2_length_22 : decode cX2_length 22 = .ok (.ireturn, 1) := by decide +kernel
abbrev cX2_make : ByteArray := prog_7_method_14_code
def yX2_make : MethodName := ⟨RX2, "make", "(I)I"⟩
theorem dX2_make_0 : decode cX2_make 0 = .ok (.aload_n 0, 1) := by decide +kernel
theorem dX2_make_1 : decode cX2_make 1 = .ok (.getfield 50, 3) := by decide +kernel
theorem dX2_make_4 : decode cX2_make 4 = .ok (.bipush 40, 2) := by decide +kernel
theorem dX2_make_6 : decode cX2_make 6 = .ok (.if_icmp .eq 17, 3) := by decide +kernel
theorem dX2_make_9 : decode cX2_make 9 = .ok (.aload_n 0, 1) := by decide +kernel
theorem dX2_make_10 : decode cX2_make 10 = .ok (.getfield 12, 3) := by decide +kernel
theorem dX2_make_13 : decode cX2_make 13 = .ok (.aload_n 0, 1) := by decide +kernel
theorem dX2_make_14 : decode cX2_make 14 = .ok (.getfield 72, 3) := by decide +kernel
theorem dX2_make_17 : decode cX2_make 17 = .ok (.invokevirtual 114, 3) := by decide +kernel
theorem dX2_make_20 : decode cX2_make 20 = .ok (.ifCond .ne 13, 3) := by decide +kernel
theorem dX2_make_23 : decode cX2_make 23 = .ok (.aload_n 0, 1) := by decide +kernel
theorem dX2_make_24 : decode cX2_make 24 = .ok (.getfield 46, 3) := by decide +kernel
theorem dX2_make_27 : decode cX2_make 27 = .ok (.bipush 12, 2) := by decide +kernel
theorem dX2_make_29 : decode cX2_make 29 = .ok (.invokevirtual 118, 3) := by decide +kernel
theorem dX2_make_32 : decode cX2_make 32 = .ok (.athrow, 1) := by decide +kernel
theorem dX2_make_33 : decode cX2_make 33 = .ok (.new 18, 3) := by decide +kernel
theorem dX2_make_36 : decode cX2_make 36 = .ok (.dup, 1) := by decide +kernel
theorem dX2_make_37 : decode cX2_make 37 = .ok (.aload_n 0, 1) := by decide +kernel
theorem dX2_make_38 : decode cX2_make 38 = .ok (.getfield 78, 3) := by decide +kernel
theorem dX2_make_41 : decode cX2_make 41 = .ok (.iload_n 1, 1) := by decide +kernel
theorem dX2_make_42 : decode cX2_make 42 = .ok (.invokespecial 121, 3) := by decide +kernel
theorem dX2_make_45 : decode cX2_make 45 = .ok (.astore_n 2, 1) := by decide +kernel
theorem dX2_make_46 : decode cX2_make 46 = .ok (.aload_n 0, 1) := by decide +kernel
theorem dX2_make_47 : decode cX2_make 47 = .ok (.getfield 12, 3) := by decide +kernel
theorem dX2_make_50 : decode cX2_make 50 = .ok (.aload_n 0, 1) := by decide +kernel
theorem dX2_make_51 : decode cX2_make 51 = .ok (.getfield 24, 3) := by decide +kernel
theorem dX2_make_54 : decode cX2_make 54 = .ok (.iconst 0, 1) := by decide +kernel
theorem dX2_make_55 : decode cX2_make 55 = .ok (.aload_n 0, 1) := by decide +kernel
theorem dX2_make_56 : decode cX2_make 56 = .ok (.getfield 72, 3) := by decide +kernel
theorem dX2_make_59 : decode cX2_make 59 = .ok (.invokevirtual 124, 3) := by decide +kernel
theorem dX2_make_62 : decode cX2_make 62 = .ok (.istore_n 3, 1) := by decide +kernel
theorem dX2_make_63 : decode cX2_make 63 = .ok (.iconst 0, 1) := by decide +kernel
theorem dX2_make_64 : decode cX2_make 64 = .ok (.istore 4, 2) := by decide +kernel
theorem dX2_make_66 : decode cX2_make 66 = .ok (.iload 4, 2) := by decide +kernel
theorem dX2_make_68 : decode cX2_make 68 = .ok (.aload_n 0, 1) := by decide +kernel
theorem dX2_make_69 : decode cX2_make 69 = .ok (.getfield 78, 3) := by decide +kernel
theorem dX2_make_72 : decode cX2_make 72 = .ok (.if_icmp .ge 39, 3) := by decide +kernel
theorem dX2_make_75 : decode cX2_make 75 = .ok (.aload_n 2, 1) := by decide +kernel
theorem dX2_make_76 : decode cX2_make 76 = .ok (.getfield 128, 3) := by decide +kernel
theorem dX2_make_79 : decode cX2_make 79 = .ok (.iload 4, 2) := by decide +kernel
theorem dX2_make_81 : decode cX2_make 81 = .ok (.iload_n 3, 1) := by decide +kernel
theorem dX2_make_82 : decode cX2_make 82 = .ok (.aload_n 0, 1) := by decide +kernel
theorem dX2_make_83 : decode cX2_make 83 = .ok (.getfield 28, 3) := by decide +kernel
theorem dX2_make_86 : decode cX2_make 86 = .ok (.iload 4, 2) := by decide +kernel
theorem dX2_make_88 : decode cX2_make 88 = .ok (.iaload, 1) := by decide +kernel
theorem dX2_make_89 : decode cX2_make 89 = .ok (.iadd, 1) := by decide +kernel
theorem dX2_make_90 : decode cX2_make 90 = .ok (.iastore, 1) := by decide +kernel
theorem dX2_make_91 : decode cX2_make 91 = .ok (.aload_n 2, 1) := by decide +kernel
theorem dX2_make_92 : decode cX2_make 92 = .ok (.getfield 131, 3) := by decide +kernel
theorem dX2_make_95 : decode cX2_make 95 = .ok (.iload 4, 2) := by decide +kernel
theorem dX2_make_97 : decode cX2_make 97 = .ok (.aload_n 0, 1) := by decide +kernel
theorem dX2_make_98 : decode cX2_make 98 = .ok (.getfield 32, 3) := by decide +kernel
theorem dX2_make_101 : decode cX2_make 101 = .ok (.iload 4, 2) := by decide +kernel
theorem dX2_make_103 : decode cX2_make 103 = .ok (.baload, 1) := by decide +kernel
theorem dX2_make_104 : decode cX2_make 104 = .ok (.bastore, 1) := by decide +kernel
theorem dX2_make_105 : decode cX2_make 105 = .ok (.iinc 4 1, 3) := by decide +kernel
theorem dX2_make_108 : decode cX2_make 108 = .ok (.goto (-42), 3) := by decide +kernel
theorem dX2_make_111 : decode cX2_make 111 = .ok (.iconst 0, 1) := by decide +kernel
theorem dX2_make_112 : decode cX2_make 112 = .ok (.istore 4, 2) := by decide +kernel
theorem dX2_make_114 : decode cX2_make 114 = .ok (.iload 4, 2) := by decide +kernel
theorem dX2_make_116 : decode cX2_make 116 = .ok (.aload_n 0, 1) := by decide +kernel
theorem dX2_make_117 : decode cX2_make 117 = .ok (.getfield 78, 3) := by decide +kernel
theorem dX2_make_120 : decode cX2_make 120 = .ok (.iload_n 1, 1) := by decide +kernel
theorem dX2_make_121 : decode cX2_make 121 = .ok (.imul, 1) := by decide +kernel
theorem dX2_make_122 : decode cX2_make 122 = .ok (.if_icmp .ge 49, 3) := by decide +kernel
theorem dX2_make_125 : decode cX2_make 125 = .ok (.aload_n 2, 1) := by decide +kernel
theorem dX2_make_126 : decode cX2_make 126 = .ok (.getfield 134, 3) := by decide +kernel
theorem dX2_make_129 : decode cX2_make 129 = .ok (.iload 4, 2) := by decide +kernel
theorem dX2_make_131 : decode cX2_make 131 = .ok (.iload_n 3, 1) := by decide +kernel
theorem dX2_make_132 : decode cX2_make 132 = .ok (.aload_n 0, 1) := by decide +kernel
theorem dX2_make_133 : decode cX2_make 133 = .ok (.getfield 28, 3) := by decide +kernel
theorem dX2_make_136 : decode cX2_make 136 = .ok (.aload_n 0, 1) := by decide +kernel
theorem dX2_make_137 : decode cX2_make 137 = .ok (.getfield 78, 3) := by decide +kernel
theorem dX2_make_140 : decode cX2_make 140 = .ok (.iload 4, 2) := by decide +kernel
theorem dX2_make_142 : decode cX2_make 142 = .ok (.iadd, 1) := by decide +kernel
theorem dX2_make_143 : decode cX2_make 143 = .ok (.iaload, 1) := by decide +kernel
theorem dX2_make_144 : decode cX2_make 144 = .ok (.iadd, 1) := by decide +kernel
theorem dX2_make_145 : decode cX2_make 145 = .ok (.iastore, 1) := by decide +kernel
theorem dX2_make_146 : decode cX2_make 146 = .ok (.aload_n 2, 1) := by decide +kernel
theorem dX2_make_147 : decode cX2_make 147 = .ok (.getfield 137, 3) := by decide +kernel
theorem dX2_make_150 : decode cX2_make 150 = .ok (.iload 4, 2) := by decide +kernel
theorem dX2_make_152 : decode cX2_make 152 = .ok (.aload_n 0, 1) := by decide +kernel
theorem dX2_make_153 : decode cX2_make 153 = .ok (.getfield 32, 3) := by decide +kernel
theorem dX2_make_156 : decode cX2_make 156 = .ok (.aload_n 0, 1) := by decide +kernel
theorem dX2_make_157 : decode cX2_make 157 = .ok (.getfield 78, 3) := by decide +kernel
theorem dX2_make_160 : decode cX2_make 160 = .ok (.iload 4, 2) := by decide +kernel
theorem dX2_make_162 : decode cX2_make 162 = .ok (.iadd, 1) := by decide +kernel
theorem dX2_make_163 : decode cX2_make 163 = .ok (.baload, 1) := by decide +kernel
theorem dX2_make_164 : decode cX2_make 164 = .ok (.bastore, 1) := by decide +kernel
theorem dX2_make_165 : decode cX2_make 165 = .ok (.iinc 4 1, 3) := by decide +kernel
theorem dX2_make_168 : decode cX2_make 168 = .ok (.goto (-54), 3) := by decide +kernel
theorem dX2_make_171 : decode cX2_make 171 = .ok (.aload_n 0, 1) := by decide +kernel
theorem dX2_make_172 : decode cX2_make 172 = .ok (.aload_n 2, 1) := by decide +kernel
theorem dX2_make_173 : decode cX2_make 173 = .ok (.invokevirtual 138, 3) := by decide +kernel
theorem dX2_make_176 : decode cX2_make 176 = .ok (.ireturn, 1) := by decide +kernel
abbrev cX2_finish : ByteArray := prog_7_method_15_code
def yX2_finish : MethodName := ⟨RX2, "finish", "(LCommaTables$Table;)I"⟩
theorem dX2_finish_0 : decode cX2_finish 0 = .ok (.iconst 0, 1) := by decide +kernel
theorem dX2_finish_1 : decode cX2_finish 1 = .ok (.istore_n 2, 1) := by decide +kernel
theorem dX2_finish_2 : decode cX2_finish 2 = .ok (.iload_n 2, 1) := by decide +kernel
theorem dX2_finish_3 : decode cX2_finish 3 = .ok (.aload_n 1, 1) := by decide +kernel
theorem dX2_finish_4 : decode cX2_finish 4 = .ok (.getfield 142, 3) := by decide +kernel
theorem dX2_finish_7 : decode cX2_finish 7 = .ok (.if_icmp .ge 21, 3) := by decide +kernel
theorem dX2_finish_10 : decode cX2_finish 10 = .ok (.aload_n 1, 1) := by decide +kernel
theorem dX2_finish_11 : decode cX2_finish 11 = .ok (.getfield 143, 3) := by decide +kernel
theorem dX2_finish_14 : decode cX2_finish 14 = .ok (.iload_n 2, 1) := by decide +kernel
theorem dX2_finish_15 : decode cX2_finish 15 = .ok (.aload_n 0, 1) := by decide +kernel
theorem dX2_finish_16 : decode cX2_finish 16 = .ok (.aload_n 1, 1) := by decide +kernel
theorem dX2_finish_17 : decode cX2_finish 17 = .ok (.iload_n 2, 1) := by decide +kernel
theorem dX2_finish_18 : decode cX2_finish 18 = .ok (.invokevirtual 146, 3) := by decide +kernel
theorem dX2_finish_21 : decode cX2_finish 21 = .ok (.iastore, 1) := by decide +kernel
theorem dX2_finish_22 : decode cX2_finish 22 = .ok (.iinc 2 1, 3) := by decide +kernel
theorem dX2_finish_25 : decode cX2_finish 25 = .ok (.goto (-23), 3) := by decide +kernel
theorem dX2_finish_28 : decode cX2_finish 28 = .ok (.aload_n 0, 1) := by decide +kernel
theorem dX2_finish_29 : decode cX2_finish 29 = .ok (.dup, 1) := by decide +kernel
theorem dX2_finish_30 : decode cX2_finish 30 = .ok (.getfield 50, 3) := by decide +kernel
theorem dX2_finish_33 : decode cX2_finish 33 = .ok (.iconst 1, 1) := by decide +kernel
theorem dX2_finish_34 : decode cX2_finish 34 = .ok (.iadd, 1) := by decide +kernel
theorem dX2_finish_35 : decode cX2_finish 35 = .ok (.putfield 50, 3) := by decide +kernel
theorem dX2_finish_38 : decode cX2_finish 38 = .ok (.aload_n 0, 1) := by decide +kernel
theorem dX2_finish_39 : decode cX2_finish 39 = .ok (.getfield 20, 3) := by decide +kernel
theorem dX2_finish_42 : decode cX2_finish 42 = .ok (.aload_n 0, 1) := by decide +kernel
theorem dX2_finish_43 : decode cX2_finish 43 = .ok (.getfield 50, 3) := by decide +kernel
theorem dX2_finish_46 : decode cX2_finish 46 = .ok (.aload_n 1, 1) := by decide +kernel
theorem dX2_finish_47 : decode cX2_finish 47 = .ok (.aastore, 1) := by decide +kernel
theorem dX2_finish_48 : decode cX2_finish 48 = .ok (.aload_n 0, 1) := by decide +kernel
theorem dX2_finish_49 : decode cX2_finish 49 = .ok (.getfield 50, 3) := by decide +kernel
theorem dX2_finish_52 : decode cX2_finish 52 = .ok (.ireturn, 1) := by decide +kernel
abbrev cX2_laneOf : ByteArray := prog_7_method_21_code
def yX2_laneOf : MethodName := ⟨RX2, "laneOf", "(LCommaTables$Table;I)I"⟩
theorem dX2_laneOf_0 : decode cX2_laneOf 0 = .ok (.iconst 0, 1) := by decide +kernel
theorem dX2_laneOf_1 : decode cX2_laneOf 1 = .ok (.istore_n 3, 1) := by decide +kernel
theorem dX2_laneOf_2 : decode cX2_laneOf 2 = .ok (.iconst 0, 1) := by decide +kernel
theorem dX2_laneOf_3 : decode cX2_laneOf 3 = .ok (.istore 4, 2) := by decide +kernel
theorem dX2_laneOf_5 : decode cX2_laneOf 5 = .ok (.iload 4, 2) := by decide +kernel
theorem dX2_laneOf_7 : decode cX2_laneOf 7 = .ok (.aload_n 1, 1) := by decide +kernel
theorem dX2_laneOf_8 : decode cX2_laneOf 8 = .ok (.getfield 195, 3) := by decide +kernel
theorem dX2_laneOf_11 : decode cX2_laneOf 11 = .ok (.if_icmp .ge 35, 3) := by decide +kernel
theorem dX2_laneOf_14 : decode cX2_laneOf 14 = .ok (.iload_n 3, 1) := by decide +kernel
theorem dX2_laneOf_15 : decode cX2_laneOf 15 = .ok (.ifCond .ne 19, 3) := by decide +kernel
theorem dX2_laneOf_18 : decode cX2_laneOf 18 = .ok (.aload_n 1, 1) := by decide +kernel
theorem dX2_laneOf_19 : decode cX2_laneOf 19 = .ok (.aload_n 1, 1) := by decide +kernel
theorem dX2_laneOf_20 : decode cX2_laneOf 20 = .ok (.getfield 142, 3) := by decide +kernel
theorem dX2_laneOf_23 : decode cX2_laneOf 23 = .ok (.iload 4, 2) := by decide +kernel
theorem dX2_laneOf_25 : decode cX2_laneOf 25 = .ok (.imul, 1) := by decide +kernel
theorem dX2_laneOf_26 : decode cX2_laneOf 26 = .ok (.iload_n 2, 1) := by decide +kernel
theorem dX2_laneOf_27 : decode cX2_laneOf 27 = .ok (.iadd, 1) := by decide +kernel
theorem dX2_laneOf_28 : decode cX2_laneOf 28 = .ok (.invokevirtual 198, 3) := by decide +kernel
theorem dX2_laneOf_31 : decode cX2_laneOf 31 = .ok (.ifCond .ne 7, 3) := by decide +kernel
theorem dX2_laneOf_34 : decode cX2_laneOf 34 = .ok (.iconst 1, 1) := by decide +kernel
theorem dX2_laneOf_35 : decode cX2_laneOf 35 = .ok (.goto 4, 3) := by decide +kernel
theorem dX2_laneOf_38 : decode cX2_laneOf 38 = .ok (.iconst 0, 1) := by decide +kernel
theorem dX2_laneOf_39 : decode cX2_laneOf 39 = .ok (.istore_n 3, 1) := by decide +kernel
theorem dX2_laneOf_40 : decode cX2_laneOf 40 = .ok (.iinc 4 1, 3) := by decide +kernel
theorem dX2_laneOf_43 : decode cX2_laneOf 43 = .ok (.goto (-38), 3) := by decide +kernel
theorem dX2_laneOf_46 : decode cX2_laneOf 46 = .ok (.iload_n 3, 1) := by decide +kernel
theorem dX2_laneOf_47 : decode cX2_laneOf 47 = .ok (.ifCond .eq 15, 3) := by decide +kernel
theorem dX2_laneOf_50 : decode cX2_laneOf 50 = .ok (.aload_n 0, 1) := by decide +kernel
theorem dX2_laneOf_51 : decode cX2_laneOf 51 = .ok (.iconst 0, 1) := by decide +kernel
theorem dX2_laneOf_52 : decode cX2_laneOf 52 = .ok (.aload_n 1, 1) := by decide +kernel
theorem dX2_laneOf_53 : decode cX2_laneOf 53 = .ok (.iload_n 2, 1) := by decide +kernel
theorem dX2_laneOf_54 : decode cX2_laneOf 54 = .ok (.invokevirtual 201, 3) := by decide +kernel
theorem dX2_laneOf_57 : decode cX2_laneOf 57 = .ok (.ifCond .eq 5, 3) := by decide +kernel
theorem dX2_laneOf_60 : decode cX2_laneOf 60 = .ok (.iconst 0, 1) := by decide +kernel
theorem dX2_laneOf_61 : decode cX2_laneOf 61 = .ok (.ireturn, 1) := by decide +kernel
theorem dX2_laneOf_62 : decode cX2_laneOf 62 = .ok (.iload_n 3, 1) := by decide +kernel
theorem dX2_laneOf_63 : decode cX2_laneOf 63 = .ok (.ifCond .eq 15, 3) := by decide +kernel
theorem dX2_laneOf_66 : decode cX2_laneOf 66 = .ok (.aload_n 0, 1) := by decide +kernel
theorem dX2_laneOf_67 : decode cX2_laneOf 67 = .ok (.iconst 4, 1) := by decide +kernel
theorem dX2_laneOf_68 : decode cX2_laneOf 68 = .ok (.aload_n 1, 1) := by decide +kernel
theorem dX2_laneOf_69 : decode cX2_laneOf 69 = .ok (.iload_n 2, 1) := by decide +kernel
theorem dX2_laneOf_70 : decode cX2_laneOf 70 = .ok (.invokevirtual 201, 3) := by decide +kernel
theorem dX2_laneOf_73 : decode cX2_laneOf 73 = .ok (.ifCond .eq 5, 3) := by decide +kernel
theorem dX2_laneOf_76 : decode cX2_laneOf 76 = .ok (.iconst 4, 1) := by decide +kernel
theorem dX2_laneOf_77 : decode cX2_laneOf 77 = .ok (.ireturn, 1) := by decide +kernel
theorem dX2_laneOf_78 : decode cX2_laneOf 78 = .ok (.iload_n 3, 1) := by decide +kernel
theorem dX2_laneOf_79 : decode cX2_laneOf 79 = .ok (.ifCond .eq 15, 3) := by decide +kernel
theorem dX2_laneOf_82 : decode cX2_laneOf 82 = .ok (.aload_n 0, 1) := by decide +kernel
theorem dX2_laneOf_83 : decode cX2_laneOf 83 = .ok (.iconst 5, 1) := by decide +kernel
theorem dX2_laneOf_84 : decode cX2_laneOf 84 = .ok (.aload_n 1, 1) := by decide +kernel
theorem dX2_laneOf_85 : decode cX2_laneOf 85 = .ok (.iload_n 2, 1) := by decide +kernel
theorem dX2_laneOf_86 : decode cX2_laneOf 86 = .ok (.invokevirtual 201, 3) := by decide +kernel
theorem dX2_laneOf_89 : decode cX2_laneOf 89 = .ok (.ifCond .eq 5, 3) := by decide +kernel
theorem dX2_laneOf_92 : decode cX2_laneOf 92 = .ok (.iconst 5, 1) := by decide +kernel
theorem dX2_laneOf_93 : decode cX2_laneOf 93 = .ok (.ireturn, 1) := by decide +kernel
theorem dX2_laneOf_94 : decode cX2_laneOf 94 = .ok (.iload_n 3, 1) := by decide +kernel
theorem dX2_laneOf_95 : decode cX2_laneOf 95 = .ok (.ifCond .eq 19, 3) := by decide +kernel
theorem dX2_laneOf_98 : decode cX2_laneOf 98 = .ok (.aload_n 0, 1) := by decide +kernel
theorem dX2_laneOf_99 : decode cX2_laneOf 99 = .ok (.bipush 7, 2) := by decide +kernel
theorem dX2_laneOf_101 : decode cX2_laneOf 101 = .ok (.aload_n 1, 1) := by decide +kernel
theorem dX2_laneOf_102 : decode cX2_laneOf 102 = .ok (.iload_n 2, 1) := by decide +kernel
theorem dX2_laneOf_103 : decode cX2_laneOf 103 = .ok (.invokevirtual 201, 3) := by decide +kernel
theorem dX2_laneOf_106 : decode cX2_laneOf 106 = .ok (.ifCond .eq 8, 3) := by decide +kernel
theorem dX2_laneOf_109 : decode cX2_laneOf 109 = .ok (.bipush 7, 2) := by decide +kernel
theorem dX2_laneOf_111 : decode cX2_laneOf 111 = .ok (.goto 5, 3) := by decide +kernel
theorem dX2_laneOf_114 : decode cX2_laneOf 114 = .ok (.bipush 8, 2) := by decide +kernel
theorem dX2_laneOf_116 : decode cX2_laneOf 116 = .ok (.ireturn, 1) := by decide +kernel
abbrev cX2_takesAll : ByteArray := prog_7_method_22_code
def yX2_takesAll : MethodName := ⟨RX2, "takesAll", "(ILCommaTables$Table;I)Z"⟩
theorem dX2_takesAll_0 : decode cX2_takesAll 0 = .ok (.iconst 0, 1) := by decide +kernel
theorem dX2_takesAll_1 : decode cX2_takesAll 1 = .ok (.istore 4, 2) := by decide +kernel
theorem dX2_takesAll_3 : decode cX2_takesAll 3 = .ok (.iload 4, 2) := by decide +kernel
theorem dX2_takesAll_5 : decode cX2_takesAll 5 = .ok (.aload_n 2, 1) := by decide +kernel
theorem dX2_takesAll_6 : decode cX2_takesAll 6 = .ok (.getfield 195, 3) := by decide +kernel
theorem dX2_takesAll_9 : decode cX2_takesAll 9 = .ok (.if_icmp .ge 42, 3) := by decide +kernel
theorem dX2_takesAll_12 : decode cX2_takesAll 12 = .ok (.aload_n 2, 1) := by decide +kernel
theorem dX2_takesAll_13 : decode cX2_takesAll 13 = .ok (.getfield 142, 3) := by decide +kernel
theorem dX2_takesAll_16 : decode cX2_takesAll 16 = .ok (.iload 4, 2) := by decide +kernel
theorem dX2_takesAll_18 : decode cX2_takesAll 18 = .ok (.imul, 1) := by decide +kernel
theorem dX2_takesAll_19 : decode cX2_takesAll 19 = .ok (.iload_n 3, 1) := by decide +kernel
theorem dX2_takesAll_20 : decode cX2_takesAll 20 = .ok (.iadd, 1) := by decide +kernel
theorem dX2_takesAll_21 : decode cX2_takesAll 21 = .ok (.istore 5, 2) := by decide +kernel
theorem dX2_takesAll_23 : decode cX2_takesAll 23 = .ok (.aload_n 2, 1) := by decide +kernel
theorem dX2_takesAll_24 : decode cX2_takesAll 24 = .ok (.iload 5, 2) := by decide +kernel
theorem dX2_takesAll_26 : decode cX2_takesAll 26 = .ok (.invokevirtual 198, 3) := by decide +kernel
theorem dX2_takesAll_29 : decode cX2_takesAll 29 = .ok (.ifCond .ne 16, 3) := by decide +kernel
theorem dX2_takesAll_32 : decode cX2_takesAll 32 = .ok (.aload_n 0, 1) := by decide +kernel
theorem dX2_takesAll_33 : decode cX2_takesAll 33 = .ok (.iload_n 1, 1) := by decide +kernel
theorem dX2_takesAll_34 : decode cX2_takesAll 34 = .ok (.aload_n 2, 1) := by decide +kernel
theorem dX2_takesAll_35 : decode cX2_takesAll 35 = .ok (.iload 5, 2) := by decide +kernel
theorem dX2_takesAll_37 : decode cX2_takesAll 37 = .ok (.invokevirtual 205, 3) := by decide +kernel
theorem dX2_takesAll_40 : decode cX2_takesAll 40 = .ok (.ifCond .ne 5, 3) := by decide +kernel
theorem dX2_takesAll_43 : decode cX2_takesAll 43 = .ok (.iconst 0, 1) := by decide +kernel
theorem dX2_takesAll_44 : decode cX2_takesAll 44 = .ok (.ireturn, 1) := by decide +kernel
theorem dX2_takesAll_45 : decode cX2_takesAll 45 = .ok (.iinc 4 1, 3) := by decide +kernel
theorem dX2_takesAll_48 : decode cX2_takesAll 48 = .ok (.goto (-45), 3) := by decide +kernel
theorem dX2_takesAll_51 : decode cX2_takesAll 51 = .ok (.iconst 1, 1) := by decide +kernel
theorem dX2_takesAll_52 : decode cX2_takesAll 52 = .ok (.ireturn, 1) := by decide +kernel
abbrev cX2_takes : ByteArray := prog_7_method_20_code
def yX2_takes : MethodName := ⟨RX2, "takes", "(ILCommaTables$Table;I)Z"⟩
theorem dX2_takes_0 : decode cX2_takes 0 = .ok (.aload_n 0, 1) := by decide +kernel
theorem dX2_takes_1 : decode cX2_takes 1 = .ok (.aload_n 2, 1) := by decide +kernel
theorem dX2_takes_2 : decode cX2_takes 2 = .ok (.iload_n 3, 1) := by decide +kernel
theorem dX2_takes_3 : decode cX2_takes 3 = .ok (.invokevirtual 192, 3) := by decide +kernel
theorem dX2_takes_6 : decode cX2_takes 6 = .ok (.istore 4, 2) := by decide +kernel
theorem dX2_takes_8 : decode cX2_takes 8 = .ok (.iload_n 1, 1) := by decide +kernel
theorem dX2_takes_9 : decode cX2_takes 9 = .ok (.bipush 7, 2) := by decide +kernel
theorem dX2_takes_11 : decode cX2_takes 11 = .ok (.if_icmp .ne 15, 3) := by decide +kernel
theorem dX2_takes_14 : decode cX2_takes 14 = .ok (.iload 4, 2) := by decide +kernel
theorem dX2_takes_16 : decode cX2_takes 16 = .ok (.iconst 4, 1) := by decide +kernel
theorem dX2_takes_17 : decode cX2_takes 17 = .ok (.if_icmp .eq 32, 3) := by decide +kernel
theorem dX2_takes_20 : decode cX2_takes 20 = .ok (.iload 4, 2) := by decide +kernel
theorem dX2_takes_22 : decode cX2_takes 22 = .ok (.iconst 5, 1) := by decide +kernel
theorem dX2_takes_23 : decode cX2_takes 23 = .ok (.if_icmp .eq 26, 3) := by decide +kernel
theorem dX2_takes_26 : decode cX2_takes 26 = .ok (.iload 4, 2) := by decide +kernel
theorem dX2_takes_28 : decode cX2_takes 28 = .ok (.iload_n 1, 1) := by decide +kernel
theorem dX2_takes_29 : decode cX2_takes 29 = .ok (.if_icmp .eq 14, 3) := by decide +kernel
theorem dX2_takes_32 : decode cX2_takes 32 = .ok (.iload_n 1, 1) := by decide +kernel
theorem dX2_takes_33 : decode cX2_takes 33 = .ok (.iconst 5, 1) := by decide +kernel
theorem dX2_takes_34 : decode cX2_takes 34 = .ok (.if_icmp .ne 13, 3) := by decide +kernel
theorem dX2_takes_37 : decode cX2_takes 37 = .ok (.iload 4, 2) := by decide +kernel
theorem dX2_takes_39 : decode cX2_takes 39 = .ok (.iconst 4, 1) := by decide +kernel
theorem dX2_takes_40 : decode cX2_takes 40 = .ok (.if_icmp .ne 7, 3) := by decide +kernel
theorem dX2_takes_43 : decode cX2_takes 43 = .ok (.iconst 1, 1) := by decide +kernel
theorem dX2_takes_44 : decode cX2_takes 44 = .ok (.goto 4, 3) := by decide +kernel
theorem dX2_takes_47 : decode cX2_takes 47 = .ok (.iconst 0, 1) := by decide +kernel
theorem dX2_takes_48 : decode cX2_takes 48 = .ok (.ireturn, 1) := by decide +kernel
theorem dX2_takes_49 : decode cX2_takes 49 = .ok (.aload_n 2, 1) := by decide +kernel
theorem dX2_takes_50 : decode cX2_takes 50 = .ok (.iload_n 3, 1) := by decide +kernel
theorem dX2_takes_51 : decode cX2_takes 51 = .ok (.invokevirtual 161, 3) := by decide +kernel
theorem dX2_takes_54 : decode cX2_takes 54 = .ok (.istore 5, 2) := by decide +kernel
theorem dX2_takes_56 : decode cX2_takes 56 = .ok (.aload_n 0, 1) := by decide +kernel
theorem dX2_takes_57 : decode cX2_takes 57 = .ok (.getfield 12, 3) := by decide +kernel
theorem dX2_takes_60 : decode cX2_takes 60 = .ok (.getfield 154, 3) := by decide +kernel
theorem dX2_takes_63 : decode cX2_takes 63 = .ok (.aload_n 2, 1) := by decide +kernel
theorem dX2_takes_64 : decode cX2_takes 64 = .ok (.getfield 134, 3) := by decide +kernel
theorem dX2_takes_67 : decode cX2_takes 67 = .ok (.iload_n 3, 1) := by decide +kernel
theorem dX2_takes_68 : decode cX2_takes 68 = .ok (.iaload, 1) := by decide +kernel
theorem dX2_takes_69 : decode cX2_takes 69 = .ok (.baload, 1) := by decide +kernel
theorem dX2_takes_70 : decode cX2_takes 70 = .ok (.bipush 45, 2) := by decide +kernel
theorem dX2_takes_72 : decode cX2_takes 72 = .ok (.if_icmp .ne 10, 3) := by decide +kernel
theorem dX2_takes_75 : decode cX2_takes 75 = .ok (.iload 5, 2) := by decide +kernel
theorem dX2_takes_77 : decode cX2_takes 77 = .ok (.iconst 1, 1) := by decide +kernel
theorem dX2_takes_78 : decode cX2_takes 78 = .ok (.isub, 1) := by decide +kernel
theorem dX2_takes_79 : decode cX2_takes 79 = .ok (.goto 5, 3) := by decide +kernel
theorem dX2_takes_82 : decode cX2_takes 82 = .ok (.iload 5, 2) := by decide +kernel
theorem dX2_takes_84 : decode cX2_takes 84 = .ok (.bipush 15, 2) := by decide +kernel
theorem dX2_takes_86 : decode cX2_takes 86 = .ok (.if_icmp .gt 7, 3) := by decide +kernel
theorem dX2_takes_89 : decode cX2_takes 89 = .ok (.iconst 1, 1) := by decide +kernel
theorem dX2_takes_90 : decode cX2_takes 90 = .ok (.goto 4, 3) := by decide +kernel
theorem dX2_takes_93 : decode cX2_takes 93 = .ok (.iconst 0, 1) := by decide +kernel
theorem dX2_takes_94 : decode cX2_takes 94 = .ok (.ireturn, 1) := by decide +kernel
abbrev cX2_laneOfCell : ByteArray := prog_7_method_18_code
def yX2_laneOfCell : MethodName := ⟨RX2, "laneOfCell", "(LCommaTables$Table;I)I"⟩
theorem dX2_laneOfCell_0 : decode cX2_laneOfCell 0 = .ok (.aload_n 1, 1) := by decide +kernel
theorem dX2_laneOfCell_1 : decode cX2_laneOfCell 1 = .ok (.getfield 134, 3) := by decide +kernel
theorem dX2_laneOfCell_4 : decode cX2_laneOfCell 4 = .ok (.iload_n 2, 1) := by decide +kernel
theorem dX2_laneOfCell_5 : decode cX2_laneOfCell 5 = .ok (.iaload, 1) := by decide +kernel
theorem dX2_laneOfCell_6 : decode cX2_laneOfCell 6 = .ok (.istore_n 3, 1) := by decide +kernel
theorem dX2_laneOfCell_7 : decode cX2_laneOfCell 7 = .ok (.aload_n 1, 1) := by decide +kernel
theorem dX2_laneOfCell_8 : decode cX2_laneOfCell 8 = .ok (.iload_n 2, 1) := by decide +kernel
theorem dX2_laneOfCell_9 : decode cX2_laneOfCell 9 = .ok (.invokevirtual 161, 3) := by decide +kernel
theorem dX2_laneOfCell_12 : decode cX2_laneOfCell 12 = .ok (.istore 4, 2) := by decide +kernel
theorem dX2_laneOfCell_14 : decode cX2_laneOfCell 14 = .ok (.aload_n 1, 1) := by decide +kernel
theorem dX2_laneOfCell_15 : decode cX2_laneOfCell 15 = .ok (.iload_n 2, 1) := by decide +kernel
theorem dX2_laneOfCell_16 : decode cX2_laneOfCell 16 = .ok (.invokevirtual 162, 3) := by decide +kernel
theorem dX2_laneOfCell_19 : decode cX2_laneOfCell 19 = .ok (.ifCond .eq 6, 3) := by decide +kernel
theorem dX2_laneOfCell_22 : decode cX2_laneOfCell 22 = .ok (.bipush 8, 2) := by decide +kernel
theorem dX2_laneOfCell_24 : decode cX2_laneOfCell 24 = .ok (.ireturn, 1) := by decide +kernel
theorem dX2_laneOfCell_25 : decode cX2_laneOfCell 25 = .ok (.aload_n 0, 1) := by decide +kernel
theorem dX2_laneOfCell_26 : decode cX2_laneOfCell 26 = .ok (.iload_n 3, 1) := by decide +kernel
theorem dX2_laneOfCell_27 : decode cX2_laneOfCell 27 = .ok (.iload 4, 2) := by decide +kernel
theorem dX2_laneOfCell_29 : decode cX2_laneOfCell 29 = .ok (.ldc 165, 2) := by decide +kernel
theorem dX2_laneOfCell_31 : decode cX2_laneOfCell 31 = .ok (.invokevirtual 167, 3) := by decide +kernel
theorem dX2_laneOfCell_34 : decode cX2_laneOfCell 34 = .ok (.ifCond .ne 15, 3) := by decide +kernel
theorem dX2_laneOfCell_37 : decode cX2_laneOfCell 37 = .ok (.aload_n 0, 1) := by decide +kernel
theorem dX2_laneOfCell_38 : decode cX2_laneOfCell 38 = .ok (.iload_n 3, 1) := by decide +kernel
theorem dX2_laneOfCell_39 : decode cX2_laneOfCell 39 = .ok (.iload 4, 2) := by decide +kernel
theorem dX2_laneOfCell_41 : decode cX2_laneOfCell 41 = .ok (.ldc 171, 2) := by decide +kernel
theorem dX2_laneOfCell_43 : decode cX2_laneOfCell 43 = .ok (.invokevirtual 167, 3) := by decide +kernel
theorem dX2_laneOfCell_46 : decode cX2_laneOfCell 46 = .ok (.ifCond .eq 5, 3) := by decide +kernel
theorem dX2_laneOfCell_49 : decode cX2_laneOfCell 49 = .ok (.iconst 0, 1) := by decide +kernel
theorem dX2_laneOfCell_50 : decode cX2_laneOfCell 50 = .ok (.ireturn, 1) := by decide +kernel
theorem dX2_laneOfCell_51 : decode cX2_laneOfCell 51 = .ok (.aload_n 0, 1) := by decide +kernel
theorem dX2_laneOfCell_52 : decode cX2_laneOfCell 52 = .ok (.getfield 12, 3) := by decide +kernel
theorem dX2_laneOfCell_55 : decode cX2_laneOfCell 55 = .ok (.getfield 154, 3) := by decide +kernel
theorem dX2_laneOfCell_58 : decode cX2_laneOfCell 58 = .ok (.iload_n 3, 1) := by decide +kernel
theorem dX2_laneOfCell_59 : decode cX2_laneOfCell 59 = .ok (.baload, 1) := by decide +kernel
theorem dX2_laneOfCell_60 : decode cX2_laneOfCell 60 = .ok (.bipush 45, 2) := by decide +kernel
theorem dX2_laneOfCell_62 : decode cX2_laneOfCell 62 = .ok (.if_icmp .ne 7, 3) := by decide +kernel
theorem dX2_laneOfCell_65 : decode cX2_laneOfCell 65 = .ok (.iconst 1, 1) := by decide +kernel
theorem dX2_laneOfCell_66 : decode cX2_laneOfCell 66 = .ok (.goto 4, 3) := by decide +kernel
theorem dX2_laneOfCell_69 : decode cX2_laneOfCell 69 = .ok (.iconst 0, 1) := by decide +kernel
theorem dX2_laneOfCell_70 : decode cX2_laneOfCell 70 = .ok (.istore 5, 2) := by decide +kernel
theorem dX2_laneOfCell_72 : decode cX2_laneOfCell 72 = .ok (.iload 5, 2) := by decide +kernel
theorem dX2_laneOfCell_74 : decode cX2_laneOfCell 74 = .ok (.istore 6, 2) := by decide +kernel
theorem dX2_laneOfCell_76 : decode cX2_laneOfCell 76 = .ok (.iload 6, 2) := by decide +kernel
theorem dX2_laneOfCell_78 : decode cX2_laneOfCell 78 = .ok (.iload 4, 2) := by decide +kernel
theorem dX2_laneOfCell_80 : decode cX2_laneOfCell 80 = .ok (.if_icmp .ge 27, 3) := by decide +kernel
theorem dX2_laneOfCell_83 : decode cX2_laneOfCell 83 = .ok (.aload_n 0, 1) := by decide +kernel
theorem dX2_laneOfCell_84 : decode cX2_laneOfCell 84 = .ok (.getfield 12, 3) := by decide +kernel
theorem dX2_laneOfCell_87 : decode cX2_laneOfCell 87 = .ok (.getfield 154, 3) := by decide +kernel
theorem dX2_laneOfCell_90 : decode cX2_laneOfCell 90 = .ok (.iload_n 3, 1) := by decide +kernel
theorem dX2_laneOfCell_91 : decode cX2_laneOfCell 91 = .ok (.iload 6, 2) := by decide +kernel
theorem dX2_laneOfCell_93 : decode cX2_laneOfCell 93 = .ok (.iadd, 1) := by decide +kernel
theorem dX2_laneOfCell_94 : decode cX2_laneOfCell 94 = .ok (.baload, 1) := by decide +kernel
theorem dX2_laneOfCell_95 : decode cX2_laneOfCell 95 = .ok (.invokestatic 173, 3) := by decide +kernel
theorem dX2_laneOfCell_98 : decode cX2_laneOfCell 98 = .ok (.ifCond .eq 9, 3) := by decide +kernel
theorem dX2_laneOfCell_101 : decode cX2_laneOfCell 101 = .ok (.iinc 6 1, 3) := by decide +kernel
theorem dX2_laneOfCell_104 : decode cX2_laneOfCell 104 = .ok (.goto (-28), 3) := by decide +kernel
theorem dX2_laneOfCell_107 : decode cX2_laneOfCell 107 = .ok (.iload 6, 2) := by decide +kernel
theorem dX2_laneOfCell_109 : decode cX2_laneOfCell 109 = .ok (.iload 5, 2) := by decide +kernel
theorem dX2_laneOfCell_111 : decode cX2_laneOfCell 111 = .ok (.isub, 1) := by decide +kernel
theorem dX2_laneOfCell_112 : decode cX2_laneOfCell 112 = .ok (.istore 7, 2) := by decide +kernel
theorem dX2_laneOfCell_114 : decode cX2_laneOfCell 114 = .ok (.iload 7, 2) := by decide +kernel
theorem dX2_laneOfCell_116 : decode cX2_laneOfCell 116 = .ok (.ifCond .ne 6, 3) := by decide +kernel
theorem dX2_laneOfCell_119 : decode cX2_laneOfCell 119 = .ok (.bipush 8, 2) := by decide +kernel
theorem dX2_laneOfCell_121 : decode cX2_laneOfCell 121 = .ok (.ireturn, 1) := by decide +kernel
theorem dX2_laneOfCell_122 : decode cX2_laneOfCell 122 = .ok (.iload 6, 2) := by decide +kernel
theorem dX2_laneOfCell_124 : decode cX2_laneOfCell 124 = .ok (.iload 4, 2) := by decide +kernel
theorem dX2_laneOfCell_126 : decode cX2_laneOfCell 126 = .ok (.if_icmp .ne 25, 3) := by decide +kernel
theorem dX2_laneOfCell_129 : decode cX2_laneOfCell 129 = .ok (.aload_n 0, 1) := by decide +kernel
theorem dX2_laneOfCell_130 : decode cX2_laneOfCell 130 = .ok (.iload_n 3, 1) := by decide +kernel
theorem dX2_laneOfCell_131 : decode cX2_laneOfCell 131 = .ok (.iload 5, 2) := by decide +kernel
theorem dX2_laneOfCell_133 : decode cX2_laneOfCell 133 = .ok (.iadd, 1) := by decide +kernel
theorem dX2_laneOfCell_134 : decode cX2_laneOfCell 134 = .ok (.iload 7, 2) := by decide +kernel
theorem dX2_laneOfCell_136 : decode cX2_laneOfCell 136 = .ok (.iload 5, 2) := by decide +kernel
theorem dX2_laneOfCell_138 : decode cX2_laneOfCell 138 = .ok (.iconst 1, 1) := by decide +kernel
theorem dX2_laneOfCell_139 : decode cX2_laneOfCell 139 = .ok (.if_icmp .ne 7, 3) := by decide +kernel
theorem dX2_laneOfCell_142 : decode cX2_laneOfCell 142 = .ok (.iconst 1, 1) := by decide +kernel
theorem dX2_laneOfCell_143 : decode cX2_laneOfCell 143 = .ok (.goto 4, 3) := by decide +kernel
theorem dX2_laneOfCell_146 : decode cX2_laneOfCell 146 = .ok (.iconst 0, 1) := by decide +kernel
theorem dX2_laneOfCell_147 : decode cX2_laneOfCell 147 = .ok (.invokevirtual 176, 3) := by decide +kernel
theorem dX2_laneOfCell_150 : decode cX2_laneOfCell 150 = .ok (.ireturn, 1) := by decide +kernel
theorem dX2_laneOfCell_151 : decode cX2_laneOfCell 151 = .ok (.aload_n 0, 1) := by decide +kernel
theorem dX2_laneOfCell_152 : decode cX2_laneOfCell 152 = .ok (.getfield 12, 3) := by decide +kernel
theorem dX2_laneOfCell_155 : decode cX2_laneOfCell 155 = .ok (.getfield 154, 3) := by decide +kernel
theorem dX2_laneOfCell_158 : decode cX2_laneOfCell 158 = .ok (.iload_n 3, 1) := by decide +kernel
theorem dX2_laneOfCell_159 : decode cX2_laneOfCell 159 = .ok (.iload 6, 2) := by decide +kernel
theorem dX2_laneOfCell_161 : decode cX2_laneOfCell 161 = .ok (.iadd, 1) := by decide +kernel
theorem dX2_laneOfCell_162 : decode cX2_laneOfCell 162 = .ok (.baload, 1) := by decide +kernel
theorem dX2_laneOfCell_163 : decode cX2_laneOfCell 163 = .ok (.bipush 46, 2) := by decide +kernel
theorem dX2_laneOfCell_165 : decode cX2_laneOfCell 165 = .ok (.if_icmp .eq 6, 3) := by decide +kernel
theorem dX2_laneOfCell_168 : decode cX2_laneOfCell 168 = .ok (.bipush 8, 2) := by decide +kernel
theorem dX2_laneOfCell_170 : decode cX2_laneOfCell 170 = .ok (.ireturn, 1) := by decide +kernel
theorem dX2_laneOfCell_171 : decode cX2_laneOfCell 171 = .ok (.iload 6, 2) := by decide +kernel
theorem dX2_laneOfCell_173 : decode cX2_laneOfCell 173 = .ok (.istore 8, 2) := by decide +kernel
theorem dX2_laneOfCell_175 : decode cX2_laneOfCell 175 = .ok (.iinc 6 1, 3) := by decide +kernel
theorem dX2_laneOfCell_178 : decode cX2_laneOfCell 178 = .ok (.iload 6, 2) := by decide +kernel
theorem dX2_laneOfCell_180 : decode cX2_laneOfCell 180 = .ok (.iload 4, 2) := by decide +kernel
theorem dX2_laneOfCell_182 : decode cX2_laneOfCell 182 = .ok (.if_icmp .ge 27, 3) := by decide +kernel
theorem dX2_laneOfCell_185 : decode cX2_laneOfCell 185 = .ok (.aload_n 0, 1) := by decide +kernel
theorem dX2_laneOfCell_186 : decode cX2_laneOfCell 186 = .ok (.getfield 12, 3) := by decide +kernel
theorem dX2_laneOfCell_189 : decode cX2_laneOfCell 189 = .ok (.getfield 154, 3) := by decide +kernel
theorem dX2_laneOfCell_192 : decode cX2_laneOfCell 192 = .ok (.iload_n 3, 1) := by decide +kernel
theorem dX2_laneOfCell_193 : decode cX2_laneOfCell 193 = .ok (.iload 6, 2) := by decide +kernel
theorem dX2_laneOfCell_195 : decode cX2_laneOfCell 195 = .ok (.iadd, 1) := by decide +kernel
theorem dX2_laneOfCell_196 : decode cX2_laneOfCell 196 = .ok (.baload, 1) := by decide +kernel
theorem dX2_laneOfCell_197 : decode cX2_laneOfCell 197 = .ok (.invokestatic 173, 3) := by decide +kernel
theorem dX2_laneOfCell_200 : decode cX2_laneOfCell 200 = .ok (.ifCond .eq 9, 3) := by decide +kernel
theorem dX2_laneOfCell_203 : decode cX2_laneOfCell 203 = .ok (.iinc 6 1, 3) := by decide +kernel
theorem dX2_laneOfCell_206 : decode cX2_laneOfCell 206 = .ok (.goto (-28), 3) := by decide +kernel
theorem dX2_laneOfCell_209 : decode cX2_laneOfCell 209 = .ok (.iload 6, 2) := by decide +kernel
theorem dX2_laneOfCell_211 : decode cX2_laneOfCell 211 = .ok (.iload 4, 2) := by decide +kernel
theorem dX2_laneOfCell_213 : decode cX2_laneOfCell 213 = .ok (.if_icmp .ne 29, 3) := by decide +kernel
theorem dX2_laneOfCell_216 : decode cX2_laneOfCell 216 = .ok (.iload 6, 2) := by decide +kernel
theorem dX2_laneOfCell_218 : decode cX2_laneOfCell 218 = .ok (.iload 8, 2) := by decide +kernel
theorem dX2_laneOfCell_220 : decode cX2_laneOfCell 220 = .ok (.iconst 1, 1) := by decide +kernel
theorem dX2_laneOfCell_221 : decode cX2_laneOfCell 221 = .ok (.iadd, 1) := by decide +kernel
theorem dX2_laneOfCell_222 : decode cX2_laneOfCell 222 = .ok (.if_icmp .le 20, 3) := by decide +kernel
theorem dX2_laneOfCell_225 : decode cX2_laneOfCell 225 = .ok (.iload 4, 2) := by decide +kernel
theorem dX2_laneOfCell_227 : decode cX2_laneOfCell 227 = .ok (.iload 5, 2) := by decide +kernel
theorem dX2_laneOfCell_229 : decode cX2_laneOfCell 229 = .ok (.isub, 1) := by decide +kernel
theorem dX2_laneOfCell_230 : decode cX2_laneOfCell 230 = .ok (.iconst 1, 1) := by decide +kernel
theorem dX2_laneOfCell_231 : decode cX2_laneOfCell 231 = .ok (.isub, 1) := by decide +kernel
theorem dX2_laneOfCell_232 : decode cX2_laneOfCell 232 = .ok (.bipush 15, 2) := by decide +kernel
theorem dX2_laneOfCell_234 : decode cX2_laneOfCell 234 = .ok (.if_icmp .gt 8, 3) := by decide +kernel
theorem dX2_laneOfCell_237 : decode cX2_laneOfCell 237 = .ok (.bipush 7, 2) := by decide +kernel
theorem dX2_laneOfCell_239 : decode cX2_laneOfCell 239 = .ok (.goto 5, 3) := by decide +kernel
theorem dX2_laneOfCell_242 : decode cX2_laneOfCell 242 = .ok (.bipush 8, 2) := by decide +kernel
theorem dX2_laneOfCell_244 : decode cX2_laneOfCell 244 = .ok (.ireturn, 1) := by decide +kernel
abbrev cX2_isWord : ByteArray := prog_7_method_17_code
def yX2_isWord : MethodName := ⟨RX2, "isWord", "(IILjava/lang/String;)Z"⟩
theorem dX2_isWord_0 : decode cX2_isWord 0 = .ok (.iload_n 2, 1) := by decide +kernel
theorem dX2_isWord_1 : decode cX2_isWord 1 = .ok (.aload_n 3, 1) := by decide +kernel
theorem dX2_isWord_2 : decode cX2_isWord 2 = .ok (.invokevirtual 150, 3) := by decide +kernel
theorem dX2_isWord_5 : decode cX2_isWord 5 = .ok (.if_icmp .eq 5, 3) := by decide +kernel
theorem dX2_isWord_8 : decode cX2_isWord 8 = .ok (.iconst 0, 1) := by decide +kernel
theorem dX2_isWord_9 : decode cX2_isWord 9 = .ok (.ireturn, 1) := by decide +kernel
theorem dX2_isWord_10 : decode cX2_isWord 10 = .ok (.iconst 0, 1) := by decide +kernel
theorem dX2_isWord_11 : decode cX2_isWord 11 = .ok (.istore 4, 2) := by decide +kernel
theorem dX2_isWord_13 : decode cX2_isWord 13 = .ok (.iload 4, 2) := by decide +kernel
theorem dX2_isWord_15 : decode cX2_isWord 15 = .ok (.iload_n 2, 1) := by decide +kernel
theorem dX2_isWord_16 : decode cX2_isWord 16 = .ok (.if_icmp .ge 32, 3) := by decide +kernel
theorem dX2_isWord_19 : decode cX2_isWord 19 = .ok (.aload_n 0, 1) := by decide +kernel
theorem dX2_isWord_20 : decode cX2_isWord 20 = .ok (.getfield 12, 3) := by decide +kernel
theorem dX2_isWord_23 : decode cX2_isWord 23 = .ok (.getfield 154, 3) := by decide +kernel
theorem dX2_isWord_26 : decode cX2_isWord 26 = .ok (.iload_n 1, 1) := by decide +kernel
theorem dX2_isWord_27 : decode cX2_isWord 27 = .ok (.iload 4, 2) := by decide +kernel
theorem dX2_isWord_29 : decode cX2_isWord 29 = .ok (.iadd, 1) := by decide +kernel
theorem dX2_isWord_30 : decode cX2_isWord 30 = .ok (.baload, 1) := by decide +kernel
theorem dX2_isWord_31 : decode cX2_isWord 31 = .ok (.aload_n 3, 1) := by decide +kernel
theorem dX2_isWord_32 : decode cX2_isWord 32 = .ok (.iload 4, 2) := by decide +kernel
theorem dX2_isWord_34 : decode cX2_isWord 34 = .ok (.invokevirtual 157, 3) := by decide +kernel
theorem dX2_isWord_37 : decode cX2_isWord 37 = .ok (.if_icmp .eq 5, 3) := by decide +kernel
theorem dX2_isWord_40 : decode cX2_isWord 40 = .ok (.iconst 0, 1) := by decide +kernel
theorem dX2_isWord_41 : decode cX2_isWord 41 = .ok (.ireturn, 1) := by decide +kernel
theorem dX2_isWord_42 : decode cX2_isWord 42 = .ok (.iinc 4 1, 3) := by decide +kernel
theorem dX2_isWord_45 : decode cX2_isWord 45 = .ok (.goto (-32), 3) := by decide +kernel
theorem dX2_isWord_48 : decode cX2_isWord 48 = .ok (.iconst 1, 1) := by decide +kernel
theorem dX2_isWord_49 : decode cX2_isWord 49 = .ok (.ireturn, 1) := by decide +kernel
abbrev cX2_isDigit : ByteArray := prog_7_method_16_code
def yX2_isDigit : MethodName := ⟨RX2, "isDigit", "(I)Z"⟩
theorem dX2_isDigit_0 : decode cX2_isDigit 0 = .ok (.iload_n 0, 1) := by decide +kernel
theorem dX2_isDigit_1 : decode cX2_isDigit 1 = .ok (.bipush 48, 2) := by decide +kernel
theorem dX2_isDigit_3 : decode cX2_isDigit 3 = .ok (.if_icmp .lt 13, 3) := by decide +kernel
theorem dX2_isDigit_6 : decode cX2_isDigit 6 = .ok (.iload_n 0, 1) := by decide +kernel
theorem dX2_isDigit_7 : decode cX2_isDigit 7 = .ok (.bipush 57, 2) := by decide +kernel
theorem dX2_isDigit_9 : decode cX2_isDigit 9 = .ok (.if_icmp .gt 7, 3) := by decide +kernel
theorem dX2_isDigit_12 : decode cX2_isDigit 12 = .ok (.iconst 1, 1) := by decide +kernel
theorem dX2_isDigit_13 : decode cX2_isDigit 13 = .ok (.goto 4, 3) := by decide +kernel
theorem dX2_isDigit_16 : decode cX2_isDigit 16 = .ok (.iconst 0, 1) := by decide +kernel
theorem dX2_isDigit_17 : decode cX2_isDigit 17 = .ok (.ireturn, 1) := by decide +kernel
abbrev cX2_wholeLane : ByteArray := prog_7_method_19_code
def yX2_wholeLane : MethodName := ⟨RX2, "wholeLane", "(IIZ)I"⟩
theorem dX2_wholeLane_0 : decode cX2_wholeLane 0 = .ok (.iload_n 2, 1) := by decide +kernel
theorem dX2_wholeLane_1 : decode cX2_wholeLane 1 = .ok (.bipush 19, 2) := by decide +kernel
theorem dX2_wholeLane_3 : decode cX2_wholeLane 3 = .ok (.if_icmp .le 6, 3) := by decide +kernel
theorem dX2_wholeLane_6 : decode cX2_wholeLane 6 = .ok (.bipush 8, 2) := by decide +kernel
theorem dX2_wholeLane_8 : decode cX2_wholeLane 8 = .ok (.ireturn, 1) := by decide +kernel
theorem dX2_wholeLane_9 : decode cX2_wholeLane 9 = .ok (.lconst 0, 1) := by decide +kernel
theorem dX2_wholeLane_10 : decode cX2_wholeLane 10 = .ok (.lstore 4, 2) := by decide +kernel
theorem dX2_wholeLane_12 : decode cX2_wholeLane 12 = .ok (.iconst 1, 1) := by decide +kernel
theorem dX2_wholeLane_13 : decode cX2_wholeLane 13 = .ok (.istore 6, 2) := by decide +kernel
theorem dX2_wholeLane_15 : decode cX2_wholeLane 15 = .ok (.iconst 0, 1) := by decide +kernel
theorem dX2_wholeLane_16 : decode cX2_wholeLane 16 = .ok (.istore 7, 2) := by decide +kernel
theorem dX2_wholeLane_18 : decode cX2_wholeLane 18 = .ok (.iload 7, 2) := by decide +kernel
theorem dX2_wholeLane_20 : decode cX2_wholeLane 20 = .ok (.iload_n 2, 1) := by decide +kernel
theorem dX2_wholeLane_21 : decode cX2_wholeLane 21 = .ok (.if_icmp .ge 72, 3) := by decide +kernel
theorem dX2_wholeLane_24 : decode cX2_wholeLane 24 = .ok (.aload_n 0, 1) := by decide +kernel
theorem dX2_wholeLane_25 : decode cX2_wholeLane 25 = .ok (.getfield 12, 3) := by decide +kernel
theorem dX2_wholeLane_28 : decode cX2_wholeLane 28 = .ok (.getfield 154, 3) := by decide +kernel
theorem dX2_wholeLane_31 : decode cX2_wholeLane 31 = .ok (.iload_n 1, 1) := by decide +kernel
theorem dX2_wholeLane_32 : decode cX2_wholeLane 32 = .ok (.iload 7, 2) := by decide +kernel
theorem dX2_wholeLane_34 : decode cX2_wholeLane 34 = .ok (.iadd, 1) := by decide +kernel
theorem dX2_wholeLane_35 : decode cX2_wholeLane 35 = .ok (.baload, 1) := by decide +kernel
theorem dX2_wholeLane_36 : decode cX2_wholeLane 36 = .ok (.bipush 48, 2) := by decide +kernel
theorem dX2_wholeLane_38 : decode cX2_wholeLane 38 = .ok (.isub, 1) := by decide +kernel
theorem dX2_wholeLane_39 : decode cX2_wholeLane 39 = .ok (.istore 8, 2) := by decide +kernel
theorem dX2_wholeLane_41 : decode cX2_wholeLane 41 = .ok (.iload 6, 2) := by decide +kernel
theorem dX2_wholeLane_43 : decode cX2_wholeLane 43 = .ok (.ifCond .eq 24, 3) := by decide +kernel
theorem dX2_wholeLane_46 : decode cX2_wholeLane 46 = .ok (.lload 4, 2) := by decide +kernel
theorem dX2_wholeLane_48 : decode cX2_wholeLane 48 = .ok (.ldc2_w 182, 3) := by decide +kernel
theorem dX2_wholeLane_51 : decode cX2_wholeLane 51 = .ok (.iload 8, 2) := by decide +kernel
theorem dX2_wholeLane_53 : decode cX2_wholeLane 53 = .ok (.i2l, 1) := by decide +kernel
theorem dX2_wholeLane_54 : decode cX2_wholeLane 54 = .ok (.lsub, 1) := by decide +kernel
theorem dX2_wholeLane_55 : decode cX2_wholeLane 55 = .ok (.ldc2_w 184, 3) := by decide +kernel
theorem dX2_wholeLane_58 : decode cX2_wholeLane 58 = .ok (.ldiv, 1) := by decide +kernel
theorem dX2_wholeLane_59 : decode cX2_wholeLane 59 = .ok (.lcmp, 1) := by decide +kernel
theorem dX2_wholeLane_60 : decode cX2_wholeLane 60 = .ok (.ifCond .gt 7, 3) := by decide +kernel
theorem dX2_wholeLane_63 : decode cX2_wholeLane 63 = .ok (.iconst 1, 1) := by decide +kernel
theorem dX2_wholeLane_64 : decode cX2_wholeLane 64 = .ok (.goto 4, 3) := by decide +kernel
theorem dX2_wholeLane_67 : decode cX2_wholeLane 67 = .ok (.iconst 0, 1) := by decide +kernel
theorem dX2_wholeLane_68 : decode cX2_wholeLane 68 = .ok (.istore 6, 2) := by decide +kernel
theorem dX2_wholeLane_70 : decode cX2_wholeLane 70 = .ok (.iload 6, 2) := by decide +kernel
theorem dX2_wholeLane_72 : decode cX2_wholeLane 72 = .ok (.ifCond .eq 15, 3) := by decide +kernel
theorem dX2_wholeLane_75 : decode cX2_wholeLane 75 = .ok (.ldc2_w 184, 3) := by decide +kernel
theorem dX2_wholeLane_78 : decode cX2_wholeLane 78 = .ok (.lload 4, 2) := by decide +kernel
theorem dX2_wholeLane_80 : decode cX2_wholeLane 80 = .ok (.lmul, 1) := by decide +kernel
theorem dX2_wholeLane_81 : decode cX2_wholeLane 81 = .ok (.iload 8, 2) := by decide +kernel
theorem dX2_wholeLane_83 : decode cX2_wholeLane 83 = .ok (.i2l, 1) := by decide +kernel
theorem dX2_wholeLane_84 : decode cX2_wholeLane 84 = .ok (.ladd, 1) := by decide +kernel
theorem dX2_wholeLane_85 : decode cX2_wholeLane 85 = .ok (.lstore 4, 2) := by decide +kernel
theorem dX2_wholeLane_87 : decode cX2_wholeLane 87 = .ok (.iinc 7 1, 3) := by decide +kernel
theorem dX2_wholeLane_90 : decode cX2_wholeLane 90 = .ok (.goto (-72), 3) := by decide +kernel
theorem dX2_wholeLane_93 : decode cX2_wholeLane 93 = .ok (.iload 6, 2) := by decide +kernel
theorem dX2_wholeLane_95 : decode cX2_wholeLane 95 = .ok (.ifCond .ne 29, 3) := by decide +kernel
theorem dX2_wholeLane_98 : decode cX2_wholeLane 98 = .ok (.iload_n 3, 1) := by decide +kernel
theorem dX2_wholeLane_99 : decode cX2_wholeLane 99 = .ok (.ifCond .eq 25, 3) := by decide +kernel
theorem dX2_wholeLane_102 : decode cX2_wholeLane 102 = .ok (.iload_n 2, 1) := by decide +kernel
theorem dX2_wholeLane_103 : decode cX2_wholeLane 103 = .ok (.bipush 19, 2) := by decide +kernel
theorem dX2_wholeLane_105 : decode cX2_wholeLane 105 = .ok (.if_icmp .ne 19, 3) := by decide +kernel
theorem dX2_wholeLane_108 : decode cX2_wholeLane 108 = .ok (.aload_n 0, 1) := by decide +kernel
theorem dX2_wholeLane_109 : decode cX2_wholeLane 109 = .ok (.iload_n 1, 1) := by decide +kernel
theorem dX2_wholeLane_110 : decode cX2_wholeLane 110 = .ok (.bipush 19, 2) := by decide +kernel
theorem dX2_wholeLane_112 : decode cX2_wholeLane 112 = .ok (.ldc 186, 2) := by decide +kernel
theorem dX2_wholeLane_114 : decode cX2_wholeLane 114 = .ok (.invokevirtual 167, 3) := by decide +kernel
theorem dX2_wholeLane_117 : decode cX2_wholeLane 117 = .ok (.ifCond .eq 7, 3) := by decide +kernel
theorem dX2_wholeLane_120 : decode cX2_wholeLane 120 = .ok (.iconst 1, 1) := by decide +kernel
theorem dX2_wholeLane_121 : decode cX2_wholeLane 121 = .ok (.goto 4, 3) := by decide +kernel
theorem dX2_wholeLane_124 : decode cX2_wholeLane 124 = .ok (.iconst 0, 1) := by decide +kernel
theorem dX2_wholeLane_125 : decode cX2_wholeLane 125 = .ok (.istore 7, 2) := by decide +kernel
theorem dX2_wholeLane_127 : decode cX2_wholeLane 127 = .ok (.iload 6, 2) := by decide +kernel
theorem dX2_wholeLane_129 : decode cX2_wholeLane 129 = .ok (.ifCond .ne 11, 3) := by decide +kernel
theorem dX2_wholeLane_132 : decode cX2_wholeLane 132 = .ok (.iload 7, 2) := by decide +kernel
theorem dX2_wholeLane_134 : decode cX2_wholeLane 134 = .ok (.ifCond .ne 6, 3) := by decide +kernel
theorem dX2_wholeLane_137 : decode cX2_wholeLane 137 = .ok (.bipush 8, 2) := by decide +kernel
theorem dX2_wholeLane_139 : decode cX2_wholeLane 139 = .ok (.ireturn, 1) := by decide +kernel
theorem dX2_wholeLane_140 : decode cX2_wholeLane 140 = .ok (.iload 6, 2) := by decide +kernel
theorem dX2_wholeLane_142 : decode cX2_wholeLane 142 = .ok (.ifCond .eq 32, 3) := by decide +kernel
theorem dX2_wholeLane_145 : decode cX2_wholeLane 145 = .ok (.iload_n 2, 1) := by decide +kernel
theorem dX2_wholeLane_146 : decode cX2_wholeLane 146 = .ok (.bipush 10, 2) := by decide +kernel
theorem dX2_wholeLane_148 : decode cX2_wholeLane 148 = .ok (.if_icmp .gt 26, 3) := by decide +kernel
theorem dX2_wholeLane_151 : decode cX2_wholeLane 151 = .ok (.lload 4, 2) := by decide +kernel
theorem dX2_wholeLane_153 : decode cX2_wholeLane 153 = .ok (.iload_n 3, 1) := by decide +kernel
theorem dX2_wholeLane_154 : decode cX2_wholeLane 154 = .ok (.ifCond .eq 9, 3) := by decide +kernel
theorem dX2_wholeLane_157 : decode cX2_wholeLane 157 = .ok (.ldc2_w 188, 3) := by decide +kernel
theorem dX2_wholeLane_160 : decode cX2_wholeLane 160 = .ok (.goto 6, 3) := by decide +kernel
theorem dX2_wholeLane_163 : decode cX2_wholeLane 163 = .ok (.ldc2_w 190, 3) := by decide +kernel
theorem dX2_wholeLane_166 : decode cX2_wholeLane 166 = .ok (.lcmp, 1) := by decide +kernel
theorem dX2_wholeLane_167 : decode cX2_wholeLane 167 = .ok (.ifCond .gt 7, 3) := by decide +kernel
theorem dX2_wholeLane_170 : decode cX2_wholeLane 170 = .ok (.iconst 1, 1) := by decide +kernel
theorem dX2_wholeLane_171 : decode cX2_wholeLane 171 = .ok (.goto 4, 3) := by decide +kernel
theorem dX2_wholeLane_174 : decode cX2_wholeLane 174 = .ok (.iconst 0, 1) := by decide +kernel
theorem dX2_wholeLane_175 : decode cX2_wholeLane 175 = .ok (.istore 8, 2) := by decide +kernel
theorem dX2_wholeLane_177 : decode cX2_wholeLane 177 = .ok (.iload 8, 2) := by decide +kernel
theorem dX2_wholeLane_179 : decode cX2_wholeLane 179 = .ok (.ifCond .eq 7, 3) := by decide +kernel
theorem dX2_wholeLane_182 : decode cX2_wholeLane 182 = .ok (.iconst 4, 1) := by decide +kernel
theorem dX2_wholeLane_183 : decode cX2_wholeLane 183 = .ok (.goto 4, 3) := by decide +kernel
theorem dX2_wholeLane_186 : decode cX2_wholeLane 186 = .ok (.iconst 5, 1) := by decide +kernel
theorem dX2_wholeLane_187 : decode cX2_wholeLane 187 = .ok (.ireturn, 1) := by decide +kernel
abbrev cX2_find : ByteArray := prog_7_method_2_code
def yX2_find : MethodName := ⟨RX2, "find", "(I)LCommaTables$Table;"⟩
theorem dX2_find_0 : decode cX2_find 0 = .ok (.iload_n 1, 1) := by decide +kernel
theorem dX2_find_1 : decode cX2_find 1 = .ok (.iconst 1, 1) := by decide +kernel
theorem dX2_find_2 : decode cX2_find 2 = .ok (.if_icmp .lt 20, 3) := by decide +kernel
theorem dX2_find_5 : decode cX2_find 5 = .ok (.iload_n 1, 1) := by decide +kernel
theorem dX2_find_6 : decode cX2_find 6 = .ok (.aload_n 0, 1) := by decide +kernel
theorem dX2_find_7 : decode cX2_find 7 = .ok (.getfield 50, 3) := by decide +kernel
theorem dX2_find_10 : decode cX2_find 10 = .ok (.if_icmp .gt 12, 3) := by decide +kernel
theorem dX2_find_13 : decode cX2_find 13 = .ok (.aload_n 0, 1) := by decide +kernel
theorem dX2_find_14 : decode cX2_find 14 = .ok (.getfield 20, 3) := by decide +kernel
theorem dX2_find_17 : decode cX2_find 17 = .ok (.iload_n 1, 1) := by decide +kernel
theorem dX2_find_18 : decode cX2_find 18 = .ok (.aaload, 1) := by decide +kernel
theorem dX2_find_19 : decode cX2_find 19 = .ok (.goto 4, 3) := by decide +kernel
theorem dX2_find_22 : decode cX2_find 22 = .ok (.aconst_null, 1) := by decide +kernel
theorem dX2_find_23 : decode cX2_find 23 = .ok (.areturn, 1) := by decide +kernel
abbrev cX2_named : ByteArray := prog_7_method_26_code
def yX2_named : MethodName := ⟨RX2, "named", "(LCommaTables$Table;[BI)I"⟩
theorem dX2_named_0 : decode cX2_named 0 = .ok (.iconst 0, 1) := by decide +kernel
theorem dX2_named_1 : decode cX2_named 1 = .ok (.istore 4, 2) := by decide +kernel
theorem dX2_named_3 : decode cX2_named 3 = .ok (.iload 4, 2) := by decide +kernel
theorem dX2_named_5 : decode cX2_named 5 = .ok (.aload_n 1, 1) := by decide +kernel
theorem dX2_named_6 : decode cX2_named 6 = .ok (.getfield 142, 3) := by decide +kernel
theorem dX2_named_9 : decode cX2_named 9 = .ok (.if_icmp .ge 90, 3) := by decide +kernel
theorem dX2_named_12 : decode cX2_named 12 = .ok (.aload_n 1, 1) := by decide +kernel
theorem dX2_named_13 : decode cX2_named 13 = .ok (.getfield 131, 3) := by decide +kernel
theorem dX2_named_16 : decode cX2_named 16 = .ok (.iload 4, 2) := by decide +kernel
theorem dX2_named_18 : decode cX2_named 18 = .ok (.baload, 1) := by decide +kernel
theorem dX2_named_19 : decode cX2_named 19 = .ok (.bipush 63, 2) := by decide +kernel
theorem dX2_named_21 : decode cX2_named 21 = .ok (.iand, 1) := by decide +kernel
theorem dX2_named_22 : decode cX2_named 22 = .ok (.iload_n 3, 1) := by decide +kernel
theorem dX2_named_23 : decode cX2_named 23 = .ok (.if_icmp .ne 7, 3) := by decide +kernel
theorem dX2_named_26 : decode cX2_named 26 = .ok (.iconst 1, 1) := by decide +kernel
theorem dX2_named_27 : decode cX2_named 27 = .ok (.goto 4, 3) := by decide +kernel
theorem dX2_named_30 : decode cX2_named 30 = .ok (.iconst 0, 1) := by decide +kernel
theorem dX2_named_31 : decode cX2_named 31 = .ok (.istore 5, 2) := by decide +kernel
theorem dX2_named_33 : decode cX2_named 33 = .ok (.iconst 0, 1) := by decide +kernel
theorem dX2_named_34 : decode cX2_named 34 = .ok (.istore 6, 2) := by decide +kernel
theorem dX2_named_36 : decode cX2_named 36 = .ok (.iload 6, 2) := by decide +kernel
theorem dX2_named_38 : decode cX2_named 38 = .ok (.iload_n 3, 1) := by decide +kernel
theorem dX2_named_39 : decode cX2_named 39 = .ok (.if_icmp .ge 46, 3) := by decide +kernel
theorem dX2_named_42 : decode cX2_named 42 = .ok (.iload 5, 2) := by decide +kernel
theorem dX2_named_44 : decode cX2_named 44 = .ok (.ifCond .eq 41, 3) := by decide +kernel
theorem dX2_named_47 : decode cX2_named 47 = .ok (.aload_n 0, 1) := by decide +kernel
theorem dX2_named_48 : decode cX2_named 48 = .ok (.getfield 12, 3) := by decide +kernel
theorem dX2_named_51 : decode cX2_named 51 = .ok (.getfield 154, 3) := by decide +kernel
theorem dX2_named_54 : decode cX2_named 54 = .ok (.aload_n 1, 1) := by decide +kernel
theorem dX2_named_55 : decode cX2_named 55 = .ok (.getfield 128, 3) := by decide +kernel
theorem dX2_named_58 : decode cX2_named 58 = .ok (.iload 4, 2) := by decide +kernel
theorem dX2_named_60 : decode cX2_named 60 = .ok (.iaload, 1) := by decide +kernel
theorem dX2_named_61 : decode cX2_named 61 = .ok (.iload 6, 2) := by decide +kernel
theorem dX2_named_63 : decode cX2_named 63 = .ok (.iadd, 1) := by decide +kernel
theorem dX2_named_64 : decode cX2_named 64 = .ok (.baload, 1) := by decide +kernel
theorem dX2_named_65 : decode cX2_named 65 = .ok (.aload_n 2, 1) := by decide +kernel
theorem dX2_named_66 : decode cX2_named 66 = .ok (.iload 6, 2) := by decide +kernel
theorem dX2_named_68 : decode cX2_named 68 = .ok (.baload, 1) := by decide +kernel
theorem dX2_named_69 : decode cX2_named 69 = .ok (.if_icmp .ne 7, 3) := by decide +kernel
theorem dX2_named_72 : decode cX2_named 72 = .ok (.iconst 1, 1) := by decide +kernel
theorem dX2_named_73 : decode cX2_named 73 = .ok (.goto 4, 3) := by decide +kernel
theorem dX2_named_76 : decode cX2_named 76 = .ok (.iconst 0, 1) := by decide +kernel
theorem dX2_named_77 : decode cX2_named 77 = .ok (.istore 5, 2) := by decide +kernel
theorem dX2_named_79 : decode cX2_named 79 = .ok (.iinc 6 1, 3) := by decide +kernel
theorem dX2_named_82 : decode cX2_named 82 = .ok (.goto (-46), 3) := by decide +kernel
theorem dX2_named_85 : decode cX2_named 85 = .ok (.iload 5, 2) := by decide +kernel
theorem dX2_named_87 : decode cX2_named 87 = .ok (.ifCond .eq 6, 3) := by decide +kernel
theorem dX2_named_90 : decode cX2_named 90 = .ok (.iload 4, 2) := by decide +kernel
theorem dX2_named_92 : decode cX2_named 92 = .ok (.ireturn, 1) := by decide +kernel
theorem dX2_named_93 : decode cX2_named 93 = .ok (.iinc 4 1, 3) := by decide +kernel
theorem dX2_named_96 : decode cX2_named 96 = .ok (.goto (-93), 3) := by decide +kernel
theorem dX2_named_99 : decode cX2_named 99 = .ok (.iconst (-1), 1) := by decide +kernel
theorem dX2_named_100 : decode cX2_named 100 = .ok (.ireturn, 1) := by decide +kernel
abbrev cX2_column : ByteArray := prog_7_method_24_code
def yX2_column : MethodName := ⟨RX2, "column", "(LCommaTables$Table;I[J)V"⟩
theorem dX2_column_0 : decode cX2_column 0 = .ok (.aload_n 1, 1) := by decide +kernel
theorem dX2_column_1 : decode cX2_column 1 = .ok (.getfield 143, 3) := by decide +kernel
theorem dX2_column_4 : decode cX2_column 4 = .ok (.iload_n 2, 1) := by decide +kernel
theorem dX2_column_5 : decode cX2_column 5 = .ok (.iaload, 1) := by decide +kernel
theorem dX2_column_6 : decode cX2_column 6 = .ok (.bipush 8, 2) := by decide +kernel
theorem dX2_column_8 : decode cX2_column 8 = .ok (.if_icmp .eq 46, 3) := by decide +kernel
theorem dX2_column_11 : decode cX2_column 11 = .ok (.iconst 0, 1) := by decide +kernel
theorem dX2_column_12 : decode cX2_column 12 = .ok (.istore 4, 2) := by decide +kernel
theorem dX2_column_14 : decode cX2_column 14 = .ok (.iload 4, 2) := by decide +kernel
theorem dX2_column_16 : decode cX2_column 16 = .ok (.aload_n 1, 1) := by decide +kernel
theorem dX2_column_17 : decode cX2_column 17 = .ok (.getfield 195, 3) := by decide +kernel
theorem dX2_column_20 : decode cX2_column 20 = .ok (.if_icmp .ge 33, 3) := by decide +kernel
theorem dX2_column_23 : decode cX2_column 23 = .ok (.aload_n 3, 1) := by decide +kernel
theorem dX2_column_24 : decode cX2_column 24 = .ok (.iload 4, 2) := by decide +kernel
theorem dX2_column_26 : decode cX2_column 26 = .ok (.aload_n 0, 1) := by decide +kernel
theorem dX2_column_27 : decode cX2_column 27 = .ok (.aload_n 1, 1) := by decide +kernel
theorem dX2_column_28 : decode cX2_column 28 = .ok (.aload_n 1, 1) := by decide +kernel
theorem dX2_column_29 : decode cX2_column 29 = .ok (.getfield 142, 3) := by decide +kernel
theorem dX2_column_32 : decode cX2_column 32 = .ok (.iload 4, 2) := by decide +kernel
theorem dX2_column_34 : decode cX2_column 34 = .ok (.imul, 1) := by decide +kernel
theorem dX2_column_35 : decode cX2_column 35 = .ok (.iload_n 2, 1) := by decide +kernel
theorem dX2_column_36 : decode cX2_column 36 = .ok (.iadd, 1) := by decide +kernel
theorem dX2_column_37 : decode cX2_column 37 = .ok (.aload_n 1, 1) := by decide +kernel
theorem dX2_column_38 : decode cX2_column 38 = .ok (.getfield 143, 3) := by decide +kernel
theorem dX2_column_41 : decode cX2_column 41 = .ok (.iload_n 2, 1) := by decide +kernel
theorem dX2_column_42 : decode cX2_column 42 = .ok (.iaload, 1) := by decide +kernel
theorem dX2_column_43 : decode cX2_column 43 = .ok (.invokevirtual 216, 3) := by decide +kernel
theorem dX2_column_46 : decode cX2_column 46 = .ok (.lastore, 1) := by decide +kernel
theorem dX2_column_47 : decode cX2_column 47 = .ok (.iinc 4 1, 3) := by decide +kernel
theorem dX2_column_50 : decode cX2_column 50 = .ok (.goto (-36), 3) := by decide +kernel
theorem dX2_column_53 : decode cX2_column 53 = .ok (.return_, 1) := by decide +kernel
theorem dX2_column_54 : decode cX2_column 54 = .ok (.iconst 0, 1) := by decide +kernel
theorem dX2_column_55 : decode cX2_column 55 = .ok (.istore 4, 2) := by decide +kernel
theorem dX2_column_57 : decode cX2_column 57 = .ok (.iload 4, 2) := by decide +kernel
theorem dX2_column_59 : decode cX2_column 59 = .ok (.aload_n 1, 1) := by decide +kernel
theorem dX2_column_60 : decode cX2_column 60 = .ok (.getfield 195, 3) := by decide +kernel
theorem dX2_column_63 : decode cX2_column 63 = .ok (.if_icmp .ge 24, 3) := by decide +kernel
theorem dX2_column_66 : decode cX2_column 66 = .ok (.aload_n 0, 1) := by decide +kernel
theorem dX2_column_67 : decode cX2_column 67 = .ok (.getfield 42, 3) := by decide +kernel
theorem dX2_column_70 : decode cX2_column 70 = .ok (.iload 4, 2) := by decide +kernel
theorem dX2_column_72 : decode cX2_column 72 = .ok (.aload_n 0, 1) := by decide +kernel
theorem dX2_column_73 : decode cX2_column 73 = .ok (.aload_n 1, 1) := by decide +kernel
theorem dX2_column_74 : decode cX2_column 74 = .ok (.iload_n 2, 1) := by decide +kernel
theorem dX2_column_75 : decode cX2_column 75 = .ok (.iload 4, 2) := by decide +kernel
theorem dX2_column_77 : decode cX2_column 77 = .ok (.invokevirtual 220, 3) := by decide +kernel
theorem dX2_column_80 : decode cX2_column 80 = .ok (.lastore, 1) := by decide +kernel
theorem dX2_column_81 : decode cX2_column 81 = .ok (.iinc 4 1, 3) := by decide +kernel
theorem dX2_column_84 : decode cX2_column 84 = .ok (.goto (-27), 3) := by decide +kernel
theorem dX2_column_87 : decode cX2_column 87 = .ok (.aload_n 0, 1) := by decide +kernel
theorem dX2_column_88 : decode cX2_column 88 = .ok (.getfield 38, 3) := by decide +kernel
theorem dX2_column_91 : decode cX2_column 91 = .ok (.aload_n 0, 1) := by decide +kernel
theorem dX2_column_92 : decode cX2_column 92 = .ok (.getfield 42, 3) := by decide +kernel
theorem dX2_column_95 : decode cX2_column 95 = .ok (.aload_n 1, 1) := by decide +kernel
theorem dX2_column_96 : decode cX2_column 96 = .ok (.getfield 195, 3) := by decide +kernel
theorem dX2_column_99 : decode cX2_column 99 = .ok (.iconst 5, 1) := by decide +kernel
theorem dX2_column_100 : decode cX2_column 100 = .ok (.iconst 0, 1) := by decide +kernel
theorem dX2_column_101 : decode cX2_column 101 = .ok (.invokevirtual 223, 3) := by decide +kernel
theorem dX2_column_104 : decode cX2_column 104 = .ok (.ldc2_w 227, 3) := by decide +kernel
theorem dX2_column_107 : decode cX2_column 107 = .ok (.lstore 4, 2) := by decide +kernel
theorem dX2_column_109 : decode cX2_column 109 = .ok (.iconst 0, 1) := by decide +kernel
theorem dX2_column_110 : decode cX2_column 110 = .ok (.istore 6, 2) := by decide +kernel
theorem dX2_column_112 : decode cX2_column 112 = .ok (.iload 6, 2) := by decide +kernel
theorem dX2_column_114 : decode cX2_column 114 = .ok (.aload_n 1, 1) := by decide +kernel
theorem dX2_column_115 : decode cX2_column 115 = .ok (.getfield 195, 3) := by decide +kernel
theorem dX2_column_118 : decode cX2_column 118 = .ok (.if_icmp .ge 90, 3) := by decide +kernel
theorem dX2_column_121 : decode cX2_column 121 = .ok (.aload_n 0, 1) := by decide +kernel
theorem dX2_column_122 : decode cX2_column 122 = .ok (.getfield 38, 3) := by decide +kernel
theorem dX2_column_125 : decode cX2_column 125 = .ok (.iload 6, 2) := by decide +kernel
theorem dX2_column_127 : decode cX2_column 127 = .ok (.invokevirtual 229, 3) := by decide +kernel
theorem dX2_column_130 : decode cX2_column 130 = .ok (.istore 7, 2) := by decide +kernel
theorem dX2_column_132 : decode cX2_column 132 = .ok (.aload_n 1, 1) := by decide +kernel
theorem dX2_column_133 : decode cX2_column 133 = .ok (.aload_n 1, 1) := by decide +kernel
theorem dX2_column_134 : decode cX2_column 134 = .ok (.getfield 142, 3) := by decide +kernel
theorem dX2_column_137 : decode cX2_column 137 = .ok (.iload 7, 2) := by decide +kernel
theorem dX2_column_139 : decode cX2_column 139 = .ok (.imul, 1) := by decide +kernel
theorem dX2_column_140 : decode cX2_column 140 = .ok (.iload_n 2, 1) := by decide +kernel
theorem dX2_column_141 : decode cX2_column 141 = .ok (.iadd, 1) := by decide +kernel
theorem dX2_column_142 : decode cX2_column 142 = .ok (.invokevirtual 198, 3) := by decide +kernel
theorem dX2_column_145 : decode cX2_column 145 = .ok (.ifCond .eq 13, 3) := by decide +kernel
theorem dX2_column_148 : decode cX2_column 148 = .ok (.aload_n 3, 1) := by decide +kernel
theorem dX2_column_149 : decode cX2_column 149 = .ok (.iload 7, 2) := by decide +kernel
theorem dX2_column_151 : decode cX2_column 151 = .ok (.ldc2_w 227, 3) := by decide +kernel
theorem dX2_column_154 : decode cX2_column 154 = .ok (.lastore, 1) := by decide +kernel
theorem dX2_column_155 : decode cX2_column 155 = .ok (.goto 47, 3) := by decide +kernel
theorem dX2_column_158 : decode cX2_column 158 = .ok (.iload 6, 2) := by decide +kernel
theorem dX2_column_160 : decode cX2_column 160 = .ok (.ifCond .eq 30, 3) := by decide +kernel
theorem dX2_column_163 : decode cX2_column 163 = .ok (.aload_n 0, 1) := by decide +kernel
theorem dX2_column_164 : decode cX2_column 164 = .ok (.getfield 42, 3) := by decide +kernel
theorem dX2_column_167 : decode cX2_column 167 = .ok (.aload_n 0, 1) := by decide +kernel
theorem dX2_column_168 : decode cX2_column 168 = .ok (.getfield 38, 3) := by decide +kernel
theorem dX2_column_171 : decode cX2_column 171 = .ok (.iload 6, 2) := by decide +kernel
theorem dX2_column_173 : decode cX2_column 173 = .ok (.iconst 1, 1) := by decide +kernel
theorem dX2_column_174 : decode cX2_column 174 = .ok (.isub, 1) := by decide +kernel
theorem dX2_column_175 : decode cX2_column 175 = .ok (.invokevirtual 229, 3) := by decide +kernel
theorem dX2_column_178 : decode cX2_column 178 = .ok (.laload, 1) := by decide +kernel
theorem dX2_column_179 : decode cX2_column 179 = .ok (.aload_n 0, 1) := by decide +kernel
theorem dX2_column_180 : decode cX2_column 180 = .ok (.getfield 42, 3) := by decide +kernel
theorem dX2_column_183 : decode cX2_column 183 = .ok (.iload 7, 2) := by decide +kernel
theorem dX2_column_185 : decode cX2_column 185 = .ok (.laload, 1) := by decide +kernel
theorem dX2_column_186 : decode cX2_column 186 = .ok (.lcmp, 1) := by decide +kernel
theorem dX2_column_187 : decode cX2_column 187 = .ok (.ifCond .eq 9, 3) := by decide +kernel
theorem dX2_column_190 : decode cX2_column 190 = .ok (.lload 4, 2) := by decide +kernel
theorem dX2_column_192 : decode cX2_column 192 = .ok (.lconst 1, 1) := by decide +kernel
theorem dX2_column_193 : decode cX2_column 193 = .ok (.ladd, 1) := by decide +kernel
theorem dX2_column_194 : decode cX2_column 194 = .ok (.lstore 4, 2) := by decide +kernel
theorem dX2_column_196 : decode cX2_column 196 = .ok (.aload_n 3, 1) := by decide +kernel
theorem dX2_column_197 : decode cX2_column 197 = .ok (.iload 7, 2) := by decide +kernel
theorem dX2_column_199 : decode cX2_column 199 = .ok (.lload 4, 2) := by decide +kernel
theorem dX2_column_201 : decode cX2_column 201 = .ok (.lastore, 1) := by decide +kernel
theorem dX2_column_202 : decode cX2_column 202 = .ok (.iinc 6 1, 3) := by decide +kernel
theorem dX2_column_205 : decode cX2_column 205 = .ok (.goto (-93), 3) := by decide +kernel
theorem dX2_column_208 : decode cX2_column 208 = .ok (.return_, 1) := by decide +kernel
abbrev cX2_value : ByteArray := prog_7_method_23_code
def yX2_value : MethodName := ⟨RX2, "value", "(LCommaTables$Table;II)J"⟩
theorem dX2_value_0 : decode cX2_value 0 = .ok (.aload_n 1, 1) := by decide +kernel
theorem dX2_value_1 : decode cX2_value 1 = .ok (.iload_n 2, 1) := by decide +kernel
theorem dX2_value_2 : decode cX2_value 2 = .ok (.invokevirtual 198, 3) := by decide +kernel
theorem dX2_value_5 : decode cX2_value 5 = .ok (.ifCond .eq 5, 3) := by decide +kernel
theorem dX2_value_8 : decode cX2_value 8 = .ok (.lconst 0, 1) := by decide +kernel
theorem dX2_value_9 : decode cX2_value 9 = .ok (.lreturn, 1) := by decide +kernel
theorem dX2_value_10 : decode cX2_value 10 = .ok (.aload_n 1, 1) := by decide +kernel
theorem dX2_value_11 : decode cX2_value 11 = .ok (.getfield 134, 3) := by decide +kernel
theorem dX2_value_14 : decode cX2_value 14 = .ok (.iload_n 2, 1) := by decide +kernel
theorem dX2_value_15 : decode cX2_value 15 = .ok (.iaload, 1) := by decide +kernel
theorem dX2_value_16 : decode cX2_value 16 = .ok (.istore 4, 2) := by decide +kernel
theorem dX2_value_18 : decode cX2_value 18 = .ok (.aload_n 1, 1) := by decide +kernel
theorem dX2_value_19 : decode cX2_value 19 = .ok (.iload_n 2, 1) := by decide +kernel
theorem dX2_value_20 : decode cX2_value 20 = .ok (.invokevirtual 161, 3) := by decide +kernel
theorem dX2_value_23 : decode cX2_value 23 = .ok (.istore 5, 2) := by decide +kernel
theorem dX2_value_25 : decode cX2_value 25 = .ok (.iload_n 3, 1) := by decide +kernel
theorem dX2_value_26 : decode cX2_value 26 = .ok (.ifCond .ne 15, 3) := by decide +kernel
theorem dX2_value_29 : decode cX2_value 29 = .ok (.iload 5, 2) := by decide +kernel
theorem dX2_value_31 : decode cX2_value 31 = .ok (.iconst 4, 1) := by decide +kernel
theorem dX2_value_32 : decode cX2_value 32 = .ok (.if_icmp .ne 7, 3) := by decide +kernel
theorem dX2_value_35 : decode cX2_value 35 = .ok (.lconst 1, 1) := by decide +kernel
theorem dX2_value_36 : decode cX2_value 36 = .ok (.goto 4, 3) := by decide +kernel
theorem dX2_value_39 : decode cX2_value 39 = .ok (.lconst 0, 1) := by decide +kernel
theorem dX2_value_40 : decode cX2_value 40 = .ok (.lreturn, 1) := by decide +kernel
theorem dX2_value_41 : decode cX2_value 41 = .ok (.aload_n 0, 1) := by decide +kernel
theorem dX2_value_42 : decode cX2_value 42 = .ok (.getfield 12, 3) := by decide +kernel
theorem dX2_value_45 : decode cX2_value 45 = .ok (.getfield 154, 3) := by decide +kernel
theorem dX2_value_48 : decode cX2_value 48 = .ok (.iload 4, 2) := by decide +kernel
theorem dX2_value_50 : decode cX2_value 50 = .ok (.baload, 1) := by decide +kernel
theorem dX2_value_51 : decode cX2_value 51 = .ok (.bipush 45, 2) := by decide +kernel
theorem dX2_value_53 : decode cX2_value 53 = .ok (.if_icmp .ne 7, 3) := by decide +kernel
theorem dX2_value_56 : decode cX2_value 56 = .ok (.iconst 1, 1) := by decide +kernel
theorem dX2_value_57 : decode cX2_value 57 = .ok (.goto 4, 3) := by decide +kernel
theorem dX2_value_60 : decode cX2_value 60 = .ok (.iconst 0, 1) := by decide +kernel
theorem dX2_value_61 : decode cX2_value 61 = .ok (.istore 6, 2) := by decide +kernel
theorem dX2_value_63 : decode cX2_value 63 = .ok (.lconst 0, 1) := by decide +kernel
theorem dX2_value_64 : decode cX2_value 64 = .ok (.lstore 7, 2) := by decide +kernel
theorem dX2_value_66 : decode cX2_value 66 = .ok (.iconst 0, 1) := by decide +kernel
theorem dX2_value_67 : decode cX2_value 67 = .ok (.istore 9, 2) := by decide +kernel
theorem dX2_value_69 : decode cX2_value 69 = .ok (.iconst 0, 1) := by decide +kernel
theorem dX2_value_70 : decode cX2_value 70 = .ok (.istore 10, 2) := by decide +kernel
theorem dX2_value_72 : decode cX2_value 72 = .ok (.iload 6, 2) := by decide +kernel
theorem dX2_value_74 : decode cX2_value 74 = .ok (.ifCond .eq 7, 3) := by decide +kernel
theorem dX2_value_77 : decode cX2_value 77 = .ok (.iconst 1, 1) := by decide +kernel
theorem dX2_value_78 : decode cX2_value 78 = .ok (.goto 4, 3) := by decide +kernel
theorem dX2_value_81 : decode cX2_value 81 = .ok (.iconst 0, 1) := by decide +kernel
theorem dX2_value_82 : decode cX2_value 82 = .ok (.istore 11, 2) := by decide +kernel
theorem dX2_value_84 : decode cX2_value 84 = .ok (.iload 11, 2) := by decide +kernel
theorem dX2_value_86 : decode cX2_value 86 = .ok (.iload 5, 2) := by decide +kernel
theorem dX2_value_88 : decode cX2_value 88 = .ok (.if_icmp .ge 60, 3) := by decide +kernel
theorem dX2_value_91 : decode cX2_value 91 = .ok (.aload_n 0, 1) := by decide +kernel
theorem dX2_value_92 : decode cX2_value 92 = .ok (.getfield 12, 3) := by decide +kernel
theorem dX2_value_95 : decode cX2_value 95 = .ok (.getfield 154, 3) := by decide +kernel
theorem dX2_value_98 : decode cX2_value 98 = .ok (.iload 4, 2) := by decide +kernel
theorem dX2_value_100 : decode cX2_value 100 = .ok (.iload 11, 2) := by decide +kernel
theorem dX2_value_102 : decode cX2_value 102 = .ok (.iadd, 1) := by decide +kernel
theorem dX2_value_103 : decode cX2_value 103 = .ok (.baload, 1) := by decide +kernel
theorem dX2_value_104 : decode cX2_value 104 = .ok (.istore 12, 2) := by decide +kernel
theorem dX2_value_106 : decode cX2_value 106 = .ok (.iload 12, 2) := by decide +kernel
theorem dX2_value_108 : decode cX2_value 108 = .ok (.bipush 46, 2) := by decide +kernel
theorem dX2_value_110 : decode cX2_value 110 = .ok (.if_icmp .ne 9, 3) := by decide +kernel
theorem dX2_value_113 : decode cX2_value 113 = .ok (.iconst 1, 1) := by decide +kernel
theorem dX2_value_114 : decode cX2_value 114 = .ok (.istore 10, 2) := by decide +kernel
theorem dX2_value_116 : decode cX2_value 116 = .ok (.goto 26, 3) := by decide +kernel
theorem dX2_value_119 : decode cX2_value 119 = .ok (.ldc2_w 184, 3) := by decide +kernel
theorem dX2_value_122 : decode cX2_value 122 = .ok (.lload 7, 2) := by decide +kernel
theorem dX2_value_124 : decode cX2_value 124 = .ok (.lmul, 1) := by decide +kernel
theorem dX2_value_125 : decode cX2_value 125 = .ok (.iload 12, 2) := by decide +kernel
theorem dX2_value_127 : decode cX2_value 127 = .ok (.bipush 48, 2) := by decide +kernel
theorem dX2_value_129 : decode cX2_value 129 = .ok (.isub, 1) := by decide +kernel
theorem dX2_value_130 : decode cX2_value 130 = .ok (.i2l, 1) := by decide +kernel
theorem dX2_value_131 : decode cX2_value 131 = .ok (.lsub, 1) := by decide +kernel
theorem dX2_value_132 : decode cX2_value 132 = .ok (.lstore 7, 2) := by decide +kernel
theorem dX2_value_134 : decode cX2_value 134 = .ok (.iload 10, 2) := by decide +kernel
theorem dX2_value_136 : decode cX2_value 136 = .ok (.ifCond .eq 6, 3) := by decide +kernel
theorem dX2_value_139 : decode cX2_value 139 = .ok (.iinc 9 1, 3) := by decide +kernel
theorem dX2_value_142 : decode cX2_value 142 = .ok (.iinc 11 1, 3) := by decide +kernel
theorem dX2_value_145 : decode cX2_value 145 = .ok (.goto (-61), 3) := by decide +kernel
theorem dX2_value_148 : decode cX2_value 148 = .ok (.iload_n 3, 1) := by decide +kernel
theorem dX2_value_149 : decode cX2_value 149 = .ok (.bipush 7, 2) := by decide +kernel
theorem dX2_value_151 : decode cX2_value 151 = .ok (.if_icmp .eq 17, 3) := by decide +kernel
theorem dX2_value_154 : decode cX2_value 154 = .ok (.iload 6, 2) := by decide +kernel
theorem dX2_value_156 : decode cX2_value 156 = .ok (.ifCond .eq 8, 3) := by decide +kernel
theorem dX2_value_159 : decode cX2_value 159 = .ok (.lload 7, 2) := by decide +kernel
theorem dX2_value_161 : decode cX2_value 161 = .ok (.goto 6, 3) := by decide +kernel
theorem dX2_value_164 : decode cX2_value 164 = .ok (.lload 7, 2) := by decide +kernel
theorem dX2_value_166 : decode cX2_value 166 = .ok (.lneg, 1) := by decide +kernel
theorem dX2_value_167 : decode cX2_value 167 = .ok (.lreturn, 1) := by decide +kernel
theorem dX2_value_168 : decode cX2_value 168 = .ok (.dconst 1, 1) := by decide +kernel
theorem dX2_value_169 : decode cX2_value 169 = .ok (.dstore 11, 2) := by decide +kernel
theorem dX2_value_171 : decode cX2_value 171 = .ok (.iconst 0, 1) := by decide +kernel
theorem dX2_value_172 : decode cX2_value 172 = .ok (.istore 13, 2) := by decide +kernel
theorem dX2_value_174 : decode cX2_value 174 = .ok (.iload 13, 2) := by decide +kernel
theorem dX2_value_176 : decode cX2_value 176 = .ok (.iload 9, 2) := by decide +kernel
theorem dX2_value_178 : decode cX2_value 178 = .ok (.if_icmp .ge 17, 3) := by decide +kernel
theorem dX2_value_181 : decode cX2_value 181 = .ok (.dload 11, 2) := by decide +kernel
theorem dX2_value_183 : decode cX2_value 183 = .ok (.ldc2_w 208, 3) := by decide +kernel
theorem dX2_value_186 : decode cX2_value 186 = .ok (.dmul, 1) := by decide +kernel
theorem dX2_value_187 : decode cX2_value 187 = .ok (.dstore 11, 2) := by decide +kernel
theorem dX2_value_189 : decode cX2_value 189 = .ok (.iinc 13 1, 3) := by decide +kernel
theorem dX2_value_192 : decode cX2_value 192 = .ok (.goto (-18), 3) := by decide +kernel
theorem dX2_value_195 : decode cX2_value 195 = .ok (.lload 7, 2) := by decide +kernel
theorem dX2_value_197 : decode cX2_value 197 = .ok (.lneg, 1) := by decide +kernel
theorem dX2_value_198 : decode cX2_value 198 = .ok (.l2d, 1) := by decide +kernel
theorem dX2_value_199 : decode cX2_value 199 = .ok (.dload 11, 2) := by decide +kernel
theorem dX2_value_201 : decode cX2_value 201 = .ok (.ddiv, 1) := by decide +kernel
theorem dX2_value_202 : decode cX2_value 202 = .ok (.dstore 13, 2) := by decide +kernel
theorem dX2_value_204 : decode cX2_value 204 = .ok (.bipush 7, 2) := by decide +kernel
theorem dX2_value_206 : decode cX2_value 206 = .ok (.iload 6, 2) := by decide +kernel
theorem dX2_value_208 : decode cX2_value 208 = .ok (.ifCond .eq 9, 3) := by decide +kernel
theorem dX2_value_211 : decode cX2_value 211 = .ok (.dload 13, 2) := by decide +kernel
theorem dX2_value_213 : decode cX2_value 213 = .ok (.dneg, 1) := by decide +kernel
theorem dX2_value_214 : decode cX2_value 214 = .ok (.goto 5, 3) := by decide +kernel
theorem dX2_value_217 : decode cX2_value 217 = .ok (.dload 13, 2) := by decide +kernel
theorem dX2_value_219 : decode cX2_value 219 = .ok (.invokestatic 210, 3) := by decide +kernel
theorem dX2_value_222 : decode cX2_value 222 = .ok (.lreturn, 1) := by decide +kernel
abbrev cX2_before : ByteArray := prog_7_method_25_code
def yX2_before : MethodName := ⟨RX2, "before", "(LCommaTables$Table;II)J"⟩
theorem dX2_before_0 : decode cX2_before 0 = .ok (.aload_n 1, 1) := by decide +kernel
theorem dX2_before_1 : decode cX2_before 1 = .ok (.getfield 142, 3) := by decide +kernel
theorem dX2_before_4 : decode cX2_before 4 = .ok (.iload_n 3, 1) := by decide +kernel
theorem dX2_before_5 : decode cX2_before 5 = .ok (.imul, 1) := by decide +kernel
theorem dX2_before_6 : decode cX2_before 6 = .ok (.iload_n 2, 1) := by decide +kernel
theorem dX2_before_7 : decode cX2_before 7 = .ok (.iadd, 1) := by decide +kernel
theorem dX2_before_8 : decode cX2_before 8 = .ok (.istore 4, 2) := by decide +kernel
theorem dX2_before_10 : decode cX2_before 10 = .ok (.aload_n 1, 1) := by decide +kernel
theorem dX2_before_11 : decode cX2_before 11 = .ok (.iload 4, 2) := by decide +kernel
theorem dX2_before_13 : decode cX2_before 13 = .ok (.invokevirtual 198, 3) := by decide +kernel
theorem dX2_before_16 : decode cX2_before 16 = .ok (.ifCond .eq 7, 3) := by decide +kernel
theorem dX2_before_19 : decode cX2_before 19 = .ok (.ldc2_w 227, 3) := by decide +kernel
theorem dX2_before_22 : decode cX2_before 22 = .ok (.lreturn, 1) := by decide +kernel
theorem dX2_before_23 : decode cX2_before 23 = .ok (.lconst 0, 1) := by decide +kernel
theorem dX2_before_24 : decode cX2_before 24 = .ok (.lstore 5, 2) := by decide +kernel
theorem dX2_before_26 : decode cX2_before 26 = .ok (.iconst 0, 1) := by decide +kernel
theorem dX2_before_27 : decode cX2_before 27 = .ok (.istore 7, 2) := by decide +kernel
theorem dX2_before_29 : decode cX2_before 29 = .ok (.iload 7, 2) := by decide +kernel
theorem dX2_before_31 : decode cX2_before 31 = .ok (.aload_n 1, 1) := by decide +kernel
theorem dX2_before_32 : decode cX2_before 32 = .ok (.getfield 195, 3) := by decide +kernel
theorem dX2_before_35 : decode cX2_before 35 = .ok (.if_icmp .ge 71, 3) := by decide +kernel
theorem dX2_before_38 : decode cX2_before 38 = .ok (.aload_n 1, 1) := by decide +kernel
theorem dX2_before_39 : decode cX2_before 39 = .ok (.getfield 142, 3) := by decide +kernel
theorem dX2_before_42 : decode cX2_before 42 = .ok (.iload 7, 2) := by decide +kernel
theorem dX2_before_44 : decode cX2_before 44 = .ok (.imul, 1) := by decide +kernel
theorem dX2_before_45 : decode cX2_before 45 = .ok (.iload_n 2, 1) := by decide +kernel
theorem dX2_before_46 : decode cX2_before 46 = .ok (.iadd, 1) := by decide +kernel
theorem dX2_before_47 : decode cX2_before 47 = .ok (.istore 8, 2) := by decide +kernel
theorem dX2_before_49 : decode cX2_before 49 = .ok (.aload_n 1, 1) := by decide +kernel
theorem dX2_before_50 : decode cX2_before 50 = .ok (.iload 8, 2) := by decide +kernel
theorem dX2_before_52 : decode cX2_before 52 = .ok (.invokevirtual 198, 3) := by decide +kernel
theorem dX2_before_55 : decode cX2_before 55 = .ok (.ifCond .ne 45, 3) := by decide +kernel
theorem dX2_before_58 : decode cX2_before 58 = .ok (.aload_n 0, 1) := by decide +kernel
theorem dX2_before_59 : decode cX2_before 59 = .ok (.getfield 12, 3) := by decide +kernel
theorem dX2_before_62 : decode cX2_before 62 = .ok (.aload_n 1, 1) := by decide +kernel
theorem dX2_before_63 : decode cX2_before 63 = .ok (.getfield 134, 3) := by decide +kernel
theorem dX2_before_66 : decode cX2_before 66 = .ok (.iload 8, 2) := by decide +kernel
theorem dX2_before_68 : decode cX2_before 68 = .ok (.iaload, 1) := by decide +kernel
theorem dX2_before_69 : decode cX2_before 69 = .ok (.aload_n 1, 1) := by decide +kernel
theorem dX2_before_70 : decode cX2_before 70 = .ok (.iload 8, 2) := by decide +kernel
theorem dX2_before_72 : decode cX2_before 72 = .ok (.invokevirtual 161, 3) := by decide +kernel
theorem dX2_before_75 : decode cX2_before 75 = .ok (.aload_n 1, 1) := by decide +kernel
theorem dX2_before_76 : decode cX2_before 76 = .ok (.getfield 134, 3) := by decide +kernel
theorem dX2_before_79 : decode cX2_before 79 = .ok (.iload 4, 2) := by decide +kernel
theorem dX2_before_81 : decode cX2_before 81 = .ok (.iaload, 1) := by decide +kernel
theorem dX2_before_82 : decode cX2_before 82 = .ok (.aload_n 1, 1) := by decide +kernel
theorem dX2_before_83 : decode cX2_before 83 = .ok (.iload 4, 2) := by decide +kernel
theorem dX2_before_85 : decode cX2_before 85 = .ok (.invokevirtual 161, 3) := by decide +kernel
theorem dX2_before_88 : decode cX2_before 88 = .ok (.invokevirtual 231, 3) := by decide +kernel
theorem dX2_before_91 : decode cX2_before 91 = .ok (.ifCond .ge 9, 3) := by decide +kernel
theorem dX2_before_94 : decode cX2_before 94 = .ok (.lload 5, 2) := by decide +kernel
theorem dX2_before_96 : decode cX2_before 96 = .ok (.lconst 1, 1) := by decide +kernel
theorem dX2_before_97 : decode cX2_before 97 = .ok (.ladd, 1) := by decide +kernel
theorem dX2_before_98 : decode cX2_before 98 = .ok (.lstore 5, 2) := by decide +kernel
theorem dX2_before_100 : decode cX2_before 100 = .ok (.iinc 7 1, 3) := by decide +kernel
theorem dX2_before_103 : decode cX2_before 103 = .ok (.goto (-74), 3) := by decide +kernel
theorem dX2_before_106 : decode cX2_before 106 = .ok (.lload 5, 2) := by decide +kernel
theorem dX2_before_108 : decode cX2_before 108 = .ok (.lreturn, 1) := by decide +kernel
abbrev cX2_bytes : ByteArray := prog_7_method_4_code
def yX2_bytes : MethodName := ⟨RX2, "bytes", "()[B"⟩
theorem dX2_bytes_0 : decode cX2_bytes 0 = .ok (.aload_n 0, 1) := by decide +kernel
theorem dX2_bytes_1 : decode cX2_bytes 1 = .ok (.getfield 12, 3) := by decide +kernel
theorem dX2_bytes_4 : decode cX2_bytes 4 = .ok (.invokevirtual 54, 3) := by decide +kernel
theorem dX2_bytes_7 : decode cX2_bytes 7 = .ok (.areturn, 1) := by decide +kernel
abbrev cX2_pick : ByteArray := prog_7_method_27_code
def yX2_pick : MethodName := ⟨RX2, "pick", "(LCommaTables$Table;[JI)I"⟩
theorem dX2_pick_0 : decode cX2_pick 0 = .ok (.iconst 0, 1) := by decide +kernel
theorem dX2_pick_1 : decode cX2_pick 1 = .ok (.istore 4, 2) := by decide +kernel
theorem dX2_pick_3 : decode cX2_pick 3 = .ok (.iconst 0, 1) := by decide +kernel
theorem dX2_pick_4 : decode cX2_pick 4 = .ok (.istore 5, 2) := by decide +kernel
theorem dX2_pick_6 : decode cX2_pick 6 = .ok (.iload 5, 2) := by decide +kernel
theorem dX2_pick_8 : decode cX2_pick 8 = .ok (.aload_n 1, 1) := by decide +kernel
theorem dX2_pick_9 : decode cX2_pick 9 = .ok (.getfield 142, 3) := by decide +kernel
theorem dX2_pick_12 : decode cX2_pick 12 = .ok (.if_icmp .ge 24, 3) := by decide +kernel
theorem dX2_pick_15 : decode cX2_pick 15 = .ok (.iload 4, 2) := by decide +kernel
theorem dX2_pick_17 : decode cX2_pick 17 = .ok (.aload_n 1, 1) := by decide +kernel
theorem dX2_pick_18 : decode cX2_pick 18 = .ok (.getfield 131, 3) := by decide +kernel
theorem dX2_pick_21 : decode cX2_pick 21 = .ok (.iload 5, 2) := by decide +kernel
theorem dX2_pick_23 : decode cX2_pick 23 = .ok (.baload, 1) := by decide +kernel
theorem dX2_pick_24 : decode cX2_pick 24 = .ok (.bipush 63, 2) := by decide +kernel
theorem dX2_pick_26 : decode cX2_pick 26 = .ok (.iand, 1) := by decide +kernel
theorem dX2_pick_27 : decode cX2_pick 27 = .ok (.iadd, 1) := by decide +kernel
theorem dX2_pick_28 : decode cX2_pick 28 = .ok (.istore 4, 2) := by decide +kernel
theorem dX2_pick_30 : decode cX2_pick 30 = .ok (.iinc 5 1, 3) := by decide +kernel
theorem dX2_pick_33 : decode cX2_pick 33 = .ok (.goto (-27), 3) := by decide +kernel
theorem dX2_pick_36 : decode cX2_pick 36 = .ok (.iconst 0, 1) := by decide +kernel
theorem dX2_pick_37 : decode cX2_pick 37 = .ok (.istore 5, 2) := by decide +kernel
theorem dX2_pick_39 : decode cX2_pick 39 = .ok (.iload 5, 2) := by decide +kernel
theorem dX2_pick_41 : decode cX2_pick 41 = .ok (.iload_n 3, 1) := by decide +kernel
theorem dX2_pick_42 : decode cX2_pick 42 = .ok (.if_icmp .ge 49, 3) := by decide +kernel
theorem dX2_pick_45 : decode cX2_pick 45 = .ok (.iconst 0, 1) := by decide +kernel
theorem dX2_pick_46 : decode cX2_pick 46 = .ok (.istore 6, 2) := by decide +kernel
theorem dX2_pick_48 : decode cX2_pick 48 = .ok (.iload 6, 2) := by decide +kernel
theorem dX2_pick_50 : decode cX2_pick 50 = .ok (.aload_n 1, 1) := by decide +kernel
theorem dX2_pick_51 : decode cX2_pick 51 = .ok (.getfield 142, 3) := by decide +kernel
theorem dX2_pick_54 : decode cX2_pick 54 = .ok (.if_icmp .ge 31, 3) := by decide +kernel
theorem dX2_pick_57 : decode cX2_pick 57 = .ok (.iload 4, 2) := by decide +kernel
theorem dX2_pick_59 : decode cX2_pick 59 = .ok (.aload_n 1, 1) := by decide +kernel
theorem dX2_pick_60 : decode cX2_pick 60 = .ok (.aload_n 1, 1) := by decide +kernel
theorem dX2_pick_61 : decode cX2_pick 61 = .ok (.getfield 142, 3) := by decide +kernel
theorem dX2_pick_64 : decode cX2_pick 64 = .ok (.aload_n 2, 1) := by decide +kernel
theorem dX2_pick_65 : decode cX2_pick 65 = .ok (.iload 5, 2) := by decide +kernel
theorem dX2_pick_67 : decode cX2_pick 67 = .ok (.laload, 1) := by decide +kernel
theorem dX2_pick_68 : decode cX2_pick 68 = .ok (.l2i, 1) := by decide +kernel
theorem dX2_pick_69 : decode cX2_pick 69 = .ok (.imul, 1) := by decide +kernel
theorem dX2_pick_70 : decode cX2_pick 70 = .ok (.iload 6, 2) := by decide +kernel
theorem dX2_pick_72 : decode cX2_pick 72 = .ok (.iadd, 1) := by decide +kernel
theorem dX2_pick_73 : decode cX2_pick 73 = .ok (.invokevirtual 161, 3) := by decide +kernel
theorem dX2_pick_76 : decode cX2_pick 76 = .ok (.iadd, 1) := by decide +kernel
theorem dX2_pick_77 : decode cX2_pick 77 = .ok (.istore 4, 2) := by decide +kernel
theorem dX2_pick_79 : decode cX2_pick 79 = .ok (.iinc 6 1, 3) := by decide +kernel
theorem dX2_pick_82 : decode cX2_pick 82 = .ok (.goto (-34), 3) := by decide +kernel
theorem dX2_pick_85 : decode cX2_pick 85 = .ok (.iinc 5 1, 3) := by decide +kernel
theorem dX2_pick_88 : decode cX2_pick 88 = .ok (.goto (-49), 3) := by decide +kernel
theorem dX2_pick_91 : decode cX2_pick 91 = .ok (.aload_n 0, 1) := by decide +kernel
theorem dX2_pick_92 : decode cX2_pick 92 = .ok (.getfield 50, 3) := by decide +kernel
theorem dX2_pick_95 : decode cX2_pick 95 = .ok (.bipush 40, 2) := by decide +kernel
theorem dX2_pick_97 : decode cX2_pick 97 = .ok (.if_icmp .eq 22, 3) := by decide +kernel
theorem dX2_pick_100 : decode cX2_pick 100 = .ok (.iload_n 3, 1) := by decide +kernel
theorem dX2_pick_101 : decode cX2_pick 101 = .ok (.sipush 500, 3) := by decide +kernel
theorem dX2_pick_104 : decode cX2_pick 104 = .ok (.if_icmp .ge 15, 3) := by decide +kernel
theorem dX2_pick_107 : decode cX2_pick 107 = .ok (.aload_n 0, 1) := by decide +kernel
theorem dX2_pick_108 : decode cX2_pick 108 = .ok (.getfield 12, 3) := by decide +kernel
theorem dX2_pick_111 : decode cX2_pick 111 = .ok (.iload 4, 2) := by decide +kernel
theorem dX2_pick_113 : decode cX2_pick 113 = .ok (.invokevirtual 114, 3) := by decide +kernel
theorem dX2_pick_116 : decode cX2_pick 116 = .ok (.ifCond .ne 13, 3) := by decide +kernel
theorem dX2_pick_119 : decode cX2_pick 119 = .ok (.aload_n 0, 1) := by decide +kernel
theorem dX2_pick_120 : decode cX2_pick 120 = .ok (.getfield 46, 3) := by decide +kernel
theorem dX2_pick_123 : decode cX2_pick 123 = .ok (.bipush 12, 2) := by decide +kernel
theorem dX2_pick_125 : decode cX2_pick 125 = .ok (.invokevirtual 118, 3) := by decide +kernel
theorem dX2_pick_128 : decode cX2_pick 128 = .ok (.athrow, 1) := by decide +kernel
theorem dX2_pick_129 : decode cX2_pick 129 = .ok (.new 18, 3) := by decide +kernel
theorem dX2_pick_132 : decode cX2_pick 132 = .ok (.dup, 1) := by decide +kernel
theorem dX2_pick_133 : decode cX2_pick 133 = .ok (.aload_n 1, 1) := by decide +kernel
theorem dX2_pick_134 : decode cX2_pick 134 = .ok (.getfield 142, 3) := by decide +kernel
theorem dX2_pick_137 : decode cX2_pick 137 = .ok (.iload_n 3, 1) := by decide +kernel
theorem dX2_pick_138 : decode cX2_pick 138 = .ok (.invokespecial 121, 3) := by decide +kernel
theorem dX2_pick_141 : decode cX2_pick 141 = .ok (.astore 5, 2) := by decide +kernel
theorem dX2_pick_143 : decode cX2_pick 143 = .ok (.iconst 0, 1) := by decide +kernel
theorem dX2_pick_144 : decode cX2_pick 144 = .ok (.istore 6, 2) := by decide +kernel
theorem dX2_pick_146 : decode cX2_pick 146 = .ok (.iload 6, 2) := by decide +kernel
theorem dX2_pick_148 : decode cX2_pick 148 = .ok (.aload_n 1, 1) := by decide +kernel
theorem dX2_pick_149 : decode cX2_pick 149 = .ok (.getfield 142, 3) := by decide +kernel
theorem dX2_pick_152 : decode cX2_pick 152 = .ok (.if_icmp .ge 63, 3) := by decide +kernel
theorem dX2_pick_155 : decode cX2_pick 155 = .ok (.aload 5, 2) := by decide +kernel
theorem dX2_pick_157 : decode cX2_pick 157 = .ok (.getfield 128, 3) := by decide +kernel
theorem dX2_pick_160 : decode cX2_pick 160 = .ok (.iload 6, 2) := by decide +kernel
theorem dX2_pick_162 : decode cX2_pick 162 = .ok (.aload_n 0, 1) := by decide +kernel
theorem dX2_pick_163 : decode cX2_pick 163 = .ok (.getfield 12, 3) := by decide +kernel
theorem dX2_pick_166 : decode cX2_pick 166 = .ok (.aload_n 0, 1) := by decide +kernel
theorem dX2_pick_167 : decode cX2_pick 167 = .ok (.getfield 12, 3) := by decide +kernel
theorem dX2_pick_170 : decode cX2_pick 170 = .ok (.getfield 154, 3) := by decide +kernel
theorem dX2_pick_173 : decode cX2_pick 173 = .ok (.aload_n 1, 1) := by decide +kernel
theorem dX2_pick_174 : decode cX2_pick 174 = .ok (.getfield 128, 3) := by decide +kernel
theorem dX2_pick_177 : decode cX2_pick 177 = .ok (.iload 6, 2) := by decide +kernel
theorem dX2_pick_179 : decode cX2_pick 179 = .ok (.iaload, 1) := by decide +kernel
theorem dX2_pick_180 : decode cX2_pick 180 = .ok (.aload_n 1, 1) := by decide +kernel
theorem dX2_pick_181 : decode cX2_pick 181 = .ok (.getfield 131, 3) := by decide +kernel
theorem dX2_pick_184 : decode cX2_pick 184 = .ok (.iload 6, 2) := by decide +kernel
theorem dX2_pick_186 : decode cX2_pick 186 = .ok (.baload, 1) := by decide +kernel
theorem dX2_pick_187 : decode cX2_pick 187 = .ok (.bipush 63, 2) := by decide +kernel
theorem dX2_pick_189 : decode cX2_pick 189 = .ok (.iand, 1) := by decide +kernel
theorem dX2_pick_190 : decode cX2_pick 190 = .ok (.invokevirtual 124, 3) := by decide +kernel
theorem dX2_pick_193 : decode cX2_pick 193 = .ok (.iastore, 1) := by decide +kernel
theorem dX2_pick_194 : decode cX2_pick 194 = .ok (.aload 5, 2) := by decide +kernel
theorem dX2_pick_196 : decode cX2_pick 196 = .ok (.getfield 131, 3) := by decide +kernel
theorem dX2_pick_199 : decode cX2_pick 199 = .ok (.iload 6, 2) := by decide +kernel
theorem dX2_pick_201 : decode cX2_pick 201 = .ok (.aload_n 1, 1) := by decide +kernel
theorem dX2_pick_202 : decode cX2_pick 202 = .ok (.getfield 131, 3) := by decide +kernel
theorem dX2_pick_205 : decode cX2_pick 205 = .ok (.iload 6, 2) := by decide +kernel
theorem dX2_pick_207 : decode cX2_pick 207 = .ok (.baload, 1) := by decide +kernel
theorem dX2_pick_208 : decode cX2_pick 208 = .ok (.bastore, 1) := by decide +kernel
theorem dX2_pick_209 : decode cX2_pick 209 = .ok (.iinc 6 1, 3) := by decide +kernel
theorem dX2_pick_212 : decode cX2_pick 212 = .ok (.goto (-66), 3) := by decide +kernel
theorem dX2_pick_215 : decode cX2_pick 215 = .ok (.iconst 0, 1) := by decide +kernel
theorem dX2_pick_216 : decode cX2_pick 216 = .ok (.istore 6, 2) := by decide +kernel
theorem dX2_pick_218 : decode cX2_pick 218 = .ok (.iload 6, 2) := by decide +kernel
theorem dX2_pick_220 : decode cX2_pick 220 = .ok (.iload_n 3, 1) := by decide +kernel
theorem dX2_pick_221 : decode cX2_pick 221 = .ok (.if_icmp .ge 108, 3) := by decide +kernel
theorem dX2_pick_224 : decode cX2_pick 224 = .ok (.iconst 0, 1) := by decide +kernel
theorem dX2_pick_225 : decode cX2_pick 225 = .ok (.istore 7, 2) := by decide +kernel
theorem dX2_pick_227 : decode cX2_pick 227 = .ok (.iload 7, 2) := by decide +kernel
theorem dX2_pick_229 : decode cX2_pick 229 = .ok (.aload_n 1, 1) := by decide +kernel
theorem dX2_pick_230 : decode cX2_pick 230 = .ok (.getfield 142, 3) := by decide +kernel
theorem dX2_pick_233 : decode cX2_pick 233 = .ok (.if_icmp .ge 90, 3) := by decide +kernel
theorem dX2_pick_236 : decode cX2_pick 236 = .ok (.aload_n 1, 1) := by decide +kernel
theorem dX2_pick_237 : decode cX2_pick 237 = .ok (.getfield 142, 3) := by decide +kernel
theorem dX2_pick_240 : decode cX2_pick 240 = .ok (.aload_n 2, 1) := by decide +kernel
theorem dX2_pick_241 : decode cX2_pick 241 = .ok (.iload 6, 2) := by decide +kernel
theorem dX2_pick_243 : decode cX2_pick 243 = .ok (.laload, 1) := by decide +kernel
theorem dX2_pick_244 : decode cX2_pick 244 = .ok (.l2i, 1) := by decide +kernel
theorem dX2_pick_245 : decode cX2_pick 245 = .ok (.imul, 1) := by decide +kernel
theorem dX2_pick_246 : decode cX2_pick 246 = .ok (.iload 7, 2) := by decide +kernel
theorem dX2_pick_248 : decode cX2_pick 248 = .ok (.iadd, 1) := by decide +kernel
theorem dX2_pick_249 : decode cX2_pick 249 = .ok (.istore 8, 2) := by decide +kernel
theorem dX2_pick_251 : decode cX2_pick 251 = .ok (.aload 5, 2) := by decide +kernel
theorem dX2_pick_253 : decode cX2_pick 253 = .ok (.getfield 134, 3) := by decide +kernel
theorem dX2_pick_256 : decode cX2_pick 256 = .ok (.aload_n 1, 1) := by decide +kernel
theorem dX2_pick_257 : decode cX2_pick 257 = .ok (.getfield 142, 3) := by decide +kernel
theorem dX2_pick_260 : decode cX2_pick 260 = .ok (.iload 6, 2) := by decide +kernel
theorem dX2_pick_262 : decode cX2_pick 262 = .ok (.imul, 1) := by decide +kernel
theorem dX2_pick_263 : decode cX2_pick 263 = .ok (.iload 7, 2) := by decide +kernel
theorem dX2_pick_265 : decode cX2_pick 265 = .ok (.iadd, 1) := by decide +kernel
theorem dX2_pick_266 : decode cX2_pick 266 = .ok (.aload_n 0, 1) := by decide +kernel
theorem dX2_pick_267 : decode cX2_pick 267 = .ok (.getfield 12, 3) := by decide +kernel
theorem dX2_pick_270 : decode cX2_pick 270 = .ok (.aload_n 0, 1) := by decide +kernel
theorem dX2_pick_271 : decode cX2_pick 271 = .ok (.getfield 12, 3) := by decide +kernel
theorem dX2_pick_274 : decode cX2_pick 274 = .ok (.getfield 154, 3) := by decide +kernel
theorem dX2_pick_277 : decode cX2_pick 277 = .ok (.aload_n 1, 1) := by decide +kernel
theorem dX2_pick_278 : decode cX2_pick 278 = .ok (.getfield 134, 3) := by decide +kernel
theorem dX2_pick_281 : decode cX2_pick 281 = .ok (.iload 8, 2) := by decide +kernel
theorem dX2_pick_283 : decode cX2_pick 283 = .ok (.iaload, 1) := by decide +kernel
theorem dX2_pick_284 : decode cX2_pick 284 = .ok (.aload_n 1, 1) := by decide +kernel
theorem dX2_pick_285 : decode cX2_pick 285 = .ok (.iload 8, 2) := by decide +kernel
theorem dX2_pick_287 : decode cX2_pick 287 = .ok (.invokevirtual 161, 3) := by decide +kernel
theorem dX2_pick_290 : decode cX2_pick 290 = .ok (.invokevirtual 124, 3) := by decide +kernel
theorem dX2_pick_293 : decode cX2_pick 293 = .ok (.iastore, 1) := by decide +kernel
theorem dX2_pick_294 : decode cX2_pick 294 = .ok (.aload 5, 2) := by decide +kernel
theorem dX2_pick_296 : decode cX2_pick 296 = .ok (.getfield 137, 3) := by decide +kernel
theorem dX2_pick_299 : decode cX2_pick 299 = .ok (.aload_n 1, 1) := by decide +kernel
theorem dX2_pick_300 : decode cX2_pick 300 = .ok (.getfield 142, 3) := by decide +kernel
theorem dX2_pick_303 : decode cX2_pick 303 = .ok (.iload 6, 2) := by decide +kernel
theorem dX2_pick_305 : decode cX2_pick 305 = .ok (.imul, 1) := by decide +kernel
theorem dX2_pick_306 : decode cX2_pick 306 = .ok (.iload 7, 2) := by decide +kernel
theorem dX2_pick_308 : decode cX2_pick 308 = .ok (.iadd, 1) := by decide +kernel
theorem dX2_pick_309 : decode cX2_pick 309 = .ok (.aload_n 1, 1) := by decide +kernel
theorem dX2_pick_310 : decode cX2_pick 310 = .ok (.getfield 137, 3) := by decide +kernel
theorem dX2_pick_313 : decode cX2_pick 313 = .ok (.iload 8, 2) := by decide +kernel
theorem dX2_pick_315 : decode cX2_pick 315 = .ok (.baload, 1) := by decide +kernel
theorem dX2_pick_316 : decode cX2_pick 316 = .ok (.bastore, 1) := by decide +kernel
theorem dX2_pick_317 : decode cX2_pick 317 = .ok (.iinc 7 1, 3) := by decide +kernel
theorem dX2_pick_320 : decode cX2_pick 320 = .ok (.goto (-93), 3) := by decide +kernel
theorem dX2_pick_323 : decode cX2_pick 323 = .ok (.iinc 6 1, 3) := by decide +kernel
theorem dX2_pick_326 : decode cX2_pick 326 = .ok (.goto (-108), 3) := by decide +kernel
theorem dX2_pick_329 : decode cX2_pick 329 = .ok (.aload_n 0, 1) := by decide +kernel
theorem dX2_pick_330 : decode cX2_pick 330 = .ok (.aload 5, 2) := by decide +kernel
theorem dX2_pick_332 : decode cX2_pick 332 = .ok (.invokevirtual 138, 3) := by decide +kernel
theorem dX2_pick_335 : decode cX2_pick 335 = .ok (.ireturn, 1) := by decide +kernel
abbrev cX2_write : ByteArray := prog_7_method_28_code
def yX2_write : MethodName := ⟨RX2, "write", "(LCommaTables$Table;LCommaTables$Out;)Z"⟩
theorem dX2_write_0 : decode cX2_write 0 = .ok (.iconst 1, 1) := by decide +kernel
theorem dX2_write_1 : decode cX2_write 1 = .ok (.istore_n 3, 1) := by decide +kernel
theorem dX2_write_2 : decode cX2_write 2 = .ok (.iconst 0, 1) := by decide +kernel
theorem dX2_write_3 : decode cX2_write 3 = .ok (.istore 4, 2) := by decide +kernel
theorem dX2_write_5 : decode cX2_write 5 = .ok (.iload 4, 2) := by decide +kernel
theorem dX2_write_7 : decode cX2_write 7 = .ok (.aload_n 1, 1) := by decide +kernel
theorem dX2_write_8 : decode cX2_write 8 = .ok (.getfield 142, 3) := by decide +kernel
theorem dX2_write_11 : decode cX2_write 11 = .ok (.if_icmp .ge 85, 3) := by decide +kernel
theorem dX2_write_14 : decode cX2_write 14 = .ok (.iload 4, 2) := by decide +kernel
theorem dX2_write_16 : decode cX2_write 16 = .ok (.ifCond .le 22, 3) := by decide +kernel
theorem dX2_write_19 : decode cX2_write 19 = .ok (.aload_n 2, 1) := by decide +kernel
theorem dX2_write_20 : decode cX2_write 20 = .ok (.bipush 44, 2) := by decide +kernel
theorem dX2_write_22 : decode cX2_write 22 = .ok (.invokevirtual 235, 3) := by decide +kernel
theorem dX2_write_25 : decode cX2_write 25 = .ok (.ifCond .eq 11, 3) := by decide +kernel
theorem dX2_write_28 : decode cX2_write 28 = .ok (.iload_n 3, 1) := by decide +kernel
theorem dX2_write_29 : decode cX2_write 29 = .ok (.ifCond .eq 7, 3) := by decide +kernel
theorem dX2_write_32 : decode cX2_write 32 = .ok (.iconst 1, 1) := by decide +kernel
theorem dX2_write_33 : decode cX2_write 33 = .ok (.goto 4, 3) := by decide +kernel
theorem dX2_write_36 : decode cX2_write 36 = .ok (.iconst 0, 1) := by decide +kernel
theorem dX2_write_37 : decode cX2_write 37 = .ok (.istore_n 3, 1) := by decide +kernel
theorem dX2_write_38 : decode cX2_write 38 = .ok (.aload_n 1, 1) := by decide +kernel
theorem dX2_write_39 : decode cX2_write 39 = .ok (.getfield 131, 3) := by decide +kernel
theorem dX2_write_42 : decode cX2_write 42 = .ok (.iload 4, 2) := by decide +kernel
theorem dX2_write_44 : decode cX2_write 44 = .ok (.baload, 1) := by decide +kernel
theorem dX2_write_45 : decode cX2_write 45 = .ok (.bipush 63, 2) := by decide +kernel
theorem dX2_write_47 : decode cX2_write 47 = .ok (.iand, 1) := by decide +kernel
theorem dX2_write_48 : decode cX2_write 48 = .ok (.istore 5, 2) := by decide +kernel
theorem dX2_write_50 : decode cX2_write 50 = .ok (.aload_n 0, 1) := by decide +kernel
theorem dX2_write_51 : decode cX2_write 51 = .ok (.aload_n 2, 1) := by decide +kernel
theorem dX2_write_52 : decode cX2_write 52 = .ok (.aload_n 1, 1) := by decide +kernel
theorem dX2_write_53 : decode cX2_write 53 = .ok (.getfield 128, 3) := by decide +kernel
theorem dX2_write_56 : decode cX2_write 56 = .ok (.iload 4, 2) := by decide +kernel
theorem dX2_write_58 : decode cX2_write 58 = .ok (.iaload, 1) := by decide +kernel
theorem dX2_write_59 : decode cX2_write 59 = .ok (.iload 5, 2) := by decide +kernel
theorem dX2_write_61 : decode cX2_write 61 = .ok (.aload_n 0, 1) := by decide +kernel
theorem dX2_write_62 : decode cX2_write 62 = .ok (.aload_n 1, 1) := by decide +kernel
theorem dX2_write_63 : decode cX2_write 63 = .ok (.getfield 128, 3) := by decide +kernel
theorem dX2_write_66 : decode cX2_write 66 = .ok (.iload 4, 2) := by decide +kernel
theorem dX2_write_68 : decode cX2_write 68 = .ok (.iaload, 1) := by decide +kernel
theorem dX2_write_69 : decode cX2_write 69 = .ok (.iload 5, 2) := by decide +kernel
theorem dX2_write_71 : decode cX2_write 71 = .ok (.invokevirtual 240, 3) := by decide +kernel
theorem dX2_write_74 : decode cX2_write 74 = .ok (.invokevirtual 243, 3) := by decide +kernel
theorem dX2_write_77 : decode cX2_write 77 = .ok (.ifCond .eq 11, 3) := by decide +kernel
theorem dX2_write_80 : decode cX2_write 80 = .ok (.iload_n 3, 1) := by decide +kernel
theorem dX2_write_81 : decode cX2_write 81 = .ok (.ifCond .eq 7, 3) := by decide +kernel
theorem dX2_write_84 : decode cX2_write 84 = .ok (.iconst 1, 1) := by decide +kernel
theorem dX2_write_85 : decode cX2_write 85 = .ok (.goto 4, 3) := by decide +kernel
theorem dX2_write_88 : decode cX2_write 88 = .ok (.iconst 0, 1) := by decide +kernel
theorem dX2_write_89 : decode cX2_write 89 = .ok (.istore_n 3, 1) := by decide +kernel
theorem dX2_write_90 : decode cX2_write 90 = .ok (.iinc 4 1, 3) := by decide +kernel
theorem dX2_write_93 : decode cX2_write 93 = .ok (.goto (-88), 3) := by decide +kernel
theorem dX2_write_96 : decode cX2_write 96 = .ok (.aload_n 2, 1) := by decide +kernel
theorem dX2_write_97 : decode cX2_write 97 = .ok (.bipush 10, 2) := by decide +kernel
theorem dX2_write_99 : decode cX2_write 99 = .ok (.invokevirtual 235, 3) := by decide +kernel
theorem dX2_write_102 : decode cX2_write 102 = .ok (.ifCond .eq 11, 3) := by decide +kernel
theorem dX2_write_105 : decode cX2_write 105 = .ok (.iload_n 3, 1) := by decide +kernel
theorem dX2_write_106 : decode cX2_write 106 = .ok (.ifCond .eq 7, 3) := by decide +kernel
theorem dX2_write_109 : decode cX2_write 109 = .ok (.iconst 1, 1) := by decide +kernel
theorem dX2_write_110 : decode cX2_write 110 = .ok (.goto 4, 3) := by decide +kernel
theorem dX2_write_113 : decode cX2_write 113 = .ok (.iconst 0, 1) := by decide +kernel
theorem dX2_write_114 : decode cX2_write 114 = .ok (.istore_n 3, 1) := by decide +kernel
theorem dX2_write_115 : decode cX2_write 115 = .ok (.iconst 0, 1) := by decide +kernel
theorem dX2_write_116 : decode cX2_write 116 = .ok (.istore 4, 2) := by decide +kernel
theorem dX2_write_118 : decode cX2_write 118 = .ok (.iload 4, 2) := by decide +kernel
theorem dX2_write_120 : decode cX2_write 120 = .ok (.aload_n 1, 1) := by decide +kernel
theorem dX2_write_121 : decode cX2_write 121 = .ok (.getfield 195, 3) := by decide +kernel
theorem dX2_write_124 : decode cX2_write 124 = .ok (.if_icmp .ge 135, 3) := by decide +kernel
theorem dX2_write_127 : decode cX2_write 127 = .ok (.iload_n 3, 1) := by decide +kernel
theorem dX2_write_128 : decode cX2_write 128 = .ok (.ifCond .eq 131, 3) := by decide +kernel
theorem dX2_write_131 : decode cX2_write 131 = .ok (.iconst 0, 1) := by decide +kernel
theorem dX2_write_132 : decode cX2_write 132 = .ok (.istore 5, 2) := by decide +kernel
theorem dX2_write_134 : decode cX2_write 134 = .ok (.iload 5, 2) := by decide +kernel
theorem dX2_write_136 : decode cX2_write 136 = .ok (.aload_n 1, 1) := by decide +kernel
theorem dX2_write_137 : decode cX2_write 137 = .ok (.getfield 142, 3) := by decide +kernel
theorem dX2_write_140 : decode cX2_write 140 = .ok (.if_icmp .ge 94, 3) := by decide +kernel
theorem dX2_write_143 : decode cX2_write 143 = .ok (.iload 5, 2) := by decide +kernel
theorem dX2_write_145 : decode cX2_write 145 = .ok (.ifCond .le 22, 3) := by decide +kernel
theorem dX2_write_148 : decode cX2_write 148 = .ok (.aload_n 2, 1) := by decide +kernel
theorem dX2_write_149 : decode cX2_write 149 = .ok (.bipush 44, 2) := by decide +kernel
theorem dX2_write_151 : decode cX2_write 151 = .ok (.invokevirtual 235, 3) := by decide +kernel
theorem dX2_write_154 : decode cX2_write 154 = .ok (.ifCond .eq 11, 3) := by decide +kernel
theorem dX2_write_157 : decode cX2_write 157 = .ok (.iload_n 3, 1) := by decide +kernel
theorem dX2_write_158 : decode cX2_write 158 = .ok (.ifCond .eq 7, 3) := by decide +kernel
theorem dX2_write_161 : decode cX2_write 161 = .ok (.iconst 1, 1) := by decide +kernel
theorem dX2_write_162 : decode cX2_write 162 = .ok (.goto 4, 3) := by decide +kernel
theorem dX2_write_165 : decode cX2_write 165 = .ok (.iconst 0, 1) := by decide +kernel
theorem dX2_write_166 : decode cX2_write 166 = .ok (.istore_n 3, 1) := by decide +kernel
theorem dX2_write_167 : decode cX2_write 167 = .ok (.aload_n 1, 1) := by decide +kernel
theorem dX2_write_168 : decode cX2_write 168 = .ok (.getfield 142, 3) := by decide +kernel
theorem dX2_write_171 : decode cX2_write 171 = .ok (.iload 4, 2) := by decide +kernel
theorem dX2_write_173 : decode cX2_write 173 = .ok (.imul, 1) := by decide +kernel
theorem dX2_write_174 : decode cX2_write 174 = .ok (.iload 5, 2) := by decide +kernel
theorem dX2_write_176 : decode cX2_write 176 = .ok (.iadd, 1) := by decide +kernel
theorem dX2_write_177 : decode cX2_write 177 = .ok (.istore 6, 2) := by decide +kernel
theorem dX2_write_179 : decode cX2_write 179 = .ok (.aload_n 1, 1) := by decide +kernel
theorem dX2_write_180 : decode cX2_write 180 = .ok (.iload 6, 2) := by decide +kernel
theorem dX2_write_182 : decode cX2_write 182 = .ok (.invokevirtual 198, 3) := by decide +kernel
theorem dX2_write_185 : decode cX2_write 185 = .ok (.ifCond .ne 43, 3) := by decide +kernel
theorem dX2_write_188 : decode cX2_write 188 = .ok (.aload_n 0, 1) := by decide +kernel
theorem dX2_write_189 : decode cX2_write 189 = .ok (.aload_n 2, 1) := by decide +kernel
theorem dX2_write_190 : decode cX2_write 190 = .ok (.aload_n 1, 1) := by decide +kernel
theorem dX2_write_191 : decode cX2_write 191 = .ok (.getfield 134, 3) := by decide +kernel
theorem dX2_write_194 : decode cX2_write 194 = .ok (.iload 6, 2) := by decide +kernel
theorem dX2_write_196 : decode cX2_write 196 = .ok (.iaload, 1) := by decide +kernel
theorem dX2_write_197 : decode cX2_write 197 = .ok (.aload_n 1, 1) := by decide +kernel
theorem dX2_write_198 : decode cX2_write 198 = .ok (.iload 6, 2) := by decide +kernel
theorem dX2_write_200 : decode cX2_write 200 = .ok (.invokevirtual 161, 3) := by decide +kernel
theorem dX2_write_203 : decode cX2_write 203 = .ok (.aload_n 0, 1) := by decide +kernel
theorem dX2_write_204 : decode cX2_write 204 = .ok (.aload_n 1, 1) := by decide +kernel
theorem dX2_write_205 : decode cX2_write 205 = .ok (.iload 5, 2) := by decide +kernel
theorem dX2_write_207 : decode cX2_write 207 = .ok (.iload 6, 2) := by decide +kernel
theorem dX2_write_209 : decode cX2_write 209 = .ok (.invokevirtual 247, 3) := by decide +kernel
theorem dX2_write_212 : decode cX2_write 212 = .ok (.invokevirtual 243, 3) := by decide +kernel
theorem dX2_write_215 : decode cX2_write 215 = .ok (.ifCond .eq 11, 3) := by decide +kernel
theorem dX2_write_218 : decode cX2_write 218 = .ok (.iload_n 3, 1) := by decide +kernel
theorem dX2_write_219 : decode cX2_write 219 = .ok (.ifCond .eq 7, 3) := by decide +kernel
theorem dX2_write_222 : decode cX2_write 222 = .ok (.iconst 1, 1) := by decide +kernel
theorem dX2_write_223 : decode cX2_write 223 = .ok (.goto 4, 3) := by decide +kernel
theorem dX2_write_226 : decode cX2_write 226 = .ok (.iconst 0, 1) := by decide +kernel
theorem dX2_write_227 : decode cX2_write 227 = .ok (.istore_n 3, 1) := by decide +kernel
theorem dX2_write_228 : decode cX2_write 228 = .ok (.iinc 5 1, 3) := by decide +kernel
theorem dX2_write_231 : decode cX2_write 231 = .ok (.goto (-97), 3) := by decide +kernel
theorem dX2_write_234 : decode cX2_write 234 = .ok (.aload_n 2, 1) := by decide +kernel
theorem dX2_write_235 : decode cX2_write 235 = .ok (.bipush 10, 2) := by decide +kernel
theorem dX2_write_237 : decode cX2_write 237 = .ok (.invokevirtual 235, 3) := by decide +kernel
theorem dX2_write_240 : decode cX2_write 240 = .ok (.ifCond .eq 11, 3) := by decide +kernel
theorem dX2_write_243 : decode cX2_write 243 = .ok (.iload_n 3, 1) := by decide +kernel
theorem dX2_write_244 : decode cX2_write 244 = .ok (.ifCond .eq 7, 3) := by decide +kernel
theorem dX2_write_247 : decode cX2_write 247 = .ok (.iconst 1, 1) := by decide +kernel
theorem dX2_write_248 : decode cX2_write 248 = .ok (.goto 4, 3) := by decide +kernel
theorem dX2_write_251 : decode cX2_write 251 = .ok (.iconst 0, 1) := by decide +kernel
theorem dX2_write_252 : decode cX2_write 252 = .ok (.istore_n 3, 1) := by decide +kernel
theorem dX2_write_253 : decode cX2_write 253 = .ok (.iinc 4 1, 3) := by decide +kernel
theorem dX2_write_256 : decode cX2_write 256 = .ok (.goto (-138), 3) := by decide +kernel
theorem dX2_write_259 : decode cX2_write 259 = .ok (.iload_n 3, 1) := by decide +kernel
theorem dX2_write_260 : decode cX2_write 260 = .ok (.ireturn, 1) := by decide +kernel
abbrev cX2_needsMarks : ByteArray := prog_7_method_29_code
def yX2_needsMarks : MethodName := ⟨RX2, "needsMarks", "(II)Z"⟩
theorem dX2_needsMarks_0 : decode cX2_needsMarks 0 = .ok (.iload_n 2, 1) := by decide +kernel
theorem dX2_needsMarks_1 : decode cX2_needsMarks 1 = .ok (.ifCond .eq 35, 3) := by decide +kernel
theorem dX2_needsMarks_4 : decode cX2_needsMarks 4 = .ok (.aload_n 0, 1) := by decide +kernel
theorem dX2_needsMarks_5 : decode cX2_needsMarks 5 = .ok (.getfield 12, 3) := by decide +kernel
theorem dX2_needsMarks_8 : decode cX2_needsMarks 8 = .ok (.getfield 154, 3) := by decide +kernel
theorem dX2_needsMarks_11 : decode cX2_needsMarks 11 = .ok (.iload_n 1, 1) := by decide +kernel
theorem dX2_needsMarks_12 : decode cX2_needsMarks 12 = .ok (.baload, 1) := by decide +kernel
theorem dX2_needsMarks_13 : decode cX2_needsMarks 13 = .ok (.bipush 32, 2) := by decide +kernel
theorem dX2_needsMarks_15 : decode cX2_needsMarks 15 = .ok (.if_icmp .eq 21, 3) := by decide +kernel
theorem dX2_needsMarks_18 : decode cX2_needsMarks 18 = .ok (.aload_n 0, 1) := by decide +kernel
theorem dX2_needsMarks_19 : decode cX2_needsMarks 19 = .ok (.getfield 12, 3) := by decide +kernel
theorem dX2_needsMarks_22 : decode cX2_needsMarks 22 = .ok (.getfield 154, 3) := by decide +kernel
theorem dX2_needsMarks_25 : decode cX2_needsMarks 25 = .ok (.iload_n 1, 1) := by decide +kernel
theorem dX2_needsMarks_26 : decode cX2_needsMarks 26 = .ok (.iload_n 2, 1) := by decide +kernel
theorem dX2_needsMarks_27 : decode cX2_needsMarks 27 = .ok (.iadd, 1) := by decide +kernel
theorem dX2_needsMarks_28 : decode cX2_needsMarks 28 = .ok (.iconst 1, 1) := by decide +kernel
theorem dX2_needsMarks_29 : decode cX2_needsMarks 29 = .ok (.isub, 1) := by decide +kernel
theorem dX2_needsMarks_30 : decode cX2_needsMarks 30 = .ok (.baload, 1) := by decide +kernel
theorem dX2_needsMarks_31 : decode cX2_needsMarks 31 = .ok (.bipush 32, 2) := by decide +kernel
theorem dX2_needsMarks_33 : decode cX2_needsMarks 33 = .ok (.if_icmp .ne 5, 3) := by decide +kernel
theorem dX2_needsMarks_36 : decode cX2_needsMarks 36 = .ok (.iconst 1, 1) := by decide +kernel
theorem dX2_needsMarks_37 : decode cX2_needsMarks 37 = .ok (.ireturn, 1) := by decide +kernel
theorem dX2_needsMarks_38 : decode cX2_needsMarks 38 = .ok (.iconst 0, 1) := by decide +kernel
theorem dX2_needsMarks_39 : decode cX2_needsMarks 39 = .ok (.istore_n 3, 1) := by decide +kernel
theorem dX2_needsMarks_40 : decode cX2_needsMarks 40 = .ok (.iload_n 3, 1) := by decide +kernel
theorem dX2_needsMarks_41 : decode cX2_needsMarks 41 = .ok (.iload_n 2, 1) := by decide +kernel
theorem dX2_needsMarks_42 : decode cX2_needsMarks 42 = .ok (.if_icmp .ge 43, 3) := by decide +kernel
theorem dX2_needsMarks_45 : decode cX2_needsMarks 45 = .ok (.aload_n 0, 1) := by decide +kernel
theorem dX2_needsMarks_46 : decode cX2_needsMarks 46 = .ok (.getfield 12, 3) := by decide +kernel
theorem dX2_needsMarks_49 : decode cX2_needsMarks 49 = .ok (.getfield 154, 3) := by decide +kernel
theorem dX2_needsMarks_52 : decode cX2_needsMarks 52 = .ok (.iload_n 1, 1) := by decide +kernel
theorem dX2_needsMarks_53 : decode cX2_needsMarks 53 = .ok (.iload_n 3, 1) := by decide +kernel
theorem dX2_needsMarks_54 : decode cX2_needsMarks 54 = .ok (.iadd, 1) := by decide +kernel
theorem dX2_needsMarks_55 : decode cX2_needsMarks 55 = .ok (.baload, 1) := by decide +kernel
theorem dX2_needsMarks_56 : decode cX2_needsMarks 56 = .ok (.bipush 34, 2) := by decide +kernel
theorem dX2_needsMarks_58 : decode cX2_needsMarks 58 = .ok (.if_icmp .eq 19, 3) := by decide +kernel
theorem dX2_needsMarks_61 : decode cX2_needsMarks 61 = .ok (.aload_n 0, 1) := by decide +kernel
theorem dX2_needsMarks_62 : decode cX2_needsMarks 62 = .ok (.getfield 12, 3) := by decide +kernel
theorem dX2_needsMarks_65 : decode cX2_needsMarks 65 = .ok (.getfield 154, 3) := by decide +kernel
theorem dX2_needsMarks_68 : decode cX2_needsMarks 68 = .ok (.iload_n 1, 1) := by decide +kernel
theorem dX2_needsMarks_69 : decode cX2_needsMarks 69 = .ok (.iload_n 3, 1) := by decide +kernel
theorem dX2_needsMarks_70 : decode cX2_needsMarks 70 = .ok (.iadd, 1) := by decide +kernel
theorem dX2_needsMarks_71 : decode cX2_needsMarks 71 = .ok (.baload, 1) := by decide +kernel
theorem dX2_needsMarks_72 : decode cX2_needsMarks 72 = .ok (.bipush 44, 2) := by decide +kernel
theorem dX2_needsMarks_74 : decode cX2_needsMarks 74 = .ok (.if_icmp .ne 5, 3) := by decide +kernel
theorem dX2_needsMarks_77 : decode cX2_needsMarks 77 = .ok (.iconst 1, 1) := by decide +kernel
theorem dX2_needsMarks_78 : decode cX2_needsMarks 78 = .ok (.ireturn, 1) := by decide +kernel
theorem dX2_needsMarks_79 : decode cX2_needsMarks 79 = .ok (.iinc 3 1, 3) := by decide +kernel
theorem dX2_needsMarks_82 : decode cX2_needsMarks 82 = .ok (.goto (-42), 3) := by decide +kernel
theorem dX2_needsMarks_85 : decode cX2_needsMarks 85 = .ok (.iconst 0, 1) := by decide +kernel
theorem dX2_needsMarks_86 : decode cX2_needsMarks 86 = .ok (.ireturn, 1) := by decide +kernel
abbrev cX2_say : ByteArray := prog_7_method_31_code
def yX2_say : MethodName := ⟨RX2, "say", "(LCommaTables$Out;IIZ)Z"⟩
theorem dX2_say_0 : decode cX2_say 0 = .ok (.iload 4, 2) := by decide +kernel
theorem dX2_say_2 : decode cX2_say 2 = .ok (.ifCond .eq 12, 3) := by decide +kernel
theorem dX2_say_5 : decode cX2_say 5 = .ok (.aload_n 1, 1) := by decide +kernel
theorem dX2_say_6 : decode cX2_say 6 = .ok (.bipush 34, 2) := by decide +kernel
theorem dX2_say_8 : decode cX2_say 8 = .ok (.invokevirtual 235, 3) := by decide +kernel
theorem dX2_say_11 : decode cX2_say 11 = .ok (.ifCond .eq 7, 3) := by decide +kernel
theorem dX2_say_14 : decode cX2_say 14 = .ok (.iconst 1, 1) := by decide +kernel
theorem dX2_say_15 : decode cX2_say 15 = .ok (.goto 4, 3) := by decide +kernel
theorem dX2_say_18 : decode cX2_say 18 = .ok (.iconst 0, 1) := by decide +kernel
theorem dX2_say_19 : decode cX2_say 19 = .ok (.istore 5, 2) := by decide +kernel
theorem dX2_say_21 : decode cX2_say 21 = .ok (.iconst 0, 1) := by decide +kernel
theorem dX2_say_22 : decode cX2_say 22 = .ok (.istore 6, 2) := by decide +kernel
theorem dX2_say_24 : decode cX2_say 24 = .ok (.iload 6, 2) := by decide +kernel
theorem dX2_say_26 : decode cX2_say 26 = .ok (.iload_n 3, 1) := by decide +kernel
theorem dX2_say_27 : decode cX2_say 27 = .ok (.if_icmp .ge 78, 3) := by decide +kernel
theorem dX2_say_30 : decode cX2_say 30 = .ok (.aload_n 0, 1) := by decide +kernel
theorem dX2_say_31 : decode cX2_say 31 = .ok (.getfield 12, 3) := by decide +kernel
theorem dX2_say_34 : decode cX2_say 34 = .ok (.getfield 154, 3) := by decide +kernel
theorem dX2_say_37 : decode cX2_say 37 = .ok (.iload_n 2, 1) := by decide +kernel
theorem dX2_say_38 : decode cX2_say 38 = .ok (.iload 6, 2) := by decide +kernel
theorem dX2_say_40 : decode cX2_say 40 = .ok (.iadd, 1) := by decide +kernel
theorem dX2_say_41 : decode cX2_say 41 = .ok (.baload, 1) := by decide +kernel
theorem dX2_say_42 : decode cX2_say 42 = .ok (.bipush 34, 2) := by decide +kernel
theorem dX2_say_44 : decode cX2_say 44 = .ok (.if_icmp .ne 24, 3) := by decide +kernel
theorem dX2_say_47 : decode cX2_say 47 = .ok (.aload_n 1, 1) := by decide +kernel
theorem dX2_say_48 : decode cX2_say 48 = .ok (.bipush 34, 2) := by decide +kernel
theorem dX2_say_50 : decode cX2_say 50 = .ok (.invokevirtual 235, 3) := by decide +kernel
theorem dX2_say_53 : decode cX2_say 53 = .ok (.ifCond .eq 12, 3) := by decide +kernel
theorem dX2_say_56 : decode cX2_say 56 = .ok (.iload 5, 2) := by decide +kernel
theorem dX2_say_58 : decode cX2_say 58 = .ok (.ifCond .eq 7, 3) := by decide +kernel
theorem dX2_say_61 : decode cX2_say 61 = .ok (.iconst 1, 1) := by decide +kernel
theorem dX2_say_62 : decode cX2_say 62 = .ok (.goto 4, 3) := by decide +kernel
theorem dX2_say_65 : decode cX2_say 65 = .ok (.iconst 0, 1) := by decide +kernel
theorem dX2_say_66 : decode cX2_say 66 = .ok (.istore 5, 2) := by decide +kernel
theorem dX2_say_68 : decode cX2_say 68 = .ok (.aload_n 1, 1) := by decide +kernel
theorem dX2_say_69 : decode cX2_say 69 = .ok (.aload_n 0, 1) := by decide +kernel
theorem dX2_say_70 : decode cX2_say 70 = .ok (.getfield 12, 3) := by decide +kernel
theorem dX2_say_73 : decode cX2_say 73 = .ok (.getfield 154, 3) := by decide +kernel
theorem dX2_say_76 : decode cX2_say 76 = .ok (.iload_n 2, 1) := by decide +kernel
theorem dX2_say_77 : decode cX2_say 77 = .ok (.iload 6, 2) := by decide +kernel
theorem dX2_say_79 : decode cX2_say 79 = .ok (.iadd, 1) := by decide +kernel
theorem dX2_say_80 : decode cX2_say 80 = .ok (.baload, 1) := by decide +kernel
theorem dX2_say_81 : decode cX2_say 81 = .ok (.invokevirtual 235, 3) := by decide +kernel
theorem dX2_say_84 : decode cX2_say 84 = .ok (.ifCond .eq 12, 3) := by decide +kernel
theorem dX2_say_87 : decode cX2_say 87 = .ok (.iload 5, 2) := by decide +kernel
theorem dX2_say_89 : decode cX2_say 89 = .ok (.ifCond .eq 7, 3) := by decide +kernel
theorem dX2_say_92 : decode cX2_say 92 = .ok (.iconst 1, 1) := by decide +kernel
theorem dX2_say_93 : decode cX2_say 93 = .ok (.goto 4, 3) := by decide +kernel
theorem dX2_say_96 : decode cX2_say 96 = .ok (.iconst 0, 1) := by decide +kernel
theorem dX2_say_97 : decode cX2_say 97 = .ok (.istore 5, 2) := by decide +kernel
theorem dX2_say_99 : decode cX2_say 99 = .ok (.iinc 6 1, 3) := by decide +kernel
theorem dX2_say_102 : decode cX2_say 102 = .ok (.goto (-78), 3) := by decide +kernel
theorem dX2_say_105 : decode cX2_say 105 = .ok (.iload 4, 2) := by decide +kernel
theorem dX2_say_107 : decode cX2_say 107 = .ok (.ifCond .eq 12, 3) := by decide +kernel
theorem dX2_say_110 : decode cX2_say 110 = .ok (.aload_n 1, 1) := by decide +kernel
theorem dX2_say_111 : decode cX2_say 111 = .ok (.bipush 34, 2) := by decide +kernel
theorem dX2_say_113 : decode cX2_say 113 = .ok (.invokevirtual 235, 3) := by decide +kernel
theorem dX2_say_116 : decode cX2_say 116 = .ok (.ifCond .eq 12, 3) := by decide +kernel
theorem dX2_say_119 : decode cX2_say 119 = .ok (.iload 5, 2) := by decide +kernel
theorem dX2_say_121 : decode cX2_say 121 = .ok (.ifCond .eq 7, 3) := by decide +kernel
theorem dX2_say_124 : decode cX2_say 124 = .ok (.iconst 1, 1) := by decide +kernel
theorem dX2_say_125 : decode cX2_say 125 = .ok (.goto 4, 3) := by decide +kernel
theorem dX2_say_128 : decode cX2_say 128 = .ok (.iconst 0, 1) := by decide +kernel
theorem dX2_say_129 : decode cX2_say 129 = .ok (.ireturn, 1) := by decide +kernel
abbrev cX2_isMarked : ByteArray := prog_7_method_30_code
def yX2_isMarked : MethodName := ⟨RX2, "isMarked", "(LCommaTables$Table;II)Z"⟩
theorem dX2_isMarked_0 : decode cX2_isMarked 0 = .ok (.aload_n 0, 1) := by decide +kernel
theorem dX2_isMarked_1 : decode cX2_isMarked 1 = .ok (.aload_n 1, 1) := by decide +kernel
theorem dX2_isMarked_2 : decode cX2_isMarked 2 = .ok (.getfield 134, 3) := by decide +kernel
theorem dX2_isMarked_5 : decode cX2_isMarked 5 = .ok (.iload_n 3, 1) := by decide +kernel
theorem dX2_isMarked_6 : decode cX2_isMarked 6 = .ok (.iaload, 1) := by decide +kernel
theorem dX2_isMarked_7 : decode cX2_isMarked 7 = .ok (.aload_n 1, 1) := by decide +kernel
theorem dX2_isMarked_8 : decode cX2_isMarked 8 = .ok (.iload_n 3, 1) := by decide +kernel
theorem dX2_isMarked_9 : decode cX2_isMarked 9 = .ok (.invokevirtual 161, 3) := by decide +kernel
theorem dX2_isMarked_12 : decode cX2_isMarked 12 = .ok (.invokevirtual 240, 3) := by decide +kernel
theorem dX2_isMarked_15 : decode cX2_isMarked 15 = .ok (.ifCond .eq 5, 3) := by decide +kernel
theorem dX2_isMarked_18 : decode cX2_isMarked 18 = .ok (.iconst 1, 1) := by decide +kernel
theorem dX2_isMarked_19 : decode cX2_isMarked 19 = .ok (.ireturn, 1) := by decide +kernel
theorem dX2_isMarked_20 : decode cX2_isMarked 20 = .ok (.aload_n 1, 1) := by decide +kernel
theorem dX2_isMarked_21 : decode cX2_isMarked 21 = .ok (.getfield 143, 3) := by decide +kernel
theorem dX2_isMarked_24 : decode cX2_isMarked 24 = .ok (.iload_n 2, 1) := by decide +kernel
theorem dX2_isMarked_25 : decode cX2_isMarked 25 = .ok (.iaload, 1) := by decide +kernel
theorem dX2_isMarked_26 : decode cX2_isMarked 26 = .ok (.bipush 8, 2) := by decide +kernel
theorem dX2_isMarked_28 : decode cX2_isMarked 28 = .ok (.if_icmp .ne 15, 3) := by decide +kernel
theorem dX2_isMarked_31 : decode cX2_isMarked 31 = .ok (.aload_n 1, 1) := by decide +kernel
theorem dX2_isMarked_32 : decode cX2_isMarked 32 = .ok (.iload_n 3, 1) := by decide +kernel
theorem dX2_isMarked_33 : decode cX2_isMarked 33 = .ok (.invokevirtual 162, 3) := by decide +kernel
theorem dX2_isMarked_36 : decode cX2_isMarked 36 = .ok (.ifCond .eq 7, 3) := by decide +kernel
theorem dX2_isMarked_39 : decode cX2_isMarked 39 = .ok (.iconst 1, 1) := by decide +kernel
theorem dX2_isMarked_40 : decode cX2_isMarked 40 = .ok (.goto 4, 3) := by decide +kernel
theorem dX2_isMarked_43 : decode cX2_isMarked 43 = .ok (.iconst 0, 1) := by decide +kernel
theorem dX2_isMarked_44 : decode cX2_isMarked 44 = .ok (.ireturn, 1) := by decide +kernel
theorem q50 : (Jvm.Cond.initialized "CommaTables$Tables") ∈ lw_all := lw_g (lw_at lw_m1 7 rfl) rfl
theorem q170 : (Jvm.Cond.instantiable "CommaTables$Tables" (15 : Nat)) ∈ lw_all := lw_g (lw_at lw_m1 127 rfl) rfl
theorem q172 : (Jvm.Cond.instanceMethod ({ cls := "CommaTables$Tables", name := "<init>", desc := "(LCommaTables$Stop;)V" } : Jvm.MethodName)) ∈ lw_all := lw_g (lw_at lw_m1 129 rfl) rfl
theorem q173 : (Jvm.Cond.code ({ cls := "CommaTables$Tables", name := "<init>", desc := "(LCommaTables$Stop;)V" } : Jvm.MethodName) prog_7_method_1_code (2 : Nat) (Option.none : Option Jvm.ClassFile.FieldType)) ∈ lw_all := lw_g (lw_at lw_m1 130 rfl) rfl
theorem q174 : (Jvm.Cond.methodLink "CommaTables$Tables" (3 : Nat) ({ cls := "java/lang/Object", name := "<init>", desc := "()V" } : Jvm.MethodName)) ∈ lw_all := lw_g (lw_at lw_m1 131 rfl) rfl
theorem q175 : (Jvm.Cond.classLink "CommaTables$Tables" (9 : Nat) "CommaTables$Words") ∈ lw_all := lw_g (lw_at lw_m1 132 rfl) rfl
theorem q177 : (Jvm.Cond.methodLinkNest "CommaTables$Tables" (11 : Nat) ({ cls := "CommaTables$Words", name := "<init>", desc := "()V" } : Jvm.MethodName) "CommaTables") ∈ lw_tbl := lw_at lw_m1 134 rfl
theorem q183 : (Jvm.Cond.fieldLinkNest "CommaTables$Tables" (154 : Nat) "CommaTables$Words" "bytes" "[B" "CommaTables") ∈ lw_tbl := lw_at lw_m1 140 rfl
theorem q190 : (Jvm.Cond.classLink "CommaTables$Tables" (18 : Nat) "CommaTables$Table") ∈ lw_all := lw_g (lw_at lw_m1 147 rfl) rfl
theorem q192 : (Jvm.Cond.classLink "CommaTables$Tables" (35 : Nat) "CommaTables$Orders") ∈ lw_all := lw_g (lw_at lw_m1 149 rfl) rfl
theorem q194 : (Jvm.Cond.methodLinkNest "CommaTables$Tables" (37 : Nat) ({ cls := "CommaTables$Orders", name := "<init>", desc := "()V" } : Jvm.MethodName) "CommaTables") ∈ lw_tbl := lw_at lw_m1 151 rfl
theorem q215 : (Jvm.Cond.fieldLink "CommaTables$Tables" (46 : Nat) "CommaTables$Tables" "stop" "LCommaTables$Stop;") ∈ lw_all := lw_g (lw_at lw_m1 172 rfl) rfl
theorem q216 : (Jvm.Cond.fieldLink "CommaTables$Tables" (12 : Nat) "CommaTables$Tables" "words" "LCommaTables$Words;") ∈ lw_all := lw_g (lw_at lw_m1 173 rfl) rfl
theorem q217 : (Jvm.Cond.fieldLink "CommaTables$Tables" (20 : Nat) "CommaTables$Tables" "all" "[LCommaTables$Table;") ∈ lw_all := lw_g (lw_at lw_m1 174 rfl) rfl
theorem q218 : (Jvm.Cond.fieldLink "CommaTables$Tables" (50 : Nat) "CommaTables$Tables" "made" "I") ∈ lw_all := lw_g (lw_at lw_m1 175 rfl) rfl
theorem q219 : (Jvm.Cond.fieldLink "CommaTables$Tables" (69 : Nat) "CommaTables$Tables" "text" "[B") ∈ lw_all := lw_g (lw_at lw_m1 176 rfl) rfl
theorem q220 : (Jvm.Cond.fieldLink "CommaTables$Tables" (66 : Nat) "CommaTables$Tables" "size" "I") ∈ lw_all := lw_g (lw_at lw_m1 177 rfl) rfl
theorem q221 : (Jvm.Cond.fieldLink "CommaTables$Tables" (64 : Nat) "CommaTables$Tables" "at" "I") ∈ lw_all := lw_g (lw_at lw_m1 178 rfl) rfl
theorem q222 : (Jvm.Cond.fieldLink "CommaTables$Tables" (24 : Nat) "CommaTables$Tables" "means" "[B") ∈ lw_all := lw_g (lw_at lw_m1 179 rfl) rfl
theorem q223 : (Jvm.Cond.fieldLink "CommaTables$Tables" (72 : Nat) "CommaTables$Tables" "meant" "I") ∈ lw_all := lw_g (lw_at lw_m1 180 rfl) rfl
theorem q224 : (Jvm.Cond.fieldLink "CommaTables$Tables" (28 : Nat) "CommaTables$Tables" "starts" "[I") ∈ lw_all := lw_g (lw_at lw_m1 181 rfl) rfl
theorem q225 : (Jvm.Cond.fieldLink "CommaTables$Tables" (32 : Nat) "CommaTables$Tables" "lengths" "[B") ∈ lw_all := lw_g (lw_at lw_m1 182 rfl) rfl
theorem q226 : (Jvm.Cond.fieldLink "CommaTables$Tables" (75 : Nat) "CommaTables$Tables" "count" "I") ∈ lw_all := lw_g (lw_at lw_m1 183 rfl) rfl
theorem q227 : (Jvm.Cond.fieldLink "CommaTables$Tables" (78 : Nat) "CommaTables$Tables" "columns" "I") ∈ lw_all := lw_g (lw_at lw_m1 184 rfl) rfl
theorem q228 : (Jvm.Cond.fieldLink "CommaTables$Tables" (38 : Nat) "CommaTables$Tables" "orders" "LCommaTables$Orders;") ∈ lw_all := lw_g (lw_at lw_m1 185 rfl) rfl
theorem q229 : (Jvm.Cond.fieldLink "CommaTables$Tables" (42 : Nat) "CommaTables$Tables" "ranks" "[J") ∈ lw_all := lw_g (lw_at lw_m1 186 rfl) rfl
theorem q230 : (Jvm.Cond.laysFinal "CommaTables$Tables" "CommaTables$Tables" "stop" "LCommaTables$Stop;") ∈ lw_all := lw_g (lw_at lw_m1 187 rfl) rfl
theorem q231 : (Jvm.Cond.soleField "CommaTables$Tables" "stop") ∈ lw_all := lw_g (lw_at lw_m1 188 rfl) rfl
theorem q232 : (Jvm.Cond.laysFinal "CommaTables$Tables" "CommaTables$Tables" "words" "LCommaTables$Words;") ∈ lw_all := lw_g (lw_at lw_m1 189 rfl) rfl
theorem q233 : (Jvm.Cond.soleField "CommaTables$Tables" "words") ∈ lw_all := lw_g (lw_at lw_m1 190 rfl) rfl
theorem q234 : (Jvm.Cond.laysFinal "CommaTables$Tables" "CommaTables$Tables" "all" "[LCommaTables$Table;") ∈ lw_all := lw_g (lw_at lw_m1 191 rfl) rfl
theorem q235 : (Jvm.Cond.soleField "CommaTables$Tables" "all") ∈ lw_all := lw_g (lw_at lw_m1 192 rfl) rfl
theorem q236 : (Jvm.Cond.lays "CommaTables$Tables" "CommaTables$Tables" "made" "I") ∈ lw_all := lw_g (lw_at lw_m1 193 rfl) rfl
theorem q237 : (Jvm.Cond.soleField "CommaTables$Tables" "made") ∈ lw_all := lw_g (lw_at lw_m1 194 rfl) rfl
theorem q238 : (Jvm.Cond.lays "CommaTables$Tables" "CommaTables$Tables" "text" "[B") ∈ lw_all := lw_g (lw_at lw_m1 195 rfl) rfl
theorem q239 : (Jvm.Cond.soleField "CommaTables$Tables" "text") ∈ lw_all := lw_g (lw_at lw_m1 196 rfl) rfl
theorem q240 : (Jvm.Cond.lays "CommaTables$Tables" "CommaTables$Tables" "size" "I") ∈ lw_all := lw_g (lw_at lw_m1 197 rfl) rfl
theorem q241 : (Jvm.Cond.soleField "CommaTables$Tables" "size") ∈ lw_all := lw_g (lw_at lw_m1 198 rfl) rfl
theorem q242 : (Jvm.Cond.lays "CommaTables$Tables" "CommaTables$Tables" "at" "I") ∈ lw_all := lw_g (lw_at lw_m1 199 rfl) rfl
theorem q243 : (Jvm.Cond.soleField "CommaTables$Tables" "at") ∈ lw_all := lw_g (lw_at lw_m1 200 rfl) rfl
theorem q244 : (Jvm.Cond.laysFinal "CommaTables$Tables" "CommaTables$Tables" "means" "[B") ∈ lw_all := lw_g (lw_at lw_m1 201 rfl) rfl
theorem q245 : (Jvm.Cond.soleField "CommaTables$Tables" "means") ∈ lw_all := lw_g (lw_at lw_m1 202 rfl) rfl
theorem q246 : (Jvm.Cond.lays "CommaTables$Tables" "CommaTables$Tables" "meant" "I") ∈ lw_all := lw_g (lw_at lw_m1 203 rfl) rfl
theorem q247 : (Jvm.Cond.soleField "CommaTables$Tables" "meant") ∈ lw_all := lw_g (lw_at lw_m1 204 rfl) rfl
theorem q248 : (Jvm.Cond.laysFinal "CommaTables$Tables" "CommaTables$Tables" "starts" "[I") ∈ lw_all := lw_g (lw_at lw_m1 205 rfl) rfl
theorem q249 : (Jvm.Cond.soleField "CommaTables$Tables" "starts") ∈ lw_all := lw_g (lw_at lw_m1 206 rfl) rfl
theorem q250 : (Jvm.Cond.laysFinal "CommaTables$Tables" "CommaTables$Tables" "lengths" "[B") ∈ lw_all := lw_g (lw_at lw_m1 207 rfl) rfl
theorem q251 : (Jvm.Cond.soleField "CommaTables$Tables" "lengths") ∈ lw_all := lw_g (lw_at lw_m1 208 rfl) rfl
theorem q252 : (Jvm.Cond.lays "CommaTables$Tables" "CommaTables$Tables" "count" "I") ∈ lw_all := lw_g (lw_at lw_m1 209 rfl) rfl
theorem q253 : (Jvm.Cond.soleField "CommaTables$Tables" "count") ∈ lw_all := lw_g (lw_at lw_m1 210 rfl) rfl
theorem q254 : (Jvm.Cond.lays "CommaTables$Tables" "CommaTables$Tables" "columns" "I") ∈ lw_all := lw_g (lw_at lw_m1 211 rfl) rfl
theorem q255 : (Jvm.Cond.soleField "CommaTables$Tables" "columns") ∈ lw_all := lw_g (lw_at lw_m1 212 rfl) rfl
theorem q256 : (Jvm.Cond.laysFinal "CommaTables$Tables" "CommaTables$Tables" "orders" "LCommaTables$Orders;") ∈ lw_all := lw_g (lw_at lw_m1 213 rfl) rfl
theorem q257 : (Jvm.Cond.soleField "CommaTables$Tables" "orders") ∈ lw_all := lw_g (lw_at lw_m1 214 rfl) rfl
theorem q258 : (Jvm.Cond.laysFinal "CommaTables$Tables" "CommaTables$Tables" "ranks" "[J") ∈ lw_all := lw_g (lw_at lw_m1 215 rfl) rfl
theorem q259 : (Jvm.Cond.soleField "CommaTables$Tables" "ranks") ∈ lw_all := lw_g (lw_at lw_m1 216 rfl) rfl
theorem q260 : (Jvm.Cond.superclass "CommaTables$Tables" "java/lang/Object") ∈ lw_all := lw_g (lw_at lw_m1 217 rfl) rfl
theorem q334 : (Jvm.Cond.instanceMethod ({ cls := "CommaTables$Tables", name := "read", desc := "([BI)I" } : Jvm.MethodName)) ∈ lw_all := lw_g (lw_at lw_m2 51 rfl) rfl
theorem q335 : (Jvm.Cond.selects "CommaTables$Tables" ({ cls := "CommaTables$Tables", name := "read", desc := "([BI)I" } : Jvm.MethodName) ({ cls := "CommaTables$Tables", name := "read", desc := "([BI)I" } : Jvm.MethodName)) ∈ lw_all := lw_g (lw_at lw_m2 52 rfl) rfl
theorem q336 : (Jvm.Cond.code ({ cls := "CommaTables$Tables", name := "read", desc := "([BI)I" } : Jvm.MethodName) prog_7_method_7_code (4 : Nat) (Option.some Jvm.ClassFile.FieldType.int)) ∈ lw_all := lw_g (lw_at lw_m2 53 rfl) rfl
theorem q337 : (Jvm.Cond.methodLink "CommaTables$Tables" (81 : Nat) ({ cls := "CommaTables$Tables", name := "line", desc := "(Z)V" } : Jvm.MethodName)) ∈ lw_all := lw_g (lw_at lw_m2 54 rfl) rfl
theorem q338 : (Jvm.Cond.privateMethod ({ cls := "CommaTables$Tables", name := "line", desc := "(Z)V" } : Jvm.MethodName)) ∈ lw_tbl := lw_at lw_m2 55 rfl
theorem q339 : (Jvm.Cond.instanceMethod ({ cls := "CommaTables$Tables", name := "line", desc := "(Z)V" } : Jvm.MethodName)) ∈ lw_all := lw_g (lw_at lw_m2 56 rfl) rfl
theorem q340 : (Jvm.Cond.code ({ cls := "CommaTables$Tables", name := "line", desc := "(Z)V" } : Jvm.MethodName) prog_7_method_8_code (5 : Nat) (Option.none : Option Jvm.ClassFile.FieldType)) ∈ lw_all := lw_g (lw_at lw_m2 57 rfl) rfl
theorem q341 : (Jvm.Cond.methodLink "CommaTables$Tables" (85 : Nat) ({ cls := "CommaTables$Tables", name := "wrong", desc := "(I)Ljava/lang/IllegalStateException;" } : Jvm.MethodName)) ∈ lw_all := lw_g (lw_at lw_m2 58 rfl) rfl
theorem q342 : (Jvm.Cond.privateMethod ({ cls := "CommaTables$Tables", name := "wrong", desc := "(I)Ljava/lang/IllegalStateException;" } : Jvm.MethodName)) ∈ lw_tbl := lw_at lw_m2 59 rfl
theorem q343 : (Jvm.Cond.instanceMethod ({ cls := "CommaTables$Tables", name := "wrong", desc := "(I)Ljava/lang/IllegalStateException;" } : Jvm.MethodName)) ∈ lw_all := lw_g (lw_at lw_m2 60 rfl) rfl
theorem q344 : (Jvm.Cond.code ({ cls := "CommaTables$Tables", name := "wrong", desc := "(I)Ljava/lang/IllegalStateException;" } : Jvm.MethodName) prog_7_method_5_code (2 : Nat) (Option.some (Jvm.ClassFile.FieldType.object "java/lang/IllegalStateException"))) ∈ lw_all := lw_g (lw_at lw_m2 61 rfl) rfl
theorem q345 : (Jvm.Cond.methodLink "CommaTables$Tables" (58 : Nat) ({ cls := "CommaTables$Stop", name := "at", desc := "(II)Ljava/lang/IllegalStateException;" } : Jvm.MethodName)) ∈ lw_all := lw_g (lw_at lw_m2 62 rfl) rfl
theorem q349 : (Jvm.Cond.methodLink "CommaTables$Tables" (93 : Nat) ({ cls := "CommaTables$Tables", name := "cell", desc := "(ZI)V" } : Jvm.MethodName)) ∈ lw_all := lw_g (lw_at lw_m2 66 rfl) rfl
theorem q350 : (Jvm.Cond.privateMethod ({ cls := "CommaTables$Tables", name := "cell", desc := "(ZI)V" } : Jvm.MethodName)) ∈ lw_tbl := lw_at lw_m2 67 rfl
theorem q351 : (Jvm.Cond.instanceMethod ({ cls := "CommaTables$Tables", name := "cell", desc := "(ZI)V" } : Jvm.MethodName)) ∈ lw_all := lw_g (lw_at lw_m2 68 rfl) rfl
theorem q352 : (Jvm.Cond.code ({ cls := "CommaTables$Tables", name := "cell", desc := "(ZI)V" } : Jvm.MethodName) prog_7_method_9_code (7 : Nat) (Option.none : Option Jvm.ClassFile.FieldType)) ∈ lw_all := lw_g (lw_at lw_m2 69 rfl) rfl
theorem q353 : (Jvm.Cond.methodLink "CommaTables$Tables" (97 : Nat) ({ cls := "CommaTables$Tables", name := "look", desc := "()I" } : Jvm.MethodName)) ∈ lw_all := lw_g (lw_at lw_m2 70 rfl) rfl
theorem q354 : (Jvm.Cond.privateMethod ({ cls := "CommaTables$Tables", name := "look", desc := "()I" } : Jvm.MethodName)) ∈ lw_tbl := lw_at lw_m2 71 rfl
theorem q355 : (Jvm.Cond.instanceMethod ({ cls := "CommaTables$Tables", name := "look", desc := "()I" } : Jvm.MethodName)) ∈ lw_all := lw_g (lw_at lw_m2 72 rfl) rfl
theorem q356 : (Jvm.Cond.code ({ cls := "CommaTables$Tables", name := "look", desc := "()I" } : Jvm.MethodName) prog_7_method_6_code (1 : Nat) (Option.some Jvm.ClassFile.FieldType.int)) ∈ lw_all := lw_g (lw_at lw_m2 73 rfl) rfl
theorem q357 : (Jvm.Cond.methodLink "CommaTables$Tables" (101 : Nat) ({ cls := "CommaTables$Tables", name := "quoted", desc := "()V" } : Jvm.MethodName)) ∈ lw_all := lw_g (lw_at lw_m2 74 rfl) rfl
theorem q358 : (Jvm.Cond.privateMethod ({ cls := "CommaTables$Tables", name := "quoted", desc := "()V" } : Jvm.MethodName)) ∈ lw_tbl := lw_at lw_m2 75 rfl
theorem q359 : (Jvm.Cond.instanceMethod ({ cls := "CommaTables$Tables", name := "quoted", desc := "()V" } : Jvm.MethodName)) ∈ lw_all := lw_g (lw_at lw_m2 76 rfl) rfl
theorem q360 : (Jvm.Cond.code ({ cls := "CommaTables$Tables", name := "quoted", desc := "()V" } : Jvm.MethodName) prog_7_method_11_code (3 : Nat) (Option.none : Option Jvm.ClassFile.FieldType)) ∈ lw_all := lw_g (lw_at lw_m2 77 rfl) rfl
theorem q361 : (Jvm.Cond.methodLink "CommaTables$Tables" (104 : Nat) ({ cls := "CommaTables$Tables", name := "mean", desc := "()V" } : Jvm.MethodName)) ∈ lw_all := lw_g (lw_at lw_m2 78 rfl) rfl
theorem q362 : (Jvm.Cond.privateMethod ({ cls := "CommaTables$Tables", name := "mean", desc := "()V" } : Jvm.MethodName)) ∈ lw_tbl := lw_at lw_m2 79 rfl
theorem q363 : (Jvm.Cond.instanceMethod ({ cls := "CommaTables$Tables", name := "mean", desc := "()V" } : Jvm.MethodName)) ∈ lw_all := lw_g (lw_at lw_m2 80 rfl) rfl
theorem q364 : (Jvm.Cond.code ({ cls := "CommaTables$Tables", name := "mean", desc := "()V" } : Jvm.MethodName) prog_7_method_10_code (1 : Nat) (Option.none : Option Jvm.ClassFile.FieldType)) ∈ lw_all := lw_g (lw_at lw_m2 81 rfl) rfl
theorem q365 : (Jvm.Cond.methodLink "CommaTables$Tables" (107 : Nat) ({ cls := "CommaTables$Tables", name := "isSame", desc := "(II)Z" } : Jvm.MethodName)) ∈ lw_all := lw_g (lw_at lw_m2 82 rfl) rfl
theorem q366 : (Jvm.Cond.privateMethod ({ cls := "CommaTables$Tables", name := "isSame", desc := "(II)Z" } : Jvm.MethodName)) ∈ lw_tbl := lw_at lw_m2 83 rfl
theorem q367 : (Jvm.Cond.instanceMethod ({ cls := "CommaTables$Tables", name := "isSame", desc := "(II)Z" } : Jvm.MethodName)) ∈ lw_all := lw_g (lw_at lw_m2 84 rfl) rfl
theorem q368 : (Jvm.Cond.code ({ cls := "CommaTables$Tables", name := "isSame", desc := "(II)Z" } : Jvm.MethodName) prog_7_method_13_code (4 : Nat) (Option.some Jvm.ClassFile.FieldType.boolean)) ∈ lw_all := lw_g (lw_at lw_m2 85 rfl) rfl
theorem q369 : (Jvm.Cond.methodLink "CommaTables$Tables" (111 : Nat) ({ cls := "CommaTables$Tables", name := "length", desc := "(I)I" } : Jvm.MethodName)) ∈ lw_all := lw_g (lw_at lw_m2 86 rfl) rfl
theorem q370 : (Jvm.Cond.privateMethod ({ cls := "CommaTables$Tables", name := "length", desc := "(I)I" } : Jvm.MethodName)) ∈ lw_tbl := lw_at lw_m2 87 rfl
theorem q371 : (Jvm.Cond.instanceMethod ({ cls := "CommaTables$Tables", name := "length", desc := "(I)I" } : Jvm.MethodName)) ∈ lw_all := lw_g (lw_at lw_m2 88 rfl) rfl
theorem q372 : (Jvm.Cond.code ({ cls := "CommaTables$Tables", name := "length", desc := "(I)I" } : Jvm.MethodName) prog_7_method_12_code (2 : Nat) (Option.some Jvm.ClassFile.FieldType.int)) ∈ lw_all := lw_g (lw_at lw_m2 89 rfl) rfl
theorem q373 : (Jvm.Cond.methodLink "CommaTables$Tables" (89 : Nat) ({ cls := "CommaTables$Tables", name := "make", desc := "(I)I" } : Jvm.MethodName)) ∈ lw_all := lw_g (lw_at lw_m2 90 rfl) rfl
theorem q374 : (Jvm.Cond.privateMethod ({ cls := "CommaTables$Tables", name := "make", desc := "(I)I" } : Jvm.MethodName)) ∈ lw_tbl := lw_at lw_m2 91 rfl
theorem q375 : (Jvm.Cond.instanceMethod ({ cls := "CommaTables$Tables", name := "make", desc := "(I)I" } : Jvm.MethodName)) ∈ lw_all := lw_g (lw_at lw_m2 92 rfl) rfl
theorem q376 : (Jvm.Cond.code ({ cls := "CommaTables$Tables", name := "make", desc := "(I)I" } : Jvm.MethodName) prog_7_method_14_code (5 : Nat) (Option.some Jvm.ClassFile.FieldType.int)) ∈ lw_all := lw_g (lw_at lw_m2 93 rfl) rfl
theorem q377 : (Jvm.Cond.methodLink "CommaTables$Tables" (114 : Nat) ({ cls := "CommaTables$Words", name := "hasRoom", desc := "(I)Z" } : Jvm.MethodName)) ∈ lw_all := lw_g (lw_at lw_m2 94 rfl) rfl
theorem q381 : (Jvm.Cond.methodLink "CommaTables$Tables" (118 : Nat) ({ cls := "CommaTables$Stop", name := "with", desc := "(I)Ljava/lang/IllegalStateException;" } : Jvm.MethodName)) ∈ lw_all := lw_g (lw_at lw_m2 98 rfl) rfl
theorem q387 : (Jvm.Cond.methodLink "CommaTables$Tables" (121 : Nat) ({ cls := "CommaTables$Table", name := "<init>", desc := "(II)V" } : Jvm.MethodName)) ∈ lw_all := lw_g (lw_at lw_m2 104 rfl) rfl
theorem q393 : (Jvm.Cond.fieldLink "CommaTables$Tables" (142 : Nat) "CommaTables$Table" "columns" "I") ∈ lw_all := lw_g (lw_at lw_m2 110 rfl) rfl
theorem q396 : (Jvm.Cond.fieldLink "CommaTables$Tables" (195 : Nat) "CommaTables$Table" "rows" "I") ∈ lw_all := lw_g (lw_at lw_m2 113 rfl) rfl
theorem q398 : (Jvm.Cond.fieldLink "CommaTables$Tables" (128 : Nat) "CommaTables$Table" "names" "[I") ∈ lw_all := lw_g (lw_at lw_m2 115 rfl) rfl
theorem q400 : (Jvm.Cond.fieldLink "CommaTables$Tables" (131 : Nat) "CommaTables$Table" "nameLengths" "[B") ∈ lw_all := lw_g (lw_at lw_m2 117 rfl) rfl
theorem q402 : (Jvm.Cond.fieldLink "CommaTables$Tables" (134 : Nat) "CommaTables$Table" "cells" "[I") ∈ lw_all := lw_g (lw_at lw_m2 119 rfl) rfl
theorem q405 : (Jvm.Cond.fieldLink "CommaTables$Tables" (137 : Nat) "CommaTables$Table" "lengths" "[B") ∈ lw_all := lw_g (lw_at lw_m2 122 rfl) rfl
theorem q408 : (Jvm.Cond.fieldLink "CommaTables$Tables" (143 : Nat) "CommaTables$Table" "lanes" "[I") ∈ lw_all := lw_g (lw_at lw_m2 125 rfl) rfl
theorem q424 : (Jvm.Cond.methodLink "CommaTables$Tables" (124 : Nat) ({ cls := "CommaTables$Words", name := "add", desc := "([BII)I" } : Jvm.MethodName)) ∈ lw_all := lw_g (lw_at lw_m2 141 rfl) rfl
theorem q428 : (Jvm.Cond.methodLink "CommaTables$Tables" (138 : Nat) ({ cls := "CommaTables$Tables", name := "finish", desc := "(LCommaTables$Table;)I" } : Jvm.MethodName)) ∈ lw_all := lw_g (lw_at lw_m2 145 rfl) rfl
theorem q429 : (Jvm.Cond.privateMethod ({ cls := "CommaTables$Tables", name := "finish", desc := "(LCommaTables$Table;)I" } : Jvm.MethodName)) ∈ lw_tbl := lw_at lw_m2 146 rfl
theorem q430 : (Jvm.Cond.instanceMethod ({ cls := "CommaTables$Tables", name := "finish", desc := "(LCommaTables$Table;)I" } : Jvm.MethodName)) ∈ lw_all := lw_g (lw_at lw_m2 147 rfl) rfl
theorem q431 : (Jvm.Cond.code ({ cls := "CommaTables$Tables", name := "finish", desc := "(LCommaTables$Table;)I" } : Jvm.MethodName) prog_7_method_15_code (3 : Nat) (Option.some Jvm.ClassFile.FieldType.int)) ∈ lw_all := lw_g (lw_at lw_m2 148 rfl) rfl
theorem q432 : (Jvm.Cond.methodLink "CommaTables$Tables" (146 : Nat) ({ cls := "CommaTables$Tables", name := "laneOf", desc := "(LCommaTables$Table;I)I" } : Jvm.MethodName)) ∈ lw_all := lw_g (lw_at lw_m2 149 rfl) rfl
theorem q433 : (Jvm.Cond.privateMethod ({ cls := "CommaTables$Tables", name := "laneOf", desc := "(LCommaTables$Table;I)I" } : Jvm.MethodName)) ∈ lw_tbl := lw_at lw_m2 150 rfl
theorem q434 : (Jvm.Cond.instanceMethod ({ cls := "CommaTables$Tables", name := "laneOf", desc := "(LCommaTables$Table;I)I" } : Jvm.MethodName)) ∈ lw_all := lw_g (lw_at lw_m2 151 rfl) rfl
theorem q435 : (Jvm.Cond.code ({ cls := "CommaTables$Tables", name := "laneOf", desc := "(LCommaTables$Table;I)I" } : Jvm.MethodName) prog_7_method_21_code (5 : Nat) (Option.some Jvm.ClassFile.FieldType.int)) ∈ lw_all := lw_g (lw_at lw_m2 152 rfl) rfl
theorem q436 : (Jvm.Cond.methodLink "CommaTables$Tables" (198 : Nat) ({ cls := "CommaTables$Table", name := "isMissing", desc := "(I)Z" } : Jvm.MethodName)) ∈ lw_all := lw_g (lw_at lw_m2 153 rfl) rfl
theorem q440 : (Jvm.Cond.methodLink "CommaTables$Tables" (201 : Nat) ({ cls := "CommaTables$Tables", name := "takesAll", desc := "(ILCommaTables$Table;I)Z" } : Jvm.MethodName)) ∈ lw_all := lw_g (lw_at lw_m2 157 rfl) rfl
theorem q441 : (Jvm.Cond.privateMethod ({ cls := "CommaTables$Tables", name := "takesAll", desc := "(ILCommaTables$Table;I)Z" } : Jvm.MethodName)) ∈ lw_tbl := lw_at lw_m2 158 rfl
theorem q442 : (Jvm.Cond.instanceMethod ({ cls := "CommaTables$Tables", name := "takesAll", desc := "(ILCommaTables$Table;I)Z" } : Jvm.MethodName)) ∈ lw_all := lw_g (lw_at lw_m2 159 rfl) rfl
theorem q443 : (Jvm.Cond.code ({ cls := "CommaTables$Tables", name := "takesAll", desc := "(ILCommaTables$Table;I)Z" } : Jvm.MethodName) prog_7_method_22_code (6 : Nat) (Option.some Jvm.ClassFile.FieldType.boolean)) ∈ lw_all := lw_g (lw_at lw_m2 160 rfl) rfl
theorem q444 : (Jvm.Cond.methodLink "CommaTables$Tables" (205 : Nat) ({ cls := "CommaTables$Tables", name := "takes", desc := "(ILCommaTables$Table;I)Z" } : Jvm.MethodName)) ∈ lw_all := lw_g (lw_at lw_m2 161 rfl) rfl
theorem q445 : (Jvm.Cond.privateMethod ({ cls := "CommaTables$Tables", name := "takes", desc := "(ILCommaTables$Table;I)Z" } : Jvm.MethodName)) ∈ lw_tbl := lw_at lw_m2 162 rfl
theorem q446 : (Jvm.Cond.instanceMethod ({ cls := "CommaTables$Tables", name := "takes", desc := "(ILCommaTables$Table;I)Z" } : Jvm.MethodName)) ∈ lw_all := lw_g (lw_at lw_m2 163 rfl) rfl
theorem q447 : (Jvm.Cond.code ({ cls := "CommaTables$Tables", name := "takes", desc := "(ILCommaTables$Table;I)Z" } : Jvm.MethodName) prog_7_method_20_code (6 : Nat) (Option.some Jvm.ClassFile.FieldType.boolean)) ∈ lw_all := lw_g (lw_at lw_m2 164 rfl) rfl
theorem q448 : (Jvm.Cond.methodLink "CommaTables$Tables" (192 : Nat) ({ cls := "CommaTables$Tables", name := "laneOfCell", desc := "(LCommaTables$Table;I)I" } : Jvm.MethodName)) ∈ lw_all := lw_g (lw_at lw_m2 165 rfl) rfl
theorem q449 : (Jvm.Cond.privateMethod ({ cls := "CommaTables$Tables", name := "laneOfCell", desc := "(LCommaTables$Table;I)I" } : Jvm.MethodName)) ∈ lw_tbl := lw_at lw_m2 166 rfl
theorem q450 : (Jvm.Cond.instanceMethod ({ cls := "CommaTables$Tables", name := "laneOfCell", desc := "(LCommaTables$Table;I)I" } : Jvm.MethodName)) ∈ lw_all := lw_g (lw_at lw_m2 167 rfl) rfl
theorem q451 : (Jvm.Cond.code ({ cls := "CommaTables$Tables", name := "laneOfCell", desc := "(LCommaTables$Table;I)I" } : Jvm.MethodName) prog_7_method_18_code (9 : Nat) (Option.some Jvm.ClassFile.FieldType.int)) ∈ lw_all := lw_g (lw_at lw_m2 168 rfl) rfl
theorem q452 : (Jvm.Cond.methodLink "CommaTables$Tables" (161 : Nat) ({ cls := "CommaTables$Table", name := "length", desc := "(I)I" } : Jvm.MethodName)) ∈ lw_all := lw_g (lw_at lw_m2 169 rfl) rfl
theorem q456 : (Jvm.Cond.methodLink "CommaTables$Tables" (162 : Nat) ({ cls := "CommaTables$Table", name := "isQuoted", desc := "(I)Z" } : Jvm.MethodName)) ∈ lw_all := lw_g (lw_at lw_m2 173 rfl) rfl
theorem q460 : (Jvm.Cond.stringRef "CommaTables$Tables" (165 : Nat) "true") ∈ lw_tbl := lw_at lw_m2 177 rfl
theorem q461 : (Jvm.Cond.methodLink "CommaTables$Tables" (167 : Nat) ({ cls := "CommaTables$Tables", name := "isWord", desc := "(IILjava/lang/String;)Z" } : Jvm.MethodName)) ∈ lw_all := lw_g (lw_at lw_m2 178 rfl) rfl
theorem q462 : (Jvm.Cond.privateMethod ({ cls := "CommaTables$Tables", name := "isWord", desc := "(IILjava/lang/String;)Z" } : Jvm.MethodName)) ∈ lw_tbl := lw_at lw_m2 179 rfl
theorem q463 : (Jvm.Cond.instanceMethod ({ cls := "CommaTables$Tables", name := "isWord", desc := "(IILjava/lang/String;)Z" } : Jvm.MethodName)) ∈ lw_all := lw_g (lw_at lw_m2 180 rfl) rfl
theorem q464 : (Jvm.Cond.code ({ cls := "CommaTables$Tables", name := "isWord", desc := "(IILjava/lang/String;)Z" } : Jvm.MethodName) prog_7_method_17_code (5 : Nat) (Option.some Jvm.ClassFile.FieldType.boolean)) ∈ lw_all := lw_g (lw_at lw_m2 181 rfl) rfl
theorem q465 : (Jvm.Cond.methodLink "CommaTables$Tables" (150 : Nat) ({ cls := "java/lang/String", name := "length", desc := "()I" } : Jvm.MethodName)) ∈ lw_all := lw_g (lw_at lw_m2 182 rfl) rfl
theorem q475 : (Jvm.Cond.methodLink "CommaTables$Tables" (157 : Nat) ({ cls := "java/lang/String", name := "charAt", desc := "(I)C" } : Jvm.MethodName)) ∈ lw_all := lw_g (lw_at lw_m2 192 rfl) rfl
theorem q513 : (Jvm.Cond.stringRef "CommaTables$Tables" (171 : Nat) "false") ∈ lw_tbl := lw_at lw_m2 230 rfl
theorem q514 : (Jvm.Cond.methodLink "CommaTables$Tables" (173 : Nat) ({ cls := "CommaTables$Tables", name := "isDigit", desc := "(I)Z" } : Jvm.MethodName)) ∈ lw_all := lw_g (lw_at lw_m2 231 rfl) rfl
theorem q515 : (Jvm.Cond.static ({ cls := "CommaTables$Tables", name := "isDigit", desc := "(I)Z" } : Jvm.MethodName)) ∈ lw_all := lw_g (lw_at lw_m2 232 rfl) rfl
theorem q516 : (Jvm.Cond.code ({ cls := "CommaTables$Tables", name := "isDigit", desc := "(I)Z" } : Jvm.MethodName) prog_7_method_16_code (1 : Nat) (Option.some Jvm.ClassFile.FieldType.boolean)) ∈ lw_all := lw_g (lw_at lw_m2 233 rfl) rfl
theorem q517 : (Jvm.Cond.methodLink "CommaTables$Tables" (176 : Nat) ({ cls := "CommaTables$Tables", name := "wholeLane", desc := "(IIZ)I" } : Jvm.MethodName)) ∈ lw_all := lw_g (lw_at lw_m2 234 rfl) rfl
theorem q518 : (Jvm.Cond.privateMethod ({ cls := "CommaTables$Tables", name := "wholeLane", desc := "(IIZ)I" } : Jvm.MethodName)) ∈ lw_tbl := lw_at lw_m2 235 rfl
theorem q519 : (Jvm.Cond.instanceMethod ({ cls := "CommaTables$Tables", name := "wholeLane", desc := "(IIZ)I" } : Jvm.MethodName)) ∈ lw_all := lw_g (lw_at lw_m2 236 rfl) rfl
theorem q520 : (Jvm.Cond.code ({ cls := "CommaTables$Tables", name := "wholeLane", desc := "(IIZ)I" } : Jvm.MethodName) prog_7_method_19_code (9 : Nat) (Option.some Jvm.ClassFile.FieldType.int)) ∈ lw_all := lw_g (lw_at lw_m2 237 rfl) rfl
theorem q521 : (Jvm.Cond.constantLong "CommaTables$Tables" (182 : Nat) (9223372036854775807 : Int64)) ∈ lw_all := lw_g (lw_at lw_m2 238 rfl) rfl
theorem q522 : (Jvm.Cond.constantLong "CommaTables$Tables" (184 : Nat) (10 : Int64)) ∈ lw_all := lw_g (lw_at lw_m2 239 rfl) rfl
theorem q523 : (Jvm.Cond.stringRef "CommaTables$Tables" (186 : Nat) "9223372036854775808") ∈ lw_tbl := lw_at lw_m3 0 rfl
theorem q524 : (Jvm.Cond.constantLong "CommaTables$Tables" (188 : Nat) (2147483648 : Int64)) ∈ lw_all := lw_g (lw_at lw_m3 1 rfl) rfl
theorem q525 : (Jvm.Cond.constantLong "CommaTables$Tables" (190 : Nat) (2147483647 : Int64)) ∈ lw_all := lw_g (lw_at lw_m3 2 rfl) rfl
theorem q535 : (Jvm.Cond.instanceMethod ({ cls := "CommaTables$Tables", name := "find", desc := "(I)LCommaTables$Table;" } : Jvm.MethodName)) ∈ lw_all := lw_g (lw_at lw_m3 12 rfl) rfl
theorem q536 : (Jvm.Cond.selects "CommaTables$Tables" ({ cls := "CommaTables$Tables", name := "find", desc := "(I)LCommaTables$Table;" } : Jvm.MethodName) ({ cls := "CommaTables$Tables", name := "find", desc := "(I)LCommaTables$Table;" } : Jvm.MethodName)) ∈ lw_all := lw_g (lw_at lw_m3 13 rfl) rfl
theorem q537 : (Jvm.Cond.code ({ cls := "CommaTables$Tables", name := "find", desc := "(I)LCommaTables$Table;" } : Jvm.MethodName) prog_7_method_2_code (2 : Nat) (Option.some (Jvm.ClassFile.FieldType.object "CommaTables$Table"))) ∈ lw_all := lw_g (lw_at lw_m3 14 rfl) rfl
theorem q547 : (Jvm.Cond.instanceMethod ({ cls := "CommaTables$Tables", name := "named", desc := "(LCommaTables$Table;[BI)I" } : Jvm.MethodName)) ∈ lw_all := lw_g (lw_at lw_m3 24 rfl) rfl
theorem q548 : (Jvm.Cond.selects "CommaTables$Tables" ({ cls := "CommaTables$Tables", name := "named", desc := "(LCommaTables$Table;[BI)I" } : Jvm.MethodName) ({ cls := "CommaTables$Tables", name := "named", desc := "(LCommaTables$Table;[BI)I" } : Jvm.MethodName)) ∈ lw_all := lw_g (lw_at lw_m3 25 rfl) rfl
theorem q549 : (Jvm.Cond.code ({ cls := "CommaTables$Tables", name := "named", desc := "(LCommaTables$Table;[BI)I" } : Jvm.MethodName) prog_7_method_26_code (7 : Nat) (Option.some Jvm.ClassFile.FieldType.int)) ∈ lw_all := lw_g (lw_at lw_m3 26 rfl) rfl
theorem q562 : (Jvm.Cond.instanceMethod ({ cls := "CommaTables$Tables", name := "column", desc := "(LCommaTables$Table;I[J)V" } : Jvm.MethodName)) ∈ lw_all := lw_g (lw_at lw_m3 39 rfl) rfl
theorem q563 : (Jvm.Cond.selects "CommaTables$Tables" ({ cls := "CommaTables$Tables", name := "column", desc := "(LCommaTables$Table;I[J)V" } : Jvm.MethodName) ({ cls := "CommaTables$Tables", name := "column", desc := "(LCommaTables$Table;I[J)V" } : Jvm.MethodName)) ∈ lw_all := lw_g (lw_at lw_m3 40 rfl) rfl
theorem q564 : (Jvm.Cond.code ({ cls := "CommaTables$Tables", name := "column", desc := "(LCommaTables$Table;I[J)V" } : Jvm.MethodName) prog_7_method_24_code (8 : Nat) (Option.none : Option Jvm.ClassFile.FieldType)) ∈ lw_all := lw_g (lw_at lw_m3 41 rfl) rfl
theorem q565 : (Jvm.Cond.methodLink "CommaTables$Tables" (216 : Nat) ({ cls := "CommaTables$Tables", name := "value", desc := "(LCommaTables$Table;II)J" } : Jvm.MethodName)) ∈ lw_all := lw_g (lw_at lw_m3 42 rfl) rfl
theorem q566 : (Jvm.Cond.privateMethod ({ cls := "CommaTables$Tables", name := "value", desc := "(LCommaTables$Table;II)J" } : Jvm.MethodName)) ∈ lw_tbl := lw_at lw_m3 43 rfl
theorem q567 : (Jvm.Cond.instanceMethod ({ cls := "CommaTables$Tables", name := "value", desc := "(LCommaTables$Table;II)J" } : Jvm.MethodName)) ∈ lw_all := lw_g (lw_at lw_m3 44 rfl) rfl
theorem q568 : (Jvm.Cond.code ({ cls := "CommaTables$Tables", name := "value", desc := "(LCommaTables$Table;II)J" } : Jvm.MethodName) prog_7_method_23_code (15 : Nat) (Option.some Jvm.ClassFile.FieldType.long)) ∈ lw_all := lw_g (lw_at lw_m3 45 rfl) rfl
theorem q569 : (Jvm.Cond.constantDouble "CommaTables$Tables" (208 : Nat) (4621819117588971520 : UInt64)) ∈ lw_all := lw_g (lw_at lw_m3 46 rfl) rfl
theorem q570 : (Jvm.Cond.methodLink "CommaTables$Tables" (210 : Nat) ({ cls := "CommaTables$Numbers", name := "bits", desc := "(ID)J" } : Jvm.MethodName)) ∈ lw_all := lw_g (lw_at lw_m3 47 rfl) rfl
theorem q580 : (Jvm.Cond.methodLink "CommaTables$Tables" (220 : Nat) ({ cls := "CommaTables$Tables", name := "before", desc := "(LCommaTables$Table;II)J" } : Jvm.MethodName)) ∈ lw_all := lw_g (lw_at lw_m3 57 rfl) rfl
theorem q581 : (Jvm.Cond.privateMethod ({ cls := "CommaTables$Tables", name := "before", desc := "(LCommaTables$Table;II)J" } : Jvm.MethodName)) ∈ lw_tbl := lw_at lw_m3 58 rfl
theorem q582 : (Jvm.Cond.instanceMethod ({ cls := "CommaTables$Tables", name := "before", desc := "(LCommaTables$Table;II)J" } : Jvm.MethodName)) ∈ lw_all := lw_g (lw_at lw_m3 59 rfl) rfl
theorem q583 : (Jvm.Cond.code ({ cls := "CommaTables$Tables", name := "before", desc := "(LCommaTables$Table;II)J" } : Jvm.MethodName) prog_7_method_25_code (9 : Nat) (Option.some Jvm.ClassFile.FieldType.long)) ∈ lw_all := lw_g (lw_at lw_m3 60 rfl) rfl
theorem q584 : (Jvm.Cond.constantLong "CommaTables$Tables" (227 : Nat) (-1 : Int64)) ∈ lw_all := lw_g (lw_at lw_m3 61 rfl) rfl
theorem q585 : (Jvm.Cond.methodLink "CommaTables$Tables" (231 : Nat) ({ cls := "CommaTables$Words", name := "compare", desc := "(IIII)I" } : Jvm.MethodName)) ∈ lw_all := lw_g (lw_at lw_m3 62 rfl) rfl
theorem q595 : (Jvm.Cond.methodLink "CommaTables$Tables" (223 : Nat) ({ cls := "CommaTables$Orders", name := "sort", desc := "([JIIZ)V" } : Jvm.MethodName)) ∈ lw_all := lw_g (lw_at lw_m3 72 rfl) rfl
theorem q627 : (Jvm.Cond.methodLink "CommaTables$Tables" (229 : Nat) ({ cls := "CommaTables$Orders", name := "at", desc := "(I)I" } : Jvm.MethodName)) ∈ lw_all := lw_g (lw_at lw_m3 104 rfl) rfl
theorem q646 : (Jvm.Cond.instanceMethod ({ cls := "CommaTables$Tables", name := "bytes", desc := "()[B" } : Jvm.MethodName)) ∈ lw_all := lw_g (lw_at lw_m3 123 rfl) rfl
theorem q647 : (Jvm.Cond.selects "CommaTables$Tables" ({ cls := "CommaTables$Tables", name := "bytes", desc := "()[B" } : Jvm.MethodName) ({ cls := "CommaTables$Tables", name := "bytes", desc := "()[B" } : Jvm.MethodName)) ∈ lw_all := lw_g (lw_at lw_m3 124 rfl) rfl
theorem q648 : (Jvm.Cond.code ({ cls := "CommaTables$Tables", name := "bytes", desc := "()[B" } : Jvm.MethodName) prog_7_method_4_code (1 : Nat) (Option.some (Jvm.ClassFile.FieldType.array Jvm.ClassFile.FieldType.byte))) ∈ lw_all := lw_g (lw_at lw_m3 125 rfl) rfl
theorem q649 : (Jvm.Cond.methodLink "CommaTables$Tables" (54 : Nat) ({ cls := "CommaTables$Words", name := "row", desc := "()[B" } : Jvm.MethodName)) ∈ lw_all := lw_g (lw_at lw_m3 126 rfl) rfl
theorem q662 : (Jvm.Cond.instanceMethod ({ cls := "CommaTables$Tables", name := "pick", desc := "(LCommaTables$Table;[JI)I" } : Jvm.MethodName)) ∈ lw_all := lw_g (lw_at lw_m3 139 rfl) rfl
theorem q663 : (Jvm.Cond.selects "CommaTables$Tables" ({ cls := "CommaTables$Tables", name := "pick", desc := "(LCommaTables$Table;[JI)I" } : Jvm.MethodName) ({ cls := "CommaTables$Tables", name := "pick", desc := "(LCommaTables$Table;[JI)I" } : Jvm.MethodName)) ∈ lw_all := lw_g (lw_at lw_m3 140 rfl) rfl
theorem q664 : (Jvm.Cond.code ({ cls := "CommaTables$Tables", name := "pick", desc := "(LCommaTables$Table;[JI)I" } : Jvm.MethodName) prog_7_method_27_code (9 : Nat) (Option.some Jvm.ClassFile.FieldType.int)) ∈ lw_all := lw_g (lw_at lw_m3 141 rfl) rfl
theorem q670 : (Jvm.Cond.instanceMethod ({ cls := "CommaTables$Tables", name := "write", desc := "(LCommaTables$Table;LCommaTables$Out;)Z" } : Jvm.MethodName)) ∈ lw_all := lw_g (lw_at lw_m3 147 rfl) rfl
theorem q671 : (Jvm.Cond.selects "CommaTables$Tables" ({ cls := "CommaTables$Tables", name := "write", desc := "(LCommaTables$Table;LCommaTables$Out;)Z" } : Jvm.MethodName) ({ cls := "CommaTables$Tables", name := "write", desc := "(LCommaTables$Table;LCommaTables$Out;)Z" } : Jvm.MethodName)) ∈ lw_all := lw_g (lw_at lw_m3 148 rfl) rfl
theorem q672 : (Jvm.Cond.code ({ cls := "CommaTables$Tables", name := "write", desc := "(LCommaTables$Table;LCommaTables$Out;)Z" } : Jvm.MethodName) prog_7_method_28_code (7 : Nat) (Option.some Jvm.ClassFile.FieldType.boolean)) ∈ lw_all := lw_g (lw_at lw_m3 149 rfl) rfl
theorem q673 : (Jvm.Cond.methodLink "CommaTables$Tables" (235 : Nat) ({ cls := "CommaTables$Out", name := "put", desc := "(I)Z" } : Jvm.MethodName)) ∈ lw_all := lw_g (lw_at lw_m3 150 rfl) rfl
theorem q677 : (Jvm.Cond.methodLink "CommaTables$Tables" (240 : Nat) ({ cls := "CommaTables$Tables", name := "needsMarks", desc := "(II)Z" } : Jvm.MethodName)) ∈ lw_all := lw_g (lw_at lw_m3 154 rfl) rfl
theorem q678 : (Jvm.Cond.privateMethod ({ cls := "CommaTables$Tables", name := "needsMarks", desc := "(II)Z" } : Jvm.MethodName)) ∈ lw_tbl := lw_at lw_m3 155 rfl
theorem q679 : (Jvm.Cond.instanceMethod ({ cls := "CommaTables$Tables", name := "needsMarks", desc := "(II)Z" } : Jvm.MethodName)) ∈ lw_all := lw_g (lw_at lw_m3 156 rfl) rfl
theorem q680 : (Jvm.Cond.code ({ cls := "CommaTables$Tables", name := "needsMarks", desc := "(II)Z" } : Jvm.MethodName) prog_7_method_29_code (4 : Nat) (Option.some Jvm.ClassFile.FieldType.boolean)) ∈ lw_all := lw_g (lw_at lw_m3 157 rfl) rfl
theorem q681 : (Jvm.Cond.methodLink "CommaTables$Tables" (243 : Nat) ({ cls := "CommaTables$Tables", name := "say", desc := "(LCommaTables$Out;IIZ)Z" } : Jvm.MethodName)) ∈ lw_all := lw_g (lw_at lw_m3 158 rfl) rfl
theorem q682 : (Jvm.Cond.privateMethod ({ cls := "CommaTables$Tables", name := "say", desc := "(LCommaTables$Out;IIZ)Z" } : Jvm.MethodName)) ∈ lw_tbl := lw_at lw_m3 159 rfl
theorem q683 : (Jvm.Cond.instanceMethod ({ cls := "CommaTables$Tables", name := "say", desc := "(LCommaTables$Out;IIZ)Z" } : Jvm.MethodName)) ∈ lw_all := lw_g (lw_at lw_m3 160 rfl) rfl
theorem q684 : (Jvm.Cond.code ({ cls := "CommaTables$Tables", name := "say", desc := "(LCommaTables$Out;IIZ)Z" } : Jvm.MethodName) prog_7_method_31_code (7 : Nat) (Option.some Jvm.ClassFile.FieldType.boolean)) ∈ lw_all := lw_g (lw_at lw_m3 161 rfl) rfl
theorem q685 : (Jvm.Cond.methodLink "CommaTables$Tables" (247 : Nat) ({ cls := "CommaTables$Tables", name := "isMarked", desc := "(LCommaTables$Table;II)Z" } : Jvm.MethodName)) ∈ lw_all := lw_g (lw_at lw_m3 162 rfl) rfl
theorem q686 : (Jvm.Cond.privateMethod ({ cls := "CommaTables$Tables", name := "isMarked", desc := "(LCommaTables$Table;II)Z" } : Jvm.MethodName)) ∈ lw_tbl := lw_at lw_m3 163 rfl
theorem q687 : (Jvm.Cond.instanceMethod ({ cls := "CommaTables$Tables", name := "isMarked", desc := "(LCommaTables$Table;II)Z" } : Jvm.MethodName)) ∈ lw_all := lw_g (lw_at lw_m3 164 rfl) rfl
theorem q688 : (Jvm.Cond.code ({ cls := "CommaTables$Tables", name := "isMarked", desc := "(LCommaTables$Table;II)Z" } : Jvm.MethodName) prog_7_method_30_code (4 : Nat) (Option.some Jvm.ClassFile.FieldType.boolean)) ∈ lw_all := lw_g (lw_at lw_m3 165 rfl) rfl
theorem q1086 : (Jvm.Cond.selects "CommaTables$Tables" ({ cls := "java/lang/Object", name := "getClass", desc := "()Ljava/lang/Class;" } : Jvm.MethodName) ({ cls := "java/lang/Object", name := "getClass", desc := "()Ljava/lang/Class;" } : Jvm.MethodName)) ∈ lw_all := lw_g (lw_at lw_m5 83 rfl) rfl
theorem q1344 : (Jvm.Cond.castable "CommaTables$Tables" "java/lang/Object") ∈ lw_tbl := lw_at lw_m6 101 rfl
theorem in_X2 : ∀ w ∈ wsX20, w ∈ lw_all := lw_in wsX20 [230, 232, 234, 236, 238, 240, 242, 244, 246, 248, 250, 252, 254, 256, 258] (by decide +kernel) (by decide +kernel)
