/-! CommaTables -/
set_option maxRecDepth 100000
def RX0 : String := "CommaTables"
def TX0 : u_T := fun k => match k with
  | 0 => ("CommaTables", "tray", "[B", true)
  | 1 => ("CommaTables", "trayed", "I", false)
  | 2 => ("CommaTables", "fed", "I", false)
  | 3 => ("CommaTables", "stop", "LCommaTables$Stop;", true)
  | 4 => ("CommaTables", "tables", "LCommaTables$Tables;", true)
  | 5 => ("CommaTables", "place", "I", false)
  | 6 => ("CommaTables", "picked", "[J", true)
  | 7 => ("CommaTables", "pickedCount", "I", false)
  | 8 => ("CommaTables", "column", "[J", true)
  | 9 => ("CommaTables", "out", "LCommaTables$Out;", false)
  | _ => ("CommaTables", "draft", "LCommaTables$Out;", false)
def tyX0 : Nat → FieldType := fun k => match k with
  | 0 => .array .byte
  | 1 => .int
  | 2 => .int
  | 3 => .object "CommaTables$Stop"
  | 4 => .object "CommaTables$Tables"
  | 5 => .int
  | 6 => .array .long
  | 7 => .int
  | 8 => .array .long
  | 9 => .object "CommaTables$Out"
  | _ => .object "CommaTables$Out"
abbrev wsX00 : List Cond := u_ws RX0 TX0 11
theorem nmX0 : ∀ a, a < 11 → ∀ b, b < 11 → a ≠ b → (TX0 a).2.1 ≠ (TX0 b).2.1 := by decide +kernel
theorem tyX0_ok : ∀ k, k < 11 → parseFieldDescriptor (TX0 k).2.2.1 = some (tyX0 k) := by decide +kernel
abbrev cX0_init : ByteArray := prog_1_method_1_code
def yX0_init : MethodName := ⟨RX0, "<init>", "()V"⟩
theorem dX0_init_0 : decode cX0_init 0 = .ok (.aload_n 0, 1) := by decide +kernel
theorem dX0_init_1 : decode cX0_init 1 = .ok (.invokespecial 1, 3) := by decide +kernel
theorem dX0_init_4 : decode cX0_init 4 = .ok (.aload_n 0, 1) := by decide +kernel
theorem dX0_init_5 : decode cX0_init 5 = .ok (.sipush 16000, 3) := by decide +kernel
theorem dX0_init_8 : decode cX0_init 8 = .ok (.newarray .byte, 2) := by decide +kernel
theorem dX0_init_10 : decode cX0_init 10 = .ok (.putfield 9, 3) := by decide +kernel
theorem dX0_init_13 : decode cX0_init 13 = .ok (.aload_n 0, 1) := by decide +kernel
theorem dX0_init_14 : decode cX0_init 14 = .ok (.new 13, 3) := by decide +kernel
theorem dX0_init_17 : decode cX0_init 17 = .ok (.dup, 1) := by decide +kernel
theorem dX0_init_18 : decode cX0_init 18 = .ok (.invokespecial 15, 3) := by decide +kernel
theorem dX0_init_21 : decode cX0_init 21 = .ok (.putfield 16, 3) := by decide +kernel
theorem dX0_init_24 : decode cX0_init 24 = .ok (.aload_n 0, 1) := by decide +kernel
theorem dX0_init_25 : decode cX0_init 25 = .ok (.new 20, 3) := by decide +kernel
theorem dX0_init_28 : decode cX0_init 28 = .ok (.dup, 1) := by decide +kernel
theorem dX0_init_29 : decode cX0_init 29 = .ok (.aload_n 0, 1) := by decide +kernel
theorem dX0_init_30 : decode cX0_init 30 = .ok (.getfield 16, 3) := by decide +kernel
theorem dX0_init_33 : decode cX0_init 33 = .ok (.invokespecial 22, 3) := by decide +kernel
theorem dX0_init_36 : decode cX0_init 36 = .ok (.putfield 25, 3) := by decide +kernel
theorem dX0_init_39 : decode cX0_init 39 = .ok (.aload_n 0, 1) := by decide +kernel
theorem dX0_init_40 : decode cX0_init 40 = .ok (.iconst (-1), 1) := by decide +kernel
theorem dX0_init_41 : decode cX0_init 41 = .ok (.putfield 29, 3) := by decide +kernel
theorem dX0_init_44 : decode cX0_init 44 = .ok (.aload_n 0, 1) := by decide +kernel
theorem dX0_init_45 : decode cX0_init 45 = .ok (.sipush 500, 3) := by decide +kernel
theorem dX0_init_48 : decode cX0_init 48 = .ok (.newarray .long, 2) := by decide +kernel
theorem dX0_init_50 : decode cX0_init 50 = .ok (.putfield 33, 3) := by decide +kernel
theorem dX0_init_53 : decode cX0_init 53 = .ok (.aload_n 0, 1) := by decide +kernel
theorem dX0_init_54 : decode cX0_init 54 = .ok (.sipush 500, 3) := by decide +kernel
theorem dX0_init_57 : decode cX0_init 57 = .ok (.newarray .long, 2) := by decide +kernel
theorem dX0_init_59 : decode cX0_init 59 = .ok (.putfield 37, 3) := by decide +kernel
theorem dX0_init_62 : decode cX0_init 62 = .ok (.aload_n 0, 1) := by decide +kernel
theorem dX0_init_63 : decode cX0_init 63 = .ok (.new 40, 3) := by decide +kernel
theorem dX0_init_66 : decode cX0_init 66 = .ok (.dup, 1) := by decide +kernel
theorem dX0_init_67 : decode cX0_init 67 = .ok (.sipush 30000, 3) := by decide +kernel
theorem dX0_init_70 : decode cX0_init 70 = .ok (.invokespecial 42, 3) := by decide +kernel
theorem dX0_init_73 : decode cX0_init 73 = .ok (.putfield 45, 3) := by decide +kernel
theorem dX0_init_76 : decode cX0_init 76 = .ok (.aload_n 0, 1) := by decide +kernel
theorem dX0_init_77 : decode cX0_init 77 = .ok (.new 40, 3) := by decide +kernel
theorem dX0_init_80 : decode cX0_init 80 = .ok (.dup, 1) := by decide +kernel
theorem dX0_init_81 : decode cX0_init 81 = .ok (.sipush 30000, 3) := by decide +kernel
theorem dX0_init_84 : decode cX0_init 84 = .ok (.invokespecial 42, 3) := by decide +kernel
theorem dX0_init_87 : decode cX0_init 87 = .ok (.putfield 49, 3) := by decide +kernel
theorem dX0_init_90 : decode cX0_init 90 = .ok (.aload_n 0, 1) := by decide +kernel
theorem dX0_init_91 : decode cX0_init 91 = .ok (.iconst 0, 1) := by decide +kernel
theorem dX0_init_92 : decode cX0_init 92 = .ok (.putfield 52, 3) := by decide +kernel
theorem dX0_init_95 : decode cX0_init 95 = .ok (.return_, 1) := by decide +kernel
abbrev cX0_feed : ByteArray := prog_1_method_2_code
def yX0_feed : MethodName := ⟨RX0, "feed", "(IIIII)I"⟩
theorem dX0_feed_0 : decode cX0_feed 0 = .ok (.aload_n 0, 1) := by decide +kernel
theorem dX0_feed_1 : decode cX0_feed 1 = .ok (.getfield 55, 3) := by decide +kernel
theorem dX0_feed_4 : decode cX0_feed 4 = .ok (.bipush 20, 2) := by decide +kernel
theorem dX0_feed_6 : decode cX0_feed 6 = .ok (.iadd, 1) := by decide +kernel
theorem dX0_feed_7 : decode cX0_feed 7 = .ok (.sipush 16000, 3) := by decide +kernel
theorem dX0_feed_10 : decode cX0_feed 10 = .ok (.if_icmp .gt 15, 3) := by decide +kernel
theorem dX0_feed_13 : decode cX0_feed 13 = .ok (.aload_n 0, 1) := by decide +kernel
theorem dX0_feed_14 : decode cX0_feed 14 = .ok (.getfield 58, 3) := by decide +kernel
theorem dX0_feed_17 : decode cX0_feed 17 = .ok (.bipush 20, 2) := by decide +kernel
theorem dX0_feed_19 : decode cX0_feed 19 = .ok (.iadd, 1) := by decide +kernel
theorem dX0_feed_20 : decode cX0_feed 20 = .ok (.ldc 61, 2) := by decide +kernel
theorem dX0_feed_22 : decode cX0_feed 22 = .ok (.if_icmp .le 5, 3) := by decide +kernel
theorem dX0_feed_25 : decode cX0_feed 25 = .ok (.iconst (-1), 1) := by decide +kernel
theorem dX0_feed_26 : decode cX0_feed 26 = .ok (.ireturn, 1) := by decide +kernel
theorem dX0_feed_27 : decode cX0_feed 27 = .ok (.aload_n 0, 1) := by decide +kernel
theorem dX0_feed_28 : decode cX0_feed 28 = .ok (.iload_n 1, 1) := by decide +kernel
theorem dX0_feed_29 : decode cX0_feed 29 = .ok (.invokevirtual 62, 3) := by decide +kernel
theorem dX0_feed_32 : decode cX0_feed 32 = .ok (.aload_n 0, 1) := by decide +kernel
theorem dX0_feed_33 : decode cX0_feed 33 = .ok (.iload_n 2, 1) := by decide +kernel
theorem dX0_feed_34 : decode cX0_feed 34 = .ok (.invokevirtual 62, 3) := by decide +kernel
theorem dX0_feed_37 : decode cX0_feed 37 = .ok (.aload_n 0, 1) := by decide +kernel
theorem dX0_feed_38 : decode cX0_feed 38 = .ok (.iload_n 3, 1) := by decide +kernel
theorem dX0_feed_39 : decode cX0_feed 39 = .ok (.invokevirtual 62, 3) := by decide +kernel
theorem dX0_feed_42 : decode cX0_feed 42 = .ok (.aload_n 0, 1) := by decide +kernel
theorem dX0_feed_43 : decode cX0_feed 43 = .ok (.iload 4, 2) := by decide +kernel
theorem dX0_feed_45 : decode cX0_feed 45 = .ok (.invokevirtual 62, 3) := by decide +kernel
theorem dX0_feed_48 : decode cX0_feed 48 = .ok (.aload_n 0, 1) := by decide +kernel
theorem dX0_feed_49 : decode cX0_feed 49 = .ok (.iload 5, 2) := by decide +kernel
theorem dX0_feed_51 : decode cX0_feed 51 = .ok (.invokevirtual 62, 3) := by decide +kernel
theorem dX0_feed_54 : decode cX0_feed 54 = .ok (.aload_n 0, 1) := by decide +kernel
theorem dX0_feed_55 : decode cX0_feed 55 = .ok (.dup, 1) := by decide +kernel
theorem dX0_feed_56 : decode cX0_feed 56 = .ok (.getfield 58, 3) := by decide +kernel
theorem dX0_feed_59 : decode cX0_feed 59 = .ok (.bipush 20, 2) := by decide +kernel
theorem dX0_feed_61 : decode cX0_feed 61 = .ok (.iadd, 1) := by decide +kernel
theorem dX0_feed_62 : decode cX0_feed 62 = .ok (.putfield 58, 3) := by decide +kernel
theorem dX0_feed_65 : decode cX0_feed 65 = .ok (.aload_n 0, 1) := by decide +kernel
theorem dX0_feed_66 : decode cX0_feed 66 = .ok (.getfield 55, 3) := by decide +kernel
theorem dX0_feed_69 : decode cX0_feed 69 = .ok (.ireturn, 1) := by decide +kernel
abbrev cX0_four : ByteArray := prog_1_method_3_code
def yX0_four : MethodName := ⟨RX0, "four", "(I)V"⟩
theorem dX0_four_0 : decode cX0_four 0 = .ok (.bipush 24, 2) := by decide +kernel
theorem dX0_four_2 : decode cX0_four 2 = .ok (.istore_n 2, 1) := by decide +kernel
theorem dX0_four_3 : decode cX0_four 3 = .ok (.iload_n 2, 1) := by decide +kernel
theorem dX0_four_4 : decode cX0_four 4 = .ok (.ifCond .lt 32, 3) := by decide +kernel
theorem dX0_four_7 : decode cX0_four 7 = .ok (.aload_n 0, 1) := by decide +kernel
theorem dX0_four_8 : decode cX0_four 8 = .ok (.getfield 9, 3) := by decide +kernel
theorem dX0_four_11 : decode cX0_four 11 = .ok (.aload_n 0, 1) := by decide +kernel
theorem dX0_four_12 : decode cX0_four 12 = .ok (.getfield 55, 3) := by decide +kernel
theorem dX0_four_15 : decode cX0_four 15 = .ok (.iload_n 1, 1) := by decide +kernel
theorem dX0_four_16 : decode cX0_four 16 = .ok (.iload_n 2, 1) := by decide +kernel
theorem dX0_four_17 : decode cX0_four 17 = .ok (.ishr, 1) := by decide +kernel
theorem dX0_four_18 : decode cX0_four 18 = .ok (.i2b, 1) := by decide +kernel
theorem dX0_four_19 : decode cX0_four 19 = .ok (.bastore, 1) := by decide +kernel
theorem dX0_four_20 : decode cX0_four 20 = .ok (.aload_n 0, 1) := by decide +kernel
theorem dX0_four_21 : decode cX0_four 21 = .ok (.dup, 1) := by decide +kernel
theorem dX0_four_22 : decode cX0_four 22 = .ok (.getfield 55, 3) := by decide +kernel
theorem dX0_four_25 : decode cX0_four 25 = .ok (.iconst 1, 1) := by decide +kernel
theorem dX0_four_26 : decode cX0_four 26 = .ok (.iadd, 1) := by decide +kernel
theorem dX0_four_27 : decode cX0_four 27 = .ok (.putfield 55, 3) := by decide +kernel
theorem dX0_four_30 : decode cX0_four 30 = .ok (.iinc 2 (-8), 3) := by decide +kernel
theorem dX0_four_33 : decode cX0_four 33 = .ok (.goto (-30), 3) := by decide +kernel
theorem dX0_four_36 : decode cX0_four 36 = .ok (.return_, 1) := by decide +kernel
abbrev cX0_end : ByteArray := prog_1_method_4_code
def yX0_end : MethodName := ⟨RX0, "end", "(I)I"⟩
theorem dX0_end_0 : decode cX0_end 0 = .ok (.iload_n 1, 1) := by decide +kernel
theorem dX0_end_1 : decode cX0_end 1 = .ok (.ifCond .lt 11, 3) := by decide +kernel
theorem dX0_end_4 : decode cX0_end 4 = .ok (.iload_n 1, 1) := by decide +kernel
theorem dX0_end_5 : decode cX0_end 5 = .ok (.aload_n 0, 1) := by decide +kernel
theorem dX0_end_6 : decode cX0_end 6 = .ok (.getfield 55, 3) := by decide +kernel
theorem dX0_end_9 : decode cX0_end 9 = .ok (.if_icmp .le 5, 3) := by decide +kernel
theorem dX0_end_12 : decode cX0_end 12 = .ok (.iconst (-1), 1) := by decide +kernel
theorem dX0_end_13 : decode cX0_end 13 = .ok (.ireturn, 1) := by decide +kernel
theorem dX0_end_14 : decode cX0_end 14 = .ok (.aload_n 0, 1) := by decide +kernel
theorem dX0_end_15 : decode cX0_end 15 = .ok (.iload_n 1, 1) := by decide +kernel
theorem dX0_end_16 : decode cX0_end 16 = .ok (.putfield 55, 3) := by decide +kernel
theorem dX0_end_19 : decode cX0_end 19 = .ok (.iload_n 1, 1) := by decide +kernel
theorem dX0_end_20 : decode cX0_end 20 = .ok (.ireturn, 1) := by decide +kernel
abbrev cX0_read : ByteArray := prog_1_method_6_code
def yX0_read : MethodName := ⟨RX0, "read", "()I"⟩
theorem dX0_read_0 : decode cX0_read 0 = .ok (.aload_n 0, 1) := by decide +kernel
theorem dX0_read_1 : decode cX0_read 1 = .ok (.iconst (-1), 1) := by decide +kernel
theorem dX0_read_2 : decode cX0_read 2 = .ok (.putfield 29, 3) := by decide +kernel
theorem dX0_read_5 : decode cX0_read 5 = .ok (.aload_n 0, 1) := by decide +kernel
theorem dX0_read_6 : decode cX0_read 6 = .ok (.invokevirtual 65, 3) := by decide +kernel
theorem dX0_read_9 : decode cX0_read 9 = .ok (.istore_n 1, 1) := by decide +kernel
theorem dX0_read_10 : decode cX0_read 10 = .ok (.aload_n 0, 1) := by decide +kernel
theorem dX0_read_11 : decode cX0_read 11 = .ok (.getfield 25, 3) := by decide +kernel
theorem dX0_read_14 : decode cX0_read 14 = .ok (.aload_n 0, 1) := by decide +kernel
theorem dX0_read_15 : decode cX0_read 15 = .ok (.getfield 9, 3) := by decide +kernel
theorem dX0_read_18 : decode cX0_read 18 = .ok (.iload_n 1, 1) := by decide +kernel
theorem dX0_read_19 : decode cX0_read 19 = .ok (.invokevirtual 69, 3) := by decide +kernel
theorem dX0_read_22 : decode cX0_read 22 = .ok (.ireturn, 1) := by decide +kernel
theorem dX0_read_23 : decode cX0_read 23 = .ok (.astore_n 2, 1) := by decide +kernel
theorem dX0_read_24 : decode cX0_read 24 = .ok (.aload_n 0, 1) := by decide +kernel
theorem dX0_read_25 : decode cX0_read 25 = .ok (.aload_n 0, 1) := by decide +kernel
theorem dX0_read_26 : decode cX0_read 26 = .ok (.getfield 16, 3) := by decide +kernel
theorem dX0_read_29 : decode cX0_read 29 = .ok (.getfield 75, 3) := by decide +kernel
theorem dX0_read_32 : decode cX0_read 32 = .ok (.putfield 29, 3) := by decide +kernel
theorem dX0_read_35 : decode cX0_read 35 = .ok (.aload_n 0, 1) := by decide +kernel
theorem dX0_read_36 : decode cX0_read 36 = .ok (.getfield 16, 3) := by decide +kernel
theorem dX0_read_39 : decode cX0_read 39 = .ok (.getfield 76, 3) := by decide +kernel
theorem dX0_read_42 : decode cX0_read 42 = .ok (.ineg, 1) := by decide +kernel
theorem dX0_read_43 : decode cX0_read 43 = .ok (.ireturn, 1) := by decide +kernel
abbrev cX0_used : ByteArray := prog_1_method_5_code
def yX0_used : MethodName := ⟨RX0, "used", "()I"⟩
theorem dX0_used_0 : decode cX0_used 0 = .ok (.aload_n 0, 1) := by decide +kernel
theorem dX0_used_1 : decode cX0_used 1 = .ok (.getfield 55, 3) := by decide +kernel
theorem dX0_used_4 : decode cX0_used 4 = .ok (.istore_n 1, 1) := by decide +kernel
theorem dX0_used_5 : decode cX0_used 5 = .ok (.aload_n 0, 1) := by decide +kernel
theorem dX0_used_6 : decode cX0_used 6 = .ok (.iconst 0, 1) := by decide +kernel
theorem dX0_used_7 : decode cX0_used 7 = .ok (.putfield 55, 3) := by decide +kernel
theorem dX0_used_10 : decode cX0_used 10 = .ok (.iload_n 1, 1) := by decide +kernel
theorem dX0_used_11 : decode cX0_used 11 = .ok (.ireturn, 1) := by decide +kernel
abbrev cX0_place : ByteArray := prog_1_method_7_code
def yX0_place : MethodName := ⟨RX0, "place", "()I"⟩
theorem dX0_place_0 : decode cX0_place 0 = .ok (.aload_n 0, 1) := by decide +kernel
theorem dX0_place_1 : decode cX0_place 1 = .ok (.getfield 29, 3) := by decide +kernel
theorem dX0_place_4 : decode cX0_place 4 = .ok (.ireturn, 1) := by decide +kernel
abbrev cX0_rows : ByteArray := prog_1_method_8_code
def yX0_rows : MethodName := ⟨RX0, "rows", "(I)I"⟩
theorem dX0_rows_0 : decode cX0_rows 0 = .ok (.aload_n 0, 1) := by decide +kernel
theorem dX0_rows_1 : decode cX0_rows 1 = .ok (.getfield 25, 3) := by decide +kernel
theorem dX0_rows_4 : decode cX0_rows 4 = .ok (.iload_n 1, 1) := by decide +kernel
theorem dX0_rows_5 : decode cX0_rows 5 = .ok (.invokevirtual 79, 3) := by decide +kernel
theorem dX0_rows_8 : decode cX0_rows 8 = .ok (.astore_n 2, 1) := by decide +kernel
theorem dX0_rows_9 : decode cX0_rows 9 = .ok (.aload_n 2, 1) := by decide +kernel
theorem dX0_rows_10 : decode cX0_rows 10 = .ok (.ifnonnull 8, 3) := by decide +kernel
theorem dX0_rows_13 : decode cX0_rows 13 = .ok (.bipush (-14), 2) := by decide +kernel
theorem dX0_rows_15 : decode cX0_rows 15 = .ok (.goto 7, 3) := by decide +kernel
theorem dX0_rows_18 : decode cX0_rows 18 = .ok (.aload_n 2, 1) := by decide +kernel
theorem dX0_rows_19 : decode cX0_rows 19 = .ok (.getfield 83, 3) := by decide +kernel
theorem dX0_rows_22 : decode cX0_rows 22 = .ok (.ireturn, 1) := by decide +kernel
abbrev cX0_columns : ByteArray := prog_1_method_9_code
def yX0_columns : MethodName := ⟨RX0, "columns", "(I)I"⟩
theorem dX0_columns_0 : decode cX0_columns 0 = .ok (.aload_n 0, 1) := by decide +kernel
theorem dX0_columns_1 : decode cX0_columns 1 = .ok (.getfield 25, 3) := by decide +kernel
theorem dX0_columns_4 : decode cX0_columns 4 = .ok (.iload_n 1, 1) := by decide +kernel
theorem dX0_columns_5 : decode cX0_columns 5 = .ok (.invokevirtual 79, 3) := by decide +kernel
theorem dX0_columns_8 : decode cX0_columns 8 = .ok (.astore_n 2, 1) := by decide +kernel
theorem dX0_columns_9 : decode cX0_columns 9 = .ok (.aload_n 2, 1) := by decide +kernel
theorem dX0_columns_10 : decode cX0_columns 10 = .ok (.ifnonnull 8, 3) := by decide +kernel
theorem dX0_columns_13 : decode cX0_columns 13 = .ok (.bipush (-14), 2) := by decide +kernel
theorem dX0_columns_15 : decode cX0_columns 15 = .ok (.goto 7, 3) := by decide +kernel
theorem dX0_columns_18 : decode cX0_columns 18 = .ok (.aload_n 2, 1) := by decide +kernel
theorem dX0_columns_19 : decode cX0_columns 19 = .ok (.getfield 88, 3) := by decide +kernel
theorem dX0_columns_22 : decode cX0_columns 22 = .ok (.ireturn, 1) := by decide +kernel
abbrev cX0_named : ByteArray := prog_1_method_10_code
def yX0_named : MethodName := ⟨RX0, "named", "(I)I"⟩
theorem dX0_named_0 : decode cX0_named 0 = .ok (.aload_n 0, 1) := by decide +kernel
theorem dX0_named_1 : decode cX0_named 1 = .ok (.invokevirtual 65, 3) := by decide +kernel
theorem dX0_named_4 : decode cX0_named 4 = .ok (.istore_n 2, 1) := by decide +kernel
theorem dX0_named_5 : decode cX0_named 5 = .ok (.aload_n 0, 1) := by decide +kernel
theorem dX0_named_6 : decode cX0_named 6 = .ok (.getfield 25, 3) := by decide +kernel
theorem dX0_named_9 : decode cX0_named 9 = .ok (.iload_n 1, 1) := by decide +kernel
theorem dX0_named_10 : decode cX0_named 10 = .ok (.invokevirtual 79, 3) := by decide +kernel
theorem dX0_named_13 : decode cX0_named 13 = .ok (.astore_n 3, 1) := by decide +kernel
theorem dX0_named_14 : decode cX0_named 14 = .ok (.aload_n 3, 1) := by decide +kernel
theorem dX0_named_15 : decode cX0_named 15 = .ok (.ifnonnull 6, 3) := by decide +kernel
theorem dX0_named_18 : decode cX0_named 18 = .ok (.bipush (-14), 2) := by decide +kernel
theorem dX0_named_20 : decode cX0_named 20 = .ok (.ireturn, 1) := by decide +kernel
theorem dX0_named_21 : decode cX0_named 21 = .ok (.aload_n 0, 1) := by decide +kernel
theorem dX0_named_22 : decode cX0_named 22 = .ok (.getfield 25, 3) := by decide +kernel
theorem dX0_named_25 : decode cX0_named 25 = .ok (.aload_n 3, 1) := by decide +kernel
theorem dX0_named_26 : decode cX0_named 26 = .ok (.aload_n 0, 1) := by decide +kernel
theorem dX0_named_27 : decode cX0_named 27 = .ok (.getfield 9, 3) := by decide +kernel
theorem dX0_named_30 : decode cX0_named 30 = .ok (.iload_n 2, 1) := by decide +kernel
theorem dX0_named_31 : decode cX0_named 31 = .ok (.invokevirtual 91, 3) := by decide +kernel
theorem dX0_named_34 : decode cX0_named 34 = .ok (.istore 4, 2) := by decide +kernel
theorem dX0_named_36 : decode cX0_named 36 = .ok (.iload 4, 2) := by decide +kernel
theorem dX0_named_38 : decode cX0_named 38 = .ok (.ifCond .ge 8, 3) := by decide +kernel
theorem dX0_named_41 : decode cX0_named 41 = .ok (.bipush (-2), 2) := by decide +kernel
theorem dX0_named_43 : decode cX0_named 43 = .ok (.goto 5, 3) := by decide +kernel
theorem dX0_named_46 : decode cX0_named 46 = .ok (.iload 4, 2) := by decide +kernel
theorem dX0_named_48 : decode cX0_named 48 = .ok (.ireturn, 1) := by decide +kernel
abbrev cX0_lane : ByteArray := prog_1_method_11_code
def yX0_lane : MethodName := ⟨RX0, "lane", "(II)I"⟩
theorem dX0_lane_0 : decode cX0_lane 0 = .ok (.aload_n 0, 1) := by decide +kernel
theorem dX0_lane_1 : decode cX0_lane 1 = .ok (.getfield 25, 3) := by decide +kernel
theorem dX0_lane_4 : decode cX0_lane 4 = .ok (.iload_n 1, 1) := by decide +kernel
theorem dX0_lane_5 : decode cX0_lane 5 = .ok (.invokevirtual 79, 3) := by decide +kernel
theorem dX0_lane_8 : decode cX0_lane 8 = .ok (.astore_n 3, 1) := by decide +kernel
theorem dX0_lane_9 : decode cX0_lane 9 = .ok (.aload_n 3, 1) := by decide +kernel
theorem dX0_lane_10 : decode cX0_lane 10 = .ok (.ifnonnull 6, 3) := by decide +kernel
theorem dX0_lane_13 : decode cX0_lane 13 = .ok (.bipush (-14), 2) := by decide +kernel
theorem dX0_lane_15 : decode cX0_lane 15 = .ok (.ireturn, 1) := by decide +kernel
theorem dX0_lane_16 : decode cX0_lane 16 = .ok (.iload_n 2, 1) := by decide +kernel
theorem dX0_lane_17 : decode cX0_lane 17 = .ok (.ifCond .lt 20, 3) := by decide +kernel
theorem dX0_lane_20 : decode cX0_lane 20 = .ok (.iload_n 2, 1) := by decide +kernel
theorem dX0_lane_21 : decode cX0_lane 21 = .ok (.aload_n 3, 1) := by decide +kernel
theorem dX0_lane_22 : decode cX0_lane 22 = .ok (.getfield 88, 3) := by decide +kernel
theorem dX0_lane_25 : decode cX0_lane 25 = .ok (.if_icmp .ge 12, 3) := by decide +kernel
theorem dX0_lane_28 : decode cX0_lane 28 = .ok (.aload_n 3, 1) := by decide +kernel
theorem dX0_lane_29 : decode cX0_lane 29 = .ok (.getfield 95, 3) := by decide +kernel
theorem dX0_lane_32 : decode cX0_lane 32 = .ok (.iload_n 2, 1) := by decide +kernel
theorem dX0_lane_33 : decode cX0_lane 33 = .ok (.iaload, 1) := by decide +kernel
theorem dX0_lane_34 : decode cX0_lane 34 = .ok (.goto 5, 3) := by decide +kernel
theorem dX0_lane_37 : decode cX0_lane 37 = .ok (.bipush (-2), 2) := by decide +kernel
theorem dX0_lane_39 : decode cX0_lane 39 = .ok (.ireturn, 1) := by decide +kernel
abbrev cX0_value : ByteArray := prog_1_method_13_code
def yX0_value : MethodName := ⟨RX0, "value", "(III)J"⟩
theorem dX0_value_0 : decode cX0_value 0 = .ok (.aload_n 0, 1) := by decide +kernel
theorem dX0_value_1 : decode cX0_value 1 = .ok (.getfield 25, 3) := by decide +kernel
theorem dX0_value_4 : decode cX0_value 4 = .ok (.iload_n 1, 1) := by decide +kernel
theorem dX0_value_5 : decode cX0_value 5 = .ok (.invokevirtual 79, 3) := by decide +kernel
theorem dX0_value_8 : decode cX0_value 8 = .ok (.astore 4, 2) := by decide +kernel
theorem dX0_value_10 : decode cX0_value 10 = .ok (.aload 4, 2) := by decide +kernel
theorem dX0_value_12 : decode cX0_value 12 = .ok (.iload_n 2, 1) := by decide +kernel
theorem dX0_value_13 : decode cX0_value 13 = .ok (.iload_n 3, 1) := by decide +kernel
theorem dX0_value_14 : decode cX0_value 14 = .ok (.invokestatic 99, 3) := by decide +kernel
theorem dX0_value_17 : decode cX0_value 17 = .ok (.ifCond .ge 5, 3) := by decide +kernel
theorem dX0_value_20 : decode cX0_value 20 = .ok (.lconst 0, 1) := by decide +kernel
theorem dX0_value_21 : decode cX0_value 21 = .ok (.lreturn, 1) := by decide +kernel
theorem dX0_value_22 : decode cX0_value 22 = .ok (.aload_n 0, 1) := by decide +kernel
theorem dX0_value_23 : decode cX0_value 23 = .ok (.getfield 25, 3) := by decide +kernel
theorem dX0_value_26 : decode cX0_value 26 = .ok (.aload 4, 2) := by decide +kernel
theorem dX0_value_28 : decode cX0_value 28 = .ok (.iload_n 2, 1) := by decide +kernel
theorem dX0_value_29 : decode cX0_value 29 = .ok (.aload_n 0, 1) := by decide +kernel
theorem dX0_value_30 : decode cX0_value 30 = .ok (.getfield 37, 3) := by decide +kernel
theorem dX0_value_33 : decode cX0_value 33 = .ok (.invokevirtual 103, 3) := by decide +kernel
theorem dX0_value_36 : decode cX0_value 36 = .ok (.aload_n 0, 1) := by decide +kernel
theorem dX0_value_37 : decode cX0_value 37 = .ok (.getfield 37, 3) := by decide +kernel
theorem dX0_value_40 : decode cX0_value 40 = .ok (.iload_n 3, 1) := by decide +kernel
theorem dX0_value_41 : decode cX0_value 41 = .ok (.laload, 1) := by decide +kernel
theorem dX0_value_42 : decode cX0_value 42 = .ok (.lreturn, 1) := by decide +kernel
abbrev cX0_cell : ByteArray := prog_1_method_12_code
def yX0_cell : MethodName := ⟨RX0, "cell", "(LCommaTables$Table;II)I"⟩
theorem dX0_cell_0 : decode cX0_cell 0 = .ok (.aload_n 0, 1) := by decide +kernel
theorem dX0_cell_1 : decode cX0_cell 1 = .ok (.ifnull 38, 3) := by decide +kernel
theorem dX0_cell_4 : decode cX0_cell 4 = .ok (.iload_n 1, 1) := by decide +kernel
theorem dX0_cell_5 : decode cX0_cell 5 = .ok (.ifCond .lt 34, 3) := by decide +kernel
theorem dX0_cell_8 : decode cX0_cell 8 = .ok (.iload_n 1, 1) := by decide +kernel
theorem dX0_cell_9 : decode cX0_cell 9 = .ok (.aload_n 0, 1) := by decide +kernel
theorem dX0_cell_10 : decode cX0_cell 10 = .ok (.getfield 88, 3) := by decide +kernel
theorem dX0_cell_13 : decode cX0_cell 13 = .ok (.if_icmp .ge 26, 3) := by decide +kernel
theorem dX0_cell_16 : decode cX0_cell 16 = .ok (.iload_n 2, 1) := by decide +kernel
theorem dX0_cell_17 : decode cX0_cell 17 = .ok (.ifCond .lt 22, 3) := by decide +kernel
theorem dX0_cell_20 : decode cX0_cell 20 = .ok (.iload_n 2, 1) := by decide +kernel
theorem dX0_cell_21 : decode cX0_cell 21 = .ok (.aload_n 0, 1) := by decide +kernel
theorem dX0_cell_22 : decode cX0_cell 22 = .ok (.getfield 83, 3) := by decide +kernel
theorem dX0_cell_25 : decode cX0_cell 25 = .ok (.if_icmp .ge 14, 3) := by decide +kernel
theorem dX0_cell_28 : decode cX0_cell 28 = .ok (.aload_n 0, 1) := by decide +kernel
theorem dX0_cell_29 : decode cX0_cell 29 = .ok (.getfield 88, 3) := by decide +kernel
theorem dX0_cell_32 : decode cX0_cell 32 = .ok (.iload_n 2, 1) := by decide +kernel
theorem dX0_cell_33 : decode cX0_cell 33 = .ok (.imul, 1) := by decide +kernel
theorem dX0_cell_34 : decode cX0_cell 34 = .ok (.iload_n 1, 1) := by decide +kernel
theorem dX0_cell_35 : decode cX0_cell 35 = .ok (.iadd, 1) := by decide +kernel
theorem dX0_cell_36 : decode cX0_cell 36 = .ok (.goto 4, 3) := by decide +kernel
theorem dX0_cell_39 : decode cX0_cell 39 = .ok (.iconst (-1), 1) := by decide +kernel
theorem dX0_cell_40 : decode cX0_cell 40 = .ok (.ireturn, 1) := by decide +kernel
abbrev cX0_missing : ByteArray := prog_1_method_14_code
def yX0_missing : MethodName := ⟨RX0, "missing", "(III)Z"⟩
theorem dX0_missing_0 : decode cX0_missing 0 = .ok (.aload_n 0, 1) := by decide +kernel
theorem dX0_missing_1 : decode cX0_missing 1 = .ok (.getfield 25, 3) := by decide +kernel
theorem dX0_missing_4 : decode cX0_missing 4 = .ok (.iload_n 1, 1) := by decide +kernel
theorem dX0_missing_5 : decode cX0_missing 5 = .ok (.invokevirtual 79, 3) := by decide +kernel
theorem dX0_missing_8 : decode cX0_missing 8 = .ok (.astore 4, 2) := by decide +kernel
theorem dX0_missing_10 : decode cX0_missing 10 = .ok (.aload 4, 2) := by decide +kernel
theorem dX0_missing_12 : decode cX0_missing 12 = .ok (.iload_n 2, 1) := by decide +kernel
theorem dX0_missing_13 : decode cX0_missing 13 = .ok (.iload_n 3, 1) := by decide +kernel
theorem dX0_missing_14 : decode cX0_missing 14 = .ok (.invokestatic 99, 3) := by decide +kernel
theorem dX0_missing_17 : decode cX0_missing 17 = .ok (.istore 5, 2) := by decide +kernel
theorem dX0_missing_19 : decode cX0_missing 19 = .ok (.iload 5, 2) := by decide +kernel
theorem dX0_missing_21 : decode cX0_missing 21 = .ok (.ifCond .lt 17, 3) := by decide +kernel
theorem dX0_missing_24 : decode cX0_missing 24 = .ok (.aload 4, 2) := by decide +kernel
theorem dX0_missing_26 : decode cX0_missing 26 = .ok (.iload 5, 2) := by decide +kernel
theorem dX0_missing_28 : decode cX0_missing 28 = .ok (.invokevirtual 106, 3) := by decide +kernel
theorem dX0_missing_31 : decode cX0_missing 31 = .ok (.ifCond .eq 7, 3) := by decide +kernel
theorem dX0_missing_34 : decode cX0_missing 34 = .ok (.iconst 1, 1) := by decide +kernel
theorem dX0_missing_35 : decode cX0_missing 35 = .ok (.goto 4, 3) := by decide +kernel
theorem dX0_missing_38 : decode cX0_missing 38 = .ok (.iconst 0, 1) := by decide +kernel
theorem dX0_missing_39 : decode cX0_missing 39 = .ok (.ireturn, 1) := by decide +kernel
abbrev cX0_length : ByteArray := prog_1_method_15_code
def yX0_length : MethodName := ⟨RX0, "length", "(III)I"⟩
theorem dX0_length_0 : decode cX0_length 0 = .ok (.aload_n 0, 1) := by decide +kernel
theorem dX0_length_1 : decode cX0_length 1 = .ok (.getfield 25, 3) := by decide +kernel
theorem dX0_length_4 : decode cX0_length 4 = .ok (.iload_n 1, 1) := by decide +kernel
theorem dX0_length_5 : decode cX0_length 5 = .ok (.invokevirtual 79, 3) := by decide +kernel
theorem dX0_length_8 : decode cX0_length 8 = .ok (.astore 4, 2) := by decide +kernel
theorem dX0_length_10 : decode cX0_length 10 = .ok (.aload 4, 2) := by decide +kernel
theorem dX0_length_12 : decode cX0_length 12 = .ok (.ifnonnull 6, 3) := by decide +kernel
theorem dX0_length_15 : decode cX0_length 15 = .ok (.bipush (-14), 2) := by decide +kernel
theorem dX0_length_17 : decode cX0_length 17 = .ok (.ireturn, 1) := by decide +kernel
theorem dX0_length_18 : decode cX0_length 18 = .ok (.aload 4, 2) := by decide +kernel
theorem dX0_length_20 : decode cX0_length 20 = .ok (.iload_n 2, 1) := by decide +kernel
theorem dX0_length_21 : decode cX0_length 21 = .ok (.iload_n 3, 1) := by decide +kernel
theorem dX0_length_22 : decode cX0_length 22 = .ok (.invokestatic 99, 3) := by decide +kernel
theorem dX0_length_25 : decode cX0_length 25 = .ok (.istore 5, 2) := by decide +kernel
theorem dX0_length_27 : decode cX0_length 27 = .ok (.iload 5, 2) := by decide +kernel
theorem dX0_length_29 : decode cX0_length 29 = .ok (.ifCond .ge 8, 3) := by decide +kernel
theorem dX0_length_32 : decode cX0_length 32 = .ok (.bipush (-2), 2) := by decide +kernel
theorem dX0_length_34 : decode cX0_length 34 = .ok (.goto 10, 3) := by decide +kernel
theorem dX0_length_37 : decode cX0_length 37 = .ok (.aload 4, 2) := by decide +kernel
theorem dX0_length_39 : decode cX0_length 39 = .ok (.iload 5, 2) := by decide +kernel
theorem dX0_length_41 : decode cX0_length 41 = .ok (.invokevirtual 110, 3) := by decide +kernel
theorem dX0_length_44 : decode cX0_length 44 = .ok (.ireturn, 1) := by decide +kernel
abbrev cX0_at : ByteArray := prog_1_method_16_code
def yX0_at : MethodName := ⟨RX0, "at", "(IIII)I"⟩
theorem dX0_at_0 : decode cX0_at 0 = .ok (.aload_n 0, 1) := by decide +kernel
theorem dX0_at_1 : decode cX0_at 1 = .ok (.getfield 25, 3) := by decide +kernel
theorem dX0_at_4 : decode cX0_at 4 = .ok (.iload_n 1, 1) := by decide +kernel
theorem dX0_at_5 : decode cX0_at 5 = .ok (.invokevirtual 79, 3) := by decide +kernel
theorem dX0_at_8 : decode cX0_at 8 = .ok (.astore 5, 2) := by decide +kernel
theorem dX0_at_10 : decode cX0_at 10 = .ok (.aload 5, 2) := by decide +kernel
theorem dX0_at_12 : decode cX0_at 12 = .ok (.iload_n 2, 1) := by decide +kernel
theorem dX0_at_13 : decode cX0_at 13 = .ok (.iload_n 3, 1) := by decide +kernel
theorem dX0_at_14 : decode cX0_at 14 = .ok (.invokestatic 99, 3) := by decide +kernel
theorem dX0_at_17 : decode cX0_at 17 = .ok (.istore 6, 2) := by decide +kernel
theorem dX0_at_19 : decode cX0_at 19 = .ok (.iload 6, 2) := by decide +kernel
theorem dX0_at_21 : decode cX0_at 21 = .ok (.ifCond .lt 42, 3) := by decide +kernel
theorem dX0_at_24 : decode cX0_at 24 = .ok (.iload 4, 2) := by decide +kernel
theorem dX0_at_26 : decode cX0_at 26 = .ok (.ifCond .lt 37, 3) := by decide +kernel
theorem dX0_at_29 : decode cX0_at 29 = .ok (.iload 4, 2) := by decide +kernel
theorem dX0_at_31 : decode cX0_at 31 = .ok (.aload 5, 2) := by decide +kernel
theorem dX0_at_33 : decode cX0_at 33 = .ok (.iload 6, 2) := by decide +kernel
theorem dX0_at_35 : decode cX0_at 35 = .ok (.invokevirtual 110, 3) := by decide +kernel
theorem dX0_at_38 : decode cX0_at 38 = .ok (.if_icmp .ge 25, 3) := by decide +kernel
theorem dX0_at_41 : decode cX0_at 41 = .ok (.aload_n 0, 1) := by decide +kernel
theorem dX0_at_42 : decode cX0_at 42 = .ok (.getfield 25, 3) := by decide +kernel
theorem dX0_at_45 : decode cX0_at 45 = .ok (.invokevirtual 114, 3) := by decide +kernel
theorem dX0_at_48 : decode cX0_at 48 = .ok (.aload 5, 2) := by decide +kernel
theorem dX0_at_50 : decode cX0_at 50 = .ok (.getfield 118, 3) := by decide +kernel
theorem dX0_at_53 : decode cX0_at 53 = .ok (.iload 6, 2) := by decide +kernel
theorem dX0_at_55 : decode cX0_at 55 = .ok (.iaload, 1) := by decide +kernel
theorem dX0_at_56 : decode cX0_at 56 = .ok (.iload 4, 2) := by decide +kernel
theorem dX0_at_58 : decode cX0_at 58 = .ok (.iadd, 1) := by decide +kernel
theorem dX0_at_59 : decode cX0_at 59 = .ok (.baload, 1) := by decide +kernel
theorem dX0_at_60 : decode cX0_at 60 = .ok (.goto 4, 3) := by decide +kernel
theorem dX0_at_63 : decode cX0_at 63 = .ok (.iconst (-1), 1) := by decide +kernel
theorem dX0_at_64 : decode cX0_at 64 = .ok (.ireturn, 1) := by decide +kernel
abbrev cX0_row : ByteArray := prog_1_method_17_code
def yX0_row : MethodName := ⟨RX0, "row", "(I)I"⟩
theorem dX0_row_0 : decode cX0_row 0 = .ok (.iload_n 1, 1) := by decide +kernel
theorem dX0_row_1 : decode cX0_row 1 = .ok (.ifCond .lt 13, 3) := by decide +kernel
theorem dX0_row_4 : decode cX0_row 4 = .ok (.aload_n 0, 1) := by decide +kernel
theorem dX0_row_5 : decode cX0_row 5 = .ok (.getfield 52, 3) := by decide +kernel
theorem dX0_row_8 : decode cX0_row 8 = .ok (.sipush 499, 3) := by decide +kernel
theorem dX0_row_11 : decode cX0_row 11 = .ok (.if_icmp .ne 5, 3) := by decide +kernel
theorem dX0_row_14 : decode cX0_row 14 = .ok (.iconst (-1), 1) := by decide +kernel
theorem dX0_row_15 : decode cX0_row 15 = .ok (.ireturn, 1) := by decide +kernel
theorem dX0_row_16 : decode cX0_row 16 = .ok (.aload_n 0, 1) := by decide +kernel
theorem dX0_row_17 : decode cX0_row 17 = .ok (.getfield 33, 3) := by decide +kernel
theorem dX0_row_20 : decode cX0_row 20 = .ok (.aload_n 0, 1) := by decide +kernel
theorem dX0_row_21 : decode cX0_row 21 = .ok (.getfield 52, 3) := by decide +kernel
theorem dX0_row_24 : decode cX0_row 24 = .ok (.iload_n 1, 1) := by decide +kernel
theorem dX0_row_25 : decode cX0_row 25 = .ok (.i2l, 1) := by decide +kernel
theorem dX0_row_26 : decode cX0_row 26 = .ok (.lastore, 1) := by decide +kernel
theorem dX0_row_27 : decode cX0_row 27 = .ok (.aload_n 0, 1) := by decide +kernel
theorem dX0_row_28 : decode cX0_row 28 = .ok (.dup, 1) := by decide +kernel
theorem dX0_row_29 : decode cX0_row 29 = .ok (.getfield 52, 3) := by decide +kernel
theorem dX0_row_32 : decode cX0_row 32 = .ok (.iconst 1, 1) := by decide +kernel
theorem dX0_row_33 : decode cX0_row 33 = .ok (.iadd, 1) := by decide +kernel
theorem dX0_row_34 : decode cX0_row 34 = .ok (.putfield 52, 3) := by decide +kernel
theorem dX0_row_37 : decode cX0_row 37 = .ok (.aload_n 0, 1) := by decide +kernel
theorem dX0_row_38 : decode cX0_row 38 = .ok (.getfield 52, 3) := by decide +kernel
theorem dX0_row_41 : decode cX0_row 41 = .ok (.ireturn, 1) := by decide +kernel
abbrev cX0_pick : ByteArray := prog_1_method_18_code
def yX0_pick : MethodName := ⟨RX0, "pick", "(I)I"⟩
theorem dX0_pick_0 : decode cX0_pick 0 = .ok (.aload_n 0, 1) := by decide +kernel
theorem dX0_pick_1 : decode cX0_pick 1 = .ok (.getfield 52, 3) := by decide +kernel
theorem dX0_pick_4 : decode cX0_pick 4 = .ok (.istore_n 2, 1) := by decide +kernel
theorem dX0_pick_5 : decode cX0_pick 5 = .ok (.aload_n 0, 1) := by decide +kernel
theorem dX0_pick_6 : decode cX0_pick 6 = .ok (.iconst 0, 1) := by decide +kernel
theorem dX0_pick_7 : decode cX0_pick 7 = .ok (.putfield 52, 3) := by decide +kernel
theorem dX0_pick_10 : decode cX0_pick 10 = .ok (.aload_n 0, 1) := by decide +kernel
theorem dX0_pick_11 : decode cX0_pick 11 = .ok (.getfield 25, 3) := by decide +kernel
theorem dX0_pick_14 : decode cX0_pick 14 = .ok (.iload_n 1, 1) := by decide +kernel
theorem dX0_pick_15 : decode cX0_pick 15 = .ok (.invokevirtual 79, 3) := by decide +kernel
theorem dX0_pick_18 : decode cX0_pick 18 = .ok (.astore_n 3, 1) := by decide +kernel
theorem dX0_pick_19 : decode cX0_pick 19 = .ok (.aload_n 3, 1) := by decide +kernel
theorem dX0_pick_20 : decode cX0_pick 20 = .ok (.ifnonnull 6, 3) := by decide +kernel
theorem dX0_pick_23 : decode cX0_pick 23 = .ok (.bipush (-14), 2) := by decide +kernel
theorem dX0_pick_25 : decode cX0_pick 25 = .ok (.ireturn, 1) := by decide +kernel
theorem dX0_pick_26 : decode cX0_pick 26 = .ok (.iconst 0, 1) := by decide +kernel
theorem dX0_pick_27 : decode cX0_pick 27 = .ok (.istore 4, 2) := by decide +kernel
theorem dX0_pick_29 : decode cX0_pick 29 = .ok (.iload 4, 2) := by decide +kernel
theorem dX0_pick_31 : decode cX0_pick 31 = .ok (.iload_n 2, 1) := by decide +kernel
theorem dX0_pick_32 : decode cX0_pick 32 = .ok (.if_icmp .ge 28, 3) := by decide +kernel
theorem dX0_pick_35 : decode cX0_pick 35 = .ok (.aload_n 0, 1) := by decide +kernel
theorem dX0_pick_36 : decode cX0_pick 36 = .ok (.getfield 33, 3) := by decide +kernel
theorem dX0_pick_39 : decode cX0_pick 39 = .ok (.iload 4, 2) := by decide +kernel
theorem dX0_pick_41 : decode cX0_pick 41 = .ok (.laload, 1) := by decide +kernel
theorem dX0_pick_42 : decode cX0_pick 42 = .ok (.aload_n 3, 1) := by decide +kernel
theorem dX0_pick_43 : decode cX0_pick 43 = .ok (.getfield 83, 3) := by decide +kernel
theorem dX0_pick_46 : decode cX0_pick 46 = .ok (.i2l, 1) := by decide +kernel
theorem dX0_pick_47 : decode cX0_pick 47 = .ok (.lcmp, 1) := by decide +kernel
theorem dX0_pick_48 : decode cX0_pick 48 = .ok (.ifCond .lt 6, 3) := by decide +kernel
theorem dX0_pick_51 : decode cX0_pick 51 = .ok (.bipush (-2), 2) := by decide +kernel
theorem dX0_pick_53 : decode cX0_pick 53 = .ok (.ireturn, 1) := by decide +kernel
theorem dX0_pick_54 : decode cX0_pick 54 = .ok (.iinc 4 1, 3) := by decide +kernel
theorem dX0_pick_57 : decode cX0_pick 57 = .ok (.goto (-28), 3) := by decide +kernel
theorem dX0_pick_60 : decode cX0_pick 60 = .ok (.aload_n 0, 1) := by decide +kernel
theorem dX0_pick_61 : decode cX0_pick 61 = .ok (.getfield 25, 3) := by decide +kernel
theorem dX0_pick_64 : decode cX0_pick 64 = .ok (.aload_n 3, 1) := by decide +kernel
theorem dX0_pick_65 : decode cX0_pick 65 = .ok (.aload_n 0, 1) := by decide +kernel
theorem dX0_pick_66 : decode cX0_pick 66 = .ok (.getfield 33, 3) := by decide +kernel
theorem dX0_pick_69 : decode cX0_pick 69 = .ok (.iload_n 2, 1) := by decide +kernel
theorem dX0_pick_70 : decode cX0_pick 70 = .ok (.invokevirtual 121, 3) := by decide +kernel
theorem dX0_pick_73 : decode cX0_pick 73 = .ok (.ireturn, 1) := by decide +kernel
theorem dX0_pick_74 : decode cX0_pick 74 = .ok (.astore 4, 2) := by decide +kernel
theorem dX0_pick_76 : decode cX0_pick 76 = .ok (.aload_n 0, 1) := by decide +kernel
theorem dX0_pick_77 : decode cX0_pick 77 = .ok (.getfield 16, 3) := by decide +kernel
theorem dX0_pick_80 : decode cX0_pick 80 = .ok (.getfield 76, 3) := by decide +kernel
theorem dX0_pick_83 : decode cX0_pick 83 = .ok (.ineg, 1) := by decide +kernel
theorem dX0_pick_84 : decode cX0_pick 84 = .ok (.ireturn, 1) := by decide +kernel
abbrev cX0_write : ByteArray := prog_1_method_19_code
def yX0_write : MethodName := ⟨RX0, "write", "(I)I"⟩
theorem dX0_write_0 : decode cX0_write 0 = .ok (.aload_n 0, 1) := by decide +kernel
theorem dX0_write_1 : decode cX0_write 1 = .ok (.getfield 25, 3) := by decide +kernel
theorem dX0_write_4 : decode cX0_write 4 = .ok (.iload_n 1, 1) := by decide +kernel
theorem dX0_write_5 : decode cX0_write 5 = .ok (.invokevirtual 79, 3) := by decide +kernel
theorem dX0_write_8 : decode cX0_write 8 = .ok (.astore_n 2, 1) := by decide +kernel
theorem dX0_write_9 : decode cX0_write 9 = .ok (.aload_n 2, 1) := by decide +kernel
theorem dX0_write_10 : decode cX0_write 10 = .ok (.ifnonnull 6, 3) := by decide +kernel
theorem dX0_write_13 : decode cX0_write 13 = .ok (.bipush (-14), 2) := by decide +kernel
theorem dX0_write_15 : decode cX0_write 15 = .ok (.ireturn, 1) := by decide +kernel
theorem dX0_write_16 : decode cX0_write 16 = .ok (.aload_n 0, 1) := by decide +kernel
theorem dX0_write_17 : decode cX0_write 17 = .ok (.getfield 49, 3) := by decide +kernel
theorem dX0_write_20 : decode cX0_write 20 = .ok (.iconst 0, 1) := by decide +kernel
theorem dX0_write_21 : decode cX0_write 21 = .ok (.putfield 125, 3) := by decide +kernel
theorem dX0_write_24 : decode cX0_write 24 = .ok (.aload_n 0, 1) := by decide +kernel
theorem dX0_write_25 : decode cX0_write 25 = .ok (.getfield 25, 3) := by decide +kernel
theorem dX0_write_28 : decode cX0_write 28 = .ok (.aload_n 2, 1) := by decide +kernel
theorem dX0_write_29 : decode cX0_write 29 = .ok (.aload_n 0, 1) := by decide +kernel
theorem dX0_write_30 : decode cX0_write 30 = .ok (.getfield 49, 3) := by decide +kernel
theorem dX0_write_33 : decode cX0_write 33 = .ok (.invokevirtual 128, 3) := by decide +kernel
theorem dX0_write_36 : decode cX0_write 36 = .ok (.ifCond .ne 6, 3) := by decide +kernel
theorem dX0_write_39 : decode cX0_write 39 = .ok (.bipush (-12), 2) := by decide +kernel
theorem dX0_write_41 : decode cX0_write 41 = .ok (.ireturn, 1) := by decide +kernel
theorem dX0_write_42 : decode cX0_write 42 = .ok (.aload_n 0, 1) := by decide +kernel
theorem dX0_write_43 : decode cX0_write 43 = .ok (.getfield 45, 3) := by decide +kernel
theorem dX0_write_46 : decode cX0_write 46 = .ok (.astore_n 3, 1) := by decide +kernel
theorem dX0_write_47 : decode cX0_write 47 = .ok (.aload_n 0, 1) := by decide +kernel
theorem dX0_write_48 : decode cX0_write 48 = .ok (.aload_n 0, 1) := by decide +kernel
theorem dX0_write_49 : decode cX0_write 49 = .ok (.getfield 49, 3) := by decide +kernel
theorem dX0_write_52 : decode cX0_write 52 = .ok (.putfield 45, 3) := by decide +kernel
theorem dX0_write_55 : decode cX0_write 55 = .ok (.aload_n 0, 1) := by decide +kernel
theorem dX0_write_56 : decode cX0_write 56 = .ok (.aload_n 3, 1) := by decide +kernel
theorem dX0_write_57 : decode cX0_write 57 = .ok (.putfield 49, 3) := by decide +kernel
theorem dX0_write_60 : decode cX0_write 60 = .ok (.aload_n 0, 1) := by decide +kernel
theorem dX0_write_61 : decode cX0_write 61 = .ok (.getfield 45, 3) := by decide +kernel
theorem dX0_write_64 : decode cX0_write 64 = .ok (.getfield 125, 3) := by decide +kernel
theorem dX0_write_67 : decode cX0_write 67 = .ok (.ireturn, 1) := by decide +kernel
abbrev cX0_out : ByteArray := prog_1_method_20_code
def yX0_out : MethodName := ⟨RX0, "out", "(I)I"⟩
theorem dX0_out_0 : decode cX0_out 0 = .ok (.iload_n 1, 1) := by decide +kernel
theorem dX0_out_1 : decode cX0_out 1 = .ok (.ifCond .lt 30, 3) := by decide +kernel
theorem dX0_out_4 : decode cX0_out 4 = .ok (.iload_n 1, 1) := by decide +kernel
theorem dX0_out_5 : decode cX0_out 5 = .ok (.aload_n 0, 1) := by decide +kernel
theorem dX0_out_6 : decode cX0_out 6 = .ok (.getfield 45, 3) := by decide +kernel
theorem dX0_out_9 : decode cX0_out 9 = .ok (.getfield 125, 3) := by decide +kernel
theorem dX0_out_12 : decode cX0_out 12 = .ok (.if_icmp .ge 19, 3) := by decide +kernel
theorem dX0_out_15 : decode cX0_out 15 = .ok (.aload_n 0, 1) := by decide +kernel
theorem dX0_out_16 : decode cX0_out 16 = .ok (.getfield 45, 3) := by decide +kernel
theorem dX0_out_19 : decode cX0_out 19 = .ok (.getfield 132, 3) := by decide +kernel
theorem dX0_out_22 : decode cX0_out 22 = .ok (.iload_n 1, 1) := by decide +kernel
theorem dX0_out_23 : decode cX0_out 23 = .ok (.baload, 1) := by decide +kernel
theorem dX0_out_24 : decode cX0_out 24 = .ok (.sipush 255, 3) := by decide +kernel
theorem dX0_out_27 : decode cX0_out 27 = .ok (.iand, 1) := by decide +kernel
theorem dX0_out_28 : decode cX0_out 28 = .ok (.goto 4, 3) := by decide +kernel
theorem dX0_out_31 : decode cX0_out 31 = .ok (.iconst (-1), 1) := by decide +kernel
theorem dX0_out_32 : decode cX0_out 32 = .ok (.ireturn, 1) := by decide +kernel
theorem q44 : (Jvm.Cond.initialized "CommaTables") ∈ lw_all := lw_g (lw_at lw_m1 1 rfl) rfl
theorem q82 : (Jvm.Cond.instantiable "CommaTables" (11 : Nat)) ∈ lw_all := lw_g (lw_at lw_m1 39 rfl) rfl
theorem q84 : (Jvm.Cond.instanceMethod ({ cls := "CommaTables", name := "<init>", desc := "()V" } : Jvm.MethodName)) ∈ lw_all := lw_g (lw_at lw_m1 41 rfl) rfl
theorem q85 : (Jvm.Cond.code ({ cls := "CommaTables", name := "<init>", desc := "()V" } : Jvm.MethodName) prog_1_method_1_code (1 : Nat) (Option.none : Option Jvm.ClassFile.FieldType)) ∈ lw_all := lw_g (lw_at lw_m1 42 rfl) rfl
theorem q86 : (Jvm.Cond.methodLink "CommaTables" (1 : Nat) ({ cls := "java/lang/Object", name := "<init>", desc := "()V" } : Jvm.MethodName)) ∈ lw_all := lw_g (lw_at lw_m1 43 rfl) rfl
theorem q89 : (Jvm.Cond.classLink "CommaTables" (13 : Nat) "CommaTables$Stop") ∈ lw_all := lw_g (lw_at lw_m1 46 rfl) rfl
theorem q91 : (Jvm.Cond.methodLinkNest "CommaTables" (15 : Nat) ({ cls := "CommaTables$Stop", name := "<init>", desc := "()V" } : Jvm.MethodName) "CommaTables") ∈ lw_tbl := lw_at lw_m1 48 rfl
theorem q159 : (Jvm.Cond.fieldLink "CommaTables" (76 : Nat) "CommaTables$Stop" "code" "I") ∈ lw_all := lw_g (lw_at lw_m1 116 rfl) rfl
theorem q161 : (Jvm.Cond.fieldLink "CommaTables" (75 : Nat) "CommaTables$Stop" "place" "I") ∈ lw_all := lw_g (lw_at lw_m1 118 rfl) rfl
theorem q169 : (Jvm.Cond.classLink "CommaTables" (20 : Nat) "CommaTables$Tables") ∈ lw_all := lw_g (lw_at lw_m1 126 rfl) rfl
theorem q171 : (Jvm.Cond.methodLink "CommaTables" (22 : Nat) ({ cls := "CommaTables$Tables", name := "<init>", desc := "(LCommaTables$Stop;)V" } : Jvm.MethodName)) ∈ lw_all := lw_g (lw_at lw_m1 128 rfl) rfl
theorem q262 : (Jvm.Cond.classLink "CommaTables" (40 : Nat) "CommaTables$Out") ∈ lw_all := lw_g (lw_at lw_m1 219 rfl) rfl
theorem q264 : (Jvm.Cond.methodLink "CommaTables" (42 : Nat) ({ cls := "CommaTables$Out", name := "<init>", desc := "(I)V" } : Jvm.MethodName)) ∈ lw_all := lw_g (lw_at lw_m1 221 rfl) rfl
theorem q269 : (Jvm.Cond.fieldLink "CommaTables" (132 : Nat) "CommaTables$Out" "bytes" "[B") ∈ lw_all := lw_g (lw_at lw_m1 226 rfl) rfl
theorem q271 : (Jvm.Cond.fieldLink "CommaTables" (125 : Nat) "CommaTables$Out" "size" "I") ∈ lw_all := lw_g (lw_at lw_m1 228 rfl) rfl
theorem q277 : (Jvm.Cond.fieldLink "CommaTables" (9 : Nat) "CommaTables" "tray" "[B") ∈ lw_all := lw_g (lw_at lw_m1 234 rfl) rfl
theorem q278 : (Jvm.Cond.fieldLink "CommaTables" (55 : Nat) "CommaTables" "trayed" "I") ∈ lw_all := lw_g (lw_at lw_m1 235 rfl) rfl
theorem q279 : (Jvm.Cond.fieldLink "CommaTables" (58 : Nat) "CommaTables" "fed" "I") ∈ lw_all := lw_g (lw_at lw_m1 236 rfl) rfl
theorem q280 : (Jvm.Cond.fieldLink "CommaTables" (16 : Nat) "CommaTables" "stop" "LCommaTables$Stop;") ∈ lw_all := lw_g (lw_at lw_m1 237 rfl) rfl
theorem q281 : (Jvm.Cond.fieldLink "CommaTables" (25 : Nat) "CommaTables" "tables" "LCommaTables$Tables;") ∈ lw_all := lw_g (lw_at lw_m1 238 rfl) rfl
theorem q282 : (Jvm.Cond.fieldLink "CommaTables" (29 : Nat) "CommaTables" "place" "I") ∈ lw_all := lw_g (lw_at lw_m1 239 rfl) rfl
theorem q283 : (Jvm.Cond.fieldLink "CommaTables" (33 : Nat) "CommaTables" "picked" "[J") ∈ lw_all := lw_g (lw_at lw_m2 0 rfl) rfl
theorem q284 : (Jvm.Cond.fieldLink "CommaTables" (52 : Nat) "CommaTables" "pickedCount" "I") ∈ lw_all := lw_g (lw_at lw_m2 1 rfl) rfl
theorem q285 : (Jvm.Cond.fieldLink "CommaTables" (37 : Nat) "CommaTables" "column" "[J") ∈ lw_all := lw_g (lw_at lw_m2 2 rfl) rfl
theorem q286 : (Jvm.Cond.fieldLink "CommaTables" (45 : Nat) "CommaTables" "out" "LCommaTables$Out;") ∈ lw_all := lw_g (lw_at lw_m2 3 rfl) rfl
theorem q287 : (Jvm.Cond.fieldLink "CommaTables" (49 : Nat) "CommaTables" "draft" "LCommaTables$Out;") ∈ lw_all := lw_g (lw_at lw_m2 4 rfl) rfl
theorem q288 : (Jvm.Cond.laysFinal "CommaTables" "CommaTables" "tray" "[B") ∈ lw_all := lw_g (lw_at lw_m2 5 rfl) rfl
theorem q289 : (Jvm.Cond.soleField "CommaTables" "tray") ∈ lw_all := lw_g (lw_at lw_m2 6 rfl) rfl
theorem q290 : (Jvm.Cond.lays "CommaTables" "CommaTables" "trayed" "I") ∈ lw_all := lw_g (lw_at lw_m2 7 rfl) rfl
theorem q291 : (Jvm.Cond.soleField "CommaTables" "trayed") ∈ lw_all := lw_g (lw_at lw_m2 8 rfl) rfl
theorem q292 : (Jvm.Cond.lays "CommaTables" "CommaTables" "fed" "I") ∈ lw_all := lw_g (lw_at lw_m2 9 rfl) rfl
theorem q293 : (Jvm.Cond.soleField "CommaTables" "fed") ∈ lw_all := lw_g (lw_at lw_m2 10 rfl) rfl
theorem q294 : (Jvm.Cond.laysFinal "CommaTables" "CommaTables" "stop" "LCommaTables$Stop;") ∈ lw_all := lw_g (lw_at lw_m2 11 rfl) rfl
theorem q295 : (Jvm.Cond.soleField "CommaTables" "stop") ∈ lw_all := lw_g (lw_at lw_m2 12 rfl) rfl
theorem q296 : (Jvm.Cond.laysFinal "CommaTables" "CommaTables" "tables" "LCommaTables$Tables;") ∈ lw_all := lw_g (lw_at lw_m2 13 rfl) rfl
theorem q297 : (Jvm.Cond.soleField "CommaTables" "tables") ∈ lw_all := lw_g (lw_at lw_m2 14 rfl) rfl
theorem q298 : (Jvm.Cond.lays "CommaTables" "CommaTables" "place" "I") ∈ lw_all := lw_g (lw_at lw_m2 15 rfl) rfl
theorem q299 : (Jvm.Cond.soleField "CommaTables" "place") ∈ lw_all := lw_g (lw_at lw_m2 16 rfl) rfl
theorem q300 : (Jvm.Cond.laysFinal "CommaTables" "CommaTables" "picked" "[J") ∈ lw_all := lw_g (lw_at lw_m2 17 rfl) rfl
theorem q301 : (Jvm.Cond.soleField "CommaTables" "picked") ∈ lw_all := lw_g (lw_at lw_m2 18 rfl) rfl
theorem q302 : (Jvm.Cond.lays "CommaTables" "CommaTables" "pickedCount" "I") ∈ lw_all := lw_g (lw_at lw_m2 19 rfl) rfl
theorem q303 : (Jvm.Cond.soleField "CommaTables" "pickedCount") ∈ lw_all := lw_g (lw_at lw_m2 20 rfl) rfl
theorem q304 : (Jvm.Cond.laysFinal "CommaTables" "CommaTables" "column" "[J") ∈ lw_all := lw_g (lw_at lw_m2 21 rfl) rfl
theorem q305 : (Jvm.Cond.soleField "CommaTables" "column") ∈ lw_all := lw_g (lw_at lw_m2 22 rfl) rfl
theorem q306 : (Jvm.Cond.lays "CommaTables" "CommaTables" "out" "LCommaTables$Out;") ∈ lw_all := lw_g (lw_at lw_m2 23 rfl) rfl
theorem q307 : (Jvm.Cond.soleField "CommaTables" "out") ∈ lw_all := lw_g (lw_at lw_m2 24 rfl) rfl
theorem q308 : (Jvm.Cond.lays "CommaTables" "CommaTables" "draft" "LCommaTables$Out;") ∈ lw_all := lw_g (lw_at lw_m2 25 rfl) rfl
theorem q309 : (Jvm.Cond.soleField "CommaTables" "draft") ∈ lw_all := lw_g (lw_at lw_m2 26 rfl) rfl
theorem q310 : (Jvm.Cond.superclass "CommaTables" "java/lang/Object") ∈ lw_all := lw_g (lw_at lw_m2 27 rfl) rfl
theorem q312 : (Jvm.Cond.instanceMethod ({ cls := "CommaTables", name := "feed", desc := "(IIIII)I" } : Jvm.MethodName)) ∈ lw_all := lw_g (lw_at lw_m2 29 rfl) rfl
theorem q313 : (Jvm.Cond.selects "CommaTables" ({ cls := "CommaTables", name := "feed", desc := "(IIIII)I" } : Jvm.MethodName) ({ cls := "CommaTables", name := "feed", desc := "(IIIII)I" } : Jvm.MethodName)) ∈ lw_all := lw_g (lw_at lw_m2 30 rfl) rfl
theorem q314 : (Jvm.Cond.code ({ cls := "CommaTables", name := "feed", desc := "(IIIII)I" } : Jvm.MethodName) prog_1_method_2_code (6 : Nat) (Option.some Jvm.ClassFile.FieldType.int)) ∈ lw_all := lw_g (lw_at lw_m2 31 rfl) rfl
theorem q315 : (Jvm.Cond.constant "CommaTables" (61 : Nat) (65536 : Int32)) ∈ lw_all := lw_g (lw_at lw_m2 32 rfl) rfl
theorem q316 : (Jvm.Cond.methodLink "CommaTables" (62 : Nat) ({ cls := "CommaTables", name := "four", desc := "(I)V" } : Jvm.MethodName)) ∈ lw_all := lw_g (lw_at lw_m2 33 rfl) rfl
theorem q317 : (Jvm.Cond.privateMethod ({ cls := "CommaTables", name := "four", desc := "(I)V" } : Jvm.MethodName)) ∈ lw_tbl := lw_at lw_m2 34 rfl
theorem q318 : (Jvm.Cond.instanceMethod ({ cls := "CommaTables", name := "four", desc := "(I)V" } : Jvm.MethodName)) ∈ lw_all := lw_g (lw_at lw_m2 35 rfl) rfl
theorem q319 : (Jvm.Cond.code ({ cls := "CommaTables", name := "four", desc := "(I)V" } : Jvm.MethodName) prog_1_method_3_code (3 : Nat) (Option.none : Option Jvm.ClassFile.FieldType)) ∈ lw_all := lw_g (lw_at lw_m2 36 rfl) rfl
theorem q321 : (Jvm.Cond.instanceMethod ({ cls := "CommaTables", name := "end", desc := "(I)I" } : Jvm.MethodName)) ∈ lw_all := lw_g (lw_at lw_m2 38 rfl) rfl
theorem q322 : (Jvm.Cond.selects "CommaTables" ({ cls := "CommaTables", name := "end", desc := "(I)I" } : Jvm.MethodName) ({ cls := "CommaTables", name := "end", desc := "(I)I" } : Jvm.MethodName)) ∈ lw_all := lw_g (lw_at lw_m2 39 rfl) rfl
theorem q323 : (Jvm.Cond.code ({ cls := "CommaTables", name := "end", desc := "(I)I" } : Jvm.MethodName) prog_1_method_4_code (2 : Nat) (Option.some Jvm.ClassFile.FieldType.int)) ∈ lw_all := lw_g (lw_at lw_m2 40 rfl) rfl
theorem q325 : (Jvm.Cond.instanceMethod ({ cls := "CommaTables", name := "read", desc := "()I" } : Jvm.MethodName)) ∈ lw_all := lw_g (lw_at lw_m2 42 rfl) rfl
theorem q326 : (Jvm.Cond.selects "CommaTables" ({ cls := "CommaTables", name := "read", desc := "()I" } : Jvm.MethodName) ({ cls := "CommaTables", name := "read", desc := "()I" } : Jvm.MethodName)) ∈ lw_all := lw_g (lw_at lw_m2 43 rfl) rfl
theorem q327 : (Jvm.Cond.codeWith ({ cls := "CommaTables", name := "read", desc := "()I" } : Jvm.MethodName) prog_1_method_6_code (3 : Nat) (Option.some Jvm.ClassFile.FieldType.int) [((10 : Nat), (22 : Nat), (23 : Nat), (73 : Nat))]) ∈ lw_all := lw_g (lw_at lw_m2 44 rfl) rfl
theorem q328 : (Jvm.Cond.classLink "CommaTables" (73 : Nat) "java/lang/IllegalStateException") ∈ lw_all := lw_g (lw_at lw_m2 45 rfl) rfl
theorem q329 : (Jvm.Cond.methodLink "CommaTables" (65 : Nat) ({ cls := "CommaTables", name := "used", desc := "()I" } : Jvm.MethodName)) ∈ lw_all := lw_g (lw_at lw_m2 46 rfl) rfl
theorem q330 : (Jvm.Cond.privateMethod ({ cls := "CommaTables", name := "used", desc := "()I" } : Jvm.MethodName)) ∈ lw_tbl := lw_at lw_m2 47 rfl
theorem q331 : (Jvm.Cond.instanceMethod ({ cls := "CommaTables", name := "used", desc := "()I" } : Jvm.MethodName)) ∈ lw_all := lw_g (lw_at lw_m2 48 rfl) rfl
theorem q332 : (Jvm.Cond.code ({ cls := "CommaTables", name := "used", desc := "()I" } : Jvm.MethodName) prog_1_method_5_code (2 : Nat) (Option.some Jvm.ClassFile.FieldType.int)) ∈ lw_all := lw_g (lw_at lw_m2 49 rfl) rfl
theorem q333 : (Jvm.Cond.methodLink "CommaTables" (69 : Nat) ({ cls := "CommaTables$Tables", name := "read", desc := "([BI)I" } : Jvm.MethodName)) ∈ lw_all := lw_g (lw_at lw_m2 50 rfl) rfl
theorem q392 : (Jvm.Cond.fieldLink "CommaTables" (88 : Nat) "CommaTables$Table" "columns" "I") ∈ lw_all := lw_g (lw_at lw_m2 109 rfl) rfl
theorem q395 : (Jvm.Cond.fieldLink "CommaTables" (83 : Nat) "CommaTables$Table" "rows" "I") ∈ lw_all := lw_g (lw_at lw_m2 112 rfl) rfl
theorem q403 : (Jvm.Cond.fieldLink "CommaTables" (118 : Nat) "CommaTables$Table" "cells" "[I") ∈ lw_all := lw_g (lw_at lw_m2 120 rfl) rfl
theorem q407 : (Jvm.Cond.fieldLink "CommaTables" (95 : Nat) "CommaTables$Table" "lanes" "[I") ∈ lw_all := lw_g (lw_at lw_m2 124 rfl) rfl
theorem q527 : (Jvm.Cond.instanceMethod ({ cls := "CommaTables", name := "place", desc := "()I" } : Jvm.MethodName)) ∈ lw_all := lw_g (lw_at lw_m3 4 rfl) rfl
theorem q528 : (Jvm.Cond.selects "CommaTables" ({ cls := "CommaTables", name := "place", desc := "()I" } : Jvm.MethodName) ({ cls := "CommaTables", name := "place", desc := "()I" } : Jvm.MethodName)) ∈ lw_all := lw_g (lw_at lw_m3 5 rfl) rfl
theorem q529 : (Jvm.Cond.code ({ cls := "CommaTables", name := "place", desc := "()I" } : Jvm.MethodName) prog_1_method_7_code (1 : Nat) (Option.some Jvm.ClassFile.FieldType.int)) ∈ lw_all := lw_g (lw_at lw_m3 6 rfl) rfl
theorem q531 : (Jvm.Cond.instanceMethod ({ cls := "CommaTables", name := "rows", desc := "(I)I" } : Jvm.MethodName)) ∈ lw_all := lw_g (lw_at lw_m3 8 rfl) rfl
theorem q532 : (Jvm.Cond.selects "CommaTables" ({ cls := "CommaTables", name := "rows", desc := "(I)I" } : Jvm.MethodName) ({ cls := "CommaTables", name := "rows", desc := "(I)I" } : Jvm.MethodName)) ∈ lw_all := lw_g (lw_at lw_m3 9 rfl) rfl
theorem q533 : (Jvm.Cond.code ({ cls := "CommaTables", name := "rows", desc := "(I)I" } : Jvm.MethodName) prog_1_method_8_code (3 : Nat) (Option.some Jvm.ClassFile.FieldType.int)) ∈ lw_all := lw_g (lw_at lw_m3 10 rfl) rfl
theorem q534 : (Jvm.Cond.methodLink "CommaTables" (79 : Nat) ({ cls := "CommaTables$Tables", name := "find", desc := "(I)LCommaTables$Table;" } : Jvm.MethodName)) ∈ lw_all := lw_g (lw_at lw_m3 11 rfl) rfl
theorem q539 : (Jvm.Cond.instanceMethod ({ cls := "CommaTables", name := "columns", desc := "(I)I" } : Jvm.MethodName)) ∈ lw_all := lw_g (lw_at lw_m3 16 rfl) rfl
theorem q540 : (Jvm.Cond.selects "CommaTables" ({ cls := "CommaTables", name := "columns", desc := "(I)I" } : Jvm.MethodName) ({ cls := "CommaTables", name := "columns", desc := "(I)I" } : Jvm.MethodName)) ∈ lw_all := lw_g (lw_at lw_m3 17 rfl) rfl
theorem q541 : (Jvm.Cond.code ({ cls := "CommaTables", name := "columns", desc := "(I)I" } : Jvm.MethodName) prog_1_method_9_code (3 : Nat) (Option.some Jvm.ClassFile.FieldType.int)) ∈ lw_all := lw_g (lw_at lw_m3 18 rfl) rfl
theorem q543 : (Jvm.Cond.instanceMethod ({ cls := "CommaTables", name := "named", desc := "(I)I" } : Jvm.MethodName)) ∈ lw_all := lw_g (lw_at lw_m3 20 rfl) rfl
theorem q544 : (Jvm.Cond.selects "CommaTables" ({ cls := "CommaTables", name := "named", desc := "(I)I" } : Jvm.MethodName) ({ cls := "CommaTables", name := "named", desc := "(I)I" } : Jvm.MethodName)) ∈ lw_all := lw_g (lw_at lw_m3 21 rfl) rfl
theorem q545 : (Jvm.Cond.code ({ cls := "CommaTables", name := "named", desc := "(I)I" } : Jvm.MethodName) prog_1_method_10_code (5 : Nat) (Option.some Jvm.ClassFile.FieldType.int)) ∈ lw_all := lw_g (lw_at lw_m3 22 rfl) rfl
theorem q546 : (Jvm.Cond.methodLink "CommaTables" (91 : Nat) ({ cls := "CommaTables$Tables", name := "named", desc := "(LCommaTables$Table;[BI)I" } : Jvm.MethodName)) ∈ lw_all := lw_g (lw_at lw_m3 23 rfl) rfl
theorem q551 : (Jvm.Cond.instanceMethod ({ cls := "CommaTables", name := "lane", desc := "(II)I" } : Jvm.MethodName)) ∈ lw_all := lw_g (lw_at lw_m3 28 rfl) rfl
theorem q552 : (Jvm.Cond.selects "CommaTables" ({ cls := "CommaTables", name := "lane", desc := "(II)I" } : Jvm.MethodName) ({ cls := "CommaTables", name := "lane", desc := "(II)I" } : Jvm.MethodName)) ∈ lw_all := lw_g (lw_at lw_m3 29 rfl) rfl
theorem q553 : (Jvm.Cond.code ({ cls := "CommaTables", name := "lane", desc := "(II)I" } : Jvm.MethodName) prog_1_method_11_code (4 : Nat) (Option.some Jvm.ClassFile.FieldType.int)) ∈ lw_all := lw_g (lw_at lw_m3 30 rfl) rfl
theorem q555 : (Jvm.Cond.instanceMethod ({ cls := "CommaTables", name := "value", desc := "(III)J" } : Jvm.MethodName)) ∈ lw_all := lw_g (lw_at lw_m3 32 rfl) rfl
theorem q556 : (Jvm.Cond.selects "CommaTables" ({ cls := "CommaTables", name := "value", desc := "(III)J" } : Jvm.MethodName) ({ cls := "CommaTables", name := "value", desc := "(III)J" } : Jvm.MethodName)) ∈ lw_all := lw_g (lw_at lw_m3 33 rfl) rfl
theorem q557 : (Jvm.Cond.code ({ cls := "CommaTables", name := "value", desc := "(III)J" } : Jvm.MethodName) prog_1_method_13_code (5 : Nat) (Option.some Jvm.ClassFile.FieldType.long)) ∈ lw_all := lw_g (lw_at lw_m3 34 rfl) rfl
theorem q558 : (Jvm.Cond.methodLink "CommaTables" (99 : Nat) ({ cls := "CommaTables", name := "cell", desc := "(LCommaTables$Table;II)I" } : Jvm.MethodName)) ∈ lw_all := lw_g (lw_at lw_m3 35 rfl) rfl
theorem q559 : (Jvm.Cond.static ({ cls := "CommaTables", name := "cell", desc := "(LCommaTables$Table;II)I" } : Jvm.MethodName)) ∈ lw_all := lw_g (lw_at lw_m3 36 rfl) rfl
theorem q560 : (Jvm.Cond.code ({ cls := "CommaTables", name := "cell", desc := "(LCommaTables$Table;II)I" } : Jvm.MethodName) prog_1_method_12_code (3 : Nat) (Option.some Jvm.ClassFile.FieldType.int)) ∈ lw_all := lw_g (lw_at lw_m3 37 rfl) rfl
theorem q561 : (Jvm.Cond.methodLink "CommaTables" (103 : Nat) ({ cls := "CommaTables$Tables", name := "column", desc := "(LCommaTables$Table;I[J)V" } : Jvm.MethodName)) ∈ lw_all := lw_g (lw_at lw_m3 38 rfl) rfl
theorem q632 : (Jvm.Cond.instanceMethod ({ cls := "CommaTables", name := "missing", desc := "(III)Z" } : Jvm.MethodName)) ∈ lw_all := lw_g (lw_at lw_m3 109 rfl) rfl
theorem q633 : (Jvm.Cond.selects "CommaTables" ({ cls := "CommaTables", name := "missing", desc := "(III)Z" } : Jvm.MethodName) ({ cls := "CommaTables", name := "missing", desc := "(III)Z" } : Jvm.MethodName)) ∈ lw_all := lw_g (lw_at lw_m3 110 rfl) rfl
theorem q634 : (Jvm.Cond.code ({ cls := "CommaTables", name := "missing", desc := "(III)Z" } : Jvm.MethodName) prog_1_method_14_code (6 : Nat) (Option.some Jvm.ClassFile.FieldType.boolean)) ∈ lw_all := lw_g (lw_at lw_m3 111 rfl) rfl
theorem q635 : (Jvm.Cond.methodLink "CommaTables" (106 : Nat) ({ cls := "CommaTables$Table", name := "isMissing", desc := "(I)Z" } : Jvm.MethodName)) ∈ lw_all := lw_g (lw_at lw_m3 112 rfl) rfl
theorem q637 : (Jvm.Cond.instanceMethod ({ cls := "CommaTables", name := "length", desc := "(III)I" } : Jvm.MethodName)) ∈ lw_all := lw_g (lw_at lw_m3 114 rfl) rfl
theorem q638 : (Jvm.Cond.selects "CommaTables" ({ cls := "CommaTables", name := "length", desc := "(III)I" } : Jvm.MethodName) ({ cls := "CommaTables", name := "length", desc := "(III)I" } : Jvm.MethodName)) ∈ lw_all := lw_g (lw_at lw_m3 115 rfl) rfl
theorem q639 : (Jvm.Cond.code ({ cls := "CommaTables", name := "length", desc := "(III)I" } : Jvm.MethodName) prog_1_method_15_code (6 : Nat) (Option.some Jvm.ClassFile.FieldType.int)) ∈ lw_all := lw_g (lw_at lw_m3 116 rfl) rfl
theorem q640 : (Jvm.Cond.methodLink "CommaTables" (110 : Nat) ({ cls := "CommaTables$Table", name := "length", desc := "(I)I" } : Jvm.MethodName)) ∈ lw_all := lw_g (lw_at lw_m3 117 rfl) rfl
theorem q642 : (Jvm.Cond.instanceMethod ({ cls := "CommaTables", name := "at", desc := "(IIII)I" } : Jvm.MethodName)) ∈ lw_all := lw_g (lw_at lw_m3 119 rfl) rfl
theorem q643 : (Jvm.Cond.selects "CommaTables" ({ cls := "CommaTables", name := "at", desc := "(IIII)I" } : Jvm.MethodName) ({ cls := "CommaTables", name := "at", desc := "(IIII)I" } : Jvm.MethodName)) ∈ lw_all := lw_g (lw_at lw_m3 120 rfl) rfl
theorem q644 : (Jvm.Cond.code ({ cls := "CommaTables", name := "at", desc := "(IIII)I" } : Jvm.MethodName) prog_1_method_16_code (7 : Nat) (Option.some Jvm.ClassFile.FieldType.int)) ∈ lw_all := lw_g (lw_at lw_m3 121 rfl) rfl
theorem q645 : (Jvm.Cond.methodLink "CommaTables" (114 : Nat) ({ cls := "CommaTables$Tables", name := "bytes", desc := "()[B" } : Jvm.MethodName)) ∈ lw_all := lw_g (lw_at lw_m3 122 rfl) rfl
theorem q654 : (Jvm.Cond.instanceMethod ({ cls := "CommaTables", name := "row", desc := "(I)I" } : Jvm.MethodName)) ∈ lw_all := lw_g (lw_at lw_m3 131 rfl) rfl
theorem q655 : (Jvm.Cond.selects "CommaTables" ({ cls := "CommaTables", name := "row", desc := "(I)I" } : Jvm.MethodName) ({ cls := "CommaTables", name := "row", desc := "(I)I" } : Jvm.MethodName)) ∈ lw_all := lw_g (lw_at lw_m3 132 rfl) rfl
theorem q656 : (Jvm.Cond.code ({ cls := "CommaTables", name := "row", desc := "(I)I" } : Jvm.MethodName) prog_1_method_17_code (2 : Nat) (Option.some Jvm.ClassFile.FieldType.int)) ∈ lw_all := lw_g (lw_at lw_m3 133 rfl) rfl
theorem q658 : (Jvm.Cond.instanceMethod ({ cls := "CommaTables", name := "pick", desc := "(I)I" } : Jvm.MethodName)) ∈ lw_all := lw_g (lw_at lw_m3 135 rfl) rfl
theorem q659 : (Jvm.Cond.selects "CommaTables" ({ cls := "CommaTables", name := "pick", desc := "(I)I" } : Jvm.MethodName) ({ cls := "CommaTables", name := "pick", desc := "(I)I" } : Jvm.MethodName)) ∈ lw_all := lw_g (lw_at lw_m3 136 rfl) rfl
theorem q660 : (Jvm.Cond.codeWith ({ cls := "CommaTables", name := "pick", desc := "(I)I" } : Jvm.MethodName) prog_1_method_18_code (5 : Nat) (Option.some Jvm.ClassFile.FieldType.int) [((60 : Nat), (73 : Nat), (74 : Nat), (73 : Nat))]) ∈ lw_all := lw_g (lw_at lw_m3 137 rfl) rfl
theorem q661 : (Jvm.Cond.methodLink "CommaTables" (121 : Nat) ({ cls := "CommaTables$Tables", name := "pick", desc := "(LCommaTables$Table;[JI)I" } : Jvm.MethodName)) ∈ lw_all := lw_g (lw_at lw_m3 138 rfl) rfl
theorem q666 : (Jvm.Cond.instanceMethod ({ cls := "CommaTables", name := "write", desc := "(I)I" } : Jvm.MethodName)) ∈ lw_all := lw_g (lw_at lw_m3 143 rfl) rfl
theorem q667 : (Jvm.Cond.selects "CommaTables" ({ cls := "CommaTables", name := "write", desc := "(I)I" } : Jvm.MethodName) ({ cls := "CommaTables", name := "write", desc := "(I)I" } : Jvm.MethodName)) ∈ lw_all := lw_g (lw_at lw_m3 144 rfl) rfl
theorem q668 : (Jvm.Cond.code ({ cls := "CommaTables", name := "write", desc := "(I)I" } : Jvm.MethodName) prog_1_method_19_code (4 : Nat) (Option.some Jvm.ClassFile.FieldType.int)) ∈ lw_all := lw_g (lw_at lw_m3 145 rfl) rfl
theorem q669 : (Jvm.Cond.methodLink "CommaTables" (128 : Nat) ({ cls := "CommaTables$Tables", name := "write", desc := "(LCommaTables$Table;LCommaTables$Out;)Z" } : Jvm.MethodName)) ∈ lw_all := lw_g (lw_at lw_m3 146 rfl) rfl
theorem q690 : (Jvm.Cond.instanceMethod ({ cls := "CommaTables", name := "out", desc := "(I)I" } : Jvm.MethodName)) ∈ lw_all := lw_g (lw_at lw_m3 167 rfl) rfl
theorem q691 : (Jvm.Cond.selects "CommaTables" ({ cls := "CommaTables", name := "out", desc := "(I)I" } : Jvm.MethodName) ({ cls := "CommaTables", name := "out", desc := "(I)I" } : Jvm.MethodName)) ∈ lw_all := lw_g (lw_at lw_m3 168 rfl) rfl
theorem q692 : (Jvm.Cond.code ({ cls := "CommaTables", name := "out", desc := "(I)I" } : Jvm.MethodName) prog_1_method_20_code (2 : Nat) (Option.some Jvm.ClassFile.FieldType.int)) ∈ lw_all := lw_g (lw_at lw_m3 169 rfl) rfl
theorem q1081 : (Jvm.Cond.selects "CommaTables" ({ cls := "java/lang/Object", name := "getClass", desc := "()Ljava/lang/Class;" } : Jvm.MethodName) ({ cls := "java/lang/Object", name := "getClass", desc := "()Ljava/lang/Class;" } : Jvm.MethodName)) ∈ lw_all := lw_g (lw_at lw_m5 78 rfl) rfl
theorem q1341 : (Jvm.Cond.castable "CommaTables" "java/lang/Object") ∈ lw_tbl := lw_at lw_m6 98 rfl
theorem in_X0 : ∀ w ∈ wsX00, w ∈ lw_all := lw_in wsX00 [288, 290, 292, 294, 296, 298, 300, 302, 304, 306, 308] (by decide +kernel) (by decide +kernel)
/-! CommaTables$Stop -/
set_option maxRecDepth 100000
def RX1 : String := "CommaTables$Stop"
def TX1 : u_T := fun k => match k with
  | 0 => ("CommaTables$Stop", "thrown", "Ljava/lang/IllegalStateException;", true)
  | 1 => ("CommaTables$Stop", "code", "I", false)
  | _ => ("CommaTables$Stop", "place", "I", false)
def tyX1 : Nat → FieldType := fun k => match k with
  | 0 => .object "java/lang/IllegalStateException"
  | 1 => .int
  | _ => .int
abbrev wsX10 : List Cond := u_ws RX1 TX1 3
theorem nmX1 : ∀ a, a < 3 → ∀ b, b < 3 → a ≠ b → (TX1 a).2.1 ≠ (TX1 b).2.1 := by decide +kernel
theorem tyX1_ok : ∀ k, k < 3 → parseFieldDescriptor (TX1 k).2.2.1 = some (tyX1 k) := by decide +kernel
abbrev cX1_init : ByteArray := prog_5_method_1_code
def yX1_init : MethodName := ⟨RX1, "<init>", "()V"⟩
theorem dX1_init_0 : decode cX1_init 0 = .ok (.aload_n 0, 1) := by decide +kernel
theorem dX1_init_1 : decode cX1_init 1 = .ok (.invokespecial 1, 3) := by decide +kernel
theorem dX1_init_4 : decode cX1_init 4 = .ok (.aload_n 0, 1) := by decide +kernel
theorem dX1_init_5 : decode cX1_init 5 = .ok (.new 7, 3) := by decide +kernel
theorem dX1_init_8 : decode cX1_init 8 = .ok (.dup, 1) := by decide +kernel
theorem dX1_init_9 : decode cX1_init 9 = .ok (.invokespecial 9, 3) := by decide +kernel
theorem dX1_init_12 : decode cX1_init 12 = .ok (.putfield 10, 3) := by decide +kernel
theorem dX1_init_15 : decode cX1_init 15 = .ok (.return_, 1) := by decide +kernel
abbrev cX1_at : ByteArray := prog_5_method_2_code
def yX1_at : MethodName := ⟨RX1, "at", "(II)Ljava/lang/IllegalStateException;"⟩
theorem dX1_at_0 : decode cX1_at 0 = .ok (.aload_n 0, 1) := by decide +kernel
theorem dX1_at_1 : decode cX1_at 1 = .ok (.iload_n 1, 1) := by decide +kernel
theorem dX1_at_2 : decode cX1_at 2 = .ok (.putfield 16, 3) := by decide +kernel
theorem dX1_at_5 : decode cX1_at 5 = .ok (.aload_n 0, 1) := by decide +kernel
theorem dX1_at_6 : decode cX1_at 6 = .ok (.iload_n 2, 1) := by decide +kernel
theorem dX1_at_7 : decode cX1_at 7 = .ok (.putfield 20, 3) := by decide +kernel
theorem dX1_at_10 : decode cX1_at 10 = .ok (.aload_n 0, 1) := by decide +kernel
theorem dX1_at_11 : decode cX1_at 11 = .ok (.getfield 10, 3) := by decide +kernel
theorem dX1_at_14 : decode cX1_at 14 = .ok (.areturn, 1) := by decide +kernel
abbrev cX1_with : ByteArray := prog_5_method_3_code
def yX1_with : MethodName := ⟨RX1, "with", "(I)Ljava/lang/IllegalStateException;"⟩
theorem dX1_with_0 : decode cX1_with 0 = .ok (.aload_n 0, 1) := by decide +kernel
theorem dX1_with_1 : decode cX1_with 1 = .ok (.iload_n 1, 1) := by decide +kernel
theorem dX1_with_2 : decode cX1_with 2 = .ok (.iconst (-1), 1) := by decide +kernel
theorem dX1_with_3 : decode cX1_with 3 = .ok (.invokevirtual 23, 3) := by decide +kernel
theorem dX1_with_6 : decode cX1_with 6 = .ok (.areturn, 1) := by decide +kernel
theorem q45 : (Jvm.Cond.initialized "CommaTables$Stop") ∈ lw_all := lw_g (lw_at lw_m1 2 rfl) rfl
theorem q90 : (Jvm.Cond.instantiable "CommaTables$Stop" (3 : Nat)) ∈ lw_all := lw_g (lw_at lw_m1 47 rfl) rfl
theorem q92 : (Jvm.Cond.instanceMethod ({ cls := "CommaTables$Stop", name := "<init>", desc := "()V" } : Jvm.MethodName)) ∈ lw_all := lw_g (lw_at lw_m1 49 rfl) rfl
theorem q93 : (Jvm.Cond.code ({ cls := "CommaTables$Stop", name := "<init>", desc := "()V" } : Jvm.MethodName) prog_5_method_1_code (1 : Nat) (Option.none : Option Jvm.ClassFile.FieldType)) ∈ lw_all := lw_g (lw_at lw_m1 50 rfl) rfl
theorem q94 : (Jvm.Cond.methodLink "CommaTables$Stop" (1 : Nat) ({ cls := "java/lang/Object", name := "<init>", desc := "()V" } : Jvm.MethodName)) ∈ lw_all := lw_g (lw_at lw_m1 51 rfl) rfl
theorem q95 : (Jvm.Cond.classLink "CommaTables$Stop" (7 : Nat) "java/lang/IllegalStateException") ∈ lw_all := lw_g (lw_at lw_m1 52 rfl) rfl
theorem q134 : (Jvm.Cond.methodLink "CommaTables$Stop" (9 : Nat) ({ cls := "java/lang/IllegalStateException", name := "<init>", desc := "()V" } : Jvm.MethodName)) ∈ lw_all := lw_g (lw_at lw_m1 91 rfl) rfl
theorem q157 : (Jvm.Cond.fieldLink "CommaTables$Stop" (10 : Nat) "CommaTables$Stop" "thrown" "Ljava/lang/IllegalStateException;") ∈ lw_all := lw_g (lw_at lw_m1 114 rfl) rfl
theorem q158 : (Jvm.Cond.fieldLink "CommaTables$Stop" (16 : Nat) "CommaTables$Stop" "code" "I") ∈ lw_all := lw_g (lw_at lw_m1 115 rfl) rfl
theorem q160 : (Jvm.Cond.fieldLink "CommaTables$Stop" (20 : Nat) "CommaTables$Stop" "place" "I") ∈ lw_all := lw_g (lw_at lw_m1 117 rfl) rfl
theorem q162 : (Jvm.Cond.laysFinal "CommaTables$Stop" "CommaTables$Stop" "thrown" "Ljava/lang/IllegalStateException;") ∈ lw_all := lw_g (lw_at lw_m1 119 rfl) rfl
theorem q163 : (Jvm.Cond.soleField "CommaTables$Stop" "thrown") ∈ lw_all := lw_g (lw_at lw_m1 120 rfl) rfl
theorem q164 : (Jvm.Cond.lays "CommaTables$Stop" "CommaTables$Stop" "code" "I") ∈ lw_all := lw_g (lw_at lw_m1 121 rfl) rfl
theorem q165 : (Jvm.Cond.soleField "CommaTables$Stop" "code") ∈ lw_all := lw_g (lw_at lw_m1 122 rfl) rfl
theorem q166 : (Jvm.Cond.lays "CommaTables$Stop" "CommaTables$Stop" "place" "I") ∈ lw_all := lw_g (lw_at lw_m1 123 rfl) rfl
theorem q167 : (Jvm.Cond.soleField "CommaTables$Stop" "place") ∈ lw_all := lw_g (lw_at lw_m1 124 rfl) rfl
theorem q168 : (Jvm.Cond.superclass "CommaTables$Stop" "java/lang/Object") ∈ lw_all := lw_g (lw_at lw_m1 125 rfl) rfl
theorem q346 : (Jvm.Cond.instanceMethod ({ cls := "CommaTables$Stop", name := "at", desc := "(II)Ljava/lang/IllegalStateException;" } : Jvm.MethodName)) ∈ lw_all := lw_g (lw_at lw_m2 63 rfl) rfl
theorem q347 : (Jvm.Cond.selects "CommaTables$Stop" ({ cls := "CommaTables$Stop", name := "at", desc := "(II)Ljava/lang/IllegalStateException;" } : Jvm.MethodName) ({ cls := "CommaTables$Stop", name := "at", desc := "(II)Ljava/lang/IllegalStateException;" } : Jvm.MethodName)) ∈ lw_all := lw_g (lw_at lw_m2 64 rfl) rfl
theorem q348 : (Jvm.Cond.code ({ cls := "CommaTables$Stop", name := "at", desc := "(II)Ljava/lang/IllegalStateException;" } : Jvm.MethodName) prog_5_method_2_code (3 : Nat) (Option.some (Jvm.ClassFile.FieldType.object "java/lang/IllegalStateException"))) ∈ lw_all := lw_g (lw_at lw_m2 65 rfl) rfl
theorem q382 : (Jvm.Cond.instanceMethod ({ cls := "CommaTables$Stop", name := "with", desc := "(I)Ljava/lang/IllegalStateException;" } : Jvm.MethodName)) ∈ lw_all := lw_g (lw_at lw_m2 99 rfl) rfl
theorem q383 : (Jvm.Cond.selects "CommaTables$Stop" ({ cls := "CommaTables$Stop", name := "with", desc := "(I)Ljava/lang/IllegalStateException;" } : Jvm.MethodName) ({ cls := "CommaTables$Stop", name := "with", desc := "(I)Ljava/lang/IllegalStateException;" } : Jvm.MethodName)) ∈ lw_all := lw_g (lw_at lw_m2 100 rfl) rfl
theorem q384 : (Jvm.Cond.code ({ cls := "CommaTables$Stop", name := "with", desc := "(I)Ljava/lang/IllegalStateException;" } : Jvm.MethodName) prog_5_method_3_code (2 : Nat) (Option.some (Jvm.ClassFile.FieldType.object "java/lang/IllegalStateException"))) ∈ lw_all := lw_g (lw_at lw_m2 101 rfl) rfl
theorem q385 : (Jvm.Cond.methodLink "CommaTables$Stop" (23 : Nat) ({ cls := "CommaTables$Stop", name := "at", desc := "(II)Ljava/lang/IllegalStateException;" } : Jvm.MethodName)) ∈ lw_all := lw_g (lw_at lw_m2 102 rfl) rfl
theorem q1084 : (Jvm.Cond.selects "CommaTables$Stop" ({ cls := "java/lang/Object", name := "getClass", desc := "()Ljava/lang/Class;" } : Jvm.MethodName) ({ cls := "java/lang/Object", name := "getClass", desc := "()Ljava/lang/Class;" } : Jvm.MethodName)) ∈ lw_all := lw_g (lw_at lw_m5 81 rfl) rfl
theorem q1342 : (Jvm.Cond.castable "CommaTables$Stop" "java/lang/Object") ∈ lw_tbl := lw_at lw_m6 99 rfl
theorem in_X1 : ∀ w ∈ wsX10, w ∈ lw_all := lw_in wsX10 [162, 164, 166] (by decide +kernel) (by decide +kernel)
/-! CommaTables$Words -/
set_option maxRecDepth 100000
def RX3 : String := "CommaTables$Words"
def TX3 : u_T := fun k => match k with
  | 0 => ("CommaTables$Words", "bytes", "[B", true)
  | _ => ("CommaTables$Words", "size", "I", false)
def tyX3 : Nat → FieldType := fun k => match k with
  | 0 => .array .byte
  | _ => .int
abbrev wsX30 : List Cond := u_ws RX3 TX3 2
theorem nmX3 : ∀ a, a < 2 → ∀ b, b < 2 → a ≠ b → (TX3 a).2.1 ≠ (TX3 b).2.1 := by decide +kernel
theorem tyX3_ok : ∀ k, k < 2 → parseFieldDescriptor (TX3 k).2.2.1 = some (tyX3 k) := by decide +kernel
abbrev cX3_init : ByteArray := prog_8_method_1_code
def yX3_init : MethodName := ⟨RX3, "<init>", "()V"⟩
theorem dX3_init_0 : decode cX3_init 0 = .ok (.aload_n 0, 1) := by decide +kernel
theorem dX3_init_1 : decode cX3_init 1 = .ok (.invokespecial 1, 3) := by decide +kernel
theorem dX3_init_4 : decode cX3_init 4 = .ok (.aload_n 0, 1) := by decide +kernel
theorem dX3_init_5 : decode cX3_init 5 = .ok (.ldc 9, 2) := by decide +kernel
theorem dX3_init_7 : decode cX3_init 7 = .ok (.newarray .byte, 2) := by decide +kernel
theorem dX3_init_9 : decode cX3_init 9 = .ok (.putfield 10, 3) := by decide +kernel
theorem dX3_init_12 : decode cX3_init 12 = .ok (.return_, 1) := by decide +kernel
abbrev cX3_hasRoom : ByteArray := prog_8_method_2_code
def yX3_hasRoom : MethodName := ⟨RX3, "hasRoom", "(I)Z"⟩
theorem dX3_hasRoom_0 : decode cX3_hasRoom 0 = .ok (.aload_n 0, 1) := by decide +kernel
theorem dX3_hasRoom_1 : decode cX3_hasRoom 1 = .ok (.getfield 14, 3) := by decide +kernel
theorem dX3_hasRoom_4 : decode cX3_hasRoom 4 = .ok (.iload_n 1, 1) := by decide +kernel
theorem dX3_hasRoom_5 : decode cX3_hasRoom 5 = .ok (.iadd, 1) := by decide +kernel
theorem dX3_hasRoom_6 : decode cX3_hasRoom 6 = .ok (.ldc 9, 2) := by decide +kernel
theorem dX3_hasRoom_8 : decode cX3_hasRoom 8 = .ok (.if_icmp .gt 7, 3) := by decide +kernel
theorem dX3_hasRoom_11 : decode cX3_hasRoom 11 = .ok (.iconst 1, 1) := by decide +kernel
theorem dX3_hasRoom_12 : decode cX3_hasRoom 12 = .ok (.goto 4, 3) := by decide +kernel
theorem dX3_hasRoom_15 : decode cX3_hasRoom 15 = .ok (.iconst 0, 1) := by decide +kernel
theorem dX3_hasRoom_16 : decode cX3_hasRoom 16 = .ok (.ireturn, 1) := by decide +kernel
abbrev cX3_add : ByteArray := prog_8_method_3_code
def yX3_add : MethodName := ⟨RX3, "add", "([BII)I"⟩
theorem dX3_add_0 : decode cX3_add 0 = .ok (.iconst 0, 1) := by decide +kernel
theorem dX3_add_1 : decode cX3_add 1 = .ok (.istore 4, 2) := by decide +kernel
theorem dX3_add_3 : decode cX3_add 3 = .ok (.iload 4, 2) := by decide +kernel
theorem dX3_add_5 : decode cX3_add 5 = .ok (.iload_n 3, 1) := by decide +kernel
theorem dX3_add_6 : decode cX3_add 6 = .ok (.if_icmp .ge 27, 3) := by decide +kernel
theorem dX3_add_9 : decode cX3_add 9 = .ok (.aload_n 0, 1) := by decide +kernel
theorem dX3_add_10 : decode cX3_add 10 = .ok (.getfield 10, 3) := by decide +kernel
theorem dX3_add_13 : decode cX3_add 13 = .ok (.aload_n 0, 1) := by decide +kernel
theorem dX3_add_14 : decode cX3_add 14 = .ok (.getfield 14, 3) := by decide +kernel
theorem dX3_add_17 : decode cX3_add 17 = .ok (.iload 4, 2) := by decide +kernel
theorem dX3_add_19 : decode cX3_add 19 = .ok (.iadd, 1) := by decide +kernel
theorem dX3_add_20 : decode cX3_add 20 = .ok (.aload_n 1, 1) := by decide +kernel
theorem dX3_add_21 : decode cX3_add 21 = .ok (.iload_n 2, 1) := by decide +kernel
theorem dX3_add_22 : decode cX3_add 22 = .ok (.iload 4, 2) := by decide +kernel
theorem dX3_add_24 : decode cX3_add 24 = .ok (.iadd, 1) := by decide +kernel
theorem dX3_add_25 : decode cX3_add 25 = .ok (.baload, 1) := by decide +kernel
theorem dX3_add_26 : decode cX3_add 26 = .ok (.bastore, 1) := by decide +kernel
theorem dX3_add_27 : decode cX3_add 27 = .ok (.iinc 4 1, 3) := by decide +kernel
theorem dX3_add_30 : decode cX3_add 30 = .ok (.goto (-27), 3) := by decide +kernel
theorem dX3_add_33 : decode cX3_add 33 = .ok (.aload_n 0, 1) := by decide +kernel
theorem dX3_add_34 : decode cX3_add 34 = .ok (.dup, 1) := by decide +kernel
theorem dX3_add_35 : decode cX3_add 35 = .ok (.getfield 14, 3) := by decide +kernel
theorem dX3_add_38 : decode cX3_add 38 = .ok (.iload_n 3, 1) := by decide +kernel
theorem dX3_add_39 : decode cX3_add 39 = .ok (.iadd, 1) := by decide +kernel
theorem dX3_add_40 : decode cX3_add 40 = .ok (.putfield 14, 3) := by decide +kernel
theorem dX3_add_43 : decode cX3_add 43 = .ok (.aload_n 0, 1) := by decide +kernel
theorem dX3_add_44 : decode cX3_add 44 = .ok (.getfield 14, 3) := by decide +kernel
theorem dX3_add_47 : decode cX3_add 47 = .ok (.iload_n 3, 1) := by decide +kernel
theorem dX3_add_48 : decode cX3_add 48 = .ok (.isub, 1) := by decide +kernel
theorem dX3_add_49 : decode cX3_add 49 = .ok (.ireturn, 1) := by decide +kernel
abbrev cX3_compare : ByteArray := prog_8_method_5_code
def yX3_compare : MethodName := ⟨RX3, "compare", "(IIII)I"⟩
theorem dX3_compare_0 : decode cX3_compare 0 = .ok (.iconst 0, 1) := by decide +kernel
theorem dX3_compare_1 : decode cX3_compare 1 = .ok (.istore 5, 2) := by decide +kernel
theorem dX3_compare_3 : decode cX3_compare 3 = .ok (.iload 5, 2) := by decide +kernel
theorem dX3_compare_5 : decode cX3_compare 5 = .ok (.iload_n 2, 1) := by decide +kernel
theorem dX3_compare_6 : decode cX3_compare 6 = .ok (.iload 4, 2) := by decide +kernel
theorem dX3_compare_8 : decode cX3_compare 8 = .ok (.invokestatic 18, 3) := by decide +kernel
theorem dX3_compare_11 : decode cX3_compare 11 = .ok (.if_icmp .ge 57, 3) := by decide +kernel
theorem dX3_compare_14 : decode cX3_compare 14 = .ok (.aload_n 0, 1) := by decide +kernel
theorem dX3_compare_15 : decode cX3_compare 15 = .ok (.getfield 10, 3) := by decide +kernel
theorem dX3_compare_18 : decode cX3_compare 18 = .ok (.iload_n 1, 1) := by decide +kernel
theorem dX3_compare_19 : decode cX3_compare 19 = .ok (.iload 5, 2) := by decide +kernel
theorem dX3_compare_21 : decode cX3_compare 21 = .ok (.iadd, 1) := by decide +kernel
theorem dX3_compare_22 : decode cX3_compare 22 = .ok (.baload, 1) := by decide +kernel
theorem dX3_compare_23 : decode cX3_compare 23 = .ok (.aload_n 0, 1) := by decide +kernel
theorem dX3_compare_24 : decode cX3_compare 24 = .ok (.getfield 10, 3) := by decide +kernel
theorem dX3_compare_27 : decode cX3_compare 27 = .ok (.iload_n 3, 1) := by decide +kernel
theorem dX3_compare_28 : decode cX3_compare 28 = .ok (.iload 5, 2) := by decide +kernel
theorem dX3_compare_30 : decode cX3_compare 30 = .ok (.iadd, 1) := by decide +kernel
theorem dX3_compare_31 : decode cX3_compare 31 = .ok (.baload, 1) := by decide +kernel
theorem dX3_compare_32 : decode cX3_compare 32 = .ok (.if_icmp .eq 30, 3) := by decide +kernel
theorem dX3_compare_35 : decode cX3_compare 35 = .ok (.aload_n 0, 1) := by decide +kernel
theorem dX3_compare_36 : decode cX3_compare 36 = .ok (.getfield 10, 3) := by decide +kernel
theorem dX3_compare_39 : decode cX3_compare 39 = .ok (.iload_n 1, 1) := by decide +kernel
theorem dX3_compare_40 : decode cX3_compare 40 = .ok (.iload 5, 2) := by decide +kernel
theorem dX3_compare_42 : decode cX3_compare 42 = .ok (.iadd, 1) := by decide +kernel
theorem dX3_compare_43 : decode cX3_compare 43 = .ok (.baload, 1) := by decide +kernel
theorem dX3_compare_44 : decode cX3_compare 44 = .ok (.aload_n 0, 1) := by decide +kernel
theorem dX3_compare_45 : decode cX3_compare 45 = .ok (.getfield 10, 3) := by decide +kernel
theorem dX3_compare_48 : decode cX3_compare 48 = .ok (.iload_n 3, 1) := by decide +kernel
theorem dX3_compare_49 : decode cX3_compare 49 = .ok (.iload 5, 2) := by decide +kernel
theorem dX3_compare_51 : decode cX3_compare 51 = .ok (.iadd, 1) := by decide +kernel
theorem dX3_compare_52 : decode cX3_compare 52 = .ok (.baload, 1) := by decide +kernel
theorem dX3_compare_53 : decode cX3_compare 53 = .ok (.if_icmp .ge 7, 3) := by decide +kernel
theorem dX3_compare_56 : decode cX3_compare 56 = .ok (.iconst (-1), 1) := by decide +kernel
theorem dX3_compare_57 : decode cX3_compare 57 = .ok (.goto 4, 3) := by decide +kernel
theorem dX3_compare_60 : decode cX3_compare 60 = .ok (.iconst 1, 1) := by decide +kernel
theorem dX3_compare_61 : decode cX3_compare 61 = .ok (.ireturn, 1) := by decide +kernel
theorem dX3_compare_62 : decode cX3_compare 62 = .ok (.iinc 5 1, 3) := by decide +kernel
theorem dX3_compare_65 : decode cX3_compare 65 = .ok (.goto (-62), 3) := by decide +kernel
theorem dX3_compare_68 : decode cX3_compare 68 = .ok (.iload_n 2, 1) := by decide +kernel
theorem dX3_compare_69 : decode cX3_compare 69 = .ok (.iload 4, 2) := by decide +kernel
theorem dX3_compare_71 : decode cX3_compare 71 = .ok (.invokestatic 24, 3) := by decide +kernel
theorem dX3_compare_74 : decode cX3_compare 74 = .ok (.ireturn, 1) := by decide +kernel
abbrev cX3_row : ByteArray := prog_8_method_4_code
def yX3_row : MethodName := ⟨RX3, "row", "()[B"⟩
theorem dX3_row_0 : decode cX3_row 0 = .ok (.aload_n 0, 1) := by decide +kernel
theorem dX3_row_1 : decode cX3_row 1 = .ok (.getfield 10, 3) := by decide +kernel
theorem dX3_row_4 : decode cX3_row 4 = .ok (.areturn, 1) := by decide +kernel
theorem q51 : (Jvm.Cond.initialized "CommaTables$Words") ∈ lw_all := lw_g (lw_at lw_m1 8 rfl) rfl
theorem q176 : (Jvm.Cond.instantiable "CommaTables$Words" (2 : Nat)) ∈ lw_all := lw_g (lw_at lw_m1 133 rfl) rfl
theorem q178 : (Jvm.Cond.instanceMethod ({ cls := "CommaTables$Words", name := "<init>", desc := "()V" } : Jvm.MethodName)) ∈ lw_all := lw_g (lw_at lw_m1 135 rfl) rfl
theorem q179 : (Jvm.Cond.code ({ cls := "CommaTables$Words", name := "<init>", desc := "()V" } : Jvm.MethodName) prog_8_method_1_code (1 : Nat) (Option.none : Option Jvm.ClassFile.FieldType)) ∈ lw_all := lw_g (lw_at lw_m1 136 rfl) rfl
theorem q180 : (Jvm.Cond.methodLink "CommaTables$Words" (1 : Nat) ({ cls := "java/lang/Object", name := "<init>", desc := "()V" } : Jvm.MethodName)) ∈ lw_all := lw_g (lw_at lw_m1 137 rfl) rfl
theorem q181 : (Jvm.Cond.constant "CommaTables$Words" (9 : Nat) (65536 : Int32)) ∈ lw_all := lw_g (lw_at lw_m1 138 rfl) rfl
theorem q182 : (Jvm.Cond.fieldLink "CommaTables$Words" (10 : Nat) "CommaTables$Words" "bytes" "[B") ∈ lw_all := lw_g (lw_at lw_m1 139 rfl) rfl
theorem q184 : (Jvm.Cond.fieldLink "CommaTables$Words" (14 : Nat) "CommaTables$Words" "size" "I") ∈ lw_all := lw_g (lw_at lw_m1 141 rfl) rfl
theorem q185 : (Jvm.Cond.laysFinal "CommaTables$Words" "CommaTables$Words" "bytes" "[B") ∈ lw_all := lw_g (lw_at lw_m1 142 rfl) rfl
theorem q186 : (Jvm.Cond.soleField "CommaTables$Words" "bytes") ∈ lw_all := lw_g (lw_at lw_m1 143 rfl) rfl
theorem q187 : (Jvm.Cond.lays "CommaTables$Words" "CommaTables$Words" "size" "I") ∈ lw_all := lw_g (lw_at lw_m1 144 rfl) rfl
theorem q188 : (Jvm.Cond.soleField "CommaTables$Words" "size") ∈ lw_all := lw_g (lw_at lw_m1 145 rfl) rfl
theorem q189 : (Jvm.Cond.superclass "CommaTables$Words" "java/lang/Object") ∈ lw_all := lw_g (lw_at lw_m1 146 rfl) rfl
theorem q378 : (Jvm.Cond.instanceMethod ({ cls := "CommaTables$Words", name := "hasRoom", desc := "(I)Z" } : Jvm.MethodName)) ∈ lw_all := lw_g (lw_at lw_m2 95 rfl) rfl
theorem q379 : (Jvm.Cond.selects "CommaTables$Words" ({ cls := "CommaTables$Words", name := "hasRoom", desc := "(I)Z" } : Jvm.MethodName) ({ cls := "CommaTables$Words", name := "hasRoom", desc := "(I)Z" } : Jvm.MethodName)) ∈ lw_all := lw_g (lw_at lw_m2 96 rfl) rfl
theorem q380 : (Jvm.Cond.code ({ cls := "CommaTables$Words", name := "hasRoom", desc := "(I)Z" } : Jvm.MethodName) prog_8_method_2_code (2 : Nat) (Option.some Jvm.ClassFile.FieldType.boolean)) ∈ lw_all := lw_g (lw_at lw_m2 97 rfl) rfl
theorem q425 : (Jvm.Cond.instanceMethod ({ cls := "CommaTables$Words", name := "add", desc := "([BII)I" } : Jvm.MethodName)) ∈ lw_all := lw_g (lw_at lw_m2 142 rfl) rfl
theorem q426 : (Jvm.Cond.selects "CommaTables$Words" ({ cls := "CommaTables$Words", name := "add", desc := "([BII)I" } : Jvm.MethodName) ({ cls := "CommaTables$Words", name := "add", desc := "([BII)I" } : Jvm.MethodName)) ∈ lw_all := lw_g (lw_at lw_m2 143 rfl) rfl
theorem q427 : (Jvm.Cond.code ({ cls := "CommaTables$Words", name := "add", desc := "([BII)I" } : Jvm.MethodName) prog_8_method_3_code (5 : Nat) (Option.some Jvm.ClassFile.FieldType.int)) ∈ lw_all := lw_g (lw_at lw_m2 144 rfl) rfl
theorem q586 : (Jvm.Cond.instanceMethod ({ cls := "CommaTables$Words", name := "compare", desc := "(IIII)I" } : Jvm.MethodName)) ∈ lw_all := lw_g (lw_at lw_m3 63 rfl) rfl
theorem q587 : (Jvm.Cond.selects "CommaTables$Words" ({ cls := "CommaTables$Words", name := "compare", desc := "(IIII)I" } : Jvm.MethodName) ({ cls := "CommaTables$Words", name := "compare", desc := "(IIII)I" } : Jvm.MethodName)) ∈ lw_all := lw_g (lw_at lw_m3 64 rfl) rfl
theorem q588 : (Jvm.Cond.code ({ cls := "CommaTables$Words", name := "compare", desc := "(IIII)I" } : Jvm.MethodName) prog_8_method_5_code (6 : Nat) (Option.some Jvm.ClassFile.FieldType.int)) ∈ lw_all := lw_g (lw_at lw_m3 65 rfl) rfl
theorem q589 : (Jvm.Cond.methodLink "CommaTables$Words" (18 : Nat) ({ cls := "java/lang/Math", name := "min", desc := "(II)I" } : Jvm.MethodName)) ∈ lw_all := lw_g (lw_at lw_m3 66 rfl) rfl
theorem q592 : (Jvm.Cond.methodLink "CommaTables$Words" (24 : Nat) ({ cls := "java/lang/Integer", name := "compare", desc := "(II)I" } : Jvm.MethodName)) ∈ lw_all := lw_g (lw_at lw_m3 69 rfl) rfl
theorem q650 : (Jvm.Cond.instanceMethod ({ cls := "CommaTables$Words", name := "row", desc := "()[B" } : Jvm.MethodName)) ∈ lw_all := lw_g (lw_at lw_m3 127 rfl) rfl
theorem q651 : (Jvm.Cond.selects "CommaTables$Words" ({ cls := "CommaTables$Words", name := "row", desc := "()[B" } : Jvm.MethodName) ({ cls := "CommaTables$Words", name := "row", desc := "()[B" } : Jvm.MethodName)) ∈ lw_all := lw_g (lw_at lw_m3 128 rfl) rfl
theorem q652 : (Jvm.Cond.code ({ cls := "CommaTables$Words", name := "row", desc := "()[B" } : Jvm.MethodName) prog_8_method_4_code (1 : Nat) (Option.some (Jvm.ClassFile.FieldType.array Jvm.ClassFile.FieldType.byte))) ∈ lw_all := lw_g (lw_at lw_m3 129 rfl) rfl
theorem q1087 : (Jvm.Cond.selects "CommaTables$Words" ({ cls := "java/lang/Object", name := "getClass", desc := "()Ljava/lang/Class;" } : Jvm.MethodName) ({ cls := "java/lang/Object", name := "getClass", desc := "()Ljava/lang/Class;" } : Jvm.MethodName)) ∈ lw_all := lw_g (lw_at lw_m5 84 rfl) rfl
theorem q1345 : (Jvm.Cond.castable "CommaTables$Words" "java/lang/Object") ∈ lw_tbl := lw_at lw_m6 102 rfl
theorem in_X3 : ∀ w ∈ wsX30, w ∈ lw_all := lw_in wsX30 [185, 187] (by decide +kernel) (by decide +kernel)
/-! CommaTables$Orders -/
set_option maxRecDepth 100000
def RX4 : String := "CommaTables$Orders"
def TX4 : u_T := fun k => match k with
  | 0 => ("CommaTables$Orders", "places", "[I", true)
  | 1 => ("CommaTables$Orders", "other", "[I", true)
  | 2 => ("CommaTables$Orders", "row", "[J", false)
  | 3 => ("CommaTables$Orders", "lane", "I", false)
  | _ => ("CommaTables$Orders", "falling", "Z", false)
def tyX4 : Nat → FieldType := fun k => match k with
  | 0 => .array .int
  | 1 => .array .int
  | 2 => .array .long
  | 3 => .int
  | _ => .boolean
abbrev wsX40 : List Cond := u_ws RX4 TX4 5
theorem nmX4 : ∀ a, a < 5 → ∀ b, b < 5 → a ≠ b → (TX4 a).2.1 ≠ (TX4 b).2.1 := by decide +kernel
theorem tyX4_ok : ∀ k, k < 5 → parseFieldDescriptor (TX4 k).2.2.1 = some (tyX4 k) := by decide +kernel
abbrev cX4_init : ByteArray := prog_3_method_1_code
def yX4_init : MethodName := ⟨RX4, "<init>", "()V"⟩
theorem dX4_init_0 : decode cX4_init 0 = .ok (.aload_n 0, 1) := by decide +kernel
theorem dX4_init_1 : decode cX4_init 1 = .ok (.invokespecial 3, 3) := by decide +kernel
theorem dX4_init_4 : decode cX4_init 4 = .ok (.aload_n 0, 1) := by decide +kernel
theorem dX4_init_5 : decode cX4_init 5 = .ok (.sipush 4096, 3) := by decide +kernel
theorem dX4_init_8 : decode cX4_init 8 = .ok (.newarray .int, 2) := by decide +kernel
theorem dX4_init_10 : decode cX4_init 10 = .ok (.putfield 9, 3) := by decide +kernel
theorem dX4_init_13 : decode cX4_init 13 = .ok (.aload_n 0, 1) := by decide +kernel
theorem dX4_init_14 : decode cX4_init 14 = .ok (.sipush 4096, 3) := by decide +kernel
theorem dX4_init_17 : decode cX4_init 17 = .ok (.newarray .int, 2) := by decide +kernel
theorem dX4_init_19 : decode cX4_init 19 = .ok (.putfield 15, 3) := by decide +kernel
theorem dX4_init_22 : decode cX4_init 22 = .ok (.return_, 1) := by decide +kernel
abbrev cX4_sort : ByteArray := prog_3_method_3_code
def yX4_sort : MethodName := ⟨RX4, "sort", "([JIIZ)V"⟩
theorem dX4_sort_0 : decode cX4_sort 0 = .ok (.aload_n 0, 1) := by decide +kernel
theorem dX4_sort_1 : decode cX4_sort 1 = .ok (.aload_n 1, 1) := by decide +kernel
theorem dX4_sort_2 : decode cX4_sort 2 = .ok (.putfield 18, 3) := by decide +kernel
theorem dX4_sort_5 : decode cX4_sort 5 = .ok (.aload_n 0, 1) := by decide +kernel
theorem dX4_sort_6 : decode cX4_sort 6 = .ok (.iload_n 3, 1) := by decide +kernel
theorem dX4_sort_7 : decode cX4_sort 7 = .ok (.putfield 22, 3) := by decide +kernel
theorem dX4_sort_10 : decode cX4_sort 10 = .ok (.aload_n 0, 1) := by decide +kernel
theorem dX4_sort_11 : decode cX4_sort 11 = .ok (.iload 4, 2) := by decide +kernel
theorem dX4_sort_13 : decode cX4_sort 13 = .ok (.putfield 26, 3) := by decide +kernel
theorem dX4_sort_16 : decode cX4_sort 16 = .ok (.iconst 0, 1) := by decide +kernel
theorem dX4_sort_17 : decode cX4_sort 17 = .ok (.istore 5, 2) := by decide +kernel
theorem dX4_sort_19 : decode cX4_sort 19 = .ok (.iload 5, 2) := by decide +kernel
theorem dX4_sort_21 : decode cX4_sort 21 = .ok (.iload_n 2, 1) := by decide +kernel
theorem dX4_sort_22 : decode cX4_sort 22 = .ok (.if_icmp .ge 18, 3) := by decide +kernel
theorem dX4_sort_25 : decode cX4_sort 25 = .ok (.aload_n 0, 1) := by decide +kernel
theorem dX4_sort_26 : decode cX4_sort 26 = .ok (.getfield 9, 3) := by decide +kernel
theorem dX4_sort_29 : decode cX4_sort 29 = .ok (.iload 5, 2) := by decide +kernel
theorem dX4_sort_31 : decode cX4_sort 31 = .ok (.iload 5, 2) := by decide +kernel
theorem dX4_sort_33 : decode cX4_sort 33 = .ok (.iastore, 1) := by decide +kernel
theorem dX4_sort_34 : decode cX4_sort 34 = .ok (.iinc 5 1, 3) := by decide +kernel
theorem dX4_sort_37 : decode cX4_sort 37 = .ok (.goto (-18), 3) := by decide +kernel
theorem dX4_sort_40 : decode cX4_sort 40 = .ok (.iconst 1, 1) := by decide +kernel
theorem dX4_sort_41 : decode cX4_sort 41 = .ok (.istore 5, 2) := by decide +kernel
theorem dX4_sort_43 : decode cX4_sort 43 = .ok (.iload 5, 2) := by decide +kernel
theorem dX4_sort_45 : decode cX4_sort 45 = .ok (.iload_n 2, 1) := by decide +kernel
theorem dX4_sort_46 : decode cX4_sort 46 = .ok (.if_icmp .ge 88, 3) := by decide +kernel
theorem dX4_sort_49 : decode cX4_sort 49 = .ok (.iconst 0, 1) := by decide +kernel
theorem dX4_sort_50 : decode cX4_sort 50 = .ok (.istore 6, 2) := by decide +kernel
theorem dX4_sort_52 : decode cX4_sort 52 = .ok (.iload 6, 2) := by decide +kernel
theorem dX4_sort_54 : decode cX4_sort 54 = .ok (.iload_n 2, 1) := by decide +kernel
theorem dX4_sort_55 : decode cX4_sort 55 = .ok (.if_icmp .ge 41, 3) := by decide +kernel
theorem dX4_sort_58 : decode cX4_sort 58 = .ok (.aload_n 0, 1) := by decide +kernel
theorem dX4_sort_59 : decode cX4_sort 59 = .ok (.iload 6, 2) := by decide +kernel
theorem dX4_sort_61 : decode cX4_sort 61 = .ok (.iload 6, 2) := by decide +kernel
theorem dX4_sort_63 : decode cX4_sort 63 = .ok (.iload 5, 2) := by decide +kernel
theorem dX4_sort_65 : decode cX4_sort 65 = .ok (.iadd, 1) := by decide +kernel
theorem dX4_sort_66 : decode cX4_sort 66 = .ok (.iload_n 2, 1) := by decide +kernel
theorem dX4_sort_67 : decode cX4_sort 67 = .ok (.invokestatic 30, 3) := by decide +kernel
theorem dX4_sort_70 : decode cX4_sort 70 = .ok (.iload 6, 2) := by decide +kernel
theorem dX4_sort_72 : decode cX4_sort 72 = .ok (.iconst 2, 1) := by decide +kernel
theorem dX4_sort_73 : decode cX4_sort 73 = .ok (.iload 5, 2) := by decide +kernel
theorem dX4_sort_75 : decode cX4_sort 75 = .ok (.imul, 1) := by decide +kernel
theorem dX4_sort_76 : decode cX4_sort 76 = .ok (.iadd, 1) := by decide +kernel
theorem dX4_sort_77 : decode cX4_sort 77 = .ok (.iload_n 2, 1) := by decide +kernel
theorem dX4_sort_78 : decode cX4_sort 78 = .ok (.invokestatic 30, 3) := by decide +kernel
theorem dX4_sort_81 : decode cX4_sort 81 = .ok (.invokevirtual 36, 3) := by decide +kernel
theorem dX4_sort_84 : decode cX4_sort 84 = .ok (.iload 6, 2) := by decide +kernel
theorem dX4_sort_86 : decode cX4_sort 86 = .ok (.iconst 2, 1) := by decide +kernel
theorem dX4_sort_87 : decode cX4_sort 87 = .ok (.iload 5, 2) := by decide +kernel
theorem dX4_sort_89 : decode cX4_sort 89 = .ok (.imul, 1) := by decide +kernel
theorem dX4_sort_90 : decode cX4_sort 90 = .ok (.iadd, 1) := by decide +kernel
theorem dX4_sort_91 : decode cX4_sort 91 = .ok (.istore 6, 2) := by decide +kernel
theorem dX4_sort_93 : decode cX4_sort 93 = .ok (.goto (-41), 3) := by decide +kernel
theorem dX4_sort_96 : decode cX4_sort 96 = .ok (.iconst 0, 1) := by decide +kernel
theorem dX4_sort_97 : decode cX4_sort 97 = .ok (.istore 6, 2) := by decide +kernel
theorem dX4_sort_99 : decode cX4_sort 99 = .ok (.iload 6, 2) := by decide +kernel
theorem dX4_sort_101 : decode cX4_sort 101 = .ok (.iload_n 2, 1) := by decide +kernel
theorem dX4_sort_102 : decode cX4_sort 102 = .ok (.if_icmp .ge 23, 3) := by decide +kernel
theorem dX4_sort_105 : decode cX4_sort 105 = .ok (.aload_n 0, 1) := by decide +kernel
theorem dX4_sort_106 : decode cX4_sort 106 = .ok (.getfield 9, 3) := by decide +kernel
theorem dX4_sort_109 : decode cX4_sort 109 = .ok (.iload 6, 2) := by decide +kernel
theorem dX4_sort_111 : decode cX4_sort 111 = .ok (.aload_n 0, 1) := by decide +kernel
theorem dX4_sort_112 : decode cX4_sort 112 = .ok (.getfield 15, 3) := by decide +kernel
theorem dX4_sort_115 : decode cX4_sort 115 = .ok (.iload 6, 2) := by decide +kernel
theorem dX4_sort_117 : decode cX4_sort 117 = .ok (.iaload, 1) := by decide +kernel
theorem dX4_sort_118 : decode cX4_sort 118 = .ok (.iastore, 1) := by decide +kernel
theorem dX4_sort_119 : decode cX4_sort 119 = .ok (.iinc 6 1, 3) := by decide +kernel
theorem dX4_sort_122 : decode cX4_sort 122 = .ok (.goto (-23), 3) := by decide +kernel
theorem dX4_sort_125 : decode cX4_sort 125 = .ok (.iload 5, 2) := by decide +kernel
theorem dX4_sort_127 : decode cX4_sort 127 = .ok (.iconst 2, 1) := by decide +kernel
theorem dX4_sort_128 : decode cX4_sort 128 = .ok (.imul, 1) := by decide +kernel
theorem dX4_sort_129 : decode cX4_sort 129 = .ok (.istore 5, 2) := by decide +kernel
theorem dX4_sort_131 : decode cX4_sort 131 = .ok (.goto (-88), 3) := by decide +kernel
theorem dX4_sort_134 : decode cX4_sort 134 = .ok (.return_, 1) := by decide +kernel
abbrev cX4_join : ByteArray := prog_3_method_4_code
def yX4_join : MethodName := ⟨RX4, "join", "(III)V"⟩
theorem dX4_join_0 : decode cX4_join 0 = .ok (.iload_n 1, 1) := by decide +kernel
theorem dX4_join_1 : decode cX4_join 1 = .ok (.istore 4, 2) := by decide +kernel
theorem dX4_join_3 : decode cX4_join 3 = .ok (.iload_n 2, 1) := by decide +kernel
theorem dX4_join_4 : decode cX4_join 4 = .ok (.istore 5, 2) := by decide +kernel
theorem dX4_join_6 : decode cX4_join 6 = .ok (.iload_n 1, 1) := by decide +kernel
theorem dX4_join_7 : decode cX4_join 7 = .ok (.istore 6, 2) := by decide +kernel
theorem dX4_join_9 : decode cX4_join 9 = .ok (.iload 6, 2) := by decide +kernel
theorem dX4_join_11 : decode cX4_join 11 = .ok (.iload_n 3, 1) := by decide +kernel
theorem dX4_join_12 : decode cX4_join 12 = .ok (.if_icmp .ge 92, 3) := by decide +kernel
theorem dX4_join_15 : decode cX4_join 15 = .ok (.iload 4, 2) := by decide +kernel
theorem dX4_join_17 : decode cX4_join 17 = .ok (.iload_n 2, 1) := by decide +kernel
theorem dX4_join_18 : decode cX4_join 18 = .ok (.if_icmp .eq 30, 3) := by decide +kernel
theorem dX4_join_21 : decode cX4_join 21 = .ok (.iload 5, 2) := by decide +kernel
theorem dX4_join_23 : decode cX4_join 23 = .ok (.iload_n 3, 1) := by decide +kernel
theorem dX4_join_24 : decode cX4_join 24 = .ok (.if_icmp .ge 28, 3) := by decide +kernel
theorem dX4_join_27 : decode cX4_join 27 = .ok (.aload_n 0, 1) := by decide +kernel
theorem dX4_join_28 : decode cX4_join 28 = .ok (.aload_n 0, 1) := by decide +kernel
theorem dX4_join_29 : decode cX4_join 29 = .ok (.getfield 9, 3) := by decide +kernel
theorem dX4_join_32 : decode cX4_join 32 = .ok (.iload 5, 2) := by decide +kernel
theorem dX4_join_34 : decode cX4_join 34 = .ok (.iaload, 1) := by decide +kernel
theorem dX4_join_35 : decode cX4_join 35 = .ok (.aload_n 0, 1) := by decide +kernel
theorem dX4_join_36 : decode cX4_join 36 = .ok (.getfield 9, 3) := by decide +kernel
theorem dX4_join_39 : decode cX4_join 39 = .ok (.iload 4, 2) := by decide +kernel
theorem dX4_join_41 : decode cX4_join 41 = .ok (.iaload, 1) := by decide +kernel
theorem dX4_join_42 : decode cX4_join 42 = .ok (.invokevirtual 40, 3) := by decide +kernel
theorem dX4_join_45 : decode cX4_join 45 = .ok (.ifCond .eq 7, 3) := by decide +kernel
theorem dX4_join_48 : decode cX4_join 48 = .ok (.iconst 1, 1) := by decide +kernel
theorem dX4_join_49 : decode cX4_join 49 = .ok (.goto 4, 3) := by decide +kernel
theorem dX4_join_52 : decode cX4_join 52 = .ok (.iconst 0, 1) := by decide +kernel
theorem dX4_join_53 : decode cX4_join 53 = .ok (.istore 7, 2) := by decide +kernel
theorem dX4_join_55 : decode cX4_join 55 = .ok (.aload_n 0, 1) := by decide +kernel
theorem dX4_join_56 : decode cX4_join 56 = .ok (.getfield 15, 3) := by decide +kernel
theorem dX4_join_59 : decode cX4_join 59 = .ok (.iload 6, 2) := by decide +kernel
theorem dX4_join_61 : decode cX4_join 61 = .ok (.iload 7, 2) := by decide +kernel
theorem dX4_join_63 : decode cX4_join 63 = .ok (.ifCond .eq 13, 3) := by decide +kernel
theorem dX4_join_66 : decode cX4_join 66 = .ok (.aload_n 0, 1) := by decide +kernel
theorem dX4_join_67 : decode cX4_join 67 = .ok (.getfield 9, 3) := by decide +kernel
theorem dX4_join_70 : decode cX4_join 70 = .ok (.iload 5, 2) := by decide +kernel
theorem dX4_join_72 : decode cX4_join 72 = .ok (.iaload, 1) := by decide +kernel
theorem dX4_join_73 : decode cX4_join 73 = .ok (.goto 10, 3) := by decide +kernel
theorem dX4_join_76 : decode cX4_join 76 = .ok (.aload_n 0, 1) := by decide +kernel
theorem dX4_join_77 : decode cX4_join 77 = .ok (.getfield 9, 3) := by decide +kernel
theorem dX4_join_80 : decode cX4_join 80 = .ok (.iload 4, 2) := by decide +kernel
theorem dX4_join_82 : decode cX4_join 82 = .ok (.iaload, 1) := by decide +kernel
theorem dX4_join_83 : decode cX4_join 83 = .ok (.iastore, 1) := by decide +kernel
theorem dX4_join_84 : decode cX4_join 84 = .ok (.iload 7, 2) := by decide +kernel
theorem dX4_join_86 : decode cX4_join 86 = .ok (.ifCond .eq 9, 3) := by decide +kernel
theorem dX4_join_89 : decode cX4_join 89 = .ok (.iinc 5 1, 3) := by decide +kernel
theorem dX4_join_92 : decode cX4_join 92 = .ok (.goto 6, 3) := by decide +kernel
theorem dX4_join_95 : decode cX4_join 95 = .ok (.iinc 4 1, 3) := by decide +kernel
theorem dX4_join_98 : decode cX4_join 98 = .ok (.iinc 6 1, 3) := by decide +kernel
theorem dX4_join_101 : decode cX4_join 101 = .ok (.goto (-92), 3) := by decide +kernel
theorem dX4_join_104 : decode cX4_join 104 = .ok (.return_, 1) := by decide +kernel
abbrev cX4_isBefore : ByteArray := prog_3_method_5_code
def yX4_isBefore : MethodName := ⟨RX4, "isBefore", "(II)Z"⟩
theorem dX4_isBefore_0 : decode cX4_isBefore 0 = .ok (.aload_n 0, 1) := by decide +kernel
theorem dX4_isBefore_1 : decode cX4_isBefore 1 = .ok (.getfield 22, 3) := by decide +kernel
theorem dX4_isBefore_4 : decode cX4_isBefore 4 = .ok (.aload_n 0, 1) := by decide +kernel
theorem dX4_isBefore_5 : decode cX4_isBefore 5 = .ok (.getfield 18, 3) := by decide +kernel
theorem dX4_isBefore_8 : decode cX4_isBefore 8 = .ok (.iload_n 1, 1) := by decide +kernel
theorem dX4_isBefore_9 : decode cX4_isBefore 9 = .ok (.laload, 1) := by decide +kernel
theorem dX4_isBefore_10 : decode cX4_isBefore 10 = .ok (.aload_n 0, 1) := by decide +kernel
theorem dX4_isBefore_11 : decode cX4_isBefore 11 = .ok (.getfield 18, 3) := by decide +kernel
theorem dX4_isBefore_14 : decode cX4_isBefore 14 = .ok (.iload_n 2, 1) := by decide +kernel
theorem dX4_isBefore_15 : decode cX4_isBefore 15 = .ok (.laload, 1) := by decide +kernel
theorem dX4_isBefore_16 : decode cX4_isBefore 16 = .ok (.invokestatic 44, 3) := by decide +kernel
theorem dX4_isBefore_19 : decode cX4_isBefore 19 = .ok (.istore_n 3, 1) := by decide +kernel
theorem dX4_isBefore_20 : decode cX4_isBefore 20 = .ok (.aload_n 0, 1) := by decide +kernel
theorem dX4_isBefore_21 : decode cX4_isBefore 21 = .ok (.getfield 26, 3) := by decide +kernel
theorem dX4_isBefore_24 : decode cX4_isBefore 24 = .ok (.ifCond .eq 15, 3) := by decide +kernel
theorem dX4_isBefore_27 : decode cX4_isBefore 27 = .ok (.iload_n 3, 1) := by decide +kernel
theorem dX4_isBefore_28 : decode cX4_isBefore 28 = .ok (.ifCond .le 7, 3) := by decide +kernel
theorem dX4_isBefore_31 : decode cX4_isBefore 31 = .ok (.iconst 1, 1) := by decide +kernel
theorem dX4_isBefore_32 : decode cX4_isBefore 32 = .ok (.goto 16, 3) := by decide +kernel
theorem dX4_isBefore_35 : decode cX4_isBefore 35 = .ok (.iconst 0, 1) := by decide +kernel
theorem dX4_isBefore_36 : decode cX4_isBefore 36 = .ok (.goto 12, 3) := by decide +kernel
theorem dX4_isBefore_39 : decode cX4_isBefore 39 = .ok (.iload_n 3, 1) := by decide +kernel
theorem dX4_isBefore_40 : decode cX4_isBefore 40 = .ok (.ifCond .ge 7, 3) := by decide +kernel
theorem dX4_isBefore_43 : decode cX4_isBefore 43 = .ok (.iconst 1, 1) := by decide +kernel
theorem dX4_isBefore_44 : decode cX4_isBefore 44 = .ok (.goto 4, 3) := by decide +kernel
theorem dX4_isBefore_47 : decode cX4_isBefore 47 = .ok (.iconst 0, 1) := by decide +kernel
theorem dX4_isBefore_48 : decode cX4_isBefore 48 = .ok (.ireturn, 1) := by decide +kernel
abbrev cX4_at : ByteArray := prog_3_method_2_code
def yX4_at : MethodName := ⟨RX4, "at", "(I)I"⟩
theorem dX4_at_0 : decode cX4_at 0 = .ok (.aload_n 0, 1) := by decide +kernel
theorem dX4_at_1 : decode cX4_at 1 = .ok (.getfield 9, 3) := by decide +kernel
theorem dX4_at_4 : decode cX4_at 4 = .ok (.iload_n 1, 1) := by decide +kernel
theorem dX4_at_5 : decode cX4_at 5 = .ok (.iaload, 1) := by decide +kernel
theorem dX4_at_6 : decode cX4_at 6 = .ok (.ireturn, 1) := by decide +kernel
theorem q52 : (Jvm.Cond.initialized "CommaTables$Orders") ∈ lw_all := lw_g (lw_at lw_m1 9 rfl) rfl
theorem q193 : (Jvm.Cond.instantiable "CommaTables$Orders" (5 : Nat)) ∈ lw_all := lw_g (lw_at lw_m1 150 rfl) rfl
theorem q195 : (Jvm.Cond.instanceMethod ({ cls := "CommaTables$Orders", name := "<init>", desc := "()V" } : Jvm.MethodName)) ∈ lw_all := lw_g (lw_at lw_m1 152 rfl) rfl
theorem q196 : (Jvm.Cond.code ({ cls := "CommaTables$Orders", name := "<init>", desc := "()V" } : Jvm.MethodName) prog_3_method_1_code (1 : Nat) (Option.none : Option Jvm.ClassFile.FieldType)) ∈ lw_all := lw_g (lw_at lw_m1 153 rfl) rfl
theorem q197 : (Jvm.Cond.methodLink "CommaTables$Orders" (3 : Nat) ({ cls := "java/lang/Object", name := "<init>", desc := "()V" } : Jvm.MethodName)) ∈ lw_all := lw_g (lw_at lw_m1 154 rfl) rfl
theorem q198 : (Jvm.Cond.fieldLink "CommaTables$Orders" (9 : Nat) "CommaTables$Orders" "places" "[I") ∈ lw_all := lw_g (lw_at lw_m1 155 rfl) rfl
theorem q199 : (Jvm.Cond.fieldLink "CommaTables$Orders" (15 : Nat) "CommaTables$Orders" "other" "[I") ∈ lw_all := lw_g (lw_at lw_m1 156 rfl) rfl
theorem q200 : (Jvm.Cond.fieldLink "CommaTables$Orders" (18 : Nat) "CommaTables$Orders" "row" "[J") ∈ lw_all := lw_g (lw_at lw_m1 157 rfl) rfl
theorem q201 : (Jvm.Cond.fieldLink "CommaTables$Orders" (22 : Nat) "CommaTables$Orders" "lane" "I") ∈ lw_all := lw_g (lw_at lw_m1 158 rfl) rfl
theorem q202 : (Jvm.Cond.fieldLink "CommaTables$Orders" (26 : Nat) "CommaTables$Orders" "falling" "Z") ∈ lw_all := lw_g (lw_at lw_m1 159 rfl) rfl
theorem q203 : (Jvm.Cond.laysFinal "CommaTables$Orders" "CommaTables$Orders" "places" "[I") ∈ lw_all := lw_g (lw_at lw_m1 160 rfl) rfl
theorem q204 : (Jvm.Cond.soleField "CommaTables$Orders" "places") ∈ lw_all := lw_g (lw_at lw_m1 161 rfl) rfl
theorem q205 : (Jvm.Cond.laysFinal "CommaTables$Orders" "CommaTables$Orders" "other" "[I") ∈ lw_all := lw_g (lw_at lw_m1 162 rfl) rfl
theorem q206 : (Jvm.Cond.soleField "CommaTables$Orders" "other") ∈ lw_all := lw_g (lw_at lw_m1 163 rfl) rfl
theorem q207 : (Jvm.Cond.lays "CommaTables$Orders" "CommaTables$Orders" "row" "[J") ∈ lw_all := lw_g (lw_at lw_m1 164 rfl) rfl
theorem q208 : (Jvm.Cond.soleField "CommaTables$Orders" "row") ∈ lw_all := lw_g (lw_at lw_m1 165 rfl) rfl
theorem q209 : (Jvm.Cond.lays "CommaTables$Orders" "CommaTables$Orders" "lane" "I") ∈ lw_all := lw_g (lw_at lw_m1 166 rfl) rfl
theorem q210 : (Jvm.Cond.soleField "CommaTables$Orders" "lane") ∈ lw_all := lw_g (lw_at lw_m1 167 rfl) rfl
theorem q211 : (Jvm.Cond.lays "CommaTables$Orders" "CommaTables$Orders" "falling" "Z") ∈ lw_all := lw_g (lw_at lw_m1 168 rfl) rfl
theorem q212 : (Jvm.Cond.soleField "CommaTables$Orders" "falling") ∈ lw_all := lw_g (lw_at lw_m1 169 rfl) rfl
theorem q213 : (Jvm.Cond.superclass "CommaTables$Orders" "java/lang/Object") ∈ lw_all := lw_g (lw_at lw_m1 170 rfl) rfl
theorem q596 : (Jvm.Cond.instanceMethod ({ cls := "CommaTables$Orders", name := "sort", desc := "([JIIZ)V" } : Jvm.MethodName)) ∈ lw_all := lw_g (lw_at lw_m3 73 rfl) rfl
theorem q597 : (Jvm.Cond.selects "CommaTables$Orders" ({ cls := "CommaTables$Orders", name := "sort", desc := "([JIIZ)V" } : Jvm.MethodName) ({ cls := "CommaTables$Orders", name := "sort", desc := "([JIIZ)V" } : Jvm.MethodName)) ∈ lw_all := lw_g (lw_at lw_m3 74 rfl) rfl
theorem q598 : (Jvm.Cond.code ({ cls := "CommaTables$Orders", name := "sort", desc := "([JIIZ)V" } : Jvm.MethodName) prog_3_method_3_code (7 : Nat) (Option.none : Option Jvm.ClassFile.FieldType)) ∈ lw_all := lw_g (lw_at lw_m3 75 rfl) rfl
theorem q599 : (Jvm.Cond.methodLink "CommaTables$Orders" (30 : Nat) ({ cls := "java/lang/Math", name := "min", desc := "(II)I" } : Jvm.MethodName)) ∈ lw_all := lw_g (lw_at lw_m3 76 rfl) rfl
theorem q600 : (Jvm.Cond.methodLink "CommaTables$Orders" (36 : Nat) ({ cls := "CommaTables$Orders", name := "join", desc := "(III)V" } : Jvm.MethodName)) ∈ lw_all := lw_g (lw_at lw_m3 77 rfl) rfl
theorem q601 : (Jvm.Cond.privateMethod ({ cls := "CommaTables$Orders", name := "join", desc := "(III)V" } : Jvm.MethodName)) ∈ lw_tbl := lw_at lw_m3 78 rfl
theorem q602 : (Jvm.Cond.instanceMethod ({ cls := "CommaTables$Orders", name := "join", desc := "(III)V" } : Jvm.MethodName)) ∈ lw_all := lw_g (lw_at lw_m3 79 rfl) rfl
theorem q603 : (Jvm.Cond.code ({ cls := "CommaTables$Orders", name := "join", desc := "(III)V" } : Jvm.MethodName) prog_3_method_4_code (8 : Nat) (Option.none : Option Jvm.ClassFile.FieldType)) ∈ lw_all := lw_g (lw_at lw_m3 80 rfl) rfl
theorem q604 : (Jvm.Cond.methodLink "CommaTables$Orders" (40 : Nat) ({ cls := "CommaTables$Orders", name := "isBefore", desc := "(II)Z" } : Jvm.MethodName)) ∈ lw_all := lw_g (lw_at lw_m3 81 rfl) rfl
theorem q605 : (Jvm.Cond.privateMethod ({ cls := "CommaTables$Orders", name := "isBefore", desc := "(II)Z" } : Jvm.MethodName)) ∈ lw_tbl := lw_at lw_m3 82 rfl
theorem q606 : (Jvm.Cond.instanceMethod ({ cls := "CommaTables$Orders", name := "isBefore", desc := "(II)Z" } : Jvm.MethodName)) ∈ lw_all := lw_g (lw_at lw_m3 83 rfl) rfl
theorem q607 : (Jvm.Cond.code ({ cls := "CommaTables$Orders", name := "isBefore", desc := "(II)Z" } : Jvm.MethodName) prog_3_method_5_code (4 : Nat) (Option.some Jvm.ClassFile.FieldType.boolean)) ∈ lw_all := lw_g (lw_at lw_m3 84 rfl) rfl
theorem q608 : (Jvm.Cond.methodLink "CommaTables$Orders" (44 : Nat) ({ cls := "CommaTables$Numbers", name := "order", desc := "(IJJ)I" } : Jvm.MethodName)) ∈ lw_all := lw_g (lw_at lw_m3 85 rfl) rfl
theorem q628 : (Jvm.Cond.instanceMethod ({ cls := "CommaTables$Orders", name := "at", desc := "(I)I" } : Jvm.MethodName)) ∈ lw_all := lw_g (lw_at lw_m3 105 rfl) rfl
theorem q629 : (Jvm.Cond.selects "CommaTables$Orders" ({ cls := "CommaTables$Orders", name := "at", desc := "(I)I" } : Jvm.MethodName) ({ cls := "CommaTables$Orders", name := "at", desc := "(I)I" } : Jvm.MethodName)) ∈ lw_all := lw_g (lw_at lw_m3 106 rfl) rfl
theorem q630 : (Jvm.Cond.code ({ cls := "CommaTables$Orders", name := "at", desc := "(I)I" } : Jvm.MethodName) prog_3_method_2_code (2 : Nat) (Option.some Jvm.ClassFile.FieldType.int)) ∈ lw_all := lw_g (lw_at lw_m3 107 rfl) rfl
theorem q1082 : (Jvm.Cond.selects "CommaTables$Orders" ({ cls := "java/lang/Object", name := "getClass", desc := "()Ljava/lang/Class;" } : Jvm.MethodName) ({ cls := "java/lang/Object", name := "getClass", desc := "()Ljava/lang/Class;" } : Jvm.MethodName)) ∈ lw_all := lw_g (lw_at lw_m5 79 rfl) rfl
theorem q1346 : (Jvm.Cond.castable "CommaTables$Orders" "java/lang/Object") ∈ lw_tbl := lw_at lw_m6 103 rfl
theorem in_X4 : ∀ w ∈ wsX40, w ∈ lw_all := lw_in wsX40 [203, 205, 207, 209, 211] (by decide +kernel) (by decide +kernel)
/-! CommaTables$Out -/
set_option maxRecDepth 100000
def RX5 : String := "CommaTables$Out"
def TX5 : u_T := fun k => match k with
  | 0 => ("CommaTables$Out", "bytes", "[B", true)
  | _ => ("CommaTables$Out", "size", "I", false)
def tyX5 : Nat → FieldType := fun k => match k with
  | 0 => .array .byte
  | _ => .int
abbrev wsX50 : List Cond := u_ws RX5 TX5 2
theorem nmX5 : ∀ a, a < 2 → ∀ b, b < 2 → a ≠ b → (TX5 a).2.1 ≠ (TX5 b).2.1 := by decide +kernel
theorem tyX5_ok : ∀ k, k < 2 → parseFieldDescriptor (TX5 k).2.2.1 = some (tyX5 k) := by decide +kernel
abbrev cX5_init : ByteArray := prog_4_method_1_code
def yX5_init : MethodName := ⟨RX5, "<init>", "(I)V"⟩
theorem dX5_init_0 : decode cX5_init 0 = .ok (.aload_n 0, 1) := by decide +kernel
theorem dX5_init_1 : decode cX5_init 1 = .ok (.invokespecial 1, 3) := by decide +kernel
theorem dX5_init_4 : decode cX5_init 4 = .ok (.aload_n 0, 1) := by decide +kernel
theorem dX5_init_5 : decode cX5_init 5 = .ok (.iload_n 1, 1) := by decide +kernel
theorem dX5_init_6 : decode cX5_init 6 = .ok (.newarray .byte, 2) := by decide +kernel
theorem dX5_init_8 : decode cX5_init 8 = .ok (.putfield 7, 3) := by decide +kernel
theorem dX5_init_11 : decode cX5_init 11 = .ok (.return_, 1) := by decide +kernel
abbrev cX5_put : ByteArray := prog_4_method_2_code
def yX5_put : MethodName := ⟨RX5, "put", "(I)Z"⟩
theorem dX5_put_0 : decode cX5_put 0 = .ok (.aload_n 0, 1) := by decide +kernel
theorem dX5_put_1 : decode cX5_put 1 = .ok (.getfield 13, 3) := by decide +kernel
theorem dX5_put_4 : decode cX5_put 4 = .ok (.aload_n 0, 1) := by decide +kernel
theorem dX5_put_5 : decode cX5_put 5 = .ok (.getfield 7, 3) := by decide +kernel
theorem dX5_put_8 : decode cX5_put 8 = .ok (.arraylength, 1) := by decide +kernel
theorem dX5_put_9 : decode cX5_put 9 = .ok (.if_icmp .ne 5, 3) := by decide +kernel
theorem dX5_put_12 : decode cX5_put 12 = .ok (.iconst 0, 1) := by decide +kernel
theorem dX5_put_13 : decode cX5_put 13 = .ok (.ireturn, 1) := by decide +kernel
theorem dX5_put_14 : decode cX5_put 14 = .ok (.aload_n 0, 1) := by decide +kernel
theorem dX5_put_15 : decode cX5_put 15 = .ok (.getfield 7, 3) := by decide +kernel
theorem dX5_put_18 : decode cX5_put 18 = .ok (.aload_n 0, 1) := by decide +kernel
theorem dX5_put_19 : decode cX5_put 19 = .ok (.getfield 13, 3) := by decide +kernel
theorem dX5_put_22 : decode cX5_put 22 = .ok (.iload_n 1, 1) := by decide +kernel
theorem dX5_put_23 : decode cX5_put 23 = .ok (.i2b, 1) := by decide +kernel
theorem dX5_put_24 : decode cX5_put 24 = .ok (.bastore, 1) := by decide +kernel
theorem dX5_put_25 : decode cX5_put 25 = .ok (.aload_n 0, 1) := by decide +kernel
theorem dX5_put_26 : decode cX5_put 26 = .ok (.dup, 1) := by decide +kernel
theorem dX5_put_27 : decode cX5_put 27 = .ok (.getfield 13, 3) := by decide +kernel
theorem dX5_put_30 : decode cX5_put 30 = .ok (.iconst 1, 1) := by decide +kernel
theorem dX5_put_31 : decode cX5_put 31 = .ok (.iadd, 1) := by decide +kernel
theorem dX5_put_32 : decode cX5_put 32 = .ok (.putfield 13, 3) := by decide +kernel
theorem dX5_put_35 : decode cX5_put 35 = .ok (.iconst 1, 1) := by decide +kernel
theorem dX5_put_36 : decode cX5_put 36 = .ok (.ireturn, 1) := by decide +kernel
theorem q53 : (Jvm.Cond.initialized "CommaTables$Out") ∈ lw_all := lw_g (lw_at lw_m1 10 rfl) rfl
theorem q263 : (Jvm.Cond.instantiable "CommaTables$Out" (2 : Nat)) ∈ lw_all := lw_g (lw_at lw_m1 220 rfl) rfl
theorem q265 : (Jvm.Cond.instanceMethod ({ cls := "CommaTables$Out", name := "<init>", desc := "(I)V" } : Jvm.MethodName)) ∈ lw_all := lw_g (lw_at lw_m1 222 rfl) rfl
theorem q266 : (Jvm.Cond.code ({ cls := "CommaTables$Out", name := "<init>", desc := "(I)V" } : Jvm.MethodName) prog_4_method_1_code (2 : Nat) (Option.none : Option Jvm.ClassFile.FieldType)) ∈ lw_all := lw_g (lw_at lw_m1 223 rfl) rfl
theorem q267 : (Jvm.Cond.methodLink "CommaTables$Out" (1 : Nat) ({ cls := "java/lang/Object", name := "<init>", desc := "()V" } : Jvm.MethodName)) ∈ lw_all := lw_g (lw_at lw_m1 224 rfl) rfl
theorem q268 : (Jvm.Cond.fieldLink "CommaTables$Out" (7 : Nat) "CommaTables$Out" "bytes" "[B") ∈ lw_all := lw_g (lw_at lw_m1 225 rfl) rfl
theorem q270 : (Jvm.Cond.fieldLink "CommaTables$Out" (13 : Nat) "CommaTables$Out" "size" "I") ∈ lw_all := lw_g (lw_at lw_m1 227 rfl) rfl
theorem q272 : (Jvm.Cond.laysFinal "CommaTables$Out" "CommaTables$Out" "bytes" "[B") ∈ lw_all := lw_g (lw_at lw_m1 229 rfl) rfl
theorem q273 : (Jvm.Cond.soleField "CommaTables$Out" "bytes") ∈ lw_all := lw_g (lw_at lw_m1 230 rfl) rfl
theorem q274 : (Jvm.Cond.lays "CommaTables$Out" "CommaTables$Out" "size" "I") ∈ lw_all := lw_g (lw_at lw_m1 231 rfl) rfl
theorem q275 : (Jvm.Cond.soleField "CommaTables$Out" "size") ∈ lw_all := lw_g (lw_at lw_m1 232 rfl) rfl
theorem q276 : (Jvm.Cond.superclass "CommaTables$Out" "java/lang/Object") ∈ lw_all := lw_g (lw_at lw_m1 233 rfl) rfl
theorem q674 : (Jvm.Cond.instanceMethod ({ cls := "CommaTables$Out", name := "put", desc := "(I)Z" } : Jvm.MethodName)) ∈ lw_all := lw_g (lw_at lw_m3 151 rfl) rfl
theorem q675 : (Jvm.Cond.selects "CommaTables$Out" ({ cls := "CommaTables$Out", name := "put", desc := "(I)Z" } : Jvm.MethodName) ({ cls := "CommaTables$Out", name := "put", desc := "(I)Z" } : Jvm.MethodName)) ∈ lw_all := lw_g (lw_at lw_m3 152 rfl) rfl
theorem q676 : (Jvm.Cond.code ({ cls := "CommaTables$Out", name := "put", desc := "(I)Z" } : Jvm.MethodName) prog_4_method_2_code (2 : Nat) (Option.some Jvm.ClassFile.FieldType.boolean)) ∈ lw_all := lw_g (lw_at lw_m3 153 rfl) rfl
theorem q1083 : (Jvm.Cond.selects "CommaTables$Out" ({ cls := "java/lang/Object", name := "getClass", desc := "()Ljava/lang/Class;" } : Jvm.MethodName) ({ cls := "java/lang/Object", name := "getClass", desc := "()Ljava/lang/Class;" } : Jvm.MethodName)) ∈ lw_all := lw_g (lw_at lw_m5 80 rfl) rfl
theorem q1347 : (Jvm.Cond.castable "CommaTables$Out" "java/lang/Object") ∈ lw_tbl := lw_at lw_m6 104 rfl
theorem in_X5 : ∀ w ∈ wsX50, w ∈ lw_all := lw_in wsX50 [272, 274] (by decide +kernel) (by decide +kernel)
/-! CommaTables$Table -/
set_option maxRecDepth 100000
def RX9 : String := "CommaTables$Table"
def TX9 : u_T := fun k => match k with
  | 0 => ("CommaTables$Table", "columns", "I", true)
  | 1 => ("CommaTables$Table", "rows", "I", true)
  | 2 => ("CommaTables$Table", "names", "[I", true)
  | 3 => ("CommaTables$Table", "nameLengths", "[B", true)
  | 4 => ("CommaTables$Table", "cells", "[I", true)
  | 5 => ("CommaTables$Table", "lengths", "[B", true)
  | _ => ("CommaTables$Table", "lanes", "[I", true)
def tyX9 : Nat → FieldType := fun k => match k with
  | 0 => .int
  | 1 => .int
  | 2 => .array .int
  | 3 => .array .byte
  | 4 => .array .int
  | 5 => .array .byte
  | _ => .array .int
abbrev wsX90 : List Cond := u_ws RX9 TX9 7
theorem nmX9 : ∀ a, a < 7 → ∀ b, b < 7 → a ≠ b → (TX9 a).2.1 ≠ (TX9 b).2.1 := by decide +kernel
theorem tyX9_ok : ∀ k, k < 7 → parseFieldDescriptor (TX9 k).2.2.1 = some (tyX9 k) := by decide +kernel
abbrev cX9_init : ByteArray := prog_6_method_1_code
def yX9_init : MethodName := ⟨RX9, "<init>", "(II)V"⟩
theorem dX9_init_0 : decode cX9_init 0 = .ok (.aload_n 0, 1) := by decide +kernel
theorem dX9_init_1 : decode cX9_init 1 = .ok (.invokespecial 1, 3) := by decide +kernel
theorem dX9_init_4 : decode cX9_init 4 = .ok (.aload_n 0, 1) := by decide +kernel
theorem dX9_init_5 : decode cX9_init 5 = .ok (.iload_n 1, 1) := by decide +kernel
theorem dX9_init_6 : decode cX9_init 6 = .ok (.putfield 7, 3) := by decide +kernel
theorem dX9_init_9 : decode cX9_init 9 = .ok (.aload_n 0, 1) := by decide +kernel
theorem dX9_init_10 : decode cX9_init 10 = .ok (.iload_n 2, 1) := by decide +kernel
theorem dX9_init_11 : decode cX9_init 11 = .ok (.putfield 13, 3) := by decide +kernel
theorem dX9_init_14 : decode cX9_init 14 = .ok (.aload_n 0, 1) := by decide +kernel
theorem dX9_init_15 : decode cX9_init 15 = .ok (.iload_n 1, 1) := by decide +kernel
theorem dX9_init_16 : decode cX9_init 16 = .ok (.newarray .int, 2) := by decide +kernel
theorem dX9_init_18 : decode cX9_init 18 = .ok (.putfield 16, 3) := by decide +kernel
theorem dX9_init_21 : decode cX9_init 21 = .ok (.aload_n 0, 1) := by decide +kernel
theorem dX9_init_22 : decode cX9_init 22 = .ok (.iload_n 1, 1) := by decide +kernel
theorem dX9_init_23 : decode cX9_init 23 = .ok (.newarray .byte, 2) := by decide +kernel
theorem dX9_init_25 : decode cX9_init 25 = .ok (.putfield 20, 3) := by decide +kernel
theorem dX9_init_28 : decode cX9_init 28 = .ok (.aload_n 0, 1) := by decide +kernel
theorem dX9_init_29 : decode cX9_init 29 = .ok (.iload_n 1, 1) := by decide +kernel
theorem dX9_init_30 : decode cX9_init 30 = .ok (.iload_n 2, 1) := by decide +kernel
theorem dX9_init_31 : decode cX9_init 31 = .ok (.imul, 1) := by decide +kernel
theorem dX9_init_32 : decode cX9_init 32 = .ok (.newarray .int, 2) := by decide +kernel
theorem dX9_init_34 : decode cX9_init 34 = .ok (.putfield 24, 3) := by decide +kernel
theorem dX9_init_37 : decode cX9_init 37 = .ok (.aload_n 0, 1) := by decide +kernel
theorem dX9_init_38 : decode cX9_init 38 = .ok (.iload_n 1, 1) := by decide +kernel
theorem dX9_init_39 : decode cX9_init 39 = .ok (.iload_n 2, 1) := by decide +kernel
theorem dX9_init_40 : decode cX9_init 40 = .ok (.imul, 1) := by decide +kernel
theorem dX9_init_41 : decode cX9_init 41 = .ok (.newarray .byte, 2) := by decide +kernel
theorem dX9_init_43 : decode cX9_init 43 = .ok (.putfield 27, 3) := by decide +kernel
theorem dX9_init_46 : decode cX9_init 46 = .ok (.aload_n 0, 1) := by decide +kernel
theorem dX9_init_47 : decode cX9_init 47 = .ok (.iload_n 1, 1) := by decide +kernel
theorem dX9_init_48 : decode cX9_init 48 = .ok (.newarray .int, 2) := by decide +kernel
theorem dX9_init_50 : decode cX9_init 50 = .ok (.putfield 30, 3) := by decide +kernel
theorem dX9_init_53 : decode cX9_init 53 = .ok (.return_, 1) := by decide +kernel
abbrev cX9_isMissing : ByteArray := prog_6_method_2_code
def yX9_isMissing : MethodName := ⟨RX9, "isMissing", "(I)Z"⟩
theorem dX9_isMissing_0 : decode cX9_isMissing 0 = .ok (.aload_n 0, 1) := by decide +kernel
theorem dX9_isMissing_1 : decode cX9_isMissing 1 = .ok (.getfield 27, 3) := by decide +kernel
theorem dX9_isMissing_4 : decode cX9_isMissing 4 = .ok (.iload_n 1, 1) := by decide +kernel
theorem dX9_isMissing_5 : decode cX9_isMissing 5 = .ok (.baload, 1) := by decide +kernel
theorem dX9_isMissing_6 : decode cX9_isMissing 6 = .ok (.ifCond .ge 7, 3) := by decide +kernel
theorem dX9_isMissing_9 : decode cX9_isMissing 9 = .ok (.iconst 1, 1) := by decide +kernel
theorem dX9_isMissing_10 : decode cX9_isMissing 10 = .ok (.goto 4, 3) := by decide +kernel
theorem dX9_isMissing_13 : decode cX9_isMissing 13 = .ok (.iconst 0, 1) := by decide +kernel
theorem dX9_isMissing_14 : decode cX9_isMissing 14 = .ok (.ireturn, 1) := by decide +kernel
abbrev cX9_length : ByteArray := prog_6_method_4_code
def yX9_length : MethodName := ⟨RX9, "length", "(I)I"⟩
theorem dX9_length_0 : decode cX9_length 0 = .ok (.aload_n 0, 1) := by decide +kernel
theorem dX9_length_1 : decode cX9_length 1 = .ok (.getfield 27, 3) := by decide +kernel
theorem dX9_length_4 : decode cX9_length 4 = .ok (.iload_n 1, 1) := by decide +kernel
theorem dX9_length_5 : decode cX9_length 5 = .ok (.baload, 1) := by decide +kernel
theorem dX9_length_6 : decode cX9_length 6 = .ok (.ifCond .ge 7, 3) := by decide +kernel
theorem dX9_length_9 : decode cX9_length 9 = .ok (.iconst 0, 1) := by decide +kernel
theorem dX9_length_10 : decode cX9_length 10 = .ok (.goto 12, 3) := by decide +kernel
theorem dX9_length_13 : decode cX9_length 13 = .ok (.aload_n 0, 1) := by decide +kernel
theorem dX9_length_14 : decode cX9_length 14 = .ok (.getfield 27, 3) := by decide +kernel
theorem dX9_length_17 : decode cX9_length 17 = .ok (.iload_n 1, 1) := by decide +kernel
theorem dX9_length_18 : decode cX9_length 18 = .ok (.baload, 1) := by decide +kernel
theorem dX9_length_19 : decode cX9_length 19 = .ok (.bipush 63, 2) := by decide +kernel
theorem dX9_length_21 : decode cX9_length 21 = .ok (.iand, 1) := by decide +kernel
theorem dX9_length_22 : decode cX9_length 22 = .ok (.ireturn, 1) := by decide +kernel
abbrev cX9_isQuoted : ByteArray := prog_6_method_3_code
def yX9_isQuoted : MethodName := ⟨RX9, "isQuoted", "(I)Z"⟩
theorem dX9_isQuoted_0 : decode cX9_isQuoted 0 = .ok (.aload_n 0, 1) := by decide +kernel
theorem dX9_isQuoted_1 : decode cX9_isQuoted 1 = .ok (.getfield 27, 3) := by decide +kernel
theorem dX9_isQuoted_4 : decode cX9_isQuoted 4 = .ok (.iload_n 1, 1) := by decide +kernel
theorem dX9_isQuoted_5 : decode cX9_isQuoted 5 = .ok (.baload, 1) := by decide +kernel
theorem dX9_isQuoted_6 : decode cX9_isQuoted 6 = .ok (.bipush 64, 2) := by decide +kernel
theorem dX9_isQuoted_8 : decode cX9_isQuoted 8 = .ok (.if_icmp .lt 7, 3) := by decide +kernel
theorem dX9_isQuoted_11 : decode cX9_isQuoted 11 = .ok (.iconst 1, 1) := by decide +kernel
theorem dX9_isQuoted_12 : decode cX9_isQuoted 12 = .ok (.goto 4, 3) := by decide +kernel
theorem dX9_isQuoted_15 : decode cX9_isQuoted 15 = .ok (.iconst 0, 1) := by decide +kernel
theorem dX9_isQuoted_16 : decode cX9_isQuoted 16 = .ok (.ireturn, 1) := by decide +kernel
theorem q57 : (Jvm.Cond.initialized "CommaTables$Table") ∈ lw_all := lw_g (lw_at lw_m1 14 rfl) rfl
theorem q386 : (Jvm.Cond.instantiable "CommaTables$Table" (7 : Nat)) ∈ lw_all := lw_g (lw_at lw_m2 103 rfl) rfl
theorem q388 : (Jvm.Cond.instanceMethod ({ cls := "CommaTables$Table", name := "<init>", desc := "(II)V" } : Jvm.MethodName)) ∈ lw_all := lw_g (lw_at lw_m2 105 rfl) rfl
theorem q389 : (Jvm.Cond.code ({ cls := "CommaTables$Table", name := "<init>", desc := "(II)V" } : Jvm.MethodName) prog_6_method_1_code (3 : Nat) (Option.none : Option Jvm.ClassFile.FieldType)) ∈ lw_all := lw_g (lw_at lw_m2 106 rfl) rfl
theorem q390 : (Jvm.Cond.methodLink "CommaTables$Table" (1 : Nat) ({ cls := "java/lang/Object", name := "<init>", desc := "()V" } : Jvm.MethodName)) ∈ lw_all := lw_g (lw_at lw_m2 107 rfl) rfl
theorem q391 : (Jvm.Cond.fieldLink "CommaTables$Table" (7 : Nat) "CommaTables$Table" "columns" "I") ∈ lw_all := lw_g (lw_at lw_m2 108 rfl) rfl
theorem q394 : (Jvm.Cond.fieldLink "CommaTables$Table" (13 : Nat) "CommaTables$Table" "rows" "I") ∈ lw_all := lw_g (lw_at lw_m2 111 rfl) rfl
theorem q397 : (Jvm.Cond.fieldLink "CommaTables$Table" (16 : Nat) "CommaTables$Table" "names" "[I") ∈ lw_all := lw_g (lw_at lw_m2 114 rfl) rfl
theorem q399 : (Jvm.Cond.fieldLink "CommaTables$Table" (20 : Nat) "CommaTables$Table" "nameLengths" "[B") ∈ lw_all := lw_g (lw_at lw_m2 116 rfl) rfl
theorem q401 : (Jvm.Cond.fieldLink "CommaTables$Table" (24 : Nat) "CommaTables$Table" "cells" "[I") ∈ lw_all := lw_g (lw_at lw_m2 118 rfl) rfl
theorem q404 : (Jvm.Cond.fieldLink "CommaTables$Table" (27 : Nat) "CommaTables$Table" "lengths" "[B") ∈ lw_all := lw_g (lw_at lw_m2 121 rfl) rfl
theorem q406 : (Jvm.Cond.fieldLink "CommaTables$Table" (30 : Nat) "CommaTables$Table" "lanes" "[I") ∈ lw_all := lw_g (lw_at lw_m2 123 rfl) rfl
theorem q409 : (Jvm.Cond.laysFinal "CommaTables$Table" "CommaTables$Table" "columns" "I") ∈ lw_all := lw_g (lw_at lw_m2 126 rfl) rfl
theorem q410 : (Jvm.Cond.soleField "CommaTables$Table" "columns") ∈ lw_all := lw_g (lw_at lw_m2 127 rfl) rfl
theorem q411 : (Jvm.Cond.laysFinal "CommaTables$Table" "CommaTables$Table" "rows" "I") ∈ lw_all := lw_g (lw_at lw_m2 128 rfl) rfl
theorem q412 : (Jvm.Cond.soleField "CommaTables$Table" "rows") ∈ lw_all := lw_g (lw_at lw_m2 129 rfl) rfl
theorem q413 : (Jvm.Cond.laysFinal "CommaTables$Table" "CommaTables$Table" "names" "[I") ∈ lw_all := lw_g (lw_at lw_m2 130 rfl) rfl
theorem q414 : (Jvm.Cond.soleField "CommaTables$Table" "names") ∈ lw_all := lw_g (lw_at lw_m2 131 rfl) rfl
theorem q415 : (Jvm.Cond.laysFinal "CommaTables$Table" "CommaTables$Table" "nameLengths" "[B") ∈ lw_all := lw_g (lw_at lw_m2 132 rfl) rfl
theorem q416 : (Jvm.Cond.soleField "CommaTables$Table" "nameLengths") ∈ lw_all := lw_g (lw_at lw_m2 133 rfl) rfl
theorem q417 : (Jvm.Cond.laysFinal "CommaTables$Table" "CommaTables$Table" "cells" "[I") ∈ lw_all := lw_g (lw_at lw_m2 134 rfl) rfl
theorem q418 : (Jvm.Cond.soleField "CommaTables$Table" "cells") ∈ lw_all := lw_g (lw_at lw_m2 135 rfl) rfl
theorem q419 : (Jvm.Cond.laysFinal "CommaTables$Table" "CommaTables$Table" "lengths" "[B") ∈ lw_all := lw_g (lw_at lw_m2 136 rfl) rfl
theorem q420 : (Jvm.Cond.soleField "CommaTables$Table" "lengths") ∈ lw_all := lw_g (lw_at lw_m2 137 rfl) rfl
theorem q421 : (Jvm.Cond.laysFinal "CommaTables$Table" "CommaTables$Table" "lanes" "[I") ∈ lw_all := lw_g (lw_at lw_m2 138 rfl) rfl
theorem q422 : (Jvm.Cond.soleField "CommaTables$Table" "lanes") ∈ lw_all := lw_g (lw_at lw_m2 139 rfl) rfl
theorem q423 : (Jvm.Cond.superclass "CommaTables$Table" "java/lang/Object") ∈ lw_all := lw_g (lw_at lw_m2 140 rfl) rfl
theorem q437 : (Jvm.Cond.instanceMethod ({ cls := "CommaTables$Table", name := "isMissing", desc := "(I)Z" } : Jvm.MethodName)) ∈ lw_all := lw_g (lw_at lw_m2 154 rfl) rfl
theorem q438 : (Jvm.Cond.selects "CommaTables$Table" ({ cls := "CommaTables$Table", name := "isMissing", desc := "(I)Z" } : Jvm.MethodName) ({ cls := "CommaTables$Table", name := "isMissing", desc := "(I)Z" } : Jvm.MethodName)) ∈ lw_all := lw_g (lw_at lw_m2 155 rfl) rfl
theorem q439 : (Jvm.Cond.code ({ cls := "CommaTables$Table", name := "isMissing", desc := "(I)Z" } : Jvm.MethodName) prog_6_method_2_code (2 : Nat) (Option.some Jvm.ClassFile.FieldType.boolean)) ∈ lw_all := lw_g (lw_at lw_m2 156 rfl) rfl
theorem q453 : (Jvm.Cond.instanceMethod ({ cls := "CommaTables$Table", name := "length", desc := "(I)I" } : Jvm.MethodName)) ∈ lw_all := lw_g (lw_at lw_m2 170 rfl) rfl
theorem q454 : (Jvm.Cond.selects "CommaTables$Table" ({ cls := "CommaTables$Table", name := "length", desc := "(I)I" } : Jvm.MethodName) ({ cls := "CommaTables$Table", name := "length", desc := "(I)I" } : Jvm.MethodName)) ∈ lw_all := lw_g (lw_at lw_m2 171 rfl) rfl
theorem q455 : (Jvm.Cond.code ({ cls := "CommaTables$Table", name := "length", desc := "(I)I" } : Jvm.MethodName) prog_6_method_4_code (2 : Nat) (Option.some Jvm.ClassFile.FieldType.int)) ∈ lw_all := lw_g (lw_at lw_m2 172 rfl) rfl
theorem q457 : (Jvm.Cond.instanceMethod ({ cls := "CommaTables$Table", name := "isQuoted", desc := "(I)Z" } : Jvm.MethodName)) ∈ lw_all := lw_g (lw_at lw_m2 174 rfl) rfl
theorem q458 : (Jvm.Cond.selects "CommaTables$Table" ({ cls := "CommaTables$Table", name := "isQuoted", desc := "(I)Z" } : Jvm.MethodName) ({ cls := "CommaTables$Table", name := "isQuoted", desc := "(I)Z" } : Jvm.MethodName)) ∈ lw_all := lw_g (lw_at lw_m2 175 rfl) rfl
theorem q459 : (Jvm.Cond.code ({ cls := "CommaTables$Table", name := "isQuoted", desc := "(I)Z" } : Jvm.MethodName) prog_6_method_3_code (2 : Nat) (Option.some Jvm.ClassFile.FieldType.boolean)) ∈ lw_all := lw_g (lw_at lw_m2 176 rfl) rfl
theorem q1085 : (Jvm.Cond.selects "CommaTables$Table" ({ cls := "java/lang/Object", name := "getClass", desc := "()Ljava/lang/Class;" } : Jvm.MethodName) ({ cls := "java/lang/Object", name := "getClass", desc := "()Ljava/lang/Class;" } : Jvm.MethodName)) ∈ lw_all := lw_g (lw_at lw_m5 82 rfl) rfl
theorem q1339 : (Jvm.Cond.castable "CommaTables$Table" "java/lang/Object") ∈ lw_tbl := lw_at lw_m6 96 rfl
theorem in_X9 : ∀ w ∈ wsX90, w ∈ lw_all := lw_in wsX90 [409, 411, 413, 415, 417, 419, 421] (by decide +kernel) (by decide +kernel)
/-! CommaTables$Numbers -/
set_option maxRecDepth 100000
def RX13 : String := "CommaTables$Numbers"
abbrev cX13_bits : ByteArray := prog_2_method_4_code
def yX13_bits : MethodName := ⟨RX13, "bits", "(ID)J"⟩
theorem dX13_bits_0 : decode cX13_bits 0 = .ok (.iload_n 0, 1) := by decide +kernel
theorem dX13_bits_1 : decode cX13_bits 1 = .ok (.bipush 6, 2) := by decide +kernel
theorem dX13_bits_3 : decode cX13_bits 3 = .ok (.if_icmp .ne 16, 3) := by decide +kernel
theorem dX13_bits_6 : decode cX13_bits 6 = .ok (.dload_n 1, 1) := by decide +kernel
theorem dX13_bits_7 : decode cX13_bits 7 = .ok (.d2f, 1) := by decide +kernel
theorem dX13_bits_8 : decode cX13_bits 8 = .ok (.invokestatic 33, 3) := by decide +kernel
theorem dX13_bits_11 : decode cX13_bits 11 = .ok (.i2l, 1) := by decide +kernel
theorem dX13_bits_12 : decode cX13_bits 12 = .ok (.ldc2_w 11, 3) := by decide +kernel
theorem dX13_bits_15 : decode cX13_bits 15 = .ok (.land, 1) := by decide +kernel
theorem dX13_bits_16 : decode cX13_bits 16 = .ok (.goto 7, 3) := by decide +kernel
theorem dX13_bits_19 : decode cX13_bits 19 = .ok (.dload_n 1, 1) := by decide +kernel
theorem dX13_bits_20 : decode cX13_bits 20 = .ok (.invokestatic 37, 3) := by decide +kernel
theorem dX13_bits_23 : decode cX13_bits 23 = .ok (.lreturn, 1) := by decide +kernel
abbrev cX13_order : ByteArray := prog_2_method_14_code
def yX13_order : MethodName := ⟨RX13, "order", "(IJJ)I"⟩
theorem dX13_order_0 : decode cX13_order 0 = .ok (.iload_n 0, 1) := by decide +kernel
theorem dX13_order_1 : decode cX13_order 1 = .ok (.lload_n 1, 1) := by decide +kernel
theorem dX13_order_2 : decode cX13_order 2 = .ok (.lload_n 3, 1) := by decide +kernel
theorem dX13_order_3 : decode cX13_order 3 = .ok (.invokestatic 91, 3) := by decide +kernel
theorem dX13_order_6 : decode cX13_order 6 = .ok (.istore 5, 2) := by decide +kernel
theorem dX13_order_8 : decode cX13_order 8 = .ok (.iload 5, 2) := by decide +kernel
theorem dX13_order_10 : decode cX13_order 10 = .ok (.ifCond .ne 15, 3) := by decide +kernel
theorem dX13_order_13 : decode cX13_order 13 = .ok (.iload_n 0, 1) := by decide +kernel
theorem dX13_order_14 : decode cX13_order 14 = .ok (.bipush 6, 2) := by decide +kernel
theorem dX13_order_16 : decode cX13_order 16 = .ok (.if_icmp .lt 9, 3) := by decide +kernel
theorem dX13_order_19 : decode cX13_order 19 = .ok (.lload_n 1, 1) := by decide +kernel
theorem dX13_order_20 : decode cX13_order 20 = .ok (.lload_n 3, 1) := by decide +kernel
theorem dX13_order_21 : decode cX13_order 21 = .ok (.lcmp, 1) := by decide +kernel
theorem dX13_order_22 : decode cX13_order 22 = .ok (.ifCond .ne 6, 3) := by decide +kernel
theorem dX13_order_25 : decode cX13_order 25 = .ok (.iload 5, 2) := by decide +kernel
theorem dX13_order_27 : decode cX13_order 27 = .ok (.ireturn, 1) := by decide +kernel
theorem dX13_order_28 : decode cX13_order 28 = .ok (.lload_n 1, 1) := by decide +kernel
theorem dX13_order_29 : decode cX13_order 29 = .ok (.lconst 0, 1) := by decide +kernel
theorem dX13_order_30 : decode cX13_order 30 = .ok (.lcmp, 1) := by decide +kernel
theorem dX13_order_31 : decode cX13_order 31 = .ok (.ifCond .lt 17, 3) := by decide +kernel
theorem dX13_order_34 : decode cX13_order 34 = .ok (.iload_n 0, 1) := by decide +kernel
theorem dX13_order_35 : decode cX13_order 35 = .ok (.bipush 6, 2) := by decide +kernel
theorem dX13_order_37 : decode cX13_order 37 = .ok (.if_icmp .ne 15, 3) := by decide +kernel
theorem dX13_order_40 : decode cX13_order 40 = .ok (.lload_n 1, 1) := by decide +kernel
theorem dX13_order_41 : decode cX13_order 41 = .ok (.ldc2_w 94, 3) := by decide +kernel
theorem dX13_order_44 : decode cX13_order 44 = .ok (.lcmp, 1) := by decide +kernel
theorem dX13_order_45 : decode cX13_order 45 = .ok (.ifCond .ne 7, 3) := by decide +kernel
theorem dX13_order_48 : decode cX13_order 48 = .ok (.iconst (-1), 1) := by decide +kernel
theorem dX13_order_49 : decode cX13_order 49 = .ok (.goto 4, 3) := by decide +kernel
theorem dX13_order_52 : decode cX13_order 52 = .ok (.iconst 1, 1) := by decide +kernel
theorem dX13_order_53 : decode cX13_order 53 = .ok (.ireturn, 1) := by decide +kernel
abbrev cX13_compare : ByteArray := prog_2_method_13_code
def yX13_compare : MethodName := ⟨RX13, "compare", "(IJJ)I"⟩
theorem dX13_compare_0 : decode cX13_compare 0 = .ok (.iload_n 0, 1) := by decide +kernel
theorem dX13_compare_1 : decode cX13_compare 1 = .ok (.bipush 6, 2) := by decide +kernel
theorem dX13_compare_3 : decode cX13_compare 3 = .ok (.if_icmp .ge 9, 3) := by decide +kernel
theorem dX13_compare_6 : decode cX13_compare 6 = .ok (.lload_n 1, 1) := by decide +kernel
theorem dX13_compare_7 : decode cX13_compare 7 = .ok (.lload_n 3, 1) := by decide +kernel
theorem dX13_compare_8 : decode cX13_compare 8 = .ok (.invokestatic 85, 3) := by decide +kernel
theorem dX13_compare_11 : decode cX13_compare 11 = .ok (.ireturn, 1) := by decide +kernel
theorem dX13_compare_12 : decode cX13_compare 12 = .ok (.iload_n 0, 1) := by decide +kernel
theorem dX13_compare_13 : decode cX13_compare 13 = .ok (.lload_n 1, 1) := by decide +kernel
theorem dX13_compare_14 : decode cX13_compare 14 = .ok (.invokestatic 41, 3) := by decide +kernel
theorem dX13_compare_17 : decode cX13_compare 17 = .ok (.dstore 5, 2) := by decide +kernel
theorem dX13_compare_19 : decode cX13_compare 19 = .ok (.iload_n 0, 1) := by decide +kernel
theorem dX13_compare_20 : decode cX13_compare 20 = .ok (.lload_n 3, 1) := by decide +kernel
theorem dX13_compare_21 : decode cX13_compare 21 = .ok (.invokestatic 41, 3) := by decide +kernel
theorem dX13_compare_24 : decode cX13_compare 24 = .ok (.dstore 7, 2) := by decide +kernel
theorem dX13_compare_26 : decode cX13_compare 26 = .ok (.dload 5, 2) := by decide +kernel
theorem dX13_compare_28 : decode cX13_compare 28 = .ok (.dload 7, 2) := by decide +kernel
theorem dX13_compare_30 : decode cX13_compare 30 = .ok (.dcmp .g, 1) := by decide +kernel
theorem dX13_compare_31 : decode cX13_compare 31 = .ok (.ifCond .ge 7, 3) := by decide +kernel
theorem dX13_compare_34 : decode cX13_compare 34 = .ok (.iconst (-1), 1) := by decide +kernel
theorem dX13_compare_35 : decode cX13_compare 35 = .ok (.goto 16, 3) := by decide +kernel
theorem dX13_compare_38 : decode cX13_compare 38 = .ok (.dload 5, 2) := by decide +kernel
theorem dX13_compare_40 : decode cX13_compare 40 = .ok (.dload 7, 2) := by decide +kernel
theorem dX13_compare_42 : decode cX13_compare 42 = .ok (.dcmp .l, 1) := by decide +kernel
theorem dX13_compare_43 : decode cX13_compare 43 = .ok (.ifCond .le 7, 3) := by decide +kernel
theorem dX13_compare_46 : decode cX13_compare 46 = .ok (.iconst 1, 1) := by decide +kernel
theorem dX13_compare_47 : decode cX13_compare 47 = .ok (.goto 4, 3) := by decide +kernel
theorem dX13_compare_50 : decode cX13_compare 50 = .ok (.iconst 0, 1) := by decide +kernel
theorem dX13_compare_51 : decode cX13_compare 51 = .ok (.ireturn, 1) := by decide +kernel
abbrev cX13_real : ByteArray := prog_2_method_3_code
def yX13_real : MethodName := ⟨RX13, "real", "(IJ)D"⟩
theorem dX13_real_0 : decode cX13_real 0 = .ok (.iload_n 0, 1) := by decide +kernel
theorem dX13_real_1 : decode cX13_real 1 = .ok (.bipush 6, 2) := by decide +kernel
theorem dX13_real_3 : decode cX13_real 3 = .ok (.if_icmp .ne 10, 3) := by decide +kernel
theorem dX13_real_6 : decode cX13_real 6 = .ok (.lload_n 1, 1) := by decide +kernel
theorem dX13_real_7 : decode cX13_real 7 = .ok (.l2i, 1) := by decide +kernel
theorem dX13_real_8 : decode cX13_real 8 = .ok (.invokestatic 21, 3) := by decide +kernel
theorem dX13_real_11 : decode cX13_real 11 = .ok (.f2d, 1) := by decide +kernel
theorem dX13_real_12 : decode cX13_real 12 = .ok (.dreturn, 1) := by decide +kernel
theorem dX13_real_13 : decode cX13_real 13 = .ok (.iload_n 0, 1) := by decide +kernel
theorem dX13_real_14 : decode cX13_real 14 = .ok (.bipush 7, 2) := by decide +kernel
theorem dX13_real_16 : decode cX13_real 16 = .ok (.if_icmp .ne 10, 3) := by decide +kernel
theorem dX13_real_19 : decode cX13_real 19 = .ok (.lload_n 1, 1) := by decide +kernel
theorem dX13_real_20 : decode cX13_real 20 = .ok (.invokestatic 27, 3) := by decide +kernel
theorem dX13_real_23 : decode cX13_real 23 = .ok (.goto 5, 3) := by decide +kernel
theorem dX13_real_26 : decode cX13_real 26 = .ok (.lload_n 1, 1) := by decide +kernel
theorem dX13_real_27 : decode cX13_real 27 = .ok (.l2d, 1) := by decide +kernel
theorem dX13_real_28 : decode cX13_real 28 = .ok (.dreturn, 1) := by decide +kernel
theorem q75 : (Jvm.Cond.initialized "CommaTables$Numbers") ∈ lw_all := lw_g (lw_at lw_m1 32 rfl) rfl
theorem q571 : (Jvm.Cond.static ({ cls := "CommaTables$Numbers", name := "bits", desc := "(ID)J" } : Jvm.MethodName)) ∈ lw_all := lw_g (lw_at lw_m3 48 rfl) rfl
theorem q572 : (Jvm.Cond.code ({ cls := "CommaTables$Numbers", name := "bits", desc := "(ID)J" } : Jvm.MethodName) prog_2_method_4_code (3 : Nat) (Option.some Jvm.ClassFile.FieldType.long)) ∈ lw_all := lw_g (lw_at lw_m3 49 rfl) rfl
theorem q573 : (Jvm.Cond.methodLink "CommaTables$Numbers" (33 : Nat) ({ cls := "java/lang/Float", name := "floatToRawIntBits", desc := "(F)I" } : Jvm.MethodName)) ∈ lw_all := lw_g (lw_at lw_m3 50 rfl) rfl
theorem q576 : (Jvm.Cond.constantLong "CommaTables$Numbers" (11 : Nat) (4294967295 : Int64)) ∈ lw_all := lw_g (lw_at lw_m3 53 rfl) rfl
theorem q577 : (Jvm.Cond.methodLink "CommaTables$Numbers" (37 : Nat) ({ cls := "java/lang/Double", name := "doubleToRawLongBits", desc := "(D)J" } : Jvm.MethodName)) ∈ lw_all := lw_g (lw_at lw_m3 54 rfl) rfl
theorem q609 : (Jvm.Cond.static ({ cls := "CommaTables$Numbers", name := "order", desc := "(IJJ)I" } : Jvm.MethodName)) ∈ lw_all := lw_g (lw_at lw_m3 86 rfl) rfl
theorem q610 : (Jvm.Cond.code ({ cls := "CommaTables$Numbers", name := "order", desc := "(IJJ)I" } : Jvm.MethodName) prog_2_method_14_code (6 : Nat) (Option.some Jvm.ClassFile.FieldType.int)) ∈ lw_all := lw_g (lw_at lw_m3 87 rfl) rfl
theorem q611 : (Jvm.Cond.methodLink "CommaTables$Numbers" (91 : Nat) ({ cls := "CommaTables$Numbers", name := "compare", desc := "(IJJ)I" } : Jvm.MethodName)) ∈ lw_all := lw_g (lw_at lw_m3 88 rfl) rfl
theorem q612 : (Jvm.Cond.static ({ cls := "CommaTables$Numbers", name := "compare", desc := "(IJJ)I" } : Jvm.MethodName)) ∈ lw_all := lw_g (lw_at lw_m3 89 rfl) rfl
theorem q613 : (Jvm.Cond.code ({ cls := "CommaTables$Numbers", name := "compare", desc := "(IJJ)I" } : Jvm.MethodName) prog_2_method_13_code (9 : Nat) (Option.some Jvm.ClassFile.FieldType.int)) ∈ lw_all := lw_g (lw_at lw_m3 90 rfl) rfl
theorem q614 : (Jvm.Cond.methodLink "CommaTables$Numbers" (85 : Nat) ({ cls := "java/lang/Long", name := "compare", desc := "(JJ)I" } : Jvm.MethodName)) ∈ lw_all := lw_g (lw_at lw_m3 91 rfl) rfl
theorem q617 : (Jvm.Cond.methodLink "CommaTables$Numbers" (41 : Nat) ({ cls := "CommaTables$Numbers", name := "real", desc := "(IJ)D" } : Jvm.MethodName)) ∈ lw_all := lw_g (lw_at lw_m3 94 rfl) rfl
theorem q618 : (Jvm.Cond.static ({ cls := "CommaTables$Numbers", name := "real", desc := "(IJ)D" } : Jvm.MethodName)) ∈ lw_all := lw_g (lw_at lw_m3 95 rfl) rfl
theorem q619 : (Jvm.Cond.code ({ cls := "CommaTables$Numbers", name := "real", desc := "(IJ)D" } : Jvm.MethodName) prog_2_method_3_code (3 : Nat) (Option.some Jvm.ClassFile.FieldType.double)) ∈ lw_all := lw_g (lw_at lw_m3 96 rfl) rfl
theorem q620 : (Jvm.Cond.methodLink "CommaTables$Numbers" (21 : Nat) ({ cls := "java/lang/Float", name := "intBitsToFloat", desc := "(I)F" } : Jvm.MethodName)) ∈ lw_all := lw_g (lw_at lw_m3 97 rfl) rfl
theorem q623 : (Jvm.Cond.methodLink "CommaTables$Numbers" (27 : Nat) ({ cls := "java/lang/Double", name := "longBitsToDouble", desc := "(J)D" } : Jvm.MethodName)) ∈ lw_all := lw_g (lw_at lw_m3 100 rfl) rfl
theorem q626 : (Jvm.Cond.constantLong "CommaTables$Numbers" (94 : Nat) (2147483648 : Int64)) ∈ lw_all := lw_g (lw_at lw_m3 103 rfl) rfl
