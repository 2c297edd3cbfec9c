/-! CommaTablesModel -/
set_option maxRecDepth 100000
def RX6 : String := "CommaTablesModel"
def TX6 : u_T := fun k => match k with
  | 0 => ("CommaTablesModel", "tray", "[B", true)
  | 1 => ("CommaTablesModel", "trayed", "I", false)
  | 2 => ("CommaTablesModel", "fed", "I", false)
  | 3 => ("CommaTablesModel", "place", "I", false)
  | 4 => ("CommaTablesModel", "trouble", "LCommaTablesModel$Trouble;", true)
  | 5 => ("CommaTablesModel", "tables", "[LCommaTablesModel$Table;", true)
  | 6 => ("CommaTablesModel", "tableCount", "I", false)
  | 7 => ("CommaTablesModel", "wordBytes", "I", false)
  | 8 => ("CommaTablesModel", "picked", "[I", true)
  | 9 => ("CommaTablesModel", "pickedSize", "I", false)
  | 10 => ("CommaTablesModel", "written", "LCommaTablesModel$Bytes;", false)
  | _ => ("CommaTablesModel", "writing", "LCommaTablesModel$Bytes;", false)
def tyX6 : Nat → FieldType := fun k => match k with
  | 0 => .array .byte
  | 1 => .int
  | 2 => .int
  | 3 => .int
  | 4 => .object "CommaTablesModel$Trouble"
  | 5 => .array (.object "CommaTablesModel$Table")
  | 6 => .int
  | 7 => .int
  | 8 => .array .int
  | 9 => .int
  | 10 => .object "CommaTablesModel$Bytes"
  | _ => .object "CommaTablesModel$Bytes"
abbrev wsX60 : List Cond := u_ws RX6 TX6 12
theorem nmX6 : ∀ a, a < 12 → ∀ b, b < 12 → a ≠ b → (TX6 a).2.1 ≠ (TX6 b).2.1 := by decide +kernel
theorem tyX6_ok : ∀ k, k < 12 → parseFieldDescriptor (TX6 k).2.2.1 = some (tyX6 k) := by decide +kernel
abbrev cX6_init : ByteArray := prog_10_method_1_code
def yX6_init : MethodName := ⟨RX6, "<init>", "()V"⟩
theorem dX6_init_0 : decode cX6_init 0 = .ok (.aload_n 0, 1) := by decide +kernel
theorem dX6_init_1 : decode cX6_init 1 = .ok (.invokespecial 1, 3) := by decide +kernel
theorem dX6_init_4 : decode cX6_init 4 = .ok (.aload_n 0, 1) := by decide +kernel
theorem dX6_init_5 : decode cX6_init 5 = .ok (.sipush 16000, 3) := by decide +kernel
theorem dX6_init_8 : decode cX6_init 8 = .ok (.newarray .byte, 2) := by decide +kernel
theorem dX6_init_10 : decode cX6_init 10 = .ok (.putfield 9, 3) := by decide +kernel
theorem dX6_init_13 : decode cX6_init 13 = .ok (.aload_n 0, 1) := by decide +kernel
theorem dX6_init_14 : decode cX6_init 14 = .ok (.iconst (-1), 1) := by decide +kernel
theorem dX6_init_15 : decode cX6_init 15 = .ok (.putfield 13, 3) := by decide +kernel
theorem dX6_init_18 : decode cX6_init 18 = .ok (.aload_n 0, 1) := by decide +kernel
theorem dX6_init_19 : decode cX6_init 19 = .ok (.new 17, 3) := by decide +kernel
theorem dX6_init_22 : decode cX6_init 22 = .ok (.dup, 1) := by decide +kernel
theorem dX6_init_23 : decode cX6_init 23 = .ok (.invokespecial 19, 3) := by decide +kernel
theorem dX6_init_26 : decode cX6_init 26 = .ok (.putfield 20, 3) := by decide +kernel
theorem dX6_init_29 : decode cX6_init 29 = .ok (.aload_n 0, 1) := by decide +kernel
theorem dX6_init_30 : decode cX6_init 30 = .ok (.bipush 41, 2) := by decide +kernel
theorem dX6_init_32 : decode cX6_init 32 = .ok (.anewarray 24, 3) := by decide +kernel
theorem dX6_init_35 : decode cX6_init 35 = .ok (.putfield 26, 3) := by decide +kernel
theorem dX6_init_38 : decode cX6_init 38 = .ok (.aload_n 0, 1) := by decide +kernel
theorem dX6_init_39 : decode cX6_init 39 = .ok (.sipush 499, 3) := by decide +kernel
theorem dX6_init_42 : decode cX6_init 42 = .ok (.newarray .int, 2) := by decide +kernel
theorem dX6_init_44 : decode cX6_init 44 = .ok (.putfield 30, 3) := by decide +kernel
theorem dX6_init_47 : decode cX6_init 47 = .ok (.aload_n 0, 1) := by decide +kernel
theorem dX6_init_48 : decode cX6_init 48 = .ok (.new 34, 3) := by decide +kernel
theorem dX6_init_51 : decode cX6_init 51 = .ok (.dup, 1) := by decide +kernel
theorem dX6_init_52 : decode cX6_init 52 = .ok (.invokespecial 36, 3) := by decide +kernel
theorem dX6_init_55 : decode cX6_init 55 = .ok (.putfield 37, 3) := by decide +kernel
theorem dX6_init_58 : decode cX6_init 58 = .ok (.aload_n 0, 1) := by decide +kernel
theorem dX6_init_59 : decode cX6_init 59 = .ok (.new 34, 3) := by decide +kernel
theorem dX6_init_62 : decode cX6_init 62 = .ok (.dup, 1) := by decide +kernel
theorem dX6_init_63 : decode cX6_init 63 = .ok (.invokespecial 36, 3) := by decide +kernel
theorem dX6_init_66 : decode cX6_init 66 = .ok (.putfield 41, 3) := by decide +kernel
theorem dX6_init_69 : decode cX6_init 69 = .ok (.return_, 1) := by decide +kernel
abbrev cX6_feed : ByteArray := prog_10_method_3_code
def yX6_feed : MethodName := ⟨RX6, "feed", "(IIIII)I"⟩
theorem dX6_feed_0 : decode cX6_feed 0 = .ok (.aload_n 0, 1) := by decide +kernel
theorem dX6_feed_1 : decode cX6_feed 1 = .ok (.getfield 44, 3) := by decide +kernel
theorem dX6_feed_4 : decode cX6_feed 4 = .ok (.bipush 20, 2) := by decide +kernel
theorem dX6_feed_6 : decode cX6_feed 6 = .ok (.iadd, 1) := by decide +kernel
theorem dX6_feed_7 : decode cX6_feed 7 = .ok (.sipush 16000, 3) := by decide +kernel
theorem dX6_feed_10 : decode cX6_feed 10 = .ok (.if_icmp .gt 15, 3) := by decide +kernel
theorem dX6_feed_13 : decode cX6_feed 13 = .ok (.aload_n 0, 1) := by decide +kernel
theorem dX6_feed_14 : decode cX6_feed 14 = .ok (.getfield 47, 3) := by decide +kernel
theorem dX6_feed_17 : decode cX6_feed 17 = .ok (.bipush 20, 2) := by decide +kernel
theorem dX6_feed_19 : decode cX6_feed 19 = .ok (.iadd, 1) := by decide +kernel
theorem dX6_feed_20 : decode cX6_feed 20 = .ok (.ldc 50, 2) := by decide +kernel
theorem dX6_feed_22 : decode cX6_feed 22 = .ok (.if_icmp .le 5, 3) := by decide +kernel
theorem dX6_feed_25 : decode cX6_feed 25 = .ok (.iconst (-1), 1) := by decide +kernel
theorem dX6_feed_26 : decode cX6_feed 26 = .ok (.ireturn, 1) := by decide +kernel
theorem dX6_feed_27 : decode cX6_feed 27 = .ok (.aload_n 0, 1) := by decide +kernel
theorem dX6_feed_28 : decode cX6_feed 28 = .ok (.iload_n 1, 1) := by decide +kernel
theorem dX6_feed_29 : decode cX6_feed 29 = .ok (.invokevirtual 51, 3) := by decide +kernel
theorem dX6_feed_32 : decode cX6_feed 32 = .ok (.aload_n 0, 1) := by decide +kernel
theorem dX6_feed_33 : decode cX6_feed 33 = .ok (.iload_n 2, 1) := by decide +kernel
theorem dX6_feed_34 : decode cX6_feed 34 = .ok (.invokevirtual 51, 3) := by decide +kernel
theorem dX6_feed_37 : decode cX6_feed 37 = .ok (.aload_n 0, 1) := by decide +kernel
theorem dX6_feed_38 : decode cX6_feed 38 = .ok (.iload_n 3, 1) := by decide +kernel
theorem dX6_feed_39 : decode cX6_feed 39 = .ok (.invokevirtual 51, 3) := by decide +kernel
theorem dX6_feed_42 : decode cX6_feed 42 = .ok (.aload_n 0, 1) := by decide +kernel
theorem dX6_feed_43 : decode cX6_feed 43 = .ok (.iload 4, 2) := by decide +kernel
theorem dX6_feed_45 : decode cX6_feed 45 = .ok (.invokevirtual 51, 3) := by decide +kernel
theorem dX6_feed_48 : decode cX6_feed 48 = .ok (.aload_n 0, 1) := by decide +kernel
theorem dX6_feed_49 : decode cX6_feed 49 = .ok (.iload 5, 2) := by decide +kernel
theorem dX6_feed_51 : decode cX6_feed 51 = .ok (.invokevirtual 51, 3) := by decide +kernel
theorem dX6_feed_54 : decode cX6_feed 54 = .ok (.aload_n 0, 1) := by decide +kernel
theorem dX6_feed_55 : decode cX6_feed 55 = .ok (.dup, 1) := by decide +kernel
theorem dX6_feed_56 : decode cX6_feed 56 = .ok (.getfield 47, 3) := by decide +kernel
theorem dX6_feed_59 : decode cX6_feed 59 = .ok (.bipush 20, 2) := by decide +kernel
theorem dX6_feed_61 : decode cX6_feed 61 = .ok (.iadd, 1) := by decide +kernel
theorem dX6_feed_62 : decode cX6_feed 62 = .ok (.putfield 47, 3) := by decide +kernel
theorem dX6_feed_65 : decode cX6_feed 65 = .ok (.aload_n 0, 1) := by decide +kernel
theorem dX6_feed_66 : decode cX6_feed 66 = .ok (.getfield 44, 3) := by decide +kernel
theorem dX6_feed_69 : decode cX6_feed 69 = .ok (.ireturn, 1) := by decide +kernel
abbrev cX6_word : ByteArray := prog_10_method_4_code
def yX6_word : MethodName := ⟨RX6, "word", "(I)V"⟩
theorem dX6_word_0 : decode cX6_word 0 = .ok (.iconst 0, 1) := by decide +kernel
theorem dX6_word_1 : decode cX6_word 1 = .ok (.istore_n 2, 1) := by decide +kernel
theorem dX6_word_2 : decode cX6_word 2 = .ok (.iload_n 2, 1) := by decide +kernel
theorem dX6_word_3 : decode cX6_word 3 = .ok (.iconst 4, 1) := by decide +kernel
theorem dX6_word_4 : decode cX6_word 4 = .ok (.if_icmp .ge 38, 3) := by decide +kernel
theorem dX6_word_7 : decode cX6_word 7 = .ok (.aload_n 0, 1) := by decide +kernel
theorem dX6_word_8 : decode cX6_word 8 = .ok (.getfield 9, 3) := by decide +kernel
theorem dX6_word_11 : decode cX6_word 11 = .ok (.aload_n 0, 1) := by decide +kernel
theorem dX6_word_12 : decode cX6_word 12 = .ok (.getfield 44, 3) := by decide +kernel
theorem dX6_word_15 : decode cX6_word 15 = .ok (.iload_n 1, 1) := by decide +kernel
theorem dX6_word_16 : decode cX6_word 16 = .ok (.bipush 24, 2) := by decide +kernel
theorem dX6_word_18 : decode cX6_word 18 = .ok (.bipush 8, 2) := by decide +kernel
theorem dX6_word_20 : decode cX6_word 20 = .ok (.iload_n 2, 1) := by decide +kernel
theorem dX6_word_21 : decode cX6_word 21 = .ok (.imul, 1) := by decide +kernel
theorem dX6_word_22 : decode cX6_word 22 = .ok (.isub, 1) := by decide +kernel
theorem dX6_word_23 : decode cX6_word 23 = .ok (.ishr, 1) := by decide +kernel
theorem dX6_word_24 : decode cX6_word 24 = .ok (.i2b, 1) := by decide +kernel
theorem dX6_word_25 : decode cX6_word 25 = .ok (.bastore, 1) := by decide +kernel
theorem dX6_word_26 : decode cX6_word 26 = .ok (.aload_n 0, 1) := by decide +kernel
theorem dX6_word_27 : decode cX6_word 27 = .ok (.dup, 1) := by decide +kernel
theorem dX6_word_28 : decode cX6_word 28 = .ok (.getfield 44, 3) := by decide +kernel
theorem dX6_word_31 : decode cX6_word 31 = .ok (.iconst 1, 1) := by decide +kernel
theorem dX6_word_32 : decode cX6_word 32 = .ok (.iadd, 1) := by decide +kernel
theorem dX6_word_33 : decode cX6_word 33 = .ok (.putfield 44, 3) := by decide +kernel
theorem dX6_word_36 : decode cX6_word 36 = .ok (.iinc 2 1, 3) := by decide +kernel
theorem dX6_word_39 : decode cX6_word 39 = .ok (.goto (-37), 3) := by decide +kernel
theorem dX6_word_42 : decode cX6_word 42 = .ok (.return_, 1) := by decide +kernel
abbrev cX6_end : ByteArray := prog_10_method_5_code
def yX6_end : MethodName := ⟨RX6, "end", "(I)I"⟩
theorem dX6_end_0 : decode cX6_end 0 = .ok (.iload_n 1, 1) := by decide +kernel
theorem dX6_end_1 : decode cX6_end 1 = .ok (.ifCond .lt 11, 3) := by decide +kernel
theorem dX6_end_4 : decode cX6_end 4 = .ok (.iload_n 1, 1) := by decide +kernel
theorem dX6_end_5 : decode cX6_end 5 = .ok (.aload_n 0, 1) := by decide +kernel
theorem dX6_end_6 : decode cX6_end 6 = .ok (.getfield 44, 3) := by decide +kernel
theorem dX6_end_9 : decode cX6_end 9 = .ok (.if_icmp .le 5, 3) := by decide +kernel
theorem dX6_end_12 : decode cX6_end 12 = .ok (.iconst (-1), 1) := by decide +kernel
theorem dX6_end_13 : decode cX6_end 13 = .ok (.ireturn, 1) := by decide +kernel
theorem dX6_end_14 : decode cX6_end 14 = .ok (.aload_n 0, 1) := by decide +kernel
theorem dX6_end_15 : decode cX6_end 15 = .ok (.iload_n 1, 1) := by decide +kernel
theorem dX6_end_16 : decode cX6_end 16 = .ok (.putfield 44, 3) := by decide +kernel
theorem dX6_end_19 : decode cX6_end 19 = .ok (.iload_n 1, 1) := by decide +kernel
theorem dX6_end_20 : decode cX6_end 20 = .ok (.ireturn, 1) := by decide +kernel
abbrev cX6_place : ByteArray := prog_10_method_7_code
def yX6_place : MethodName := ⟨RX6, "place", "()I"⟩
theorem dX6_place_0 : decode cX6_place 0 = .ok (.aload_n 0, 1) := by decide +kernel
theorem dX6_place_1 : decode cX6_place 1 = .ok (.getfield 13, 3) := by decide +kernel
theorem dX6_place_4 : decode cX6_place 4 = .ok (.ireturn, 1) := by decide +kernel
abbrev cX6_read : ByteArray := prog_10_method_19_code
def yX6_read : MethodName := ⟨RX6, "read", "()I"⟩
theorem dX6_read_0 : decode cX6_read 0 = .ok (.aload_n 0, 1) := by decide +kernel
theorem dX6_read_1 : decode cX6_read 1 = .ok (.iconst (-1), 1) := by decide +kernel
theorem dX6_read_2 : decode cX6_read 2 = .ok (.putfield 13, 3) := by decide +kernel
theorem dX6_read_5 : decode cX6_read 5 = .ok (.aload_n 0, 1) := by decide +kernel
theorem dX6_read_6 : decode cX6_read 6 = .ok (.invokevirtual 165, 3) := by decide +kernel
theorem dX6_read_9 : decode cX6_read 9 = .ok (.istore_n 1, 1) := by decide +kernel
theorem dX6_read_10 : decode cX6_read 10 = .ok (.new 168, 3) := by decide +kernel
theorem dX6_read_13 : decode cX6_read 13 = .ok (.dup, 1) := by decide +kernel
theorem dX6_read_14 : decode cX6_read 14 = .ok (.aload_n 0, 1) := by decide +kernel
theorem dX6_read_15 : decode cX6_read 15 = .ok (.getfield 20, 3) := by decide +kernel
theorem dX6_read_18 : decode cX6_read 18 = .ok (.aload_n 0, 1) := by decide +kernel
theorem dX6_read_19 : decode cX6_read 19 = .ok (.getfield 9, 3) := by decide +kernel
theorem dX6_read_22 : decode cX6_read 22 = .ok (.iload_n 1, 1) := by decide +kernel
theorem dX6_read_23 : decode cX6_read 23 = .ok (.invokespecial 170, 3) := by decide +kernel
theorem dX6_read_26 : decode cX6_read 26 = .ok (.astore_n 2, 1) := by decide +kernel
theorem dX6_read_27 : decode cX6_read 27 = .ok (.goto 18, 3) := by decide +kernel
theorem dX6_read_30 : decode cX6_read 30 = .ok (.astore_n 3, 1) := by decide +kernel
theorem dX6_read_31 : decode cX6_read 31 = .ok (.aload_n 0, 1) := by decide +kernel
theorem dX6_read_32 : decode cX6_read 32 = .ok (.aload_n 0, 1) := by decide +kernel
theorem dX6_read_33 : decode cX6_read 33 = .ok (.getfield 20, 3) := by decide +kernel
theorem dX6_read_36 : decode cX6_read 36 = .ok (.getfield 175, 3) := by decide +kernel
theorem dX6_read_39 : decode cX6_read 39 = .ok (.putfield 13, 3) := by decide +kernel
theorem dX6_read_42 : decode cX6_read 42 = .ok (.bipush (-20), 2) := by decide +kernel
theorem dX6_read_44 : decode cX6_read 44 = .ok (.ireturn, 1) := by decide +kernel
theorem dX6_read_45 : decode cX6_read 45 = .ok (.aload_n 0, 1) := by decide +kernel
theorem dX6_read_46 : decode cX6_read 46 = .ok (.aload_n 2, 1) := by decide +kernel
theorem dX6_read_47 : decode cX6_read 47 = .ok (.getfield 176, 3) := by decide +kernel
theorem dX6_read_50 : decode cX6_read 50 = .ok (.aload_n 2, 1) := by decide +kernel
theorem dX6_read_51 : decode cX6_read 51 = .ok (.getfield 180, 3) := by decide +kernel
theorem dX6_read_54 : decode cX6_read 54 = .ok (.invokevirtual 183, 3) := by decide +kernel
theorem dX6_read_57 : decode cX6_read 57 = .ok (.ireturn, 1) := by decide +kernel
abbrev cX6_used : ByteArray := prog_10_method_6_code
def yX6_used : MethodName := ⟨RX6, "used", "()I"⟩
theorem dX6_used_0 : decode cX6_used 0 = .ok (.aload_n 0, 1) := by decide +kernel
theorem dX6_used_1 : decode cX6_used 1 = .ok (.getfield 44, 3) := by decide +kernel
theorem dX6_used_4 : decode cX6_used 4 = .ok (.istore_n 1, 1) := by decide +kernel
theorem dX6_used_5 : decode cX6_used 5 = .ok (.aload_n 0, 1) := by decide +kernel
theorem dX6_used_6 : decode cX6_used 6 = .ok (.iconst 0, 1) := by decide +kernel
theorem dX6_used_7 : decode cX6_used 7 = .ok (.putfield 44, 3) := by decide +kernel
theorem dX6_used_10 : decode cX6_used 10 = .ok (.iload_n 1, 1) := by decide +kernel
theorem dX6_used_11 : decode cX6_used 11 = .ok (.ireturn, 1) := by decide +kernel
abbrev cX6_tabled : ByteArray := prog_10_method_18_code
def yX6_tabled : MethodName := ⟨RX6, "tabled", "(LCommaTablesModel$Table;I)I"⟩
theorem dX6_tabled_0 : decode cX6_tabled 0 = .ok (.aload_n 0, 1) := by decide +kernel
theorem dX6_tabled_1 : decode cX6_tabled 1 = .ok (.getfield 143, 3) := by decide +kernel
theorem dX6_tabled_4 : decode cX6_tabled 4 = .ok (.bipush 40, 2) := by decide +kernel
theorem dX6_tabled_6 : decode cX6_tabled 6 = .ok (.if_icmp .eq 14, 3) := by decide +kernel
theorem dX6_tabled_9 : decode cX6_tabled 9 = .ok (.aload_n 0, 1) := by decide +kernel
theorem dX6_tabled_10 : decode cX6_tabled 10 = .ok (.getfield 146, 3) := by decide +kernel
theorem dX6_tabled_13 : decode cX6_tabled 13 = .ok (.iload_n 2, 1) := by decide +kernel
theorem dX6_tabled_14 : decode cX6_tabled 14 = .ok (.iadd, 1) := by decide +kernel
theorem dX6_tabled_15 : decode cX6_tabled 15 = .ok (.ldc 50, 2) := by decide +kernel
theorem dX6_tabled_17 : decode cX6_tabled 17 = .ok (.if_icmp .le 6, 3) := by decide +kernel
theorem dX6_tabled_20 : decode cX6_tabled 20 = .ok (.bipush (-12), 2) := by decide +kernel
theorem dX6_tabled_22 : decode cX6_tabled 22 = .ok (.ireturn, 1) := by decide +kernel
theorem dX6_tabled_23 : decode cX6_tabled 23 = .ok (.aload_n 1, 1) := by decide +kernel
theorem dX6_tabled_24 : decode cX6_tabled 24 = .ok (.aload_n 1, 1) := by decide +kernel
theorem dX6_tabled_25 : decode cX6_tabled 25 = .ok (.getfield 149, 3) := by decide +kernel
theorem dX6_tabled_28 : decode cX6_tabled 28 = .ok (.invokevirtual 153, 3) := by decide +kernel
theorem dX6_tabled_31 : decode cX6_tabled 31 = .ok (.newarray .int, 2) := by decide +kernel
theorem dX6_tabled_33 : decode cX6_tabled 33 = .ok (.putfield 158, 3) := by decide +kernel
theorem dX6_tabled_36 : decode cX6_tabled 36 = .ok (.iconst 0, 1) := by decide +kernel
theorem dX6_tabled_37 : decode cX6_tabled 37 = .ok (.istore_n 3, 1) := by decide +kernel
theorem dX6_tabled_38 : decode cX6_tabled 38 = .ok (.iload_n 3, 1) := by decide +kernel
theorem dX6_tabled_39 : decode cX6_tabled 39 = .ok (.aload_n 1, 1) := by decide +kernel
theorem dX6_tabled_40 : decode cX6_tabled 40 = .ok (.getfield 158, 3) := by decide +kernel
theorem dX6_tabled_43 : decode cX6_tabled 43 = .ok (.arraylength, 1) := by decide +kernel
theorem dX6_tabled_44 : decode cX6_tabled 44 = .ok (.if_icmp .ge 20, 3) := by decide +kernel
theorem dX6_tabled_47 : decode cX6_tabled 47 = .ok (.aload_n 1, 1) := by decide +kernel
theorem dX6_tabled_48 : decode cX6_tabled 48 = .ok (.getfield 158, 3) := by decide +kernel
theorem dX6_tabled_51 : decode cX6_tabled 51 = .ok (.iload_n 3, 1) := by decide +kernel
theorem dX6_tabled_52 : decode cX6_tabled 52 = .ok (.aload_n 1, 1) := by decide +kernel
theorem dX6_tabled_53 : decode cX6_tabled 53 = .ok (.iload_n 3, 1) := by decide +kernel
theorem dX6_tabled_54 : decode cX6_tabled 54 = .ok (.invokestatic 161, 3) := by decide +kernel
theorem dX6_tabled_57 : decode cX6_tabled 57 = .ok (.iastore, 1) := by decide +kernel
theorem dX6_tabled_58 : decode cX6_tabled 58 = .ok (.iinc 3 1, 3) := by decide +kernel
theorem dX6_tabled_61 : decode cX6_tabled 61 = .ok (.goto (-23), 3) := by decide +kernel
theorem dX6_tabled_64 : decode cX6_tabled 64 = .ok (.aload_n 0, 1) := by decide +kernel
theorem dX6_tabled_65 : decode cX6_tabled 65 = .ok (.dup, 1) := by decide +kernel
theorem dX6_tabled_66 : decode cX6_tabled 66 = .ok (.getfield 146, 3) := by decide +kernel
theorem dX6_tabled_69 : decode cX6_tabled 69 = .ok (.iload_n 2, 1) := by decide +kernel
theorem dX6_tabled_70 : decode cX6_tabled 70 = .ok (.iadd, 1) := by decide +kernel
theorem dX6_tabled_71 : decode cX6_tabled 71 = .ok (.putfield 146, 3) := by decide +kernel
theorem dX6_tabled_74 : decode cX6_tabled 74 = .ok (.aload_n 0, 1) := by decide +kernel
theorem dX6_tabled_75 : decode cX6_tabled 75 = .ok (.dup, 1) := by decide +kernel
theorem dX6_tabled_76 : decode cX6_tabled 76 = .ok (.getfield 143, 3) := by decide +kernel
theorem dX6_tabled_79 : decode cX6_tabled 79 = .ok (.iconst 1, 1) := by decide +kernel
theorem dX6_tabled_80 : decode cX6_tabled 80 = .ok (.iadd, 1) := by decide +kernel
theorem dX6_tabled_81 : decode cX6_tabled 81 = .ok (.putfield 143, 3) := by decide +kernel
theorem dX6_tabled_84 : decode cX6_tabled 84 = .ok (.aload_n 0, 1) := by decide +kernel
theorem dX6_tabled_85 : decode cX6_tabled 85 = .ok (.getfield 26, 3) := by decide +kernel
theorem dX6_tabled_88 : decode cX6_tabled 88 = .ok (.aload_n 0, 1) := by decide +kernel
theorem dX6_tabled_89 : decode cX6_tabled 89 = .ok (.getfield 143, 3) := by decide +kernel
theorem dX6_tabled_92 : decode cX6_tabled 92 = .ok (.aload_n 1, 1) := by decide +kernel
theorem dX6_tabled_93 : decode cX6_tabled 93 = .ok (.aastore, 1) := by decide +kernel
theorem dX6_tabled_94 : decode cX6_tabled 94 = .ok (.aload_n 0, 1) := by decide +kernel
theorem dX6_tabled_95 : decode cX6_tabled 95 = .ok (.getfield 143, 3) := by decide +kernel
theorem dX6_tabled_98 : decode cX6_tabled 98 = .ok (.ireturn, 1) := by decide +kernel
abbrev cX6_laneOfColumn : ByteArray := prog_10_method_17_code
def yX6_laneOfColumn : MethodName := ⟨RX6, "laneOfColumn", "(LCommaTablesModel$Table;I)I"⟩
theorem dX6_laneOfColumn_0 : decode cX6_laneOfColumn 0 = .ok (.iconst 0, 1) := by decide +kernel
theorem dX6_laneOfColumn_1 : decode cX6_laneOfColumn 1 = .ok (.istore_n 2, 1) := by decide +kernel
theorem dX6_laneOfColumn_2 : decode cX6_laneOfColumn 2 = .ok (.iconst 0, 1) := by decide +kernel
theorem dX6_laneOfColumn_3 : decode cX6_laneOfColumn 3 = .ok (.istore_n 3, 1) := by decide +kernel
theorem dX6_laneOfColumn_4 : decode cX6_laneOfColumn 4 = .ok (.iload_n 3, 1) := by decide +kernel
theorem dX6_laneOfColumn_5 : decode cX6_laneOfColumn 5 = .ok (.aload_n 0, 1) := by decide +kernel
theorem dX6_laneOfColumn_6 : decode cX6_laneOfColumn 6 = .ok (.invokevirtual 132, 3) := by decide +kernel
theorem dX6_laneOfColumn_9 : decode cX6_laneOfColumn 9 = .ok (.if_icmp .ge 31, 3) := by decide +kernel
theorem dX6_laneOfColumn_12 : decode cX6_laneOfColumn 12 = .ok (.iload_n 2, 1) := by decide +kernel
theorem dX6_laneOfColumn_13 : decode cX6_laneOfColumn 13 = .ok (.ifCond .ne 27, 3) := by decide +kernel
theorem dX6_laneOfColumn_16 : decode cX6_laneOfColumn 16 = .ok (.aload_n 0, 1) := by decide +kernel
theorem dX6_laneOfColumn_17 : decode cX6_laneOfColumn 17 = .ok (.iload_n 3, 1) := by decide +kernel
theorem dX6_laneOfColumn_18 : decode cX6_laneOfColumn 18 = .ok (.iload_n 1, 1) := by decide +kernel
theorem dX6_laneOfColumn_19 : decode cX6_laneOfColumn 19 = .ok (.invokevirtual 135, 3) := by decide +kernel
theorem dX6_laneOfColumn_22 : decode cX6_laneOfColumn 22 = .ok (.invokevirtual 107, 3) := by decide +kernel
theorem dX6_laneOfColumn_25 : decode cX6_laneOfColumn 25 = .ok (.ifCond .ne 7, 3) := by decide +kernel
theorem dX6_laneOfColumn_28 : decode cX6_laneOfColumn 28 = .ok (.iconst 1, 1) := by decide +kernel
theorem dX6_laneOfColumn_29 : decode cX6_laneOfColumn 29 = .ok (.goto 4, 3) := by decide +kernel
theorem dX6_laneOfColumn_32 : decode cX6_laneOfColumn 32 = .ok (.iconst 0, 1) := by decide +kernel
theorem dX6_laneOfColumn_33 : decode cX6_laneOfColumn 33 = .ok (.istore_n 2, 1) := by decide +kernel
theorem dX6_laneOfColumn_34 : decode cX6_laneOfColumn 34 = .ok (.iinc 3 1, 3) := by decide +kernel
theorem dX6_laneOfColumn_37 : decode cX6_laneOfColumn 37 = .ok (.goto (-33), 3) := by decide +kernel
theorem dX6_laneOfColumn_40 : decode cX6_laneOfColumn 40 = .ok (.iconst 0, 1) := by decide +kernel
theorem dX6_laneOfColumn_41 : decode cX6_laneOfColumn 41 = .ok (.istore_n 3, 1) := by decide +kernel
theorem dX6_laneOfColumn_42 : decode cX6_laneOfColumn 42 = .ok (.iload_n 3, 1) := by decide +kernel
theorem dX6_laneOfColumn_43 : decode cX6_laneOfColumn 43 = .ok (.iconst 4, 1) := by decide +kernel
theorem dX6_laneOfColumn_44 : decode cX6_laneOfColumn 44 = .ok (.if_icmp .ge 91, 3) := by decide +kernel
theorem dX6_laneOfColumn_47 : decode cX6_laneOfColumn 47 = .ok (.iload_n 2, 1) := by decide +kernel
theorem dX6_laneOfColumn_48 : decode cX6_laneOfColumn 48 = .ok (.ifCond .eq 87, 3) := by decide +kernel
theorem dX6_laneOfColumn_51 : decode cX6_laneOfColumn 51 = .ok (.iload_n 3, 1) := by decide +kernel
theorem dX6_laneOfColumn_52 : decode cX6_laneOfColumn 52 = .ok (.ifCond .ne 7, 3) := by decide +kernel
theorem dX6_laneOfColumn_55 : decode cX6_laneOfColumn 55 = .ok (.iconst 0, 1) := by decide +kernel
theorem dX6_laneOfColumn_56 : decode cX6_laneOfColumn 56 = .ok (.goto 23, 3) := by decide +kernel
theorem dX6_laneOfColumn_59 : decode cX6_laneOfColumn 59 = .ok (.iload_n 3, 1) := by decide +kernel
theorem dX6_laneOfColumn_60 : decode cX6_laneOfColumn 60 = .ok (.iconst 1, 1) := by decide +kernel
theorem dX6_laneOfColumn_61 : decode cX6_laneOfColumn 61 = .ok (.if_icmp .ne 7, 3) := by decide +kernel
theorem dX6_laneOfColumn_64 : decode cX6_laneOfColumn 64 = .ok (.iconst 4, 1) := by decide +kernel
theorem dX6_laneOfColumn_65 : decode cX6_laneOfColumn 65 = .ok (.goto 14, 3) := by decide +kernel
theorem dX6_laneOfColumn_68 : decode cX6_laneOfColumn 68 = .ok (.iload_n 3, 1) := by decide +kernel
theorem dX6_laneOfColumn_69 : decode cX6_laneOfColumn 69 = .ok (.iconst 2, 1) := by decide +kernel
theorem dX6_laneOfColumn_70 : decode cX6_laneOfColumn 70 = .ok (.if_icmp .ne 7, 3) := by decide +kernel
theorem dX6_laneOfColumn_73 : decode cX6_laneOfColumn 73 = .ok (.iconst 5, 1) := by decide +kernel
theorem dX6_laneOfColumn_74 : decode cX6_laneOfColumn 74 = .ok (.goto 5, 3) := by decide +kernel
theorem dX6_laneOfColumn_77 : decode cX6_laneOfColumn 77 = .ok (.bipush 7, 2) := by decide +kernel
theorem dX6_laneOfColumn_79 : decode cX6_laneOfColumn 79 = .ok (.istore 4, 2) := by decide +kernel
theorem dX6_laneOfColumn_81 : decode cX6_laneOfColumn 81 = .ok (.iconst 1, 1) := by decide +kernel
theorem dX6_laneOfColumn_82 : decode cX6_laneOfColumn 82 = .ok (.istore 5, 2) := by decide +kernel
theorem dX6_laneOfColumn_84 : decode cX6_laneOfColumn 84 = .ok (.iconst 0, 1) := by decide +kernel
theorem dX6_laneOfColumn_85 : decode cX6_laneOfColumn 85 = .ok (.istore 6, 2) := by decide +kernel
theorem dX6_laneOfColumn_87 : decode cX6_laneOfColumn 87 = .ok (.iload 6, 2) := by decide +kernel
theorem dX6_laneOfColumn_89 : decode cX6_laneOfColumn 89 = .ok (.aload_n 0, 1) := by decide +kernel
theorem dX6_laneOfColumn_90 : decode cX6_laneOfColumn 90 = .ok (.invokevirtual 132, 3) := by decide +kernel
theorem dX6_laneOfColumn_93 : decode cX6_laneOfColumn 93 = .ok (.if_icmp .ge 28, 3) := by decide +kernel
theorem dX6_laneOfColumn_96 : decode cX6_laneOfColumn 96 = .ok (.iload 5, 2) := by decide +kernel
theorem dX6_laneOfColumn_98 : decode cX6_laneOfColumn 98 = .ok (.ifCond .eq 23, 3) := by decide +kernel
theorem dX6_laneOfColumn_101 : decode cX6_laneOfColumn 101 = .ok (.aload_n 0, 1) := by decide +kernel
theorem dX6_laneOfColumn_102 : decode cX6_laneOfColumn 102 = .ok (.iload 6, 2) := by decide +kernel
theorem dX6_laneOfColumn_104 : decode cX6_laneOfColumn 104 = .ok (.iload_n 1, 1) := by decide +kernel
theorem dX6_laneOfColumn_105 : decode cX6_laneOfColumn 105 = .ok (.invokevirtual 135, 3) := by decide +kernel
theorem dX6_laneOfColumn_108 : decode cX6_laneOfColumn 108 = .ok (.iload 4, 2) := by decide +kernel
theorem dX6_laneOfColumn_110 : decode cX6_laneOfColumn 110 = .ok (.invokestatic 139, 3) := by decide +kernel
theorem dX6_laneOfColumn_113 : decode cX6_laneOfColumn 113 = .ok (.istore 5, 2) := by decide +kernel
theorem dX6_laneOfColumn_115 : decode cX6_laneOfColumn 115 = .ok (.iinc 6 1, 3) := by decide +kernel
theorem dX6_laneOfColumn_118 : decode cX6_laneOfColumn 118 = .ok (.goto (-31), 3) := by decide +kernel
theorem dX6_laneOfColumn_121 : decode cX6_laneOfColumn 121 = .ok (.iload 5, 2) := by decide +kernel
theorem dX6_laneOfColumn_123 : decode cX6_laneOfColumn 123 = .ok (.ifCond .eq 6, 3) := by decide +kernel
theorem dX6_laneOfColumn_126 : decode cX6_laneOfColumn 126 = .ok (.iload 4, 2) := by decide +kernel
theorem dX6_laneOfColumn_128 : decode cX6_laneOfColumn 128 = .ok (.ireturn, 1) := by decide +kernel
theorem dX6_laneOfColumn_129 : decode cX6_laneOfColumn 129 = .ok (.iinc 3 1, 3) := by decide +kernel
theorem dX6_laneOfColumn_132 : decode cX6_laneOfColumn 132 = .ok (.goto (-90), 3) := by decide +kernel
theorem dX6_laneOfColumn_135 : decode cX6_laneOfColumn 135 = .ok (.bipush 8, 2) := by decide +kernel
theorem dX6_laneOfColumn_137 : decode cX6_laneOfColumn 137 = .ok (.ireturn, 1) := by decide +kernel
abbrev cX6_isOfLane : ByteArray := prog_10_method_16_code
def yX6_isOfLane : MethodName := ⟨RX6, "isOfLane", "(LCommaTablesModel$Cell;I)Z"⟩
theorem dX6_isOfLane_0 : decode cX6_isOfLane 0 = .ok (.aload_n 0, 1) := by decide +kernel
theorem dX6_isOfLane_1 : decode cX6_isOfLane 1 = .ok (.invokevirtual 107, 3) := by decide +kernel
theorem dX6_isOfLane_4 : decode cX6_isOfLane 4 = .ok (.ifCond .eq 5, 3) := by decide +kernel
theorem dX6_isOfLane_7 : decode cX6_isOfLane 7 = .ok (.iconst 1, 1) := by decide +kernel
theorem dX6_isOfLane_8 : decode cX6_isOfLane 8 = .ok (.ireturn, 1) := by decide +kernel
theorem dX6_isOfLane_9 : decode cX6_isOfLane 9 = .ok (.aload_n 0, 1) := by decide +kernel
theorem dX6_isOfLane_10 : decode cX6_isOfLane 10 = .ok (.getfield 113, 3) := by decide +kernel
theorem dX6_isOfLane_13 : decode cX6_isOfLane 13 = .ok (.ifCond .eq 5, 3) := by decide +kernel
theorem dX6_isOfLane_16 : decode cX6_isOfLane 16 = .ok (.iconst 0, 1) := by decide +kernel
theorem dX6_isOfLane_17 : decode cX6_isOfLane 17 = .ok (.ireturn, 1) := by decide +kernel
theorem dX6_isOfLane_18 : decode cX6_isOfLane 18 = .ok (.iload_n 1, 1) := by decide +kernel
theorem dX6_isOfLane_19 : decode cX6_isOfLane 19 = .ok (.ifCond .ne 11, 3) := by decide +kernel
theorem dX6_isOfLane_22 : decode cX6_isOfLane 22 = .ok (.aload_n 0, 1) := by decide +kernel
theorem dX6_isOfLane_23 : decode cX6_isOfLane 23 = .ok (.getfield 117, 3) := by decide +kernel
theorem dX6_isOfLane_26 : decode cX6_isOfLane 26 = .ok (.invokestatic 121, 3) := by decide +kernel
theorem dX6_isOfLane_29 : decode cX6_isOfLane 29 = .ok (.ireturn, 1) := by decide +kernel
theorem dX6_isOfLane_30 : decode cX6_isOfLane 30 = .ok (.iload_n 1, 1) := by decide +kernel
theorem dX6_isOfLane_31 : decode cX6_isOfLane 31 = .ok (.bipush 7, 2) := by decide +kernel
theorem dX6_isOfLane_33 : decode cX6_isOfLane 33 = .ok (.if_icmp .ne 13, 3) := by decide +kernel
theorem dX6_isOfLane_36 : decode cX6_isOfLane 36 = .ok (.aload_n 0, 1) := by decide +kernel
theorem dX6_isOfLane_37 : decode cX6_isOfLane 37 = .ok (.getfield 117, 3) := by decide +kernel
theorem dX6_isOfLane_40 : decode cX6_isOfLane 40 = .ok (.invokestatic 125, 3) := by decide +kernel
theorem dX6_isOfLane_43 : decode cX6_isOfLane 43 = .ok (.goto 11, 3) := by decide +kernel
theorem dX6_isOfLane_46 : decode cX6_isOfLane 46 = .ok (.aload_n 0, 1) := by decide +kernel
theorem dX6_isOfLane_47 : decode cX6_isOfLane 47 = .ok (.getfield 117, 3) := by decide +kernel
theorem dX6_isOfLane_50 : decode cX6_isOfLane 50 = .ok (.iload_n 1, 1) := by decide +kernel
theorem dX6_isOfLane_51 : decode cX6_isOfLane 51 = .ok (.invokestatic 128, 3) := by decide +kernel
theorem dX6_isOfLane_54 : decode cX6_isOfLane 54 = .ok (.ireturn, 1) := by decide +kernel
abbrev cX6_isTruth : ByteArray := prog_10_method_10_code
def yX6_isTruth : MethodName := ⟨RX6, "isTruth", "(Ljava/lang/String;)Z"⟩
theorem dX6_isTruth_0 : decode cX6_isTruth 0 = .ok (.aload_n 0, 1) := by decide +kernel
theorem dX6_isTruth_1 : decode cX6_isTruth 1 = .ok (.ldc 67, 2) := by decide +kernel
theorem dX6_isTruth_3 : decode cX6_isTruth 3 = .ok (.invokevirtual 69, 3) := by decide +kernel
theorem dX6_isTruth_6 : decode cX6_isTruth 6 = .ok (.ifCond .ne 12, 3) := by decide +kernel
theorem dX6_isTruth_9 : decode cX6_isTruth 9 = .ok (.aload_n 0, 1) := by decide +kernel
theorem dX6_isTruth_10 : decode cX6_isTruth 10 = .ok (.ldc 75, 2) := by decide +kernel
theorem dX6_isTruth_12 : decode cX6_isTruth 12 = .ok (.invokevirtual 69, 3) := by decide +kernel
theorem dX6_isTruth_15 : decode cX6_isTruth 15 = .ok (.ifCond .eq 7, 3) := by decide +kernel
theorem dX6_isTruth_18 : decode cX6_isTruth 18 = .ok (.iconst 1, 1) := by decide +kernel
theorem dX6_isTruth_19 : decode cX6_isTruth 19 = .ok (.goto 4, 3) := by decide +kernel
theorem dX6_isTruth_22 : decode cX6_isTruth 22 = .ok (.iconst 0, 1) := by decide +kernel
theorem dX6_isTruth_23 : decode cX6_isTruth 23 = .ok (.ireturn, 1) := by decide +kernel
abbrev cX6_isRealWord : ByteArray := prog_10_method_14_code
def yX6_isRealWord : MethodName := ⟨RX6, "isRealWord", "(Ljava/lang/String;)Z"⟩
theorem dX6_isRealWord_0 : decode cX6_isRealWord 0 = .ok (.aload_n 0, 1) := by decide +kernel
theorem dX6_isRealWord_1 : decode cX6_isRealWord 1 = .ok (.iconst 1, 1) := by decide +kernel
theorem dX6_isRealWord_2 : decode cX6_isRealWord 2 = .ok (.invokestatic 89, 3) := by decide +kernel
theorem dX6_isRealWord_5 : decode cX6_isRealWord 5 = .ok (.istore_n 1, 1) := by decide +kernel
theorem dX6_isRealWord_6 : decode cX6_isRealWord 6 = .ok (.iload_n 1, 1) := by decide +kernel
theorem dX6_isRealWord_7 : decode cX6_isRealWord 7 = .ok (.ifCond .le 13, 3) := by decide +kernel
theorem dX6_isRealWord_10 : decode cX6_isRealWord 10 = .ok (.iload_n 1, 1) := by decide +kernel
theorem dX6_isRealWord_11 : decode cX6_isRealWord 11 = .ok (.bipush 15, 2) := by decide +kernel
theorem dX6_isRealWord_13 : decode cX6_isRealWord 13 = .ok (.if_icmp .gt 7, 3) := by decide +kernel
theorem dX6_isRealWord_16 : decode cX6_isRealWord 16 = .ok (.iconst 1, 1) := by decide +kernel
theorem dX6_isRealWord_17 : decode cX6_isRealWord 17 = .ok (.goto 4, 3) := by decide +kernel
theorem dX6_isRealWord_20 : decode cX6_isRealWord 20 = .ok (.iconst 0, 1) := by decide +kernel
theorem dX6_isRealWord_21 : decode cX6_isRealWord 21 = .ok (.ireturn, 1) := by decide +kernel
abbrev cX6_digits : ByteArray := prog_10_method_11_code
def yX6_digits : MethodName := ⟨RX6, "digits", "(Ljava/lang/String;Z)I"⟩
theorem dX6_digits_0 : decode cX6_digits 0 = .ok (.aload_n 0, 1) := by decide +kernel
theorem dX6_digits_1 : decode cX6_digits 1 = .ok (.invokevirtual 77, 3) := by decide +kernel
theorem dX6_digits_4 : decode cX6_digits 4 = .ok (.ifCond .le 17, 3) := by decide +kernel
theorem dX6_digits_7 : decode cX6_digits 7 = .ok (.aload_n 0, 1) := by decide +kernel
theorem dX6_digits_8 : decode cX6_digits 8 = .ok (.iconst 0, 1) := by decide +kernel
theorem dX6_digits_9 : decode cX6_digits 9 = .ok (.invokevirtual 81, 3) := by decide +kernel
theorem dX6_digits_12 : decode cX6_digits 12 = .ok (.bipush 45, 2) := by decide +kernel
theorem dX6_digits_14 : decode cX6_digits 14 = .ok (.if_icmp .ne 7, 3) := by decide +kernel
theorem dX6_digits_17 : decode cX6_digits 17 = .ok (.iconst 1, 1) := by decide +kernel
theorem dX6_digits_18 : decode cX6_digits 18 = .ok (.goto 4, 3) := by decide +kernel
theorem dX6_digits_21 : decode cX6_digits 21 = .ok (.iconst 0, 1) := by decide +kernel
theorem dX6_digits_22 : decode cX6_digits 22 = .ok (.istore_n 2, 1) := by decide +kernel
theorem dX6_digits_23 : decode cX6_digits 23 = .ok (.iconst 0, 1) := by decide +kernel
theorem dX6_digits_24 : decode cX6_digits 24 = .ok (.istore_n 3, 1) := by decide +kernel
theorem dX6_digits_25 : decode cX6_digits 25 = .ok (.iconst (-1), 1) := by decide +kernel
theorem dX6_digits_26 : decode cX6_digits 26 = .ok (.istore 4, 2) := by decide +kernel
theorem dX6_digits_28 : decode cX6_digits 28 = .ok (.iload_n 2, 1) := by decide +kernel
theorem dX6_digits_29 : decode cX6_digits 29 = .ok (.aload_n 0, 1) := by decide +kernel
theorem dX6_digits_30 : decode cX6_digits 30 = .ok (.invokevirtual 77, 3) := by decide +kernel
theorem dX6_digits_33 : decode cX6_digits 33 = .ok (.if_icmp .ge 58, 3) := by decide +kernel
theorem dX6_digits_36 : decode cX6_digits 36 = .ok (.aload_n 0, 1) := by decide +kernel
theorem dX6_digits_37 : decode cX6_digits 37 = .ok (.iload_n 2, 1) := by decide +kernel
theorem dX6_digits_38 : decode cX6_digits 38 = .ok (.invokevirtual 81, 3) := by decide +kernel
theorem dX6_digits_41 : decode cX6_digits 41 = .ok (.istore 5, 2) := by decide +kernel
theorem dX6_digits_43 : decode cX6_digits 43 = .ok (.iload 5, 2) := by decide +kernel
theorem dX6_digits_45 : decode cX6_digits 45 = .ok (.bipush 46, 2) := by decide +kernel
theorem dX6_digits_47 : decode cX6_digits 47 = .ok (.if_icmp .ne 22, 3) := by decide +kernel
theorem dX6_digits_50 : decode cX6_digits 50 = .ok (.iload_n 1, 1) := by decide +kernel
theorem dX6_digits_51 : decode cX6_digits 51 = .ok (.ifCond .eq 18, 3) := by decide +kernel
theorem dX6_digits_54 : decode cX6_digits 54 = .ok (.iload 4, 2) := by decide +kernel
theorem dX6_digits_56 : decode cX6_digits 56 = .ok (.ifCond .ge 13, 3) := by decide +kernel
theorem dX6_digits_59 : decode cX6_digits 59 = .ok (.iload_n 3, 1) := by decide +kernel
theorem dX6_digits_60 : decode cX6_digits 60 = .ok (.ifCond .le 9, 3) := by decide +kernel
theorem dX6_digits_63 : decode cX6_digits 63 = .ok (.iload_n 3, 1) := by decide +kernel
theorem dX6_digits_64 : decode cX6_digits 64 = .ok (.istore 4, 2) := by decide +kernel
theorem dX6_digits_66 : decode cX6_digits 66 = .ok (.goto 19, 3) := by decide +kernel
theorem dX6_digits_69 : decode cX6_digits 69 = .ok (.iload 5, 2) := by decide +kernel
theorem dX6_digits_71 : decode cX6_digits 71 = .ok (.invokestatic 85, 3) := by decide +kernel
theorem dX6_digits_74 : decode cX6_digits 74 = .ok (.ifCond .eq 9, 3) := by decide +kernel
theorem dX6_digits_77 : decode cX6_digits 77 = .ok (.iinc 3 1, 3) := by decide +kernel
theorem dX6_digits_80 : decode cX6_digits 80 = .ok (.goto 5, 3) := by decide +kernel
theorem dX6_digits_83 : decode cX6_digits 83 = .ok (.iconst (-1), 1) := by decide +kernel
theorem dX6_digits_84 : decode cX6_digits 84 = .ok (.ireturn, 1) := by decide +kernel
theorem dX6_digits_85 : decode cX6_digits 85 = .ok (.iinc 2 1, 3) := by decide +kernel
theorem dX6_digits_88 : decode cX6_digits 88 = .ok (.goto (-60), 3) := by decide +kernel
theorem dX6_digits_91 : decode cX6_digits 91 = .ok (.iload_n 3, 1) := by decide +kernel
theorem dX6_digits_92 : decode cX6_digits 92 = .ok (.ifCond .eq 9, 3) := by decide +kernel
theorem dX6_digits_95 : decode cX6_digits 95 = .ok (.iload_n 3, 1) := by decide +kernel
theorem dX6_digits_96 : decode cX6_digits 96 = .ok (.iload 4, 2) := by decide +kernel
theorem dX6_digits_98 : decode cX6_digits 98 = .ok (.if_icmp .ne 7, 3) := by decide +kernel
theorem dX6_digits_101 : decode cX6_digits 101 = .ok (.iconst (-1), 1) := by decide +kernel
theorem dX6_digits_102 : decode cX6_digits 102 = .ok (.goto 4, 3) := by decide +kernel
theorem dX6_digits_105 : decode cX6_digits 105 = .ok (.iload_n 3, 1) := by decide +kernel
theorem dX6_digits_106 : decode cX6_digits 106 = .ok (.ireturn, 1) := by decide +kernel
abbrev cX6_isDigit : ByteArray := prog_10_method_8_code
def yX6_isDigit : MethodName := ⟨RX6, "isDigit", "(I)Z"⟩
theorem dX6_isDigit_0 : decode cX6_isDigit 0 = .ok (.iload_n 0, 1) := by decide +kernel
theorem dX6_isDigit_1 : decode cX6_isDigit 1 = .ok (.bipush 48, 2) := by decide +kernel
theorem dX6_isDigit_3 : decode cX6_isDigit 3 = .ok (.if_icmp .lt 13, 3) := by decide +kernel
theorem dX6_isDigit_6 : decode cX6_isDigit 6 = .ok (.iload_n 0, 1) := by decide +kernel
theorem dX6_isDigit_7 : decode cX6_isDigit 7 = .ok (.bipush 57, 2) := by decide +kernel
theorem dX6_isDigit_9 : decode cX6_isDigit 9 = .ok (.if_icmp .gt 7, 3) := by decide +kernel
theorem dX6_isDigit_12 : decode cX6_isDigit 12 = .ok (.iconst 1, 1) := by decide +kernel
theorem dX6_isDigit_13 : decode cX6_isDigit 13 = .ok (.goto 4, 3) := by decide +kernel
theorem dX6_isDigit_16 : decode cX6_isDigit 16 = .ok (.iconst 0, 1) := by decide +kernel
theorem dX6_isDigit_17 : decode cX6_isDigit 17 = .ok (.ireturn, 1) := by decide +kernel
abbrev cX6_isWholeWord : ByteArray := prog_10_method_13_code
def yX6_isWholeWord : MethodName := ⟨RX6, "isWholeWord", "(Ljava/lang/String;I)Z"⟩
theorem dX6_isWholeWord_0 : decode cX6_isWholeWord 0 = .ok (.aload_n 0, 1) := by decide +kernel
theorem dX6_isWholeWord_1 : decode cX6_isWholeWord 1 = .ok (.iconst 0, 1) := by decide +kernel
theorem dX6_isWholeWord_2 : decode cX6_isWholeWord 2 = .ok (.invokestatic 89, 3) := by decide +kernel
theorem dX6_isWholeWord_5 : decode cX6_isWholeWord 5 = .ok (.istore_n 2, 1) := by decide +kernel
theorem dX6_isWholeWord_6 : decode cX6_isWholeWord 6 = .ok (.iload_n 2, 1) := by decide +kernel
theorem dX6_isWholeWord_7 : decode cX6_isWholeWord 7 = .ok (.ifCond .lt 19, 3) := by decide +kernel
theorem dX6_isWholeWord_10 : decode cX6_isWholeWord 10 = .ok (.iload_n 2, 1) := by decide +kernel
theorem dX6_isWholeWord_11 : decode cX6_isWholeWord 11 = .ok (.iload_n 1, 1) := by decide +kernel
theorem dX6_isWholeWord_12 : decode cX6_isWholeWord 12 = .ok (.iconst 4, 1) := by decide +kernel
theorem dX6_isWholeWord_13 : decode cX6_isWholeWord 13 = .ok (.if_icmp .ne 8, 3) := by decide +kernel
theorem dX6_isWholeWord_16 : decode cX6_isWholeWord 16 = .ok (.bipush 10, 2) := by decide +kernel
theorem dX6_isWholeWord_18 : decode cX6_isWholeWord 18 = .ok (.goto 5, 3) := by decide +kernel
theorem dX6_isWholeWord_21 : decode cX6_isWholeWord 21 = .ok (.bipush 19, 2) := by decide +kernel
theorem dX6_isWholeWord_23 : decode cX6_isWholeWord 23 = .ok (.if_icmp .le 5, 3) := by decide +kernel
theorem dX6_isWholeWord_26 : decode cX6_isWholeWord 26 = .ok (.iconst 0, 1) := by decide +kernel
theorem dX6_isWholeWord_27 : decode cX6_isWholeWord 27 = .ok (.ireturn, 1) := by decide +kernel
theorem dX6_isWholeWord_28 : decode cX6_isWholeWord 28 = .ok (.aload_n 0, 1) := by decide +kernel
theorem dX6_isWholeWord_29 : decode cX6_isWholeWord 29 = .ok (.iconst 0, 1) := by decide +kernel
theorem dX6_isWholeWord_30 : decode cX6_isWholeWord 30 = .ok (.invokevirtual 81, 3) := by decide +kernel
theorem dX6_isWholeWord_33 : decode cX6_isWholeWord 33 = .ok (.bipush 45, 2) := by decide +kernel
theorem dX6_isWholeWord_35 : decode cX6_isWholeWord 35 = .ok (.if_icmp .ne 7, 3) := by decide +kernel
theorem dX6_isWholeWord_38 : decode cX6_isWholeWord 38 = .ok (.iconst 1, 1) := by decide +kernel
theorem dX6_isWholeWord_39 : decode cX6_isWholeWord 39 = .ok (.goto 4, 3) := by decide +kernel
theorem dX6_isWholeWord_42 : decode cX6_isWholeWord 42 = .ok (.iconst 0, 1) := by decide +kernel
theorem dX6_isWholeWord_43 : decode cX6_isWholeWord 43 = .ok (.istore_n 3, 1) := by decide +kernel
theorem dX6_isWholeWord_44 : decode cX6_isWholeWord 44 = .ok (.lconst 0, 1) := by decide +kernel
theorem dX6_isWholeWord_45 : decode cX6_isWholeWord 45 = .ok (.lstore 4, 2) := by decide +kernel
theorem dX6_isWholeWord_47 : decode cX6_isWholeWord 47 = .ok (.iload_n 3, 1) := by decide +kernel
theorem dX6_isWholeWord_48 : decode cX6_isWholeWord 48 = .ok (.ifCond .eq 7, 3) := by decide +kernel
theorem dX6_isWholeWord_51 : decode cX6_isWholeWord 51 = .ok (.iconst 1, 1) := by decide +kernel
theorem dX6_isWholeWord_52 : decode cX6_isWholeWord 52 = .ok (.goto 4, 3) := by decide +kernel
theorem dX6_isWholeWord_55 : decode cX6_isWholeWord 55 = .ok (.iconst 0, 1) := by decide +kernel
theorem dX6_isWholeWord_56 : decode cX6_isWholeWord 56 = .ok (.istore 6, 2) := by decide +kernel
theorem dX6_isWholeWord_58 : decode cX6_isWholeWord 58 = .ok (.iload 6, 2) := by decide +kernel
theorem dX6_isWholeWord_60 : decode cX6_isWholeWord 60 = .ok (.aload_n 0, 1) := by decide +kernel
theorem dX6_isWholeWord_61 : decode cX6_isWholeWord 61 = .ok (.invokevirtual 77, 3) := by decide +kernel
theorem dX6_isWholeWord_64 : decode cX6_isWholeWord 64 = .ok (.if_icmp .ge 51, 3) := by decide +kernel
theorem dX6_isWholeWord_67 : decode cX6_isWholeWord 67 = .ok (.aload_n 0, 1) := by decide +kernel
theorem dX6_isWholeWord_68 : decode cX6_isWholeWord 68 = .ok (.iload 6, 2) := by decide +kernel
theorem dX6_isWholeWord_70 : decode cX6_isWholeWord 70 = .ok (.invokevirtual 81, 3) := by decide +kernel
theorem dX6_isWholeWord_73 : decode cX6_isWholeWord 73 = .ok (.bipush 48, 2) := by decide +kernel
theorem dX6_isWholeWord_75 : decode cX6_isWholeWord 75 = .ok (.isub, 1) := by decide +kernel
theorem dX6_isWholeWord_76 : decode cX6_isWholeWord 76 = .ok (.istore 7, 2) := by decide +kernel
theorem dX6_isWholeWord_78 : decode cX6_isWholeWord 78 = .ok (.lload 4, 2) := by decide +kernel
theorem dX6_isWholeWord_80 : decode cX6_isWholeWord 80 = .ok (.ldc2_w 95, 3) := by decide +kernel
theorem dX6_isWholeWord_83 : decode cX6_isWholeWord 83 = .ok (.iload 7, 2) := by decide +kernel
theorem dX6_isWholeWord_85 : decode cX6_isWholeWord 85 = .ok (.i2l, 1) := by decide +kernel
theorem dX6_isWholeWord_86 : decode cX6_isWholeWord 86 = .ok (.ladd, 1) := by decide +kernel
theorem dX6_isWholeWord_87 : decode cX6_isWholeWord 87 = .ok (.ldc2_w 55, 3) := by decide +kernel
theorem dX6_isWholeWord_90 : decode cX6_isWholeWord 90 = .ok (.ldiv, 1) := by decide +kernel
theorem dX6_isWholeWord_91 : decode cX6_isWholeWord 91 = .ok (.lcmp, 1) := by decide +kernel
theorem dX6_isWholeWord_92 : decode cX6_isWholeWord 92 = .ok (.ifCond .ge 5, 3) := by decide +kernel
theorem dX6_isWholeWord_95 : decode cX6_isWholeWord 95 = .ok (.iconst 0, 1) := by decide +kernel
theorem dX6_isWholeWord_96 : decode cX6_isWholeWord 96 = .ok (.ireturn, 1) := by decide +kernel
theorem dX6_isWholeWord_97 : decode cX6_isWholeWord 97 = .ok (.ldc2_w 55, 3) := by decide +kernel
theorem dX6_isWholeWord_100 : decode cX6_isWholeWord 100 = .ok (.lload 4, 2) := by decide +kernel
theorem dX6_isWholeWord_102 : decode cX6_isWholeWord 102 = .ok (.lmul, 1) := by decide +kernel
theorem dX6_isWholeWord_103 : decode cX6_isWholeWord 103 = .ok (.iload 7, 2) := by decide +kernel
theorem dX6_isWholeWord_105 : decode cX6_isWholeWord 105 = .ok (.i2l, 1) := by decide +kernel
theorem dX6_isWholeWord_106 : decode cX6_isWholeWord 106 = .ok (.lsub, 1) := by decide +kernel
theorem dX6_isWholeWord_107 : decode cX6_isWholeWord 107 = .ok (.lstore 4, 2) := by decide +kernel
theorem dX6_isWholeWord_109 : decode cX6_isWholeWord 109 = .ok (.iinc 6 1, 3) := by decide +kernel
theorem dX6_isWholeWord_112 : decode cX6_isWholeWord 112 = .ok (.goto (-54), 3) := by decide +kernel
theorem dX6_isWholeWord_115 : decode cX6_isWholeWord 115 = .ok (.iload_n 3, 1) := by decide +kernel
theorem dX6_isWholeWord_116 : decode cX6_isWholeWord 116 = .ok (.ifCond .ne 14, 3) := by decide +kernel
theorem dX6_isWholeWord_119 : decode cX6_isWholeWord 119 = .ok (.lload 4, 2) := by decide +kernel
theorem dX6_isWholeWord_121 : decode cX6_isWholeWord 121 = .ok (.ldc2_w 95, 3) := by decide +kernel
theorem dX6_isWholeWord_124 : decode cX6_isWholeWord 124 = .ok (.lcmp, 1) := by decide +kernel
theorem dX6_isWholeWord_125 : decode cX6_isWholeWord 125 = .ok (.ifCond .ne 5, 3) := by decide +kernel
theorem dX6_isWholeWord_128 : decode cX6_isWholeWord 128 = .ok (.iconst 0, 1) := by decide +kernel
theorem dX6_isWholeWord_129 : decode cX6_isWholeWord 129 = .ok (.ireturn, 1) := by decide +kernel
theorem dX6_isWholeWord_130 : decode cX6_isWholeWord 130 = .ok (.iload_n 3, 1) := by decide +kernel
theorem dX6_isWholeWord_131 : decode cX6_isWholeWord 131 = .ok (.ifCond .eq 8, 3) := by decide +kernel
theorem dX6_isWholeWord_134 : decode cX6_isWholeWord 134 = .ok (.lload 4, 2) := by decide +kernel
theorem dX6_isWholeWord_136 : decode cX6_isWholeWord 136 = .ok (.goto 6, 3) := by decide +kernel
theorem dX6_isWholeWord_139 : decode cX6_isWholeWord 139 = .ok (.lload 4, 2) := by decide +kernel
theorem dX6_isWholeWord_141 : decode cX6_isWholeWord 141 = .ok (.lneg, 1) := by decide +kernel
theorem dX6_isWholeWord_142 : decode cX6_isWholeWord 142 = .ok (.lstore 6, 2) := by decide +kernel
theorem dX6_isWholeWord_144 : decode cX6_isWholeWord 144 = .ok (.iload_n 1, 1) := by decide +kernel
theorem dX6_isWholeWord_145 : decode cX6_isWholeWord 145 = .ok (.iconst 5, 1) := by decide +kernel
theorem dX6_isWholeWord_146 : decode cX6_isWholeWord 146 = .ok (.if_icmp .eq 13, 3) := by decide +kernel
theorem dX6_isWholeWord_149 : decode cX6_isWholeWord 149 = .ok (.lload 6, 2) := by decide +kernel
theorem dX6_isWholeWord_151 : decode cX6_isWholeWord 151 = .ok (.lload 6, 2) := by decide +kernel
theorem dX6_isWholeWord_153 : decode cX6_isWholeWord 153 = .ok (.l2i, 1) := by decide +kernel
theorem dX6_isWholeWord_154 : decode cX6_isWholeWord 154 = .ok (.i2l, 1) := by decide +kernel
theorem dX6_isWholeWord_155 : decode cX6_isWholeWord 155 = .ok (.lcmp, 1) := by decide +kernel
theorem dX6_isWholeWord_156 : decode cX6_isWholeWord 156 = .ok (.ifCond .ne 7, 3) := by decide +kernel
theorem dX6_isWholeWord_159 : decode cX6_isWholeWord 159 = .ok (.iconst 1, 1) := by decide +kernel
theorem dX6_isWholeWord_160 : decode cX6_isWholeWord 160 = .ok (.goto 4, 3) := by decide +kernel
theorem dX6_isWholeWord_163 : decode cX6_isWholeWord 163 = .ok (.iconst 0, 1) := by decide +kernel
theorem dX6_isWholeWord_164 : decode cX6_isWholeWord 164 = .ok (.ireturn, 1) := by decide +kernel
abbrev cX6_rows : ByteArray := prog_10_method_21_code
def yX6_rows : MethodName := ⟨RX6, "rows", "(I)I"⟩
theorem dX6_rows_0 : decode cX6_rows 0 = .ok (.aload_n 0, 1) := by decide +kernel
theorem dX6_rows_1 : decode cX6_rows 1 = .ok (.iload_n 1, 1) := by decide +kernel
theorem dX6_rows_2 : decode cX6_rows 2 = .ok (.invokevirtual 186, 3) := by decide +kernel
theorem dX6_rows_5 : decode cX6_rows 5 = .ok (.ifCond .eq 15, 3) := by decide +kernel
theorem dX6_rows_8 : decode cX6_rows 8 = .ok (.aload_n 0, 1) := by decide +kernel
theorem dX6_rows_9 : decode cX6_rows 9 = .ok (.getfield 26, 3) := by decide +kernel
theorem dX6_rows_12 : decode cX6_rows 12 = .ok (.iload_n 1, 1) := by decide +kernel
theorem dX6_rows_13 : decode cX6_rows 13 = .ok (.aaload, 1) := by decide +kernel
theorem dX6_rows_14 : decode cX6_rows 14 = .ok (.invokevirtual 132, 3) := by decide +kernel
theorem dX6_rows_17 : decode cX6_rows 17 = .ok (.goto 5, 3) := by decide +kernel
theorem dX6_rows_20 : decode cX6_rows 20 = .ok (.bipush (-14), 2) := by decide +kernel
theorem dX6_rows_22 : decode cX6_rows 22 = .ok (.ireturn, 1) := by decide +kernel
abbrev cX6_isTable : ByteArray := prog_10_method_20_code
def yX6_isTable : MethodName := ⟨RX6, "isTable", "(I)Z"⟩
theorem dX6_isTable_0 : decode cX6_isTable 0 = .ok (.iload_n 1, 1) := by decide +kernel
theorem dX6_isTable_1 : decode cX6_isTable 1 = .ok (.iconst 1, 1) := by decide +kernel
theorem dX6_isTable_2 : decode cX6_isTable 2 = .ok (.if_icmp .lt 24, 3) := by decide +kernel
theorem dX6_isTable_5 : decode cX6_isTable 5 = .ok (.iload_n 1, 1) := by decide +kernel
theorem dX6_isTable_6 : decode cX6_isTable 6 = .ok (.aload_n 0, 1) := by decide +kernel
theorem dX6_isTable_7 : decode cX6_isTable 7 = .ok (.getfield 143, 3) := by decide +kernel
theorem dX6_isTable_10 : decode cX6_isTable 10 = .ok (.if_icmp .gt 16, 3) := by decide +kernel
theorem dX6_isTable_13 : decode cX6_isTable 13 = .ok (.aload_n 0, 1) := by decide +kernel
theorem dX6_isTable_14 : decode cX6_isTable 14 = .ok (.getfield 26, 3) := by decide +kernel
theorem dX6_isTable_17 : decode cX6_isTable 17 = .ok (.iload_n 1, 1) := by decide +kernel
theorem dX6_isTable_18 : decode cX6_isTable 18 = .ok (.aaload, 1) := by decide +kernel
theorem dX6_isTable_19 : decode cX6_isTable 19 = .ok (.ifnull 7, 3) := by decide +kernel
theorem dX6_isTable_22 : decode cX6_isTable 22 = .ok (.iconst 1, 1) := by decide +kernel
theorem dX6_isTable_23 : decode cX6_isTable 23 = .ok (.goto 4, 3) := by decide +kernel
theorem dX6_isTable_26 : decode cX6_isTable 26 = .ok (.iconst 0, 1) := by decide +kernel
theorem dX6_isTable_27 : decode cX6_isTable 27 = .ok (.ireturn, 1) := by decide +kernel
abbrev cX6_columns : ByteArray := prog_10_method_22_code
def yX6_columns : MethodName := ⟨RX6, "columns", "(I)I"⟩
theorem dX6_columns_0 : decode cX6_columns 0 = .ok (.aload_n 0, 1) := by decide +kernel
theorem dX6_columns_1 : decode cX6_columns 1 = .ok (.iload_n 1, 1) := by decide +kernel
theorem dX6_columns_2 : decode cX6_columns 2 = .ok (.invokevirtual 186, 3) := by decide +kernel
theorem dX6_columns_5 : decode cX6_columns 5 = .ok (.ifCond .eq 18, 3) := by decide +kernel
theorem dX6_columns_8 : decode cX6_columns 8 = .ok (.aload_n 0, 1) := by decide +kernel
theorem dX6_columns_9 : decode cX6_columns 9 = .ok (.getfield 26, 3) := by decide +kernel
theorem dX6_columns_12 : decode cX6_columns 12 = .ok (.iload_n 1, 1) := by decide +kernel
theorem dX6_columns_13 : decode cX6_columns 13 = .ok (.aaload, 1) := by decide +kernel
theorem dX6_columns_14 : decode cX6_columns 14 = .ok (.getfield 149, 3) := by decide +kernel
theorem dX6_columns_17 : decode cX6_columns 17 = .ok (.invokevirtual 153, 3) := by decide +kernel
theorem dX6_columns_20 : decode cX6_columns 20 = .ok (.goto 5, 3) := by decide +kernel
theorem dX6_columns_23 : decode cX6_columns 23 = .ok (.bipush (-14), 2) := by decide +kernel
theorem dX6_columns_25 : decode cX6_columns 25 = .ok (.ireturn, 1) := by decide +kernel
abbrev cX6_named : ByteArray := prog_10_method_23_code
def yX6_named : MethodName := ⟨RX6, "named", "(I)I"⟩
theorem dX6_named_0 : decode cX6_named 0 = .ok (.aload_n 0, 1) := by decide +kernel
theorem dX6_named_1 : decode cX6_named 1 = .ok (.invokevirtual 165, 3) := by decide +kernel
theorem dX6_named_4 : decode cX6_named 4 = .ok (.istore_n 2, 1) := by decide +kernel
theorem dX6_named_5 : decode cX6_named 5 = .ok (.aload_n 0, 1) := by decide +kernel
theorem dX6_named_6 : decode cX6_named 6 = .ok (.iload_n 1, 1) := by decide +kernel
theorem dX6_named_7 : decode cX6_named 7 = .ok (.invokevirtual 186, 3) := by decide +kernel
theorem dX6_named_10 : decode cX6_named 10 = .ok (.ifCond .ne 6, 3) := by decide +kernel
theorem dX6_named_13 : decode cX6_named 13 = .ok (.bipush (-14), 2) := by decide +kernel
theorem dX6_named_15 : decode cX6_named 15 = .ok (.ireturn, 1) := by decide +kernel
theorem dX6_named_16 : decode cX6_named 16 = .ok (.iconst 0, 1) := by decide +kernel
theorem dX6_named_17 : decode cX6_named 17 = .ok (.istore_n 3, 1) := by decide +kernel
theorem dX6_named_18 : decode cX6_named 18 = .ok (.iload_n 3, 1) := by decide +kernel
theorem dX6_named_19 : decode cX6_named 19 = .ok (.aload_n 0, 1) := by decide +kernel
theorem dX6_named_20 : decode cX6_named 20 = .ok (.getfield 26, 3) := by decide +kernel
theorem dX6_named_23 : decode cX6_named 23 = .ok (.iload_n 1, 1) := by decide +kernel
theorem dX6_named_24 : decode cX6_named 24 = .ok (.aaload, 1) := by decide +kernel
theorem dX6_named_25 : decode cX6_named 25 = .ok (.getfield 149, 3) := by decide +kernel
theorem dX6_named_28 : decode cX6_named 28 = .ok (.invokevirtual 153, 3) := by decide +kernel
theorem dX6_named_31 : decode cX6_named 31 = .ok (.if_icmp .ge 98, 3) := by decide +kernel
theorem dX6_named_34 : decode cX6_named 34 = .ok (.aload_n 0, 1) := by decide +kernel
theorem dX6_named_35 : decode cX6_named 35 = .ok (.getfield 26, 3) := by decide +kernel
theorem dX6_named_38 : decode cX6_named 38 = .ok (.iload_n 1, 1) := by decide +kernel
theorem dX6_named_39 : decode cX6_named 39 = .ok (.aaload, 1) := by decide +kernel
theorem dX6_named_40 : decode cX6_named 40 = .ok (.getfield 149, 3) := by decide +kernel
theorem dX6_named_43 : decode cX6_named 43 = .ok (.iload_n 3, 1) := by decide +kernel
theorem dX6_named_44 : decode cX6_named 44 = .ok (.invokevirtual 189, 3) := by decide +kernel
theorem dX6_named_47 : decode cX6_named 47 = .ok (.checkcast 70, 3) := by decide +kernel
theorem dX6_named_50 : decode cX6_named 50 = .ok (.astore 4, 2) := by decide +kernel
theorem dX6_named_52 : decode cX6_named 52 = .ok (.aload 4, 2) := by decide +kernel
theorem dX6_named_54 : decode cX6_named 54 = .ok (.invokevirtual 77, 3) := by decide +kernel
theorem dX6_named_57 : decode cX6_named 57 = .ok (.iload_n 2, 1) := by decide +kernel
theorem dX6_named_58 : decode cX6_named 58 = .ok (.if_icmp .ne 7, 3) := by decide +kernel
theorem dX6_named_61 : decode cX6_named 61 = .ok (.iconst 1, 1) := by decide +kernel
theorem dX6_named_62 : decode cX6_named 62 = .ok (.goto 4, 3) := by decide +kernel
theorem dX6_named_65 : decode cX6_named 65 = .ok (.iconst 0, 1) := by decide +kernel
theorem dX6_named_66 : decode cX6_named 66 = .ok (.istore 5, 2) := by decide +kernel
theorem dX6_named_68 : decode cX6_named 68 = .ok (.iconst 0, 1) := by decide +kernel
theorem dX6_named_69 : decode cX6_named 69 = .ok (.istore 6, 2) := by decide +kernel
theorem dX6_named_71 : decode cX6_named 71 = .ok (.iload 6, 2) := by decide +kernel
theorem dX6_named_73 : decode cX6_named 73 = .ok (.iload_n 2, 1) := by decide +kernel
theorem dX6_named_74 : decode cX6_named 74 = .ok (.if_icmp .ge 42, 3) := by decide +kernel
theorem dX6_named_77 : decode cX6_named 77 = .ok (.iload 5, 2) := by decide +kernel
theorem dX6_named_79 : decode cX6_named 79 = .ok (.ifCond .eq 37, 3) := by decide +kernel
theorem dX6_named_82 : decode cX6_named 82 = .ok (.aload 4, 2) := by decide +kernel
theorem dX6_named_84 : decode cX6_named 84 = .ok (.iload 6, 2) := by decide +kernel
theorem dX6_named_86 : decode cX6_named 86 = .ok (.invokevirtual 81, 3) := by decide +kernel
theorem dX6_named_89 : decode cX6_named 89 = .ok (.aload_n 0, 1) := by decide +kernel
theorem dX6_named_90 : decode cX6_named 90 = .ok (.getfield 9, 3) := by decide +kernel
theorem dX6_named_93 : decode cX6_named 93 = .ok (.iload 6, 2) := by decide +kernel
theorem dX6_named_95 : decode cX6_named 95 = .ok (.baload, 1) := by decide +kernel
theorem dX6_named_96 : decode cX6_named 96 = .ok (.sipush 255, 3) := by decide +kernel
theorem dX6_named_99 : decode cX6_named 99 = .ok (.iand, 1) := by decide +kernel
theorem dX6_named_100 : decode cX6_named 100 = .ok (.if_icmp .ne 7, 3) := by decide +kernel
theorem dX6_named_103 : decode cX6_named 103 = .ok (.iconst 1, 1) := by decide +kernel
theorem dX6_named_104 : decode cX6_named 104 = .ok (.goto 4, 3) := by decide +kernel
theorem dX6_named_107 : decode cX6_named 107 = .ok (.iconst 0, 1) := by decide +kernel
theorem dX6_named_108 : decode cX6_named 108 = .ok (.istore 5, 2) := by decide +kernel
theorem dX6_named_110 : decode cX6_named 110 = .ok (.iinc 6 1, 3) := by decide +kernel
theorem dX6_named_113 : decode cX6_named 113 = .ok (.goto (-42), 3) := by decide +kernel
theorem dX6_named_116 : decode cX6_named 116 = .ok (.iload 5, 2) := by decide +kernel
theorem dX6_named_118 : decode cX6_named 118 = .ok (.ifCond .eq 5, 3) := by decide +kernel
theorem dX6_named_121 : decode cX6_named 121 = .ok (.iload_n 3, 1) := by decide +kernel
theorem dX6_named_122 : decode cX6_named 122 = .ok (.ireturn, 1) := by decide +kernel
theorem dX6_named_123 : decode cX6_named 123 = .ok (.iinc 3 1, 3) := by decide +kernel
theorem dX6_named_126 : decode cX6_named 126 = .ok (.goto (-108), 3) := by decide +kernel
theorem dX6_named_129 : decode cX6_named 129 = .ok (.bipush (-2), 2) := by decide +kernel
theorem dX6_named_131 : decode cX6_named 131 = .ok (.ireturn, 1) := by decide +kernel
abbrev cX6_lane : ByteArray := prog_10_method_26_code
def yX6_lane : MethodName := ⟨RX6, "lane", "(II)I"⟩
theorem dX6_lane_0 : decode cX6_lane 0 = .ok (.aload_n 0, 1) := by decide +kernel
theorem dX6_lane_1 : decode cX6_lane 1 = .ok (.iload_n 1, 1) := by decide +kernel
theorem dX6_lane_2 : decode cX6_lane 2 = .ok (.invokevirtual 186, 3) := by decide +kernel
theorem dX6_lane_5 : decode cX6_lane 5 = .ok (.ifCond .ne 8, 3) := by decide +kernel
theorem dX6_lane_8 : decode cX6_lane 8 = .ok (.bipush (-14), 2) := by decide +kernel
theorem dX6_lane_10 : decode cX6_lane 10 = .ok (.goto 28, 3) := by decide +kernel
theorem dX6_lane_13 : decode cX6_lane 13 = .ok (.aload_n 0, 1) := by decide +kernel
theorem dX6_lane_14 : decode cX6_lane 14 = .ok (.iload_n 1, 1) := by decide +kernel
theorem dX6_lane_15 : decode cX6_lane 15 = .ok (.iload_n 2, 1) := by decide +kernel
theorem dX6_lane_16 : decode cX6_lane 16 = .ok (.invokevirtual 193, 3) := by decide +kernel
theorem dX6_lane_19 : decode cX6_lane 19 = .ok (.ifCond .ne 8, 3) := by decide +kernel
theorem dX6_lane_22 : decode cX6_lane 22 = .ok (.bipush (-2), 2) := by decide +kernel
theorem dX6_lane_24 : decode cX6_lane 24 = .ok (.goto 14, 3) := by decide +kernel
theorem dX6_lane_27 : decode cX6_lane 27 = .ok (.aload_n 0, 1) := by decide +kernel
theorem dX6_lane_28 : decode cX6_lane 28 = .ok (.getfield 26, 3) := by decide +kernel
theorem dX6_lane_31 : decode cX6_lane 31 = .ok (.iload_n 1, 1) := by decide +kernel
theorem dX6_lane_32 : decode cX6_lane 32 = .ok (.aaload, 1) := by decide +kernel
theorem dX6_lane_33 : decode cX6_lane 33 = .ok (.getfield 158, 3) := by decide +kernel
theorem dX6_lane_36 : decode cX6_lane 36 = .ok (.iload_n 2, 1) := by decide +kernel
theorem dX6_lane_37 : decode cX6_lane 37 = .ok (.iaload, 1) := by decide +kernel
theorem dX6_lane_38 : decode cX6_lane 38 = .ok (.ireturn, 1) := by decide +kernel
abbrev cX6_isColumn : ByteArray := prog_10_method_24_code
def yX6_isColumn : MethodName := ⟨RX6, "isColumn", "(II)Z"⟩
theorem dX6_isColumn_0 : decode cX6_isColumn 0 = .ok (.aload_n 0, 1) := by decide +kernel
theorem dX6_isColumn_1 : decode cX6_isColumn 1 = .ok (.iload_n 1, 1) := by decide +kernel
theorem dX6_isColumn_2 : decode cX6_isColumn 2 = .ok (.invokevirtual 186, 3) := by decide +kernel
theorem dX6_isColumn_5 : decode cX6_isColumn 5 = .ok (.ifCond .eq 27, 3) := by decide +kernel
theorem dX6_isColumn_8 : decode cX6_isColumn 8 = .ok (.iload_n 2, 1) := by decide +kernel
theorem dX6_isColumn_9 : decode cX6_isColumn 9 = .ok (.ifCond .lt 23, 3) := by decide +kernel
theorem dX6_isColumn_12 : decode cX6_isColumn 12 = .ok (.iload_n 2, 1) := by decide +kernel
theorem dX6_isColumn_13 : decode cX6_isColumn 13 = .ok (.aload_n 0, 1) := by decide +kernel
theorem dX6_isColumn_14 : decode cX6_isColumn 14 = .ok (.getfield 26, 3) := by decide +kernel
theorem dX6_isColumn_17 : decode cX6_isColumn 17 = .ok (.iload_n 1, 1) := by decide +kernel
theorem dX6_isColumn_18 : decode cX6_isColumn 18 = .ok (.aaload, 1) := by decide +kernel
theorem dX6_isColumn_19 : decode cX6_isColumn 19 = .ok (.getfield 149, 3) := by decide +kernel
theorem dX6_isColumn_22 : decode cX6_isColumn 22 = .ok (.invokevirtual 153, 3) := by decide +kernel
theorem dX6_isColumn_25 : decode cX6_isColumn 25 = .ok (.if_icmp .ge 7, 3) := by decide +kernel
theorem dX6_isColumn_28 : decode cX6_isColumn 28 = .ok (.iconst 1, 1) := by decide +kernel
theorem dX6_isColumn_29 : decode cX6_isColumn 29 = .ok (.goto 4, 3) := by decide +kernel
theorem dX6_isColumn_32 : decode cX6_isColumn 32 = .ok (.iconst 0, 1) := by decide +kernel
theorem dX6_isColumn_33 : decode cX6_isColumn 33 = .ok (.ireturn, 1) := by decide +kernel
abbrev cX6_value : ByteArray := prog_10_method_29_code
def yX6_value : MethodName := ⟨RX6, "value", "(III)J"⟩
theorem dX6_value_0 : decode cX6_value 0 = .ok (.aload_n 0, 1) := by decide +kernel
theorem dX6_value_1 : decode cX6_value 1 = .ok (.iload_n 1, 1) := by decide +kernel
theorem dX6_value_2 : decode cX6_value 2 = .ok (.iload_n 2, 1) := by decide +kernel
theorem dX6_value_3 : decode cX6_value 3 = .ok (.iload_n 3, 1) := by decide +kernel
theorem dX6_value_4 : decode cX6_value 4 = .ok (.invokevirtual 201, 3) := by decide +kernel
theorem dX6_value_7 : decode cX6_value 7 = .ok (.ifCond .ne 5, 3) := by decide +kernel
theorem dX6_value_10 : decode cX6_value 10 = .ok (.lconst 0, 1) := by decide +kernel
theorem dX6_value_11 : decode cX6_value 11 = .ok (.lreturn, 1) := by decide +kernel
theorem dX6_value_12 : decode cX6_value 12 = .ok (.aload_n 0, 1) := by decide +kernel
theorem dX6_value_13 : decode cX6_value 13 = .ok (.getfield 26, 3) := by decide +kernel
theorem dX6_value_16 : decode cX6_value 16 = .ok (.iload_n 1, 1) := by decide +kernel
theorem dX6_value_17 : decode cX6_value 17 = .ok (.aaload, 1) := by decide +kernel
theorem dX6_value_18 : decode cX6_value 18 = .ok (.getfield 158, 3) := by decide +kernel
theorem dX6_value_21 : decode cX6_value 21 = .ok (.iload_n 2, 1) := by decide +kernel
theorem dX6_value_22 : decode cX6_value 22 = .ok (.iaload, 1) := by decide +kernel
theorem dX6_value_23 : decode cX6_value 23 = .ok (.istore 4, 2) := by decide +kernel
theorem dX6_value_25 : decode cX6_value 25 = .ok (.aload_n 0, 1) := by decide +kernel
theorem dX6_value_26 : decode cX6_value 26 = .ok (.getfield 26, 3) := by decide +kernel
theorem dX6_value_29 : decode cX6_value 29 = .ok (.iload_n 1, 1) := by decide +kernel
theorem dX6_value_30 : decode cX6_value 30 = .ok (.aaload, 1) := by decide +kernel
theorem dX6_value_31 : decode cX6_value 31 = .ok (.iload_n 3, 1) := by decide +kernel
theorem dX6_value_32 : decode cX6_value 32 = .ok (.iload_n 2, 1) := by decide +kernel
theorem dX6_value_33 : decode cX6_value 33 = .ok (.invokevirtual 135, 3) := by decide +kernel
theorem dX6_value_36 : decode cX6_value 36 = .ok (.astore 5, 2) := by decide +kernel
theorem dX6_value_38 : decode cX6_value 38 = .ok (.aload 5, 2) := by decide +kernel
theorem dX6_value_40 : decode cX6_value 40 = .ok (.invokevirtual 107, 3) := by decide +kernel
theorem dX6_value_43 : decode cX6_value 43 = .ok (.ifCond .eq 18, 3) := by decide +kernel
theorem dX6_value_46 : decode cX6_value 46 = .ok (.iload 4, 2) := by decide +kernel
theorem dX6_value_48 : decode cX6_value 48 = .ok (.bipush 8, 2) := by decide +kernel
theorem dX6_value_50 : decode cX6_value 50 = .ok (.if_icmp .ne 9, 3) := by decide +kernel
theorem dX6_value_53 : decode cX6_value 53 = .ok (.ldc2_w 205, 3) := by decide +kernel
theorem dX6_value_56 : decode cX6_value 56 = .ok (.goto 4, 3) := by decide +kernel
theorem dX6_value_59 : decode cX6_value 59 = .ok (.lconst 0, 1) := by decide +kernel
theorem dX6_value_60 : decode cX6_value 60 = .ok (.lreturn, 1) := by decide +kernel
theorem dX6_value_61 : decode cX6_value 61 = .ok (.iload 4, 2) := by decide +kernel
theorem dX6_value_63 : decode cX6_value 63 = .ok (.ifCond .ne 22, 3) := by decide +kernel
theorem dX6_value_66 : decode cX6_value 66 = .ok (.aload 5, 2) := by decide +kernel
theorem dX6_value_68 : decode cX6_value 68 = .ok (.getfield 117, 3) := by decide +kernel
theorem dX6_value_71 : decode cX6_value 71 = .ok (.ldc 67, 2) := by decide +kernel
theorem dX6_value_73 : decode cX6_value 73 = .ok (.invokevirtual 69, 3) := by decide +kernel
theorem dX6_value_76 : decode cX6_value 76 = .ok (.ifCond .eq 7, 3) := by decide +kernel
theorem dX6_value_79 : decode cX6_value 79 = .ok (.lconst 1, 1) := by decide +kernel
theorem dX6_value_80 : decode cX6_value 80 = .ok (.goto 4, 3) := by decide +kernel
theorem dX6_value_83 : decode cX6_value 83 = .ok (.lconst 0, 1) := by decide +kernel
theorem dX6_value_84 : decode cX6_value 84 = .ok (.lreturn, 1) := by decide +kernel
theorem dX6_value_85 : decode cX6_value 85 = .ok (.iload 4, 2) := by decide +kernel
theorem dX6_value_87 : decode cX6_value 87 = .ok (.bipush 7, 2) := by decide +kernel
theorem dX6_value_89 : decode cX6_value 89 = .ok (.if_icmp .ne 12, 3) := by decide +kernel
theorem dX6_value_92 : decode cX6_value 92 = .ok (.aload 5, 2) := by decide +kernel
theorem dX6_value_94 : decode cX6_value 94 = .ok (.getfield 117, 3) := by decide +kernel
theorem dX6_value_97 : decode cX6_value 97 = .ok (.invokestatic 207, 3) := by decide +kernel
theorem dX6_value_100 : decode cX6_value 100 = .ok (.lreturn, 1) := by decide +kernel
theorem dX6_value_101 : decode cX6_value 101 = .ok (.iload 4, 2) := by decide +kernel
theorem dX6_value_103 : decode cX6_value 103 = .ok (.bipush 8, 2) := by decide +kernel
theorem dX6_value_105 : decode cX6_value 105 = .ok (.if_icmp .ne 22, 3) := by decide +kernel
theorem dX6_value_108 : decode cX6_value 108 = .ok (.aload_n 0, 1) := by decide +kernel
theorem dX6_value_109 : decode cX6_value 109 = .ok (.getfield 26, 3) := by decide +kernel
theorem dX6_value_112 : decode cX6_value 112 = .ok (.iload_n 1, 1) := by decide +kernel
theorem dX6_value_113 : decode cX6_value 113 = .ok (.aaload, 1) := by decide +kernel
theorem dX6_value_114 : decode cX6_value 114 = .ok (.iload_n 2, 1) := by decide +kernel
theorem dX6_value_115 : decode cX6_value 115 = .ok (.aload 5, 2) := by decide +kernel
theorem dX6_value_117 : decode cX6_value 117 = .ok (.getfield 117, 3) := by decide +kernel
theorem dX6_value_120 : decode cX6_value 120 = .ok (.invokestatic 211, 3) := by decide +kernel
theorem dX6_value_123 : decode cX6_value 123 = .ok (.i2l, 1) := by decide +kernel
theorem dX6_value_124 : decode cX6_value 124 = .ok (.goto 11, 3) := by decide +kernel
theorem dX6_value_127 : decode cX6_value 127 = .ok (.aload 5, 2) := by decide +kernel
theorem dX6_value_129 : decode cX6_value 129 = .ok (.getfield 117, 3) := by decide +kernel
theorem dX6_value_132 : decode cX6_value 132 = .ok (.invokestatic 215, 3) := by decide +kernel
theorem dX6_value_135 : decode cX6_value 135 = .ok (.lreturn, 1) := by decide +kernel
abbrev cX6_isCell : ByteArray := prog_10_method_25_code
def yX6_isCell : MethodName := ⟨RX6, "isCell", "(III)Z"⟩
theorem dX6_isCell_0 : decode cX6_isCell 0 = .ok (.aload_n 0, 1) := by decide +kernel
theorem dX6_isCell_1 : decode cX6_isCell 1 = .ok (.iload_n 1, 1) := by decide +kernel
theorem dX6_isCell_2 : decode cX6_isCell 2 = .ok (.iload_n 2, 1) := by decide +kernel
theorem dX6_isCell_3 : decode cX6_isCell 3 = .ok (.invokevirtual 193, 3) := by decide +kernel
theorem dX6_isCell_6 : decode cX6_isCell 6 = .ok (.ifCond .eq 24, 3) := by decide +kernel
theorem dX6_isCell_9 : decode cX6_isCell 9 = .ok (.iload_n 3, 1) := by decide +kernel
theorem dX6_isCell_10 : decode cX6_isCell 10 = .ok (.ifCond .lt 20, 3) := by decide +kernel
theorem dX6_isCell_13 : decode cX6_isCell 13 = .ok (.iload_n 3, 1) := by decide +kernel
theorem dX6_isCell_14 : decode cX6_isCell 14 = .ok (.aload_n 0, 1) := by decide +kernel
theorem dX6_isCell_15 : decode cX6_isCell 15 = .ok (.getfield 26, 3) := by decide +kernel
theorem dX6_isCell_18 : decode cX6_isCell 18 = .ok (.iload_n 1, 1) := by decide +kernel
theorem dX6_isCell_19 : decode cX6_isCell 19 = .ok (.aaload, 1) := by decide +kernel
theorem dX6_isCell_20 : decode cX6_isCell 20 = .ok (.invokevirtual 132, 3) := by decide +kernel
theorem dX6_isCell_23 : decode cX6_isCell 23 = .ok (.if_icmp .ge 7, 3) := by decide +kernel
theorem dX6_isCell_26 : decode cX6_isCell 26 = .ok (.iconst 1, 1) := by decide +kernel
theorem dX6_isCell_27 : decode cX6_isCell 27 = .ok (.goto 4, 3) := by decide +kernel
theorem dX6_isCell_30 : decode cX6_isCell 30 = .ok (.iconst 0, 1) := by decide +kernel
theorem dX6_isCell_31 : decode cX6_isCell 31 = .ok (.ireturn, 1) := by decide +kernel
abbrev cX6_realWord : ByteArray := prog_10_method_15_code
def yX6_realWord : MethodName := ⟨RX6, "realWord", "(Ljava/lang/String;)J"⟩
theorem dX6_realWord_0 : decode cX6_realWord 0 = .ok (.aload_n 0, 1) := by decide +kernel
theorem dX6_realWord_1 : decode cX6_realWord 1 = .ok (.iconst 0, 1) := by decide +kernel
theorem dX6_realWord_2 : decode cX6_realWord 2 = .ok (.invokevirtual 81, 3) := by decide +kernel
theorem dX6_realWord_5 : decode cX6_realWord 5 = .ok (.bipush 45, 2) := by decide +kernel
theorem dX6_realWord_7 : decode cX6_realWord 7 = .ok (.if_icmp .ne 7, 3) := by decide +kernel
theorem dX6_realWord_10 : decode cX6_realWord 10 = .ok (.iconst 1, 1) := by decide +kernel
theorem dX6_realWord_11 : decode cX6_realWord 11 = .ok (.goto 4, 3) := by decide +kernel
theorem dX6_realWord_14 : decode cX6_realWord 14 = .ok (.iconst 0, 1) := by decide +kernel
theorem dX6_realWord_15 : decode cX6_realWord 15 = .ok (.istore_n 1, 1) := by decide +kernel
theorem dX6_realWord_16 : decode cX6_realWord 16 = .ok (.lconst 0, 1) := by decide +kernel
theorem dX6_realWord_17 : decode cX6_realWord 17 = .ok (.lstore_n 2, 1) := by decide +kernel
theorem dX6_realWord_18 : decode cX6_realWord 18 = .ok (.iconst 0, 1) := by decide +kernel
theorem dX6_realWord_19 : decode cX6_realWord 19 = .ok (.istore 4, 2) := by decide +kernel
theorem dX6_realWord_21 : decode cX6_realWord 21 = .ok (.iconst 0, 1) := by decide +kernel
theorem dX6_realWord_22 : decode cX6_realWord 22 = .ok (.istore 5, 2) := by decide +kernel
theorem dX6_realWord_24 : decode cX6_realWord 24 = .ok (.iload_n 1, 1) := by decide +kernel
theorem dX6_realWord_25 : decode cX6_realWord 25 = .ok (.ifCond .eq 7, 3) := by decide +kernel
theorem dX6_realWord_28 : decode cX6_realWord 28 = .ok (.iconst 1, 1) := by decide +kernel
theorem dX6_realWord_29 : decode cX6_realWord 29 = .ok (.goto 4, 3) := by decide +kernel
theorem dX6_realWord_32 : decode cX6_realWord 32 = .ok (.iconst 0, 1) := by decide +kernel
theorem dX6_realWord_33 : decode cX6_realWord 33 = .ok (.istore 6, 2) := by decide +kernel
theorem dX6_realWord_35 : decode cX6_realWord 35 = .ok (.iload 6, 2) := by decide +kernel
theorem dX6_realWord_37 : decode cX6_realWord 37 = .ok (.aload_n 0, 1) := by decide +kernel
theorem dX6_realWord_38 : decode cX6_realWord 38 = .ok (.invokevirtual 77, 3) := by decide +kernel
theorem dX6_realWord_41 : decode cX6_realWord 41 = .ok (.if_icmp .ge 52, 3) := by decide +kernel
theorem dX6_realWord_44 : decode cX6_realWord 44 = .ok (.aload_n 0, 1) := by decide +kernel
theorem dX6_realWord_45 : decode cX6_realWord 45 = .ok (.iload 6, 2) := by decide +kernel
theorem dX6_realWord_47 : decode cX6_realWord 47 = .ok (.invokevirtual 81, 3) := by decide +kernel
theorem dX6_realWord_50 : decode cX6_realWord 50 = .ok (.bipush 46, 2) := by decide +kernel
theorem dX6_realWord_52 : decode cX6_realWord 52 = .ok (.if_icmp .ne 9, 3) := by decide +kernel
theorem dX6_realWord_55 : decode cX6_realWord 55 = .ok (.iconst 1, 1) := by decide +kernel
theorem dX6_realWord_56 : decode cX6_realWord 56 = .ok (.istore 5, 2) := by decide +kernel
theorem dX6_realWord_58 : decode cX6_realWord 58 = .ok (.goto 29, 3) := by decide +kernel
theorem dX6_realWord_61 : decode cX6_realWord 61 = .ok (.ldc2_w 55, 3) := by decide +kernel
theorem dX6_realWord_64 : decode cX6_realWord 64 = .ok (.lload_n 2, 1) := by decide +kernel
theorem dX6_realWord_65 : decode cX6_realWord 65 = .ok (.lmul, 1) := by decide +kernel
theorem dX6_realWord_66 : decode cX6_realWord 66 = .ok (.aload_n 0, 1) := by decide +kernel
theorem dX6_realWord_67 : decode cX6_realWord 67 = .ok (.iload 6, 2) := by decide +kernel
theorem dX6_realWord_69 : decode cX6_realWord 69 = .ok (.invokevirtual 81, 3) := by decide +kernel
theorem dX6_realWord_72 : decode cX6_realWord 72 = .ok (.i2l, 1) := by decide +kernel
theorem dX6_realWord_73 : decode cX6_realWord 73 = .ok (.ladd, 1) := by decide +kernel
theorem dX6_realWord_74 : decode cX6_realWord 74 = .ok (.ldc2_w 97, 3) := by decide +kernel
theorem dX6_realWord_77 : decode cX6_realWord 77 = .ok (.lsub, 1) := by decide +kernel
theorem dX6_realWord_78 : decode cX6_realWord 78 = .ok (.lstore_n 2, 1) := by decide +kernel
theorem dX6_realWord_79 : decode cX6_realWord 79 = .ok (.iload 5, 2) := by decide +kernel
theorem dX6_realWord_81 : decode cX6_realWord 81 = .ok (.ifCond .eq 6, 3) := by decide +kernel
theorem dX6_realWord_84 : decode cX6_realWord 84 = .ok (.iinc 4 1, 3) := by decide +kernel
theorem dX6_realWord_87 : decode cX6_realWord 87 = .ok (.iinc 6 1, 3) := by decide +kernel
theorem dX6_realWord_90 : decode cX6_realWord 90 = .ok (.goto (-55), 3) := by decide +kernel
theorem dX6_realWord_93 : decode cX6_realWord 93 = .ok (.lload_n 2, 1) := by decide +kernel
theorem dX6_realWord_94 : decode cX6_realWord 94 = .ok (.iload 4, 2) := by decide +kernel
theorem dX6_realWord_96 : decode cX6_realWord 96 = .ok (.invokestatic 99, 3) := by decide +kernel
theorem dX6_realWord_99 : decode cX6_realWord 99 = .ok (.lstore 6, 2) := by decide +kernel
theorem dX6_realWord_101 : decode cX6_realWord 101 = .ok (.iload_n 1, 1) := by decide +kernel
theorem dX6_realWord_102 : decode cX6_realWord 102 = .ok (.ifCond .eq 11, 3) := by decide +kernel
theorem dX6_realWord_105 : decode cX6_realWord 105 = .ok (.lload 6, 2) := by decide +kernel
theorem dX6_realWord_107 : decode cX6_realWord 107 = .ok (.invokestatic 103, 3) := by decide +kernel
theorem dX6_realWord_110 : decode cX6_realWord 110 = .ok (.goto 5, 3) := by decide +kernel
theorem dX6_realWord_113 : decode cX6_realWord 113 = .ok (.lload 6, 2) := by decide +kernel
theorem dX6_realWord_115 : decode cX6_realWord 115 = .ok (.lreturn, 1) := by decide +kernel
abbrev cX6_decimal : ByteArray := prog_10_method_9_code
def yX6_decimal : MethodName := ⟨RX6, "decimal", "(JI)J"⟩
theorem dX6_decimal_0 : decode cX6_decimal 0 = .ok (.lconst 1, 1) := by decide +kernel
theorem dX6_decimal_1 : decode cX6_decimal 1 = .ok (.lstore_n 3, 1) := by decide +kernel
theorem dX6_decimal_2 : decode cX6_decimal 2 = .ok (.iconst 0, 1) := by decide +kernel
theorem dX6_decimal_3 : decode cX6_decimal 3 = .ok (.istore 5, 2) := by decide +kernel
theorem dX6_decimal_5 : decode cX6_decimal 5 = .ok (.iload 5, 2) := by decide +kernel
theorem dX6_decimal_7 : decode cX6_decimal 7 = .ok (.iload_n 2, 1) := by decide +kernel
theorem dX6_decimal_8 : decode cX6_decimal 8 = .ok (.if_icmp .ge 15, 3) := by decide +kernel
theorem dX6_decimal_11 : decode cX6_decimal 11 = .ok (.ldc2_w 55, 3) := by decide +kernel
theorem dX6_decimal_14 : decode cX6_decimal 14 = .ok (.lload_n 3, 1) := by decide +kernel
theorem dX6_decimal_15 : decode cX6_decimal 15 = .ok (.lmul, 1) := by decide +kernel
theorem dX6_decimal_16 : decode cX6_decimal 16 = .ok (.lstore_n 3, 1) := by decide +kernel
theorem dX6_decimal_17 : decode cX6_decimal 17 = .ok (.iinc 5 1, 3) := by decide +kernel
theorem dX6_decimal_20 : decode cX6_decimal 20 = .ok (.goto (-15), 3) := by decide +kernel
theorem dX6_decimal_23 : decode cX6_decimal 23 = .ok (.lload_n 0, 1) := by decide +kernel
theorem dX6_decimal_24 : decode cX6_decimal 24 = .ok (.lconst 0, 1) := by decide +kernel
theorem dX6_decimal_25 : decode cX6_decimal 25 = .ok (.lcmp, 1) := by decide +kernel
theorem dX6_decimal_26 : decode cX6_decimal 26 = .ok (.ifCond .ne 7, 3) := by decide +kernel
theorem dX6_decimal_29 : decode cX6_decimal 29 = .ok (.lconst 0, 1) := by decide +kernel
theorem dX6_decimal_30 : decode cX6_decimal 30 = .ok (.goto 16, 3) := by decide +kernel
theorem dX6_decimal_33 : decode cX6_decimal 33 = .ok (.lload_n 0, 1) := by decide +kernel
theorem dX6_decimal_34 : decode cX6_decimal 34 = .ok (.iconst 0, 1) := by decide +kernel
theorem dX6_decimal_35 : decode cX6_decimal 35 = .ok (.invokestatic 57, 3) := by decide +kernel
theorem dX6_decimal_38 : decode cX6_decimal 38 = .ok (.lload_n 3, 1) := by decide +kernel
theorem dX6_decimal_39 : decode cX6_decimal 39 = .ok (.iconst 0, 1) := by decide +kernel
theorem dX6_decimal_40 : decode cX6_decimal 40 = .ok (.invokestatic 57, 3) := by decide +kernel
theorem dX6_decimal_43 : decode cX6_decimal 43 = .ok (.invokestatic 63, 3) := by decide +kernel
theorem dX6_decimal_46 : decode cX6_decimal 46 = .ok (.lreturn, 1) := by decide +kernel
abbrev cX6_before : ByteArray := prog_10_method_28_code
def yX6_before : MethodName := ⟨RX6, "before", "(LCommaTablesModel$Table;ILjava/lang/String;)I"⟩
theorem dX6_before_0 : decode cX6_before 0 = .ok (.iconst 0, 1) := by decide +kernel
theorem dX6_before_1 : decode cX6_before 1 = .ok (.istore_n 3, 1) := by decide +kernel
theorem dX6_before_2 : decode cX6_before 2 = .ok (.iconst 0, 1) := by decide +kernel
theorem dX6_before_3 : decode cX6_before 3 = .ok (.istore 4, 2) := by decide +kernel
theorem dX6_before_5 : decode cX6_before 5 = .ok (.iload 4, 2) := by decide +kernel
theorem dX6_before_7 : decode cX6_before 7 = .ok (.aload_n 0, 1) := by decide +kernel
theorem dX6_before_8 : decode cX6_before 8 = .ok (.invokevirtual 132, 3) := by decide +kernel
theorem dX6_before_11 : decode cX6_before 11 = .ok (.if_icmp .ge 115, 3) := by decide +kernel
theorem dX6_before_14 : decode cX6_before 14 = .ok (.aload_n 0, 1) := by decide +kernel
theorem dX6_before_15 : decode cX6_before 15 = .ok (.iload 4, 2) := by decide +kernel
theorem dX6_before_17 : decode cX6_before 17 = .ok (.iload_n 1, 1) := by decide +kernel
theorem dX6_before_18 : decode cX6_before 18 = .ok (.invokevirtual 135, 3) := by decide +kernel
theorem dX6_before_21 : decode cX6_before 21 = .ok (.astore 5, 2) := by decide +kernel
theorem dX6_before_23 : decode cX6_before 23 = .ok (.aload 5, 2) := by decide +kernel
theorem dX6_before_25 : decode cX6_before 25 = .ok (.invokevirtual 107, 3) := by decide +kernel
theorem dX6_before_28 : decode cX6_before 28 = .ok (.ifCond .ne 19, 3) := by decide +kernel
theorem dX6_before_31 : decode cX6_before 31 = .ok (.aload 5, 2) := by decide +kernel
theorem dX6_before_33 : decode cX6_before 33 = .ok (.getfield 117, 3) := by decide +kernel
theorem dX6_before_36 : decode cX6_before 36 = .ok (.aload_n 2, 1) := by decide +kernel
theorem dX6_before_37 : decode cX6_before 37 = .ok (.invokestatic 197, 3) := by decide +kernel
theorem dX6_before_40 : decode cX6_before 40 = .ok (.ifCond .ge 7, 3) := by decide +kernel
theorem dX6_before_43 : decode cX6_before 43 = .ok (.iconst 1, 1) := by decide +kernel
theorem dX6_before_44 : decode cX6_before 44 = .ok (.goto 4, 3) := by decide +kernel
theorem dX6_before_47 : decode cX6_before 47 = .ok (.iconst 0, 1) := by decide +kernel
theorem dX6_before_48 : decode cX6_before 48 = .ok (.istore 6, 2) := by decide +kernel
theorem dX6_before_50 : decode cX6_before 50 = .ok (.iconst 0, 1) := by decide +kernel
theorem dX6_before_51 : decode cX6_before 51 = .ok (.istore 7, 2) := by decide +kernel
theorem dX6_before_53 : decode cX6_before 53 = .ok (.iload 7, 2) := by decide +kernel
theorem dX6_before_55 : decode cX6_before 55 = .ok (.iload 4, 2) := by decide +kernel
theorem dX6_before_57 : decode cX6_before 57 = .ok (.if_icmp .ge 55, 3) := by decide +kernel
theorem dX6_before_60 : decode cX6_before 60 = .ok (.iload 6, 2) := by decide +kernel
theorem dX6_before_62 : decode cX6_before 62 = .ok (.ifCond .eq 50, 3) := by decide +kernel
theorem dX6_before_65 : decode cX6_before 65 = .ok (.aload_n 0, 1) := by decide +kernel
theorem dX6_before_66 : decode cX6_before 66 = .ok (.iload 7, 2) := by decide +kernel
theorem dX6_before_68 : decode cX6_before 68 = .ok (.iload_n 1, 1) := by decide +kernel
theorem dX6_before_69 : decode cX6_before 69 = .ok (.invokevirtual 135, 3) := by decide +kernel
theorem dX6_before_72 : decode cX6_before 72 = .ok (.invokevirtual 107, 3) := by decide +kernel
theorem dX6_before_75 : decode cX6_before 75 = .ok (.ifCond .ne 24, 3) := by decide +kernel
theorem dX6_before_78 : decode cX6_before 78 = .ok (.aload_n 0, 1) := by decide +kernel
theorem dX6_before_79 : decode cX6_before 79 = .ok (.iload 7, 2) := by decide +kernel
theorem dX6_before_81 : decode cX6_before 81 = .ok (.iload_n 1, 1) := by decide +kernel
theorem dX6_before_82 : decode cX6_before 82 = .ok (.invokevirtual 135, 3) := by decide +kernel
theorem dX6_before_85 : decode cX6_before 85 = .ok (.getfield 117, 3) := by decide +kernel
theorem dX6_before_88 : decode cX6_before 88 = .ok (.aload 5, 2) := by decide +kernel
theorem dX6_before_90 : decode cX6_before 90 = .ok (.getfield 117, 3) := by decide +kernel
theorem dX6_before_93 : decode cX6_before 93 = .ok (.invokestatic 197, 3) := by decide +kernel
theorem dX6_before_96 : decode cX6_before 96 = .ok (.ifCond .eq 7, 3) := by decide +kernel
theorem dX6_before_99 : decode cX6_before 99 = .ok (.iconst 1, 1) := by decide +kernel
theorem dX6_before_100 : decode cX6_before 100 = .ok (.goto 4, 3) := by decide +kernel
theorem dX6_before_103 : decode cX6_before 103 = .ok (.iconst 0, 1) := by decide +kernel
theorem dX6_before_104 : decode cX6_before 104 = .ok (.istore 6, 2) := by decide +kernel
theorem dX6_before_106 : decode cX6_before 106 = .ok (.iinc 7 1, 3) := by decide +kernel
theorem dX6_before_109 : decode cX6_before 109 = .ok (.goto (-56), 3) := by decide +kernel
theorem dX6_before_112 : decode cX6_before 112 = .ok (.iload 6, 2) := by decide +kernel
theorem dX6_before_114 : decode cX6_before 114 = .ok (.ifCond .eq 6, 3) := by decide +kernel
theorem dX6_before_117 : decode cX6_before 117 = .ok (.iinc 3 1, 3) := by decide +kernel
theorem dX6_before_120 : decode cX6_before 120 = .ok (.iinc 4 1, 3) := by decide +kernel
theorem dX6_before_123 : decode cX6_before 123 = .ok (.goto (-118), 3) := by decide +kernel
theorem dX6_before_126 : decode cX6_before 126 = .ok (.iload_n 3, 1) := by decide +kernel
theorem dX6_before_127 : decode cX6_before 127 = .ok (.ireturn, 1) := by decide +kernel
abbrev cX6_compare : ByteArray := prog_10_method_27_code
def yX6_compare : MethodName := ⟨RX6, "compare", "(Ljava/lang/String;Ljava/lang/String;)I"⟩
theorem dX6_compare_0 : decode cX6_compare 0 = .ok (.iconst 0, 1) := by decide +kernel
theorem dX6_compare_1 : decode cX6_compare 1 = .ok (.istore_n 2, 1) := by decide +kernel
theorem dX6_compare_2 : decode cX6_compare 2 = .ok (.iload_n 2, 1) := by decide +kernel
theorem dX6_compare_3 : decode cX6_compare 3 = .ok (.aload_n 0, 1) := by decide +kernel
theorem dX6_compare_4 : decode cX6_compare 4 = .ok (.invokevirtual 77, 3) := by decide +kernel
theorem dX6_compare_7 : decode cX6_compare 7 = .ok (.if_icmp .ge 49, 3) := by decide +kernel
theorem dX6_compare_10 : decode cX6_compare 10 = .ok (.iload_n 2, 1) := by decide +kernel
theorem dX6_compare_11 : decode cX6_compare 11 = .ok (.aload_n 1, 1) := by decide +kernel
theorem dX6_compare_12 : decode cX6_compare 12 = .ok (.invokevirtual 77, 3) := by decide +kernel
theorem dX6_compare_15 : decode cX6_compare 15 = .ok (.if_icmp .ge 41, 3) := by decide +kernel
theorem dX6_compare_18 : decode cX6_compare 18 = .ok (.aload_n 0, 1) := by decide +kernel
theorem dX6_compare_19 : decode cX6_compare 19 = .ok (.iload_n 2, 1) := by decide +kernel
theorem dX6_compare_20 : decode cX6_compare 20 = .ok (.invokevirtual 81, 3) := by decide +kernel
theorem dX6_compare_23 : decode cX6_compare 23 = .ok (.aload_n 1, 1) := by decide +kernel
theorem dX6_compare_24 : decode cX6_compare 24 = .ok (.iload_n 2, 1) := by decide +kernel
theorem dX6_compare_25 : decode cX6_compare 25 = .ok (.invokevirtual 81, 3) := by decide +kernel
theorem dX6_compare_28 : decode cX6_compare 28 = .ok (.if_icmp .eq 22, 3) := by decide +kernel
theorem dX6_compare_31 : decode cX6_compare 31 = .ok (.aload_n 0, 1) := by decide +kernel
theorem dX6_compare_32 : decode cX6_compare 32 = .ok (.iload_n 2, 1) := by decide +kernel
theorem dX6_compare_33 : decode cX6_compare 33 = .ok (.invokevirtual 81, 3) := by decide +kernel
theorem dX6_compare_36 : decode cX6_compare 36 = .ok (.aload_n 1, 1) := by decide +kernel
theorem dX6_compare_37 : decode cX6_compare 37 = .ok (.iload_n 2, 1) := by decide +kernel
theorem dX6_compare_38 : decode cX6_compare 38 = .ok (.invokevirtual 81, 3) := by decide +kernel
theorem dX6_compare_41 : decode cX6_compare 41 = .ok (.if_icmp .ge 7, 3) := by decide +kernel
theorem dX6_compare_44 : decode cX6_compare 44 = .ok (.iconst (-1), 1) := by decide +kernel
theorem dX6_compare_45 : decode cX6_compare 45 = .ok (.goto 4, 3) := by decide +kernel
theorem dX6_compare_48 : decode cX6_compare 48 = .ok (.iconst 1, 1) := by decide +kernel
theorem dX6_compare_49 : decode cX6_compare 49 = .ok (.ireturn, 1) := by decide +kernel
theorem dX6_compare_50 : decode cX6_compare 50 = .ok (.iinc 2 1, 3) := by decide +kernel
theorem dX6_compare_53 : decode cX6_compare 53 = .ok (.goto (-51), 3) := by decide +kernel
theorem dX6_compare_56 : decode cX6_compare 56 = .ok (.aload_n 0, 1) := by decide +kernel
theorem dX6_compare_57 : decode cX6_compare 57 = .ok (.invokevirtual 77, 3) := by decide +kernel
theorem dX6_compare_60 : decode cX6_compare 60 = .ok (.aload_n 1, 1) := by decide +kernel
theorem dX6_compare_61 : decode cX6_compare 61 = .ok (.invokevirtual 77, 3) := by decide +kernel
theorem dX6_compare_64 : decode cX6_compare 64 = .ok (.if_icmp .ge 7, 3) := by decide +kernel
theorem dX6_compare_67 : decode cX6_compare 67 = .ok (.iconst (-1), 1) := by decide +kernel
theorem dX6_compare_68 : decode cX6_compare 68 = .ok (.goto 19, 3) := by decide +kernel
theorem dX6_compare_71 : decode cX6_compare 71 = .ok (.aload_n 0, 1) := by decide +kernel
theorem dX6_compare_72 : decode cX6_compare 72 = .ok (.invokevirtual 77, 3) := by decide +kernel
theorem dX6_compare_75 : decode cX6_compare 75 = .ok (.aload_n 1, 1) := by decide +kernel
theorem dX6_compare_76 : decode cX6_compare 76 = .ok (.invokevirtual 77, 3) := by decide +kernel
theorem dX6_compare_79 : decode cX6_compare 79 = .ok (.if_icmp .le 7, 3) := by decide +kernel
theorem dX6_compare_82 : decode cX6_compare 82 = .ok (.iconst 1, 1) := by decide +kernel
theorem dX6_compare_83 : decode cX6_compare 83 = .ok (.goto 4, 3) := by decide +kernel
theorem dX6_compare_86 : decode cX6_compare 86 = .ok (.iconst 0, 1) := by decide +kernel
theorem dX6_compare_87 : decode cX6_compare 87 = .ok (.ireturn, 1) := by decide +kernel
abbrev cX6_wholeWord : ByteArray := prog_10_method_12_code
def yX6_wholeWord : MethodName := ⟨RX6, "wholeWord", "(Ljava/lang/String;)J"⟩
theorem dX6_wholeWord_0 : decode cX6_wholeWord 0 = .ok (.aload_n 0, 1) := by decide +kernel
theorem dX6_wholeWord_1 : decode cX6_wholeWord 1 = .ok (.iconst 0, 1) := by decide +kernel
theorem dX6_wholeWord_2 : decode cX6_wholeWord 2 = .ok (.invokevirtual 81, 3) := by decide +kernel
theorem dX6_wholeWord_5 : decode cX6_wholeWord 5 = .ok (.bipush 45, 2) := by decide +kernel
theorem dX6_wholeWord_7 : decode cX6_wholeWord 7 = .ok (.if_icmp .ne 7, 3) := by decide +kernel
theorem dX6_wholeWord_10 : decode cX6_wholeWord 10 = .ok (.iconst 1, 1) := by decide +kernel
theorem dX6_wholeWord_11 : decode cX6_wholeWord 11 = .ok (.goto 4, 3) := by decide +kernel
theorem dX6_wholeWord_14 : decode cX6_wholeWord 14 = .ok (.iconst 0, 1) := by decide +kernel
theorem dX6_wholeWord_15 : decode cX6_wholeWord 15 = .ok (.istore_n 1, 1) := by decide +kernel
theorem dX6_wholeWord_16 : decode cX6_wholeWord 16 = .ok (.lconst 0, 1) := by decide +kernel
theorem dX6_wholeWord_17 : decode cX6_wholeWord 17 = .ok (.lstore_n 2, 1) := by decide +kernel
theorem dX6_wholeWord_18 : decode cX6_wholeWord 18 = .ok (.iload_n 1, 1) := by decide +kernel
theorem dX6_wholeWord_19 : decode cX6_wholeWord 19 = .ok (.ifCond .eq 7, 3) := by decide +kernel
theorem dX6_wholeWord_22 : decode cX6_wholeWord 22 = .ok (.iconst 1, 1) := by decide +kernel
theorem dX6_wholeWord_23 : decode cX6_wholeWord 23 = .ok (.goto 4, 3) := by decide +kernel
theorem dX6_wholeWord_26 : decode cX6_wholeWord 26 = .ok (.iconst 0, 1) := by decide +kernel
theorem dX6_wholeWord_27 : decode cX6_wholeWord 27 = .ok (.istore 4, 2) := by decide +kernel
theorem dX6_wholeWord_29 : decode cX6_wholeWord 29 = .ok (.iload 4, 2) := by decide +kernel
theorem dX6_wholeWord_31 : decode cX6_wholeWord 31 = .ok (.aload_n 0, 1) := by decide +kernel
theorem dX6_wholeWord_32 : decode cX6_wholeWord 32 = .ok (.invokevirtual 77, 3) := by decide +kernel
theorem dX6_wholeWord_35 : decode cX6_wholeWord 35 = .ok (.if_icmp .ge 26, 3) := by decide +kernel
theorem dX6_wholeWord_38 : decode cX6_wholeWord 38 = .ok (.ldc2_w 55, 3) := by decide +kernel
theorem dX6_wholeWord_41 : decode cX6_wholeWord 41 = .ok (.lload_n 2, 1) := by decide +kernel
theorem dX6_wholeWord_42 : decode cX6_wholeWord 42 = .ok (.lmul, 1) := by decide +kernel
theorem dX6_wholeWord_43 : decode cX6_wholeWord 43 = .ok (.aload_n 0, 1) := by decide +kernel
theorem dX6_wholeWord_44 : decode cX6_wholeWord 44 = .ok (.iload 4, 2) := by decide +kernel
theorem dX6_wholeWord_46 : decode cX6_wholeWord 46 = .ok (.invokevirtual 81, 3) := by decide +kernel
theorem dX6_wholeWord_49 : decode cX6_wholeWord 49 = .ok (.bipush 48, 2) := by decide +kernel
theorem dX6_wholeWord_51 : decode cX6_wholeWord 51 = .ok (.isub, 1) := by decide +kernel
theorem dX6_wholeWord_52 : decode cX6_wholeWord 52 = .ok (.i2l, 1) := by decide +kernel
theorem dX6_wholeWord_53 : decode cX6_wholeWord 53 = .ok (.lsub, 1) := by decide +kernel
theorem dX6_wholeWord_54 : decode cX6_wholeWord 54 = .ok (.lstore_n 2, 1) := by decide +kernel
theorem dX6_wholeWord_55 : decode cX6_wholeWord 55 = .ok (.iinc 4 1, 3) := by decide +kernel
theorem dX6_wholeWord_58 : decode cX6_wholeWord 58 = .ok (.goto (-29), 3) := by decide +kernel
theorem dX6_wholeWord_61 : decode cX6_wholeWord 61 = .ok (.iload_n 1, 1) := by decide +kernel
theorem dX6_wholeWord_62 : decode cX6_wholeWord 62 = .ok (.ifCond .eq 7, 3) := by decide +kernel
theorem dX6_wholeWord_65 : decode cX6_wholeWord 65 = .ok (.lload_n 2, 1) := by decide +kernel
theorem dX6_wholeWord_66 : decode cX6_wholeWord 66 = .ok (.goto 5, 3) := by decide +kernel
theorem dX6_wholeWord_69 : decode cX6_wholeWord 69 = .ok (.lload_n 2, 1) := by decide +kernel
theorem dX6_wholeWord_70 : decode cX6_wholeWord 70 = .ok (.lneg, 1) := by decide +kernel
theorem dX6_wholeWord_71 : decode cX6_wholeWord 71 = .ok (.lreturn, 1) := by decide +kernel
abbrev cX6_missing : ByteArray := prog_10_method_30_code
def yX6_missing : MethodName := ⟨RX6, "missing", "(III)Z"⟩
theorem dX6_missing_0 : decode cX6_missing 0 = .ok (.aload_n 0, 1) := by decide +kernel
theorem dX6_missing_1 : decode cX6_missing 1 = .ok (.iload_n 1, 1) := by decide +kernel
theorem dX6_missing_2 : decode cX6_missing 2 = .ok (.iload_n 2, 1) := by decide +kernel
theorem dX6_missing_3 : decode cX6_missing 3 = .ok (.iload_n 3, 1) := by decide +kernel
theorem dX6_missing_4 : decode cX6_missing 4 = .ok (.invokevirtual 201, 3) := by decide +kernel
theorem dX6_missing_7 : decode cX6_missing 7 = .ok (.ifCond .eq 24, 3) := by decide +kernel
theorem dX6_missing_10 : decode cX6_missing 10 = .ok (.aload_n 0, 1) := by decide +kernel
theorem dX6_missing_11 : decode cX6_missing 11 = .ok (.getfield 26, 3) := by decide +kernel
theorem dX6_missing_14 : decode cX6_missing 14 = .ok (.iload_n 1, 1) := by decide +kernel
theorem dX6_missing_15 : decode cX6_missing 15 = .ok (.aaload, 1) := by decide +kernel
theorem dX6_missing_16 : decode cX6_missing 16 = .ok (.iload_n 3, 1) := by decide +kernel
theorem dX6_missing_17 : decode cX6_missing 17 = .ok (.iload_n 2, 1) := by decide +kernel
theorem dX6_missing_18 : decode cX6_missing 18 = .ok (.invokevirtual 135, 3) := by decide +kernel
theorem dX6_missing_21 : decode cX6_missing 21 = .ok (.invokevirtual 107, 3) := by decide +kernel
theorem dX6_missing_24 : decode cX6_missing 24 = .ok (.ifCond .eq 7, 3) := by decide +kernel
theorem dX6_missing_27 : decode cX6_missing 27 = .ok (.iconst 1, 1) := by decide +kernel
theorem dX6_missing_28 : decode cX6_missing 28 = .ok (.goto 4, 3) := by decide +kernel
theorem dX6_missing_31 : decode cX6_missing 31 = .ok (.iconst 0, 1) := by decide +kernel
theorem dX6_missing_32 : decode cX6_missing 32 = .ok (.ireturn, 1) := by decide +kernel
abbrev cX6_length : ByteArray := prog_10_method_31_code
def yX6_length : MethodName := ⟨RX6, "length", "(III)I"⟩
theorem dX6_length_0 : decode cX6_length 0 = .ok (.aload_n 0, 1) := by decide +kernel
theorem dX6_length_1 : decode cX6_length 1 = .ok (.iload_n 1, 1) := by decide +kernel
theorem dX6_length_2 : decode cX6_length 2 = .ok (.invokevirtual 186, 3) := by decide +kernel
theorem dX6_length_5 : decode cX6_length 5 = .ok (.ifCond .ne 8, 3) := by decide +kernel
theorem dX6_length_8 : decode cX6_length 8 = .ok (.bipush (-14), 2) := by decide +kernel
theorem dX6_length_10 : decode cX6_length 10 = .ok (.goto 35, 3) := by decide +kernel
theorem dX6_length_13 : decode cX6_length 13 = .ok (.aload_n 0, 1) := by decide +kernel
theorem dX6_length_14 : decode cX6_length 14 = .ok (.iload_n 1, 1) := by decide +kernel
theorem dX6_length_15 : decode cX6_length 15 = .ok (.iload_n 2, 1) := by decide +kernel
theorem dX6_length_16 : decode cX6_length 16 = .ok (.iload_n 3, 1) := by decide +kernel
theorem dX6_length_17 : decode cX6_length 17 = .ok (.invokevirtual 201, 3) := by decide +kernel
theorem dX6_length_20 : decode cX6_length 20 = .ok (.ifCond .ne 8, 3) := by decide +kernel
theorem dX6_length_23 : decode cX6_length 23 = .ok (.bipush (-2), 2) := by decide +kernel
theorem dX6_length_25 : decode cX6_length 25 = .ok (.goto 20, 3) := by decide +kernel
theorem dX6_length_28 : decode cX6_length 28 = .ok (.aload_n 0, 1) := by decide +kernel
theorem dX6_length_29 : decode cX6_length 29 = .ok (.getfield 26, 3) := by decide +kernel
theorem dX6_length_32 : decode cX6_length 32 = .ok (.iload_n 1, 1) := by decide +kernel
theorem dX6_length_33 : decode cX6_length 33 = .ok (.aaload, 1) := by decide +kernel
theorem dX6_length_34 : decode cX6_length 34 = .ok (.iload_n 3, 1) := by decide +kernel
theorem dX6_length_35 : decode cX6_length 35 = .ok (.iload_n 2, 1) := by decide +kernel
theorem dX6_length_36 : decode cX6_length 36 = .ok (.invokevirtual 135, 3) := by decide +kernel
theorem dX6_length_39 : decode cX6_length 39 = .ok (.getfield 117, 3) := by decide +kernel
theorem dX6_length_42 : decode cX6_length 42 = .ok (.invokevirtual 77, 3) := by decide +kernel
theorem dX6_length_45 : decode cX6_length 45 = .ok (.ireturn, 1) := by decide +kernel
abbrev cX6_at : ByteArray := prog_10_method_32_code
def yX6_at : MethodName := ⟨RX6, "at", "(IIII)I"⟩
theorem dX6_at_0 : decode cX6_at 0 = .ok (.aload_n 0, 1) := by decide +kernel
theorem dX6_at_1 : decode cX6_at 1 = .ok (.iload_n 1, 1) := by decide +kernel
theorem dX6_at_2 : decode cX6_at 2 = .ok (.iload_n 2, 1) := by decide +kernel
theorem dX6_at_3 : decode cX6_at 3 = .ok (.iload_n 3, 1) := by decide +kernel
theorem dX6_at_4 : decode cX6_at 4 = .ok (.invokevirtual 201, 3) := by decide +kernel
theorem dX6_at_7 : decode cX6_at 7 = .ok (.ifCond .ne 5, 3) := by decide +kernel
theorem dX6_at_10 : decode cX6_at 10 = .ok (.iconst (-1), 1) := by decide +kernel
theorem dX6_at_11 : decode cX6_at 11 = .ok (.ireturn, 1) := by decide +kernel
theorem dX6_at_12 : decode cX6_at 12 = .ok (.aload_n 0, 1) := by decide +kernel
theorem dX6_at_13 : decode cX6_at 13 = .ok (.getfield 26, 3) := by decide +kernel
theorem dX6_at_16 : decode cX6_at 16 = .ok (.iload_n 1, 1) := by decide +kernel
theorem dX6_at_17 : decode cX6_at 17 = .ok (.aaload, 1) := by decide +kernel
theorem dX6_at_18 : decode cX6_at 18 = .ok (.iload_n 3, 1) := by decide +kernel
theorem dX6_at_19 : decode cX6_at 19 = .ok (.iload_n 2, 1) := by decide +kernel
theorem dX6_at_20 : decode cX6_at 20 = .ok (.invokevirtual 135, 3) := by decide +kernel
theorem dX6_at_23 : decode cX6_at 23 = .ok (.getfield 117, 3) := by decide +kernel
theorem dX6_at_26 : decode cX6_at 26 = .ok (.astore 5, 2) := by decide +kernel
theorem dX6_at_28 : decode cX6_at 28 = .ok (.iload 4, 2) := by decide +kernel
theorem dX6_at_30 : decode cX6_at 30 = .ok (.ifCond .lt 23, 3) := by decide +kernel
theorem dX6_at_33 : decode cX6_at 33 = .ok (.iload 4, 2) := by decide +kernel
theorem dX6_at_35 : decode cX6_at 35 = .ok (.aload 5, 2) := by decide +kernel
theorem dX6_at_37 : decode cX6_at 37 = .ok (.invokevirtual 77, 3) := by decide +kernel
theorem dX6_at_40 : decode cX6_at 40 = .ok (.if_icmp .ge 13, 3) := by decide +kernel
theorem dX6_at_43 : decode cX6_at 43 = .ok (.aload 5, 2) := by decide +kernel
theorem dX6_at_45 : decode cX6_at 45 = .ok (.iload 4, 2) := by decide +kernel
theorem dX6_at_47 : decode cX6_at 47 = .ok (.invokevirtual 81, 3) := by decide +kernel
theorem dX6_at_50 : decode cX6_at 50 = .ok (.goto 4, 3) := by decide +kernel
theorem dX6_at_53 : decode cX6_at 53 = .ok (.iconst (-1), 1) := by decide +kernel
theorem dX6_at_54 : decode cX6_at 54 = .ok (.ireturn, 1) := by decide +kernel
abbrev cX6_row : ByteArray := prog_10_method_33_code
def yX6_row : MethodName := ⟨RX6, "row", "(I)I"⟩
theorem dX6_row_0 : decode cX6_row 0 = .ok (.iload_n 1, 1) := by decide +kernel
theorem dX6_row_1 : decode cX6_row 1 = .ok (.ifCond .lt 15, 3) := by decide +kernel
theorem dX6_row_4 : decode cX6_row 4 = .ok (.aload_n 0, 1) := by decide +kernel
theorem dX6_row_5 : decode cX6_row 5 = .ok (.getfield 218, 3) := by decide +kernel
theorem dX6_row_8 : decode cX6_row 8 = .ok (.aload_n 0, 1) := by decide +kernel
theorem dX6_row_9 : decode cX6_row 9 = .ok (.getfield 30, 3) := by decide +kernel
theorem dX6_row_12 : decode cX6_row 12 = .ok (.arraylength, 1) := by decide +kernel
theorem dX6_row_13 : decode cX6_row 13 = .ok (.if_icmp .ne 5, 3) := by decide +kernel
theorem dX6_row_16 : decode cX6_row 16 = .ok (.iconst (-1), 1) := by decide +kernel
theorem dX6_row_17 : decode cX6_row 17 = .ok (.ireturn, 1) := by decide +kernel
theorem dX6_row_18 : decode cX6_row 18 = .ok (.aload_n 0, 1) := by decide +kernel
theorem dX6_row_19 : decode cX6_row 19 = .ok (.getfield 30, 3) := by decide +kernel
theorem dX6_row_22 : decode cX6_row 22 = .ok (.aload_n 0, 1) := by decide +kernel
theorem dX6_row_23 : decode cX6_row 23 = .ok (.getfield 218, 3) := by decide +kernel
theorem dX6_row_26 : decode cX6_row 26 = .ok (.iload_n 1, 1) := by decide +kernel
theorem dX6_row_27 : decode cX6_row 27 = .ok (.iastore, 1) := by decide +kernel
theorem dX6_row_28 : decode cX6_row 28 = .ok (.aload_n 0, 1) := by decide +kernel
theorem dX6_row_29 : decode cX6_row 29 = .ok (.dup, 1) := by decide +kernel
theorem dX6_row_30 : decode cX6_row 30 = .ok (.getfield 218, 3) := by decide +kernel
theorem dX6_row_33 : decode cX6_row 33 = .ok (.iconst 1, 1) := by decide +kernel
theorem dX6_row_34 : decode cX6_row 34 = .ok (.iadd, 1) := by decide +kernel
theorem dX6_row_35 : decode cX6_row 35 = .ok (.putfield 218, 3) := by decide +kernel
theorem dX6_row_38 : decode cX6_row 38 = .ok (.aload_n 0, 1) := by decide +kernel
theorem dX6_row_39 : decode cX6_row 39 = .ok (.getfield 218, 3) := by decide +kernel
theorem dX6_row_42 : decode cX6_row 42 = .ok (.ireturn, 1) := by decide +kernel
abbrev cX6_pick : ByteArray := prog_10_method_34_code
def yX6_pick : MethodName := ⟨RX6, "pick", "(I)I"⟩
theorem dX6_pick_0 : decode cX6_pick 0 = .ok (.aload_n 0, 1) := by decide +kernel
theorem dX6_pick_1 : decode cX6_pick 1 = .ok (.getfield 218, 3) := by decide +kernel
theorem dX6_pick_4 : decode cX6_pick 4 = .ok (.istore_n 2, 1) := by decide +kernel
theorem dX6_pick_5 : decode cX6_pick 5 = .ok (.aload_n 0, 1) := by decide +kernel
theorem dX6_pick_6 : decode cX6_pick 6 = .ok (.iconst 0, 1) := by decide +kernel
theorem dX6_pick_7 : decode cX6_pick 7 = .ok (.putfield 218, 3) := by decide +kernel
theorem dX6_pick_10 : decode cX6_pick 10 = .ok (.aload_n 0, 1) := by decide +kernel
theorem dX6_pick_11 : decode cX6_pick 11 = .ok (.iload_n 1, 1) := by decide +kernel
theorem dX6_pick_12 : decode cX6_pick 12 = .ok (.invokevirtual 186, 3) := by decide +kernel
theorem dX6_pick_15 : decode cX6_pick 15 = .ok (.ifCond .ne 6, 3) := by decide +kernel
theorem dX6_pick_18 : decode cX6_pick 18 = .ok (.bipush (-14), 2) := by decide +kernel
theorem dX6_pick_20 : decode cX6_pick 20 = .ok (.ireturn, 1) := by decide +kernel
theorem dX6_pick_21 : decode cX6_pick 21 = .ok (.aload_n 0, 1) := by decide +kernel
theorem dX6_pick_22 : decode cX6_pick 22 = .ok (.getfield 26, 3) := by decide +kernel
theorem dX6_pick_25 : decode cX6_pick 25 = .ok (.iload_n 1, 1) := by decide +kernel
theorem dX6_pick_26 : decode cX6_pick 26 = .ok (.aaload, 1) := by decide +kernel
theorem dX6_pick_27 : decode cX6_pick 27 = .ok (.astore_n 3, 1) := by decide +kernel
theorem dX6_pick_28 : decode cX6_pick 28 = .ok (.iconst 0, 1) := by decide +kernel
theorem dX6_pick_29 : decode cX6_pick 29 = .ok (.istore 4, 2) := by decide +kernel
theorem dX6_pick_31 : decode cX6_pick 31 = .ok (.iconst 0, 1) := by decide +kernel
theorem dX6_pick_32 : decode cX6_pick 32 = .ok (.istore 5, 2) := by decide +kernel
theorem dX6_pick_34 : decode cX6_pick 34 = .ok (.iload 5, 2) := by decide +kernel
theorem dX6_pick_36 : decode cX6_pick 36 = .ok (.aload_n 3, 1) := by decide +kernel
theorem dX6_pick_37 : decode cX6_pick 37 = .ok (.getfield 149, 3) := by decide +kernel
theorem dX6_pick_40 : decode cX6_pick 40 = .ok (.invokevirtual 153, 3) := by decide +kernel
theorem dX6_pick_43 : decode cX6_pick 43 = .ok (.if_icmp .ge 29, 3) := by decide +kernel
theorem dX6_pick_46 : decode cX6_pick 46 = .ok (.iload 4, 2) := by decide +kernel
theorem dX6_pick_48 : decode cX6_pick 48 = .ok (.aload_n 3, 1) := by decide +kernel
theorem dX6_pick_49 : decode cX6_pick 49 = .ok (.getfield 149, 3) := by decide +kernel
theorem dX6_pick_52 : decode cX6_pick 52 = .ok (.iload 5, 2) := by decide +kernel
theorem dX6_pick_54 : decode cX6_pick 54 = .ok (.invokevirtual 189, 3) := by decide +kernel
theorem dX6_pick_57 : decode cX6_pick 57 = .ok (.checkcast 70, 3) := by decide +kernel
theorem dX6_pick_60 : decode cX6_pick 60 = .ok (.invokevirtual 77, 3) := by decide +kernel
theorem dX6_pick_63 : decode cX6_pick 63 = .ok (.iadd, 1) := by decide +kernel
theorem dX6_pick_64 : decode cX6_pick 64 = .ok (.istore 4, 2) := by decide +kernel
theorem dX6_pick_66 : decode cX6_pick 66 = .ok (.iinc 5 1, 3) := by decide +kernel
theorem dX6_pick_69 : decode cX6_pick 69 = .ok (.goto (-35), 3) := by decide +kernel
theorem dX6_pick_72 : decode cX6_pick 72 = .ok (.iconst 0, 1) := by decide +kernel
theorem dX6_pick_73 : decode cX6_pick 73 = .ok (.istore 5, 2) := by decide +kernel
theorem dX6_pick_75 : decode cX6_pick 75 = .ok (.iload 5, 2) := by decide +kernel
theorem dX6_pick_77 : decode cX6_pick 77 = .ok (.iload_n 2, 1) := by decide +kernel
theorem dX6_pick_78 : decode cX6_pick 78 = .ok (.if_icmp .ge 71, 3) := by decide +kernel
theorem dX6_pick_81 : decode cX6_pick 81 = .ok (.aload_n 0, 1) := by decide +kernel
theorem dX6_pick_82 : decode cX6_pick 82 = .ok (.getfield 30, 3) := by decide +kernel
theorem dX6_pick_85 : decode cX6_pick 85 = .ok (.iload 5, 2) := by decide +kernel
theorem dX6_pick_87 : decode cX6_pick 87 = .ok (.iaload, 1) := by decide +kernel
theorem dX6_pick_88 : decode cX6_pick 88 = .ok (.aload_n 3, 1) := by decide +kernel
theorem dX6_pick_89 : decode cX6_pick 89 = .ok (.invokevirtual 132, 3) := by decide +kernel
theorem dX6_pick_92 : decode cX6_pick 92 = .ok (.if_icmp .lt 6, 3) := by decide +kernel
theorem dX6_pick_95 : decode cX6_pick 95 = .ok (.bipush (-2), 2) := by decide +kernel
theorem dX6_pick_97 : decode cX6_pick 97 = .ok (.ireturn, 1) := by decide +kernel
theorem dX6_pick_98 : decode cX6_pick 98 = .ok (.iconst 0, 1) := by decide +kernel
theorem dX6_pick_99 : decode cX6_pick 99 = .ok (.istore 6, 2) := by decide +kernel
theorem dX6_pick_101 : decode cX6_pick 101 = .ok (.iload 6, 2) := by decide +kernel
theorem dX6_pick_103 : decode cX6_pick 103 = .ok (.aload_n 3, 1) := by decide +kernel
theorem dX6_pick_104 : decode cX6_pick 104 = .ok (.getfield 149, 3) := by decide +kernel
theorem dX6_pick_107 : decode cX6_pick 107 = .ok (.invokevirtual 153, 3) := by decide +kernel
theorem dX6_pick_110 : decode cX6_pick 110 = .ok (.if_icmp .ge 33, 3) := by decide +kernel
theorem dX6_pick_113 : decode cX6_pick 113 = .ok (.iload 4, 2) := by decide +kernel
theorem dX6_pick_115 : decode cX6_pick 115 = .ok (.aload_n 3, 1) := by decide +kernel
theorem dX6_pick_116 : decode cX6_pick 116 = .ok (.aload_n 0, 1) := by decide +kernel
theorem dX6_pick_117 : decode cX6_pick 117 = .ok (.getfield 30, 3) := by decide +kernel
theorem dX6_pick_120 : decode cX6_pick 120 = .ok (.iload 5, 2) := by decide +kernel
theorem dX6_pick_122 : decode cX6_pick 122 = .ok (.iaload, 1) := by decide +kernel
theorem dX6_pick_123 : decode cX6_pick 123 = .ok (.iload 6, 2) := by decide +kernel
theorem dX6_pick_125 : decode cX6_pick 125 = .ok (.invokevirtual 135, 3) := by decide +kernel
theorem dX6_pick_128 : decode cX6_pick 128 = .ok (.getfield 117, 3) := by decide +kernel
theorem dX6_pick_131 : decode cX6_pick 131 = .ok (.invokevirtual 77, 3) := by decide +kernel
theorem dX6_pick_134 : decode cX6_pick 134 = .ok (.iadd, 1) := by decide +kernel
theorem dX6_pick_135 : decode cX6_pick 135 = .ok (.istore 4, 2) := by decide +kernel
theorem dX6_pick_137 : decode cX6_pick 137 = .ok (.iinc 6 1, 3) := by decide +kernel
theorem dX6_pick_140 : decode cX6_pick 140 = .ok (.goto (-39), 3) := by decide +kernel
theorem dX6_pick_143 : decode cX6_pick 143 = .ok (.iinc 5 1, 3) := by decide +kernel
theorem dX6_pick_146 : decode cX6_pick 146 = .ok (.goto (-71), 3) := by decide +kernel
theorem dX6_pick_149 : decode cX6_pick 149 = .ok (.aload_n 0, 1) := by decide +kernel
theorem dX6_pick_150 : decode cX6_pick 150 = .ok (.getfield 143, 3) := by decide +kernel
theorem dX6_pick_153 : decode cX6_pick 153 = .ok (.bipush 40, 2) := by decide +kernel
theorem dX6_pick_155 : decode cX6_pick 155 = .ok (.if_icmp .eq 15, 3) := by decide +kernel
theorem dX6_pick_158 : decode cX6_pick 158 = .ok (.aload_n 0, 1) := by decide +kernel
theorem dX6_pick_159 : decode cX6_pick 159 = .ok (.getfield 146, 3) := by decide +kernel
theorem dX6_pick_162 : decode cX6_pick 162 = .ok (.iload 4, 2) := by decide +kernel
theorem dX6_pick_164 : decode cX6_pick 164 = .ok (.iadd, 1) := by decide +kernel
theorem dX6_pick_165 : decode cX6_pick 165 = .ok (.ldc 50, 2) := by decide +kernel
theorem dX6_pick_167 : decode cX6_pick 167 = .ok (.if_icmp .le 6, 3) := by decide +kernel
theorem dX6_pick_170 : decode cX6_pick 170 = .ok (.bipush (-12), 2) := by decide +kernel
theorem dX6_pick_172 : decode cX6_pick 172 = .ok (.ireturn, 1) := by decide +kernel
theorem dX6_pick_173 : decode cX6_pick 173 = .ok (.new 24, 3) := by decide +kernel
theorem dX6_pick_176 : decode cX6_pick 176 = .ok (.dup, 1) := by decide +kernel
theorem dX6_pick_177 : decode cX6_pick 177 = .ok (.invokespecial 221, 3) := by decide +kernel
theorem dX6_pick_180 : decode cX6_pick 180 = .ok (.astore 5, 2) := by decide +kernel
theorem dX6_pick_182 : decode cX6_pick 182 = .ok (.iconst 0, 1) := by decide +kernel
theorem dX6_pick_183 : decode cX6_pick 183 = .ok (.istore 6, 2) := by decide +kernel
theorem dX6_pick_185 : decode cX6_pick 185 = .ok (.iload 6, 2) := by decide +kernel
theorem dX6_pick_187 : decode cX6_pick 187 = .ok (.aload_n 3, 1) := by decide +kernel
theorem dX6_pick_188 : decode cX6_pick 188 = .ok (.getfield 149, 3) := by decide +kernel
theorem dX6_pick_191 : decode cX6_pick 191 = .ok (.invokevirtual 153, 3) := by decide +kernel
theorem dX6_pick_194 : decode cX6_pick 194 = .ok (.if_icmp .ge 30, 3) := by decide +kernel
theorem dX6_pick_197 : decode cX6_pick 197 = .ok (.aload 5, 2) := by decide +kernel
theorem dX6_pick_199 : decode cX6_pick 199 = .ok (.getfield 149, 3) := by decide +kernel
theorem dX6_pick_202 : decode cX6_pick 202 = .ok (.aload_n 3, 1) := by decide +kernel
theorem dX6_pick_203 : decode cX6_pick 203 = .ok (.getfield 149, 3) := by decide +kernel
theorem dX6_pick_206 : decode cX6_pick 206 = .ok (.iload 6, 2) := by decide +kernel
theorem dX6_pick_208 : decode cX6_pick 208 = .ok (.invokevirtual 189, 3) := by decide +kernel
theorem dX6_pick_211 : decode cX6_pick 211 = .ok (.checkcast 70, 3) := by decide +kernel
theorem dX6_pick_214 : decode cX6_pick 214 = .ok (.invokevirtual 222, 3) := by decide +kernel
theorem dX6_pick_217 : decode cX6_pick 217 = .ok (.pop, 1) := by decide +kernel
theorem dX6_pick_218 : decode cX6_pick 218 = .ok (.iinc 6 1, 3) := by decide +kernel
theorem dX6_pick_221 : decode cX6_pick 221 = .ok (.goto (-36), 3) := by decide +kernel
theorem dX6_pick_224 : decode cX6_pick 224 = .ok (.iconst 0, 1) := by decide +kernel
theorem dX6_pick_225 : decode cX6_pick 225 = .ok (.istore 6, 2) := by decide +kernel
theorem dX6_pick_227 : decode cX6_pick 227 = .ok (.iload 6, 2) := by decide +kernel
theorem dX6_pick_229 : decode cX6_pick 229 = .ok (.iload_n 2, 1) := by decide +kernel
theorem dX6_pick_230 : decode cX6_pick 230 = .ok (.if_icmp .ge 52, 3) := by decide +kernel
theorem dX6_pick_233 : decode cX6_pick 233 = .ok (.iconst 0, 1) := by decide +kernel
theorem dX6_pick_234 : decode cX6_pick 234 = .ok (.istore 7, 2) := by decide +kernel
theorem dX6_pick_236 : decode cX6_pick 236 = .ok (.iload 7, 2) := by decide +kernel
theorem dX6_pick_238 : decode cX6_pick 238 = .ok (.aload_n 3, 1) := by decide +kernel
theorem dX6_pick_239 : decode cX6_pick 239 = .ok (.getfield 149, 3) := by decide +kernel
theorem dX6_pick_242 : decode cX6_pick 242 = .ok (.invokevirtual 153, 3) := by decide +kernel
theorem dX6_pick_245 : decode cX6_pick 245 = .ok (.if_icmp .ge 31, 3) := by decide +kernel
theorem dX6_pick_248 : decode cX6_pick 248 = .ok (.aload 5, 2) := by decide +kernel
theorem dX6_pick_250 : decode cX6_pick 250 = .ok (.getfield 225, 3) := by decide +kernel
theorem dX6_pick_253 : decode cX6_pick 253 = .ok (.aload_n 3, 1) := by decide +kernel
theorem dX6_pick_254 : decode cX6_pick 254 = .ok (.aload_n 0, 1) := by decide +kernel
theorem dX6_pick_255 : decode cX6_pick 255 = .ok (.getfield 30, 3) := by decide +kernel
theorem dX6_pick_258 : decode cX6_pick 258 = .ok (.iload 6, 2) := by decide +kernel
theorem dX6_pick_260 : decode cX6_pick 260 = .ok (.iaload, 1) := by decide +kernel
theorem dX6_pick_261 : decode cX6_pick 261 = .ok (.iload 7, 2) := by decide +kernel
theorem dX6_pick_263 : decode cX6_pick 263 = .ok (.invokevirtual 135, 3) := by decide +kernel
theorem dX6_pick_266 : decode cX6_pick 266 = .ok (.invokevirtual 222, 3) := by decide +kernel
theorem dX6_pick_269 : decode cX6_pick 269 = .ok (.pop, 1) := by decide +kernel
theorem dX6_pick_270 : decode cX6_pick 270 = .ok (.iinc 7 1, 3) := by decide +kernel
theorem dX6_pick_273 : decode cX6_pick 273 = .ok (.goto (-37), 3) := by decide +kernel
theorem dX6_pick_276 : decode cX6_pick 276 = .ok (.iinc 6 1, 3) := by decide +kernel
theorem dX6_pick_279 : decode cX6_pick 279 = .ok (.goto (-52), 3) := by decide +kernel
theorem dX6_pick_282 : decode cX6_pick 282 = .ok (.aload_n 0, 1) := by decide +kernel
theorem dX6_pick_283 : decode cX6_pick 283 = .ok (.aload 5, 2) := by decide +kernel
theorem dX6_pick_285 : decode cX6_pick 285 = .ok (.iload 4, 2) := by decide +kernel
theorem dX6_pick_287 : decode cX6_pick 287 = .ok (.invokevirtual 183, 3) := by decide +kernel
theorem dX6_pick_290 : decode cX6_pick 290 = .ok (.ireturn, 1) := by decide +kernel
abbrev cX6_out : ByteArray := prog_10_method_36_code
def yX6_out : MethodName := ⟨RX6, "out", "(I)I"⟩
theorem dX6_out_0 : decode cX6_out 0 = .ok (.iload_n 1, 1) := by decide +kernel
theorem dX6_out_1 : decode cX6_out 1 = .ok (.ifCond .lt 30, 3) := by decide +kernel
theorem dX6_out_4 : decode cX6_out 4 = .ok (.iload_n 1, 1) := by decide +kernel
theorem dX6_out_5 : decode cX6_out 5 = .ok (.aload_n 0, 1) := by decide +kernel
theorem dX6_out_6 : decode cX6_out 6 = .ok (.getfield 37, 3) := by decide +kernel
theorem dX6_out_9 : decode cX6_out 9 = .ok (.getfield 228, 3) := by decide +kernel
theorem dX6_out_12 : decode cX6_out 12 = .ok (.if_icmp .ge 19, 3) := by decide +kernel
theorem dX6_out_15 : decode cX6_out 15 = .ok (.aload_n 0, 1) := by decide +kernel
theorem dX6_out_16 : decode cX6_out 16 = .ok (.getfield 37, 3) := by decide +kernel
theorem dX6_out_19 : decode cX6_out 19 = .ok (.getfield 231, 3) := by decide +kernel
theorem dX6_out_22 : decode cX6_out 22 = .ok (.iload_n 1, 1) := by decide +kernel
theorem dX6_out_23 : decode cX6_out 23 = .ok (.baload, 1) := by decide +kernel
theorem dX6_out_24 : decode cX6_out 24 = .ok (.sipush 255, 3) := by decide +kernel
theorem dX6_out_27 : decode cX6_out 27 = .ok (.iand, 1) := by decide +kernel
theorem dX6_out_28 : decode cX6_out 28 = .ok (.goto 4, 3) := by decide +kernel
theorem dX6_out_31 : decode cX6_out 31 = .ok (.iconst (-1), 1) := by decide +kernel
theorem dX6_out_32 : decode cX6_out 32 = .ok (.ireturn, 1) := by decide +kernel
abbrev cX6_write : ByteArray := prog_10_method_40_code
def yX6_write : MethodName := ⟨RX6, "write", "(I)I"⟩
theorem dX6_write_0 : decode cX6_write 0 = .ok (.aload_n 0, 1) := by decide +kernel
theorem dX6_write_1 : decode cX6_write 1 = .ok (.iload_n 1, 1) := by decide +kernel
theorem dX6_write_2 : decode cX6_write 2 = .ok (.invokevirtual 186, 3) := by decide +kernel
theorem dX6_write_5 : decode cX6_write 5 = .ok (.ifCond .ne 6, 3) := by decide +kernel
theorem dX6_write_8 : decode cX6_write 8 = .ok (.bipush (-14), 2) := by decide +kernel
theorem dX6_write_10 : decode cX6_write 10 = .ok (.ireturn, 1) := by decide +kernel
theorem dX6_write_11 : decode cX6_write 11 = .ok (.aload_n 0, 1) := by decide +kernel
theorem dX6_write_12 : decode cX6_write 12 = .ok (.getfield 26, 3) := by decide +kernel
theorem dX6_write_15 : decode cX6_write 15 = .ok (.iload_n 1, 1) := by decide +kernel
theorem dX6_write_16 : decode cX6_write 16 = .ok (.aaload, 1) := by decide +kernel
theorem dX6_write_17 : decode cX6_write 17 = .ok (.astore_n 2, 1) := by decide +kernel
theorem dX6_write_18 : decode cX6_write 18 = .ok (.aload_n 0, 1) := by decide +kernel
theorem dX6_write_19 : decode cX6_write 19 = .ok (.getfield 41, 3) := by decide +kernel
theorem dX6_write_22 : decode cX6_write 22 = .ok (.iconst 0, 1) := by decide +kernel
theorem dX6_write_23 : decode cX6_write 23 = .ok (.putfield 228, 3) := by decide +kernel
theorem dX6_write_26 : decode cX6_write 26 = .ok (.aload_n 2, 1) := by decide +kernel
theorem dX6_write_27 : decode cX6_write 27 = .ok (.getfield 149, 3) := by decide +kernel
theorem dX6_write_30 : decode cX6_write 30 = .ok (.invokevirtual 153, 3) := by decide +kernel
theorem dX6_write_33 : decode cX6_write 33 = .ok (.istore_n 3, 1) := by decide +kernel
theorem dX6_write_34 : decode cX6_write 34 = .ok (.iconst 0, 1) := by decide +kernel
theorem dX6_write_35 : decode cX6_write 35 = .ok (.istore 4, 2) := by decide +kernel
theorem dX6_write_37 : decode cX6_write 37 = .ok (.iload 4, 2) := by decide +kernel
theorem dX6_write_39 : decode cX6_write 39 = .ok (.iload_n 3, 1) := by decide +kernel
theorem dX6_write_40 : decode cX6_write 40 = .ok (.if_icmp .ge 62, 3) := by decide +kernel
theorem dX6_write_43 : decode cX6_write 43 = .ok (.aload_n 0, 1) := by decide +kernel
theorem dX6_write_44 : decode cX6_write 44 = .ok (.aload_n 2, 1) := by decide +kernel
theorem dX6_write_45 : decode cX6_write 45 = .ok (.getfield 149, 3) := by decide +kernel
theorem dX6_write_48 : decode cX6_write 48 = .ok (.iload 4, 2) := by decide +kernel
theorem dX6_write_50 : decode cX6_write 50 = .ok (.invokevirtual 189, 3) := by decide +kernel
theorem dX6_write_53 : decode cX6_write 53 = .ok (.checkcast 70, 3) := by decide +kernel
theorem dX6_write_56 : decode cX6_write 56 = .ok (.aload_n 2, 1) := by decide +kernel
theorem dX6_write_57 : decode cX6_write 57 = .ok (.getfield 149, 3) := by decide +kernel
theorem dX6_write_60 : decode cX6_write 60 = .ok (.iload 4, 2) := by decide +kernel
theorem dX6_write_62 : decode cX6_write 62 = .ok (.invokevirtual 189, 3) := by decide +kernel
theorem dX6_write_65 : decode cX6_write 65 = .ok (.checkcast 70, 3) := by decide +kernel
theorem dX6_write_68 : decode cX6_write 68 = .ok (.invokestatic 239, 3) := by decide +kernel
theorem dX6_write_71 : decode cX6_write 71 = .ok (.invokevirtual 242, 3) := by decide +kernel
theorem dX6_write_74 : decode cX6_write 74 = .ok (.aload_n 0, 1) := by decide +kernel
theorem dX6_write_75 : decode cX6_write 75 = .ok (.getfield 41, 3) := by decide +kernel
theorem dX6_write_78 : decode cX6_write 78 = .ok (.iload 4, 2) := by decide +kernel
theorem dX6_write_80 : decode cX6_write 80 = .ok (.iload_n 3, 1) := by decide +kernel
theorem dX6_write_81 : decode cX6_write 81 = .ok (.iconst 1, 1) := by decide +kernel
theorem dX6_write_82 : decode cX6_write 82 = .ok (.isub, 1) := by decide +kernel
theorem dX6_write_83 : decode cX6_write 83 = .ok (.if_icmp .ge 8, 3) := by decide +kernel
theorem dX6_write_86 : decode cX6_write 86 = .ok (.bipush 44, 2) := by decide +kernel
theorem dX6_write_88 : decode cX6_write 88 = .ok (.goto 5, 3) := by decide +kernel
theorem dX6_write_91 : decode cX6_write 91 = .ok (.bipush 10, 2) := by decide +kernel
theorem dX6_write_93 : decode cX6_write 93 = .ok (.invokevirtual 237, 3) := by decide +kernel
theorem dX6_write_96 : decode cX6_write 96 = .ok (.iinc 4 1, 3) := by decide +kernel
theorem dX6_write_99 : decode cX6_write 99 = .ok (.goto (-62), 3) := by decide +kernel
theorem dX6_write_102 : decode cX6_write 102 = .ok (.iconst 0, 1) := by decide +kernel
theorem dX6_write_103 : decode cX6_write 103 = .ok (.istore 4, 2) := by decide +kernel
theorem dX6_write_105 : decode cX6_write 105 = .ok (.iload 4, 2) := by decide +kernel
theorem dX6_write_107 : decode cX6_write 107 = .ok (.aload_n 2, 1) := by decide +kernel
theorem dX6_write_108 : decode cX6_write 108 = .ok (.invokevirtual 132, 3) := by decide +kernel
theorem dX6_write_111 : decode cX6_write 111 = .ok (.if_icmp .ge 102, 3) := by decide +kernel
theorem dX6_write_114 : decode cX6_write 114 = .ok (.aload_n 0, 1) := by decide +kernel
theorem dX6_write_115 : decode cX6_write 115 = .ok (.getfield 41, 3) := by decide +kernel
theorem dX6_write_118 : decode cX6_write 118 = .ok (.getfield 228, 3) := by decide +kernel
theorem dX6_write_121 : decode cX6_write 121 = .ok (.sipush 30000, 3) := by decide +kernel
theorem dX6_write_124 : decode cX6_write 124 = .ok (.if_icmp .gt 89, 3) := by decide +kernel
theorem dX6_write_127 : decode cX6_write 127 = .ok (.iconst 0, 1) := by decide +kernel
theorem dX6_write_128 : decode cX6_write 128 = .ok (.istore 5, 2) := by decide +kernel
theorem dX6_write_130 : decode cX6_write 130 = .ok (.iload 5, 2) := by decide +kernel
theorem dX6_write_132 : decode cX6_write 132 = .ok (.iload_n 3, 1) := by decide +kernel
theorem dX6_write_133 : decode cX6_write 133 = .ok (.if_icmp .ge 74, 3) := by decide +kernel
theorem dX6_write_136 : decode cX6_write 136 = .ok (.aload_n 2, 1) := by decide +kernel
theorem dX6_write_137 : decode cX6_write 137 = .ok (.iload 4, 2) := by decide +kernel
theorem dX6_write_139 : decode cX6_write 139 = .ok (.iload 5, 2) := by decide +kernel
theorem dX6_write_141 : decode cX6_write 141 = .ok (.invokevirtual 135, 3) := by decide +kernel
theorem dX6_write_144 : decode cX6_write 144 = .ok (.astore 6, 2) := by decide +kernel
theorem dX6_write_146 : decode cX6_write 146 = .ok (.aload_n 0, 1) := by decide +kernel
theorem dX6_write_147 : decode cX6_write 147 = .ok (.aload 6, 2) := by decide +kernel
theorem dX6_write_149 : decode cX6_write 149 = .ok (.getfield 117, 3) := by decide +kernel
theorem dX6_write_152 : decode cX6_write 152 = .ok (.aload 6, 2) := by decide +kernel
theorem dX6_write_154 : decode cX6_write 154 = .ok (.getfield 113, 3) := by decide +kernel
theorem dX6_write_157 : decode cX6_write 157 = .ok (.ifCond .ne 14, 3) := by decide +kernel
theorem dX6_write_160 : decode cX6_write 160 = .ok (.aload 6, 2) := by decide +kernel
theorem dX6_write_162 : decode cX6_write 162 = .ok (.getfield 117, 3) := by decide +kernel
theorem dX6_write_165 : decode cX6_write 165 = .ok (.invokestatic 234, 3) := by decide +kernel
theorem dX6_write_168 : decode cX6_write 168 = .ok (.ifCond .eq 7, 3) := by decide +kernel
theorem dX6_write_171 : decode cX6_write 171 = .ok (.iconst 1, 1) := by decide +kernel
theorem dX6_write_172 : decode cX6_write 172 = .ok (.goto 4, 3) := by decide +kernel
theorem dX6_write_175 : decode cX6_write 175 = .ok (.iconst 0, 1) := by decide +kernel
theorem dX6_write_176 : decode cX6_write 176 = .ok (.invokevirtual 242, 3) := by decide +kernel
theorem dX6_write_179 : decode cX6_write 179 = .ok (.aload_n 0, 1) := by decide +kernel
theorem dX6_write_180 : decode cX6_write 180 = .ok (.getfield 41, 3) := by decide +kernel
theorem dX6_write_183 : decode cX6_write 183 = .ok (.iload 5, 2) := by decide +kernel
theorem dX6_write_185 : decode cX6_write 185 = .ok (.iload_n 3, 1) := by decide +kernel
theorem dX6_write_186 : decode cX6_write 186 = .ok (.iconst 1, 1) := by decide +kernel
theorem dX6_write_187 : decode cX6_write 187 = .ok (.isub, 1) := by decide +kernel
theorem dX6_write_188 : decode cX6_write 188 = .ok (.if_icmp .ge 8, 3) := by decide +kernel
theorem dX6_write_191 : decode cX6_write 191 = .ok (.bipush 44, 2) := by decide +kernel
theorem dX6_write_193 : decode cX6_write 193 = .ok (.goto 5, 3) := by decide +kernel
theorem dX6_write_196 : decode cX6_write 196 = .ok (.bipush 10, 2) := by decide +kernel
theorem dX6_write_198 : decode cX6_write 198 = .ok (.invokevirtual 237, 3) := by decide +kernel
theorem dX6_write_201 : decode cX6_write 201 = .ok (.iinc 5 1, 3) := by decide +kernel
theorem dX6_write_204 : decode cX6_write 204 = .ok (.goto (-74), 3) := by decide +kernel
theorem dX6_write_207 : decode cX6_write 207 = .ok (.iinc 4 1, 3) := by decide +kernel
theorem dX6_write_210 : decode cX6_write 210 = .ok (.goto (-105), 3) := by decide +kernel
theorem dX6_write_213 : decode cX6_write 213 = .ok (.aload_n 0, 1) := by decide +kernel
theorem dX6_write_214 : decode cX6_write 214 = .ok (.invokevirtual 246, 3) := by decide +kernel
theorem dX6_write_217 : decode cX6_write 217 = .ok (.ireturn, 1) := by decide +kernel
abbrev cX6_hasSigns : ByteArray := prog_10_method_37_code
def yX6_hasSigns : MethodName := ⟨RX6, "hasSigns", "(Ljava/lang/String;)Z"⟩
theorem dX6_hasSigns_0 : decode cX6_hasSigns 0 = .ok (.iconst 0, 1) := by decide +kernel
theorem dX6_hasSigns_1 : decode cX6_hasSigns 1 = .ok (.istore_n 1, 1) := by decide +kernel
theorem dX6_hasSigns_2 : decode cX6_hasSigns 2 = .ok (.iload_n 1, 1) := by decide +kernel
theorem dX6_hasSigns_3 : decode cX6_hasSigns 3 = .ok (.aload_n 0, 1) := by decide +kernel
theorem dX6_hasSigns_4 : decode cX6_hasSigns 4 = .ok (.invokevirtual 77, 3) := by decide +kernel
theorem dX6_hasSigns_7 : decode cX6_hasSigns 7 = .ok (.if_icmp .ge 31, 3) := by decide +kernel
theorem dX6_hasSigns_10 : decode cX6_hasSigns 10 = .ok (.aload_n 0, 1) := by decide +kernel
theorem dX6_hasSigns_11 : decode cX6_hasSigns 11 = .ok (.iload_n 1, 1) := by decide +kernel
theorem dX6_hasSigns_12 : decode cX6_hasSigns 12 = .ok (.invokevirtual 81, 3) := by decide +kernel
theorem dX6_hasSigns_15 : decode cX6_hasSigns 15 = .ok (.bipush 34, 2) := by decide +kernel
theorem dX6_hasSigns_17 : decode cX6_hasSigns 17 = .ok (.if_icmp .eq 13, 3) := by decide +kernel
theorem dX6_hasSigns_20 : decode cX6_hasSigns 20 = .ok (.aload_n 0, 1) := by decide +kernel
theorem dX6_hasSigns_21 : decode cX6_hasSigns 21 = .ok (.iload_n 1, 1) := by decide +kernel
theorem dX6_hasSigns_22 : decode cX6_hasSigns 22 = .ok (.invokevirtual 81, 3) := by decide +kernel
theorem dX6_hasSigns_25 : decode cX6_hasSigns 25 = .ok (.bipush 44, 2) := by decide +kernel
theorem dX6_hasSigns_27 : decode cX6_hasSigns 27 = .ok (.if_icmp .ne 5, 3) := by decide +kernel
theorem dX6_hasSigns_30 : decode cX6_hasSigns 30 = .ok (.iconst 1, 1) := by decide +kernel
theorem dX6_hasSigns_31 : decode cX6_hasSigns 31 = .ok (.ireturn, 1) := by decide +kernel
theorem dX6_hasSigns_32 : decode cX6_hasSigns 32 = .ok (.iinc 1 1, 3) := by decide +kernel
theorem dX6_hasSigns_35 : decode cX6_hasSigns 35 = .ok (.goto (-33), 3) := by decide +kernel
theorem dX6_hasSigns_38 : decode cX6_hasSigns 38 = .ok (.aload_n 0, 1) := by decide +kernel
theorem dX6_hasSigns_39 : decode cX6_hasSigns 39 = .ok (.invokestatic 234, 3) := by decide +kernel
theorem dX6_hasSigns_42 : decode cX6_hasSigns 42 = .ok (.ireturn, 1) := by decide +kernel
abbrev cX6_isBlankAtEnds : ByteArray := prog_10_method_38_code
def yX6_isBlankAtEnds : MethodName := ⟨RX6, "isBlankAtEnds", "(Ljava/lang/String;)Z"⟩
theorem dX6_isBlankAtEnds_0 : decode cX6_isBlankAtEnds 0 = .ok (.aload_n 0, 1) := by decide +kernel
theorem dX6_isBlankAtEnds_1 : decode cX6_isBlankAtEnds 1 = .ok (.invokevirtual 77, 3) := by decide +kernel
theorem dX6_isBlankAtEnds_4 : decode cX6_isBlankAtEnds 4 = .ok (.ifCond .le 32, 3) := by decide +kernel
theorem dX6_isBlankAtEnds_7 : decode cX6_isBlankAtEnds 7 = .ok (.aload_n 0, 1) := by decide +kernel
theorem dX6_isBlankAtEnds_8 : decode cX6_isBlankAtEnds 8 = .ok (.iconst 0, 1) := by decide +kernel
theorem dX6_isBlankAtEnds_9 : decode cX6_isBlankAtEnds 9 = .ok (.invokevirtual 81, 3) := by decide +kernel
theorem dX6_isBlankAtEnds_12 : decode cX6_isBlankAtEnds 12 = .ok (.bipush 32, 2) := by decide +kernel
theorem dX6_isBlankAtEnds_14 : decode cX6_isBlankAtEnds 14 = .ok (.if_icmp .eq 18, 3) := by decide +kernel
theorem dX6_isBlankAtEnds_17 : decode cX6_isBlankAtEnds 17 = .ok (.aload_n 0, 1) := by decide +kernel
theorem dX6_isBlankAtEnds_18 : decode cX6_isBlankAtEnds 18 = .ok (.aload_n 0, 1) := by decide +kernel
theorem dX6_isBlankAtEnds_19 : decode cX6_isBlankAtEnds 19 = .ok (.invokevirtual 77, 3) := by decide +kernel
theorem dX6_isBlankAtEnds_22 : decode cX6_isBlankAtEnds 22 = .ok (.iconst 1, 1) := by decide +kernel
theorem dX6_isBlankAtEnds_23 : decode cX6_isBlankAtEnds 23 = .ok (.isub, 1) := by decide +kernel
theorem dX6_isBlankAtEnds_24 : decode cX6_isBlankAtEnds 24 = .ok (.invokevirtual 81, 3) := by decide +kernel
theorem dX6_isBlankAtEnds_27 : decode cX6_isBlankAtEnds 27 = .ok (.bipush 32, 2) := by decide +kernel
theorem dX6_isBlankAtEnds_29 : decode cX6_isBlankAtEnds 29 = .ok (.if_icmp .ne 7, 3) := by decide +kernel
theorem dX6_isBlankAtEnds_32 : decode cX6_isBlankAtEnds 32 = .ok (.iconst 1, 1) := by decide +kernel
theorem dX6_isBlankAtEnds_33 : decode cX6_isBlankAtEnds 33 = .ok (.goto 4, 3) := by decide +kernel
theorem dX6_isBlankAtEnds_36 : decode cX6_isBlankAtEnds 36 = .ok (.iconst 0, 1) := by decide +kernel
theorem dX6_isBlankAtEnds_37 : decode cX6_isBlankAtEnds 37 = .ok (.ireturn, 1) := by decide +kernel
abbrev cX6_writeWord : ByteArray := prog_10_method_39_code
def yX6_writeWord : MethodName := ⟨RX6, "writeWord", "(Ljava/lang/String;Z)V"⟩
theorem dX6_writeWord_0 : decode cX6_writeWord 0 = .ok (.iload_n 2, 1) := by decide +kernel
theorem dX6_writeWord_1 : decode cX6_writeWord 1 = .ok (.ifCond .eq 12, 3) := by decide +kernel
theorem dX6_writeWord_4 : decode cX6_writeWord 4 = .ok (.aload_n 0, 1) := by decide +kernel
theorem dX6_writeWord_5 : decode cX6_writeWord 5 = .ok (.getfield 41, 3) := by decide +kernel
theorem dX6_writeWord_8 : decode cX6_writeWord 8 = .ok (.bipush 34, 2) := by decide +kernel
theorem dX6_writeWord_10 : decode cX6_writeWord 10 = .ok (.invokevirtual 237, 3) := by decide +kernel
theorem dX6_writeWord_13 : decode cX6_writeWord 13 = .ok (.iconst 0, 1) := by decide +kernel
theorem dX6_writeWord_14 : decode cX6_writeWord 14 = .ok (.istore_n 3, 1) := by decide +kernel
theorem dX6_writeWord_15 : decode cX6_writeWord 15 = .ok (.iload_n 3, 1) := by decide +kernel
theorem dX6_writeWord_16 : decode cX6_writeWord 16 = .ok (.aload_n 1, 1) := by decide +kernel
theorem dX6_writeWord_17 : decode cX6_writeWord 17 = .ok (.invokevirtual 77, 3) := by decide +kernel
theorem dX6_writeWord_20 : decode cX6_writeWord 20 = .ok (.if_icmp .ge 40, 3) := by decide +kernel
theorem dX6_writeWord_23 : decode cX6_writeWord 23 = .ok (.aload_n 1, 1) := by decide +kernel
theorem dX6_writeWord_24 : decode cX6_writeWord 24 = .ok (.iload_n 3, 1) := by decide +kernel
theorem dX6_writeWord_25 : decode cX6_writeWord 25 = .ok (.invokevirtual 81, 3) := by decide +kernel
theorem dX6_writeWord_28 : decode cX6_writeWord 28 = .ok (.bipush 34, 2) := by decide +kernel
theorem dX6_writeWord_30 : decode cX6_writeWord 30 = .ok (.if_icmp .ne 12, 3) := by decide +kernel
theorem dX6_writeWord_33 : decode cX6_writeWord 33 = .ok (.aload_n 0, 1) := by decide +kernel
theorem dX6_writeWord_34 : decode cX6_writeWord 34 = .ok (.getfield 41, 3) := by decide +kernel
theorem dX6_writeWord_37 : decode cX6_writeWord 37 = .ok (.bipush 34, 2) := by decide +kernel
theorem dX6_writeWord_39 : decode cX6_writeWord 39 = .ok (.invokevirtual 237, 3) := by decide +kernel
theorem dX6_writeWord_42 : decode cX6_writeWord 42 = .ok (.aload_n 0, 1) := by decide +kernel
theorem dX6_writeWord_43 : decode cX6_writeWord 43 = .ok (.getfield 41, 3) := by decide +kernel
theorem dX6_writeWord_46 : decode cX6_writeWord 46 = .ok (.aload_n 1, 1) := by decide +kernel
theorem dX6_writeWord_47 : decode cX6_writeWord 47 = .ok (.iload_n 3, 1) := by decide +kernel
theorem dX6_writeWord_48 : decode cX6_writeWord 48 = .ok (.invokevirtual 81, 3) := by decide +kernel
theorem dX6_writeWord_51 : decode cX6_writeWord 51 = .ok (.invokevirtual 237, 3) := by decide +kernel
theorem dX6_writeWord_54 : decode cX6_writeWord 54 = .ok (.iinc 3 1, 3) := by decide +kernel
theorem dX6_writeWord_57 : decode cX6_writeWord 57 = .ok (.goto (-42), 3) := by decide +kernel
theorem dX6_writeWord_60 : decode cX6_writeWord 60 = .ok (.iload_n 2, 1) := by decide +kernel
theorem dX6_writeWord_61 : decode cX6_writeWord 61 = .ok (.ifCond .eq 12, 3) := by decide +kernel
theorem dX6_writeWord_64 : decode cX6_writeWord 64 = .ok (.aload_n 0, 1) := by decide +kernel
theorem dX6_writeWord_65 : decode cX6_writeWord 65 = .ok (.getfield 41, 3) := by decide +kernel
theorem dX6_writeWord_68 : decode cX6_writeWord 68 = .ok (.bipush 34, 2) := by decide +kernel
theorem dX6_writeWord_70 : decode cX6_writeWord 70 = .ok (.invokevirtual 237, 3) := by decide +kernel
theorem dX6_writeWord_73 : decode cX6_writeWord 73 = .ok (.return_, 1) := by decide +kernel
abbrev cX6_told : ByteArray := prog_10_method_35_code
def yX6_told : MethodName := ⟨RX6, "told", "()I"⟩
theorem dX6_told_0 : decode cX6_told 0 = .ok (.aload_n 0, 1) := by decide +kernel
theorem dX6_told_1 : decode cX6_told 1 = .ok (.getfield 41, 3) := by decide +kernel
theorem dX6_told_4 : decode cX6_told 4 = .ok (.getfield 228, 3) := by decide +kernel
theorem dX6_told_7 : decode cX6_told 7 = .ok (.sipush 30000, 3) := by decide +kernel
theorem dX6_told_10 : decode cX6_told 10 = .ok (.if_icmp .le 6, 3) := by decide +kernel
theorem dX6_told_13 : decode cX6_told 13 = .ok (.bipush (-12), 2) := by decide +kernel
theorem dX6_told_15 : decode cX6_told 15 = .ok (.ireturn, 1) := by decide +kernel
theorem dX6_told_16 : decode cX6_told 16 = .ok (.aload_n 0, 1) := by decide +kernel
theorem dX6_told_17 : decode cX6_told 17 = .ok (.getfield 37, 3) := by decide +kernel
theorem dX6_told_20 : decode cX6_told 20 = .ok (.astore_n 1, 1) := by decide +kernel
theorem dX6_told_21 : decode cX6_told 21 = .ok (.aload_n 0, 1) := by decide +kernel
theorem dX6_told_22 : decode cX6_told 22 = .ok (.aload_n 0, 1) := by decide +kernel
theorem dX6_told_23 : decode cX6_told 23 = .ok (.getfield 41, 3) := by decide +kernel
theorem dX6_told_26 : decode cX6_told 26 = .ok (.putfield 37, 3) := by decide +kernel
theorem dX6_told_29 : decode cX6_told 29 = .ok (.aload_n 0, 1) := by decide +kernel
theorem dX6_told_30 : decode cX6_told 30 = .ok (.aload_n 1, 1) := by decide +kernel
theorem dX6_told_31 : decode cX6_told 31 = .ok (.putfield 41, 3) := by decide +kernel
theorem dX6_told_34 : decode cX6_told 34 = .ok (.aload_n 0, 1) := by decide +kernel
theorem dX6_told_35 : decode cX6_told 35 = .ok (.getfield 37, 3) := by decide +kernel
theorem dX6_told_38 : decode cX6_told 38 = .ok (.getfield 228, 3) := by decide +kernel
theorem dX6_told_41 : decode cX6_told 41 = .ok (.ireturn, 1) := by decide +kernel
theorem q54 : (Jvm.Cond.initialized "CommaTablesModel") ∈ lw_all := lw_g (lw_at lw_m1 11 rfl) rfl
theorem q694 : (Jvm.Cond.instantiable "CommaTablesModel" (12 : Nat)) ∈ lw_all := lw_g (lw_at lw_m3 171 rfl) rfl
theorem q696 : (Jvm.Cond.instanceMethod ({ cls := "CommaTablesModel", name := "<init>", desc := "()V" } : Jvm.MethodName)) ∈ lw_all := lw_g (lw_at lw_m3 173 rfl) rfl
theorem q697 : (Jvm.Cond.code ({ cls := "CommaTablesModel", name := "<init>", desc := "()V" } : Jvm.MethodName) prog_10_method_1_code (1 : Nat) (Option.none : Option Jvm.ClassFile.FieldType)) ∈ lw_all := lw_g (lw_at lw_m3 174 rfl) rfl
theorem q698 : (Jvm.Cond.methodLink "CommaTablesModel" (1 : Nat) ({ cls := "java/lang/Object", name := "<init>", desc := "()V" } : Jvm.MethodName)) ∈ lw_all := lw_g (lw_at lw_m3 175 rfl) rfl
theorem q699 : (Jvm.Cond.classLink "CommaTablesModel" (17 : Nat) "CommaTablesModel$Trouble") ∈ lw_all := lw_g (lw_at lw_m3 176 rfl) rfl
theorem q701 : (Jvm.Cond.methodLinkNest "CommaTablesModel" (19 : Nat) ({ cls := "CommaTablesModel$Trouble", name := "<init>", desc := "()V" } : Jvm.MethodName) "CommaTablesModel") ∈ lw_tbl := lw_at lw_m3 178 rfl
theorem q706 : (Jvm.Cond.fieldLink "CommaTablesModel" (175 : Nat) "CommaTablesModel$Trouble" "place" "I") ∈ lw_all := lw_g (lw_at lw_m3 183 rfl) rfl
theorem q710 : (Jvm.Cond.classLink "CommaTablesModel" (24 : Nat) "CommaTablesModel$Table") ∈ lw_all := lw_g (lw_at lw_m3 187 rfl) rfl
theorem q712 : (Jvm.Cond.classLink "CommaTablesModel" (34 : Nat) "CommaTablesModel$Bytes") ∈ lw_all := lw_g (lw_at lw_m3 189 rfl) rfl
theorem q714 : (Jvm.Cond.methodLinkNest "CommaTablesModel" (36 : Nat) ({ cls := "CommaTablesModel$Bytes", name := "<init>", desc := "()V" } : Jvm.MethodName) "CommaTablesModel") ∈ lw_tbl := lw_at lw_m3 191 rfl
theorem q719 : (Jvm.Cond.fieldLink "CommaTablesModel" (231 : Nat) "CommaTablesModel$Bytes" "row" "[B") ∈ lw_all := lw_g (lw_at lw_m3 196 rfl) rfl
theorem q721 : (Jvm.Cond.fieldLink "CommaTablesModel" (228 : Nat) "CommaTablesModel$Bytes" "n" "I") ∈ lw_all := lw_g (lw_at lw_m3 198 rfl) rfl
theorem q727 : (Jvm.Cond.fieldLink "CommaTablesModel" (9 : Nat) "CommaTablesModel" "tray" "[B") ∈ lw_all := lw_g (lw_at lw_m3 204 rfl) rfl
theorem q728 : (Jvm.Cond.fieldLink "CommaTablesModel" (44 : Nat) "CommaTablesModel" "trayed" "I") ∈ lw_all := lw_g (lw_at lw_m3 205 rfl) rfl
theorem q729 : (Jvm.Cond.fieldLink "CommaTablesModel" (47 : Nat) "CommaTablesModel" "fed" "I") ∈ lw_all := lw_g (lw_at lw_m3 206 rfl) rfl
theorem q730 : (Jvm.Cond.fieldLink "CommaTablesModel" (13 : Nat) "CommaTablesModel" "place" "I") ∈ lw_all := lw_g (lw_at lw_m3 207 rfl) rfl
theorem q731 : (Jvm.Cond.fieldLink "CommaTablesModel" (20 : Nat) "CommaTablesModel" "trouble" "LCommaTablesModel$Trouble;") ∈ lw_all := lw_g (lw_at lw_m3 208 rfl) rfl
theorem q732 : (Jvm.Cond.fieldLink "CommaTablesModel" (26 : Nat) "CommaTablesModel" "tables" "[LCommaTablesModel$Table;") ∈ lw_all := lw_g (lw_at lw_m3 209 rfl) rfl
theorem q733 : (Jvm.Cond.fieldLink "CommaTablesModel" (143 : Nat) "CommaTablesModel" "tableCount" "I") ∈ lw_all := lw_g (lw_at lw_m3 210 rfl) rfl
theorem q734 : (Jvm.Cond.fieldLink "CommaTablesModel" (146 : Nat) "CommaTablesModel" "wordBytes" "I") ∈ lw_all := lw_g (lw_at lw_m3 211 rfl) rfl
theorem q735 : (Jvm.Cond.fieldLink "CommaTablesModel" (30 : Nat) "CommaTablesModel" "picked" "[I") ∈ lw_all := lw_g (lw_at lw_m3 212 rfl) rfl
theorem q736 : (Jvm.Cond.fieldLink "CommaTablesModel" (218 : Nat) "CommaTablesModel" "pickedSize" "I") ∈ lw_all := lw_g (lw_at lw_m3 213 rfl) rfl
theorem q737 : (Jvm.Cond.fieldLink "CommaTablesModel" (37 : Nat) "CommaTablesModel" "written" "LCommaTablesModel$Bytes;") ∈ lw_all := lw_g (lw_at lw_m3 214 rfl) rfl
theorem q738 : (Jvm.Cond.fieldLink "CommaTablesModel" (41 : Nat) "CommaTablesModel" "writing" "LCommaTablesModel$Bytes;") ∈ lw_all := lw_g (lw_at lw_m3 215 rfl) rfl
theorem q739 : (Jvm.Cond.laysFinal "CommaTablesModel" "CommaTablesModel" "tray" "[B") ∈ lw_all := lw_g (lw_at lw_m3 216 rfl) rfl
theorem q740 : (Jvm.Cond.soleField "CommaTablesModel" "tray") ∈ lw_all := lw_g (lw_at lw_m3 217 rfl) rfl
theorem q741 : (Jvm.Cond.lays "CommaTablesModel" "CommaTablesModel" "trayed" "I") ∈ lw_all := lw_g (lw_at lw_m3 218 rfl) rfl
theorem q742 : (Jvm.Cond.soleField "CommaTablesModel" "trayed") ∈ lw_all := lw_g (lw_at lw_m3 219 rfl) rfl
theorem q743 : (Jvm.Cond.lays "CommaTablesModel" "CommaTablesModel" "fed" "I") ∈ lw_all := lw_g (lw_at lw_m3 220 rfl) rfl
theorem q744 : (Jvm.Cond.soleField "CommaTablesModel" "fed") ∈ lw_all := lw_g (lw_at lw_m3 221 rfl) rfl
theorem q745 : (Jvm.Cond.lays "CommaTablesModel" "CommaTablesModel" "place" "I") ∈ lw_all := lw_g (lw_at lw_m3 222 rfl) rfl
theorem q746 : (Jvm.Cond.soleField "CommaTablesModel" "place") ∈ lw_all := lw_g (lw_at lw_m3 223 rfl) rfl
theorem q747 : (Jvm.Cond.laysFinal "CommaTablesModel" "CommaTablesModel" "trouble" "LCommaTablesModel$Trouble;") ∈ lw_all := lw_g (lw_at lw_m3 224 rfl) rfl
theorem q748 : (Jvm.Cond.soleField "CommaTablesModel" "trouble") ∈ lw_all := lw_g (lw_at lw_m3 225 rfl) rfl
theorem q749 : (Jvm.Cond.laysFinal "CommaTablesModel" "CommaTablesModel" "tables" "[LCommaTablesModel$Table;") ∈ lw_all := lw_g (lw_at lw_m3 226 rfl) rfl
theorem q750 : (Jvm.Cond.soleField "CommaTablesModel" "tables") ∈ lw_all := lw_g (lw_at lw_m3 227 rfl) rfl
theorem q751 : (Jvm.Cond.lays "CommaTablesModel" "CommaTablesModel" "tableCount" "I") ∈ lw_all := lw_g (lw_at lw_m3 228 rfl) rfl
theorem q752 : (Jvm.Cond.soleField "CommaTablesModel" "tableCount") ∈ lw_all := lw_g (lw_at lw_m3 229 rfl) rfl
theorem q753 : (Jvm.Cond.lays "CommaTablesModel" "CommaTablesModel" "wordBytes" "I") ∈ lw_all := lw_g (lw_at lw_m3 230 rfl) rfl
theorem q754 : (Jvm.Cond.soleField "CommaTablesModel" "wordBytes") ∈ lw_all := lw_g (lw_at lw_m3 231 rfl) rfl
theorem q755 : (Jvm.Cond.laysFinal "CommaTablesModel" "CommaTablesModel" "picked" "[I") ∈ lw_all := lw_g (lw_at lw_m3 232 rfl) rfl
theorem q756 : (Jvm.Cond.soleField "CommaTablesModel" "picked") ∈ lw_all := lw_g (lw_at lw_m3 233 rfl) rfl
theorem q757 : (Jvm.Cond.lays "CommaTablesModel" "CommaTablesModel" "pickedSize" "I") ∈ lw_all := lw_g (lw_at lw_m3 234 rfl) rfl
theorem q758 : (Jvm.Cond.soleField "CommaTablesModel" "pickedSize") ∈ lw_all := lw_g (lw_at lw_m3 235 rfl) rfl
theorem q759 : (Jvm.Cond.lays "CommaTablesModel" "CommaTablesModel" "written" "LCommaTablesModel$Bytes;") ∈ lw_all := lw_g (lw_at lw_m3 236 rfl) rfl
theorem q760 : (Jvm.Cond.soleField "CommaTablesModel" "written") ∈ lw_all := lw_g (lw_at lw_m3 237 rfl) rfl
theorem q761 : (Jvm.Cond.lays "CommaTablesModel" "CommaTablesModel" "writing" "LCommaTablesModel$Bytes;") ∈ lw_all := lw_g (lw_at lw_m3 238 rfl) rfl
theorem q762 : (Jvm.Cond.soleField "CommaTablesModel" "writing") ∈ lw_all := lw_g (lw_at lw_m3 239 rfl) rfl
theorem q763 : (Jvm.Cond.superclass "CommaTablesModel" "java/lang/Object") ∈ lw_all := lw_g (lw_at lw_m4 0 rfl) rfl
theorem q765 : (Jvm.Cond.instanceMethod ({ cls := "CommaTablesModel", name := "feed", desc := "(IIIII)I" } : Jvm.MethodName)) ∈ lw_all := lw_g (lw_at lw_m4 2 rfl) rfl
theorem q766 : (Jvm.Cond.selects "CommaTablesModel" ({ cls := "CommaTablesModel", name := "feed", desc := "(IIIII)I" } : Jvm.MethodName) ({ cls := "CommaTablesModel", name := "feed", desc := "(IIIII)I" } : Jvm.MethodName)) ∈ lw_all := lw_g (lw_at lw_m4 3 rfl) rfl
theorem q767 : (Jvm.Cond.code ({ cls := "CommaTablesModel", name := "feed", desc := "(IIIII)I" } : Jvm.MethodName) prog_10_method_3_code (6 : Nat) (Option.some Jvm.ClassFile.FieldType.int)) ∈ lw_all := lw_g (lw_at lw_m4 4 rfl) rfl
theorem q768 : (Jvm.Cond.constant "CommaTablesModel" (50 : Nat) (65536 : Int32)) ∈ lw_all := lw_g (lw_at lw_m4 5 rfl) rfl
theorem q769 : (Jvm.Cond.methodLink "CommaTablesModel" (51 : Nat) ({ cls := "CommaTablesModel", name := "word", desc := "(I)V" } : Jvm.MethodName)) ∈ lw_all := lw_g (lw_at lw_m4 6 rfl) rfl
theorem q770 : (Jvm.Cond.privateMethod ({ cls := "CommaTablesModel", name := "word", desc := "(I)V" } : Jvm.MethodName)) ∈ lw_tbl := lw_at lw_m4 7 rfl
theorem q771 : (Jvm.Cond.instanceMethod ({ cls := "CommaTablesModel", name := "word", desc := "(I)V" } : Jvm.MethodName)) ∈ lw_all := lw_g (lw_at lw_m4 8 rfl) rfl
theorem q772 : (Jvm.Cond.code ({ cls := "CommaTablesModel", name := "word", desc := "(I)V" } : Jvm.MethodName) prog_10_method_4_code (3 : Nat) (Option.none : Option Jvm.ClassFile.FieldType)) ∈ lw_all := lw_g (lw_at lw_m4 9 rfl) rfl
theorem q774 : (Jvm.Cond.instanceMethod ({ cls := "CommaTablesModel", name := "end", desc := "(I)I" } : Jvm.MethodName)) ∈ lw_all := lw_g (lw_at lw_m4 11 rfl) rfl
theorem q775 : (Jvm.Cond.selects "CommaTablesModel" ({ cls := "CommaTablesModel", name := "end", desc := "(I)I" } : Jvm.MethodName) ({ cls := "CommaTablesModel", name := "end", desc := "(I)I" } : Jvm.MethodName)) ∈ lw_all := lw_g (lw_at lw_m4 12 rfl) rfl
theorem q776 : (Jvm.Cond.code ({ cls := "CommaTablesModel", name := "end", desc := "(I)I" } : Jvm.MethodName) prog_10_method_5_code (2 : Nat) (Option.some Jvm.ClassFile.FieldType.int)) ∈ lw_all := lw_g (lw_at lw_m4 13 rfl) rfl
theorem q778 : (Jvm.Cond.instanceMethod ({ cls := "CommaTablesModel", name := "place", desc := "()I" } : Jvm.MethodName)) ∈ lw_all := lw_g (lw_at lw_m4 15 rfl) rfl
theorem q779 : (Jvm.Cond.selects "CommaTablesModel" ({ cls := "CommaTablesModel", name := "place", desc := "()I" } : Jvm.MethodName) ({ cls := "CommaTablesModel", name := "place", desc := "()I" } : Jvm.MethodName)) ∈ lw_all := lw_g (lw_at lw_m4 16 rfl) rfl
theorem q780 : (Jvm.Cond.code ({ cls := "CommaTablesModel", name := "place", desc := "()I" } : Jvm.MethodName) prog_10_method_7_code (1 : Nat) (Option.some Jvm.ClassFile.FieldType.int)) ∈ lw_all := lw_g (lw_at lw_m4 17 rfl) rfl
theorem q782 : (Jvm.Cond.instanceMethod ({ cls := "CommaTablesModel", name := "read", desc := "()I" } : Jvm.MethodName)) ∈ lw_all := lw_g (lw_at lw_m4 19 rfl) rfl
theorem q783 : (Jvm.Cond.selects "CommaTablesModel" ({ cls := "CommaTablesModel", name := "read", desc := "()I" } : Jvm.MethodName) ({ cls := "CommaTablesModel", name := "read", desc := "()I" } : Jvm.MethodName)) ∈ lw_all := lw_g (lw_at lw_m4 20 rfl) rfl
theorem q784 : (Jvm.Cond.codeWith ({ cls := "CommaTablesModel", name := "read", desc := "()I" } : Jvm.MethodName) prog_10_method_19_code (4 : Nat) (Option.some Jvm.ClassFile.FieldType.int) [((10 : Nat), (27 : Nat), (30 : Nat), (173 : Nat))]) ∈ lw_all := lw_g (lw_at lw_m4 21 rfl) rfl
theorem q785 : (Jvm.Cond.classLink "CommaTablesModel" (173 : Nat) "java/lang/IllegalStateException") ∈ lw_all := lw_g (lw_at lw_m4 22 rfl) rfl
theorem q786 : (Jvm.Cond.methodLink "CommaTablesModel" (165 : Nat) ({ cls := "CommaTablesModel", name := "used", desc := "()I" } : Jvm.MethodName)) ∈ lw_all := lw_g (lw_at lw_m4 23 rfl) rfl
theorem q787 : (Jvm.Cond.privateMethod ({ cls := "CommaTablesModel", name := "used", desc := "()I" } : Jvm.MethodName)) ∈ lw_tbl := lw_at lw_m4 24 rfl
theorem q788 : (Jvm.Cond.instanceMethod ({ cls := "CommaTablesModel", name := "used", desc := "()I" } : Jvm.MethodName)) ∈ lw_all := lw_g (lw_at lw_m4 25 rfl) rfl
theorem q789 : (Jvm.Cond.code ({ cls := "CommaTablesModel", name := "used", desc := "()I" } : Jvm.MethodName) prog_10_method_6_code (2 : Nat) (Option.some Jvm.ClassFile.FieldType.int)) ∈ lw_all := lw_g (lw_at lw_m4 26 rfl) rfl
theorem q790 : (Jvm.Cond.classLink "CommaTablesModel" (168 : Nat) "CommaTablesModel$TableReader") ∈ lw_all := lw_g (lw_at lw_m4 27 rfl) rfl
theorem q792 : (Jvm.Cond.methodLink "CommaTablesModel" (170 : Nat) ({ cls := "CommaTablesModel$TableReader", name := "<init>", desc := "(LCommaTablesModel$Trouble;[BI)V" } : Jvm.MethodName)) ∈ lw_all := lw_g (lw_at lw_m4 29 rfl) rfl
theorem q830 : (Jvm.Cond.fieldLink "CommaTablesModel" (149 : Nat) "CommaTablesModel$Table" "names" "Ljava/util/ArrayList;") ∈ lw_all := lw_g (lw_at lw_m4 67 rfl) rfl
theorem q833 : (Jvm.Cond.fieldLink "CommaTablesModel" (225 : Nat) "CommaTablesModel$Table" "cells" "Ljava/util/ArrayList;") ∈ lw_all := lw_g (lw_at lw_m4 70 rfl) rfl
theorem q834 : (Jvm.Cond.fieldLink "CommaTablesModel" (158 : Nat) "CommaTablesModel$Table" "lanes" "[I") ∈ lw_all := lw_g (lw_at lw_m4 71 rfl) rfl
theorem q1088 : (Jvm.Cond.selects "CommaTablesModel" ({ cls := "java/lang/Object", name := "getClass", desc := "()Ljava/lang/Class;" } : Jvm.MethodName) ({ cls := "java/lang/Object", name := "getClass", desc := "()Ljava/lang/Class;" } : Jvm.MethodName)) ∈ lw_all := lw_g (lw_at lw_m5 85 rfl) rfl
theorem q1118 : (Jvm.Cond.fieldLink "CommaTablesModel" (117 : Nat) "CommaTablesModel$Cell" "text" "Ljava/lang/String;") ∈ lw_all := lw_g (lw_at lw_m5 115 rfl) rfl
theorem q1120 : (Jvm.Cond.fieldLink "CommaTablesModel" (113 : Nat) "CommaTablesModel$Cell" "quoted" "Z") ∈ lw_all := lw_g (lw_at lw_m5 117 rfl) rfl
theorem q1132 : (Jvm.Cond.fieldLink "CommaTablesModel" (176 : Nat) "CommaTablesModel$TableReader" "table" "LCommaTablesModel$Table;") ∈ lw_all := lw_g (lw_at lw_m5 129 rfl) rfl
theorem q1134 : (Jvm.Cond.fieldLink "CommaTablesModel" (180 : Nat) "CommaTablesModel$TableReader" "bytes" "I") ∈ lw_all := lw_g (lw_at lw_m5 131 rfl) rfl
theorem q1150 : (Jvm.Cond.methodLink "CommaTablesModel" (183 : Nat) ({ cls := "CommaTablesModel", name := "tabled", desc := "(LCommaTablesModel$Table;I)I" } : Jvm.MethodName)) ∈ lw_all := lw_g (lw_at lw_m5 147 rfl) rfl
theorem q1151 : (Jvm.Cond.privateMethod ({ cls := "CommaTablesModel", name := "tabled", desc := "(LCommaTablesModel$Table;I)I" } : Jvm.MethodName)) ∈ lw_tbl := lw_at lw_m5 148 rfl
theorem q1152 : (Jvm.Cond.instanceMethod ({ cls := "CommaTablesModel", name := "tabled", desc := "(LCommaTablesModel$Table;I)I" } : Jvm.MethodName)) ∈ lw_all := lw_g (lw_at lw_m5 149 rfl) rfl
theorem q1153 : (Jvm.Cond.code ({ cls := "CommaTablesModel", name := "tabled", desc := "(LCommaTablesModel$Table;I)I" } : Jvm.MethodName) prog_10_method_18_code (4 : Nat) (Option.some Jvm.ClassFile.FieldType.int)) ∈ lw_all := lw_g (lw_at lw_m5 150 rfl) rfl
theorem q1154 : (Jvm.Cond.methodLink "CommaTablesModel" (153 : Nat) ({ cls := "java/util/ArrayList", name := "size", desc := "()I" } : Jvm.MethodName)) ∈ lw_all := lw_g (lw_at lw_m5 151 rfl) rfl
theorem q1155 : (Jvm.Cond.methodLink "CommaTablesModel" (161 : Nat) ({ cls := "CommaTablesModel", name := "laneOfColumn", desc := "(LCommaTablesModel$Table;I)I" } : Jvm.MethodName)) ∈ lw_all := lw_g (lw_at lw_m5 152 rfl) rfl
theorem q1156 : (Jvm.Cond.static ({ cls := "CommaTablesModel", name := "laneOfColumn", desc := "(LCommaTablesModel$Table;I)I" } : Jvm.MethodName)) ∈ lw_all := lw_g (lw_at lw_m5 153 rfl) rfl
theorem q1157 : (Jvm.Cond.code ({ cls := "CommaTablesModel", name := "laneOfColumn", desc := "(LCommaTablesModel$Table;I)I" } : Jvm.MethodName) prog_10_method_17_code (7 : Nat) (Option.some Jvm.ClassFile.FieldType.int)) ∈ lw_all := lw_g (lw_at lw_m5 154 rfl) rfl
theorem q1158 : (Jvm.Cond.methodLink "CommaTablesModel" (132 : Nat) ({ cls := "CommaTablesModel$Table", name := "rows", desc := "()I" } : Jvm.MethodName)) ∈ lw_all := lw_g (lw_at lw_m5 155 rfl) rfl
theorem q1163 : (Jvm.Cond.methodLink "CommaTablesModel" (135 : Nat) ({ cls := "CommaTablesModel$Table", name := "at", desc := "(II)LCommaTablesModel$Cell;" } : Jvm.MethodName)) ∈ lw_all := lw_g (lw_at lw_m5 160 rfl) rfl
theorem q1169 : (Jvm.Cond.methodLink "CommaTablesModel" (107 : Nat) ({ cls := "CommaTablesModel$Cell", name := "isMissing", desc := "()Z" } : Jvm.MethodName)) ∈ lw_all := lw_g (lw_at lw_m5 166 rfl) rfl
theorem q1174 : (Jvm.Cond.methodLink "CommaTablesModel" (139 : Nat) ({ cls := "CommaTablesModel", name := "isOfLane", desc := "(LCommaTablesModel$Cell;I)Z" } : Jvm.MethodName)) ∈ lw_all := lw_g (lw_at lw_m5 171 rfl) rfl
theorem q1175 : (Jvm.Cond.static ({ cls := "CommaTablesModel", name := "isOfLane", desc := "(LCommaTablesModel$Cell;I)Z" } : Jvm.MethodName)) ∈ lw_all := lw_g (lw_at lw_m5 172 rfl) rfl
theorem q1176 : (Jvm.Cond.code ({ cls := "CommaTablesModel", name := "isOfLane", desc := "(LCommaTablesModel$Cell;I)Z" } : Jvm.MethodName) prog_10_method_16_code (2 : Nat) (Option.some Jvm.ClassFile.FieldType.boolean)) ∈ lw_all := lw_g (lw_at lw_m5 173 rfl) rfl
theorem q1177 : (Jvm.Cond.methodLink "CommaTablesModel" (121 : Nat) ({ cls := "CommaTablesModel", name := "isTruth", desc := "(Ljava/lang/String;)Z" } : Jvm.MethodName)) ∈ lw_all := lw_g (lw_at lw_m5 174 rfl) rfl
theorem q1178 : (Jvm.Cond.static ({ cls := "CommaTablesModel", name := "isTruth", desc := "(Ljava/lang/String;)Z" } : Jvm.MethodName)) ∈ lw_all := lw_g (lw_at lw_m5 175 rfl) rfl
theorem q1179 : (Jvm.Cond.code ({ cls := "CommaTablesModel", name := "isTruth", desc := "(Ljava/lang/String;)Z" } : Jvm.MethodName) prog_10_method_10_code (1 : Nat) (Option.some Jvm.ClassFile.FieldType.boolean)) ∈ lw_all := lw_g (lw_at lw_m5 176 rfl) rfl
theorem q1180 : (Jvm.Cond.stringRef "CommaTablesModel" (67 : Nat) "true") ∈ lw_tbl := lw_at lw_m5 177 rfl
theorem q1181 : (Jvm.Cond.methodLink "CommaTablesModel" (69 : Nat) ({ cls := "java/lang/String", name := "equals", desc := "(Ljava/lang/Object;)Z" } : Jvm.MethodName)) ∈ lw_all := lw_g (lw_at lw_m5 178 rfl) rfl
theorem q1182 : (Jvm.Cond.stringRef "CommaTablesModel" (75 : Nat) "false") ∈ lw_tbl := lw_at lw_m5 179 rfl
theorem q1183 : (Jvm.Cond.methodLink "CommaTablesModel" (125 : Nat) ({ cls := "CommaTablesModel", name := "isRealWord", desc := "(Ljava/lang/String;)Z" } : Jvm.MethodName)) ∈ lw_all := lw_g (lw_at lw_m5 180 rfl) rfl
theorem q1184 : (Jvm.Cond.static ({ cls := "CommaTablesModel", name := "isRealWord", desc := "(Ljava/lang/String;)Z" } : Jvm.MethodName)) ∈ lw_all := lw_g (lw_at lw_m5 181 rfl) rfl
theorem q1185 : (Jvm.Cond.code ({ cls := "CommaTablesModel", name := "isRealWord", desc := "(Ljava/lang/String;)Z" } : Jvm.MethodName) prog_10_method_14_code (2 : Nat) (Option.some Jvm.ClassFile.FieldType.boolean)) ∈ lw_all := lw_g (lw_at lw_m5 182 rfl) rfl
theorem q1186 : (Jvm.Cond.methodLink "CommaTablesModel" (89 : Nat) ({ cls := "CommaTablesModel", name := "digits", desc := "(Ljava/lang/String;Z)I" } : Jvm.MethodName)) ∈ lw_all := lw_g (lw_at lw_m5 183 rfl) rfl
theorem q1187 : (Jvm.Cond.static ({ cls := "CommaTablesModel", name := "digits", desc := "(Ljava/lang/String;Z)I" } : Jvm.MethodName)) ∈ lw_all := lw_g (lw_at lw_m5 184 rfl) rfl
theorem q1188 : (Jvm.Cond.code ({ cls := "CommaTablesModel", name := "digits", desc := "(Ljava/lang/String;Z)I" } : Jvm.MethodName) prog_10_method_11_code (6 : Nat) (Option.some Jvm.ClassFile.FieldType.int)) ∈ lw_all := lw_g (lw_at lw_m5 185 rfl) rfl
theorem q1189 : (Jvm.Cond.methodLink "CommaTablesModel" (77 : Nat) ({ cls := "java/lang/String", name := "length", desc := "()I" } : Jvm.MethodName)) ∈ lw_all := lw_g (lw_at lw_m5 186 rfl) rfl
theorem q1190 : (Jvm.Cond.methodLink "CommaTablesModel" (81 : Nat) ({ cls := "java/lang/String", name := "charAt", desc := "(I)C" } : Jvm.MethodName)) ∈ lw_all := lw_g (lw_at lw_m5 187 rfl) rfl
theorem q1191 : (Jvm.Cond.methodLink "CommaTablesModel" (85 : Nat) ({ cls := "CommaTablesModel", name := "isDigit", desc := "(I)Z" } : Jvm.MethodName)) ∈ lw_all := lw_g (lw_at lw_m5 188 rfl) rfl
theorem q1192 : (Jvm.Cond.static ({ cls := "CommaTablesModel", name := "isDigit", desc := "(I)Z" } : Jvm.MethodName)) ∈ lw_all := lw_g (lw_at lw_m5 189 rfl) rfl
theorem q1193 : (Jvm.Cond.code ({ cls := "CommaTablesModel", name := "isDigit", desc := "(I)Z" } : Jvm.MethodName) prog_10_method_8_code (1 : Nat) (Option.some Jvm.ClassFile.FieldType.boolean)) ∈ lw_all := lw_g (lw_at lw_m5 190 rfl) rfl
theorem q1194 : (Jvm.Cond.methodLink "CommaTablesModel" (128 : Nat) ({ cls := "CommaTablesModel", name := "isWholeWord", desc := "(Ljava/lang/String;I)Z" } : Jvm.MethodName)) ∈ lw_all := lw_g (lw_at lw_m5 191 rfl) rfl
theorem q1195 : (Jvm.Cond.static ({ cls := "CommaTablesModel", name := "isWholeWord", desc := "(Ljava/lang/String;I)Z" } : Jvm.MethodName)) ∈ lw_all := lw_g (lw_at lw_m5 192 rfl) rfl
theorem q1196 : (Jvm.Cond.code ({ cls := "CommaTablesModel", name := "isWholeWord", desc := "(Ljava/lang/String;I)Z" } : Jvm.MethodName) prog_10_method_13_code (8 : Nat) (Option.some Jvm.ClassFile.FieldType.boolean)) ∈ lw_all := lw_g (lw_at lw_m5 193 rfl) rfl
theorem q1197 : (Jvm.Cond.constantLong "CommaTablesModel" (95 : Nat) (-9223372036854775808 : Int64)) ∈ lw_all := lw_g (lw_at lw_m5 194 rfl) rfl
theorem q1198 : (Jvm.Cond.constantLong "CommaTablesModel" (55 : Nat) (10 : Int64)) ∈ lw_all := lw_g (lw_at lw_m5 195 rfl) rfl
theorem q1200 : (Jvm.Cond.instanceMethod ({ cls := "CommaTablesModel", name := "rows", desc := "(I)I" } : Jvm.MethodName)) ∈ lw_all := lw_g (lw_at lw_m5 197 rfl) rfl
theorem q1201 : (Jvm.Cond.selects "CommaTablesModel" ({ cls := "CommaTablesModel", name := "rows", desc := "(I)I" } : Jvm.MethodName) ({ cls := "CommaTablesModel", name := "rows", desc := "(I)I" } : Jvm.MethodName)) ∈ lw_all := lw_g (lw_at lw_m5 198 rfl) rfl
theorem q1202 : (Jvm.Cond.code ({ cls := "CommaTablesModel", name := "rows", desc := "(I)I" } : Jvm.MethodName) prog_10_method_21_code (2 : Nat) (Option.some Jvm.ClassFile.FieldType.int)) ∈ lw_all := lw_g (lw_at lw_m5 199 rfl) rfl
theorem q1203 : (Jvm.Cond.methodLink "CommaTablesModel" (186 : Nat) ({ cls := "CommaTablesModel", name := "isTable", desc := "(I)Z" } : Jvm.MethodName)) ∈ lw_all := lw_g (lw_at lw_m5 200 rfl) rfl
theorem q1204 : (Jvm.Cond.privateMethod ({ cls := "CommaTablesModel", name := "isTable", desc := "(I)Z" } : Jvm.MethodName)) ∈ lw_tbl := lw_at lw_m5 201 rfl
theorem q1205 : (Jvm.Cond.instanceMethod ({ cls := "CommaTablesModel", name := "isTable", desc := "(I)Z" } : Jvm.MethodName)) ∈ lw_all := lw_g (lw_at lw_m5 202 rfl) rfl
theorem q1206 : (Jvm.Cond.code ({ cls := "CommaTablesModel", name := "isTable", desc := "(I)Z" } : Jvm.MethodName) prog_10_method_20_code (2 : Nat) (Option.some Jvm.ClassFile.FieldType.boolean)) ∈ lw_all := lw_g (lw_at lw_m5 203 rfl) rfl
theorem q1208 : (Jvm.Cond.instanceMethod ({ cls := "CommaTablesModel", name := "columns", desc := "(I)I" } : Jvm.MethodName)) ∈ lw_all := lw_g (lw_at lw_m5 205 rfl) rfl
theorem q1209 : (Jvm.Cond.selects "CommaTablesModel" ({ cls := "CommaTablesModel", name := "columns", desc := "(I)I" } : Jvm.MethodName) ({ cls := "CommaTablesModel", name := "columns", desc := "(I)I" } : Jvm.MethodName)) ∈ lw_all := lw_g (lw_at lw_m5 206 rfl) rfl
theorem q1210 : (Jvm.Cond.code ({ cls := "CommaTablesModel", name := "columns", desc := "(I)I" } : Jvm.MethodName) prog_10_method_22_code (2 : Nat) (Option.some Jvm.ClassFile.FieldType.int)) ∈ lw_all := lw_g (lw_at lw_m5 207 rfl) rfl
theorem q1212 : (Jvm.Cond.instanceMethod ({ cls := "CommaTablesModel", name := "named", desc := "(I)I" } : Jvm.MethodName)) ∈ lw_all := lw_g (lw_at lw_m5 209 rfl) rfl
theorem q1213 : (Jvm.Cond.selects "CommaTablesModel" ({ cls := "CommaTablesModel", name := "named", desc := "(I)I" } : Jvm.MethodName) ({ cls := "CommaTablesModel", name := "named", desc := "(I)I" } : Jvm.MethodName)) ∈ lw_all := lw_g (lw_at lw_m5 210 rfl) rfl
theorem q1214 : (Jvm.Cond.code ({ cls := "CommaTablesModel", name := "named", desc := "(I)I" } : Jvm.MethodName) prog_10_method_23_code (7 : Nat) (Option.some Jvm.ClassFile.FieldType.int)) ∈ lw_all := lw_g (lw_at lw_m5 211 rfl) rfl
theorem q1215 : (Jvm.Cond.methodLink "CommaTablesModel" (189 : Nat) ({ cls := "java/util/ArrayList", name := "get", desc := "(I)Ljava/lang/Object;" } : Jvm.MethodName)) ∈ lw_all := lw_g (lw_at lw_m5 212 rfl) rfl
theorem q1216 : (Jvm.Cond.classLink "CommaTablesModel" (70 : Nat) "java/lang/String") ∈ lw_all := lw_g (lw_at lw_m5 213 rfl) rfl
theorem q1218 : (Jvm.Cond.instanceMethod ({ cls := "CommaTablesModel", name := "lane", desc := "(II)I" } : Jvm.MethodName)) ∈ lw_all := lw_g (lw_at lw_m5 215 rfl) rfl
theorem q1219 : (Jvm.Cond.selects "CommaTablesModel" ({ cls := "CommaTablesModel", name := "lane", desc := "(II)I" } : Jvm.MethodName) ({ cls := "CommaTablesModel", name := "lane", desc := "(II)I" } : Jvm.MethodName)) ∈ lw_all := lw_g (lw_at lw_m5 216 rfl) rfl
theorem q1220 : (Jvm.Cond.code ({ cls := "CommaTablesModel", name := "lane", desc := "(II)I" } : Jvm.MethodName) prog_10_method_26_code (3 : Nat) (Option.some Jvm.ClassFile.FieldType.int)) ∈ lw_all := lw_g (lw_at lw_m5 217 rfl) rfl
theorem q1221 : (Jvm.Cond.methodLink "CommaTablesModel" (193 : Nat) ({ cls := "CommaTablesModel", name := "isColumn", desc := "(II)Z" } : Jvm.MethodName)) ∈ lw_all := lw_g (lw_at lw_m5 218 rfl) rfl
theorem q1222 : (Jvm.Cond.privateMethod ({ cls := "CommaTablesModel", name := "isColumn", desc := "(II)Z" } : Jvm.MethodName)) ∈ lw_tbl := lw_at lw_m5 219 rfl
theorem q1223 : (Jvm.Cond.instanceMethod ({ cls := "CommaTablesModel", name := "isColumn", desc := "(II)Z" } : Jvm.MethodName)) ∈ lw_all := lw_g (lw_at lw_m5 220 rfl) rfl
theorem q1224 : (Jvm.Cond.code ({ cls := "CommaTablesModel", name := "isColumn", desc := "(II)Z" } : Jvm.MethodName) prog_10_method_24_code (3 : Nat) (Option.some Jvm.ClassFile.FieldType.boolean)) ∈ lw_all := lw_g (lw_at lw_m5 221 rfl) rfl
theorem q1226 : (Jvm.Cond.instanceMethod ({ cls := "CommaTablesModel", name := "value", desc := "(III)J" } : Jvm.MethodName)) ∈ lw_all := lw_g (lw_at lw_m5 223 rfl) rfl
theorem q1227 : (Jvm.Cond.selects "CommaTablesModel" ({ cls := "CommaTablesModel", name := "value", desc := "(III)J" } : Jvm.MethodName) ({ cls := "CommaTablesModel", name := "value", desc := "(III)J" } : Jvm.MethodName)) ∈ lw_all := lw_g (lw_at lw_m5 224 rfl) rfl
theorem q1228 : (Jvm.Cond.code ({ cls := "CommaTablesModel", name := "value", desc := "(III)J" } : Jvm.MethodName) prog_10_method_29_code (6 : Nat) (Option.some Jvm.ClassFile.FieldType.long)) ∈ lw_all := lw_g (lw_at lw_m5 225 rfl) rfl
theorem q1229 : (Jvm.Cond.methodLink "CommaTablesModel" (201 : Nat) ({ cls := "CommaTablesModel", name := "isCell", desc := "(III)Z" } : Jvm.MethodName)) ∈ lw_all := lw_g (lw_at lw_m5 226 rfl) rfl
theorem q1230 : (Jvm.Cond.privateMethod ({ cls := "CommaTablesModel", name := "isCell", desc := "(III)Z" } : Jvm.MethodName)) ∈ lw_tbl := lw_at lw_m5 227 rfl
theorem q1231 : (Jvm.Cond.instanceMethod ({ cls := "CommaTablesModel", name := "isCell", desc := "(III)Z" } : Jvm.MethodName)) ∈ lw_all := lw_g (lw_at lw_m5 228 rfl) rfl
theorem q1232 : (Jvm.Cond.code ({ cls := "CommaTablesModel", name := "isCell", desc := "(III)Z" } : Jvm.MethodName) prog_10_method_25_code (4 : Nat) (Option.some Jvm.ClassFile.FieldType.boolean)) ∈ lw_all := lw_g (lw_at lw_m5 229 rfl) rfl
theorem q1233 : (Jvm.Cond.constantLong "CommaTablesModel" (205 : Nat) (-1 : Int64)) ∈ lw_all := lw_g (lw_at lw_m5 230 rfl) rfl
theorem q1234 : (Jvm.Cond.methodLink "CommaTablesModel" (207 : Nat) ({ cls := "CommaTablesModel", name := "realWord", desc := "(Ljava/lang/String;)J" } : Jvm.MethodName)) ∈ lw_all := lw_g (lw_at lw_m5 231 rfl) rfl
theorem q1235 : (Jvm.Cond.static ({ cls := "CommaTablesModel", name := "realWord", desc := "(Ljava/lang/String;)J" } : Jvm.MethodName)) ∈ lw_all := lw_g (lw_at lw_m5 232 rfl) rfl
theorem q1236 : (Jvm.Cond.code ({ cls := "CommaTablesModel", name := "realWord", desc := "(Ljava/lang/String;)J" } : Jvm.MethodName) prog_10_method_15_code (8 : Nat) (Option.some Jvm.ClassFile.FieldType.long)) ∈ lw_all := lw_g (lw_at lw_m5 233 rfl) rfl
theorem q1237 : (Jvm.Cond.constantLong "CommaTablesModel" (97 : Nat) (48 : Int64)) ∈ lw_all := lw_g (lw_at lw_m5 234 rfl) rfl
theorem q1238 : (Jvm.Cond.methodLink "CommaTablesModel" (99 : Nat) ({ cls := "CommaTablesModel", name := "decimal", desc := "(JI)J" } : Jvm.MethodName)) ∈ lw_all := lw_g (lw_at lw_m5 235 rfl) rfl
theorem q1239 : (Jvm.Cond.static ({ cls := "CommaTablesModel", name := "decimal", desc := "(JI)J" } : Jvm.MethodName)) ∈ lw_all := lw_g (lw_at lw_m5 236 rfl) rfl
theorem q1240 : (Jvm.Cond.code ({ cls := "CommaTablesModel", name := "decimal", desc := "(JI)J" } : Jvm.MethodName) prog_10_method_9_code (6 : Nat) (Option.some Jvm.ClassFile.FieldType.long)) ∈ lw_all := lw_g (lw_at lw_m5 237 rfl) rfl
theorem q1241 : (Jvm.Cond.methodLink "CommaTablesModel" (57 : Nat) ({ cls := "CommaTablesModel$Soft", name := "of", desc := "(JZ)J" } : Jvm.MethodName)) ∈ lw_all := lw_g (lw_at lw_m5 238 rfl) rfl
theorem q1254 : (Jvm.Cond.methodLink "CommaTablesModel" (63 : Nat) ({ cls := "CommaTablesModel$Soft", name := "divide", desc := "(JJ)J" } : Jvm.MethodName)) ∈ lw_all := lw_g (lw_at lw_m6 11 rfl) rfl
theorem q1274 : (Jvm.Cond.methodLink "CommaTablesModel" (103 : Nat) ({ cls := "CommaTablesModel$Soft", name := "negative", desc := "(J)J" } : Jvm.MethodName)) ∈ lw_all := lw_g (lw_at lw_m6 31 rfl) rfl
theorem q1277 : (Jvm.Cond.methodLink "CommaTablesModel" (211 : Nat) ({ cls := "CommaTablesModel", name := "before", desc := "(LCommaTablesModel$Table;ILjava/lang/String;)I" } : Jvm.MethodName)) ∈ lw_all := lw_g (lw_at lw_m6 34 rfl) rfl
theorem q1278 : (Jvm.Cond.static ({ cls := "CommaTablesModel", name := "before", desc := "(LCommaTablesModel$Table;ILjava/lang/String;)I" } : Jvm.MethodName)) ∈ lw_all := lw_g (lw_at lw_m6 35 rfl) rfl
theorem q1279 : (Jvm.Cond.code ({ cls := "CommaTablesModel", name := "before", desc := "(LCommaTablesModel$Table;ILjava/lang/String;)I" } : Jvm.MethodName) prog_10_method_28_code (8 : Nat) (Option.some Jvm.ClassFile.FieldType.int)) ∈ lw_all := lw_g (lw_at lw_m6 36 rfl) rfl
theorem q1280 : (Jvm.Cond.methodLink "CommaTablesModel" (197 : Nat) ({ cls := "CommaTablesModel", name := "compare", desc := "(Ljava/lang/String;Ljava/lang/String;)I" } : Jvm.MethodName)) ∈ lw_all := lw_g (lw_at lw_m6 37 rfl) rfl
theorem q1281 : (Jvm.Cond.static ({ cls := "CommaTablesModel", name := "compare", desc := "(Ljava/lang/String;Ljava/lang/String;)I" } : Jvm.MethodName)) ∈ lw_all := lw_g (lw_at lw_m6 38 rfl) rfl
theorem q1282 : (Jvm.Cond.code ({ cls := "CommaTablesModel", name := "compare", desc := "(Ljava/lang/String;Ljava/lang/String;)I" } : Jvm.MethodName) prog_10_method_27_code (3 : Nat) (Option.some Jvm.ClassFile.FieldType.int)) ∈ lw_all := lw_g (lw_at lw_m6 39 rfl) rfl
theorem q1283 : (Jvm.Cond.methodLink "CommaTablesModel" (215 : Nat) ({ cls := "CommaTablesModel", name := "wholeWord", desc := "(Ljava/lang/String;)J" } : Jvm.MethodName)) ∈ lw_all := lw_g (lw_at lw_m6 40 rfl) rfl
theorem q1284 : (Jvm.Cond.static ({ cls := "CommaTablesModel", name := "wholeWord", desc := "(Ljava/lang/String;)J" } : Jvm.MethodName)) ∈ lw_all := lw_g (lw_at lw_m6 41 rfl) rfl
theorem q1285 : (Jvm.Cond.code ({ cls := "CommaTablesModel", name := "wholeWord", desc := "(Ljava/lang/String;)J" } : Jvm.MethodName) prog_10_method_12_code (5 : Nat) (Option.some Jvm.ClassFile.FieldType.long)) ∈ lw_all := lw_g (lw_at lw_m6 42 rfl) rfl
theorem q1287 : (Jvm.Cond.instanceMethod ({ cls := "CommaTablesModel", name := "missing", desc := "(III)Z" } : Jvm.MethodName)) ∈ lw_all := lw_g (lw_at lw_m6 44 rfl) rfl
theorem q1288 : (Jvm.Cond.selects "CommaTablesModel" ({ cls := "CommaTablesModel", name := "missing", desc := "(III)Z" } : Jvm.MethodName) ({ cls := "CommaTablesModel", name := "missing", desc := "(III)Z" } : Jvm.MethodName)) ∈ lw_all := lw_g (lw_at lw_m6 45 rfl) rfl
theorem q1289 : (Jvm.Cond.code ({ cls := "CommaTablesModel", name := "missing", desc := "(III)Z" } : Jvm.MethodName) prog_10_method_30_code (4 : Nat) (Option.some Jvm.ClassFile.FieldType.boolean)) ∈ lw_all := lw_g (lw_at lw_m6 46 rfl) rfl
theorem q1291 : (Jvm.Cond.instanceMethod ({ cls := "CommaTablesModel", name := "length", desc := "(III)I" } : Jvm.MethodName)) ∈ lw_all := lw_g (lw_at lw_m6 48 rfl) rfl
theorem q1292 : (Jvm.Cond.selects "CommaTablesModel" ({ cls := "CommaTablesModel", name := "length", desc := "(III)I" } : Jvm.MethodName) ({ cls := "CommaTablesModel", name := "length", desc := "(III)I" } : Jvm.MethodName)) ∈ lw_all := lw_g (lw_at lw_m6 49 rfl) rfl
theorem q1293 : (Jvm.Cond.code ({ cls := "CommaTablesModel", name := "length", desc := "(III)I" } : Jvm.MethodName) prog_10_method_31_code (4 : Nat) (Option.some Jvm.ClassFile.FieldType.int)) ∈ lw_all := lw_g (lw_at lw_m6 50 rfl) rfl
theorem q1295 : (Jvm.Cond.instanceMethod ({ cls := "CommaTablesModel", name := "at", desc := "(IIII)I" } : Jvm.MethodName)) ∈ lw_all := lw_g (lw_at lw_m6 52 rfl) rfl
theorem q1296 : (Jvm.Cond.selects "CommaTablesModel" ({ cls := "CommaTablesModel", name := "at", desc := "(IIII)I" } : Jvm.MethodName) ({ cls := "CommaTablesModel", name := "at", desc := "(IIII)I" } : Jvm.MethodName)) ∈ lw_all := lw_g (lw_at lw_m6 53 rfl) rfl
theorem q1297 : (Jvm.Cond.code ({ cls := "CommaTablesModel", name := "at", desc := "(IIII)I" } : Jvm.MethodName) prog_10_method_32_code (6 : Nat) (Option.some Jvm.ClassFile.FieldType.int)) ∈ lw_all := lw_g (lw_at lw_m6 54 rfl) rfl
theorem q1299 : (Jvm.Cond.instanceMethod ({ cls := "CommaTablesModel", name := "row", desc := "(I)I" } : Jvm.MethodName)) ∈ lw_all := lw_g (lw_at lw_m6 56 rfl) rfl
theorem q1300 : (Jvm.Cond.selects "CommaTablesModel" ({ cls := "CommaTablesModel", name := "row", desc := "(I)I" } : Jvm.MethodName) ({ cls := "CommaTablesModel", name := "row", desc := "(I)I" } : Jvm.MethodName)) ∈ lw_all := lw_g (lw_at lw_m6 57 rfl) rfl
theorem q1301 : (Jvm.Cond.code ({ cls := "CommaTablesModel", name := "row", desc := "(I)I" } : Jvm.MethodName) prog_10_method_33_code (2 : Nat) (Option.some Jvm.ClassFile.FieldType.int)) ∈ lw_all := lw_g (lw_at lw_m6 58 rfl) rfl
theorem q1303 : (Jvm.Cond.instanceMethod ({ cls := "CommaTablesModel", name := "pick", desc := "(I)I" } : Jvm.MethodName)) ∈ lw_all := lw_g (lw_at lw_m6 60 rfl) rfl
theorem q1304 : (Jvm.Cond.selects "CommaTablesModel" ({ cls := "CommaTablesModel", name := "pick", desc := "(I)I" } : Jvm.MethodName) ({ cls := "CommaTablesModel", name := "pick", desc := "(I)I" } : Jvm.MethodName)) ∈ lw_all := lw_g (lw_at lw_m6 61 rfl) rfl
theorem q1305 : (Jvm.Cond.code ({ cls := "CommaTablesModel", name := "pick", desc := "(I)I" } : Jvm.MethodName) prog_10_method_34_code (8 : Nat) (Option.some Jvm.ClassFile.FieldType.int)) ∈ lw_all := lw_g (lw_at lw_m6 62 rfl) rfl
theorem q1306 : (Jvm.Cond.methodLinkNest "CommaTablesModel" (221 : Nat) ({ cls := "CommaTablesModel$Table", name := "<init>", desc := "()V" } : Jvm.MethodName) "CommaTablesModel") ∈ lw_tbl := lw_at lw_m6 63 rfl
theorem q1307 : (Jvm.Cond.methodLink "CommaTablesModel" (222 : Nat) ({ cls := "java/util/ArrayList", name := "add", desc := "(Ljava/lang/Object;)Z" } : Jvm.MethodName)) ∈ lw_all := lw_g (lw_at lw_m6 64 rfl) rfl
theorem q1309 : (Jvm.Cond.instanceMethod ({ cls := "CommaTablesModel", name := "out", desc := "(I)I" } : Jvm.MethodName)) ∈ lw_all := lw_g (lw_at lw_m6 66 rfl) rfl
theorem q1310 : (Jvm.Cond.selects "CommaTablesModel" ({ cls := "CommaTablesModel", name := "out", desc := "(I)I" } : Jvm.MethodName) ({ cls := "CommaTablesModel", name := "out", desc := "(I)I" } : Jvm.MethodName)) ∈ lw_all := lw_g (lw_at lw_m6 67 rfl) rfl
theorem q1311 : (Jvm.Cond.code ({ cls := "CommaTablesModel", name := "out", desc := "(I)I" } : Jvm.MethodName) prog_10_method_36_code (2 : Nat) (Option.some Jvm.ClassFile.FieldType.int)) ∈ lw_all := lw_g (lw_at lw_m6 68 rfl) rfl
theorem q1313 : (Jvm.Cond.instanceMethod ({ cls := "CommaTablesModel", name := "write", desc := "(I)I" } : Jvm.MethodName)) ∈ lw_all := lw_g (lw_at lw_m6 70 rfl) rfl
theorem q1314 : (Jvm.Cond.selects "CommaTablesModel" ({ cls := "CommaTablesModel", name := "write", desc := "(I)I" } : Jvm.MethodName) ({ cls := "CommaTablesModel", name := "write", desc := "(I)I" } : Jvm.MethodName)) ∈ lw_all := lw_g (lw_at lw_m6 71 rfl) rfl
theorem q1315 : (Jvm.Cond.code ({ cls := "CommaTablesModel", name := "write", desc := "(I)I" } : Jvm.MethodName) prog_10_method_40_code (7 : Nat) (Option.some Jvm.ClassFile.FieldType.int)) ∈ lw_all := lw_g (lw_at lw_m6 72 rfl) rfl
theorem q1316 : (Jvm.Cond.methodLink "CommaTablesModel" (239 : Nat) ({ cls := "CommaTablesModel", name := "hasSigns", desc := "(Ljava/lang/String;)Z" } : Jvm.MethodName)) ∈ lw_all := lw_g (lw_at lw_m6 73 rfl) rfl
theorem q1317 : (Jvm.Cond.static ({ cls := "CommaTablesModel", name := "hasSigns", desc := "(Ljava/lang/String;)Z" } : Jvm.MethodName)) ∈ lw_all := lw_g (lw_at lw_m6 74 rfl) rfl
theorem q1318 : (Jvm.Cond.code ({ cls := "CommaTablesModel", name := "hasSigns", desc := "(Ljava/lang/String;)Z" } : Jvm.MethodName) prog_10_method_37_code (2 : Nat) (Option.some Jvm.ClassFile.FieldType.boolean)) ∈ lw_all := lw_g (lw_at lw_m6 75 rfl) rfl
theorem q1319 : (Jvm.Cond.methodLink "CommaTablesModel" (234 : Nat) ({ cls := "CommaTablesModel", name := "isBlankAtEnds", desc := "(Ljava/lang/String;)Z" } : Jvm.MethodName)) ∈ lw_all := lw_g (lw_at lw_m6 76 rfl) rfl
theorem q1320 : (Jvm.Cond.static ({ cls := "CommaTablesModel", name := "isBlankAtEnds", desc := "(Ljava/lang/String;)Z" } : Jvm.MethodName)) ∈ lw_all := lw_g (lw_at lw_m6 77 rfl) rfl
theorem q1321 : (Jvm.Cond.code ({ cls := "CommaTablesModel", name := "isBlankAtEnds", desc := "(Ljava/lang/String;)Z" } : Jvm.MethodName) prog_10_method_38_code (1 : Nat) (Option.some Jvm.ClassFile.FieldType.boolean)) ∈ lw_all := lw_g (lw_at lw_m6 78 rfl) rfl
theorem q1322 : (Jvm.Cond.methodLink "CommaTablesModel" (242 : Nat) ({ cls := "CommaTablesModel", name := "writeWord", desc := "(Ljava/lang/String;Z)V" } : Jvm.MethodName)) ∈ lw_all := lw_g (lw_at lw_m6 79 rfl) rfl
theorem q1323 : (Jvm.Cond.privateMethod ({ cls := "CommaTablesModel", name := "writeWord", desc := "(Ljava/lang/String;Z)V" } : Jvm.MethodName)) ∈ lw_tbl := lw_at lw_m6 80 rfl
theorem q1324 : (Jvm.Cond.instanceMethod ({ cls := "CommaTablesModel", name := "writeWord", desc := "(Ljava/lang/String;Z)V" } : Jvm.MethodName)) ∈ lw_all := lw_g (lw_at lw_m6 81 rfl) rfl
theorem q1325 : (Jvm.Cond.code ({ cls := "CommaTablesModel", name := "writeWord", desc := "(Ljava/lang/String;Z)V" } : Jvm.MethodName) prog_10_method_39_code (4 : Nat) (Option.none : Option Jvm.ClassFile.FieldType)) ∈ lw_all := lw_g (lw_at lw_m6 82 rfl) rfl
theorem q1326 : (Jvm.Cond.methodLink "CommaTablesModel" (237 : Nat) ({ cls := "CommaTablesModel$Bytes", name := "add", desc := "(I)V" } : Jvm.MethodName)) ∈ lw_all := lw_g (lw_at lw_m6 83 rfl) rfl
theorem q1330 : (Jvm.Cond.methodLink "CommaTablesModel" (246 : Nat) ({ cls := "CommaTablesModel", name := "told", desc := "()I" } : Jvm.MethodName)) ∈ lw_all := lw_g (lw_at lw_m6 87 rfl) rfl
theorem q1331 : (Jvm.Cond.privateMethod ({ cls := "CommaTablesModel", name := "told", desc := "()I" } : Jvm.MethodName)) ∈ lw_tbl := lw_at lw_m6 88 rfl
theorem q1332 : (Jvm.Cond.instanceMethod ({ cls := "CommaTablesModel", name := "told", desc := "()I" } : Jvm.MethodName)) ∈ lw_all := lw_g (lw_at lw_m6 89 rfl) rfl
theorem q1333 : (Jvm.Cond.code ({ cls := "CommaTablesModel", name := "told", desc := "()I" } : Jvm.MethodName) prog_10_method_35_code (2 : Nat) (Option.some Jvm.ClassFile.FieldType.int)) ∈ lw_all := lw_g (lw_at lw_m6 90 rfl) rfl
theorem q1348 : (Jvm.Cond.castable "CommaTablesModel" "java/lang/Object") ∈ lw_tbl := lw_at lw_m6 105 rfl
theorem in_X6 : ∀ w ∈ wsX60, w ∈ lw_all := lw_in wsX60 [739, 741, 743, 745, 747, 749, 751, 753, 755, 757, 759, 761] (by decide +kernel) (by decide +kernel)
