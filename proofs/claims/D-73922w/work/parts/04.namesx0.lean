/-! SupplyGrid -/
set_option maxRecDepth 100000
def RX0 : String := "SupplyGrid"
def TX0 : u_T := fun k => match k with
  | 0 => ("SupplyGrid", "now", "LSupplyGrid$Told;", false)
  | 1 => ("SupplyGrid", "images", "[LSupplyGrid$Told;", true)
  | 2 => ("SupplyGrid", "tape", "[B", true)
  | 3 => ("SupplyGrid", "taped", "I", false)
  | 4 => ("SupplyGrid", "faultKind", "I", false)
  | 5 => ("SupplyGrid", "faultPlace", "I", false)
  | 6 => ("SupplyGrid", "is", "LSupplyGrid$Solved;", true)
  | 7 => ("SupplyGrid", "tried", "LSupplyGrid$Solved;", true)
  | 8 => ("SupplyGrid", "bestStarved", "I", false)
  | 9 => ("SupplyGrid", "bestMost", "J", false)
  | 10 => ("SupplyGrid", "bestWhole", "J", false)
  | 11 => ("SupplyGrid", "draws", "[I", true)
  | 12 => ("SupplyGrid", "left", "[I", true)
  | 13 => ("SupplyGrid", "mosts", "[J", true)
  | 14 => ("SupplyGrid", "widened", "[I", true)
  | _ => ("SupplyGrid", "drawn", "J", false)
def tyX0 : Nat → FieldType := fun k => match k with
  | 0 => .object "SupplyGrid$Told"
  | 1 => .array (.object "SupplyGrid$Told")
  | 2 => .array .byte
  | 3 => .int
  | 4 => .int
  | 5 => .int
  | 6 => .object "SupplyGrid$Solved"
  | 7 => .object "SupplyGrid$Solved"
  | 8 => .int
  | 9 => .long
  | 10 => .long
  | 11 => .array .int
  | 12 => .array .int
  | 13 => .array .long
  | 14 => .array .int
  | _ => .long
abbrev wsX00 : List Cond := u_ws RX0 TX0 16
set_option maxRecDepth 100000 in
theorem nmX0 : ∀ a, a < 16 → ∀ b, b < 16 → a ≠ b → (TX0 a).2.1 ≠ (TX0 b).2.1 := by decide +kernel
set_option maxRecDepth 100000 in
theorem tyX0_ok : ∀ k, k < 16 → parseFieldDescriptor (TX0 k).2.2.1 = some (tyX0 k) := by decide +kernel
abbrev cX0_init : ByteArray := prog_1_method_6_code
def yX0_init : MethodName := ⟨RX0, "<init>", "()V"⟩
def dkwX0_init_3 : List UInt8 := [7, 188, 10, 181, 0, 60, 42, 16, 9, 188, 11, 181, 0, 63, 42, 16, 20, 188, 10, 181, 0, 67, 177]
abbrev dktX0_init_3 : List UInt8 := dkwX0_init_3 ++ []
def dkwX0_init_2 : List UInt8 := [181, 0, 49, 42, 187, 0, 44, 89, 42, 183, 0, 46, 181, 0, 53, 42, 16, 9, 188, 10, 181, 0, 56, 42]
abbrev dktX0_init_2 : List UInt8 := dkwX0_init_2 ++ dktX0_init_3
def dkwX0_init_1 : List UInt8 := [17, 2, 188, 188, 8, 181, 0, 36, 42, 2, 181, 0, 40, 42, 187, 0, 44, 89, 42, 183, 0, 46]
abbrev dktX0_init_1 : List UInt8 := dkwX0_init_1 ++ dktX0_init_2
def dkwX0_init_0 : List UInt8 := [42, 183, 0, 19, 42, 187, 0, 25, 89, 183, 0, 27, 181, 0, 28, 42, 6, 189, 0, 25, 181, 0, 32, 42]
abbrev dktX0_init_0 : List UInt8 := dkwX0_init_0 ++ dktX0_init_1
theorem dksX0_init_0 : cX0_init.data.toList.drop 0 = dktX0_init_0 := by decide +kernel
theorem dksX0_init_1 : cX0_init.data.toList.drop 24 = dktX0_init_1 := dk_seg dksX0_init_0 24 rfl rfl
theorem dksX0_init_2 : cX0_init.data.toList.drop 46 = dktX0_init_2 := dk_seg dksX0_init_1 22 rfl rfl
theorem dksX0_init_3 : cX0_init.data.toList.drop 70 = dktX0_init_3 := dk_seg dksX0_init_2 24 rfl rfl
theorem dX0_init_0 : decode cX0_init 0 = .ok (.aload_n 0, 1) := dk_42 (dk_at dksX0_init_0 0 rfl rfl)
theorem dX0_init_1 : decode cX0_init 1 = .ok (.invokespecial 19, 3) := dk_183 0 19 (dk_at dksX0_init_0 1 rfl rfl)
theorem dX0_init_4 : decode cX0_init 4 = .ok (.aload_n 0, 1) := dk_42 (dk_at dksX0_init_0 4 rfl rfl)
theorem dX0_init_5 : decode cX0_init 5 = .ok (.new 25, 3) := dk_187 0 25 (dk_at dksX0_init_0 5 rfl rfl)
theorem dX0_init_8 : decode cX0_init 8 = .ok (.dup, 1) := dk_89 (dk_at dksX0_init_0 8 rfl rfl)
theorem dX0_init_9 : decode cX0_init 9 = .ok (.invokespecial 27, 3) := dk_183 0 27 (dk_at dksX0_init_0 9 rfl rfl)
theorem dX0_init_12 : decode cX0_init 12 = .ok (.putfield 28, 3) := dk_181 0 28 (dk_at dksX0_init_0 12 rfl rfl)
theorem dX0_init_15 : decode cX0_init 15 = .ok (.aload_n 0, 1) := dk_42 (dk_at dksX0_init_0 15 rfl rfl)
theorem dX0_init_16 : decode cX0_init 16 = .ok (.iconst 3, 1) := dk_6 (dk_at dksX0_init_0 16 rfl rfl)
theorem dX0_init_17 : decode cX0_init 17 = .ok (.anewarray 25, 3) := dk_189 0 25 (dk_at dksX0_init_0 17 rfl rfl)
theorem dX0_init_20 : decode cX0_init 20 = .ok (.putfield 32, 3) := dk_181 0 32 (dk_at dksX0_init_0 20 rfl rfl)
theorem dX0_init_23 : decode cX0_init 23 = .ok (.aload_n 0, 1) := dk_42 (dk_at dksX0_init_0 23 rfl rfl)
theorem dX0_init_24 : decode cX0_init 24 = .ok (.sipush 700, 3) := dk_17 2 188 (dk_at dksX0_init_1 0 rfl rfl)
theorem dX0_init_27 : decode cX0_init 27 = .ok (.newarray .byte, 2) := dk_188_8 (dk_at dksX0_init_1 3 rfl rfl)
theorem dX0_init_29 : decode cX0_init 29 = .ok (.putfield 36, 3) := dk_181 0 36 (dk_at dksX0_init_1 5 rfl rfl)
theorem dX0_init_32 : decode cX0_init 32 = .ok (.aload_n 0, 1) := dk_42 (dk_at dksX0_init_1 8 rfl rfl)
theorem dX0_init_33 : decode cX0_init 33 = .ok (.iconst (-1), 1) := dk_2 (dk_at dksX0_init_1 9 rfl rfl)
theorem dX0_init_34 : decode cX0_init 34 = .ok (.putfield 40, 3) := dk_181 0 40 (dk_at dksX0_init_1 10 rfl rfl)
theorem dX0_init_37 : decode cX0_init 37 = .ok (.aload_n 0, 1) := dk_42 (dk_at dksX0_init_1 13 rfl rfl)
theorem dX0_init_38 : decode cX0_init 38 = .ok (.new 44, 3) := dk_187 0 44 (dk_at dksX0_init_1 14 rfl rfl)
theorem dX0_init_41 : decode cX0_init 41 = .ok (.dup, 1) := dk_89 (dk_at dksX0_init_1 17 rfl rfl)
theorem dX0_init_42 : decode cX0_init 42 = .ok (.aload_n 0, 1) := dk_42 (dk_at dksX0_init_1 18 rfl rfl)
theorem dX0_init_43 : decode cX0_init 43 = .ok (.invokespecial 46, 3) := dk_183 0 46 (dk_at dksX0_init_1 19 rfl rfl)
theorem dX0_init_46 : decode cX0_init 46 = .ok (.putfield 49, 3) := dk_181 0 49 (dk_at dksX0_init_2 0 rfl rfl)
theorem dX0_init_49 : decode cX0_init 49 = .ok (.aload_n 0, 1) := dk_42 (dk_at dksX0_init_2 3 rfl rfl)
theorem dX0_init_50 : decode cX0_init 50 = .ok (.new 44, 3) := dk_187 0 44 (dk_at dksX0_init_2 4 rfl rfl)
theorem dX0_init_53 : decode cX0_init 53 = .ok (.dup, 1) := dk_89 (dk_at dksX0_init_2 7 rfl rfl)
theorem dX0_init_54 : decode cX0_init 54 = .ok (.aload_n 0, 1) := dk_42 (dk_at dksX0_init_2 8 rfl rfl)
theorem dX0_init_55 : decode cX0_init 55 = .ok (.invokespecial 46, 3) := dk_183 0 46 (dk_at dksX0_init_2 9 rfl rfl)
theorem dX0_init_58 : decode cX0_init 58 = .ok (.putfield 53, 3) := dk_181 0 53 (dk_at dksX0_init_2 12 rfl rfl)
theorem dX0_init_61 : decode cX0_init 61 = .ok (.aload_n 0, 1) := dk_42 (dk_at dksX0_init_2 15 rfl rfl)
theorem dX0_init_62 : decode cX0_init 62 = .ok (.bipush 9, 2) := dk_16 9 (dk_at dksX0_init_2 16 rfl rfl)
theorem dX0_init_64 : decode cX0_init 64 = .ok (.newarray .int, 2) := dk_188_10 (dk_at dksX0_init_2 18 rfl rfl)
theorem dX0_init_66 : decode cX0_init 66 = .ok (.putfield 56, 3) := dk_181 0 56 (dk_at dksX0_init_2 20 rfl rfl)
theorem dX0_init_69 : decode cX0_init 69 = .ok (.aload_n 0, 1) := dk_42 (dk_at dksX0_init_2 23 rfl rfl)
theorem dX0_init_70 : decode cX0_init 70 = .ok (.iconst 4, 1) := dk_7 (dk_at dksX0_init_3 0 rfl rfl)
theorem dX0_init_71 : decode cX0_init 71 = .ok (.newarray .int, 2) := dk_188_10 (dk_at dksX0_init_3 1 rfl rfl)
theorem dX0_init_73 : decode cX0_init 73 = .ok (.putfield 60, 3) := dk_181 0 60 (dk_at dksX0_init_3 3 rfl rfl)
theorem dX0_init_76 : decode cX0_init 76 = .ok (.aload_n 0, 1) := dk_42 (dk_at dksX0_init_3 6 rfl rfl)
theorem dX0_init_77 : decode cX0_init 77 = .ok (.bipush 9, 2) := dk_16 9 (dk_at dksX0_init_3 7 rfl rfl)
theorem dX0_init_79 : decode cX0_init 79 = .ok (.newarray .long, 2) := dk_188_11 (dk_at dksX0_init_3 9 rfl rfl)
theorem dX0_init_81 : decode cX0_init 81 = .ok (.putfield 63, 3) := dk_181 0 63 (dk_at dksX0_init_3 11 rfl rfl)
theorem dX0_init_84 : decode cX0_init 84 = .ok (.aload_n 0, 1) := dk_42 (dk_at dksX0_init_3 14 rfl rfl)
theorem dX0_init_85 : decode cX0_init 85 = .ok (.bipush 20, 2) := dk_16 20 (dk_at dksX0_init_3 15 rfl rfl)
theorem dX0_init_87 : decode cX0_init 87 = .ok (.newarray .int, 2) := dk_188_10 (dk_at dksX0_init_3 17 rfl rfl)
theorem dX0_init_89 : decode cX0_init 89 = .ok (.putfield 67, 3) := dk_181 0 67 (dk_at dksX0_init_3 19 rfl rfl)
theorem dX0_init_92 : decode cX0_init 92 = .ok (.return_, 1) := dk_177 (dk_at dksX0_init_3 22 rfl rfl)
abbrev cX0_feed : ByteArray := prog_1_method_7_code
def yX0_feed : MethodName := ⟨RX0, "feed", "(IIIII)I"⟩
def dkwX0_feed_4 : List UInt8 := [16, 20, 96, 181, 0, 70, 42, 180, 0, 70, 172]
abbrev dktX0_feed_4 : List UInt8 := dkwX0_feed_4 ++ []
def dkwX0_feed_3 : List UInt8 := [16, 24, 16, 8, 21, 7, 7, 112, 104, 100, 122, 145, 84, 132, 7, 1, 167, 255, 215, 42, 89, 180, 0, 70]
abbrev dktX0_feed_3 : List UInt8 := dkwX0_feed_3 ++ dktX0_feed_4
def dkwX0_feed_2 : List UInt8 := [16, 20, 162, 0, 40, 42, 180, 0, 36, 42, 180, 0, 70, 21, 7, 96, 25, 6, 21, 7, 7, 108, 46]
abbrev dktX0_feed_2 : List UInt8 := dkwX0_feed_2 ++ dktX0_feed_3
def dkwX0_feed_1 : List UInt8 := [28, 79, 89, 5, 29, 79, 89, 6, 21, 4, 79, 89, 7, 21, 5, 79, 58, 6, 3, 54, 7, 21, 7]
abbrev dktX0_feed_1 : List UInt8 := dkwX0_feed_1 ++ dktX0_feed_2
def dkwX0_feed_0 : List UInt8 := [42, 180, 0, 70, 16, 20, 96, 17, 2, 188, 164, 0, 5, 2, 172, 8, 188, 10, 89, 3, 27, 79, 89, 4]
abbrev dktX0_feed_0 : List UInt8 := dkwX0_feed_0 ++ dktX0_feed_1
theorem dksX0_feed_0 : cX0_feed.data.toList.drop 0 = dktX0_feed_0 := by decide +kernel
theorem dksX0_feed_1 : cX0_feed.data.toList.drop 24 = dktX0_feed_1 := dk_seg dksX0_feed_0 24 rfl rfl
theorem dksX0_feed_2 : cX0_feed.data.toList.drop 47 = dktX0_feed_2 := dk_seg dksX0_feed_1 23 rfl rfl
theorem dksX0_feed_3 : cX0_feed.data.toList.drop 70 = dktX0_feed_3 := dk_seg dksX0_feed_2 23 rfl rfl
theorem dksX0_feed_4 : cX0_feed.data.toList.drop 94 = dktX0_feed_4 := dk_seg dksX0_feed_3 24 rfl rfl
theorem dX0_feed_0 : decode cX0_feed 0 = .ok (.aload_n 0, 1) := dk_42 (dk_at dksX0_feed_0 0 rfl rfl)
theorem dX0_feed_1 : decode cX0_feed 1 = .ok (.getfield 70, 3) := dk_180 0 70 (dk_at dksX0_feed_0 1 rfl rfl)
theorem dX0_feed_4 : decode cX0_feed 4 = .ok (.bipush 20, 2) := dk_16 20 (dk_at dksX0_feed_0 4 rfl rfl)
theorem dX0_feed_6 : decode cX0_feed 6 = .ok (.iadd, 1) := dk_96 (dk_at dksX0_feed_0 6 rfl rfl)
theorem dX0_feed_7 : decode cX0_feed 7 = .ok (.sipush 700, 3) := dk_17 2 188 (dk_at dksX0_feed_0 7 rfl rfl)
theorem dX0_feed_10 : decode cX0_feed 10 = .ok (.if_icmp .le 5, 3) := dk_164 0 5 (dk_at dksX0_feed_0 10 rfl rfl)
theorem dX0_feed_13 : decode cX0_feed 13 = .ok (.iconst (-1), 1) := dk_2 (dk_at dksX0_feed_0 13 rfl rfl)
theorem dX0_feed_14 : decode cX0_feed 14 = .ok (.ireturn, 1) := dk_172 (dk_at dksX0_feed_0 14 rfl rfl)
theorem dX0_feed_15 : decode cX0_feed 15 = .ok (.iconst 5, 1) := dk_8 (dk_at dksX0_feed_0 15 rfl rfl)
theorem dX0_feed_16 : decode cX0_feed 16 = .ok (.newarray .int, 2) := dk_188_10 (dk_at dksX0_feed_0 16 rfl rfl)
theorem dX0_feed_18 : decode cX0_feed 18 = .ok (.dup, 1) := dk_89 (dk_at dksX0_feed_0 18 rfl rfl)
theorem dX0_feed_19 : decode cX0_feed 19 = .ok (.iconst 0, 1) := dk_3 (dk_at dksX0_feed_0 19 rfl rfl)
theorem dX0_feed_20 : decode cX0_feed 20 = .ok (.iload_n 1, 1) := dk_27 (dk_at dksX0_feed_0 20 rfl rfl)
theorem dX0_feed_21 : decode cX0_feed 21 = .ok (.iastore, 1) := dk_79 (dk_at dksX0_feed_0 21 rfl rfl)
theorem dX0_feed_22 : decode cX0_feed 22 = .ok (.dup, 1) := dk_89 (dk_at dksX0_feed_0 22 rfl rfl)
theorem dX0_feed_23 : decode cX0_feed 23 = .ok (.iconst 1, 1) := dk_4 (dk_at dksX0_feed_0 23 rfl rfl)
theorem dX0_feed_24 : decode cX0_feed 24 = .ok (.iload_n 2, 1) := dk_28 (dk_at dksX0_feed_1 0 rfl rfl)
theorem dX0_feed_25 : decode cX0_feed 25 = .ok (.iastore, 1) := dk_79 (dk_at dksX0_feed_1 1 rfl rfl)
theorem dX0_feed_26 : decode cX0_feed 26 = .ok (.dup, 1) := dk_89 (dk_at dksX0_feed_1 2 rfl rfl)
theorem dX0_feed_27 : decode cX0_feed 27 = .ok (.iconst 2, 1) := dk_5 (dk_at dksX0_feed_1 3 rfl rfl)
theorem dX0_feed_28 : decode cX0_feed 28 = .ok (.iload_n 3, 1) := dk_29 (dk_at dksX0_feed_1 4 rfl rfl)
theorem dX0_feed_29 : decode cX0_feed 29 = .ok (.iastore, 1) := dk_79 (dk_at dksX0_feed_1 5 rfl rfl)
theorem dX0_feed_30 : decode cX0_feed 30 = .ok (.dup, 1) := dk_89 (dk_at dksX0_feed_1 6 rfl rfl)
theorem dX0_feed_31 : decode cX0_feed 31 = .ok (.iconst 3, 1) := dk_6 (dk_at dksX0_feed_1 7 rfl rfl)
theorem dX0_feed_32 : decode cX0_feed 32 = .ok (.iload 4, 2) := dk_21 4 (dk_at dksX0_feed_1 8 rfl rfl)
theorem dX0_feed_34 : decode cX0_feed 34 = .ok (.iastore, 1) := dk_79 (dk_at dksX0_feed_1 10 rfl rfl)
theorem dX0_feed_35 : decode cX0_feed 35 = .ok (.dup, 1) := dk_89 (dk_at dksX0_feed_1 11 rfl rfl)
theorem dX0_feed_36 : decode cX0_feed 36 = .ok (.iconst 4, 1) := dk_7 (dk_at dksX0_feed_1 12 rfl rfl)
theorem dX0_feed_37 : decode cX0_feed 37 = .ok (.iload 5, 2) := dk_21 5 (dk_at dksX0_feed_1 13 rfl rfl)
theorem dX0_feed_39 : decode cX0_feed 39 = .ok (.iastore, 1) := dk_79 (dk_at dksX0_feed_1 15 rfl rfl)
theorem dX0_feed_40 : decode cX0_feed 40 = .ok (.astore 6, 2) := dk_58 6 (dk_at dksX0_feed_1 16 rfl rfl)
theorem dX0_feed_42 : decode cX0_feed 42 = .ok (.iconst 0, 1) := dk_3 (dk_at dksX0_feed_1 18 rfl rfl)
theorem dX0_feed_43 : decode cX0_feed 43 = .ok (.istore 7, 2) := dk_54 7 (dk_at dksX0_feed_1 19 rfl rfl)
theorem dX0_feed_45 : decode cX0_feed 45 = .ok (.iload 7, 2) := dk_21 7 (dk_at dksX0_feed_1 21 rfl rfl)
theorem dX0_feed_47 : decode cX0_feed 47 = .ok (.bipush 20, 2) := dk_16 20 (dk_at dksX0_feed_2 0 rfl rfl)
theorem dX0_feed_49 : decode cX0_feed 49 = .ok (.if_icmp .ge 40, 3) := dk_162 0 40 (dk_at dksX0_feed_2 2 rfl rfl)
theorem dX0_feed_52 : decode cX0_feed 52 = .ok (.aload_n 0, 1) := dk_42 (dk_at dksX0_feed_2 5 rfl rfl)
theorem dX0_feed_53 : decode cX0_feed 53 = .ok (.getfield 36, 3) := dk_180 0 36 (dk_at dksX0_feed_2 6 rfl rfl)
theorem dX0_feed_56 : decode cX0_feed 56 = .ok (.aload_n 0, 1) := dk_42 (dk_at dksX0_feed_2 9 rfl rfl)
theorem dX0_feed_57 : decode cX0_feed 57 = .ok (.getfield 70, 3) := dk_180 0 70 (dk_at dksX0_feed_2 10 rfl rfl)
theorem dX0_feed_60 : decode cX0_feed 60 = .ok (.iload 7, 2) := dk_21 7 (dk_at dksX0_feed_2 13 rfl rfl)
theorem dX0_feed_62 : decode cX0_feed 62 = .ok (.iadd, 1) := dk_96 (dk_at dksX0_feed_2 15 rfl rfl)
theorem dX0_feed_63 : decode cX0_feed 63 = .ok (.aload 6, 2) := dk_25 6 (dk_at dksX0_feed_2 16 rfl rfl)
theorem dX0_feed_65 : decode cX0_feed 65 = .ok (.iload 7, 2) := dk_21 7 (dk_at dksX0_feed_2 18 rfl rfl)
theorem dX0_feed_67 : decode cX0_feed 67 = .ok (.iconst 4, 1) := dk_7 (dk_at dksX0_feed_2 20 rfl rfl)
theorem dX0_feed_68 : decode cX0_feed 68 = .ok (.idiv, 1) := dk_108 (dk_at dksX0_feed_2 21 rfl rfl)
theorem dX0_feed_69 : decode cX0_feed 69 = .ok (.iaload, 1) := dk_46 (dk_at dksX0_feed_2 22 rfl rfl)
theorem dX0_feed_70 : decode cX0_feed 70 = .ok (.bipush 24, 2) := dk_16 24 (dk_at dksX0_feed_3 0 rfl rfl)
theorem dX0_feed_72 : decode cX0_feed 72 = .ok (.bipush 8, 2) := dk_16 8 (dk_at dksX0_feed_3 2 rfl rfl)
theorem dX0_feed_74 : decode cX0_feed 74 = .ok (.iload 7, 2) := dk_21 7 (dk_at dksX0_feed_3 4 rfl rfl)
theorem dX0_feed_76 : decode cX0_feed 76 = .ok (.iconst 4, 1) := dk_7 (dk_at dksX0_feed_3 6 rfl rfl)
theorem dX0_feed_77 : decode cX0_feed 77 = .ok (.irem, 1) := dk_112 (dk_at dksX0_feed_3 7 rfl rfl)
theorem dX0_feed_78 : decode cX0_feed 78 = .ok (.imul, 1) := dk_104 (dk_at dksX0_feed_3 8 rfl rfl)
theorem dX0_feed_79 : decode cX0_feed 79 = .ok (.isub, 1) := dk_100 (dk_at dksX0_feed_3 9 rfl rfl)
theorem dX0_feed_80 : decode cX0_feed 80 = .ok (.ishr, 1) := dk_122 (dk_at dksX0_feed_3 10 rfl rfl)
theorem dX0_feed_81 : decode cX0_feed 81 = .ok (.i2b, 1) := dk_145 (dk_at dksX0_feed_3 11 rfl rfl)
theorem dX0_feed_82 : decode cX0_feed 82 = .ok (.bastore, 1) := dk_84 (dk_at dksX0_feed_3 12 rfl rfl)
theorem dX0_feed_83 : decode cX0_feed 83 = .ok (.iinc 7 1, 3) := dk_132 7 1 (dk_at dksX0_feed_3 13 rfl rfl)
theorem dX0_feed_86 : decode cX0_feed 86 = .ok (.goto (-41), 3) := dk_167 255 215 (dk_at dksX0_feed_3 16 rfl rfl)
theorem dX0_feed_89 : decode cX0_feed 89 = .ok (.aload_n 0, 1) := dk_42 (dk_at dksX0_feed_3 19 rfl rfl)
theorem dX0_feed_90 : decode cX0_feed 90 = .ok (.dup, 1) := dk_89 (dk_at dksX0_feed_3 20 rfl rfl)
theorem dX0_feed_91 : decode cX0_feed 91 = .ok (.getfield 70, 3) := dk_180 0 70 (dk_at dksX0_feed_3 21 rfl rfl)
theorem dX0_feed_94 : decode cX0_feed 94 = .ok (.bipush 20, 2) := dk_16 20 (dk_at dksX0_feed_4 0 rfl rfl)
theorem dX0_feed_96 : decode cX0_feed 96 = .ok (.iadd, 1) := dk_96 (dk_at dksX0_feed_4 2 rfl rfl)
theorem dX0_feed_97 : decode cX0_feed 97 = .ok (.putfield 70, 3) := dk_181 0 70 (dk_at dksX0_feed_4 3 rfl rfl)
theorem dX0_feed_100 : decode cX0_feed 100 = .ok (.aload_n 0, 1) := dk_42 (dk_at dksX0_feed_4 6 rfl rfl)
theorem dX0_feed_101 : decode cX0_feed 101 = .ok (.getfield 70, 3) := dk_180 0 70 (dk_at dksX0_feed_4 7 rfl rfl)
theorem dX0_feed_104 : decode cX0_feed 104 = .ok (.ireturn, 1) := dk_172 (dk_at dksX0_feed_4 10 rfl rfl)
abbrev cX0_end : ByteArray := prog_1_method_8_code
def yX0_end : MethodName := ⟨RX0, "end", "(I)I"⟩
def dkwX0_end_0 : List UInt8 := [27, 133, 9, 42, 180, 0, 70, 133, 184, 0, 73, 154, 0, 5, 2, 172, 42, 27, 181, 0, 70, 27, 172]
abbrev dktX0_end_0 : List UInt8 := dkwX0_end_0 ++ []
theorem dksX0_end_0 : cX0_end.data.toList.drop 0 = dktX0_end_0 := by decide +kernel
theorem dX0_end_0 : decode cX0_end 0 = .ok (.iload_n 1, 1) := dk_27 (dk_at dksX0_end_0 0 rfl rfl)
theorem dX0_end_1 : decode cX0_end 1 = .ok (.i2l, 1) := dk_133 (dk_at dksX0_end_0 1 rfl rfl)
theorem dX0_end_2 : decode cX0_end 2 = .ok (.lconst 0, 1) := dk_9 (dk_at dksX0_end_0 2 rfl rfl)
theorem dX0_end_3 : decode cX0_end 3 = .ok (.aload_n 0, 1) := dk_42 (dk_at dksX0_end_0 3 rfl rfl)
theorem dX0_end_4 : decode cX0_end 4 = .ok (.getfield 70, 3) := dk_180 0 70 (dk_at dksX0_end_0 4 rfl rfl)
theorem dX0_end_7 : decode cX0_end 7 = .ok (.i2l, 1) := dk_133 (dk_at dksX0_end_0 7 rfl rfl)
theorem dX0_end_8 : decode cX0_end 8 = .ok (.invokestatic 73, 3) := dk_184 0 73 (dk_at dksX0_end_0 8 rfl rfl)
theorem dX0_end_11 : decode cX0_end 11 = .ok (.ifCond .ne 5, 3) := dk_154 0 5 (dk_at dksX0_end_0 11 rfl rfl)
theorem dX0_end_14 : decode cX0_end 14 = .ok (.iconst (-1), 1) := dk_2 (dk_at dksX0_end_0 14 rfl rfl)
theorem dX0_end_15 : decode cX0_end 15 = .ok (.ireturn, 1) := dk_172 (dk_at dksX0_end_0 15 rfl rfl)
theorem dX0_end_16 : decode cX0_end 16 = .ok (.aload_n 0, 1) := dk_42 (dk_at dksX0_end_0 16 rfl rfl)
theorem dX0_end_17 : decode cX0_end 17 = .ok (.iload_n 1, 1) := dk_27 (dk_at dksX0_end_0 17 rfl rfl)
theorem dX0_end_18 : decode cX0_end 18 = .ok (.putfield 70, 3) := dk_181 0 70 (dk_at dksX0_end_0 18 rfl rfl)
theorem dX0_end_21 : decode cX0_end 21 = .ok (.iload_n 1, 1) := dk_27 (dk_at dksX0_end_0 21 rfl rfl)
theorem dX0_end_22 : decode cX0_end 22 = .ok (.ireturn, 1) := dk_172 (dk_at dksX0_end_0 22 rfl rfl)
abbrev cX0_in : ByteArray := prog_1_method_1_code
def yX0_in : MethodName := ⟨RX0, "in", "(JJJ)Z"⟩
def dkwX0_in_0 : List UInt8 := [30, 32, 148, 155, 0, 14, 30, 22, 4, 148, 157, 0, 7, 4, 167, 0, 4, 3, 172]
abbrev dktX0_in_0 : List UInt8 := dkwX0_in_0 ++ []
theorem dksX0_in_0 : cX0_in.data.toList.drop 0 = dktX0_in_0 := by decide +kernel
theorem dX0_in_0 : decode cX0_in 0 = .ok (.lload_n 0, 1) := dk_30 (dk_at dksX0_in_0 0 rfl rfl)
theorem dX0_in_1 : decode cX0_in 1 = .ok (.lload_n 2, 1) := dk_32 (dk_at dksX0_in_0 1 rfl rfl)
theorem dX0_in_2 : decode cX0_in 2 = .ok (.lcmp, 1) := dk_148 (dk_at dksX0_in_0 2 rfl rfl)
theorem dX0_in_3 : decode cX0_in 3 = .ok (.ifCond .lt 14, 3) := dk_155 0 14 (dk_at dksX0_in_0 3 rfl rfl)
theorem dX0_in_6 : decode cX0_in 6 = .ok (.lload_n 0, 1) := dk_30 (dk_at dksX0_in_0 6 rfl rfl)
theorem dX0_in_7 : decode cX0_in 7 = .ok (.lload 4, 2) := dk_22 4 (dk_at dksX0_in_0 7 rfl rfl)
theorem dX0_in_9 : decode cX0_in 9 = .ok (.lcmp, 1) := dk_148 (dk_at dksX0_in_0 9 rfl rfl)
theorem dX0_in_10 : decode cX0_in 10 = .ok (.ifCond .gt 7, 3) := dk_157 0 7 (dk_at dksX0_in_0 10 rfl rfl)
theorem dX0_in_13 : decode cX0_in 13 = .ok (.iconst 1, 1) := dk_4 (dk_at dksX0_in_0 13 rfl rfl)
theorem dX0_in_14 : decode cX0_in 14 = .ok (.goto 4, 3) := dk_167 0 4 (dk_at dksX0_in_0 14 rfl rfl)
theorem dX0_in_17 : decode cX0_in 17 = .ok (.iconst 0, 1) := dk_3 (dk_at dksX0_in_0 17 rfl rfl)
theorem dX0_in_18 : decode cX0_in 18 = .ok (.ireturn, 1) := dk_172 (dk_at dksX0_in_0 18 rfl rfl)
abbrev cX0_grid : ByteArray := prog_1_method_9_code
def yX0_grid : MethodName := ⟨RX0, "grid", "()I"⟩
def dkwX0_grid_3 : List UInt8 := [28, 172, 78, 42, 3, 181, 0, 70, 45, 191]
abbrev dktX0_grid_3 : List UInt8 := dkwX0_grid_3 ++ []
def dkwX0_grid_2 : List UInt8 := [42, 43, 180, 0, 94, 181, 0, 86, 42, 43, 180, 0, 97, 181, 0, 40, 16, 252, 61, 42, 3, 181, 0, 70]
abbrev dktX0_grid_2 : List UInt8 := dkwX0_grid_2 ++ dktX0_grid_3
def dkwX0_grid_1 : List UInt8 := [181, 0, 86, 42, 2, 181, 0, 40, 42, 180, 0, 28, 180, 0, 89, 60, 42, 3, 181, 0, 70, 27, 172, 76]
abbrev dktX0_grid_1 : List UInt8 := dkwX0_grid_1 ++ dktX0_grid_2
def dkwX0_grid_0 : List UInt8 := [42, 187, 0, 77, 89, 42, 180, 0, 36, 42, 180, 0, 70, 183, 0, 79, 182, 0, 82, 181, 0, 28, 42, 3]
abbrev dktX0_grid_0 : List UInt8 := dkwX0_grid_0 ++ dktX0_grid_1
theorem dksX0_grid_0 : cX0_grid.data.toList.drop 0 = dktX0_grid_0 := by decide +kernel
theorem dksX0_grid_1 : cX0_grid.data.toList.drop 24 = dktX0_grid_1 := dk_seg dksX0_grid_0 24 rfl rfl
theorem dksX0_grid_2 : cX0_grid.data.toList.drop 48 = dktX0_grid_2 := dk_seg dksX0_grid_1 24 rfl rfl
theorem dksX0_grid_3 : cX0_grid.data.toList.drop 72 = dktX0_grid_3 := dk_seg dksX0_grid_2 24 rfl rfl
theorem dX0_grid_0 : decode cX0_grid 0 = .ok (.aload_n 0, 1) := dk_42 (dk_at dksX0_grid_0 0 rfl rfl)
theorem dX0_grid_1 : decode cX0_grid 1 = .ok (.new 77, 3) := dk_187 0 77 (dk_at dksX0_grid_0 1 rfl rfl)
theorem dX0_grid_4 : decode cX0_grid 4 = .ok (.dup, 1) := dk_89 (dk_at dksX0_grid_0 4 rfl rfl)
theorem dX0_grid_5 : decode cX0_grid 5 = .ok (.aload_n 0, 1) := dk_42 (dk_at dksX0_grid_0 5 rfl rfl)
theorem dX0_grid_6 : decode cX0_grid 6 = .ok (.getfield 36, 3) := dk_180 0 36 (dk_at dksX0_grid_0 6 rfl rfl)
theorem dX0_grid_9 : decode cX0_grid 9 = .ok (.aload_n 0, 1) := dk_42 (dk_at dksX0_grid_0 9 rfl rfl)
theorem dX0_grid_10 : decode cX0_grid 10 = .ok (.getfield 70, 3) := dk_180 0 70 (dk_at dksX0_grid_0 10 rfl rfl)
theorem dX0_grid_13 : decode cX0_grid 13 = .ok (.invokespecial 79, 3) := dk_183 0 79 (dk_at dksX0_grid_0 13 rfl rfl)
theorem dX0_grid_16 : decode cX0_grid 16 = .ok (.invokevirtual 82, 3) := dk_182 0 82 (dk_at dksX0_grid_0 16 rfl rfl)
theorem dX0_grid_19 : decode cX0_grid 19 = .ok (.putfield 28, 3) := dk_181 0 28 (dk_at dksX0_grid_0 19 rfl rfl)
theorem dX0_grid_22 : decode cX0_grid 22 = .ok (.aload_n 0, 1) := dk_42 (dk_at dksX0_grid_0 22 rfl rfl)
theorem dX0_grid_23 : decode cX0_grid 23 = .ok (.iconst 0, 1) := dk_3 (dk_at dksX0_grid_0 23 rfl rfl)
theorem dX0_grid_24 : decode cX0_grid 24 = .ok (.putfield 86, 3) := dk_181 0 86 (dk_at dksX0_grid_1 0 rfl rfl)
theorem dX0_grid_27 : decode cX0_grid 27 = .ok (.aload_n 0, 1) := dk_42 (dk_at dksX0_grid_1 3 rfl rfl)
theorem dX0_grid_28 : decode cX0_grid 28 = .ok (.iconst (-1), 1) := dk_2 (dk_at dksX0_grid_1 4 rfl rfl)
theorem dX0_grid_29 : decode cX0_grid 29 = .ok (.putfield 40, 3) := dk_181 0 40 (dk_at dksX0_grid_1 5 rfl rfl)
theorem dX0_grid_32 : decode cX0_grid 32 = .ok (.aload_n 0, 1) := dk_42 (dk_at dksX0_grid_1 8 rfl rfl)
theorem dX0_grid_33 : decode cX0_grid 33 = .ok (.getfield 28, 3) := dk_180 0 28 (dk_at dksX0_grid_1 9 rfl rfl)
theorem dX0_grid_36 : decode cX0_grid 36 = .ok (.getfield 89, 3) := dk_180 0 89 (dk_at dksX0_grid_1 12 rfl rfl)
theorem dX0_grid_39 : decode cX0_grid 39 = .ok (.istore_n 1, 1) := dk_60 (dk_at dksX0_grid_1 15 rfl rfl)
theorem dX0_grid_40 : decode cX0_grid 40 = .ok (.aload_n 0, 1) := dk_42 (dk_at dksX0_grid_1 16 rfl rfl)
theorem dX0_grid_41 : decode cX0_grid 41 = .ok (.iconst 0, 1) := dk_3 (dk_at dksX0_grid_1 17 rfl rfl)
theorem dX0_grid_42 : decode cX0_grid 42 = .ok (.putfield 70, 3) := dk_181 0 70 (dk_at dksX0_grid_1 18 rfl rfl)
theorem dX0_grid_45 : decode cX0_grid 45 = .ok (.iload_n 1, 1) := dk_27 (dk_at dksX0_grid_1 21 rfl rfl)
theorem dX0_grid_46 : decode cX0_grid 46 = .ok (.ireturn, 1) := dk_172 (dk_at dksX0_grid_1 22 rfl rfl)
theorem dX0_grid_47 : decode cX0_grid 47 = .ok (.astore_n 1, 1) := dk_76 (dk_at dksX0_grid_1 23 rfl rfl)
theorem dX0_grid_48 : decode cX0_grid 48 = .ok (.aload_n 0, 1) := dk_42 (dk_at dksX0_grid_2 0 rfl rfl)
theorem dX0_grid_49 : decode cX0_grid 49 = .ok (.aload_n 1, 1) := dk_43 (dk_at dksX0_grid_2 1 rfl rfl)
theorem dX0_grid_50 : decode cX0_grid 50 = .ok (.getfield 94, 3) := dk_180 0 94 (dk_at dksX0_grid_2 2 rfl rfl)
theorem dX0_grid_53 : decode cX0_grid 53 = .ok (.putfield 86, 3) := dk_181 0 86 (dk_at dksX0_grid_2 5 rfl rfl)
theorem dX0_grid_56 : decode cX0_grid 56 = .ok (.aload_n 0, 1) := dk_42 (dk_at dksX0_grid_2 8 rfl rfl)
theorem dX0_grid_57 : decode cX0_grid 57 = .ok (.aload_n 1, 1) := dk_43 (dk_at dksX0_grid_2 9 rfl rfl)
theorem dX0_grid_58 : decode cX0_grid 58 = .ok (.getfield 97, 3) := dk_180 0 97 (dk_at dksX0_grid_2 10 rfl rfl)
theorem dX0_grid_61 : decode cX0_grid 61 = .ok (.putfield 40, 3) := dk_181 0 40 (dk_at dksX0_grid_2 13 rfl rfl)
theorem dX0_grid_64 : decode cX0_grid 64 = .ok (.bipush (-4), 2) := dk_16 252 (dk_at dksX0_grid_2 16 rfl rfl)
theorem dX0_grid_66 : decode cX0_grid 66 = .ok (.istore_n 2, 1) := dk_61 (dk_at dksX0_grid_2 18 rfl rfl)
theorem dX0_grid_67 : decode cX0_grid 67 = .ok (.aload_n 0, 1) := dk_42 (dk_at dksX0_grid_2 19 rfl rfl)
theorem dX0_grid_68 : decode cX0_grid 68 = .ok (.iconst 0, 1) := dk_3 (dk_at dksX0_grid_2 20 rfl rfl)
theorem dX0_grid_69 : decode cX0_grid 69 = .ok (.putfield 70, 3) := dk_181 0 70 (dk_at dksX0_grid_2 21 rfl rfl)
theorem dX0_grid_72 : decode cX0_grid 72 = .ok (.iload_n 2, 1) := dk_28 (dk_at dksX0_grid_3 0 rfl rfl)
theorem dX0_grid_73 : decode cX0_grid 73 = .ok (.ireturn, 1) := dk_172 (dk_at dksX0_grid_3 1 rfl rfl)
theorem dX0_grid_74 : decode cX0_grid 74 = .ok (.astore_n 3, 1) := dk_78 (dk_at dksX0_grid_3 2 rfl rfl)
theorem dX0_grid_75 : decode cX0_grid 75 = .ok (.aload_n 0, 1) := dk_42 (dk_at dksX0_grid_3 3 rfl rfl)
theorem dX0_grid_76 : decode cX0_grid 76 = .ok (.iconst 0, 1) := dk_3 (dk_at dksX0_grid_3 4 rfl rfl)
theorem dX0_grid_77 : decode cX0_grid 77 = .ok (.putfield 70, 3) := dk_181 0 70 (dk_at dksX0_grid_3 5 rfl rfl)
theorem dX0_grid_80 : decode cX0_grid 80 = .ok (.aload_n 3, 1) := dk_45 (dk_at dksX0_grid_3 8 rfl rfl)
theorem dX0_grid_81 : decode cX0_grid 81 = .ok (.athrow, 1) := dk_191 (dk_at dksX0_grid_3 9 rfl rfl)
abbrev cX0_isOn : ByteArray := prog_1_method_2_code
def yX0_isOn : MethodName := ⟨RX0, "isOn", "(II)Z"⟩
def dkwX0_isOn_0 : List UInt8 := [26, 27, 122, 4, 126, 4, 160, 0, 7, 4, 167, 0, 4, 3, 172]
abbrev dktX0_isOn_0 : List UInt8 := dkwX0_isOn_0 ++ []
theorem dksX0_isOn_0 : cX0_isOn.data.toList.drop 0 = dktX0_isOn_0 := by decide +kernel
theorem dX0_isOn_0 : decode cX0_isOn 0 = .ok (.iload_n 0, 1) := dk_26 (dk_at dksX0_isOn_0 0 rfl rfl)
theorem dX0_isOn_1 : decode cX0_isOn 1 = .ok (.iload_n 1, 1) := dk_27 (dk_at dksX0_isOn_0 1 rfl rfl)
theorem dX0_isOn_2 : decode cX0_isOn 2 = .ok (.ishr, 1) := dk_122 (dk_at dksX0_isOn_0 2 rfl rfl)
theorem dX0_isOn_3 : decode cX0_isOn 3 = .ok (.iconst 1, 1) := dk_4 (dk_at dksX0_isOn_0 3 rfl rfl)
theorem dX0_isOn_4 : decode cX0_isOn 4 = .ok (.iand, 1) := dk_126 (dk_at dksX0_isOn_0 4 rfl rfl)
theorem dX0_isOn_5 : decode cX0_isOn 5 = .ok (.iconst 1, 1) := dk_4 (dk_at dksX0_isOn_0 5 rfl rfl)
theorem dX0_isOn_6 : decode cX0_isOn 6 = .ok (.if_icmp .ne 7, 3) := dk_160 0 7 (dk_at dksX0_isOn_0 6 rfl rfl)
theorem dX0_isOn_9 : decode cX0_isOn 9 = .ok (.iconst 1, 1) := dk_4 (dk_at dksX0_isOn_0 9 rfl rfl)
theorem dX0_isOn_10 : decode cX0_isOn 10 = .ok (.goto 4, 3) := dk_167 0 4 (dk_at dksX0_isOn_0 10 rfl rfl)
theorem dX0_isOn_13 : decode cX0_isOn 13 = .ok (.iconst 0, 1) := dk_3 (dk_at dksX0_isOn_0 13 rfl rfl)
theorem dX0_isOn_14 : decode cX0_isOn 14 = .ok (.ireturn, 1) := dk_172 (dk_at dksX0_isOn_0 14 rfl rfl)
abbrev cX0_fault : ByteArray := prog_1_method_10_code
def yX0_fault : MethodName := ⟨RX0, "fault", "(I)I"⟩
def dkwX0_fault_1 : List UInt8 := [172]
abbrev dktX0_fault_1 : List UInt8 := dkwX0_fault_1 ++ []
def dkwX0_fault_0 : List UInt8 := [27, 154, 0, 10, 42, 180, 0, 86, 167, 0, 16, 27, 4, 160, 0, 10, 42, 180, 0, 40, 167, 0, 4, 2]
abbrev dktX0_fault_0 : List UInt8 := dkwX0_fault_0 ++ dktX0_fault_1
theorem dksX0_fault_0 : cX0_fault.data.toList.drop 0 = dktX0_fault_0 := by decide +kernel
theorem dksX0_fault_1 : cX0_fault.data.toList.drop 24 = dktX0_fault_1 := dk_seg dksX0_fault_0 24 rfl rfl
theorem dX0_fault_0 : decode cX0_fault 0 = .ok (.iload_n 1, 1) := dk_27 (dk_at dksX0_fault_0 0 rfl rfl)
theorem dX0_fault_1 : decode cX0_fault 1 = .ok (.ifCond .ne 10, 3) := dk_154 0 10 (dk_at dksX0_fault_0 1 rfl rfl)
theorem dX0_fault_4 : decode cX0_fault 4 = .ok (.aload_n 0, 1) := dk_42 (dk_at dksX0_fault_0 4 rfl rfl)
theorem dX0_fault_5 : decode cX0_fault 5 = .ok (.getfield 86, 3) := dk_180 0 86 (dk_at dksX0_fault_0 5 rfl rfl)
theorem dX0_fault_8 : decode cX0_fault 8 = .ok (.goto 16, 3) := dk_167 0 16 (dk_at dksX0_fault_0 8 rfl rfl)
theorem dX0_fault_11 : decode cX0_fault 11 = .ok (.iload_n 1, 1) := dk_27 (dk_at dksX0_fault_0 11 rfl rfl)
theorem dX0_fault_12 : decode cX0_fault 12 = .ok (.iconst 1, 1) := dk_4 (dk_at dksX0_fault_0 12 rfl rfl)
theorem dX0_fault_13 : decode cX0_fault 13 = .ok (.if_icmp .ne 10, 3) := dk_160 0 10 (dk_at dksX0_fault_0 13 rfl rfl)
theorem dX0_fault_16 : decode cX0_fault 16 = .ok (.aload_n 0, 1) := dk_42 (dk_at dksX0_fault_0 16 rfl rfl)
theorem dX0_fault_17 : decode cX0_fault 17 = .ok (.getfield 40, 3) := dk_180 0 40 (dk_at dksX0_fault_0 17 rfl rfl)
theorem dX0_fault_20 : decode cX0_fault 20 = .ok (.goto 4, 3) := dk_167 0 4 (dk_at dksX0_fault_0 20 rfl rfl)
theorem dX0_fault_23 : decode cX0_fault 23 = .ok (.iconst (-1), 1) := dk_2 (dk_at dksX0_fault_0 23 rfl rfl)
theorem dX0_fault_24 : decode cX0_fault 24 = .ok (.ireturn, 1) := dk_172 (dk_at dksX0_fault_1 0 rfl rfl)
abbrev cX0_count : ByteArray := prog_1_method_18_code
def yX0_count : MethodName := ⟨RX0, "count", "(I)I"⟩
def dkwX0_count_6 : List UInt8 := [172]
abbrev dktX0_count_6 : List UInt8 := dkwX0_count_6 ++ []
def dkwX0_count_5 : List UInt8 := [172, 42, 180, 0, 28, 182, 0, 158, 153, 0, 13, 42, 182, 0, 161, 182, 0, 164, 167, 0, 4, 3, 172, 2]
abbrev dktX0_count_5 : List UInt8 := dkwX0_count_5 ++ dktX0_count_6
def dkwX0_count_4 : List UInt8 := [182, 0, 150, 172, 42, 180, 0, 28, 180, 0, 89, 172, 42, 180, 0, 70, 172, 42, 180, 0, 28, 180, 0, 155]
abbrev dktX0_count_4 : List UInt8 := dkwX0_count_4 ++ dktX0_count_5
def dkwX0_count_3 : List UInt8 := [42, 180, 0, 28, 180, 0, 143, 172, 42, 180, 0, 28, 180, 0, 104, 172, 42, 180, 0, 28, 180, 0, 146]
abbrev dktX0_count_3 : List UInt8 := dkwX0_count_3 ++ dktX0_count_4
def dkwX0_count_2 : List UInt8 := [42, 180, 0, 28, 180, 0, 134, 172, 42, 180, 0, 28, 180, 0, 137, 172, 42, 180, 0, 28, 180, 0, 140, 172]
abbrev dktX0_count_2 : List UInt8 := dkwX0_count_2 ++ dktX0_count_3
def dkwX0_count_1 : List UInt8 := [170, 0, 0, 0, 0, 0, 149, 0, 0, 0, 0, 0, 0, 0, 9, 0, 0, 0, 55, 0, 0, 0, 63, 0, 0, 0, 71, 0, 0, 0, 79, 0, 0, 0, 87, 0, 0, 0, 95, 0, 0, 0, 106, 0, 0, 0, 114, 0, 0, 0, 119, 0, 0, 0, 127]
abbrev dktX0_count_1 : List UInt8 := dkwX0_count_1 ++ dktX0_count_2
def dkwX0_count_0 : List UInt8 := [27]
abbrev dktX0_count_0 : List UInt8 := dkwX0_count_0 ++ dktX0_count_1
theorem dksX0_count_0 : cX0_count.data.toList.drop 0 = dktX0_count_0 := by decide +kernel
theorem dksX0_count_1 : cX0_count.data.toList.drop 1 = dktX0_count_1 := dk_seg dksX0_count_0 1 rfl rfl
theorem dksX0_count_2 : cX0_count.data.toList.drop 56 = dktX0_count_2 := dk_seg dksX0_count_1 55 rfl rfl
theorem dksX0_count_3 : cX0_count.data.toList.drop 80 = dktX0_count_3 := dk_seg dksX0_count_2 24 rfl rfl
theorem dksX0_count_4 : cX0_count.data.toList.drop 103 = dktX0_count_4 := dk_seg dksX0_count_3 23 rfl rfl
theorem dksX0_count_5 : cX0_count.data.toList.drop 127 = dktX0_count_5 := dk_seg dksX0_count_4 24 rfl rfl
theorem dksX0_count_6 : cX0_count.data.toList.drop 151 = dktX0_count_6 := dk_seg dksX0_count_5 24 rfl rfl
theorem dX0_count_0 : decode cX0_count 0 = .ok (.iload_n 1, 1) := dk_27 (dk_at dksX0_count_0 0 rfl rfl)
theorem dX0_count_1 : decode cX0_count 1 = .ok (.tableswitch 149 0 9 #[55, 63, 71, 79, 87, 95, 106, 114, 119, 127], 55) := by decide +kernel
theorem dX0_count_56 : decode cX0_count 56 = .ok (.aload_n 0, 1) := dk_42 (dk_at dksX0_count_2 0 rfl rfl)
theorem dX0_count_57 : decode cX0_count 57 = .ok (.getfield 28, 3) := dk_180 0 28 (dk_at dksX0_count_2 1 rfl rfl)
theorem dX0_count_60 : decode cX0_count 60 = .ok (.getfield 134, 3) := dk_180 0 134 (dk_at dksX0_count_2 4 rfl rfl)
theorem dX0_count_63 : decode cX0_count 63 = .ok (.ireturn, 1) := dk_172 (dk_at dksX0_count_2 7 rfl rfl)
theorem dX0_count_64 : decode cX0_count 64 = .ok (.aload_n 0, 1) := dk_42 (dk_at dksX0_count_2 8 rfl rfl)
theorem dX0_count_65 : decode cX0_count 65 = .ok (.getfield 28, 3) := dk_180 0 28 (dk_at dksX0_count_2 9 rfl rfl)
theorem dX0_count_68 : decode cX0_count 68 = .ok (.getfield 137, 3) := dk_180 0 137 (dk_at dksX0_count_2 12 rfl rfl)
theorem dX0_count_71 : decode cX0_count 71 = .ok (.ireturn, 1) := dk_172 (dk_at dksX0_count_2 15 rfl rfl)
theorem dX0_count_72 : decode cX0_count 72 = .ok (.aload_n 0, 1) := dk_42 (dk_at dksX0_count_2 16 rfl rfl)
theorem dX0_count_73 : decode cX0_count 73 = .ok (.getfield 28, 3) := dk_180 0 28 (dk_at dksX0_count_2 17 rfl rfl)
theorem dX0_count_76 : decode cX0_count 76 = .ok (.getfield 140, 3) := dk_180 0 140 (dk_at dksX0_count_2 20 rfl rfl)
theorem dX0_count_79 : decode cX0_count 79 = .ok (.ireturn, 1) := dk_172 (dk_at dksX0_count_2 23 rfl rfl)
theorem dX0_count_80 : decode cX0_count 80 = .ok (.aload_n 0, 1) := dk_42 (dk_at dksX0_count_3 0 rfl rfl)
theorem dX0_count_81 : decode cX0_count 81 = .ok (.getfield 28, 3) := dk_180 0 28 (dk_at dksX0_count_3 1 rfl rfl)
theorem dX0_count_84 : decode cX0_count 84 = .ok (.getfield 143, 3) := dk_180 0 143 (dk_at dksX0_count_3 4 rfl rfl)
theorem dX0_count_87 : decode cX0_count 87 = .ok (.ireturn, 1) := dk_172 (dk_at dksX0_count_3 7 rfl rfl)
theorem dX0_count_88 : decode cX0_count 88 = .ok (.aload_n 0, 1) := dk_42 (dk_at dksX0_count_3 8 rfl rfl)
theorem dX0_count_89 : decode cX0_count 89 = .ok (.getfield 28, 3) := dk_180 0 28 (dk_at dksX0_count_3 9 rfl rfl)
theorem dX0_count_92 : decode cX0_count 92 = .ok (.getfield 104, 3) := dk_180 0 104 (dk_at dksX0_count_3 12 rfl rfl)
theorem dX0_count_95 : decode cX0_count 95 = .ok (.ireturn, 1) := dk_172 (dk_at dksX0_count_3 15 rfl rfl)
theorem dX0_count_96 : decode cX0_count 96 = .ok (.aload_n 0, 1) := dk_42 (dk_at dksX0_count_3 16 rfl rfl)
theorem dX0_count_97 : decode cX0_count 97 = .ok (.getfield 28, 3) := dk_180 0 28 (dk_at dksX0_count_3 17 rfl rfl)
theorem dX0_count_100 : decode cX0_count 100 = .ok (.getfield 146, 3) := dk_180 0 146 (dk_at dksX0_count_3 20 rfl rfl)
theorem dX0_count_103 : decode cX0_count 103 = .ok (.invokevirtual 150, 3) := dk_182 0 150 (dk_at dksX0_count_4 0 rfl rfl)
theorem dX0_count_106 : decode cX0_count 106 = .ok (.ireturn, 1) := dk_172 (dk_at dksX0_count_4 3 rfl rfl)
theorem dX0_count_107 : decode cX0_count 107 = .ok (.aload_n 0, 1) := dk_42 (dk_at dksX0_count_4 4 rfl rfl)
theorem dX0_count_108 : decode cX0_count 108 = .ok (.getfield 28, 3) := dk_180 0 28 (dk_at dksX0_count_4 5 rfl rfl)
theorem dX0_count_111 : decode cX0_count 111 = .ok (.getfield 89, 3) := dk_180 0 89 (dk_at dksX0_count_4 8 rfl rfl)
theorem dX0_count_114 : decode cX0_count 114 = .ok (.ireturn, 1) := dk_172 (dk_at dksX0_count_4 11 rfl rfl)
theorem dX0_count_115 : decode cX0_count 115 = .ok (.aload_n 0, 1) := dk_42 (dk_at dksX0_count_4 12 rfl rfl)
theorem dX0_count_116 : decode cX0_count 116 = .ok (.getfield 70, 3) := dk_180 0 70 (dk_at dksX0_count_4 13 rfl rfl)
theorem dX0_count_119 : decode cX0_count 119 = .ok (.ireturn, 1) := dk_172 (dk_at dksX0_count_4 16 rfl rfl)
theorem dX0_count_120 : decode cX0_count 120 = .ok (.aload_n 0, 1) := dk_42 (dk_at dksX0_count_4 17 rfl rfl)
theorem dX0_count_121 : decode cX0_count 121 = .ok (.getfield 28, 3) := dk_180 0 28 (dk_at dksX0_count_4 18 rfl rfl)
theorem dX0_count_124 : decode cX0_count 124 = .ok (.getfield 155, 3) := dk_180 0 155 (dk_at dksX0_count_4 21 rfl rfl)
theorem dX0_count_127 : decode cX0_count 127 = .ok (.ireturn, 1) := dk_172 (dk_at dksX0_count_5 0 rfl rfl)
theorem dX0_count_128 : decode cX0_count 128 = .ok (.aload_n 0, 1) := dk_42 (dk_at dksX0_count_5 1 rfl rfl)
theorem dX0_count_129 : decode cX0_count 129 = .ok (.getfield 28, 3) := dk_180 0 28 (dk_at dksX0_count_5 2 rfl rfl)
theorem dX0_count_132 : decode cX0_count 132 = .ok (.invokevirtual 158, 3) := dk_182 0 158 (dk_at dksX0_count_5 5 rfl rfl)
theorem dX0_count_135 : decode cX0_count 135 = .ok (.ifCond .eq 13, 3) := dk_153 0 13 (dk_at dksX0_count_5 8 rfl rfl)
theorem dX0_count_138 : decode cX0_count 138 = .ok (.aload_n 0, 1) := dk_42 (dk_at dksX0_count_5 11 rfl rfl)
theorem dX0_count_139 : decode cX0_count 139 = .ok (.invokevirtual 161, 3) := dk_182 0 161 (dk_at dksX0_count_5 12 rfl rfl)
theorem dX0_count_142 : decode cX0_count 142 = .ok (.invokevirtual 164, 3) := dk_182 0 164 (dk_at dksX0_count_5 15 rfl rfl)
theorem dX0_count_145 : decode cX0_count 145 = .ok (.goto 4, 3) := dk_167 0 4 (dk_at dksX0_count_5 18 rfl rfl)
theorem dX0_count_148 : decode cX0_count 148 = .ok (.iconst 0, 1) := dk_3 (dk_at dksX0_count_5 21 rfl rfl)
theorem dX0_count_149 : decode cX0_count 149 = .ok (.ireturn, 1) := dk_172 (dk_at dksX0_count_5 22 rfl rfl)
theorem dX0_count_150 : decode cX0_count 150 = .ok (.iconst (-1), 1) := dk_2 (dk_at dksX0_count_5 23 rfl rfl)
theorem dX0_count_151 : decode cX0_count 151 = .ok (.ireturn, 1) := dk_172 (dk_at dksX0_count_6 0 rfl rfl)
abbrev cX0_solved : ByteArray := prog_1_method_14_code
def yX0_solved : MethodName := ⟨RX0, "solved", "()LSupplyGrid$Solved;"⟩
def dkwX0_solved_0 : List UInt8 := [42, 180, 0, 49, 182, 0, 107, 42, 180, 0, 49, 182, 0, 110, 176]
abbrev dktX0_solved_0 : List UInt8 := dkwX0_solved_0 ++ []
theorem dksX0_solved_0 : cX0_solved.data.toList.drop 0 = dktX0_solved_0 := by decide +kernel
theorem dX0_solved_0 : decode cX0_solved 0 = .ok (.aload_n 0, 1) := dk_42 (dk_at dksX0_solved_0 0 rfl rfl)
theorem dX0_solved_1 : decode cX0_solved 1 = .ok (.getfield 49, 3) := dk_180 0 49 (dk_at dksX0_solved_0 1 rfl rfl)
theorem dX0_solved_4 : decode cX0_solved 4 = .ok (.invokevirtual 107, 3) := dk_182 0 107 (dk_at dksX0_solved_0 4 rfl rfl)
theorem dX0_solved_7 : decode cX0_solved 7 = .ok (.aload_n 0, 1) := dk_42 (dk_at dksX0_solved_0 7 rfl rfl)
theorem dX0_solved_8 : decode cX0_solved 8 = .ok (.getfield 49, 3) := dk_180 0 49 (dk_at dksX0_solved_0 8 rfl rfl)
theorem dX0_solved_11 : decode cX0_solved 11 = .ok (.invokevirtual 110, 3) := dk_182 0 110 (dk_at dksX0_solved_0 11 rfl rfl)
theorem dX0_solved_14 : decode cX0_solved 14 = .ok (.areturn, 1) := dk_176 (dk_at dksX0_solved_0 14 rfl rfl)
abbrev cX0_strap : ByteArray := prog_1_method_19_code
def yX0_strap : MethodName := ⟨RX0, "strap", "(II)I"⟩
def dkwX0_strap_2 : List UInt8 := [160, 0, 15, 42, 180, 0, 28, 180, 0, 177, 27, 46, 167, 0, 4, 2, 172]
abbrev dktX0_strap_2 : List UInt8 := dkwX0_strap_2 ++ []
def dkwX0_strap_1 : List UInt8 := [167, 0, 38, 28, 4, 160, 0, 15, 42, 180, 0, 28, 180, 0, 174, 27, 46, 167, 0, 21, 28, 5]
abbrev dktX0_strap_1 : List UInt8 := dkwX0_strap_1 ++ dktX0_strap_2
def dkwX0_strap_0 : List UInt8 := [42, 27, 182, 0, 167, 154, 0, 5, 2, 172, 28, 154, 0, 15, 42, 180, 0, 28, 180, 0, 171, 27, 46]
abbrev dktX0_strap_0 : List UInt8 := dkwX0_strap_0 ++ dktX0_strap_1
theorem dksX0_strap_0 : cX0_strap.data.toList.drop 0 = dktX0_strap_0 := by decide +kernel
theorem dksX0_strap_1 : cX0_strap.data.toList.drop 23 = dktX0_strap_1 := dk_seg dksX0_strap_0 23 rfl rfl
theorem dksX0_strap_2 : cX0_strap.data.toList.drop 45 = dktX0_strap_2 := dk_seg dksX0_strap_1 22 rfl rfl
theorem dX0_strap_0 : decode cX0_strap 0 = .ok (.aload_n 0, 1) := dk_42 (dk_at dksX0_strap_0 0 rfl rfl)
theorem dX0_strap_1 : decode cX0_strap 1 = .ok (.iload_n 1, 1) := dk_27 (dk_at dksX0_strap_0 1 rfl rfl)
theorem dX0_strap_2 : decode cX0_strap 2 = .ok (.invokevirtual 167, 3) := dk_182 0 167 (dk_at dksX0_strap_0 2 rfl rfl)
theorem dX0_strap_5 : decode cX0_strap 5 = .ok (.ifCond .ne 5, 3) := dk_154 0 5 (dk_at dksX0_strap_0 5 rfl rfl)
theorem dX0_strap_8 : decode cX0_strap 8 = .ok (.iconst (-1), 1) := dk_2 (dk_at dksX0_strap_0 8 rfl rfl)
theorem dX0_strap_9 : decode cX0_strap 9 = .ok (.ireturn, 1) := dk_172 (dk_at dksX0_strap_0 9 rfl rfl)
theorem dX0_strap_10 : decode cX0_strap 10 = .ok (.iload_n 2, 1) := dk_28 (dk_at dksX0_strap_0 10 rfl rfl)
theorem dX0_strap_11 : decode cX0_strap 11 = .ok (.ifCond .ne 15, 3) := dk_154 0 15 (dk_at dksX0_strap_0 11 rfl rfl)
theorem dX0_strap_14 : decode cX0_strap 14 = .ok (.aload_n 0, 1) := dk_42 (dk_at dksX0_strap_0 14 rfl rfl)
theorem dX0_strap_15 : decode cX0_strap 15 = .ok (.getfield 28, 3) := dk_180 0 28 (dk_at dksX0_strap_0 15 rfl rfl)
theorem dX0_strap_18 : decode cX0_strap 18 = .ok (.getfield 171, 3) := dk_180 0 171 (dk_at dksX0_strap_0 18 rfl rfl)
theorem dX0_strap_21 : decode cX0_strap 21 = .ok (.iload_n 1, 1) := dk_27 (dk_at dksX0_strap_0 21 rfl rfl)
theorem dX0_strap_22 : decode cX0_strap 22 = .ok (.iaload, 1) := dk_46 (dk_at dksX0_strap_0 22 rfl rfl)
theorem dX0_strap_23 : decode cX0_strap 23 = .ok (.goto 38, 3) := dk_167 0 38 (dk_at dksX0_strap_1 0 rfl rfl)
theorem dX0_strap_26 : decode cX0_strap 26 = .ok (.iload_n 2, 1) := dk_28 (dk_at dksX0_strap_1 3 rfl rfl)
theorem dX0_strap_27 : decode cX0_strap 27 = .ok (.iconst 1, 1) := dk_4 (dk_at dksX0_strap_1 4 rfl rfl)
theorem dX0_strap_28 : decode cX0_strap 28 = .ok (.if_icmp .ne 15, 3) := dk_160 0 15 (dk_at dksX0_strap_1 5 rfl rfl)
theorem dX0_strap_31 : decode cX0_strap 31 = .ok (.aload_n 0, 1) := dk_42 (dk_at dksX0_strap_1 8 rfl rfl)
theorem dX0_strap_32 : decode cX0_strap 32 = .ok (.getfield 28, 3) := dk_180 0 28 (dk_at dksX0_strap_1 9 rfl rfl)
theorem dX0_strap_35 : decode cX0_strap 35 = .ok (.getfield 174, 3) := dk_180 0 174 (dk_at dksX0_strap_1 12 rfl rfl)
theorem dX0_strap_38 : decode cX0_strap 38 = .ok (.iload_n 1, 1) := dk_27 (dk_at dksX0_strap_1 15 rfl rfl)
theorem dX0_strap_39 : decode cX0_strap 39 = .ok (.iaload, 1) := dk_46 (dk_at dksX0_strap_1 16 rfl rfl)
theorem dX0_strap_40 : decode cX0_strap 40 = .ok (.goto 21, 3) := dk_167 0 21 (dk_at dksX0_strap_1 17 rfl rfl)
theorem dX0_strap_43 : decode cX0_strap 43 = .ok (.iload_n 2, 1) := dk_28 (dk_at dksX0_strap_1 20 rfl rfl)
theorem dX0_strap_44 : decode cX0_strap 44 = .ok (.iconst 2, 1) := dk_5 (dk_at dksX0_strap_1 21 rfl rfl)
theorem dX0_strap_45 : decode cX0_strap 45 = .ok (.if_icmp .ne 15, 3) := dk_160 0 15 (dk_at dksX0_strap_2 0 rfl rfl)
theorem dX0_strap_48 : decode cX0_strap 48 = .ok (.aload_n 0, 1) := dk_42 (dk_at dksX0_strap_2 3 rfl rfl)
theorem dX0_strap_49 : decode cX0_strap 49 = .ok (.getfield 28, 3) := dk_180 0 28 (dk_at dksX0_strap_2 4 rfl rfl)
theorem dX0_strap_52 : decode cX0_strap 52 = .ok (.getfield 177, 3) := dk_180 0 177 (dk_at dksX0_strap_2 7 rfl rfl)
theorem dX0_strap_55 : decode cX0_strap 55 = .ok (.iload_n 1, 1) := dk_27 (dk_at dksX0_strap_2 10 rfl rfl)
theorem dX0_strap_56 : decode cX0_strap 56 = .ok (.iaload, 1) := dk_46 (dk_at dksX0_strap_2 11 rfl rfl)
theorem dX0_strap_57 : decode cX0_strap 57 = .ok (.goto 4, 3) := dk_167 0 4 (dk_at dksX0_strap_2 12 rfl rfl)
theorem dX0_strap_60 : decode cX0_strap 60 = .ok (.iconst (-1), 1) := dk_2 (dk_at dksX0_strap_2 15 rfl rfl)
theorem dX0_strap_61 : decode cX0_strap 61 = .ok (.ireturn, 1) := dk_172 (dk_at dksX0_strap_2 16 rfl rfl)
abbrev cX0_isStrap : ByteArray := prog_1_method_12_code
def yX0_isStrap : MethodName := ⟨RX0, "isStrap", "(I)Z"⟩
def dkwX0_isStrap_0 : List UInt8 := [27, 133, 9, 42, 180, 0, 28, 180, 0, 104, 4, 100, 133, 184, 0, 73, 172]
abbrev dktX0_isStrap_0 : List UInt8 := dkwX0_isStrap_0 ++ []
theorem dksX0_isStrap_0 : cX0_isStrap.data.toList.drop 0 = dktX0_isStrap_0 := by decide +kernel
theorem dX0_isStrap_0 : decode cX0_isStrap 0 = .ok (.iload_n 1, 1) := dk_27 (dk_at dksX0_isStrap_0 0 rfl rfl)
theorem dX0_isStrap_1 : decode cX0_isStrap 1 = .ok (.i2l, 1) := dk_133 (dk_at dksX0_isStrap_0 1 rfl rfl)
theorem dX0_isStrap_2 : decode cX0_isStrap 2 = .ok (.lconst 0, 1) := dk_9 (dk_at dksX0_isStrap_0 2 rfl rfl)
theorem dX0_isStrap_3 : decode cX0_isStrap 3 = .ok (.aload_n 0, 1) := dk_42 (dk_at dksX0_isStrap_0 3 rfl rfl)
theorem dX0_isStrap_4 : decode cX0_isStrap 4 = .ok (.getfield 28, 3) := dk_180 0 28 (dk_at dksX0_isStrap_0 4 rfl rfl)
theorem dX0_isStrap_7 : decode cX0_isStrap 7 = .ok (.getfield 104, 3) := dk_180 0 104 (dk_at dksX0_isStrap_0 7 rfl rfl)
theorem dX0_isStrap_10 : decode cX0_isStrap 10 = .ok (.iconst 1, 1) := dk_4 (dk_at dksX0_isStrap_0 10 rfl rfl)
theorem dX0_isStrap_11 : decode cX0_isStrap 11 = .ok (.isub, 1) := dk_100 (dk_at dksX0_isStrap_0 11 rfl rfl)
theorem dX0_isStrap_12 : decode cX0_isStrap 12 = .ok (.i2l, 1) := dk_133 (dk_at dksX0_isStrap_0 12 rfl rfl)
theorem dX0_isStrap_13 : decode cX0_isStrap 13 = .ok (.invokestatic 73, 3) := dk_184 0 73 (dk_at dksX0_isStrap_0 13 rfl rfl)
theorem dX0_isStrap_16 : decode cX0_isStrap 16 = .ok (.ireturn, 1) := dk_172 (dk_at dksX0_isStrap_0 16 rfl rfl)
abbrev cX0_between : ByteArray := prog_1_method_20_code
def yX0_between : MethodName := ⟨RX0, "between", "(II)I"⟩
def dkwX0_between_1 : List UInt8 := [184, 0, 183, 27, 28, 184, 0, 187, 182, 0, 190, 167, 0, 5, 16, 254, 172]
abbrev dktX0_between_1 : List UInt8 := dkwX0_between_1 ++ []
def dkwX0_between_0 : List UInt8 := [42, 27, 182, 0, 180, 153, 0, 31, 42, 28, 182, 0, 180, 153, 0, 23, 42, 180, 0, 28, 27, 28]
abbrev dktX0_between_0 : List UInt8 := dkwX0_between_0 ++ dktX0_between_1
theorem dksX0_between_0 : cX0_between.data.toList.drop 0 = dktX0_between_0 := by decide +kernel
theorem dksX0_between_1 : cX0_between.data.toList.drop 22 = dktX0_between_1 := dk_seg dksX0_between_0 22 rfl rfl
theorem dX0_between_0 : decode cX0_between 0 = .ok (.aload_n 0, 1) := dk_42 (dk_at dksX0_between_0 0 rfl rfl)
theorem dX0_between_1 : decode cX0_between 1 = .ok (.iload_n 1, 1) := dk_27 (dk_at dksX0_between_0 1 rfl rfl)
theorem dX0_between_2 : decode cX0_between 2 = .ok (.invokevirtual 180, 3) := dk_182 0 180 (dk_at dksX0_between_0 2 rfl rfl)
theorem dX0_between_5 : decode cX0_between 5 = .ok (.ifCond .eq 31, 3) := dk_153 0 31 (dk_at dksX0_between_0 5 rfl rfl)
theorem dX0_between_8 : decode cX0_between 8 = .ok (.aload_n 0, 1) := dk_42 (dk_at dksX0_between_0 8 rfl rfl)
theorem dX0_between_9 : decode cX0_between 9 = .ok (.iload_n 2, 1) := dk_28 (dk_at dksX0_between_0 9 rfl rfl)
theorem dX0_between_10 : decode cX0_between 10 = .ok (.invokevirtual 180, 3) := dk_182 0 180 (dk_at dksX0_between_0 10 rfl rfl)
theorem dX0_between_13 : decode cX0_between 13 = .ok (.ifCond .eq 23, 3) := dk_153 0 23 (dk_at dksX0_between_0 13 rfl rfl)
theorem dX0_between_16 : decode cX0_between 16 = .ok (.aload_n 0, 1) := dk_42 (dk_at dksX0_between_0 16 rfl rfl)
theorem dX0_between_17 : decode cX0_between 17 = .ok (.getfield 28, 3) := dk_180 0 28 (dk_at dksX0_between_0 17 rfl rfl)
theorem dX0_between_20 : decode cX0_between 20 = .ok (.iload_n 1, 1) := dk_27 (dk_at dksX0_between_0 20 rfl rfl)
theorem dX0_between_21 : decode cX0_between 21 = .ok (.iload_n 2, 1) := dk_28 (dk_at dksX0_between_0 21 rfl rfl)
theorem dX0_between_22 : decode cX0_between 22 = .ok (.invokestatic 183, 3) := dk_184 0 183 (dk_at dksX0_between_1 0 rfl rfl)
theorem dX0_between_25 : decode cX0_between 25 = .ok (.iload_n 1, 1) := dk_27 (dk_at dksX0_between_1 3 rfl rfl)
theorem dX0_between_26 : decode cX0_between 26 = .ok (.iload_n 2, 1) := dk_28 (dk_at dksX0_between_1 4 rfl rfl)
theorem dX0_between_27 : decode cX0_between 27 = .ok (.invokestatic 187, 3) := dk_184 0 187 (dk_at dksX0_between_1 5 rfl rfl)
theorem dX0_between_30 : decode cX0_between 30 = .ok (.invokevirtual 190, 3) := dk_182 0 190 (dk_at dksX0_between_1 8 rfl rfl)
theorem dX0_between_33 : decode cX0_between 33 = .ok (.goto 5, 3) := dk_167 0 5 (dk_at dksX0_between_1 11 rfl rfl)
theorem dX0_between_36 : decode cX0_between 36 = .ok (.bipush (-2), 2) := dk_16 254 (dk_at dksX0_between_1 14 rfl rfl)
theorem dX0_between_38 : decode cX0_between 38 = .ok (.ireturn, 1) := dk_172 (dk_at dksX0_between_1 16 rfl rfl)
abbrev cX0_isNode : ByteArray := prog_1_method_11_code
def yX0_isNode : MethodName := ⟨RX0, "isNode", "(I)Z"⟩
def dkwX0_isNode_0 : List UInt8 := [27, 133, 9, 42, 180, 0, 28, 182, 0, 100, 4, 100, 133, 184, 0, 73, 172]
abbrev dktX0_isNode_0 : List UInt8 := dkwX0_isNode_0 ++ []
theorem dksX0_isNode_0 : cX0_isNode.data.toList.drop 0 = dktX0_isNode_0 := by decide +kernel
theorem dX0_isNode_0 : decode cX0_isNode 0 = .ok (.iload_n 1, 1) := dk_27 (dk_at dksX0_isNode_0 0 rfl rfl)
theorem dX0_isNode_1 : decode cX0_isNode 1 = .ok (.i2l, 1) := dk_133 (dk_at dksX0_isNode_0 1 rfl rfl)
theorem dX0_isNode_2 : decode cX0_isNode 2 = .ok (.lconst 0, 1) := dk_9 (dk_at dksX0_isNode_0 2 rfl rfl)
theorem dX0_isNode_3 : decode cX0_isNode 3 = .ok (.aload_n 0, 1) := dk_42 (dk_at dksX0_isNode_0 3 rfl rfl)
theorem dX0_isNode_4 : decode cX0_isNode 4 = .ok (.getfield 28, 3) := dk_180 0 28 (dk_at dksX0_isNode_0 4 rfl rfl)
theorem dX0_isNode_7 : decode cX0_isNode 7 = .ok (.invokevirtual 100, 3) := dk_182 0 100 (dk_at dksX0_isNode_0 7 rfl rfl)
theorem dX0_isNode_10 : decode cX0_isNode 10 = .ok (.iconst 1, 1) := dk_4 (dk_at dksX0_isNode_0 10 rfl rfl)
theorem dX0_isNode_11 : decode cX0_isNode 11 = .ok (.isub, 1) := dk_100 (dk_at dksX0_isNode_0 11 rfl rfl)
theorem dX0_isNode_12 : decode cX0_isNode 12 = .ok (.i2l, 1) := dk_133 (dk_at dksX0_isNode_0 12 rfl rfl)
theorem dX0_isNode_13 : decode cX0_isNode 13 = .ok (.invokestatic 73, 3) := dk_184 0 73 (dk_at dksX0_isNode_0 13 rfl rfl)
theorem dX0_isNode_16 : decode cX0_isNode 16 = .ok (.ireturn, 1) := dk_172 (dk_at dksX0_isNode_0 16 rfl rfl)
abbrev cX0_node : ByteArray := prog_1_method_21_code
def yX0_node : MethodName := ⟨RX0, "node", "(II)I"⟩
def dkwX0_node_4 : List UInt8 := [153, 0, 7, 3, 167, 0, 4, 4, 172, 2, 172]
abbrev dktX0_node_4 : List UInt8 := dkwX0_node_4 ++ []
def dkwX0_node_3 : List UInt8 := [180, 0, 197, 27, 46, 172, 42, 180, 0, 28, 180, 0, 200, 27, 46, 172, 42, 182, 0, 161, 27, 182, 0, 203]
abbrev dktX0_node_3 : List UInt8 := dkwX0_node_3 ++ dktX0_node_4
def dkwX0_node_2 : List UInt8 := [42, 180, 0, 28, 180, 0, 155, 27, 184, 0, 193, 153, 0, 7, 4, 167, 0, 4, 3, 172, 42, 180, 0, 28]
abbrev dktX0_node_2 : List UInt8 := dkwX0_node_2 ++ dktX0_node_3
def dkwX0_node_1 : List UInt8 := [170, 0, 0, 0, 86, 0, 0, 0, 0, 0, 0, 0, 3, 0, 0, 0, 29, 0, 0, 0, 49, 0, 0, 0, 59, 0, 0, 0, 69]
abbrev dktX0_node_1 : List UInt8 := dkwX0_node_1 ++ dktX0_node_2
def dkwX0_node_0 : List UInt8 := [42, 27, 182, 0, 180, 154, 0, 5, 2, 172, 28]
abbrev dktX0_node_0 : List UInt8 := dkwX0_node_0 ++ dktX0_node_1
theorem dksX0_node_0 : cX0_node.data.toList.drop 0 = dktX0_node_0 := by decide +kernel
theorem dksX0_node_1 : cX0_node.data.toList.drop 11 = dktX0_node_1 := dk_seg dksX0_node_0 11 rfl rfl
theorem dksX0_node_2 : cX0_node.data.toList.drop 40 = dktX0_node_2 := dk_seg dksX0_node_1 29 rfl rfl
theorem dksX0_node_3 : cX0_node.data.toList.drop 64 = dktX0_node_3 := dk_seg dksX0_node_2 24 rfl rfl
theorem dksX0_node_4 : cX0_node.data.toList.drop 88 = dktX0_node_4 := dk_seg dksX0_node_3 24 rfl rfl
theorem dX0_node_0 : decode cX0_node 0 = .ok (.aload_n 0, 1) := dk_42 (dk_at dksX0_node_0 0 rfl rfl)
theorem dX0_node_1 : decode cX0_node 1 = .ok (.iload_n 1, 1) := dk_27 (dk_at dksX0_node_0 1 rfl rfl)
theorem dX0_node_2 : decode cX0_node 2 = .ok (.invokevirtual 180, 3) := dk_182 0 180 (dk_at dksX0_node_0 2 rfl rfl)
theorem dX0_node_5 : decode cX0_node 5 = .ok (.ifCond .ne 5, 3) := dk_154 0 5 (dk_at dksX0_node_0 5 rfl rfl)
theorem dX0_node_8 : decode cX0_node 8 = .ok (.iconst (-1), 1) := dk_2 (dk_at dksX0_node_0 8 rfl rfl)
theorem dX0_node_9 : decode cX0_node 9 = .ok (.ireturn, 1) := dk_172 (dk_at dksX0_node_0 9 rfl rfl)
theorem dX0_node_10 : decode cX0_node 10 = .ok (.iload_n 2, 1) := dk_28 (dk_at dksX0_node_0 10 rfl rfl)
theorem dX0_node_11 : decode cX0_node 11 = .ok (.tableswitch 86 0 3 #[29, 49, 59, 69], 29) := by decide +kernel
theorem dX0_node_40 : decode cX0_node 40 = .ok (.aload_n 0, 1) := dk_42 (dk_at dksX0_node_2 0 rfl rfl)
theorem dX0_node_41 : decode cX0_node 41 = .ok (.getfield 28, 3) := dk_180 0 28 (dk_at dksX0_node_2 1 rfl rfl)
theorem dX0_node_44 : decode cX0_node 44 = .ok (.getfield 155, 3) := dk_180 0 155 (dk_at dksX0_node_2 4 rfl rfl)
theorem dX0_node_47 : decode cX0_node 47 = .ok (.iload_n 1, 1) := dk_27 (dk_at dksX0_node_2 7 rfl rfl)
theorem dX0_node_48 : decode cX0_node 48 = .ok (.invokestatic 193, 3) := dk_184 0 193 (dk_at dksX0_node_2 8 rfl rfl)
theorem dX0_node_51 : decode cX0_node 51 = .ok (.ifCond .eq 7, 3) := dk_153 0 7 (dk_at dksX0_node_2 11 rfl rfl)
theorem dX0_node_54 : decode cX0_node 54 = .ok (.iconst 1, 1) := dk_4 (dk_at dksX0_node_2 14 rfl rfl)
theorem dX0_node_55 : decode cX0_node 55 = .ok (.goto 4, 3) := dk_167 0 4 (dk_at dksX0_node_2 15 rfl rfl)
theorem dX0_node_58 : decode cX0_node 58 = .ok (.iconst 0, 1) := dk_3 (dk_at dksX0_node_2 18 rfl rfl)
theorem dX0_node_59 : decode cX0_node 59 = .ok (.ireturn, 1) := dk_172 (dk_at dksX0_node_2 19 rfl rfl)
theorem dX0_node_60 : decode cX0_node 60 = .ok (.aload_n 0, 1) := dk_42 (dk_at dksX0_node_2 20 rfl rfl)
theorem dX0_node_61 : decode cX0_node 61 = .ok (.getfield 28, 3) := dk_180 0 28 (dk_at dksX0_node_2 21 rfl rfl)
theorem dX0_node_64 : decode cX0_node 64 = .ok (.getfield 197, 3) := dk_180 0 197 (dk_at dksX0_node_3 0 rfl rfl)
theorem dX0_node_67 : decode cX0_node 67 = .ok (.iload_n 1, 1) := dk_27 (dk_at dksX0_node_3 3 rfl rfl)
theorem dX0_node_68 : decode cX0_node 68 = .ok (.iaload, 1) := dk_46 (dk_at dksX0_node_3 4 rfl rfl)
theorem dX0_node_69 : decode cX0_node 69 = .ok (.ireturn, 1) := dk_172 (dk_at dksX0_node_3 5 rfl rfl)
theorem dX0_node_70 : decode cX0_node 70 = .ok (.aload_n 0, 1) := dk_42 (dk_at dksX0_node_3 6 rfl rfl)
theorem dX0_node_71 : decode cX0_node 71 = .ok (.getfield 28, 3) := dk_180 0 28 (dk_at dksX0_node_3 7 rfl rfl)
theorem dX0_node_74 : decode cX0_node 74 = .ok (.getfield 200, 3) := dk_180 0 200 (dk_at dksX0_node_3 10 rfl rfl)
theorem dX0_node_77 : decode cX0_node 77 = .ok (.iload_n 1, 1) := dk_27 (dk_at dksX0_node_3 13 rfl rfl)
theorem dX0_node_78 : decode cX0_node 78 = .ok (.iaload, 1) := dk_46 (dk_at dksX0_node_3 14 rfl rfl)
theorem dX0_node_79 : decode cX0_node 79 = .ok (.ireturn, 1) := dk_172 (dk_at dksX0_node_3 15 rfl rfl)
theorem dX0_node_80 : decode cX0_node 80 = .ok (.aload_n 0, 1) := dk_42 (dk_at dksX0_node_3 16 rfl rfl)
theorem dX0_node_81 : decode cX0_node 81 = .ok (.invokevirtual 161, 3) := dk_182 0 161 (dk_at dksX0_node_3 17 rfl rfl)
theorem dX0_node_84 : decode cX0_node 84 = .ok (.iload_n 1, 1) := dk_27 (dk_at dksX0_node_3 20 rfl rfl)
theorem dX0_node_85 : decode cX0_node 85 = .ok (.invokevirtual 203, 3) := dk_182 0 203 (dk_at dksX0_node_3 21 rfl rfl)
theorem dX0_node_88 : decode cX0_node 88 = .ok (.ifCond .eq 7, 3) := dk_153 0 7 (dk_at dksX0_node_4 0 rfl rfl)
theorem dX0_node_91 : decode cX0_node 91 = .ok (.iconst 0, 1) := dk_3 (dk_at dksX0_node_4 3 rfl rfl)
theorem dX0_node_92 : decode cX0_node 92 = .ok (.goto 4, 3) := dk_167 0 4 (dk_at dksX0_node_4 4 rfl rfl)
theorem dX0_node_95 : decode cX0_node 95 = .ok (.iconst 1, 1) := dk_4 (dk_at dksX0_node_4 7 rfl rfl)
theorem dX0_node_96 : decode cX0_node 96 = .ok (.ireturn, 1) := dk_172 (dk_at dksX0_node_4 8 rfl rfl)
theorem dX0_node_97 : decode cX0_node 97 = .ok (.iconst (-1), 1) := dk_2 (dk_at dksX0_node_4 9 rfl rfl)
theorem dX0_node_98 : decode cX0_node 98 = .ok (.ireturn, 1) := dk_172 (dk_at dksX0_node_4 10 rfl rfl)
abbrev cX0_budget : ByteArray := prog_1_method_22_code
def yX0_budget : MethodName := ⟨RX0, "budget", "(I)I"⟩
def dkwX0_budget_1 : List UInt8 := [180, 0, 28, 180, 0, 208, 27, 46, 167, 0, 4, 2, 172]
abbrev dktX0_budget_1 : List UInt8 := dkwX0_budget_1 ++ []
def dkwX0_budget_0 : List UInt8 := [42, 180, 0, 28, 182, 0, 158, 153, 0, 27, 27, 133, 9, 20, 0, 206, 184, 0, 73, 153, 0, 15, 42]
abbrev dktX0_budget_0 : List UInt8 := dkwX0_budget_0 ++ dktX0_budget_1
theorem dksX0_budget_0 : cX0_budget.data.toList.drop 0 = dktX0_budget_0 := by decide +kernel
theorem dksX0_budget_1 : cX0_budget.data.toList.drop 23 = dktX0_budget_1 := dk_seg dksX0_budget_0 23 rfl rfl
theorem dX0_budget_0 : decode cX0_budget 0 = .ok (.aload_n 0, 1) := dk_42 (dk_at dksX0_budget_0 0 rfl rfl)
theorem dX0_budget_1 : decode cX0_budget 1 = .ok (.getfield 28, 3) := dk_180 0 28 (dk_at dksX0_budget_0 1 rfl rfl)
theorem dX0_budget_4 : decode cX0_budget 4 = .ok (.invokevirtual 158, 3) := dk_182 0 158 (dk_at dksX0_budget_0 4 rfl rfl)
theorem dX0_budget_7 : decode cX0_budget 7 = .ok (.ifCond .eq 27, 3) := dk_153 0 27 (dk_at dksX0_budget_0 7 rfl rfl)
theorem dX0_budget_10 : decode cX0_budget 10 = .ok (.iload_n 1, 1) := dk_27 (dk_at dksX0_budget_0 10 rfl rfl)
theorem dX0_budget_11 : decode cX0_budget 11 = .ok (.i2l, 1) := dk_133 (dk_at dksX0_budget_0 11 rfl rfl)
theorem dX0_budget_12 : decode cX0_budget 12 = .ok (.lconst 0, 1) := dk_9 (dk_at dksX0_budget_0 12 rfl rfl)
theorem dX0_budget_13 : decode cX0_budget 13 = .ok (.ldc2_w 206, 3) := dk_20 0 206 (dk_at dksX0_budget_0 13 rfl rfl)
theorem dX0_budget_16 : decode cX0_budget 16 = .ok (.invokestatic 73, 3) := dk_184 0 73 (dk_at dksX0_budget_0 16 rfl rfl)
theorem dX0_budget_19 : decode cX0_budget 19 = .ok (.ifCond .eq 15, 3) := dk_153 0 15 (dk_at dksX0_budget_0 19 rfl rfl)
theorem dX0_budget_22 : decode cX0_budget 22 = .ok (.aload_n 0, 1) := dk_42 (dk_at dksX0_budget_0 22 rfl rfl)
theorem dX0_budget_23 : decode cX0_budget 23 = .ok (.getfield 28, 3) := dk_180 0 28 (dk_at dksX0_budget_1 0 rfl rfl)
theorem dX0_budget_26 : decode cX0_budget 26 = .ok (.getfield 208, 3) := dk_180 0 208 (dk_at dksX0_budget_1 3 rfl rfl)
theorem dX0_budget_29 : decode cX0_budget 29 = .ok (.iload_n 1, 1) := dk_27 (dk_at dksX0_budget_1 6 rfl rfl)
theorem dX0_budget_30 : decode cX0_budget 30 = .ok (.iaload, 1) := dk_46 (dk_at dksX0_budget_1 7 rfl rfl)
theorem dX0_budget_31 : decode cX0_budget 31 = .ok (.goto 4, 3) := dk_167 0 4 (dk_at dksX0_budget_1 8 rfl rfl)
theorem dX0_budget_34 : decode cX0_budget 34 = .ok (.iconst (-1), 1) := dk_2 (dk_at dksX0_budget_1 11 rfl rfl)
theorem dX0_budget_35 : decode cX0_budget 35 = .ok (.ireturn, 1) := dk_172 (dk_at dksX0_budget_1 12 rfl rfl)
abbrev cX0_drop : ByteArray := prog_1_method_23_code
def yX0_drop : MethodName := ⟨RX0, "drop", "(II)J"⟩
def dkwX0_drop_2 : List UInt8 := [184, 0, 219, 167, 0, 6, 20, 0, 223, 173]
abbrev dktX0_drop_2 : List UInt8 := dkwX0_drop_2 ++ []
def dkwX0_drop_1 : List UInt8 := [182, 0, 203, 153, 0, 26, 42, 180, 0, 49, 180, 0, 216, 27, 47, 42, 180, 0, 49, 180, 0, 128, 28]
abbrev dktX0_drop_1 : List UInt8 := dkwX0_drop_1 ++ dktX0_drop_2
def dkwX0_drop_0 : List UInt8 := [42, 27, 182, 0, 180, 153, 0, 10, 28, 184, 0, 211, 154, 0, 7, 20, 0, 214, 173, 42, 182, 0, 161, 27]
abbrev dktX0_drop_0 : List UInt8 := dkwX0_drop_0 ++ dktX0_drop_1
theorem dksX0_drop_0 : cX0_drop.data.toList.drop 0 = dktX0_drop_0 := by decide +kernel
theorem dksX0_drop_1 : cX0_drop.data.toList.drop 24 = dktX0_drop_1 := dk_seg dksX0_drop_0 24 rfl rfl
theorem dksX0_drop_2 : cX0_drop.data.toList.drop 47 = dktX0_drop_2 := dk_seg dksX0_drop_1 23 rfl rfl
theorem dX0_drop_0 : decode cX0_drop 0 = .ok (.aload_n 0, 1) := dk_42 (dk_at dksX0_drop_0 0 rfl rfl)
theorem dX0_drop_1 : decode cX0_drop 1 = .ok (.iload_n 1, 1) := dk_27 (dk_at dksX0_drop_0 1 rfl rfl)
theorem dX0_drop_2 : decode cX0_drop 2 = .ok (.invokevirtual 180, 3) := dk_182 0 180 (dk_at dksX0_drop_0 2 rfl rfl)
theorem dX0_drop_5 : decode cX0_drop 5 = .ok (.ifCond .eq 10, 3) := dk_153 0 10 (dk_at dksX0_drop_0 5 rfl rfl)
theorem dX0_drop_8 : decode cX0_drop 8 = .ok (.iload_n 2, 1) := dk_28 (dk_at dksX0_drop_0 8 rfl rfl)
theorem dX0_drop_9 : decode cX0_drop 9 = .ok (.invokestatic 211, 3) := dk_184 0 211 (dk_at dksX0_drop_0 9 rfl rfl)
theorem dX0_drop_12 : decode cX0_drop 12 = .ok (.ifCond .ne 7, 3) := dk_154 0 7 (dk_at dksX0_drop_0 12 rfl rfl)
theorem dX0_drop_15 : decode cX0_drop 15 = .ok (.ldc2_w 214, 3) := dk_20 0 214 (dk_at dksX0_drop_0 15 rfl rfl)
theorem dX0_drop_18 : decode cX0_drop 18 = .ok (.lreturn, 1) := dk_173 (dk_at dksX0_drop_0 18 rfl rfl)
theorem dX0_drop_19 : decode cX0_drop 19 = .ok (.aload_n 0, 1) := dk_42 (dk_at dksX0_drop_0 19 rfl rfl)
theorem dX0_drop_20 : decode cX0_drop 20 = .ok (.invokevirtual 161, 3) := dk_182 0 161 (dk_at dksX0_drop_0 20 rfl rfl)
theorem dX0_drop_23 : decode cX0_drop 23 = .ok (.iload_n 1, 1) := dk_27 (dk_at dksX0_drop_0 23 rfl rfl)
theorem dX0_drop_24 : decode cX0_drop 24 = .ok (.invokevirtual 203, 3) := dk_182 0 203 (dk_at dksX0_drop_1 0 rfl rfl)
theorem dX0_drop_27 : decode cX0_drop 27 = .ok (.ifCond .eq 26, 3) := dk_153 0 26 (dk_at dksX0_drop_1 3 rfl rfl)
theorem dX0_drop_30 : decode cX0_drop 30 = .ok (.aload_n 0, 1) := dk_42 (dk_at dksX0_drop_1 6 rfl rfl)
theorem dX0_drop_31 : decode cX0_drop 31 = .ok (.getfield 49, 3) := dk_180 0 49 (dk_at dksX0_drop_1 7 rfl rfl)
theorem dX0_drop_34 : decode cX0_drop 34 = .ok (.getfield 216, 3) := dk_180 0 216 (dk_at dksX0_drop_1 10 rfl rfl)
theorem dX0_drop_37 : decode cX0_drop 37 = .ok (.iload_n 1, 1) := dk_27 (dk_at dksX0_drop_1 13 rfl rfl)
theorem dX0_drop_38 : decode cX0_drop 38 = .ok (.laload, 1) := dk_47 (dk_at dksX0_drop_1 14 rfl rfl)
theorem dX0_drop_39 : decode cX0_drop 39 = .ok (.aload_n 0, 1) := dk_42 (dk_at dksX0_drop_1 15 rfl rfl)
theorem dX0_drop_40 : decode cX0_drop 40 = .ok (.getfield 49, 3) := dk_180 0 49 (dk_at dksX0_drop_1 16 rfl rfl)
theorem dX0_drop_43 : decode cX0_drop 43 = .ok (.getfield 128, 3) := dk_180 0 128 (dk_at dksX0_drop_1 19 rfl rfl)
theorem dX0_drop_46 : decode cX0_drop 46 = .ok (.iload_n 2, 1) := dk_28 (dk_at dksX0_drop_1 22 rfl rfl)
theorem dX0_drop_47 : decode cX0_drop 47 = .ok (.invokestatic 219, 3) := dk_184 0 219 (dk_at dksX0_drop_2 0 rfl rfl)
theorem dX0_drop_50 : decode cX0_drop 50 = .ok (.goto 6, 3) := dk_167 0 6 (dk_at dksX0_drop_2 3 rfl rfl)
theorem dX0_drop_53 : decode cX0_drop 53 = .ok (.ldc2_w 223, 3) := dk_20 0 223 (dk_at dksX0_drop_2 6 rfl rfl)
theorem dX0_drop_56 : decode cX0_drop 56 = .ok (.lreturn, 1) := dk_173 (dk_at dksX0_drop_2 9 rfl rfl)
abbrev cX0_isPart : ByteArray := prog_1_method_13_code
def yX0_isPart : MethodName := ⟨RX0, "isPart", "(I)Z"⟩
def dkwX0_isPart_0 : List UInt8 := [26, 133, 9, 10, 184, 0, 73, 172]
abbrev dktX0_isPart_0 : List UInt8 := dkwX0_isPart_0 ++ []
theorem dksX0_isPart_0 : cX0_isPart.data.toList.drop 0 = dktX0_isPart_0 := by decide +kernel
theorem dX0_isPart_0 : decode cX0_isPart 0 = .ok (.iload_n 0, 1) := dk_26 (dk_at dksX0_isPart_0 0 rfl rfl)
theorem dX0_isPart_1 : decode cX0_isPart 1 = .ok (.i2l, 1) := dk_133 (dk_at dksX0_isPart_0 1 rfl rfl)
theorem dX0_isPart_2 : decode cX0_isPart 2 = .ok (.lconst 0, 1) := dk_9 (dk_at dksX0_isPart_0 2 rfl rfl)
theorem dX0_isPart_3 : decode cX0_isPart 3 = .ok (.lconst 1, 1) := dk_10 (dk_at dksX0_isPart_0 3 rfl rfl)
theorem dX0_isPart_4 : decode cX0_isPart 4 = .ok (.invokestatic 73, 3) := dk_184 0 73 (dk_at dksX0_isPart_0 4 rfl rfl)
theorem dX0_isPart_7 : decode cX0_isPart 7 = .ok (.ireturn, 1) := dk_172 (dk_at dksX0_isPart_0 7 rfl rfl)
abbrev cX0_part : ByteArray := prog_1_method_4_code
def yX0_part : MethodName := ⟨RX0, "part", "(JJI)J"⟩
def dkwX0_part_0 : List UInt8 := [21, 4, 154, 0, 7, 30, 167, 0, 4, 32, 30, 32, 184, 0, 9, 109, 173]
abbrev dktX0_part_0 : List UInt8 := dkwX0_part_0 ++ []
theorem dksX0_part_0 : cX0_part.data.toList.drop 0 = dktX0_part_0 := by decide +kernel
theorem dX0_part_0 : decode cX0_part 0 = .ok (.iload 4, 2) := dk_21 4 (dk_at dksX0_part_0 0 rfl rfl)
theorem dX0_part_2 : decode cX0_part 2 = .ok (.ifCond .ne 7, 3) := dk_154 0 7 (dk_at dksX0_part_0 2 rfl rfl)
theorem dX0_part_5 : decode cX0_part 5 = .ok (.lload_n 0, 1) := dk_30 (dk_at dksX0_part_0 5 rfl rfl)
theorem dX0_part_6 : decode cX0_part 6 = .ok (.goto 4, 3) := dk_167 0 4 (dk_at dksX0_part_0 6 rfl rfl)
theorem dX0_part_9 : decode cX0_part 9 = .ok (.lload_n 2, 1) := dk_32 (dk_at dksX0_part_0 9 rfl rfl)
theorem dX0_part_10 : decode cX0_part 10 = .ok (.lload_n 0, 1) := dk_30 (dk_at dksX0_part_0 10 rfl rfl)
theorem dX0_part_11 : decode cX0_part 11 = .ok (.lload_n 2, 1) := dk_32 (dk_at dksX0_part_0 11 rfl rfl)
theorem dX0_part_12 : decode cX0_part 12 = .ok (.invokestatic 9, 3) := dk_184 0 9 (dk_at dksX0_part_0 12 rfl rfl)
theorem dX0_part_15 : decode cX0_part 15 = .ok (.ldiv, 1) := dk_109 (dk_at dksX0_part_0 15 rfl rfl)
theorem dX0_part_16 : decode cX0_part 16 = .ok (.lreturn, 1) := dk_173 (dk_at dksX0_part_0 16 rfl rfl)
abbrev cX0_common : ByteArray := prog_1_method_3_code
def yX0_common : MethodName := ⟨RX0, "common", "(JJ)J"⟩
def dkwX0_common_1 : List UInt8 := [55, 8, 22, 6, 55, 4, 22, 8, 55, 6, 167, 255, 234, 22, 4, 173]
abbrev dktX0_common_1 : List UInt8 := dkwX0_common_1 ++ []
def dkwX0_common_0 : List UInt8 := [30, 184, 0, 3, 55, 4, 32, 184, 0, 3, 55, 6, 22, 6, 9, 148, 153, 0, 21, 22, 4, 22, 6, 113]
abbrev dktX0_common_0 : List UInt8 := dkwX0_common_0 ++ dktX0_common_1
theorem dksX0_common_0 : cX0_common.data.toList.drop 0 = dktX0_common_0 := by decide +kernel
theorem dksX0_common_1 : cX0_common.data.toList.drop 24 = dktX0_common_1 := dk_seg dksX0_common_0 24 rfl rfl
theorem dX0_common_0 : decode cX0_common 0 = .ok (.lload_n 0, 1) := dk_30 (dk_at dksX0_common_0 0 rfl rfl)
theorem dX0_common_1 : decode cX0_common 1 = .ok (.invokestatic 3, 3) := dk_184 0 3 (dk_at dksX0_common_0 1 rfl rfl)
theorem dX0_common_4 : decode cX0_common 4 = .ok (.lstore 4, 2) := dk_55 4 (dk_at dksX0_common_0 4 rfl rfl)
theorem dX0_common_6 : decode cX0_common 6 = .ok (.lload_n 2, 1) := dk_32 (dk_at dksX0_common_0 6 rfl rfl)
theorem dX0_common_7 : decode cX0_common 7 = .ok (.invokestatic 3, 3) := dk_184 0 3 (dk_at dksX0_common_0 7 rfl rfl)
theorem dX0_common_10 : decode cX0_common 10 = .ok (.lstore 6, 2) := dk_55 6 (dk_at dksX0_common_0 10 rfl rfl)
theorem dX0_common_12 : decode cX0_common 12 = .ok (.lload 6, 2) := dk_22 6 (dk_at dksX0_common_0 12 rfl rfl)
theorem dX0_common_14 : decode cX0_common 14 = .ok (.lconst 0, 1) := dk_9 (dk_at dksX0_common_0 14 rfl rfl)
theorem dX0_common_15 : decode cX0_common 15 = .ok (.lcmp, 1) := dk_148 (dk_at dksX0_common_0 15 rfl rfl)
theorem dX0_common_16 : decode cX0_common 16 = .ok (.ifCond .eq 21, 3) := dk_153 0 21 (dk_at dksX0_common_0 16 rfl rfl)
theorem dX0_common_19 : decode cX0_common 19 = .ok (.lload 4, 2) := dk_22 4 (dk_at dksX0_common_0 19 rfl rfl)
theorem dX0_common_21 : decode cX0_common 21 = .ok (.lload 6, 2) := dk_22 6 (dk_at dksX0_common_0 21 rfl rfl)
theorem dX0_common_23 : decode cX0_common 23 = .ok (.lrem, 1) := dk_113 (dk_at dksX0_common_0 23 rfl rfl)
theorem dX0_common_24 : decode cX0_common 24 = .ok (.lstore 8, 2) := dk_55 8 (dk_at dksX0_common_1 0 rfl rfl)
theorem dX0_common_26 : decode cX0_common 26 = .ok (.lload 6, 2) := dk_22 6 (dk_at dksX0_common_1 2 rfl rfl)
theorem dX0_common_28 : decode cX0_common 28 = .ok (.lstore 4, 2) := dk_55 4 (dk_at dksX0_common_1 4 rfl rfl)
theorem dX0_common_30 : decode cX0_common 30 = .ok (.lload 8, 2) := dk_22 8 (dk_at dksX0_common_1 6 rfl rfl)
theorem dX0_common_32 : decode cX0_common 32 = .ok (.lstore 6, 2) := dk_55 6 (dk_at dksX0_common_1 8 rfl rfl)
theorem dX0_common_34 : decode cX0_common 34 = .ok (.goto (-22), 3) := dk_167 255 234 (dk_at dksX0_common_1 10 rfl rfl)
theorem dX0_common_37 : decode cX0_common 37 = .ok (.lload 4, 2) := dk_22 4 (dk_at dksX0_common_1 13 rfl rfl)
theorem dX0_common_39 : decode cX0_common 39 = .ok (.lreturn, 1) := dk_173 (dk_at dksX0_common_1 15 rfl rfl)
abbrev cX0_through : ByteArray := prog_1_method_24_code
def yX0_through : MethodName := ⟨RX0, "through", "(II)J"⟩
def dkwX0_through_2 : List UInt8 := [184, 0, 219, 173]
abbrev dktX0_through_2 : List UInt8 := dkwX0_through_2 ++ []
def dkwX0_through_1 : List UInt8 := [182, 0, 227, 42, 180, 0, 28, 180, 0, 177, 27, 46, 133, 105, 66, 33, 42, 180, 0, 49, 180, 0, 128, 28]
abbrev dktX0_through_1 : List UInt8 := dkwX0_through_1 ++ dktX0_through_2
def dkwX0_through_0 : List UInt8 := [42, 27, 182, 0, 167, 153, 0, 10, 28, 184, 0, 211, 154, 0, 7, 20, 0, 225, 173, 42, 182, 0, 161, 27]
abbrev dktX0_through_0 : List UInt8 := dkwX0_through_0 ++ dktX0_through_1
theorem dksX0_through_0 : cX0_through.data.toList.drop 0 = dktX0_through_0 := by decide +kernel
theorem dksX0_through_1 : cX0_through.data.toList.drop 24 = dktX0_through_1 := dk_seg dksX0_through_0 24 rfl rfl
theorem dksX0_through_2 : cX0_through.data.toList.drop 48 = dktX0_through_2 := dk_seg dksX0_through_1 24 rfl rfl
theorem dX0_through_0 : decode cX0_through 0 = .ok (.aload_n 0, 1) := dk_42 (dk_at dksX0_through_0 0 rfl rfl)
theorem dX0_through_1 : decode cX0_through 1 = .ok (.iload_n 1, 1) := dk_27 (dk_at dksX0_through_0 1 rfl rfl)
theorem dX0_through_2 : decode cX0_through 2 = .ok (.invokevirtual 167, 3) := dk_182 0 167 (dk_at dksX0_through_0 2 rfl rfl)
theorem dX0_through_5 : decode cX0_through 5 = .ok (.ifCond .eq 10, 3) := dk_153 0 10 (dk_at dksX0_through_0 5 rfl rfl)
theorem dX0_through_8 : decode cX0_through 8 = .ok (.iload_n 2, 1) := dk_28 (dk_at dksX0_through_0 8 rfl rfl)
theorem dX0_through_9 : decode cX0_through 9 = .ok (.invokestatic 211, 3) := dk_184 0 211 (dk_at dksX0_through_0 9 rfl rfl)
theorem dX0_through_12 : decode cX0_through 12 = .ok (.ifCond .ne 7, 3) := dk_154 0 7 (dk_at dksX0_through_0 12 rfl rfl)
theorem dX0_through_15 : decode cX0_through 15 = .ok (.ldc2_w 225, 3) := dk_20 0 225 (dk_at dksX0_through_0 15 rfl rfl)
theorem dX0_through_18 : decode cX0_through 18 = .ok (.lreturn, 1) := dk_173 (dk_at dksX0_through_0 18 rfl rfl)
theorem dX0_through_19 : decode cX0_through 19 = .ok (.aload_n 0, 1) := dk_42 (dk_at dksX0_through_0 19 rfl rfl)
theorem dX0_through_20 : decode cX0_through 20 = .ok (.invokevirtual 161, 3) := dk_182 0 161 (dk_at dksX0_through_0 20 rfl rfl)
theorem dX0_through_23 : decode cX0_through 23 = .ok (.iload_n 1, 1) := dk_27 (dk_at dksX0_through_0 23 rfl rfl)
theorem dX0_through_24 : decode cX0_through 24 = .ok (.invokevirtual 227, 3) := dk_182 0 227 (dk_at dksX0_through_1 0 rfl rfl)
theorem dX0_through_27 : decode cX0_through 27 = .ok (.aload_n 0, 1) := dk_42 (dk_at dksX0_through_1 3 rfl rfl)
theorem dX0_through_28 : decode cX0_through 28 = .ok (.getfield 28, 3) := dk_180 0 28 (dk_at dksX0_through_1 4 rfl rfl)
theorem dX0_through_31 : decode cX0_through 31 = .ok (.getfield 177, 3) := dk_180 0 177 (dk_at dksX0_through_1 7 rfl rfl)
theorem dX0_through_34 : decode cX0_through 34 = .ok (.iload_n 1, 1) := dk_27 (dk_at dksX0_through_1 10 rfl rfl)
theorem dX0_through_35 : decode cX0_through 35 = .ok (.iaload, 1) := dk_46 (dk_at dksX0_through_1 11 rfl rfl)
theorem dX0_through_36 : decode cX0_through 36 = .ok (.i2l, 1) := dk_133 (dk_at dksX0_through_1 12 rfl rfl)
theorem dX0_through_37 : decode cX0_through 37 = .ok (.lmul, 1) := dk_105 (dk_at dksX0_through_1 13 rfl rfl)
theorem dX0_through_38 : decode cX0_through 38 = .ok (.lstore_n 3, 1) := dk_66 (dk_at dksX0_through_1 14 rfl rfl)
theorem dX0_through_39 : decode cX0_through 39 = .ok (.lload_n 3, 1) := dk_33 (dk_at dksX0_through_1 15 rfl rfl)
theorem dX0_through_40 : decode cX0_through 40 = .ok (.aload_n 0, 1) := dk_42 (dk_at dksX0_through_1 16 rfl rfl)
theorem dX0_through_41 : decode cX0_through 41 = .ok (.getfield 49, 3) := dk_180 0 49 (dk_at dksX0_through_1 17 rfl rfl)
theorem dX0_through_44 : decode cX0_through 44 = .ok (.getfield 128, 3) := dk_180 0 128 (dk_at dksX0_through_1 20 rfl rfl)
theorem dX0_through_47 : decode cX0_through 47 = .ok (.iload_n 2, 1) := dk_28 (dk_at dksX0_through_1 23 rfl rfl)
theorem dX0_through_48 : decode cX0_through 48 = .ok (.invokestatic 219, 3) := dk_184 0 219 (dk_at dksX0_through_2 0 rfl rfl)
theorem dX0_through_51 : decode cX0_through 51 = .ok (.lreturn, 1) := dk_173 (dk_at dksX0_through_2 3 rfl rfl)
abbrev cX0_heat : ByteArray := prog_1_method_25_code
def yX0_heat : MethodName := ⟨RX0, "heat", "(II)J"⟩
def dkwX0_heat_1 : List UInt8 := [182, 0, 227, 184, 0, 3, 42, 180, 0, 49, 180, 0, 128, 28, 184, 0, 219, 173]
abbrev dktX0_heat_1 : List UInt8 := dkwX0_heat_1 ++ []
def dkwX0_heat_0 : List UInt8 := [42, 27, 182, 0, 167, 153, 0, 10, 28, 184, 0, 211, 154, 0, 7, 20, 0, 214, 173, 42, 182, 0, 161, 27]
abbrev dktX0_heat_0 : List UInt8 := dkwX0_heat_0 ++ dktX0_heat_1
theorem dksX0_heat_0 : cX0_heat.data.toList.drop 0 = dktX0_heat_0 := by decide +kernel
theorem dksX0_heat_1 : cX0_heat.data.toList.drop 24 = dktX0_heat_1 := dk_seg dksX0_heat_0 24 rfl rfl
theorem dX0_heat_0 : decode cX0_heat 0 = .ok (.aload_n 0, 1) := dk_42 (dk_at dksX0_heat_0 0 rfl rfl)
theorem dX0_heat_1 : decode cX0_heat 1 = .ok (.iload_n 1, 1) := dk_27 (dk_at dksX0_heat_0 1 rfl rfl)
theorem dX0_heat_2 : decode cX0_heat 2 = .ok (.invokevirtual 167, 3) := dk_182 0 167 (dk_at dksX0_heat_0 2 rfl rfl)
theorem dX0_heat_5 : decode cX0_heat 5 = .ok (.ifCond .eq 10, 3) := dk_153 0 10 (dk_at dksX0_heat_0 5 rfl rfl)
theorem dX0_heat_8 : decode cX0_heat 8 = .ok (.iload_n 2, 1) := dk_28 (dk_at dksX0_heat_0 8 rfl rfl)
theorem dX0_heat_9 : decode cX0_heat 9 = .ok (.invokestatic 211, 3) := dk_184 0 211 (dk_at dksX0_heat_0 9 rfl rfl)
theorem dX0_heat_12 : decode cX0_heat 12 = .ok (.ifCond .ne 7, 3) := dk_154 0 7 (dk_at dksX0_heat_0 12 rfl rfl)
theorem dX0_heat_15 : decode cX0_heat 15 = .ok (.ldc2_w 214, 3) := dk_20 0 214 (dk_at dksX0_heat_0 15 rfl rfl)
theorem dX0_heat_18 : decode cX0_heat 18 = .ok (.lreturn, 1) := dk_173 (dk_at dksX0_heat_0 18 rfl rfl)
theorem dX0_heat_19 : decode cX0_heat 19 = .ok (.aload_n 0, 1) := dk_42 (dk_at dksX0_heat_0 19 rfl rfl)
theorem dX0_heat_20 : decode cX0_heat 20 = .ok (.invokevirtual 161, 3) := dk_182 0 161 (dk_at dksX0_heat_0 20 rfl rfl)
theorem dX0_heat_23 : decode cX0_heat 23 = .ok (.iload_n 1, 1) := dk_27 (dk_at dksX0_heat_0 23 rfl rfl)
theorem dX0_heat_24 : decode cX0_heat 24 = .ok (.invokevirtual 227, 3) := dk_182 0 227 (dk_at dksX0_heat_1 0 rfl rfl)
theorem dX0_heat_27 : decode cX0_heat 27 = .ok (.invokestatic 3, 3) := dk_184 0 3 (dk_at dksX0_heat_1 3 rfl rfl)
theorem dX0_heat_30 : decode cX0_heat 30 = .ok (.aload_n 0, 1) := dk_42 (dk_at dksX0_heat_1 6 rfl rfl)
theorem dX0_heat_31 : decode cX0_heat 31 = .ok (.getfield 49, 3) := dk_180 0 49 (dk_at dksX0_heat_1 7 rfl rfl)
theorem dX0_heat_34 : decode cX0_heat 34 = .ok (.getfield 128, 3) := dk_180 0 128 (dk_at dksX0_heat_1 10 rfl rfl)
theorem dX0_heat_37 : decode cX0_heat 37 = .ok (.iload_n 2, 1) := dk_28 (dk_at dksX0_heat_1 13 rfl rfl)
theorem dX0_heat_38 : decode cX0_heat 38 = .ok (.invokestatic 219, 3) := dk_184 0 219 (dk_at dksX0_heat_1 14 rfl rfl)
theorem dX0_heat_41 : decode cX0_heat 41 = .ok (.lreturn, 1) := dk_173 (dk_at dksX0_heat_1 17 rfl rfl)
abbrev cX0_gives : ByteArray := prog_1_method_26_code
def yX0_gives : MethodName := ⟨RX0, "gives", "(II)J"⟩
def dkwX0_gives_2 : List UInt8 := [42, 180, 0, 49, 180, 0, 128, 28, 184, 0, 219, 173]
abbrev dktX0_gives_2 : List UInt8 := dkwX0_gives_2 ++ []
def dkwX0_gives_1 : List UInt8 := [180, 0, 155, 27, 184, 0, 193, 154, 0, 7, 20, 0, 223, 173, 42, 182, 0, 161, 87, 42, 27, 182, 0, 231]
abbrev dktX0_gives_1 : List UInt8 := dkwX0_gives_1 ++ dktX0_gives_2
def dkwX0_gives_0 : List UInt8 := [42, 27, 182, 0, 180, 153, 0, 10, 28, 184, 0, 211, 154, 0, 7, 20, 0, 214, 173, 42, 180, 0, 28]
abbrev dktX0_gives_0 : List UInt8 := dkwX0_gives_0 ++ dktX0_gives_1
theorem dksX0_gives_0 : cX0_gives.data.toList.drop 0 = dktX0_gives_0 := by decide +kernel
theorem dksX0_gives_1 : cX0_gives.data.toList.drop 23 = dktX0_gives_1 := dk_seg dksX0_gives_0 23 rfl rfl
theorem dksX0_gives_2 : cX0_gives.data.toList.drop 47 = dktX0_gives_2 := dk_seg dksX0_gives_1 24 rfl rfl
theorem dX0_gives_0 : decode cX0_gives 0 = .ok (.aload_n 0, 1) := dk_42 (dk_at dksX0_gives_0 0 rfl rfl)
theorem dX0_gives_1 : decode cX0_gives 1 = .ok (.iload_n 1, 1) := dk_27 (dk_at dksX0_gives_0 1 rfl rfl)
theorem dX0_gives_2 : decode cX0_gives 2 = .ok (.invokevirtual 180, 3) := dk_182 0 180 (dk_at dksX0_gives_0 2 rfl rfl)
theorem dX0_gives_5 : decode cX0_gives 5 = .ok (.ifCond .eq 10, 3) := dk_153 0 10 (dk_at dksX0_gives_0 5 rfl rfl)
theorem dX0_gives_8 : decode cX0_gives 8 = .ok (.iload_n 2, 1) := dk_28 (dk_at dksX0_gives_0 8 rfl rfl)
theorem dX0_gives_9 : decode cX0_gives 9 = .ok (.invokestatic 211, 3) := dk_184 0 211 (dk_at dksX0_gives_0 9 rfl rfl)
theorem dX0_gives_12 : decode cX0_gives 12 = .ok (.ifCond .ne 7, 3) := dk_154 0 7 (dk_at dksX0_gives_0 12 rfl rfl)
theorem dX0_gives_15 : decode cX0_gives 15 = .ok (.ldc2_w 214, 3) := dk_20 0 214 (dk_at dksX0_gives_0 15 rfl rfl)
theorem dX0_gives_18 : decode cX0_gives 18 = .ok (.lreturn, 1) := dk_173 (dk_at dksX0_gives_0 18 rfl rfl)
theorem dX0_gives_19 : decode cX0_gives 19 = .ok (.aload_n 0, 1) := dk_42 (dk_at dksX0_gives_0 19 rfl rfl)
theorem dX0_gives_20 : decode cX0_gives 20 = .ok (.getfield 28, 3) := dk_180 0 28 (dk_at dksX0_gives_0 20 rfl rfl)
theorem dX0_gives_23 : decode cX0_gives 23 = .ok (.getfield 155, 3) := dk_180 0 155 (dk_at dksX0_gives_1 0 rfl rfl)
theorem dX0_gives_26 : decode cX0_gives 26 = .ok (.iload_n 1, 1) := dk_27 (dk_at dksX0_gives_1 3 rfl rfl)
theorem dX0_gives_27 : decode cX0_gives 27 = .ok (.invokestatic 193, 3) := dk_184 0 193 (dk_at dksX0_gives_1 4 rfl rfl)
theorem dX0_gives_30 : decode cX0_gives 30 = .ok (.ifCond .ne 7, 3) := dk_154 0 7 (dk_at dksX0_gives_1 7 rfl rfl)
theorem dX0_gives_33 : decode cX0_gives 33 = .ok (.ldc2_w 223, 3) := dk_20 0 223 (dk_at dksX0_gives_1 10 rfl rfl)
theorem dX0_gives_36 : decode cX0_gives 36 = .ok (.lreturn, 1) := dk_173 (dk_at dksX0_gives_1 13 rfl rfl)
theorem dX0_gives_37 : decode cX0_gives 37 = .ok (.aload_n 0, 1) := dk_42 (dk_at dksX0_gives_1 14 rfl rfl)
theorem dX0_gives_38 : decode cX0_gives 38 = .ok (.invokevirtual 161, 3) := dk_182 0 161 (dk_at dksX0_gives_1 15 rfl rfl)
theorem dX0_gives_41 : decode cX0_gives 41 = .ok (.pop, 1) := dk_87 (dk_at dksX0_gives_1 18 rfl rfl)
theorem dX0_gives_42 : decode cX0_gives 42 = .ok (.aload_n 0, 1) := dk_42 (dk_at dksX0_gives_1 19 rfl rfl)
theorem dX0_gives_43 : decode cX0_gives 43 = .ok (.iload_n 1, 1) := dk_27 (dk_at dksX0_gives_1 20 rfl rfl)
theorem dX0_gives_44 : decode cX0_gives 44 = .ok (.invokevirtual 231, 3) := dk_182 0 231 (dk_at dksX0_gives_1 21 rfl rfl)
theorem dX0_gives_47 : decode cX0_gives 47 = .ok (.aload_n 0, 1) := dk_42 (dk_at dksX0_gives_2 0 rfl rfl)
theorem dX0_gives_48 : decode cX0_gives 48 = .ok (.getfield 49, 3) := dk_180 0 49 (dk_at dksX0_gives_2 1 rfl rfl)
theorem dX0_gives_51 : decode cX0_gives 51 = .ok (.getfield 128, 3) := dk_180 0 128 (dk_at dksX0_gives_2 4 rfl rfl)
theorem dX0_gives_54 : decode cX0_gives 54 = .ok (.iload_n 2, 1) := dk_28 (dk_at dksX0_gives_2 7 rfl rfl)
theorem dX0_gives_55 : decode cX0_gives 55 = .ok (.invokestatic 219, 3) := dk_184 0 219 (dk_at dksX0_gives_2 8 rfl rfl)
theorem dX0_gives_58 : decode cX0_gives 58 = .ok (.lreturn, 1) := dk_173 (dk_at dksX0_gives_2 11 rfl rfl)
abbrev cX0_givenBy : ByteArray := prog_1_method_27_code
def yX0_givenBy : MethodName := ⟨RX0, "givenBy", "(I)J"⟩
def dkwX0_givenBy_5 : List UInt8 := [132, 4, 1, 167, 255, 160, 32, 173]
abbrev dktX0_givenBy_5 : List UInt8 := dkwX0_givenBy_5 ++ []
def dkwX0_givenBy_4 : List UInt8 := [182, 0, 227, 117, 42, 180, 0, 28, 180, 0, 177, 21, 4, 46, 133, 105, 167, 0, 4, 9, 97, 65]
abbrev dktX0_givenBy_4 : List UInt8 := dkwX0_givenBy_4 ++ dktX0_givenBy_5
def dkwX0_givenBy_3 : List UInt8 := [167, 0, 43, 42, 180, 0, 28, 180, 0, 174, 21, 4, 46, 27, 160, 0, 28, 42, 180, 0, 49, 21, 4]
abbrev dktX0_givenBy_3 : List UInt8 := dkwX0_givenBy_3 ++ dktX0_givenBy_4
def dkwX0_givenBy_2 : List UInt8 := [160, 0, 27, 42, 180, 0, 49, 21, 4, 182, 0, 227, 42, 180, 0, 28, 180, 0, 177, 21, 4, 46, 133, 105]
abbrev dktX0_givenBy_2 : List UInt8 := dkwX0_givenBy_2 ++ dktX0_givenBy_3
def dkwX0_givenBy_1 : List UInt8 := [42, 180, 0, 28, 180, 0, 104, 162, 0, 90, 32, 42, 180, 0, 28, 180, 0, 171, 21, 4, 46, 27]
abbrev dktX0_givenBy_1 : List UInt8 := dkwX0_givenBy_1 ++ dktX0_givenBy_2
def dkwX0_givenBy_0 : List UInt8 := [42, 180, 0, 49, 180, 0, 128, 42, 180, 0, 28, 180, 0, 197, 27, 46, 133, 105, 65, 3, 54, 4, 21, 4]
abbrev dktX0_givenBy_0 : List UInt8 := dkwX0_givenBy_0 ++ dktX0_givenBy_1
theorem dksX0_givenBy_0 : cX0_givenBy.data.toList.drop 0 = dktX0_givenBy_0 := by decide +kernel
theorem dksX0_givenBy_1 : cX0_givenBy.data.toList.drop 24 = dktX0_givenBy_1 := dk_seg dksX0_givenBy_0 24 rfl rfl
theorem dksX0_givenBy_2 : cX0_givenBy.data.toList.drop 46 = dktX0_givenBy_2 := dk_seg dksX0_givenBy_1 22 rfl rfl
theorem dksX0_givenBy_3 : cX0_givenBy.data.toList.drop 70 = dktX0_givenBy_3 := dk_seg dksX0_givenBy_2 24 rfl rfl
theorem dksX0_givenBy_4 : cX0_givenBy.data.toList.drop 93 = dktX0_givenBy_4 := dk_seg dksX0_givenBy_3 23 rfl rfl
theorem dksX0_givenBy_5 : cX0_givenBy.data.toList.drop 115 = dktX0_givenBy_5 := dk_seg dksX0_givenBy_4 22 rfl rfl
theorem dX0_givenBy_0 : decode cX0_givenBy 0 = .ok (.aload_n 0, 1) := dk_42 (dk_at dksX0_givenBy_0 0 rfl rfl)
theorem dX0_givenBy_1 : decode cX0_givenBy 1 = .ok (.getfield 49, 3) := dk_180 0 49 (dk_at dksX0_givenBy_0 1 rfl rfl)
theorem dX0_givenBy_4 : decode cX0_givenBy 4 = .ok (.getfield 128, 3) := dk_180 0 128 (dk_at dksX0_givenBy_0 4 rfl rfl)
theorem dX0_givenBy_7 : decode cX0_givenBy 7 = .ok (.aload_n 0, 1) := dk_42 (dk_at dksX0_givenBy_0 7 rfl rfl)
theorem dX0_givenBy_8 : decode cX0_givenBy 8 = .ok (.getfield 28, 3) := dk_180 0 28 (dk_at dksX0_givenBy_0 8 rfl rfl)
theorem dX0_givenBy_11 : decode cX0_givenBy 11 = .ok (.getfield 197, 3) := dk_180 0 197 (dk_at dksX0_givenBy_0 11 rfl rfl)
theorem dX0_givenBy_14 : decode cX0_givenBy 14 = .ok (.iload_n 1, 1) := dk_27 (dk_at dksX0_givenBy_0 14 rfl rfl)
theorem dX0_givenBy_15 : decode cX0_givenBy 15 = .ok (.iaload, 1) := dk_46 (dk_at dksX0_givenBy_0 15 rfl rfl)
theorem dX0_givenBy_16 : decode cX0_givenBy 16 = .ok (.i2l, 1) := dk_133 (dk_at dksX0_givenBy_0 16 rfl rfl)
theorem dX0_givenBy_17 : decode cX0_givenBy 17 = .ok (.lmul, 1) := dk_105 (dk_at dksX0_givenBy_0 17 rfl rfl)
theorem dX0_givenBy_18 : decode cX0_givenBy 18 = .ok (.lstore_n 2, 1) := dk_65 (dk_at dksX0_givenBy_0 18 rfl rfl)
theorem dX0_givenBy_19 : decode cX0_givenBy 19 = .ok (.iconst 0, 1) := dk_3 (dk_at dksX0_givenBy_0 19 rfl rfl)
theorem dX0_givenBy_20 : decode cX0_givenBy 20 = .ok (.istore 4, 2) := dk_54 4 (dk_at dksX0_givenBy_0 20 rfl rfl)
theorem dX0_givenBy_22 : decode cX0_givenBy 22 = .ok (.iload 4, 2) := dk_21 4 (dk_at dksX0_givenBy_0 22 rfl rfl)
theorem dX0_givenBy_24 : decode cX0_givenBy 24 = .ok (.aload_n 0, 1) := dk_42 (dk_at dksX0_givenBy_1 0 rfl rfl)
theorem dX0_givenBy_25 : decode cX0_givenBy 25 = .ok (.getfield 28, 3) := dk_180 0 28 (dk_at dksX0_givenBy_1 1 rfl rfl)
theorem dX0_givenBy_28 : decode cX0_givenBy 28 = .ok (.getfield 104, 3) := dk_180 0 104 (dk_at dksX0_givenBy_1 4 rfl rfl)
theorem dX0_givenBy_31 : decode cX0_givenBy 31 = .ok (.if_icmp .ge 90, 3) := dk_162 0 90 (dk_at dksX0_givenBy_1 7 rfl rfl)
theorem dX0_givenBy_34 : decode cX0_givenBy 34 = .ok (.lload_n 2, 1) := dk_32 (dk_at dksX0_givenBy_1 10 rfl rfl)
theorem dX0_givenBy_35 : decode cX0_givenBy 35 = .ok (.aload_n 0, 1) := dk_42 (dk_at dksX0_givenBy_1 11 rfl rfl)
theorem dX0_givenBy_36 : decode cX0_givenBy 36 = .ok (.getfield 28, 3) := dk_180 0 28 (dk_at dksX0_givenBy_1 12 rfl rfl)
theorem dX0_givenBy_39 : decode cX0_givenBy 39 = .ok (.getfield 171, 3) := dk_180 0 171 (dk_at dksX0_givenBy_1 15 rfl rfl)
theorem dX0_givenBy_42 : decode cX0_givenBy 42 = .ok (.iload 4, 2) := dk_21 4 (dk_at dksX0_givenBy_1 18 rfl rfl)
theorem dX0_givenBy_44 : decode cX0_givenBy 44 = .ok (.iaload, 1) := dk_46 (dk_at dksX0_givenBy_1 20 rfl rfl)
theorem dX0_givenBy_45 : decode cX0_givenBy 45 = .ok (.iload_n 1, 1) := dk_27 (dk_at dksX0_givenBy_1 21 rfl rfl)
theorem dX0_givenBy_46 : decode cX0_givenBy 46 = .ok (.if_icmp .ne 27, 3) := dk_160 0 27 (dk_at dksX0_givenBy_2 0 rfl rfl)
theorem dX0_givenBy_49 : decode cX0_givenBy 49 = .ok (.aload_n 0, 1) := dk_42 (dk_at dksX0_givenBy_2 3 rfl rfl)
theorem dX0_givenBy_50 : decode cX0_givenBy 50 = .ok (.getfield 49, 3) := dk_180 0 49 (dk_at dksX0_givenBy_2 4 rfl rfl)
theorem dX0_givenBy_53 : decode cX0_givenBy 53 = .ok (.iload 4, 2) := dk_21 4 (dk_at dksX0_givenBy_2 7 rfl rfl)
theorem dX0_givenBy_55 : decode cX0_givenBy 55 = .ok (.invokevirtual 227, 3) := dk_182 0 227 (dk_at dksX0_givenBy_2 9 rfl rfl)
theorem dX0_givenBy_58 : decode cX0_givenBy 58 = .ok (.aload_n 0, 1) := dk_42 (dk_at dksX0_givenBy_2 12 rfl rfl)
theorem dX0_givenBy_59 : decode cX0_givenBy 59 = .ok (.getfield 28, 3) := dk_180 0 28 (dk_at dksX0_givenBy_2 13 rfl rfl)
theorem dX0_givenBy_62 : decode cX0_givenBy 62 = .ok (.getfield 177, 3) := dk_180 0 177 (dk_at dksX0_givenBy_2 16 rfl rfl)
theorem dX0_givenBy_65 : decode cX0_givenBy 65 = .ok (.iload 4, 2) := dk_21 4 (dk_at dksX0_givenBy_2 19 rfl rfl)
theorem dX0_givenBy_67 : decode cX0_givenBy 67 = .ok (.iaload, 1) := dk_46 (dk_at dksX0_givenBy_2 21 rfl rfl)
theorem dX0_givenBy_68 : decode cX0_givenBy 68 = .ok (.i2l, 1) := dk_133 (dk_at dksX0_givenBy_2 22 rfl rfl)
theorem dX0_givenBy_69 : decode cX0_givenBy 69 = .ok (.lmul, 1) := dk_105 (dk_at dksX0_givenBy_2 23 rfl rfl)
theorem dX0_givenBy_70 : decode cX0_givenBy 70 = .ok (.goto 43, 3) := dk_167 0 43 (dk_at dksX0_givenBy_3 0 rfl rfl)
theorem dX0_givenBy_73 : decode cX0_givenBy 73 = .ok (.aload_n 0, 1) := dk_42 (dk_at dksX0_givenBy_3 3 rfl rfl)
theorem dX0_givenBy_74 : decode cX0_givenBy 74 = .ok (.getfield 28, 3) := dk_180 0 28 (dk_at dksX0_givenBy_3 4 rfl rfl)
theorem dX0_givenBy_77 : decode cX0_givenBy 77 = .ok (.getfield 174, 3) := dk_180 0 174 (dk_at dksX0_givenBy_3 7 rfl rfl)
theorem dX0_givenBy_80 : decode cX0_givenBy 80 = .ok (.iload 4, 2) := dk_21 4 (dk_at dksX0_givenBy_3 10 rfl rfl)
theorem dX0_givenBy_82 : decode cX0_givenBy 82 = .ok (.iaload, 1) := dk_46 (dk_at dksX0_givenBy_3 12 rfl rfl)
theorem dX0_givenBy_83 : decode cX0_givenBy 83 = .ok (.iload_n 1, 1) := dk_27 (dk_at dksX0_givenBy_3 13 rfl rfl)
theorem dX0_givenBy_84 : decode cX0_givenBy 84 = .ok (.if_icmp .ne 28, 3) := dk_160 0 28 (dk_at dksX0_givenBy_3 14 rfl rfl)
theorem dX0_givenBy_87 : decode cX0_givenBy 87 = .ok (.aload_n 0, 1) := dk_42 (dk_at dksX0_givenBy_3 17 rfl rfl)
theorem dX0_givenBy_88 : decode cX0_givenBy 88 = .ok (.getfield 49, 3) := dk_180 0 49 (dk_at dksX0_givenBy_3 18 rfl rfl)
theorem dX0_givenBy_91 : decode cX0_givenBy 91 = .ok (.iload 4, 2) := dk_21 4 (dk_at dksX0_givenBy_3 21 rfl rfl)
theorem dX0_givenBy_93 : decode cX0_givenBy 93 = .ok (.invokevirtual 227, 3) := dk_182 0 227 (dk_at dksX0_givenBy_4 0 rfl rfl)
theorem dX0_givenBy_96 : decode cX0_givenBy 96 = .ok (.lneg, 1) := dk_117 (dk_at dksX0_givenBy_4 3 rfl rfl)
theorem dX0_givenBy_97 : decode cX0_givenBy 97 = .ok (.aload_n 0, 1) := dk_42 (dk_at dksX0_givenBy_4 4 rfl rfl)
theorem dX0_givenBy_98 : decode cX0_givenBy 98 = .ok (.getfield 28, 3) := dk_180 0 28 (dk_at dksX0_givenBy_4 5 rfl rfl)
theorem dX0_givenBy_101 : decode cX0_givenBy 101 = .ok (.getfield 177, 3) := dk_180 0 177 (dk_at dksX0_givenBy_4 8 rfl rfl)
theorem dX0_givenBy_104 : decode cX0_givenBy 104 = .ok (.iload 4, 2) := dk_21 4 (dk_at dksX0_givenBy_4 11 rfl rfl)
theorem dX0_givenBy_106 : decode cX0_givenBy 106 = .ok (.iaload, 1) := dk_46 (dk_at dksX0_givenBy_4 13 rfl rfl)
theorem dX0_givenBy_107 : decode cX0_givenBy 107 = .ok (.i2l, 1) := dk_133 (dk_at dksX0_givenBy_4 14 rfl rfl)
theorem dX0_givenBy_108 : decode cX0_givenBy 108 = .ok (.lmul, 1) := dk_105 (dk_at dksX0_givenBy_4 15 rfl rfl)
theorem dX0_givenBy_109 : decode cX0_givenBy 109 = .ok (.goto 4, 3) := dk_167 0 4 (dk_at dksX0_givenBy_4 16 rfl rfl)
theorem dX0_givenBy_112 : decode cX0_givenBy 112 = .ok (.lconst 0, 1) := dk_9 (dk_at dksX0_givenBy_4 19 rfl rfl)
theorem dX0_givenBy_113 : decode cX0_givenBy 113 = .ok (.ladd, 1) := dk_97 (dk_at dksX0_givenBy_4 20 rfl rfl)
theorem dX0_givenBy_114 : decode cX0_givenBy 114 = .ok (.lstore_n 2, 1) := dk_65 (dk_at dksX0_givenBy_4 21 rfl rfl)
theorem dX0_givenBy_115 : decode cX0_givenBy 115 = .ok (.iinc 4 1, 3) := dk_132 4 1 (dk_at dksX0_givenBy_5 0 rfl rfl)
theorem dX0_givenBy_118 : decode cX0_givenBy 118 = .ok (.goto (-96), 3) := dk_167 255 160 (dk_at dksX0_givenBy_5 3 rfl rfl)
theorem dX0_givenBy_121 : decode cX0_givenBy 121 = .ok (.lload_n 2, 1) := dk_32 (dk_at dksX0_givenBy_5 6 rfl rfl)
theorem dX0_givenBy_122 : decode cX0_givenBy 122 = .ok (.lreturn, 1) := dk_173 (dk_at dksX0_givenBy_5 7 rfl rfl)
abbrev cX0_chief : ByteArray := prog_1_method_28_code
def yX0_chief : MethodName := ⟨RX0, "chief", "()I"⟩
def dkwX0_chief_3 : List UInt8 := [167, 255, 207, 27, 172]
abbrev dktX0_chief_3 : List UInt8 := dkwX0_chief_3 ++ []
def dkwX0_chief_2 : List UInt8 := [2, 159, 0, 17, 42, 28, 182, 0, 231, 42, 27, 182, 0, 231, 148, 158, 0, 5, 28, 60, 132, 2, 1]
abbrev dktX0_chief_2 : List UInt8 := dkwX0_chief_2 ++ dktX0_chief_3
def dkwX0_chief_1 : List UInt8 := [180, 0, 28, 182, 0, 100, 162, 0, 44, 42, 180, 0, 28, 180, 0, 155, 28, 184, 0, 193, 153, 0, 24, 27]
abbrev dktX0_chief_1 : List UInt8 := dkwX0_chief_1 ++ dktX0_chief_2
def dkwX0_chief_0 : List UInt8 := [42, 180, 0, 28, 182, 0, 158, 154, 0, 6, 16, 254, 172, 42, 182, 0, 161, 87, 2, 60, 3, 61, 28, 42]
abbrev dktX0_chief_0 : List UInt8 := dkwX0_chief_0 ++ dktX0_chief_1
theorem dksX0_chief_0 : cX0_chief.data.toList.drop 0 = dktX0_chief_0 := by decide +kernel
theorem dksX0_chief_1 : cX0_chief.data.toList.drop 24 = dktX0_chief_1 := dk_seg dksX0_chief_0 24 rfl rfl
theorem dksX0_chief_2 : cX0_chief.data.toList.drop 48 = dktX0_chief_2 := dk_seg dksX0_chief_1 24 rfl rfl
theorem dksX0_chief_3 : cX0_chief.data.toList.drop 71 = dktX0_chief_3 := dk_seg dksX0_chief_2 23 rfl rfl
theorem dX0_chief_0 : decode cX0_chief 0 = .ok (.aload_n 0, 1) := dk_42 (dk_at dksX0_chief_0 0 rfl rfl)
theorem dX0_chief_1 : decode cX0_chief 1 = .ok (.getfield 28, 3) := dk_180 0 28 (dk_at dksX0_chief_0 1 rfl rfl)
theorem dX0_chief_4 : decode cX0_chief 4 = .ok (.invokevirtual 158, 3) := dk_182 0 158 (dk_at dksX0_chief_0 4 rfl rfl)
theorem dX0_chief_7 : decode cX0_chief 7 = .ok (.ifCond .ne 6, 3) := dk_154 0 6 (dk_at dksX0_chief_0 7 rfl rfl)
theorem dX0_chief_10 : decode cX0_chief 10 = .ok (.bipush (-2), 2) := dk_16 254 (dk_at dksX0_chief_0 10 rfl rfl)
theorem dX0_chief_12 : decode cX0_chief 12 = .ok (.ireturn, 1) := dk_172 (dk_at dksX0_chief_0 12 rfl rfl)
theorem dX0_chief_13 : decode cX0_chief 13 = .ok (.aload_n 0, 1) := dk_42 (dk_at dksX0_chief_0 13 rfl rfl)
theorem dX0_chief_14 : decode cX0_chief 14 = .ok (.invokevirtual 161, 3) := dk_182 0 161 (dk_at dksX0_chief_0 14 rfl rfl)
theorem dX0_chief_17 : decode cX0_chief 17 = .ok (.pop, 1) := dk_87 (dk_at dksX0_chief_0 17 rfl rfl)
theorem dX0_chief_18 : decode cX0_chief 18 = .ok (.iconst (-1), 1) := dk_2 (dk_at dksX0_chief_0 18 rfl rfl)
theorem dX0_chief_19 : decode cX0_chief 19 = .ok (.istore_n 1, 1) := dk_60 (dk_at dksX0_chief_0 19 rfl rfl)
theorem dX0_chief_20 : decode cX0_chief 20 = .ok (.iconst 0, 1) := dk_3 (dk_at dksX0_chief_0 20 rfl rfl)
theorem dX0_chief_21 : decode cX0_chief 21 = .ok (.istore_n 2, 1) := dk_61 (dk_at dksX0_chief_0 21 rfl rfl)
theorem dX0_chief_22 : decode cX0_chief 22 = .ok (.iload_n 2, 1) := dk_28 (dk_at dksX0_chief_0 22 rfl rfl)
theorem dX0_chief_23 : decode cX0_chief 23 = .ok (.aload_n 0, 1) := dk_42 (dk_at dksX0_chief_0 23 rfl rfl)
theorem dX0_chief_24 : decode cX0_chief 24 = .ok (.getfield 28, 3) := dk_180 0 28 (dk_at dksX0_chief_1 0 rfl rfl)
theorem dX0_chief_27 : decode cX0_chief 27 = .ok (.invokevirtual 100, 3) := dk_182 0 100 (dk_at dksX0_chief_1 3 rfl rfl)
theorem dX0_chief_30 : decode cX0_chief 30 = .ok (.if_icmp .ge 44, 3) := dk_162 0 44 (dk_at dksX0_chief_1 6 rfl rfl)
theorem dX0_chief_33 : decode cX0_chief 33 = .ok (.aload_n 0, 1) := dk_42 (dk_at dksX0_chief_1 9 rfl rfl)
theorem dX0_chief_34 : decode cX0_chief 34 = .ok (.getfield 28, 3) := dk_180 0 28 (dk_at dksX0_chief_1 10 rfl rfl)
theorem dX0_chief_37 : decode cX0_chief 37 = .ok (.getfield 155, 3) := dk_180 0 155 (dk_at dksX0_chief_1 13 rfl rfl)
theorem dX0_chief_40 : decode cX0_chief 40 = .ok (.iload_n 2, 1) := dk_28 (dk_at dksX0_chief_1 16 rfl rfl)
theorem dX0_chief_41 : decode cX0_chief 41 = .ok (.invokestatic 193, 3) := dk_184 0 193 (dk_at dksX0_chief_1 17 rfl rfl)
theorem dX0_chief_44 : decode cX0_chief 44 = .ok (.ifCond .eq 24, 3) := dk_153 0 24 (dk_at dksX0_chief_1 20 rfl rfl)
theorem dX0_chief_47 : decode cX0_chief 47 = .ok (.iload_n 1, 1) := dk_27 (dk_at dksX0_chief_1 23 rfl rfl)
theorem dX0_chief_48 : decode cX0_chief 48 = .ok (.iconst (-1), 1) := dk_2 (dk_at dksX0_chief_2 0 rfl rfl)
theorem dX0_chief_49 : decode cX0_chief 49 = .ok (.if_icmp .eq 17, 3) := dk_159 0 17 (dk_at dksX0_chief_2 1 rfl rfl)
theorem dX0_chief_52 : decode cX0_chief 52 = .ok (.aload_n 0, 1) := dk_42 (dk_at dksX0_chief_2 4 rfl rfl)
theorem dX0_chief_53 : decode cX0_chief 53 = .ok (.iload_n 2, 1) := dk_28 (dk_at dksX0_chief_2 5 rfl rfl)
theorem dX0_chief_54 : decode cX0_chief 54 = .ok (.invokevirtual 231, 3) := dk_182 0 231 (dk_at dksX0_chief_2 6 rfl rfl)
theorem dX0_chief_57 : decode cX0_chief 57 = .ok (.aload_n 0, 1) := dk_42 (dk_at dksX0_chief_2 9 rfl rfl)
theorem dX0_chief_58 : decode cX0_chief 58 = .ok (.iload_n 1, 1) := dk_27 (dk_at dksX0_chief_2 10 rfl rfl)
theorem dX0_chief_59 : decode cX0_chief 59 = .ok (.invokevirtual 231, 3) := dk_182 0 231 (dk_at dksX0_chief_2 11 rfl rfl)
theorem dX0_chief_62 : decode cX0_chief 62 = .ok (.lcmp, 1) := dk_148 (dk_at dksX0_chief_2 14 rfl rfl)
theorem dX0_chief_63 : decode cX0_chief 63 = .ok (.ifCond .le 5, 3) := dk_158 0 5 (dk_at dksX0_chief_2 15 rfl rfl)
theorem dX0_chief_66 : decode cX0_chief 66 = .ok (.iload_n 2, 1) := dk_28 (dk_at dksX0_chief_2 18 rfl rfl)
theorem dX0_chief_67 : decode cX0_chief 67 = .ok (.istore_n 1, 1) := dk_60 (dk_at dksX0_chief_2 19 rfl rfl)
theorem dX0_chief_68 : decode cX0_chief 68 = .ok (.iinc 2 1, 3) := dk_132 2 1 (dk_at dksX0_chief_2 20 rfl rfl)
theorem dX0_chief_71 : decode cX0_chief 71 = .ok (.goto (-49), 3) := dk_167 255 207 (dk_at dksX0_chief_3 0 rfl rfl)
theorem dX0_chief_74 : decode cX0_chief 74 = .ok (.iload_n 1, 1) := dk_27 (dk_at dksX0_chief_3 3 rfl rfl)
theorem dX0_chief_75 : decode cX0_chief 75 = .ok (.ireturn, 1) := dk_172 (dk_at dksX0_chief_3 4 rfl rfl)
abbrev cX0_area : ByteArray := prog_1_method_29_code
def yX0_area : MethodName := ⟨RX0, "area", "()I"⟩
def dkwX0_area_2 : List UInt8 := [27, 172]
abbrev dktX0_area_2 : List UInt8 := dkwX0_area_2 ++ []
def dkwX0_area_1 : List UInt8 := [180, 0, 104, 162, 0, 21, 27, 42, 180, 0, 28, 180, 0, 177, 28, 46, 96, 60, 132, 2, 1, 167, 255, 230]
abbrev dktX0_area_1 : List UInt8 := dkwX0_area_1 ++ dktX0_area_2
def dkwX0_area_0 : List UInt8 := [42, 180, 0, 28, 182, 0, 158, 154, 0, 6, 16, 254, 172, 3, 60, 3, 61, 28, 42, 180, 0, 28]
abbrev dktX0_area_0 : List UInt8 := dkwX0_area_0 ++ dktX0_area_1
theorem dksX0_area_0 : cX0_area.data.toList.drop 0 = dktX0_area_0 := by decide +kernel
theorem dksX0_area_1 : cX0_area.data.toList.drop 22 = dktX0_area_1 := dk_seg dksX0_area_0 22 rfl rfl
theorem dksX0_area_2 : cX0_area.data.toList.drop 46 = dktX0_area_2 := dk_seg dksX0_area_1 24 rfl rfl
theorem dX0_area_0 : decode cX0_area 0 = .ok (.aload_n 0, 1) := dk_42 (dk_at dksX0_area_0 0 rfl rfl)
theorem dX0_area_1 : decode cX0_area 1 = .ok (.getfield 28, 3) := dk_180 0 28 (dk_at dksX0_area_0 1 rfl rfl)
theorem dX0_area_4 : decode cX0_area 4 = .ok (.invokevirtual 158, 3) := dk_182 0 158 (dk_at dksX0_area_0 4 rfl rfl)
theorem dX0_area_7 : decode cX0_area 7 = .ok (.ifCond .ne 6, 3) := dk_154 0 6 (dk_at dksX0_area_0 7 rfl rfl)
theorem dX0_area_10 : decode cX0_area 10 = .ok (.bipush (-2), 2) := dk_16 254 (dk_at dksX0_area_0 10 rfl rfl)
theorem dX0_area_12 : decode cX0_area 12 = .ok (.ireturn, 1) := dk_172 (dk_at dksX0_area_0 12 rfl rfl)
theorem dX0_area_13 : decode cX0_area 13 = .ok (.iconst 0, 1) := dk_3 (dk_at dksX0_area_0 13 rfl rfl)
theorem dX0_area_14 : decode cX0_area 14 = .ok (.istore_n 1, 1) := dk_60 (dk_at dksX0_area_0 14 rfl rfl)
theorem dX0_area_15 : decode cX0_area 15 = .ok (.iconst 0, 1) := dk_3 (dk_at dksX0_area_0 15 rfl rfl)
theorem dX0_area_16 : decode cX0_area 16 = .ok (.istore_n 2, 1) := dk_61 (dk_at dksX0_area_0 16 rfl rfl)
theorem dX0_area_17 : decode cX0_area 17 = .ok (.iload_n 2, 1) := dk_28 (dk_at dksX0_area_0 17 rfl rfl)
theorem dX0_area_18 : decode cX0_area 18 = .ok (.aload_n 0, 1) := dk_42 (dk_at dksX0_area_0 18 rfl rfl)
theorem dX0_area_19 : decode cX0_area 19 = .ok (.getfield 28, 3) := dk_180 0 28 (dk_at dksX0_area_0 19 rfl rfl)
theorem dX0_area_22 : decode cX0_area 22 = .ok (.getfield 104, 3) := dk_180 0 104 (dk_at dksX0_area_1 0 rfl rfl)
theorem dX0_area_25 : decode cX0_area 25 = .ok (.if_icmp .ge 21, 3) := dk_162 0 21 (dk_at dksX0_area_1 3 rfl rfl)
theorem dX0_area_28 : decode cX0_area 28 = .ok (.iload_n 1, 1) := dk_27 (dk_at dksX0_area_1 6 rfl rfl)
theorem dX0_area_29 : decode cX0_area 29 = .ok (.aload_n 0, 1) := dk_42 (dk_at dksX0_area_1 7 rfl rfl)
theorem dX0_area_30 : decode cX0_area 30 = .ok (.getfield 28, 3) := dk_180 0 28 (dk_at dksX0_area_1 8 rfl rfl)
theorem dX0_area_33 : decode cX0_area 33 = .ok (.getfield 177, 3) := dk_180 0 177 (dk_at dksX0_area_1 11 rfl rfl)
theorem dX0_area_36 : decode cX0_area 36 = .ok (.iload_n 2, 1) := dk_28 (dk_at dksX0_area_1 14 rfl rfl)
theorem dX0_area_37 : decode cX0_area 37 = .ok (.iaload, 1) := dk_46 (dk_at dksX0_area_1 15 rfl rfl)
theorem dX0_area_38 : decode cX0_area 38 = .ok (.iadd, 1) := dk_96 (dk_at dksX0_area_1 16 rfl rfl)
theorem dX0_area_39 : decode cX0_area 39 = .ok (.istore_n 1, 1) := dk_60 (dk_at dksX0_area_1 17 rfl rfl)
theorem dX0_area_40 : decode cX0_area 40 = .ok (.iinc 2 1, 3) := dk_132 2 1 (dk_at dksX0_area_1 18 rfl rfl)
theorem dX0_area_43 : decode cX0_area 43 = .ok (.goto (-26), 3) := dk_167 255 230 (dk_at dksX0_area_1 21 rfl rfl)
theorem dX0_area_46 : decode cX0_area 46 = .ok (.iload_n 1, 1) := dk_27 (dk_at dksX0_area_2 0 rfl rfl)
theorem dX0_area_47 : decode cX0_area 47 = .ok (.ireturn, 1) := dk_172 (dk_at dksX0_area_2 1 rfl rfl)
abbrev cX0_worst : ByteArray := prog_1_method_30_code
def yX0_worst : MethodName := ⟨RX0, "worst", "()I"⟩
def dkwX0_worst_0 : List UInt8 := [42, 180, 0, 28, 182, 0, 158, 153, 0, 13, 42, 182, 0, 161, 182, 0, 234, 167, 0, 5, 16, 254, 172]
abbrev dktX0_worst_0 : List UInt8 := dkwX0_worst_0 ++ []
theorem dksX0_worst_0 : cX0_worst.data.toList.drop 0 = dktX0_worst_0 := by decide +kernel
theorem dX0_worst_0 : decode cX0_worst 0 = .ok (.aload_n 0, 1) := dk_42 (dk_at dksX0_worst_0 0 rfl rfl)
theorem dX0_worst_1 : decode cX0_worst 1 = .ok (.getfield 28, 3) := dk_180 0 28 (dk_at dksX0_worst_0 1 rfl rfl)
theorem dX0_worst_4 : decode cX0_worst 4 = .ok (.invokevirtual 158, 3) := dk_182 0 158 (dk_at dksX0_worst_0 4 rfl rfl)
theorem dX0_worst_7 : decode cX0_worst 7 = .ok (.ifCond .eq 13, 3) := dk_153 0 13 (dk_at dksX0_worst_0 7 rfl rfl)
theorem dX0_worst_10 : decode cX0_worst 10 = .ok (.aload_n 0, 1) := dk_42 (dk_at dksX0_worst_0 10 rfl rfl)
theorem dX0_worst_11 : decode cX0_worst 11 = .ok (.invokevirtual 161, 3) := dk_182 0 161 (dk_at dksX0_worst_0 11 rfl rfl)
theorem dX0_worst_14 : decode cX0_worst 14 = .ok (.invokevirtual 234, 3) := dk_182 0 234 (dk_at dksX0_worst_0 14 rfl rfl)
theorem dX0_worst_17 : decode cX0_worst 17 = .ok (.goto 5, 3) := dk_167 0 5 (dk_at dksX0_worst_0 17 rfl rfl)
theorem dX0_worst_20 : decode cX0_worst 20 = .ok (.bipush (-2), 2) := dk_16 254 (dk_at dksX0_worst_0 20 rfl rfl)
theorem dX0_worst_22 : decode cX0_worst 22 = .ok (.ireturn, 1) := dk_172 (dk_at dksX0_worst_0 22 rfl rfl)
abbrev cX0_over : ByteArray := prog_1_method_31_code
def yX0_over : MethodName := ⟨RX0, "over", "()I"⟩
def dkwX0_over_1 : List UInt8 := [167, 0, 5, 16, 254, 172]
abbrev dktX0_over_1 : List UInt8 := dkwX0_over_1 ++ []
def dkwX0_over_0 : List UInt8 := [42, 180, 0, 28, 182, 0, 158, 153, 0, 20, 42, 182, 0, 161, 42, 180, 0, 49, 180, 0, 216, 182, 0, 237]
abbrev dktX0_over_0 : List UInt8 := dkwX0_over_0 ++ dktX0_over_1
theorem dksX0_over_0 : cX0_over.data.toList.drop 0 = dktX0_over_0 := by decide +kernel
theorem dksX0_over_1 : cX0_over.data.toList.drop 24 = dktX0_over_1 := dk_seg dksX0_over_0 24 rfl rfl
theorem dX0_over_0 : decode cX0_over 0 = .ok (.aload_n 0, 1) := dk_42 (dk_at dksX0_over_0 0 rfl rfl)
theorem dX0_over_1 : decode cX0_over 1 = .ok (.getfield 28, 3) := dk_180 0 28 (dk_at dksX0_over_0 1 rfl rfl)
theorem dX0_over_4 : decode cX0_over 4 = .ok (.invokevirtual 158, 3) := dk_182 0 158 (dk_at dksX0_over_0 4 rfl rfl)
theorem dX0_over_7 : decode cX0_over 7 = .ok (.ifCond .eq 20, 3) := dk_153 0 20 (dk_at dksX0_over_0 7 rfl rfl)
theorem dX0_over_10 : decode cX0_over 10 = .ok (.aload_n 0, 1) := dk_42 (dk_at dksX0_over_0 10 rfl rfl)
theorem dX0_over_11 : decode cX0_over 11 = .ok (.invokevirtual 161, 3) := dk_182 0 161 (dk_at dksX0_over_0 11 rfl rfl)
theorem dX0_over_14 : decode cX0_over 14 = .ok (.aload_n 0, 1) := dk_42 (dk_at dksX0_over_0 14 rfl rfl)
theorem dX0_over_15 : decode cX0_over 15 = .ok (.getfield 49, 3) := dk_180 0 49 (dk_at dksX0_over_0 15 rfl rfl)
theorem dX0_over_18 : decode cX0_over 18 = .ok (.getfield 216, 3) := dk_180 0 216 (dk_at dksX0_over_0 18 rfl rfl)
theorem dX0_over_21 : decode cX0_over 21 = .ok (.invokevirtual 237, 3) := dk_182 0 237 (dk_at dksX0_over_0 21 rfl rfl)
theorem dX0_over_24 : decode cX0_over 24 = .ok (.goto 5, 3) := dk_167 0 5 (dk_at dksX0_over_1 0 rfl rfl)
theorem dX0_over_27 : decode cX0_over 27 = .ok (.bipush (-2), 2) := dk_16 254 (dk_at dksX0_over_1 3 rfl rfl)
theorem dX0_over_29 : decode cX0_over 29 = .ok (.ireturn, 1) := dk_172 (dk_at dksX0_over_1 5 rfl rfl)
abbrev cX0_holds : ByteArray := prog_1_method_32_code
def yX0_holds : MethodName := ⟨RX0, "holds", "()I"⟩
def dkwX0_holds_1 : List UInt8 := [167, 0, 4, 3, 172]
abbrev dktX0_holds_1 : List UInt8 := dkwX0_holds_1 ++ []
def dkwX0_holds_0 : List UInt8 := [42, 180, 0, 28, 182, 0, 158, 154, 0, 6, 16, 254, 172, 42, 182, 0, 161, 182, 0, 241, 153, 0, 7, 4]
abbrev dktX0_holds_0 : List UInt8 := dkwX0_holds_0 ++ dktX0_holds_1
theorem dksX0_holds_0 : cX0_holds.data.toList.drop 0 = dktX0_holds_0 := by decide +kernel
theorem dksX0_holds_1 : cX0_holds.data.toList.drop 24 = dktX0_holds_1 := dk_seg dksX0_holds_0 24 rfl rfl
theorem dX0_holds_0 : decode cX0_holds 0 = .ok (.aload_n 0, 1) := dk_42 (dk_at dksX0_holds_0 0 rfl rfl)
theorem dX0_holds_1 : decode cX0_holds 1 = .ok (.getfield 28, 3) := dk_180 0 28 (dk_at dksX0_holds_0 1 rfl rfl)
theorem dX0_holds_4 : decode cX0_holds 4 = .ok (.invokevirtual 158, 3) := dk_182 0 158 (dk_at dksX0_holds_0 4 rfl rfl)
theorem dX0_holds_7 : decode cX0_holds 7 = .ok (.ifCond .ne 6, 3) := dk_154 0 6 (dk_at dksX0_holds_0 7 rfl rfl)
theorem dX0_holds_10 : decode cX0_holds 10 = .ok (.bipush (-2), 2) := dk_16 254 (dk_at dksX0_holds_0 10 rfl rfl)
theorem dX0_holds_12 : decode cX0_holds 12 = .ok (.ireturn, 1) := dk_172 (dk_at dksX0_holds_0 12 rfl rfl)
theorem dX0_holds_13 : decode cX0_holds 13 = .ok (.aload_n 0, 1) := dk_42 (dk_at dksX0_holds_0 13 rfl rfl)
theorem dX0_holds_14 : decode cX0_holds 14 = .ok (.invokevirtual 161, 3) := dk_182 0 161 (dk_at dksX0_holds_0 14 rfl rfl)
theorem dX0_holds_17 : decode cX0_holds 17 = .ok (.invokevirtual 241, 3) := dk_182 0 241 (dk_at dksX0_holds_0 17 rfl rfl)
theorem dX0_holds_20 : decode cX0_holds 20 = .ok (.ifCond .eq 7, 3) := dk_153 0 7 (dk_at dksX0_holds_0 20 rfl rfl)
theorem dX0_holds_23 : decode cX0_holds 23 = .ok (.iconst 1, 1) := dk_4 (dk_at dksX0_holds_0 23 rfl rfl)
theorem dX0_holds_24 : decode cX0_holds 24 = .ok (.goto 4, 3) := dk_167 0 4 (dk_at dksX0_holds_1 0 rfl rfl)
theorem dX0_holds_27 : decode cX0_holds 27 = .ok (.iconst 0, 1) := dk_3 (dk_at dksX0_holds_1 3 rfl rfl)
theorem dX0_holds_28 : decode cX0_holds 28 = .ok (.ireturn, 1) := dk_172 (dk_at dksX0_holds_1 4 rfl rfl)
abbrev cX0_loss : ByteArray := prog_1_method_33_code
def yX0_loss : MethodName := ⟨RX0, "loss", "(I)J"⟩
def dkwX0_loss_4 : List UInt8 := [184, 0, 219, 173]
abbrev dktX0_loss_4 : List UInt8 := dkwX0_loss_4 ++ []
def dkwX0_loss_3 : List UInt8 := [105, 167, 0, 4, 9, 97, 65, 132, 4, 1, 167, 255, 200, 32, 42, 180, 0, 49, 180, 0, 128, 27]
abbrev dktX0_loss_3 : List UInt8 := dkwX0_loss_3 ++ dktX0_loss_4
def dkwX0_loss_2 : List UInt8 := [153, 0, 28, 42, 180, 0, 49, 180, 0, 216, 21, 4, 47, 42, 180, 0, 28, 180, 0, 197, 21, 4, 46, 133]
abbrev dktX0_loss_2 : List UInt8 := dkwX0_loss_2 ++ dktX0_loss_3
def dkwX0_loss_1 : List UInt8 := [54, 4, 21, 4, 42, 180, 0, 28, 182, 0, 100, 162, 0, 50, 32, 42, 182, 0, 161, 21, 4, 182, 0, 203]
abbrev dktX0_loss_1 : List UInt8 := dkwX0_loss_1 ++ dktX0_loss_2
def dkwX0_loss_0 : List UInt8 := [42, 180, 0, 28, 182, 0, 158, 153, 0, 10, 27, 184, 0, 211, 154, 0, 7, 20, 0, 214, 173, 9, 65, 3]
abbrev dktX0_loss_0 : List UInt8 := dkwX0_loss_0 ++ dktX0_loss_1
theorem dksX0_loss_0 : cX0_loss.data.toList.drop 0 = dktX0_loss_0 := by decide +kernel
theorem dksX0_loss_1 : cX0_loss.data.toList.drop 24 = dktX0_loss_1 := dk_seg dksX0_loss_0 24 rfl rfl
theorem dksX0_loss_2 : cX0_loss.data.toList.drop 48 = dktX0_loss_2 := dk_seg dksX0_loss_1 24 rfl rfl
theorem dksX0_loss_3 : cX0_loss.data.toList.drop 72 = dktX0_loss_3 := dk_seg dksX0_loss_2 24 rfl rfl
theorem dksX0_loss_4 : cX0_loss.data.toList.drop 94 = dktX0_loss_4 := dk_seg dksX0_loss_3 22 rfl rfl
theorem dX0_loss_0 : decode cX0_loss 0 = .ok (.aload_n 0, 1) := dk_42 (dk_at dksX0_loss_0 0 rfl rfl)
theorem dX0_loss_1 : decode cX0_loss 1 = .ok (.getfield 28, 3) := dk_180 0 28 (dk_at dksX0_loss_0 1 rfl rfl)
theorem dX0_loss_4 : decode cX0_loss 4 = .ok (.invokevirtual 158, 3) := dk_182 0 158 (dk_at dksX0_loss_0 4 rfl rfl)
theorem dX0_loss_7 : decode cX0_loss 7 = .ok (.ifCond .eq 10, 3) := dk_153 0 10 (dk_at dksX0_loss_0 7 rfl rfl)
theorem dX0_loss_10 : decode cX0_loss 10 = .ok (.iload_n 1, 1) := dk_27 (dk_at dksX0_loss_0 10 rfl rfl)
theorem dX0_loss_11 : decode cX0_loss 11 = .ok (.invokestatic 211, 3) := dk_184 0 211 (dk_at dksX0_loss_0 11 rfl rfl)
theorem dX0_loss_14 : decode cX0_loss 14 = .ok (.ifCond .ne 7, 3) := dk_154 0 7 (dk_at dksX0_loss_0 14 rfl rfl)
theorem dX0_loss_17 : decode cX0_loss 17 = .ok (.ldc2_w 214, 3) := dk_20 0 214 (dk_at dksX0_loss_0 17 rfl rfl)
theorem dX0_loss_20 : decode cX0_loss 20 = .ok (.lreturn, 1) := dk_173 (dk_at dksX0_loss_0 20 rfl rfl)
theorem dX0_loss_21 : decode cX0_loss 21 = .ok (.lconst 0, 1) := dk_9 (dk_at dksX0_loss_0 21 rfl rfl)
theorem dX0_loss_22 : decode cX0_loss 22 = .ok (.lstore_n 2, 1) := dk_65 (dk_at dksX0_loss_0 22 rfl rfl)
theorem dX0_loss_23 : decode cX0_loss 23 = .ok (.iconst 0, 1) := dk_3 (dk_at dksX0_loss_0 23 rfl rfl)
theorem dX0_loss_24 : decode cX0_loss 24 = .ok (.istore 4, 2) := dk_54 4 (dk_at dksX0_loss_1 0 rfl rfl)
theorem dX0_loss_26 : decode cX0_loss 26 = .ok (.iload 4, 2) := dk_21 4 (dk_at dksX0_loss_1 2 rfl rfl)
theorem dX0_loss_28 : decode cX0_loss 28 = .ok (.aload_n 0, 1) := dk_42 (dk_at dksX0_loss_1 4 rfl rfl)
theorem dX0_loss_29 : decode cX0_loss 29 = .ok (.getfield 28, 3) := dk_180 0 28 (dk_at dksX0_loss_1 5 rfl rfl)
theorem dX0_loss_32 : decode cX0_loss 32 = .ok (.invokevirtual 100, 3) := dk_182 0 100 (dk_at dksX0_loss_1 8 rfl rfl)
theorem dX0_loss_35 : decode cX0_loss 35 = .ok (.if_icmp .ge 50, 3) := dk_162 0 50 (dk_at dksX0_loss_1 11 rfl rfl)
theorem dX0_loss_38 : decode cX0_loss 38 = .ok (.lload_n 2, 1) := dk_32 (dk_at dksX0_loss_1 14 rfl rfl)
theorem dX0_loss_39 : decode cX0_loss 39 = .ok (.aload_n 0, 1) := dk_42 (dk_at dksX0_loss_1 15 rfl rfl)
theorem dX0_loss_40 : decode cX0_loss 40 = .ok (.invokevirtual 161, 3) := dk_182 0 161 (dk_at dksX0_loss_1 16 rfl rfl)
theorem dX0_loss_43 : decode cX0_loss 43 = .ok (.iload 4, 2) := dk_21 4 (dk_at dksX0_loss_1 19 rfl rfl)
theorem dX0_loss_45 : decode cX0_loss 45 = .ok (.invokevirtual 203, 3) := dk_182 0 203 (dk_at dksX0_loss_1 21 rfl rfl)
theorem dX0_loss_48 : decode cX0_loss 48 = .ok (.ifCond .eq 28, 3) := dk_153 0 28 (dk_at dksX0_loss_2 0 rfl rfl)
theorem dX0_loss_51 : decode cX0_loss 51 = .ok (.aload_n 0, 1) := dk_42 (dk_at dksX0_loss_2 3 rfl rfl)
theorem dX0_loss_52 : decode cX0_loss 52 = .ok (.getfield 49, 3) := dk_180 0 49 (dk_at dksX0_loss_2 4 rfl rfl)
theorem dX0_loss_55 : decode cX0_loss 55 = .ok (.getfield 216, 3) := dk_180 0 216 (dk_at dksX0_loss_2 7 rfl rfl)
theorem dX0_loss_58 : decode cX0_loss 58 = .ok (.iload 4, 2) := dk_21 4 (dk_at dksX0_loss_2 10 rfl rfl)
theorem dX0_loss_60 : decode cX0_loss 60 = .ok (.laload, 1) := dk_47 (dk_at dksX0_loss_2 12 rfl rfl)
theorem dX0_loss_61 : decode cX0_loss 61 = .ok (.aload_n 0, 1) := dk_42 (dk_at dksX0_loss_2 13 rfl rfl)
theorem dX0_loss_62 : decode cX0_loss 62 = .ok (.getfield 28, 3) := dk_180 0 28 (dk_at dksX0_loss_2 14 rfl rfl)
theorem dX0_loss_65 : decode cX0_loss 65 = .ok (.getfield 197, 3) := dk_180 0 197 (dk_at dksX0_loss_2 17 rfl rfl)
theorem dX0_loss_68 : decode cX0_loss 68 = .ok (.iload 4, 2) := dk_21 4 (dk_at dksX0_loss_2 20 rfl rfl)
theorem dX0_loss_70 : decode cX0_loss 70 = .ok (.iaload, 1) := dk_46 (dk_at dksX0_loss_2 22 rfl rfl)
theorem dX0_loss_71 : decode cX0_loss 71 = .ok (.i2l, 1) := dk_133 (dk_at dksX0_loss_2 23 rfl rfl)
theorem dX0_loss_72 : decode cX0_loss 72 = .ok (.lmul, 1) := dk_105 (dk_at dksX0_loss_3 0 rfl rfl)
theorem dX0_loss_73 : decode cX0_loss 73 = .ok (.goto 4, 3) := dk_167 0 4 (dk_at dksX0_loss_3 1 rfl rfl)
theorem dX0_loss_76 : decode cX0_loss 76 = .ok (.lconst 0, 1) := dk_9 (dk_at dksX0_loss_3 4 rfl rfl)
theorem dX0_loss_77 : decode cX0_loss 77 = .ok (.ladd, 1) := dk_97 (dk_at dksX0_loss_3 5 rfl rfl)
theorem dX0_loss_78 : decode cX0_loss 78 = .ok (.lstore_n 2, 1) := dk_65 (dk_at dksX0_loss_3 6 rfl rfl)
theorem dX0_loss_79 : decode cX0_loss 79 = .ok (.iinc 4 1, 3) := dk_132 4 1 (dk_at dksX0_loss_3 7 rfl rfl)
theorem dX0_loss_82 : decode cX0_loss 82 = .ok (.goto (-56), 3) := dk_167 255 200 (dk_at dksX0_loss_3 10 rfl rfl)
theorem dX0_loss_85 : decode cX0_loss 85 = .ok (.lload_n 2, 1) := dk_32 (dk_at dksX0_loss_3 13 rfl rfl)
theorem dX0_loss_86 : decode cX0_loss 86 = .ok (.aload_n 0, 1) := dk_42 (dk_at dksX0_loss_3 14 rfl rfl)
theorem dX0_loss_87 : decode cX0_loss 87 = .ok (.getfield 49, 3) := dk_180 0 49 (dk_at dksX0_loss_3 15 rfl rfl)
theorem dX0_loss_90 : decode cX0_loss 90 = .ok (.getfield 128, 3) := dk_180 0 128 (dk_at dksX0_loss_3 18 rfl rfl)
theorem dX0_loss_93 : decode cX0_loss 93 = .ok (.iload_n 1, 1) := dk_27 (dk_at dksX0_loss_3 21 rfl rfl)
theorem dX0_loss_94 : decode cX0_loss 94 = .ok (.invokestatic 219, 3) := dk_184 0 219 (dk_at dksX0_loss_4 0 rfl rfl)
theorem dX0_loss_97 : decode cX0_loss 97 = .ok (.lreturn, 1) := dk_173 (dk_at dksX0_loss_4 3 rfl rfl)
abbrev cX0_moves : ByteArray := prog_1_method_34_code
def yX0_moves : MethodName := ⟨RX0, "moves", "(III)J"⟩
def dkwX0_moves_3 : List UInt8 := [184, 0, 219, 173]
abbrev dktX0_moves_3 : List UInt8 := dkwX0_moves_3 ++ []
def dkwX0_moves_2 : List UInt8 := [154, 0, 7, 20, 0, 223, 173, 42, 180, 0, 49, 27, 28, 182, 0, 244, 42, 180, 0, 49, 180, 0, 128, 29]
abbrev dktX0_moves_2 : List UInt8 := dkwX0_moves_2 ++ dktX0_moves_3
def dkwX0_moves_1 : List UInt8 := [20, 0, 214, 173, 42, 182, 0, 161, 27, 182, 0, 203, 153, 0, 14, 42, 180, 0, 49, 28, 182, 0, 203]
abbrev dktX0_moves_1 : List UInt8 := dkwX0_moves_1 ++ dktX0_moves_2
def dkwX0_moves_0 : List UInt8 := [42, 27, 182, 0, 180, 153, 0, 18, 42, 28, 182, 0, 180, 153, 0, 10, 29, 184, 0, 211, 154, 0, 7]
abbrev dktX0_moves_0 : List UInt8 := dkwX0_moves_0 ++ dktX0_moves_1
theorem dksX0_moves_0 : cX0_moves.data.toList.drop 0 = dktX0_moves_0 := by decide +kernel
theorem dksX0_moves_1 : cX0_moves.data.toList.drop 23 = dktX0_moves_1 := dk_seg dksX0_moves_0 23 rfl rfl
theorem dksX0_moves_2 : cX0_moves.data.toList.drop 46 = dktX0_moves_2 := dk_seg dksX0_moves_1 23 rfl rfl
theorem dksX0_moves_3 : cX0_moves.data.toList.drop 70 = dktX0_moves_3 := dk_seg dksX0_moves_2 24 rfl rfl
theorem dX0_moves_0 : decode cX0_moves 0 = .ok (.aload_n 0, 1) := dk_42 (dk_at dksX0_moves_0 0 rfl rfl)
theorem dX0_moves_1 : decode cX0_moves 1 = .ok (.iload_n 1, 1) := dk_27 (dk_at dksX0_moves_0 1 rfl rfl)
theorem dX0_moves_2 : decode cX0_moves 2 = .ok (.invokevirtual 180, 3) := dk_182 0 180 (dk_at dksX0_moves_0 2 rfl rfl)
theorem dX0_moves_5 : decode cX0_moves 5 = .ok (.ifCond .eq 18, 3) := dk_153 0 18 (dk_at dksX0_moves_0 5 rfl rfl)
theorem dX0_moves_8 : decode cX0_moves 8 = .ok (.aload_n 0, 1) := dk_42 (dk_at dksX0_moves_0 8 rfl rfl)
theorem dX0_moves_9 : decode cX0_moves 9 = .ok (.iload_n 2, 1) := dk_28 (dk_at dksX0_moves_0 9 rfl rfl)
theorem dX0_moves_10 : decode cX0_moves 10 = .ok (.invokevirtual 180, 3) := dk_182 0 180 (dk_at dksX0_moves_0 10 rfl rfl)
theorem dX0_moves_13 : decode cX0_moves 13 = .ok (.ifCond .eq 10, 3) := dk_153 0 10 (dk_at dksX0_moves_0 13 rfl rfl)
theorem dX0_moves_16 : decode cX0_moves 16 = .ok (.iload_n 3, 1) := dk_29 (dk_at dksX0_moves_0 16 rfl rfl)
theorem dX0_moves_17 : decode cX0_moves 17 = .ok (.invokestatic 211, 3) := dk_184 0 211 (dk_at dksX0_moves_0 17 rfl rfl)
theorem dX0_moves_20 : decode cX0_moves 20 = .ok (.ifCond .ne 7, 3) := dk_154 0 7 (dk_at dksX0_moves_0 20 rfl rfl)
theorem dX0_moves_23 : decode cX0_moves 23 = .ok (.ldc2_w 214, 3) := dk_20 0 214 (dk_at dksX0_moves_1 0 rfl rfl)
theorem dX0_moves_26 : decode cX0_moves 26 = .ok (.lreturn, 1) := dk_173 (dk_at dksX0_moves_1 3 rfl rfl)
theorem dX0_moves_27 : decode cX0_moves 27 = .ok (.aload_n 0, 1) := dk_42 (dk_at dksX0_moves_1 4 rfl rfl)
theorem dX0_moves_28 : decode cX0_moves 28 = .ok (.invokevirtual 161, 3) := dk_182 0 161 (dk_at dksX0_moves_1 5 rfl rfl)
theorem dX0_moves_31 : decode cX0_moves 31 = .ok (.iload_n 1, 1) := dk_27 (dk_at dksX0_moves_1 8 rfl rfl)
theorem dX0_moves_32 : decode cX0_moves 32 = .ok (.invokevirtual 203, 3) := dk_182 0 203 (dk_at dksX0_moves_1 9 rfl rfl)
theorem dX0_moves_35 : decode cX0_moves 35 = .ok (.ifCond .eq 14, 3) := dk_153 0 14 (dk_at dksX0_moves_1 12 rfl rfl)
theorem dX0_moves_38 : decode cX0_moves 38 = .ok (.aload_n 0, 1) := dk_42 (dk_at dksX0_moves_1 15 rfl rfl)
theorem dX0_moves_39 : decode cX0_moves 39 = .ok (.getfield 49, 3) := dk_180 0 49 (dk_at dksX0_moves_1 16 rfl rfl)
theorem dX0_moves_42 : decode cX0_moves 42 = .ok (.iload_n 2, 1) := dk_28 (dk_at dksX0_moves_1 19 rfl rfl)
theorem dX0_moves_43 : decode cX0_moves 43 = .ok (.invokevirtual 203, 3) := dk_182 0 203 (dk_at dksX0_moves_1 20 rfl rfl)
theorem dX0_moves_46 : decode cX0_moves 46 = .ok (.ifCond .ne 7, 3) := dk_154 0 7 (dk_at dksX0_moves_2 0 rfl rfl)
theorem dX0_moves_49 : decode cX0_moves 49 = .ok (.ldc2_w 223, 3) := dk_20 0 223 (dk_at dksX0_moves_2 3 rfl rfl)
theorem dX0_moves_52 : decode cX0_moves 52 = .ok (.lreturn, 1) := dk_173 (dk_at dksX0_moves_2 6 rfl rfl)
theorem dX0_moves_53 : decode cX0_moves 53 = .ok (.aload_n 0, 1) := dk_42 (dk_at dksX0_moves_2 7 rfl rfl)
theorem dX0_moves_54 : decode cX0_moves 54 = .ok (.getfield 49, 3) := dk_180 0 49 (dk_at dksX0_moves_2 8 rfl rfl)
theorem dX0_moves_57 : decode cX0_moves 57 = .ok (.iload_n 1, 1) := dk_27 (dk_at dksX0_moves_2 11 rfl rfl)
theorem dX0_moves_58 : decode cX0_moves 58 = .ok (.iload_n 2, 1) := dk_28 (dk_at dksX0_moves_2 12 rfl rfl)
theorem dX0_moves_59 : decode cX0_moves 59 = .ok (.invokevirtual 244, 3) := dk_182 0 244 (dk_at dksX0_moves_2 13 rfl rfl)
theorem dX0_moves_62 : decode cX0_moves 62 = .ok (.aload_n 0, 1) := dk_42 (dk_at dksX0_moves_2 16 rfl rfl)
theorem dX0_moves_63 : decode cX0_moves 63 = .ok (.getfield 49, 3) := dk_180 0 49 (dk_at dksX0_moves_2 17 rfl rfl)
theorem dX0_moves_66 : decode cX0_moves 66 = .ok (.getfield 128, 3) := dk_180 0 128 (dk_at dksX0_moves_2 20 rfl rfl)
theorem dX0_moves_69 : decode cX0_moves 69 = .ok (.iload_n 3, 1) := dk_29 (dk_at dksX0_moves_2 23 rfl rfl)
theorem dX0_moves_70 : decode cX0_moves 70 = .ok (.invokestatic 219, 3) := dk_184 0 219 (dk_at dksX0_moves_3 0 rfl rfl)
theorem dX0_moves_73 : decode cX0_moves 73 = .ok (.lreturn, 1) := dk_173 (dk_at dksX0_moves_3 3 rfl rfl)
abbrev cX0_resists : ByteArray := prog_1_method_35_code
def yX0_resists : MethodName := ⟨RX0, "resists", "(III)J"⟩
def dkwX0_resists_3 : List UInt8 := [182, 0, 252, 42, 180, 0, 53, 28, 28, 182, 0, 244, 42, 180, 0, 53, 180, 0, 128, 29, 184, 0, 219, 173]
abbrev dktX0_resists_3 : List UInt8 := dkwX0_resists_3 ++ []
def dkwX0_resists_2 : List UInt8 := [21, 4, 28, 184, 0, 193, 154, 0, 7, 20, 0, 223, 173, 42, 180, 0, 53, 21, 4, 4, 27, 120]
abbrev dktX0_resists_2 : List UInt8 := dkwX0_resists_2 ++ dktX0_resists_3
def dkwX0_resists_1 : List UInt8 := [20, 0, 214, 173, 42, 180, 0, 53, 182, 0, 107, 42, 180, 0, 53, 4, 27, 120, 182, 0, 248, 54, 4]
abbrev dktX0_resists_1 : List UInt8 := dkwX0_resists_1 ++ dktX0_resists_2
def dkwX0_resists_0 : List UInt8 := [42, 27, 182, 0, 180, 153, 0, 18, 42, 28, 182, 0, 180, 153, 0, 10, 29, 184, 0, 211, 154, 0, 7]
abbrev dktX0_resists_0 : List UInt8 := dkwX0_resists_0 ++ dktX0_resists_1
theorem dksX0_resists_0 : cX0_resists.data.toList.drop 0 = dktX0_resists_0 := by decide +kernel
theorem dksX0_resists_1 : cX0_resists.data.toList.drop 23 = dktX0_resists_1 := dk_seg dksX0_resists_0 23 rfl rfl
theorem dksX0_resists_2 : cX0_resists.data.toList.drop 46 = dktX0_resists_2 := dk_seg dksX0_resists_1 23 rfl rfl
theorem dksX0_resists_3 : cX0_resists.data.toList.drop 68 = dktX0_resists_3 := dk_seg dksX0_resists_2 22 rfl rfl
theorem dX0_resists_0 : decode cX0_resists 0 = .ok (.aload_n 0, 1) := dk_42 (dk_at dksX0_resists_0 0 rfl rfl)
theorem dX0_resists_1 : decode cX0_resists 1 = .ok (.iload_n 1, 1) := dk_27 (dk_at dksX0_resists_0 1 rfl rfl)
theorem dX0_resists_2 : decode cX0_resists 2 = .ok (.invokevirtual 180, 3) := dk_182 0 180 (dk_at dksX0_resists_0 2 rfl rfl)
theorem dX0_resists_5 : decode cX0_resists 5 = .ok (.ifCond .eq 18, 3) := dk_153 0 18 (dk_at dksX0_resists_0 5 rfl rfl)
theorem dX0_resists_8 : decode cX0_resists 8 = .ok (.aload_n 0, 1) := dk_42 (dk_at dksX0_resists_0 8 rfl rfl)
theorem dX0_resists_9 : decode cX0_resists 9 = .ok (.iload_n 2, 1) := dk_28 (dk_at dksX0_resists_0 9 rfl rfl)
theorem dX0_resists_10 : decode cX0_resists 10 = .ok (.invokevirtual 180, 3) := dk_182 0 180 (dk_at dksX0_resists_0 10 rfl rfl)
theorem dX0_resists_13 : decode cX0_resists 13 = .ok (.ifCond .eq 10, 3) := dk_153 0 10 (dk_at dksX0_resists_0 13 rfl rfl)
theorem dX0_resists_16 : decode cX0_resists 16 = .ok (.iload_n 3, 1) := dk_29 (dk_at dksX0_resists_0 16 rfl rfl)
theorem dX0_resists_17 : decode cX0_resists 17 = .ok (.invokestatic 211, 3) := dk_184 0 211 (dk_at dksX0_resists_0 17 rfl rfl)
theorem dX0_resists_20 : decode cX0_resists 20 = .ok (.ifCond .ne 7, 3) := dk_154 0 7 (dk_at dksX0_resists_0 20 rfl rfl)
theorem dX0_resists_23 : decode cX0_resists 23 = .ok (.ldc2_w 214, 3) := dk_20 0 214 (dk_at dksX0_resists_1 0 rfl rfl)
theorem dX0_resists_26 : decode cX0_resists 26 = .ok (.lreturn, 1) := dk_173 (dk_at dksX0_resists_1 3 rfl rfl)
theorem dX0_resists_27 : decode cX0_resists 27 = .ok (.aload_n 0, 1) := dk_42 (dk_at dksX0_resists_1 4 rfl rfl)
theorem dX0_resists_28 : decode cX0_resists 28 = .ok (.getfield 53, 3) := dk_180 0 53 (dk_at dksX0_resists_1 5 rfl rfl)
theorem dX0_resists_31 : decode cX0_resists 31 = .ok (.invokevirtual 107, 3) := dk_182 0 107 (dk_at dksX0_resists_1 8 rfl rfl)
theorem dX0_resists_34 : decode cX0_resists 34 = .ok (.aload_n 0, 1) := dk_42 (dk_at dksX0_resists_1 11 rfl rfl)
theorem dX0_resists_35 : decode cX0_resists 35 = .ok (.getfield 53, 3) := dk_180 0 53 (dk_at dksX0_resists_1 12 rfl rfl)
theorem dX0_resists_38 : decode cX0_resists 38 = .ok (.iconst 1, 1) := dk_4 (dk_at dksX0_resists_1 15 rfl rfl)
theorem dX0_resists_39 : decode cX0_resists 39 = .ok (.iload_n 1, 1) := dk_27 (dk_at dksX0_resists_1 16 rfl rfl)
theorem dX0_resists_40 : decode cX0_resists 40 = .ok (.ishl, 1) := dk_120 (dk_at dksX0_resists_1 17 rfl rfl)
theorem dX0_resists_41 : decode cX0_resists 41 = .ok (.invokevirtual 248, 3) := dk_182 0 248 (dk_at dksX0_resists_1 18 rfl rfl)
theorem dX0_resists_44 : decode cX0_resists 44 = .ok (.istore 4, 2) := dk_54 4 (dk_at dksX0_resists_1 21 rfl rfl)
theorem dX0_resists_46 : decode cX0_resists 46 = .ok (.iload 4, 2) := dk_21 4 (dk_at dksX0_resists_2 0 rfl rfl)
theorem dX0_resists_48 : decode cX0_resists 48 = .ok (.iload_n 2, 1) := dk_28 (dk_at dksX0_resists_2 2 rfl rfl)
theorem dX0_resists_49 : decode cX0_resists 49 = .ok (.invokestatic 193, 3) := dk_184 0 193 (dk_at dksX0_resists_2 3 rfl rfl)
theorem dX0_resists_52 : decode cX0_resists 52 = .ok (.ifCond .ne 7, 3) := dk_154 0 7 (dk_at dksX0_resists_2 6 rfl rfl)
theorem dX0_resists_55 : decode cX0_resists 55 = .ok (.ldc2_w 223, 3) := dk_20 0 223 (dk_at dksX0_resists_2 9 rfl rfl)
theorem dX0_resists_58 : decode cX0_resists 58 = .ok (.lreturn, 1) := dk_173 (dk_at dksX0_resists_2 12 rfl rfl)
theorem dX0_resists_59 : decode cX0_resists 59 = .ok (.aload_n 0, 1) := dk_42 (dk_at dksX0_resists_2 13 rfl rfl)
theorem dX0_resists_60 : decode cX0_resists 60 = .ok (.getfield 53, 3) := dk_180 0 53 (dk_at dksX0_resists_2 14 rfl rfl)
theorem dX0_resists_63 : decode cX0_resists 63 = .ok (.iload 4, 2) := dk_21 4 (dk_at dksX0_resists_2 17 rfl rfl)
theorem dX0_resists_65 : decode cX0_resists 65 = .ok (.iconst 1, 1) := dk_4 (dk_at dksX0_resists_2 19 rfl rfl)
theorem dX0_resists_66 : decode cX0_resists 66 = .ok (.iload_n 1, 1) := dk_27 (dk_at dksX0_resists_2 20 rfl rfl)
theorem dX0_resists_67 : decode cX0_resists 67 = .ok (.ishl, 1) := dk_120 (dk_at dksX0_resists_2 21 rfl rfl)
theorem dX0_resists_68 : decode cX0_resists 68 = .ok (.invokevirtual 252, 3) := dk_182 0 252 (dk_at dksX0_resists_3 0 rfl rfl)
theorem dX0_resists_71 : decode cX0_resists 71 = .ok (.aload_n 0, 1) := dk_42 (dk_at dksX0_resists_3 3 rfl rfl)
theorem dX0_resists_72 : decode cX0_resists 72 = .ok (.getfield 53, 3) := dk_180 0 53 (dk_at dksX0_resists_3 4 rfl rfl)
theorem dX0_resists_75 : decode cX0_resists 75 = .ok (.iload_n 2, 1) := dk_28 (dk_at dksX0_resists_3 7 rfl rfl)
theorem dX0_resists_76 : decode cX0_resists 76 = .ok (.iload_n 2, 1) := dk_28 (dk_at dksX0_resists_3 8 rfl rfl)
theorem dX0_resists_77 : decode cX0_resists 77 = .ok (.invokevirtual 244, 3) := dk_182 0 244 (dk_at dksX0_resists_3 9 rfl rfl)
theorem dX0_resists_80 : decode cX0_resists 80 = .ok (.aload_n 0, 1) := dk_42 (dk_at dksX0_resists_3 12 rfl rfl)
theorem dX0_resists_81 : decode cX0_resists 81 = .ok (.getfield 53, 3) := dk_180 0 53 (dk_at dksX0_resists_3 13 rfl rfl)
theorem dX0_resists_84 : decode cX0_resists 84 = .ok (.getfield 128, 3) := dk_180 0 128 (dk_at dksX0_resists_3 16 rfl rfl)
theorem dX0_resists_87 : decode cX0_resists 87 = .ok (.iload_n 3, 1) := dk_29 (dk_at dksX0_resists_3 19 rfl rfl)
theorem dX0_resists_88 : decode cX0_resists 88 = .ok (.invokestatic 219, 3) := dk_184 0 219 (dk_at dksX0_resists_3 20 rfl rfl)
theorem dX0_resists_91 : decode cX0_resists 91 = .ok (.lreturn, 1) := dk_173 (dk_at dksX0_resists_3 23 rfl rfl)
abbrev cX0_hottest : ByteArray := prog_1_method_36_code
def yX0_hottest : MethodName := ⟨RX0, "hottest", "()I"⟩
def dkwX0_hottest_3 : List UInt8 := [132, 2, 1, 167, 255, 205, 27, 172]
abbrev dktX0_hottest_3 : List UInt8 := dkwX0_hottest_3 ++ []
def dkwX0_hottest_2 : List UInt8 := [160, 0, 7, 9, 167, 0, 14, 42, 180, 0, 49, 27, 182, 0, 227, 184, 0, 3, 148, 158, 0, 5, 28, 60]
abbrev dktX0_hottest_2 : List UInt8 := dkwX0_hottest_2 ++ dktX0_hottest_3
def dkwX0_hottest_1 : List UInt8 := [180, 0, 28, 180, 0, 104, 162, 0, 46, 42, 180, 0, 49, 28, 182, 0, 227, 184, 0, 3, 27, 2]
abbrev dktX0_hottest_1 : List UInt8 := dkwX0_hottest_1 ++ dktX0_hottest_2
def dkwX0_hottest_0 : List UInt8 := [42, 180, 0, 28, 182, 0, 158, 154, 0, 6, 16, 254, 172, 42, 182, 0, 161, 87, 2, 60, 3, 61, 28, 42]
abbrev dktX0_hottest_0 : List UInt8 := dkwX0_hottest_0 ++ dktX0_hottest_1
theorem dksX0_hottest_0 : cX0_hottest.data.toList.drop 0 = dktX0_hottest_0 := by decide +kernel
theorem dksX0_hottest_1 : cX0_hottest.data.toList.drop 24 = dktX0_hottest_1 := dk_seg dksX0_hottest_0 24 rfl rfl
theorem dksX0_hottest_2 : cX0_hottest.data.toList.drop 46 = dktX0_hottest_2 := dk_seg dksX0_hottest_1 22 rfl rfl
theorem dksX0_hottest_3 : cX0_hottest.data.toList.drop 70 = dktX0_hottest_3 := dk_seg dksX0_hottest_2 24 rfl rfl
theorem dX0_hottest_0 : decode cX0_hottest 0 = .ok (.aload_n 0, 1) := dk_42 (dk_at dksX0_hottest_0 0 rfl rfl)
theorem dX0_hottest_1 : decode cX0_hottest 1 = .ok (.getfield 28, 3) := dk_180 0 28 (dk_at dksX0_hottest_0 1 rfl rfl)
theorem dX0_hottest_4 : decode cX0_hottest 4 = .ok (.invokevirtual 158, 3) := dk_182 0 158 (dk_at dksX0_hottest_0 4 rfl rfl)
theorem dX0_hottest_7 : decode cX0_hottest 7 = .ok (.ifCond .ne 6, 3) := dk_154 0 6 (dk_at dksX0_hottest_0 7 rfl rfl)
theorem dX0_hottest_10 : decode cX0_hottest 10 = .ok (.bipush (-2), 2) := dk_16 254 (dk_at dksX0_hottest_0 10 rfl rfl)
theorem dX0_hottest_12 : decode cX0_hottest 12 = .ok (.ireturn, 1) := dk_172 (dk_at dksX0_hottest_0 12 rfl rfl)
theorem dX0_hottest_13 : decode cX0_hottest 13 = .ok (.aload_n 0, 1) := dk_42 (dk_at dksX0_hottest_0 13 rfl rfl)
theorem dX0_hottest_14 : decode cX0_hottest 14 = .ok (.invokevirtual 161, 3) := dk_182 0 161 (dk_at dksX0_hottest_0 14 rfl rfl)
theorem dX0_hottest_17 : decode cX0_hottest 17 = .ok (.pop, 1) := dk_87 (dk_at dksX0_hottest_0 17 rfl rfl)
theorem dX0_hottest_18 : decode cX0_hottest 18 = .ok (.iconst (-1), 1) := dk_2 (dk_at dksX0_hottest_0 18 rfl rfl)
theorem dX0_hottest_19 : decode cX0_hottest 19 = .ok (.istore_n 1, 1) := dk_60 (dk_at dksX0_hottest_0 19 rfl rfl)
theorem dX0_hottest_20 : decode cX0_hottest 20 = .ok (.iconst 0, 1) := dk_3 (dk_at dksX0_hottest_0 20 rfl rfl)
theorem dX0_hottest_21 : decode cX0_hottest 21 = .ok (.istore_n 2, 1) := dk_61 (dk_at dksX0_hottest_0 21 rfl rfl)
theorem dX0_hottest_22 : decode cX0_hottest 22 = .ok (.iload_n 2, 1) := dk_28 (dk_at dksX0_hottest_0 22 rfl rfl)
theorem dX0_hottest_23 : decode cX0_hottest 23 = .ok (.aload_n 0, 1) := dk_42 (dk_at dksX0_hottest_0 23 rfl rfl)
theorem dX0_hottest_24 : decode cX0_hottest 24 = .ok (.getfield 28, 3) := dk_180 0 28 (dk_at dksX0_hottest_1 0 rfl rfl)
theorem dX0_hottest_27 : decode cX0_hottest 27 = .ok (.getfield 104, 3) := dk_180 0 104 (dk_at dksX0_hottest_1 3 rfl rfl)
theorem dX0_hottest_30 : decode cX0_hottest 30 = .ok (.if_icmp .ge 46, 3) := dk_162 0 46 (dk_at dksX0_hottest_1 6 rfl rfl)
theorem dX0_hottest_33 : decode cX0_hottest 33 = .ok (.aload_n 0, 1) := dk_42 (dk_at dksX0_hottest_1 9 rfl rfl)
theorem dX0_hottest_34 : decode cX0_hottest 34 = .ok (.getfield 49, 3) := dk_180 0 49 (dk_at dksX0_hottest_1 10 rfl rfl)
theorem dX0_hottest_37 : decode cX0_hottest 37 = .ok (.iload_n 2, 1) := dk_28 (dk_at dksX0_hottest_1 13 rfl rfl)
theorem dX0_hottest_38 : decode cX0_hottest 38 = .ok (.invokevirtual 227, 3) := dk_182 0 227 (dk_at dksX0_hottest_1 14 rfl rfl)
theorem dX0_hottest_41 : decode cX0_hottest 41 = .ok (.invokestatic 3, 3) := dk_184 0 3 (dk_at dksX0_hottest_1 17 rfl rfl)
theorem dX0_hottest_44 : decode cX0_hottest 44 = .ok (.iload_n 1, 1) := dk_27 (dk_at dksX0_hottest_1 20 rfl rfl)
theorem dX0_hottest_45 : decode cX0_hottest 45 = .ok (.iconst (-1), 1) := dk_2 (dk_at dksX0_hottest_1 21 rfl rfl)
theorem dX0_hottest_46 : decode cX0_hottest 46 = .ok (.if_icmp .ne 7, 3) := dk_160 0 7 (dk_at dksX0_hottest_2 0 rfl rfl)
theorem dX0_hottest_49 : decode cX0_hottest 49 = .ok (.lconst 0, 1) := dk_9 (dk_at dksX0_hottest_2 3 rfl rfl)
theorem dX0_hottest_50 : decode cX0_hottest 50 = .ok (.goto 14, 3) := dk_167 0 14 (dk_at dksX0_hottest_2 4 rfl rfl)
theorem dX0_hottest_53 : decode cX0_hottest 53 = .ok (.aload_n 0, 1) := dk_42 (dk_at dksX0_hottest_2 7 rfl rfl)
theorem dX0_hottest_54 : decode cX0_hottest 54 = .ok (.getfield 49, 3) := dk_180 0 49 (dk_at dksX0_hottest_2 8 rfl rfl)
theorem dX0_hottest_57 : decode cX0_hottest 57 = .ok (.iload_n 1, 1) := dk_27 (dk_at dksX0_hottest_2 11 rfl rfl)
theorem dX0_hottest_58 : decode cX0_hottest 58 = .ok (.invokevirtual 227, 3) := dk_182 0 227 (dk_at dksX0_hottest_2 12 rfl rfl)
theorem dX0_hottest_61 : decode cX0_hottest 61 = .ok (.invokestatic 3, 3) := dk_184 0 3 (dk_at dksX0_hottest_2 15 rfl rfl)
theorem dX0_hottest_64 : decode cX0_hottest 64 = .ok (.lcmp, 1) := dk_148 (dk_at dksX0_hottest_2 18 rfl rfl)
theorem dX0_hottest_65 : decode cX0_hottest 65 = .ok (.ifCond .le 5, 3) := dk_158 0 5 (dk_at dksX0_hottest_2 19 rfl rfl)
theorem dX0_hottest_68 : decode cX0_hottest 68 = .ok (.iload_n 2, 1) := dk_28 (dk_at dksX0_hottest_2 22 rfl rfl)
theorem dX0_hottest_69 : decode cX0_hottest 69 = .ok (.istore_n 1, 1) := dk_60 (dk_at dksX0_hottest_2 23 rfl rfl)
theorem dX0_hottest_70 : decode cX0_hottest 70 = .ok (.iinc 2 1, 3) := dk_132 2 1 (dk_at dksX0_hottest_3 0 rfl rfl)
theorem dX0_hottest_73 : decode cX0_hottest 73 = .ok (.goto (-51), 3) := dk_167 255 205 (dk_at dksX0_hottest_3 3 rfl rfl)
theorem dX0_hottest_76 : decode cX0_hottest 76 = .ok (.iload_n 1, 1) := dk_27 (dk_at dksX0_hottest_3 6 rfl rfl)
theorem dX0_hottest_77 : decode cX0_hottest 77 = .ok (.ireturn, 1) := dk_172 (dk_at dksX0_hottest_3 7 rfl rfl)
abbrev cX0_wearing : ByteArray := prog_1_method_37_code
def yX0_wearing : MethodName := ⟨RX0, "wearing", "()I"⟩
def dkwX0_wearing_0 : List UInt8 := [42, 180, 0, 28, 182, 0, 158, 153, 0, 13, 42, 182, 0, 161, 182, 1, 0, 167, 0, 5, 16, 254, 172]
abbrev dktX0_wearing_0 : List UInt8 := dkwX0_wearing_0 ++ []
theorem dksX0_wearing_0 : cX0_wearing.data.toList.drop 0 = dktX0_wearing_0 := by decide +kernel
theorem dX0_wearing_0 : decode cX0_wearing 0 = .ok (.aload_n 0, 1) := dk_42 (dk_at dksX0_wearing_0 0 rfl rfl)
theorem dX0_wearing_1 : decode cX0_wearing 1 = .ok (.getfield 28, 3) := dk_180 0 28 (dk_at dksX0_wearing_0 1 rfl rfl)
theorem dX0_wearing_4 : decode cX0_wearing 4 = .ok (.invokevirtual 158, 3) := dk_182 0 158 (dk_at dksX0_wearing_0 4 rfl rfl)
theorem dX0_wearing_7 : decode cX0_wearing 7 = .ok (.ifCond .eq 13, 3) := dk_153 0 13 (dk_at dksX0_wearing_0 7 rfl rfl)
theorem dX0_wearing_10 : decode cX0_wearing 10 = .ok (.aload_n 0, 1) := dk_42 (dk_at dksX0_wearing_0 10 rfl rfl)
theorem dX0_wearing_11 : decode cX0_wearing 11 = .ok (.invokevirtual 161, 3) := dk_182 0 161 (dk_at dksX0_wearing_0 11 rfl rfl)
theorem dX0_wearing_14 : decode cX0_wearing 14 = .ok (.invokevirtual 256, 3) := dk_182 1 0 (dk_at dksX0_wearing_0 14 rfl rfl)
theorem dX0_wearing_17 : decode cX0_wearing 17 = .ok (.goto 5, 3) := dk_167 0 5 (dk_at dksX0_wearing_0 17 rfl rfl)
theorem dX0_wearing_20 : decode cX0_wearing 20 = .ok (.bipush (-2), 2) := dk_16 254 (dk_at dksX0_wearing_0 20 rfl rfl)
theorem dX0_wearing_22 : decode cX0_wearing 22 = .ok (.ireturn, 1) := dk_172 (dk_at dksX0_wearing_0 22 rfl rfl)
abbrev cX0_most : ByteArray := prog_1_method_40_code
def yX0_most : MethodName := ⟨RX0, "most", "(II)J"⟩
def dkwX0_most_2 : List UInt8 := [167, 0, 6, 20, 0, 223, 173]
abbrev dktX0_most_2 : List UInt8 := dkwX0_most_2 ++ []
def dkwX0_most_1 : List UInt8 := [182, 0, 203, 153, 0, 22, 42, 27, 182, 1, 12, 42, 180, 0, 49, 180, 0, 128, 28, 184, 0, 219]
abbrev dktX0_most_1 : List UInt8 := dkwX0_most_1 ++ dktX0_most_2
def dkwX0_most_0 : List UInt8 := [42, 27, 182, 0, 180, 153, 0, 10, 28, 184, 0, 211, 154, 0, 7, 20, 0, 214, 173, 42, 182, 0, 161, 27]
abbrev dktX0_most_0 : List UInt8 := dkwX0_most_0 ++ dktX0_most_1
theorem dksX0_most_0 : cX0_most.data.toList.drop 0 = dktX0_most_0 := by decide +kernel
theorem dksX0_most_1 : cX0_most.data.toList.drop 24 = dktX0_most_1 := dk_seg dksX0_most_0 24 rfl rfl
theorem dksX0_most_2 : cX0_most.data.toList.drop 46 = dktX0_most_2 := dk_seg dksX0_most_1 22 rfl rfl
theorem dX0_most_0 : decode cX0_most 0 = .ok (.aload_n 0, 1) := dk_42 (dk_at dksX0_most_0 0 rfl rfl)
theorem dX0_most_1 : decode cX0_most 1 = .ok (.iload_n 1, 1) := dk_27 (dk_at dksX0_most_0 1 rfl rfl)
theorem dX0_most_2 : decode cX0_most 2 = .ok (.invokevirtual 180, 3) := dk_182 0 180 (dk_at dksX0_most_0 2 rfl rfl)
theorem dX0_most_5 : decode cX0_most 5 = .ok (.ifCond .eq 10, 3) := dk_153 0 10 (dk_at dksX0_most_0 5 rfl rfl)
theorem dX0_most_8 : decode cX0_most 8 = .ok (.iload_n 2, 1) := dk_28 (dk_at dksX0_most_0 8 rfl rfl)
theorem dX0_most_9 : decode cX0_most 9 = .ok (.invokestatic 211, 3) := dk_184 0 211 (dk_at dksX0_most_0 9 rfl rfl)
theorem dX0_most_12 : decode cX0_most 12 = .ok (.ifCond .ne 7, 3) := dk_154 0 7 (dk_at dksX0_most_0 12 rfl rfl)
theorem dX0_most_15 : decode cX0_most 15 = .ok (.ldc2_w 214, 3) := dk_20 0 214 (dk_at dksX0_most_0 15 rfl rfl)
theorem dX0_most_18 : decode cX0_most 18 = .ok (.lreturn, 1) := dk_173 (dk_at dksX0_most_0 18 rfl rfl)
theorem dX0_most_19 : decode cX0_most 19 = .ok (.aload_n 0, 1) := dk_42 (dk_at dksX0_most_0 19 rfl rfl)
theorem dX0_most_20 : decode cX0_most 20 = .ok (.invokevirtual 161, 3) := dk_182 0 161 (dk_at dksX0_most_0 20 rfl rfl)
theorem dX0_most_23 : decode cX0_most 23 = .ok (.iload_n 1, 1) := dk_27 (dk_at dksX0_most_0 23 rfl rfl)
theorem dX0_most_24 : decode cX0_most 24 = .ok (.invokevirtual 203, 3) := dk_182 0 203 (dk_at dksX0_most_1 0 rfl rfl)
theorem dX0_most_27 : decode cX0_most 27 = .ok (.ifCond .eq 22, 3) := dk_153 0 22 (dk_at dksX0_most_1 3 rfl rfl)
theorem dX0_most_30 : decode cX0_most 30 = .ok (.aload_n 0, 1) := dk_42 (dk_at dksX0_most_1 6 rfl rfl)
theorem dX0_most_31 : decode cX0_most 31 = .ok (.iload_n 1, 1) := dk_27 (dk_at dksX0_most_1 7 rfl rfl)
theorem dX0_most_32 : decode cX0_most 32 = .ok (.invokevirtual 268, 3) := dk_182 1 12 (dk_at dksX0_most_1 8 rfl rfl)
theorem dX0_most_35 : decode cX0_most 35 = .ok (.aload_n 0, 1) := dk_42 (dk_at dksX0_most_1 11 rfl rfl)
theorem dX0_most_36 : decode cX0_most 36 = .ok (.getfield 49, 3) := dk_180 0 49 (dk_at dksX0_most_1 12 rfl rfl)
theorem dX0_most_39 : decode cX0_most 39 = .ok (.getfield 128, 3) := dk_180 0 128 (dk_at dksX0_most_1 15 rfl rfl)
theorem dX0_most_42 : decode cX0_most 42 = .ok (.iload_n 2, 1) := dk_28 (dk_at dksX0_most_1 18 rfl rfl)
theorem dX0_most_43 : decode cX0_most 43 = .ok (.invokestatic 219, 3) := dk_184 0 219 (dk_at dksX0_most_1 19 rfl rfl)
theorem dX0_most_46 : decode cX0_most 46 = .ok (.goto 6, 3) := dk_167 0 6 (dk_at dksX0_most_2 0 rfl rfl)
theorem dX0_most_49 : decode cX0_most 49 = .ok (.ldc2_w 223, 3) := dk_20 0 223 (dk_at dksX0_most_2 3 rfl rfl)
theorem dX0_most_52 : decode cX0_most 52 = .ok (.lreturn, 1) := dk_173 (dk_at dksX0_most_2 6 rfl rfl)
abbrev cX0_mostOf : ByteArray := prog_1_method_39_code
def yX0_mostOf : MethodName := ⟨RX0, "mostOf", "(I)J"⟩
def dkwX0_mostOf_9 : List UInt8 := [167, 255, 113, 33, 173]
abbrev dktX0_mostOf_9 : List UInt8 := dkwX0_mostOf_9 ++ []
def dkwX0_mostOf_8 : List UInt8 := [33, 42, 180, 0, 56, 21, 5, 46, 133, 42, 180, 0, 49, 27, 21, 5, 182, 0, 244, 105, 97, 66]
abbrev dktX0_mostOf_8 : List UInt8 := dkwX0_mostOf_8 ++ dktX0_mostOf_9
def dkwX0_mostOf_7 : List UInt8 := [100, 79, 21, 6, 158, 0, 20, 42, 180, 0, 60, 21, 6, 92, 46, 42, 180, 0, 56, 21, 5, 46, 100, 79]
abbrev dktX0_mostOf_7 : List UInt8 := dkwX0_mostOf_7 ++ dktX0_mostOf_8
def dkwX0_mostOf_6 : List UInt8 := [21, 6, 46, 184, 0, 183, 184, 0, 183, 79, 42, 180, 0, 60, 3, 92, 46, 42, 180, 0, 56, 21, 5, 46]
abbrev dktX0_mostOf_6 : List UInt8 := dkwX0_mostOf_6 ++ dktX0_mostOf_7
def dkwX0_mostOf_5 : List UInt8 := [21, 6, 154, 0, 12, 42, 180, 0, 60, 3, 46, 167, 0, 19, 42, 180, 0, 60, 3, 46, 42, 180, 0, 60]
abbrev dktX0_mostOf_5 : List UInt8 := dkwX0_mostOf_5 ++ dktX0_mostOf_6
def dkwX0_mostOf_4 : List UInt8 := [180, 0, 200, 21, 5, 46, 54, 6, 42, 180, 0, 56, 21, 5, 42, 180, 0, 28, 180, 0, 197, 21, 5, 46]
abbrev dktX0_mostOf_4 : List UInt8 := dkwX0_mostOf_4 ++ dktX0_mostOf_5
def dkwX0_mostOf_3 : List UInt8 := [153, 0, 145, 42, 27, 28, 182, 1, 9, 54, 5, 28, 4, 21, 5, 120, 2, 130, 126, 61, 42, 180, 0, 28]
abbrev dktX0_mostOf_3 : List UInt8 := dkwX0_mostOf_3 ++ dktX0_mostOf_4
def dkwX0_mostOf_2 : List UInt8 := [182, 0, 203, 153, 0, 9, 4, 29, 120, 167, 0, 4, 3, 128, 61, 132, 3, 1, 167, 255, 214, 9, 66, 28]
abbrev dktX0_mostOf_2 : List UInt8 := dkwX0_mostOf_2 ++ dktX0_mostOf_3
def dkwX0_mostOf_1 : List UInt8 := [180, 0, 28, 182, 0, 100, 162, 0, 37, 42, 180, 0, 56, 29, 3, 79, 28, 42, 180, 0, 49, 29]
abbrev dktX0_mostOf_1 : List UInt8 := dkwX0_mostOf_1 ++ dktX0_mostOf_2
def dkwX0_mostOf_0 : List UInt8 := [42, 180, 0, 28, 180, 0, 208, 3, 42, 180, 0, 60, 3, 7, 184, 1, 3, 3, 61, 3, 62, 29, 42]
abbrev dktX0_mostOf_0 : List UInt8 := dkwX0_mostOf_0 ++ dktX0_mostOf_1
theorem dksX0_mostOf_0 : cX0_mostOf.data.toList.drop 0 = dktX0_mostOf_0 := by decide +kernel
theorem dksX0_mostOf_1 : cX0_mostOf.data.toList.drop 23 = dktX0_mostOf_1 := dk_seg dksX0_mostOf_0 23 rfl rfl
theorem dksX0_mostOf_2 : cX0_mostOf.data.toList.drop 45 = dktX0_mostOf_2 := dk_seg dksX0_mostOf_1 22 rfl rfl
theorem dksX0_mostOf_3 : cX0_mostOf.data.toList.drop 69 = dktX0_mostOf_3 := dk_seg dksX0_mostOf_2 24 rfl rfl
theorem dksX0_mostOf_4 : cX0_mostOf.data.toList.drop 93 = dktX0_mostOf_4 := dk_seg dksX0_mostOf_3 24 rfl rfl
theorem dksX0_mostOf_5 : cX0_mostOf.data.toList.drop 117 = dktX0_mostOf_5 := dk_seg dksX0_mostOf_4 24 rfl rfl
theorem dksX0_mostOf_6 : cX0_mostOf.data.toList.drop 141 = dktX0_mostOf_6 := dk_seg dksX0_mostOf_5 24 rfl rfl
theorem dksX0_mostOf_7 : cX0_mostOf.data.toList.drop 165 = dktX0_mostOf_7 := dk_seg dksX0_mostOf_6 24 rfl rfl
theorem dksX0_mostOf_8 : cX0_mostOf.data.toList.drop 189 = dktX0_mostOf_8 := dk_seg dksX0_mostOf_7 24 rfl rfl
theorem dksX0_mostOf_9 : cX0_mostOf.data.toList.drop 211 = dktX0_mostOf_9 := dk_seg dksX0_mostOf_8 22 rfl rfl
theorem dX0_mostOf_0 : decode cX0_mostOf 0 = .ok (.aload_n 0, 1) := dk_42 (dk_at dksX0_mostOf_0 0 rfl rfl)
theorem dX0_mostOf_1 : decode cX0_mostOf 1 = .ok (.getfield 28, 3) := dk_180 0 28 (dk_at dksX0_mostOf_0 1 rfl rfl)
theorem dX0_mostOf_4 : decode cX0_mostOf 4 = .ok (.getfield 208, 3) := dk_180 0 208 (dk_at dksX0_mostOf_0 4 rfl rfl)
theorem dX0_mostOf_7 : decode cX0_mostOf 7 = .ok (.iconst 0, 1) := dk_3 (dk_at dksX0_mostOf_0 7 rfl rfl)
theorem dX0_mostOf_8 : decode cX0_mostOf 8 = .ok (.aload_n 0, 1) := dk_42 (dk_at dksX0_mostOf_0 8 rfl rfl)
theorem dX0_mostOf_9 : decode cX0_mostOf 9 = .ok (.getfield 60, 3) := dk_180 0 60 (dk_at dksX0_mostOf_0 9 rfl rfl)
theorem dX0_mostOf_12 : decode cX0_mostOf 12 = .ok (.iconst 0, 1) := dk_3 (dk_at dksX0_mostOf_0 12 rfl rfl)
theorem dX0_mostOf_13 : decode cX0_mostOf 13 = .ok (.iconst 4, 1) := dk_7 (dk_at dksX0_mostOf_0 13 rfl rfl)
theorem dX0_mostOf_14 : decode cX0_mostOf 14 = .ok (.invokestatic 259, 3) := dk_184 1 3 (dk_at dksX0_mostOf_0 14 rfl rfl)
theorem dX0_mostOf_17 : decode cX0_mostOf 17 = .ok (.iconst 0, 1) := dk_3 (dk_at dksX0_mostOf_0 17 rfl rfl)
theorem dX0_mostOf_18 : decode cX0_mostOf 18 = .ok (.istore_n 2, 1) := dk_61 (dk_at dksX0_mostOf_0 18 rfl rfl)
theorem dX0_mostOf_19 : decode cX0_mostOf 19 = .ok (.iconst 0, 1) := dk_3 (dk_at dksX0_mostOf_0 19 rfl rfl)
theorem dX0_mostOf_20 : decode cX0_mostOf 20 = .ok (.istore_n 3, 1) := dk_62 (dk_at dksX0_mostOf_0 20 rfl rfl)
theorem dX0_mostOf_21 : decode cX0_mostOf 21 = .ok (.iload_n 3, 1) := dk_29 (dk_at dksX0_mostOf_0 21 rfl rfl)
theorem dX0_mostOf_22 : decode cX0_mostOf 22 = .ok (.aload_n 0, 1) := dk_42 (dk_at dksX0_mostOf_0 22 rfl rfl)
theorem dX0_mostOf_23 : decode cX0_mostOf 23 = .ok (.getfield 28, 3) := dk_180 0 28 (dk_at dksX0_mostOf_1 0 rfl rfl)
theorem dX0_mostOf_26 : decode cX0_mostOf 26 = .ok (.invokevirtual 100, 3) := dk_182 0 100 (dk_at dksX0_mostOf_1 3 rfl rfl)
theorem dX0_mostOf_29 : decode cX0_mostOf 29 = .ok (.if_icmp .ge 37, 3) := dk_162 0 37 (dk_at dksX0_mostOf_1 6 rfl rfl)
theorem dX0_mostOf_32 : decode cX0_mostOf 32 = .ok (.aload_n 0, 1) := dk_42 (dk_at dksX0_mostOf_1 9 rfl rfl)
theorem dX0_mostOf_33 : decode cX0_mostOf 33 = .ok (.getfield 56, 3) := dk_180 0 56 (dk_at dksX0_mostOf_1 10 rfl rfl)
theorem dX0_mostOf_36 : decode cX0_mostOf 36 = .ok (.iload_n 3, 1) := dk_29 (dk_at dksX0_mostOf_1 13 rfl rfl)
theorem dX0_mostOf_37 : decode cX0_mostOf 37 = .ok (.iconst 0, 1) := dk_3 (dk_at dksX0_mostOf_1 14 rfl rfl)
theorem dX0_mostOf_38 : decode cX0_mostOf 38 = .ok (.iastore, 1) := dk_79 (dk_at dksX0_mostOf_1 15 rfl rfl)
theorem dX0_mostOf_39 : decode cX0_mostOf 39 = .ok (.iload_n 2, 1) := dk_28 (dk_at dksX0_mostOf_1 16 rfl rfl)
theorem dX0_mostOf_40 : decode cX0_mostOf 40 = .ok (.aload_n 0, 1) := dk_42 (dk_at dksX0_mostOf_1 17 rfl rfl)
theorem dX0_mostOf_41 : decode cX0_mostOf 41 = .ok (.getfield 49, 3) := dk_180 0 49 (dk_at dksX0_mostOf_1 18 rfl rfl)
theorem dX0_mostOf_44 : decode cX0_mostOf 44 = .ok (.iload_n 3, 1) := dk_29 (dk_at dksX0_mostOf_1 21 rfl rfl)
theorem dX0_mostOf_45 : decode cX0_mostOf 45 = .ok (.invokevirtual 203, 3) := dk_182 0 203 (dk_at dksX0_mostOf_2 0 rfl rfl)
theorem dX0_mostOf_48 : decode cX0_mostOf 48 = .ok (.ifCond .eq 9, 3) := dk_153 0 9 (dk_at dksX0_mostOf_2 3 rfl rfl)
theorem dX0_mostOf_51 : decode cX0_mostOf 51 = .ok (.iconst 1, 1) := dk_4 (dk_at dksX0_mostOf_2 6 rfl rfl)
theorem dX0_mostOf_52 : decode cX0_mostOf 52 = .ok (.iload_n 3, 1) := dk_29 (dk_at dksX0_mostOf_2 7 rfl rfl)
theorem dX0_mostOf_53 : decode cX0_mostOf 53 = .ok (.ishl, 1) := dk_120 (dk_at dksX0_mostOf_2 8 rfl rfl)
theorem dX0_mostOf_54 : decode cX0_mostOf 54 = .ok (.goto 4, 3) := dk_167 0 4 (dk_at dksX0_mostOf_2 9 rfl rfl)
theorem dX0_mostOf_57 : decode cX0_mostOf 57 = .ok (.iconst 0, 1) := dk_3 (dk_at dksX0_mostOf_2 12 rfl rfl)
theorem dX0_mostOf_58 : decode cX0_mostOf 58 = .ok (.ior, 1) := dk_128 (dk_at dksX0_mostOf_2 13 rfl rfl)
theorem dX0_mostOf_59 : decode cX0_mostOf 59 = .ok (.istore_n 2, 1) := dk_61 (dk_at dksX0_mostOf_2 14 rfl rfl)
theorem dX0_mostOf_60 : decode cX0_mostOf 60 = .ok (.iinc 3 1, 3) := dk_132 3 1 (dk_at dksX0_mostOf_2 15 rfl rfl)
theorem dX0_mostOf_63 : decode cX0_mostOf 63 = .ok (.goto (-42), 3) := dk_167 255 214 (dk_at dksX0_mostOf_2 18 rfl rfl)
theorem dX0_mostOf_66 : decode cX0_mostOf 66 = .ok (.lconst 0, 1) := dk_9 (dk_at dksX0_mostOf_2 21 rfl rfl)
theorem dX0_mostOf_67 : decode cX0_mostOf 67 = .ok (.lstore_n 3, 1) := dk_66 (dk_at dksX0_mostOf_2 22 rfl rfl)
theorem dX0_mostOf_68 : decode cX0_mostOf 68 = .ok (.iload_n 2, 1) := dk_28 (dk_at dksX0_mostOf_2 23 rfl rfl)
theorem dX0_mostOf_69 : decode cX0_mostOf 69 = .ok (.ifCond .eq 145, 3) := dk_153 0 145 (dk_at dksX0_mostOf_3 0 rfl rfl)
theorem dX0_mostOf_72 : decode cX0_mostOf 72 = .ok (.aload_n 0, 1) := dk_42 (dk_at dksX0_mostOf_3 3 rfl rfl)
theorem dX0_mostOf_73 : decode cX0_mostOf 73 = .ok (.iload_n 1, 1) := dk_27 (dk_at dksX0_mostOf_3 4 rfl rfl)
theorem dX0_mostOf_74 : decode cX0_mostOf 74 = .ok (.iload_n 2, 1) := dk_28 (dk_at dksX0_mostOf_3 5 rfl rfl)
theorem dX0_mostOf_75 : decode cX0_mostOf 75 = .ok (.invokevirtual 265, 3) := dk_182 1 9 (dk_at dksX0_mostOf_3 6 rfl rfl)
theorem dX0_mostOf_78 : decode cX0_mostOf 78 = .ok (.istore 5, 2) := dk_54 5 (dk_at dksX0_mostOf_3 9 rfl rfl)
theorem dX0_mostOf_80 : decode cX0_mostOf 80 = .ok (.iload_n 2, 1) := dk_28 (dk_at dksX0_mostOf_3 11 rfl rfl)
theorem dX0_mostOf_81 : decode cX0_mostOf 81 = .ok (.iconst 1, 1) := dk_4 (dk_at dksX0_mostOf_3 12 rfl rfl)
theorem dX0_mostOf_82 : decode cX0_mostOf 82 = .ok (.iload 5, 2) := dk_21 5 (dk_at dksX0_mostOf_3 13 rfl rfl)
theorem dX0_mostOf_84 : decode cX0_mostOf 84 = .ok (.ishl, 1) := dk_120 (dk_at dksX0_mostOf_3 15 rfl rfl)
theorem dX0_mostOf_85 : decode cX0_mostOf 85 = .ok (.iconst (-1), 1) := dk_2 (dk_at dksX0_mostOf_3 16 rfl rfl)
theorem dX0_mostOf_86 : decode cX0_mostOf 86 = .ok (.ixor, 1) := dk_130 (dk_at dksX0_mostOf_3 17 rfl rfl)
theorem dX0_mostOf_87 : decode cX0_mostOf 87 = .ok (.iand, 1) := dk_126 (dk_at dksX0_mostOf_3 18 rfl rfl)
theorem dX0_mostOf_88 : decode cX0_mostOf 88 = .ok (.istore_n 2, 1) := dk_61 (dk_at dksX0_mostOf_3 19 rfl rfl)
theorem dX0_mostOf_89 : decode cX0_mostOf 89 = .ok (.aload_n 0, 1) := dk_42 (dk_at dksX0_mostOf_3 20 rfl rfl)
theorem dX0_mostOf_90 : decode cX0_mostOf 90 = .ok (.getfield 28, 3) := dk_180 0 28 (dk_at dksX0_mostOf_3 21 rfl rfl)
theorem dX0_mostOf_93 : decode cX0_mostOf 93 = .ok (.getfield 200, 3) := dk_180 0 200 (dk_at dksX0_mostOf_4 0 rfl rfl)
theorem dX0_mostOf_96 : decode cX0_mostOf 96 = .ok (.iload 5, 2) := dk_21 5 (dk_at dksX0_mostOf_4 3 rfl rfl)
theorem dX0_mostOf_98 : decode cX0_mostOf 98 = .ok (.iaload, 1) := dk_46 (dk_at dksX0_mostOf_4 5 rfl rfl)
theorem dX0_mostOf_99 : decode cX0_mostOf 99 = .ok (.istore 6, 2) := dk_54 6 (dk_at dksX0_mostOf_4 6 rfl rfl)
theorem dX0_mostOf_101 : decode cX0_mostOf 101 = .ok (.aload_n 0, 1) := dk_42 (dk_at dksX0_mostOf_4 8 rfl rfl)
theorem dX0_mostOf_102 : decode cX0_mostOf 102 = .ok (.getfield 56, 3) := dk_180 0 56 (dk_at dksX0_mostOf_4 9 rfl rfl)
theorem dX0_mostOf_105 : decode cX0_mostOf 105 = .ok (.iload 5, 2) := dk_21 5 (dk_at dksX0_mostOf_4 12 rfl rfl)
theorem dX0_mostOf_107 : decode cX0_mostOf 107 = .ok (.aload_n 0, 1) := dk_42 (dk_at dksX0_mostOf_4 14 rfl rfl)
theorem dX0_mostOf_108 : decode cX0_mostOf 108 = .ok (.getfield 28, 3) := dk_180 0 28 (dk_at dksX0_mostOf_4 15 rfl rfl)
theorem dX0_mostOf_111 : decode cX0_mostOf 111 = .ok (.getfield 197, 3) := dk_180 0 197 (dk_at dksX0_mostOf_4 18 rfl rfl)
theorem dX0_mostOf_114 : decode cX0_mostOf 114 = .ok (.iload 5, 2) := dk_21 5 (dk_at dksX0_mostOf_4 21 rfl rfl)
theorem dX0_mostOf_116 : decode cX0_mostOf 116 = .ok (.iaload, 1) := dk_46 (dk_at dksX0_mostOf_4 23 rfl rfl)
theorem dX0_mostOf_117 : decode cX0_mostOf 117 = .ok (.iload 6, 2) := dk_21 6 (dk_at dksX0_mostOf_5 0 rfl rfl)
theorem dX0_mostOf_119 : decode cX0_mostOf 119 = .ok (.ifCond .ne 12, 3) := dk_154 0 12 (dk_at dksX0_mostOf_5 2 rfl rfl)
theorem dX0_mostOf_122 : decode cX0_mostOf 122 = .ok (.aload_n 0, 1) := dk_42 (dk_at dksX0_mostOf_5 5 rfl rfl)
theorem dX0_mostOf_123 : decode cX0_mostOf 123 = .ok (.getfield 60, 3) := dk_180 0 60 (dk_at dksX0_mostOf_5 6 rfl rfl)
theorem dX0_mostOf_126 : decode cX0_mostOf 126 = .ok (.iconst 0, 1) := dk_3 (dk_at dksX0_mostOf_5 9 rfl rfl)
theorem dX0_mostOf_127 : decode cX0_mostOf 127 = .ok (.iaload, 1) := dk_46 (dk_at dksX0_mostOf_5 10 rfl rfl)
theorem dX0_mostOf_128 : decode cX0_mostOf 128 = .ok (.goto 19, 3) := dk_167 0 19 (dk_at dksX0_mostOf_5 11 rfl rfl)
theorem dX0_mostOf_131 : decode cX0_mostOf 131 = .ok (.aload_n 0, 1) := dk_42 (dk_at dksX0_mostOf_5 14 rfl rfl)
theorem dX0_mostOf_132 : decode cX0_mostOf 132 = .ok (.getfield 60, 3) := dk_180 0 60 (dk_at dksX0_mostOf_5 15 rfl rfl)
theorem dX0_mostOf_135 : decode cX0_mostOf 135 = .ok (.iconst 0, 1) := dk_3 (dk_at dksX0_mostOf_5 18 rfl rfl)
theorem dX0_mostOf_136 : decode cX0_mostOf 136 = .ok (.iaload, 1) := dk_46 (dk_at dksX0_mostOf_5 19 rfl rfl)
theorem dX0_mostOf_137 : decode cX0_mostOf 137 = .ok (.aload_n 0, 1) := dk_42 (dk_at dksX0_mostOf_5 20 rfl rfl)
theorem dX0_mostOf_138 : decode cX0_mostOf 138 = .ok (.getfield 60, 3) := dk_180 0 60 (dk_at dksX0_mostOf_5 21 rfl rfl)
theorem dX0_mostOf_141 : decode cX0_mostOf 141 = .ok (.iload 6, 2) := dk_21 6 (dk_at dksX0_mostOf_6 0 rfl rfl)
theorem dX0_mostOf_143 : decode cX0_mostOf 143 = .ok (.iaload, 1) := dk_46 (dk_at dksX0_mostOf_6 2 rfl rfl)
theorem dX0_mostOf_144 : decode cX0_mostOf 144 = .ok (.invokestatic 183, 3) := dk_184 0 183 (dk_at dksX0_mostOf_6 3 rfl rfl)
theorem dX0_mostOf_147 : decode cX0_mostOf 147 = .ok (.invokestatic 183, 3) := dk_184 0 183 (dk_at dksX0_mostOf_6 6 rfl rfl)
theorem dX0_mostOf_150 : decode cX0_mostOf 150 = .ok (.iastore, 1) := dk_79 (dk_at dksX0_mostOf_6 9 rfl rfl)
theorem dX0_mostOf_151 : decode cX0_mostOf 151 = .ok (.aload_n 0, 1) := dk_42 (dk_at dksX0_mostOf_6 10 rfl rfl)
theorem dX0_mostOf_152 : decode cX0_mostOf 152 = .ok (.getfield 60, 3) := dk_180 0 60 (dk_at dksX0_mostOf_6 11 rfl rfl)
theorem dX0_mostOf_155 : decode cX0_mostOf 155 = .ok (.iconst 0, 1) := dk_3 (dk_at dksX0_mostOf_6 14 rfl rfl)
theorem dX0_mostOf_156 : decode cX0_mostOf 156 = .ok (.dup2, 1) := dk_92 (dk_at dksX0_mostOf_6 15 rfl rfl)
theorem dX0_mostOf_157 : decode cX0_mostOf 157 = .ok (.iaload, 1) := dk_46 (dk_at dksX0_mostOf_6 16 rfl rfl)
theorem dX0_mostOf_158 : decode cX0_mostOf 158 = .ok (.aload_n 0, 1) := dk_42 (dk_at dksX0_mostOf_6 17 rfl rfl)
theorem dX0_mostOf_159 : decode cX0_mostOf 159 = .ok (.getfield 56, 3) := dk_180 0 56 (dk_at dksX0_mostOf_6 18 rfl rfl)
theorem dX0_mostOf_162 : decode cX0_mostOf 162 = .ok (.iload 5, 2) := dk_21 5 (dk_at dksX0_mostOf_6 21 rfl rfl)
theorem dX0_mostOf_164 : decode cX0_mostOf 164 = .ok (.iaload, 1) := dk_46 (dk_at dksX0_mostOf_6 23 rfl rfl)
theorem dX0_mostOf_165 : decode cX0_mostOf 165 = .ok (.isub, 1) := dk_100 (dk_at dksX0_mostOf_7 0 rfl rfl)
theorem dX0_mostOf_166 : decode cX0_mostOf 166 = .ok (.iastore, 1) := dk_79 (dk_at dksX0_mostOf_7 1 rfl rfl)
theorem dX0_mostOf_167 : decode cX0_mostOf 167 = .ok (.iload 6, 2) := dk_21 6 (dk_at dksX0_mostOf_7 2 rfl rfl)
theorem dX0_mostOf_169 : decode cX0_mostOf 169 = .ok (.ifCond .le 20, 3) := dk_158 0 20 (dk_at dksX0_mostOf_7 4 rfl rfl)
theorem dX0_mostOf_172 : decode cX0_mostOf 172 = .ok (.aload_n 0, 1) := dk_42 (dk_at dksX0_mostOf_7 7 rfl rfl)
theorem dX0_mostOf_173 : decode cX0_mostOf 173 = .ok (.getfield 60, 3) := dk_180 0 60 (dk_at dksX0_mostOf_7 8 rfl rfl)
theorem dX0_mostOf_176 : decode cX0_mostOf 176 = .ok (.iload 6, 2) := dk_21 6 (dk_at dksX0_mostOf_7 11 rfl rfl)
theorem dX0_mostOf_178 : decode cX0_mostOf 178 = .ok (.dup2, 1) := dk_92 (dk_at dksX0_mostOf_7 13 rfl rfl)
theorem dX0_mostOf_179 : decode cX0_mostOf 179 = .ok (.iaload, 1) := dk_46 (dk_at dksX0_mostOf_7 14 rfl rfl)
theorem dX0_mostOf_180 : decode cX0_mostOf 180 = .ok (.aload_n 0, 1) := dk_42 (dk_at dksX0_mostOf_7 15 rfl rfl)
theorem dX0_mostOf_181 : decode cX0_mostOf 181 = .ok (.getfield 56, 3) := dk_180 0 56 (dk_at dksX0_mostOf_7 16 rfl rfl)
theorem dX0_mostOf_184 : decode cX0_mostOf 184 = .ok (.iload 5, 2) := dk_21 5 (dk_at dksX0_mostOf_7 19 rfl rfl)
theorem dX0_mostOf_186 : decode cX0_mostOf 186 = .ok (.iaload, 1) := dk_46 (dk_at dksX0_mostOf_7 21 rfl rfl)
theorem dX0_mostOf_187 : decode cX0_mostOf 187 = .ok (.isub, 1) := dk_100 (dk_at dksX0_mostOf_7 22 rfl rfl)
theorem dX0_mostOf_188 : decode cX0_mostOf 188 = .ok (.iastore, 1) := dk_79 (dk_at dksX0_mostOf_7 23 rfl rfl)
theorem dX0_mostOf_189 : decode cX0_mostOf 189 = .ok (.lload_n 3, 1) := dk_33 (dk_at dksX0_mostOf_8 0 rfl rfl)
theorem dX0_mostOf_190 : decode cX0_mostOf 190 = .ok (.aload_n 0, 1) := dk_42 (dk_at dksX0_mostOf_8 1 rfl rfl)
theorem dX0_mostOf_191 : decode cX0_mostOf 191 = .ok (.getfield 56, 3) := dk_180 0 56 (dk_at dksX0_mostOf_8 2 rfl rfl)
theorem dX0_mostOf_194 : decode cX0_mostOf 194 = .ok (.iload 5, 2) := dk_21 5 (dk_at dksX0_mostOf_8 5 rfl rfl)
theorem dX0_mostOf_196 : decode cX0_mostOf 196 = .ok (.iaload, 1) := dk_46 (dk_at dksX0_mostOf_8 7 rfl rfl)
theorem dX0_mostOf_197 : decode cX0_mostOf 197 = .ok (.i2l, 1) := dk_133 (dk_at dksX0_mostOf_8 8 rfl rfl)
theorem dX0_mostOf_198 : decode cX0_mostOf 198 = .ok (.aload_n 0, 1) := dk_42 (dk_at dksX0_mostOf_8 9 rfl rfl)
theorem dX0_mostOf_199 : decode cX0_mostOf 199 = .ok (.getfield 49, 3) := dk_180 0 49 (dk_at dksX0_mostOf_8 10 rfl rfl)
theorem dX0_mostOf_202 : decode cX0_mostOf 202 = .ok (.iload_n 1, 1) := dk_27 (dk_at dksX0_mostOf_8 13 rfl rfl)
theorem dX0_mostOf_203 : decode cX0_mostOf 203 = .ok (.iload 5, 2) := dk_21 5 (dk_at dksX0_mostOf_8 14 rfl rfl)
theorem dX0_mostOf_205 : decode cX0_mostOf 205 = .ok (.invokevirtual 244, 3) := dk_182 0 244 (dk_at dksX0_mostOf_8 16 rfl rfl)
theorem dX0_mostOf_208 : decode cX0_mostOf 208 = .ok (.lmul, 1) := dk_105 (dk_at dksX0_mostOf_8 19 rfl rfl)
theorem dX0_mostOf_209 : decode cX0_mostOf 209 = .ok (.ladd, 1) := dk_97 (dk_at dksX0_mostOf_8 20 rfl rfl)
theorem dX0_mostOf_210 : decode cX0_mostOf 210 = .ok (.lstore_n 3, 1) := dk_66 (dk_at dksX0_mostOf_8 21 rfl rfl)
theorem dX0_mostOf_211 : decode cX0_mostOf 211 = .ok (.goto (-143), 3) := dk_167 255 113 (dk_at dksX0_mostOf_9 0 rfl rfl)
theorem dX0_mostOf_214 : decode cX0_mostOf 214 = .ok (.lload_n 3, 1) := dk_33 (dk_at dksX0_mostOf_9 3 rfl rfl)
theorem dX0_mostOf_215 : decode cX0_mostOf 215 = .ok (.lreturn, 1) := dk_173 (dk_at dksX0_mostOf_9 4 rfl rfl)
abbrev cX0_nextOf : ByteArray := prog_1_method_38_code
def yX0_nextOf : MethodName := ⟨RX0, "nextOf", "(II)I"⟩
def dkwX0_nextOf_2 : List UInt8 := [182, 0, 244, 148, 158, 0, 6, 21, 4, 62, 132, 4, 1, 167, 255, 201, 29, 172]
abbrev dktX0_nextOf_2 : List UInt8 := dkwX0_nextOf_2 ++ []
def dkwX0_nextOf_1 : List UInt8 := [153, 0, 34, 29, 2, 159, 0, 26, 42, 180, 0, 49, 27, 21, 4, 182, 0, 244, 42, 180, 0, 49, 27, 29]
abbrev dktX0_nextOf_1 : List UInt8 := dkwX0_nextOf_1 ++ dktX0_nextOf_2
def dkwX0_nextOf_0 : List UInt8 := [2, 62, 3, 54, 4, 21, 4, 42, 180, 0, 28, 182, 0, 100, 162, 0, 49, 28, 21, 4, 184, 0, 193]
abbrev dktX0_nextOf_0 : List UInt8 := dkwX0_nextOf_0 ++ dktX0_nextOf_1
theorem dksX0_nextOf_0 : cX0_nextOf.data.toList.drop 0 = dktX0_nextOf_0 := by decide +kernel
theorem dksX0_nextOf_1 : cX0_nextOf.data.toList.drop 23 = dktX0_nextOf_1 := dk_seg dksX0_nextOf_0 23 rfl rfl
theorem dksX0_nextOf_2 : cX0_nextOf.data.toList.drop 47 = dktX0_nextOf_2 := dk_seg dksX0_nextOf_1 24 rfl rfl
theorem dX0_nextOf_0 : decode cX0_nextOf 0 = .ok (.iconst (-1), 1) := dk_2 (dk_at dksX0_nextOf_0 0 rfl rfl)
theorem dX0_nextOf_1 : decode cX0_nextOf 1 = .ok (.istore_n 3, 1) := dk_62 (dk_at dksX0_nextOf_0 1 rfl rfl)
theorem dX0_nextOf_2 : decode cX0_nextOf 2 = .ok (.iconst 0, 1) := dk_3 (dk_at dksX0_nextOf_0 2 rfl rfl)
theorem dX0_nextOf_3 : decode cX0_nextOf 3 = .ok (.istore 4, 2) := dk_54 4 (dk_at dksX0_nextOf_0 3 rfl rfl)
theorem dX0_nextOf_5 : decode cX0_nextOf 5 = .ok (.iload 4, 2) := dk_21 4 (dk_at dksX0_nextOf_0 5 rfl rfl)
theorem dX0_nextOf_7 : decode cX0_nextOf 7 = .ok (.aload_n 0, 1) := dk_42 (dk_at dksX0_nextOf_0 7 rfl rfl)
theorem dX0_nextOf_8 : decode cX0_nextOf 8 = .ok (.getfield 28, 3) := dk_180 0 28 (dk_at dksX0_nextOf_0 8 rfl rfl)
theorem dX0_nextOf_11 : decode cX0_nextOf 11 = .ok (.invokevirtual 100, 3) := dk_182 0 100 (dk_at dksX0_nextOf_0 11 rfl rfl)
theorem dX0_nextOf_14 : decode cX0_nextOf 14 = .ok (.if_icmp .ge 49, 3) := dk_162 0 49 (dk_at dksX0_nextOf_0 14 rfl rfl)
theorem dX0_nextOf_17 : decode cX0_nextOf 17 = .ok (.iload_n 2, 1) := dk_28 (dk_at dksX0_nextOf_0 17 rfl rfl)
theorem dX0_nextOf_18 : decode cX0_nextOf 18 = .ok (.iload 4, 2) := dk_21 4 (dk_at dksX0_nextOf_0 18 rfl rfl)
theorem dX0_nextOf_20 : decode cX0_nextOf 20 = .ok (.invokestatic 193, 3) := dk_184 0 193 (dk_at dksX0_nextOf_0 20 rfl rfl)
theorem dX0_nextOf_23 : decode cX0_nextOf 23 = .ok (.ifCond .eq 34, 3) := dk_153 0 34 (dk_at dksX0_nextOf_1 0 rfl rfl)
theorem dX0_nextOf_26 : decode cX0_nextOf 26 = .ok (.iload_n 3, 1) := dk_29 (dk_at dksX0_nextOf_1 3 rfl rfl)
theorem dX0_nextOf_27 : decode cX0_nextOf 27 = .ok (.iconst (-1), 1) := dk_2 (dk_at dksX0_nextOf_1 4 rfl rfl)
theorem dX0_nextOf_28 : decode cX0_nextOf 28 = .ok (.if_icmp .eq 26, 3) := dk_159 0 26 (dk_at dksX0_nextOf_1 5 rfl rfl)
theorem dX0_nextOf_31 : decode cX0_nextOf 31 = .ok (.aload_n 0, 1) := dk_42 (dk_at dksX0_nextOf_1 8 rfl rfl)
theorem dX0_nextOf_32 : decode cX0_nextOf 32 = .ok (.getfield 49, 3) := dk_180 0 49 (dk_at dksX0_nextOf_1 9 rfl rfl)
theorem dX0_nextOf_35 : decode cX0_nextOf 35 = .ok (.iload_n 1, 1) := dk_27 (dk_at dksX0_nextOf_1 12 rfl rfl)
theorem dX0_nextOf_36 : decode cX0_nextOf 36 = .ok (.iload 4, 2) := dk_21 4 (dk_at dksX0_nextOf_1 13 rfl rfl)
theorem dX0_nextOf_38 : decode cX0_nextOf 38 = .ok (.invokevirtual 244, 3) := dk_182 0 244 (dk_at dksX0_nextOf_1 15 rfl rfl)
theorem dX0_nextOf_41 : decode cX0_nextOf 41 = .ok (.aload_n 0, 1) := dk_42 (dk_at dksX0_nextOf_1 18 rfl rfl)
theorem dX0_nextOf_42 : decode cX0_nextOf 42 = .ok (.getfield 49, 3) := dk_180 0 49 (dk_at dksX0_nextOf_1 19 rfl rfl)
theorem dX0_nextOf_45 : decode cX0_nextOf 45 = .ok (.iload_n 1, 1) := dk_27 (dk_at dksX0_nextOf_1 22 rfl rfl)
theorem dX0_nextOf_46 : decode cX0_nextOf 46 = .ok (.iload_n 3, 1) := dk_29 (dk_at dksX0_nextOf_1 23 rfl rfl)
theorem dX0_nextOf_47 : decode cX0_nextOf 47 = .ok (.invokevirtual 244, 3) := dk_182 0 244 (dk_at dksX0_nextOf_2 0 rfl rfl)
theorem dX0_nextOf_50 : decode cX0_nextOf 50 = .ok (.lcmp, 1) := dk_148 (dk_at dksX0_nextOf_2 3 rfl rfl)
theorem dX0_nextOf_51 : decode cX0_nextOf 51 = .ok (.ifCond .le 6, 3) := dk_158 0 6 (dk_at dksX0_nextOf_2 4 rfl rfl)
theorem dX0_nextOf_54 : decode cX0_nextOf 54 = .ok (.iload 4, 2) := dk_21 4 (dk_at dksX0_nextOf_2 7 rfl rfl)
theorem dX0_nextOf_56 : decode cX0_nextOf 56 = .ok (.istore_n 3, 1) := dk_62 (dk_at dksX0_nextOf_2 9 rfl rfl)
theorem dX0_nextOf_57 : decode cX0_nextOf 57 = .ok (.iinc 4 1, 3) := dk_132 4 1 (dk_at dksX0_nextOf_2 10 rfl rfl)
theorem dX0_nextOf_60 : decode cX0_nextOf 60 = .ok (.goto (-55), 3) := dk_167 255 201 (dk_at dksX0_nextOf_2 13 rfl rfl)
theorem dX0_nextOf_63 : decode cX0_nextOf 63 = .ok (.iload_n 3, 1) := dk_29 (dk_at dksX0_nextOf_2 16 rfl rfl)
theorem dX0_nextOf_64 : decode cX0_nextOf 64 = .ok (.ireturn, 1) := dk_172 (dk_at dksX0_nextOf_2 17 rfl rfl)
abbrev cX0_drawn : ByteArray := prog_1_method_41_code
def yX0_drawn : MethodName := ⟨RX0, "drawn", "(II)I"⟩
def dkwX0_drawn_1 : List UInt8 := [182, 0, 203, 154, 0, 5, 2, 172, 42, 27, 182, 1, 12, 88, 42, 180, 0, 56, 28, 46, 172]
abbrev dktX0_drawn_1 : List UInt8 := dkwX0_drawn_1 ++ []
def dkwX0_drawn_0 : List UInt8 := [42, 27, 182, 0, 180, 153, 0, 11, 42, 28, 182, 0, 180, 154, 0, 6, 16, 254, 172, 42, 182, 0, 161, 27]
abbrev dktX0_drawn_0 : List UInt8 := dkwX0_drawn_0 ++ dktX0_drawn_1
theorem dksX0_drawn_0 : cX0_drawn.data.toList.drop 0 = dktX0_drawn_0 := by decide +kernel
theorem dksX0_drawn_1 : cX0_drawn.data.toList.drop 24 = dktX0_drawn_1 := dk_seg dksX0_drawn_0 24 rfl rfl
theorem dX0_drawn_0 : decode cX0_drawn 0 = .ok (.aload_n 0, 1) := dk_42 (dk_at dksX0_drawn_0 0 rfl rfl)
theorem dX0_drawn_1 : decode cX0_drawn 1 = .ok (.iload_n 1, 1) := dk_27 (dk_at dksX0_drawn_0 1 rfl rfl)
theorem dX0_drawn_2 : decode cX0_drawn 2 = .ok (.invokevirtual 180, 3) := dk_182 0 180 (dk_at dksX0_drawn_0 2 rfl rfl)
theorem dX0_drawn_5 : decode cX0_drawn 5 = .ok (.ifCond .eq 11, 3) := dk_153 0 11 (dk_at dksX0_drawn_0 5 rfl rfl)
theorem dX0_drawn_8 : decode cX0_drawn 8 = .ok (.aload_n 0, 1) := dk_42 (dk_at dksX0_drawn_0 8 rfl rfl)
theorem dX0_drawn_9 : decode cX0_drawn 9 = .ok (.iload_n 2, 1) := dk_28 (dk_at dksX0_drawn_0 9 rfl rfl)
theorem dX0_drawn_10 : decode cX0_drawn 10 = .ok (.invokevirtual 180, 3) := dk_182 0 180 (dk_at dksX0_drawn_0 10 rfl rfl)
theorem dX0_drawn_13 : decode cX0_drawn 13 = .ok (.ifCond .ne 6, 3) := dk_154 0 6 (dk_at dksX0_drawn_0 13 rfl rfl)
theorem dX0_drawn_16 : decode cX0_drawn 16 = .ok (.bipush (-2), 2) := dk_16 254 (dk_at dksX0_drawn_0 16 rfl rfl)
theorem dX0_drawn_18 : decode cX0_drawn 18 = .ok (.ireturn, 1) := dk_172 (dk_at dksX0_drawn_0 18 rfl rfl)
theorem dX0_drawn_19 : decode cX0_drawn 19 = .ok (.aload_n 0, 1) := dk_42 (dk_at dksX0_drawn_0 19 rfl rfl)
theorem dX0_drawn_20 : decode cX0_drawn 20 = .ok (.invokevirtual 161, 3) := dk_182 0 161 (dk_at dksX0_drawn_0 20 rfl rfl)
theorem dX0_drawn_23 : decode cX0_drawn 23 = .ok (.iload_n 1, 1) := dk_27 (dk_at dksX0_drawn_0 23 rfl rfl)
theorem dX0_drawn_24 : decode cX0_drawn 24 = .ok (.invokevirtual 203, 3) := dk_182 0 203 (dk_at dksX0_drawn_1 0 rfl rfl)
theorem dX0_drawn_27 : decode cX0_drawn 27 = .ok (.ifCond .ne 5, 3) := dk_154 0 5 (dk_at dksX0_drawn_1 3 rfl rfl)
theorem dX0_drawn_30 : decode cX0_drawn 30 = .ok (.iconst (-1), 1) := dk_2 (dk_at dksX0_drawn_1 6 rfl rfl)
theorem dX0_drawn_31 : decode cX0_drawn 31 = .ok (.ireturn, 1) := dk_172 (dk_at dksX0_drawn_1 7 rfl rfl)
theorem dX0_drawn_32 : decode cX0_drawn 32 = .ok (.aload_n 0, 1) := dk_42 (dk_at dksX0_drawn_1 8 rfl rfl)
theorem dX0_drawn_33 : decode cX0_drawn 33 = .ok (.iload_n 1, 1) := dk_27 (dk_at dksX0_drawn_1 9 rfl rfl)
theorem dX0_drawn_34 : decode cX0_drawn 34 = .ok (.invokevirtual 268, 3) := dk_182 1 12 (dk_at dksX0_drawn_1 10 rfl rfl)
theorem dX0_drawn_37 : decode cX0_drawn 37 = .ok (.pop2, 1) := dk_88 (dk_at dksX0_drawn_1 13 rfl rfl)
theorem dX0_drawn_38 : decode cX0_drawn 38 = .ok (.aload_n 0, 1) := dk_42 (dk_at dksX0_drawn_1 14 rfl rfl)
theorem dX0_drawn_39 : decode cX0_drawn 39 = .ok (.getfield 56, 3) := dk_180 0 56 (dk_at dksX0_drawn_1 15 rfl rfl)
theorem dX0_drawn_42 : decode cX0_drawn 42 = .ok (.iload_n 2, 1) := dk_28 (dk_at dksX0_drawn_1 18 rfl rfl)
theorem dX0_drawn_43 : decode cX0_drawn 43 = .ok (.iaload, 1) := dk_46 (dk_at dksX0_drawn_1 19 rfl rfl)
theorem dX0_drawn_44 : decode cX0_drawn 44 = .ok (.ireturn, 1) := dk_172 (dk_at dksX0_drawn_1 20 rfl rfl)
abbrev cX0_foe : ByteArray := prog_1_method_43_code
def yX0_foe : MethodName := ⟨RX0, "foe", "()I"⟩
def dkwX0_foe_2 : List UInt8 := [167, 0, 9, 42, 180, 0, 63, 27, 47, 148, 158, 0, 5, 28, 60, 132, 2, 1, 167, 255, 213, 27, 172]
abbrev dktX0_foe_2 : List UInt8 := dkwX0_foe_2 ++ []
def dkwX0_foe_1 : List UInt8 := [180, 0, 28, 182, 0, 100, 162, 0, 38, 42, 180, 0, 63, 28, 47, 27, 2, 160, 0, 9, 20, 0, 223]
abbrev dktX0_foe_1 : List UInt8 := dkwX0_foe_1 ++ dktX0_foe_2
def dkwX0_foe_0 : List UInt8 := [42, 180, 0, 28, 182, 0, 158, 154, 0, 6, 16, 254, 172, 42, 182, 1, 15, 2, 60, 3, 61, 28, 42]
abbrev dktX0_foe_0 : List UInt8 := dkwX0_foe_0 ++ dktX0_foe_1
theorem dksX0_foe_0 : cX0_foe.data.toList.drop 0 = dktX0_foe_0 := by decide +kernel
theorem dksX0_foe_1 : cX0_foe.data.toList.drop 23 = dktX0_foe_1 := dk_seg dksX0_foe_0 23 rfl rfl
theorem dksX0_foe_2 : cX0_foe.data.toList.drop 46 = dktX0_foe_2 := dk_seg dksX0_foe_1 23 rfl rfl
theorem dX0_foe_0 : decode cX0_foe 0 = .ok (.aload_n 0, 1) := dk_42 (dk_at dksX0_foe_0 0 rfl rfl)
theorem dX0_foe_1 : decode cX0_foe 1 = .ok (.getfield 28, 3) := dk_180 0 28 (dk_at dksX0_foe_0 1 rfl rfl)
theorem dX0_foe_4 : decode cX0_foe 4 = .ok (.invokevirtual 158, 3) := dk_182 0 158 (dk_at dksX0_foe_0 4 rfl rfl)
theorem dX0_foe_7 : decode cX0_foe 7 = .ok (.ifCond .ne 6, 3) := dk_154 0 6 (dk_at dksX0_foe_0 7 rfl rfl)
theorem dX0_foe_10 : decode cX0_foe 10 = .ok (.bipush (-2), 2) := dk_16 254 (dk_at dksX0_foe_0 10 rfl rfl)
theorem dX0_foe_12 : decode cX0_foe 12 = .ok (.ireturn, 1) := dk_172 (dk_at dksX0_foe_0 12 rfl rfl)
theorem dX0_foe_13 : decode cX0_foe 13 = .ok (.aload_n 0, 1) := dk_42 (dk_at dksX0_foe_0 13 rfl rfl)
theorem dX0_foe_14 : decode cX0_foe 14 = .ok (.invokevirtual 271, 3) := dk_182 1 15 (dk_at dksX0_foe_0 14 rfl rfl)
theorem dX0_foe_17 : decode cX0_foe 17 = .ok (.iconst (-1), 1) := dk_2 (dk_at dksX0_foe_0 17 rfl rfl)
theorem dX0_foe_18 : decode cX0_foe 18 = .ok (.istore_n 1, 1) := dk_60 (dk_at dksX0_foe_0 18 rfl rfl)
theorem dX0_foe_19 : decode cX0_foe 19 = .ok (.iconst 0, 1) := dk_3 (dk_at dksX0_foe_0 19 rfl rfl)
theorem dX0_foe_20 : decode cX0_foe 20 = .ok (.istore_n 2, 1) := dk_61 (dk_at dksX0_foe_0 20 rfl rfl)
theorem dX0_foe_21 : decode cX0_foe 21 = .ok (.iload_n 2, 1) := dk_28 (dk_at dksX0_foe_0 21 rfl rfl)
theorem dX0_foe_22 : decode cX0_foe 22 = .ok (.aload_n 0, 1) := dk_42 (dk_at dksX0_foe_0 22 rfl rfl)
theorem dX0_foe_23 : decode cX0_foe 23 = .ok (.getfield 28, 3) := dk_180 0 28 (dk_at dksX0_foe_1 0 rfl rfl)
theorem dX0_foe_26 : decode cX0_foe 26 = .ok (.invokevirtual 100, 3) := dk_182 0 100 (dk_at dksX0_foe_1 3 rfl rfl)
theorem dX0_foe_29 : decode cX0_foe 29 = .ok (.if_icmp .ge 38, 3) := dk_162 0 38 (dk_at dksX0_foe_1 6 rfl rfl)
theorem dX0_foe_32 : decode cX0_foe 32 = .ok (.aload_n 0, 1) := dk_42 (dk_at dksX0_foe_1 9 rfl rfl)
theorem dX0_foe_33 : decode cX0_foe 33 = .ok (.getfield 63, 3) := dk_180 0 63 (dk_at dksX0_foe_1 10 rfl rfl)
theorem dX0_foe_36 : decode cX0_foe 36 = .ok (.iload_n 2, 1) := dk_28 (dk_at dksX0_foe_1 13 rfl rfl)
theorem dX0_foe_37 : decode cX0_foe 37 = .ok (.laload, 1) := dk_47 (dk_at dksX0_foe_1 14 rfl rfl)
theorem dX0_foe_38 : decode cX0_foe 38 = .ok (.iload_n 1, 1) := dk_27 (dk_at dksX0_foe_1 15 rfl rfl)
theorem dX0_foe_39 : decode cX0_foe 39 = .ok (.iconst (-1), 1) := dk_2 (dk_at dksX0_foe_1 16 rfl rfl)
theorem dX0_foe_40 : decode cX0_foe 40 = .ok (.if_icmp .ne 9, 3) := dk_160 0 9 (dk_at dksX0_foe_1 17 rfl rfl)
theorem dX0_foe_43 : decode cX0_foe 43 = .ok (.ldc2_w 223, 3) := dk_20 0 223 (dk_at dksX0_foe_1 20 rfl rfl)
theorem dX0_foe_46 : decode cX0_foe 46 = .ok (.goto 9, 3) := dk_167 0 9 (dk_at dksX0_foe_2 0 rfl rfl)
theorem dX0_foe_49 : decode cX0_foe 49 = .ok (.aload_n 0, 1) := dk_42 (dk_at dksX0_foe_2 3 rfl rfl)
theorem dX0_foe_50 : decode cX0_foe 50 = .ok (.getfield 63, 3) := dk_180 0 63 (dk_at dksX0_foe_2 4 rfl rfl)
theorem dX0_foe_53 : decode cX0_foe 53 = .ok (.iload_n 1, 1) := dk_27 (dk_at dksX0_foe_2 7 rfl rfl)
theorem dX0_foe_54 : decode cX0_foe 54 = .ok (.laload, 1) := dk_47 (dk_at dksX0_foe_2 8 rfl rfl)
theorem dX0_foe_55 : decode cX0_foe 55 = .ok (.lcmp, 1) := dk_148 (dk_at dksX0_foe_2 9 rfl rfl)
theorem dX0_foe_56 : decode cX0_foe 56 = .ok (.ifCond .le 5, 3) := dk_158 0 5 (dk_at dksX0_foe_2 10 rfl rfl)
theorem dX0_foe_59 : decode cX0_foe 59 = .ok (.iload_n 2, 1) := dk_28 (dk_at dksX0_foe_2 13 rfl rfl)
theorem dX0_foe_60 : decode cX0_foe 60 = .ok (.istore_n 1, 1) := dk_60 (dk_at dksX0_foe_2 14 rfl rfl)
theorem dX0_foe_61 : decode cX0_foe 61 = .ok (.iinc 2 1, 3) := dk_132 2 1 (dk_at dksX0_foe_2 15 rfl rfl)
theorem dX0_foe_64 : decode cX0_foe 64 = .ok (.goto (-43), 3) := dk_167 255 213 (dk_at dksX0_foe_2 18 rfl rfl)
theorem dX0_foe_67 : decode cX0_foe 67 = .ok (.iload_n 1, 1) := dk_27 (dk_at dksX0_foe_2 21 rfl rfl)
theorem dX0_foe_68 : decode cX0_foe 68 = .ok (.ireturn, 1) := dk_172 (dk_at dksX0_foe_2 22 rfl rfl)
abbrev cX0_laysMosts : ByteArray := prog_1_method_42_code
def yX0_laysMosts : MethodName := ⟨RX0, "laysMosts", "()V"⟩
def dkwX0_laysMosts_2 : List UInt8 := [132, 1, 1, 167, 255, 214, 177]
abbrev dktX0_laysMosts_2 : List UInt8 := dkwX0_laysMosts_2 ++ []
def dkwX0_laysMosts_1 : List UInt8 := [180, 0, 49, 27, 182, 0, 203, 153, 0, 11, 42, 27, 182, 1, 12, 167, 0, 6, 20, 0, 223, 80]
abbrev dktX0_laysMosts_1 : List UInt8 := dkwX0_laysMosts_1 ++ dktX0_laysMosts_2
def dkwX0_laysMosts_0 : List UInt8 := [42, 182, 0, 161, 87, 3, 60, 27, 42, 180, 0, 28, 182, 0, 100, 162, 0, 37, 42, 180, 0, 63, 27, 42]
abbrev dktX0_laysMosts_0 : List UInt8 := dkwX0_laysMosts_0 ++ dktX0_laysMosts_1
theorem dksX0_laysMosts_0 : cX0_laysMosts.data.toList.drop 0 = dktX0_laysMosts_0 := by decide +kernel
theorem dksX0_laysMosts_1 : cX0_laysMosts.data.toList.drop 24 = dktX0_laysMosts_1 := dk_seg dksX0_laysMosts_0 24 rfl rfl
theorem dksX0_laysMosts_2 : cX0_laysMosts.data.toList.drop 46 = dktX0_laysMosts_2 := dk_seg dksX0_laysMosts_1 22 rfl rfl
theorem dX0_laysMosts_0 : decode cX0_laysMosts 0 = .ok (.aload_n 0, 1) := dk_42 (dk_at dksX0_laysMosts_0 0 rfl rfl)
theorem dX0_laysMosts_1 : decode cX0_laysMosts 1 = .ok (.invokevirtual 161, 3) := dk_182 0 161 (dk_at dksX0_laysMosts_0 1 rfl rfl)
theorem dX0_laysMosts_4 : decode cX0_laysMosts 4 = .ok (.pop, 1) := dk_87 (dk_at dksX0_laysMosts_0 4 rfl rfl)
theorem dX0_laysMosts_5 : decode cX0_laysMosts 5 = .ok (.iconst 0, 1) := dk_3 (dk_at dksX0_laysMosts_0 5 rfl rfl)
theorem dX0_laysMosts_6 : decode cX0_laysMosts 6 = .ok (.istore_n 1, 1) := dk_60 (dk_at dksX0_laysMosts_0 6 rfl rfl)
theorem dX0_laysMosts_7 : decode cX0_laysMosts 7 = .ok (.iload_n 1, 1) := dk_27 (dk_at dksX0_laysMosts_0 7 rfl rfl)
theorem dX0_laysMosts_8 : decode cX0_laysMosts 8 = .ok (.aload_n 0, 1) := dk_42 (dk_at dksX0_laysMosts_0 8 rfl rfl)
theorem dX0_laysMosts_9 : decode cX0_laysMosts 9 = .ok (.getfield 28, 3) := dk_180 0 28 (dk_at dksX0_laysMosts_0 9 rfl rfl)
theorem dX0_laysMosts_12 : decode cX0_laysMosts 12 = .ok (.invokevirtual 100, 3) := dk_182 0 100 (dk_at dksX0_laysMosts_0 12 rfl rfl)
theorem dX0_laysMosts_15 : decode cX0_laysMosts 15 = .ok (.if_icmp .ge 37, 3) := dk_162 0 37 (dk_at dksX0_laysMosts_0 15 rfl rfl)
theorem dX0_laysMosts_18 : decode cX0_laysMosts 18 = .ok (.aload_n 0, 1) := dk_42 (dk_at dksX0_laysMosts_0 18 rfl rfl)
theorem dX0_laysMosts_19 : decode cX0_laysMosts 19 = .ok (.getfield 63, 3) := dk_180 0 63 (dk_at dksX0_laysMosts_0 19 rfl rfl)
theorem dX0_laysMosts_22 : decode cX0_laysMosts 22 = .ok (.iload_n 1, 1) := dk_27 (dk_at dksX0_laysMosts_0 22 rfl rfl)
theorem dX0_laysMosts_23 : decode cX0_laysMosts 23 = .ok (.aload_n 0, 1) := dk_42 (dk_at dksX0_laysMosts_0 23 rfl rfl)
theorem dX0_laysMosts_24 : decode cX0_laysMosts 24 = .ok (.getfield 49, 3) := dk_180 0 49 (dk_at dksX0_laysMosts_1 0 rfl rfl)
theorem dX0_laysMosts_27 : decode cX0_laysMosts 27 = .ok (.iload_n 1, 1) := dk_27 (dk_at dksX0_laysMosts_1 3 rfl rfl)
theorem dX0_laysMosts_28 : decode cX0_laysMosts 28 = .ok (.invokevirtual 203, 3) := dk_182 0 203 (dk_at dksX0_laysMosts_1 4 rfl rfl)
theorem dX0_laysMosts_31 : decode cX0_laysMosts 31 = .ok (.ifCond .eq 11, 3) := dk_153 0 11 (dk_at dksX0_laysMosts_1 7 rfl rfl)
theorem dX0_laysMosts_34 : decode cX0_laysMosts 34 = .ok (.aload_n 0, 1) := dk_42 (dk_at dksX0_laysMosts_1 10 rfl rfl)
theorem dX0_laysMosts_35 : decode cX0_laysMosts 35 = .ok (.iload_n 1, 1) := dk_27 (dk_at dksX0_laysMosts_1 11 rfl rfl)
theorem dX0_laysMosts_36 : decode cX0_laysMosts 36 = .ok (.invokevirtual 268, 3) := dk_182 1 12 (dk_at dksX0_laysMosts_1 12 rfl rfl)
theorem dX0_laysMosts_39 : decode cX0_laysMosts 39 = .ok (.goto 6, 3) := dk_167 0 6 (dk_at dksX0_laysMosts_1 15 rfl rfl)
theorem dX0_laysMosts_42 : decode cX0_laysMosts 42 = .ok (.ldc2_w 223, 3) := dk_20 0 223 (dk_at dksX0_laysMosts_1 18 rfl rfl)
theorem dX0_laysMosts_45 : decode cX0_laysMosts 45 = .ok (.lastore, 1) := dk_80 (dk_at dksX0_laysMosts_1 21 rfl rfl)
theorem dX0_laysMosts_46 : decode cX0_laysMosts 46 = .ok (.iinc 1 1, 3) := dk_132 1 1 (dk_at dksX0_laysMosts_2 0 rfl rfl)
theorem dX0_laysMosts_49 : decode cX0_laysMosts 49 = .ok (.goto (-42), 3) := dk_167 255 214 (dk_at dksX0_laysMosts_2 3 rfl rfl)
theorem dX0_laysMosts_52 : decode cX0_laysMosts 52 = .ok (.return_, 1) := dk_177 (dk_at dksX0_laysMosts_2 6 rfl rfl)
abbrev cX0_unsafe : ByteArray := prog_1_method_44_code
def yX0_unsafe : MethodName := ⟨RX0, "uns\x61fe", "()I"⟩
def dkwX0_unsafe_1 : List UInt8 := [180, 0, 63, 182, 0, 237, 172]
abbrev dktX0_unsafe_1 : List UInt8 := dkwX0_unsafe_1 ++ []
def dkwX0_unsafe_0 : List UInt8 := [42, 180, 0, 28, 182, 0, 158, 154, 0, 6, 16, 254, 172, 42, 182, 1, 15, 42, 180, 0, 49, 42]
abbrev dktX0_unsafe_0 : List UInt8 := dkwX0_unsafe_0 ++ dktX0_unsafe_1
theorem dksX0_unsafe_0 : cX0_unsafe.data.toList.drop 0 = dktX0_unsafe_0 := by decide +kernel
theorem dksX0_unsafe_1 : cX0_unsafe.data.toList.drop 22 = dktX0_unsafe_1 := dk_seg dksX0_unsafe_0 22 rfl rfl
theorem dX0_unsafe_0 : decode cX0_unsafe 0 = .ok (.aload_n 0, 1) := dk_42 (dk_at dksX0_unsafe_0 0 rfl rfl)
theorem dX0_unsafe_1 : decode cX0_unsafe 1 = .ok (.getfield 28, 3) := dk_180 0 28 (dk_at dksX0_unsafe_0 1 rfl rfl)
theorem dX0_unsafe_4 : decode cX0_unsafe 4 = .ok (.invokevirtual 158, 3) := dk_182 0 158 (dk_at dksX0_unsafe_0 4 rfl rfl)
theorem dX0_unsafe_7 : decode cX0_unsafe 7 = .ok (.ifCond .ne 6, 3) := dk_154 0 6 (dk_at dksX0_unsafe_0 7 rfl rfl)
theorem dX0_unsafe_10 : decode cX0_unsafe 10 = .ok (.bipush (-2), 2) := dk_16 254 (dk_at dksX0_unsafe_0 10 rfl rfl)
theorem dX0_unsafe_12 : decode cX0_unsafe 12 = .ok (.ireturn, 1) := dk_172 (dk_at dksX0_unsafe_0 12 rfl rfl)
theorem dX0_unsafe_13 : decode cX0_unsafe 13 = .ok (.aload_n 0, 1) := dk_42 (dk_at dksX0_unsafe_0 13 rfl rfl)
theorem dX0_unsafe_14 : decode cX0_unsafe 14 = .ok (.invokevirtual 271, 3) := dk_182 1 15 (dk_at dksX0_unsafe_0 14 rfl rfl)
theorem dX0_unsafe_17 : decode cX0_unsafe 17 = .ok (.aload_n 0, 1) := dk_42 (dk_at dksX0_unsafe_0 17 rfl rfl)
theorem dX0_unsafe_18 : decode cX0_unsafe 18 = .ok (.getfield 49, 3) := dk_180 0 49 (dk_at dksX0_unsafe_0 18 rfl rfl)
theorem dX0_unsafe_21 : decode cX0_unsafe 21 = .ok (.aload_n 0, 1) := dk_42 (dk_at dksX0_unsafe_0 21 rfl rfl)
theorem dX0_unsafe_22 : decode cX0_unsafe 22 = .ok (.getfield 63, 3) := dk_180 0 63 (dk_at dksX0_unsafe_1 0 rfl rfl)
theorem dX0_unsafe_25 : decode cX0_unsafe 25 = .ok (.invokevirtual 237, 3) := dk_182 0 237 (dk_at dksX0_unsafe_1 3 rfl rfl)
theorem dX0_unsafe_28 : decode cX0_unsafe 28 = .ok (.ireturn, 1) := dk_172 (dk_at dksX0_unsafe_1 6 rfl rfl)
abbrev cX0_tight : ByteArray := prog_1_method_45_code
def yX0_tight : MethodName := ⟨RX0, "tight", "(I)I"⟩
def dkwX0_tight_2 : List UInt8 := [154, 0, 9, 4, 29, 120, 167, 0, 4, 3, 128, 61, 132, 3, 1, 167, 255, 229, 28, 172]
abbrev dktX0_tight_2 : List UInt8 := dkwX0_tight_2 ++ []
def dkwX0_tight_1 : List UInt8 := [42, 27, 182, 1, 12, 88, 3, 61, 3, 62, 29, 6, 163, 0, 28, 28, 42, 180, 0, 60, 29, 46]
abbrev dktX0_tight_1 : List UInt8 := dkwX0_tight_1 ++ dktX0_tight_2
def dkwX0_tight_0 : List UInt8 := [42, 27, 182, 0, 180, 154, 0, 6, 16, 254, 172, 42, 182, 0, 161, 27, 182, 0, 203, 154, 0, 5, 2, 172]
abbrev dktX0_tight_0 : List UInt8 := dkwX0_tight_0 ++ dktX0_tight_1
theorem dksX0_tight_0 : cX0_tight.data.toList.drop 0 = dktX0_tight_0 := by decide +kernel
theorem dksX0_tight_1 : cX0_tight.data.toList.drop 24 = dktX0_tight_1 := dk_seg dksX0_tight_0 24 rfl rfl
theorem dksX0_tight_2 : cX0_tight.data.toList.drop 46 = dktX0_tight_2 := dk_seg dksX0_tight_1 22 rfl rfl
theorem dX0_tight_0 : decode cX0_tight 0 = .ok (.aload_n 0, 1) := dk_42 (dk_at dksX0_tight_0 0 rfl rfl)
theorem dX0_tight_1 : decode cX0_tight 1 = .ok (.iload_n 1, 1) := dk_27 (dk_at dksX0_tight_0 1 rfl rfl)
theorem dX0_tight_2 : decode cX0_tight 2 = .ok (.invokevirtual 180, 3) := dk_182 0 180 (dk_at dksX0_tight_0 2 rfl rfl)
theorem dX0_tight_5 : decode cX0_tight 5 = .ok (.ifCond .ne 6, 3) := dk_154 0 6 (dk_at dksX0_tight_0 5 rfl rfl)
theorem dX0_tight_8 : decode cX0_tight 8 = .ok (.bipush (-2), 2) := dk_16 254 (dk_at dksX0_tight_0 8 rfl rfl)
theorem dX0_tight_10 : decode cX0_tight 10 = .ok (.ireturn, 1) := dk_172 (dk_at dksX0_tight_0 10 rfl rfl)
theorem dX0_tight_11 : decode cX0_tight 11 = .ok (.aload_n 0, 1) := dk_42 (dk_at dksX0_tight_0 11 rfl rfl)
theorem dX0_tight_12 : decode cX0_tight 12 = .ok (.invokevirtual 161, 3) := dk_182 0 161 (dk_at dksX0_tight_0 12 rfl rfl)
theorem dX0_tight_15 : decode cX0_tight 15 = .ok (.iload_n 1, 1) := dk_27 (dk_at dksX0_tight_0 15 rfl rfl)
theorem dX0_tight_16 : decode cX0_tight 16 = .ok (.invokevirtual 203, 3) := dk_182 0 203 (dk_at dksX0_tight_0 16 rfl rfl)
theorem dX0_tight_19 : decode cX0_tight 19 = .ok (.ifCond .ne 5, 3) := dk_154 0 5 (dk_at dksX0_tight_0 19 rfl rfl)
theorem dX0_tight_22 : decode cX0_tight 22 = .ok (.iconst (-1), 1) := dk_2 (dk_at dksX0_tight_0 22 rfl rfl)
theorem dX0_tight_23 : decode cX0_tight 23 = .ok (.ireturn, 1) := dk_172 (dk_at dksX0_tight_0 23 rfl rfl)
theorem dX0_tight_24 : decode cX0_tight 24 = .ok (.aload_n 0, 1) := dk_42 (dk_at dksX0_tight_1 0 rfl rfl)
theorem dX0_tight_25 : decode cX0_tight 25 = .ok (.iload_n 1, 1) := dk_27 (dk_at dksX0_tight_1 1 rfl rfl)
theorem dX0_tight_26 : decode cX0_tight 26 = .ok (.invokevirtual 268, 3) := dk_182 1 12 (dk_at dksX0_tight_1 2 rfl rfl)
theorem dX0_tight_29 : decode cX0_tight 29 = .ok (.pop2, 1) := dk_88 (dk_at dksX0_tight_1 5 rfl rfl)
theorem dX0_tight_30 : decode cX0_tight 30 = .ok (.iconst 0, 1) := dk_3 (dk_at dksX0_tight_1 6 rfl rfl)
theorem dX0_tight_31 : decode cX0_tight 31 = .ok (.istore_n 2, 1) := dk_61 (dk_at dksX0_tight_1 7 rfl rfl)
theorem dX0_tight_32 : decode cX0_tight 32 = .ok (.iconst 0, 1) := dk_3 (dk_at dksX0_tight_1 8 rfl rfl)
theorem dX0_tight_33 : decode cX0_tight 33 = .ok (.istore_n 3, 1) := dk_62 (dk_at dksX0_tight_1 9 rfl rfl)
theorem dX0_tight_34 : decode cX0_tight 34 = .ok (.iload_n 3, 1) := dk_29 (dk_at dksX0_tight_1 10 rfl rfl)
theorem dX0_tight_35 : decode cX0_tight 35 = .ok (.iconst 3, 1) := dk_6 (dk_at dksX0_tight_1 11 rfl rfl)
theorem dX0_tight_36 : decode cX0_tight 36 = .ok (.if_icmp .gt 28, 3) := dk_163 0 28 (dk_at dksX0_tight_1 12 rfl rfl)
theorem dX0_tight_39 : decode cX0_tight 39 = .ok (.iload_n 2, 1) := dk_28 (dk_at dksX0_tight_1 15 rfl rfl)
theorem dX0_tight_40 : decode cX0_tight 40 = .ok (.aload_n 0, 1) := dk_42 (dk_at dksX0_tight_1 16 rfl rfl)
theorem dX0_tight_41 : decode cX0_tight 41 = .ok (.getfield 60, 3) := dk_180 0 60 (dk_at dksX0_tight_1 17 rfl rfl)
theorem dX0_tight_44 : decode cX0_tight 44 = .ok (.iload_n 3, 1) := dk_29 (dk_at dksX0_tight_1 20 rfl rfl)
theorem dX0_tight_45 : decode cX0_tight 45 = .ok (.iaload, 1) := dk_46 (dk_at dksX0_tight_1 21 rfl rfl)
theorem dX0_tight_46 : decode cX0_tight 46 = .ok (.ifCond .ne 9, 3) := dk_154 0 9 (dk_at dksX0_tight_2 0 rfl rfl)
theorem dX0_tight_49 : decode cX0_tight 49 = .ok (.iconst 1, 1) := dk_4 (dk_at dksX0_tight_2 3 rfl rfl)
theorem dX0_tight_50 : decode cX0_tight 50 = .ok (.iload_n 3, 1) := dk_29 (dk_at dksX0_tight_2 4 rfl rfl)
theorem dX0_tight_51 : decode cX0_tight 51 = .ok (.ishl, 1) := dk_120 (dk_at dksX0_tight_2 5 rfl rfl)
theorem dX0_tight_52 : decode cX0_tight 52 = .ok (.goto 4, 3) := dk_167 0 4 (dk_at dksX0_tight_2 6 rfl rfl)
theorem dX0_tight_55 : decode cX0_tight 55 = .ok (.iconst 0, 1) := dk_3 (dk_at dksX0_tight_2 9 rfl rfl)
theorem dX0_tight_56 : decode cX0_tight 56 = .ok (.ior, 1) := dk_128 (dk_at dksX0_tight_2 10 rfl rfl)
theorem dX0_tight_57 : decode cX0_tight 57 = .ok (.istore_n 2, 1) := dk_61 (dk_at dksX0_tight_2 11 rfl rfl)
theorem dX0_tight_58 : decode cX0_tight 58 = .ok (.iinc 3 1, 3) := dk_132 3 1 (dk_at dksX0_tight_2 12 rfl rfl)
theorem dX0_tight_61 : decode cX0_tight 61 = .ok (.goto (-27), 3) := dk_167 255 229 (dk_at dksX0_tight_2 15 rfl rfl)
theorem dX0_tight_64 : decode cX0_tight 64 = .ok (.iload_n 2, 1) := dk_28 (dk_at dksX0_tight_2 18 rfl rfl)
theorem dX0_tight_65 : decode cX0_tight 65 = .ok (.ireturn, 1) := dk_172 (dk_at dksX0_tight_2 19 rfl rfl)
abbrev cX0_share : ByteArray := prog_1_method_46_code
def yX0_share : MethodName := ⟨RX0, "share", "(III)J"⟩
def dkwX0_share_4 : List UInt8 := [180, 0, 49, 180, 0, 216, 27, 47, 29, 184, 0, 219, 173]
abbrev dktX0_share_4 : List UInt8 := dkwX0_share_4 ++ []
def dkwX0_share_3 : List UInt8 := [167, 0, 36, 42, 180, 0, 28, 180, 0, 197, 28, 46, 133, 42, 180, 0, 49, 27, 28, 182, 0, 244, 105, 42]
abbrev dktX0_share_3 : List UInt8 := dkwX0_share_3 ++ dktX0_share_4
def dkwX0_share_2 : List UInt8 := [154, 0, 7, 20, 0, 223, 173, 42, 180, 0, 49, 180, 0, 216, 27, 47, 9, 148, 154, 0, 8, 29, 133]
abbrev dktX0_share_2 : List UInt8 := dkwX0_share_2 ++ dktX0_share_3
def dkwX0_share_1 : List UInt8 := [20, 0, 214, 173, 42, 182, 0, 161, 27, 182, 0, 203, 153, 0, 14, 42, 180, 0, 49, 28, 182, 0, 203]
abbrev dktX0_share_1 : List UInt8 := dkwX0_share_1 ++ dktX0_share_2
def dkwX0_share_0 : List UInt8 := [42, 27, 182, 0, 180, 153, 0, 18, 42, 28, 182, 0, 180, 153, 0, 10, 29, 184, 0, 211, 154, 0, 7]
abbrev dktX0_share_0 : List UInt8 := dkwX0_share_0 ++ dktX0_share_1
theorem dksX0_share_0 : cX0_share.data.toList.drop 0 = dktX0_share_0 := by decide +kernel
theorem dksX0_share_1 : cX0_share.data.toList.drop 23 = dktX0_share_1 := dk_seg dksX0_share_0 23 rfl rfl
theorem dksX0_share_2 : cX0_share.data.toList.drop 46 = dktX0_share_2 := dk_seg dksX0_share_1 23 rfl rfl
theorem dksX0_share_3 : cX0_share.data.toList.drop 69 = dktX0_share_3 := dk_seg dksX0_share_2 23 rfl rfl
theorem dksX0_share_4 : cX0_share.data.toList.drop 93 = dktX0_share_4 := dk_seg dksX0_share_3 24 rfl rfl
theorem dX0_share_0 : decode cX0_share 0 = .ok (.aload_n 0, 1) := dk_42 (dk_at dksX0_share_0 0 rfl rfl)
theorem dX0_share_1 : decode cX0_share 1 = .ok (.iload_n 1, 1) := dk_27 (dk_at dksX0_share_0 1 rfl rfl)
theorem dX0_share_2 : decode cX0_share 2 = .ok (.invokevirtual 180, 3) := dk_182 0 180 (dk_at dksX0_share_0 2 rfl rfl)
theorem dX0_share_5 : decode cX0_share 5 = .ok (.ifCond .eq 18, 3) := dk_153 0 18 (dk_at dksX0_share_0 5 rfl rfl)
theorem dX0_share_8 : decode cX0_share 8 = .ok (.aload_n 0, 1) := dk_42 (dk_at dksX0_share_0 8 rfl rfl)
theorem dX0_share_9 : decode cX0_share 9 = .ok (.iload_n 2, 1) := dk_28 (dk_at dksX0_share_0 9 rfl rfl)
theorem dX0_share_10 : decode cX0_share 10 = .ok (.invokevirtual 180, 3) := dk_182 0 180 (dk_at dksX0_share_0 10 rfl rfl)
theorem dX0_share_13 : decode cX0_share 13 = .ok (.ifCond .eq 10, 3) := dk_153 0 10 (dk_at dksX0_share_0 13 rfl rfl)
theorem dX0_share_16 : decode cX0_share 16 = .ok (.iload_n 3, 1) := dk_29 (dk_at dksX0_share_0 16 rfl rfl)
theorem dX0_share_17 : decode cX0_share 17 = .ok (.invokestatic 211, 3) := dk_184 0 211 (dk_at dksX0_share_0 17 rfl rfl)
theorem dX0_share_20 : decode cX0_share 20 = .ok (.ifCond .ne 7, 3) := dk_154 0 7 (dk_at dksX0_share_0 20 rfl rfl)
theorem dX0_share_23 : decode cX0_share 23 = .ok (.ldc2_w 214, 3) := dk_20 0 214 (dk_at dksX0_share_1 0 rfl rfl)
theorem dX0_share_26 : decode cX0_share 26 = .ok (.lreturn, 1) := dk_173 (dk_at dksX0_share_1 3 rfl rfl)
theorem dX0_share_27 : decode cX0_share 27 = .ok (.aload_n 0, 1) := dk_42 (dk_at dksX0_share_1 4 rfl rfl)
theorem dX0_share_28 : decode cX0_share 28 = .ok (.invokevirtual 161, 3) := dk_182 0 161 (dk_at dksX0_share_1 5 rfl rfl)
theorem dX0_share_31 : decode cX0_share 31 = .ok (.iload_n 1, 1) := dk_27 (dk_at dksX0_share_1 8 rfl rfl)
theorem dX0_share_32 : decode cX0_share 32 = .ok (.invokevirtual 203, 3) := dk_182 0 203 (dk_at dksX0_share_1 9 rfl rfl)
theorem dX0_share_35 : decode cX0_share 35 = .ok (.ifCond .eq 14, 3) := dk_153 0 14 (dk_at dksX0_share_1 12 rfl rfl)
theorem dX0_share_38 : decode cX0_share 38 = .ok (.aload_n 0, 1) := dk_42 (dk_at dksX0_share_1 15 rfl rfl)
theorem dX0_share_39 : decode cX0_share 39 = .ok (.getfield 49, 3) := dk_180 0 49 (dk_at dksX0_share_1 16 rfl rfl)
theorem dX0_share_42 : decode cX0_share 42 = .ok (.iload_n 2, 1) := dk_28 (dk_at dksX0_share_1 19 rfl rfl)
theorem dX0_share_43 : decode cX0_share 43 = .ok (.invokevirtual 203, 3) := dk_182 0 203 (dk_at dksX0_share_1 20 rfl rfl)
theorem dX0_share_46 : decode cX0_share 46 = .ok (.ifCond .ne 7, 3) := dk_154 0 7 (dk_at dksX0_share_2 0 rfl rfl)
theorem dX0_share_49 : decode cX0_share 49 = .ok (.ldc2_w 223, 3) := dk_20 0 223 (dk_at dksX0_share_2 3 rfl rfl)
theorem dX0_share_52 : decode cX0_share 52 = .ok (.lreturn, 1) := dk_173 (dk_at dksX0_share_2 6 rfl rfl)
theorem dX0_share_53 : decode cX0_share 53 = .ok (.aload_n 0, 1) := dk_42 (dk_at dksX0_share_2 7 rfl rfl)
theorem dX0_share_54 : decode cX0_share 54 = .ok (.getfield 49, 3) := dk_180 0 49 (dk_at dksX0_share_2 8 rfl rfl)
theorem dX0_share_57 : decode cX0_share 57 = .ok (.getfield 216, 3) := dk_180 0 216 (dk_at dksX0_share_2 11 rfl rfl)
theorem dX0_share_60 : decode cX0_share 60 = .ok (.iload_n 1, 1) := dk_27 (dk_at dksX0_share_2 14 rfl rfl)
theorem dX0_share_61 : decode cX0_share 61 = .ok (.laload, 1) := dk_47 (dk_at dksX0_share_2 15 rfl rfl)
theorem dX0_share_62 : decode cX0_share 62 = .ok (.lconst 0, 1) := dk_9 (dk_at dksX0_share_2 16 rfl rfl)
theorem dX0_share_63 : decode cX0_share 63 = .ok (.lcmp, 1) := dk_148 (dk_at dksX0_share_2 17 rfl rfl)
theorem dX0_share_64 : decode cX0_share 64 = .ok (.ifCond .ne 8, 3) := dk_154 0 8 (dk_at dksX0_share_2 18 rfl rfl)
theorem dX0_share_67 : decode cX0_share 67 = .ok (.iload_n 3, 1) := dk_29 (dk_at dksX0_share_2 21 rfl rfl)
theorem dX0_share_68 : decode cX0_share 68 = .ok (.i2l, 1) := dk_133 (dk_at dksX0_share_2 22 rfl rfl)
theorem dX0_share_69 : decode cX0_share 69 = .ok (.goto 36, 3) := dk_167 0 36 (dk_at dksX0_share_3 0 rfl rfl)
theorem dX0_share_72 : decode cX0_share 72 = .ok (.aload_n 0, 1) := dk_42 (dk_at dksX0_share_3 3 rfl rfl)
theorem dX0_share_73 : decode cX0_share 73 = .ok (.getfield 28, 3) := dk_180 0 28 (dk_at dksX0_share_3 4 rfl rfl)
theorem dX0_share_76 : decode cX0_share 76 = .ok (.getfield 197, 3) := dk_180 0 197 (dk_at dksX0_share_3 7 rfl rfl)
theorem dX0_share_79 : decode cX0_share 79 = .ok (.iload_n 2, 1) := dk_28 (dk_at dksX0_share_3 10 rfl rfl)
theorem dX0_share_80 : decode cX0_share 80 = .ok (.iaload, 1) := dk_46 (dk_at dksX0_share_3 11 rfl rfl)
theorem dX0_share_81 : decode cX0_share 81 = .ok (.i2l, 1) := dk_133 (dk_at dksX0_share_3 12 rfl rfl)
theorem dX0_share_82 : decode cX0_share 82 = .ok (.aload_n 0, 1) := dk_42 (dk_at dksX0_share_3 13 rfl rfl)
theorem dX0_share_83 : decode cX0_share 83 = .ok (.getfield 49, 3) := dk_180 0 49 (dk_at dksX0_share_3 14 rfl rfl)
theorem dX0_share_86 : decode cX0_share 86 = .ok (.iload_n 1, 1) := dk_27 (dk_at dksX0_share_3 17 rfl rfl)
theorem dX0_share_87 : decode cX0_share 87 = .ok (.iload_n 2, 1) := dk_28 (dk_at dksX0_share_3 18 rfl rfl)
theorem dX0_share_88 : decode cX0_share 88 = .ok (.invokevirtual 244, 3) := dk_182 0 244 (dk_at dksX0_share_3 19 rfl rfl)
theorem dX0_share_91 : decode cX0_share 91 = .ok (.lmul, 1) := dk_105 (dk_at dksX0_share_3 22 rfl rfl)
theorem dX0_share_92 : decode cX0_share 92 = .ok (.aload_n 0, 1) := dk_42 (dk_at dksX0_share_3 23 rfl rfl)
theorem dX0_share_93 : decode cX0_share 93 = .ok (.getfield 49, 3) := dk_180 0 49 (dk_at dksX0_share_4 0 rfl rfl)
theorem dX0_share_96 : decode cX0_share 96 = .ok (.getfield 216, 3) := dk_180 0 216 (dk_at dksX0_share_4 3 rfl rfl)
theorem dX0_share_99 : decode cX0_share 99 = .ok (.iload_n 1, 1) := dk_27 (dk_at dksX0_share_4 6 rfl rfl)
theorem dX0_share_100 : decode cX0_share 100 = .ok (.laload, 1) := dk_47 (dk_at dksX0_share_4 7 rfl rfl)
theorem dX0_share_101 : decode cX0_share 101 = .ok (.iload_n 3, 1) := dk_29 (dk_at dksX0_share_4 8 rfl rfl)
theorem dX0_share_102 : decode cX0_share 102 = .ok (.invokestatic 219, 3) := dk_184 0 219 (dk_at dksX0_share_4 9 rfl rfl)
theorem dX0_share_105 : decode cX0_share 105 = .ok (.lreturn, 1) := dk_173 (dk_at dksX0_share_4 12 rfl rfl)
abbrev cX0_feeder : ByteArray := prog_1_method_48_code
def yX0_feeder : MethodName := ⟨RX0, "feeder", "(II)I"⟩
def dkwX0_feeder_2 : List UInt8 := [153, 0, 7, 2, 167, 0, 8, 42, 29, 182, 1, 18, 62, 132, 4, 1, 167, 255, 218, 29, 172]
abbrev dktX0_feeder_2 : List UInt8 := dkwX0_feeder_2 ++ []
def dkwX0_feeder_1 : List UInt8 := [54, 4, 21, 4, 28, 162, 0, 38, 29, 2, 159, 0, 33, 42, 180, 0, 28, 180, 0, 155, 29, 184, 0, 193]
abbrev dktX0_feeder_1 : List UInt8 := dkwX0_feeder_1 ++ dktX0_feeder_2
def dkwX0_feeder_0 : List UInt8 := [42, 27, 182, 0, 180, 153, 0, 7, 28, 156, 0, 6, 16, 254, 172, 42, 182, 0, 161, 87, 27, 62, 3]
abbrev dktX0_feeder_0 : List UInt8 := dkwX0_feeder_0 ++ dktX0_feeder_1
theorem dksX0_feeder_0 : cX0_feeder.data.toList.drop 0 = dktX0_feeder_0 := by decide +kernel
theorem dksX0_feeder_1 : cX0_feeder.data.toList.drop 23 = dktX0_feeder_1 := dk_seg dksX0_feeder_0 23 rfl rfl
theorem dksX0_feeder_2 : cX0_feeder.data.toList.drop 47 = dktX0_feeder_2 := dk_seg dksX0_feeder_1 24 rfl rfl
theorem dX0_feeder_0 : decode cX0_feeder 0 = .ok (.aload_n 0, 1) := dk_42 (dk_at dksX0_feeder_0 0 rfl rfl)
theorem dX0_feeder_1 : decode cX0_feeder 1 = .ok (.iload_n 1, 1) := dk_27 (dk_at dksX0_feeder_0 1 rfl rfl)
theorem dX0_feeder_2 : decode cX0_feeder 2 = .ok (.invokevirtual 180, 3) := dk_182 0 180 (dk_at dksX0_feeder_0 2 rfl rfl)
theorem dX0_feeder_5 : decode cX0_feeder 5 = .ok (.ifCond .eq 7, 3) := dk_153 0 7 (dk_at dksX0_feeder_0 5 rfl rfl)
theorem dX0_feeder_8 : decode cX0_feeder 8 = .ok (.iload_n 2, 1) := dk_28 (dk_at dksX0_feeder_0 8 rfl rfl)
theorem dX0_feeder_9 : decode cX0_feeder 9 = .ok (.ifCond .ge 6, 3) := dk_156 0 6 (dk_at dksX0_feeder_0 9 rfl rfl)
theorem dX0_feeder_12 : decode cX0_feeder 12 = .ok (.bipush (-2), 2) := dk_16 254 (dk_at dksX0_feeder_0 12 rfl rfl)
theorem dX0_feeder_14 : decode cX0_feeder 14 = .ok (.ireturn, 1) := dk_172 (dk_at dksX0_feeder_0 14 rfl rfl)
theorem dX0_feeder_15 : decode cX0_feeder 15 = .ok (.aload_n 0, 1) := dk_42 (dk_at dksX0_feeder_0 15 rfl rfl)
theorem dX0_feeder_16 : decode cX0_feeder 16 = .ok (.invokevirtual 161, 3) := dk_182 0 161 (dk_at dksX0_feeder_0 16 rfl rfl)
theorem dX0_feeder_19 : decode cX0_feeder 19 = .ok (.pop, 1) := dk_87 (dk_at dksX0_feeder_0 19 rfl rfl)
theorem dX0_feeder_20 : decode cX0_feeder 20 = .ok (.iload_n 1, 1) := dk_27 (dk_at dksX0_feeder_0 20 rfl rfl)
theorem dX0_feeder_21 : decode cX0_feeder 21 = .ok (.istore_n 3, 1) := dk_62 (dk_at dksX0_feeder_0 21 rfl rfl)
theorem dX0_feeder_22 : decode cX0_feeder 22 = .ok (.iconst 0, 1) := dk_3 (dk_at dksX0_feeder_0 22 rfl rfl)
theorem dX0_feeder_23 : decode cX0_feeder 23 = .ok (.istore 4, 2) := dk_54 4 (dk_at dksX0_feeder_1 0 rfl rfl)
theorem dX0_feeder_25 : decode cX0_feeder 25 = .ok (.iload 4, 2) := dk_21 4 (dk_at dksX0_feeder_1 2 rfl rfl)
theorem dX0_feeder_27 : decode cX0_feeder 27 = .ok (.iload_n 2, 1) := dk_28 (dk_at dksX0_feeder_1 4 rfl rfl)
theorem dX0_feeder_28 : decode cX0_feeder 28 = .ok (.if_icmp .ge 38, 3) := dk_162 0 38 (dk_at dksX0_feeder_1 5 rfl rfl)
theorem dX0_feeder_31 : decode cX0_feeder 31 = .ok (.iload_n 3, 1) := dk_29 (dk_at dksX0_feeder_1 8 rfl rfl)
theorem dX0_feeder_32 : decode cX0_feeder 32 = .ok (.iconst (-1), 1) := dk_2 (dk_at dksX0_feeder_1 9 rfl rfl)
theorem dX0_feeder_33 : decode cX0_feeder 33 = .ok (.if_icmp .eq 33, 3) := dk_159 0 33 (dk_at dksX0_feeder_1 10 rfl rfl)
theorem dX0_feeder_36 : decode cX0_feeder 36 = .ok (.aload_n 0, 1) := dk_42 (dk_at dksX0_feeder_1 13 rfl rfl)
theorem dX0_feeder_37 : decode cX0_feeder 37 = .ok (.getfield 28, 3) := dk_180 0 28 (dk_at dksX0_feeder_1 14 rfl rfl)
theorem dX0_feeder_40 : decode cX0_feeder 40 = .ok (.getfield 155, 3) := dk_180 0 155 (dk_at dksX0_feeder_1 17 rfl rfl)
theorem dX0_feeder_43 : decode cX0_feeder 43 = .ok (.iload_n 3, 1) := dk_29 (dk_at dksX0_feeder_1 20 rfl rfl)
theorem dX0_feeder_44 : decode cX0_feeder 44 = .ok (.invokestatic 193, 3) := dk_184 0 193 (dk_at dksX0_feeder_1 21 rfl rfl)
theorem dX0_feeder_47 : decode cX0_feeder 47 = .ok (.ifCond .eq 7, 3) := dk_153 0 7 (dk_at dksX0_feeder_2 0 rfl rfl)
theorem dX0_feeder_50 : decode cX0_feeder 50 = .ok (.iconst (-1), 1) := dk_2 (dk_at dksX0_feeder_2 3 rfl rfl)
theorem dX0_feeder_51 : decode cX0_feeder 51 = .ok (.goto 8, 3) := dk_167 0 8 (dk_at dksX0_feeder_2 4 rfl rfl)
theorem dX0_feeder_54 : decode cX0_feeder 54 = .ok (.aload_n 0, 1) := dk_42 (dk_at dksX0_feeder_2 7 rfl rfl)
theorem dX0_feeder_55 : decode cX0_feeder 55 = .ok (.iload_n 3, 1) := dk_29 (dk_at dksX0_feeder_2 8 rfl rfl)
theorem dX0_feeder_56 : decode cX0_feeder 56 = .ok (.invokevirtual 274, 3) := dk_182 1 18 (dk_at dksX0_feeder_2 9 rfl rfl)
theorem dX0_feeder_59 : decode cX0_feeder 59 = .ok (.istore_n 3, 1) := dk_62 (dk_at dksX0_feeder_2 12 rfl rfl)
theorem dX0_feeder_60 : decode cX0_feeder 60 = .ok (.iinc 4 1, 3) := dk_132 4 1 (dk_at dksX0_feeder_2 13 rfl rfl)
theorem dX0_feeder_63 : decode cX0_feeder 63 = .ok (.goto (-38), 3) := dk_167 255 218 (dk_at dksX0_feeder_2 16 rfl rfl)
theorem dX0_feeder_66 : decode cX0_feeder 66 = .ok (.iload_n 3, 1) := dk_29 (dk_at dksX0_feeder_2 19 rfl rfl)
theorem dX0_feeder_67 : decode cX0_feeder 67 = .ok (.ireturn, 1) := dk_172 (dk_at dksX0_feeder_2 20 rfl rfl)
abbrev cX0_feederOf : ByteArray := prog_1_method_47_code
def yX0_feederOf : MethodName := ⟨RX0, "feederOf", "(I)I"⟩
def dkwX0_feederOf_7 : List UInt8 := [132, 5, 1, 167, 255, 99, 28, 172]
abbrev dktX0_feederOf_7 : List UInt8 := dkwX0_feederOf_7 ++ []
def dkwX0_feederOf_6 : List UInt8 := [21, 6, 2, 159, 0, 19, 22, 7, 33, 148, 157, 0, 6, 167, 0, 9, 21, 6, 61, 22, 7, 66]
abbrev dktX0_feederOf_6 : List UInt8 := dkwX0_feederOf_6 ++ dktX0_feederOf_7
def dkwX0_feederOf_5 : List UInt8 := [180, 0, 49, 21, 5, 182, 0, 227, 117, 42, 180, 0, 28, 180, 0, 177, 21, 5, 46, 133, 105, 55, 7]
abbrev dktX0_feederOf_5 : List UInt8 := dkwX0_feederOf_5 ++ dktX0_feederOf_6
def dkwX0_feederOf_4 : List UInt8 := [180, 0, 49, 21, 5, 182, 0, 227, 42, 180, 0, 28, 180, 0, 177, 21, 5, 46, 133, 105, 167, 0, 25, 42]
abbrev dktX0_feederOf_4 : List UInt8 := dkwX0_feederOf_4 ++ dktX0_feederOf_5
def dkwX0_feederOf_3 : List UInt8 := [167, 0, 4, 2, 54, 6, 21, 6, 42, 180, 0, 28, 180, 0, 171, 21, 5, 46, 160, 0, 27, 42]
abbrev dktX0_feederOf_3 : List UInt8 := dkwX0_feederOf_3 ++ dktX0_feederOf_4
def dkwX0_feederOf_2 : List UInt8 := [180, 0, 28, 180, 0, 174, 21, 5, 46, 27, 160, 0, 16, 42, 180, 0, 28, 180, 0, 171, 21, 5, 46]
abbrev dktX0_feederOf_2 : List UInt8 := dkwX0_feederOf_2 ++ dktX0_feederOf_3
def dkwX0_feederOf_1 : List UInt8 := [180, 0, 171, 21, 5, 46, 27, 160, 0, 16, 42, 180, 0, 28, 180, 0, 174, 21, 5, 46, 167, 0, 31, 42]
abbrev dktX0_feederOf_1 : List UInt8 := dkwX0_feederOf_1 ++ dktX0_feederOf_2
def dkwX0_feederOf_0 : List UInt8 := [2, 61, 9, 66, 3, 54, 5, 21, 5, 42, 180, 0, 28, 180, 0, 104, 162, 0, 151, 42, 180, 0, 28]
abbrev dktX0_feederOf_0 : List UInt8 := dkwX0_feederOf_0 ++ dktX0_feederOf_1
theorem dksX0_feederOf_0 : cX0_feederOf.data.toList.drop 0 = dktX0_feederOf_0 := by decide +kernel
theorem dksX0_feederOf_1 : cX0_feederOf.data.toList.drop 23 = dktX0_feederOf_1 := dk_seg dksX0_feederOf_0 23 rfl rfl
theorem dksX0_feederOf_2 : cX0_feederOf.data.toList.drop 47 = dktX0_feederOf_2 := dk_seg dksX0_feederOf_1 24 rfl rfl
theorem dksX0_feederOf_3 : cX0_feederOf.data.toList.drop 70 = dktX0_feederOf_3 := dk_seg dksX0_feederOf_2 23 rfl rfl
theorem dksX0_feederOf_4 : cX0_feederOf.data.toList.drop 92 = dktX0_feederOf_4 := dk_seg dksX0_feederOf_3 22 rfl rfl
theorem dksX0_feederOf_5 : cX0_feederOf.data.toList.drop 116 = dktX0_feederOf_5 := dk_seg dksX0_feederOf_4 24 rfl rfl
theorem dksX0_feederOf_6 : cX0_feederOf.data.toList.drop 139 = dktX0_feederOf_6 := dk_seg dksX0_feederOf_5 23 rfl rfl
theorem dksX0_feederOf_7 : cX0_feederOf.data.toList.drop 161 = dktX0_feederOf_7 := dk_seg dksX0_feederOf_6 22 rfl rfl
theorem dX0_feederOf_0 : decode cX0_feederOf 0 = .ok (.iconst (-1), 1) := dk_2 (dk_at dksX0_feederOf_0 0 rfl rfl)
theorem dX0_feederOf_1 : decode cX0_feederOf 1 = .ok (.istore_n 2, 1) := dk_61 (dk_at dksX0_feederOf_0 1 rfl rfl)
theorem dX0_feederOf_2 : decode cX0_feederOf 2 = .ok (.lconst 0, 1) := dk_9 (dk_at dksX0_feederOf_0 2 rfl rfl)
theorem dX0_feederOf_3 : decode cX0_feederOf 3 = .ok (.lstore_n 3, 1) := dk_66 (dk_at dksX0_feederOf_0 3 rfl rfl)
theorem dX0_feederOf_4 : decode cX0_feederOf 4 = .ok (.iconst 0, 1) := dk_3 (dk_at dksX0_feederOf_0 4 rfl rfl)
theorem dX0_feederOf_5 : decode cX0_feederOf 5 = .ok (.istore 5, 2) := dk_54 5 (dk_at dksX0_feederOf_0 5 rfl rfl)
theorem dX0_feederOf_7 : decode cX0_feederOf 7 = .ok (.iload 5, 2) := dk_21 5 (dk_at dksX0_feederOf_0 7 rfl rfl)
theorem dX0_feederOf_9 : decode cX0_feederOf 9 = .ok (.aload_n 0, 1) := dk_42 (dk_at dksX0_feederOf_0 9 rfl rfl)
theorem dX0_feederOf_10 : decode cX0_feederOf 10 = .ok (.getfield 28, 3) := dk_180 0 28 (dk_at dksX0_feederOf_0 10 rfl rfl)
theorem dX0_feederOf_13 : decode cX0_feederOf 13 = .ok (.getfield 104, 3) := dk_180 0 104 (dk_at dksX0_feederOf_0 13 rfl rfl)
theorem dX0_feederOf_16 : decode cX0_feederOf 16 = .ok (.if_icmp .ge 151, 3) := dk_162 0 151 (dk_at dksX0_feederOf_0 16 rfl rfl)
theorem dX0_feederOf_19 : decode cX0_feederOf 19 = .ok (.aload_n 0, 1) := dk_42 (dk_at dksX0_feederOf_0 19 rfl rfl)
theorem dX0_feederOf_20 : decode cX0_feederOf 20 = .ok (.getfield 28, 3) := dk_180 0 28 (dk_at dksX0_feederOf_0 20 rfl rfl)
theorem dX0_feederOf_23 : decode cX0_feederOf 23 = .ok (.getfield 171, 3) := dk_180 0 171 (dk_at dksX0_feederOf_1 0 rfl rfl)
theorem dX0_feederOf_26 : decode cX0_feederOf 26 = .ok (.iload 5, 2) := dk_21 5 (dk_at dksX0_feederOf_1 3 rfl rfl)
theorem dX0_feederOf_28 : decode cX0_feederOf 28 = .ok (.iaload, 1) := dk_46 (dk_at dksX0_feederOf_1 5 rfl rfl)
theorem dX0_feederOf_29 : decode cX0_feederOf 29 = .ok (.iload_n 1, 1) := dk_27 (dk_at dksX0_feederOf_1 6 rfl rfl)
theorem dX0_feederOf_30 : decode cX0_feederOf 30 = .ok (.if_icmp .ne 16, 3) := dk_160 0 16 (dk_at dksX0_feederOf_1 7 rfl rfl)
theorem dX0_feederOf_33 : decode cX0_feederOf 33 = .ok (.aload_n 0, 1) := dk_42 (dk_at dksX0_feederOf_1 10 rfl rfl)
theorem dX0_feederOf_34 : decode cX0_feederOf 34 = .ok (.getfield 28, 3) := dk_180 0 28 (dk_at dksX0_feederOf_1 11 rfl rfl)
theorem dX0_feederOf_37 : decode cX0_feederOf 37 = .ok (.getfield 174, 3) := dk_180 0 174 (dk_at dksX0_feederOf_1 14 rfl rfl)
theorem dX0_feederOf_40 : decode cX0_feederOf 40 = .ok (.iload 5, 2) := dk_21 5 (dk_at dksX0_feederOf_1 17 rfl rfl)
theorem dX0_feederOf_42 : decode cX0_feederOf 42 = .ok (.iaload, 1) := dk_46 (dk_at dksX0_feederOf_1 19 rfl rfl)
theorem dX0_feederOf_43 : decode cX0_feederOf 43 = .ok (.goto 31, 3) := dk_167 0 31 (dk_at dksX0_feederOf_1 20 rfl rfl)
theorem dX0_feederOf_46 : decode cX0_feederOf 46 = .ok (.aload_n 0, 1) := dk_42 (dk_at dksX0_feederOf_1 23 rfl rfl)
theorem dX0_feederOf_47 : decode cX0_feederOf 47 = .ok (.getfield 28, 3) := dk_180 0 28 (dk_at dksX0_feederOf_2 0 rfl rfl)
theorem dX0_feederOf_50 : decode cX0_feederOf 50 = .ok (.getfield 174, 3) := dk_180 0 174 (dk_at dksX0_feederOf_2 3 rfl rfl)
theorem dX0_feederOf_53 : decode cX0_feederOf 53 = .ok (.iload 5, 2) := dk_21 5 (dk_at dksX0_feederOf_2 6 rfl rfl)
theorem dX0_feederOf_55 : decode cX0_feederOf 55 = .ok (.iaload, 1) := dk_46 (dk_at dksX0_feederOf_2 8 rfl rfl)
theorem dX0_feederOf_56 : decode cX0_feederOf 56 = .ok (.iload_n 1, 1) := dk_27 (dk_at dksX0_feederOf_2 9 rfl rfl)
theorem dX0_feederOf_57 : decode cX0_feederOf 57 = .ok (.if_icmp .ne 16, 3) := dk_160 0 16 (dk_at dksX0_feederOf_2 10 rfl rfl)
theorem dX0_feederOf_60 : decode cX0_feederOf 60 = .ok (.aload_n 0, 1) := dk_42 (dk_at dksX0_feederOf_2 13 rfl rfl)
theorem dX0_feederOf_61 : decode cX0_feederOf 61 = .ok (.getfield 28, 3) := dk_180 0 28 (dk_at dksX0_feederOf_2 14 rfl rfl)
theorem dX0_feederOf_64 : decode cX0_feederOf 64 = .ok (.getfield 171, 3) := dk_180 0 171 (dk_at dksX0_feederOf_2 17 rfl rfl)
theorem dX0_feederOf_67 : decode cX0_feederOf 67 = .ok (.iload 5, 2) := dk_21 5 (dk_at dksX0_feederOf_2 20 rfl rfl)
theorem dX0_feederOf_69 : decode cX0_feederOf 69 = .ok (.iaload, 1) := dk_46 (dk_at dksX0_feederOf_2 22 rfl rfl)
theorem dX0_feederOf_70 : decode cX0_feederOf 70 = .ok (.goto 4, 3) := dk_167 0 4 (dk_at dksX0_feederOf_3 0 rfl rfl)
theorem dX0_feederOf_73 : decode cX0_feederOf 73 = .ok (.iconst (-1), 1) := dk_2 (dk_at dksX0_feederOf_3 3 rfl rfl)
theorem dX0_feederOf_74 : decode cX0_feederOf 74 = .ok (.istore 6, 2) := dk_54 6 (dk_at dksX0_feederOf_3 4 rfl rfl)
theorem dX0_feederOf_76 : decode cX0_feederOf 76 = .ok (.iload 6, 2) := dk_21 6 (dk_at dksX0_feederOf_3 6 rfl rfl)
theorem dX0_feederOf_78 : decode cX0_feederOf 78 = .ok (.aload_n 0, 1) := dk_42 (dk_at dksX0_feederOf_3 8 rfl rfl)
theorem dX0_feederOf_79 : decode cX0_feederOf 79 = .ok (.getfield 28, 3) := dk_180 0 28 (dk_at dksX0_feederOf_3 9 rfl rfl)
theorem dX0_feederOf_82 : decode cX0_feederOf 82 = .ok (.getfield 171, 3) := dk_180 0 171 (dk_at dksX0_feederOf_3 12 rfl rfl)
theorem dX0_feederOf_85 : decode cX0_feederOf 85 = .ok (.iload 5, 2) := dk_21 5 (dk_at dksX0_feederOf_3 15 rfl rfl)
theorem dX0_feederOf_87 : decode cX0_feederOf 87 = .ok (.iaload, 1) := dk_46 (dk_at dksX0_feederOf_3 17 rfl rfl)
theorem dX0_feederOf_88 : decode cX0_feederOf 88 = .ok (.if_icmp .ne 27, 3) := dk_160 0 27 (dk_at dksX0_feederOf_3 18 rfl rfl)
theorem dX0_feederOf_91 : decode cX0_feederOf 91 = .ok (.aload_n 0, 1) := dk_42 (dk_at dksX0_feederOf_3 21 rfl rfl)
theorem dX0_feederOf_92 : decode cX0_feederOf 92 = .ok (.getfield 49, 3) := dk_180 0 49 (dk_at dksX0_feederOf_4 0 rfl rfl)
theorem dX0_feederOf_95 : decode cX0_feederOf 95 = .ok (.iload 5, 2) := dk_21 5 (dk_at dksX0_feederOf_4 3 rfl rfl)
theorem dX0_feederOf_97 : decode cX0_feederOf 97 = .ok (.invokevirtual 227, 3) := dk_182 0 227 (dk_at dksX0_feederOf_4 5 rfl rfl)
theorem dX0_feederOf_100 : decode cX0_feederOf 100 = .ok (.aload_n 0, 1) := dk_42 (dk_at dksX0_feederOf_4 8 rfl rfl)
theorem dX0_feederOf_101 : decode cX0_feederOf 101 = .ok (.getfield 28, 3) := dk_180 0 28 (dk_at dksX0_feederOf_4 9 rfl rfl)
theorem dX0_feederOf_104 : decode cX0_feederOf 104 = .ok (.getfield 177, 3) := dk_180 0 177 (dk_at dksX0_feederOf_4 12 rfl rfl)
theorem dX0_feederOf_107 : decode cX0_feederOf 107 = .ok (.iload 5, 2) := dk_21 5 (dk_at dksX0_feederOf_4 15 rfl rfl)
theorem dX0_feederOf_109 : decode cX0_feederOf 109 = .ok (.iaload, 1) := dk_46 (dk_at dksX0_feederOf_4 17 rfl rfl)
theorem dX0_feederOf_110 : decode cX0_feederOf 110 = .ok (.i2l, 1) := dk_133 (dk_at dksX0_feederOf_4 18 rfl rfl)
theorem dX0_feederOf_111 : decode cX0_feederOf 111 = .ok (.lmul, 1) := dk_105 (dk_at dksX0_feederOf_4 19 rfl rfl)
theorem dX0_feederOf_112 : decode cX0_feederOf 112 = .ok (.goto 25, 3) := dk_167 0 25 (dk_at dksX0_feederOf_4 20 rfl rfl)
theorem dX0_feederOf_115 : decode cX0_feederOf 115 = .ok (.aload_n 0, 1) := dk_42 (dk_at dksX0_feederOf_4 23 rfl rfl)
theorem dX0_feederOf_116 : decode cX0_feederOf 116 = .ok (.getfield 49, 3) := dk_180 0 49 (dk_at dksX0_feederOf_5 0 rfl rfl)
theorem dX0_feederOf_119 : decode cX0_feederOf 119 = .ok (.iload 5, 2) := dk_21 5 (dk_at dksX0_feederOf_5 3 rfl rfl)
theorem dX0_feederOf_121 : decode cX0_feederOf 121 = .ok (.invokevirtual 227, 3) := dk_182 0 227 (dk_at dksX0_feederOf_5 5 rfl rfl)
theorem dX0_feederOf_124 : decode cX0_feederOf 124 = .ok (.lneg, 1) := dk_117 (dk_at dksX0_feederOf_5 8 rfl rfl)
theorem dX0_feederOf_125 : decode cX0_feederOf 125 = .ok (.aload_n 0, 1) := dk_42 (dk_at dksX0_feederOf_5 9 rfl rfl)
theorem dX0_feederOf_126 : decode cX0_feederOf 126 = .ok (.getfield 28, 3) := dk_180 0 28 (dk_at dksX0_feederOf_5 10 rfl rfl)
theorem dX0_feederOf_129 : decode cX0_feederOf 129 = .ok (.getfield 177, 3) := dk_180 0 177 (dk_at dksX0_feederOf_5 13 rfl rfl)
theorem dX0_feederOf_132 : decode cX0_feederOf 132 = .ok (.iload 5, 2) := dk_21 5 (dk_at dksX0_feederOf_5 16 rfl rfl)
theorem dX0_feederOf_134 : decode cX0_feederOf 134 = .ok (.iaload, 1) := dk_46 (dk_at dksX0_feederOf_5 18 rfl rfl)
theorem dX0_feederOf_135 : decode cX0_feederOf 135 = .ok (.i2l, 1) := dk_133 (dk_at dksX0_feederOf_5 19 rfl rfl)
theorem dX0_feederOf_136 : decode cX0_feederOf 136 = .ok (.lmul, 1) := dk_105 (dk_at dksX0_feederOf_5 20 rfl rfl)
theorem dX0_feederOf_137 : decode cX0_feederOf 137 = .ok (.lstore 7, 2) := dk_55 7 (dk_at dksX0_feederOf_5 21 rfl rfl)
theorem dX0_feederOf_139 : decode cX0_feederOf 139 = .ok (.iload 6, 2) := dk_21 6 (dk_at dksX0_feederOf_6 0 rfl rfl)
theorem dX0_feederOf_141 : decode cX0_feederOf 141 = .ok (.iconst (-1), 1) := dk_2 (dk_at dksX0_feederOf_6 2 rfl rfl)
theorem dX0_feederOf_142 : decode cX0_feederOf 142 = .ok (.if_icmp .eq 19, 3) := dk_159 0 19 (dk_at dksX0_feederOf_6 3 rfl rfl)
theorem dX0_feederOf_145 : decode cX0_feederOf 145 = .ok (.lload 7, 2) := dk_22 7 (dk_at dksX0_feederOf_6 6 rfl rfl)
theorem dX0_feederOf_147 : decode cX0_feederOf 147 = .ok (.lload_n 3, 1) := dk_33 (dk_at dksX0_feederOf_6 8 rfl rfl)
theorem dX0_feederOf_148 : decode cX0_feederOf 148 = .ok (.lcmp, 1) := dk_148 (dk_at dksX0_feederOf_6 9 rfl rfl)
theorem dX0_feederOf_149 : decode cX0_feederOf 149 = .ok (.ifCond .gt 6, 3) := dk_157 0 6 (dk_at dksX0_feederOf_6 10 rfl rfl)
theorem dX0_feederOf_152 : decode cX0_feederOf 152 = .ok (.goto 9, 3) := dk_167 0 9 (dk_at dksX0_feederOf_6 13 rfl rfl)
theorem dX0_feederOf_155 : decode cX0_feederOf 155 = .ok (.iload 6, 2) := dk_21 6 (dk_at dksX0_feederOf_6 16 rfl rfl)
theorem dX0_feederOf_157 : decode cX0_feederOf 157 = .ok (.istore_n 2, 1) := dk_61 (dk_at dksX0_feederOf_6 18 rfl rfl)
theorem dX0_feederOf_158 : decode cX0_feederOf 158 = .ok (.lload 7, 2) := dk_22 7 (dk_at dksX0_feederOf_6 19 rfl rfl)
theorem dX0_feederOf_160 : decode cX0_feederOf 160 = .ok (.lstore_n 3, 1) := dk_66 (dk_at dksX0_feederOf_6 21 rfl rfl)
theorem dX0_feederOf_161 : decode cX0_feederOf 161 = .ok (.iinc 5 1, 3) := dk_132 5 1 (dk_at dksX0_feederOf_7 0 rfl rfl)
theorem dX0_feederOf_164 : decode cX0_feederOf 164 = .ok (.goto (-157), 3) := dk_167 255 99 (dk_at dksX0_feederOf_7 3 rfl rfl)
theorem dX0_feederOf_167 : decode cX0_feederOf 167 = .ok (.iload_n 2, 1) := dk_28 (dk_at dksX0_feederOf_7 6 rfl rfl)
theorem dX0_feederOf_168 : decode cX0_feederOf 168 = .ok (.ireturn, 1) := dk_172 (dk_at dksX0_feederOf_7 7 rfl rfl)
abbrev cX0_parts : ByteArray := prog_1_method_49_code
def yX0_parts : MethodName := ⟨RX0, "parts", "()I"⟩
def dkwX0_parts_2 : List UInt8 := [160, 0, 7, 4, 167, 0, 4, 3, 96, 60, 132, 2, 1, 167, 255, 217, 27, 172]
abbrev dktX0_parts_2 : List UInt8 := dkwX0_parts_2 ++ []
def dkwX0_parts_1 : List UInt8 := [180, 0, 28, 182, 0, 100, 162, 0, 34, 27, 42, 180, 0, 49, 4, 28, 120, 182, 0, 248, 184, 1, 21, 28]
abbrev dktX0_parts_1 : List UInt8 := dkwX0_parts_1 ++ dktX0_parts_2
def dkwX0_parts_0 : List UInt8 := [42, 180, 0, 28, 182, 0, 158, 154, 0, 6, 16, 254, 172, 42, 182, 0, 161, 87, 3, 60, 3, 61, 28, 42]
abbrev dktX0_parts_0 : List UInt8 := dkwX0_parts_0 ++ dktX0_parts_1
theorem dksX0_parts_0 : cX0_parts.data.toList.drop 0 = dktX0_parts_0 := by decide +kernel
theorem dksX0_parts_1 : cX0_parts.data.toList.drop 24 = dktX0_parts_1 := dk_seg dksX0_parts_0 24 rfl rfl
theorem dksX0_parts_2 : cX0_parts.data.toList.drop 48 = dktX0_parts_2 := dk_seg dksX0_parts_1 24 rfl rfl
theorem dX0_parts_0 : decode cX0_parts 0 = .ok (.aload_n 0, 1) := dk_42 (dk_at dksX0_parts_0 0 rfl rfl)
theorem dX0_parts_1 : decode cX0_parts 1 = .ok (.getfield 28, 3) := dk_180 0 28 (dk_at dksX0_parts_0 1 rfl rfl)
theorem dX0_parts_4 : decode cX0_parts 4 = .ok (.invokevirtual 158, 3) := dk_182 0 158 (dk_at dksX0_parts_0 4 rfl rfl)
theorem dX0_parts_7 : decode cX0_parts 7 = .ok (.ifCond .ne 6, 3) := dk_154 0 6 (dk_at dksX0_parts_0 7 rfl rfl)
theorem dX0_parts_10 : decode cX0_parts 10 = .ok (.bipush (-2), 2) := dk_16 254 (dk_at dksX0_parts_0 10 rfl rfl)
theorem dX0_parts_12 : decode cX0_parts 12 = .ok (.ireturn, 1) := dk_172 (dk_at dksX0_parts_0 12 rfl rfl)
theorem dX0_parts_13 : decode cX0_parts 13 = .ok (.aload_n 0, 1) := dk_42 (dk_at dksX0_parts_0 13 rfl rfl)
theorem dX0_parts_14 : decode cX0_parts 14 = .ok (.invokevirtual 161, 3) := dk_182 0 161 (dk_at dksX0_parts_0 14 rfl rfl)
theorem dX0_parts_17 : decode cX0_parts 17 = .ok (.pop, 1) := dk_87 (dk_at dksX0_parts_0 17 rfl rfl)
theorem dX0_parts_18 : decode cX0_parts 18 = .ok (.iconst 0, 1) := dk_3 (dk_at dksX0_parts_0 18 rfl rfl)
theorem dX0_parts_19 : decode cX0_parts 19 = .ok (.istore_n 1, 1) := dk_60 (dk_at dksX0_parts_0 19 rfl rfl)
theorem dX0_parts_20 : decode cX0_parts 20 = .ok (.iconst 0, 1) := dk_3 (dk_at dksX0_parts_0 20 rfl rfl)
theorem dX0_parts_21 : decode cX0_parts 21 = .ok (.istore_n 2, 1) := dk_61 (dk_at dksX0_parts_0 21 rfl rfl)
theorem dX0_parts_22 : decode cX0_parts 22 = .ok (.iload_n 2, 1) := dk_28 (dk_at dksX0_parts_0 22 rfl rfl)
theorem dX0_parts_23 : decode cX0_parts 23 = .ok (.aload_n 0, 1) := dk_42 (dk_at dksX0_parts_0 23 rfl rfl)
theorem dX0_parts_24 : decode cX0_parts 24 = .ok (.getfield 28, 3) := dk_180 0 28 (dk_at dksX0_parts_1 0 rfl rfl)
theorem dX0_parts_27 : decode cX0_parts 27 = .ok (.invokevirtual 100, 3) := dk_182 0 100 (dk_at dksX0_parts_1 3 rfl rfl)
theorem dX0_parts_30 : decode cX0_parts 30 = .ok (.if_icmp .ge 34, 3) := dk_162 0 34 (dk_at dksX0_parts_1 6 rfl rfl)
theorem dX0_parts_33 : decode cX0_parts 33 = .ok (.iload_n 1, 1) := dk_27 (dk_at dksX0_parts_1 9 rfl rfl)
theorem dX0_parts_34 : decode cX0_parts 34 = .ok (.aload_n 0, 1) := dk_42 (dk_at dksX0_parts_1 10 rfl rfl)
theorem dX0_parts_35 : decode cX0_parts 35 = .ok (.getfield 49, 3) := dk_180 0 49 (dk_at dksX0_parts_1 11 rfl rfl)
theorem dX0_parts_38 : decode cX0_parts 38 = .ok (.iconst 1, 1) := dk_4 (dk_at dksX0_parts_1 14 rfl rfl)
theorem dX0_parts_39 : decode cX0_parts 39 = .ok (.iload_n 2, 1) := dk_28 (dk_at dksX0_parts_1 15 rfl rfl)
theorem dX0_parts_40 : decode cX0_parts 40 = .ok (.ishl, 1) := dk_120 (dk_at dksX0_parts_1 16 rfl rfl)
theorem dX0_parts_41 : decode cX0_parts 41 = .ok (.invokevirtual 248, 3) := dk_182 0 248 (dk_at dksX0_parts_1 17 rfl rfl)
theorem dX0_parts_44 : decode cX0_parts 44 = .ok (.invokestatic 277, 3) := dk_184 1 21 (dk_at dksX0_parts_1 20 rfl rfl)
theorem dX0_parts_47 : decode cX0_parts 47 = .ok (.iload_n 2, 1) := dk_28 (dk_at dksX0_parts_1 23 rfl rfl)
theorem dX0_parts_48 : decode cX0_parts 48 = .ok (.if_icmp .ne 7, 3) := dk_160 0 7 (dk_at dksX0_parts_2 0 rfl rfl)
theorem dX0_parts_51 : decode cX0_parts 51 = .ok (.iconst 1, 1) := dk_4 (dk_at dksX0_parts_2 3 rfl rfl)
theorem dX0_parts_52 : decode cX0_parts 52 = .ok (.goto 4, 3) := dk_167 0 4 (dk_at dksX0_parts_2 4 rfl rfl)
theorem dX0_parts_55 : decode cX0_parts 55 = .ok (.iconst 0, 1) := dk_3 (dk_at dksX0_parts_2 7 rfl rfl)
theorem dX0_parts_56 : decode cX0_parts 56 = .ok (.iadd, 1) := dk_96 (dk_at dksX0_parts_2 8 rfl rfl)
theorem dX0_parts_57 : decode cX0_parts 57 = .ok (.istore_n 1, 1) := dk_60 (dk_at dksX0_parts_2 9 rfl rfl)
theorem dX0_parts_58 : decode cX0_parts 58 = .ok (.iinc 2 1, 3) := dk_132 2 1 (dk_at dksX0_parts_2 10 rfl rfl)
theorem dX0_parts_61 : decode cX0_parts 61 = .ok (.goto (-39), 3) := dk_167 255 217 (dk_at dksX0_parts_2 13 rfl rfl)
theorem dX0_parts_64 : decode cX0_parts 64 = .ok (.iload_n 1, 1) := dk_27 (dk_at dksX0_parts_2 16 rfl rfl)
theorem dX0_parts_65 : decode cX0_parts 65 = .ok (.ireturn, 1) := dk_172 (dk_at dksX0_parts_2 17 rfl rfl)
abbrev cX0_reached : ByteArray := prog_1_method_50_code
def yX0_reached : MethodName := ⟨RX0, "reached", "(I)I"⟩
def dkwX0_reached_0 : List UInt8 := [42, 27, 182, 0, 180, 153, 0, 16, 42, 182, 0, 161, 4, 27, 120, 182, 0, 248, 167, 0, 5, 16, 254, 172]
abbrev dktX0_reached_0 : List UInt8 := dkwX0_reached_0 ++ []
theorem dksX0_reached_0 : cX0_reached.data.toList.drop 0 = dktX0_reached_0 := by decide +kernel
theorem dX0_reached_0 : decode cX0_reached 0 = .ok (.aload_n 0, 1) := dk_42 (dk_at dksX0_reached_0 0 rfl rfl)
theorem dX0_reached_1 : decode cX0_reached 1 = .ok (.iload_n 1, 1) := dk_27 (dk_at dksX0_reached_0 1 rfl rfl)
theorem dX0_reached_2 : decode cX0_reached 2 = .ok (.invokevirtual 180, 3) := dk_182 0 180 (dk_at dksX0_reached_0 2 rfl rfl)
theorem dX0_reached_5 : decode cX0_reached 5 = .ok (.ifCond .eq 16, 3) := dk_153 0 16 (dk_at dksX0_reached_0 5 rfl rfl)
theorem dX0_reached_8 : decode cX0_reached 8 = .ok (.aload_n 0, 1) := dk_42 (dk_at dksX0_reached_0 8 rfl rfl)
theorem dX0_reached_9 : decode cX0_reached 9 = .ok (.invokevirtual 161, 3) := dk_182 0 161 (dk_at dksX0_reached_0 9 rfl rfl)
theorem dX0_reached_12 : decode cX0_reached 12 = .ok (.iconst 1, 1) := dk_4 (dk_at dksX0_reached_0 12 rfl rfl)
theorem dX0_reached_13 : decode cX0_reached 13 = .ok (.iload_n 1, 1) := dk_27 (dk_at dksX0_reached_0 13 rfl rfl)
theorem dX0_reached_14 : decode cX0_reached 14 = .ok (.ishl, 1) := dk_120 (dk_at dksX0_reached_0 14 rfl rfl)
theorem dX0_reached_15 : decode cX0_reached 15 = .ok (.invokevirtual 248, 3) := dk_182 0 248 (dk_at dksX0_reached_0 15 rfl rfl)
theorem dX0_reached_18 : decode cX0_reached 18 = .ok (.goto 5, 3) := dk_167 0 5 (dk_at dksX0_reached_0 18 rfl rfl)
theorem dX0_reached_21 : decode cX0_reached 21 = .ok (.bipush (-2), 2) := dk_16 254 (dk_at dksX0_reached_0 21 rfl rfl)
theorem dX0_reached_23 : decode cX0_reached 23 = .ok (.ireturn, 1) := dk_172 (dk_at dksX0_reached_0 23 rfl rfl)
abbrev cX0_aged : ByteArray := prog_1_method_52_code
def yX0_aged : MethodName := ⟨RX0, "aged", "(II)I"⟩
def dkwX0_aged_1 : List UInt8 := [27, 182, 1, 31, 87, 42, 180, 0, 53, 180, 1, 33, 28, 46, 172]
abbrev dktX0_aged_1 : List UInt8 := dkwX0_aged_1 ++ []
def dkwX0_aged_0 : List UInt8 := [42, 28, 182, 0, 167, 153, 0, 15, 27, 133, 9, 20, 1, 29, 184, 0, 73, 154, 0, 6, 16, 254, 172, 42]
abbrev dktX0_aged_0 : List UInt8 := dkwX0_aged_0 ++ dktX0_aged_1
theorem dksX0_aged_0 : cX0_aged.data.toList.drop 0 = dktX0_aged_0 := by decide +kernel
theorem dksX0_aged_1 : cX0_aged.data.toList.drop 24 = dktX0_aged_1 := dk_seg dksX0_aged_0 24 rfl rfl
theorem dX0_aged_0 : decode cX0_aged 0 = .ok (.aload_n 0, 1) := dk_42 (dk_at dksX0_aged_0 0 rfl rfl)
theorem dX0_aged_1 : decode cX0_aged 1 = .ok (.iload_n 2, 1) := dk_28 (dk_at dksX0_aged_0 1 rfl rfl)
theorem dX0_aged_2 : decode cX0_aged 2 = .ok (.invokevirtual 167, 3) := dk_182 0 167 (dk_at dksX0_aged_0 2 rfl rfl)
theorem dX0_aged_5 : decode cX0_aged 5 = .ok (.ifCond .eq 15, 3) := dk_153 0 15 (dk_at dksX0_aged_0 5 rfl rfl)
theorem dX0_aged_8 : decode cX0_aged 8 = .ok (.iload_n 1, 1) := dk_27 (dk_at dksX0_aged_0 8 rfl rfl)
theorem dX0_aged_9 : decode cX0_aged 9 = .ok (.i2l, 1) := dk_133 (dk_at dksX0_aged_0 9 rfl rfl)
theorem dX0_aged_10 : decode cX0_aged 10 = .ok (.lconst 0, 1) := dk_9 (dk_at dksX0_aged_0 10 rfl rfl)
theorem dX0_aged_11 : decode cX0_aged 11 = .ok (.ldc2_w 285, 3) := dk_20 1 29 (dk_at dksX0_aged_0 11 rfl rfl)
theorem dX0_aged_14 : decode cX0_aged 14 = .ok (.invokestatic 73, 3) := dk_184 0 73 (dk_at dksX0_aged_0 14 rfl rfl)
theorem dX0_aged_17 : decode cX0_aged 17 = .ok (.ifCond .ne 6, 3) := dk_154 0 6 (dk_at dksX0_aged_0 17 rfl rfl)
theorem dX0_aged_20 : decode cX0_aged 20 = .ok (.bipush (-2), 2) := dk_16 254 (dk_at dksX0_aged_0 20 rfl rfl)
theorem dX0_aged_22 : decode cX0_aged 22 = .ok (.ireturn, 1) := dk_172 (dk_at dksX0_aged_0 22 rfl rfl)
theorem dX0_aged_23 : decode cX0_aged 23 = .ok (.aload_n 0, 1) := dk_42 (dk_at dksX0_aged_0 23 rfl rfl)
theorem dX0_aged_24 : decode cX0_aged 24 = .ok (.iload_n 1, 1) := dk_27 (dk_at dksX0_aged_1 0 rfl rfl)
theorem dX0_aged_25 : decode cX0_aged 25 = .ok (.invokevirtual 287, 3) := dk_182 1 31 (dk_at dksX0_aged_1 1 rfl rfl)
theorem dX0_aged_28 : decode cX0_aged 28 = .ok (.pop, 1) := dk_87 (dk_at dksX0_aged_1 4 rfl rfl)
theorem dX0_aged_29 : decode cX0_aged 29 = .ok (.aload_n 0, 1) := dk_42 (dk_at dksX0_aged_1 5 rfl rfl)
theorem dX0_aged_30 : decode cX0_aged 30 = .ok (.getfield 53, 3) := dk_180 0 53 (dk_at dksX0_aged_1 6 rfl rfl)
theorem dX0_aged_33 : decode cX0_aged 33 = .ok (.getfield 289, 3) := dk_180 1 33 (dk_at dksX0_aged_1 9 rfl rfl)
theorem dX0_aged_36 : decode cX0_aged 36 = .ok (.iload_n 2, 1) := dk_28 (dk_at dksX0_aged_1 12 rfl rfl)
theorem dX0_aged_37 : decode cX0_aged 37 = .ok (.iaload, 1) := dk_46 (dk_at dksX0_aged_1 13 rfl rfl)
theorem dX0_aged_38 : decode cX0_aged 38 = .ok (.ireturn, 1) := dk_172 (dk_at dksX0_aged_1 14 rfl rfl)
abbrev cX0_ages : ByteArray := prog_1_method_51_code
def yX0_ages : MethodName := ⟨RX0, "ages", "(I)I"⟩
def dkwX0_ages_2 : List UInt8 := [172]
abbrev dktX0_ages_2 : List UInt8 := dkwX0_ages_2 ++ []
def dkwX0_ages_1 : List UInt8 := [180, 0, 53, 182, 1, 0, 153, 0, 17, 42, 180, 0, 53, 182, 1, 26, 87, 132, 2, 1, 167, 255, 230, 28]
abbrev dktX0_ages_1 : List UInt8 := dkwX0_ages_1 ++ dktX0_ages_2
def dkwX0_ages_0 : List UInt8 := [42, 180, 0, 53, 182, 0, 107, 42, 180, 0, 53, 182, 0, 110, 87, 3, 61, 28, 27, 162, 0, 27, 42]
abbrev dktX0_ages_0 : List UInt8 := dkwX0_ages_0 ++ dktX0_ages_1
theorem dksX0_ages_0 : cX0_ages.data.toList.drop 0 = dktX0_ages_0 := by decide +kernel
theorem dksX0_ages_1 : cX0_ages.data.toList.drop 23 = dktX0_ages_1 := dk_seg dksX0_ages_0 23 rfl rfl
theorem dksX0_ages_2 : cX0_ages.data.toList.drop 47 = dktX0_ages_2 := dk_seg dksX0_ages_1 24 rfl rfl
theorem dX0_ages_0 : decode cX0_ages 0 = .ok (.aload_n 0, 1) := dk_42 (dk_at dksX0_ages_0 0 rfl rfl)
theorem dX0_ages_1 : decode cX0_ages 1 = .ok (.getfield 53, 3) := dk_180 0 53 (dk_at dksX0_ages_0 1 rfl rfl)
theorem dX0_ages_4 : decode cX0_ages 4 = .ok (.invokevirtual 107, 3) := dk_182 0 107 (dk_at dksX0_ages_0 4 rfl rfl)
theorem dX0_ages_7 : decode cX0_ages 7 = .ok (.aload_n 0, 1) := dk_42 (dk_at dksX0_ages_0 7 rfl rfl)
theorem dX0_ages_8 : decode cX0_ages 8 = .ok (.getfield 53, 3) := dk_180 0 53 (dk_at dksX0_ages_0 8 rfl rfl)
theorem dX0_ages_11 : decode cX0_ages 11 = .ok (.invokevirtual 110, 3) := dk_182 0 110 (dk_at dksX0_ages_0 11 rfl rfl)
theorem dX0_ages_14 : decode cX0_ages 14 = .ok (.pop, 1) := dk_87 (dk_at dksX0_ages_0 14 rfl rfl)
theorem dX0_ages_15 : decode cX0_ages 15 = .ok (.iconst 0, 1) := dk_3 (dk_at dksX0_ages_0 15 rfl rfl)
theorem dX0_ages_16 : decode cX0_ages 16 = .ok (.istore_n 2, 1) := dk_61 (dk_at dksX0_ages_0 16 rfl rfl)
theorem dX0_ages_17 : decode cX0_ages 17 = .ok (.iload_n 2, 1) := dk_28 (dk_at dksX0_ages_0 17 rfl rfl)
theorem dX0_ages_18 : decode cX0_ages 18 = .ok (.iload_n 1, 1) := dk_27 (dk_at dksX0_ages_0 18 rfl rfl)
theorem dX0_ages_19 : decode cX0_ages 19 = .ok (.if_icmp .ge 27, 3) := dk_162 0 27 (dk_at dksX0_ages_0 19 rfl rfl)
theorem dX0_ages_22 : decode cX0_ages 22 = .ok (.aload_n 0, 1) := dk_42 (dk_at dksX0_ages_0 22 rfl rfl)
theorem dX0_ages_23 : decode cX0_ages 23 = .ok (.getfield 53, 3) := dk_180 0 53 (dk_at dksX0_ages_1 0 rfl rfl)
theorem dX0_ages_26 : decode cX0_ages 26 = .ok (.invokevirtual 256, 3) := dk_182 1 0 (dk_at dksX0_ages_1 3 rfl rfl)
theorem dX0_ages_29 : decode cX0_ages 29 = .ok (.ifCond .eq 17, 3) := dk_153 0 17 (dk_at dksX0_ages_1 6 rfl rfl)
theorem dX0_ages_32 : decode cX0_ages 32 = .ok (.aload_n 0, 1) := dk_42 (dk_at dksX0_ages_1 9 rfl rfl)
theorem dX0_ages_33 : decode cX0_ages 33 = .ok (.getfield 53, 3) := dk_180 0 53 (dk_at dksX0_ages_1 10 rfl rfl)
theorem dX0_ages_36 : decode cX0_ages 36 = .ok (.invokevirtual 282, 3) := dk_182 1 26 (dk_at dksX0_ages_1 13 rfl rfl)
theorem dX0_ages_39 : decode cX0_ages 39 = .ok (.pop, 1) := dk_87 (dk_at dksX0_ages_1 16 rfl rfl)
theorem dX0_ages_40 : decode cX0_ages 40 = .ok (.iinc 2 1, 3) := dk_132 2 1 (dk_at dksX0_ages_1 17 rfl rfl)
theorem dX0_ages_43 : decode cX0_ages 43 = .ok (.goto (-26), 3) := dk_167 255 230 (dk_at dksX0_ages_1 20 rfl rfl)
theorem dX0_ages_46 : decode cX0_ages 46 = .ok (.iload_n 2, 1) := dk_28 (dk_at dksX0_ages_1 23 rfl rfl)
theorem dX0_ages_47 : decode cX0_ages 47 = .ok (.ireturn, 1) := dk_172 (dk_at dksX0_ages_2 0 rfl rfl)
abbrev cX0_lasts : ByteArray := prog_1_method_53_code
def yX0_lasts : MethodName := ⟨RX0, "lasts", "()I"⟩
def dkwX0_lasts_2 : List UInt8 := [154, 0, 5, 2, 172, 132, 1, 1, 167, 255, 231, 27, 172]
abbrev dktX0_lasts_2 : List UInt8 := dkwX0_lasts_2 ++ []
def dkwX0_lasts_1 : List UInt8 := [182, 0, 110, 87, 3, 60, 42, 180, 0, 53, 182, 0, 241, 153, 0, 21, 42, 180, 0, 53, 182, 1, 26]
abbrev dktX0_lasts_1 : List UInt8 := dkwX0_lasts_1 ++ dktX0_lasts_2
def dkwX0_lasts_0 : List UInt8 := [42, 180, 0, 28, 182, 0, 158, 154, 0, 6, 16, 254, 172, 42, 180, 0, 53, 182, 0, 107, 42, 180, 0, 53]
abbrev dktX0_lasts_0 : List UInt8 := dkwX0_lasts_0 ++ dktX0_lasts_1
theorem dksX0_lasts_0 : cX0_lasts.data.toList.drop 0 = dktX0_lasts_0 := by decide +kernel
theorem dksX0_lasts_1 : cX0_lasts.data.toList.drop 24 = dktX0_lasts_1 := dk_seg dksX0_lasts_0 24 rfl rfl
theorem dksX0_lasts_2 : cX0_lasts.data.toList.drop 47 = dktX0_lasts_2 := dk_seg dksX0_lasts_1 23 rfl rfl
theorem dX0_lasts_0 : decode cX0_lasts 0 = .ok (.aload_n 0, 1) := dk_42 (dk_at dksX0_lasts_0 0 rfl rfl)
theorem dX0_lasts_1 : decode cX0_lasts 1 = .ok (.getfield 28, 3) := dk_180 0 28 (dk_at dksX0_lasts_0 1 rfl rfl)
theorem dX0_lasts_4 : decode cX0_lasts 4 = .ok (.invokevirtual 158, 3) := dk_182 0 158 (dk_at dksX0_lasts_0 4 rfl rfl)
theorem dX0_lasts_7 : decode cX0_lasts 7 = .ok (.ifCond .ne 6, 3) := dk_154 0 6 (dk_at dksX0_lasts_0 7 rfl rfl)
theorem dX0_lasts_10 : decode cX0_lasts 10 = .ok (.bipush (-2), 2) := dk_16 254 (dk_at dksX0_lasts_0 10 rfl rfl)
theorem dX0_lasts_12 : decode cX0_lasts 12 = .ok (.ireturn, 1) := dk_172 (dk_at dksX0_lasts_0 12 rfl rfl)
theorem dX0_lasts_13 : decode cX0_lasts 13 = .ok (.aload_n 0, 1) := dk_42 (dk_at dksX0_lasts_0 13 rfl rfl)
theorem dX0_lasts_14 : decode cX0_lasts 14 = .ok (.getfield 53, 3) := dk_180 0 53 (dk_at dksX0_lasts_0 14 rfl rfl)
theorem dX0_lasts_17 : decode cX0_lasts 17 = .ok (.invokevirtual 107, 3) := dk_182 0 107 (dk_at dksX0_lasts_0 17 rfl rfl)
theorem dX0_lasts_20 : decode cX0_lasts 20 = .ok (.aload_n 0, 1) := dk_42 (dk_at dksX0_lasts_0 20 rfl rfl)
theorem dX0_lasts_21 : decode cX0_lasts 21 = .ok (.getfield 53, 3) := dk_180 0 53 (dk_at dksX0_lasts_0 21 rfl rfl)
theorem dX0_lasts_24 : decode cX0_lasts 24 = .ok (.invokevirtual 110, 3) := dk_182 0 110 (dk_at dksX0_lasts_1 0 rfl rfl)
theorem dX0_lasts_27 : decode cX0_lasts 27 = .ok (.pop, 1) := dk_87 (dk_at dksX0_lasts_1 3 rfl rfl)
theorem dX0_lasts_28 : decode cX0_lasts 28 = .ok (.iconst 0, 1) := dk_3 (dk_at dksX0_lasts_1 4 rfl rfl)
theorem dX0_lasts_29 : decode cX0_lasts 29 = .ok (.istore_n 1, 1) := dk_60 (dk_at dksX0_lasts_1 5 rfl rfl)
theorem dX0_lasts_30 : decode cX0_lasts 30 = .ok (.aload_n 0, 1) := dk_42 (dk_at dksX0_lasts_1 6 rfl rfl)
theorem dX0_lasts_31 : decode cX0_lasts 31 = .ok (.getfield 53, 3) := dk_180 0 53 (dk_at dksX0_lasts_1 7 rfl rfl)
theorem dX0_lasts_34 : decode cX0_lasts 34 = .ok (.invokevirtual 241, 3) := dk_182 0 241 (dk_at dksX0_lasts_1 10 rfl rfl)
theorem dX0_lasts_37 : decode cX0_lasts 37 = .ok (.ifCond .eq 21, 3) := dk_153 0 21 (dk_at dksX0_lasts_1 13 rfl rfl)
theorem dX0_lasts_40 : decode cX0_lasts 40 = .ok (.aload_n 0, 1) := dk_42 (dk_at dksX0_lasts_1 16 rfl rfl)
theorem dX0_lasts_41 : decode cX0_lasts 41 = .ok (.getfield 53, 3) := dk_180 0 53 (dk_at dksX0_lasts_1 17 rfl rfl)
theorem dX0_lasts_44 : decode cX0_lasts 44 = .ok (.invokevirtual 282, 3) := dk_182 1 26 (dk_at dksX0_lasts_1 20 rfl rfl)
theorem dX0_lasts_47 : decode cX0_lasts 47 = .ok (.ifCond .ne 5, 3) := dk_154 0 5 (dk_at dksX0_lasts_2 0 rfl rfl)
theorem dX0_lasts_50 : decode cX0_lasts 50 = .ok (.iconst (-1), 1) := dk_2 (dk_at dksX0_lasts_2 3 rfl rfl)
theorem dX0_lasts_51 : decode cX0_lasts 51 = .ok (.ireturn, 1) := dk_172 (dk_at dksX0_lasts_2 4 rfl rfl)
theorem dX0_lasts_52 : decode cX0_lasts 52 = .ok (.iinc 1 1, 3) := dk_132 1 1 (dk_at dksX0_lasts_2 5 rfl rfl)
theorem dX0_lasts_55 : decode cX0_lasts 55 = .ok (.goto (-25), 3) := dk_167 255 231 (dk_at dksX0_lasts_2 8 rfl rfl)
theorem dX0_lasts_58 : decode cX0_lasts 58 = .ok (.iload_n 1, 1) := dk_27 (dk_at dksX0_lasts_2 11 rfl rfl)
theorem dX0_lasts_59 : decode cX0_lasts 59 = .ok (.ireturn, 1) := dk_172 (dk_at dksX0_lasts_2 12 rfl rfl)
abbrev cX0_worn : ByteArray := prog_1_method_54_code
def yX0_worn : MethodName := ⟨RX0, "worn", "(I)I"⟩
def dkwX0_worn_2 : List UInt8 := [182, 1, 26, 154, 0, 5, 2, 172, 132, 2, 1, 167, 255, 229, 28, 172]
abbrev dktX0_worn_2 : List UInt8 := dkwX0_worn_2 ++ []
def dkwX0_worn_1 : List UInt8 := [182, 0, 110, 87, 3, 61, 42, 180, 0, 53, 180, 1, 33, 27, 46, 158, 0, 21, 42, 180, 0, 53]
abbrev dktX0_worn_1 : List UInt8 := dkwX0_worn_1 ++ dktX0_worn_2
def dkwX0_worn_0 : List UInt8 := [42, 27, 182, 0, 167, 154, 0, 6, 16, 254, 172, 42, 180, 0, 53, 182, 0, 107, 42, 180, 0, 53]
abbrev dktX0_worn_0 : List UInt8 := dkwX0_worn_0 ++ dktX0_worn_1
theorem dksX0_worn_0 : cX0_worn.data.toList.drop 0 = dktX0_worn_0 := by decide +kernel
theorem dksX0_worn_1 : cX0_worn.data.toList.drop 22 = dktX0_worn_1 := dk_seg dksX0_worn_0 22 rfl rfl
theorem dksX0_worn_2 : cX0_worn.data.toList.drop 44 = dktX0_worn_2 := dk_seg dksX0_worn_1 22 rfl rfl
theorem dX0_worn_0 : decode cX0_worn 0 = .ok (.aload_n 0, 1) := dk_42 (dk_at dksX0_worn_0 0 rfl rfl)
theorem dX0_worn_1 : decode cX0_worn 1 = .ok (.iload_n 1, 1) := dk_27 (dk_at dksX0_worn_0 1 rfl rfl)
theorem dX0_worn_2 : decode cX0_worn 2 = .ok (.invokevirtual 167, 3) := dk_182 0 167 (dk_at dksX0_worn_0 2 rfl rfl)
theorem dX0_worn_5 : decode cX0_worn 5 = .ok (.ifCond .ne 6, 3) := dk_154 0 6 (dk_at dksX0_worn_0 5 rfl rfl)
theorem dX0_worn_8 : decode cX0_worn 8 = .ok (.bipush (-2), 2) := dk_16 254 (dk_at dksX0_worn_0 8 rfl rfl)
theorem dX0_worn_10 : decode cX0_worn 10 = .ok (.ireturn, 1) := dk_172 (dk_at dksX0_worn_0 10 rfl rfl)
theorem dX0_worn_11 : decode cX0_worn 11 = .ok (.aload_n 0, 1) := dk_42 (dk_at dksX0_worn_0 11 rfl rfl)
theorem dX0_worn_12 : decode cX0_worn 12 = .ok (.getfield 53, 3) := dk_180 0 53 (dk_at dksX0_worn_0 12 rfl rfl)
theorem dX0_worn_15 : decode cX0_worn 15 = .ok (.invokevirtual 107, 3) := dk_182 0 107 (dk_at dksX0_worn_0 15 rfl rfl)
theorem dX0_worn_18 : decode cX0_worn 18 = .ok (.aload_n 0, 1) := dk_42 (dk_at dksX0_worn_0 18 rfl rfl)
theorem dX0_worn_19 : decode cX0_worn 19 = .ok (.getfield 53, 3) := dk_180 0 53 (dk_at dksX0_worn_0 19 rfl rfl)
theorem dX0_worn_22 : decode cX0_worn 22 = .ok (.invokevirtual 110, 3) := dk_182 0 110 (dk_at dksX0_worn_1 0 rfl rfl)
theorem dX0_worn_25 : decode cX0_worn 25 = .ok (.pop, 1) := dk_87 (dk_at dksX0_worn_1 3 rfl rfl)
theorem dX0_worn_26 : decode cX0_worn 26 = .ok (.iconst 0, 1) := dk_3 (dk_at dksX0_worn_1 4 rfl rfl)
theorem dX0_worn_27 : decode cX0_worn 27 = .ok (.istore_n 2, 1) := dk_61 (dk_at dksX0_worn_1 5 rfl rfl)
theorem dX0_worn_28 : decode cX0_worn 28 = .ok (.aload_n 0, 1) := dk_42 (dk_at dksX0_worn_1 6 rfl rfl)
theorem dX0_worn_29 : decode cX0_worn 29 = .ok (.getfield 53, 3) := dk_180 0 53 (dk_at dksX0_worn_1 7 rfl rfl)
theorem dX0_worn_32 : decode cX0_worn 32 = .ok (.getfield 289, 3) := dk_180 1 33 (dk_at dksX0_worn_1 10 rfl rfl)
theorem dX0_worn_35 : decode cX0_worn 35 = .ok (.iload_n 1, 1) := dk_27 (dk_at dksX0_worn_1 13 rfl rfl)
theorem dX0_worn_36 : decode cX0_worn 36 = .ok (.iaload, 1) := dk_46 (dk_at dksX0_worn_1 14 rfl rfl)
theorem dX0_worn_37 : decode cX0_worn 37 = .ok (.ifCond .le 21, 3) := dk_158 0 21 (dk_at dksX0_worn_1 15 rfl rfl)
theorem dX0_worn_40 : decode cX0_worn 40 = .ok (.aload_n 0, 1) := dk_42 (dk_at dksX0_worn_1 18 rfl rfl)
theorem dX0_worn_41 : decode cX0_worn 41 = .ok (.getfield 53, 3) := dk_180 0 53 (dk_at dksX0_worn_1 19 rfl rfl)
theorem dX0_worn_44 : decode cX0_worn 44 = .ok (.invokevirtual 282, 3) := dk_182 1 26 (dk_at dksX0_worn_2 0 rfl rfl)
theorem dX0_worn_47 : decode cX0_worn 47 = .ok (.ifCond .ne 5, 3) := dk_154 0 5 (dk_at dksX0_worn_2 3 rfl rfl)
theorem dX0_worn_50 : decode cX0_worn 50 = .ok (.iconst (-1), 1) := dk_2 (dk_at dksX0_worn_2 6 rfl rfl)
theorem dX0_worn_51 : decode cX0_worn 51 = .ok (.ireturn, 1) := dk_172 (dk_at dksX0_worn_2 7 rfl rfl)
theorem dX0_worn_52 : decode cX0_worn 52 = .ok (.iinc 2 1, 3) := dk_132 2 1 (dk_at dksX0_worn_2 8 rfl rfl)
theorem dX0_worn_55 : decode cX0_worn 55 = .ok (.goto (-27), 3) := dk_167 255 229 (dk_at dksX0_worn_2 11 rfl rfl)
theorem dX0_worn_58 : decode cX0_worn 58 = .ok (.iload_n 2, 1) := dk_28 (dk_at dksX0_worn_2 14 rfl rfl)
theorem dX0_worn_59 : decode cX0_worn 59 = .ok (.ireturn, 1) := dk_172 (dk_at dksX0_worn_2 15 rfl rfl)
abbrev cX0_calms : ByteArray := prog_1_method_55_code
def yX0_calms : MethodName := ⟨RX0, "calms", "()I"⟩
def dkwX0_calms_0 : List UInt8 := [42, 180, 0, 28, 182, 0, 158, 153, 0, 12, 42, 16, 100, 182, 1, 31, 167, 0, 5, 16, 254, 172]
abbrev dktX0_calms_0 : List UInt8 := dkwX0_calms_0 ++ []
theorem dksX0_calms_0 : cX0_calms.data.toList.drop 0 = dktX0_calms_0 := by decide +kernel
theorem dX0_calms_0 : decode cX0_calms 0 = .ok (.aload_n 0, 1) := dk_42 (dk_at dksX0_calms_0 0 rfl rfl)
theorem dX0_calms_1 : decode cX0_calms 1 = .ok (.getfield 28, 3) := dk_180 0 28 (dk_at dksX0_calms_0 1 rfl rfl)
theorem dX0_calms_4 : decode cX0_calms 4 = .ok (.invokevirtual 158, 3) := dk_182 0 158 (dk_at dksX0_calms_0 4 rfl rfl)
theorem dX0_calms_7 : decode cX0_calms 7 = .ok (.ifCond .eq 12, 3) := dk_153 0 12 (dk_at dksX0_calms_0 7 rfl rfl)
theorem dX0_calms_10 : decode cX0_calms 10 = .ok (.aload_n 0, 1) := dk_42 (dk_at dksX0_calms_0 10 rfl rfl)
theorem dX0_calms_11 : decode cX0_calms 11 = .ok (.bipush 100, 2) := dk_16 100 (dk_at dksX0_calms_0 11 rfl rfl)
theorem dX0_calms_13 : decode cX0_calms 13 = .ok (.invokevirtual 287, 3) := dk_182 1 31 (dk_at dksX0_calms_0 13 rfl rfl)
theorem dX0_calms_16 : decode cX0_calms 16 = .ok (.goto 5, 3) := dk_167 0 5 (dk_at dksX0_calms_0 16 rfl rfl)
theorem dX0_calms_19 : decode cX0_calms 19 = .ok (.bipush (-2), 2) := dk_16 254 (dk_at dksX0_calms_0 19 rfl rfl)
theorem dX0_calms_21 : decode cX0_calms 21 = .ok (.ireturn, 1) := dk_172 (dk_at dksX0_calms_0 21 rfl rfl)
abbrev cX0_pad : ByteArray := prog_1_method_58_code
def yX0_pad : MethodName := ⟨RX0, "pad", "(I)I"⟩
def dkwX0_pad_2 : List UInt8 := [182, 1, 47, 62, 132, 4, 1, 167, 255, 230, 29, 172]
abbrev dktX0_pad_2 : List UInt8 := dkwX0_pad_2 ++ []
def dkwX0_pad_1 : List UInt8 := [62, 3, 54, 4, 21, 4, 27, 162, 0, 26, 29, 2, 159, 0, 21, 28, 4, 29, 120, 128, 61, 42, 28]
abbrev dktX0_pad_1 : List UInt8 := dkwX0_pad_1 ++ dktX0_pad_2
def dkwX0_pad_0 : List UInt8 := [42, 180, 0, 28, 182, 0, 158, 153, 0, 7, 27, 156, 0, 6, 16, 254, 172, 3, 61, 42, 28, 182, 1, 47]
abbrev dktX0_pad_0 : List UInt8 := dkwX0_pad_0 ++ dktX0_pad_1
theorem dksX0_pad_0 : cX0_pad.data.toList.drop 0 = dktX0_pad_0 := by decide +kernel
theorem dksX0_pad_1 : cX0_pad.data.toList.drop 24 = dktX0_pad_1 := dk_seg dksX0_pad_0 24 rfl rfl
theorem dksX0_pad_2 : cX0_pad.data.toList.drop 47 = dktX0_pad_2 := dk_seg dksX0_pad_1 23 rfl rfl
theorem dX0_pad_0 : decode cX0_pad 0 = .ok (.aload_n 0, 1) := dk_42 (dk_at dksX0_pad_0 0 rfl rfl)
theorem dX0_pad_1 : decode cX0_pad 1 = .ok (.getfield 28, 3) := dk_180 0 28 (dk_at dksX0_pad_0 1 rfl rfl)
theorem dX0_pad_4 : decode cX0_pad 4 = .ok (.invokevirtual 158, 3) := dk_182 0 158 (dk_at dksX0_pad_0 4 rfl rfl)
theorem dX0_pad_7 : decode cX0_pad 7 = .ok (.ifCond .eq 7, 3) := dk_153 0 7 (dk_at dksX0_pad_0 7 rfl rfl)
theorem dX0_pad_10 : decode cX0_pad 10 = .ok (.iload_n 1, 1) := dk_27 (dk_at dksX0_pad_0 10 rfl rfl)
theorem dX0_pad_11 : decode cX0_pad 11 = .ok (.ifCond .ge 6, 3) := dk_156 0 6 (dk_at dksX0_pad_0 11 rfl rfl)
theorem dX0_pad_14 : decode cX0_pad 14 = .ok (.bipush (-2), 2) := dk_16 254 (dk_at dksX0_pad_0 14 rfl rfl)
theorem dX0_pad_16 : decode cX0_pad 16 = .ok (.ireturn, 1) := dk_172 (dk_at dksX0_pad_0 16 rfl rfl)
theorem dX0_pad_17 : decode cX0_pad 17 = .ok (.iconst 0, 1) := dk_3 (dk_at dksX0_pad_0 17 rfl rfl)
theorem dX0_pad_18 : decode cX0_pad 18 = .ok (.istore_n 2, 1) := dk_61 (dk_at dksX0_pad_0 18 rfl rfl)
theorem dX0_pad_19 : decode cX0_pad 19 = .ok (.aload_n 0, 1) := dk_42 (dk_at dksX0_pad_0 19 rfl rfl)
theorem dX0_pad_20 : decode cX0_pad 20 = .ok (.iload_n 2, 1) := dk_28 (dk_at dksX0_pad_0 20 rfl rfl)
theorem dX0_pad_21 : decode cX0_pad 21 = .ok (.invokevirtual 303, 3) := dk_182 1 47 (dk_at dksX0_pad_0 21 rfl rfl)
theorem dX0_pad_24 : decode cX0_pad 24 = .ok (.istore_n 3, 1) := dk_62 (dk_at dksX0_pad_1 0 rfl rfl)
theorem dX0_pad_25 : decode cX0_pad 25 = .ok (.iconst 0, 1) := dk_3 (dk_at dksX0_pad_1 1 rfl rfl)
theorem dX0_pad_26 : decode cX0_pad 26 = .ok (.istore 4, 2) := dk_54 4 (dk_at dksX0_pad_1 2 rfl rfl)
theorem dX0_pad_28 : decode cX0_pad 28 = .ok (.iload 4, 2) := dk_21 4 (dk_at dksX0_pad_1 4 rfl rfl)
theorem dX0_pad_30 : decode cX0_pad 30 = .ok (.iload_n 1, 1) := dk_27 (dk_at dksX0_pad_1 6 rfl rfl)
theorem dX0_pad_31 : decode cX0_pad 31 = .ok (.if_icmp .ge 26, 3) := dk_162 0 26 (dk_at dksX0_pad_1 7 rfl rfl)
theorem dX0_pad_34 : decode cX0_pad 34 = .ok (.iload_n 3, 1) := dk_29 (dk_at dksX0_pad_1 10 rfl rfl)
theorem dX0_pad_35 : decode cX0_pad 35 = .ok (.iconst (-1), 1) := dk_2 (dk_at dksX0_pad_1 11 rfl rfl)
theorem dX0_pad_36 : decode cX0_pad 36 = .ok (.if_icmp .eq 21, 3) := dk_159 0 21 (dk_at dksX0_pad_1 12 rfl rfl)
theorem dX0_pad_39 : decode cX0_pad 39 = .ok (.iload_n 2, 1) := dk_28 (dk_at dksX0_pad_1 15 rfl rfl)
theorem dX0_pad_40 : decode cX0_pad 40 = .ok (.iconst 1, 1) := dk_4 (dk_at dksX0_pad_1 16 rfl rfl)
theorem dX0_pad_41 : decode cX0_pad 41 = .ok (.iload_n 3, 1) := dk_29 (dk_at dksX0_pad_1 17 rfl rfl)
theorem dX0_pad_42 : decode cX0_pad 42 = .ok (.ishl, 1) := dk_120 (dk_at dksX0_pad_1 18 rfl rfl)
theorem dX0_pad_43 : decode cX0_pad 43 = .ok (.ior, 1) := dk_128 (dk_at dksX0_pad_1 19 rfl rfl)
theorem dX0_pad_44 : decode cX0_pad 44 = .ok (.istore_n 2, 1) := dk_61 (dk_at dksX0_pad_1 20 rfl rfl)
theorem dX0_pad_45 : decode cX0_pad 45 = .ok (.aload_n 0, 1) := dk_42 (dk_at dksX0_pad_1 21 rfl rfl)
theorem dX0_pad_46 : decode cX0_pad 46 = .ok (.iload_n 2, 1) := dk_28 (dk_at dksX0_pad_1 22 rfl rfl)
theorem dX0_pad_47 : decode cX0_pad 47 = .ok (.invokevirtual 303, 3) := dk_182 1 47 (dk_at dksX0_pad_2 0 rfl rfl)
theorem dX0_pad_50 : decode cX0_pad 50 = .ok (.istore_n 3, 1) := dk_62 (dk_at dksX0_pad_2 3 rfl rfl)
theorem dX0_pad_51 : decode cX0_pad 51 = .ok (.iinc 4 1, 3) := dk_132 4 1 (dk_at dksX0_pad_2 4 rfl rfl)
theorem dX0_pad_54 : decode cX0_pad 54 = .ok (.goto (-26), 3) := dk_167 255 230 (dk_at dksX0_pad_2 7 rfl rfl)
theorem dX0_pad_57 : decode cX0_pad 57 = .ok (.iload_n 3, 1) := dk_29 (dk_at dksX0_pad_2 10 rfl rfl)
theorem dX0_pad_58 : decode cX0_pad 58 = .ok (.ireturn, 1) := dk_172 (dk_at dksX0_pad_2 11 rfl rfl)
abbrev cX0_bestPad : ByteArray := prog_1_method_57_code
def yX0_bestPad : MethodName := ⟨RX0, "bestPad", "(I)I"⟩
def dkwX0_bestPad_3 : List UInt8 := [132, 3, 1, 167, 255, 187, 28, 172]
abbrev dktX0_bestPad_3 : List UInt8 := dkwX0_bestPad_3 ++ []
def dkwX0_bestPad_2 : List UInt8 := [159, 0, 15, 42, 25, 4, 182, 1, 39, 154, 0, 6, 167, 0, 11, 29, 61, 42, 25, 4, 182, 1, 43]
abbrev dktX0_bestPad_2 : List UInt8 := dkwX0_bestPad_2 ++ dktX0_bestPad_3
def dkwX0_bestPad_1 : List UInt8 := [29, 184, 0, 193, 153, 0, 6, 167, 0, 39, 42, 27, 4, 29, 120, 128, 182, 1, 35, 58, 4, 28, 2]
abbrev dktX0_bestPad_1 : List UInt8 := dkwX0_bestPad_1 ++ dktX0_bestPad_2
def dkwX0_bestPad_0 : List UInt8 := [2, 61, 3, 62, 29, 42, 180, 0, 28, 182, 0, 100, 162, 0, 64, 42, 180, 0, 28, 180, 0, 155, 27, 128]
abbrev dktX0_bestPad_0 : List UInt8 := dkwX0_bestPad_0 ++ dktX0_bestPad_1
theorem dksX0_bestPad_0 : cX0_bestPad.data.toList.drop 0 = dktX0_bestPad_0 := by decide +kernel
theorem dksX0_bestPad_1 : cX0_bestPad.data.toList.drop 24 = dktX0_bestPad_1 := dk_seg dksX0_bestPad_0 24 rfl rfl
theorem dksX0_bestPad_2 : cX0_bestPad.data.toList.drop 47 = dktX0_bestPad_2 := dk_seg dksX0_bestPad_1 23 rfl rfl
theorem dksX0_bestPad_3 : cX0_bestPad.data.toList.drop 70 = dktX0_bestPad_3 := dk_seg dksX0_bestPad_2 23 rfl rfl
theorem dX0_bestPad_0 : decode cX0_bestPad 0 = .ok (.iconst (-1), 1) := dk_2 (dk_at dksX0_bestPad_0 0 rfl rfl)
theorem dX0_bestPad_1 : decode cX0_bestPad 1 = .ok (.istore_n 2, 1) := dk_61 (dk_at dksX0_bestPad_0 1 rfl rfl)
theorem dX0_bestPad_2 : decode cX0_bestPad 2 = .ok (.iconst 0, 1) := dk_3 (dk_at dksX0_bestPad_0 2 rfl rfl)
theorem dX0_bestPad_3 : decode cX0_bestPad 3 = .ok (.istore_n 3, 1) := dk_62 (dk_at dksX0_bestPad_0 3 rfl rfl)
theorem dX0_bestPad_4 : decode cX0_bestPad 4 = .ok (.iload_n 3, 1) := dk_29 (dk_at dksX0_bestPad_0 4 rfl rfl)
theorem dX0_bestPad_5 : decode cX0_bestPad 5 = .ok (.aload_n 0, 1) := dk_42 (dk_at dksX0_bestPad_0 5 rfl rfl)
theorem dX0_bestPad_6 : decode cX0_bestPad 6 = .ok (.getfield 28, 3) := dk_180 0 28 (dk_at dksX0_bestPad_0 6 rfl rfl)
theorem dX0_bestPad_9 : decode cX0_bestPad 9 = .ok (.invokevirtual 100, 3) := dk_182 0 100 (dk_at dksX0_bestPad_0 9 rfl rfl)
theorem dX0_bestPad_12 : decode cX0_bestPad 12 = .ok (.if_icmp .ge 64, 3) := dk_162 0 64 (dk_at dksX0_bestPad_0 12 rfl rfl)
theorem dX0_bestPad_15 : decode cX0_bestPad 15 = .ok (.aload_n 0, 1) := dk_42 (dk_at dksX0_bestPad_0 15 rfl rfl)
theorem dX0_bestPad_16 : decode cX0_bestPad 16 = .ok (.getfield 28, 3) := dk_180 0 28 (dk_at dksX0_bestPad_0 16 rfl rfl)
theorem dX0_bestPad_19 : decode cX0_bestPad 19 = .ok (.getfield 155, 3) := dk_180 0 155 (dk_at dksX0_bestPad_0 19 rfl rfl)
theorem dX0_bestPad_22 : decode cX0_bestPad 22 = .ok (.iload_n 1, 1) := dk_27 (dk_at dksX0_bestPad_0 22 rfl rfl)
theorem dX0_bestPad_23 : decode cX0_bestPad 23 = .ok (.ior, 1) := dk_128 (dk_at dksX0_bestPad_0 23 rfl rfl)
theorem dX0_bestPad_24 : decode cX0_bestPad 24 = .ok (.iload_n 3, 1) := dk_29 (dk_at dksX0_bestPad_1 0 rfl rfl)
theorem dX0_bestPad_25 : decode cX0_bestPad 25 = .ok (.invokestatic 193, 3) := dk_184 0 193 (dk_at dksX0_bestPad_1 1 rfl rfl)
theorem dX0_bestPad_28 : decode cX0_bestPad 28 = .ok (.ifCond .eq 6, 3) := dk_153 0 6 (dk_at dksX0_bestPad_1 4 rfl rfl)
theorem dX0_bestPad_31 : decode cX0_bestPad 31 = .ok (.goto 39, 3) := dk_167 0 39 (dk_at dksX0_bestPad_1 7 rfl rfl)
theorem dX0_bestPad_34 : decode cX0_bestPad 34 = .ok (.aload_n 0, 1) := dk_42 (dk_at dksX0_bestPad_1 10 rfl rfl)
theorem dX0_bestPad_35 : decode cX0_bestPad 35 = .ok (.iload_n 1, 1) := dk_27 (dk_at dksX0_bestPad_1 11 rfl rfl)
theorem dX0_bestPad_36 : decode cX0_bestPad 36 = .ok (.iconst 1, 1) := dk_4 (dk_at dksX0_bestPad_1 12 rfl rfl)
theorem dX0_bestPad_37 : decode cX0_bestPad 37 = .ok (.iload_n 3, 1) := dk_29 (dk_at dksX0_bestPad_1 13 rfl rfl)
theorem dX0_bestPad_38 : decode cX0_bestPad 38 = .ok (.ishl, 1) := dk_120 (dk_at dksX0_bestPad_1 14 rfl rfl)
theorem dX0_bestPad_39 : decode cX0_bestPad 39 = .ok (.ior, 1) := dk_128 (dk_at dksX0_bestPad_1 15 rfl rfl)
theorem dX0_bestPad_40 : decode cX0_bestPad 40 = .ok (.invokevirtual 291, 3) := dk_182 1 35 (dk_at dksX0_bestPad_1 16 rfl rfl)
theorem dX0_bestPad_43 : decode cX0_bestPad 43 = .ok (.astore 4, 2) := dk_58 4 (dk_at dksX0_bestPad_1 19 rfl rfl)
theorem dX0_bestPad_45 : decode cX0_bestPad 45 = .ok (.iload_n 2, 1) := dk_28 (dk_at dksX0_bestPad_1 21 rfl rfl)
theorem dX0_bestPad_46 : decode cX0_bestPad 46 = .ok (.iconst (-1), 1) := dk_2 (dk_at dksX0_bestPad_1 22 rfl rfl)
theorem dX0_bestPad_47 : decode cX0_bestPad 47 = .ok (.if_icmp .eq 15, 3) := dk_159 0 15 (dk_at dksX0_bestPad_2 0 rfl rfl)
theorem dX0_bestPad_50 : decode cX0_bestPad 50 = .ok (.aload_n 0, 1) := dk_42 (dk_at dksX0_bestPad_2 3 rfl rfl)
theorem dX0_bestPad_51 : decode cX0_bestPad 51 = .ok (.aload 4, 2) := dk_25 4 (dk_at dksX0_bestPad_2 4 rfl rfl)
theorem dX0_bestPad_53 : decode cX0_bestPad 53 = .ok (.invokevirtual 295, 3) := dk_182 1 39 (dk_at dksX0_bestPad_2 6 rfl rfl)
theorem dX0_bestPad_56 : decode cX0_bestPad 56 = .ok (.ifCond .ne 6, 3) := dk_154 0 6 (dk_at dksX0_bestPad_2 9 rfl rfl)
theorem dX0_bestPad_59 : decode cX0_bestPad 59 = .ok (.goto 11, 3) := dk_167 0 11 (dk_at dksX0_bestPad_2 12 rfl rfl)
theorem dX0_bestPad_62 : decode cX0_bestPad 62 = .ok (.iload_n 3, 1) := dk_29 (dk_at dksX0_bestPad_2 15 rfl rfl)
theorem dX0_bestPad_63 : decode cX0_bestPad 63 = .ok (.istore_n 2, 1) := dk_61 (dk_at dksX0_bestPad_2 16 rfl rfl)
theorem dX0_bestPad_64 : decode cX0_bestPad 64 = .ok (.aload_n 0, 1) := dk_42 (dk_at dksX0_bestPad_2 17 rfl rfl)
theorem dX0_bestPad_65 : decode cX0_bestPad 65 = .ok (.aload 4, 2) := dk_25 4 (dk_at dksX0_bestPad_2 18 rfl rfl)
theorem dX0_bestPad_67 : decode cX0_bestPad 67 = .ok (.invokevirtual 299, 3) := dk_182 1 43 (dk_at dksX0_bestPad_2 20 rfl rfl)
theorem dX0_bestPad_70 : decode cX0_bestPad 70 = .ok (.iinc 3 1, 3) := dk_132 3 1 (dk_at dksX0_bestPad_3 0 rfl rfl)
theorem dX0_bestPad_73 : decode cX0_bestPad 73 = .ok (.goto (-69), 3) := dk_167 255 187 (dk_at dksX0_bestPad_3 3 rfl rfl)
theorem dX0_bestPad_76 : decode cX0_bestPad 76 = .ok (.iload_n 2, 1) := dk_28 (dk_at dksX0_bestPad_3 6 rfl rfl)
theorem dX0_bestPad_77 : decode cX0_bestPad 77 = .ok (.ireturn, 1) := dk_172 (dk_at dksX0_bestPad_3 7 rfl rfl)
abbrev cX0_withPads : ByteArray := prog_1_method_56_code
def yX0_withPads : MethodName := ⟨RX0, "withPads", "(I)LSupplyGrid$Solved;"⟩
def dkwX0_withPads_1 : List UInt8 := [182, 0, 110, 176]
abbrev dktX0_withPads_1 : List UInt8 := dkwX0_withPads_1 ++ []
def dkwX0_withPads_0 : List UInt8 := [42, 180, 0, 53, 182, 0, 107, 42, 180, 0, 53, 89, 180, 1, 34, 27, 128, 181, 1, 34, 42, 180, 0, 53]
abbrev dktX0_withPads_0 : List UInt8 := dkwX0_withPads_0 ++ dktX0_withPads_1
theorem dksX0_withPads_0 : cX0_withPads.data.toList.drop 0 = dktX0_withPads_0 := by decide +kernel
theorem dksX0_withPads_1 : cX0_withPads.data.toList.drop 24 = dktX0_withPads_1 := dk_seg dksX0_withPads_0 24 rfl rfl
theorem dX0_withPads_0 : decode cX0_withPads 0 = .ok (.aload_n 0, 1) := dk_42 (dk_at dksX0_withPads_0 0 rfl rfl)
theorem dX0_withPads_1 : decode cX0_withPads 1 = .ok (.getfield 53, 3) := dk_180 0 53 (dk_at dksX0_withPads_0 1 rfl rfl)
theorem dX0_withPads_4 : decode cX0_withPads 4 = .ok (.invokevirtual 107, 3) := dk_182 0 107 (dk_at dksX0_withPads_0 4 rfl rfl)
theorem dX0_withPads_7 : decode cX0_withPads 7 = .ok (.aload_n 0, 1) := dk_42 (dk_at dksX0_withPads_0 7 rfl rfl)
theorem dX0_withPads_8 : decode cX0_withPads 8 = .ok (.getfield 53, 3) := dk_180 0 53 (dk_at dksX0_withPads_0 8 rfl rfl)
theorem dX0_withPads_11 : decode cX0_withPads 11 = .ok (.dup, 1) := dk_89 (dk_at dksX0_withPads_0 11 rfl rfl)
theorem dX0_withPads_12 : decode cX0_withPads 12 = .ok (.getfield 290, 3) := dk_180 1 34 (dk_at dksX0_withPads_0 12 rfl rfl)
theorem dX0_withPads_15 : decode cX0_withPads 15 = .ok (.iload_n 1, 1) := dk_27 (dk_at dksX0_withPads_0 15 rfl rfl)
theorem dX0_withPads_16 : decode cX0_withPads 16 = .ok (.ior, 1) := dk_128 (dk_at dksX0_withPads_0 16 rfl rfl)
theorem dX0_withPads_17 : decode cX0_withPads 17 = .ok (.putfield 290, 3) := dk_181 1 34 (dk_at dksX0_withPads_0 17 rfl rfl)
theorem dX0_withPads_20 : decode cX0_withPads 20 = .ok (.aload_n 0, 1) := dk_42 (dk_at dksX0_withPads_0 20 rfl rfl)
theorem dX0_withPads_21 : decode cX0_withPads 21 = .ok (.getfield 53, 3) := dk_180 0 53 (dk_at dksX0_withPads_0 21 rfl rfl)
theorem dX0_withPads_24 : decode cX0_withPads 24 = .ok (.invokevirtual 110, 3) := dk_182 0 110 (dk_at dksX0_withPads_1 0 rfl rfl)
theorem dX0_withPads_27 : decode cX0_withPads 27 = .ok (.areturn, 1) := dk_176 (dk_at dksX0_withPads_1 3 rfl rfl)
abbrev cX0_isBetter : ByteArray := prog_1_method_16_code
def yX0_isBetter : MethodName := ⟨RX0, "isBetter", "(LSupplyGrid$Solved;)Z"⟩
def dkwX0_isBetter_2 : List UInt8 := [184, 0, 15, 172]
abbrev dktX0_isBetter_2 : List UInt8 := dkwX0_isBetter_2 ++ []
def dkwX0_isBetter_1 : List UInt8 := [167, 0, 26, 3, 167, 0, 22, 42, 180, 0, 124, 42, 180, 0, 131, 43, 182, 0, 120, 43, 180, 0, 128]
abbrev dktX0_isBetter_1 : List UInt8 := dkwX0_isBetter_1 ++ dktX0_isBetter_2
def dkwX0_isBetter_0 : List UInt8 := [43, 182, 0, 114, 42, 180, 0, 117, 159, 0, 22, 43, 182, 0, 114, 42, 180, 0, 117, 162, 0, 7, 4]
abbrev dktX0_isBetter_0 : List UInt8 := dkwX0_isBetter_0 ++ dktX0_isBetter_1
theorem dksX0_isBetter_0 : cX0_isBetter.data.toList.drop 0 = dktX0_isBetter_0 := by decide +kernel
theorem dksX0_isBetter_1 : cX0_isBetter.data.toList.drop 23 = dktX0_isBetter_1 := dk_seg dksX0_isBetter_0 23 rfl rfl
theorem dksX0_isBetter_2 : cX0_isBetter.data.toList.drop 46 = dktX0_isBetter_2 := dk_seg dksX0_isBetter_1 23 rfl rfl
theorem dX0_isBetter_0 : decode cX0_isBetter 0 = .ok (.aload_n 1, 1) := dk_43 (dk_at dksX0_isBetter_0 0 rfl rfl)
theorem dX0_isBetter_1 : decode cX0_isBetter 1 = .ok (.invokevirtual 114, 3) := dk_182 0 114 (dk_at dksX0_isBetter_0 1 rfl rfl)
theorem dX0_isBetter_4 : decode cX0_isBetter 4 = .ok (.aload_n 0, 1) := dk_42 (dk_at dksX0_isBetter_0 4 rfl rfl)
theorem dX0_isBetter_5 : decode cX0_isBetter 5 = .ok (.getfield 117, 3) := dk_180 0 117 (dk_at dksX0_isBetter_0 5 rfl rfl)
theorem dX0_isBetter_8 : decode cX0_isBetter 8 = .ok (.if_icmp .eq 22, 3) := dk_159 0 22 (dk_at dksX0_isBetter_0 8 rfl rfl)
theorem dX0_isBetter_11 : decode cX0_isBetter 11 = .ok (.aload_n 1, 1) := dk_43 (dk_at dksX0_isBetter_0 11 rfl rfl)
theorem dX0_isBetter_12 : decode cX0_isBetter 12 = .ok (.invokevirtual 114, 3) := dk_182 0 114 (dk_at dksX0_isBetter_0 12 rfl rfl)
theorem dX0_isBetter_15 : decode cX0_isBetter 15 = .ok (.aload_n 0, 1) := dk_42 (dk_at dksX0_isBetter_0 15 rfl rfl)
theorem dX0_isBetter_16 : decode cX0_isBetter 16 = .ok (.getfield 117, 3) := dk_180 0 117 (dk_at dksX0_isBetter_0 16 rfl rfl)
theorem dX0_isBetter_19 : decode cX0_isBetter 19 = .ok (.if_icmp .ge 7, 3) := dk_162 0 7 (dk_at dksX0_isBetter_0 19 rfl rfl)
theorem dX0_isBetter_22 : decode cX0_isBetter 22 = .ok (.iconst 1, 1) := dk_4 (dk_at dksX0_isBetter_0 22 rfl rfl)
theorem dX0_isBetter_23 : decode cX0_isBetter 23 = .ok (.goto 26, 3) := dk_167 0 26 (dk_at dksX0_isBetter_1 0 rfl rfl)
theorem dX0_isBetter_26 : decode cX0_isBetter 26 = .ok (.iconst 0, 1) := dk_3 (dk_at dksX0_isBetter_1 3 rfl rfl)
theorem dX0_isBetter_27 : decode cX0_isBetter 27 = .ok (.goto 22, 3) := dk_167 0 22 (dk_at dksX0_isBetter_1 4 rfl rfl)
theorem dX0_isBetter_30 : decode cX0_isBetter 30 = .ok (.aload_n 0, 1) := dk_42 (dk_at dksX0_isBetter_1 7 rfl rfl)
theorem dX0_isBetter_31 : decode cX0_isBetter 31 = .ok (.getfield 124, 3) := dk_180 0 124 (dk_at dksX0_isBetter_1 8 rfl rfl)
theorem dX0_isBetter_34 : decode cX0_isBetter 34 = .ok (.aload_n 0, 1) := dk_42 (dk_at dksX0_isBetter_1 11 rfl rfl)
theorem dX0_isBetter_35 : decode cX0_isBetter 35 = .ok (.getfield 131, 3) := dk_180 0 131 (dk_at dksX0_isBetter_1 12 rfl rfl)
theorem dX0_isBetter_38 : decode cX0_isBetter 38 = .ok (.aload_n 1, 1) := dk_43 (dk_at dksX0_isBetter_1 15 rfl rfl)
theorem dX0_isBetter_39 : decode cX0_isBetter 39 = .ok (.invokevirtual 120, 3) := dk_182 0 120 (dk_at dksX0_isBetter_1 16 rfl rfl)
theorem dX0_isBetter_42 : decode cX0_isBetter 42 = .ok (.aload_n 1, 1) := dk_43 (dk_at dksX0_isBetter_1 19 rfl rfl)
theorem dX0_isBetter_43 : decode cX0_isBetter 43 = .ok (.getfield 128, 3) := dk_180 0 128 (dk_at dksX0_isBetter_1 20 rfl rfl)
theorem dX0_isBetter_46 : decode cX0_isBetter 46 = .ok (.invokestatic 15, 3) := dk_184 0 15 (dk_at dksX0_isBetter_2 0 rfl rfl)
theorem dX0_isBetter_49 : decode cX0_isBetter 49 = .ok (.ireturn, 1) := dk_172 (dk_at dksX0_isBetter_2 3 rfl rfl)
abbrev cX0_isMore : ByteArray := prog_1_method_5_code
def yX0_isMore : MethodName := ⟨RX0, "isMore", "(JJJJ)Z"⟩
def dkwX0_isMore_3 : List UInt8 := [22, 6, 22, 10, 32, 22, 8, 184, 0, 15, 172]
abbrev dktX0_isMore_3 : List UInt8 := dkwX0_isMore_3 ++ []
def dkwX0_isMore_2 : List UInt8 := [153, 0, 10, 22, 10, 9, 148, 154, 0, 16, 22, 8, 9, 148, 158, 0, 7, 4, 167, 0, 4, 3, 172]
abbrev dktX0_isMore_2 : List UInt8 := dkwX0_isMore_2 ++ dktX0_isMore_3
def dkwX0_isMore_1 : List UInt8 := [4, 167, 0, 4, 3, 172, 30, 32, 113, 55, 8, 22, 4, 22, 6, 113, 55, 10, 22, 8, 9, 148]
abbrev dktX0_isMore_1 : List UInt8 := dkwX0_isMore_1 ++ dktX0_isMore_2
def dkwX0_isMore_0 : List UInt8 := [30, 32, 109, 22, 4, 22, 6, 109, 148, 153, 0, 21, 30, 32, 109, 22, 4, 22, 6, 109, 148, 158, 0, 7]
abbrev dktX0_isMore_0 : List UInt8 := dkwX0_isMore_0 ++ dktX0_isMore_1
theorem dksX0_isMore_0 : cX0_isMore.data.toList.drop 0 = dktX0_isMore_0 := by decide +kernel
theorem dksX0_isMore_1 : cX0_isMore.data.toList.drop 24 = dktX0_isMore_1 := dk_seg dksX0_isMore_0 24 rfl rfl
theorem dksX0_isMore_2 : cX0_isMore.data.toList.drop 46 = dktX0_isMore_2 := dk_seg dksX0_isMore_1 22 rfl rfl
theorem dksX0_isMore_3 : cX0_isMore.data.toList.drop 69 = dktX0_isMore_3 := dk_seg dksX0_isMore_2 23 rfl rfl
theorem dX0_isMore_0 : decode cX0_isMore 0 = .ok (.lload_n 0, 1) := dk_30 (dk_at dksX0_isMore_0 0 rfl rfl)
theorem dX0_isMore_1 : decode cX0_isMore 1 = .ok (.lload_n 2, 1) := dk_32 (dk_at dksX0_isMore_0 1 rfl rfl)
theorem dX0_isMore_2 : decode cX0_isMore 2 = .ok (.ldiv, 1) := dk_109 (dk_at dksX0_isMore_0 2 rfl rfl)
theorem dX0_isMore_3 : decode cX0_isMore 3 = .ok (.lload 4, 2) := dk_22 4 (dk_at dksX0_isMore_0 3 rfl rfl)
theorem dX0_isMore_5 : decode cX0_isMore 5 = .ok (.lload 6, 2) := dk_22 6 (dk_at dksX0_isMore_0 5 rfl rfl)
theorem dX0_isMore_7 : decode cX0_isMore 7 = .ok (.ldiv, 1) := dk_109 (dk_at dksX0_isMore_0 7 rfl rfl)
theorem dX0_isMore_8 : decode cX0_isMore 8 = .ok (.lcmp, 1) := dk_148 (dk_at dksX0_isMore_0 8 rfl rfl)
theorem dX0_isMore_9 : decode cX0_isMore 9 = .ok (.ifCond .eq 21, 3) := dk_153 0 21 (dk_at dksX0_isMore_0 9 rfl rfl)
theorem dX0_isMore_12 : decode cX0_isMore 12 = .ok (.lload_n 0, 1) := dk_30 (dk_at dksX0_isMore_0 12 rfl rfl)
theorem dX0_isMore_13 : decode cX0_isMore 13 = .ok (.lload_n 2, 1) := dk_32 (dk_at dksX0_isMore_0 13 rfl rfl)
theorem dX0_isMore_14 : decode cX0_isMore 14 = .ok (.ldiv, 1) := dk_109 (dk_at dksX0_isMore_0 14 rfl rfl)
theorem dX0_isMore_15 : decode cX0_isMore 15 = .ok (.lload 4, 2) := dk_22 4 (dk_at dksX0_isMore_0 15 rfl rfl)
theorem dX0_isMore_17 : decode cX0_isMore 17 = .ok (.lload 6, 2) := dk_22 6 (dk_at dksX0_isMore_0 17 rfl rfl)
theorem dX0_isMore_19 : decode cX0_isMore 19 = .ok (.ldiv, 1) := dk_109 (dk_at dksX0_isMore_0 19 rfl rfl)
theorem dX0_isMore_20 : decode cX0_isMore 20 = .ok (.lcmp, 1) := dk_148 (dk_at dksX0_isMore_0 20 rfl rfl)
theorem dX0_isMore_21 : decode cX0_isMore 21 = .ok (.ifCond .le 7, 3) := dk_158 0 7 (dk_at dksX0_isMore_0 21 rfl rfl)
theorem dX0_isMore_24 : decode cX0_isMore 24 = .ok (.iconst 1, 1) := dk_4 (dk_at dksX0_isMore_1 0 rfl rfl)
theorem dX0_isMore_25 : decode cX0_isMore 25 = .ok (.goto 4, 3) := dk_167 0 4 (dk_at dksX0_isMore_1 1 rfl rfl)
theorem dX0_isMore_28 : decode cX0_isMore 28 = .ok (.iconst 0, 1) := dk_3 (dk_at dksX0_isMore_1 4 rfl rfl)
theorem dX0_isMore_29 : decode cX0_isMore 29 = .ok (.ireturn, 1) := dk_172 (dk_at dksX0_isMore_1 5 rfl rfl)
theorem dX0_isMore_30 : decode cX0_isMore 30 = .ok (.lload_n 0, 1) := dk_30 (dk_at dksX0_isMore_1 6 rfl rfl)
theorem dX0_isMore_31 : decode cX0_isMore 31 = .ok (.lload_n 2, 1) := dk_32 (dk_at dksX0_isMore_1 7 rfl rfl)
theorem dX0_isMore_32 : decode cX0_isMore 32 = .ok (.lrem, 1) := dk_113 (dk_at dksX0_isMore_1 8 rfl rfl)
theorem dX0_isMore_33 : decode cX0_isMore 33 = .ok (.lstore 8, 2) := dk_55 8 (dk_at dksX0_isMore_1 9 rfl rfl)
theorem dX0_isMore_35 : decode cX0_isMore 35 = .ok (.lload 4, 2) := dk_22 4 (dk_at dksX0_isMore_1 11 rfl rfl)
theorem dX0_isMore_37 : decode cX0_isMore 37 = .ok (.lload 6, 2) := dk_22 6 (dk_at dksX0_isMore_1 13 rfl rfl)
theorem dX0_isMore_39 : decode cX0_isMore 39 = .ok (.lrem, 1) := dk_113 (dk_at dksX0_isMore_1 15 rfl rfl)
theorem dX0_isMore_40 : decode cX0_isMore 40 = .ok (.lstore 10, 2) := dk_55 10 (dk_at dksX0_isMore_1 16 rfl rfl)
theorem dX0_isMore_42 : decode cX0_isMore 42 = .ok (.lload 8, 2) := dk_22 8 (dk_at dksX0_isMore_1 18 rfl rfl)
theorem dX0_isMore_44 : decode cX0_isMore 44 = .ok (.lconst 0, 1) := dk_9 (dk_at dksX0_isMore_1 20 rfl rfl)
theorem dX0_isMore_45 : decode cX0_isMore 45 = .ok (.lcmp, 1) := dk_148 (dk_at dksX0_isMore_1 21 rfl rfl)
theorem dX0_isMore_46 : decode cX0_isMore 46 = .ok (.ifCond .eq 10, 3) := dk_153 0 10 (dk_at dksX0_isMore_2 0 rfl rfl)
theorem dX0_isMore_49 : decode cX0_isMore 49 = .ok (.lload 10, 2) := dk_22 10 (dk_at dksX0_isMore_2 3 rfl rfl)
theorem dX0_isMore_51 : decode cX0_isMore 51 = .ok (.lconst 0, 1) := dk_9 (dk_at dksX0_isMore_2 5 rfl rfl)
theorem dX0_isMore_52 : decode cX0_isMore 52 = .ok (.lcmp, 1) := dk_148 (dk_at dksX0_isMore_2 6 rfl rfl)
theorem dX0_isMore_53 : decode cX0_isMore 53 = .ok (.ifCond .ne 16, 3) := dk_154 0 16 (dk_at dksX0_isMore_2 7 rfl rfl)
theorem dX0_isMore_56 : decode cX0_isMore 56 = .ok (.lload 8, 2) := dk_22 8 (dk_at dksX0_isMore_2 10 rfl rfl)
theorem dX0_isMore_58 : decode cX0_isMore 58 = .ok (.lconst 0, 1) := dk_9 (dk_at dksX0_isMore_2 12 rfl rfl)
theorem dX0_isMore_59 : decode cX0_isMore 59 = .ok (.lcmp, 1) := dk_148 (dk_at dksX0_isMore_2 13 rfl rfl)
theorem dX0_isMore_60 : decode cX0_isMore 60 = .ok (.ifCond .le 7, 3) := dk_158 0 7 (dk_at dksX0_isMore_2 14 rfl rfl)
theorem dX0_isMore_63 : decode cX0_isMore 63 = .ok (.iconst 1, 1) := dk_4 (dk_at dksX0_isMore_2 17 rfl rfl)
theorem dX0_isMore_64 : decode cX0_isMore 64 = .ok (.goto 4, 3) := dk_167 0 4 (dk_at dksX0_isMore_2 18 rfl rfl)
theorem dX0_isMore_67 : decode cX0_isMore 67 = .ok (.iconst 0, 1) := dk_3 (dk_at dksX0_isMore_2 21 rfl rfl)
theorem dX0_isMore_68 : decode cX0_isMore 68 = .ok (.ireturn, 1) := dk_172 (dk_at dksX0_isMore_2 22 rfl rfl)
theorem dX0_isMore_69 : decode cX0_isMore 69 = .ok (.lload 6, 2) := dk_22 6 (dk_at dksX0_isMore_3 0 rfl rfl)
theorem dX0_isMore_71 : decode cX0_isMore 71 = .ok (.lload 10, 2) := dk_22 10 (dk_at dksX0_isMore_3 2 rfl rfl)
theorem dX0_isMore_73 : decode cX0_isMore 73 = .ok (.lload_n 2, 1) := dk_32 (dk_at dksX0_isMore_3 4 rfl rfl)
theorem dX0_isMore_74 : decode cX0_isMore 74 = .ok (.lload 8, 2) := dk_22 8 (dk_at dksX0_isMore_3 5 rfl rfl)
theorem dX0_isMore_76 : decode cX0_isMore 76 = .ok (.invokestatic 15, 3) := dk_184 0 15 (dk_at dksX0_isMore_3 7 rfl rfl)
theorem dX0_isMore_79 : decode cX0_isMore 79 = .ok (.ireturn, 1) := dk_172 (dk_at dksX0_isMore_3 10 rfl rfl)
abbrev cX0_keepsScore : ByteArray := prog_1_method_15_code
def yX0_keepsScore : MethodName := ⟨RX0, "keepsScore", "(LSupplyGrid$Solved;)V"⟩
def dkwX0_keepsScore_1 : List UInt8 := [177]
abbrev dktX0_keepsScore_1 : List UInt8 := dkwX0_keepsScore_1 ++ []
def dkwX0_keepsScore_0 : List UInt8 := [42, 43, 182, 0, 114, 181, 0, 117, 42, 43, 182, 0, 120, 181, 0, 124, 42, 43, 180, 0, 128, 181, 0, 131]
abbrev dktX0_keepsScore_0 : List UInt8 := dkwX0_keepsScore_0 ++ dktX0_keepsScore_1
theorem dksX0_keepsScore_0 : cX0_keepsScore.data.toList.drop 0 = dktX0_keepsScore_0 := by decide +kernel
theorem dksX0_keepsScore_1 : cX0_keepsScore.data.toList.drop 24 = dktX0_keepsScore_1 := dk_seg dksX0_keepsScore_0 24 rfl rfl
theorem dX0_keepsScore_0 : decode cX0_keepsScore 0 = .ok (.aload_n 0, 1) := dk_42 (dk_at dksX0_keepsScore_0 0 rfl rfl)
theorem dX0_keepsScore_1 : decode cX0_keepsScore 1 = .ok (.aload_n 1, 1) := dk_43 (dk_at dksX0_keepsScore_0 1 rfl rfl)
theorem dX0_keepsScore_2 : decode cX0_keepsScore 2 = .ok (.invokevirtual 114, 3) := dk_182 0 114 (dk_at dksX0_keepsScore_0 2 rfl rfl)
theorem dX0_keepsScore_5 : decode cX0_keepsScore 5 = .ok (.putfield 117, 3) := dk_181 0 117 (dk_at dksX0_keepsScore_0 5 rfl rfl)
theorem dX0_keepsScore_8 : decode cX0_keepsScore 8 = .ok (.aload_n 0, 1) := dk_42 (dk_at dksX0_keepsScore_0 8 rfl rfl)
theorem dX0_keepsScore_9 : decode cX0_keepsScore 9 = .ok (.aload_n 1, 1) := dk_43 (dk_at dksX0_keepsScore_0 9 rfl rfl)
theorem dX0_keepsScore_10 : decode cX0_keepsScore 10 = .ok (.invokevirtual 120, 3) := dk_182 0 120 (dk_at dksX0_keepsScore_0 10 rfl rfl)
theorem dX0_keepsScore_13 : decode cX0_keepsScore 13 = .ok (.putfield 124, 3) := dk_181 0 124 (dk_at dksX0_keepsScore_0 13 rfl rfl)
theorem dX0_keepsScore_16 : decode cX0_keepsScore 16 = .ok (.aload_n 0, 1) := dk_42 (dk_at dksX0_keepsScore_0 16 rfl rfl)
theorem dX0_keepsScore_17 : decode cX0_keepsScore 17 = .ok (.aload_n 1, 1) := dk_43 (dk_at dksX0_keepsScore_0 17 rfl rfl)
theorem dX0_keepsScore_18 : decode cX0_keepsScore 18 = .ok (.getfield 128, 3) := dk_180 0 128 (dk_at dksX0_keepsScore_0 18 rfl rfl)
theorem dX0_keepsScore_21 : decode cX0_keepsScore 21 = .ok (.putfield 131, 3) := dk_181 0 131 (dk_at dksX0_keepsScore_0 21 rfl rfl)
theorem dX0_keepsScore_24 : decode cX0_keepsScore 24 = .ok (.return_, 1) := dk_177 (dk_at dksX0_keepsScore_1 0 rfl rfl)
abbrev cX0_pads : ByteArray := prog_1_method_60_code
def yX0_pads : MethodName := ⟨RX0, "pads", "(I)I"⟩
def dkwX0_pads_1 : List UInt8 := [182, 1, 55, 167, 0, 5, 16, 254, 172]
abbrev dktX0_pads_1 : List UInt8 := dkwX0_pads_1 ++ []
def dkwX0_pads_0 : List UInt8 := [42, 180, 0, 28, 182, 0, 158, 153, 0, 23, 27, 133, 9, 20, 1, 53, 184, 0, 73, 153, 0, 11, 42, 27]
abbrev dktX0_pads_0 : List UInt8 := dkwX0_pads_0 ++ dktX0_pads_1
theorem dksX0_pads_0 : cX0_pads.data.toList.drop 0 = dktX0_pads_0 := by decide +kernel
theorem dksX0_pads_1 : cX0_pads.data.toList.drop 24 = dktX0_pads_1 := dk_seg dksX0_pads_0 24 rfl rfl
theorem dX0_pads_0 : decode cX0_pads 0 = .ok (.aload_n 0, 1) := dk_42 (dk_at dksX0_pads_0 0 rfl rfl)
theorem dX0_pads_1 : decode cX0_pads 1 = .ok (.getfield 28, 3) := dk_180 0 28 (dk_at dksX0_pads_0 1 rfl rfl)
theorem dX0_pads_4 : decode cX0_pads 4 = .ok (.invokevirtual 158, 3) := dk_182 0 158 (dk_at dksX0_pads_0 4 rfl rfl)
theorem dX0_pads_7 : decode cX0_pads 7 = .ok (.ifCond .eq 23, 3) := dk_153 0 23 (dk_at dksX0_pads_0 7 rfl rfl)
theorem dX0_pads_10 : decode cX0_pads 10 = .ok (.iload_n 1, 1) := dk_27 (dk_at dksX0_pads_0 10 rfl rfl)
theorem dX0_pads_11 : decode cX0_pads 11 = .ok (.i2l, 1) := dk_133 (dk_at dksX0_pads_0 11 rfl rfl)
theorem dX0_pads_12 : decode cX0_pads 12 = .ok (.lconst 0, 1) := dk_9 (dk_at dksX0_pads_0 12 rfl rfl)
theorem dX0_pads_13 : decode cX0_pads 13 = .ok (.ldc2_w 309, 3) := dk_20 1 53 (dk_at dksX0_pads_0 13 rfl rfl)
theorem dX0_pads_16 : decode cX0_pads 16 = .ok (.invokestatic 73, 3) := dk_184 0 73 (dk_at dksX0_pads_0 16 rfl rfl)
theorem dX0_pads_19 : decode cX0_pads 19 = .ok (.ifCond .eq 11, 3) := dk_153 0 11 (dk_at dksX0_pads_0 19 rfl rfl)
theorem dX0_pads_22 : decode cX0_pads 22 = .ok (.aload_n 0, 1) := dk_42 (dk_at dksX0_pads_0 22 rfl rfl)
theorem dX0_pads_23 : decode cX0_pads 23 = .ok (.iload_n 1, 1) := dk_27 (dk_at dksX0_pads_0 23 rfl rfl)
theorem dX0_pads_24 : decode cX0_pads 24 = .ok (.invokevirtual 311, 3) := dk_182 1 55 (dk_at dksX0_pads_1 0 rfl rfl)
theorem dX0_pads_27 : decode cX0_pads 27 = .ok (.goto 5, 3) := dk_167 0 5 (dk_at dksX0_pads_1 3 rfl rfl)
theorem dX0_pads_30 : decode cX0_pads 30 = .ok (.bipush (-2), 2) := dk_16 254 (dk_at dksX0_pads_1 6 rfl rfl)
theorem dX0_pads_32 : decode cX0_pads 32 = .ok (.ireturn, 1) := dk_172 (dk_at dksX0_pads_1 8 rfl rfl)
abbrev cX0_bestPads : ByteArray := prog_1_method_59_code
def yX0_bestPads : MethodName := ⟨RX0, "bestPads", "(I)I"⟩
def dkwX0_bestPads_3 : List UInt8 := [182, 1, 43, 132, 3, 1, 167, 255, 185, 28, 172]
abbrev dktX0_bestPads_3 : List UInt8 := dkwX0_bestPads_3 ++ []
def dkwX0_bestPads_2 : List UInt8 := [58, 4, 28, 2, 159, 0, 15, 42, 25, 4, 182, 1, 39, 154, 0, 6, 167, 0, 11, 29, 61, 42, 25, 4]
abbrev dktX0_bestPads_2 : List UInt8 := dkwX0_bestPads_2 ++ dktX0_bestPads_3
def dkwX0_bestPads_1 : List UInt8 := [160, 0, 50, 29, 42, 180, 0, 28, 180, 0, 155, 126, 153, 0, 6, 167, 0, 35, 42, 29, 182, 1, 35]
abbrev dktX0_bestPads_1 : List UInt8 := dkwX0_bestPads_1 ++ dktX0_bestPads_2
def dkwX0_bestPads_0 : List UInt8 := [2, 61, 3, 62, 29, 4, 42, 180, 0, 28, 182, 0, 100, 120, 162, 0, 64, 29, 184, 1, 50, 27]
abbrev dktX0_bestPads_0 : List UInt8 := dkwX0_bestPads_0 ++ dktX0_bestPads_1
theorem dksX0_bestPads_0 : cX0_bestPads.data.toList.drop 0 = dktX0_bestPads_0 := by decide +kernel
theorem dksX0_bestPads_1 : cX0_bestPads.data.toList.drop 22 = dktX0_bestPads_1 := dk_seg dksX0_bestPads_0 22 rfl rfl
theorem dksX0_bestPads_2 : cX0_bestPads.data.toList.drop 45 = dktX0_bestPads_2 := dk_seg dksX0_bestPads_1 23 rfl rfl
theorem dksX0_bestPads_3 : cX0_bestPads.data.toList.drop 69 = dktX0_bestPads_3 := dk_seg dksX0_bestPads_2 24 rfl rfl
theorem dX0_bestPads_0 : decode cX0_bestPads 0 = .ok (.iconst (-1), 1) := dk_2 (dk_at dksX0_bestPads_0 0 rfl rfl)
theorem dX0_bestPads_1 : decode cX0_bestPads 1 = .ok (.istore_n 2, 1) := dk_61 (dk_at dksX0_bestPads_0 1 rfl rfl)
theorem dX0_bestPads_2 : decode cX0_bestPads 2 = .ok (.iconst 0, 1) := dk_3 (dk_at dksX0_bestPads_0 2 rfl rfl)
theorem dX0_bestPads_3 : decode cX0_bestPads 3 = .ok (.istore_n 3, 1) := dk_62 (dk_at dksX0_bestPads_0 3 rfl rfl)
theorem dX0_bestPads_4 : decode cX0_bestPads 4 = .ok (.iload_n 3, 1) := dk_29 (dk_at dksX0_bestPads_0 4 rfl rfl)
theorem dX0_bestPads_5 : decode cX0_bestPads 5 = .ok (.iconst 1, 1) := dk_4 (dk_at dksX0_bestPads_0 5 rfl rfl)
theorem dX0_bestPads_6 : decode cX0_bestPads 6 = .ok (.aload_n 0, 1) := dk_42 (dk_at dksX0_bestPads_0 6 rfl rfl)
theorem dX0_bestPads_7 : decode cX0_bestPads 7 = .ok (.getfield 28, 3) := dk_180 0 28 (dk_at dksX0_bestPads_0 7 rfl rfl)
theorem dX0_bestPads_10 : decode cX0_bestPads 10 = .ok (.invokevirtual 100, 3) := dk_182 0 100 (dk_at dksX0_bestPads_0 10 rfl rfl)
theorem dX0_bestPads_13 : decode cX0_bestPads 13 = .ok (.ishl, 1) := dk_120 (dk_at dksX0_bestPads_0 13 rfl rfl)
theorem dX0_bestPads_14 : decode cX0_bestPads 14 = .ok (.if_icmp .ge 64, 3) := dk_162 0 64 (dk_at dksX0_bestPads_0 14 rfl rfl)
theorem dX0_bestPads_17 : decode cX0_bestPads 17 = .ok (.iload_n 3, 1) := dk_29 (dk_at dksX0_bestPads_0 17 rfl rfl)
theorem dX0_bestPads_18 : decode cX0_bestPads 18 = .ok (.invokestatic 306, 3) := dk_184 1 50 (dk_at dksX0_bestPads_0 18 rfl rfl)
theorem dX0_bestPads_21 : decode cX0_bestPads 21 = .ok (.iload_n 1, 1) := dk_27 (dk_at dksX0_bestPads_0 21 rfl rfl)
theorem dX0_bestPads_22 : decode cX0_bestPads 22 = .ok (.if_icmp .ne 50, 3) := dk_160 0 50 (dk_at dksX0_bestPads_1 0 rfl rfl)
theorem dX0_bestPads_25 : decode cX0_bestPads 25 = .ok (.iload_n 3, 1) := dk_29 (dk_at dksX0_bestPads_1 3 rfl rfl)
theorem dX0_bestPads_26 : decode cX0_bestPads 26 = .ok (.aload_n 0, 1) := dk_42 (dk_at dksX0_bestPads_1 4 rfl rfl)
theorem dX0_bestPads_27 : decode cX0_bestPads 27 = .ok (.getfield 28, 3) := dk_180 0 28 (dk_at dksX0_bestPads_1 5 rfl rfl)
theorem dX0_bestPads_30 : decode cX0_bestPads 30 = .ok (.getfield 155, 3) := dk_180 0 155 (dk_at dksX0_bestPads_1 8 rfl rfl)
theorem dX0_bestPads_33 : decode cX0_bestPads 33 = .ok (.iand, 1) := dk_126 (dk_at dksX0_bestPads_1 11 rfl rfl)
theorem dX0_bestPads_34 : decode cX0_bestPads 34 = .ok (.ifCond .eq 6, 3) := dk_153 0 6 (dk_at dksX0_bestPads_1 12 rfl rfl)
theorem dX0_bestPads_37 : decode cX0_bestPads 37 = .ok (.goto 35, 3) := dk_167 0 35 (dk_at dksX0_bestPads_1 15 rfl rfl)
theorem dX0_bestPads_40 : decode cX0_bestPads 40 = .ok (.aload_n 0, 1) := dk_42 (dk_at dksX0_bestPads_1 18 rfl rfl)
theorem dX0_bestPads_41 : decode cX0_bestPads 41 = .ok (.iload_n 3, 1) := dk_29 (dk_at dksX0_bestPads_1 19 rfl rfl)
theorem dX0_bestPads_42 : decode cX0_bestPads 42 = .ok (.invokevirtual 291, 3) := dk_182 1 35 (dk_at dksX0_bestPads_1 20 rfl rfl)
theorem dX0_bestPads_45 : decode cX0_bestPads 45 = .ok (.astore 4, 2) := dk_58 4 (dk_at dksX0_bestPads_2 0 rfl rfl)
theorem dX0_bestPads_47 : decode cX0_bestPads 47 = .ok (.iload_n 2, 1) := dk_28 (dk_at dksX0_bestPads_2 2 rfl rfl)
theorem dX0_bestPads_48 : decode cX0_bestPads 48 = .ok (.iconst (-1), 1) := dk_2 (dk_at dksX0_bestPads_2 3 rfl rfl)
theorem dX0_bestPads_49 : decode cX0_bestPads 49 = .ok (.if_icmp .eq 15, 3) := dk_159 0 15 (dk_at dksX0_bestPads_2 4 rfl rfl)
theorem dX0_bestPads_52 : decode cX0_bestPads 52 = .ok (.aload_n 0, 1) := dk_42 (dk_at dksX0_bestPads_2 7 rfl rfl)
theorem dX0_bestPads_53 : decode cX0_bestPads 53 = .ok (.aload 4, 2) := dk_25 4 (dk_at dksX0_bestPads_2 8 rfl rfl)
theorem dX0_bestPads_55 : decode cX0_bestPads 55 = .ok (.invokevirtual 295, 3) := dk_182 1 39 (dk_at dksX0_bestPads_2 10 rfl rfl)
theorem dX0_bestPads_58 : decode cX0_bestPads 58 = .ok (.ifCond .ne 6, 3) := dk_154 0 6 (dk_at dksX0_bestPads_2 13 rfl rfl)
theorem dX0_bestPads_61 : decode cX0_bestPads 61 = .ok (.goto 11, 3) := dk_167 0 11 (dk_at dksX0_bestPads_2 16 rfl rfl)
theorem dX0_bestPads_64 : decode cX0_bestPads 64 = .ok (.iload_n 3, 1) := dk_29 (dk_at dksX0_bestPads_2 19 rfl rfl)
theorem dX0_bestPads_65 : decode cX0_bestPads 65 = .ok (.istore_n 2, 1) := dk_61 (dk_at dksX0_bestPads_2 20 rfl rfl)
theorem dX0_bestPads_66 : decode cX0_bestPads 66 = .ok (.aload_n 0, 1) := dk_42 (dk_at dksX0_bestPads_2 21 rfl rfl)
theorem dX0_bestPads_67 : decode cX0_bestPads 67 = .ok (.aload 4, 2) := dk_25 4 (dk_at dksX0_bestPads_2 22 rfl rfl)
theorem dX0_bestPads_69 : decode cX0_bestPads 69 = .ok (.invokevirtual 299, 3) := dk_182 1 43 (dk_at dksX0_bestPads_3 0 rfl rfl)
theorem dX0_bestPads_72 : decode cX0_bestPads 72 = .ok (.iinc 3 1, 3) := dk_132 3 1 (dk_at dksX0_bestPads_3 3 rfl rfl)
theorem dX0_bestPads_75 : decode cX0_bestPads 75 = .ok (.goto (-71), 3) := dk_167 255 185 (dk_at dksX0_bestPads_3 6 rfl rfl)
theorem dX0_bestPads_78 : decode cX0_bestPads 78 = .ok (.iload_n 2, 1) := dk_28 (dk_at dksX0_bestPads_3 9 rfl rfl)
theorem dX0_bestPads_79 : decode cX0_bestPads 79 = .ok (.ireturn, 1) := dk_172 (dk_at dksX0_bestPads_3 10 rfl rfl)
abbrev cX0_padded : ByteArray := prog_1_method_61_code
def yX0_padded : MethodName := ⟨RX0, "padded", "(II)J"⟩
def dkwX0_padded_2 : List UInt8 := [167, 0, 15, 42, 180, 0, 124, 42, 180, 0, 131, 28, 184, 0, 219, 173]
abbrev dktX0_padded_2 : List UInt8 := dkwX0_padded_2 ++ []
def dkwX0_padded_1 : List UInt8 := [184, 0, 211, 154, 0, 7, 20, 0, 214, 173, 42, 27, 182, 1, 55, 2, 160, 0, 9, 20, 0, 223]
abbrev dktX0_padded_1 : List UInt8 := dkwX0_padded_1 ++ dktX0_padded_2
def dkwX0_padded_0 : List UInt8 := [42, 180, 0, 28, 182, 0, 158, 153, 0, 22, 27, 133, 9, 20, 1, 53, 184, 0, 73, 153, 0, 10, 28]
abbrev dktX0_padded_0 : List UInt8 := dkwX0_padded_0 ++ dktX0_padded_1
theorem dksX0_padded_0 : cX0_padded.data.toList.drop 0 = dktX0_padded_0 := by decide +kernel
theorem dksX0_padded_1 : cX0_padded.data.toList.drop 23 = dktX0_padded_1 := dk_seg dksX0_padded_0 23 rfl rfl
theorem dksX0_padded_2 : cX0_padded.data.toList.drop 45 = dktX0_padded_2 := dk_seg dksX0_padded_1 22 rfl rfl
theorem dX0_padded_0 : decode cX0_padded 0 = .ok (.aload_n 0, 1) := dk_42 (dk_at dksX0_padded_0 0 rfl rfl)
theorem dX0_padded_1 : decode cX0_padded 1 = .ok (.getfield 28, 3) := dk_180 0 28 (dk_at dksX0_padded_0 1 rfl rfl)
theorem dX0_padded_4 : decode cX0_padded 4 = .ok (.invokevirtual 158, 3) := dk_182 0 158 (dk_at dksX0_padded_0 4 rfl rfl)
theorem dX0_padded_7 : decode cX0_padded 7 = .ok (.ifCond .eq 22, 3) := dk_153 0 22 (dk_at dksX0_padded_0 7 rfl rfl)
theorem dX0_padded_10 : decode cX0_padded 10 = .ok (.iload_n 1, 1) := dk_27 (dk_at dksX0_padded_0 10 rfl rfl)
theorem dX0_padded_11 : decode cX0_padded 11 = .ok (.i2l, 1) := dk_133 (dk_at dksX0_padded_0 11 rfl rfl)
theorem dX0_padded_12 : decode cX0_padded 12 = .ok (.lconst 0, 1) := dk_9 (dk_at dksX0_padded_0 12 rfl rfl)
theorem dX0_padded_13 : decode cX0_padded 13 = .ok (.ldc2_w 309, 3) := dk_20 1 53 (dk_at dksX0_padded_0 13 rfl rfl)
theorem dX0_padded_16 : decode cX0_padded 16 = .ok (.invokestatic 73, 3) := dk_184 0 73 (dk_at dksX0_padded_0 16 rfl rfl)
theorem dX0_padded_19 : decode cX0_padded 19 = .ok (.ifCond .eq 10, 3) := dk_153 0 10 (dk_at dksX0_padded_0 19 rfl rfl)
theorem dX0_padded_22 : decode cX0_padded 22 = .ok (.iload_n 2, 1) := dk_28 (dk_at dksX0_padded_0 22 rfl rfl)
theorem dX0_padded_23 : decode cX0_padded 23 = .ok (.invokestatic 211, 3) := dk_184 0 211 (dk_at dksX0_padded_1 0 rfl rfl)
theorem dX0_padded_26 : decode cX0_padded 26 = .ok (.ifCond .ne 7, 3) := dk_154 0 7 (dk_at dksX0_padded_1 3 rfl rfl)
theorem dX0_padded_29 : decode cX0_padded 29 = .ok (.ldc2_w 214, 3) := dk_20 0 214 (dk_at dksX0_padded_1 6 rfl rfl)
theorem dX0_padded_32 : decode cX0_padded 32 = .ok (.lreturn, 1) := dk_173 (dk_at dksX0_padded_1 9 rfl rfl)
theorem dX0_padded_33 : decode cX0_padded 33 = .ok (.aload_n 0, 1) := dk_42 (dk_at dksX0_padded_1 10 rfl rfl)
theorem dX0_padded_34 : decode cX0_padded 34 = .ok (.iload_n 1, 1) := dk_27 (dk_at dksX0_padded_1 11 rfl rfl)
theorem dX0_padded_35 : decode cX0_padded 35 = .ok (.invokevirtual 311, 3) := dk_182 1 55 (dk_at dksX0_padded_1 12 rfl rfl)
theorem dX0_padded_38 : decode cX0_padded 38 = .ok (.iconst (-1), 1) := dk_2 (dk_at dksX0_padded_1 15 rfl rfl)
theorem dX0_padded_39 : decode cX0_padded 39 = .ok (.if_icmp .ne 9, 3) := dk_160 0 9 (dk_at dksX0_padded_1 16 rfl rfl)
theorem dX0_padded_42 : decode cX0_padded 42 = .ok (.ldc2_w 223, 3) := dk_20 0 223 (dk_at dksX0_padded_1 19 rfl rfl)
theorem dX0_padded_45 : decode cX0_padded 45 = .ok (.goto 15, 3) := dk_167 0 15 (dk_at dksX0_padded_2 0 rfl rfl)
theorem dX0_padded_48 : decode cX0_padded 48 = .ok (.aload_n 0, 1) := dk_42 (dk_at dksX0_padded_2 3 rfl rfl)
theorem dX0_padded_49 : decode cX0_padded 49 = .ok (.getfield 124, 3) := dk_180 0 124 (dk_at dksX0_padded_2 4 rfl rfl)
theorem dX0_padded_52 : decode cX0_padded 52 = .ok (.aload_n 0, 1) := dk_42 (dk_at dksX0_padded_2 7 rfl rfl)
theorem dX0_padded_53 : decode cX0_padded 53 = .ok (.getfield 131, 3) := dk_180 0 131 (dk_at dksX0_padded_2 8 rfl rfl)
theorem dX0_padded_56 : decode cX0_padded 56 = .ok (.iload_n 2, 1) := dk_28 (dk_at dksX0_padded_2 11 rfl rfl)
theorem dX0_padded_57 : decode cX0_padded 57 = .ok (.invokestatic 219, 3) := dk_184 0 219 (dk_at dksX0_padded_2 12 rfl rfl)
theorem dX0_padded_60 : decode cX0_padded 60 = .ok (.lreturn, 1) := dk_173 (dk_at dksX0_padded_2 15 rfl rfl)
abbrev cX0_enough : ByteArray := prog_1_method_62_code
def yX0_enough : MethodName := ⟨RX0, "enough", "()I"⟩
def dkwX0_enough_2 : List UInt8 := [182, 1, 55, 61, 167, 255, 221, 28, 2, 160, 0, 7, 2, 167, 0, 4, 27, 172]
abbrev dktX0_enough_2 : List UInt8 := dkwX0_enough_2 ++ []
def dkwX0_enough_1 : List UInt8 := [182, 1, 35, 182, 0, 241, 154, 0, 25, 132, 1, 1, 27, 16, 9, 164, 0, 7, 2, 167, 0, 8, 42, 27]
abbrev dktX0_enough_1 : List UInt8 := dkwX0_enough_1 ++ dktX0_enough_2
def dkwX0_enough_0 : List UInt8 := [42, 180, 0, 28, 182, 0, 158, 154, 0, 6, 16, 254, 172, 3, 60, 3, 61, 28, 2, 159, 0, 36, 42, 28]
abbrev dktX0_enough_0 : List UInt8 := dkwX0_enough_0 ++ dktX0_enough_1
theorem dksX0_enough_0 : cX0_enough.data.toList.drop 0 = dktX0_enough_0 := by decide +kernel
theorem dksX0_enough_1 : cX0_enough.data.toList.drop 24 = dktX0_enough_1 := dk_seg dksX0_enough_0 24 rfl rfl
theorem dksX0_enough_2 : cX0_enough.data.toList.drop 48 = dktX0_enough_2 := dk_seg dksX0_enough_1 24 rfl rfl
theorem dX0_enough_0 : decode cX0_enough 0 = .ok (.aload_n 0, 1) := dk_42 (dk_at dksX0_enough_0 0 rfl rfl)
theorem dX0_enough_1 : decode cX0_enough 1 = .ok (.getfield 28, 3) := dk_180 0 28 (dk_at dksX0_enough_0 1 rfl rfl)
theorem dX0_enough_4 : decode cX0_enough 4 = .ok (.invokevirtual 158, 3) := dk_182 0 158 (dk_at dksX0_enough_0 4 rfl rfl)
theorem dX0_enough_7 : decode cX0_enough 7 = .ok (.ifCond .ne 6, 3) := dk_154 0 6 (dk_at dksX0_enough_0 7 rfl rfl)
theorem dX0_enough_10 : decode cX0_enough 10 = .ok (.bipush (-2), 2) := dk_16 254 (dk_at dksX0_enough_0 10 rfl rfl)
theorem dX0_enough_12 : decode cX0_enough 12 = .ok (.ireturn, 1) := dk_172 (dk_at dksX0_enough_0 12 rfl rfl)
theorem dX0_enough_13 : decode cX0_enough 13 = .ok (.iconst 0, 1) := dk_3 (dk_at dksX0_enough_0 13 rfl rfl)
theorem dX0_enough_14 : decode cX0_enough 14 = .ok (.istore_n 1, 1) := dk_60 (dk_at dksX0_enough_0 14 rfl rfl)
theorem dX0_enough_15 : decode cX0_enough 15 = .ok (.iconst 0, 1) := dk_3 (dk_at dksX0_enough_0 15 rfl rfl)
theorem dX0_enough_16 : decode cX0_enough 16 = .ok (.istore_n 2, 1) := dk_61 (dk_at dksX0_enough_0 16 rfl rfl)
theorem dX0_enough_17 : decode cX0_enough 17 = .ok (.iload_n 2, 1) := dk_28 (dk_at dksX0_enough_0 17 rfl rfl)
theorem dX0_enough_18 : decode cX0_enough 18 = .ok (.iconst (-1), 1) := dk_2 (dk_at dksX0_enough_0 18 rfl rfl)
theorem dX0_enough_19 : decode cX0_enough 19 = .ok (.if_icmp .eq 36, 3) := dk_159 0 36 (dk_at dksX0_enough_0 19 rfl rfl)
theorem dX0_enough_22 : decode cX0_enough 22 = .ok (.aload_n 0, 1) := dk_42 (dk_at dksX0_enough_0 22 rfl rfl)
theorem dX0_enough_23 : decode cX0_enough 23 = .ok (.iload_n 2, 1) := dk_28 (dk_at dksX0_enough_0 23 rfl rfl)
theorem dX0_enough_24 : decode cX0_enough 24 = .ok (.invokevirtual 291, 3) := dk_182 1 35 (dk_at dksX0_enough_1 0 rfl rfl)
theorem dX0_enough_27 : decode cX0_enough 27 = .ok (.invokevirtual 241, 3) := dk_182 0 241 (dk_at dksX0_enough_1 3 rfl rfl)
theorem dX0_enough_30 : decode cX0_enough 30 = .ok (.ifCond .ne 25, 3) := dk_154 0 25 (dk_at dksX0_enough_1 6 rfl rfl)
theorem dX0_enough_33 : decode cX0_enough 33 = .ok (.iinc 1 1, 3) := dk_132 1 1 (dk_at dksX0_enough_1 9 rfl rfl)
theorem dX0_enough_36 : decode cX0_enough 36 = .ok (.iload_n 1, 1) := dk_27 (dk_at dksX0_enough_1 12 rfl rfl)
theorem dX0_enough_37 : decode cX0_enough 37 = .ok (.bipush 9, 2) := dk_16 9 (dk_at dksX0_enough_1 13 rfl rfl)
theorem dX0_enough_39 : decode cX0_enough 39 = .ok (.if_icmp .le 7, 3) := dk_164 0 7 (dk_at dksX0_enough_1 15 rfl rfl)
theorem dX0_enough_42 : decode cX0_enough 42 = .ok (.iconst (-1), 1) := dk_2 (dk_at dksX0_enough_1 18 rfl rfl)
theorem dX0_enough_43 : decode cX0_enough 43 = .ok (.goto 8, 3) := dk_167 0 8 (dk_at dksX0_enough_1 19 rfl rfl)
theorem dX0_enough_46 : decode cX0_enough 46 = .ok (.aload_n 0, 1) := dk_42 (dk_at dksX0_enough_1 22 rfl rfl)
theorem dX0_enough_47 : decode cX0_enough 47 = .ok (.iload_n 1, 1) := dk_27 (dk_at dksX0_enough_1 23 rfl rfl)
theorem dX0_enough_48 : decode cX0_enough 48 = .ok (.invokevirtual 311, 3) := dk_182 1 55 (dk_at dksX0_enough_2 0 rfl rfl)
theorem dX0_enough_51 : decode cX0_enough 51 = .ok (.istore_n 2, 1) := dk_61 (dk_at dksX0_enough_2 3 rfl rfl)
theorem dX0_enough_52 : decode cX0_enough 52 = .ok (.goto (-35), 3) := dk_167 255 221 (dk_at dksX0_enough_2 4 rfl rfl)
theorem dX0_enough_55 : decode cX0_enough 55 = .ok (.iload_n 2, 1) := dk_28 (dk_at dksX0_enough_2 7 rfl rfl)
theorem dX0_enough_56 : decode cX0_enough 56 = .ok (.iconst (-1), 1) := dk_2 (dk_at dksX0_enough_2 8 rfl rfl)
theorem dX0_enough_57 : decode cX0_enough 57 = .ok (.if_icmp .ne 7, 3) := dk_160 0 7 (dk_at dksX0_enough_2 9 rfl rfl)
theorem dX0_enough_60 : decode cX0_enough 60 = .ok (.iconst (-1), 1) := dk_2 (dk_at dksX0_enough_2 12 rfl rfl)
theorem dX0_enough_61 : decode cX0_enough 61 = .ok (.goto 4, 3) := dk_167 0 4 (dk_at dksX0_enough_2 13 rfl rfl)
theorem dX0_enough_64 : decode cX0_enough 64 = .ok (.iload_n 1, 1) := dk_27 (dk_at dksX0_enough_2 16 rfl rfl)
theorem dX0_enough_65 : decode cX0_enough 65 = .ok (.ireturn, 1) := dk_172 (dk_at dksX0_enough_2 17 rfl rfl)
abbrev cX0_widens : ByteArray := prog_1_method_65_code
def yX0_widens : MethodName := ⟨RX0, "widens", "()I"⟩
def dkwX0_widens_0 : List UInt8 := [42, 180, 0, 28, 182, 0, 158, 153, 0, 10, 42, 182, 1, 61, 167, 0, 5, 16, 254, 172]
abbrev dktX0_widens_0 : List UInt8 := dkwX0_widens_0 ++ []
theorem dksX0_widens_0 : cX0_widens.data.toList.drop 0 = dktX0_widens_0 := by decide +kernel
theorem dX0_widens_0 : decode cX0_widens 0 = .ok (.aload_n 0, 1) := dk_42 (dk_at dksX0_widens_0 0 rfl rfl)
theorem dX0_widens_1 : decode cX0_widens 1 = .ok (.getfield 28, 3) := dk_180 0 28 (dk_at dksX0_widens_0 1 rfl rfl)
theorem dX0_widens_4 : decode cX0_widens 4 = .ok (.invokevirtual 158, 3) := dk_182 0 158 (dk_at dksX0_widens_0 4 rfl rfl)
theorem dX0_widens_7 : decode cX0_widens 7 = .ok (.ifCond .eq 10, 3) := dk_153 0 10 (dk_at dksX0_widens_0 7 rfl rfl)
theorem dX0_widens_10 : decode cX0_widens 10 = .ok (.aload_n 0, 1) := dk_42 (dk_at dksX0_widens_0 10 rfl rfl)
theorem dX0_widens_11 : decode cX0_widens 11 = .ok (.invokevirtual 317, 3) := dk_182 1 61 (dk_at dksX0_widens_0 11 rfl rfl)
theorem dX0_widens_14 : decode cX0_widens 14 = .ok (.goto 5, 3) := dk_167 0 5 (dk_at dksX0_widens_0 14 rfl rfl)
theorem dX0_widens_17 : decode cX0_widens 17 = .ok (.bipush (-2), 2) := dk_16 254 (dk_at dksX0_widens_0 17 rfl rfl)
theorem dX0_widens_19 : decode cX0_widens 19 = .ok (.ireturn, 1) := dk_172 (dk_at dksX0_widens_0 19 rfl rfl)
abbrev cX0_widensAll : ByteArray := prog_1_method_64_code
def yX0_widensAll : MethodName := ⟨RX0, "widensAll", "()I"⟩
def dkwX0_widensAll_3 : List UInt8 := [167, 0, 4, 3, 96, 60, 167, 255, 198, 27, 172]
abbrev dktX0_widensAll_3 : List UInt8 := dkwX0_widensAll_3 ++ []
def dkwX0_widensAll_2 : List UInt8 := [79, 42, 180, 0, 67, 27, 46, 2, 159, 0, 7, 4, 167, 0, 4, 3, 61, 27, 28, 153, 0, 7, 4]
abbrev dktX0_widensAll_2 : List UInt8 := dkwX0_widensAll_2 ++ dktX0_widensAll_3
def dkwX0_widensAll_1 : List UInt8 := [16, 20, 162, 0, 54, 42, 180, 0, 53, 182, 0, 241, 154, 0, 44, 42, 180, 0, 67, 27, 42, 182, 1, 58]
abbrev dktX0_widensAll_1 : List UInt8 := dkwX0_widensAll_1 ++ dktX0_widensAll_2
def dkwX0_widensAll_0 : List UInt8 := [42, 180, 0, 53, 182, 0, 107, 42, 180, 0, 53, 182, 0, 110, 87, 3, 60, 4, 61, 28, 153, 0, 60, 27]
abbrev dktX0_widensAll_0 : List UInt8 := dkwX0_widensAll_0 ++ dktX0_widensAll_1
theorem dksX0_widensAll_0 : cX0_widensAll.data.toList.drop 0 = dktX0_widensAll_0 := by decide +kernel
theorem dksX0_widensAll_1 : cX0_widensAll.data.toList.drop 24 = dktX0_widensAll_1 := dk_seg dksX0_widensAll_0 24 rfl rfl
theorem dksX0_widensAll_2 : cX0_widensAll.data.toList.drop 48 = dktX0_widensAll_2 := dk_seg dksX0_widensAll_1 24 rfl rfl
theorem dksX0_widensAll_3 : cX0_widensAll.data.toList.drop 71 = dktX0_widensAll_3 := dk_seg dksX0_widensAll_2 23 rfl rfl
theorem dX0_widensAll_0 : decode cX0_widensAll 0 = .ok (.aload_n 0, 1) := dk_42 (dk_at dksX0_widensAll_0 0 rfl rfl)
theorem dX0_widensAll_1 : decode cX0_widensAll 1 = .ok (.getfield 53, 3) := dk_180 0 53 (dk_at dksX0_widensAll_0 1 rfl rfl)
theorem dX0_widensAll_4 : decode cX0_widensAll 4 = .ok (.invokevirtual 107, 3) := dk_182 0 107 (dk_at dksX0_widensAll_0 4 rfl rfl)
theorem dX0_widensAll_7 : decode cX0_widensAll 7 = .ok (.aload_n 0, 1) := dk_42 (dk_at dksX0_widensAll_0 7 rfl rfl)
theorem dX0_widensAll_8 : decode cX0_widensAll 8 = .ok (.getfield 53, 3) := dk_180 0 53 (dk_at dksX0_widensAll_0 8 rfl rfl)
theorem dX0_widensAll_11 : decode cX0_widensAll 11 = .ok (.invokevirtual 110, 3) := dk_182 0 110 (dk_at dksX0_widensAll_0 11 rfl rfl)
theorem dX0_widensAll_14 : decode cX0_widensAll 14 = .ok (.pop, 1) := dk_87 (dk_at dksX0_widensAll_0 14 rfl rfl)
theorem dX0_widensAll_15 : decode cX0_widensAll 15 = .ok (.iconst 0, 1) := dk_3 (dk_at dksX0_widensAll_0 15 rfl rfl)
theorem dX0_widensAll_16 : decode cX0_widensAll 16 = .ok (.istore_n 1, 1) := dk_60 (dk_at dksX0_widensAll_0 16 rfl rfl)
theorem dX0_widensAll_17 : decode cX0_widensAll 17 = .ok (.iconst 1, 1) := dk_4 (dk_at dksX0_widensAll_0 17 rfl rfl)
theorem dX0_widensAll_18 : decode cX0_widensAll 18 = .ok (.istore_n 2, 1) := dk_61 (dk_at dksX0_widensAll_0 18 rfl rfl)
theorem dX0_widensAll_19 : decode cX0_widensAll 19 = .ok (.iload_n 2, 1) := dk_28 (dk_at dksX0_widensAll_0 19 rfl rfl)
theorem dX0_widensAll_20 : decode cX0_widensAll 20 = .ok (.ifCond .eq 60, 3) := dk_153 0 60 (dk_at dksX0_widensAll_0 20 rfl rfl)
theorem dX0_widensAll_23 : decode cX0_widensAll 23 = .ok (.iload_n 1, 1) := dk_27 (dk_at dksX0_widensAll_0 23 rfl rfl)
theorem dX0_widensAll_24 : decode cX0_widensAll 24 = .ok (.bipush 20, 2) := dk_16 20 (dk_at dksX0_widensAll_1 0 rfl rfl)
theorem dX0_widensAll_26 : decode cX0_widensAll 26 = .ok (.if_icmp .ge 54, 3) := dk_162 0 54 (dk_at dksX0_widensAll_1 2 rfl rfl)
theorem dX0_widensAll_29 : decode cX0_widensAll 29 = .ok (.aload_n 0, 1) := dk_42 (dk_at dksX0_widensAll_1 5 rfl rfl)
theorem dX0_widensAll_30 : decode cX0_widensAll 30 = .ok (.getfield 53, 3) := dk_180 0 53 (dk_at dksX0_widensAll_1 6 rfl rfl)
theorem dX0_widensAll_33 : decode cX0_widensAll 33 = .ok (.invokevirtual 241, 3) := dk_182 0 241 (dk_at dksX0_widensAll_1 9 rfl rfl)
theorem dX0_widensAll_36 : decode cX0_widensAll 36 = .ok (.ifCond .ne 44, 3) := dk_154 0 44 (dk_at dksX0_widensAll_1 12 rfl rfl)
theorem dX0_widensAll_39 : decode cX0_widensAll 39 = .ok (.aload_n 0, 1) := dk_42 (dk_at dksX0_widensAll_1 15 rfl rfl)
theorem dX0_widensAll_40 : decode cX0_widensAll 40 = .ok (.getfield 67, 3) := dk_180 0 67 (dk_at dksX0_widensAll_1 16 rfl rfl)
theorem dX0_widensAll_43 : decode cX0_widensAll 43 = .ok (.iload_n 1, 1) := dk_27 (dk_at dksX0_widensAll_1 19 rfl rfl)
theorem dX0_widensAll_44 : decode cX0_widensAll 44 = .ok (.aload_n 0, 1) := dk_42 (dk_at dksX0_widensAll_1 20 rfl rfl)
theorem dX0_widensAll_45 : decode cX0_widensAll 45 = .ok (.invokevirtual 314, 3) := dk_182 1 58 (dk_at dksX0_widensAll_1 21 rfl rfl)
theorem dX0_widensAll_48 : decode cX0_widensAll 48 = .ok (.iastore, 1) := dk_79 (dk_at dksX0_widensAll_2 0 rfl rfl)
theorem dX0_widensAll_49 : decode cX0_widensAll 49 = .ok (.aload_n 0, 1) := dk_42 (dk_at dksX0_widensAll_2 1 rfl rfl)
theorem dX0_widensAll_50 : decode cX0_widensAll 50 = .ok (.getfield 67, 3) := dk_180 0 67 (dk_at dksX0_widensAll_2 2 rfl rfl)
theorem dX0_widensAll_53 : decode cX0_widensAll 53 = .ok (.iload_n 1, 1) := dk_27 (dk_at dksX0_widensAll_2 5 rfl rfl)
theorem dX0_widensAll_54 : decode cX0_widensAll 54 = .ok (.iaload, 1) := dk_46 (dk_at dksX0_widensAll_2 6 rfl rfl)
theorem dX0_widensAll_55 : decode cX0_widensAll 55 = .ok (.iconst (-1), 1) := dk_2 (dk_at dksX0_widensAll_2 7 rfl rfl)
theorem dX0_widensAll_56 : decode cX0_widensAll 56 = .ok (.if_icmp .eq 7, 3) := dk_159 0 7 (dk_at dksX0_widensAll_2 8 rfl rfl)
theorem dX0_widensAll_59 : decode cX0_widensAll 59 = .ok (.iconst 1, 1) := dk_4 (dk_at dksX0_widensAll_2 11 rfl rfl)
theorem dX0_widensAll_60 : decode cX0_widensAll 60 = .ok (.goto 4, 3) := dk_167 0 4 (dk_at dksX0_widensAll_2 12 rfl rfl)
theorem dX0_widensAll_63 : decode cX0_widensAll 63 = .ok (.iconst 0, 1) := dk_3 (dk_at dksX0_widensAll_2 15 rfl rfl)
theorem dX0_widensAll_64 : decode cX0_widensAll 64 = .ok (.istore_n 2, 1) := dk_61 (dk_at dksX0_widensAll_2 16 rfl rfl)
theorem dX0_widensAll_65 : decode cX0_widensAll 65 = .ok (.iload_n 1, 1) := dk_27 (dk_at dksX0_widensAll_2 17 rfl rfl)
theorem dX0_widensAll_66 : decode cX0_widensAll 66 = .ok (.iload_n 2, 1) := dk_28 (dk_at dksX0_widensAll_2 18 rfl rfl)
theorem dX0_widensAll_67 : decode cX0_widensAll 67 = .ok (.ifCond .eq 7, 3) := dk_153 0 7 (dk_at dksX0_widensAll_2 19 rfl rfl)
theorem dX0_widensAll_70 : decode cX0_widensAll 70 = .ok (.iconst 1, 1) := dk_4 (dk_at dksX0_widensAll_2 22 rfl rfl)
theorem dX0_widensAll_71 : decode cX0_widensAll 71 = .ok (.goto 4, 3) := dk_167 0 4 (dk_at dksX0_widensAll_3 0 rfl rfl)
theorem dX0_widensAll_74 : decode cX0_widensAll 74 = .ok (.iconst 0, 1) := dk_3 (dk_at dksX0_widensAll_3 3 rfl rfl)
theorem dX0_widensAll_75 : decode cX0_widensAll 75 = .ok (.iadd, 1) := dk_96 (dk_at dksX0_widensAll_3 4 rfl rfl)
theorem dX0_widensAll_76 : decode cX0_widensAll 76 = .ok (.istore_n 1, 1) := dk_60 (dk_at dksX0_widensAll_3 5 rfl rfl)
theorem dX0_widensAll_77 : decode cX0_widensAll 77 = .ok (.goto (-58), 3) := dk_167 255 198 (dk_at dksX0_widensAll_3 6 rfl rfl)
theorem dX0_widensAll_80 : decode cX0_widensAll 80 = .ok (.iload_n 1, 1) := dk_27 (dk_at dksX0_widensAll_3 9 rfl rfl)
theorem dX0_widensAll_81 : decode cX0_widensAll 81 = .ok (.ireturn, 1) := dk_172 (dk_at dksX0_widensAll_3 10 rfl rfl)
abbrev cX0_bestWider : ByteArray := prog_1_method_63_code
def yX0_bestWider : MethodName := ⟨RX0, "bestWider", "()I"⟩
def dkwX0_bestWider_5 : List UInt8 := [42, 180, 0, 53, 182, 0, 110, 87, 27, 172]
abbrev dktX0_bestWider_5 : List UInt8 := dkwX0_bestWider_5 ++ []
def dkwX0_bestWider_4 : List UInt8 := [132, 2, 1, 167, 255, 171, 27, 2, 159, 0, 16, 42, 180, 0, 53, 180, 1, 33, 27, 92, 46, 4, 96, 79]
abbrev dktX0_bestWider_4 : List UInt8 := dkwX0_bestWider_4 ++ dktX0_bestWider_5
def dkwX0_bestWider_3 : List UInt8 := [60, 42, 42, 180, 0, 53, 182, 1, 43, 42, 180, 0, 53, 180, 1, 33, 28, 92, 46, 4, 100, 79]
abbrev dktX0_bestWider_3 : List UInt8 := dkwX0_bestWider_3 ++ dktX0_bestWider_4
def dkwX0_bestWider_2 : List UInt8 := [46, 4, 96, 79, 42, 180, 0, 53, 182, 0, 110, 87, 42, 42, 180, 0, 53, 182, 1, 39, 153, 0, 13, 28]
abbrev dktX0_bestWider_2 : List UInt8 := dkwX0_bestWider_2 ++ dktX0_bestWider_3
def dkwX0_bestWider_1 : List UInt8 := [180, 0, 53, 180, 1, 33, 28, 46, 7, 160, 0, 6, 167, 0, 58, 42, 180, 0, 53, 180, 1, 33, 28, 92]
abbrev dktX0_bestWider_1 : List UInt8 := dkwX0_bestWider_1 ++ dktX0_bestWider_2
def dkwX0_bestWider_0 : List UInt8 := [2, 60, 42, 42, 180, 0, 53, 182, 1, 43, 3, 61, 28, 42, 180, 0, 28, 180, 0, 104, 162, 0, 80, 42]
abbrev dktX0_bestWider_0 : List UInt8 := dkwX0_bestWider_0 ++ dktX0_bestWider_1
theorem dksX0_bestWider_0 : cX0_bestWider.data.toList.drop 0 = dktX0_bestWider_0 := by decide +kernel
theorem dksX0_bestWider_1 : cX0_bestWider.data.toList.drop 24 = dktX0_bestWider_1 := dk_seg dksX0_bestWider_0 24 rfl rfl
theorem dksX0_bestWider_2 : cX0_bestWider.data.toList.drop 48 = dktX0_bestWider_2 := dk_seg dksX0_bestWider_1 24 rfl rfl
theorem dksX0_bestWider_3 : cX0_bestWider.data.toList.drop 72 = dktX0_bestWider_3 := dk_seg dksX0_bestWider_2 24 rfl rfl
theorem dksX0_bestWider_4 : cX0_bestWider.data.toList.drop 94 = dktX0_bestWider_4 := dk_seg dksX0_bestWider_3 22 rfl rfl
theorem dksX0_bestWider_5 : cX0_bestWider.data.toList.drop 118 = dktX0_bestWider_5 := dk_seg dksX0_bestWider_4 24 rfl rfl
theorem dX0_bestWider_0 : decode cX0_bestWider 0 = .ok (.iconst (-1), 1) := dk_2 (dk_at dksX0_bestWider_0 0 rfl rfl)
theorem dX0_bestWider_1 : decode cX0_bestWider 1 = .ok (.istore_n 1, 1) := dk_60 (dk_at dksX0_bestWider_0 1 rfl rfl)
theorem dX0_bestWider_2 : decode cX0_bestWider 2 = .ok (.aload_n 0, 1) := dk_42 (dk_at dksX0_bestWider_0 2 rfl rfl)
theorem dX0_bestWider_3 : decode cX0_bestWider 3 = .ok (.aload_n 0, 1) := dk_42 (dk_at dksX0_bestWider_0 3 rfl rfl)
theorem dX0_bestWider_4 : decode cX0_bestWider 4 = .ok (.getfield 53, 3) := dk_180 0 53 (dk_at dksX0_bestWider_0 4 rfl rfl)
theorem dX0_bestWider_7 : decode cX0_bestWider 7 = .ok (.invokevirtual 299, 3) := dk_182 1 43 (dk_at dksX0_bestWider_0 7 rfl rfl)
theorem dX0_bestWider_10 : decode cX0_bestWider 10 = .ok (.iconst 0, 1) := dk_3 (dk_at dksX0_bestWider_0 10 rfl rfl)
theorem dX0_bestWider_11 : decode cX0_bestWider 11 = .ok (.istore_n 2, 1) := dk_61 (dk_at dksX0_bestWider_0 11 rfl rfl)
theorem dX0_bestWider_12 : decode cX0_bestWider 12 = .ok (.iload_n 2, 1) := dk_28 (dk_at dksX0_bestWider_0 12 rfl rfl)
theorem dX0_bestWider_13 : decode cX0_bestWider 13 = .ok (.aload_n 0, 1) := dk_42 (dk_at dksX0_bestWider_0 13 rfl rfl)
theorem dX0_bestWider_14 : decode cX0_bestWider 14 = .ok (.getfield 28, 3) := dk_180 0 28 (dk_at dksX0_bestWider_0 14 rfl rfl)
theorem dX0_bestWider_17 : decode cX0_bestWider 17 = .ok (.getfield 104, 3) := dk_180 0 104 (dk_at dksX0_bestWider_0 17 rfl rfl)
theorem dX0_bestWider_20 : decode cX0_bestWider 20 = .ok (.if_icmp .ge 80, 3) := dk_162 0 80 (dk_at dksX0_bestWider_0 20 rfl rfl)
theorem dX0_bestWider_23 : decode cX0_bestWider 23 = .ok (.aload_n 0, 1) := dk_42 (dk_at dksX0_bestWider_0 23 rfl rfl)
theorem dX0_bestWider_24 : decode cX0_bestWider 24 = .ok (.getfield 53, 3) := dk_180 0 53 (dk_at dksX0_bestWider_1 0 rfl rfl)
theorem dX0_bestWider_27 : decode cX0_bestWider 27 = .ok (.getfield 289, 3) := dk_180 1 33 (dk_at dksX0_bestWider_1 3 rfl rfl)
theorem dX0_bestWider_30 : decode cX0_bestWider 30 = .ok (.iload_n 2, 1) := dk_28 (dk_at dksX0_bestWider_1 6 rfl rfl)
theorem dX0_bestWider_31 : decode cX0_bestWider 31 = .ok (.iaload, 1) := dk_46 (dk_at dksX0_bestWider_1 7 rfl rfl)
theorem dX0_bestWider_32 : decode cX0_bestWider 32 = .ok (.iconst 4, 1) := dk_7 (dk_at dksX0_bestWider_1 8 rfl rfl)
theorem dX0_bestWider_33 : decode cX0_bestWider 33 = .ok (.if_icmp .ne 6, 3) := dk_160 0 6 (dk_at dksX0_bestWider_1 9 rfl rfl)
theorem dX0_bestWider_36 : decode cX0_bestWider 36 = .ok (.goto 58, 3) := dk_167 0 58 (dk_at dksX0_bestWider_1 12 rfl rfl)
theorem dX0_bestWider_39 : decode cX0_bestWider 39 = .ok (.aload_n 0, 1) := dk_42 (dk_at dksX0_bestWider_1 15 rfl rfl)
theorem dX0_bestWider_40 : decode cX0_bestWider 40 = .ok (.getfield 53, 3) := dk_180 0 53 (dk_at dksX0_bestWider_1 16 rfl rfl)
theorem dX0_bestWider_43 : decode cX0_bestWider 43 = .ok (.getfield 289, 3) := dk_180 1 33 (dk_at dksX0_bestWider_1 19 rfl rfl)
theorem dX0_bestWider_46 : decode cX0_bestWider 46 = .ok (.iload_n 2, 1) := dk_28 (dk_at dksX0_bestWider_1 22 rfl rfl)
theorem dX0_bestWider_47 : decode cX0_bestWider 47 = .ok (.dup2, 1) := dk_92 (dk_at dksX0_bestWider_1 23 rfl rfl)
theorem dX0_bestWider_48 : decode cX0_bestWider 48 = .ok (.iaload, 1) := dk_46 (dk_at dksX0_bestWider_2 0 rfl rfl)
theorem dX0_bestWider_49 : decode cX0_bestWider 49 = .ok (.iconst 1, 1) := dk_4 (dk_at dksX0_bestWider_2 1 rfl rfl)
theorem dX0_bestWider_50 : decode cX0_bestWider 50 = .ok (.iadd, 1) := dk_96 (dk_at dksX0_bestWider_2 2 rfl rfl)
theorem dX0_bestWider_51 : decode cX0_bestWider 51 = .ok (.iastore, 1) := dk_79 (dk_at dksX0_bestWider_2 3 rfl rfl)
theorem dX0_bestWider_52 : decode cX0_bestWider 52 = .ok (.aload_n 0, 1) := dk_42 (dk_at dksX0_bestWider_2 4 rfl rfl)
theorem dX0_bestWider_53 : decode cX0_bestWider 53 = .ok (.getfield 53, 3) := dk_180 0 53 (dk_at dksX0_bestWider_2 5 rfl rfl)
theorem dX0_bestWider_56 : decode cX0_bestWider 56 = .ok (.invokevirtual 110, 3) := dk_182 0 110 (dk_at dksX0_bestWider_2 8 rfl rfl)
theorem dX0_bestWider_59 : decode cX0_bestWider 59 = .ok (.pop, 1) := dk_87 (dk_at dksX0_bestWider_2 11 rfl rfl)
theorem dX0_bestWider_60 : decode cX0_bestWider 60 = .ok (.aload_n 0, 1) := dk_42 (dk_at dksX0_bestWider_2 12 rfl rfl)
theorem dX0_bestWider_61 : decode cX0_bestWider 61 = .ok (.aload_n 0, 1) := dk_42 (dk_at dksX0_bestWider_2 13 rfl rfl)
theorem dX0_bestWider_62 : decode cX0_bestWider 62 = .ok (.getfield 53, 3) := dk_180 0 53 (dk_at dksX0_bestWider_2 14 rfl rfl)
theorem dX0_bestWider_65 : decode cX0_bestWider 65 = .ok (.invokevirtual 295, 3) := dk_182 1 39 (dk_at dksX0_bestWider_2 17 rfl rfl)
theorem dX0_bestWider_68 : decode cX0_bestWider 68 = .ok (.ifCond .eq 13, 3) := dk_153 0 13 (dk_at dksX0_bestWider_2 20 rfl rfl)
theorem dX0_bestWider_71 : decode cX0_bestWider 71 = .ok (.iload_n 2, 1) := dk_28 (dk_at dksX0_bestWider_2 23 rfl rfl)
theorem dX0_bestWider_72 : decode cX0_bestWider 72 = .ok (.istore_n 1, 1) := dk_60 (dk_at dksX0_bestWider_3 0 rfl rfl)
theorem dX0_bestWider_73 : decode cX0_bestWider 73 = .ok (.aload_n 0, 1) := dk_42 (dk_at dksX0_bestWider_3 1 rfl rfl)
theorem dX0_bestWider_74 : decode cX0_bestWider 74 = .ok (.aload_n 0, 1) := dk_42 (dk_at dksX0_bestWider_3 2 rfl rfl)
theorem dX0_bestWider_75 : decode cX0_bestWider 75 = .ok (.getfield 53, 3) := dk_180 0 53 (dk_at dksX0_bestWider_3 3 rfl rfl)
theorem dX0_bestWider_78 : decode cX0_bestWider 78 = .ok (.invokevirtual 299, 3) := dk_182 1 43 (dk_at dksX0_bestWider_3 6 rfl rfl)
theorem dX0_bestWider_81 : decode cX0_bestWider 81 = .ok (.aload_n 0, 1) := dk_42 (dk_at dksX0_bestWider_3 9 rfl rfl)
theorem dX0_bestWider_82 : decode cX0_bestWider 82 = .ok (.getfield 53, 3) := dk_180 0 53 (dk_at dksX0_bestWider_3 10 rfl rfl)
theorem dX0_bestWider_85 : decode cX0_bestWider 85 = .ok (.getfield 289, 3) := dk_180 1 33 (dk_at dksX0_bestWider_3 13 rfl rfl)
theorem dX0_bestWider_88 : decode cX0_bestWider 88 = .ok (.iload_n 2, 1) := dk_28 (dk_at dksX0_bestWider_3 16 rfl rfl)
theorem dX0_bestWider_89 : decode cX0_bestWider 89 = .ok (.dup2, 1) := dk_92 (dk_at dksX0_bestWider_3 17 rfl rfl)
theorem dX0_bestWider_90 : decode cX0_bestWider 90 = .ok (.iaload, 1) := dk_46 (dk_at dksX0_bestWider_3 18 rfl rfl)
theorem dX0_bestWider_91 : decode cX0_bestWider 91 = .ok (.iconst 1, 1) := dk_4 (dk_at dksX0_bestWider_3 19 rfl rfl)
theorem dX0_bestWider_92 : decode cX0_bestWider 92 = .ok (.isub, 1) := dk_100 (dk_at dksX0_bestWider_3 20 rfl rfl)
theorem dX0_bestWider_93 : decode cX0_bestWider 93 = .ok (.iastore, 1) := dk_79 (dk_at dksX0_bestWider_3 21 rfl rfl)
theorem dX0_bestWider_94 : decode cX0_bestWider 94 = .ok (.iinc 2 1, 3) := dk_132 2 1 (dk_at dksX0_bestWider_4 0 rfl rfl)
theorem dX0_bestWider_97 : decode cX0_bestWider 97 = .ok (.goto (-85), 3) := dk_167 255 171 (dk_at dksX0_bestWider_4 3 rfl rfl)
theorem dX0_bestWider_100 : decode cX0_bestWider 100 = .ok (.iload_n 1, 1) := dk_27 (dk_at dksX0_bestWider_4 6 rfl rfl)
theorem dX0_bestWider_101 : decode cX0_bestWider 101 = .ok (.iconst (-1), 1) := dk_2 (dk_at dksX0_bestWider_4 7 rfl rfl)
theorem dX0_bestWider_102 : decode cX0_bestWider 102 = .ok (.if_icmp .eq 16, 3) := dk_159 0 16 (dk_at dksX0_bestWider_4 8 rfl rfl)
theorem dX0_bestWider_105 : decode cX0_bestWider 105 = .ok (.aload_n 0, 1) := dk_42 (dk_at dksX0_bestWider_4 11 rfl rfl)
theorem dX0_bestWider_106 : decode cX0_bestWider 106 = .ok (.getfield 53, 3) := dk_180 0 53 (dk_at dksX0_bestWider_4 12 rfl rfl)
theorem dX0_bestWider_109 : decode cX0_bestWider 109 = .ok (.getfield 289, 3) := dk_180 1 33 (dk_at dksX0_bestWider_4 15 rfl rfl)
theorem dX0_bestWider_112 : decode cX0_bestWider 112 = .ok (.iload_n 1, 1) := dk_27 (dk_at dksX0_bestWider_4 18 rfl rfl)
theorem dX0_bestWider_113 : decode cX0_bestWider 113 = .ok (.dup2, 1) := dk_92 (dk_at dksX0_bestWider_4 19 rfl rfl)
theorem dX0_bestWider_114 : decode cX0_bestWider 114 = .ok (.iaload, 1) := dk_46 (dk_at dksX0_bestWider_4 20 rfl rfl)
theorem dX0_bestWider_115 : decode cX0_bestWider 115 = .ok (.iconst 1, 1) := dk_4 (dk_at dksX0_bestWider_4 21 rfl rfl)
theorem dX0_bestWider_116 : decode cX0_bestWider 116 = .ok (.iadd, 1) := dk_96 (dk_at dksX0_bestWider_4 22 rfl rfl)
theorem dX0_bestWider_117 : decode cX0_bestWider 117 = .ok (.iastore, 1) := dk_79 (dk_at dksX0_bestWider_4 23 rfl rfl)
theorem dX0_bestWider_118 : decode cX0_bestWider 118 = .ok (.aload_n 0, 1) := dk_42 (dk_at dksX0_bestWider_5 0 rfl rfl)
theorem dX0_bestWider_119 : decode cX0_bestWider 119 = .ok (.getfield 53, 3) := dk_180 0 53 (dk_at dksX0_bestWider_5 1 rfl rfl)
theorem dX0_bestWider_122 : decode cX0_bestWider 122 = .ok (.invokevirtual 110, 3) := dk_182 0 110 (dk_at dksX0_bestWider_5 4 rfl rfl)
theorem dX0_bestWider_125 : decode cX0_bestWider 125 = .ok (.pop, 1) := dk_87 (dk_at dksX0_bestWider_5 7 rfl rfl)
theorem dX0_bestWider_126 : decode cX0_bestWider 126 = .ok (.iload_n 1, 1) := dk_27 (dk_at dksX0_bestWider_5 8 rfl rfl)
theorem dX0_bestWider_127 : decode cX0_bestWider 127 = .ok (.ireturn, 1) := dk_172 (dk_at dksX0_bestWider_5 9 rfl rfl)
abbrev cX0_widen : ByteArray := prog_1_method_66_code
def yX0_widen : MethodName := ⟨RX0, "widen", "(I)I"⟩
def dkwX0_widen_1 : List UInt8 := [162, 0, 12, 42, 180, 0, 67, 27, 46, 167, 0, 4, 2, 172]
abbrev dktX0_widen_1 : List UInt8 := dkwX0_widen_1 ++ []
def dkwX0_widen_0 : List UInt8 := [42, 180, 0, 28, 182, 0, 158, 153, 0, 7, 27, 156, 0, 6, 16, 254, 172, 27, 42, 182, 1, 61]
abbrev dktX0_widen_0 : List UInt8 := dkwX0_widen_0 ++ dktX0_widen_1
theorem dksX0_widen_0 : cX0_widen.data.toList.drop 0 = dktX0_widen_0 := by decide +kernel
theorem dksX0_widen_1 : cX0_widen.data.toList.drop 22 = dktX0_widen_1 := dk_seg dksX0_widen_0 22 rfl rfl
theorem dX0_widen_0 : decode cX0_widen 0 = .ok (.aload_n 0, 1) := dk_42 (dk_at dksX0_widen_0 0 rfl rfl)
theorem dX0_widen_1 : decode cX0_widen 1 = .ok (.getfield 28, 3) := dk_180 0 28 (dk_at dksX0_widen_0 1 rfl rfl)
theorem dX0_widen_4 : decode cX0_widen 4 = .ok (.invokevirtual 158, 3) := dk_182 0 158 (dk_at dksX0_widen_0 4 rfl rfl)
theorem dX0_widen_7 : decode cX0_widen 7 = .ok (.ifCond .eq 7, 3) := dk_153 0 7 (dk_at dksX0_widen_0 7 rfl rfl)
theorem dX0_widen_10 : decode cX0_widen 10 = .ok (.iload_n 1, 1) := dk_27 (dk_at dksX0_widen_0 10 rfl rfl)
theorem dX0_widen_11 : decode cX0_widen 11 = .ok (.ifCond .ge 6, 3) := dk_156 0 6 (dk_at dksX0_widen_0 11 rfl rfl)
theorem dX0_widen_14 : decode cX0_widen 14 = .ok (.bipush (-2), 2) := dk_16 254 (dk_at dksX0_widen_0 14 rfl rfl)
theorem dX0_widen_16 : decode cX0_widen 16 = .ok (.ireturn, 1) := dk_172 (dk_at dksX0_widen_0 16 rfl rfl)
theorem dX0_widen_17 : decode cX0_widen 17 = .ok (.iload_n 1, 1) := dk_27 (dk_at dksX0_widen_0 17 rfl rfl)
theorem dX0_widen_18 : decode cX0_widen 18 = .ok (.aload_n 0, 1) := dk_42 (dk_at dksX0_widen_0 18 rfl rfl)
theorem dX0_widen_19 : decode cX0_widen 19 = .ok (.invokevirtual 317, 3) := dk_182 1 61 (dk_at dksX0_widen_0 19 rfl rfl)
theorem dX0_widen_22 : decode cX0_widen 22 = .ok (.if_icmp .ge 12, 3) := dk_162 0 12 (dk_at dksX0_widen_1 0 rfl rfl)
theorem dX0_widen_25 : decode cX0_widen 25 = .ok (.aload_n 0, 1) := dk_42 (dk_at dksX0_widen_1 3 rfl rfl)
theorem dX0_widen_26 : decode cX0_widen 26 = .ok (.getfield 67, 3) := dk_180 0 67 (dk_at dksX0_widen_1 4 rfl rfl)
theorem dX0_widen_29 : decode cX0_widen 29 = .ok (.iload_n 1, 1) := dk_27 (dk_at dksX0_widen_1 7 rfl rfl)
theorem dX0_widen_30 : decode cX0_widen 30 = .ok (.iaload, 1) := dk_46 (dk_at dksX0_widen_1 8 rfl rfl)
theorem dX0_widen_31 : decode cX0_widen 31 = .ok (.goto 4, 3) := dk_167 0 4 (dk_at dksX0_widen_1 9 rfl rfl)
theorem dX0_widen_34 : decode cX0_widen 34 = .ok (.iconst (-1), 1) := dk_2 (dk_at dksX0_widen_1 12 rfl rfl)
theorem dX0_widen_35 : decode cX0_widen 35 = .ok (.ireturn, 1) := dk_172 (dk_at dksX0_widen_1 13 rfl rfl)
abbrev cX0_wide : ByteArray := prog_1_method_67_code
def yX0_wide : MethodName := ⟨RX0, "wide", "()I"⟩
def dkwX0_wide_1 : List UInt8 := [182, 0, 241, 153, 0, 7, 4, 167, 0, 4, 3, 172]
abbrev dktX0_wide_1 : List UInt8 := dkwX0_wide_1 ++ []
def dkwX0_wide_0 : List UInt8 := [42, 180, 0, 28, 182, 0, 158, 154, 0, 6, 16, 254, 172, 42, 182, 1, 61, 87, 42, 180, 0, 53]
abbrev dktX0_wide_0 : List UInt8 := dkwX0_wide_0 ++ dktX0_wide_1
theorem dksX0_wide_0 : cX0_wide.data.toList.drop 0 = dktX0_wide_0 := by decide +kernel
theorem dksX0_wide_1 : cX0_wide.data.toList.drop 22 = dktX0_wide_1 := dk_seg dksX0_wide_0 22 rfl rfl
theorem dX0_wide_0 : decode cX0_wide 0 = .ok (.aload_n 0, 1) := dk_42 (dk_at dksX0_wide_0 0 rfl rfl)
theorem dX0_wide_1 : decode cX0_wide 1 = .ok (.getfield 28, 3) := dk_180 0 28 (dk_at dksX0_wide_0 1 rfl rfl)
theorem dX0_wide_4 : decode cX0_wide 4 = .ok (.invokevirtual 158, 3) := dk_182 0 158 (dk_at dksX0_wide_0 4 rfl rfl)
theorem dX0_wide_7 : decode cX0_wide 7 = .ok (.ifCond .ne 6, 3) := dk_154 0 6 (dk_at dksX0_wide_0 7 rfl rfl)
theorem dX0_wide_10 : decode cX0_wide 10 = .ok (.bipush (-2), 2) := dk_16 254 (dk_at dksX0_wide_0 10 rfl rfl)
theorem dX0_wide_12 : decode cX0_wide 12 = .ok (.ireturn, 1) := dk_172 (dk_at dksX0_wide_0 12 rfl rfl)
theorem dX0_wide_13 : decode cX0_wide 13 = .ok (.aload_n 0, 1) := dk_42 (dk_at dksX0_wide_0 13 rfl rfl)
theorem dX0_wide_14 : decode cX0_wide 14 = .ok (.invokevirtual 317, 3) := dk_182 1 61 (dk_at dksX0_wide_0 14 rfl rfl)
theorem dX0_wide_17 : decode cX0_wide 17 = .ok (.pop, 1) := dk_87 (dk_at dksX0_wide_0 17 rfl rfl)
theorem dX0_wide_18 : decode cX0_wide 18 = .ok (.aload_n 0, 1) := dk_42 (dk_at dksX0_wide_0 18 rfl rfl)
theorem dX0_wide_19 : decode cX0_wide 19 = .ok (.getfield 53, 3) := dk_180 0 53 (dk_at dksX0_wide_0 19 rfl rfl)
theorem dX0_wide_22 : decode cX0_wide 22 = .ok (.invokevirtual 241, 3) := dk_182 0 241 (dk_at dksX0_wide_1 0 rfl rfl)
theorem dX0_wide_25 : decode cX0_wide 25 = .ok (.ifCond .eq 7, 3) := dk_153 0 7 (dk_at dksX0_wide_1 3 rfl rfl)
theorem dX0_wide_28 : decode cX0_wide 28 = .ok (.iconst 1, 1) := dk_4 (dk_at dksX0_wide_1 6 rfl rfl)
theorem dX0_wide_29 : decode cX0_wide 29 = .ok (.goto 4, 3) := dk_167 0 4 (dk_at dksX0_wide_1 7 rfl rfl)
theorem dX0_wide_32 : decode cX0_wide 32 = .ok (.iconst 0, 1) := dk_3 (dk_at dksX0_wide_1 10 rfl rfl)
theorem dX0_wide_33 : decode cX0_wide 33 = .ok (.ireturn, 1) := dk_172 (dk_at dksX0_wide_1 11 rfl rfl)
abbrev cX0_fewest : ByteArray := prog_1_method_70_code
def yX0_fewest : MethodName := ⟨RX0, "fewest", "()I"⟩
def dkwX0_fewest_0 : List UInt8 := [42, 180, 0, 28, 182, 0, 158, 153, 0, 10, 42, 182, 1, 68, 167, 0, 5, 16, 254, 172]
abbrev dktX0_fewest_0 : List UInt8 := dkwX0_fewest_0 ++ []
theorem dksX0_fewest_0 : cX0_fewest.data.toList.drop 0 = dktX0_fewest_0 := by decide +kernel
theorem dX0_fewest_0 : decode cX0_fewest 0 = .ok (.aload_n 0, 1) := dk_42 (dk_at dksX0_fewest_0 0 rfl rfl)
theorem dX0_fewest_1 : decode cX0_fewest 1 = .ok (.getfield 28, 3) := dk_180 0 28 (dk_at dksX0_fewest_0 1 rfl rfl)
theorem dX0_fewest_4 : decode cX0_fewest 4 = .ok (.invokevirtual 158, 3) := dk_182 0 158 (dk_at dksX0_fewest_0 4 rfl rfl)
theorem dX0_fewest_7 : decode cX0_fewest 7 = .ok (.ifCond .eq 10, 3) := dk_153 0 10 (dk_at dksX0_fewest_0 7 rfl rfl)
theorem dX0_fewest_10 : decode cX0_fewest 10 = .ok (.aload_n 0, 1) := dk_42 (dk_at dksX0_fewest_0 10 rfl rfl)
theorem dX0_fewest_11 : decode cX0_fewest 11 = .ok (.invokevirtual 324, 3) := dk_182 1 68 (dk_at dksX0_fewest_0 11 rfl rfl)
theorem dX0_fewest_14 : decode cX0_fewest 14 = .ok (.goto 5, 3) := dk_167 0 5 (dk_at dksX0_fewest_0 14 rfl rfl)
theorem dX0_fewest_17 : decode cX0_fewest 17 = .ok (.bipush (-2), 2) := dk_16 254 (dk_at dksX0_fewest_0 17 rfl rfl)
theorem dX0_fewest_19 : decode cX0_fewest 19 = .ok (.ireturn, 1) := dk_172 (dk_at dksX0_fewest_0 19 rfl rfl)
abbrev cX0_fewestOf : ByteArray := prog_1_method_69_code
def yX0_fewestOf : MethodName := ⟨RX0, "fewestOf", "()I"⟩
def dkwX0_fewestOf_1 : List UInt8 := [27, 172, 132, 1, 1, 167, 255, 236, 2, 172]
abbrev dktX0_fewestOf_1 : List UInt8 := dkwX0_fewestOf_1 ++ []
def dkwX0_fewestOf_0 : List UInt8 := [42, 180, 0, 53, 182, 0, 107, 3, 60, 27, 6, 163, 0, 21, 42, 3, 27, 3, 182, 1, 64, 153, 0, 5]
abbrev dktX0_fewestOf_0 : List UInt8 := dkwX0_fewestOf_0 ++ dktX0_fewestOf_1
theorem dksX0_fewestOf_0 : cX0_fewestOf.data.toList.drop 0 = dktX0_fewestOf_0 := by decide +kernel
theorem dksX0_fewestOf_1 : cX0_fewestOf.data.toList.drop 24 = dktX0_fewestOf_1 := dk_seg dksX0_fewestOf_0 24 rfl rfl
theorem dX0_fewestOf_0 : decode cX0_fewestOf 0 = .ok (.aload_n 0, 1) := dk_42 (dk_at dksX0_fewestOf_0 0 rfl rfl)
theorem dX0_fewestOf_1 : decode cX0_fewestOf 1 = .ok (.getfield 53, 3) := dk_180 0 53 (dk_at dksX0_fewestOf_0 1 rfl rfl)
theorem dX0_fewestOf_4 : decode cX0_fewestOf 4 = .ok (.invokevirtual 107, 3) := dk_182 0 107 (dk_at dksX0_fewestOf_0 4 rfl rfl)
theorem dX0_fewestOf_7 : decode cX0_fewestOf 7 = .ok (.iconst 0, 1) := dk_3 (dk_at dksX0_fewestOf_0 7 rfl rfl)
theorem dX0_fewestOf_8 : decode cX0_fewestOf 8 = .ok (.istore_n 1, 1) := dk_60 (dk_at dksX0_fewestOf_0 8 rfl rfl)
theorem dX0_fewestOf_9 : decode cX0_fewestOf 9 = .ok (.iload_n 1, 1) := dk_27 (dk_at dksX0_fewestOf_0 9 rfl rfl)
theorem dX0_fewestOf_10 : decode cX0_fewestOf 10 = .ok (.iconst 3, 1) := dk_6 (dk_at dksX0_fewestOf_0 10 rfl rfl)
theorem dX0_fewestOf_11 : decode cX0_fewestOf 11 = .ok (.if_icmp .gt 21, 3) := dk_163 0 21 (dk_at dksX0_fewestOf_0 11 rfl rfl)
theorem dX0_fewestOf_14 : decode cX0_fewestOf 14 = .ok (.aload_n 0, 1) := dk_42 (dk_at dksX0_fewestOf_0 14 rfl rfl)
theorem dX0_fewestOf_15 : decode cX0_fewestOf 15 = .ok (.iconst 0, 1) := dk_3 (dk_at dksX0_fewestOf_0 15 rfl rfl)
theorem dX0_fewestOf_16 : decode cX0_fewestOf 16 = .ok (.iload_n 1, 1) := dk_27 (dk_at dksX0_fewestOf_0 16 rfl rfl)
theorem dX0_fewestOf_17 : decode cX0_fewestOf 17 = .ok (.iconst 0, 1) := dk_3 (dk_at dksX0_fewestOf_0 17 rfl rfl)
theorem dX0_fewestOf_18 : decode cX0_fewestOf 18 = .ok (.invokevirtual 320, 3) := dk_182 1 64 (dk_at dksX0_fewestOf_0 18 rfl rfl)
theorem dX0_fewestOf_21 : decode cX0_fewestOf 21 = .ok (.ifCond .eq 5, 3) := dk_153 0 5 (dk_at dksX0_fewestOf_0 21 rfl rfl)
theorem dX0_fewestOf_24 : decode cX0_fewestOf 24 = .ok (.iload_n 1, 1) := dk_27 (dk_at dksX0_fewestOf_1 0 rfl rfl)
theorem dX0_fewestOf_25 : decode cX0_fewestOf 25 = .ok (.ireturn, 1) := dk_172 (dk_at dksX0_fewestOf_1 1 rfl rfl)
theorem dX0_fewestOf_26 : decode cX0_fewestOf 26 = .ok (.iinc 1 1, 3) := dk_132 1 1 (dk_at dksX0_fewestOf_1 2 rfl rfl)
theorem dX0_fewestOf_29 : decode cX0_fewestOf 29 = .ok (.goto (-20), 3) := dk_167 255 236 (dk_at dksX0_fewestOf_1 5 rfl rfl)
theorem dX0_fewestOf_32 : decode cX0_fewestOf 32 = .ok (.iconst (-1), 1) := dk_2 (dk_at dksX0_fewestOf_1 8 rfl rfl)
theorem dX0_fewestOf_33 : decode cX0_fewestOf 33 = .ok (.ireturn, 1) := dk_172 (dk_at dksX0_fewestOf_1 9 rfl rfl)
abbrev cX0_canDo : ByteArray := prog_1_method_68_code
def yX0_canDo : MethodName := ⟨RX0, "canDo", "(III)Z"⟩
def dkwX0_canDo_4 : List UInt8 := [4, 100, 79, 21, 5, 153, 0, 5, 4, 172, 132, 4, 1, 167, 255, 169, 3, 172]
abbrev dktX0_canDo_4 : List UInt8 := dkwX0_canDo_4 ++ []
def dkwX0_canDo_3 : List UInt8 := [79, 42, 27, 4, 96, 28, 21, 4, 182, 1, 64, 54, 5, 42, 180, 0, 53, 180, 1, 33, 21, 4, 92, 46]
abbrev dktX0_canDo_3 : List UInt8 := dkwX0_canDo_3 ++ dktX0_canDo_4
def dkwX0_canDo_2 : List UInt8 := [167, 0, 58, 42, 180, 0, 67, 27, 21, 4, 79, 42, 180, 0, 53, 180, 1, 33, 21, 4, 92, 46, 4, 96]
abbrev dktX0_canDo_2 : List UInt8 := dkwX0_canDo_2 ++ dktX0_canDo_3
def dkwX0_canDo_1 : List UInt8 := [180, 0, 28, 180, 0, 104, 162, 0, 81, 42, 180, 0, 53, 180, 1, 33, 21, 4, 46, 7, 160, 0, 6]
abbrev dktX0_canDo_1 : List UInt8 := dkwX0_canDo_1 ++ dktX0_canDo_2
def dkwX0_canDo_0 : List UInt8 := [27, 28, 160, 0, 14, 42, 180, 0, 53, 182, 0, 110, 182, 0, 241, 172, 29, 54, 4, 21, 4, 42]
abbrev dktX0_canDo_0 : List UInt8 := dkwX0_canDo_0 ++ dktX0_canDo_1
theorem dksX0_canDo_0 : cX0_canDo.data.toList.drop 0 = dktX0_canDo_0 := by decide +kernel
theorem dksX0_canDo_1 : cX0_canDo.data.toList.drop 22 = dktX0_canDo_1 := dk_seg dksX0_canDo_0 22 rfl rfl
theorem dksX0_canDo_2 : cX0_canDo.data.toList.drop 45 = dktX0_canDo_2 := dk_seg dksX0_canDo_1 23 rfl rfl
theorem dksX0_canDo_3 : cX0_canDo.data.toList.drop 69 = dktX0_canDo_3 := dk_seg dksX0_canDo_2 24 rfl rfl
theorem dksX0_canDo_4 : cX0_canDo.data.toList.drop 93 = dktX0_canDo_4 := dk_seg dksX0_canDo_3 24 rfl rfl
theorem dX0_canDo_0 : decode cX0_canDo 0 = .ok (.iload_n 1, 1) := dk_27 (dk_at dksX0_canDo_0 0 rfl rfl)
theorem dX0_canDo_1 : decode cX0_canDo 1 = .ok (.iload_n 2, 1) := dk_28 (dk_at dksX0_canDo_0 1 rfl rfl)
theorem dX0_canDo_2 : decode cX0_canDo 2 = .ok (.if_icmp .ne 14, 3) := dk_160 0 14 (dk_at dksX0_canDo_0 2 rfl rfl)
theorem dX0_canDo_5 : decode cX0_canDo 5 = .ok (.aload_n 0, 1) := dk_42 (dk_at dksX0_canDo_0 5 rfl rfl)
theorem dX0_canDo_6 : decode cX0_canDo 6 = .ok (.getfield 53, 3) := dk_180 0 53 (dk_at dksX0_canDo_0 6 rfl rfl)
theorem dX0_canDo_9 : decode cX0_canDo 9 = .ok (.invokevirtual 110, 3) := dk_182 0 110 (dk_at dksX0_canDo_0 9 rfl rfl)
theorem dX0_canDo_12 : decode cX0_canDo 12 = .ok (.invokevirtual 241, 3) := dk_182 0 241 (dk_at dksX0_canDo_0 12 rfl rfl)
theorem dX0_canDo_15 : decode cX0_canDo 15 = .ok (.ireturn, 1) := dk_172 (dk_at dksX0_canDo_0 15 rfl rfl)
theorem dX0_canDo_16 : decode cX0_canDo 16 = .ok (.iload_n 3, 1) := dk_29 (dk_at dksX0_canDo_0 16 rfl rfl)
theorem dX0_canDo_17 : decode cX0_canDo 17 = .ok (.istore 4, 2) := dk_54 4 (dk_at dksX0_canDo_0 17 rfl rfl)
theorem dX0_canDo_19 : decode cX0_canDo 19 = .ok (.iload 4, 2) := dk_21 4 (dk_at dksX0_canDo_0 19 rfl rfl)
theorem dX0_canDo_21 : decode cX0_canDo 21 = .ok (.aload_n 0, 1) := dk_42 (dk_at dksX0_canDo_0 21 rfl rfl)
theorem dX0_canDo_22 : decode cX0_canDo 22 = .ok (.getfield 28, 3) := dk_180 0 28 (dk_at dksX0_canDo_1 0 rfl rfl)
theorem dX0_canDo_25 : decode cX0_canDo 25 = .ok (.getfield 104, 3) := dk_180 0 104 (dk_at dksX0_canDo_1 3 rfl rfl)
theorem dX0_canDo_28 : decode cX0_canDo 28 = .ok (.if_icmp .ge 81, 3) := dk_162 0 81 (dk_at dksX0_canDo_1 6 rfl rfl)
theorem dX0_canDo_31 : decode cX0_canDo 31 = .ok (.aload_n 0, 1) := dk_42 (dk_at dksX0_canDo_1 9 rfl rfl)
theorem dX0_canDo_32 : decode cX0_canDo 32 = .ok (.getfield 53, 3) := dk_180 0 53 (dk_at dksX0_canDo_1 10 rfl rfl)
theorem dX0_canDo_35 : decode cX0_canDo 35 = .ok (.getfield 289, 3) := dk_180 1 33 (dk_at dksX0_canDo_1 13 rfl rfl)
theorem dX0_canDo_38 : decode cX0_canDo 38 = .ok (.iload 4, 2) := dk_21 4 (dk_at dksX0_canDo_1 16 rfl rfl)
theorem dX0_canDo_40 : decode cX0_canDo 40 = .ok (.iaload, 1) := dk_46 (dk_at dksX0_canDo_1 18 rfl rfl)
theorem dX0_canDo_41 : decode cX0_canDo 41 = .ok (.iconst 4, 1) := dk_7 (dk_at dksX0_canDo_1 19 rfl rfl)
theorem dX0_canDo_42 : decode cX0_canDo 42 = .ok (.if_icmp .ne 6, 3) := dk_160 0 6 (dk_at dksX0_canDo_1 20 rfl rfl)
theorem dX0_canDo_45 : decode cX0_canDo 45 = .ok (.goto 58, 3) := dk_167 0 58 (dk_at dksX0_canDo_2 0 rfl rfl)
theorem dX0_canDo_48 : decode cX0_canDo 48 = .ok (.aload_n 0, 1) := dk_42 (dk_at dksX0_canDo_2 3 rfl rfl)
theorem dX0_canDo_49 : decode cX0_canDo 49 = .ok (.getfield 67, 3) := dk_180 0 67 (dk_at dksX0_canDo_2 4 rfl rfl)
theorem dX0_canDo_52 : decode cX0_canDo 52 = .ok (.iload_n 1, 1) := dk_27 (dk_at dksX0_canDo_2 7 rfl rfl)
theorem dX0_canDo_53 : decode cX0_canDo 53 = .ok (.iload 4, 2) := dk_21 4 (dk_at dksX0_canDo_2 8 rfl rfl)
theorem dX0_canDo_55 : decode cX0_canDo 55 = .ok (.iastore, 1) := dk_79 (dk_at dksX0_canDo_2 10 rfl rfl)
theorem dX0_canDo_56 : decode cX0_canDo 56 = .ok (.aload_n 0, 1) := dk_42 (dk_at dksX0_canDo_2 11 rfl rfl)
theorem dX0_canDo_57 : decode cX0_canDo 57 = .ok (.getfield 53, 3) := dk_180 0 53 (dk_at dksX0_canDo_2 12 rfl rfl)
theorem dX0_canDo_60 : decode cX0_canDo 60 = .ok (.getfield 289, 3) := dk_180 1 33 (dk_at dksX0_canDo_2 15 rfl rfl)
theorem dX0_canDo_63 : decode cX0_canDo 63 = .ok (.iload 4, 2) := dk_21 4 (dk_at dksX0_canDo_2 18 rfl rfl)
theorem dX0_canDo_65 : decode cX0_canDo 65 = .ok (.dup2, 1) := dk_92 (dk_at dksX0_canDo_2 20 rfl rfl)
theorem dX0_canDo_66 : decode cX0_canDo 66 = .ok (.iaload, 1) := dk_46 (dk_at dksX0_canDo_2 21 rfl rfl)
theorem dX0_canDo_67 : decode cX0_canDo 67 = .ok (.iconst 1, 1) := dk_4 (dk_at dksX0_canDo_2 22 rfl rfl)
theorem dX0_canDo_68 : decode cX0_canDo 68 = .ok (.iadd, 1) := dk_96 (dk_at dksX0_canDo_2 23 rfl rfl)
theorem dX0_canDo_69 : decode cX0_canDo 69 = .ok (.iastore, 1) := dk_79 (dk_at dksX0_canDo_3 0 rfl rfl)
theorem dX0_canDo_70 : decode cX0_canDo 70 = .ok (.aload_n 0, 1) := dk_42 (dk_at dksX0_canDo_3 1 rfl rfl)
theorem dX0_canDo_71 : decode cX0_canDo 71 = .ok (.iload_n 1, 1) := dk_27 (dk_at dksX0_canDo_3 2 rfl rfl)
theorem dX0_canDo_72 : decode cX0_canDo 72 = .ok (.iconst 1, 1) := dk_4 (dk_at dksX0_canDo_3 3 rfl rfl)
theorem dX0_canDo_73 : decode cX0_canDo 73 = .ok (.iadd, 1) := dk_96 (dk_at dksX0_canDo_3 4 rfl rfl)
theorem dX0_canDo_74 : decode cX0_canDo 74 = .ok (.iload_n 2, 1) := dk_28 (dk_at dksX0_canDo_3 5 rfl rfl)
theorem dX0_canDo_75 : decode cX0_canDo 75 = .ok (.iload 4, 2) := dk_21 4 (dk_at dksX0_canDo_3 6 rfl rfl)
theorem dX0_canDo_77 : decode cX0_canDo 77 = .ok (.invokevirtual 320, 3) := dk_182 1 64 (dk_at dksX0_canDo_3 8 rfl rfl)
theorem dX0_canDo_80 : decode cX0_canDo 80 = .ok (.istore 5, 2) := dk_54 5 (dk_at dksX0_canDo_3 11 rfl rfl)
theorem dX0_canDo_82 : decode cX0_canDo 82 = .ok (.aload_n 0, 1) := dk_42 (dk_at dksX0_canDo_3 13 rfl rfl)
theorem dX0_canDo_83 : decode cX0_canDo 83 = .ok (.getfield 53, 3) := dk_180 0 53 (dk_at dksX0_canDo_3 14 rfl rfl)
theorem dX0_canDo_86 : decode cX0_canDo 86 = .ok (.getfield 289, 3) := dk_180 1 33 (dk_at dksX0_canDo_3 17 rfl rfl)
theorem dX0_canDo_89 : decode cX0_canDo 89 = .ok (.iload 4, 2) := dk_21 4 (dk_at dksX0_canDo_3 20 rfl rfl)
theorem dX0_canDo_91 : decode cX0_canDo 91 = .ok (.dup2, 1) := dk_92 (dk_at dksX0_canDo_3 22 rfl rfl)
theorem dX0_canDo_92 : decode cX0_canDo 92 = .ok (.iaload, 1) := dk_46 (dk_at dksX0_canDo_3 23 rfl rfl)
theorem dX0_canDo_93 : decode cX0_canDo 93 = .ok (.iconst 1, 1) := dk_4 (dk_at dksX0_canDo_4 0 rfl rfl)
theorem dX0_canDo_94 : decode cX0_canDo 94 = .ok (.isub, 1) := dk_100 (dk_at dksX0_canDo_4 1 rfl rfl)
theorem dX0_canDo_95 : decode cX0_canDo 95 = .ok (.iastore, 1) := dk_79 (dk_at dksX0_canDo_4 2 rfl rfl)
theorem dX0_canDo_96 : decode cX0_canDo 96 = .ok (.iload 5, 2) := dk_21 5 (dk_at dksX0_canDo_4 3 rfl rfl)
theorem dX0_canDo_98 : decode cX0_canDo 98 = .ok (.ifCond .eq 5, 3) := dk_153 0 5 (dk_at dksX0_canDo_4 5 rfl rfl)
theorem dX0_canDo_101 : decode cX0_canDo 101 = .ok (.iconst 1, 1) := dk_4 (dk_at dksX0_canDo_4 8 rfl rfl)
theorem dX0_canDo_102 : decode cX0_canDo 102 = .ok (.ireturn, 1) := dk_172 (dk_at dksX0_canDo_4 9 rfl rfl)
theorem dX0_canDo_103 : decode cX0_canDo 103 = .ok (.iinc 4 1, 3) := dk_132 4 1 (dk_at dksX0_canDo_4 10 rfl rfl)
theorem dX0_canDo_106 : decode cX0_canDo 106 = .ok (.goto (-87), 3) := dk_167 255 169 (dk_at dksX0_canDo_4 13 rfl rfl)
theorem dX0_canDo_109 : decode cX0_canDo 109 = .ok (.iconst 0, 1) := dk_3 (dk_at dksX0_canDo_4 16 rfl rfl)
theorem dX0_canDo_110 : decode cX0_canDo 110 = .ok (.ireturn, 1) := dk_172 (dk_at dksX0_canDo_4 17 rfl rfl)
abbrev cX0_few : ByteArray := prog_1_method_71_code
def yX0_few : MethodName := ⟨RX0, "few", "(I)I"⟩
def dkwX0_few_1 : List UInt8 := [162, 0, 12, 42, 180, 0, 67, 27, 46, 167, 0, 4, 2, 172]
abbrev dktX0_few_1 : List UInt8 := dkwX0_few_1 ++ []
def dkwX0_few_0 : List UInt8 := [42, 180, 0, 28, 182, 0, 158, 153, 0, 7, 27, 156, 0, 6, 16, 254, 172, 27, 42, 182, 1, 68]
abbrev dktX0_few_0 : List UInt8 := dkwX0_few_0 ++ dktX0_few_1
theorem dksX0_few_0 : cX0_few.data.toList.drop 0 = dktX0_few_0 := by decide +kernel
theorem dksX0_few_1 : cX0_few.data.toList.drop 22 = dktX0_few_1 := dk_seg dksX0_few_0 22 rfl rfl
theorem dX0_few_0 : decode cX0_few 0 = .ok (.aload_n 0, 1) := dk_42 (dk_at dksX0_few_0 0 rfl rfl)
theorem dX0_few_1 : decode cX0_few 1 = .ok (.getfield 28, 3) := dk_180 0 28 (dk_at dksX0_few_0 1 rfl rfl)
theorem dX0_few_4 : decode cX0_few 4 = .ok (.invokevirtual 158, 3) := dk_182 0 158 (dk_at dksX0_few_0 4 rfl rfl)
theorem dX0_few_7 : decode cX0_few 7 = .ok (.ifCond .eq 7, 3) := dk_153 0 7 (dk_at dksX0_few_0 7 rfl rfl)
theorem dX0_few_10 : decode cX0_few 10 = .ok (.iload_n 1, 1) := dk_27 (dk_at dksX0_few_0 10 rfl rfl)
theorem dX0_few_11 : decode cX0_few 11 = .ok (.ifCond .ge 6, 3) := dk_156 0 6 (dk_at dksX0_few_0 11 rfl rfl)
theorem dX0_few_14 : decode cX0_few 14 = .ok (.bipush (-2), 2) := dk_16 254 (dk_at dksX0_few_0 14 rfl rfl)
theorem dX0_few_16 : decode cX0_few 16 = .ok (.ireturn, 1) := dk_172 (dk_at dksX0_few_0 16 rfl rfl)
theorem dX0_few_17 : decode cX0_few 17 = .ok (.iload_n 1, 1) := dk_27 (dk_at dksX0_few_0 17 rfl rfl)
theorem dX0_few_18 : decode cX0_few 18 = .ok (.aload_n 0, 1) := dk_42 (dk_at dksX0_few_0 18 rfl rfl)
theorem dX0_few_19 : decode cX0_few 19 = .ok (.invokevirtual 324, 3) := dk_182 1 68 (dk_at dksX0_few_0 19 rfl rfl)
theorem dX0_few_22 : decode cX0_few 22 = .ok (.if_icmp .ge 12, 3) := dk_162 0 12 (dk_at dksX0_few_1 0 rfl rfl)
theorem dX0_few_25 : decode cX0_few 25 = .ok (.aload_n 0, 1) := dk_42 (dk_at dksX0_few_1 3 rfl rfl)
theorem dX0_few_26 : decode cX0_few 26 = .ok (.getfield 67, 3) := dk_180 0 67 (dk_at dksX0_few_1 4 rfl rfl)
theorem dX0_few_29 : decode cX0_few 29 = .ok (.iload_n 1, 1) := dk_27 (dk_at dksX0_few_1 7 rfl rfl)
theorem dX0_few_30 : decode cX0_few 30 = .ok (.iaload, 1) := dk_46 (dk_at dksX0_few_1 8 rfl rfl)
theorem dX0_few_31 : decode cX0_few 31 = .ok (.goto 4, 3) := dk_167 0 4 (dk_at dksX0_few_1 9 rfl rfl)
theorem dX0_few_34 : decode cX0_few 34 = .ok (.iconst (-1), 1) := dk_2 (dk_at dksX0_few_1 12 rfl rfl)
theorem dX0_few_35 : decode cX0_few 35 = .ok (.ireturn, 1) := dk_172 (dk_at dksX0_few_1 13 rfl rfl)
abbrev cX0_slims : ByteArray := prog_1_method_73_code
def yX0_slims : MethodName := ⟨RX0, "slims", "()I"⟩
def dkwX0_slims_2 : List UInt8 := [132, 1, 1, 167, 255, 245, 27, 172]
abbrev dktX0_slims_2 : List UInt8 := dkwX0_slims_2 ++ []
def dkwX0_slims_1 : List UInt8 := [180, 0, 53, 182, 0, 110, 182, 0, 241, 154, 0, 5, 2, 172, 42, 182, 1, 71, 2, 159, 0, 9]
abbrev dktX0_slims_1 : List UInt8 := dkwX0_slims_1 ++ dktX0_slims_2
def dkwX0_slims_0 : List UInt8 := [42, 180, 0, 28, 182, 0, 158, 154, 0, 6, 16, 254, 172, 42, 180, 0, 53, 182, 0, 107, 3, 60, 42]
abbrev dktX0_slims_0 : List UInt8 := dkwX0_slims_0 ++ dktX0_slims_1
theorem dksX0_slims_0 : cX0_slims.data.toList.drop 0 = dktX0_slims_0 := by decide +kernel
theorem dksX0_slims_1 : cX0_slims.data.toList.drop 23 = dktX0_slims_1 := dk_seg dksX0_slims_0 23 rfl rfl
theorem dksX0_slims_2 : cX0_slims.data.toList.drop 45 = dktX0_slims_2 := dk_seg dksX0_slims_1 22 rfl rfl
theorem dX0_slims_0 : decode cX0_slims 0 = .ok (.aload_n 0, 1) := dk_42 (dk_at dksX0_slims_0 0 rfl rfl)
theorem dX0_slims_1 : decode cX0_slims 1 = .ok (.getfield 28, 3) := dk_180 0 28 (dk_at dksX0_slims_0 1 rfl rfl)
theorem dX0_slims_4 : decode cX0_slims 4 = .ok (.invokevirtual 158, 3) := dk_182 0 158 (dk_at dksX0_slims_0 4 rfl rfl)
theorem dX0_slims_7 : decode cX0_slims 7 = .ok (.ifCond .ne 6, 3) := dk_154 0 6 (dk_at dksX0_slims_0 7 rfl rfl)
theorem dX0_slims_10 : decode cX0_slims 10 = .ok (.bipush (-2), 2) := dk_16 254 (dk_at dksX0_slims_0 10 rfl rfl)
theorem dX0_slims_12 : decode cX0_slims 12 = .ok (.ireturn, 1) := dk_172 (dk_at dksX0_slims_0 12 rfl rfl)
theorem dX0_slims_13 : decode cX0_slims 13 = .ok (.aload_n 0, 1) := dk_42 (dk_at dksX0_slims_0 13 rfl rfl)
theorem dX0_slims_14 : decode cX0_slims 14 = .ok (.getfield 53, 3) := dk_180 0 53 (dk_at dksX0_slims_0 14 rfl rfl)
theorem dX0_slims_17 : decode cX0_slims 17 = .ok (.invokevirtual 107, 3) := dk_182 0 107 (dk_at dksX0_slims_0 17 rfl rfl)
theorem dX0_slims_20 : decode cX0_slims 20 = .ok (.iconst 0, 1) := dk_3 (dk_at dksX0_slims_0 20 rfl rfl)
theorem dX0_slims_21 : decode cX0_slims 21 = .ok (.istore_n 1, 1) := dk_60 (dk_at dksX0_slims_0 21 rfl rfl)
theorem dX0_slims_22 : decode cX0_slims 22 = .ok (.aload_n 0, 1) := dk_42 (dk_at dksX0_slims_0 22 rfl rfl)
theorem dX0_slims_23 : decode cX0_slims 23 = .ok (.getfield 53, 3) := dk_180 0 53 (dk_at dksX0_slims_1 0 rfl rfl)
theorem dX0_slims_26 : decode cX0_slims 26 = .ok (.invokevirtual 110, 3) := dk_182 0 110 (dk_at dksX0_slims_1 3 rfl rfl)
theorem dX0_slims_29 : decode cX0_slims 29 = .ok (.invokevirtual 241, 3) := dk_182 0 241 (dk_at dksX0_slims_1 6 rfl rfl)
theorem dX0_slims_32 : decode cX0_slims 32 = .ok (.ifCond .ne 5, 3) := dk_154 0 5 (dk_at dksX0_slims_1 9 rfl rfl)
theorem dX0_slims_35 : decode cX0_slims 35 = .ok (.iconst (-1), 1) := dk_2 (dk_at dksX0_slims_1 12 rfl rfl)
theorem dX0_slims_36 : decode cX0_slims 36 = .ok (.ireturn, 1) := dk_172 (dk_at dksX0_slims_1 13 rfl rfl)
theorem dX0_slims_37 : decode cX0_slims 37 = .ok (.aload_n 0, 1) := dk_42 (dk_at dksX0_slims_1 14 rfl rfl)
theorem dX0_slims_38 : decode cX0_slims 38 = .ok (.invokevirtual 327, 3) := dk_182 1 71 (dk_at dksX0_slims_1 15 rfl rfl)
theorem dX0_slims_41 : decode cX0_slims 41 = .ok (.iconst (-1), 1) := dk_2 (dk_at dksX0_slims_1 18 rfl rfl)
theorem dX0_slims_42 : decode cX0_slims 42 = .ok (.if_icmp .eq 9, 3) := dk_159 0 9 (dk_at dksX0_slims_1 19 rfl rfl)
theorem dX0_slims_45 : decode cX0_slims 45 = .ok (.iinc 1 1, 3) := dk_132 1 1 (dk_at dksX0_slims_2 0 rfl rfl)
theorem dX0_slims_48 : decode cX0_slims 48 = .ok (.goto (-11), 3) := dk_167 255 245 (dk_at dksX0_slims_2 3 rfl rfl)
theorem dX0_slims_51 : decode cX0_slims 51 = .ok (.iload_n 1, 1) := dk_27 (dk_at dksX0_slims_2 6 rfl rfl)
theorem dX0_slims_52 : decode cX0_slims 52 = .ok (.ireturn, 1) := dk_172 (dk_at dksX0_slims_2 7 rfl rfl)
abbrev cX0_bestNarrower : ByteArray := prog_1_method_72_code
def yX0_bestNarrower : MethodName := ⟨RX0, "bestNarrower", "()I"⟩
def dkwX0_bestNarrower_5 : List UInt8 := [92, 46, 4, 100, 79, 27, 172]
abbrev dktX0_bestNarrower_5 : List UInt8 := dkwX0_bestNarrower_5 ++ []
def dkwX0_bestNarrower_4 : List UInt8 := [92, 46, 4, 96, 79, 132, 2, 1, 167, 255, 157, 27, 2, 159, 0, 16, 42, 180, 0, 53, 180, 1, 33, 27]
abbrev dktX0_bestNarrower_4 : List UInt8 := dkwX0_bestNarrower_4 ++ dktX0_bestNarrower_5
def dkwX0_bestNarrower_3 : List UInt8 := [182, 1, 39, 153, 0, 13, 28, 60, 42, 42, 180, 0, 53, 182, 1, 43, 42, 180, 0, 53, 180, 1, 33, 28]
abbrev dktX0_bestNarrower_3 : List UInt8 := dkwX0_bestNarrower_3 ++ dktX0_bestNarrower_4
def dkwX0_bestNarrower_2 : List UInt8 := [182, 0, 110, 87, 42, 180, 0, 53, 182, 0, 241, 153, 0, 29, 27, 2, 159, 0, 14, 42, 42, 180, 0, 53]
abbrev dktX0_bestNarrower_2 : List UInt8 := dkwX0_bestNarrower_2 ++ dktX0_bestNarrower_3
def dkwX0_bestNarrower_1 : List UInt8 := [154, 0, 6, 167, 0, 73, 42, 180, 0, 53, 180, 1, 33, 28, 92, 46, 4, 100, 79, 42, 180, 0, 53]
abbrev dktX0_bestNarrower_1 : List UInt8 := dkwX0_bestNarrower_1 ++ dktX0_bestNarrower_2
def dkwX0_bestNarrower_0 : List UInt8 := [2, 60, 3, 61, 28, 42, 180, 0, 28, 180, 0, 104, 162, 0, 94, 42, 180, 0, 53, 180, 1, 33, 28, 46]
abbrev dktX0_bestNarrower_0 : List UInt8 := dkwX0_bestNarrower_0 ++ dktX0_bestNarrower_1
theorem dksX0_bestNarrower_0 : cX0_bestNarrower.data.toList.drop 0 = dktX0_bestNarrower_0 := by decide +kernel
theorem dksX0_bestNarrower_1 : cX0_bestNarrower.data.toList.drop 24 = dktX0_bestNarrower_1 := dk_seg dksX0_bestNarrower_0 24 rfl rfl
theorem dksX0_bestNarrower_2 : cX0_bestNarrower.data.toList.drop 47 = dktX0_bestNarrower_2 := dk_seg dksX0_bestNarrower_1 23 rfl rfl
theorem dksX0_bestNarrower_3 : cX0_bestNarrower.data.toList.drop 71 = dktX0_bestNarrower_3 := dk_seg dksX0_bestNarrower_2 24 rfl rfl
theorem dksX0_bestNarrower_4 : cX0_bestNarrower.data.toList.drop 95 = dktX0_bestNarrower_4 := dk_seg dksX0_bestNarrower_3 24 rfl rfl
theorem dksX0_bestNarrower_5 : cX0_bestNarrower.data.toList.drop 119 = dktX0_bestNarrower_5 := dk_seg dksX0_bestNarrower_4 24 rfl rfl
theorem dX0_bestNarrower_0 : decode cX0_bestNarrower 0 = .ok (.iconst (-1), 1) := dk_2 (dk_at dksX0_bestNarrower_0 0 rfl rfl)
theorem dX0_bestNarrower_1 : decode cX0_bestNarrower 1 = .ok (.istore_n 1, 1) := dk_60 (dk_at dksX0_bestNarrower_0 1 rfl rfl)
theorem dX0_bestNarrower_2 : decode cX0_bestNarrower 2 = .ok (.iconst 0, 1) := dk_3 (dk_at dksX0_bestNarrower_0 2 rfl rfl)
theorem dX0_bestNarrower_3 : decode cX0_bestNarrower 3 = .ok (.istore_n 2, 1) := dk_61 (dk_at dksX0_bestNarrower_0 3 rfl rfl)
theorem dX0_bestNarrower_4 : decode cX0_bestNarrower 4 = .ok (.iload_n 2, 1) := dk_28 (dk_at dksX0_bestNarrower_0 4 rfl rfl)
theorem dX0_bestNarrower_5 : decode cX0_bestNarrower 5 = .ok (.aload_n 0, 1) := dk_42 (dk_at dksX0_bestNarrower_0 5 rfl rfl)
theorem dX0_bestNarrower_6 : decode cX0_bestNarrower 6 = .ok (.getfield 28, 3) := dk_180 0 28 (dk_at dksX0_bestNarrower_0 6 rfl rfl)
theorem dX0_bestNarrower_9 : decode cX0_bestNarrower 9 = .ok (.getfield 104, 3) := dk_180 0 104 (dk_at dksX0_bestNarrower_0 9 rfl rfl)
theorem dX0_bestNarrower_12 : decode cX0_bestNarrower 12 = .ok (.if_icmp .ge 94, 3) := dk_162 0 94 (dk_at dksX0_bestNarrower_0 12 rfl rfl)
theorem dX0_bestNarrower_15 : decode cX0_bestNarrower 15 = .ok (.aload_n 0, 1) := dk_42 (dk_at dksX0_bestNarrower_0 15 rfl rfl)
theorem dX0_bestNarrower_16 : decode cX0_bestNarrower 16 = .ok (.getfield 53, 3) := dk_180 0 53 (dk_at dksX0_bestNarrower_0 16 rfl rfl)
theorem dX0_bestNarrower_19 : decode cX0_bestNarrower 19 = .ok (.getfield 289, 3) := dk_180 1 33 (dk_at dksX0_bestNarrower_0 19 rfl rfl)
theorem dX0_bestNarrower_22 : decode cX0_bestNarrower 22 = .ok (.iload_n 2, 1) := dk_28 (dk_at dksX0_bestNarrower_0 22 rfl rfl)
theorem dX0_bestNarrower_23 : decode cX0_bestNarrower 23 = .ok (.iaload, 1) := dk_46 (dk_at dksX0_bestNarrower_0 23 rfl rfl)
theorem dX0_bestNarrower_24 : decode cX0_bestNarrower 24 = .ok (.ifCond .ne 6, 3) := dk_154 0 6 (dk_at dksX0_bestNarrower_1 0 rfl rfl)
theorem dX0_bestNarrower_27 : decode cX0_bestNarrower 27 = .ok (.goto 73, 3) := dk_167 0 73 (dk_at dksX0_bestNarrower_1 3 rfl rfl)
theorem dX0_bestNarrower_30 : decode cX0_bestNarrower 30 = .ok (.aload_n 0, 1) := dk_42 (dk_at dksX0_bestNarrower_1 6 rfl rfl)
theorem dX0_bestNarrower_31 : decode cX0_bestNarrower 31 = .ok (.getfield 53, 3) := dk_180 0 53 (dk_at dksX0_bestNarrower_1 7 rfl rfl)
theorem dX0_bestNarrower_34 : decode cX0_bestNarrower 34 = .ok (.getfield 289, 3) := dk_180 1 33 (dk_at dksX0_bestNarrower_1 10 rfl rfl)
theorem dX0_bestNarrower_37 : decode cX0_bestNarrower 37 = .ok (.iload_n 2, 1) := dk_28 (dk_at dksX0_bestNarrower_1 13 rfl rfl)
theorem dX0_bestNarrower_38 : decode cX0_bestNarrower 38 = .ok (.dup2, 1) := dk_92 (dk_at dksX0_bestNarrower_1 14 rfl rfl)
theorem dX0_bestNarrower_39 : decode cX0_bestNarrower 39 = .ok (.iaload, 1) := dk_46 (dk_at dksX0_bestNarrower_1 15 rfl rfl)
theorem dX0_bestNarrower_40 : decode cX0_bestNarrower 40 = .ok (.iconst 1, 1) := dk_4 (dk_at dksX0_bestNarrower_1 16 rfl rfl)
theorem dX0_bestNarrower_41 : decode cX0_bestNarrower 41 = .ok (.isub, 1) := dk_100 (dk_at dksX0_bestNarrower_1 17 rfl rfl)
theorem dX0_bestNarrower_42 : decode cX0_bestNarrower 42 = .ok (.iastore, 1) := dk_79 (dk_at dksX0_bestNarrower_1 18 rfl rfl)
theorem dX0_bestNarrower_43 : decode cX0_bestNarrower 43 = .ok (.aload_n 0, 1) := dk_42 (dk_at dksX0_bestNarrower_1 19 rfl rfl)
theorem dX0_bestNarrower_44 : decode cX0_bestNarrower 44 = .ok (.getfield 53, 3) := dk_180 0 53 (dk_at dksX0_bestNarrower_1 20 rfl rfl)
theorem dX0_bestNarrower_47 : decode cX0_bestNarrower 47 = .ok (.invokevirtual 110, 3) := dk_182 0 110 (dk_at dksX0_bestNarrower_2 0 rfl rfl)
theorem dX0_bestNarrower_50 : decode cX0_bestNarrower 50 = .ok (.pop, 1) := dk_87 (dk_at dksX0_bestNarrower_2 3 rfl rfl)
theorem dX0_bestNarrower_51 : decode cX0_bestNarrower 51 = .ok (.aload_n 0, 1) := dk_42 (dk_at dksX0_bestNarrower_2 4 rfl rfl)
theorem dX0_bestNarrower_52 : decode cX0_bestNarrower 52 = .ok (.getfield 53, 3) := dk_180 0 53 (dk_at dksX0_bestNarrower_2 5 rfl rfl)
theorem dX0_bestNarrower_55 : decode cX0_bestNarrower 55 = .ok (.invokevirtual 241, 3) := dk_182 0 241 (dk_at dksX0_bestNarrower_2 8 rfl rfl)
theorem dX0_bestNarrower_58 : decode cX0_bestNarrower 58 = .ok (.ifCond .eq 29, 3) := dk_153 0 29 (dk_at dksX0_bestNarrower_2 11 rfl rfl)
theorem dX0_bestNarrower_61 : decode cX0_bestNarrower 61 = .ok (.iload_n 1, 1) := dk_27 (dk_at dksX0_bestNarrower_2 14 rfl rfl)
theorem dX0_bestNarrower_62 : decode cX0_bestNarrower 62 = .ok (.iconst (-1), 1) := dk_2 (dk_at dksX0_bestNarrower_2 15 rfl rfl)
theorem dX0_bestNarrower_63 : decode cX0_bestNarrower 63 = .ok (.if_icmp .eq 14, 3) := dk_159 0 14 (dk_at dksX0_bestNarrower_2 16 rfl rfl)
theorem dX0_bestNarrower_66 : decode cX0_bestNarrower 66 = .ok (.aload_n 0, 1) := dk_42 (dk_at dksX0_bestNarrower_2 19 rfl rfl)
theorem dX0_bestNarrower_67 : decode cX0_bestNarrower 67 = .ok (.aload_n 0, 1) := dk_42 (dk_at dksX0_bestNarrower_2 20 rfl rfl)
theorem dX0_bestNarrower_68 : decode cX0_bestNarrower 68 = .ok (.getfield 53, 3) := dk_180 0 53 (dk_at dksX0_bestNarrower_2 21 rfl rfl)
theorem dX0_bestNarrower_71 : decode cX0_bestNarrower 71 = .ok (.invokevirtual 295, 3) := dk_182 1 39 (dk_at dksX0_bestNarrower_3 0 rfl rfl)
theorem dX0_bestNarrower_74 : decode cX0_bestNarrower 74 = .ok (.ifCond .eq 13, 3) := dk_153 0 13 (dk_at dksX0_bestNarrower_3 3 rfl rfl)
theorem dX0_bestNarrower_77 : decode cX0_bestNarrower 77 = .ok (.iload_n 2, 1) := dk_28 (dk_at dksX0_bestNarrower_3 6 rfl rfl)
theorem dX0_bestNarrower_78 : decode cX0_bestNarrower 78 = .ok (.istore_n 1, 1) := dk_60 (dk_at dksX0_bestNarrower_3 7 rfl rfl)
theorem dX0_bestNarrower_79 : decode cX0_bestNarrower 79 = .ok (.aload_n 0, 1) := dk_42 (dk_at dksX0_bestNarrower_3 8 rfl rfl)
theorem dX0_bestNarrower_80 : decode cX0_bestNarrower 80 = .ok (.aload_n 0, 1) := dk_42 (dk_at dksX0_bestNarrower_3 9 rfl rfl)
theorem dX0_bestNarrower_81 : decode cX0_bestNarrower 81 = .ok (.getfield 53, 3) := dk_180 0 53 (dk_at dksX0_bestNarrower_3 10 rfl rfl)
theorem dX0_bestNarrower_84 : decode cX0_bestNarrower 84 = .ok (.invokevirtual 299, 3) := dk_182 1 43 (dk_at dksX0_bestNarrower_3 13 rfl rfl)
theorem dX0_bestNarrower_87 : decode cX0_bestNarrower 87 = .ok (.aload_n 0, 1) := dk_42 (dk_at dksX0_bestNarrower_3 16 rfl rfl)
theorem dX0_bestNarrower_88 : decode cX0_bestNarrower 88 = .ok (.getfield 53, 3) := dk_180 0 53 (dk_at dksX0_bestNarrower_3 17 rfl rfl)
theorem dX0_bestNarrower_91 : decode cX0_bestNarrower 91 = .ok (.getfield 289, 3) := dk_180 1 33 (dk_at dksX0_bestNarrower_3 20 rfl rfl)
theorem dX0_bestNarrower_94 : decode cX0_bestNarrower 94 = .ok (.iload_n 2, 1) := dk_28 (dk_at dksX0_bestNarrower_3 23 rfl rfl)
theorem dX0_bestNarrower_95 : decode cX0_bestNarrower 95 = .ok (.dup2, 1) := dk_92 (dk_at dksX0_bestNarrower_4 0 rfl rfl)
theorem dX0_bestNarrower_96 : decode cX0_bestNarrower 96 = .ok (.iaload, 1) := dk_46 (dk_at dksX0_bestNarrower_4 1 rfl rfl)
theorem dX0_bestNarrower_97 : decode cX0_bestNarrower 97 = .ok (.iconst 1, 1) := dk_4 (dk_at dksX0_bestNarrower_4 2 rfl rfl)
theorem dX0_bestNarrower_98 : decode cX0_bestNarrower 98 = .ok (.iadd, 1) := dk_96 (dk_at dksX0_bestNarrower_4 3 rfl rfl)
theorem dX0_bestNarrower_99 : decode cX0_bestNarrower 99 = .ok (.iastore, 1) := dk_79 (dk_at dksX0_bestNarrower_4 4 rfl rfl)
theorem dX0_bestNarrower_100 : decode cX0_bestNarrower 100 = .ok (.iinc 2 1, 3) := dk_132 2 1 (dk_at dksX0_bestNarrower_4 5 rfl rfl)
theorem dX0_bestNarrower_103 : decode cX0_bestNarrower 103 = .ok (.goto (-99), 3) := dk_167 255 157 (dk_at dksX0_bestNarrower_4 8 rfl rfl)
theorem dX0_bestNarrower_106 : decode cX0_bestNarrower 106 = .ok (.iload_n 1, 1) := dk_27 (dk_at dksX0_bestNarrower_4 11 rfl rfl)
theorem dX0_bestNarrower_107 : decode cX0_bestNarrower 107 = .ok (.iconst (-1), 1) := dk_2 (dk_at dksX0_bestNarrower_4 12 rfl rfl)
theorem dX0_bestNarrower_108 : decode cX0_bestNarrower 108 = .ok (.if_icmp .eq 16, 3) := dk_159 0 16 (dk_at dksX0_bestNarrower_4 13 rfl rfl)
theorem dX0_bestNarrower_111 : decode cX0_bestNarrower 111 = .ok (.aload_n 0, 1) := dk_42 (dk_at dksX0_bestNarrower_4 16 rfl rfl)
theorem dX0_bestNarrower_112 : decode cX0_bestNarrower 112 = .ok (.getfield 53, 3) := dk_180 0 53 (dk_at dksX0_bestNarrower_4 17 rfl rfl)
theorem dX0_bestNarrower_115 : decode cX0_bestNarrower 115 = .ok (.getfield 289, 3) := dk_180 1 33 (dk_at dksX0_bestNarrower_4 20 rfl rfl)
theorem dX0_bestNarrower_118 : decode cX0_bestNarrower 118 = .ok (.iload_n 1, 1) := dk_27 (dk_at dksX0_bestNarrower_4 23 rfl rfl)
theorem dX0_bestNarrower_119 : decode cX0_bestNarrower 119 = .ok (.dup2, 1) := dk_92 (dk_at dksX0_bestNarrower_5 0 rfl rfl)
theorem dX0_bestNarrower_120 : decode cX0_bestNarrower 120 = .ok (.iaload, 1) := dk_46 (dk_at dksX0_bestNarrower_5 1 rfl rfl)
theorem dX0_bestNarrower_121 : decode cX0_bestNarrower 121 = .ok (.iconst 1, 1) := dk_4 (dk_at dksX0_bestNarrower_5 2 rfl rfl)
theorem dX0_bestNarrower_122 : decode cX0_bestNarrower 122 = .ok (.isub, 1) := dk_100 (dk_at dksX0_bestNarrower_5 3 rfl rfl)
theorem dX0_bestNarrower_123 : decode cX0_bestNarrower 123 = .ok (.iastore, 1) := dk_79 (dk_at dksX0_bestNarrower_5 4 rfl rfl)
theorem dX0_bestNarrower_124 : decode cX0_bestNarrower 124 = .ok (.iload_n 1, 1) := dk_27 (dk_at dksX0_bestNarrower_5 5 rfl rfl)
theorem dX0_bestNarrower_125 : decode cX0_bestNarrower 125 = .ok (.ireturn, 1) := dk_172 (dk_at dksX0_bestNarrower_5 6 rfl rfl)
abbrev cX0_slim : ByteArray := prog_1_method_74_code
def yX0_slim : MethodName := ⟨RX0, "slim", "(I)I"⟩
def dkwX0_slim_1 : List UInt8 := [180, 0, 53, 180, 1, 33, 27, 46, 172]
abbrev dktX0_slim_1 : List UInt8 := dkwX0_slim_1 ++ []
def dkwX0_slim_0 : List UInt8 := [42, 27, 182, 0, 167, 154, 0, 6, 16, 254, 172, 42, 182, 1, 74, 2, 160, 0, 7, 2, 167, 0, 12, 42]
abbrev dktX0_slim_0 : List UInt8 := dkwX0_slim_0 ++ dktX0_slim_1
theorem dksX0_slim_0 : cX0_slim.data.toList.drop 0 = dktX0_slim_0 := by decide +kernel
theorem dksX0_slim_1 : cX0_slim.data.toList.drop 24 = dktX0_slim_1 := dk_seg dksX0_slim_0 24 rfl rfl
theorem dX0_slim_0 : decode cX0_slim 0 = .ok (.aload_n 0, 1) := dk_42 (dk_at dksX0_slim_0 0 rfl rfl)
theorem dX0_slim_1 : decode cX0_slim 1 = .ok (.iload_n 1, 1) := dk_27 (dk_at dksX0_slim_0 1 rfl rfl)
theorem dX0_slim_2 : decode cX0_slim 2 = .ok (.invokevirtual 167, 3) := dk_182 0 167 (dk_at dksX0_slim_0 2 rfl rfl)
theorem dX0_slim_5 : decode cX0_slim 5 = .ok (.ifCond .ne 6, 3) := dk_154 0 6 (dk_at dksX0_slim_0 5 rfl rfl)
theorem dX0_slim_8 : decode cX0_slim 8 = .ok (.bipush (-2), 2) := dk_16 254 (dk_at dksX0_slim_0 8 rfl rfl)
theorem dX0_slim_10 : decode cX0_slim 10 = .ok (.ireturn, 1) := dk_172 (dk_at dksX0_slim_0 10 rfl rfl)
theorem dX0_slim_11 : decode cX0_slim 11 = .ok (.aload_n 0, 1) := dk_42 (dk_at dksX0_slim_0 11 rfl rfl)
theorem dX0_slim_12 : decode cX0_slim 12 = .ok (.invokevirtual 330, 3) := dk_182 1 74 (dk_at dksX0_slim_0 12 rfl rfl)
theorem dX0_slim_15 : decode cX0_slim 15 = .ok (.iconst (-1), 1) := dk_2 (dk_at dksX0_slim_0 15 rfl rfl)
theorem dX0_slim_16 : decode cX0_slim 16 = .ok (.if_icmp .ne 7, 3) := dk_160 0 7 (dk_at dksX0_slim_0 16 rfl rfl)
theorem dX0_slim_19 : decode cX0_slim 19 = .ok (.iconst (-1), 1) := dk_2 (dk_at dksX0_slim_0 19 rfl rfl)
theorem dX0_slim_20 : decode cX0_slim 20 = .ok (.goto 12, 3) := dk_167 0 12 (dk_at dksX0_slim_0 20 rfl rfl)
theorem dX0_slim_23 : decode cX0_slim 23 = .ok (.aload_n 0, 1) := dk_42 (dk_at dksX0_slim_0 23 rfl rfl)
theorem dX0_slim_24 : decode cX0_slim 24 = .ok (.getfield 53, 3) := dk_180 0 53 (dk_at dksX0_slim_1 0 rfl rfl)
theorem dX0_slim_27 : decode cX0_slim 27 = .ok (.getfield 289, 3) := dk_180 1 33 (dk_at dksX0_slim_1 3 rfl rfl)
theorem dX0_slim_30 : decode cX0_slim 30 = .ok (.iload_n 1, 1) := dk_27 (dk_at dksX0_slim_1 6 rfl rfl)
theorem dX0_slim_31 : decode cX0_slim 31 = .ok (.iaload, 1) := dk_46 (dk_at dksX0_slim_1 7 rfl rfl)
theorem dX0_slim_32 : decode cX0_slim 32 = .ok (.ireturn, 1) := dk_172 (dk_at dksX0_slim_1 8 rfl rfl)
abbrev cX0_without : ByteArray := prog_1_method_76_code
def yX0_without : MethodName := ⟨RX0, "without", "(II)J"⟩
def dkwX0_without_1 : List UInt8 := [182, 0, 120, 42, 180, 0, 53, 180, 0, 128, 28, 184, 0, 219, 173]
abbrev dktX0_without_1 : List UInt8 := dkwX0_without_1 ++ []
def dkwX0_without_0 : List UInt8 := [42, 27, 182, 0, 167, 153, 0, 10, 28, 184, 0, 211, 154, 0, 7, 20, 0, 214, 173, 42, 27, 182, 1, 77]
abbrev dktX0_without_0 : List UInt8 := dkwX0_without_0 ++ dktX0_without_1
theorem dksX0_without_0 : cX0_without.data.toList.drop 0 = dktX0_without_0 := by decide +kernel
theorem dksX0_without_1 : cX0_without.data.toList.drop 24 = dktX0_without_1 := dk_seg dksX0_without_0 24 rfl rfl
theorem dX0_without_0 : decode cX0_without 0 = .ok (.aload_n 0, 1) := dk_42 (dk_at dksX0_without_0 0 rfl rfl)
theorem dX0_without_1 : decode cX0_without 1 = .ok (.iload_n 1, 1) := dk_27 (dk_at dksX0_without_0 1 rfl rfl)
theorem dX0_without_2 : decode cX0_without 2 = .ok (.invokevirtual 167, 3) := dk_182 0 167 (dk_at dksX0_without_0 2 rfl rfl)
theorem dX0_without_5 : decode cX0_without 5 = .ok (.ifCond .eq 10, 3) := dk_153 0 10 (dk_at dksX0_without_0 5 rfl rfl)
theorem dX0_without_8 : decode cX0_without 8 = .ok (.iload_n 2, 1) := dk_28 (dk_at dksX0_without_0 8 rfl rfl)
theorem dX0_without_9 : decode cX0_without 9 = .ok (.invokestatic 211, 3) := dk_184 0 211 (dk_at dksX0_without_0 9 rfl rfl)
theorem dX0_without_12 : decode cX0_without 12 = .ok (.ifCond .ne 7, 3) := dk_154 0 7 (dk_at dksX0_without_0 12 rfl rfl)
theorem dX0_without_15 : decode cX0_without 15 = .ok (.ldc2_w 214, 3) := dk_20 0 214 (dk_at dksX0_without_0 15 rfl rfl)
theorem dX0_without_18 : decode cX0_without 18 = .ok (.lreturn, 1) := dk_173 (dk_at dksX0_without_0 18 rfl rfl)
theorem dX0_without_19 : decode cX0_without 19 = .ok (.aload_n 0, 1) := dk_42 (dk_at dksX0_without_0 19 rfl rfl)
theorem dX0_without_20 : decode cX0_without 20 = .ok (.iload_n 1, 1) := dk_27 (dk_at dksX0_without_0 20 rfl rfl)
theorem dX0_without_21 : decode cX0_without 21 = .ok (.invokevirtual 333, 3) := dk_182 1 77 (dk_at dksX0_without_0 21 rfl rfl)
theorem dX0_without_24 : decode cX0_without 24 = .ok (.invokevirtual 120, 3) := dk_182 0 120 (dk_at dksX0_without_1 0 rfl rfl)
theorem dX0_without_27 : decode cX0_without 27 = .ok (.aload_n 0, 1) := dk_42 (dk_at dksX0_without_1 3 rfl rfl)
theorem dX0_without_28 : decode cX0_without 28 = .ok (.getfield 53, 3) := dk_180 0 53 (dk_at dksX0_without_1 4 rfl rfl)
theorem dX0_without_31 : decode cX0_without 31 = .ok (.getfield 128, 3) := dk_180 0 128 (dk_at dksX0_without_1 7 rfl rfl)
theorem dX0_without_34 : decode cX0_without 34 = .ok (.iload_n 2, 1) := dk_28 (dk_at dksX0_without_1 10 rfl rfl)
theorem dX0_without_35 : decode cX0_without 35 = .ok (.invokestatic 219, 3) := dk_184 0 219 (dk_at dksX0_without_1 11 rfl rfl)
theorem dX0_without_38 : decode cX0_without 38 = .ok (.lreturn, 1) := dk_173 (dk_at dksX0_without_1 14 rfl rfl)
abbrev cX0_without_2 : ByteArray := prog_1_method_75_code
def yX0_without_2 : MethodName := ⟨RX0, "without", "(I)LSupplyGrid$Solved;"⟩
def dkwX0_without_2_1 : List UInt8 := [176]
abbrev dktX0_without_2_1 : List UInt8 := dkwX0_without_2_1 ++ []
def dkwX0_without_2_0 : List UInt8 := [42, 180, 0, 53, 182, 0, 107, 42, 180, 0, 53, 180, 1, 33, 27, 3, 79, 42, 180, 0, 53, 182, 0, 110]
abbrev dktX0_without_2_0 : List UInt8 := dkwX0_without_2_0 ++ dktX0_without_2_1
theorem dksX0_without_2_0 : cX0_without_2.data.toList.drop 0 = dktX0_without_2_0 := by decide +kernel
theorem dksX0_without_2_1 : cX0_without_2.data.toList.drop 24 = dktX0_without_2_1 := dk_seg dksX0_without_2_0 24 rfl rfl
theorem dX0_without_2_0 : decode cX0_without_2 0 = .ok (.aload_n 0, 1) := dk_42 (dk_at dksX0_without_2_0 0 rfl rfl)
theorem dX0_without_2_1 : decode cX0_without_2 1 = .ok (.getfield 53, 3) := dk_180 0 53 (dk_at dksX0_without_2_0 1 rfl rfl)
theorem dX0_without_2_4 : decode cX0_without_2 4 = .ok (.invokevirtual 107, 3) := dk_182 0 107 (dk_at dksX0_without_2_0 4 rfl rfl)
theorem dX0_without_2_7 : decode cX0_without_2 7 = .ok (.aload_n 0, 1) := dk_42 (dk_at dksX0_without_2_0 7 rfl rfl)
theorem dX0_without_2_8 : decode cX0_without_2 8 = .ok (.getfield 53, 3) := dk_180 0 53 (dk_at dksX0_without_2_0 8 rfl rfl)
theorem dX0_without_2_11 : decode cX0_without_2 11 = .ok (.getfield 289, 3) := dk_180 1 33 (dk_at dksX0_without_2_0 11 rfl rfl)
theorem dX0_without_2_14 : decode cX0_without_2 14 = .ok (.iload_n 1, 1) := dk_27 (dk_at dksX0_without_2_0 14 rfl rfl)
theorem dX0_without_2_15 : decode cX0_without_2 15 = .ok (.iconst 0, 1) := dk_3 (dk_at dksX0_without_2_0 15 rfl rfl)
theorem dX0_without_2_16 : decode cX0_without_2 16 = .ok (.iastore, 1) := dk_79 (dk_at dksX0_without_2_0 16 rfl rfl)
theorem dX0_without_2_17 : decode cX0_without_2 17 = .ok (.aload_n 0, 1) := dk_42 (dk_at dksX0_without_2_0 17 rfl rfl)
theorem dX0_without_2_18 : decode cX0_without_2 18 = .ok (.getfield 53, 3) := dk_180 0 53 (dk_at dksX0_without_2_0 18 rfl rfl)
theorem dX0_without_2_21 : decode cX0_without_2 21 = .ok (.invokevirtual 110, 3) := dk_182 0 110 (dk_at dksX0_without_2_0 21 rfl rfl)
theorem dX0_without_2_24 : decode cX0_without_2 24 = .ok (.areturn, 1) := dk_176 (dk_at dksX0_without_2_1 0 rfl rfl)
abbrev cX0_lost : ByteArray := prog_1_method_77_code
def yX0_lost : MethodName := ⟨RX0, "lost", "(I)I"⟩
def dkwX0_lost_0 : List UInt8 := [42, 27, 182, 0, 167, 153, 0, 14, 42, 27, 182, 1, 77, 182, 0, 164, 167, 0, 5, 16, 254, 172]
abbrev dktX0_lost_0 : List UInt8 := dkwX0_lost_0 ++ []
theorem dksX0_lost_0 : cX0_lost.data.toList.drop 0 = dktX0_lost_0 := by decide +kernel
theorem dX0_lost_0 : decode cX0_lost 0 = .ok (.aload_n 0, 1) := dk_42 (dk_at dksX0_lost_0 0 rfl rfl)
theorem dX0_lost_1 : decode cX0_lost 1 = .ok (.iload_n 1, 1) := dk_27 (dk_at dksX0_lost_0 1 rfl rfl)
theorem dX0_lost_2 : decode cX0_lost 2 = .ok (.invokevirtual 167, 3) := dk_182 0 167 (dk_at dksX0_lost_0 2 rfl rfl)
theorem dX0_lost_5 : decode cX0_lost 5 = .ok (.ifCond .eq 14, 3) := dk_153 0 14 (dk_at dksX0_lost_0 5 rfl rfl)
theorem dX0_lost_8 : decode cX0_lost 8 = .ok (.aload_n 0, 1) := dk_42 (dk_at dksX0_lost_0 8 rfl rfl)
theorem dX0_lost_9 : decode cX0_lost 9 = .ok (.iload_n 1, 1) := dk_27 (dk_at dksX0_lost_0 9 rfl rfl)
theorem dX0_lost_10 : decode cX0_lost 10 = .ok (.invokevirtual 333, 3) := dk_182 1 77 (dk_at dksX0_lost_0 10 rfl rfl)
theorem dX0_lost_13 : decode cX0_lost 13 = .ok (.invokevirtual 164, 3) := dk_182 0 164 (dk_at dksX0_lost_0 13 rfl rfl)
theorem dX0_lost_16 : decode cX0_lost 16 = .ok (.goto 5, 3) := dk_167 0 5 (dk_at dksX0_lost_0 16 rfl rfl)
theorem dX0_lost_19 : decode cX0_lost 19 = .ok (.bipush (-2), 2) := dk_16 254 (dk_at dksX0_lost_0 19 rfl rfl)
theorem dX0_lost_21 : decode cX0_lost 21 = .ok (.ireturn, 1) := dk_172 (dk_at dksX0_lost_0 21 rfl rfl)
abbrev cX0_vital : ByteArray := prog_1_method_78_code
def yX0_vital : MethodName := ⟨RX0, "vital", "()I"⟩
def dkwX0_vital_3 : List UInt8 := [182, 1, 43, 132, 2, 1, 167, 255, 198, 27, 172]
abbrev dktX0_vital_3 : List UInt8 := dkwX0_vital_3 ++ []
def dkwX0_vital_2 : List UInt8 := [182, 1, 77, 78, 27, 2, 159, 0, 14, 42, 45, 182, 1, 80, 154, 0, 6, 167, 0, 10, 28, 60, 42, 45]
abbrev dktX0_vital_2 : List UInt8 := dkwX0_vital_2 ++ dktX0_vital_3
def dkwX0_vital_1 : List UInt8 := [180, 0, 104, 162, 0, 53, 42, 180, 0, 28, 180, 0, 177, 28, 46, 154, 0, 6, 167, 0, 32, 42, 28]
abbrev dktX0_vital_1 : List UInt8 := dkwX0_vital_1 ++ dktX0_vital_2
def dkwX0_vital_0 : List UInt8 := [42, 180, 0, 28, 182, 0, 158, 154, 0, 6, 16, 254, 172, 2, 60, 3, 61, 28, 42, 180, 0, 28]
abbrev dktX0_vital_0 : List UInt8 := dkwX0_vital_0 ++ dktX0_vital_1
theorem dksX0_vital_0 : cX0_vital.data.toList.drop 0 = dktX0_vital_0 := by decide +kernel
theorem dksX0_vital_1 : cX0_vital.data.toList.drop 22 = dktX0_vital_1 := dk_seg dksX0_vital_0 22 rfl rfl
theorem dksX0_vital_2 : cX0_vital.data.toList.drop 45 = dktX0_vital_2 := dk_seg dksX0_vital_1 23 rfl rfl
theorem dksX0_vital_3 : cX0_vital.data.toList.drop 69 = dktX0_vital_3 := dk_seg dksX0_vital_2 24 rfl rfl
theorem dX0_vital_0 : decode cX0_vital 0 = .ok (.aload_n 0, 1) := dk_42 (dk_at dksX0_vital_0 0 rfl rfl)
theorem dX0_vital_1 : decode cX0_vital 1 = .ok (.getfield 28, 3) := dk_180 0 28 (dk_at dksX0_vital_0 1 rfl rfl)
theorem dX0_vital_4 : decode cX0_vital 4 = .ok (.invokevirtual 158, 3) := dk_182 0 158 (dk_at dksX0_vital_0 4 rfl rfl)
theorem dX0_vital_7 : decode cX0_vital 7 = .ok (.ifCond .ne 6, 3) := dk_154 0 6 (dk_at dksX0_vital_0 7 rfl rfl)
theorem dX0_vital_10 : decode cX0_vital 10 = .ok (.bipush (-2), 2) := dk_16 254 (dk_at dksX0_vital_0 10 rfl rfl)
theorem dX0_vital_12 : decode cX0_vital 12 = .ok (.ireturn, 1) := dk_172 (dk_at dksX0_vital_0 12 rfl rfl)
theorem dX0_vital_13 : decode cX0_vital 13 = .ok (.iconst (-1), 1) := dk_2 (dk_at dksX0_vital_0 13 rfl rfl)
theorem dX0_vital_14 : decode cX0_vital 14 = .ok (.istore_n 1, 1) := dk_60 (dk_at dksX0_vital_0 14 rfl rfl)
theorem dX0_vital_15 : decode cX0_vital 15 = .ok (.iconst 0, 1) := dk_3 (dk_at dksX0_vital_0 15 rfl rfl)
theorem dX0_vital_16 : decode cX0_vital 16 = .ok (.istore_n 2, 1) := dk_61 (dk_at dksX0_vital_0 16 rfl rfl)
theorem dX0_vital_17 : decode cX0_vital 17 = .ok (.iload_n 2, 1) := dk_28 (dk_at dksX0_vital_0 17 rfl rfl)
theorem dX0_vital_18 : decode cX0_vital 18 = .ok (.aload_n 0, 1) := dk_42 (dk_at dksX0_vital_0 18 rfl rfl)
theorem dX0_vital_19 : decode cX0_vital 19 = .ok (.getfield 28, 3) := dk_180 0 28 (dk_at dksX0_vital_0 19 rfl rfl)
theorem dX0_vital_22 : decode cX0_vital 22 = .ok (.getfield 104, 3) := dk_180 0 104 (dk_at dksX0_vital_1 0 rfl rfl)
theorem dX0_vital_25 : decode cX0_vital 25 = .ok (.if_icmp .ge 53, 3) := dk_162 0 53 (dk_at dksX0_vital_1 3 rfl rfl)
theorem dX0_vital_28 : decode cX0_vital 28 = .ok (.aload_n 0, 1) := dk_42 (dk_at dksX0_vital_1 6 rfl rfl)
theorem dX0_vital_29 : decode cX0_vital 29 = .ok (.getfield 28, 3) := dk_180 0 28 (dk_at dksX0_vital_1 7 rfl rfl)
theorem dX0_vital_32 : decode cX0_vital 32 = .ok (.getfield 177, 3) := dk_180 0 177 (dk_at dksX0_vital_1 10 rfl rfl)
theorem dX0_vital_35 : decode cX0_vital 35 = .ok (.iload_n 2, 1) := dk_28 (dk_at dksX0_vital_1 13 rfl rfl)
theorem dX0_vital_36 : decode cX0_vital 36 = .ok (.iaload, 1) := dk_46 (dk_at dksX0_vital_1 14 rfl rfl)
theorem dX0_vital_37 : decode cX0_vital 37 = .ok (.ifCond .ne 6, 3) := dk_154 0 6 (dk_at dksX0_vital_1 15 rfl rfl)
theorem dX0_vital_40 : decode cX0_vital 40 = .ok (.goto 32, 3) := dk_167 0 32 (dk_at dksX0_vital_1 18 rfl rfl)
theorem dX0_vital_43 : decode cX0_vital 43 = .ok (.aload_n 0, 1) := dk_42 (dk_at dksX0_vital_1 21 rfl rfl)
theorem dX0_vital_44 : decode cX0_vital 44 = .ok (.iload_n 2, 1) := dk_28 (dk_at dksX0_vital_1 22 rfl rfl)
theorem dX0_vital_45 : decode cX0_vital 45 = .ok (.invokevirtual 333, 3) := dk_182 1 77 (dk_at dksX0_vital_2 0 rfl rfl)
theorem dX0_vital_48 : decode cX0_vital 48 = .ok (.astore_n 3, 1) := dk_78 (dk_at dksX0_vital_2 3 rfl rfl)
theorem dX0_vital_49 : decode cX0_vital 49 = .ok (.iload_n 1, 1) := dk_27 (dk_at dksX0_vital_2 4 rfl rfl)
theorem dX0_vital_50 : decode cX0_vital 50 = .ok (.iconst (-1), 1) := dk_2 (dk_at dksX0_vital_2 5 rfl rfl)
theorem dX0_vital_51 : decode cX0_vital 51 = .ok (.if_icmp .eq 14, 3) := dk_159 0 14 (dk_at dksX0_vital_2 6 rfl rfl)
theorem dX0_vital_54 : decode cX0_vital 54 = .ok (.aload_n 0, 1) := dk_42 (dk_at dksX0_vital_2 9 rfl rfl)
theorem dX0_vital_55 : decode cX0_vital 55 = .ok (.aload_n 3, 1) := dk_45 (dk_at dksX0_vital_2 10 rfl rfl)
theorem dX0_vital_56 : decode cX0_vital 56 = .ok (.invokevirtual 336, 3) := dk_182 1 80 (dk_at dksX0_vital_2 11 rfl rfl)
theorem dX0_vital_59 : decode cX0_vital 59 = .ok (.ifCond .ne 6, 3) := dk_154 0 6 (dk_at dksX0_vital_2 14 rfl rfl)
theorem dX0_vital_62 : decode cX0_vital 62 = .ok (.goto 10, 3) := dk_167 0 10 (dk_at dksX0_vital_2 17 rfl rfl)
theorem dX0_vital_65 : decode cX0_vital 65 = .ok (.iload_n 2, 1) := dk_28 (dk_at dksX0_vital_2 20 rfl rfl)
theorem dX0_vital_66 : decode cX0_vital 66 = .ok (.istore_n 1, 1) := dk_60 (dk_at dksX0_vital_2 21 rfl rfl)
theorem dX0_vital_67 : decode cX0_vital 67 = .ok (.aload_n 0, 1) := dk_42 (dk_at dksX0_vital_2 22 rfl rfl)
theorem dX0_vital_68 : decode cX0_vital 68 = .ok (.aload_n 3, 1) := dk_45 (dk_at dksX0_vital_2 23 rfl rfl)
theorem dX0_vital_69 : decode cX0_vital 69 = .ok (.invokevirtual 299, 3) := dk_182 1 43 (dk_at dksX0_vital_3 0 rfl rfl)
theorem dX0_vital_72 : decode cX0_vital 72 = .ok (.iinc 2 1, 3) := dk_132 2 1 (dk_at dksX0_vital_3 3 rfl rfl)
theorem dX0_vital_75 : decode cX0_vital 75 = .ok (.goto (-58), 3) := dk_167 255 198 (dk_at dksX0_vital_3 6 rfl rfl)
theorem dX0_vital_78 : decode cX0_vital 78 = .ok (.iload_n 1, 1) := dk_27 (dk_at dksX0_vital_3 9 rfl rfl)
theorem dX0_vital_79 : decode cX0_vital 79 = .ok (.ireturn, 1) := dk_172 (dk_at dksX0_vital_3 10 rfl rfl)
abbrev cX0_isWorse : ByteArray := prog_1_method_17_code
def yX0_isWorse : MethodName := ⟨RX0, "isWorse", "(LSupplyGrid$Solved;)Z"⟩
def dkwX0_isWorse_2 : List UInt8 := [184, 0, 15, 172]
abbrev dktX0_isWorse_2 : List UInt8 := dkwX0_isWorse_2 ++ []
def dkwX0_isWorse_1 : List UInt8 := [167, 0, 26, 3, 167, 0, 22, 43, 182, 0, 120, 43, 180, 0, 128, 42, 180, 0, 124, 42, 180, 0, 131]
abbrev dktX0_isWorse_1 : List UInt8 := dkwX0_isWorse_1 ++ dktX0_isWorse_2
def dkwX0_isWorse_0 : List UInt8 := [43, 182, 0, 114, 42, 180, 0, 117, 159, 0, 22, 43, 182, 0, 114, 42, 180, 0, 117, 164, 0, 7, 4]
abbrev dktX0_isWorse_0 : List UInt8 := dkwX0_isWorse_0 ++ dktX0_isWorse_1
theorem dksX0_isWorse_0 : cX0_isWorse.data.toList.drop 0 = dktX0_isWorse_0 := by decide +kernel
theorem dksX0_isWorse_1 : cX0_isWorse.data.toList.drop 23 = dktX0_isWorse_1 := dk_seg dksX0_isWorse_0 23 rfl rfl
theorem dksX0_isWorse_2 : cX0_isWorse.data.toList.drop 46 = dktX0_isWorse_2 := dk_seg dksX0_isWorse_1 23 rfl rfl
theorem dX0_isWorse_0 : decode cX0_isWorse 0 = .ok (.aload_n 1, 1) := dk_43 (dk_at dksX0_isWorse_0 0 rfl rfl)
theorem dX0_isWorse_1 : decode cX0_isWorse 1 = .ok (.invokevirtual 114, 3) := dk_182 0 114 (dk_at dksX0_isWorse_0 1 rfl rfl)
theorem dX0_isWorse_4 : decode cX0_isWorse 4 = .ok (.aload_n 0, 1) := dk_42 (dk_at dksX0_isWorse_0 4 rfl rfl)
theorem dX0_isWorse_5 : decode cX0_isWorse 5 = .ok (.getfield 117, 3) := dk_180 0 117 (dk_at dksX0_isWorse_0 5 rfl rfl)
theorem dX0_isWorse_8 : decode cX0_isWorse 8 = .ok (.if_icmp .eq 22, 3) := dk_159 0 22 (dk_at dksX0_isWorse_0 8 rfl rfl)
theorem dX0_isWorse_11 : decode cX0_isWorse 11 = .ok (.aload_n 1, 1) := dk_43 (dk_at dksX0_isWorse_0 11 rfl rfl)
theorem dX0_isWorse_12 : decode cX0_isWorse 12 = .ok (.invokevirtual 114, 3) := dk_182 0 114 (dk_at dksX0_isWorse_0 12 rfl rfl)
theorem dX0_isWorse_15 : decode cX0_isWorse 15 = .ok (.aload_n 0, 1) := dk_42 (dk_at dksX0_isWorse_0 15 rfl rfl)
theorem dX0_isWorse_16 : decode cX0_isWorse 16 = .ok (.getfield 117, 3) := dk_180 0 117 (dk_at dksX0_isWorse_0 16 rfl rfl)
theorem dX0_isWorse_19 : decode cX0_isWorse 19 = .ok (.if_icmp .le 7, 3) := dk_164 0 7 (dk_at dksX0_isWorse_0 19 rfl rfl)
theorem dX0_isWorse_22 : decode cX0_isWorse 22 = .ok (.iconst 1, 1) := dk_4 (dk_at dksX0_isWorse_0 22 rfl rfl)
theorem dX0_isWorse_23 : decode cX0_isWorse 23 = .ok (.goto 26, 3) := dk_167 0 26 (dk_at dksX0_isWorse_1 0 rfl rfl)
theorem dX0_isWorse_26 : decode cX0_isWorse 26 = .ok (.iconst 0, 1) := dk_3 (dk_at dksX0_isWorse_1 3 rfl rfl)
theorem dX0_isWorse_27 : decode cX0_isWorse 27 = .ok (.goto 22, 3) := dk_167 0 22 (dk_at dksX0_isWorse_1 4 rfl rfl)
theorem dX0_isWorse_30 : decode cX0_isWorse 30 = .ok (.aload_n 1, 1) := dk_43 (dk_at dksX0_isWorse_1 7 rfl rfl)
theorem dX0_isWorse_31 : decode cX0_isWorse 31 = .ok (.invokevirtual 120, 3) := dk_182 0 120 (dk_at dksX0_isWorse_1 8 rfl rfl)
theorem dX0_isWorse_34 : decode cX0_isWorse 34 = .ok (.aload_n 1, 1) := dk_43 (dk_at dksX0_isWorse_1 11 rfl rfl)
theorem dX0_isWorse_35 : decode cX0_isWorse 35 = .ok (.getfield 128, 3) := dk_180 0 128 (dk_at dksX0_isWorse_1 12 rfl rfl)
theorem dX0_isWorse_38 : decode cX0_isWorse 38 = .ok (.aload_n 0, 1) := dk_42 (dk_at dksX0_isWorse_1 15 rfl rfl)
theorem dX0_isWorse_39 : decode cX0_isWorse 39 = .ok (.getfield 124, 3) := dk_180 0 124 (dk_at dksX0_isWorse_1 16 rfl rfl)
theorem dX0_isWorse_42 : decode cX0_isWorse 42 = .ok (.aload_n 0, 1) := dk_42 (dk_at dksX0_isWorse_1 19 rfl rfl)
theorem dX0_isWorse_43 : decode cX0_isWorse 43 = .ok (.getfield 131, 3) := dk_180 0 131 (dk_at dksX0_isWorse_1 20 rfl rfl)
theorem dX0_isWorse_46 : decode cX0_isWorse 46 = .ok (.invokestatic 15, 3) := dk_184 0 15 (dk_at dksX0_isWorse_2 0 rfl rfl)
theorem dX0_isWorse_49 : decode cX0_isWorse 49 = .ok (.ireturn, 1) := dk_172 (dk_at dksX0_isWorse_2 3 rfl rfl)
abbrev cX0_spare : ByteArray := prog_1_method_79_code
def yX0_spare : MethodName := ⟨RX0, "spare", "()I"⟩
def dkwX0_spare_2 : List UInt8 := [182, 0, 241, 153, 0, 9, 4, 28, 120, 167, 0, 4, 3, 128, 60, 132, 2, 1, 167, 255, 209, 27, 172]
abbrev dktX0_spare_2 : List UInt8 := dkwX0_spare_2 ++ []
def dkwX0_spare_1 : List UInt8 := [180, 0, 104, 162, 0, 42, 27, 42, 180, 0, 28, 180, 0, 177, 28, 46, 158, 0, 20, 42, 28, 182, 1, 77]
abbrev dktX0_spare_1 : List UInt8 := dkwX0_spare_1 ++ dktX0_spare_2
def dkwX0_spare_0 : List UInt8 := [42, 180, 0, 28, 182, 0, 158, 154, 0, 6, 16, 254, 172, 3, 60, 3, 61, 28, 42, 180, 0, 28]
abbrev dktX0_spare_0 : List UInt8 := dkwX0_spare_0 ++ dktX0_spare_1
theorem dksX0_spare_0 : cX0_spare.data.toList.drop 0 = dktX0_spare_0 := by decide +kernel
theorem dksX0_spare_1 : cX0_spare.data.toList.drop 22 = dktX0_spare_1 := dk_seg dksX0_spare_0 22 rfl rfl
theorem dksX0_spare_2 : cX0_spare.data.toList.drop 46 = dktX0_spare_2 := dk_seg dksX0_spare_1 24 rfl rfl
theorem dX0_spare_0 : decode cX0_spare 0 = .ok (.aload_n 0, 1) := dk_42 (dk_at dksX0_spare_0 0 rfl rfl)
theorem dX0_spare_1 : decode cX0_spare 1 = .ok (.getfield 28, 3) := dk_180 0 28 (dk_at dksX0_spare_0 1 rfl rfl)
theorem dX0_spare_4 : decode cX0_spare 4 = .ok (.invokevirtual 158, 3) := dk_182 0 158 (dk_at dksX0_spare_0 4 rfl rfl)
theorem dX0_spare_7 : decode cX0_spare 7 = .ok (.ifCond .ne 6, 3) := dk_154 0 6 (dk_at dksX0_spare_0 7 rfl rfl)
theorem dX0_spare_10 : decode cX0_spare 10 = .ok (.bipush (-2), 2) := dk_16 254 (dk_at dksX0_spare_0 10 rfl rfl)
theorem dX0_spare_12 : decode cX0_spare 12 = .ok (.ireturn, 1) := dk_172 (dk_at dksX0_spare_0 12 rfl rfl)
theorem dX0_spare_13 : decode cX0_spare 13 = .ok (.iconst 0, 1) := dk_3 (dk_at dksX0_spare_0 13 rfl rfl)
theorem dX0_spare_14 : decode cX0_spare 14 = .ok (.istore_n 1, 1) := dk_60 (dk_at dksX0_spare_0 14 rfl rfl)
theorem dX0_spare_15 : decode cX0_spare 15 = .ok (.iconst 0, 1) := dk_3 (dk_at dksX0_spare_0 15 rfl rfl)
theorem dX0_spare_16 : decode cX0_spare 16 = .ok (.istore_n 2, 1) := dk_61 (dk_at dksX0_spare_0 16 rfl rfl)
theorem dX0_spare_17 : decode cX0_spare 17 = .ok (.iload_n 2, 1) := dk_28 (dk_at dksX0_spare_0 17 rfl rfl)
theorem dX0_spare_18 : decode cX0_spare 18 = .ok (.aload_n 0, 1) := dk_42 (dk_at dksX0_spare_0 18 rfl rfl)
theorem dX0_spare_19 : decode cX0_spare 19 = .ok (.getfield 28, 3) := dk_180 0 28 (dk_at dksX0_spare_0 19 rfl rfl)
theorem dX0_spare_22 : decode cX0_spare 22 = .ok (.getfield 104, 3) := dk_180 0 104 (dk_at dksX0_spare_1 0 rfl rfl)
theorem dX0_spare_25 : decode cX0_spare 25 = .ok (.if_icmp .ge 42, 3) := dk_162 0 42 (dk_at dksX0_spare_1 3 rfl rfl)
theorem dX0_spare_28 : decode cX0_spare 28 = .ok (.iload_n 1, 1) := dk_27 (dk_at dksX0_spare_1 6 rfl rfl)
theorem dX0_spare_29 : decode cX0_spare 29 = .ok (.aload_n 0, 1) := dk_42 (dk_at dksX0_spare_1 7 rfl rfl)
theorem dX0_spare_30 : decode cX0_spare 30 = .ok (.getfield 28, 3) := dk_180 0 28 (dk_at dksX0_spare_1 8 rfl rfl)
theorem dX0_spare_33 : decode cX0_spare 33 = .ok (.getfield 177, 3) := dk_180 0 177 (dk_at dksX0_spare_1 11 rfl rfl)
theorem dX0_spare_36 : decode cX0_spare 36 = .ok (.iload_n 2, 1) := dk_28 (dk_at dksX0_spare_1 14 rfl rfl)
theorem dX0_spare_37 : decode cX0_spare 37 = .ok (.iaload, 1) := dk_46 (dk_at dksX0_spare_1 15 rfl rfl)
theorem dX0_spare_38 : decode cX0_spare 38 = .ok (.ifCond .le 20, 3) := dk_158 0 20 (dk_at dksX0_spare_1 16 rfl rfl)
theorem dX0_spare_41 : decode cX0_spare 41 = .ok (.aload_n 0, 1) := dk_42 (dk_at dksX0_spare_1 19 rfl rfl)
theorem dX0_spare_42 : decode cX0_spare 42 = .ok (.iload_n 2, 1) := dk_28 (dk_at dksX0_spare_1 20 rfl rfl)
theorem dX0_spare_43 : decode cX0_spare 43 = .ok (.invokevirtual 333, 3) := dk_182 1 77 (dk_at dksX0_spare_1 21 rfl rfl)
theorem dX0_spare_46 : decode cX0_spare 46 = .ok (.invokevirtual 241, 3) := dk_182 0 241 (dk_at dksX0_spare_2 0 rfl rfl)
theorem dX0_spare_49 : decode cX0_spare 49 = .ok (.ifCond .eq 9, 3) := dk_153 0 9 (dk_at dksX0_spare_2 3 rfl rfl)
theorem dX0_spare_52 : decode cX0_spare 52 = .ok (.iconst 1, 1) := dk_4 (dk_at dksX0_spare_2 6 rfl rfl)
theorem dX0_spare_53 : decode cX0_spare 53 = .ok (.iload_n 2, 1) := dk_28 (dk_at dksX0_spare_2 7 rfl rfl)
theorem dX0_spare_54 : decode cX0_spare 54 = .ok (.ishl, 1) := dk_120 (dk_at dksX0_spare_2 8 rfl rfl)
theorem dX0_spare_55 : decode cX0_spare 55 = .ok (.goto 4, 3) := dk_167 0 4 (dk_at dksX0_spare_2 9 rfl rfl)
theorem dX0_spare_58 : decode cX0_spare 58 = .ok (.iconst 0, 1) := dk_3 (dk_at dksX0_spare_2 12 rfl rfl)
theorem dX0_spare_59 : decode cX0_spare 59 = .ok (.ior, 1) := dk_128 (dk_at dksX0_spare_2 13 rfl rfl)
theorem dX0_spare_60 : decode cX0_spare 60 = .ok (.istore_n 1, 1) := dk_60 (dk_at dksX0_spare_2 14 rfl rfl)
theorem dX0_spare_61 : decode cX0_spare 61 = .ok (.iinc 2 1, 3) := dk_132 2 1 (dk_at dksX0_spare_2 15 rfl rfl)
theorem dX0_spare_64 : decode cX0_spare 64 = .ok (.goto (-47), 3) := dk_167 255 209 (dk_at dksX0_spare_2 18 rfl rfl)
theorem dX0_spare_67 : decode cX0_spare 67 = .ok (.iload_n 1, 1) := dk_27 (dk_at dksX0_spare_2 21 rfl rfl)
theorem dX0_spare_68 : decode cX0_spare 68 = .ok (.ireturn, 1) := dk_172 (dk_at dksX0_spare_2 22 rfl rfl)
abbrev cX0_pairs : ByteArray := prog_1_method_82_code
def yX0_pairs : MethodName := ⟨RX0, "pairs", "()I"⟩
def dkwX0_pairs_0 : List UInt8 := [42, 180, 0, 28, 182, 0, 158, 153, 0, 11, 42, 2, 182, 1, 86, 167, 0, 5, 16, 254, 172]
abbrev dktX0_pairs_0 : List UInt8 := dkwX0_pairs_0 ++ []
theorem dksX0_pairs_0 : cX0_pairs.data.toList.drop 0 = dktX0_pairs_0 := by decide +kernel
theorem dX0_pairs_0 : decode cX0_pairs 0 = .ok (.aload_n 0, 1) := dk_42 (dk_at dksX0_pairs_0 0 rfl rfl)
theorem dX0_pairs_1 : decode cX0_pairs 1 = .ok (.getfield 28, 3) := dk_180 0 28 (dk_at dksX0_pairs_0 1 rfl rfl)
theorem dX0_pairs_4 : decode cX0_pairs 4 = .ok (.invokevirtual 158, 3) := dk_182 0 158 (dk_at dksX0_pairs_0 4 rfl rfl)
theorem dX0_pairs_7 : decode cX0_pairs 7 = .ok (.ifCond .eq 11, 3) := dk_153 0 11 (dk_at dksX0_pairs_0 7 rfl rfl)
theorem dX0_pairs_10 : decode cX0_pairs 10 = .ok (.aload_n 0, 1) := dk_42 (dk_at dksX0_pairs_0 10 rfl rfl)
theorem dX0_pairs_11 : decode cX0_pairs 11 = .ok (.iconst (-1), 1) := dk_2 (dk_at dksX0_pairs_0 11 rfl rfl)
theorem dX0_pairs_12 : decode cX0_pairs 12 = .ok (.invokevirtual 342, 3) := dk_182 1 86 (dk_at dksX0_pairs_0 12 rfl rfl)
theorem dX0_pairs_15 : decode cX0_pairs 15 = .ok (.goto 5, 3) := dk_167 0 5 (dk_at dksX0_pairs_0 15 rfl rfl)
theorem dX0_pairs_18 : decode cX0_pairs 18 = .ok (.bipush (-2), 2) := dk_16 254 (dk_at dksX0_pairs_0 18 rfl rfl)
theorem dX0_pairs_20 : decode cX0_pairs 20 = .ok (.ireturn, 1) := dk_172 (dk_at dksX0_pairs_0 20 rfl rfl)
abbrev cX0_pairsOf : ByteArray := prog_1_method_81_code
def yX0_pairsOf : MethodName := ⟨RX0, "pairsOf", "(I)I"⟩
def dkwX0_pairsOf_3 : List UInt8 := [167, 255, 190, 27, 2, 160, 0, 7, 28, 167, 0, 4, 2, 172]
abbrev dktX0_pairsOf_3 : List UInt8 := dkwX0_pairsOf_3 ++ []
def dkwX0_pairsOf_2 : List UInt8 := [160, 0, 11, 16, 100, 29, 104, 21, 4, 96, 172, 132, 2, 1, 132, 4, 1, 167, 255, 212, 132, 3, 1]
abbrev dktX0_pairsOf_2 : List UInt8 := dkwX0_pairsOf_2 ++ dktX0_pairsOf_3
def dkwX0_pairsOf_1 : List UInt8 := [180, 0, 28, 180, 0, 104, 162, 0, 38, 42, 29, 21, 4, 182, 1, 83, 154, 0, 6, 167, 0, 19, 28, 27]
abbrev dktX0_pairsOf_1 : List UInt8 := dkwX0_pairsOf_1 ++ dktX0_pairsOf_2
def dkwX0_pairsOf_0 : List UInt8 := [3, 61, 3, 62, 29, 42, 180, 0, 28, 180, 0, 104, 162, 0, 61, 29, 4, 96, 54, 4, 21, 4, 42]
abbrev dktX0_pairsOf_0 : List UInt8 := dkwX0_pairsOf_0 ++ dktX0_pairsOf_1
theorem dksX0_pairsOf_0 : cX0_pairsOf.data.toList.drop 0 = dktX0_pairsOf_0 := by decide +kernel
theorem dksX0_pairsOf_1 : cX0_pairsOf.data.toList.drop 23 = dktX0_pairsOf_1 := dk_seg dksX0_pairsOf_0 23 rfl rfl
theorem dksX0_pairsOf_2 : cX0_pairsOf.data.toList.drop 47 = dktX0_pairsOf_2 := dk_seg dksX0_pairsOf_1 24 rfl rfl
theorem dksX0_pairsOf_3 : cX0_pairsOf.data.toList.drop 70 = dktX0_pairsOf_3 := dk_seg dksX0_pairsOf_2 23 rfl rfl
theorem dX0_pairsOf_0 : decode cX0_pairsOf 0 = .ok (.iconst 0, 1) := dk_3 (dk_at dksX0_pairsOf_0 0 rfl rfl)
theorem dX0_pairsOf_1 : decode cX0_pairsOf 1 = .ok (.istore_n 2, 1) := dk_61 (dk_at dksX0_pairsOf_0 1 rfl rfl)
theorem dX0_pairsOf_2 : decode cX0_pairsOf 2 = .ok (.iconst 0, 1) := dk_3 (dk_at dksX0_pairsOf_0 2 rfl rfl)
theorem dX0_pairsOf_3 : decode cX0_pairsOf 3 = .ok (.istore_n 3, 1) := dk_62 (dk_at dksX0_pairsOf_0 3 rfl rfl)
theorem dX0_pairsOf_4 : decode cX0_pairsOf 4 = .ok (.iload_n 3, 1) := dk_29 (dk_at dksX0_pairsOf_0 4 rfl rfl)
theorem dX0_pairsOf_5 : decode cX0_pairsOf 5 = .ok (.aload_n 0, 1) := dk_42 (dk_at dksX0_pairsOf_0 5 rfl rfl)
theorem dX0_pairsOf_6 : decode cX0_pairsOf 6 = .ok (.getfield 28, 3) := dk_180 0 28 (dk_at dksX0_pairsOf_0 6 rfl rfl)
theorem dX0_pairsOf_9 : decode cX0_pairsOf 9 = .ok (.getfield 104, 3) := dk_180 0 104 (dk_at dksX0_pairsOf_0 9 rfl rfl)
theorem dX0_pairsOf_12 : decode cX0_pairsOf 12 = .ok (.if_icmp .ge 61, 3) := dk_162 0 61 (dk_at dksX0_pairsOf_0 12 rfl rfl)
theorem dX0_pairsOf_15 : decode cX0_pairsOf 15 = .ok (.iload_n 3, 1) := dk_29 (dk_at dksX0_pairsOf_0 15 rfl rfl)
theorem dX0_pairsOf_16 : decode cX0_pairsOf 16 = .ok (.iconst 1, 1) := dk_4 (dk_at dksX0_pairsOf_0 16 rfl rfl)
theorem dX0_pairsOf_17 : decode cX0_pairsOf 17 = .ok (.iadd, 1) := dk_96 (dk_at dksX0_pairsOf_0 17 rfl rfl)
theorem dX0_pairsOf_18 : decode cX0_pairsOf 18 = .ok (.istore 4, 2) := dk_54 4 (dk_at dksX0_pairsOf_0 18 rfl rfl)
theorem dX0_pairsOf_20 : decode cX0_pairsOf 20 = .ok (.iload 4, 2) := dk_21 4 (dk_at dksX0_pairsOf_0 20 rfl rfl)
theorem dX0_pairsOf_22 : decode cX0_pairsOf 22 = .ok (.aload_n 0, 1) := dk_42 (dk_at dksX0_pairsOf_0 22 rfl rfl)
theorem dX0_pairsOf_23 : decode cX0_pairsOf 23 = .ok (.getfield 28, 3) := dk_180 0 28 (dk_at dksX0_pairsOf_1 0 rfl rfl)
theorem dX0_pairsOf_26 : decode cX0_pairsOf 26 = .ok (.getfield 104, 3) := dk_180 0 104 (dk_at dksX0_pairsOf_1 3 rfl rfl)
theorem dX0_pairsOf_29 : decode cX0_pairsOf 29 = .ok (.if_icmp .ge 38, 3) := dk_162 0 38 (dk_at dksX0_pairsOf_1 6 rfl rfl)
theorem dX0_pairsOf_32 : decode cX0_pairsOf 32 = .ok (.aload_n 0, 1) := dk_42 (dk_at dksX0_pairsOf_1 9 rfl rfl)
theorem dX0_pairsOf_33 : decode cX0_pairsOf 33 = .ok (.iload_n 3, 1) := dk_29 (dk_at dksX0_pairsOf_1 10 rfl rfl)
theorem dX0_pairsOf_34 : decode cX0_pairsOf 34 = .ok (.iload 4, 2) := dk_21 4 (dk_at dksX0_pairsOf_1 11 rfl rfl)
theorem dX0_pairsOf_36 : decode cX0_pairsOf 36 = .ok (.invokevirtual 339, 3) := dk_182 1 83 (dk_at dksX0_pairsOf_1 13 rfl rfl)
theorem dX0_pairsOf_39 : decode cX0_pairsOf 39 = .ok (.ifCond .ne 6, 3) := dk_154 0 6 (dk_at dksX0_pairsOf_1 16 rfl rfl)
theorem dX0_pairsOf_42 : decode cX0_pairsOf 42 = .ok (.goto 19, 3) := dk_167 0 19 (dk_at dksX0_pairsOf_1 19 rfl rfl)
theorem dX0_pairsOf_45 : decode cX0_pairsOf 45 = .ok (.iload_n 2, 1) := dk_28 (dk_at dksX0_pairsOf_1 22 rfl rfl)
theorem dX0_pairsOf_46 : decode cX0_pairsOf 46 = .ok (.iload_n 1, 1) := dk_27 (dk_at dksX0_pairsOf_1 23 rfl rfl)
theorem dX0_pairsOf_47 : decode cX0_pairsOf 47 = .ok (.if_icmp .ne 11, 3) := dk_160 0 11 (dk_at dksX0_pairsOf_2 0 rfl rfl)
theorem dX0_pairsOf_50 : decode cX0_pairsOf 50 = .ok (.bipush 100, 2) := dk_16 100 (dk_at dksX0_pairsOf_2 3 rfl rfl)
theorem dX0_pairsOf_52 : decode cX0_pairsOf 52 = .ok (.iload_n 3, 1) := dk_29 (dk_at dksX0_pairsOf_2 5 rfl rfl)
theorem dX0_pairsOf_53 : decode cX0_pairsOf 53 = .ok (.imul, 1) := dk_104 (dk_at dksX0_pairsOf_2 6 rfl rfl)
theorem dX0_pairsOf_54 : decode cX0_pairsOf 54 = .ok (.iload 4, 2) := dk_21 4 (dk_at dksX0_pairsOf_2 7 rfl rfl)
theorem dX0_pairsOf_56 : decode cX0_pairsOf 56 = .ok (.iadd, 1) := dk_96 (dk_at dksX0_pairsOf_2 9 rfl rfl)
theorem dX0_pairsOf_57 : decode cX0_pairsOf 57 = .ok (.ireturn, 1) := dk_172 (dk_at dksX0_pairsOf_2 10 rfl rfl)
theorem dX0_pairsOf_58 : decode cX0_pairsOf 58 = .ok (.iinc 2 1, 3) := dk_132 2 1 (dk_at dksX0_pairsOf_2 11 rfl rfl)
theorem dX0_pairsOf_61 : decode cX0_pairsOf 61 = .ok (.iinc 4 1, 3) := dk_132 4 1 (dk_at dksX0_pairsOf_2 14 rfl rfl)
theorem dX0_pairsOf_64 : decode cX0_pairsOf 64 = .ok (.goto (-44), 3) := dk_167 255 212 (dk_at dksX0_pairsOf_2 17 rfl rfl)
theorem dX0_pairsOf_67 : decode cX0_pairsOf 67 = .ok (.iinc 3 1, 3) := dk_132 3 1 (dk_at dksX0_pairsOf_2 20 rfl rfl)
theorem dX0_pairsOf_70 : decode cX0_pairsOf 70 = .ok (.goto (-66), 3) := dk_167 255 190 (dk_at dksX0_pairsOf_3 0 rfl rfl)
theorem dX0_pairsOf_73 : decode cX0_pairsOf 73 = .ok (.iload_n 1, 1) := dk_27 (dk_at dksX0_pairsOf_3 3 rfl rfl)
theorem dX0_pairsOf_74 : decode cX0_pairsOf 74 = .ok (.iconst (-1), 1) := dk_2 (dk_at dksX0_pairsOf_3 4 rfl rfl)
theorem dX0_pairsOf_75 : decode cX0_pairsOf 75 = .ok (.if_icmp .ne 7, 3) := dk_160 0 7 (dk_at dksX0_pairsOf_3 5 rfl rfl)
theorem dX0_pairsOf_78 : decode cX0_pairsOf 78 = .ok (.iload_n 2, 1) := dk_28 (dk_at dksX0_pairsOf_3 8 rfl rfl)
theorem dX0_pairsOf_79 : decode cX0_pairsOf 79 = .ok (.goto 4, 3) := dk_167 0 4 (dk_at dksX0_pairsOf_3 9 rfl rfl)
theorem dX0_pairsOf_82 : decode cX0_pairsOf 82 = .ok (.iconst (-1), 1) := dk_2 (dk_at dksX0_pairsOf_3 12 rfl rfl)
theorem dX0_pairsOf_83 : decode cX0_pairsOf 83 = .ok (.ireturn, 1) := dk_172 (dk_at dksX0_pairsOf_3 13 rfl rfl)
abbrev cX0_isPair : ByteArray := prog_1_method_80_code
def yX0_isPair : MethodName := ⟨RX0, "isPair", "(II)Z"⟩
def dkwX0_isPair_3 : List UInt8 := [167, 0, 4, 3, 172]
abbrev dktX0_isPair_3 : List UInt8 := dkwX0_isPair_3 ++ []
def dkwX0_isPair_2 : List UInt8 := [42, 180, 0, 53, 180, 1, 33, 27, 3, 79, 42, 180, 0, 53, 182, 0, 110, 182, 0, 241, 154, 0, 7, 4]
abbrev dktX0_isPair_2 : List UInt8 := dkwX0_isPair_2 ++ dktX0_isPair_3
def dkwX0_isPair_1 : List UInt8 := [42, 27, 182, 1, 77, 182, 0, 241, 153, 0, 14, 42, 28, 182, 1, 77, 182, 0, 241, 154, 0, 5, 3, 172]
abbrev dktX0_isPair_1 : List UInt8 := dkwX0_isPair_1 ++ dktX0_isPair_2
def dkwX0_isPair_0 : List UInt8 := [42, 180, 0, 28, 180, 0, 177, 27, 46, 153, 0, 37, 42, 180, 0, 28, 180, 0, 177, 28, 46, 153, 0, 25]
abbrev dktX0_isPair_0 : List UInt8 := dkwX0_isPair_0 ++ dktX0_isPair_1
theorem dksX0_isPair_0 : cX0_isPair.data.toList.drop 0 = dktX0_isPair_0 := by decide +kernel
theorem dksX0_isPair_1 : cX0_isPair.data.toList.drop 24 = dktX0_isPair_1 := dk_seg dksX0_isPair_0 24 rfl rfl
theorem dksX0_isPair_2 : cX0_isPair.data.toList.drop 48 = dktX0_isPair_2 := dk_seg dksX0_isPair_1 24 rfl rfl
theorem dksX0_isPair_3 : cX0_isPair.data.toList.drop 72 = dktX0_isPair_3 := dk_seg dksX0_isPair_2 24 rfl rfl
theorem dX0_isPair_0 : decode cX0_isPair 0 = .ok (.aload_n 0, 1) := dk_42 (dk_at dksX0_isPair_0 0 rfl rfl)
theorem dX0_isPair_1 : decode cX0_isPair 1 = .ok (.getfield 28, 3) := dk_180 0 28 (dk_at dksX0_isPair_0 1 rfl rfl)
theorem dX0_isPair_4 : decode cX0_isPair 4 = .ok (.getfield 177, 3) := dk_180 0 177 (dk_at dksX0_isPair_0 4 rfl rfl)
theorem dX0_isPair_7 : decode cX0_isPair 7 = .ok (.iload_n 1, 1) := dk_27 (dk_at dksX0_isPair_0 7 rfl rfl)
theorem dX0_isPair_8 : decode cX0_isPair 8 = .ok (.iaload, 1) := dk_46 (dk_at dksX0_isPair_0 8 rfl rfl)
theorem dX0_isPair_9 : decode cX0_isPair 9 = .ok (.ifCond .eq 37, 3) := dk_153 0 37 (dk_at dksX0_isPair_0 9 rfl rfl)
theorem dX0_isPair_12 : decode cX0_isPair 12 = .ok (.aload_n 0, 1) := dk_42 (dk_at dksX0_isPair_0 12 rfl rfl)
theorem dX0_isPair_13 : decode cX0_isPair 13 = .ok (.getfield 28, 3) := dk_180 0 28 (dk_at dksX0_isPair_0 13 rfl rfl)
theorem dX0_isPair_16 : decode cX0_isPair 16 = .ok (.getfield 177, 3) := dk_180 0 177 (dk_at dksX0_isPair_0 16 rfl rfl)
theorem dX0_isPair_19 : decode cX0_isPair 19 = .ok (.iload_n 2, 1) := dk_28 (dk_at dksX0_isPair_0 19 rfl rfl)
theorem dX0_isPair_20 : decode cX0_isPair 20 = .ok (.iaload, 1) := dk_46 (dk_at dksX0_isPair_0 20 rfl rfl)
theorem dX0_isPair_21 : decode cX0_isPair 21 = .ok (.ifCond .eq 25, 3) := dk_153 0 25 (dk_at dksX0_isPair_0 21 rfl rfl)
theorem dX0_isPair_24 : decode cX0_isPair 24 = .ok (.aload_n 0, 1) := dk_42 (dk_at dksX0_isPair_1 0 rfl rfl)
theorem dX0_isPair_25 : decode cX0_isPair 25 = .ok (.iload_n 1, 1) := dk_27 (dk_at dksX0_isPair_1 1 rfl rfl)
theorem dX0_isPair_26 : decode cX0_isPair 26 = .ok (.invokevirtual 333, 3) := dk_182 1 77 (dk_at dksX0_isPair_1 2 rfl rfl)
theorem dX0_isPair_29 : decode cX0_isPair 29 = .ok (.invokevirtual 241, 3) := dk_182 0 241 (dk_at dksX0_isPair_1 5 rfl rfl)
theorem dX0_isPair_32 : decode cX0_isPair 32 = .ok (.ifCond .eq 14, 3) := dk_153 0 14 (dk_at dksX0_isPair_1 8 rfl rfl)
theorem dX0_isPair_35 : decode cX0_isPair 35 = .ok (.aload_n 0, 1) := dk_42 (dk_at dksX0_isPair_1 11 rfl rfl)
theorem dX0_isPair_36 : decode cX0_isPair 36 = .ok (.iload_n 2, 1) := dk_28 (dk_at dksX0_isPair_1 12 rfl rfl)
theorem dX0_isPair_37 : decode cX0_isPair 37 = .ok (.invokevirtual 333, 3) := dk_182 1 77 (dk_at dksX0_isPair_1 13 rfl rfl)
theorem dX0_isPair_40 : decode cX0_isPair 40 = .ok (.invokevirtual 241, 3) := dk_182 0 241 (dk_at dksX0_isPair_1 16 rfl rfl)
theorem dX0_isPair_43 : decode cX0_isPair 43 = .ok (.ifCond .ne 5, 3) := dk_154 0 5 (dk_at dksX0_isPair_1 19 rfl rfl)
theorem dX0_isPair_46 : decode cX0_isPair 46 = .ok (.iconst 0, 1) := dk_3 (dk_at dksX0_isPair_1 22 rfl rfl)
theorem dX0_isPair_47 : decode cX0_isPair 47 = .ok (.ireturn, 1) := dk_172 (dk_at dksX0_isPair_1 23 rfl rfl)
theorem dX0_isPair_48 : decode cX0_isPair 48 = .ok (.aload_n 0, 1) := dk_42 (dk_at dksX0_isPair_2 0 rfl rfl)
theorem dX0_isPair_49 : decode cX0_isPair 49 = .ok (.getfield 53, 3) := dk_180 0 53 (dk_at dksX0_isPair_2 1 rfl rfl)
theorem dX0_isPair_52 : decode cX0_isPair 52 = .ok (.getfield 289, 3) := dk_180 1 33 (dk_at dksX0_isPair_2 4 rfl rfl)
theorem dX0_isPair_55 : decode cX0_isPair 55 = .ok (.iload_n 1, 1) := dk_27 (dk_at dksX0_isPair_2 7 rfl rfl)
theorem dX0_isPair_56 : decode cX0_isPair 56 = .ok (.iconst 0, 1) := dk_3 (dk_at dksX0_isPair_2 8 rfl rfl)
theorem dX0_isPair_57 : decode cX0_isPair 57 = .ok (.iastore, 1) := dk_79 (dk_at dksX0_isPair_2 9 rfl rfl)
theorem dX0_isPair_58 : decode cX0_isPair 58 = .ok (.aload_n 0, 1) := dk_42 (dk_at dksX0_isPair_2 10 rfl rfl)
theorem dX0_isPair_59 : decode cX0_isPair 59 = .ok (.getfield 53, 3) := dk_180 0 53 (dk_at dksX0_isPair_2 11 rfl rfl)
theorem dX0_isPair_62 : decode cX0_isPair 62 = .ok (.invokevirtual 110, 3) := dk_182 0 110 (dk_at dksX0_isPair_2 14 rfl rfl)
theorem dX0_isPair_65 : decode cX0_isPair 65 = .ok (.invokevirtual 241, 3) := dk_182 0 241 (dk_at dksX0_isPair_2 17 rfl rfl)
theorem dX0_isPair_68 : decode cX0_isPair 68 = .ok (.ifCond .ne 7, 3) := dk_154 0 7 (dk_at dksX0_isPair_2 20 rfl rfl)
theorem dX0_isPair_71 : decode cX0_isPair 71 = .ok (.iconst 1, 1) := dk_4 (dk_at dksX0_isPair_2 23 rfl rfl)
theorem dX0_isPair_72 : decode cX0_isPair 72 = .ok (.goto 4, 3) := dk_167 0 4 (dk_at dksX0_isPair_3 0 rfl rfl)
theorem dX0_isPair_75 : decode cX0_isPair 75 = .ok (.iconst 0, 1) := dk_3 (dk_at dksX0_isPair_3 3 rfl rfl)
theorem dX0_isPair_76 : decode cX0_isPair 76 = .ok (.ireturn, 1) := dk_172 (dk_at dksX0_isPair_3 4 rfl rfl)
abbrev cX0_pair : ByteArray := prog_1_method_83_code
def yX0_pair : MethodName := ⟨RX0, "pair", "(I)I"⟩
def dkwX0_pair_1 : List UInt8 := [172]
abbrev dktX0_pair_1 : List UInt8 := dkwX0_pair_1 ++ []
def dkwX0_pair_0 : List UInt8 := [42, 180, 0, 28, 182, 0, 158, 153, 0, 15, 27, 155, 0, 11, 42, 27, 182, 1, 86, 167, 0, 5, 16, 254]
abbrev dktX0_pair_0 : List UInt8 := dkwX0_pair_0 ++ dktX0_pair_1
theorem dksX0_pair_0 : cX0_pair.data.toList.drop 0 = dktX0_pair_0 := by decide +kernel
theorem dksX0_pair_1 : cX0_pair.data.toList.drop 24 = dktX0_pair_1 := dk_seg dksX0_pair_0 24 rfl rfl
theorem dX0_pair_0 : decode cX0_pair 0 = .ok (.aload_n 0, 1) := dk_42 (dk_at dksX0_pair_0 0 rfl rfl)
theorem dX0_pair_1 : decode cX0_pair 1 = .ok (.getfield 28, 3) := dk_180 0 28 (dk_at dksX0_pair_0 1 rfl rfl)
theorem dX0_pair_4 : decode cX0_pair 4 = .ok (.invokevirtual 158, 3) := dk_182 0 158 (dk_at dksX0_pair_0 4 rfl rfl)
theorem dX0_pair_7 : decode cX0_pair 7 = .ok (.ifCond .eq 15, 3) := dk_153 0 15 (dk_at dksX0_pair_0 7 rfl rfl)
theorem dX0_pair_10 : decode cX0_pair 10 = .ok (.iload_n 1, 1) := dk_27 (dk_at dksX0_pair_0 10 rfl rfl)
theorem dX0_pair_11 : decode cX0_pair 11 = .ok (.ifCond .lt 11, 3) := dk_155 0 11 (dk_at dksX0_pair_0 11 rfl rfl)
theorem dX0_pair_14 : decode cX0_pair 14 = .ok (.aload_n 0, 1) := dk_42 (dk_at dksX0_pair_0 14 rfl rfl)
theorem dX0_pair_15 : decode cX0_pair 15 = .ok (.iload_n 1, 1) := dk_27 (dk_at dksX0_pair_0 15 rfl rfl)
theorem dX0_pair_16 : decode cX0_pair 16 = .ok (.invokevirtual 342, 3) := dk_182 1 86 (dk_at dksX0_pair_0 16 rfl rfl)
theorem dX0_pair_19 : decode cX0_pair 19 = .ok (.goto 5, 3) := dk_167 0 5 (dk_at dksX0_pair_0 19 rfl rfl)
theorem dX0_pair_22 : decode cX0_pair 22 = .ok (.bipush (-2), 2) := dk_16 254 (dk_at dksX0_pair_0 22 rfl rfl)
theorem dX0_pair_24 : decode cX0_pair 24 = .ok (.ireturn, 1) := dk_172 (dk_at dksX0_pair_1 0 rfl rfl)
abbrev cX0_chance : ByteArray := prog_1_method_86_code
def yX0_chance : MethodName := ⟨RX0, "chance", "(II)I"⟩
def dkwX0_chance_3 : List UInt8 := [172]
abbrev dktX0_chance_3 : List UInt8 := dkwX0_chance_3 ++ []
def dkwX0_chance_2 : List UInt8 := [42, 182, 1, 104, 182, 0, 241, 153, 0, 7, 4, 167, 0, 4, 3, 96, 62, 132, 4, 1, 167, 255, 229, 29]
abbrev dktX0_chance_2 : List UInt8 := dkwX0_chance_2 ++ dktX0_chance_3
def dkwX0_chance_1 : List UInt8 := [154, 0, 6, 16, 254, 172, 42, 27, 133, 181, 1, 91, 3, 62, 3, 54, 4, 21, 4, 28, 162, 0, 27, 29]
abbrev dktX0_chance_1 : List UInt8 := dkwX0_chance_1 ++ dktX0_chance_2
def dkwX0_chance_0 : List UInt8 := [42, 180, 0, 28, 182, 0, 158, 153, 0, 19, 27, 155, 0, 15, 28, 133, 10, 20, 1, 29, 184, 0, 73]
abbrev dktX0_chance_0 : List UInt8 := dkwX0_chance_0 ++ dktX0_chance_1
theorem dksX0_chance_0 : cX0_chance.data.toList.drop 0 = dktX0_chance_0 := by decide +kernel
theorem dksX0_chance_1 : cX0_chance.data.toList.drop 23 = dktX0_chance_1 := dk_seg dksX0_chance_0 23 rfl rfl
theorem dksX0_chance_2 : cX0_chance.data.toList.drop 47 = dktX0_chance_2 := dk_seg dksX0_chance_1 24 rfl rfl
theorem dksX0_chance_3 : cX0_chance.data.toList.drop 71 = dktX0_chance_3 := dk_seg dksX0_chance_2 24 rfl rfl
theorem dX0_chance_0 : decode cX0_chance 0 = .ok (.aload_n 0, 1) := dk_42 (dk_at dksX0_chance_0 0 rfl rfl)
theorem dX0_chance_1 : decode cX0_chance 1 = .ok (.getfield 28, 3) := dk_180 0 28 (dk_at dksX0_chance_0 1 rfl rfl)
theorem dX0_chance_4 : decode cX0_chance 4 = .ok (.invokevirtual 158, 3) := dk_182 0 158 (dk_at dksX0_chance_0 4 rfl rfl)
theorem dX0_chance_7 : decode cX0_chance 7 = .ok (.ifCond .eq 19, 3) := dk_153 0 19 (dk_at dksX0_chance_0 7 rfl rfl)
theorem dX0_chance_10 : decode cX0_chance 10 = .ok (.iload_n 1, 1) := dk_27 (dk_at dksX0_chance_0 10 rfl rfl)
theorem dX0_chance_11 : decode cX0_chance 11 = .ok (.ifCond .lt 15, 3) := dk_155 0 15 (dk_at dksX0_chance_0 11 rfl rfl)
theorem dX0_chance_14 : decode cX0_chance 14 = .ok (.iload_n 2, 1) := dk_28 (dk_at dksX0_chance_0 14 rfl rfl)
theorem dX0_chance_15 : decode cX0_chance 15 = .ok (.i2l, 1) := dk_133 (dk_at dksX0_chance_0 15 rfl rfl)
theorem dX0_chance_16 : decode cX0_chance 16 = .ok (.lconst 1, 1) := dk_10 (dk_at dksX0_chance_0 16 rfl rfl)
theorem dX0_chance_17 : decode cX0_chance 17 = .ok (.ldc2_w 285, 3) := dk_20 1 29 (dk_at dksX0_chance_0 17 rfl rfl)
theorem dX0_chance_20 : decode cX0_chance 20 = .ok (.invokestatic 73, 3) := dk_184 0 73 (dk_at dksX0_chance_0 20 rfl rfl)
theorem dX0_chance_23 : decode cX0_chance 23 = .ok (.ifCond .ne 6, 3) := dk_154 0 6 (dk_at dksX0_chance_1 0 rfl rfl)
theorem dX0_chance_26 : decode cX0_chance 26 = .ok (.bipush (-2), 2) := dk_16 254 (dk_at dksX0_chance_1 3 rfl rfl)
theorem dX0_chance_28 : decode cX0_chance 28 = .ok (.ireturn, 1) := dk_172 (dk_at dksX0_chance_1 5 rfl rfl)
theorem dX0_chance_29 : decode cX0_chance 29 = .ok (.aload_n 0, 1) := dk_42 (dk_at dksX0_chance_1 6 rfl rfl)
theorem dX0_chance_30 : decode cX0_chance 30 = .ok (.iload_n 1, 1) := dk_27 (dk_at dksX0_chance_1 7 rfl rfl)
theorem dX0_chance_31 : decode cX0_chance 31 = .ok (.i2l, 1) := dk_133 (dk_at dksX0_chance_1 8 rfl rfl)
theorem dX0_chance_32 : decode cX0_chance 32 = .ok (.putfield 347, 3) := dk_181 1 91 (dk_at dksX0_chance_1 9 rfl rfl)
theorem dX0_chance_35 : decode cX0_chance 35 = .ok (.iconst 0, 1) := dk_3 (dk_at dksX0_chance_1 12 rfl rfl)
theorem dX0_chance_36 : decode cX0_chance 36 = .ok (.istore_n 3, 1) := dk_62 (dk_at dksX0_chance_1 13 rfl rfl)
theorem dX0_chance_37 : decode cX0_chance 37 = .ok (.iconst 0, 1) := dk_3 (dk_at dksX0_chance_1 14 rfl rfl)
theorem dX0_chance_38 : decode cX0_chance 38 = .ok (.istore 4, 2) := dk_54 4 (dk_at dksX0_chance_1 15 rfl rfl)
theorem dX0_chance_40 : decode cX0_chance 40 = .ok (.iload 4, 2) := dk_21 4 (dk_at dksX0_chance_1 17 rfl rfl)
theorem dX0_chance_42 : decode cX0_chance 42 = .ok (.iload_n 2, 1) := dk_28 (dk_at dksX0_chance_1 19 rfl rfl)
theorem dX0_chance_43 : decode cX0_chance 43 = .ok (.if_icmp .ge 27, 3) := dk_162 0 27 (dk_at dksX0_chance_1 20 rfl rfl)
theorem dX0_chance_46 : decode cX0_chance 46 = .ok (.iload_n 3, 1) := dk_29 (dk_at dksX0_chance_1 23 rfl rfl)
theorem dX0_chance_47 : decode cX0_chance 47 = .ok (.aload_n 0, 1) := dk_42 (dk_at dksX0_chance_2 0 rfl rfl)
theorem dX0_chance_48 : decode cX0_chance 48 = .ok (.invokevirtual 360, 3) := dk_182 1 104 (dk_at dksX0_chance_2 1 rfl rfl)
theorem dX0_chance_51 : decode cX0_chance 51 = .ok (.invokevirtual 241, 3) := dk_182 0 241 (dk_at dksX0_chance_2 4 rfl rfl)
theorem dX0_chance_54 : decode cX0_chance 54 = .ok (.ifCond .eq 7, 3) := dk_153 0 7 (dk_at dksX0_chance_2 7 rfl rfl)
theorem dX0_chance_57 : decode cX0_chance 57 = .ok (.iconst 1, 1) := dk_4 (dk_at dksX0_chance_2 10 rfl rfl)
theorem dX0_chance_58 : decode cX0_chance 58 = .ok (.goto 4, 3) := dk_167 0 4 (dk_at dksX0_chance_2 11 rfl rfl)
theorem dX0_chance_61 : decode cX0_chance 61 = .ok (.iconst 0, 1) := dk_3 (dk_at dksX0_chance_2 14 rfl rfl)
theorem dX0_chance_62 : decode cX0_chance 62 = .ok (.iadd, 1) := dk_96 (dk_at dksX0_chance_2 15 rfl rfl)
theorem dX0_chance_63 : decode cX0_chance 63 = .ok (.istore_n 3, 1) := dk_62 (dk_at dksX0_chance_2 16 rfl rfl)
theorem dX0_chance_64 : decode cX0_chance 64 = .ok (.iinc 4 1, 3) := dk_132 4 1 (dk_at dksX0_chance_2 17 rfl rfl)
theorem dX0_chance_67 : decode cX0_chance 67 = .ok (.goto (-27), 3) := dk_167 255 229 (dk_at dksX0_chance_2 20 rfl rfl)
theorem dX0_chance_70 : decode cX0_chance 70 = .ok (.iload_n 3, 1) := dk_29 (dk_at dksX0_chance_2 23 rfl rfl)
theorem dX0_chance_71 : decode cX0_chance 71 = .ok (.ireturn, 1) := dk_172 (dk_at dksX0_chance_3 0 rfl rfl)
abbrev cX0_byDraws : ByteArray := prog_1_method_85_code
def yX0_byDraws : MethodName := ⟨RX0, "byDraws", "()LSupplyGrid$Solved;"⟩
def dkwX0_byDraws_2 : List UInt8 := [167, 255, 218, 42, 180, 0, 53, 182, 0, 110, 176]
abbrev dktX0_byDraws_2 : List UInt8 := dkwX0_byDraws_2 ++ []
def dkwX0_byDraws_1 : List UInt8 := [180, 1, 100, 27, 42, 42, 180, 0, 28, 180, 0, 197, 27, 46, 4, 96, 182, 1, 101, 79, 132, 1, 1]
abbrev dktX0_byDraws_1 : List UInt8 := dkwX0_byDraws_1 ++ dktX0_byDraws_2
def dkwX0_byDraws_0 : List UInt8 := [42, 180, 0, 53, 182, 0, 107, 3, 60, 27, 42, 180, 0, 28, 182, 0, 100, 162, 0, 33, 42, 180, 0, 53]
abbrev dktX0_byDraws_0 : List UInt8 := dkwX0_byDraws_0 ++ dktX0_byDraws_1
theorem dksX0_byDraws_0 : cX0_byDraws.data.toList.drop 0 = dktX0_byDraws_0 := by decide +kernel
theorem dksX0_byDraws_1 : cX0_byDraws.data.toList.drop 24 = dktX0_byDraws_1 := dk_seg dksX0_byDraws_0 24 rfl rfl
theorem dksX0_byDraws_2 : cX0_byDraws.data.toList.drop 47 = dktX0_byDraws_2 := dk_seg dksX0_byDraws_1 23 rfl rfl
theorem dX0_byDraws_0 : decode cX0_byDraws 0 = .ok (.aload_n 0, 1) := dk_42 (dk_at dksX0_byDraws_0 0 rfl rfl)
theorem dX0_byDraws_1 : decode cX0_byDraws 1 = .ok (.getfield 53, 3) := dk_180 0 53 (dk_at dksX0_byDraws_0 1 rfl rfl)
theorem dX0_byDraws_4 : decode cX0_byDraws 4 = .ok (.invokevirtual 107, 3) := dk_182 0 107 (dk_at dksX0_byDraws_0 4 rfl rfl)
theorem dX0_byDraws_7 : decode cX0_byDraws 7 = .ok (.iconst 0, 1) := dk_3 (dk_at dksX0_byDraws_0 7 rfl rfl)
theorem dX0_byDraws_8 : decode cX0_byDraws 8 = .ok (.istore_n 1, 1) := dk_60 (dk_at dksX0_byDraws_0 8 rfl rfl)
theorem dX0_byDraws_9 : decode cX0_byDraws 9 = .ok (.iload_n 1, 1) := dk_27 (dk_at dksX0_byDraws_0 9 rfl rfl)
theorem dX0_byDraws_10 : decode cX0_byDraws 10 = .ok (.aload_n 0, 1) := dk_42 (dk_at dksX0_byDraws_0 10 rfl rfl)
theorem dX0_byDraws_11 : decode cX0_byDraws 11 = .ok (.getfield 28, 3) := dk_180 0 28 (dk_at dksX0_byDraws_0 11 rfl rfl)
theorem dX0_byDraws_14 : decode cX0_byDraws 14 = .ok (.invokevirtual 100, 3) := dk_182 0 100 (dk_at dksX0_byDraws_0 14 rfl rfl)
theorem dX0_byDraws_17 : decode cX0_byDraws 17 = .ok (.if_icmp .ge 33, 3) := dk_162 0 33 (dk_at dksX0_byDraws_0 17 rfl rfl)
theorem dX0_byDraws_20 : decode cX0_byDraws 20 = .ok (.aload_n 0, 1) := dk_42 (dk_at dksX0_byDraws_0 20 rfl rfl)
theorem dX0_byDraws_21 : decode cX0_byDraws 21 = .ok (.getfield 53, 3) := dk_180 0 53 (dk_at dksX0_byDraws_0 21 rfl rfl)
theorem dX0_byDraws_24 : decode cX0_byDraws 24 = .ok (.getfield 356, 3) := dk_180 1 100 (dk_at dksX0_byDraws_1 0 rfl rfl)
theorem dX0_byDraws_27 : decode cX0_byDraws 27 = .ok (.iload_n 1, 1) := dk_27 (dk_at dksX0_byDraws_1 3 rfl rfl)
theorem dX0_byDraws_28 : decode cX0_byDraws 28 = .ok (.aload_n 0, 1) := dk_42 (dk_at dksX0_byDraws_1 4 rfl rfl)
theorem dX0_byDraws_29 : decode cX0_byDraws 29 = .ok (.aload_n 0, 1) := dk_42 (dk_at dksX0_byDraws_1 5 rfl rfl)
theorem dX0_byDraws_30 : decode cX0_byDraws 30 = .ok (.getfield 28, 3) := dk_180 0 28 (dk_at dksX0_byDraws_1 6 rfl rfl)
theorem dX0_byDraws_33 : decode cX0_byDraws 33 = .ok (.getfield 197, 3) := dk_180 0 197 (dk_at dksX0_byDraws_1 9 rfl rfl)
theorem dX0_byDraws_36 : decode cX0_byDraws 36 = .ok (.iload_n 1, 1) := dk_27 (dk_at dksX0_byDraws_1 12 rfl rfl)
theorem dX0_byDraws_37 : decode cX0_byDraws 37 = .ok (.iaload, 1) := dk_46 (dk_at dksX0_byDraws_1 13 rfl rfl)
theorem dX0_byDraws_38 : decode cX0_byDraws 38 = .ok (.iconst 1, 1) := dk_4 (dk_at dksX0_byDraws_1 14 rfl rfl)
theorem dX0_byDraws_39 : decode cX0_byDraws 39 = .ok (.iadd, 1) := dk_96 (dk_at dksX0_byDraws_1 15 rfl rfl)
theorem dX0_byDraws_40 : decode cX0_byDraws 40 = .ok (.invokevirtual 357, 3) := dk_182 1 101 (dk_at dksX0_byDraws_1 16 rfl rfl)
theorem dX0_byDraws_43 : decode cX0_byDraws 43 = .ok (.iastore, 1) := dk_79 (dk_at dksX0_byDraws_1 19 rfl rfl)
theorem dX0_byDraws_44 : decode cX0_byDraws 44 = .ok (.iinc 1 1, 3) := dk_132 1 1 (dk_at dksX0_byDraws_1 20 rfl rfl)
theorem dX0_byDraws_47 : decode cX0_byDraws 47 = .ok (.goto (-38), 3) := dk_167 255 218 (dk_at dksX0_byDraws_2 0 rfl rfl)
theorem dX0_byDraws_50 : decode cX0_byDraws 50 = .ok (.aload_n 0, 1) := dk_42 (dk_at dksX0_byDraws_2 3 rfl rfl)
theorem dX0_byDraws_51 : decode cX0_byDraws 51 = .ok (.getfield 53, 3) := dk_180 0 53 (dk_at dksX0_byDraws_2 4 rfl rfl)
theorem dX0_byDraws_54 : decode cX0_byDraws 54 = .ok (.invokevirtual 110, 3) := dk_182 0 110 (dk_at dksX0_byDraws_2 7 rfl rfl)
theorem dX0_byDraws_57 : decode cX0_byDraws 57 = .ok (.areturn, 1) := dk_176 (dk_at dksX0_byDraws_2 10 rfl rfl)
abbrev cX0_draw : ByteArray := prog_1_method_84_code
def yX0_draw : MethodName := ⟨RX0, "draw", "(I)I"⟩
def dkwX0_draw_1 : List UInt8 := [20, 1, 98, 109, 27, 133, 113, 136, 172]
abbrev dktX0_draw_1 : List UInt8 := dkwX0_draw_1 ++ []
def dkwX0_draw_0 : List UInt8 := [42, 20, 1, 89, 42, 180, 1, 91, 105, 20, 1, 94, 97, 20, 1, 96, 113, 181, 1, 91, 42, 180, 1, 91]
abbrev dktX0_draw_0 : List UInt8 := dkwX0_draw_0 ++ dktX0_draw_1
theorem dksX0_draw_0 : cX0_draw.data.toList.drop 0 = dktX0_draw_0 := by decide +kernel
theorem dksX0_draw_1 : cX0_draw.data.toList.drop 24 = dktX0_draw_1 := dk_seg dksX0_draw_0 24 rfl rfl
theorem dX0_draw_0 : decode cX0_draw 0 = .ok (.aload_n 0, 1) := dk_42 (dk_at dksX0_draw_0 0 rfl rfl)
theorem dX0_draw_1 : decode cX0_draw 1 = .ok (.ldc2_w 345, 3) := dk_20 1 89 (dk_at dksX0_draw_0 1 rfl rfl)
theorem dX0_draw_4 : decode cX0_draw 4 = .ok (.aload_n 0, 1) := dk_42 (dk_at dksX0_draw_0 4 rfl rfl)
theorem dX0_draw_5 : decode cX0_draw 5 = .ok (.getfield 347, 3) := dk_180 1 91 (dk_at dksX0_draw_0 5 rfl rfl)
theorem dX0_draw_8 : decode cX0_draw 8 = .ok (.lmul, 1) := dk_105 (dk_at dksX0_draw_0 8 rfl rfl)
theorem dX0_draw_9 : decode cX0_draw 9 = .ok (.ldc2_w 350, 3) := dk_20 1 94 (dk_at dksX0_draw_0 9 rfl rfl)
theorem dX0_draw_12 : decode cX0_draw 12 = .ok (.ladd, 1) := dk_97 (dk_at dksX0_draw_0 12 rfl rfl)
theorem dX0_draw_13 : decode cX0_draw 13 = .ok (.ldc2_w 352, 3) := dk_20 1 96 (dk_at dksX0_draw_0 13 rfl rfl)
theorem dX0_draw_16 : decode cX0_draw 16 = .ok (.lrem, 1) := dk_113 (dk_at dksX0_draw_0 16 rfl rfl)
theorem dX0_draw_17 : decode cX0_draw 17 = .ok (.putfield 347, 3) := dk_181 1 91 (dk_at dksX0_draw_0 17 rfl rfl)
theorem dX0_draw_20 : decode cX0_draw 20 = .ok (.aload_n 0, 1) := dk_42 (dk_at dksX0_draw_0 20 rfl rfl)
theorem dX0_draw_21 : decode cX0_draw 21 = .ok (.getfield 347, 3) := dk_180 1 91 (dk_at dksX0_draw_0 21 rfl rfl)
theorem dX0_draw_24 : decode cX0_draw 24 = .ok (.ldc2_w 354, 3) := dk_20 1 98 (dk_at dksX0_draw_1 0 rfl rfl)
theorem dX0_draw_27 : decode cX0_draw 27 = .ok (.ldiv, 1) := dk_109 (dk_at dksX0_draw_1 3 rfl rfl)
theorem dX0_draw_28 : decode cX0_draw 28 = .ok (.iload_n 1, 1) := dk_27 (dk_at dksX0_draw_1 4 rfl rfl)
theorem dX0_draw_29 : decode cX0_draw 29 = .ok (.i2l, 1) := dk_133 (dk_at dksX0_draw_1 5 rfl rfl)
theorem dX0_draw_30 : decode cX0_draw 30 = .ok (.lrem, 1) := dk_113 (dk_at dksX0_draw_1 6 rfl rfl)
theorem dX0_draw_31 : decode cX0_draw 31 = .ok (.l2i, 1) := dk_136 (dk_at dksX0_draw_1 7 rfl rfl)
theorem dX0_draw_32 : decode cX0_draw 32 = .ok (.ireturn, 1) := dk_172 (dk_at dksX0_draw_1 8 rfl rfl)
abbrev cX0_luck : ByteArray := prog_1_method_87_code
def yX0_luck : MethodName := ⟨RX0, "luck", "(III)J"⟩
def dkwX0_luck_5 : List UInt8 := [184, 0, 219, 173]
abbrev dktX0_luck_5 : List UInt8 := dkwX0_luck_5 ++ []
def dkwX0_luck_4 : List UInt8 := [55, 4, 42, 180, 0, 53, 180, 0, 128, 55, 6, 132, 8, 1, 167, 255, 202, 22, 4, 22, 6, 29]
abbrev dktX0_luck_4 : List UInt8 := dkwX0_luck_4 ++ dktX0_luck_5
def dkwX0_luck_3 : List UInt8 := [180, 0, 128, 22, 4, 22, 6, 184, 0, 15, 154, 0, 6, 167, 0, 21, 42, 180, 0, 53, 182, 0, 120]
abbrev dktX0_luck_3 : List UInt8 := dkwX0_luck_3 ++ dktX0_luck_4
def dkwX0_luck_2 : List UInt8 := [55, 6, 3, 54, 8, 21, 8, 28, 162, 0, 54, 42, 182, 1, 104, 182, 0, 120, 42, 180, 0, 53]
abbrev dktX0_luck_2 : List UInt8 := dkwX0_luck_2 ++ dktX0_luck_3
def dkwX0_luck_1 : List UInt8 := [153, 0, 10, 29, 184, 0, 211, 154, 0, 7, 20, 0, 214, 173, 42, 27, 133, 181, 1, 91, 9, 55, 4, 10]
abbrev dktX0_luck_1 : List UInt8 := dkwX0_luck_1 ++ dktX0_luck_2
def dkwX0_luck_0 : List UInt8 := [42, 180, 0, 28, 182, 0, 158, 153, 0, 26, 27, 155, 0, 22, 28, 133, 10, 20, 1, 29, 184, 0, 73]
abbrev dktX0_luck_0 : List UInt8 := dkwX0_luck_0 ++ dktX0_luck_1
theorem dksX0_luck_0 : cX0_luck.data.toList.drop 0 = dktX0_luck_0 := by decide +kernel
theorem dksX0_luck_1 : cX0_luck.data.toList.drop 23 = dktX0_luck_1 := dk_seg dksX0_luck_0 23 rfl rfl
theorem dksX0_luck_2 : cX0_luck.data.toList.drop 47 = dktX0_luck_2 := dk_seg dksX0_luck_1 24 rfl rfl
theorem dksX0_luck_3 : cX0_luck.data.toList.drop 69 = dktX0_luck_3 := dk_seg dksX0_luck_2 22 rfl rfl
theorem dksX0_luck_4 : cX0_luck.data.toList.drop 92 = dktX0_luck_4 := dk_seg dksX0_luck_3 23 rfl rfl
theorem dksX0_luck_5 : cX0_luck.data.toList.drop 114 = dktX0_luck_5 := dk_seg dksX0_luck_4 22 rfl rfl
theorem dX0_luck_0 : decode cX0_luck 0 = .ok (.aload_n 0, 1) := dk_42 (dk_at dksX0_luck_0 0 rfl rfl)
theorem dX0_luck_1 : decode cX0_luck 1 = .ok (.getfield 28, 3) := dk_180 0 28 (dk_at dksX0_luck_0 1 rfl rfl)
theorem dX0_luck_4 : decode cX0_luck 4 = .ok (.invokevirtual 158, 3) := dk_182 0 158 (dk_at dksX0_luck_0 4 rfl rfl)
theorem dX0_luck_7 : decode cX0_luck 7 = .ok (.ifCond .eq 26, 3) := dk_153 0 26 (dk_at dksX0_luck_0 7 rfl rfl)
theorem dX0_luck_10 : decode cX0_luck 10 = .ok (.iload_n 1, 1) := dk_27 (dk_at dksX0_luck_0 10 rfl rfl)
theorem dX0_luck_11 : decode cX0_luck 11 = .ok (.ifCond .lt 22, 3) := dk_155 0 22 (dk_at dksX0_luck_0 11 rfl rfl)
theorem dX0_luck_14 : decode cX0_luck 14 = .ok (.iload_n 2, 1) := dk_28 (dk_at dksX0_luck_0 14 rfl rfl)
theorem dX0_luck_15 : decode cX0_luck 15 = .ok (.i2l, 1) := dk_133 (dk_at dksX0_luck_0 15 rfl rfl)
theorem dX0_luck_16 : decode cX0_luck 16 = .ok (.lconst 1, 1) := dk_10 (dk_at dksX0_luck_0 16 rfl rfl)
theorem dX0_luck_17 : decode cX0_luck 17 = .ok (.ldc2_w 285, 3) := dk_20 1 29 (dk_at dksX0_luck_0 17 rfl rfl)
theorem dX0_luck_20 : decode cX0_luck 20 = .ok (.invokestatic 73, 3) := dk_184 0 73 (dk_at dksX0_luck_0 20 rfl rfl)
theorem dX0_luck_23 : decode cX0_luck 23 = .ok (.ifCond .eq 10, 3) := dk_153 0 10 (dk_at dksX0_luck_1 0 rfl rfl)
theorem dX0_luck_26 : decode cX0_luck 26 = .ok (.iload_n 3, 1) := dk_29 (dk_at dksX0_luck_1 3 rfl rfl)
theorem dX0_luck_27 : decode cX0_luck 27 = .ok (.invokestatic 211, 3) := dk_184 0 211 (dk_at dksX0_luck_1 4 rfl rfl)
theorem dX0_luck_30 : decode cX0_luck 30 = .ok (.ifCond .ne 7, 3) := dk_154 0 7 (dk_at dksX0_luck_1 7 rfl rfl)
theorem dX0_luck_33 : decode cX0_luck 33 = .ok (.ldc2_w 214, 3) := dk_20 0 214 (dk_at dksX0_luck_1 10 rfl rfl)
theorem dX0_luck_36 : decode cX0_luck 36 = .ok (.lreturn, 1) := dk_173 (dk_at dksX0_luck_1 13 rfl rfl)
theorem dX0_luck_37 : decode cX0_luck 37 = .ok (.aload_n 0, 1) := dk_42 (dk_at dksX0_luck_1 14 rfl rfl)
theorem dX0_luck_38 : decode cX0_luck 38 = .ok (.iload_n 1, 1) := dk_27 (dk_at dksX0_luck_1 15 rfl rfl)
theorem dX0_luck_39 : decode cX0_luck 39 = .ok (.i2l, 1) := dk_133 (dk_at dksX0_luck_1 16 rfl rfl)
theorem dX0_luck_40 : decode cX0_luck 40 = .ok (.putfield 347, 3) := dk_181 1 91 (dk_at dksX0_luck_1 17 rfl rfl)
theorem dX0_luck_43 : decode cX0_luck 43 = .ok (.lconst 0, 1) := dk_9 (dk_at dksX0_luck_1 20 rfl rfl)
theorem dX0_luck_44 : decode cX0_luck 44 = .ok (.lstore 4, 2) := dk_55 4 (dk_at dksX0_luck_1 21 rfl rfl)
theorem dX0_luck_46 : decode cX0_luck 46 = .ok (.lconst 1, 1) := dk_10 (dk_at dksX0_luck_1 23 rfl rfl)
theorem dX0_luck_47 : decode cX0_luck 47 = .ok (.lstore 6, 2) := dk_55 6 (dk_at dksX0_luck_2 0 rfl rfl)
theorem dX0_luck_49 : decode cX0_luck 49 = .ok (.iconst 0, 1) := dk_3 (dk_at dksX0_luck_2 2 rfl rfl)
theorem dX0_luck_50 : decode cX0_luck 50 = .ok (.istore 8, 2) := dk_54 8 (dk_at dksX0_luck_2 3 rfl rfl)
theorem dX0_luck_52 : decode cX0_luck 52 = .ok (.iload 8, 2) := dk_21 8 (dk_at dksX0_luck_2 5 rfl rfl)
theorem dX0_luck_54 : decode cX0_luck 54 = .ok (.iload_n 2, 1) := dk_28 (dk_at dksX0_luck_2 7 rfl rfl)
theorem dX0_luck_55 : decode cX0_luck 55 = .ok (.if_icmp .ge 54, 3) := dk_162 0 54 (dk_at dksX0_luck_2 8 rfl rfl)
theorem dX0_luck_58 : decode cX0_luck 58 = .ok (.aload_n 0, 1) := dk_42 (dk_at dksX0_luck_2 11 rfl rfl)
theorem dX0_luck_59 : decode cX0_luck 59 = .ok (.invokevirtual 360, 3) := dk_182 1 104 (dk_at dksX0_luck_2 12 rfl rfl)
theorem dX0_luck_62 : decode cX0_luck 62 = .ok (.invokevirtual 120, 3) := dk_182 0 120 (dk_at dksX0_luck_2 15 rfl rfl)
theorem dX0_luck_65 : decode cX0_luck 65 = .ok (.aload_n 0, 1) := dk_42 (dk_at dksX0_luck_2 18 rfl rfl)
theorem dX0_luck_66 : decode cX0_luck 66 = .ok (.getfield 53, 3) := dk_180 0 53 (dk_at dksX0_luck_2 19 rfl rfl)
theorem dX0_luck_69 : decode cX0_luck 69 = .ok (.getfield 128, 3) := dk_180 0 128 (dk_at dksX0_luck_3 0 rfl rfl)
theorem dX0_luck_72 : decode cX0_luck 72 = .ok (.lload 4, 2) := dk_22 4 (dk_at dksX0_luck_3 3 rfl rfl)
theorem dX0_luck_74 : decode cX0_luck 74 = .ok (.lload 6, 2) := dk_22 6 (dk_at dksX0_luck_3 5 rfl rfl)
theorem dX0_luck_76 : decode cX0_luck 76 = .ok (.invokestatic 15, 3) := dk_184 0 15 (dk_at dksX0_luck_3 7 rfl rfl)
theorem dX0_luck_79 : decode cX0_luck 79 = .ok (.ifCond .ne 6, 3) := dk_154 0 6 (dk_at dksX0_luck_3 10 rfl rfl)
theorem dX0_luck_82 : decode cX0_luck 82 = .ok (.goto 21, 3) := dk_167 0 21 (dk_at dksX0_luck_3 13 rfl rfl)
theorem dX0_luck_85 : decode cX0_luck 85 = .ok (.aload_n 0, 1) := dk_42 (dk_at dksX0_luck_3 16 rfl rfl)
theorem dX0_luck_86 : decode cX0_luck 86 = .ok (.getfield 53, 3) := dk_180 0 53 (dk_at dksX0_luck_3 17 rfl rfl)
theorem dX0_luck_89 : decode cX0_luck 89 = .ok (.invokevirtual 120, 3) := dk_182 0 120 (dk_at dksX0_luck_3 20 rfl rfl)
theorem dX0_luck_92 : decode cX0_luck 92 = .ok (.lstore 4, 2) := dk_55 4 (dk_at dksX0_luck_4 0 rfl rfl)
theorem dX0_luck_94 : decode cX0_luck 94 = .ok (.aload_n 0, 1) := dk_42 (dk_at dksX0_luck_4 2 rfl rfl)
theorem dX0_luck_95 : decode cX0_luck 95 = .ok (.getfield 53, 3) := dk_180 0 53 (dk_at dksX0_luck_4 3 rfl rfl)
theorem dX0_luck_98 : decode cX0_luck 98 = .ok (.getfield 128, 3) := dk_180 0 128 (dk_at dksX0_luck_4 6 rfl rfl)
theorem dX0_luck_101 : decode cX0_luck 101 = .ok (.lstore 6, 2) := dk_55 6 (dk_at dksX0_luck_4 9 rfl rfl)
theorem dX0_luck_103 : decode cX0_luck 103 = .ok (.iinc 8 1, 3) := dk_132 8 1 (dk_at dksX0_luck_4 11 rfl rfl)
theorem dX0_luck_106 : decode cX0_luck 106 = .ok (.goto (-54), 3) := dk_167 255 202 (dk_at dksX0_luck_4 14 rfl rfl)
theorem dX0_luck_109 : decode cX0_luck 109 = .ok (.lload 4, 2) := dk_22 4 (dk_at dksX0_luck_4 17 rfl rfl)
theorem dX0_luck_111 : decode cX0_luck 111 = .ok (.lload 6, 2) := dk_22 6 (dk_at dksX0_luck_4 19 rfl rfl)
theorem dX0_luck_113 : decode cX0_luck 113 = .ok (.iload_n 3, 1) := dk_29 (dk_at dksX0_luck_4 21 rfl rfl)
theorem dX0_luck_114 : decode cX0_luck 114 = .ok (.invokestatic 219, 3) := dk_184 0 219 (dk_at dksX0_luck_5 0 rfl rfl)
theorem dX0_luck_117 : decode cX0_luck 117 = .ok (.lreturn, 1) := dk_173 (dk_at dksX0_luck_5 3 rfl rfl)
abbrev cX0_room : ByteArray := prog_1_method_88_code
def yX0_room : MethodName := ⟨RX0, "room", "(I)I"⟩
def dkwX0_room_2 : List UInt8 := [153, 0, 5, 28, 172, 132, 2, 255, 167, 255, 224, 2, 172]
abbrev dktX0_room_2 : List UInt8 := dkwX0_room_2 ++ []
def dkwX0_room_1 : List UInt8 := [155, 0, 34, 42, 180, 0, 53, 180, 1, 100, 27, 28, 79, 42, 180, 0, 53, 182, 0, 110, 182, 0, 241]
abbrev dktX0_room_1 : List UInt8 := dkwX0_room_1 ++ dktX0_room_2
def dkwX0_room_0 : List UInt8 := [42, 27, 182, 0, 180, 154, 0, 6, 16, 254, 172, 42, 180, 0, 53, 182, 0, 107, 16, 99, 61, 28]
abbrev dktX0_room_0 : List UInt8 := dkwX0_room_0 ++ dktX0_room_1
theorem dksX0_room_0 : cX0_room.data.toList.drop 0 = dktX0_room_0 := by decide +kernel
theorem dksX0_room_1 : cX0_room.data.toList.drop 22 = dktX0_room_1 := dk_seg dksX0_room_0 22 rfl rfl
theorem dksX0_room_2 : cX0_room.data.toList.drop 45 = dktX0_room_2 := dk_seg dksX0_room_1 23 rfl rfl
theorem dX0_room_0 : decode cX0_room 0 = .ok (.aload_n 0, 1) := dk_42 (dk_at dksX0_room_0 0 rfl rfl)
theorem dX0_room_1 : decode cX0_room 1 = .ok (.iload_n 1, 1) := dk_27 (dk_at dksX0_room_0 1 rfl rfl)
theorem dX0_room_2 : decode cX0_room 2 = .ok (.invokevirtual 180, 3) := dk_182 0 180 (dk_at dksX0_room_0 2 rfl rfl)
theorem dX0_room_5 : decode cX0_room 5 = .ok (.ifCond .ne 6, 3) := dk_154 0 6 (dk_at dksX0_room_0 5 rfl rfl)
theorem dX0_room_8 : decode cX0_room 8 = .ok (.bipush (-2), 2) := dk_16 254 (dk_at dksX0_room_0 8 rfl rfl)
theorem dX0_room_10 : decode cX0_room 10 = .ok (.ireturn, 1) := dk_172 (dk_at dksX0_room_0 10 rfl rfl)
theorem dX0_room_11 : decode cX0_room 11 = .ok (.aload_n 0, 1) := dk_42 (dk_at dksX0_room_0 11 rfl rfl)
theorem dX0_room_12 : decode cX0_room 12 = .ok (.getfield 53, 3) := dk_180 0 53 (dk_at dksX0_room_0 12 rfl rfl)
theorem dX0_room_15 : decode cX0_room 15 = .ok (.invokevirtual 107, 3) := dk_182 0 107 (dk_at dksX0_room_0 15 rfl rfl)
theorem dX0_room_18 : decode cX0_room 18 = .ok (.bipush 99, 2) := dk_16 99 (dk_at dksX0_room_0 18 rfl rfl)
theorem dX0_room_20 : decode cX0_room 20 = .ok (.istore_n 2, 1) := dk_61 (dk_at dksX0_room_0 20 rfl rfl)
theorem dX0_room_21 : decode cX0_room 21 = .ok (.iload_n 2, 1) := dk_28 (dk_at dksX0_room_0 21 rfl rfl)
theorem dX0_room_22 : decode cX0_room 22 = .ok (.ifCond .lt 34, 3) := dk_155 0 34 (dk_at dksX0_room_1 0 rfl rfl)
theorem dX0_room_25 : decode cX0_room 25 = .ok (.aload_n 0, 1) := dk_42 (dk_at dksX0_room_1 3 rfl rfl)
theorem dX0_room_26 : decode cX0_room 26 = .ok (.getfield 53, 3) := dk_180 0 53 (dk_at dksX0_room_1 4 rfl rfl)
theorem dX0_room_29 : decode cX0_room 29 = .ok (.getfield 356, 3) := dk_180 1 100 (dk_at dksX0_room_1 7 rfl rfl)
theorem dX0_room_32 : decode cX0_room 32 = .ok (.iload_n 1, 1) := dk_27 (dk_at dksX0_room_1 10 rfl rfl)
theorem dX0_room_33 : decode cX0_room 33 = .ok (.iload_n 2, 1) := dk_28 (dk_at dksX0_room_1 11 rfl rfl)
theorem dX0_room_34 : decode cX0_room 34 = .ok (.iastore, 1) := dk_79 (dk_at dksX0_room_1 12 rfl rfl)
theorem dX0_room_35 : decode cX0_room 35 = .ok (.aload_n 0, 1) := dk_42 (dk_at dksX0_room_1 13 rfl rfl)
theorem dX0_room_36 : decode cX0_room 36 = .ok (.getfield 53, 3) := dk_180 0 53 (dk_at dksX0_room_1 14 rfl rfl)
theorem dX0_room_39 : decode cX0_room 39 = .ok (.invokevirtual 110, 3) := dk_182 0 110 (dk_at dksX0_room_1 17 rfl rfl)
theorem dX0_room_42 : decode cX0_room 42 = .ok (.invokevirtual 241, 3) := dk_182 0 241 (dk_at dksX0_room_1 20 rfl rfl)
theorem dX0_room_45 : decode cX0_room 45 = .ok (.ifCond .eq 5, 3) := dk_153 0 5 (dk_at dksX0_room_2 0 rfl rfl)
theorem dX0_room_48 : decode cX0_room 48 = .ok (.iload_n 2, 1) := dk_28 (dk_at dksX0_room_2 3 rfl rfl)
theorem dX0_room_49 : decode cX0_room 49 = .ok (.ireturn, 1) := dk_172 (dk_at dksX0_room_2 4 rfl rfl)
theorem dX0_room_50 : decode cX0_room 50 = .ok (.iinc 2 (-1), 3) := dk_132 2 255 (dk_at dksX0_room_2 5 rfl rfl)
theorem dX0_room_53 : decode cX0_room 53 = .ok (.goto (-32), 3) := dk_167 255 224 (dk_at dksX0_room_2 8 rfl rfl)
theorem dX0_room_56 : decode cX0_room 56 = .ok (.iconst (-1), 1) := dk_2 (dk_at dksX0_room_2 11 rfl rfl)
theorem dX0_room_57 : decode cX0_room 57 = .ok (.ireturn, 1) := dk_172 (dk_at dksX0_room_2 12 rfl rfl)
abbrev cX0_lay : ByteArray := prog_1_method_90_code
def yX0_lay : MethodName := ⟨RX0, "lay", "(II)I"⟩
def dkwX0_lay_3 : List UInt8 := [183, 1, 114, 182, 1, 116, 87, 29, 172]
abbrev dktX0_lay_3 : List UInt8 := dkwX0_lay_3 ++ []
def dkwX0_lay_2 : List UInt8 := [42, 180, 0, 28, 180, 0, 177, 27, 28, 79, 42, 180, 0, 28, 180, 0, 146, 187, 1, 112, 89, 27, 29]
abbrev dktX0_lay_2 : List UInt8 := dkwX0_lay_2 ++ dktX0_lay_3
def dkwX0_lay_1 : List UInt8 := [180, 0, 28, 180, 0, 177, 27, 46, 62, 29, 28, 159, 0, 10, 42, 182, 1, 109, 153, 0, 6, 16, 251, 172]
abbrev dktX0_lay_1 : List UInt8 := dkwX0_lay_1 ++ dktX0_lay_2
def dkwX0_lay_0 : List UInt8 := [42, 27, 182, 0, 167, 153, 0, 15, 28, 133, 9, 20, 1, 107, 184, 0, 73, 154, 0, 6, 16, 254, 172, 42]
abbrev dktX0_lay_0 : List UInt8 := dkwX0_lay_0 ++ dktX0_lay_1
theorem dksX0_lay_0 : cX0_lay.data.toList.drop 0 = dktX0_lay_0 := by decide +kernel
theorem dksX0_lay_1 : cX0_lay.data.toList.drop 24 = dktX0_lay_1 := dk_seg dksX0_lay_0 24 rfl rfl
theorem dksX0_lay_2 : cX0_lay.data.toList.drop 48 = dktX0_lay_2 := dk_seg dksX0_lay_1 24 rfl rfl
theorem dksX0_lay_3 : cX0_lay.data.toList.drop 71 = dktX0_lay_3 := dk_seg dksX0_lay_2 23 rfl rfl
theorem dX0_lay_0 : decode cX0_lay 0 = .ok (.aload_n 0, 1) := dk_42 (dk_at dksX0_lay_0 0 rfl rfl)
theorem dX0_lay_1 : decode cX0_lay 1 = .ok (.iload_n 1, 1) := dk_27 (dk_at dksX0_lay_0 1 rfl rfl)
theorem dX0_lay_2 : decode cX0_lay 2 = .ok (.invokevirtual 167, 3) := dk_182 0 167 (dk_at dksX0_lay_0 2 rfl rfl)
theorem dX0_lay_5 : decode cX0_lay 5 = .ok (.ifCond .eq 15, 3) := dk_153 0 15 (dk_at dksX0_lay_0 5 rfl rfl)
theorem dX0_lay_8 : decode cX0_lay 8 = .ok (.iload_n 2, 1) := dk_28 (dk_at dksX0_lay_0 8 rfl rfl)
theorem dX0_lay_9 : decode cX0_lay 9 = .ok (.i2l, 1) := dk_133 (dk_at dksX0_lay_0 9 rfl rfl)
theorem dX0_lay_10 : decode cX0_lay 10 = .ok (.lconst 0, 1) := dk_9 (dk_at dksX0_lay_0 10 rfl rfl)
theorem dX0_lay_11 : decode cX0_lay 11 = .ok (.ldc2_w 363, 3) := dk_20 1 107 (dk_at dksX0_lay_0 11 rfl rfl)
theorem dX0_lay_14 : decode cX0_lay 14 = .ok (.invokestatic 73, 3) := dk_184 0 73 (dk_at dksX0_lay_0 14 rfl rfl)
theorem dX0_lay_17 : decode cX0_lay 17 = .ok (.ifCond .ne 6, 3) := dk_154 0 6 (dk_at dksX0_lay_0 17 rfl rfl)
theorem dX0_lay_20 : decode cX0_lay 20 = .ok (.bipush (-2), 2) := dk_16 254 (dk_at dksX0_lay_0 20 rfl rfl)
theorem dX0_lay_22 : decode cX0_lay 22 = .ok (.ireturn, 1) := dk_172 (dk_at dksX0_lay_0 22 rfl rfl)
theorem dX0_lay_23 : decode cX0_lay 23 = .ok (.aload_n 0, 1) := dk_42 (dk_at dksX0_lay_0 23 rfl rfl)
theorem dX0_lay_24 : decode cX0_lay 24 = .ok (.getfield 28, 3) := dk_180 0 28 (dk_at dksX0_lay_1 0 rfl rfl)
theorem dX0_lay_27 : decode cX0_lay 27 = .ok (.getfield 177, 3) := dk_180 0 177 (dk_at dksX0_lay_1 3 rfl rfl)
theorem dX0_lay_30 : decode cX0_lay 30 = .ok (.iload_n 1, 1) := dk_27 (dk_at dksX0_lay_1 6 rfl rfl)
theorem dX0_lay_31 : decode cX0_lay 31 = .ok (.iaload, 1) := dk_46 (dk_at dksX0_lay_1 7 rfl rfl)
theorem dX0_lay_32 : decode cX0_lay 32 = .ok (.istore_n 3, 1) := dk_62 (dk_at dksX0_lay_1 8 rfl rfl)
theorem dX0_lay_33 : decode cX0_lay 33 = .ok (.iload_n 3, 1) := dk_29 (dk_at dksX0_lay_1 9 rfl rfl)
theorem dX0_lay_34 : decode cX0_lay 34 = .ok (.iload_n 2, 1) := dk_28 (dk_at dksX0_lay_1 10 rfl rfl)
theorem dX0_lay_35 : decode cX0_lay 35 = .ok (.if_icmp .eq 10, 3) := dk_159 0 10 (dk_at dksX0_lay_1 11 rfl rfl)
theorem dX0_lay_38 : decode cX0_lay 38 = .ok (.aload_n 0, 1) := dk_42 (dk_at dksX0_lay_1 14 rfl rfl)
theorem dX0_lay_39 : decode cX0_lay 39 = .ok (.invokevirtual 365, 3) := dk_182 1 109 (dk_at dksX0_lay_1 15 rfl rfl)
theorem dX0_lay_42 : decode cX0_lay 42 = .ok (.ifCond .eq 6, 3) := dk_153 0 6 (dk_at dksX0_lay_1 18 rfl rfl)
theorem dX0_lay_45 : decode cX0_lay 45 = .ok (.bipush (-5), 2) := dk_16 251 (dk_at dksX0_lay_1 21 rfl rfl)
theorem dX0_lay_47 : decode cX0_lay 47 = .ok (.ireturn, 1) := dk_172 (dk_at dksX0_lay_1 23 rfl rfl)
theorem dX0_lay_48 : decode cX0_lay 48 = .ok (.aload_n 0, 1) := dk_42 (dk_at dksX0_lay_2 0 rfl rfl)
theorem dX0_lay_49 : decode cX0_lay 49 = .ok (.getfield 28, 3) := dk_180 0 28 (dk_at dksX0_lay_2 1 rfl rfl)
theorem dX0_lay_52 : decode cX0_lay 52 = .ok (.getfield 177, 3) := dk_180 0 177 (dk_at dksX0_lay_2 4 rfl rfl)
theorem dX0_lay_55 : decode cX0_lay 55 = .ok (.iload_n 1, 1) := dk_27 (dk_at dksX0_lay_2 7 rfl rfl)
theorem dX0_lay_56 : decode cX0_lay 56 = .ok (.iload_n 2, 1) := dk_28 (dk_at dksX0_lay_2 8 rfl rfl)
theorem dX0_lay_57 : decode cX0_lay 57 = .ok (.iastore, 1) := dk_79 (dk_at dksX0_lay_2 9 rfl rfl)
theorem dX0_lay_58 : decode cX0_lay 58 = .ok (.aload_n 0, 1) := dk_42 (dk_at dksX0_lay_2 10 rfl rfl)
theorem dX0_lay_59 : decode cX0_lay 59 = .ok (.getfield 28, 3) := dk_180 0 28 (dk_at dksX0_lay_2 11 rfl rfl)
theorem dX0_lay_62 : decode cX0_lay 62 = .ok (.getfield 146, 3) := dk_180 0 146 (dk_at dksX0_lay_2 14 rfl rfl)
theorem dX0_lay_65 : decode cX0_lay 65 = .ok (.new 368, 3) := dk_187 1 112 (dk_at dksX0_lay_2 17 rfl rfl)
theorem dX0_lay_68 : decode cX0_lay 68 = .ok (.dup, 1) := dk_89 (dk_at dksX0_lay_2 20 rfl rfl)
theorem dX0_lay_69 : decode cX0_lay 69 = .ok (.iload_n 1, 1) := dk_27 (dk_at dksX0_lay_2 21 rfl rfl)
theorem dX0_lay_70 : decode cX0_lay 70 = .ok (.iload_n 3, 1) := dk_29 (dk_at dksX0_lay_2 22 rfl rfl)
theorem dX0_lay_71 : decode cX0_lay 71 = .ok (.invokespecial 370, 3) := dk_183 1 114 (dk_at dksX0_lay_3 0 rfl rfl)
theorem dX0_lay_74 : decode cX0_lay 74 = .ok (.invokevirtual 372, 3) := dk_182 1 116 (dk_at dksX0_lay_3 3 rfl rfl)
theorem dX0_lay_77 : decode cX0_lay 77 = .ok (.pop, 1) := dk_87 (dk_at dksX0_lay_3 6 rfl rfl)
theorem dX0_lay_78 : decode cX0_lay 78 = .ok (.iload_n 3, 1) := dk_29 (dk_at dksX0_lay_3 7 rfl rfl)
theorem dX0_lay_79 : decode cX0_lay 79 = .ok (.ireturn, 1) := dk_172 (dk_at dksX0_lay_3 8 rfl rfl)
abbrev cX0_isFull : ByteArray := prog_1_method_89_code
def yX0_isFull : MethodName := ⟨RX0, "isFull", "()Z"⟩
def dkwX0_isFull_0 : List UInt8 := [42, 180, 0, 28, 180, 0, 146, 182, 0, 150, 16, 20, 160, 0, 7, 4, 167, 0, 4, 3, 172]
abbrev dktX0_isFull_0 : List UInt8 := dkwX0_isFull_0 ++ []
theorem dksX0_isFull_0 : cX0_isFull.data.toList.drop 0 = dktX0_isFull_0 := by decide +kernel
theorem dX0_isFull_0 : decode cX0_isFull 0 = .ok (.aload_n 0, 1) := dk_42 (dk_at dksX0_isFull_0 0 rfl rfl)
theorem dX0_isFull_1 : decode cX0_isFull 1 = .ok (.getfield 28, 3) := dk_180 0 28 (dk_at dksX0_isFull_0 1 rfl rfl)
theorem dX0_isFull_4 : decode cX0_isFull 4 = .ok (.getfield 146, 3) := dk_180 0 146 (dk_at dksX0_isFull_0 4 rfl rfl)
theorem dX0_isFull_7 : decode cX0_isFull 7 = .ok (.invokevirtual 150, 3) := dk_182 0 150 (dk_at dksX0_isFull_0 7 rfl rfl)
theorem dX0_isFull_10 : decode cX0_isFull 10 = .ok (.bipush 20, 2) := dk_16 20 (dk_at dksX0_isFull_0 10 rfl rfl)
theorem dX0_isFull_12 : decode cX0_isFull 12 = .ok (.if_icmp .ne 7, 3) := dk_160 0 7 (dk_at dksX0_isFull_0 12 rfl rfl)
theorem dX0_isFull_15 : decode cX0_isFull 15 = .ok (.iconst 1, 1) := dk_4 (dk_at dksX0_isFull_0 15 rfl rfl)
theorem dX0_isFull_16 : decode cX0_isFull 16 = .ok (.goto 4, 3) := dk_167 0 4 (dk_at dksX0_isFull_0 16 rfl rfl)
theorem dX0_isFull_19 : decode cX0_isFull 19 = .ok (.iconst 0, 1) := dk_3 (dk_at dksX0_isFull_0 19 rfl rfl)
theorem dX0_isFull_20 : decode cX0_isFull 20 = .ok (.ireturn, 1) := dk_172 (dk_at dksX0_isFull_0 20 rfl rfl)
abbrev cX0_feeds : ByteArray := prog_1_method_91_code
def yX0_feeds : MethodName := ⟨RX0, "feeds", "(I)I"⟩
def dkwX0_feeds_2 : List UInt8 := [89, 27, 183, 1, 122, 182, 1, 116, 87, 42, 180, 0, 28, 180, 0, 155, 184, 1, 50, 172]
abbrev dktX0_feeds_2 : List UInt8 := dkwX0_feeds_2 ++ []
def dkwX0_feeds_1 : List UInt8 := [180, 0, 28, 89, 180, 0, 155, 4, 27, 120, 130, 181, 0, 155, 42, 180, 0, 28, 180, 0, 146, 187, 1, 120]
abbrev dktX0_feeds_1 : List UInt8 := dkwX0_feeds_1 ++ dktX0_feeds_2
def dkwX0_feeds_0 : List UInt8 := [42, 27, 182, 0, 180, 154, 0, 6, 16, 254, 172, 42, 182, 1, 109, 153, 0, 6, 16, 251, 172, 42]
abbrev dktX0_feeds_0 : List UInt8 := dkwX0_feeds_0 ++ dktX0_feeds_1
theorem dksX0_feeds_0 : cX0_feeds.data.toList.drop 0 = dktX0_feeds_0 := by decide +kernel
theorem dksX0_feeds_1 : cX0_feeds.data.toList.drop 22 = dktX0_feeds_1 := dk_seg dksX0_feeds_0 22 rfl rfl
theorem dksX0_feeds_2 : cX0_feeds.data.toList.drop 46 = dktX0_feeds_2 := dk_seg dksX0_feeds_1 24 rfl rfl
theorem dX0_feeds_0 : decode cX0_feeds 0 = .ok (.aload_n 0, 1) := dk_42 (dk_at dksX0_feeds_0 0 rfl rfl)
theorem dX0_feeds_1 : decode cX0_feeds 1 = .ok (.iload_n 1, 1) := dk_27 (dk_at dksX0_feeds_0 1 rfl rfl)
theorem dX0_feeds_2 : decode cX0_feeds 2 = .ok (.invokevirtual 180, 3) := dk_182 0 180 (dk_at dksX0_feeds_0 2 rfl rfl)
theorem dX0_feeds_5 : decode cX0_feeds 5 = .ok (.ifCond .ne 6, 3) := dk_154 0 6 (dk_at dksX0_feeds_0 5 rfl rfl)
theorem dX0_feeds_8 : decode cX0_feeds 8 = .ok (.bipush (-2), 2) := dk_16 254 (dk_at dksX0_feeds_0 8 rfl rfl)
theorem dX0_feeds_10 : decode cX0_feeds 10 = .ok (.ireturn, 1) := dk_172 (dk_at dksX0_feeds_0 10 rfl rfl)
theorem dX0_feeds_11 : decode cX0_feeds 11 = .ok (.aload_n 0, 1) := dk_42 (dk_at dksX0_feeds_0 11 rfl rfl)
theorem dX0_feeds_12 : decode cX0_feeds 12 = .ok (.invokevirtual 365, 3) := dk_182 1 109 (dk_at dksX0_feeds_0 12 rfl rfl)
theorem dX0_feeds_15 : decode cX0_feeds 15 = .ok (.ifCond .eq 6, 3) := dk_153 0 6 (dk_at dksX0_feeds_0 15 rfl rfl)
theorem dX0_feeds_18 : decode cX0_feeds 18 = .ok (.bipush (-5), 2) := dk_16 251 (dk_at dksX0_feeds_0 18 rfl rfl)
theorem dX0_feeds_20 : decode cX0_feeds 20 = .ok (.ireturn, 1) := dk_172 (dk_at dksX0_feeds_0 20 rfl rfl)
theorem dX0_feeds_21 : decode cX0_feeds 21 = .ok (.aload_n 0, 1) := dk_42 (dk_at dksX0_feeds_0 21 rfl rfl)
theorem dX0_feeds_22 : decode cX0_feeds 22 = .ok (.getfield 28, 3) := dk_180 0 28 (dk_at dksX0_feeds_1 0 rfl rfl)
theorem dX0_feeds_25 : decode cX0_feeds 25 = .ok (.dup, 1) := dk_89 (dk_at dksX0_feeds_1 3 rfl rfl)
theorem dX0_feeds_26 : decode cX0_feeds 26 = .ok (.getfield 155, 3) := dk_180 0 155 (dk_at dksX0_feeds_1 4 rfl rfl)
theorem dX0_feeds_29 : decode cX0_feeds 29 = .ok (.iconst 1, 1) := dk_4 (dk_at dksX0_feeds_1 7 rfl rfl)
theorem dX0_feeds_30 : decode cX0_feeds 30 = .ok (.iload_n 1, 1) := dk_27 (dk_at dksX0_feeds_1 8 rfl rfl)
theorem dX0_feeds_31 : decode cX0_feeds 31 = .ok (.ishl, 1) := dk_120 (dk_at dksX0_feeds_1 9 rfl rfl)
theorem dX0_feeds_32 : decode cX0_feeds 32 = .ok (.ixor, 1) := dk_130 (dk_at dksX0_feeds_1 10 rfl rfl)
theorem dX0_feeds_33 : decode cX0_feeds 33 = .ok (.putfield 155, 3) := dk_181 0 155 (dk_at dksX0_feeds_1 11 rfl rfl)
theorem dX0_feeds_36 : decode cX0_feeds 36 = .ok (.aload_n 0, 1) := dk_42 (dk_at dksX0_feeds_1 14 rfl rfl)
theorem dX0_feeds_37 : decode cX0_feeds 37 = .ok (.getfield 28, 3) := dk_180 0 28 (dk_at dksX0_feeds_1 15 rfl rfl)
theorem dX0_feeds_40 : decode cX0_feeds 40 = .ok (.getfield 146, 3) := dk_180 0 146 (dk_at dksX0_feeds_1 18 rfl rfl)
theorem dX0_feeds_43 : decode cX0_feeds 43 = .ok (.new 376, 3) := dk_187 1 120 (dk_at dksX0_feeds_1 21 rfl rfl)
theorem dX0_feeds_46 : decode cX0_feeds 46 = .ok (.dup, 1) := dk_89 (dk_at dksX0_feeds_2 0 rfl rfl)
theorem dX0_feeds_47 : decode cX0_feeds 47 = .ok (.iload_n 1, 1) := dk_27 (dk_at dksX0_feeds_2 1 rfl rfl)
theorem dX0_feeds_48 : decode cX0_feeds 48 = .ok (.invokespecial 378, 3) := dk_183 1 122 (dk_at dksX0_feeds_2 2 rfl rfl)
theorem dX0_feeds_51 : decode cX0_feeds 51 = .ok (.invokevirtual 372, 3) := dk_182 1 116 (dk_at dksX0_feeds_2 5 rfl rfl)
theorem dX0_feeds_54 : decode cX0_feeds 54 = .ok (.pop, 1) := dk_87 (dk_at dksX0_feeds_2 8 rfl rfl)
theorem dX0_feeds_55 : decode cX0_feeds 55 = .ok (.aload_n 0, 1) := dk_42 (dk_at dksX0_feeds_2 9 rfl rfl)
theorem dX0_feeds_56 : decode cX0_feeds 56 = .ok (.getfield 28, 3) := dk_180 0 28 (dk_at dksX0_feeds_2 10 rfl rfl)
theorem dX0_feeds_59 : decode cX0_feeds 59 = .ok (.getfield 155, 3) := dk_180 0 155 (dk_at dksX0_feeds_2 13 rfl rfl)
theorem dX0_feeds_62 : decode cX0_feeds 62 = .ok (.invokestatic 306, 3) := dk_184 1 50 (dk_at dksX0_feeds_2 16 rfl rfl)
theorem dX0_feeds_65 : decode cX0_feeds 65 = .ok (.ireturn, 1) := dk_172 (dk_at dksX0_feeds_2 19 rfl rfl)
abbrev cX0_draw_2 : ByteArray := prog_1_method_92_code
def yX0_draw_2 : MethodName := ⟨RX0, "draw", "(II)I"⟩
def dkwX0_draw_2_3 : List UInt8 := [183, 1, 129, 182, 1, 116, 87, 29, 172]
abbrev dktX0_draw_2_3 : List UInt8 := dkwX0_draw_2_3 ++ []
def dkwX0_draw_2_2 : List UInt8 := [42, 180, 0, 28, 180, 0, 197, 27, 28, 79, 42, 180, 0, 28, 180, 0, 146, 187, 1, 127, 89, 27, 29]
abbrev dktX0_draw_2_2 : List UInt8 := dkwX0_draw_2_2 ++ dktX0_draw_2_3
def dkwX0_draw_2_1 : List UInt8 := [180, 0, 28, 180, 0, 197, 27, 46, 62, 29, 28, 159, 0, 10, 42, 182, 1, 109, 153, 0, 6, 16, 251, 172]
abbrev dktX0_draw_2_1 : List UInt8 := dkwX0_draw_2_1 ++ dktX0_draw_2_2
def dkwX0_draw_2_0 : List UInt8 := [42, 27, 182, 0, 180, 153, 0, 15, 28, 133, 9, 20, 1, 125, 184, 0, 73, 154, 0, 6, 16, 254, 172, 42]
abbrev dktX0_draw_2_0 : List UInt8 := dkwX0_draw_2_0 ++ dktX0_draw_2_1
theorem dksX0_draw_2_0 : cX0_draw_2.data.toList.drop 0 = dktX0_draw_2_0 := by decide +kernel
theorem dksX0_draw_2_1 : cX0_draw_2.data.toList.drop 24 = dktX0_draw_2_1 := dk_seg dksX0_draw_2_0 24 rfl rfl
theorem dksX0_draw_2_2 : cX0_draw_2.data.toList.drop 48 = dktX0_draw_2_2 := dk_seg dksX0_draw_2_1 24 rfl rfl
theorem dksX0_draw_2_3 : cX0_draw_2.data.toList.drop 71 = dktX0_draw_2_3 := dk_seg dksX0_draw_2_2 23 rfl rfl
theorem dX0_draw_2_0 : decode cX0_draw_2 0 = .ok (.aload_n 0, 1) := dk_42 (dk_at dksX0_draw_2_0 0 rfl rfl)
theorem dX0_draw_2_1 : decode cX0_draw_2 1 = .ok (.iload_n 1, 1) := dk_27 (dk_at dksX0_draw_2_0 1 rfl rfl)
theorem dX0_draw_2_2 : decode cX0_draw_2 2 = .ok (.invokevirtual 180, 3) := dk_182 0 180 (dk_at dksX0_draw_2_0 2 rfl rfl)
theorem dX0_draw_2_5 : decode cX0_draw_2 5 = .ok (.ifCond .eq 15, 3) := dk_153 0 15 (dk_at dksX0_draw_2_0 5 rfl rfl)
theorem dX0_draw_2_8 : decode cX0_draw_2 8 = .ok (.iload_n 2, 1) := dk_28 (dk_at dksX0_draw_2_0 8 rfl rfl)
theorem dX0_draw_2_9 : decode cX0_draw_2 9 = .ok (.i2l, 1) := dk_133 (dk_at dksX0_draw_2_0 9 rfl rfl)
theorem dX0_draw_2_10 : decode cX0_draw_2 10 = .ok (.lconst 0, 1) := dk_9 (dk_at dksX0_draw_2_0 10 rfl rfl)
theorem dX0_draw_2_11 : decode cX0_draw_2 11 = .ok (.ldc2_w 381, 3) := dk_20 1 125 (dk_at dksX0_draw_2_0 11 rfl rfl)
theorem dX0_draw_2_14 : decode cX0_draw_2 14 = .ok (.invokestatic 73, 3) := dk_184 0 73 (dk_at dksX0_draw_2_0 14 rfl rfl)
theorem dX0_draw_2_17 : decode cX0_draw_2 17 = .ok (.ifCond .ne 6, 3) := dk_154 0 6 (dk_at dksX0_draw_2_0 17 rfl rfl)
theorem dX0_draw_2_20 : decode cX0_draw_2 20 = .ok (.bipush (-2), 2) := dk_16 254 (dk_at dksX0_draw_2_0 20 rfl rfl)
theorem dX0_draw_2_22 : decode cX0_draw_2 22 = .ok (.ireturn, 1) := dk_172 (dk_at dksX0_draw_2_0 22 rfl rfl)
theorem dX0_draw_2_23 : decode cX0_draw_2 23 = .ok (.aload_n 0, 1) := dk_42 (dk_at dksX0_draw_2_0 23 rfl rfl)
theorem dX0_draw_2_24 : decode cX0_draw_2 24 = .ok (.getfield 28, 3) := dk_180 0 28 (dk_at dksX0_draw_2_1 0 rfl rfl)
theorem dX0_draw_2_27 : decode cX0_draw_2 27 = .ok (.getfield 197, 3) := dk_180 0 197 (dk_at dksX0_draw_2_1 3 rfl rfl)
theorem dX0_draw_2_30 : decode cX0_draw_2 30 = .ok (.iload_n 1, 1) := dk_27 (dk_at dksX0_draw_2_1 6 rfl rfl)
theorem dX0_draw_2_31 : decode cX0_draw_2 31 = .ok (.iaload, 1) := dk_46 (dk_at dksX0_draw_2_1 7 rfl rfl)
theorem dX0_draw_2_32 : decode cX0_draw_2 32 = .ok (.istore_n 3, 1) := dk_62 (dk_at dksX0_draw_2_1 8 rfl rfl)
theorem dX0_draw_2_33 : decode cX0_draw_2 33 = .ok (.iload_n 3, 1) := dk_29 (dk_at dksX0_draw_2_1 9 rfl rfl)
theorem dX0_draw_2_34 : decode cX0_draw_2 34 = .ok (.iload_n 2, 1) := dk_28 (dk_at dksX0_draw_2_1 10 rfl rfl)
theorem dX0_draw_2_35 : decode cX0_draw_2 35 = .ok (.if_icmp .eq 10, 3) := dk_159 0 10 (dk_at dksX0_draw_2_1 11 rfl rfl)
theorem dX0_draw_2_38 : decode cX0_draw_2 38 = .ok (.aload_n 0, 1) := dk_42 (dk_at dksX0_draw_2_1 14 rfl rfl)
theorem dX0_draw_2_39 : decode cX0_draw_2 39 = .ok (.invokevirtual 365, 3) := dk_182 1 109 (dk_at dksX0_draw_2_1 15 rfl rfl)
theorem dX0_draw_2_42 : decode cX0_draw_2 42 = .ok (.ifCond .eq 6, 3) := dk_153 0 6 (dk_at dksX0_draw_2_1 18 rfl rfl)
theorem dX0_draw_2_45 : decode cX0_draw_2 45 = .ok (.bipush (-5), 2) := dk_16 251 (dk_at dksX0_draw_2_1 21 rfl rfl)
theorem dX0_draw_2_47 : decode cX0_draw_2 47 = .ok (.ireturn, 1) := dk_172 (dk_at dksX0_draw_2_1 23 rfl rfl)
theorem dX0_draw_2_48 : decode cX0_draw_2 48 = .ok (.aload_n 0, 1) := dk_42 (dk_at dksX0_draw_2_2 0 rfl rfl)
theorem dX0_draw_2_49 : decode cX0_draw_2 49 = .ok (.getfield 28, 3) := dk_180 0 28 (dk_at dksX0_draw_2_2 1 rfl rfl)
theorem dX0_draw_2_52 : decode cX0_draw_2 52 = .ok (.getfield 197, 3) := dk_180 0 197 (dk_at dksX0_draw_2_2 4 rfl rfl)
theorem dX0_draw_2_55 : decode cX0_draw_2 55 = .ok (.iload_n 1, 1) := dk_27 (dk_at dksX0_draw_2_2 7 rfl rfl)
theorem dX0_draw_2_56 : decode cX0_draw_2 56 = .ok (.iload_n 2, 1) := dk_28 (dk_at dksX0_draw_2_2 8 rfl rfl)
theorem dX0_draw_2_57 : decode cX0_draw_2 57 = .ok (.iastore, 1) := dk_79 (dk_at dksX0_draw_2_2 9 rfl rfl)
theorem dX0_draw_2_58 : decode cX0_draw_2 58 = .ok (.aload_n 0, 1) := dk_42 (dk_at dksX0_draw_2_2 10 rfl rfl)
theorem dX0_draw_2_59 : decode cX0_draw_2 59 = .ok (.getfield 28, 3) := dk_180 0 28 (dk_at dksX0_draw_2_2 11 rfl rfl)
theorem dX0_draw_2_62 : decode cX0_draw_2 62 = .ok (.getfield 146, 3) := dk_180 0 146 (dk_at dksX0_draw_2_2 14 rfl rfl)
theorem dX0_draw_2_65 : decode cX0_draw_2 65 = .ok (.new 383, 3) := dk_187 1 127 (dk_at dksX0_draw_2_2 17 rfl rfl)
theorem dX0_draw_2_68 : decode cX0_draw_2 68 = .ok (.dup, 1) := dk_89 (dk_at dksX0_draw_2_2 20 rfl rfl)
theorem dX0_draw_2_69 : decode cX0_draw_2 69 = .ok (.iload_n 1, 1) := dk_27 (dk_at dksX0_draw_2_2 21 rfl rfl)
theorem dX0_draw_2_70 : decode cX0_draw_2 70 = .ok (.iload_n 3, 1) := dk_29 (dk_at dksX0_draw_2_2 22 rfl rfl)
theorem dX0_draw_2_71 : decode cX0_draw_2 71 = .ok (.invokespecial 385, 3) := dk_183 1 129 (dk_at dksX0_draw_2_3 0 rfl rfl)
theorem dX0_draw_2_74 : decode cX0_draw_2 74 = .ok (.invokevirtual 372, 3) := dk_182 1 116 (dk_at dksX0_draw_2_3 3 rfl rfl)
theorem dX0_draw_2_77 : decode cX0_draw_2 77 = .ok (.pop, 1) := dk_87 (dk_at dksX0_draw_2_3 6 rfl rfl)
theorem dX0_draw_2_78 : decode cX0_draw_2 78 = .ok (.iload_n 3, 1) := dk_29 (dk_at dksX0_draw_2_3 7 rfl rfl)
theorem dX0_draw_2_79 : decode cX0_draw_2 79 = .ok (.ireturn, 1) := dk_172 (dk_at dksX0_draw_2_3 8 rfl rfl)
abbrev cX0_year : ByteArray := prog_1_method_93_code
def yX0_year : MethodName := ⟨RX0, "year", "()I"⟩
def dkwX0_year_4 : List UInt8 := [184, 1, 50, 172]
abbrev dktX0_year_4 : List UInt8 := dkwX0_year_4 ++ []
def dkwX0_year_3 : List UInt8 := [167, 255, 217, 42, 180, 0, 28, 180, 0, 146, 187, 1, 130, 89, 27, 183, 1, 132, 182, 1, 116, 87, 27]
abbrev dktX0_year_3 : List UInt8 := dkwX0_year_3 ++ dktX0_year_4
def dkwX0_year_2 : List UInt8 := [180, 0, 177, 28, 92, 46, 27, 28, 184, 0, 193, 153, 0, 7, 4, 167, 0, 4, 3, 100, 79, 132, 2, 1]
abbrev dktX0_year_2 : List UInt8 := dkwX0_year_2 ++ dktX0_year_3
def dkwX0_year_1 : List UInt8 := [182, 0, 161, 182, 1, 0, 60, 3, 61, 28, 42, 180, 0, 28, 180, 0, 104, 162, 0, 34, 42, 180, 0, 28]
abbrev dktX0_year_1 : List UInt8 := dkwX0_year_1 ++ dktX0_year_2
def dkwX0_year_0 : List UInt8 := [42, 180, 0, 28, 182, 0, 158, 154, 0, 6, 16, 254, 172, 42, 182, 1, 109, 153, 0, 6, 16, 251, 172, 42]
abbrev dktX0_year_0 : List UInt8 := dkwX0_year_0 ++ dktX0_year_1
theorem dksX0_year_0 : cX0_year.data.toList.drop 0 = dktX0_year_0 := by decide +kernel
theorem dksX0_year_1 : cX0_year.data.toList.drop 24 = dktX0_year_1 := dk_seg dksX0_year_0 24 rfl rfl
theorem dksX0_year_2 : cX0_year.data.toList.drop 48 = dktX0_year_2 := dk_seg dksX0_year_1 24 rfl rfl
theorem dksX0_year_3 : cX0_year.data.toList.drop 72 = dktX0_year_3 := dk_seg dksX0_year_2 24 rfl rfl
theorem dksX0_year_4 : cX0_year.data.toList.drop 95 = dktX0_year_4 := dk_seg dksX0_year_3 23 rfl rfl
theorem dX0_year_0 : decode cX0_year 0 = .ok (.aload_n 0, 1) := dk_42 (dk_at dksX0_year_0 0 rfl rfl)
theorem dX0_year_1 : decode cX0_year 1 = .ok (.getfield 28, 3) := dk_180 0 28 (dk_at dksX0_year_0 1 rfl rfl)
theorem dX0_year_4 : decode cX0_year 4 = .ok (.invokevirtual 158, 3) := dk_182 0 158 (dk_at dksX0_year_0 4 rfl rfl)
theorem dX0_year_7 : decode cX0_year 7 = .ok (.ifCond .ne 6, 3) := dk_154 0 6 (dk_at dksX0_year_0 7 rfl rfl)
theorem dX0_year_10 : decode cX0_year 10 = .ok (.bipush (-2), 2) := dk_16 254 (dk_at dksX0_year_0 10 rfl rfl)
theorem dX0_year_12 : decode cX0_year 12 = .ok (.ireturn, 1) := dk_172 (dk_at dksX0_year_0 12 rfl rfl)
theorem dX0_year_13 : decode cX0_year 13 = .ok (.aload_n 0, 1) := dk_42 (dk_at dksX0_year_0 13 rfl rfl)
theorem dX0_year_14 : decode cX0_year 14 = .ok (.invokevirtual 365, 3) := dk_182 1 109 (dk_at dksX0_year_0 14 rfl rfl)
theorem dX0_year_17 : decode cX0_year 17 = .ok (.ifCond .eq 6, 3) := dk_153 0 6 (dk_at dksX0_year_0 17 rfl rfl)
theorem dX0_year_20 : decode cX0_year 20 = .ok (.bipush (-5), 2) := dk_16 251 (dk_at dksX0_year_0 20 rfl rfl)
theorem dX0_year_22 : decode cX0_year 22 = .ok (.ireturn, 1) := dk_172 (dk_at dksX0_year_0 22 rfl rfl)
theorem dX0_year_23 : decode cX0_year 23 = .ok (.aload_n 0, 1) := dk_42 (dk_at dksX0_year_0 23 rfl rfl)
theorem dX0_year_24 : decode cX0_year 24 = .ok (.invokevirtual 161, 3) := dk_182 0 161 (dk_at dksX0_year_1 0 rfl rfl)
theorem dX0_year_27 : decode cX0_year 27 = .ok (.invokevirtual 256, 3) := dk_182 1 0 (dk_at dksX0_year_1 3 rfl rfl)
theorem dX0_year_30 : decode cX0_year 30 = .ok (.istore_n 1, 1) := dk_60 (dk_at dksX0_year_1 6 rfl rfl)
theorem dX0_year_31 : decode cX0_year 31 = .ok (.iconst 0, 1) := dk_3 (dk_at dksX0_year_1 7 rfl rfl)
theorem dX0_year_32 : decode cX0_year 32 = .ok (.istore_n 2, 1) := dk_61 (dk_at dksX0_year_1 8 rfl rfl)
theorem dX0_year_33 : decode cX0_year 33 = .ok (.iload_n 2, 1) := dk_28 (dk_at dksX0_year_1 9 rfl rfl)
theorem dX0_year_34 : decode cX0_year 34 = .ok (.aload_n 0, 1) := dk_42 (dk_at dksX0_year_1 10 rfl rfl)
theorem dX0_year_35 : decode cX0_year 35 = .ok (.getfield 28, 3) := dk_180 0 28 (dk_at dksX0_year_1 11 rfl rfl)
theorem dX0_year_38 : decode cX0_year 38 = .ok (.getfield 104, 3) := dk_180 0 104 (dk_at dksX0_year_1 14 rfl rfl)
theorem dX0_year_41 : decode cX0_year 41 = .ok (.if_icmp .ge 34, 3) := dk_162 0 34 (dk_at dksX0_year_1 17 rfl rfl)
theorem dX0_year_44 : decode cX0_year 44 = .ok (.aload_n 0, 1) := dk_42 (dk_at dksX0_year_1 20 rfl rfl)
theorem dX0_year_45 : decode cX0_year 45 = .ok (.getfield 28, 3) := dk_180 0 28 (dk_at dksX0_year_1 21 rfl rfl)
theorem dX0_year_48 : decode cX0_year 48 = .ok (.getfield 177, 3) := dk_180 0 177 (dk_at dksX0_year_2 0 rfl rfl)
theorem dX0_year_51 : decode cX0_year 51 = .ok (.iload_n 2, 1) := dk_28 (dk_at dksX0_year_2 3 rfl rfl)
theorem dX0_year_52 : decode cX0_year 52 = .ok (.dup2, 1) := dk_92 (dk_at dksX0_year_2 4 rfl rfl)
theorem dX0_year_53 : decode cX0_year 53 = .ok (.iaload, 1) := dk_46 (dk_at dksX0_year_2 5 rfl rfl)
theorem dX0_year_54 : decode cX0_year 54 = .ok (.iload_n 1, 1) := dk_27 (dk_at dksX0_year_2 6 rfl rfl)
theorem dX0_year_55 : decode cX0_year 55 = .ok (.iload_n 2, 1) := dk_28 (dk_at dksX0_year_2 7 rfl rfl)
theorem dX0_year_56 : decode cX0_year 56 = .ok (.invokestatic 193, 3) := dk_184 0 193 (dk_at dksX0_year_2 8 rfl rfl)
theorem dX0_year_59 : decode cX0_year 59 = .ok (.ifCond .eq 7, 3) := dk_153 0 7 (dk_at dksX0_year_2 11 rfl rfl)
theorem dX0_year_62 : decode cX0_year 62 = .ok (.iconst 1, 1) := dk_4 (dk_at dksX0_year_2 14 rfl rfl)
theorem dX0_year_63 : decode cX0_year 63 = .ok (.goto 4, 3) := dk_167 0 4 (dk_at dksX0_year_2 15 rfl rfl)
theorem dX0_year_66 : decode cX0_year 66 = .ok (.iconst 0, 1) := dk_3 (dk_at dksX0_year_2 18 rfl rfl)
theorem dX0_year_67 : decode cX0_year 67 = .ok (.isub, 1) := dk_100 (dk_at dksX0_year_2 19 rfl rfl)
theorem dX0_year_68 : decode cX0_year 68 = .ok (.iastore, 1) := dk_79 (dk_at dksX0_year_2 20 rfl rfl)
theorem dX0_year_69 : decode cX0_year 69 = .ok (.iinc 2 1, 3) := dk_132 2 1 (dk_at dksX0_year_2 21 rfl rfl)
theorem dX0_year_72 : decode cX0_year 72 = .ok (.goto (-39), 3) := dk_167 255 217 (dk_at dksX0_year_3 0 rfl rfl)
theorem dX0_year_75 : decode cX0_year 75 = .ok (.aload_n 0, 1) := dk_42 (dk_at dksX0_year_3 3 rfl rfl)
theorem dX0_year_76 : decode cX0_year 76 = .ok (.getfield 28, 3) := dk_180 0 28 (dk_at dksX0_year_3 4 rfl rfl)
theorem dX0_year_79 : decode cX0_year 79 = .ok (.getfield 146, 3) := dk_180 0 146 (dk_at dksX0_year_3 7 rfl rfl)
theorem dX0_year_82 : decode cX0_year 82 = .ok (.new 386, 3) := dk_187 1 130 (dk_at dksX0_year_3 10 rfl rfl)
theorem dX0_year_85 : decode cX0_year 85 = .ok (.dup, 1) := dk_89 (dk_at dksX0_year_3 13 rfl rfl)
theorem dX0_year_86 : decode cX0_year 86 = .ok (.iload_n 1, 1) := dk_27 (dk_at dksX0_year_3 14 rfl rfl)
theorem dX0_year_87 : decode cX0_year 87 = .ok (.invokespecial 388, 3) := dk_183 1 132 (dk_at dksX0_year_3 15 rfl rfl)
theorem dX0_year_90 : decode cX0_year 90 = .ok (.invokevirtual 372, 3) := dk_182 1 116 (dk_at dksX0_year_3 18 rfl rfl)
theorem dX0_year_93 : decode cX0_year 93 = .ok (.pop, 1) := dk_87 (dk_at dksX0_year_3 21 rfl rfl)
theorem dX0_year_94 : decode cX0_year 94 = .ok (.iload_n 1, 1) := dk_27 (dk_at dksX0_year_3 22 rfl rfl)
theorem dX0_year_95 : decode cX0_year 95 = .ok (.invokestatic 306, 3) := dk_184 1 50 (dk_at dksX0_year_4 0 rfl rfl)
theorem dX0_year_98 : decode cX0_year 98 = .ok (.ireturn, 1) := dk_172 (dk_at dksX0_year_4 3 rfl rfl)
abbrev cX0_image : ByteArray := prog_1_method_94_code
def yX0_image : MethodName := ⟨RX0, "image", "(I)I"⟩
def dkwX0_image_1 : List UInt8 := [182, 1, 135, 83, 3, 172]
abbrev dktX0_image_1 : List UInt8 := dkwX0_image_1 ++ []
def dkwX0_image_0 : List UInt8 := [27, 133, 9, 20, 1, 133, 184, 0, 73, 154, 0, 6, 16, 254, 172, 42, 180, 0, 32, 27, 42, 180, 0, 28]
abbrev dktX0_image_0 : List UInt8 := dkwX0_image_0 ++ dktX0_image_1
theorem dksX0_image_0 : cX0_image.data.toList.drop 0 = dktX0_image_0 := by decide +kernel
theorem dksX0_image_1 : cX0_image.data.toList.drop 24 = dktX0_image_1 := dk_seg dksX0_image_0 24 rfl rfl
theorem dX0_image_0 : decode cX0_image 0 = .ok (.iload_n 1, 1) := dk_27 (dk_at dksX0_image_0 0 rfl rfl)
theorem dX0_image_1 : decode cX0_image 1 = .ok (.i2l, 1) := dk_133 (dk_at dksX0_image_0 1 rfl rfl)
theorem dX0_image_2 : decode cX0_image 2 = .ok (.lconst 0, 1) := dk_9 (dk_at dksX0_image_0 2 rfl rfl)
theorem dX0_image_3 : decode cX0_image 3 = .ok (.ldc2_w 389, 3) := dk_20 1 133 (dk_at dksX0_image_0 3 rfl rfl)
theorem dX0_image_6 : decode cX0_image 6 = .ok (.invokestatic 73, 3) := dk_184 0 73 (dk_at dksX0_image_0 6 rfl rfl)
theorem dX0_image_9 : decode cX0_image 9 = .ok (.ifCond .ne 6, 3) := dk_154 0 6 (dk_at dksX0_image_0 9 rfl rfl)
theorem dX0_image_12 : decode cX0_image 12 = .ok (.bipush (-2), 2) := dk_16 254 (dk_at dksX0_image_0 12 rfl rfl)
theorem dX0_image_14 : decode cX0_image 14 = .ok (.ireturn, 1) := dk_172 (dk_at dksX0_image_0 14 rfl rfl)
theorem dX0_image_15 : decode cX0_image 15 = .ok (.aload_n 0, 1) := dk_42 (dk_at dksX0_image_0 15 rfl rfl)
theorem dX0_image_16 : decode cX0_image 16 = .ok (.getfield 32, 3) := dk_180 0 32 (dk_at dksX0_image_0 16 rfl rfl)
theorem dX0_image_19 : decode cX0_image 19 = .ok (.iload_n 1, 1) := dk_27 (dk_at dksX0_image_0 19 rfl rfl)
theorem dX0_image_20 : decode cX0_image 20 = .ok (.aload_n 0, 1) := dk_42 (dk_at dksX0_image_0 20 rfl rfl)
theorem dX0_image_21 : decode cX0_image 21 = .ok (.getfield 28, 3) := dk_180 0 28 (dk_at dksX0_image_0 21 rfl rfl)
theorem dX0_image_24 : decode cX0_image 24 = .ok (.invokevirtual 391, 3) := dk_182 1 135 (dk_at dksX0_image_1 0 rfl rfl)
theorem dX0_image_27 : decode cX0_image 27 = .ok (.aastore, 1) := dk_83 (dk_at dksX0_image_1 3 rfl rfl)
theorem dX0_image_28 : decode cX0_image 28 = .ok (.iconst 0, 1) := dk_3 (dk_at dksX0_image_1 4 rfl rfl)
theorem dX0_image_29 : decode cX0_image 29 = .ok (.ireturn, 1) := dk_172 (dk_at dksX0_image_1 5 rfl rfl)
abbrev cX0_back : ByteArray := prog_1_method_95_code
def yX0_back : MethodName := ⟨RX0, "back", "(I)I"⟩
def dkwX0_back_1 : List UInt8 := [16, 250, 172, 42, 42, 180, 0, 32, 27, 50, 182, 1, 135, 181, 0, 28, 3, 172]
abbrev dktX0_back_1 : List UInt8 := dkwX0_back_1 ++ []
def dkwX0_back_0 : List UInt8 := [27, 133, 9, 20, 1, 133, 184, 0, 73, 154, 0, 6, 16, 254, 172, 42, 180, 0, 32, 27, 50, 199, 0, 6]
abbrev dktX0_back_0 : List UInt8 := dkwX0_back_0 ++ dktX0_back_1
theorem dksX0_back_0 : cX0_back.data.toList.drop 0 = dktX0_back_0 := by decide +kernel
theorem dksX0_back_1 : cX0_back.data.toList.drop 24 = dktX0_back_1 := dk_seg dksX0_back_0 24 rfl rfl
theorem dX0_back_0 : decode cX0_back 0 = .ok (.iload_n 1, 1) := dk_27 (dk_at dksX0_back_0 0 rfl rfl)
theorem dX0_back_1 : decode cX0_back 1 = .ok (.i2l, 1) := dk_133 (dk_at dksX0_back_0 1 rfl rfl)
theorem dX0_back_2 : decode cX0_back 2 = .ok (.lconst 0, 1) := dk_9 (dk_at dksX0_back_0 2 rfl rfl)
theorem dX0_back_3 : decode cX0_back 3 = .ok (.ldc2_w 389, 3) := dk_20 1 133 (dk_at dksX0_back_0 3 rfl rfl)
theorem dX0_back_6 : decode cX0_back 6 = .ok (.invokestatic 73, 3) := dk_184 0 73 (dk_at dksX0_back_0 6 rfl rfl)
theorem dX0_back_9 : decode cX0_back 9 = .ok (.ifCond .ne 6, 3) := dk_154 0 6 (dk_at dksX0_back_0 9 rfl rfl)
theorem dX0_back_12 : decode cX0_back 12 = .ok (.bipush (-2), 2) := dk_16 254 (dk_at dksX0_back_0 12 rfl rfl)
theorem dX0_back_14 : decode cX0_back 14 = .ok (.ireturn, 1) := dk_172 (dk_at dksX0_back_0 14 rfl rfl)
theorem dX0_back_15 : decode cX0_back 15 = .ok (.aload_n 0, 1) := dk_42 (dk_at dksX0_back_0 15 rfl rfl)
theorem dX0_back_16 : decode cX0_back 16 = .ok (.getfield 32, 3) := dk_180 0 32 (dk_at dksX0_back_0 16 rfl rfl)
theorem dX0_back_19 : decode cX0_back 19 = .ok (.iload_n 1, 1) := dk_27 (dk_at dksX0_back_0 19 rfl rfl)
theorem dX0_back_20 : decode cX0_back 20 = .ok (.aaload, 1) := dk_50 (dk_at dksX0_back_0 20 rfl rfl)
theorem dX0_back_21 : decode cX0_back 21 = .ok (.ifnonnull 6, 3) := dk_199 0 6 (dk_at dksX0_back_0 21 rfl rfl)
theorem dX0_back_24 : decode cX0_back 24 = .ok (.bipush (-6), 2) := dk_16 250 (dk_at dksX0_back_1 0 rfl rfl)
theorem dX0_back_26 : decode cX0_back 26 = .ok (.ireturn, 1) := dk_172 (dk_at dksX0_back_1 2 rfl rfl)
theorem dX0_back_27 : decode cX0_back 27 = .ok (.aload_n 0, 1) := dk_42 (dk_at dksX0_back_1 3 rfl rfl)
theorem dX0_back_28 : decode cX0_back 28 = .ok (.aload_n 0, 1) := dk_42 (dk_at dksX0_back_1 4 rfl rfl)
theorem dX0_back_29 : decode cX0_back 29 = .ok (.getfield 32, 3) := dk_180 0 32 (dk_at dksX0_back_1 5 rfl rfl)
theorem dX0_back_32 : decode cX0_back 32 = .ok (.iload_n 1, 1) := dk_27 (dk_at dksX0_back_1 8 rfl rfl)
theorem dX0_back_33 : decode cX0_back 33 = .ok (.aaload, 1) := dk_50 (dk_at dksX0_back_1 9 rfl rfl)
theorem dX0_back_34 : decode cX0_back 34 = .ok (.invokevirtual 391, 3) := dk_182 1 135 (dk_at dksX0_back_1 10 rfl rfl)
theorem dX0_back_37 : decode cX0_back 37 = .ok (.putfield 28, 3) := dk_181 0 28 (dk_at dksX0_back_1 13 rfl rfl)
theorem dX0_back_40 : decode cX0_back 40 = .ok (.iconst 0, 1) := dk_3 (dk_at dksX0_back_1 16 rfl rfl)
theorem dX0_back_41 : decode cX0_back 41 = .ok (.ireturn, 1) := dk_172 (dk_at dksX0_back_1 17 rfl rfl)
abbrev cX0_did : ByteArray := prog_1_method_97_code
def yX0_did : MethodName := ⟨RX0, "did", "(II)I"⟩
def dkwX0_did_8 : List UInt8 := [21, 4, 172]
abbrev dktX0_did_8 : List UInt8 := dkwX0_did_8 ++ []
def dkwX0_did_7 : List UInt8 := [21, 4, 25, 9, 180, 1, 154, 96, 54, 4, 132, 5, 1, 167, 255, 122, 28, 154, 0, 7, 29, 167, 0, 5]
abbrev dktX0_did_7 : List UInt8 := dkwX0_did_7 ++ dktX0_did_8
def dkwX0_did_6 : List UInt8 := [180, 1, 151, 96, 54, 4, 167, 0, 28, 25, 6, 193, 1, 112, 153, 0, 20, 25, 6, 192, 1, 112, 58, 9]
abbrev dktX0_did_6 : List UInt8 := dkwX0_did_6 ++ dktX0_did_7
def dkwX0_did_5 : List UInt8 := [54, 4, 167, 0, 56, 25, 6, 193, 1, 127, 153, 0, 23, 25, 6, 192, 1, 127, 58, 8, 21, 4, 25, 8]
abbrev dktX0_did_5 : List UInt8 := dkwX0_did_5 ++ dktX0_did_6
def dkwX0_did_4 : List UInt8 := [193, 1, 130, 153, 0, 26, 25, 6, 192, 1, 130, 58, 7, 21, 4, 25, 7, 180, 1, 148, 184, 1, 50, 96]
abbrev dktX0_did_4 : List UInt8 := dkwX0_did_4 ++ dktX0_did_5
def dkwX0_did_3 : List UInt8 := [192, 1, 142, 58, 6, 25, 6, 184, 1, 144, 27, 159, 0, 6, 167, 0, 90, 132, 3, 1, 25, 6]
abbrev dktX0_did_3 : List UInt8 := dkwX0_did_3 ++ dktX0_did_4
def dkwX0_did_2 : List UInt8 := [180, 0, 28, 180, 0, 146, 182, 0, 150, 162, 0, 125, 42, 180, 0, 28, 180, 0, 146, 21, 5, 182, 1, 138]
abbrev dktX0_did_2 : List UInt8 := dkwX0_did_2 ++ dktX0_did_3
def dkwX0_did_1 : List UInt8 := [9, 10, 184, 0, 73, 154, 0, 6, 16, 254, 172, 3, 62, 3, 54, 4, 3, 54, 5, 21, 5, 42]
abbrev dktX0_did_1 : List UInt8 := dkwX0_did_1 ++ dktX0_did_2
def dkwX0_did_0 : List UInt8 := [42, 180, 0, 28, 182, 0, 158, 153, 0, 25, 27, 133, 9, 20, 0, 206, 184, 0, 73, 153, 0, 13, 28, 133]
abbrev dktX0_did_0 : List UInt8 := dkwX0_did_0 ++ dktX0_did_1
theorem dksX0_did_0 : cX0_did.data.toList.drop 0 = dktX0_did_0 := by decide +kernel
theorem dksX0_did_1 : cX0_did.data.toList.drop 24 = dktX0_did_1 := dk_seg dksX0_did_0 24 rfl rfl
theorem dksX0_did_2 : cX0_did.data.toList.drop 46 = dktX0_did_2 := dk_seg dksX0_did_1 22 rfl rfl
theorem dksX0_did_3 : cX0_did.data.toList.drop 70 = dktX0_did_3 := dk_seg dksX0_did_2 24 rfl rfl
theorem dksX0_did_4 : cX0_did.data.toList.drop 92 = dktX0_did_4 := dk_seg dksX0_did_3 22 rfl rfl
theorem dksX0_did_5 : cX0_did.data.toList.drop 116 = dktX0_did_5 := dk_seg dksX0_did_4 24 rfl rfl
theorem dksX0_did_6 : cX0_did.data.toList.drop 140 = dktX0_did_6 := dk_seg dksX0_did_5 24 rfl rfl
theorem dksX0_did_7 : cX0_did.data.toList.drop 164 = dktX0_did_7 := dk_seg dksX0_did_6 24 rfl rfl
theorem dksX0_did_8 : cX0_did.data.toList.drop 188 = dktX0_did_8 := dk_seg dksX0_did_7 24 rfl rfl
theorem dX0_did_0 : decode cX0_did 0 = .ok (.aload_n 0, 1) := dk_42 (dk_at dksX0_did_0 0 rfl rfl)
theorem dX0_did_1 : decode cX0_did 1 = .ok (.getfield 28, 3) := dk_180 0 28 (dk_at dksX0_did_0 1 rfl rfl)
theorem dX0_did_4 : decode cX0_did 4 = .ok (.invokevirtual 158, 3) := dk_182 0 158 (dk_at dksX0_did_0 4 rfl rfl)
theorem dX0_did_7 : decode cX0_did 7 = .ok (.ifCond .eq 25, 3) := dk_153 0 25 (dk_at dksX0_did_0 7 rfl rfl)
theorem dX0_did_10 : decode cX0_did 10 = .ok (.iload_n 1, 1) := dk_27 (dk_at dksX0_did_0 10 rfl rfl)
theorem dX0_did_11 : decode cX0_did 11 = .ok (.i2l, 1) := dk_133 (dk_at dksX0_did_0 11 rfl rfl)
theorem dX0_did_12 : decode cX0_did 12 = .ok (.lconst 0, 1) := dk_9 (dk_at dksX0_did_0 12 rfl rfl)
theorem dX0_did_13 : decode cX0_did 13 = .ok (.ldc2_w 206, 3) := dk_20 0 206 (dk_at dksX0_did_0 13 rfl rfl)
theorem dX0_did_16 : decode cX0_did 16 = .ok (.invokestatic 73, 3) := dk_184 0 73 (dk_at dksX0_did_0 16 rfl rfl)
theorem dX0_did_19 : decode cX0_did 19 = .ok (.ifCond .eq 13, 3) := dk_153 0 13 (dk_at dksX0_did_0 19 rfl rfl)
theorem dX0_did_22 : decode cX0_did 22 = .ok (.iload_n 2, 1) := dk_28 (dk_at dksX0_did_0 22 rfl rfl)
theorem dX0_did_23 : decode cX0_did 23 = .ok (.i2l, 1) := dk_133 (dk_at dksX0_did_0 23 rfl rfl)
theorem dX0_did_24 : decode cX0_did 24 = .ok (.lconst 0, 1) := dk_9 (dk_at dksX0_did_1 0 rfl rfl)
theorem dX0_did_25 : decode cX0_did 25 = .ok (.lconst 1, 1) := dk_10 (dk_at dksX0_did_1 1 rfl rfl)
theorem dX0_did_26 : decode cX0_did 26 = .ok (.invokestatic 73, 3) := dk_184 0 73 (dk_at dksX0_did_1 2 rfl rfl)
theorem dX0_did_29 : decode cX0_did 29 = .ok (.ifCond .ne 6, 3) := dk_154 0 6 (dk_at dksX0_did_1 5 rfl rfl)
theorem dX0_did_32 : decode cX0_did 32 = .ok (.bipush (-2), 2) := dk_16 254 (dk_at dksX0_did_1 8 rfl rfl)
theorem dX0_did_34 : decode cX0_did 34 = .ok (.ireturn, 1) := dk_172 (dk_at dksX0_did_1 10 rfl rfl)
theorem dX0_did_35 : decode cX0_did 35 = .ok (.iconst 0, 1) := dk_3 (dk_at dksX0_did_1 11 rfl rfl)
theorem dX0_did_36 : decode cX0_did 36 = .ok (.istore_n 3, 1) := dk_62 (dk_at dksX0_did_1 12 rfl rfl)
theorem dX0_did_37 : decode cX0_did 37 = .ok (.iconst 0, 1) := dk_3 (dk_at dksX0_did_1 13 rfl rfl)
theorem dX0_did_38 : decode cX0_did 38 = .ok (.istore 4, 2) := dk_54 4 (dk_at dksX0_did_1 14 rfl rfl)
theorem dX0_did_40 : decode cX0_did 40 = .ok (.iconst 0, 1) := dk_3 (dk_at dksX0_did_1 16 rfl rfl)
theorem dX0_did_41 : decode cX0_did 41 = .ok (.istore 5, 2) := dk_54 5 (dk_at dksX0_did_1 17 rfl rfl)
theorem dX0_did_43 : decode cX0_did 43 = .ok (.iload 5, 2) := dk_21 5 (dk_at dksX0_did_1 19 rfl rfl)
theorem dX0_did_45 : decode cX0_did 45 = .ok (.aload_n 0, 1) := dk_42 (dk_at dksX0_did_1 21 rfl rfl)
theorem dX0_did_46 : decode cX0_did 46 = .ok (.getfield 28, 3) := dk_180 0 28 (dk_at dksX0_did_2 0 rfl rfl)
theorem dX0_did_49 : decode cX0_did 49 = .ok (.getfield 146, 3) := dk_180 0 146 (dk_at dksX0_did_2 3 rfl rfl)
theorem dX0_did_52 : decode cX0_did 52 = .ok (.invokevirtual 150, 3) := dk_182 0 150 (dk_at dksX0_did_2 6 rfl rfl)
theorem dX0_did_55 : decode cX0_did 55 = .ok (.if_icmp .ge 125, 3) := dk_162 0 125 (dk_at dksX0_did_2 9 rfl rfl)
theorem dX0_did_58 : decode cX0_did 58 = .ok (.aload_n 0, 1) := dk_42 (dk_at dksX0_did_2 12 rfl rfl)
theorem dX0_did_59 : decode cX0_did 59 = .ok (.getfield 28, 3) := dk_180 0 28 (dk_at dksX0_did_2 13 rfl rfl)
theorem dX0_did_62 : decode cX0_did 62 = .ok (.getfield 146, 3) := dk_180 0 146 (dk_at dksX0_did_2 16 rfl rfl)
theorem dX0_did_65 : decode cX0_did 65 = .ok (.iload 5, 2) := dk_21 5 (dk_at dksX0_did_2 19 rfl rfl)
theorem dX0_did_67 : decode cX0_did 67 = .ok (.invokevirtual 394, 3) := dk_182 1 138 (dk_at dksX0_did_2 21 rfl rfl)
theorem dX0_did_70 : decode cX0_did 70 = .ok (.checkcast 398, 3) := dk_192 1 142 (dk_at dksX0_did_3 0 rfl rfl)
theorem dX0_did_73 : decode cX0_did 73 = .ok (.astore 6, 2) := dk_58 6 (dk_at dksX0_did_3 3 rfl rfl)
theorem dX0_did_75 : decode cX0_did 75 = .ok (.aload 6, 2) := dk_25 6 (dk_at dksX0_did_3 5 rfl rfl)
theorem dX0_did_77 : decode cX0_did 77 = .ok (.invokestatic 400, 3) := dk_184 1 144 (dk_at dksX0_did_3 7 rfl rfl)
theorem dX0_did_80 : decode cX0_did 80 = .ok (.iload_n 1, 1) := dk_27 (dk_at dksX0_did_3 10 rfl rfl)
theorem dX0_did_81 : decode cX0_did 81 = .ok (.if_icmp .eq 6, 3) := dk_159 0 6 (dk_at dksX0_did_3 11 rfl rfl)
theorem dX0_did_84 : decode cX0_did 84 = .ok (.goto 90, 3) := dk_167 0 90 (dk_at dksX0_did_3 14 rfl rfl)
theorem dX0_did_87 : decode cX0_did 87 = .ok (.iinc 3 1, 3) := dk_132 3 1 (dk_at dksX0_did_3 17 rfl rfl)
theorem dX0_did_90 : decode cX0_did 90 = .ok (.aload 6, 2) := dk_25 6 (dk_at dksX0_did_3 20 rfl rfl)
theorem dX0_did_92 : decode cX0_did 92 = .ok (.instanceof 386, 3) := dk_193 1 130 (dk_at dksX0_did_4 0 rfl rfl)
theorem dX0_did_95 : decode cX0_did 95 = .ok (.ifCond .eq 26, 3) := dk_153 0 26 (dk_at dksX0_did_4 3 rfl rfl)
theorem dX0_did_98 : decode cX0_did 98 = .ok (.aload 6, 2) := dk_25 6 (dk_at dksX0_did_4 6 rfl rfl)
theorem dX0_did_100 : decode cX0_did 100 = .ok (.checkcast 386, 3) := dk_192 1 130 (dk_at dksX0_did_4 8 rfl rfl)
theorem dX0_did_103 : decode cX0_did 103 = .ok (.astore 7, 2) := dk_58 7 (dk_at dksX0_did_4 11 rfl rfl)
theorem dX0_did_105 : decode cX0_did 105 = .ok (.iload 4, 2) := dk_21 4 (dk_at dksX0_did_4 13 rfl rfl)
theorem dX0_did_107 : decode cX0_did 107 = .ok (.aload 7, 2) := dk_25 7 (dk_at dksX0_did_4 15 rfl rfl)
theorem dX0_did_109 : decode cX0_did 109 = .ok (.getfield 404, 3) := dk_180 1 148 (dk_at dksX0_did_4 17 rfl rfl)
theorem dX0_did_112 : decode cX0_did 112 = .ok (.invokestatic 306, 3) := dk_184 1 50 (dk_at dksX0_did_4 20 rfl rfl)
theorem dX0_did_115 : decode cX0_did 115 = .ok (.iadd, 1) := dk_96 (dk_at dksX0_did_4 23 rfl rfl)
theorem dX0_did_116 : decode cX0_did 116 = .ok (.istore 4, 2) := dk_54 4 (dk_at dksX0_did_5 0 rfl rfl)
theorem dX0_did_118 : decode cX0_did 118 = .ok (.goto 56, 3) := dk_167 0 56 (dk_at dksX0_did_5 2 rfl rfl)
theorem dX0_did_121 : decode cX0_did 121 = .ok (.aload 6, 2) := dk_25 6 (dk_at dksX0_did_5 5 rfl rfl)
theorem dX0_did_123 : decode cX0_did 123 = .ok (.instanceof 383, 3) := dk_193 1 127 (dk_at dksX0_did_5 7 rfl rfl)
theorem dX0_did_126 : decode cX0_did 126 = .ok (.ifCond .eq 23, 3) := dk_153 0 23 (dk_at dksX0_did_5 10 rfl rfl)
theorem dX0_did_129 : decode cX0_did 129 = .ok (.aload 6, 2) := dk_25 6 (dk_at dksX0_did_5 13 rfl rfl)
theorem dX0_did_131 : decode cX0_did 131 = .ok (.checkcast 383, 3) := dk_192 1 127 (dk_at dksX0_did_5 15 rfl rfl)
theorem dX0_did_134 : decode cX0_did 134 = .ok (.astore 8, 2) := dk_58 8 (dk_at dksX0_did_5 18 rfl rfl)
theorem dX0_did_136 : decode cX0_did 136 = .ok (.iload 4, 2) := dk_21 4 (dk_at dksX0_did_5 20 rfl rfl)
theorem dX0_did_138 : decode cX0_did 138 = .ok (.aload 8, 2) := dk_25 8 (dk_at dksX0_did_5 22 rfl rfl)
theorem dX0_did_140 : decode cX0_did 140 = .ok (.getfield 407, 3) := dk_180 1 151 (dk_at dksX0_did_6 0 rfl rfl)
theorem dX0_did_143 : decode cX0_did 143 = .ok (.iadd, 1) := dk_96 (dk_at dksX0_did_6 3 rfl rfl)
theorem dX0_did_144 : decode cX0_did 144 = .ok (.istore 4, 2) := dk_54 4 (dk_at dksX0_did_6 4 rfl rfl)
theorem dX0_did_146 : decode cX0_did 146 = .ok (.goto 28, 3) := dk_167 0 28 (dk_at dksX0_did_6 6 rfl rfl)
theorem dX0_did_149 : decode cX0_did 149 = .ok (.aload 6, 2) := dk_25 6 (dk_at dksX0_did_6 9 rfl rfl)
theorem dX0_did_151 : decode cX0_did 151 = .ok (.instanceof 368, 3) := dk_193 1 112 (dk_at dksX0_did_6 11 rfl rfl)
theorem dX0_did_154 : decode cX0_did 154 = .ok (.ifCond .eq 20, 3) := dk_153 0 20 (dk_at dksX0_did_6 14 rfl rfl)
theorem dX0_did_157 : decode cX0_did 157 = .ok (.aload 6, 2) := dk_25 6 (dk_at dksX0_did_6 17 rfl rfl)
theorem dX0_did_159 : decode cX0_did 159 = .ok (.checkcast 368, 3) := dk_192 1 112 (dk_at dksX0_did_6 19 rfl rfl)
theorem dX0_did_162 : decode cX0_did 162 = .ok (.astore 9, 2) := dk_58 9 (dk_at dksX0_did_6 22 rfl rfl)
theorem dX0_did_164 : decode cX0_did 164 = .ok (.iload 4, 2) := dk_21 4 (dk_at dksX0_did_7 0 rfl rfl)
theorem dX0_did_166 : decode cX0_did 166 = .ok (.aload 9, 2) := dk_25 9 (dk_at dksX0_did_7 2 rfl rfl)
theorem dX0_did_168 : decode cX0_did 168 = .ok (.getfield 410, 3) := dk_180 1 154 (dk_at dksX0_did_7 4 rfl rfl)
theorem dX0_did_171 : decode cX0_did 171 = .ok (.iadd, 1) := dk_96 (dk_at dksX0_did_7 7 rfl rfl)
theorem dX0_did_172 : decode cX0_did 172 = .ok (.istore 4, 2) := dk_54 4 (dk_at dksX0_did_7 8 rfl rfl)
theorem dX0_did_174 : decode cX0_did 174 = .ok (.iinc 5 1, 3) := dk_132 5 1 (dk_at dksX0_did_7 10 rfl rfl)
theorem dX0_did_177 : decode cX0_did 177 = .ok (.goto (-134), 3) := dk_167 255 122 (dk_at dksX0_did_7 13 rfl rfl)
theorem dX0_did_180 : decode cX0_did 180 = .ok (.iload_n 2, 1) := dk_28 (dk_at dksX0_did_7 16 rfl rfl)
theorem dX0_did_181 : decode cX0_did 181 = .ok (.ifCond .ne 7, 3) := dk_154 0 7 (dk_at dksX0_did_7 17 rfl rfl)
theorem dX0_did_184 : decode cX0_did 184 = .ok (.iload_n 3, 1) := dk_29 (dk_at dksX0_did_7 20 rfl rfl)
theorem dX0_did_185 : decode cX0_did 185 = .ok (.goto 5, 3) := dk_167 0 5 (dk_at dksX0_did_7 21 rfl rfl)
theorem dX0_did_188 : decode cX0_did 188 = .ok (.iload 4, 2) := dk_21 4 (dk_at dksX0_did_8 0 rfl rfl)
theorem dX0_did_190 : decode cX0_did 190 = .ok (.ireturn, 1) := dk_172 (dk_at dksX0_did_8 2 rfl rfl)
abbrev cX0_kindOf : ByteArray := prog_1_method_96_code
def yX0_kindOf : MethodName := ⟨RX0, "kindOf", "(LSupplyGrid$Change;)I"⟩
def dkwX0_kindOf_1 : List UInt8 := [193, 1, 127, 153, 0, 7, 5, 167, 0, 4, 6, 172]
abbrev dktX0_kindOf_1 : List UInt8 := dkwX0_kindOf_1 ++ []
def dkwX0_kindOf_0 : List UInt8 := [42, 193, 1, 112, 153, 0, 7, 3, 167, 0, 26, 42, 193, 1, 120, 153, 0, 7, 4, 167, 0, 15, 42]
abbrev dktX0_kindOf_0 : List UInt8 := dkwX0_kindOf_0 ++ dktX0_kindOf_1
theorem dksX0_kindOf_0 : cX0_kindOf.data.toList.drop 0 = dktX0_kindOf_0 := by decide +kernel
theorem dksX0_kindOf_1 : cX0_kindOf.data.toList.drop 23 = dktX0_kindOf_1 := dk_seg dksX0_kindOf_0 23 rfl rfl
theorem dX0_kindOf_0 : decode cX0_kindOf 0 = .ok (.aload_n 0, 1) := dk_42 (dk_at dksX0_kindOf_0 0 rfl rfl)
theorem dX0_kindOf_1 : decode cX0_kindOf 1 = .ok (.instanceof 368, 3) := dk_193 1 112 (dk_at dksX0_kindOf_0 1 rfl rfl)
theorem dX0_kindOf_4 : decode cX0_kindOf 4 = .ok (.ifCond .eq 7, 3) := dk_153 0 7 (dk_at dksX0_kindOf_0 4 rfl rfl)
theorem dX0_kindOf_7 : decode cX0_kindOf 7 = .ok (.iconst 0, 1) := dk_3 (dk_at dksX0_kindOf_0 7 rfl rfl)
theorem dX0_kindOf_8 : decode cX0_kindOf 8 = .ok (.goto 26, 3) := dk_167 0 26 (dk_at dksX0_kindOf_0 8 rfl rfl)
theorem dX0_kindOf_11 : decode cX0_kindOf 11 = .ok (.aload_n 0, 1) := dk_42 (dk_at dksX0_kindOf_0 11 rfl rfl)
theorem dX0_kindOf_12 : decode cX0_kindOf 12 = .ok (.instanceof 376, 3) := dk_193 1 120 (dk_at dksX0_kindOf_0 12 rfl rfl)
theorem dX0_kindOf_15 : decode cX0_kindOf 15 = .ok (.ifCond .eq 7, 3) := dk_153 0 7 (dk_at dksX0_kindOf_0 15 rfl rfl)
theorem dX0_kindOf_18 : decode cX0_kindOf 18 = .ok (.iconst 1, 1) := dk_4 (dk_at dksX0_kindOf_0 18 rfl rfl)
theorem dX0_kindOf_19 : decode cX0_kindOf 19 = .ok (.goto 15, 3) := dk_167 0 15 (dk_at dksX0_kindOf_0 19 rfl rfl)
theorem dX0_kindOf_22 : decode cX0_kindOf 22 = .ok (.aload_n 0, 1) := dk_42 (dk_at dksX0_kindOf_0 22 rfl rfl)
theorem dX0_kindOf_23 : decode cX0_kindOf 23 = .ok (.instanceof 383, 3) := dk_193 1 127 (dk_at dksX0_kindOf_1 0 rfl rfl)
theorem dX0_kindOf_26 : decode cX0_kindOf 26 = .ok (.ifCond .eq 7, 3) := dk_153 0 7 (dk_at dksX0_kindOf_1 3 rfl rfl)
theorem dX0_kindOf_29 : decode cX0_kindOf 29 = .ok (.iconst 2, 1) := dk_5 (dk_at dksX0_kindOf_1 6 rfl rfl)
theorem dX0_kindOf_30 : decode cX0_kindOf 30 = .ok (.goto 4, 3) := dk_167 0 4 (dk_at dksX0_kindOf_1 7 rfl rfl)
theorem dX0_kindOf_33 : decode cX0_kindOf 33 = .ok (.iconst 3, 1) := dk_6 (dk_at dksX0_kindOf_1 10 rfl rfl)
theorem dX0_kindOf_34 : decode cX0_kindOf 34 = .ok (.ireturn, 1) := dk_172 (dk_at dksX0_kindOf_1 11 rfl rfl)
abbrev cX0_undo : ByteArray := prog_1_method_99_code
def yX0_undo : MethodName := ⟨RX0, "undo", "()I"⟩
def dkwX0_undo_1 : List UInt8 := [153, 0, 6, 16, 251, 172, 42, 182, 1, 165, 42, 180, 0, 28, 180, 0, 146, 182, 0, 150, 172]
abbrev dktX0_undo_1 : List UInt8 := dkwX0_undo_1 ++ []
def dkwX0_undo_0 : List UInt8 := [42, 180, 0, 28, 182, 0, 158, 154, 0, 6, 16, 254, 172, 42, 180, 0, 28, 180, 0, 146, 182, 1, 162]
abbrev dktX0_undo_0 : List UInt8 := dkwX0_undo_0 ++ dktX0_undo_1
theorem dksX0_undo_0 : cX0_undo.data.toList.drop 0 = dktX0_undo_0 := by decide +kernel
theorem dksX0_undo_1 : cX0_undo.data.toList.drop 23 = dktX0_undo_1 := dk_seg dksX0_undo_0 23 rfl rfl
theorem dX0_undo_0 : decode cX0_undo 0 = .ok (.aload_n 0, 1) := dk_42 (dk_at dksX0_undo_0 0 rfl rfl)
theorem dX0_undo_1 : decode cX0_undo 1 = .ok (.getfield 28, 3) := dk_180 0 28 (dk_at dksX0_undo_0 1 rfl rfl)
theorem dX0_undo_4 : decode cX0_undo 4 = .ok (.invokevirtual 158, 3) := dk_182 0 158 (dk_at dksX0_undo_0 4 rfl rfl)
theorem dX0_undo_7 : decode cX0_undo 7 = .ok (.ifCond .ne 6, 3) := dk_154 0 6 (dk_at dksX0_undo_0 7 rfl rfl)
theorem dX0_undo_10 : decode cX0_undo 10 = .ok (.bipush (-2), 2) := dk_16 254 (dk_at dksX0_undo_0 10 rfl rfl)
theorem dX0_undo_12 : decode cX0_undo 12 = .ok (.ireturn, 1) := dk_172 (dk_at dksX0_undo_0 12 rfl rfl)
theorem dX0_undo_13 : decode cX0_undo 13 = .ok (.aload_n 0, 1) := dk_42 (dk_at dksX0_undo_0 13 rfl rfl)
theorem dX0_undo_14 : decode cX0_undo 14 = .ok (.getfield 28, 3) := dk_180 0 28 (dk_at dksX0_undo_0 14 rfl rfl)
theorem dX0_undo_17 : decode cX0_undo 17 = .ok (.getfield 146, 3) := dk_180 0 146 (dk_at dksX0_undo_0 17 rfl rfl)
theorem dX0_undo_20 : decode cX0_undo 20 = .ok (.invokevirtual 418, 3) := dk_182 1 162 (dk_at dksX0_undo_0 20 rfl rfl)
theorem dX0_undo_23 : decode cX0_undo 23 = .ok (.ifCond .eq 6, 3) := dk_153 0 6 (dk_at dksX0_undo_1 0 rfl rfl)
theorem dX0_undo_26 : decode cX0_undo 26 = .ok (.bipush (-5), 2) := dk_16 251 (dk_at dksX0_undo_1 3 rfl rfl)
theorem dX0_undo_28 : decode cX0_undo 28 = .ok (.ireturn, 1) := dk_172 (dk_at dksX0_undo_1 5 rfl rfl)
theorem dX0_undo_29 : decode cX0_undo 29 = .ok (.aload_n 0, 1) := dk_42 (dk_at dksX0_undo_1 6 rfl rfl)
theorem dX0_undo_30 : decode cX0_undo 30 = .ok (.invokevirtual 421, 3) := dk_182 1 165 (dk_at dksX0_undo_1 7 rfl rfl)
theorem dX0_undo_33 : decode cX0_undo 33 = .ok (.aload_n 0, 1) := dk_42 (dk_at dksX0_undo_1 10 rfl rfl)
theorem dX0_undo_34 : decode cX0_undo 34 = .ok (.getfield 28, 3) := dk_180 0 28 (dk_at dksX0_undo_1 11 rfl rfl)
theorem dX0_undo_37 : decode cX0_undo 37 = .ok (.getfield 146, 3) := dk_180 0 146 (dk_at dksX0_undo_1 14 rfl rfl)
theorem dX0_undo_40 : decode cX0_undo 40 = .ok (.invokevirtual 150, 3) := dk_182 0 150 (dk_at dksX0_undo_1 17 rfl rfl)
theorem dX0_undo_43 : decode cX0_undo 43 = .ok (.ireturn, 1) := dk_172 (dk_at dksX0_undo_1 20 rfl rfl)
abbrev cX0_takesBack : ByteArray := prog_1_method_98_code
def yX0_takesBack : MethodName := ⟨RX0, "takesBack", "()V"⟩
def dkwX0_takesBack_1 : List UInt8 := [192, 1, 142, 42, 180, 0, 28, 185, 1, 158, 2, 0, 177]
abbrev dktX0_takesBack_1 : List UInt8 := dkwX0_takesBack_1 ++ []
def dkwX0_takesBack_0 : List UInt8 := [42, 180, 0, 28, 180, 0, 146, 42, 180, 0, 28, 180, 0, 146, 182, 0, 150, 4, 100, 182, 1, 155]
abbrev dktX0_takesBack_0 : List UInt8 := dkwX0_takesBack_0 ++ dktX0_takesBack_1
theorem dksX0_takesBack_0 : cX0_takesBack.data.toList.drop 0 = dktX0_takesBack_0 := by decide +kernel
theorem dksX0_takesBack_1 : cX0_takesBack.data.toList.drop 22 = dktX0_takesBack_1 := dk_seg dksX0_takesBack_0 22 rfl rfl
theorem dX0_takesBack_0 : decode cX0_takesBack 0 = .ok (.aload_n 0, 1) := dk_42 (dk_at dksX0_takesBack_0 0 rfl rfl)
theorem dX0_takesBack_1 : decode cX0_takesBack 1 = .ok (.getfield 28, 3) := dk_180 0 28 (dk_at dksX0_takesBack_0 1 rfl rfl)
theorem dX0_takesBack_4 : decode cX0_takesBack 4 = .ok (.getfield 146, 3) := dk_180 0 146 (dk_at dksX0_takesBack_0 4 rfl rfl)
theorem dX0_takesBack_7 : decode cX0_takesBack 7 = .ok (.aload_n 0, 1) := dk_42 (dk_at dksX0_takesBack_0 7 rfl rfl)
theorem dX0_takesBack_8 : decode cX0_takesBack 8 = .ok (.getfield 28, 3) := dk_180 0 28 (dk_at dksX0_takesBack_0 8 rfl rfl)
theorem dX0_takesBack_11 : decode cX0_takesBack 11 = .ok (.getfield 146, 3) := dk_180 0 146 (dk_at dksX0_takesBack_0 11 rfl rfl)
theorem dX0_takesBack_14 : decode cX0_takesBack 14 = .ok (.invokevirtual 150, 3) := dk_182 0 150 (dk_at dksX0_takesBack_0 14 rfl rfl)
theorem dX0_takesBack_17 : decode cX0_takesBack 17 = .ok (.iconst 1, 1) := dk_4 (dk_at dksX0_takesBack_0 17 rfl rfl)
theorem dX0_takesBack_18 : decode cX0_takesBack 18 = .ok (.isub, 1) := dk_100 (dk_at dksX0_takesBack_0 18 rfl rfl)
theorem dX0_takesBack_19 : decode cX0_takesBack 19 = .ok (.invokevirtual 411, 3) := dk_182 1 155 (dk_at dksX0_takesBack_0 19 rfl rfl)
theorem dX0_takesBack_22 : decode cX0_takesBack 22 = .ok (.checkcast 398, 3) := dk_192 1 142 (dk_at dksX0_takesBack_1 0 rfl rfl)
theorem dX0_takesBack_25 : decode cX0_takesBack 25 = .ok (.aload_n 0, 1) := dk_42 (dk_at dksX0_takesBack_1 3 rfl rfl)
theorem dX0_takesBack_26 : decode cX0_takesBack 26 = .ok (.getfield 28, 3) := dk_180 0 28 (dk_at dksX0_takesBack_1 4 rfl rfl)
theorem dX0_takesBack_29 : decode cX0_takesBack 29 = .ok (.invokeinterface 414 2, 5) := by decide +kernel
theorem dX0_takesBack_34 : decode cX0_takesBack 34 = .ok (.return_, 1) := dk_177 (dk_at dksX0_takesBack_1 12 rfl rfl)
abbrev cX0_anew : ByteArray := prog_1_method_100_code
def yX0_anew : MethodName := ⟨RX0, "anew", "()I"⟩
def dkwX0_anew_1 : List UInt8 := [42, 180, 0, 28, 180, 0, 146, 182, 1, 162, 154, 0, 10, 42, 182, 1, 165, 167, 255, 239, 27, 172]
abbrev dktX0_anew_1 : List UInt8 := dkwX0_anew_1 ++ []
def dkwX0_anew_0 : List UInt8 := [42, 180, 0, 28, 182, 0, 158, 154, 0, 6, 16, 254, 172, 42, 180, 0, 28, 180, 0, 146, 182, 0, 150, 60]
abbrev dktX0_anew_0 : List UInt8 := dkwX0_anew_0 ++ dktX0_anew_1
theorem dksX0_anew_0 : cX0_anew.data.toList.drop 0 = dktX0_anew_0 := by decide +kernel
theorem dksX0_anew_1 : cX0_anew.data.toList.drop 24 = dktX0_anew_1 := dk_seg dksX0_anew_0 24 rfl rfl
theorem dX0_anew_0 : decode cX0_anew 0 = .ok (.aload_n 0, 1) := dk_42 (dk_at dksX0_anew_0 0 rfl rfl)
theorem dX0_anew_1 : decode cX0_anew 1 = .ok (.getfield 28, 3) := dk_180 0 28 (dk_at dksX0_anew_0 1 rfl rfl)
theorem dX0_anew_4 : decode cX0_anew 4 = .ok (.invokevirtual 158, 3) := dk_182 0 158 (dk_at dksX0_anew_0 4 rfl rfl)
theorem dX0_anew_7 : decode cX0_anew 7 = .ok (.ifCond .ne 6, 3) := dk_154 0 6 (dk_at dksX0_anew_0 7 rfl rfl)
theorem dX0_anew_10 : decode cX0_anew 10 = .ok (.bipush (-2), 2) := dk_16 254 (dk_at dksX0_anew_0 10 rfl rfl)
theorem dX0_anew_12 : decode cX0_anew 12 = .ok (.ireturn, 1) := dk_172 (dk_at dksX0_anew_0 12 rfl rfl)
theorem dX0_anew_13 : decode cX0_anew 13 = .ok (.aload_n 0, 1) := dk_42 (dk_at dksX0_anew_0 13 rfl rfl)
theorem dX0_anew_14 : decode cX0_anew 14 = .ok (.getfield 28, 3) := dk_180 0 28 (dk_at dksX0_anew_0 14 rfl rfl)
theorem dX0_anew_17 : decode cX0_anew 17 = .ok (.getfield 146, 3) := dk_180 0 146 (dk_at dksX0_anew_0 17 rfl rfl)
theorem dX0_anew_20 : decode cX0_anew 20 = .ok (.invokevirtual 150, 3) := dk_182 0 150 (dk_at dksX0_anew_0 20 rfl rfl)
theorem dX0_anew_23 : decode cX0_anew 23 = .ok (.istore_n 1, 1) := dk_60 (dk_at dksX0_anew_0 23 rfl rfl)
theorem dX0_anew_24 : decode cX0_anew 24 = .ok (.aload_n 0, 1) := dk_42 (dk_at dksX0_anew_1 0 rfl rfl)
theorem dX0_anew_25 : decode cX0_anew 25 = .ok (.getfield 28, 3) := dk_180 0 28 (dk_at dksX0_anew_1 1 rfl rfl)
theorem dX0_anew_28 : decode cX0_anew 28 = .ok (.getfield 146, 3) := dk_180 0 146 (dk_at dksX0_anew_1 4 rfl rfl)
theorem dX0_anew_31 : decode cX0_anew 31 = .ok (.invokevirtual 418, 3) := dk_182 1 162 (dk_at dksX0_anew_1 7 rfl rfl)
theorem dX0_anew_34 : decode cX0_anew 34 = .ok (.ifCond .ne 10, 3) := dk_154 0 10 (dk_at dksX0_anew_1 10 rfl rfl)
theorem dX0_anew_37 : decode cX0_anew 37 = .ok (.aload_n 0, 1) := dk_42 (dk_at dksX0_anew_1 13 rfl rfl)
theorem dX0_anew_38 : decode cX0_anew 38 = .ok (.invokevirtual 421, 3) := dk_182 1 165 (dk_at dksX0_anew_1 14 rfl rfl)
theorem dX0_anew_41 : decode cX0_anew 41 = .ok (.goto (-17), 3) := dk_167 255 239 (dk_at dksX0_anew_1 17 rfl rfl)
theorem dX0_anew_44 : decode cX0_anew 44 = .ok (.iload_n 1, 1) := dk_27 (dk_at dksX0_anew_1 20 rfl rfl)
theorem dX0_anew_45 : decode cX0_anew 45 = .ok (.ireturn, 1) := dk_172 (dk_at dksX0_anew_1 21 rfl rfl)
theorem q119 : (Jvm.Cond.initialized "SupplyGrid") ∈ lw_all := lw_g (lw_at lw_m1 1 rfl) rfl
theorem q149 : (Jvm.Cond.instantiable "SupplyGrid" (16 : Nat)) ∈ lw_all := lw_g (lw_at lw_m1 31 rfl) rfl
theorem q151 : (Jvm.Cond.instanceMethod ({ cls := "SupplyGrid", name := "<init>", desc := "()V" } : Jvm.MethodName)) ∈ lw_all := lw_g (lw_at lw_m1 33 rfl) rfl
theorem q152 : (Jvm.Cond.code ({ cls := "SupplyGrid", name := "<init>", desc := "()V" } : Jvm.MethodName) prog_1_method_6_code (1 : Nat) (Option.none : Option Jvm.ClassFile.FieldType)) ∈ lw_all := lw_g (lw_at lw_m1 34 rfl) rfl
theorem q153 : (Jvm.Cond.methodLink "SupplyGrid" (19 : Nat) ({ cls := "java/lang/Object", name := "<init>", desc := "()V" } : Jvm.MethodName)) ∈ lw_all := lw_g (lw_at lw_m1 35 rfl) rfl
theorem q156 : (Jvm.Cond.classLink "SupplyGrid" (25 : Nat) "SupplyGrid$Told") ∈ lw_all := lw_g (lw_at lw_m1 38 rfl) rfl
theorem q158 : (Jvm.Cond.methodLink "SupplyGrid" (27 : Nat) ({ cls := "SupplyGrid$Told", name := "<init>", desc := "()V" } : Jvm.MethodName)) ∈ lw_all := lw_g (lw_at lw_m1 40 rfl) rfl
theorem q196 : (Jvm.Cond.fieldLinkNest "SupplyGrid" (177 : Nat) "SupplyGrid$Told" "width" "[I" "SupplyGrid") ∈ lw_tbl := lw_at lw_m1 78 rfl
theorem q200 : (Jvm.Cond.fieldLinkNest "SupplyGrid" (171 : Nat) "SupplyGrid$Told" "from" "[I" "SupplyGrid") ∈ lw_tbl := lw_at lw_m1 82 rfl
theorem q204 : (Jvm.Cond.fieldLinkNest "SupplyGrid" (174 : Nat) "SupplyGrid$Told" "to" "[I" "SupplyGrid") ∈ lw_tbl := lw_at lw_m1 86 rfl
theorem q209 : (Jvm.Cond.fieldLinkNest "SupplyGrid" (197 : Nat) "SupplyGrid$Told" "load" "[I" "SupplyGrid") ∈ lw_tbl := lw_at lw_m1 91 rfl
theorem q212 : (Jvm.Cond.fieldLinkNest "SupplyGrid" (200 : Nat) "SupplyGrid$Told" "group" "[I" "SupplyGrid") ∈ lw_tbl := lw_at lw_m1 94 rfl
theorem q215 : (Jvm.Cond.fieldLinkNest "SupplyGrid" (208 : Nat) "SupplyGrid$Told" "budget" "[I" "SupplyGrid") ∈ lw_tbl := lw_at lw_m1 97 rfl
theorem q217 : (Jvm.Cond.fieldLinkNest "SupplyGrid" (146 : Nat) "SupplyGrid$Told" "acts" "Ljava/util/ArrayList;" "SupplyGrid") ∈ lw_tbl := lw_at lw_m1 99 rfl
theorem q222 : (Jvm.Cond.fieldLinkNest "SupplyGrid" (134 : Nat) "SupplyGrid$Told" "columns" "I" "SupplyGrid") ∈ lw_tbl := lw_at lw_m1 104 rfl
theorem q226 : (Jvm.Cond.fieldLinkNest "SupplyGrid" (137 : Nat) "SupplyGrid$Told" "rows" "I" "SupplyGrid") ∈ lw_tbl := lw_at lw_m1 108 rfl
theorem q230 : (Jvm.Cond.fieldLinkNest "SupplyGrid" (140 : Nat) "SupplyGrid$Told" "limit" "I" "SupplyGrid") ∈ lw_tbl := lw_at lw_m1 112 rfl
theorem q234 : (Jvm.Cond.fieldLinkNest "SupplyGrid" (143 : Nat) "SupplyGrid$Told" "wear" "I" "SupplyGrid") ∈ lw_tbl := lw_at lw_m1 116 rfl
theorem q239 : (Jvm.Cond.fieldLinkNest "SupplyGrid" (104 : Nat) "SupplyGrid$Told" "straps" "I" "SupplyGrid") ∈ lw_tbl := lw_at lw_m1 121 rfl
theorem q244 : (Jvm.Cond.fieldLinkNest "SupplyGrid" (155 : Nat) "SupplyGrid$Told" "pads" "I" "SupplyGrid") ∈ lw_tbl := lw_at lw_m1 126 rfl
theorem q246 : (Jvm.Cond.fieldLinkNest "SupplyGrid" (89 : Nat) "SupplyGrid$Told" "lines" "I" "SupplyGrid") ∈ lw_tbl := lw_at lw_m1 128 rfl
theorem q278 : (Jvm.Cond.classLink "SupplyGrid" (44 : Nat) "SupplyGrid$Solved") ∈ lw_all := lw_g (lw_at lw_m1 160 rfl) rfl
theorem q280 : (Jvm.Cond.methodLinkNest "SupplyGrid" (46 : Nat) ({ cls := "SupplyGrid$Solved", name := "<init>", desc := "(LSupplyGrid;)V" } : Jvm.MethodName) "SupplyGrid") ∈ lw_tbl := lw_at lw_m1 162 rfl
theorem q295 : (Jvm.Cond.fieldLinkNest "SupplyGrid" (216 : Nat) "SupplyGrid$Solved" "drop" "[J" "SupplyGrid") ∈ lw_tbl := lw_at lw_m1 177 rfl
theorem q298 : (Jvm.Cond.fieldLinkNest "SupplyGrid" (128 : Nat) "SupplyGrid$Solved" "whole" "J" "SupplyGrid") ∈ lw_tbl := lw_at lw_m1 180 rfl
theorem q303 : (Jvm.Cond.fieldLink "SupplyGrid" (289 : Nat) "SupplyGrid$Solved" "width" "[I") ∈ lw_all := lw_g (lw_at lw_m1 185 rfl) rfl
theorem q307 : (Jvm.Cond.fieldLink "SupplyGrid" (356 : Nat) "SupplyGrid$Solved" "load" "[I") ∈ lw_all := lw_g (lw_at lw_m1 189 rfl) rfl
theorem q311 : (Jvm.Cond.fieldLink "SupplyGrid" (290 : Nat) "SupplyGrid$Solved" "pads" "I") ∈ lw_all := lw_g (lw_at lw_m1 193 rfl) rfl
theorem q346 : (Jvm.Cond.fieldLink "SupplyGrid" (28 : Nat) "SupplyGrid" "now" "LSupplyGrid$Told;") ∈ lw_all := lw_g (lw_at lw_m1 228 rfl) rfl
theorem q347 : (Jvm.Cond.fieldLink "SupplyGrid" (32 : Nat) "SupplyGrid" "images" "[LSupplyGrid$Told;") ∈ lw_all := lw_g (lw_at lw_m1 229 rfl) rfl
theorem q348 : (Jvm.Cond.fieldLink "SupplyGrid" (36 : Nat) "SupplyGrid" "tape" "[B") ∈ lw_all := lw_g (lw_at lw_m1 230 rfl) rfl
theorem q349 : (Jvm.Cond.fieldLink "SupplyGrid" (70 : Nat) "SupplyGrid" "taped" "I") ∈ lw_all := lw_g (lw_at lw_m1 231 rfl) rfl
theorem q350 : (Jvm.Cond.fieldLink "SupplyGrid" (86 : Nat) "SupplyGrid" "faultKind" "I") ∈ lw_all := lw_g (lw_at lw_m1 232 rfl) rfl
theorem q351 : (Jvm.Cond.fieldLink "SupplyGrid" (40 : Nat) "SupplyGrid" "faultPlace" "I") ∈ lw_all := lw_g (lw_at lw_m1 233 rfl) rfl
theorem q352 : (Jvm.Cond.fieldLink "SupplyGrid" (49 : Nat) "SupplyGrid" "is" "LSupplyGrid$Solved;") ∈ lw_all := lw_g (lw_at lw_m1 234 rfl) rfl
theorem q353 : (Jvm.Cond.fieldLink "SupplyGrid" (53 : Nat) "SupplyGrid" "tried" "LSupplyGrid$Solved;") ∈ lw_all := lw_g (lw_at lw_m1 235 rfl) rfl
theorem q354 : (Jvm.Cond.fieldLink "SupplyGrid" (117 : Nat) "SupplyGrid" "bestStarved" "I") ∈ lw_all := lw_g (lw_at lw_m1 236 rfl) rfl
theorem q355 : (Jvm.Cond.fieldLink "SupplyGrid" (124 : Nat) "SupplyGrid" "bestMost" "J") ∈ lw_all := lw_g (lw_at lw_m1 237 rfl) rfl
theorem q356 : (Jvm.Cond.fieldLink "SupplyGrid" (131 : Nat) "SupplyGrid" "bestWhole" "J") ∈ lw_all := lw_g (lw_at lw_m1 238 rfl) rfl
theorem q357 : (Jvm.Cond.fieldLink "SupplyGrid" (56 : Nat) "SupplyGrid" "draws" "[I") ∈ lw_all := lw_g (lw_at lw_m1 239 rfl) rfl
theorem q358 : (Jvm.Cond.fieldLink "SupplyGrid" (60 : Nat) "SupplyGrid" "left" "[I") ∈ lw_all := lw_g (lw_at lw_m2 0 rfl) rfl
theorem q359 : (Jvm.Cond.fieldLink "SupplyGrid" (63 : Nat) "SupplyGrid" "mosts" "[J") ∈ lw_all := lw_g (lw_at lw_m2 1 rfl) rfl
theorem q360 : (Jvm.Cond.fieldLink "SupplyGrid" (67 : Nat) "SupplyGrid" "widened" "[I") ∈ lw_all := lw_g (lw_at lw_m2 2 rfl) rfl
theorem q361 : (Jvm.Cond.fieldLink "SupplyGrid" (347 : Nat) "SupplyGrid" "drawn" "J") ∈ lw_all := lw_g (lw_at lw_m2 3 rfl) rfl
theorem q362 : (Jvm.Cond.lays "SupplyGrid" "SupplyGrid" "now" "LSupplyGrid$Told;") ∈ lw_all := lw_g (lw_at lw_m2 4 rfl) rfl
theorem q363 : (Jvm.Cond.soleField "SupplyGrid" "now") ∈ lw_all := lw_g (lw_at lw_m2 5 rfl) rfl
theorem q364 : (Jvm.Cond.laysFinal "SupplyGrid" "SupplyGrid" "images" "[LSupplyGrid$Told;") ∈ lw_all := lw_g (lw_at lw_m2 6 rfl) rfl
theorem q365 : (Jvm.Cond.soleField "SupplyGrid" "images") ∈ lw_all := lw_g (lw_at lw_m2 7 rfl) rfl
theorem q366 : (Jvm.Cond.laysFinal "SupplyGrid" "SupplyGrid" "tape" "[B") ∈ lw_all := lw_g (lw_at lw_m2 8 rfl) rfl
theorem q367 : (Jvm.Cond.soleField "SupplyGrid" "tape") ∈ lw_all := lw_g (lw_at lw_m2 9 rfl) rfl
theorem q368 : (Jvm.Cond.lays "SupplyGrid" "SupplyGrid" "taped" "I") ∈ lw_all := lw_g (lw_at lw_m2 10 rfl) rfl
theorem q369 : (Jvm.Cond.soleField "SupplyGrid" "taped") ∈ lw_all := lw_g (lw_at lw_m2 11 rfl) rfl
theorem q370 : (Jvm.Cond.lays "SupplyGrid" "SupplyGrid" "faultKind" "I") ∈ lw_all := lw_g (lw_at lw_m2 12 rfl) rfl
theorem q371 : (Jvm.Cond.soleField "SupplyGrid" "faultKind") ∈ lw_all := lw_g (lw_at lw_m2 13 rfl) rfl
theorem q372 : (Jvm.Cond.lays "SupplyGrid" "SupplyGrid" "faultPlace" "I") ∈ lw_all := lw_g (lw_at lw_m2 14 rfl) rfl
theorem q373 : (Jvm.Cond.soleField "SupplyGrid" "faultPlace") ∈ lw_all := lw_g (lw_at lw_m2 15 rfl) rfl
theorem q374 : (Jvm.Cond.laysFinal "SupplyGrid" "SupplyGrid" "is" "LSupplyGrid$Solved;") ∈ lw_all := lw_g (lw_at lw_m2 16 rfl) rfl
theorem q375 : (Jvm.Cond.soleField "SupplyGrid" "is") ∈ lw_all := lw_g (lw_at lw_m2 17 rfl) rfl
theorem q376 : (Jvm.Cond.laysFinal "SupplyGrid" "SupplyGrid" "tried" "LSupplyGrid$Solved;") ∈ lw_all := lw_g (lw_at lw_m2 18 rfl) rfl
theorem q377 : (Jvm.Cond.soleField "SupplyGrid" "tried") ∈ lw_all := lw_g (lw_at lw_m2 19 rfl) rfl
theorem q378 : (Jvm.Cond.lays "SupplyGrid" "SupplyGrid" "bestStarved" "I") ∈ lw_all := lw_g (lw_at lw_m2 20 rfl) rfl
theorem q379 : (Jvm.Cond.soleField "SupplyGrid" "bestStarved") ∈ lw_all := lw_g (lw_at lw_m2 21 rfl) rfl
theorem q380 : (Jvm.Cond.lays "SupplyGrid" "SupplyGrid" "bestMost" "J") ∈ lw_all := lw_g (lw_at lw_m2 22 rfl) rfl
theorem q381 : (Jvm.Cond.soleField "SupplyGrid" "bestMost") ∈ lw_all := lw_g (lw_at lw_m2 23 rfl) rfl
theorem q382 : (Jvm.Cond.lays "SupplyGrid" "SupplyGrid" "bestWhole" "J") ∈ lw_all := lw_g (lw_at lw_m2 24 rfl) rfl
theorem q383 : (Jvm.Cond.soleField "SupplyGrid" "bestWhole") ∈ lw_all := lw_g (lw_at lw_m2 25 rfl) rfl
theorem q384 : (Jvm.Cond.laysFinal "SupplyGrid" "SupplyGrid" "draws" "[I") ∈ lw_all := lw_g (lw_at lw_m2 26 rfl) rfl
theorem q385 : (Jvm.Cond.soleField "SupplyGrid" "draws") ∈ lw_all := lw_g (lw_at lw_m2 27 rfl) rfl
theorem q386 : (Jvm.Cond.laysFinal "SupplyGrid" "SupplyGrid" "left" "[I") ∈ lw_all := lw_g (lw_at lw_m2 28 rfl) rfl
theorem q387 : (Jvm.Cond.soleField "SupplyGrid" "left") ∈ lw_all := lw_g (lw_at lw_m2 29 rfl) rfl
theorem q388 : (Jvm.Cond.laysFinal "SupplyGrid" "SupplyGrid" "mosts" "[J") ∈ lw_all := lw_g (lw_at lw_m2 30 rfl) rfl
theorem q389 : (Jvm.Cond.soleField "SupplyGrid" "mosts") ∈ lw_all := lw_g (lw_at lw_m2 31 rfl) rfl
theorem q390 : (Jvm.Cond.laysFinal "SupplyGrid" "SupplyGrid" "widened" "[I") ∈ lw_all := lw_g (lw_at lw_m2 32 rfl) rfl
theorem q391 : (Jvm.Cond.soleField "SupplyGrid" "widened") ∈ lw_all := lw_g (lw_at lw_m2 33 rfl) rfl
theorem q392 : (Jvm.Cond.lays "SupplyGrid" "SupplyGrid" "drawn" "J") ∈ lw_all := lw_g (lw_at lw_m2 34 rfl) rfl
theorem q393 : (Jvm.Cond.soleField "SupplyGrid" "drawn") ∈ lw_all := lw_g (lw_at lw_m2 35 rfl) rfl
theorem q394 : (Jvm.Cond.superclass "SupplyGrid" "java/lang/Object") ∈ lw_all := lw_g (lw_at lw_m2 36 rfl) rfl
theorem q396 : (Jvm.Cond.instanceMethod ({ cls := "SupplyGrid", name := "feed", desc := "(IIIII)I" } : Jvm.MethodName)) ∈ lw_all := lw_g (lw_at lw_m2 38 rfl) rfl
theorem q397 : (Jvm.Cond.selects "SupplyGrid" ({ cls := "SupplyGrid", name := "feed", desc := "(IIIII)I" } : Jvm.MethodName) ({ cls := "SupplyGrid", name := "feed", desc := "(IIIII)I" } : Jvm.MethodName)) ∈ lw_all := lw_g (lw_at lw_m2 39 rfl) rfl
theorem q398 : (Jvm.Cond.code ({ cls := "SupplyGrid", name := "feed", desc := "(IIIII)I" } : Jvm.MethodName) prog_1_method_7_code (8 : Nat) (Option.some Jvm.ClassFile.FieldType.int)) ∈ lw_all := lw_g (lw_at lw_m2 40 rfl) rfl
theorem q400 : (Jvm.Cond.instanceMethod ({ cls := "SupplyGrid", name := "end", desc := "(I)I" } : Jvm.MethodName)) ∈ lw_all := lw_g (lw_at lw_m2 42 rfl) rfl
theorem q401 : (Jvm.Cond.selects "SupplyGrid" ({ cls := "SupplyGrid", name := "end", desc := "(I)I" } : Jvm.MethodName) ({ cls := "SupplyGrid", name := "end", desc := "(I)I" } : Jvm.MethodName)) ∈ lw_all := lw_g (lw_at lw_m2 43 rfl) rfl
theorem q402 : (Jvm.Cond.code ({ cls := "SupplyGrid", name := "end", desc := "(I)I" } : Jvm.MethodName) prog_1_method_8_code (2 : Nat) (Option.some Jvm.ClassFile.FieldType.int)) ∈ lw_all := lw_g (lw_at lw_m2 44 rfl) rfl
theorem q403 : (Jvm.Cond.methodLink "SupplyGrid" (73 : Nat) ({ cls := "SupplyGrid", name := "in", desc := "(JJJ)Z" } : Jvm.MethodName)) ∈ lw_all := lw_g (lw_at lw_m2 45 rfl) rfl
theorem q404 : (Jvm.Cond.static ({ cls := "SupplyGrid", name := "in", desc := "(JJJ)Z" } : Jvm.MethodName)) ∈ lw_all := lw_g (lw_at lw_m2 46 rfl) rfl
theorem q405 : (Jvm.Cond.code ({ cls := "SupplyGrid", name := "in", desc := "(JJJ)Z" } : Jvm.MethodName) prog_1_method_1_code (6 : Nat) (Option.some Jvm.ClassFile.FieldType.boolean)) ∈ lw_all := lw_g (lw_at lw_m2 47 rfl) rfl
theorem q407 : (Jvm.Cond.instanceMethod ({ cls := "SupplyGrid", name := "grid", desc := "()I" } : Jvm.MethodName)) ∈ lw_all := lw_g (lw_at lw_m2 49 rfl) rfl
theorem q408 : (Jvm.Cond.selects "SupplyGrid" ({ cls := "SupplyGrid", name := "grid", desc := "()I" } : Jvm.MethodName) ({ cls := "SupplyGrid", name := "grid", desc := "()I" } : Jvm.MethodName)) ∈ lw_all := lw_g (lw_at lw_m2 50 rfl) rfl
theorem q409 : (Jvm.Cond.codeWith ({ cls := "SupplyGrid", name := "grid", desc := "()I" } : Jvm.MethodName) prog_1_method_9_code (4 : Nat) (Option.some Jvm.ClassFile.FieldType.int) [((0 : Nat), (40 : Nat), (47 : Nat), (92 : Nat)), ((0 : Nat), (40 : Nat), (74 : Nat), (0 : Nat)), ((47 : Nat), (67 : Nat), (74 : Nat), (0 : Nat))]) ∈ lw_all := lw_g (lw_at lw_m2 51 rfl) rfl
theorem q410 : (Jvm.Cond.classLink "SupplyGrid" (92 : Nat) "SupplyGrid$Fault") ∈ lw_all := lw_g (lw_at lw_m2 52 rfl) rfl
theorem q411 : (Jvm.Cond.classLink "SupplyGrid" (77 : Nat) "SupplyGrid$Reader") ∈ lw_all := lw_g (lw_at lw_m2 53 rfl) rfl
theorem q413 : (Jvm.Cond.methodLink "SupplyGrid" (79 : Nat) ({ cls := "SupplyGrid$Reader", name := "<init>", desc := "([BI)V" } : Jvm.MethodName)) ∈ lw_all := lw_g (lw_at lw_m2 55 rfl) rfl
theorem q460 : (Jvm.Cond.methodLink "SupplyGrid" (82 : Nat) ({ cls := "SupplyGrid$Reader", name := "reads", desc := "()LSupplyGrid$Told;" } : Jvm.MethodName)) ∈ lw_all := lw_g (lw_at lw_m2 102 rfl) rfl
theorem q576 : (Jvm.Cond.fieldLinkNest "SupplyGrid" (94 : Nat) "SupplyGrid$Fault" "kind" "I" "SupplyGrid") ∈ lw_tbl := lw_at lw_m2 218 rfl
theorem q578 : (Jvm.Cond.fieldLinkNest "SupplyGrid" (97 : Nat) "SupplyGrid$Fault" "place" "I" "SupplyGrid") ∈ lw_tbl := lw_at lw_m2 220 rfl
theorem q658 : (Jvm.Cond.static ({ cls := "SupplyGrid", name := "isOn", desc := "(II)Z" } : Jvm.MethodName)) ∈ lw_all := lw_g (lw_at lw_m3 60 rfl) rfl
theorem q659 : (Jvm.Cond.code ({ cls := "SupplyGrid", name := "isOn", desc := "(II)Z" } : Jvm.MethodName) prog_1_method_2_code (2 : Nat) (Option.some Jvm.ClassFile.FieldType.boolean)) ∈ lw_all := lw_g (lw_at lw_m3 61 rfl) rfl
theorem q685 : (Jvm.Cond.instanceMethod ({ cls := "SupplyGrid", name := "fault", desc := "(I)I" } : Jvm.MethodName)) ∈ lw_all := lw_g (lw_at lw_m3 87 rfl) rfl
theorem q686 : (Jvm.Cond.selects "SupplyGrid" ({ cls := "SupplyGrid", name := "fault", desc := "(I)I" } : Jvm.MethodName) ({ cls := "SupplyGrid", name := "fault", desc := "(I)I" } : Jvm.MethodName)) ∈ lw_all := lw_g (lw_at lw_m3 88 rfl) rfl
theorem q687 : (Jvm.Cond.code ({ cls := "SupplyGrid", name := "fault", desc := "(I)I" } : Jvm.MethodName) prog_1_method_10_code (2 : Nat) (Option.some Jvm.ClassFile.FieldType.int)) ∈ lw_all := lw_g (lw_at lw_m3 89 rfl) rfl
theorem q689 : (Jvm.Cond.instanceMethod ({ cls := "SupplyGrid", name := "count", desc := "(I)I" } : Jvm.MethodName)) ∈ lw_all := lw_g (lw_at lw_m3 91 rfl) rfl
theorem q690 : (Jvm.Cond.selects "SupplyGrid" ({ cls := "SupplyGrid", name := "count", desc := "(I)I" } : Jvm.MethodName) ({ cls := "SupplyGrid", name := "count", desc := "(I)I" } : Jvm.MethodName)) ∈ lw_all := lw_g (lw_at lw_m3 92 rfl) rfl
theorem q691 : (Jvm.Cond.code ({ cls := "SupplyGrid", name := "count", desc := "(I)I" } : Jvm.MethodName) prog_1_method_18_code (2 : Nat) (Option.some Jvm.ClassFile.FieldType.int)) ∈ lw_all := lw_g (lw_at lw_m3 93 rfl) rfl
theorem q692 : (Jvm.Cond.methodLink "SupplyGrid" (150 : Nat) ({ cls := "java/util/ArrayList", name := "size", desc := "()I" } : Jvm.MethodName)) ∈ lw_all := lw_g (lw_at lw_m3 94 rfl) rfl
theorem q696 : (Jvm.Cond.methodLink "SupplyGrid" (158 : Nat) ({ cls := "SupplyGrid$Told", name := "is", desc := "()Z" } : Jvm.MethodName)) ∈ lw_all := lw_g (lw_at lw_m3 98 rfl) rfl
theorem q700 : (Jvm.Cond.methodLink "SupplyGrid" (161 : Nat) ({ cls := "SupplyGrid", name := "solved", desc := "()LSupplyGrid$Solved;" } : Jvm.MethodName)) ∈ lw_all := lw_g (lw_at lw_m3 102 rfl) rfl
theorem q701 : (Jvm.Cond.privateMethod ({ cls := "SupplyGrid", name := "solved", desc := "()LSupplyGrid$Solved;" } : Jvm.MethodName)) ∈ lw_tbl := lw_at lw_m3 103 rfl
theorem q702 : (Jvm.Cond.instanceMethod ({ cls := "SupplyGrid", name := "solved", desc := "()LSupplyGrid$Solved;" } : Jvm.MethodName)) ∈ lw_all := lw_g (lw_at lw_m3 104 rfl) rfl
theorem q703 : (Jvm.Cond.code ({ cls := "SupplyGrid", name := "solved", desc := "()LSupplyGrid$Solved;" } : Jvm.MethodName) prog_1_method_14_code (1 : Nat) (Option.some (Jvm.ClassFile.FieldType.object "SupplyGrid$Solved"))) ∈ lw_all := lw_g (lw_at lw_m3 105 rfl) rfl
theorem q704 : (Jvm.Cond.methodLink "SupplyGrid" (107 : Nat) ({ cls := "SupplyGrid$Solved", name := "takes", desc := "()V" } : Jvm.MethodName)) ∈ lw_all := lw_g (lw_at lw_m3 106 rfl) rfl
theorem q713 : (Jvm.Cond.methodLink "SupplyGrid" (110 : Nat) ({ cls := "SupplyGrid$Solved", name := "solves", desc := "()LSupplyGrid$Solved;" } : Jvm.MethodName)) ∈ lw_all := lw_g (lw_at lw_m3 115 rfl) rfl
theorem q748 : (Jvm.Cond.methodLink "SupplyGrid" (164 : Nat) ({ cls := "SupplyGrid$Solved", name := "dead", desc := "()I" } : Jvm.MethodName)) ∈ lw_all := lw_g (lw_at lw_m3 150 rfl) rfl
theorem q753 : (Jvm.Cond.instanceMethod ({ cls := "SupplyGrid", name := "strap", desc := "(II)I" } : Jvm.MethodName)) ∈ lw_all := lw_g (lw_at lw_m3 155 rfl) rfl
theorem q754 : (Jvm.Cond.selects "SupplyGrid" ({ cls := "SupplyGrid", name := "strap", desc := "(II)I" } : Jvm.MethodName) ({ cls := "SupplyGrid", name := "strap", desc := "(II)I" } : Jvm.MethodName)) ∈ lw_all := lw_g (lw_at lw_m3 156 rfl) rfl
theorem q755 : (Jvm.Cond.code ({ cls := "SupplyGrid", name := "strap", desc := "(II)I" } : Jvm.MethodName) prog_1_method_19_code (3 : Nat) (Option.some Jvm.ClassFile.FieldType.int)) ∈ lw_all := lw_g (lw_at lw_m3 157 rfl) rfl
theorem q756 : (Jvm.Cond.methodLink "SupplyGrid" (167 : Nat) ({ cls := "SupplyGrid", name := "isStrap", desc := "(I)Z" } : Jvm.MethodName)) ∈ lw_all := lw_g (lw_at lw_m3 158 rfl) rfl
theorem q757 : (Jvm.Cond.privateMethod ({ cls := "SupplyGrid", name := "isStrap", desc := "(I)Z" } : Jvm.MethodName)) ∈ lw_tbl := lw_at lw_m3 159 rfl
theorem q758 : (Jvm.Cond.instanceMethod ({ cls := "SupplyGrid", name := "isStrap", desc := "(I)Z" } : Jvm.MethodName)) ∈ lw_all := lw_g (lw_at lw_m3 160 rfl) rfl
theorem q759 : (Jvm.Cond.code ({ cls := "SupplyGrid", name := "isStrap", desc := "(I)Z" } : Jvm.MethodName) prog_1_method_12_code (2 : Nat) (Option.some Jvm.ClassFile.FieldType.boolean)) ∈ lw_all := lw_g (lw_at lw_m3 161 rfl) rfl
theorem q761 : (Jvm.Cond.instanceMethod ({ cls := "SupplyGrid", name := "between", desc := "(II)I" } : Jvm.MethodName)) ∈ lw_all := lw_g (lw_at lw_m3 163 rfl) rfl
theorem q762 : (Jvm.Cond.selects "SupplyGrid" ({ cls := "SupplyGrid", name := "between", desc := "(II)I" } : Jvm.MethodName) ({ cls := "SupplyGrid", name := "between", desc := "(II)I" } : Jvm.MethodName)) ∈ lw_all := lw_g (lw_at lw_m3 164 rfl) rfl
theorem q763 : (Jvm.Cond.code ({ cls := "SupplyGrid", name := "between", desc := "(II)I" } : Jvm.MethodName) prog_1_method_20_code (3 : Nat) (Option.some Jvm.ClassFile.FieldType.int)) ∈ lw_all := lw_g (lw_at lw_m3 165 rfl) rfl
theorem q764 : (Jvm.Cond.methodLink "SupplyGrid" (180 : Nat) ({ cls := "SupplyGrid", name := "isNode", desc := "(I)Z" } : Jvm.MethodName)) ∈ lw_all := lw_g (lw_at lw_m3 166 rfl) rfl
theorem q765 : (Jvm.Cond.privateMethod ({ cls := "SupplyGrid", name := "isNode", desc := "(I)Z" } : Jvm.MethodName)) ∈ lw_tbl := lw_at lw_m3 167 rfl
theorem q766 : (Jvm.Cond.instanceMethod ({ cls := "SupplyGrid", name := "isNode", desc := "(I)Z" } : Jvm.MethodName)) ∈ lw_all := lw_g (lw_at lw_m3 168 rfl) rfl
theorem q767 : (Jvm.Cond.code ({ cls := "SupplyGrid", name := "isNode", desc := "(I)Z" } : Jvm.MethodName) prog_1_method_11_code (2 : Nat) (Option.some Jvm.ClassFile.FieldType.boolean)) ∈ lw_all := lw_g (lw_at lw_m3 169 rfl) rfl
theorem q768 : (Jvm.Cond.methodLink "SupplyGrid" (100 : Nat) ({ cls := "SupplyGrid$Told", name := "many", desc := "()I" } : Jvm.MethodName)) ∈ lw_all := lw_g (lw_at lw_m3 170 rfl) rfl
theorem q769 : (Jvm.Cond.methodLink "SupplyGrid" (183 : Nat) ({ cls := "java/lang/Math", name := "min", desc := "(II)I" } : Jvm.MethodName)) ∈ lw_all := lw_g (lw_at lw_m3 171 rfl) rfl
theorem q770 : (Jvm.Cond.methodLink "SupplyGrid" (187 : Nat) ({ cls := "java/lang/Math", name := "max", desc := "(II)I" } : Jvm.MethodName)) ∈ lw_all := lw_g (lw_at lw_m3 172 rfl) rfl
theorem q773 : (Jvm.Cond.methodLink "SupplyGrid" (190 : Nat) ({ cls := "SupplyGrid$Told", name := "strapOf", desc := "(II)I" } : Jvm.MethodName)) ∈ lw_all := lw_g (lw_at lw_m3 175 rfl) rfl
theorem q775 : (Jvm.Cond.instanceMethod ({ cls := "SupplyGrid", name := "node", desc := "(II)I" } : Jvm.MethodName)) ∈ lw_all := lw_g (lw_at lw_m3 177 rfl) rfl
theorem q776 : (Jvm.Cond.selects "SupplyGrid" ({ cls := "SupplyGrid", name := "node", desc := "(II)I" } : Jvm.MethodName) ({ cls := "SupplyGrid", name := "node", desc := "(II)I" } : Jvm.MethodName)) ∈ lw_all := lw_g (lw_at lw_m3 178 rfl) rfl
theorem q777 : (Jvm.Cond.code ({ cls := "SupplyGrid", name := "node", desc := "(II)I" } : Jvm.MethodName) prog_1_method_21_code (3 : Nat) (Option.some Jvm.ClassFile.FieldType.int)) ∈ lw_all := lw_g (lw_at lw_m3 179 rfl) rfl
theorem q778 : (Jvm.Cond.methodLink "SupplyGrid" (193 : Nat) ({ cls := "SupplyGrid", name := "isOn", desc := "(II)Z" } : Jvm.MethodName)) ∈ lw_all := lw_g (lw_at lw_m3 180 rfl) rfl
theorem q779 : (Jvm.Cond.methodLink "SupplyGrid" (203 : Nat) ({ cls := "SupplyGrid$Solved", name := "isLive", desc := "(I)Z" } : Jvm.MethodName)) ∈ lw_all := lw_g (lw_at lw_m3 181 rfl) rfl
theorem q791 : (Jvm.Cond.instanceMethod ({ cls := "SupplyGrid", name := "budget", desc := "(I)I" } : Jvm.MethodName)) ∈ lw_all := lw_g (lw_at lw_m3 193 rfl) rfl
theorem q792 : (Jvm.Cond.selects "SupplyGrid" ({ cls := "SupplyGrid", name := "budget", desc := "(I)I" } : Jvm.MethodName) ({ cls := "SupplyGrid", name := "budget", desc := "(I)I" } : Jvm.MethodName)) ∈ lw_all := lw_g (lw_at lw_m3 194 rfl) rfl
theorem q793 : (Jvm.Cond.code ({ cls := "SupplyGrid", name := "budget", desc := "(I)I" } : Jvm.MethodName) prog_1_method_22_code (2 : Nat) (Option.some Jvm.ClassFile.FieldType.int)) ∈ lw_all := lw_g (lw_at lw_m3 195 rfl) rfl
theorem q794 : (Jvm.Cond.constantLong "SupplyGrid" (206 : Nat) (3 : Int64)) ∈ lw_all := lw_g (lw_at lw_m3 196 rfl) rfl
theorem q796 : (Jvm.Cond.instanceMethod ({ cls := "SupplyGrid", name := "drop", desc := "(II)J" } : Jvm.MethodName)) ∈ lw_all := lw_g (lw_at lw_m3 198 rfl) rfl
theorem q797 : (Jvm.Cond.selects "SupplyGrid" ({ cls := "SupplyGrid", name := "drop", desc := "(II)J" } : Jvm.MethodName) ({ cls := "SupplyGrid", name := "drop", desc := "(II)J" } : Jvm.MethodName)) ∈ lw_all := lw_g (lw_at lw_m3 199 rfl) rfl
theorem q798 : (Jvm.Cond.code ({ cls := "SupplyGrid", name := "drop", desc := "(II)J" } : Jvm.MethodName) prog_1_method_23_code (3 : Nat) (Option.some Jvm.ClassFile.FieldType.long)) ∈ lw_all := lw_g (lw_at lw_m3 200 rfl) rfl
theorem q799 : (Jvm.Cond.methodLink "SupplyGrid" (211 : Nat) ({ cls := "SupplyGrid", name := "isPart", desc := "(I)Z" } : Jvm.MethodName)) ∈ lw_all := lw_g (lw_at lw_m3 201 rfl) rfl
theorem q800 : (Jvm.Cond.static ({ cls := "SupplyGrid", name := "isPart", desc := "(I)Z" } : Jvm.MethodName)) ∈ lw_all := lw_g (lw_at lw_m3 202 rfl) rfl
theorem q801 : (Jvm.Cond.code ({ cls := "SupplyGrid", name := "isPart", desc := "(I)Z" } : Jvm.MethodName) prog_1_method_13_code (1 : Nat) (Option.some Jvm.ClassFile.FieldType.boolean)) ∈ lw_all := lw_g (lw_at lw_m3 203 rfl) rfl
theorem q802 : (Jvm.Cond.constantLong "SupplyGrid" (214 : Nat) (-2 : Int64)) ∈ lw_all := lw_g (lw_at lw_m3 204 rfl) rfl
theorem q803 : (Jvm.Cond.methodLink "SupplyGrid" (219 : Nat) ({ cls := "SupplyGrid", name := "part", desc := "(JJI)J" } : Jvm.MethodName)) ∈ lw_all := lw_g (lw_at lw_m3 205 rfl) rfl
theorem q804 : (Jvm.Cond.static ({ cls := "SupplyGrid", name := "part", desc := "(JJI)J" } : Jvm.MethodName)) ∈ lw_all := lw_g (lw_at lw_m3 206 rfl) rfl
theorem q805 : (Jvm.Cond.code ({ cls := "SupplyGrid", name := "part", desc := "(JJI)J" } : Jvm.MethodName) prog_1_method_4_code (5 : Nat) (Option.some Jvm.ClassFile.FieldType.long)) ∈ lw_all := lw_g (lw_at lw_m3 207 rfl) rfl
theorem q806 : (Jvm.Cond.methodLink "SupplyGrid" (9 : Nat) ({ cls := "SupplyGrid", name := "common", desc := "(JJ)J" } : Jvm.MethodName)) ∈ lw_all := lw_g (lw_at lw_m3 208 rfl) rfl
theorem q807 : (Jvm.Cond.static ({ cls := "SupplyGrid", name := "common", desc := "(JJ)J" } : Jvm.MethodName)) ∈ lw_all := lw_g (lw_at lw_m3 209 rfl) rfl
theorem q808 : (Jvm.Cond.code ({ cls := "SupplyGrid", name := "common", desc := "(JJ)J" } : Jvm.MethodName) prog_1_method_3_code (10 : Nat) (Option.some Jvm.ClassFile.FieldType.long)) ∈ lw_all := lw_g (lw_at lw_m3 210 rfl) rfl
theorem q809 : (Jvm.Cond.methodLink "SupplyGrid" (3 : Nat) ({ cls := "java/lang/Math", name := "abs", desc := "(J)J" } : Jvm.MethodName)) ∈ lw_all := lw_g (lw_at lw_m3 211 rfl) rfl
theorem q812 : (Jvm.Cond.constantLong "SupplyGrid" (223 : Nat) (-1 : Int64)) ∈ lw_all := lw_g (lw_at lw_m3 214 rfl) rfl
theorem q814 : (Jvm.Cond.instanceMethod ({ cls := "SupplyGrid", name := "through", desc := "(II)J" } : Jvm.MethodName)) ∈ lw_all := lw_g (lw_at lw_m3 216 rfl) rfl
theorem q815 : (Jvm.Cond.selects "SupplyGrid" ({ cls := "SupplyGrid", name := "through", desc := "(II)J" } : Jvm.MethodName) ({ cls := "SupplyGrid", name := "through", desc := "(II)J" } : Jvm.MethodName)) ∈ lw_all := lw_g (lw_at lw_m3 217 rfl) rfl
theorem q816 : (Jvm.Cond.code ({ cls := "SupplyGrid", name := "through", desc := "(II)J" } : Jvm.MethodName) prog_1_method_24_code (5 : Nat) (Option.some Jvm.ClassFile.FieldType.long)) ∈ lw_all := lw_g (lw_at lw_m3 218 rfl) rfl
theorem q817 : (Jvm.Cond.constantLong "SupplyGrid" (225 : Nat) (-9223372036854775808 : Int64)) ∈ lw_all := lw_g (lw_at lw_m3 219 rfl) rfl
theorem q818 : (Jvm.Cond.methodLink "SupplyGrid" (227 : Nat) ({ cls := "SupplyGrid$Solved", name := "slope", desc := "(I)J" } : Jvm.MethodName)) ∈ lw_all := lw_g (lw_at lw_m3 220 rfl) rfl
theorem q824 : (Jvm.Cond.instanceMethod ({ cls := "SupplyGrid", name := "heat", desc := "(II)J" } : Jvm.MethodName)) ∈ lw_all := lw_g (lw_at lw_m3 226 rfl) rfl
theorem q825 : (Jvm.Cond.selects "SupplyGrid" ({ cls := "SupplyGrid", name := "heat", desc := "(II)J" } : Jvm.MethodName) ({ cls := "SupplyGrid", name := "heat", desc := "(II)J" } : Jvm.MethodName)) ∈ lw_all := lw_g (lw_at lw_m3 227 rfl) rfl
theorem q826 : (Jvm.Cond.code ({ cls := "SupplyGrid", name := "heat", desc := "(II)J" } : Jvm.MethodName) prog_1_method_25_code (3 : Nat) (Option.some Jvm.ClassFile.FieldType.long)) ∈ lw_all := lw_g (lw_at lw_m3 228 rfl) rfl
theorem q828 : (Jvm.Cond.instanceMethod ({ cls := "SupplyGrid", name := "gives", desc := "(II)J" } : Jvm.MethodName)) ∈ lw_all := lw_g (lw_at lw_m3 230 rfl) rfl
theorem q829 : (Jvm.Cond.selects "SupplyGrid" ({ cls := "SupplyGrid", name := "gives", desc := "(II)J" } : Jvm.MethodName) ({ cls := "SupplyGrid", name := "gives", desc := "(II)J" } : Jvm.MethodName)) ∈ lw_all := lw_g (lw_at lw_m3 231 rfl) rfl
theorem q830 : (Jvm.Cond.code ({ cls := "SupplyGrid", name := "gives", desc := "(II)J" } : Jvm.MethodName) prog_1_method_26_code (3 : Nat) (Option.some Jvm.ClassFile.FieldType.long)) ∈ lw_all := lw_g (lw_at lw_m3 232 rfl) rfl
theorem q831 : (Jvm.Cond.methodLink "SupplyGrid" (231 : Nat) ({ cls := "SupplyGrid", name := "givenBy", desc := "(I)J" } : Jvm.MethodName)) ∈ lw_all := lw_g (lw_at lw_m3 233 rfl) rfl
theorem q832 : (Jvm.Cond.privateMethod ({ cls := "SupplyGrid", name := "givenBy", desc := "(I)J" } : Jvm.MethodName)) ∈ lw_tbl := lw_at lw_m3 234 rfl
theorem q833 : (Jvm.Cond.instanceMethod ({ cls := "SupplyGrid", name := "givenBy", desc := "(I)J" } : Jvm.MethodName)) ∈ lw_all := lw_g (lw_at lw_m3 235 rfl) rfl
theorem q834 : (Jvm.Cond.code ({ cls := "SupplyGrid", name := "givenBy", desc := "(I)J" } : Jvm.MethodName) prog_1_method_27_code (5 : Nat) (Option.some Jvm.ClassFile.FieldType.long)) ∈ lw_all := lw_g (lw_at lw_m3 236 rfl) rfl
theorem q836 : (Jvm.Cond.instanceMethod ({ cls := "SupplyGrid", name := "chief", desc := "()I" } : Jvm.MethodName)) ∈ lw_all := lw_g (lw_at lw_m3 238 rfl) rfl
theorem q837 : (Jvm.Cond.selects "SupplyGrid" ({ cls := "SupplyGrid", name := "chief", desc := "()I" } : Jvm.MethodName) ({ cls := "SupplyGrid", name := "chief", desc := "()I" } : Jvm.MethodName)) ∈ lw_all := lw_g (lw_at lw_m3 239 rfl) rfl
theorem q838 : (Jvm.Cond.code ({ cls := "SupplyGrid", name := "chief", desc := "()I" } : Jvm.MethodName) prog_1_method_28_code (3 : Nat) (Option.some Jvm.ClassFile.FieldType.int)) ∈ lw_all := lw_g (lw_at lw_m4 0 rfl) rfl
theorem q840 : (Jvm.Cond.instanceMethod ({ cls := "SupplyGrid", name := "area", desc := "()I" } : Jvm.MethodName)) ∈ lw_all := lw_g (lw_at lw_m4 2 rfl) rfl
theorem q841 : (Jvm.Cond.selects "SupplyGrid" ({ cls := "SupplyGrid", name := "area", desc := "()I" } : Jvm.MethodName) ({ cls := "SupplyGrid", name := "area", desc := "()I" } : Jvm.MethodName)) ∈ lw_all := lw_g (lw_at lw_m4 3 rfl) rfl
theorem q842 : (Jvm.Cond.code ({ cls := "SupplyGrid", name := "area", desc := "()I" } : Jvm.MethodName) prog_1_method_29_code (3 : Nat) (Option.some Jvm.ClassFile.FieldType.int)) ∈ lw_all := lw_g (lw_at lw_m4 4 rfl) rfl
theorem q844 : (Jvm.Cond.instanceMethod ({ cls := "SupplyGrid", name := "worst", desc := "()I" } : Jvm.MethodName)) ∈ lw_all := lw_g (lw_at lw_m4 6 rfl) rfl
theorem q845 : (Jvm.Cond.selects "SupplyGrid" ({ cls := "SupplyGrid", name := "worst", desc := "()I" } : Jvm.MethodName) ({ cls := "SupplyGrid", name := "worst", desc := "()I" } : Jvm.MethodName)) ∈ lw_all := lw_g (lw_at lw_m4 7 rfl) rfl
theorem q846 : (Jvm.Cond.code ({ cls := "SupplyGrid", name := "worst", desc := "()I" } : Jvm.MethodName) prog_1_method_30_code (1 : Nat) (Option.some Jvm.ClassFile.FieldType.int)) ∈ lw_all := lw_g (lw_at lw_m4 8 rfl) rfl
theorem q847 : (Jvm.Cond.methodLink "SupplyGrid" (234 : Nat) ({ cls := "SupplyGrid$Solved", name := "worst", desc := "()I" } : Jvm.MethodName)) ∈ lw_all := lw_g (lw_at lw_m4 9 rfl) rfl
theorem q852 : (Jvm.Cond.instanceMethod ({ cls := "SupplyGrid", name := "over", desc := "()I" } : Jvm.MethodName)) ∈ lw_all := lw_g (lw_at lw_m4 14 rfl) rfl
theorem q853 : (Jvm.Cond.selects "SupplyGrid" ({ cls := "SupplyGrid", name := "over", desc := "()I" } : Jvm.MethodName) ({ cls := "SupplyGrid", name := "over", desc := "()I" } : Jvm.MethodName)) ∈ lw_all := lw_g (lw_at lw_m4 15 rfl) rfl
theorem q854 : (Jvm.Cond.code ({ cls := "SupplyGrid", name := "over", desc := "()I" } : Jvm.MethodName) prog_1_method_31_code (1 : Nat) (Option.some Jvm.ClassFile.FieldType.int)) ∈ lw_all := lw_g (lw_at lw_m4 16 rfl) rfl
theorem q855 : (Jvm.Cond.methodLink "SupplyGrid" (237 : Nat) ({ cls := "SupplyGrid$Solved", name := "over", desc := "([J)I" } : Jvm.MethodName)) ∈ lw_all := lw_g (lw_at lw_m4 17 rfl) rfl
theorem q860 : (Jvm.Cond.instanceMethod ({ cls := "SupplyGrid", name := "holds", desc := "()I" } : Jvm.MethodName)) ∈ lw_all := lw_g (lw_at lw_m4 22 rfl) rfl
theorem q861 : (Jvm.Cond.selects "SupplyGrid" ({ cls := "SupplyGrid", name := "holds", desc := "()I" } : Jvm.MethodName) ({ cls := "SupplyGrid", name := "holds", desc := "()I" } : Jvm.MethodName)) ∈ lw_all := lw_g (lw_at lw_m4 23 rfl) rfl
theorem q862 : (Jvm.Cond.code ({ cls := "SupplyGrid", name := "holds", desc := "()I" } : Jvm.MethodName) prog_1_method_32_code (1 : Nat) (Option.some Jvm.ClassFile.FieldType.int)) ∈ lw_all := lw_g (lw_at lw_m4 24 rfl) rfl
theorem q863 : (Jvm.Cond.methodLink "SupplyGrid" (241 : Nat) ({ cls := "SupplyGrid$Solved", name := "holds", desc := "()Z" } : Jvm.MethodName)) ∈ lw_all := lw_g (lw_at lw_m4 25 rfl) rfl
theorem q873 : (Jvm.Cond.instanceMethod ({ cls := "SupplyGrid", name := "loss", desc := "(I)J" } : Jvm.MethodName)) ∈ lw_all := lw_g (lw_at lw_m4 35 rfl) rfl
theorem q874 : (Jvm.Cond.selects "SupplyGrid" ({ cls := "SupplyGrid", name := "loss", desc := "(I)J" } : Jvm.MethodName) ({ cls := "SupplyGrid", name := "loss", desc := "(I)J" } : Jvm.MethodName)) ∈ lw_all := lw_g (lw_at lw_m4 36 rfl) rfl
theorem q875 : (Jvm.Cond.code ({ cls := "SupplyGrid", name := "loss", desc := "(I)J" } : Jvm.MethodName) prog_1_method_33_code (5 : Nat) (Option.some Jvm.ClassFile.FieldType.long)) ∈ lw_all := lw_g (lw_at lw_m4 37 rfl) rfl
theorem q877 : (Jvm.Cond.instanceMethod ({ cls := "SupplyGrid", name := "moves", desc := "(III)J" } : Jvm.MethodName)) ∈ lw_all := lw_g (lw_at lw_m4 39 rfl) rfl
theorem q878 : (Jvm.Cond.selects "SupplyGrid" ({ cls := "SupplyGrid", name := "moves", desc := "(III)J" } : Jvm.MethodName) ({ cls := "SupplyGrid", name := "moves", desc := "(III)J" } : Jvm.MethodName)) ∈ lw_all := lw_g (lw_at lw_m4 40 rfl) rfl
theorem q879 : (Jvm.Cond.code ({ cls := "SupplyGrid", name := "moves", desc := "(III)J" } : Jvm.MethodName) prog_1_method_34_code (4 : Nat) (Option.some Jvm.ClassFile.FieldType.long)) ∈ lw_all := lw_g (lw_at lw_m4 41 rfl) rfl
theorem q880 : (Jvm.Cond.methodLinkNest "SupplyGrid" (244 : Nat) ({ cls := "SupplyGrid$Solved", name := "moves", desc := "(II)J" } : Jvm.MethodName) "SupplyGrid") ∈ lw_tbl := lw_at lw_m4 42 rfl
theorem q882 : (Jvm.Cond.instanceMethod ({ cls := "SupplyGrid", name := "resists", desc := "(III)J" } : Jvm.MethodName)) ∈ lw_all := lw_g (lw_at lw_m4 44 rfl) rfl
theorem q883 : (Jvm.Cond.selects "SupplyGrid" ({ cls := "SupplyGrid", name := "resists", desc := "(III)J" } : Jvm.MethodName) ({ cls := "SupplyGrid", name := "resists", desc := "(III)J" } : Jvm.MethodName)) ∈ lw_all := lw_g (lw_at lw_m4 45 rfl) rfl
theorem q884 : (Jvm.Cond.code ({ cls := "SupplyGrid", name := "resists", desc := "(III)J" } : Jvm.MethodName) prog_1_method_35_code (5 : Nat) (Option.some Jvm.ClassFile.FieldType.long)) ∈ lw_all := lw_g (lw_at lw_m4 46 rfl) rfl
theorem q885 : (Jvm.Cond.methodLink "SupplyGrid" (248 : Nat) ({ cls := "SupplyGrid$Solved", name := "reach", desc := "(I)I" } : Jvm.MethodName)) ∈ lw_all := lw_g (lw_at lw_m4 47 rfl) rfl
theorem q886 : (Jvm.Cond.methodLinkNest "SupplyGrid" (252 : Nat) ({ cls := "SupplyGrid$Solved", name := "lays", desc := "(II)V" } : Jvm.MethodName) "SupplyGrid") ∈ lw_tbl := lw_at lw_m4 48 rfl
theorem q888 : (Jvm.Cond.instanceMethod ({ cls := "SupplyGrid", name := "hottest", desc := "()I" } : Jvm.MethodName)) ∈ lw_all := lw_g (lw_at lw_m4 50 rfl) rfl
theorem q889 : (Jvm.Cond.selects "SupplyGrid" ({ cls := "SupplyGrid", name := "hottest", desc := "()I" } : Jvm.MethodName) ({ cls := "SupplyGrid", name := "hottest", desc := "()I" } : Jvm.MethodName)) ∈ lw_all := lw_g (lw_at lw_m4 51 rfl) rfl
theorem q890 : (Jvm.Cond.code ({ cls := "SupplyGrid", name := "hottest", desc := "()I" } : Jvm.MethodName) prog_1_method_36_code (3 : Nat) (Option.some Jvm.ClassFile.FieldType.int)) ∈ lw_all := lw_g (lw_at lw_m4 52 rfl) rfl
theorem q892 : (Jvm.Cond.instanceMethod ({ cls := "SupplyGrid", name := "wearing", desc := "()I" } : Jvm.MethodName)) ∈ lw_all := lw_g (lw_at lw_m4 54 rfl) rfl
theorem q893 : (Jvm.Cond.selects "SupplyGrid" ({ cls := "SupplyGrid", name := "wearing", desc := "()I" } : Jvm.MethodName) ({ cls := "SupplyGrid", name := "wearing", desc := "()I" } : Jvm.MethodName)) ∈ lw_all := lw_g (lw_at lw_m4 55 rfl) rfl
theorem q894 : (Jvm.Cond.code ({ cls := "SupplyGrid", name := "wearing", desc := "()I" } : Jvm.MethodName) prog_1_method_37_code (1 : Nat) (Option.some Jvm.ClassFile.FieldType.int)) ∈ lw_all := lw_g (lw_at lw_m4 56 rfl) rfl
theorem q895 : (Jvm.Cond.methodLink "SupplyGrid" (256 : Nat) ({ cls := "SupplyGrid$Solved", name := "wearing", desc := "()I" } : Jvm.MethodName)) ∈ lw_all := lw_g (lw_at lw_m4 57 rfl) rfl
theorem q902 : (Jvm.Cond.instanceMethod ({ cls := "SupplyGrid", name := "most", desc := "(II)J" } : Jvm.MethodName)) ∈ lw_all := lw_g (lw_at lw_m4 64 rfl) rfl
theorem q903 : (Jvm.Cond.selects "SupplyGrid" ({ cls := "SupplyGrid", name := "most", desc := "(II)J" } : Jvm.MethodName) ({ cls := "SupplyGrid", name := "most", desc := "(II)J" } : Jvm.MethodName)) ∈ lw_all := lw_g (lw_at lw_m4 65 rfl) rfl
theorem q904 : (Jvm.Cond.code ({ cls := "SupplyGrid", name := "most", desc := "(II)J" } : Jvm.MethodName) prog_1_method_40_code (3 : Nat) (Option.some Jvm.ClassFile.FieldType.long)) ∈ lw_all := lw_g (lw_at lw_m4 66 rfl) rfl
theorem q905 : (Jvm.Cond.methodLink "SupplyGrid" (268 : Nat) ({ cls := "SupplyGrid", name := "mostOf", desc := "(I)J" } : Jvm.MethodName)) ∈ lw_all := lw_g (lw_at lw_m4 67 rfl) rfl
theorem q906 : (Jvm.Cond.privateMethod ({ cls := "SupplyGrid", name := "mostOf", desc := "(I)J" } : Jvm.MethodName)) ∈ lw_tbl := lw_at lw_m4 68 rfl
theorem q907 : (Jvm.Cond.instanceMethod ({ cls := "SupplyGrid", name := "mostOf", desc := "(I)J" } : Jvm.MethodName)) ∈ lw_all := lw_g (lw_at lw_m4 69 rfl) rfl
theorem q908 : (Jvm.Cond.code ({ cls := "SupplyGrid", name := "mostOf", desc := "(I)J" } : Jvm.MethodName) prog_1_method_39_code (7 : Nat) (Option.some Jvm.ClassFile.FieldType.long)) ∈ lw_all := lw_g (lw_at lw_m4 70 rfl) rfl
theorem q909 : (Jvm.Cond.methodLink "SupplyGrid" (259 : Nat) ({ cls := "java/lang/System", name := "arraycopy", desc := "(Ljava/lang/Object;ILjava/lang/Object;II)V" } : Jvm.MethodName)) ∈ lw_all := lw_g (lw_at lw_m4 71 rfl) rfl
theorem q910 : (Jvm.Cond.methodLink "SupplyGrid" (265 : Nat) ({ cls := "SupplyGrid", name := "nextOf", desc := "(II)I" } : Jvm.MethodName)) ∈ lw_all := lw_g (lw_at lw_m4 72 rfl) rfl
theorem q911 : (Jvm.Cond.privateMethod ({ cls := "SupplyGrid", name := "nextOf", desc := "(II)I" } : Jvm.MethodName)) ∈ lw_tbl := lw_at lw_m4 73 rfl
theorem q912 : (Jvm.Cond.instanceMethod ({ cls := "SupplyGrid", name := "nextOf", desc := "(II)I" } : Jvm.MethodName)) ∈ lw_all := lw_g (lw_at lw_m4 74 rfl) rfl
theorem q913 : (Jvm.Cond.code ({ cls := "SupplyGrid", name := "nextOf", desc := "(II)I" } : Jvm.MethodName) prog_1_method_38_code (5 : Nat) (Option.some Jvm.ClassFile.FieldType.int)) ∈ lw_all := lw_g (lw_at lw_m4 75 rfl) rfl
theorem q915 : (Jvm.Cond.instanceMethod ({ cls := "SupplyGrid", name := "drawn", desc := "(II)I" } : Jvm.MethodName)) ∈ lw_all := lw_g (lw_at lw_m4 77 rfl) rfl
theorem q916 : (Jvm.Cond.selects "SupplyGrid" ({ cls := "SupplyGrid", name := "drawn", desc := "(II)I" } : Jvm.MethodName) ({ cls := "SupplyGrid", name := "drawn", desc := "(II)I" } : Jvm.MethodName)) ∈ lw_all := lw_g (lw_at lw_m4 78 rfl) rfl
theorem q917 : (Jvm.Cond.code ({ cls := "SupplyGrid", name := "drawn", desc := "(II)I" } : Jvm.MethodName) prog_1_method_41_code (3 : Nat) (Option.some Jvm.ClassFile.FieldType.int)) ∈ lw_all := lw_g (lw_at lw_m4 79 rfl) rfl
theorem q919 : (Jvm.Cond.instanceMethod ({ cls := "SupplyGrid", name := "foe", desc := "()I" } : Jvm.MethodName)) ∈ lw_all := lw_g (lw_at lw_m4 81 rfl) rfl
theorem q920 : (Jvm.Cond.selects "SupplyGrid" ({ cls := "SupplyGrid", name := "foe", desc := "()I" } : Jvm.MethodName) ({ cls := "SupplyGrid", name := "foe", desc := "()I" } : Jvm.MethodName)) ∈ lw_all := lw_g (lw_at lw_m4 82 rfl) rfl
theorem q921 : (Jvm.Cond.code ({ cls := "SupplyGrid", name := "foe", desc := "()I" } : Jvm.MethodName) prog_1_method_43_code (3 : Nat) (Option.some Jvm.ClassFile.FieldType.int)) ∈ lw_all := lw_g (lw_at lw_m4 83 rfl) rfl
theorem q922 : (Jvm.Cond.methodLink "SupplyGrid" (271 : Nat) ({ cls := "SupplyGrid", name := "laysMosts", desc := "()V" } : Jvm.MethodName)) ∈ lw_all := lw_g (lw_at lw_m4 84 rfl) rfl
theorem q923 : (Jvm.Cond.privateMethod ({ cls := "SupplyGrid", name := "laysMosts", desc := "()V" } : Jvm.MethodName)) ∈ lw_tbl := lw_at lw_m4 85 rfl
theorem q924 : (Jvm.Cond.instanceMethod ({ cls := "SupplyGrid", name := "laysMosts", desc := "()V" } : Jvm.MethodName)) ∈ lw_all := lw_g (lw_at lw_m4 86 rfl) rfl
theorem q925 : (Jvm.Cond.code ({ cls := "SupplyGrid", name := "laysMosts", desc := "()V" } : Jvm.MethodName) prog_1_method_42_code (2 : Nat) (Option.none : Option Jvm.ClassFile.FieldType)) ∈ lw_all := lw_g (lw_at lw_m4 87 rfl) rfl
theorem q927 : (Jvm.Cond.instanceMethod ({ cls := "SupplyGrid", name := "uns\x61fe", desc := "()I" } : Jvm.MethodName)) ∈ lw_all := lw_g (lw_at lw_m4 89 rfl) rfl
theorem q928 : (Jvm.Cond.selects "SupplyGrid" ({ cls := "SupplyGrid", name := "uns\x61fe", desc := "()I" } : Jvm.MethodName) ({ cls := "SupplyGrid", name := "uns\x61fe", desc := "()I" } : Jvm.MethodName)) ∈ lw_all := lw_g (lw_at lw_m4 90 rfl) rfl
theorem q929 : (Jvm.Cond.code ({ cls := "SupplyGrid", name := "uns\x61fe", desc := "()I" } : Jvm.MethodName) prog_1_method_44_code (1 : Nat) (Option.some Jvm.ClassFile.FieldType.int)) ∈ lw_all := lw_g (lw_at lw_m4 91 rfl) rfl
theorem q931 : (Jvm.Cond.instanceMethod ({ cls := "SupplyGrid", name := "tight", desc := "(I)I" } : Jvm.MethodName)) ∈ lw_all := lw_g (lw_at lw_m4 93 rfl) rfl
theorem q932 : (Jvm.Cond.selects "SupplyGrid" ({ cls := "SupplyGrid", name := "tight", desc := "(I)I" } : Jvm.MethodName) ({ cls := "SupplyGrid", name := "tight", desc := "(I)I" } : Jvm.MethodName)) ∈ lw_all := lw_g (lw_at lw_m4 94 rfl) rfl
theorem q933 : (Jvm.Cond.code ({ cls := "SupplyGrid", name := "tight", desc := "(I)I" } : Jvm.MethodName) prog_1_method_45_code (4 : Nat) (Option.some Jvm.ClassFile.FieldType.int)) ∈ lw_all := lw_g (lw_at lw_m4 95 rfl) rfl
theorem q935 : (Jvm.Cond.instanceMethod ({ cls := "SupplyGrid", name := "share", desc := "(III)J" } : Jvm.MethodName)) ∈ lw_all := lw_g (lw_at lw_m4 97 rfl) rfl
theorem q936 : (Jvm.Cond.selects "SupplyGrid" ({ cls := "SupplyGrid", name := "share", desc := "(III)J" } : Jvm.MethodName) ({ cls := "SupplyGrid", name := "share", desc := "(III)J" } : Jvm.MethodName)) ∈ lw_all := lw_g (lw_at lw_m4 98 rfl) rfl
theorem q937 : (Jvm.Cond.code ({ cls := "SupplyGrid", name := "share", desc := "(III)J" } : Jvm.MethodName) prog_1_method_46_code (4 : Nat) (Option.some Jvm.ClassFile.FieldType.long)) ∈ lw_all := lw_g (lw_at lw_m4 99 rfl) rfl
theorem q939 : (Jvm.Cond.instanceMethod ({ cls := "SupplyGrid", name := "feeder", desc := "(II)I" } : Jvm.MethodName)) ∈ lw_all := lw_g (lw_at lw_m4 101 rfl) rfl
theorem q940 : (Jvm.Cond.selects "SupplyGrid" ({ cls := "SupplyGrid", name := "feeder", desc := "(II)I" } : Jvm.MethodName) ({ cls := "SupplyGrid", name := "feeder", desc := "(II)I" } : Jvm.MethodName)) ∈ lw_all := lw_g (lw_at lw_m4 102 rfl) rfl
theorem q941 : (Jvm.Cond.code ({ cls := "SupplyGrid", name := "feeder", desc := "(II)I" } : Jvm.MethodName) prog_1_method_48_code (5 : Nat) (Option.some Jvm.ClassFile.FieldType.int)) ∈ lw_all := lw_g (lw_at lw_m4 103 rfl) rfl
theorem q942 : (Jvm.Cond.methodLink "SupplyGrid" (274 : Nat) ({ cls := "SupplyGrid", name := "feederOf", desc := "(I)I" } : Jvm.MethodName)) ∈ lw_all := lw_g (lw_at lw_m4 104 rfl) rfl
theorem q943 : (Jvm.Cond.privateMethod ({ cls := "SupplyGrid", name := "feederOf", desc := "(I)I" } : Jvm.MethodName)) ∈ lw_tbl := lw_at lw_m4 105 rfl
theorem q944 : (Jvm.Cond.instanceMethod ({ cls := "SupplyGrid", name := "feederOf", desc := "(I)I" } : Jvm.MethodName)) ∈ lw_all := lw_g (lw_at lw_m4 106 rfl) rfl
theorem q945 : (Jvm.Cond.code ({ cls := "SupplyGrid", name := "feederOf", desc := "(I)I" } : Jvm.MethodName) prog_1_method_47_code (9 : Nat) (Option.some Jvm.ClassFile.FieldType.int)) ∈ lw_all := lw_g (lw_at lw_m4 107 rfl) rfl
theorem q947 : (Jvm.Cond.instanceMethod ({ cls := "SupplyGrid", name := "parts", desc := "()I" } : Jvm.MethodName)) ∈ lw_all := lw_g (lw_at lw_m4 109 rfl) rfl
theorem q948 : (Jvm.Cond.selects "SupplyGrid" ({ cls := "SupplyGrid", name := "parts", desc := "()I" } : Jvm.MethodName) ({ cls := "SupplyGrid", name := "parts", desc := "()I" } : Jvm.MethodName)) ∈ lw_all := lw_g (lw_at lw_m4 110 rfl) rfl
theorem q949 : (Jvm.Cond.code ({ cls := "SupplyGrid", name := "parts", desc := "()I" } : Jvm.MethodName) prog_1_method_49_code (3 : Nat) (Option.some Jvm.ClassFile.FieldType.int)) ∈ lw_all := lw_g (lw_at lw_m4 111 rfl) rfl
theorem q950 : (Jvm.Cond.methodLink "SupplyGrid" (277 : Nat) ({ cls := "java/lang/Integer", name := "numberOfTrailingZeros", desc := "(I)I" } : Jvm.MethodName)) ∈ lw_all := lw_g (lw_at lw_m4 112 rfl) rfl
theorem q955 : (Jvm.Cond.instanceMethod ({ cls := "SupplyGrid", name := "reached", desc := "(I)I" } : Jvm.MethodName)) ∈ lw_all := lw_g (lw_at lw_m4 117 rfl) rfl
theorem q956 : (Jvm.Cond.selects "SupplyGrid" ({ cls := "SupplyGrid", name := "reached", desc := "(I)I" } : Jvm.MethodName) ({ cls := "SupplyGrid", name := "reached", desc := "(I)I" } : Jvm.MethodName)) ∈ lw_all := lw_g (lw_at lw_m4 118 rfl) rfl
theorem q957 : (Jvm.Cond.code ({ cls := "SupplyGrid", name := "reached", desc := "(I)I" } : Jvm.MethodName) prog_1_method_50_code (2 : Nat) (Option.some Jvm.ClassFile.FieldType.int)) ∈ lw_all := lw_g (lw_at lw_m4 119 rfl) rfl
theorem q959 : (Jvm.Cond.instanceMethod ({ cls := "SupplyGrid", name := "aged", desc := "(II)I" } : Jvm.MethodName)) ∈ lw_all := lw_g (lw_at lw_m4 121 rfl) rfl
theorem q960 : (Jvm.Cond.selects "SupplyGrid" ({ cls := "SupplyGrid", name := "aged", desc := "(II)I" } : Jvm.MethodName) ({ cls := "SupplyGrid", name := "aged", desc := "(II)I" } : Jvm.MethodName)) ∈ lw_all := lw_g (lw_at lw_m4 122 rfl) rfl
theorem q961 : (Jvm.Cond.code ({ cls := "SupplyGrid", name := "aged", desc := "(II)I" } : Jvm.MethodName) prog_1_method_52_code (3 : Nat) (Option.some Jvm.ClassFile.FieldType.int)) ∈ lw_all := lw_g (lw_at lw_m4 123 rfl) rfl
theorem q962 : (Jvm.Cond.constantLong "SupplyGrid" (285 : Nat) (100 : Int64)) ∈ lw_all := lw_g (lw_at lw_m4 124 rfl) rfl
theorem q963 : (Jvm.Cond.methodLink "SupplyGrid" (287 : Nat) ({ cls := "SupplyGrid", name := "ages", desc := "(I)I" } : Jvm.MethodName)) ∈ lw_all := lw_g (lw_at lw_m4 125 rfl) rfl
theorem q964 : (Jvm.Cond.privateMethod ({ cls := "SupplyGrid", name := "ages", desc := "(I)I" } : Jvm.MethodName)) ∈ lw_tbl := lw_at lw_m4 126 rfl
theorem q965 : (Jvm.Cond.instanceMethod ({ cls := "SupplyGrid", name := "ages", desc := "(I)I" } : Jvm.MethodName)) ∈ lw_all := lw_g (lw_at lw_m4 127 rfl) rfl
theorem q966 : (Jvm.Cond.code ({ cls := "SupplyGrid", name := "ages", desc := "(I)I" } : Jvm.MethodName) prog_1_method_51_code (3 : Nat) (Option.some Jvm.ClassFile.FieldType.int)) ∈ lw_all := lw_g (lw_at lw_m4 128 rfl) rfl
theorem q967 : (Jvm.Cond.methodLink "SupplyGrid" (282 : Nat) ({ cls := "SupplyGrid$Solved", name := "ages", desc := "()I" } : Jvm.MethodName)) ∈ lw_all := lw_g (lw_at lw_m4 129 rfl) rfl
theorem q980 : (Jvm.Cond.instanceMethod ({ cls := "SupplyGrid", name := "lasts", desc := "()I" } : Jvm.MethodName)) ∈ lw_all := lw_g (lw_at lw_m4 142 rfl) rfl
theorem q981 : (Jvm.Cond.selects "SupplyGrid" ({ cls := "SupplyGrid", name := "lasts", desc := "()I" } : Jvm.MethodName) ({ cls := "SupplyGrid", name := "lasts", desc := "()I" } : Jvm.MethodName)) ∈ lw_all := lw_g (lw_at lw_m4 143 rfl) rfl
theorem q982 : (Jvm.Cond.code ({ cls := "SupplyGrid", name := "lasts", desc := "()I" } : Jvm.MethodName) prog_1_method_53_code (2 : Nat) (Option.some Jvm.ClassFile.FieldType.int)) ∈ lw_all := lw_g (lw_at lw_m4 144 rfl) rfl
theorem q984 : (Jvm.Cond.instanceMethod ({ cls := "SupplyGrid", name := "worn", desc := "(I)I" } : Jvm.MethodName)) ∈ lw_all := lw_g (lw_at lw_m4 146 rfl) rfl
theorem q985 : (Jvm.Cond.selects "SupplyGrid" ({ cls := "SupplyGrid", name := "worn", desc := "(I)I" } : Jvm.MethodName) ({ cls := "SupplyGrid", name := "worn", desc := "(I)I" } : Jvm.MethodName)) ∈ lw_all := lw_g (lw_at lw_m4 147 rfl) rfl
theorem q986 : (Jvm.Cond.code ({ cls := "SupplyGrid", name := "worn", desc := "(I)I" } : Jvm.MethodName) prog_1_method_54_code (3 : Nat) (Option.some Jvm.ClassFile.FieldType.int)) ∈ lw_all := lw_g (lw_at lw_m4 148 rfl) rfl
theorem q988 : (Jvm.Cond.instanceMethod ({ cls := "SupplyGrid", name := "calms", desc := "()I" } : Jvm.MethodName)) ∈ lw_all := lw_g (lw_at lw_m4 150 rfl) rfl
theorem q989 : (Jvm.Cond.selects "SupplyGrid" ({ cls := "SupplyGrid", name := "calms", desc := "()I" } : Jvm.MethodName) ({ cls := "SupplyGrid", name := "calms", desc := "()I" } : Jvm.MethodName)) ∈ lw_all := lw_g (lw_at lw_m4 151 rfl) rfl
theorem q990 : (Jvm.Cond.code ({ cls := "SupplyGrid", name := "calms", desc := "()I" } : Jvm.MethodName) prog_1_method_55_code (1 : Nat) (Option.some Jvm.ClassFile.FieldType.int)) ∈ lw_all := lw_g (lw_at lw_m4 152 rfl) rfl
theorem q992 : (Jvm.Cond.instanceMethod ({ cls := "SupplyGrid", name := "pad", desc := "(I)I" } : Jvm.MethodName)) ∈ lw_all := lw_g (lw_at lw_m4 154 rfl) rfl
theorem q993 : (Jvm.Cond.selects "SupplyGrid" ({ cls := "SupplyGrid", name := "pad", desc := "(I)I" } : Jvm.MethodName) ({ cls := "SupplyGrid", name := "pad", desc := "(I)I" } : Jvm.MethodName)) ∈ lw_all := lw_g (lw_at lw_m4 155 rfl) rfl
theorem q994 : (Jvm.Cond.code ({ cls := "SupplyGrid", name := "pad", desc := "(I)I" } : Jvm.MethodName) prog_1_method_58_code (5 : Nat) (Option.some Jvm.ClassFile.FieldType.int)) ∈ lw_all := lw_g (lw_at lw_m4 156 rfl) rfl
theorem q995 : (Jvm.Cond.methodLink "SupplyGrid" (303 : Nat) ({ cls := "SupplyGrid", name := "bestPad", desc := "(I)I" } : Jvm.MethodName)) ∈ lw_all := lw_g (lw_at lw_m4 157 rfl) rfl
theorem q996 : (Jvm.Cond.privateMethod ({ cls := "SupplyGrid", name := "bestPad", desc := "(I)I" } : Jvm.MethodName)) ∈ lw_tbl := lw_at lw_m4 158 rfl
theorem q997 : (Jvm.Cond.instanceMethod ({ cls := "SupplyGrid", name := "bestPad", desc := "(I)I" } : Jvm.MethodName)) ∈ lw_all := lw_g (lw_at lw_m4 159 rfl) rfl
theorem q998 : (Jvm.Cond.code ({ cls := "SupplyGrid", name := "bestPad", desc := "(I)I" } : Jvm.MethodName) prog_1_method_57_code (5 : Nat) (Option.some Jvm.ClassFile.FieldType.int)) ∈ lw_all := lw_g (lw_at lw_m4 160 rfl) rfl
theorem q999 : (Jvm.Cond.methodLink "SupplyGrid" (291 : Nat) ({ cls := "SupplyGrid", name := "withPads", desc := "(I)LSupplyGrid$Solved;" } : Jvm.MethodName)) ∈ lw_all := lw_g (lw_at lw_m4 161 rfl) rfl
theorem q1000 : (Jvm.Cond.privateMethod ({ cls := "SupplyGrid", name := "withPads", desc := "(I)LSupplyGrid$Solved;" } : Jvm.MethodName)) ∈ lw_tbl := lw_at lw_m4 162 rfl
theorem q1001 : (Jvm.Cond.instanceMethod ({ cls := "SupplyGrid", name := "withPads", desc := "(I)LSupplyGrid$Solved;" } : Jvm.MethodName)) ∈ lw_all := lw_g (lw_at lw_m4 163 rfl) rfl
theorem q1002 : (Jvm.Cond.code ({ cls := "SupplyGrid", name := "withPads", desc := "(I)LSupplyGrid$Solved;" } : Jvm.MethodName) prog_1_method_56_code (2 : Nat) (Option.some (Jvm.ClassFile.FieldType.object "SupplyGrid$Solved"))) ∈ lw_all := lw_g (lw_at lw_m4 164 rfl) rfl
theorem q1003 : (Jvm.Cond.methodLink "SupplyGrid" (295 : Nat) ({ cls := "SupplyGrid", name := "isBetter", desc := "(LSupplyGrid$Solved;)Z" } : Jvm.MethodName)) ∈ lw_all := lw_g (lw_at lw_m4 165 rfl) rfl
theorem q1004 : (Jvm.Cond.privateMethod ({ cls := "SupplyGrid", name := "isBetter", desc := "(LSupplyGrid$Solved;)Z" } : Jvm.MethodName)) ∈ lw_tbl := lw_at lw_m4 166 rfl
theorem q1005 : (Jvm.Cond.instanceMethod ({ cls := "SupplyGrid", name := "isBetter", desc := "(LSupplyGrid$Solved;)Z" } : Jvm.MethodName)) ∈ lw_all := lw_g (lw_at lw_m4 167 rfl) rfl
theorem q1006 : (Jvm.Cond.code ({ cls := "SupplyGrid", name := "isBetter", desc := "(LSupplyGrid$Solved;)Z" } : Jvm.MethodName) prog_1_method_16_code (2 : Nat) (Option.some Jvm.ClassFile.FieldType.boolean)) ∈ lw_all := lw_g (lw_at lw_m4 168 rfl) rfl
theorem q1007 : (Jvm.Cond.methodLink "SupplyGrid" (114 : Nat) ({ cls := "SupplyGrid$Solved", name := "starved", desc := "()I" } : Jvm.MethodName)) ∈ lw_all := lw_g (lw_at lw_m4 169 rfl) rfl
theorem q1008 : (Jvm.Cond.methodLink "SupplyGrid" (120 : Nat) ({ cls := "SupplyGrid$Solved", name := "most", desc := "()J" } : Jvm.MethodName)) ∈ lw_all := lw_g (lw_at lw_m4 170 rfl) rfl
theorem q1013 : (Jvm.Cond.methodLink "SupplyGrid" (15 : Nat) ({ cls := "SupplyGrid", name := "isMore", desc := "(JJJJ)Z" } : Jvm.MethodName)) ∈ lw_all := lw_g (lw_at lw_m4 175 rfl) rfl
theorem q1014 : (Jvm.Cond.static ({ cls := "SupplyGrid", name := "isMore", desc := "(JJJJ)Z" } : Jvm.MethodName)) ∈ lw_all := lw_g (lw_at lw_m4 176 rfl) rfl
theorem q1015 : (Jvm.Cond.code ({ cls := "SupplyGrid", name := "isMore", desc := "(JJJJ)Z" } : Jvm.MethodName) prog_1_method_5_code (12 : Nat) (Option.some Jvm.ClassFile.FieldType.boolean)) ∈ lw_all := lw_g (lw_at lw_m4 177 rfl) rfl
theorem q1016 : (Jvm.Cond.methodLink "SupplyGrid" (299 : Nat) ({ cls := "SupplyGrid", name := "keepsScore", desc := "(LSupplyGrid$Solved;)V" } : Jvm.MethodName)) ∈ lw_all := lw_g (lw_at lw_m4 178 rfl) rfl
theorem q1017 : (Jvm.Cond.privateMethod ({ cls := "SupplyGrid", name := "keepsScore", desc := "(LSupplyGrid$Solved;)V" } : Jvm.MethodName)) ∈ lw_tbl := lw_at lw_m4 179 rfl
theorem q1018 : (Jvm.Cond.instanceMethod ({ cls := "SupplyGrid", name := "keepsScore", desc := "(LSupplyGrid$Solved;)V" } : Jvm.MethodName)) ∈ lw_all := lw_g (lw_at lw_m4 180 rfl) rfl
theorem q1019 : (Jvm.Cond.code ({ cls := "SupplyGrid", name := "keepsScore", desc := "(LSupplyGrid$Solved;)V" } : Jvm.MethodName) prog_1_method_15_code (2 : Nat) (Option.none : Option Jvm.ClassFile.FieldType)) ∈ lw_all := lw_g (lw_at lw_m4 181 rfl) rfl
theorem q1021 : (Jvm.Cond.instanceMethod ({ cls := "SupplyGrid", name := "pads", desc := "(I)I" } : Jvm.MethodName)) ∈ lw_all := lw_g (lw_at lw_m4 183 rfl) rfl
theorem q1022 : (Jvm.Cond.selects "SupplyGrid" ({ cls := "SupplyGrid", name := "pads", desc := "(I)I" } : Jvm.MethodName) ({ cls := "SupplyGrid", name := "pads", desc := "(I)I" } : Jvm.MethodName)) ∈ lw_all := lw_g (lw_at lw_m4 184 rfl) rfl
theorem q1023 : (Jvm.Cond.code ({ cls := "SupplyGrid", name := "pads", desc := "(I)I" } : Jvm.MethodName) prog_1_method_60_code (2 : Nat) (Option.some Jvm.ClassFile.FieldType.int)) ∈ lw_all := lw_g (lw_at lw_m4 185 rfl) rfl
theorem q1024 : (Jvm.Cond.constantLong "SupplyGrid" (309 : Nat) (9 : Int64)) ∈ lw_all := lw_g (lw_at lw_m4 186 rfl) rfl
theorem q1025 : (Jvm.Cond.methodLink "SupplyGrid" (311 : Nat) ({ cls := "SupplyGrid", name := "bestPads", desc := "(I)I" } : Jvm.MethodName)) ∈ lw_all := lw_g (lw_at lw_m4 187 rfl) rfl
theorem q1026 : (Jvm.Cond.privateMethod ({ cls := "SupplyGrid", name := "bestPads", desc := "(I)I" } : Jvm.MethodName)) ∈ lw_tbl := lw_at lw_m4 188 rfl
theorem q1027 : (Jvm.Cond.instanceMethod ({ cls := "SupplyGrid", name := "bestPads", desc := "(I)I" } : Jvm.MethodName)) ∈ lw_all := lw_g (lw_at lw_m4 189 rfl) rfl
theorem q1028 : (Jvm.Cond.code ({ cls := "SupplyGrid", name := "bestPads", desc := "(I)I" } : Jvm.MethodName) prog_1_method_59_code (5 : Nat) (Option.some Jvm.ClassFile.FieldType.int)) ∈ lw_all := lw_g (lw_at lw_m4 190 rfl) rfl
theorem q1029 : (Jvm.Cond.methodLink "SupplyGrid" (306 : Nat) ({ cls := "java/lang/Integer", name := "bitCount", desc := "(I)I" } : Jvm.MethodName)) ∈ lw_all := lw_g (lw_at lw_m4 191 rfl) rfl
theorem q1031 : (Jvm.Cond.instanceMethod ({ cls := "SupplyGrid", name := "padded", desc := "(II)J" } : Jvm.MethodName)) ∈ lw_all := lw_g (lw_at lw_m4 193 rfl) rfl
theorem q1032 : (Jvm.Cond.selects "SupplyGrid" ({ cls := "SupplyGrid", name := "padded", desc := "(II)J" } : Jvm.MethodName) ({ cls := "SupplyGrid", name := "padded", desc := "(II)J" } : Jvm.MethodName)) ∈ lw_all := lw_g (lw_at lw_m4 194 rfl) rfl
theorem q1033 : (Jvm.Cond.code ({ cls := "SupplyGrid", name := "padded", desc := "(II)J" } : Jvm.MethodName) prog_1_method_61_code (3 : Nat) (Option.some Jvm.ClassFile.FieldType.long)) ∈ lw_all := lw_g (lw_at lw_m4 195 rfl) rfl
theorem q1035 : (Jvm.Cond.instanceMethod ({ cls := "SupplyGrid", name := "enough", desc := "()I" } : Jvm.MethodName)) ∈ lw_all := lw_g (lw_at lw_m4 197 rfl) rfl
theorem q1036 : (Jvm.Cond.selects "SupplyGrid" ({ cls := "SupplyGrid", name := "enough", desc := "()I" } : Jvm.MethodName) ({ cls := "SupplyGrid", name := "enough", desc := "()I" } : Jvm.MethodName)) ∈ lw_all := lw_g (lw_at lw_m4 198 rfl) rfl
theorem q1037 : (Jvm.Cond.code ({ cls := "SupplyGrid", name := "enough", desc := "()I" } : Jvm.MethodName) prog_1_method_62_code (3 : Nat) (Option.some Jvm.ClassFile.FieldType.int)) ∈ lw_all := lw_g (lw_at lw_m4 199 rfl) rfl
theorem q1039 : (Jvm.Cond.instanceMethod ({ cls := "SupplyGrid", name := "widens", desc := "()I" } : Jvm.MethodName)) ∈ lw_all := lw_g (lw_at lw_m4 201 rfl) rfl
theorem q1040 : (Jvm.Cond.selects "SupplyGrid" ({ cls := "SupplyGrid", name := "widens", desc := "()I" } : Jvm.MethodName) ({ cls := "SupplyGrid", name := "widens", desc := "()I" } : Jvm.MethodName)) ∈ lw_all := lw_g (lw_at lw_m4 202 rfl) rfl
theorem q1041 : (Jvm.Cond.code ({ cls := "SupplyGrid", name := "widens", desc := "()I" } : Jvm.MethodName) prog_1_method_65_code (1 : Nat) (Option.some Jvm.ClassFile.FieldType.int)) ∈ lw_all := lw_g (lw_at lw_m4 203 rfl) rfl
theorem q1042 : (Jvm.Cond.methodLink "SupplyGrid" (317 : Nat) ({ cls := "SupplyGrid", name := "widensAll", desc := "()I" } : Jvm.MethodName)) ∈ lw_all := lw_g (lw_at lw_m4 204 rfl) rfl
theorem q1043 : (Jvm.Cond.privateMethod ({ cls := "SupplyGrid", name := "widensAll", desc := "()I" } : Jvm.MethodName)) ∈ lw_tbl := lw_at lw_m4 205 rfl
theorem q1044 : (Jvm.Cond.instanceMethod ({ cls := "SupplyGrid", name := "widensAll", desc := "()I" } : Jvm.MethodName)) ∈ lw_all := lw_g (lw_at lw_m4 206 rfl) rfl
theorem q1045 : (Jvm.Cond.code ({ cls := "SupplyGrid", name := "widensAll", desc := "()I" } : Jvm.MethodName) prog_1_method_64_code (3 : Nat) (Option.some Jvm.ClassFile.FieldType.int)) ∈ lw_all := lw_g (lw_at lw_m4 207 rfl) rfl
theorem q1046 : (Jvm.Cond.methodLink "SupplyGrid" (314 : Nat) ({ cls := "SupplyGrid", name := "bestWider", desc := "()I" } : Jvm.MethodName)) ∈ lw_all := lw_g (lw_at lw_m4 208 rfl) rfl
theorem q1047 : (Jvm.Cond.privateMethod ({ cls := "SupplyGrid", name := "bestWider", desc := "()I" } : Jvm.MethodName)) ∈ lw_tbl := lw_at lw_m4 209 rfl
theorem q1048 : (Jvm.Cond.instanceMethod ({ cls := "SupplyGrid", name := "bestWider", desc := "()I" } : Jvm.MethodName)) ∈ lw_all := lw_g (lw_at lw_m4 210 rfl) rfl
theorem q1049 : (Jvm.Cond.code ({ cls := "SupplyGrid", name := "bestWider", desc := "()I" } : Jvm.MethodName) prog_1_method_63_code (3 : Nat) (Option.some Jvm.ClassFile.FieldType.int)) ∈ lw_all := lw_g (lw_at lw_m4 211 rfl) rfl
theorem q1051 : (Jvm.Cond.instanceMethod ({ cls := "SupplyGrid", name := "widen", desc := "(I)I" } : Jvm.MethodName)) ∈ lw_all := lw_g (lw_at lw_m4 213 rfl) rfl
theorem q1052 : (Jvm.Cond.selects "SupplyGrid" ({ cls := "SupplyGrid", name := "widen", desc := "(I)I" } : Jvm.MethodName) ({ cls := "SupplyGrid", name := "widen", desc := "(I)I" } : Jvm.MethodName)) ∈ lw_all := lw_g (lw_at lw_m4 214 rfl) rfl
theorem q1053 : (Jvm.Cond.code ({ cls := "SupplyGrid", name := "widen", desc := "(I)I" } : Jvm.MethodName) prog_1_method_66_code (2 : Nat) (Option.some Jvm.ClassFile.FieldType.int)) ∈ lw_all := lw_g (lw_at lw_m4 215 rfl) rfl
theorem q1055 : (Jvm.Cond.instanceMethod ({ cls := "SupplyGrid", name := "wide", desc := "()I" } : Jvm.MethodName)) ∈ lw_all := lw_g (lw_at lw_m4 217 rfl) rfl
theorem q1056 : (Jvm.Cond.selects "SupplyGrid" ({ cls := "SupplyGrid", name := "wide", desc := "()I" } : Jvm.MethodName) ({ cls := "SupplyGrid", name := "wide", desc := "()I" } : Jvm.MethodName)) ∈ lw_all := lw_g (lw_at lw_m4 218 rfl) rfl
theorem q1057 : (Jvm.Cond.code ({ cls := "SupplyGrid", name := "wide", desc := "()I" } : Jvm.MethodName) prog_1_method_67_code (1 : Nat) (Option.some Jvm.ClassFile.FieldType.int)) ∈ lw_all := lw_g (lw_at lw_m4 219 rfl) rfl
theorem q1059 : (Jvm.Cond.instanceMethod ({ cls := "SupplyGrid", name := "fewest", desc := "()I" } : Jvm.MethodName)) ∈ lw_all := lw_g (lw_at lw_m4 221 rfl) rfl
theorem q1060 : (Jvm.Cond.selects "SupplyGrid" ({ cls := "SupplyGrid", name := "fewest", desc := "()I" } : Jvm.MethodName) ({ cls := "SupplyGrid", name := "fewest", desc := "()I" } : Jvm.MethodName)) ∈ lw_all := lw_g (lw_at lw_m4 222 rfl) rfl
theorem q1061 : (Jvm.Cond.code ({ cls := "SupplyGrid", name := "fewest", desc := "()I" } : Jvm.MethodName) prog_1_method_70_code (1 : Nat) (Option.some Jvm.ClassFile.FieldType.int)) ∈ lw_all := lw_g (lw_at lw_m4 223 rfl) rfl
theorem q1062 : (Jvm.Cond.methodLink "SupplyGrid" (324 : Nat) ({ cls := "SupplyGrid", name := "fewestOf", desc := "()I" } : Jvm.MethodName)) ∈ lw_all := lw_g (lw_at lw_m4 224 rfl) rfl
theorem q1063 : (Jvm.Cond.privateMethod ({ cls := "SupplyGrid", name := "fewestOf", desc := "()I" } : Jvm.MethodName)) ∈ lw_tbl := lw_at lw_m4 225 rfl
theorem q1064 : (Jvm.Cond.instanceMethod ({ cls := "SupplyGrid", name := "fewestOf", desc := "()I" } : Jvm.MethodName)) ∈ lw_all := lw_g (lw_at lw_m4 226 rfl) rfl
theorem q1065 : (Jvm.Cond.code ({ cls := "SupplyGrid", name := "fewestOf", desc := "()I" } : Jvm.MethodName) prog_1_method_69_code (2 : Nat) (Option.some Jvm.ClassFile.FieldType.int)) ∈ lw_all := lw_g (lw_at lw_m4 227 rfl) rfl
theorem q1066 : (Jvm.Cond.methodLink "SupplyGrid" (320 : Nat) ({ cls := "SupplyGrid", name := "canDo", desc := "(III)Z" } : Jvm.MethodName)) ∈ lw_all := lw_g (lw_at lw_m4 228 rfl) rfl
theorem q1067 : (Jvm.Cond.privateMethod ({ cls := "SupplyGrid", name := "canDo", desc := "(III)Z" } : Jvm.MethodName)) ∈ lw_tbl := lw_at lw_m4 229 rfl
theorem q1068 : (Jvm.Cond.instanceMethod ({ cls := "SupplyGrid", name := "canDo", desc := "(III)Z" } : Jvm.MethodName)) ∈ lw_all := lw_g (lw_at lw_m4 230 rfl) rfl
theorem q1069 : (Jvm.Cond.code ({ cls := "SupplyGrid", name := "canDo", desc := "(III)Z" } : Jvm.MethodName) prog_1_method_68_code (6 : Nat) (Option.some Jvm.ClassFile.FieldType.boolean)) ∈ lw_all := lw_g (lw_at lw_m4 231 rfl) rfl
theorem q1071 : (Jvm.Cond.instanceMethod ({ cls := "SupplyGrid", name := "few", desc := "(I)I" } : Jvm.MethodName)) ∈ lw_all := lw_g (lw_at lw_m4 233 rfl) rfl
theorem q1072 : (Jvm.Cond.selects "SupplyGrid" ({ cls := "SupplyGrid", name := "few", desc := "(I)I" } : Jvm.MethodName) ({ cls := "SupplyGrid", name := "few", desc := "(I)I" } : Jvm.MethodName)) ∈ lw_all := lw_g (lw_at lw_m4 234 rfl) rfl
theorem q1073 : (Jvm.Cond.code ({ cls := "SupplyGrid", name := "few", desc := "(I)I" } : Jvm.MethodName) prog_1_method_71_code (2 : Nat) (Option.some Jvm.ClassFile.FieldType.int)) ∈ lw_all := lw_g (lw_at lw_m4 235 rfl) rfl
theorem q1075 : (Jvm.Cond.instanceMethod ({ cls := "SupplyGrid", name := "slims", desc := "()I" } : Jvm.MethodName)) ∈ lw_all := lw_g (lw_at lw_m4 237 rfl) rfl
theorem q1076 : (Jvm.Cond.selects "SupplyGrid" ({ cls := "SupplyGrid", name := "slims", desc := "()I" } : Jvm.MethodName) ({ cls := "SupplyGrid", name := "slims", desc := "()I" } : Jvm.MethodName)) ∈ lw_all := lw_g (lw_at lw_m4 238 rfl) rfl
theorem q1077 : (Jvm.Cond.code ({ cls := "SupplyGrid", name := "slims", desc := "()I" } : Jvm.MethodName) prog_1_method_73_code (2 : Nat) (Option.some Jvm.ClassFile.FieldType.int)) ∈ lw_all := lw_g (lw_at lw_m4 239 rfl) rfl
theorem q1078 : (Jvm.Cond.methodLink "SupplyGrid" (327 : Nat) ({ cls := "SupplyGrid", name := "bestNarrower", desc := "()I" } : Jvm.MethodName)) ∈ lw_all := lw_g (lw_at lw_m5 0 rfl) rfl
theorem q1079 : (Jvm.Cond.privateMethod ({ cls := "SupplyGrid", name := "bestNarrower", desc := "()I" } : Jvm.MethodName)) ∈ lw_tbl := lw_at lw_m5 1 rfl
theorem q1080 : (Jvm.Cond.instanceMethod ({ cls := "SupplyGrid", name := "bestNarrower", desc := "()I" } : Jvm.MethodName)) ∈ lw_all := lw_g (lw_at lw_m5 2 rfl) rfl
theorem q1081 : (Jvm.Cond.code ({ cls := "SupplyGrid", name := "bestNarrower", desc := "()I" } : Jvm.MethodName) prog_1_method_72_code (3 : Nat) (Option.some Jvm.ClassFile.FieldType.int)) ∈ lw_all := lw_g (lw_at lw_m5 3 rfl) rfl
theorem q1083 : (Jvm.Cond.instanceMethod ({ cls := "SupplyGrid", name := "slim", desc := "(I)I" } : Jvm.MethodName)) ∈ lw_all := lw_g (lw_at lw_m5 5 rfl) rfl
theorem q1084 : (Jvm.Cond.selects "SupplyGrid" ({ cls := "SupplyGrid", name := "slim", desc := "(I)I" } : Jvm.MethodName) ({ cls := "SupplyGrid", name := "slim", desc := "(I)I" } : Jvm.MethodName)) ∈ lw_all := lw_g (lw_at lw_m5 6 rfl) rfl
theorem q1085 : (Jvm.Cond.code ({ cls := "SupplyGrid", name := "slim", desc := "(I)I" } : Jvm.MethodName) prog_1_method_74_code (2 : Nat) (Option.some Jvm.ClassFile.FieldType.int)) ∈ lw_all := lw_g (lw_at lw_m5 7 rfl) rfl
theorem q1086 : (Jvm.Cond.methodLink "SupplyGrid" (330 : Nat) ({ cls := "SupplyGrid", name := "slims", desc := "()I" } : Jvm.MethodName)) ∈ lw_all := lw_g (lw_at lw_m5 8 rfl) rfl
theorem q1088 : (Jvm.Cond.instanceMethod ({ cls := "SupplyGrid", name := "without", desc := "(II)J" } : Jvm.MethodName)) ∈ lw_all := lw_g (lw_at lw_m5 10 rfl) rfl
theorem q1089 : (Jvm.Cond.selects "SupplyGrid" ({ cls := "SupplyGrid", name := "without", desc := "(II)J" } : Jvm.MethodName) ({ cls := "SupplyGrid", name := "without", desc := "(II)J" } : Jvm.MethodName)) ∈ lw_all := lw_g (lw_at lw_m5 11 rfl) rfl
theorem q1090 : (Jvm.Cond.code ({ cls := "SupplyGrid", name := "without", desc := "(II)J" } : Jvm.MethodName) prog_1_method_76_code (3 : Nat) (Option.some Jvm.ClassFile.FieldType.long)) ∈ lw_all := lw_g (lw_at lw_m5 12 rfl) rfl
theorem q1091 : (Jvm.Cond.methodLink "SupplyGrid" (333 : Nat) ({ cls := "SupplyGrid", name := "without", desc := "(I)LSupplyGrid$Solved;" } : Jvm.MethodName)) ∈ lw_all := lw_g (lw_at lw_m5 13 rfl) rfl
theorem q1092 : (Jvm.Cond.privateMethod ({ cls := "SupplyGrid", name := "without", desc := "(I)LSupplyGrid$Solved;" } : Jvm.MethodName)) ∈ lw_tbl := lw_at lw_m5 14 rfl
theorem q1093 : (Jvm.Cond.instanceMethod ({ cls := "SupplyGrid", name := "without", desc := "(I)LSupplyGrid$Solved;" } : Jvm.MethodName)) ∈ lw_all := lw_g (lw_at lw_m5 15 rfl) rfl
theorem q1094 : (Jvm.Cond.code ({ cls := "SupplyGrid", name := "without", desc := "(I)LSupplyGrid$Solved;" } : Jvm.MethodName) prog_1_method_75_code (2 : Nat) (Option.some (Jvm.ClassFile.FieldType.object "SupplyGrid$Solved"))) ∈ lw_all := lw_g (lw_at lw_m5 16 rfl) rfl
theorem q1096 : (Jvm.Cond.instanceMethod ({ cls := "SupplyGrid", name := "lost", desc := "(I)I" } : Jvm.MethodName)) ∈ lw_all := lw_g (lw_at lw_m5 18 rfl) rfl
theorem q1097 : (Jvm.Cond.selects "SupplyGrid" ({ cls := "SupplyGrid", name := "lost", desc := "(I)I" } : Jvm.MethodName) ({ cls := "SupplyGrid", name := "lost", desc := "(I)I" } : Jvm.MethodName)) ∈ lw_all := lw_g (lw_at lw_m5 19 rfl) rfl
theorem q1098 : (Jvm.Cond.code ({ cls := "SupplyGrid", name := "lost", desc := "(I)I" } : Jvm.MethodName) prog_1_method_77_code (2 : Nat) (Option.some Jvm.ClassFile.FieldType.int)) ∈ lw_all := lw_g (lw_at lw_m5 20 rfl) rfl
theorem q1100 : (Jvm.Cond.instanceMethod ({ cls := "SupplyGrid", name := "vital", desc := "()I" } : Jvm.MethodName)) ∈ lw_all := lw_g (lw_at lw_m5 22 rfl) rfl
theorem q1101 : (Jvm.Cond.selects "SupplyGrid" ({ cls := "SupplyGrid", name := "vital", desc := "()I" } : Jvm.MethodName) ({ cls := "SupplyGrid", name := "vital", desc := "()I" } : Jvm.MethodName)) ∈ lw_all := lw_g (lw_at lw_m5 23 rfl) rfl
theorem q1102 : (Jvm.Cond.code ({ cls := "SupplyGrid", name := "vital", desc := "()I" } : Jvm.MethodName) prog_1_method_78_code (4 : Nat) (Option.some Jvm.ClassFile.FieldType.int)) ∈ lw_all := lw_g (lw_at lw_m5 24 rfl) rfl
theorem q1103 : (Jvm.Cond.methodLink "SupplyGrid" (336 : Nat) ({ cls := "SupplyGrid", name := "isWorse", desc := "(LSupplyGrid$Solved;)Z" } : Jvm.MethodName)) ∈ lw_all := lw_g (lw_at lw_m5 25 rfl) rfl
theorem q1104 : (Jvm.Cond.privateMethod ({ cls := "SupplyGrid", name := "isWorse", desc := "(LSupplyGrid$Solved;)Z" } : Jvm.MethodName)) ∈ lw_tbl := lw_at lw_m5 26 rfl
theorem q1105 : (Jvm.Cond.instanceMethod ({ cls := "SupplyGrid", name := "isWorse", desc := "(LSupplyGrid$Solved;)Z" } : Jvm.MethodName)) ∈ lw_all := lw_g (lw_at lw_m5 27 rfl) rfl
theorem q1106 : (Jvm.Cond.code ({ cls := "SupplyGrid", name := "isWorse", desc := "(LSupplyGrid$Solved;)Z" } : Jvm.MethodName) prog_1_method_17_code (2 : Nat) (Option.some Jvm.ClassFile.FieldType.boolean)) ∈ lw_all := lw_g (lw_at lw_m5 28 rfl) rfl
theorem q1108 : (Jvm.Cond.instanceMethod ({ cls := "SupplyGrid", name := "spare", desc := "()I" } : Jvm.MethodName)) ∈ lw_all := lw_g (lw_at lw_m5 30 rfl) rfl
theorem q1109 : (Jvm.Cond.selects "SupplyGrid" ({ cls := "SupplyGrid", name := "spare", desc := "()I" } : Jvm.MethodName) ({ cls := "SupplyGrid", name := "spare", desc := "()I" } : Jvm.MethodName)) ∈ lw_all := lw_g (lw_at lw_m5 31 rfl) rfl
theorem q1110 : (Jvm.Cond.code ({ cls := "SupplyGrid", name := "spare", desc := "()I" } : Jvm.MethodName) prog_1_method_79_code (3 : Nat) (Option.some Jvm.ClassFile.FieldType.int)) ∈ lw_all := lw_g (lw_at lw_m5 32 rfl) rfl
theorem q1112 : (Jvm.Cond.instanceMethod ({ cls := "SupplyGrid", name := "pairs", desc := "()I" } : Jvm.MethodName)) ∈ lw_all := lw_g (lw_at lw_m5 34 rfl) rfl
theorem q1113 : (Jvm.Cond.selects "SupplyGrid" ({ cls := "SupplyGrid", name := "pairs", desc := "()I" } : Jvm.MethodName) ({ cls := "SupplyGrid", name := "pairs", desc := "()I" } : Jvm.MethodName)) ∈ lw_all := lw_g (lw_at lw_m5 35 rfl) rfl
theorem q1114 : (Jvm.Cond.code ({ cls := "SupplyGrid", name := "pairs", desc := "()I" } : Jvm.MethodName) prog_1_method_82_code (1 : Nat) (Option.some Jvm.ClassFile.FieldType.int)) ∈ lw_all := lw_g (lw_at lw_m5 36 rfl) rfl
theorem q1115 : (Jvm.Cond.methodLink "SupplyGrid" (342 : Nat) ({ cls := "SupplyGrid", name := "pairsOf", desc := "(I)I" } : Jvm.MethodName)) ∈ lw_all := lw_g (lw_at lw_m5 37 rfl) rfl
theorem q1116 : (Jvm.Cond.privateMethod ({ cls := "SupplyGrid", name := "pairsOf", desc := "(I)I" } : Jvm.MethodName)) ∈ lw_tbl := lw_at lw_m5 38 rfl
theorem q1117 : (Jvm.Cond.instanceMethod ({ cls := "SupplyGrid", name := "pairsOf", desc := "(I)I" } : Jvm.MethodName)) ∈ lw_all := lw_g (lw_at lw_m5 39 rfl) rfl
theorem q1118 : (Jvm.Cond.code ({ cls := "SupplyGrid", name := "pairsOf", desc := "(I)I" } : Jvm.MethodName) prog_1_method_81_code (5 : Nat) (Option.some Jvm.ClassFile.FieldType.int)) ∈ lw_all := lw_g (lw_at lw_m5 40 rfl) rfl
theorem q1119 : (Jvm.Cond.methodLink "SupplyGrid" (339 : Nat) ({ cls := "SupplyGrid", name := "isPair", desc := "(II)Z" } : Jvm.MethodName)) ∈ lw_all := lw_g (lw_at lw_m5 41 rfl) rfl
theorem q1120 : (Jvm.Cond.privateMethod ({ cls := "SupplyGrid", name := "isPair", desc := "(II)Z" } : Jvm.MethodName)) ∈ lw_tbl := lw_at lw_m5 42 rfl
theorem q1121 : (Jvm.Cond.instanceMethod ({ cls := "SupplyGrid", name := "isPair", desc := "(II)Z" } : Jvm.MethodName)) ∈ lw_all := lw_g (lw_at lw_m5 43 rfl) rfl
theorem q1122 : (Jvm.Cond.code ({ cls := "SupplyGrid", name := "isPair", desc := "(II)Z" } : Jvm.MethodName) prog_1_method_80_code (3 : Nat) (Option.some Jvm.ClassFile.FieldType.boolean)) ∈ lw_all := lw_g (lw_at lw_m5 44 rfl) rfl
theorem q1124 : (Jvm.Cond.instanceMethod ({ cls := "SupplyGrid", name := "pair", desc := "(I)I" } : Jvm.MethodName)) ∈ lw_all := lw_g (lw_at lw_m5 46 rfl) rfl
theorem q1125 : (Jvm.Cond.selects "SupplyGrid" ({ cls := "SupplyGrid", name := "pair", desc := "(I)I" } : Jvm.MethodName) ({ cls := "SupplyGrid", name := "pair", desc := "(I)I" } : Jvm.MethodName)) ∈ lw_all := lw_g (lw_at lw_m5 47 rfl) rfl
theorem q1126 : (Jvm.Cond.code ({ cls := "SupplyGrid", name := "pair", desc := "(I)I" } : Jvm.MethodName) prog_1_method_83_code (2 : Nat) (Option.some Jvm.ClassFile.FieldType.int)) ∈ lw_all := lw_g (lw_at lw_m5 48 rfl) rfl
theorem q1128 : (Jvm.Cond.instanceMethod ({ cls := "SupplyGrid", name := "chance", desc := "(II)I" } : Jvm.MethodName)) ∈ lw_all := lw_g (lw_at lw_m5 50 rfl) rfl
theorem q1129 : (Jvm.Cond.selects "SupplyGrid" ({ cls := "SupplyGrid", name := "chance", desc := "(II)I" } : Jvm.MethodName) ({ cls := "SupplyGrid", name := "chance", desc := "(II)I" } : Jvm.MethodName)) ∈ lw_all := lw_g (lw_at lw_m5 51 rfl) rfl
theorem q1130 : (Jvm.Cond.code ({ cls := "SupplyGrid", name := "chance", desc := "(II)I" } : Jvm.MethodName) prog_1_method_86_code (5 : Nat) (Option.some Jvm.ClassFile.FieldType.int)) ∈ lw_all := lw_g (lw_at lw_m5 52 rfl) rfl
theorem q1131 : (Jvm.Cond.methodLink "SupplyGrid" (360 : Nat) ({ cls := "SupplyGrid", name := "byDraws", desc := "()LSupplyGrid$Solved;" } : Jvm.MethodName)) ∈ lw_all := lw_g (lw_at lw_m5 53 rfl) rfl
theorem q1132 : (Jvm.Cond.privateMethod ({ cls := "SupplyGrid", name := "byDraws", desc := "()LSupplyGrid$Solved;" } : Jvm.MethodName)) ∈ lw_tbl := lw_at lw_m5 54 rfl
theorem q1133 : (Jvm.Cond.instanceMethod ({ cls := "SupplyGrid", name := "byDraws", desc := "()LSupplyGrid$Solved;" } : Jvm.MethodName)) ∈ lw_all := lw_g (lw_at lw_m5 55 rfl) rfl
theorem q1134 : (Jvm.Cond.code ({ cls := "SupplyGrid", name := "byDraws", desc := "()LSupplyGrid$Solved;" } : Jvm.MethodName) prog_1_method_85_code (2 : Nat) (Option.some (Jvm.ClassFile.FieldType.object "SupplyGrid$Solved"))) ∈ lw_all := lw_g (lw_at lw_m5 56 rfl) rfl
theorem q1135 : (Jvm.Cond.methodLink "SupplyGrid" (357 : Nat) ({ cls := "SupplyGrid", name := "draw", desc := "(I)I" } : Jvm.MethodName)) ∈ lw_all := lw_g (lw_at lw_m5 57 rfl) rfl
theorem q1136 : (Jvm.Cond.privateMethod ({ cls := "SupplyGrid", name := "draw", desc := "(I)I" } : Jvm.MethodName)) ∈ lw_tbl := lw_at lw_m5 58 rfl
theorem q1137 : (Jvm.Cond.instanceMethod ({ cls := "SupplyGrid", name := "draw", desc := "(I)I" } : Jvm.MethodName)) ∈ lw_all := lw_g (lw_at lw_m5 59 rfl) rfl
theorem q1138 : (Jvm.Cond.code ({ cls := "SupplyGrid", name := "draw", desc := "(I)I" } : Jvm.MethodName) prog_1_method_84_code (2 : Nat) (Option.some Jvm.ClassFile.FieldType.int)) ∈ lw_all := lw_g (lw_at lw_m5 60 rfl) rfl
theorem q1139 : (Jvm.Cond.constantLong "SupplyGrid" (345 : Nat) (1103515245 : Int64)) ∈ lw_all := lw_g (lw_at lw_m5 61 rfl) rfl
theorem q1140 : (Jvm.Cond.constantLong "SupplyGrid" (350 : Nat) (12345 : Int64)) ∈ lw_all := lw_g (lw_at lw_m5 62 rfl) rfl
theorem q1141 : (Jvm.Cond.constantLong "SupplyGrid" (352 : Nat) (2147483648 : Int64)) ∈ lw_all := lw_g (lw_at lw_m5 63 rfl) rfl
theorem q1142 : (Jvm.Cond.constantLong "SupplyGrid" (354 : Nat) (65536 : Int64)) ∈ lw_all := lw_g (lw_at lw_m5 64 rfl) rfl
theorem q1144 : (Jvm.Cond.instanceMethod ({ cls := "SupplyGrid", name := "luck", desc := "(III)J" } : Jvm.MethodName)) ∈ lw_all := lw_g (lw_at lw_m5 66 rfl) rfl
theorem q1145 : (Jvm.Cond.selects "SupplyGrid" ({ cls := "SupplyGrid", name := "luck", desc := "(III)J" } : Jvm.MethodName) ({ cls := "SupplyGrid", name := "luck", desc := "(III)J" } : Jvm.MethodName)) ∈ lw_all := lw_g (lw_at lw_m5 67 rfl) rfl
theorem q1146 : (Jvm.Cond.code ({ cls := "SupplyGrid", name := "luck", desc := "(III)J" } : Jvm.MethodName) prog_1_method_87_code (9 : Nat) (Option.some Jvm.ClassFile.FieldType.long)) ∈ lw_all := lw_g (lw_at lw_m5 68 rfl) rfl
theorem q1148 : (Jvm.Cond.instanceMethod ({ cls := "SupplyGrid", name := "room", desc := "(I)I" } : Jvm.MethodName)) ∈ lw_all := lw_g (lw_at lw_m5 70 rfl) rfl
theorem q1149 : (Jvm.Cond.selects "SupplyGrid" ({ cls := "SupplyGrid", name := "room", desc := "(I)I" } : Jvm.MethodName) ({ cls := "SupplyGrid", name := "room", desc := "(I)I" } : Jvm.MethodName)) ∈ lw_all := lw_g (lw_at lw_m5 71 rfl) rfl
theorem q1150 : (Jvm.Cond.code ({ cls := "SupplyGrid", name := "room", desc := "(I)I" } : Jvm.MethodName) prog_1_method_88_code (3 : Nat) (Option.some Jvm.ClassFile.FieldType.int)) ∈ lw_all := lw_g (lw_at lw_m5 72 rfl) rfl
theorem q1152 : (Jvm.Cond.instanceMethod ({ cls := "SupplyGrid", name := "lay", desc := "(II)I" } : Jvm.MethodName)) ∈ lw_all := lw_g (lw_at lw_m5 74 rfl) rfl
theorem q1153 : (Jvm.Cond.selects "SupplyGrid" ({ cls := "SupplyGrid", name := "lay", desc := "(II)I" } : Jvm.MethodName) ({ cls := "SupplyGrid", name := "lay", desc := "(II)I" } : Jvm.MethodName)) ∈ lw_all := lw_g (lw_at lw_m5 75 rfl) rfl
theorem q1154 : (Jvm.Cond.code ({ cls := "SupplyGrid", name := "lay", desc := "(II)I" } : Jvm.MethodName) prog_1_method_90_code (4 : Nat) (Option.some Jvm.ClassFile.FieldType.int)) ∈ lw_all := lw_g (lw_at lw_m5 76 rfl) rfl
theorem q1155 : (Jvm.Cond.constantLong "SupplyGrid" (363 : Nat) (4 : Int64)) ∈ lw_all := lw_g (lw_at lw_m5 77 rfl) rfl
theorem q1156 : (Jvm.Cond.methodLink "SupplyGrid" (365 : Nat) ({ cls := "SupplyGrid", name := "isFull", desc := "()Z" } : Jvm.MethodName)) ∈ lw_all := lw_g (lw_at lw_m5 78 rfl) rfl
theorem q1157 : (Jvm.Cond.privateMethod ({ cls := "SupplyGrid", name := "isFull", desc := "()Z" } : Jvm.MethodName)) ∈ lw_tbl := lw_at lw_m5 79 rfl
theorem q1158 : (Jvm.Cond.instanceMethod ({ cls := "SupplyGrid", name := "isFull", desc := "()Z" } : Jvm.MethodName)) ∈ lw_all := lw_g (lw_at lw_m5 80 rfl) rfl
theorem q1159 : (Jvm.Cond.code ({ cls := "SupplyGrid", name := "isFull", desc := "()Z" } : Jvm.MethodName) prog_1_method_89_code (1 : Nat) (Option.some Jvm.ClassFile.FieldType.boolean)) ∈ lw_all := lw_g (lw_at lw_m5 81 rfl) rfl
theorem q1160 : (Jvm.Cond.classLink "SupplyGrid" (368 : Nat) "SupplyGrid$Laid") ∈ lw_all := lw_g (lw_at lw_m5 82 rfl) rfl
theorem q1162 : (Jvm.Cond.methodLink "SupplyGrid" (370 : Nat) ({ cls := "SupplyGrid$Laid", name := "<init>", desc := "(II)V" } : Jvm.MethodName)) ∈ lw_all := lw_g (lw_at lw_m5 84 rfl) rfl
theorem q1168 : (Jvm.Cond.fieldLinkNest "SupplyGrid" (410 : Nat) "SupplyGrid$Laid" "was" "I" "SupplyGrid") ∈ lw_tbl := lw_at lw_m5 90 rfl
theorem q1174 : (Jvm.Cond.methodLink "SupplyGrid" (372 : Nat) ({ cls := "java/util/ArrayList", name := "add", desc := "(Ljava/lang/Object;)Z" } : Jvm.MethodName)) ∈ lw_all := lw_g (lw_at lw_m5 96 rfl) rfl
theorem q1206 : (Jvm.Cond.selects "SupplyGrid" ({ cls := "java/lang/Object", name := "getClass", desc := "()Ljava/lang/Class;" } : Jvm.MethodName) ({ cls := "java/lang/Object", name := "getClass", desc := "()Ljava/lang/Class;" } : Jvm.MethodName)) ∈ lw_all := lw_g (lw_at lw_m5 128 rfl) rfl
theorem q1229 : (Jvm.Cond.instanceMethod ({ cls := "SupplyGrid", name := "feeds", desc := "(I)I" } : Jvm.MethodName)) ∈ lw_all := lw_g (lw_at lw_m5 151 rfl) rfl
theorem q1230 : (Jvm.Cond.selects "SupplyGrid" ({ cls := "SupplyGrid", name := "feeds", desc := "(I)I" } : Jvm.MethodName) ({ cls := "SupplyGrid", name := "feeds", desc := "(I)I" } : Jvm.MethodName)) ∈ lw_all := lw_g (lw_at lw_m5 152 rfl) rfl
theorem q1231 : (Jvm.Cond.code ({ cls := "SupplyGrid", name := "feeds", desc := "(I)I" } : Jvm.MethodName) prog_1_method_91_code (2 : Nat) (Option.some Jvm.ClassFile.FieldType.int)) ∈ lw_all := lw_g (lw_at lw_m5 153 rfl) rfl
theorem q1232 : (Jvm.Cond.classLink "SupplyGrid" (376 : Nat) "SupplyGrid$Fed1") ∈ lw_all := lw_g (lw_at lw_m5 154 rfl) rfl
theorem q1234 : (Jvm.Cond.methodLink "SupplyGrid" (378 : Nat) ({ cls := "SupplyGrid$Fed1", name := "<init>", desc := "(I)V" } : Jvm.MethodName)) ∈ lw_all := lw_g (lw_at lw_m5 156 rfl) rfl
theorem q1243 : (Jvm.Cond.instanceMethod ({ cls := "SupplyGrid", name := "draw", desc := "(II)I" } : Jvm.MethodName)) ∈ lw_all := lw_g (lw_at lw_m5 165 rfl) rfl
theorem q1244 : (Jvm.Cond.selects "SupplyGrid" ({ cls := "SupplyGrid", name := "draw", desc := "(II)I" } : Jvm.MethodName) ({ cls := "SupplyGrid", name := "draw", desc := "(II)I" } : Jvm.MethodName)) ∈ lw_all := lw_g (lw_at lw_m5 166 rfl) rfl
theorem q1245 : (Jvm.Cond.code ({ cls := "SupplyGrid", name := "draw", desc := "(II)I" } : Jvm.MethodName) prog_1_method_92_code (4 : Nat) (Option.some Jvm.ClassFile.FieldType.int)) ∈ lw_all := lw_g (lw_at lw_m5 167 rfl) rfl
theorem q1246 : (Jvm.Cond.constantLong "SupplyGrid" (381 : Nat) (99 : Int64)) ∈ lw_all := lw_g (lw_at lw_m5 168 rfl) rfl
theorem q1247 : (Jvm.Cond.classLink "SupplyGrid" (383 : Nat) "SupplyGrid$Drawn") ∈ lw_all := lw_g (lw_at lw_m5 169 rfl) rfl
theorem q1249 : (Jvm.Cond.methodLink "SupplyGrid" (385 : Nat) ({ cls := "SupplyGrid$Drawn", name := "<init>", desc := "(II)V" } : Jvm.MethodName)) ∈ lw_all := lw_g (lw_at lw_m5 171 rfl) rfl
theorem q1255 : (Jvm.Cond.fieldLinkNest "SupplyGrid" (407 : Nat) "SupplyGrid$Drawn" "was" "I" "SupplyGrid") ∈ lw_tbl := lw_at lw_m5 177 rfl
theorem q1262 : (Jvm.Cond.instanceMethod ({ cls := "SupplyGrid", name := "year", desc := "()I" } : Jvm.MethodName)) ∈ lw_all := lw_g (lw_at lw_m5 184 rfl) rfl
theorem q1263 : (Jvm.Cond.selects "SupplyGrid" ({ cls := "SupplyGrid", name := "year", desc := "()I" } : Jvm.MethodName) ({ cls := "SupplyGrid", name := "year", desc := "()I" } : Jvm.MethodName)) ∈ lw_all := lw_g (lw_at lw_m5 185 rfl) rfl
theorem q1264 : (Jvm.Cond.code ({ cls := "SupplyGrid", name := "year", desc := "()I" } : Jvm.MethodName) prog_1_method_93_code (3 : Nat) (Option.some Jvm.ClassFile.FieldType.int)) ∈ lw_all := lw_g (lw_at lw_m5 186 rfl) rfl
theorem q1265 : (Jvm.Cond.classLink "SupplyGrid" (386 : Nat) "SupplyGrid$Aged") ∈ lw_all := lw_g (lw_at lw_m5 187 rfl) rfl
theorem q1267 : (Jvm.Cond.methodLink "SupplyGrid" (388 : Nat) ({ cls := "SupplyGrid$Aged", name := "<init>", desc := "(I)V" } : Jvm.MethodName)) ∈ lw_all := lw_g (lw_at lw_m5 189 rfl) rfl
theorem q1272 : (Jvm.Cond.fieldLinkNest "SupplyGrid" (404 : Nat) "SupplyGrid$Aged" "worn" "I" "SupplyGrid") ∈ lw_tbl := lw_at lw_m5 194 rfl
theorem q1277 : (Jvm.Cond.instanceMethod ({ cls := "SupplyGrid", name := "image", desc := "(I)I" } : Jvm.MethodName)) ∈ lw_all := lw_g (lw_at lw_m5 199 rfl) rfl
theorem q1278 : (Jvm.Cond.selects "SupplyGrid" ({ cls := "SupplyGrid", name := "image", desc := "(I)I" } : Jvm.MethodName) ({ cls := "SupplyGrid", name := "image", desc := "(I)I" } : Jvm.MethodName)) ∈ lw_all := lw_g (lw_at lw_m5 200 rfl) rfl
theorem q1279 : (Jvm.Cond.code ({ cls := "SupplyGrid", name := "image", desc := "(I)I" } : Jvm.MethodName) prog_1_method_94_code (2 : Nat) (Option.some Jvm.ClassFile.FieldType.int)) ∈ lw_all := lw_g (lw_at lw_m5 201 rfl) rfl
theorem q1280 : (Jvm.Cond.constantLong "SupplyGrid" (389 : Nat) (2 : Int64)) ∈ lw_all := lw_g (lw_at lw_m5 202 rfl) rfl
theorem q1281 : (Jvm.Cond.methodLink "SupplyGrid" (391 : Nat) ({ cls := "SupplyGrid$Told", name := "same", desc := "()LSupplyGrid$Told;" } : Jvm.MethodName)) ∈ lw_all := lw_g (lw_at lw_m5 203 rfl) rfl
theorem q1304 : (Jvm.Cond.instanceMethod ({ cls := "SupplyGrid", name := "back", desc := "(I)I" } : Jvm.MethodName)) ∈ lw_all := lw_g (lw_at lw_m5 226 rfl) rfl
theorem q1305 : (Jvm.Cond.selects "SupplyGrid" ({ cls := "SupplyGrid", name := "back", desc := "(I)I" } : Jvm.MethodName) ({ cls := "SupplyGrid", name := "back", desc := "(I)I" } : Jvm.MethodName)) ∈ lw_all := lw_g (lw_at lw_m5 227 rfl) rfl
theorem q1306 : (Jvm.Cond.code ({ cls := "SupplyGrid", name := "back", desc := "(I)I" } : Jvm.MethodName) prog_1_method_95_code (2 : Nat) (Option.some Jvm.ClassFile.FieldType.int)) ∈ lw_all := lw_g (lw_at lw_m5 228 rfl) rfl
theorem q1308 : (Jvm.Cond.instanceMethod ({ cls := "SupplyGrid", name := "did", desc := "(II)I" } : Jvm.MethodName)) ∈ lw_all := lw_g (lw_at lw_m5 230 rfl) rfl
theorem q1309 : (Jvm.Cond.selects "SupplyGrid" ({ cls := "SupplyGrid", name := "did", desc := "(II)I" } : Jvm.MethodName) ({ cls := "SupplyGrid", name := "did", desc := "(II)I" } : Jvm.MethodName)) ∈ lw_all := lw_g (lw_at lw_m5 231 rfl) rfl
theorem q1310 : (Jvm.Cond.code ({ cls := "SupplyGrid", name := "did", desc := "(II)I" } : Jvm.MethodName) prog_1_method_97_code (10 : Nat) (Option.some Jvm.ClassFile.FieldType.int)) ∈ lw_all := lw_g (lw_at lw_m5 232 rfl) rfl
theorem q1311 : (Jvm.Cond.methodLink "SupplyGrid" (394 : Nat) ({ cls := "java/util/ArrayList", name := "get", desc := "(I)Ljava/lang/Object;" } : Jvm.MethodName)) ∈ lw_all := lw_g (lw_at lw_m5 233 rfl) rfl
theorem q1323 : (Jvm.Cond.classLink "SupplyGrid" (398 : Nat) "SupplyGrid$Change") ∈ lw_all := lw_g (lw_at lw_m6 5 rfl) rfl
theorem q1324 : (Jvm.Cond.methodLink "SupplyGrid" (400 : Nat) ({ cls := "SupplyGrid", name := "kindOf", desc := "(LSupplyGrid$Change;)I" } : Jvm.MethodName)) ∈ lw_all := lw_g (lw_at lw_m6 6 rfl) rfl
theorem q1325 : (Jvm.Cond.static ({ cls := "SupplyGrid", name := "kindOf", desc := "(LSupplyGrid$Change;)I" } : Jvm.MethodName)) ∈ lw_all := lw_g (lw_at lw_m6 7 rfl) rfl
theorem q1326 : (Jvm.Cond.code ({ cls := "SupplyGrid", name := "kindOf", desc := "(LSupplyGrid$Change;)I" } : Jvm.MethodName) prog_1_method_96_code (1 : Nat) (Option.some Jvm.ClassFile.FieldType.int)) ∈ lw_all := lw_g (lw_at lw_m6 8 rfl) rfl
theorem q1328 : (Jvm.Cond.instanceMethod ({ cls := "SupplyGrid", name := "undo", desc := "()I" } : Jvm.MethodName)) ∈ lw_all := lw_g (lw_at lw_m6 10 rfl) rfl
theorem q1329 : (Jvm.Cond.selects "SupplyGrid" ({ cls := "SupplyGrid", name := "undo", desc := "()I" } : Jvm.MethodName) ({ cls := "SupplyGrid", name := "undo", desc := "()I" } : Jvm.MethodName)) ∈ lw_all := lw_g (lw_at lw_m6 11 rfl) rfl
theorem q1330 : (Jvm.Cond.code ({ cls := "SupplyGrid", name := "undo", desc := "()I" } : Jvm.MethodName) prog_1_method_99_code (1 : Nat) (Option.some Jvm.ClassFile.FieldType.int)) ∈ lw_all := lw_g (lw_at lw_m6 12 rfl) rfl
theorem q1331 : (Jvm.Cond.methodLink "SupplyGrid" (418 : Nat) ({ cls := "java/util/ArrayList", name := "isEmpty", desc := "()Z" } : Jvm.MethodName)) ∈ lw_all := lw_g (lw_at lw_m6 13 rfl) rfl
theorem q1335 : (Jvm.Cond.methodLink "SupplyGrid" (421 : Nat) ({ cls := "SupplyGrid", name := "takesBack", desc := "()V" } : Jvm.MethodName)) ∈ lw_all := lw_g (lw_at lw_m6 17 rfl) rfl
theorem q1336 : (Jvm.Cond.privateMethod ({ cls := "SupplyGrid", name := "takesBack", desc := "()V" } : Jvm.MethodName)) ∈ lw_tbl := lw_at lw_m6 18 rfl
theorem q1337 : (Jvm.Cond.instanceMethod ({ cls := "SupplyGrid", name := "takesBack", desc := "()V" } : Jvm.MethodName)) ∈ lw_all := lw_g (lw_at lw_m6 19 rfl) rfl
theorem q1338 : (Jvm.Cond.code ({ cls := "SupplyGrid", name := "takesBack", desc := "()V" } : Jvm.MethodName) prog_1_method_98_code (1 : Nat) (Option.none : Option Jvm.ClassFile.FieldType)) ∈ lw_all := lw_g (lw_at lw_m6 20 rfl) rfl
theorem q1339 : (Jvm.Cond.methodLink "SupplyGrid" (411 : Nat) ({ cls := "java/util/ArrayList", name := "remove", desc := "(I)Ljava/lang/Object;" } : Jvm.MethodName)) ∈ lw_all := lw_g (lw_at lw_m6 21 rfl) rfl
theorem q1347 : (Jvm.Cond.interfaceEntry "SupplyGrid" (414 : Nat)) ∈ lw_tbl := lw_at lw_m6 29 rfl
theorem q1348 : (Jvm.Cond.methodLink "SupplyGrid" (414 : Nat) ({ cls := "SupplyGrid$Change", name := "back", desc := "(LSupplyGrid$Told;)V" } : Jvm.MethodName)) ∈ lw_all := lw_g (lw_at lw_m6 30 rfl) rfl
theorem q1377 : (Jvm.Cond.instanceMethod ({ cls := "SupplyGrid", name := "anew", desc := "()I" } : Jvm.MethodName)) ∈ lw_all := lw_g (lw_at lw_m6 59 rfl) rfl
theorem q1378 : (Jvm.Cond.selects "SupplyGrid" ({ cls := "SupplyGrid", name := "anew", desc := "()I" } : Jvm.MethodName) ({ cls := "SupplyGrid", name := "anew", desc := "()I" } : Jvm.MethodName)) ∈ lw_all := lw_g (lw_at lw_m6 60 rfl) rfl
theorem q1379 : (Jvm.Cond.code ({ cls := "SupplyGrid", name := "anew", desc := "()I" } : Jvm.MethodName) prog_1_method_100_code (2 : Nat) (Option.some Jvm.ClassFile.FieldType.int)) ∈ lw_all := lw_g (lw_at lw_m6 61 rfl) rfl
theorem q2101 : (Jvm.Cond.castable "SupplyGrid" "java/lang/Object") ∈ lw_tbl := lw_at lw_m9 63 rfl
theorem in_X0 : ∀ w ∈ wsX00, w ∈ lw_all := lw_in wsX00 [362, 364, 366, 368, 370, 372, 374, 376, 378, 380, 382, 384, 386, 388, 390, 392] (by decide +kernel) (by decide +kernel)
