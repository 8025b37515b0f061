/-! SupplyGridModel -/
set_option maxRecDepth 100000
def RX5 : String := "SupplyGridModel"
def TX5 : u_T := fun k => match k with
  | 0 => ("SupplyGridModel", "thrown", "I", false)
  | 1 => ("SupplyGridModel", "world", "[I", true)
  | 2 => ("SupplyGridModel", "fresh", "[I", true)
  | 3 => ("SupplyGridModel", "waysBack", "[I", true)
  | 4 => ("SupplyGridModel", "acts", "I", false)
  | 5 => ("SupplyGridModel", "images", "[I", true)
  | 6 => ("SupplyGridModel", "hasImage", "[Z", true)
  | 7 => ("SupplyGridModel", "endOf", "[I", true)
  | 8 => ("SupplyGridModel", "strapMany", "I", false)
  | 9 => ("SupplyGridModel", "tape", "[B", true)
  | 10 => ("SupplyGridModel", "taped", "I", false)
  | 11 => ("SupplyGridModel", "five", "[I", true)
  | 12 => ("SupplyGridModel", "size", "I", false)
  | 13 => ("SupplyGridModel", "at", "I", false)
  | 14 => ("SupplyGridModel", "from", "I", false)
  | 15 => ("SupplyGridModel", "token", "I", false)
  | 16 => ("SupplyGridModel", "value", "I", false)
  | 17 => ("SupplyGridModel", "faultKind", "I", false)
  | 18 => ("SupplyGridModel", "faultPlace", "I", false)
  | 19 => ("SupplyGridModel", "budgetsTold", "I", false)
  | 20 => ("SupplyGridModel", "loadsTold", "I", false)
  | 21 => ("SupplyGridModel", "deadSet", "I", false)
  | 22 => ("SupplyGridModel", "unknownOf", "[I", true)
  | 23 => ("SupplyGridModel", "nodeOf", "[I", true)
  | 24 => ("SupplyGridModel", "unknowns", "I", false)
  | 25 => ("SupplyGridModel", "cells", "[J", true)
  | 26 => ("SupplyGridModel", "whole", "J", false)
  | 27 => ("SupplyGridModel", "ordered", "[I", true)
  | 28 => ("SupplyGridModel", "drawnBy", "[I", true)
  | 29 => ("SupplyGridModel", "left", "[I", true)
  | 30 => ("SupplyGridModel", "aside", "[I", true)
  | 31 => ("SupplyGridModel", "bestDead", "I", false)
  | 32 => ("SupplyGridModel", "bestAbove", "J", false)
  | 33 => ("SupplyGridModel", "bestBelow", "J", false)
  | 34 => ("SupplyGridModel", "widened", "[I", true)
  | 35 => ("SupplyGridModel", "widenedMany", "I", false)
  | 36 => ("SupplyGridModel", "fewOf", "[I", true)
  | _ => ("SupplyGridModel", "drawing", "J", false)
def tyX5 : Nat → FieldType := fun k => match k with
  | 0 => .int
  | 1 => .array .int
  | 2 => .array .int
  | 3 => .array .int
  | 4 => .int
  | 5 => .array .int
  | 6 => .array .boolean
  | 7 => .array .int
  | 8 => .int
  | 9 => .array .byte
  | 10 => .int
  | 11 => .array .int
  | 12 => .int
  | 13 => .int
  | 14 => .int
  | 15 => .int
  | 16 => .int
  | 17 => .int
  | 18 => .int
  | 19 => .int
  | 20 => .int
  | 21 => .int
  | 22 => .array .int
  | 23 => .array .int
  | 24 => .int
  | 25 => .array .long
  | 26 => .long
  | 27 => .array .int
  | 28 => .array .int
  | 29 => .array .int
  | 30 => .array .int
  | 31 => .int
  | 32 => .long
  | 33 => .long
  | 34 => .array .int
  | 35 => .int
  | 36 => .array .int
  | _ => .long
abbrev wsX50 : List Cond := u_ws RX5 TX5 38
set_option maxRecDepth 100000 in
theorem nmX5 : ∀ a, a < 38 → ∀ b, b < 38 → a ≠ b → (TX5 a).2.1 ≠ (TX5 b).2.1 := by decide +kernel
set_option maxRecDepth 100000 in
theorem tyX5_ok : ∀ k, k < 38 → parseFieldDescriptor (TX5 k).2.2.1 = some (tyX5 k) := by decide +kernel
abbrev cX5_init : ByteArray := prog_17_method_1_code
def yX5_init : MethodName := ⟨RX5, "<init>", "()V"⟩
def dkwX5_init_6 : List UInt8 := [181, 0, 66, 42, 6, 188, 10, 181, 0, 69, 177]
abbrev dktX5_init_6 : List UInt8 := dkwX5_init_6 ++ []
def dkwX5_init_5 : List UInt8 := [181, 0, 57, 42, 7, 188, 10, 181, 0, 60, 42, 16, 40, 188, 10, 181, 0, 63, 42, 16, 20, 188, 10]
abbrev dktX5_init_5 : List UInt8 := dkwX5_init_5 ++ dktX5_init_6
def dkwX5_init_4 : List UInt8 := [188, 11, 181, 0, 46, 42, 10, 181, 0, 50, 42, 16, 9, 188, 10, 181, 0, 54, 42, 16, 9, 188, 10]
abbrev dktX5_init_4 : List UInt8 := dkwX5_init_4 ++ dktX5_init_5
def dkwX5_init_3 : List UInt8 := [181, 0, 36, 42, 16, 9, 188, 10, 181, 0, 40, 42, 16, 9, 188, 10, 181, 0, 43, 42, 17, 0, 162]
abbrev dktX5_init_3 : List UInt8 := dkwX5_init_3 ++ dktX5_init_4
def dkwX5_init_2 : List UInt8 := [188, 10, 181, 0, 26, 42, 17, 2, 188, 188, 8, 181, 0, 29, 42, 8, 188, 10, 181, 0, 33, 42, 2]
abbrev dktX5_init_2 : List UInt8 := dkwX5_init_2 ++ dktX5_init_3
def dkwX5_init_1 : List UInt8 := [188, 10, 181, 0, 16, 42, 17, 10, 83, 188, 10, 181, 0, 19, 42, 6, 188, 4, 181, 0, 22, 42, 16, 24]
abbrev dktX5_init_1 : List UInt8 := dkwX5_init_1 ++ dktX5_init_2
def dkwX5_init_0 : List UInt8 := [42, 183, 0, 3, 42, 16, 40, 188, 10, 181, 0, 9, 42, 16, 40, 188, 10, 181, 0, 13, 42, 17, 3, 72]
abbrev dktX5_init_0 : List UInt8 := dkwX5_init_0 ++ dktX5_init_1
theorem dksX5_init_0 : cX5_init.data.toList.drop 0 = dktX5_init_0 := by decide +kernel
theorem dksX5_init_1 : cX5_init.data.toList.drop 24 = dktX5_init_1 := dk_seg dksX5_init_0 24 rfl rfl
theorem dksX5_init_2 : cX5_init.data.toList.drop 48 = dktX5_init_2 := dk_seg dksX5_init_1 24 rfl rfl
theorem dksX5_init_3 : cX5_init.data.toList.drop 71 = dktX5_init_3 := dk_seg dksX5_init_2 23 rfl rfl
theorem dksX5_init_4 : cX5_init.data.toList.drop 94 = dktX5_init_4 := dk_seg dksX5_init_3 23 rfl rfl
theorem dksX5_init_5 : cX5_init.data.toList.drop 117 = dktX5_init_5 := dk_seg dksX5_init_4 23 rfl rfl
theorem dksX5_init_6 : cX5_init.data.toList.drop 140 = dktX5_init_6 := dk_seg dksX5_init_5 23 rfl rfl
theorem dX5_init_0 : decode cX5_init 0 = .ok (.aload_n 0, 1) := dk_42 (dk_at dksX5_init_0 0 rfl rfl)
theorem dX5_init_1 : decode cX5_init 1 = .ok (.invokespecial 3, 3) := dk_183 0 3 (dk_at dksX5_init_0 1 rfl rfl)
theorem dX5_init_4 : decode cX5_init 4 = .ok (.aload_n 0, 1) := dk_42 (dk_at dksX5_init_0 4 rfl rfl)
theorem dX5_init_5 : decode cX5_init 5 = .ok (.bipush 40, 2) := dk_16 40 (dk_at dksX5_init_0 5 rfl rfl)
theorem dX5_init_7 : decode cX5_init 7 = .ok (.newarray .int, 2) := dk_188_10 (dk_at dksX5_init_0 7 rfl rfl)
theorem dX5_init_9 : decode cX5_init 9 = .ok (.putfield 9, 3) := dk_181 0 9 (dk_at dksX5_init_0 9 rfl rfl)
theorem dX5_init_12 : decode cX5_init 12 = .ok (.aload_n 0, 1) := dk_42 (dk_at dksX5_init_0 12 rfl rfl)
theorem dX5_init_13 : decode cX5_init 13 = .ok (.bipush 40, 2) := dk_16 40 (dk_at dksX5_init_0 13 rfl rfl)
theorem dX5_init_15 : decode cX5_init 15 = .ok (.newarray .int, 2) := dk_188_10 (dk_at dksX5_init_0 15 rfl rfl)
theorem dX5_init_17 : decode cX5_init 17 = .ok (.putfield 13, 3) := dk_181 0 13 (dk_at dksX5_init_0 17 rfl rfl)
theorem dX5_init_20 : decode cX5_init 20 = .ok (.aload_n 0, 1) := dk_42 (dk_at dksX5_init_0 20 rfl rfl)
theorem dX5_init_21 : decode cX5_init 21 = .ok (.sipush 840, 3) := dk_17 3 72 (dk_at dksX5_init_0 21 rfl rfl)
theorem dX5_init_24 : decode cX5_init 24 = .ok (.newarray .int, 2) := dk_188_10 (dk_at dksX5_init_1 0 rfl rfl)
theorem dX5_init_26 : decode cX5_init 26 = .ok (.putfield 16, 3) := dk_181 0 16 (dk_at dksX5_init_1 2 rfl rfl)
theorem dX5_init_29 : decode cX5_init 29 = .ok (.aload_n 0, 1) := dk_42 (dk_at dksX5_init_1 5 rfl rfl)
theorem dX5_init_30 : decode cX5_init 30 = .ok (.sipush 2643, 3) := dk_17 10 83 (dk_at dksX5_init_1 6 rfl rfl)
theorem dX5_init_33 : decode cX5_init 33 = .ok (.newarray .int, 2) := dk_188_10 (dk_at dksX5_init_1 9 rfl rfl)
theorem dX5_init_35 : decode cX5_init 35 = .ok (.putfield 19, 3) := dk_181 0 19 (dk_at dksX5_init_1 11 rfl rfl)
theorem dX5_init_38 : decode cX5_init 38 = .ok (.aload_n 0, 1) := dk_42 (dk_at dksX5_init_1 14 rfl rfl)
theorem dX5_init_39 : decode cX5_init 39 = .ok (.iconst 3, 1) := dk_6 (dk_at dksX5_init_1 15 rfl rfl)
theorem dX5_init_40 : decode cX5_init 40 = .ok (.newarray .boolean, 2) := dk_188_4 (dk_at dksX5_init_1 16 rfl rfl)
theorem dX5_init_42 : decode cX5_init 42 = .ok (.putfield 22, 3) := dk_181 0 22 (dk_at dksX5_init_1 18 rfl rfl)
theorem dX5_init_45 : decode cX5_init 45 = .ok (.aload_n 0, 1) := dk_42 (dk_at dksX5_init_1 21 rfl rfl)
theorem dX5_init_46 : decode cX5_init 46 = .ok (.bipush 24, 2) := dk_16 24 (dk_at dksX5_init_1 22 rfl rfl)
theorem dX5_init_48 : decode cX5_init 48 = .ok (.newarray .int, 2) := dk_188_10 (dk_at dksX5_init_2 0 rfl rfl)
theorem dX5_init_50 : decode cX5_init 50 = .ok (.putfield 26, 3) := dk_181 0 26 (dk_at dksX5_init_2 2 rfl rfl)
theorem dX5_init_53 : decode cX5_init 53 = .ok (.aload_n 0, 1) := dk_42 (dk_at dksX5_init_2 5 rfl rfl)
theorem dX5_init_54 : decode cX5_init 54 = .ok (.sipush 700, 3) := dk_17 2 188 (dk_at dksX5_init_2 6 rfl rfl)
theorem dX5_init_57 : decode cX5_init 57 = .ok (.newarray .byte, 2) := dk_188_8 (dk_at dksX5_init_2 9 rfl rfl)
theorem dX5_init_59 : decode cX5_init 59 = .ok (.putfield 29, 3) := dk_181 0 29 (dk_at dksX5_init_2 11 rfl rfl)
theorem dX5_init_62 : decode cX5_init 62 = .ok (.aload_n 0, 1) := dk_42 (dk_at dksX5_init_2 14 rfl rfl)
theorem dX5_init_63 : decode cX5_init 63 = .ok (.iconst 5, 1) := dk_8 (dk_at dksX5_init_2 15 rfl rfl)
theorem dX5_init_64 : decode cX5_init 64 = .ok (.newarray .int, 2) := dk_188_10 (dk_at dksX5_init_2 16 rfl rfl)
theorem dX5_init_66 : decode cX5_init 66 = .ok (.putfield 33, 3) := dk_181 0 33 (dk_at dksX5_init_2 18 rfl rfl)
theorem dX5_init_69 : decode cX5_init 69 = .ok (.aload_n 0, 1) := dk_42 (dk_at dksX5_init_2 21 rfl rfl)
theorem dX5_init_70 : decode cX5_init 70 = .ok (.iconst (-1), 1) := dk_2 (dk_at dksX5_init_2 22 rfl rfl)
theorem dX5_init_71 : decode cX5_init 71 = .ok (.putfield 36, 3) := dk_181 0 36 (dk_at dksX5_init_3 0 rfl rfl)
theorem dX5_init_74 : decode cX5_init 74 = .ok (.aload_n 0, 1) := dk_42 (dk_at dksX5_init_3 3 rfl rfl)
theorem dX5_init_75 : decode cX5_init 75 = .ok (.bipush 9, 2) := dk_16 9 (dk_at dksX5_init_3 4 rfl rfl)
theorem dX5_init_77 : decode cX5_init 77 = .ok (.newarray .int, 2) := dk_188_10 (dk_at dksX5_init_3 6 rfl rfl)
theorem dX5_init_79 : decode cX5_init 79 = .ok (.putfield 40, 3) := dk_181 0 40 (dk_at dksX5_init_3 8 rfl rfl)
theorem dX5_init_82 : decode cX5_init 82 = .ok (.aload_n 0, 1) := dk_42 (dk_at dksX5_init_3 11 rfl rfl)
theorem dX5_init_83 : decode cX5_init 83 = .ok (.bipush 9, 2) := dk_16 9 (dk_at dksX5_init_3 12 rfl rfl)
theorem dX5_init_85 : decode cX5_init 85 = .ok (.newarray .int, 2) := dk_188_10 (dk_at dksX5_init_3 14 rfl rfl)
theorem dX5_init_87 : decode cX5_init 87 = .ok (.putfield 43, 3) := dk_181 0 43 (dk_at dksX5_init_3 16 rfl rfl)
theorem dX5_init_90 : decode cX5_init 90 = .ok (.aload_n 0, 1) := dk_42 (dk_at dksX5_init_3 19 rfl rfl)
theorem dX5_init_91 : decode cX5_init 91 = .ok (.sipush 162, 3) := dk_17 0 162 (dk_at dksX5_init_3 20 rfl rfl)
theorem dX5_init_94 : decode cX5_init 94 = .ok (.newarray .long, 2) := dk_188_11 (dk_at dksX5_init_4 0 rfl rfl)
theorem dX5_init_96 : decode cX5_init 96 = .ok (.putfield 46, 3) := dk_181 0 46 (dk_at dksX5_init_4 2 rfl rfl)
theorem dX5_init_99 : decode cX5_init 99 = .ok (.aload_n 0, 1) := dk_42 (dk_at dksX5_init_4 5 rfl rfl)
theorem dX5_init_100 : decode cX5_init 100 = .ok (.lconst 1, 1) := dk_10 (dk_at dksX5_init_4 6 rfl rfl)
theorem dX5_init_101 : decode cX5_init 101 = .ok (.putfield 50, 3) := dk_181 0 50 (dk_at dksX5_init_4 7 rfl rfl)
theorem dX5_init_104 : decode cX5_init 104 = .ok (.aload_n 0, 1) := dk_42 (dk_at dksX5_init_4 10 rfl rfl)
theorem dX5_init_105 : decode cX5_init 105 = .ok (.bipush 9, 2) := dk_16 9 (dk_at dksX5_init_4 11 rfl rfl)
theorem dX5_init_107 : decode cX5_init 107 = .ok (.newarray .int, 2) := dk_188_10 (dk_at dksX5_init_4 13 rfl rfl)
theorem dX5_init_109 : decode cX5_init 109 = .ok (.putfield 54, 3) := dk_181 0 54 (dk_at dksX5_init_4 15 rfl rfl)
theorem dX5_init_112 : decode cX5_init 112 = .ok (.aload_n 0, 1) := dk_42 (dk_at dksX5_init_4 18 rfl rfl)
theorem dX5_init_113 : decode cX5_init 113 = .ok (.bipush 9, 2) := dk_16 9 (dk_at dksX5_init_4 19 rfl rfl)
theorem dX5_init_115 : decode cX5_init 115 = .ok (.newarray .int, 2) := dk_188_10 (dk_at dksX5_init_4 21 rfl rfl)
theorem dX5_init_117 : decode cX5_init 117 = .ok (.putfield 57, 3) := dk_181 0 57 (dk_at dksX5_init_5 0 rfl rfl)
theorem dX5_init_120 : decode cX5_init 120 = .ok (.aload_n 0, 1) := dk_42 (dk_at dksX5_init_5 3 rfl rfl)
theorem dX5_init_121 : decode cX5_init 121 = .ok (.iconst 4, 1) := dk_7 (dk_at dksX5_init_5 4 rfl rfl)
theorem dX5_init_122 : decode cX5_init 122 = .ok (.newarray .int, 2) := dk_188_10 (dk_at dksX5_init_5 5 rfl rfl)
theorem dX5_init_124 : decode cX5_init 124 = .ok (.putfield 60, 3) := dk_181 0 60 (dk_at dksX5_init_5 7 rfl rfl)
theorem dX5_init_127 : decode cX5_init 127 = .ok (.aload_n 0, 1) := dk_42 (dk_at dksX5_init_5 10 rfl rfl)
theorem dX5_init_128 : decode cX5_init 128 = .ok (.bipush 40, 2) := dk_16 40 (dk_at dksX5_init_5 11 rfl rfl)
theorem dX5_init_130 : decode cX5_init 130 = .ok (.newarray .int, 2) := dk_188_10 (dk_at dksX5_init_5 13 rfl rfl)
theorem dX5_init_132 : decode cX5_init 132 = .ok (.putfield 63, 3) := dk_181 0 63 (dk_at dksX5_init_5 15 rfl rfl)
theorem dX5_init_135 : decode cX5_init 135 = .ok (.aload_n 0, 1) := dk_42 (dk_at dksX5_init_5 18 rfl rfl)
theorem dX5_init_136 : decode cX5_init 136 = .ok (.bipush 20, 2) := dk_16 20 (dk_at dksX5_init_5 19 rfl rfl)
theorem dX5_init_138 : decode cX5_init 138 = .ok (.newarray .int, 2) := dk_188_10 (dk_at dksX5_init_5 21 rfl rfl)
theorem dX5_init_140 : decode cX5_init 140 = .ok (.putfield 66, 3) := dk_181 0 66 (dk_at dksX5_init_6 0 rfl rfl)
theorem dX5_init_143 : decode cX5_init 143 = .ok (.aload_n 0, 1) := dk_42 (dk_at dksX5_init_6 3 rfl rfl)
theorem dX5_init_144 : decode cX5_init 144 = .ok (.iconst 3, 1) := dk_6 (dk_at dksX5_init_6 4 rfl rfl)
theorem dX5_init_145 : decode cX5_init 145 = .ok (.newarray .int, 2) := dk_188_10 (dk_at dksX5_init_6 5 rfl rfl)
theorem dX5_init_147 : decode cX5_init 147 = .ok (.putfield 69, 3) := dk_181 0 69 (dk_at dksX5_init_6 7 rfl rfl)
theorem dX5_init_150 : decode cX5_init 150 = .ok (.return_, 1) := dk_177 (dk_at dksX5_init_6 10 rfl rfl)
abbrev cX5_image : ByteArray := prog_17_method_9_code
def yX5_image : MethodName := ⟨RX5, "image", "(I)I"⟩
def dkwX5_image_4 : List UInt8 := [132, 3, 1, 167, 255, 227, 42, 180, 0, 22, 27, 4, 84, 3, 172]
abbrev dktX5_image_4 : List UInt8 := dkwX5_image_4 ++ []
def dkwX5_image_3 : List UInt8 := [162, 0, 28, 42, 180, 0, 19, 28, 16, 40, 96, 4, 96, 29, 96, 42, 180, 0, 16, 29, 46, 79]
abbrev dktX5_image_3 : List UInt8 := dkwX5_image_3 ++ dktX5_image_4
def dkwX5_image_2 : List UInt8 := [167, 255, 233, 42, 180, 0, 19, 28, 16, 40, 96, 42, 180, 0, 91, 79, 3, 62, 29, 17, 3, 72]
abbrev dktX5_image_2 : List UInt8 := dkwX5_image_2 ++ dktX5_image_3
def dkwX5_image_1 : List UInt8 := [16, 40, 162, 0, 23, 42, 180, 0, 19, 28, 29, 96, 42, 180, 0, 9, 29, 46, 79, 132, 3, 1]
abbrev dktX5_image_1 : List UInt8 := dkwX5_image_1 ++ dktX5_image_2
def dkwX5_image_0 : List UInt8 := [27, 133, 9, 20, 0, 85, 184, 0, 87, 154, 0, 6, 16, 254, 172, 17, 3, 113, 27, 104, 61, 3, 62, 29]
abbrev dktX5_image_0 : List UInt8 := dkwX5_image_0 ++ dktX5_image_1
theorem dksX5_image_0 : cX5_image.data.toList.drop 0 = dktX5_image_0 := by decide +kernel
theorem dksX5_image_1 : cX5_image.data.toList.drop 24 = dktX5_image_1 := dk_seg dksX5_image_0 24 rfl rfl
theorem dksX5_image_2 : cX5_image.data.toList.drop 46 = dktX5_image_2 := dk_seg dksX5_image_1 22 rfl rfl
theorem dksX5_image_3 : cX5_image.data.toList.drop 68 = dktX5_image_3 := dk_seg dksX5_image_2 22 rfl rfl
theorem dksX5_image_4 : cX5_image.data.toList.drop 90 = dktX5_image_4 := dk_seg dksX5_image_3 22 rfl rfl
theorem dX5_image_0 : decode cX5_image 0 = .ok (.iload_n 1, 1) := dk_27 (dk_at dksX5_image_0 0 rfl rfl)
theorem dX5_image_1 : decode cX5_image 1 = .ok (.i2l, 1) := dk_133 (dk_at dksX5_image_0 1 rfl rfl)
theorem dX5_image_2 : decode cX5_image 2 = .ok (.lconst 0, 1) := dk_9 (dk_at dksX5_image_0 2 rfl rfl)
theorem dX5_image_3 : decode cX5_image 3 = .ok (.ldc2_w 85, 3) := dk_20 0 85 (dk_at dksX5_image_0 3 rfl rfl)
theorem dX5_image_6 : decode cX5_image 6 = .ok (.invokestatic 87, 3) := dk_184 0 87 (dk_at dksX5_image_0 6 rfl rfl)
theorem dX5_image_9 : decode cX5_image 9 = .ok (.ifCond .ne 6, 3) := dk_154 0 6 (dk_at dksX5_image_0 9 rfl rfl)
theorem dX5_image_12 : decode cX5_image 12 = .ok (.bipush (-2), 2) := dk_16 254 (dk_at dksX5_image_0 12 rfl rfl)
theorem dX5_image_14 : decode cX5_image 14 = .ok (.ireturn, 1) := dk_172 (dk_at dksX5_image_0 14 rfl rfl)
theorem dX5_image_15 : decode cX5_image 15 = .ok (.sipush 881, 3) := dk_17 3 113 (dk_at dksX5_image_0 15 rfl rfl)
theorem dX5_image_18 : decode cX5_image 18 = .ok (.iload_n 1, 1) := dk_27 (dk_at dksX5_image_0 18 rfl rfl)
theorem dX5_image_19 : decode cX5_image 19 = .ok (.imul, 1) := dk_104 (dk_at dksX5_image_0 19 rfl rfl)
theorem dX5_image_20 : decode cX5_image 20 = .ok (.istore_n 2, 1) := dk_61 (dk_at dksX5_image_0 20 rfl rfl)
theorem dX5_image_21 : decode cX5_image 21 = .ok (.iconst 0, 1) := dk_3 (dk_at dksX5_image_0 21 rfl rfl)
theorem dX5_image_22 : decode cX5_image 22 = .ok (.istore_n 3, 1) := dk_62 (dk_at dksX5_image_0 22 rfl rfl)
theorem dX5_image_23 : decode cX5_image 23 = .ok (.iload_n 3, 1) := dk_29 (dk_at dksX5_image_0 23 rfl rfl)
theorem dX5_image_24 : decode cX5_image 24 = .ok (.bipush 40, 2) := dk_16 40 (dk_at dksX5_image_1 0 rfl rfl)
theorem dX5_image_26 : decode cX5_image 26 = .ok (.if_icmp .ge 23, 3) := dk_162 0 23 (dk_at dksX5_image_1 2 rfl rfl)
theorem dX5_image_29 : decode cX5_image 29 = .ok (.aload_n 0, 1) := dk_42 (dk_at dksX5_image_1 5 rfl rfl)
theorem dX5_image_30 : decode cX5_image 30 = .ok (.getfield 19, 3) := dk_180 0 19 (dk_at dksX5_image_1 6 rfl rfl)
theorem dX5_image_33 : decode cX5_image 33 = .ok (.iload_n 2, 1) := dk_28 (dk_at dksX5_image_1 9 rfl rfl)
theorem dX5_image_34 : decode cX5_image 34 = .ok (.iload_n 3, 1) := dk_29 (dk_at dksX5_image_1 10 rfl rfl)
theorem dX5_image_35 : decode cX5_image 35 = .ok (.iadd, 1) := dk_96 (dk_at dksX5_image_1 11 rfl rfl)
theorem dX5_image_36 : decode cX5_image 36 = .ok (.aload_n 0, 1) := dk_42 (dk_at dksX5_image_1 12 rfl rfl)
theorem dX5_image_37 : decode cX5_image 37 = .ok (.getfield 9, 3) := dk_180 0 9 (dk_at dksX5_image_1 13 rfl rfl)
theorem dX5_image_40 : decode cX5_image 40 = .ok (.iload_n 3, 1) := dk_29 (dk_at dksX5_image_1 16 rfl rfl)
theorem dX5_image_41 : decode cX5_image 41 = .ok (.iaload, 1) := dk_46 (dk_at dksX5_image_1 17 rfl rfl)
theorem dX5_image_42 : decode cX5_image 42 = .ok (.iastore, 1) := dk_79 (dk_at dksX5_image_1 18 rfl rfl)
theorem dX5_image_43 : decode cX5_image 43 = .ok (.iinc 3 1, 3) := dk_132 3 1 (dk_at dksX5_image_1 19 rfl rfl)
theorem dX5_image_46 : decode cX5_image 46 = .ok (.goto (-23), 3) := dk_167 255 233 (dk_at dksX5_image_2 0 rfl rfl)
theorem dX5_image_49 : decode cX5_image 49 = .ok (.aload_n 0, 1) := dk_42 (dk_at dksX5_image_2 3 rfl rfl)
theorem dX5_image_50 : decode cX5_image 50 = .ok (.getfield 19, 3) := dk_180 0 19 (dk_at dksX5_image_2 4 rfl rfl)
theorem dX5_image_53 : decode cX5_image 53 = .ok (.iload_n 2, 1) := dk_28 (dk_at dksX5_image_2 7 rfl rfl)
theorem dX5_image_54 : decode cX5_image 54 = .ok (.bipush 40, 2) := dk_16 40 (dk_at dksX5_image_2 8 rfl rfl)
theorem dX5_image_56 : decode cX5_image 56 = .ok (.iadd, 1) := dk_96 (dk_at dksX5_image_2 10 rfl rfl)
theorem dX5_image_57 : decode cX5_image 57 = .ok (.aload_n 0, 1) := dk_42 (dk_at dksX5_image_2 11 rfl rfl)
theorem dX5_image_58 : decode cX5_image 58 = .ok (.getfield 91, 3) := dk_180 0 91 (dk_at dksX5_image_2 12 rfl rfl)
theorem dX5_image_61 : decode cX5_image 61 = .ok (.iastore, 1) := dk_79 (dk_at dksX5_image_2 15 rfl rfl)
theorem dX5_image_62 : decode cX5_image 62 = .ok (.iconst 0, 1) := dk_3 (dk_at dksX5_image_2 16 rfl rfl)
theorem dX5_image_63 : decode cX5_image 63 = .ok (.istore_n 3, 1) := dk_62 (dk_at dksX5_image_2 17 rfl rfl)
theorem dX5_image_64 : decode cX5_image 64 = .ok (.iload_n 3, 1) := dk_29 (dk_at dksX5_image_2 18 rfl rfl)
theorem dX5_image_65 : decode cX5_image 65 = .ok (.sipush 840, 3) := dk_17 3 72 (dk_at dksX5_image_2 19 rfl rfl)
theorem dX5_image_68 : decode cX5_image 68 = .ok (.if_icmp .ge 28, 3) := dk_162 0 28 (dk_at dksX5_image_3 0 rfl rfl)
theorem dX5_image_71 : decode cX5_image 71 = .ok (.aload_n 0, 1) := dk_42 (dk_at dksX5_image_3 3 rfl rfl)
theorem dX5_image_72 : decode cX5_image 72 = .ok (.getfield 19, 3) := dk_180 0 19 (dk_at dksX5_image_3 4 rfl rfl)
theorem dX5_image_75 : decode cX5_image 75 = .ok (.iload_n 2, 1) := dk_28 (dk_at dksX5_image_3 7 rfl rfl)
theorem dX5_image_76 : decode cX5_image 76 = .ok (.bipush 40, 2) := dk_16 40 (dk_at dksX5_image_3 8 rfl rfl)
theorem dX5_image_78 : decode cX5_image 78 = .ok (.iadd, 1) := dk_96 (dk_at dksX5_image_3 10 rfl rfl)
theorem dX5_image_79 : decode cX5_image 79 = .ok (.iconst 1, 1) := dk_4 (dk_at dksX5_image_3 11 rfl rfl)
theorem dX5_image_80 : decode cX5_image 80 = .ok (.iadd, 1) := dk_96 (dk_at dksX5_image_3 12 rfl rfl)
theorem dX5_image_81 : decode cX5_image 81 = .ok (.iload_n 3, 1) := dk_29 (dk_at dksX5_image_3 13 rfl rfl)
theorem dX5_image_82 : decode cX5_image 82 = .ok (.iadd, 1) := dk_96 (dk_at dksX5_image_3 14 rfl rfl)
theorem dX5_image_83 : decode cX5_image 83 = .ok (.aload_n 0, 1) := dk_42 (dk_at dksX5_image_3 15 rfl rfl)
theorem dX5_image_84 : decode cX5_image 84 = .ok (.getfield 16, 3) := dk_180 0 16 (dk_at dksX5_image_3 16 rfl rfl)
theorem dX5_image_87 : decode cX5_image 87 = .ok (.iload_n 3, 1) := dk_29 (dk_at dksX5_image_3 19 rfl rfl)
theorem dX5_image_88 : decode cX5_image 88 = .ok (.iaload, 1) := dk_46 (dk_at dksX5_image_3 20 rfl rfl)
theorem dX5_image_89 : decode cX5_image 89 = .ok (.iastore, 1) := dk_79 (dk_at dksX5_image_3 21 rfl rfl)
theorem dX5_image_90 : decode cX5_image 90 = .ok (.iinc 3 1, 3) := dk_132 3 1 (dk_at dksX5_image_4 0 rfl rfl)
theorem dX5_image_93 : decode cX5_image 93 = .ok (.goto (-29), 3) := dk_167 255 227 (dk_at dksX5_image_4 3 rfl rfl)
theorem dX5_image_96 : decode cX5_image 96 = .ok (.aload_n 0, 1) := dk_42 (dk_at dksX5_image_4 6 rfl rfl)
theorem dX5_image_97 : decode cX5_image 97 = .ok (.getfield 22, 3) := dk_180 0 22 (dk_at dksX5_image_4 7 rfl rfl)
theorem dX5_image_100 : decode cX5_image 100 = .ok (.iload_n 1, 1) := dk_27 (dk_at dksX5_image_4 10 rfl rfl)
theorem dX5_image_101 : decode cX5_image 101 = .ok (.iconst 1, 1) := dk_4 (dk_at dksX5_image_4 11 rfl rfl)
theorem dX5_image_102 : decode cX5_image 102 = .ok (.bastore, 1) := dk_84 (dk_at dksX5_image_4 12 rfl rfl)
theorem dX5_image_103 : decode cX5_image 103 = .ok (.iconst 0, 1) := dk_3 (dk_at dksX5_image_4 13 rfl rfl)
theorem dX5_image_104 : decode cX5_image 104 = .ok (.ireturn, 1) := dk_172 (dk_at dksX5_image_4 14 rfl rfl)
abbrev cX5_in : ByteArray := prog_17_method_3_code
def yX5_in : MethodName := ⟨RX5, "in", "(JJJ)Z"⟩
def dkwX5_in_0 : List UInt8 := [30, 32, 148, 155, 0, 14, 30, 22, 4, 148, 157, 0, 7, 4, 167, 0, 4, 3, 172]
abbrev dktX5_in_0 : List UInt8 := dkwX5_in_0 ++ []
theorem dksX5_in_0 : cX5_in.data.toList.drop 0 = dktX5_in_0 := by decide +kernel
theorem dX5_in_0 : decode cX5_in 0 = .ok (.lload_n 0, 1) := dk_30 (dk_at dksX5_in_0 0 rfl rfl)
theorem dX5_in_1 : decode cX5_in 1 = .ok (.lload_n 2, 1) := dk_32 (dk_at dksX5_in_0 1 rfl rfl)
theorem dX5_in_2 : decode cX5_in 2 = .ok (.lcmp, 1) := dk_148 (dk_at dksX5_in_0 2 rfl rfl)
theorem dX5_in_3 : decode cX5_in 3 = .ok (.ifCond .lt 14, 3) := dk_155 0 14 (dk_at dksX5_in_0 3 rfl rfl)
theorem dX5_in_6 : decode cX5_in 6 = .ok (.lload_n 0, 1) := dk_30 (dk_at dksX5_in_0 6 rfl rfl)
theorem dX5_in_7 : decode cX5_in 7 = .ok (.lload 4, 2) := dk_22 4 (dk_at dksX5_in_0 7 rfl rfl)
theorem dX5_in_9 : decode cX5_in 9 = .ok (.lcmp, 1) := dk_148 (dk_at dksX5_in_0 9 rfl rfl)
theorem dX5_in_10 : decode cX5_in 10 = .ok (.ifCond .gt 7, 3) := dk_157 0 7 (dk_at dksX5_in_0 10 rfl rfl)
theorem dX5_in_13 : decode cX5_in 13 = .ok (.iconst 1, 1) := dk_4 (dk_at dksX5_in_0 13 rfl rfl)
theorem dX5_in_14 : decode cX5_in 14 = .ok (.goto 4, 3) := dk_167 0 4 (dk_at dksX5_in_0 14 rfl rfl)
theorem dX5_in_17 : decode cX5_in 17 = .ok (.iconst 0, 1) := dk_3 (dk_at dksX5_in_0 17 rfl rfl)
theorem dX5_in_18 : decode cX5_in 18 = .ok (.ireturn, 1) := dk_172 (dk_at dksX5_in_0 18 rfl rfl)
abbrev cX5_back : ByteArray := prog_17_method_10_code
def yX5_back : MethodName := ⟨RX5, "back", "(I)I"⟩
def dkwX5_back_4 : List UInt8 := [96, 4, 96, 29, 96, 46, 79, 132, 3, 1, 167, 255, 227, 3, 172]
abbrev dktX5_back_4 : List UInt8 := dkwX5_back_4 ++ []
def dkwX5_back_3 : List UInt8 := [181, 0, 91, 3, 62, 29, 17, 3, 72, 162, 0, 28, 42, 180, 0, 16, 29, 42, 180, 0, 19, 28, 16, 40]
abbrev dktX5_back_3 : List UInt8 := dkwX5_back_3 ++ dktX5_back_4
def dkwX5_back_2 : List UInt8 := [180, 0, 19, 28, 29, 96, 46, 79, 132, 3, 1, 167, 255, 233, 42, 42, 180, 0, 19, 28, 16, 40, 96, 46]
abbrev dktX5_back_2 : List UInt8 := dkwX5_back_2 ++ dktX5_back_3
def dkwX5_back_1 : List UInt8 := [16, 250, 172, 17, 3, 113, 27, 104, 61, 3, 62, 29, 16, 40, 162, 0, 23, 42, 180, 0, 9, 29, 42]
abbrev dktX5_back_1 : List UInt8 := dkwX5_back_1 ++ dktX5_back_2
def dkwX5_back_0 : List UInt8 := [27, 133, 9, 20, 0, 85, 184, 0, 87, 154, 0, 6, 16, 254, 172, 42, 180, 0, 22, 27, 51, 154, 0, 6]
abbrev dktX5_back_0 : List UInt8 := dkwX5_back_0 ++ dktX5_back_1
theorem dksX5_back_0 : cX5_back.data.toList.drop 0 = dktX5_back_0 := by decide +kernel
theorem dksX5_back_1 : cX5_back.data.toList.drop 24 = dktX5_back_1 := dk_seg dksX5_back_0 24 rfl rfl
theorem dksX5_back_2 : cX5_back.data.toList.drop 47 = dktX5_back_2 := dk_seg dksX5_back_1 23 rfl rfl
theorem dksX5_back_3 : cX5_back.data.toList.drop 71 = dktX5_back_3 := dk_seg dksX5_back_2 24 rfl rfl
theorem dksX5_back_4 : cX5_back.data.toList.drop 95 = dktX5_back_4 := dk_seg dksX5_back_3 24 rfl rfl
theorem dX5_back_0 : decode cX5_back 0 = .ok (.iload_n 1, 1) := dk_27 (dk_at dksX5_back_0 0 rfl rfl)
theorem dX5_back_1 : decode cX5_back 1 = .ok (.i2l, 1) := dk_133 (dk_at dksX5_back_0 1 rfl rfl)
theorem dX5_back_2 : decode cX5_back 2 = .ok (.lconst 0, 1) := dk_9 (dk_at dksX5_back_0 2 rfl rfl)
theorem dX5_back_3 : decode cX5_back 3 = .ok (.ldc2_w 85, 3) := dk_20 0 85 (dk_at dksX5_back_0 3 rfl rfl)
theorem dX5_back_6 : decode cX5_back 6 = .ok (.invokestatic 87, 3) := dk_184 0 87 (dk_at dksX5_back_0 6 rfl rfl)
theorem dX5_back_9 : decode cX5_back 9 = .ok (.ifCond .ne 6, 3) := dk_154 0 6 (dk_at dksX5_back_0 9 rfl rfl)
theorem dX5_back_12 : decode cX5_back 12 = .ok (.bipush (-2), 2) := dk_16 254 (dk_at dksX5_back_0 12 rfl rfl)
theorem dX5_back_14 : decode cX5_back 14 = .ok (.ireturn, 1) := dk_172 (dk_at dksX5_back_0 14 rfl rfl)
theorem dX5_back_15 : decode cX5_back 15 = .ok (.aload_n 0, 1) := dk_42 (dk_at dksX5_back_0 15 rfl rfl)
theorem dX5_back_16 : decode cX5_back 16 = .ok (.getfield 22, 3) := dk_180 0 22 (dk_at dksX5_back_0 16 rfl rfl)
theorem dX5_back_19 : decode cX5_back 19 = .ok (.iload_n 1, 1) := dk_27 (dk_at dksX5_back_0 19 rfl rfl)
theorem dX5_back_20 : decode cX5_back 20 = .ok (.baload, 1) := dk_51 (dk_at dksX5_back_0 20 rfl rfl)
theorem dX5_back_21 : decode cX5_back 21 = .ok (.ifCond .ne 6, 3) := dk_154 0 6 (dk_at dksX5_back_0 21 rfl rfl)
theorem dX5_back_24 : decode cX5_back 24 = .ok (.bipush (-6), 2) := dk_16 250 (dk_at dksX5_back_1 0 rfl rfl)
theorem dX5_back_26 : decode cX5_back 26 = .ok (.ireturn, 1) := dk_172 (dk_at dksX5_back_1 2 rfl rfl)
theorem dX5_back_27 : decode cX5_back 27 = .ok (.sipush 881, 3) := dk_17 3 113 (dk_at dksX5_back_1 3 rfl rfl)
theorem dX5_back_30 : decode cX5_back 30 = .ok (.iload_n 1, 1) := dk_27 (dk_at dksX5_back_1 6 rfl rfl)
theorem dX5_back_31 : decode cX5_back 31 = .ok (.imul, 1) := dk_104 (dk_at dksX5_back_1 7 rfl rfl)
theorem dX5_back_32 : decode cX5_back 32 = .ok (.istore_n 2, 1) := dk_61 (dk_at dksX5_back_1 8 rfl rfl)
theorem dX5_back_33 : decode cX5_back 33 = .ok (.iconst 0, 1) := dk_3 (dk_at dksX5_back_1 9 rfl rfl)
theorem dX5_back_34 : decode cX5_back 34 = .ok (.istore_n 3, 1) := dk_62 (dk_at dksX5_back_1 10 rfl rfl)
theorem dX5_back_35 : decode cX5_back 35 = .ok (.iload_n 3, 1) := dk_29 (dk_at dksX5_back_1 11 rfl rfl)
theorem dX5_back_36 : decode cX5_back 36 = .ok (.bipush 40, 2) := dk_16 40 (dk_at dksX5_back_1 12 rfl rfl)
theorem dX5_back_38 : decode cX5_back 38 = .ok (.if_icmp .ge 23, 3) := dk_162 0 23 (dk_at dksX5_back_1 14 rfl rfl)
theorem dX5_back_41 : decode cX5_back 41 = .ok (.aload_n 0, 1) := dk_42 (dk_at dksX5_back_1 17 rfl rfl)
theorem dX5_back_42 : decode cX5_back 42 = .ok (.getfield 9, 3) := dk_180 0 9 (dk_at dksX5_back_1 18 rfl rfl)
theorem dX5_back_45 : decode cX5_back 45 = .ok (.iload_n 3, 1) := dk_29 (dk_at dksX5_back_1 21 rfl rfl)
theorem dX5_back_46 : decode cX5_back 46 = .ok (.aload_n 0, 1) := dk_42 (dk_at dksX5_back_1 22 rfl rfl)
theorem dX5_back_47 : decode cX5_back 47 = .ok (.getfield 19, 3) := dk_180 0 19 (dk_at dksX5_back_2 0 rfl rfl)
theorem dX5_back_50 : decode cX5_back 50 = .ok (.iload_n 2, 1) := dk_28 (dk_at dksX5_back_2 3 rfl rfl)
theorem dX5_back_51 : decode cX5_back 51 = .ok (.iload_n 3, 1) := dk_29 (dk_at dksX5_back_2 4 rfl rfl)
theorem dX5_back_52 : decode cX5_back 52 = .ok (.iadd, 1) := dk_96 (dk_at dksX5_back_2 5 rfl rfl)
theorem dX5_back_53 : decode cX5_back 53 = .ok (.iaload, 1) := dk_46 (dk_at dksX5_back_2 6 rfl rfl)
theorem dX5_back_54 : decode cX5_back 54 = .ok (.iastore, 1) := dk_79 (dk_at dksX5_back_2 7 rfl rfl)
theorem dX5_back_55 : decode cX5_back 55 = .ok (.iinc 3 1, 3) := dk_132 3 1 (dk_at dksX5_back_2 8 rfl rfl)
theorem dX5_back_58 : decode cX5_back 58 = .ok (.goto (-23), 3) := dk_167 255 233 (dk_at dksX5_back_2 11 rfl rfl)
theorem dX5_back_61 : decode cX5_back 61 = .ok (.aload_n 0, 1) := dk_42 (dk_at dksX5_back_2 14 rfl rfl)
theorem dX5_back_62 : decode cX5_back 62 = .ok (.aload_n 0, 1) := dk_42 (dk_at dksX5_back_2 15 rfl rfl)
theorem dX5_back_63 : decode cX5_back 63 = .ok (.getfield 19, 3) := dk_180 0 19 (dk_at dksX5_back_2 16 rfl rfl)
theorem dX5_back_66 : decode cX5_back 66 = .ok (.iload_n 2, 1) := dk_28 (dk_at dksX5_back_2 19 rfl rfl)
theorem dX5_back_67 : decode cX5_back 67 = .ok (.bipush 40, 2) := dk_16 40 (dk_at dksX5_back_2 20 rfl rfl)
theorem dX5_back_69 : decode cX5_back 69 = .ok (.iadd, 1) := dk_96 (dk_at dksX5_back_2 22 rfl rfl)
theorem dX5_back_70 : decode cX5_back 70 = .ok (.iaload, 1) := dk_46 (dk_at dksX5_back_2 23 rfl rfl)
theorem dX5_back_71 : decode cX5_back 71 = .ok (.putfield 91, 3) := dk_181 0 91 (dk_at dksX5_back_3 0 rfl rfl)
theorem dX5_back_74 : decode cX5_back 74 = .ok (.iconst 0, 1) := dk_3 (dk_at dksX5_back_3 3 rfl rfl)
theorem dX5_back_75 : decode cX5_back 75 = .ok (.istore_n 3, 1) := dk_62 (dk_at dksX5_back_3 4 rfl rfl)
theorem dX5_back_76 : decode cX5_back 76 = .ok (.iload_n 3, 1) := dk_29 (dk_at dksX5_back_3 5 rfl rfl)
theorem dX5_back_77 : decode cX5_back 77 = .ok (.sipush 840, 3) := dk_17 3 72 (dk_at dksX5_back_3 6 rfl rfl)
theorem dX5_back_80 : decode cX5_back 80 = .ok (.if_icmp .ge 28, 3) := dk_162 0 28 (dk_at dksX5_back_3 9 rfl rfl)
theorem dX5_back_83 : decode cX5_back 83 = .ok (.aload_n 0, 1) := dk_42 (dk_at dksX5_back_3 12 rfl rfl)
theorem dX5_back_84 : decode cX5_back 84 = .ok (.getfield 16, 3) := dk_180 0 16 (dk_at dksX5_back_3 13 rfl rfl)
theorem dX5_back_87 : decode cX5_back 87 = .ok (.iload_n 3, 1) := dk_29 (dk_at dksX5_back_3 16 rfl rfl)
theorem dX5_back_88 : decode cX5_back 88 = .ok (.aload_n 0, 1) := dk_42 (dk_at dksX5_back_3 17 rfl rfl)
theorem dX5_back_89 : decode cX5_back 89 = .ok (.getfield 19, 3) := dk_180 0 19 (dk_at dksX5_back_3 18 rfl rfl)
theorem dX5_back_92 : decode cX5_back 92 = .ok (.iload_n 2, 1) := dk_28 (dk_at dksX5_back_3 21 rfl rfl)
theorem dX5_back_93 : decode cX5_back 93 = .ok (.bipush 40, 2) := dk_16 40 (dk_at dksX5_back_3 22 rfl rfl)
theorem dX5_back_95 : decode cX5_back 95 = .ok (.iadd, 1) := dk_96 (dk_at dksX5_back_4 0 rfl rfl)
theorem dX5_back_96 : decode cX5_back 96 = .ok (.iconst 1, 1) := dk_4 (dk_at dksX5_back_4 1 rfl rfl)
theorem dX5_back_97 : decode cX5_back 97 = .ok (.iadd, 1) := dk_96 (dk_at dksX5_back_4 2 rfl rfl)
theorem dX5_back_98 : decode cX5_back 98 = .ok (.iload_n 3, 1) := dk_29 (dk_at dksX5_back_4 3 rfl rfl)
theorem dX5_back_99 : decode cX5_back 99 = .ok (.iadd, 1) := dk_96 (dk_at dksX5_back_4 4 rfl rfl)
theorem dX5_back_100 : decode cX5_back 100 = .ok (.iaload, 1) := dk_46 (dk_at dksX5_back_4 5 rfl rfl)
theorem dX5_back_101 : decode cX5_back 101 = .ok (.iastore, 1) := dk_79 (dk_at dksX5_back_4 6 rfl rfl)
theorem dX5_back_102 : decode cX5_back 102 = .ok (.iinc 3 1, 3) := dk_132 3 1 (dk_at dksX5_back_4 7 rfl rfl)
theorem dX5_back_105 : decode cX5_back 105 = .ok (.goto (-29), 3) := dk_167 255 227 (dk_at dksX5_back_4 10 rfl rfl)
theorem dX5_back_108 : decode cX5_back 108 = .ok (.iconst 0, 1) := dk_3 (dk_at dksX5_back_4 13 rfl rfl)
theorem dX5_back_109 : decode cX5_back 109 = .ok (.ireturn, 1) := dk_172 (dk_at dksX5_back_4 14 rfl rfl)
abbrev cX5_feed : ByteArray := prog_17_method_20_code
def yX5_feed : MethodName := ⟨RX5, "feed", "(IIIII)I"⟩
def dkwX5_feed_5 : List UInt8 := [180, 0, 126, 172]
abbrev dktX5_feed_5 : List UInt8 := dkwX5_feed_5 ++ []
def dkwX5_feed_4 : List UInt8 := [100, 122, 145, 84, 132, 6, 1, 167, 255, 213, 42, 89, 180, 0, 126, 16, 20, 96, 181, 0, 126, 42]
abbrev dktX5_feed_4 : List UInt8 := dkwX5_feed_4 ++ dktX5_feed_5
def dkwX5_feed_3 : List UInt8 := [180, 0, 126, 21, 6, 96, 42, 180, 0, 33, 21, 6, 7, 108, 46, 16, 24, 16, 8, 21, 6, 7, 112, 104]
abbrev dktX5_feed_3 : List UInt8 := dkwX5_feed_3 ++ dktX5_feed_4
def dkwX5_feed_2 : List UInt8 := [180, 0, 33, 7, 21, 5, 79, 3, 54, 6, 21, 6, 16, 20, 162, 0, 42, 42, 180, 0, 29, 42]
abbrev dktX5_feed_2 : List UInt8 := dkwX5_feed_2 ++ dktX5_feed_3
def dkwX5_feed_1 : List UInt8 := [180, 0, 33, 4, 28, 79, 42, 180, 0, 33, 5, 29, 79, 42, 180, 0, 33, 6, 21, 4, 79, 42]
abbrev dktX5_feed_1 : List UInt8 := dkwX5_feed_1 ++ dktX5_feed_2
def dkwX5_feed_0 : List UInt8 := [42, 180, 0, 126, 16, 20, 96, 17, 2, 188, 164, 0, 5, 2, 172, 42, 180, 0, 33, 3, 27, 79, 42]
abbrev dktX5_feed_0 : List UInt8 := dkwX5_feed_0 ++ dktX5_feed_1
theorem dksX5_feed_0 : cX5_feed.data.toList.drop 0 = dktX5_feed_0 := by decide +kernel
theorem dksX5_feed_1 : cX5_feed.data.toList.drop 23 = dktX5_feed_1 := dk_seg dksX5_feed_0 23 rfl rfl
theorem dksX5_feed_2 : cX5_feed.data.toList.drop 45 = dktX5_feed_2 := dk_seg dksX5_feed_1 22 rfl rfl
theorem dksX5_feed_3 : cX5_feed.data.toList.drop 67 = dktX5_feed_3 := dk_seg dksX5_feed_2 22 rfl rfl
theorem dksX5_feed_4 : cX5_feed.data.toList.drop 91 = dktX5_feed_4 := dk_seg dksX5_feed_3 24 rfl rfl
theorem dksX5_feed_5 : cX5_feed.data.toList.drop 113 = dktX5_feed_5 := dk_seg dksX5_feed_4 22 rfl rfl
theorem dX5_feed_0 : decode cX5_feed 0 = .ok (.aload_n 0, 1) := dk_42 (dk_at dksX5_feed_0 0 rfl rfl)
theorem dX5_feed_1 : decode cX5_feed 1 = .ok (.getfield 126, 3) := dk_180 0 126 (dk_at dksX5_feed_0 1 rfl rfl)
theorem dX5_feed_4 : decode cX5_feed 4 = .ok (.bipush 20, 2) := dk_16 20 (dk_at dksX5_feed_0 4 rfl rfl)
theorem dX5_feed_6 : decode cX5_feed 6 = .ok (.iadd, 1) := dk_96 (dk_at dksX5_feed_0 6 rfl rfl)
theorem dX5_feed_7 : decode cX5_feed 7 = .ok (.sipush 700, 3) := dk_17 2 188 (dk_at dksX5_feed_0 7 rfl rfl)
theorem dX5_feed_10 : decode cX5_feed 10 = .ok (.if_icmp .le 5, 3) := dk_164 0 5 (dk_at dksX5_feed_0 10 rfl rfl)
theorem dX5_feed_13 : decode cX5_feed 13 = .ok (.iconst (-1), 1) := dk_2 (dk_at dksX5_feed_0 13 rfl rfl)
theorem dX5_feed_14 : decode cX5_feed 14 = .ok (.ireturn, 1) := dk_172 (dk_at dksX5_feed_0 14 rfl rfl)
theorem dX5_feed_15 : decode cX5_feed 15 = .ok (.aload_n 0, 1) := dk_42 (dk_at dksX5_feed_0 15 rfl rfl)
theorem dX5_feed_16 : decode cX5_feed 16 = .ok (.getfield 33, 3) := dk_180 0 33 (dk_at dksX5_feed_0 16 rfl rfl)
theorem dX5_feed_19 : decode cX5_feed 19 = .ok (.iconst 0, 1) := dk_3 (dk_at dksX5_feed_0 19 rfl rfl)
theorem dX5_feed_20 : decode cX5_feed 20 = .ok (.iload_n 1, 1) := dk_27 (dk_at dksX5_feed_0 20 rfl rfl)
theorem dX5_feed_21 : decode cX5_feed 21 = .ok (.iastore, 1) := dk_79 (dk_at dksX5_feed_0 21 rfl rfl)
theorem dX5_feed_22 : decode cX5_feed 22 = .ok (.aload_n 0, 1) := dk_42 (dk_at dksX5_feed_0 22 rfl rfl)
theorem dX5_feed_23 : decode cX5_feed 23 = .ok (.getfield 33, 3) := dk_180 0 33 (dk_at dksX5_feed_1 0 rfl rfl)
theorem dX5_feed_26 : decode cX5_feed 26 = .ok (.iconst 1, 1) := dk_4 (dk_at dksX5_feed_1 3 rfl rfl)
theorem dX5_feed_27 : decode cX5_feed 27 = .ok (.iload_n 2, 1) := dk_28 (dk_at dksX5_feed_1 4 rfl rfl)
theorem dX5_feed_28 : decode cX5_feed 28 = .ok (.iastore, 1) := dk_79 (dk_at dksX5_feed_1 5 rfl rfl)
theorem dX5_feed_29 : decode cX5_feed 29 = .ok (.aload_n 0, 1) := dk_42 (dk_at dksX5_feed_1 6 rfl rfl)
theorem dX5_feed_30 : decode cX5_feed 30 = .ok (.getfield 33, 3) := dk_180 0 33 (dk_at dksX5_feed_1 7 rfl rfl)
theorem dX5_feed_33 : decode cX5_feed 33 = .ok (.iconst 2, 1) := dk_5 (dk_at dksX5_feed_1 10 rfl rfl)
theorem dX5_feed_34 : decode cX5_feed 34 = .ok (.iload_n 3, 1) := dk_29 (dk_at dksX5_feed_1 11 rfl rfl)
theorem dX5_feed_35 : decode cX5_feed 35 = .ok (.iastore, 1) := dk_79 (dk_at dksX5_feed_1 12 rfl rfl)
theorem dX5_feed_36 : decode cX5_feed 36 = .ok (.aload_n 0, 1) := dk_42 (dk_at dksX5_feed_1 13 rfl rfl)
theorem dX5_feed_37 : decode cX5_feed 37 = .ok (.getfield 33, 3) := dk_180 0 33 (dk_at dksX5_feed_1 14 rfl rfl)
theorem dX5_feed_40 : decode cX5_feed 40 = .ok (.iconst 3, 1) := dk_6 (dk_at dksX5_feed_1 17 rfl rfl)
theorem dX5_feed_41 : decode cX5_feed 41 = .ok (.iload 4, 2) := dk_21 4 (dk_at dksX5_feed_1 18 rfl rfl)
theorem dX5_feed_43 : decode cX5_feed 43 = .ok (.iastore, 1) := dk_79 (dk_at dksX5_feed_1 20 rfl rfl)
theorem dX5_feed_44 : decode cX5_feed 44 = .ok (.aload_n 0, 1) := dk_42 (dk_at dksX5_feed_1 21 rfl rfl)
theorem dX5_feed_45 : decode cX5_feed 45 = .ok (.getfield 33, 3) := dk_180 0 33 (dk_at dksX5_feed_2 0 rfl rfl)
theorem dX5_feed_48 : decode cX5_feed 48 = .ok (.iconst 4, 1) := dk_7 (dk_at dksX5_feed_2 3 rfl rfl)
theorem dX5_feed_49 : decode cX5_feed 49 = .ok (.iload 5, 2) := dk_21 5 (dk_at dksX5_feed_2 4 rfl rfl)
theorem dX5_feed_51 : decode cX5_feed 51 = .ok (.iastore, 1) := dk_79 (dk_at dksX5_feed_2 6 rfl rfl)
theorem dX5_feed_52 : decode cX5_feed 52 = .ok (.iconst 0, 1) := dk_3 (dk_at dksX5_feed_2 7 rfl rfl)
theorem dX5_feed_53 : decode cX5_feed 53 = .ok (.istore 6, 2) := dk_54 6 (dk_at dksX5_feed_2 8 rfl rfl)
theorem dX5_feed_55 : decode cX5_feed 55 = .ok (.iload 6, 2) := dk_21 6 (dk_at dksX5_feed_2 10 rfl rfl)
theorem dX5_feed_57 : decode cX5_feed 57 = .ok (.bipush 20, 2) := dk_16 20 (dk_at dksX5_feed_2 12 rfl rfl)
theorem dX5_feed_59 : decode cX5_feed 59 = .ok (.if_icmp .ge 42, 3) := dk_162 0 42 (dk_at dksX5_feed_2 14 rfl rfl)
theorem dX5_feed_62 : decode cX5_feed 62 = .ok (.aload_n 0, 1) := dk_42 (dk_at dksX5_feed_2 17 rfl rfl)
theorem dX5_feed_63 : decode cX5_feed 63 = .ok (.getfield 29, 3) := dk_180 0 29 (dk_at dksX5_feed_2 18 rfl rfl)
theorem dX5_feed_66 : decode cX5_feed 66 = .ok (.aload_n 0, 1) := dk_42 (dk_at dksX5_feed_2 21 rfl rfl)
theorem dX5_feed_67 : decode cX5_feed 67 = .ok (.getfield 126, 3) := dk_180 0 126 (dk_at dksX5_feed_3 0 rfl rfl)
theorem dX5_feed_70 : decode cX5_feed 70 = .ok (.iload 6, 2) := dk_21 6 (dk_at dksX5_feed_3 3 rfl rfl)
theorem dX5_feed_72 : decode cX5_feed 72 = .ok (.iadd, 1) := dk_96 (dk_at dksX5_feed_3 5 rfl rfl)
theorem dX5_feed_73 : decode cX5_feed 73 = .ok (.aload_n 0, 1) := dk_42 (dk_at dksX5_feed_3 6 rfl rfl)
theorem dX5_feed_74 : decode cX5_feed 74 = .ok (.getfield 33, 3) := dk_180 0 33 (dk_at dksX5_feed_3 7 rfl rfl)
theorem dX5_feed_77 : decode cX5_feed 77 = .ok (.iload 6, 2) := dk_21 6 (dk_at dksX5_feed_3 10 rfl rfl)
theorem dX5_feed_79 : decode cX5_feed 79 = .ok (.iconst 4, 1) := dk_7 (dk_at dksX5_feed_3 12 rfl rfl)
theorem dX5_feed_80 : decode cX5_feed 80 = .ok (.idiv, 1) := dk_108 (dk_at dksX5_feed_3 13 rfl rfl)
theorem dX5_feed_81 : decode cX5_feed 81 = .ok (.iaload, 1) := dk_46 (dk_at dksX5_feed_3 14 rfl rfl)
theorem dX5_feed_82 : decode cX5_feed 82 = .ok (.bipush 24, 2) := dk_16 24 (dk_at dksX5_feed_3 15 rfl rfl)
theorem dX5_feed_84 : decode cX5_feed 84 = .ok (.bipush 8, 2) := dk_16 8 (dk_at dksX5_feed_3 17 rfl rfl)
theorem dX5_feed_86 : decode cX5_feed 86 = .ok (.iload 6, 2) := dk_21 6 (dk_at dksX5_feed_3 19 rfl rfl)
theorem dX5_feed_88 : decode cX5_feed 88 = .ok (.iconst 4, 1) := dk_7 (dk_at dksX5_feed_3 21 rfl rfl)
theorem dX5_feed_89 : decode cX5_feed 89 = .ok (.irem, 1) := dk_112 (dk_at dksX5_feed_3 22 rfl rfl)
theorem dX5_feed_90 : decode cX5_feed 90 = .ok (.imul, 1) := dk_104 (dk_at dksX5_feed_3 23 rfl rfl)
theorem dX5_feed_91 : decode cX5_feed 91 = .ok (.isub, 1) := dk_100 (dk_at dksX5_feed_4 0 rfl rfl)
theorem dX5_feed_92 : decode cX5_feed 92 = .ok (.ishr, 1) := dk_122 (dk_at dksX5_feed_4 1 rfl rfl)
theorem dX5_feed_93 : decode cX5_feed 93 = .ok (.i2b, 1) := dk_145 (dk_at dksX5_feed_4 2 rfl rfl)
theorem dX5_feed_94 : decode cX5_feed 94 = .ok (.bastore, 1) := dk_84 (dk_at dksX5_feed_4 3 rfl rfl)
theorem dX5_feed_95 : decode cX5_feed 95 = .ok (.iinc 6 1, 3) := dk_132 6 1 (dk_at dksX5_feed_4 4 rfl rfl)
theorem dX5_feed_98 : decode cX5_feed 98 = .ok (.goto (-43), 3) := dk_167 255 213 (dk_at dksX5_feed_4 7 rfl rfl)
theorem dX5_feed_101 : decode cX5_feed 101 = .ok (.aload_n 0, 1) := dk_42 (dk_at dksX5_feed_4 10 rfl rfl)
theorem dX5_feed_102 : decode cX5_feed 102 = .ok (.dup, 1) := dk_89 (dk_at dksX5_feed_4 11 rfl rfl)
theorem dX5_feed_103 : decode cX5_feed 103 = .ok (.getfield 126, 3) := dk_180 0 126 (dk_at dksX5_feed_4 12 rfl rfl)
theorem dX5_feed_106 : decode cX5_feed 106 = .ok (.bipush 20, 2) := dk_16 20 (dk_at dksX5_feed_4 15 rfl rfl)
theorem dX5_feed_108 : decode cX5_feed 108 = .ok (.iadd, 1) := dk_96 (dk_at dksX5_feed_4 17 rfl rfl)
theorem dX5_feed_109 : decode cX5_feed 109 = .ok (.putfield 126, 3) := dk_181 0 126 (dk_at dksX5_feed_4 18 rfl rfl)
theorem dX5_feed_112 : decode cX5_feed 112 = .ok (.aload_n 0, 1) := dk_42 (dk_at dksX5_feed_4 21 rfl rfl)
theorem dX5_feed_113 : decode cX5_feed 113 = .ok (.getfield 126, 3) := dk_180 0 126 (dk_at dksX5_feed_5 0 rfl rfl)
theorem dX5_feed_116 : decode cX5_feed 116 = .ok (.ireturn, 1) := dk_172 (dk_at dksX5_feed_5 3 rfl rfl)
abbrev cX5_end : ByteArray := prog_17_method_21_code
def yX5_end : MethodName := ⟨RX5, "end", "(I)I"⟩
def dkwX5_end_0 : List UInt8 := [27, 133, 9, 42, 180, 0, 126, 133, 184, 0, 87, 154, 0, 5, 2, 172, 42, 27, 181, 0, 126, 27, 172]
abbrev dktX5_end_0 : List UInt8 := dkwX5_end_0 ++ []
theorem dksX5_end_0 : cX5_end.data.toList.drop 0 = dktX5_end_0 := by decide +kernel
theorem dX5_end_0 : decode cX5_end 0 = .ok (.iload_n 1, 1) := dk_27 (dk_at dksX5_end_0 0 rfl rfl)
theorem dX5_end_1 : decode cX5_end 1 = .ok (.i2l, 1) := dk_133 (dk_at dksX5_end_0 1 rfl rfl)
theorem dX5_end_2 : decode cX5_end 2 = .ok (.lconst 0, 1) := dk_9 (dk_at dksX5_end_0 2 rfl rfl)
theorem dX5_end_3 : decode cX5_end 3 = .ok (.aload_n 0, 1) := dk_42 (dk_at dksX5_end_0 3 rfl rfl)
theorem dX5_end_4 : decode cX5_end 4 = .ok (.getfield 126, 3) := dk_180 0 126 (dk_at dksX5_end_0 4 rfl rfl)
theorem dX5_end_7 : decode cX5_end 7 = .ok (.i2l, 1) := dk_133 (dk_at dksX5_end_0 7 rfl rfl)
theorem dX5_end_8 : decode cX5_end 8 = .ok (.invokestatic 87, 3) := dk_184 0 87 (dk_at dksX5_end_0 8 rfl rfl)
theorem dX5_end_11 : decode cX5_end 11 = .ok (.ifCond .ne 5, 3) := dk_154 0 5 (dk_at dksX5_end_0 11 rfl rfl)
theorem dX5_end_14 : decode cX5_end 14 = .ok (.iconst (-1), 1) := dk_2 (dk_at dksX5_end_0 14 rfl rfl)
theorem dX5_end_15 : decode cX5_end 15 = .ok (.ireturn, 1) := dk_172 (dk_at dksX5_end_0 15 rfl rfl)
theorem dX5_end_16 : decode cX5_end 16 = .ok (.aload_n 0, 1) := dk_42 (dk_at dksX5_end_0 16 rfl rfl)
theorem dX5_end_17 : decode cX5_end 17 = .ok (.iload_n 1, 1) := dk_27 (dk_at dksX5_end_0 17 rfl rfl)
theorem dX5_end_18 : decode cX5_end 18 = .ok (.putfield 126, 3) := dk_181 0 126 (dk_at dksX5_end_0 18 rfl rfl)
theorem dX5_end_21 : decode cX5_end 21 = .ok (.iload_n 1, 1) := dk_27 (dk_at dksX5_end_0 21 rfl rfl)
theorem dX5_end_22 : decode cX5_end 22 = .ok (.ireturn, 1) := dk_172 (dk_at dksX5_end_0 22 rfl rfl)
abbrev cX5_fault : ByteArray := prog_17_method_30_code
def yX5_fault : MethodName := ⟨RX5, "fault", "(I)I"⟩
def dkwX5_fault_1 : List UInt8 := [172]
abbrev dktX5_fault_1 : List UInt8 := dkwX5_fault_1 ++ []
def dkwX5_fault_0 : List UInt8 := [27, 154, 0, 10, 42, 180, 0, 157, 167, 0, 16, 27, 4, 160, 0, 10, 42, 180, 0, 36, 167, 0, 4, 2]
abbrev dktX5_fault_0 : List UInt8 := dkwX5_fault_0 ++ dktX5_fault_1
theorem dksX5_fault_0 : cX5_fault.data.toList.drop 0 = dktX5_fault_0 := by decide +kernel
theorem dksX5_fault_1 : cX5_fault.data.toList.drop 24 = dktX5_fault_1 := dk_seg dksX5_fault_0 24 rfl rfl
theorem dX5_fault_0 : decode cX5_fault 0 = .ok (.iload_n 1, 1) := dk_27 (dk_at dksX5_fault_0 0 rfl rfl)
theorem dX5_fault_1 : decode cX5_fault 1 = .ok (.ifCond .ne 10, 3) := dk_154 0 10 (dk_at dksX5_fault_0 1 rfl rfl)
theorem dX5_fault_4 : decode cX5_fault 4 = .ok (.aload_n 0, 1) := dk_42 (dk_at dksX5_fault_0 4 rfl rfl)
theorem dX5_fault_5 : decode cX5_fault 5 = .ok (.getfield 157, 3) := dk_180 0 157 (dk_at dksX5_fault_0 5 rfl rfl)
theorem dX5_fault_8 : decode cX5_fault 8 = .ok (.goto 16, 3) := dk_167 0 16 (dk_at dksX5_fault_0 8 rfl rfl)
theorem dX5_fault_11 : decode cX5_fault 11 = .ok (.iload_n 1, 1) := dk_27 (dk_at dksX5_fault_0 11 rfl rfl)
theorem dX5_fault_12 : decode cX5_fault 12 = .ok (.iconst 1, 1) := dk_4 (dk_at dksX5_fault_0 12 rfl rfl)
theorem dX5_fault_13 : decode cX5_fault 13 = .ok (.if_icmp .ne 10, 3) := dk_160 0 10 (dk_at dksX5_fault_0 13 rfl rfl)
theorem dX5_fault_16 : decode cX5_fault 16 = .ok (.aload_n 0, 1) := dk_42 (dk_at dksX5_fault_0 16 rfl rfl)
theorem dX5_fault_17 : decode cX5_fault 17 = .ok (.getfield 36, 3) := dk_180 0 36 (dk_at dksX5_fault_0 17 rfl rfl)
theorem dX5_fault_20 : decode cX5_fault 20 = .ok (.goto 4, 3) := dk_167 0 4 (dk_at dksX5_fault_0 20 rfl rfl)
theorem dX5_fault_23 : decode cX5_fault 23 = .ok (.iconst (-1), 1) := dk_2 (dk_at dksX5_fault_0 23 rfl rfl)
theorem dX5_fault_24 : decode cX5_fault 24 = .ok (.ireturn, 1) := dk_172 (dk_at dksX5_fault_1 0 rfl rfl)
abbrev cX5_grid : ByteArray := prog_17_method_38_code
def yX5_grid : MethodName := ⟨RX5, "grid", "()I"⟩
def dkwX5_grid_5 : List UInt8 := [167, 255, 235, 42, 3, 181, 0, 91, 42, 180, 0, 9, 7, 46, 172]
abbrev dktX5_grid_5 : List UInt8 := dkwX5_grid_5 ++ []
def dkwX5_grid_4 : List UInt8 := [60, 27, 16, 40, 162, 0, 21, 42, 180, 0, 9, 27, 42, 180, 0, 13, 27, 46, 79, 132, 1, 1]
abbrev dktX5_grid_4 : List UInt8 := dkwX5_grid_4 ++ dktX5_grid_5
def dkwX5_grid_3 : List UInt8 := [180, 0, 142, 153, 0, 10, 42, 182, 1, 1, 167, 255, 238, 42, 182, 0, 160, 154, 0, 6, 16, 252, 172, 3]
abbrev dktX5_grid_3 : List UInt8 := dkwX5_grid_3 ++ dktX5_grid_4
def dkwX5_grid_2 : List UInt8 := [180, 0, 13, 27, 3, 79, 132, 1, 1, 167, 255, 240, 42, 182, 0, 176, 42, 182, 0, 160, 153, 0, 17, 42]
abbrev dktX5_grid_2 : List UInt8 := dkwX5_grid_2 ++ dktX5_grid_3
def dkwX5_grid_1 : List UInt8 := [2, 181, 0, 36, 42, 3, 181, 0, 230, 42, 3, 181, 0, 223, 3, 60, 27, 16, 40, 162, 0, 16, 42]
abbrev dktX5_grid_1 : List UInt8 := dkwX5_grid_1 ++ dktX5_grid_2
def dkwX5_grid_0 : List UInt8 := [42, 42, 180, 0, 126, 181, 0, 129, 42, 3, 181, 0, 126, 42, 3, 181, 0, 132, 42, 3, 181, 0, 157, 42]
abbrev dktX5_grid_0 : List UInt8 := dkwX5_grid_0 ++ dktX5_grid_1
theorem dksX5_grid_0 : cX5_grid.data.toList.drop 0 = dktX5_grid_0 := by decide +kernel
theorem dksX5_grid_1 : cX5_grid.data.toList.drop 24 = dktX5_grid_1 := dk_seg dksX5_grid_0 24 rfl rfl
theorem dksX5_grid_2 : cX5_grid.data.toList.drop 47 = dktX5_grid_2 := dk_seg dksX5_grid_1 23 rfl rfl
theorem dksX5_grid_3 : cX5_grid.data.toList.drop 71 = dktX5_grid_3 := dk_seg dksX5_grid_2 24 rfl rfl
theorem dksX5_grid_4 : cX5_grid.data.toList.drop 95 = dktX5_grid_4 := dk_seg dksX5_grid_3 24 rfl rfl
theorem dksX5_grid_5 : cX5_grid.data.toList.drop 117 = dktX5_grid_5 := dk_seg dksX5_grid_4 22 rfl rfl
theorem dX5_grid_0 : decode cX5_grid 0 = .ok (.aload_n 0, 1) := dk_42 (dk_at dksX5_grid_0 0 rfl rfl)
theorem dX5_grid_1 : decode cX5_grid 1 = .ok (.aload_n 0, 1) := dk_42 (dk_at dksX5_grid_0 1 rfl rfl)
theorem dX5_grid_2 : decode cX5_grid 2 = .ok (.getfield 126, 3) := dk_180 0 126 (dk_at dksX5_grid_0 2 rfl rfl)
theorem dX5_grid_5 : decode cX5_grid 5 = .ok (.putfield 129, 3) := dk_181 0 129 (dk_at dksX5_grid_0 5 rfl rfl)
theorem dX5_grid_8 : decode cX5_grid 8 = .ok (.aload_n 0, 1) := dk_42 (dk_at dksX5_grid_0 8 rfl rfl)
theorem dX5_grid_9 : decode cX5_grid 9 = .ok (.iconst 0, 1) := dk_3 (dk_at dksX5_grid_0 9 rfl rfl)
theorem dX5_grid_10 : decode cX5_grid 10 = .ok (.putfield 126, 3) := dk_181 0 126 (dk_at dksX5_grid_0 10 rfl rfl)
theorem dX5_grid_13 : decode cX5_grid 13 = .ok (.aload_n 0, 1) := dk_42 (dk_at dksX5_grid_0 13 rfl rfl)
theorem dX5_grid_14 : decode cX5_grid 14 = .ok (.iconst 0, 1) := dk_3 (dk_at dksX5_grid_0 14 rfl rfl)
theorem dX5_grid_15 : decode cX5_grid 15 = .ok (.putfield 132, 3) := dk_181 0 132 (dk_at dksX5_grid_0 15 rfl rfl)
theorem dX5_grid_18 : decode cX5_grid 18 = .ok (.aload_n 0, 1) := dk_42 (dk_at dksX5_grid_0 18 rfl rfl)
theorem dX5_grid_19 : decode cX5_grid 19 = .ok (.iconst 0, 1) := dk_3 (dk_at dksX5_grid_0 19 rfl rfl)
theorem dX5_grid_20 : decode cX5_grid 20 = .ok (.putfield 157, 3) := dk_181 0 157 (dk_at dksX5_grid_0 20 rfl rfl)
theorem dX5_grid_23 : decode cX5_grid 23 = .ok (.aload_n 0, 1) := dk_42 (dk_at dksX5_grid_0 23 rfl rfl)
theorem dX5_grid_24 : decode cX5_grid 24 = .ok (.iconst (-1), 1) := dk_2 (dk_at dksX5_grid_1 0 rfl rfl)
theorem dX5_grid_25 : decode cX5_grid 25 = .ok (.putfield 36, 3) := dk_181 0 36 (dk_at dksX5_grid_1 1 rfl rfl)
theorem dX5_grid_28 : decode cX5_grid 28 = .ok (.aload_n 0, 1) := dk_42 (dk_at dksX5_grid_1 4 rfl rfl)
theorem dX5_grid_29 : decode cX5_grid 29 = .ok (.iconst 0, 1) := dk_3 (dk_at dksX5_grid_1 5 rfl rfl)
theorem dX5_grid_30 : decode cX5_grid 30 = .ok (.putfield 230, 3) := dk_181 0 230 (dk_at dksX5_grid_1 6 rfl rfl)
theorem dX5_grid_33 : decode cX5_grid 33 = .ok (.aload_n 0, 1) := dk_42 (dk_at dksX5_grid_1 9 rfl rfl)
theorem dX5_grid_34 : decode cX5_grid 34 = .ok (.iconst 0, 1) := dk_3 (dk_at dksX5_grid_1 10 rfl rfl)
theorem dX5_grid_35 : decode cX5_grid 35 = .ok (.putfield 223, 3) := dk_181 0 223 (dk_at dksX5_grid_1 11 rfl rfl)
theorem dX5_grid_38 : decode cX5_grid 38 = .ok (.iconst 0, 1) := dk_3 (dk_at dksX5_grid_1 14 rfl rfl)
theorem dX5_grid_39 : decode cX5_grid 39 = .ok (.istore_n 1, 1) := dk_60 (dk_at dksX5_grid_1 15 rfl rfl)
theorem dX5_grid_40 : decode cX5_grid 40 = .ok (.iload_n 1, 1) := dk_27 (dk_at dksX5_grid_1 16 rfl rfl)
theorem dX5_grid_41 : decode cX5_grid 41 = .ok (.bipush 40, 2) := dk_16 40 (dk_at dksX5_grid_1 17 rfl rfl)
theorem dX5_grid_43 : decode cX5_grid 43 = .ok (.if_icmp .ge 16, 3) := dk_162 0 16 (dk_at dksX5_grid_1 19 rfl rfl)
theorem dX5_grid_46 : decode cX5_grid 46 = .ok (.aload_n 0, 1) := dk_42 (dk_at dksX5_grid_1 22 rfl rfl)
theorem dX5_grid_47 : decode cX5_grid 47 = .ok (.getfield 13, 3) := dk_180 0 13 (dk_at dksX5_grid_2 0 rfl rfl)
theorem dX5_grid_50 : decode cX5_grid 50 = .ok (.iload_n 1, 1) := dk_27 (dk_at dksX5_grid_2 3 rfl rfl)
theorem dX5_grid_51 : decode cX5_grid 51 = .ok (.iconst 0, 1) := dk_3 (dk_at dksX5_grid_2 4 rfl rfl)
theorem dX5_grid_52 : decode cX5_grid 52 = .ok (.iastore, 1) := dk_79 (dk_at dksX5_grid_2 5 rfl rfl)
theorem dX5_grid_53 : decode cX5_grid 53 = .ok (.iinc 1 1, 3) := dk_132 1 1 (dk_at dksX5_grid_2 6 rfl rfl)
theorem dX5_grid_56 : decode cX5_grid 56 = .ok (.goto (-16), 3) := dk_167 255 240 (dk_at dksX5_grid_2 9 rfl rfl)
theorem dX5_grid_59 : decode cX5_grid 59 = .ok (.aload_n 0, 1) := dk_42 (dk_at dksX5_grid_2 12 rfl rfl)
theorem dX5_grid_60 : decode cX5_grid 60 = .ok (.invokevirtual 176, 3) := dk_182 0 176 (dk_at dksX5_grid_2 13 rfl rfl)
theorem dX5_grid_63 : decode cX5_grid 63 = .ok (.aload_n 0, 1) := dk_42 (dk_at dksX5_grid_2 16 rfl rfl)
theorem dX5_grid_64 : decode cX5_grid 64 = .ok (.invokevirtual 160, 3) := dk_182 0 160 (dk_at dksX5_grid_2 17 rfl rfl)
theorem dX5_grid_67 : decode cX5_grid 67 = .ok (.ifCond .eq 17, 3) := dk_153 0 17 (dk_at dksX5_grid_2 20 rfl rfl)
theorem dX5_grid_70 : decode cX5_grid 70 = .ok (.aload_n 0, 1) := dk_42 (dk_at dksX5_grid_2 23 rfl rfl)
theorem dX5_grid_71 : decode cX5_grid 71 = .ok (.getfield 142, 3) := dk_180 0 142 (dk_at dksX5_grid_3 0 rfl rfl)
theorem dX5_grid_74 : decode cX5_grid 74 = .ok (.ifCond .eq 10, 3) := dk_153 0 10 (dk_at dksX5_grid_3 3 rfl rfl)
theorem dX5_grid_77 : decode cX5_grid 77 = .ok (.aload_n 0, 1) := dk_42 (dk_at dksX5_grid_3 6 rfl rfl)
theorem dX5_grid_78 : decode cX5_grid 78 = .ok (.invokevirtual 257, 3) := dk_182 1 1 (dk_at dksX5_grid_3 7 rfl rfl)
theorem dX5_grid_81 : decode cX5_grid 81 = .ok (.goto (-18), 3) := dk_167 255 238 (dk_at dksX5_grid_3 10 rfl rfl)
theorem dX5_grid_84 : decode cX5_grid 84 = .ok (.aload_n 0, 1) := dk_42 (dk_at dksX5_grid_3 13 rfl rfl)
theorem dX5_grid_85 : decode cX5_grid 85 = .ok (.invokevirtual 160, 3) := dk_182 0 160 (dk_at dksX5_grid_3 14 rfl rfl)
theorem dX5_grid_88 : decode cX5_grid 88 = .ok (.ifCond .ne 6, 3) := dk_154 0 6 (dk_at dksX5_grid_3 17 rfl rfl)
theorem dX5_grid_91 : decode cX5_grid 91 = .ok (.bipush (-4), 2) := dk_16 252 (dk_at dksX5_grid_3 20 rfl rfl)
theorem dX5_grid_93 : decode cX5_grid 93 = .ok (.ireturn, 1) := dk_172 (dk_at dksX5_grid_3 22 rfl rfl)
theorem dX5_grid_94 : decode cX5_grid 94 = .ok (.iconst 0, 1) := dk_3 (dk_at dksX5_grid_3 23 rfl rfl)
theorem dX5_grid_95 : decode cX5_grid 95 = .ok (.istore_n 1, 1) := dk_60 (dk_at dksX5_grid_4 0 rfl rfl)
theorem dX5_grid_96 : decode cX5_grid 96 = .ok (.iload_n 1, 1) := dk_27 (dk_at dksX5_grid_4 1 rfl rfl)
theorem dX5_grid_97 : decode cX5_grid 97 = .ok (.bipush 40, 2) := dk_16 40 (dk_at dksX5_grid_4 2 rfl rfl)
theorem dX5_grid_99 : decode cX5_grid 99 = .ok (.if_icmp .ge 21, 3) := dk_162 0 21 (dk_at dksX5_grid_4 4 rfl rfl)
theorem dX5_grid_102 : decode cX5_grid 102 = .ok (.aload_n 0, 1) := dk_42 (dk_at dksX5_grid_4 7 rfl rfl)
theorem dX5_grid_103 : decode cX5_grid 103 = .ok (.getfield 9, 3) := dk_180 0 9 (dk_at dksX5_grid_4 8 rfl rfl)
theorem dX5_grid_106 : decode cX5_grid 106 = .ok (.iload_n 1, 1) := dk_27 (dk_at dksX5_grid_4 11 rfl rfl)
theorem dX5_grid_107 : decode cX5_grid 107 = .ok (.aload_n 0, 1) := dk_42 (dk_at dksX5_grid_4 12 rfl rfl)
theorem dX5_grid_108 : decode cX5_grid 108 = .ok (.getfield 13, 3) := dk_180 0 13 (dk_at dksX5_grid_4 13 rfl rfl)
theorem dX5_grid_111 : decode cX5_grid 111 = .ok (.iload_n 1, 1) := dk_27 (dk_at dksX5_grid_4 16 rfl rfl)
theorem dX5_grid_112 : decode cX5_grid 112 = .ok (.iaload, 1) := dk_46 (dk_at dksX5_grid_4 17 rfl rfl)
theorem dX5_grid_113 : decode cX5_grid 113 = .ok (.iastore, 1) := dk_79 (dk_at dksX5_grid_4 18 rfl rfl)
theorem dX5_grid_114 : decode cX5_grid 114 = .ok (.iinc 1 1, 3) := dk_132 1 1 (dk_at dksX5_grid_4 19 rfl rfl)
theorem dX5_grid_117 : decode cX5_grid 117 = .ok (.goto (-21), 3) := dk_167 255 235 (dk_at dksX5_grid_5 0 rfl rfl)
theorem dX5_grid_120 : decode cX5_grid 120 = .ok (.aload_n 0, 1) := dk_42 (dk_at dksX5_grid_5 3 rfl rfl)
theorem dX5_grid_121 : decode cX5_grid 121 = .ok (.iconst 0, 1) := dk_3 (dk_at dksX5_grid_5 4 rfl rfl)
theorem dX5_grid_122 : decode cX5_grid 122 = .ok (.putfield 91, 3) := dk_181 0 91 (dk_at dksX5_grid_5 5 rfl rfl)
theorem dX5_grid_125 : decode cX5_grid 125 = .ok (.aload_n 0, 1) := dk_42 (dk_at dksX5_grid_5 8 rfl rfl)
theorem dX5_grid_126 : decode cX5_grid 126 = .ok (.getfield 9, 3) := dk_180 0 9 (dk_at dksX5_grid_5 9 rfl rfl)
theorem dX5_grid_129 : decode cX5_grid 129 = .ok (.iconst 4, 1) := dk_7 (dk_at dksX5_grid_5 12 rfl rfl)
theorem dX5_grid_130 : decode cX5_grid 130 = .ok (.iaload, 1) := dk_46 (dk_at dksX5_grid_5 13 rfl rfl)
theorem dX5_grid_131 : decode cX5_grid 131 = .ok (.ireturn, 1) := dk_172 (dk_at dksX5_grid_5 14 rfl rfl)
abbrev cX5_advance : ByteArray := prog_17_method_23_code
def yX5_advance : MethodName := ⟨RX5, "advance", "()V"⟩
def dkwX5_advance_10 : List UInt8 := [96, 181, 0, 132, 177]
abbrev dktX5_advance_10 : List UInt8 := dkwX5_advance_10 ++ []
def dkwX5_advance_9 : List UInt8 := [167, 0, 28, 42, 27, 16, 59, 160, 0, 7, 6, 167, 0, 4, 7, 181, 0, 142, 42, 89, 180, 0, 132, 4]
abbrev dktX5_advance_9 : List UInt8 := dkwX5_advance_9 ++ dktX5_advance_10
def dkwX5_advance_8 : List UInt8 := [184, 0, 119, 181, 0, 153, 42, 89, 180, 0, 132, 4, 96, 181, 0, 132, 167, 255, 197, 42, 5, 181, 0, 142]
abbrev dktX5_advance_8 : List UInt8 := dkwX5_advance_8 ++ dktX5_advance_9
def dkwX5_advance_7 : List UInt8 := [42, 18, 156, 16, 10, 42, 180, 0, 153, 104, 42, 42, 180, 0, 132, 182, 0, 135, 96, 16, 48, 100]
abbrev dktX5_advance_7 : List UInt8 := dkwX5_advance_7 ++ dktX5_advance_8
def dkwX5_advance_6 : List UInt8 := [181, 0, 153, 42, 42, 180, 0, 132, 182, 0, 135, 133, 20, 0, 149, 20, 0, 151, 184, 0, 87, 153, 0, 44]
abbrev dktX5_advance_6 : List UInt8 := dkwX5_advance_6 ++ dktX5_advance_7
def dkwX5_advance_5 : List UInt8 := [181, 0, 142, 167, 0, 117, 27, 133, 20, 0, 149, 20, 0, 151, 184, 0, 87, 153, 0, 78, 42, 3]
abbrev dktX5_advance_5 : List UInt8 := dkwX5_advance_5 ++ dktX5_advance_6
def dkwX5_advance_4 : List UInt8 := [20, 0, 147, 184, 0, 87, 153, 0, 16, 42, 89, 180, 0, 132, 4, 96, 181, 0, 132, 167, 255, 225, 42, 4]
abbrev dktX5_advance_4 : List UInt8 := dkwX5_advance_4 ++ dktX5_advance_5
def dkwX5_advance_3 : List UInt8 := [20, 0, 145, 20, 0, 147, 184, 0, 87, 153, 0, 45, 42, 42, 180, 0, 132, 182, 0, 135, 133, 20, 0, 145]
abbrev dktX5_advance_3 : List UInt8 := dkwX5_advance_3 ++ dktX5_advance_4
def dkwX5_advance_2 : List UInt8 := [42, 42, 180, 0, 132, 182, 0, 135, 60, 27, 2, 160, 0, 11, 42, 3, 181, 0, 142, 167, 0, 173, 27, 133]
abbrev dktX5_advance_2 : List UInt8 := dkwX5_advance_2 ++ dktX5_advance_3
def dkwX5_advance_1 : List UInt8 := [160, 0, 16, 42, 89, 180, 0, 132, 4, 96, 181, 0, 132, 167, 255, 220, 42, 42, 180, 0, 132, 181, 0, 139]
abbrev dktX5_advance_1 : List UInt8 := dkwX5_advance_1 ++ dktX5_advance_2
def dkwX5_advance_0 : List UInt8 := [42, 42, 180, 0, 132, 182, 0, 135, 16, 32, 159, 0, 16, 42, 42, 180, 0, 132, 182, 0, 135, 16, 10]
abbrev dktX5_advance_0 : List UInt8 := dkwX5_advance_0 ++ dktX5_advance_1
theorem dksX5_advance_0 : cX5_advance.data.toList.drop 0 = dktX5_advance_0 := by decide +kernel
theorem dksX5_advance_1 : cX5_advance.data.toList.drop 23 = dktX5_advance_1 := dk_seg dksX5_advance_0 23 rfl rfl
theorem dksX5_advance_2 : cX5_advance.data.toList.drop 47 = dktX5_advance_2 := dk_seg dksX5_advance_1 24 rfl rfl
theorem dksX5_advance_3 : cX5_advance.data.toList.drop 71 = dktX5_advance_3 := dk_seg dksX5_advance_2 24 rfl rfl
theorem dksX5_advance_4 : cX5_advance.data.toList.drop 95 = dktX5_advance_4 := dk_seg dksX5_advance_3 24 rfl rfl
theorem dksX5_advance_5 : cX5_advance.data.toList.drop 119 = dktX5_advance_5 := dk_seg dksX5_advance_4 24 rfl rfl
theorem dksX5_advance_6 : cX5_advance.data.toList.drop 141 = dktX5_advance_6 := dk_seg dksX5_advance_5 22 rfl rfl
theorem dksX5_advance_7 : cX5_advance.data.toList.drop 165 = dktX5_advance_7 := dk_seg dksX5_advance_6 24 rfl rfl
theorem dksX5_advance_8 : cX5_advance.data.toList.drop 187 = dktX5_advance_8 := dk_seg dksX5_advance_7 22 rfl rfl
theorem dksX5_advance_9 : cX5_advance.data.toList.drop 211 = dktX5_advance_9 := dk_seg dksX5_advance_8 24 rfl rfl
theorem dksX5_advance_10 : cX5_advance.data.toList.drop 235 = dktX5_advance_10 := dk_seg dksX5_advance_9 24 rfl rfl
theorem dX5_advance_0 : decode cX5_advance 0 = .ok (.aload_n 0, 1) := dk_42 (dk_at dksX5_advance_0 0 rfl rfl)
theorem dX5_advance_1 : decode cX5_advance 1 = .ok (.aload_n 0, 1) := dk_42 (dk_at dksX5_advance_0 1 rfl rfl)
theorem dX5_advance_2 : decode cX5_advance 2 = .ok (.getfield 132, 3) := dk_180 0 132 (dk_at dksX5_advance_0 2 rfl rfl)
theorem dX5_advance_5 : decode cX5_advance 5 = .ok (.invokevirtual 135, 3) := dk_182 0 135 (dk_at dksX5_advance_0 5 rfl rfl)
theorem dX5_advance_8 : decode cX5_advance 8 = .ok (.bipush 32, 2) := dk_16 32 (dk_at dksX5_advance_0 8 rfl rfl)
theorem dX5_advance_10 : decode cX5_advance 10 = .ok (.if_icmp .eq 16, 3) := dk_159 0 16 (dk_at dksX5_advance_0 10 rfl rfl)
theorem dX5_advance_13 : decode cX5_advance 13 = .ok (.aload_n 0, 1) := dk_42 (dk_at dksX5_advance_0 13 rfl rfl)
theorem dX5_advance_14 : decode cX5_advance 14 = .ok (.aload_n 0, 1) := dk_42 (dk_at dksX5_advance_0 14 rfl rfl)
theorem dX5_advance_15 : decode cX5_advance 15 = .ok (.getfield 132, 3) := dk_180 0 132 (dk_at dksX5_advance_0 15 rfl rfl)
theorem dX5_advance_18 : decode cX5_advance 18 = .ok (.invokevirtual 135, 3) := dk_182 0 135 (dk_at dksX5_advance_0 18 rfl rfl)
theorem dX5_advance_21 : decode cX5_advance 21 = .ok (.bipush 10, 2) := dk_16 10 (dk_at dksX5_advance_0 21 rfl rfl)
theorem dX5_advance_23 : decode cX5_advance 23 = .ok (.if_icmp .ne 16, 3) := dk_160 0 16 (dk_at dksX5_advance_1 0 rfl rfl)
theorem dX5_advance_26 : decode cX5_advance 26 = .ok (.aload_n 0, 1) := dk_42 (dk_at dksX5_advance_1 3 rfl rfl)
theorem dX5_advance_27 : decode cX5_advance 27 = .ok (.dup, 1) := dk_89 (dk_at dksX5_advance_1 4 rfl rfl)
theorem dX5_advance_28 : decode cX5_advance 28 = .ok (.getfield 132, 3) := dk_180 0 132 (dk_at dksX5_advance_1 5 rfl rfl)
theorem dX5_advance_31 : decode cX5_advance 31 = .ok (.iconst 1, 1) := dk_4 (dk_at dksX5_advance_1 8 rfl rfl)
theorem dX5_advance_32 : decode cX5_advance 32 = .ok (.iadd, 1) := dk_96 (dk_at dksX5_advance_1 9 rfl rfl)
theorem dX5_advance_33 : decode cX5_advance 33 = .ok (.putfield 132, 3) := dk_181 0 132 (dk_at dksX5_advance_1 10 rfl rfl)
theorem dX5_advance_36 : decode cX5_advance 36 = .ok (.goto (-36), 3) := dk_167 255 220 (dk_at dksX5_advance_1 13 rfl rfl)
theorem dX5_advance_39 : decode cX5_advance 39 = .ok (.aload_n 0, 1) := dk_42 (dk_at dksX5_advance_1 16 rfl rfl)
theorem dX5_advance_40 : decode cX5_advance 40 = .ok (.aload_n 0, 1) := dk_42 (dk_at dksX5_advance_1 17 rfl rfl)
theorem dX5_advance_41 : decode cX5_advance 41 = .ok (.getfield 132, 3) := dk_180 0 132 (dk_at dksX5_advance_1 18 rfl rfl)
theorem dX5_advance_44 : decode cX5_advance 44 = .ok (.putfield 139, 3) := dk_181 0 139 (dk_at dksX5_advance_1 21 rfl rfl)
theorem dX5_advance_47 : decode cX5_advance 47 = .ok (.aload_n 0, 1) := dk_42 (dk_at dksX5_advance_2 0 rfl rfl)
theorem dX5_advance_48 : decode cX5_advance 48 = .ok (.aload_n 0, 1) := dk_42 (dk_at dksX5_advance_2 1 rfl rfl)
theorem dX5_advance_49 : decode cX5_advance 49 = .ok (.getfield 132, 3) := dk_180 0 132 (dk_at dksX5_advance_2 2 rfl rfl)
theorem dX5_advance_52 : decode cX5_advance 52 = .ok (.invokevirtual 135, 3) := dk_182 0 135 (dk_at dksX5_advance_2 5 rfl rfl)
theorem dX5_advance_55 : decode cX5_advance 55 = .ok (.istore_n 1, 1) := dk_60 (dk_at dksX5_advance_2 8 rfl rfl)
theorem dX5_advance_56 : decode cX5_advance 56 = .ok (.iload_n 1, 1) := dk_27 (dk_at dksX5_advance_2 9 rfl rfl)
theorem dX5_advance_57 : decode cX5_advance 57 = .ok (.iconst (-1), 1) := dk_2 (dk_at dksX5_advance_2 10 rfl rfl)
theorem dX5_advance_58 : decode cX5_advance 58 = .ok (.if_icmp .ne 11, 3) := dk_160 0 11 (dk_at dksX5_advance_2 11 rfl rfl)
theorem dX5_advance_61 : decode cX5_advance 61 = .ok (.aload_n 0, 1) := dk_42 (dk_at dksX5_advance_2 14 rfl rfl)
theorem dX5_advance_62 : decode cX5_advance 62 = .ok (.iconst 0, 1) := dk_3 (dk_at dksX5_advance_2 15 rfl rfl)
theorem dX5_advance_63 : decode cX5_advance 63 = .ok (.putfield 142, 3) := dk_181 0 142 (dk_at dksX5_advance_2 16 rfl rfl)
theorem dX5_advance_66 : decode cX5_advance 66 = .ok (.goto 173, 3) := dk_167 0 173 (dk_at dksX5_advance_2 19 rfl rfl)
theorem dX5_advance_69 : decode cX5_advance 69 = .ok (.iload_n 1, 1) := dk_27 (dk_at dksX5_advance_2 22 rfl rfl)
theorem dX5_advance_70 : decode cX5_advance 70 = .ok (.i2l, 1) := dk_133 (dk_at dksX5_advance_2 23 rfl rfl)
theorem dX5_advance_71 : decode cX5_advance 71 = .ok (.ldc2_w 145, 3) := dk_20 0 145 (dk_at dksX5_advance_3 0 rfl rfl)
theorem dX5_advance_74 : decode cX5_advance 74 = .ok (.ldc2_w 147, 3) := dk_20 0 147 (dk_at dksX5_advance_3 3 rfl rfl)
theorem dX5_advance_77 : decode cX5_advance 77 = .ok (.invokestatic 87, 3) := dk_184 0 87 (dk_at dksX5_advance_3 6 rfl rfl)
theorem dX5_advance_80 : decode cX5_advance 80 = .ok (.ifCond .eq 45, 3) := dk_153 0 45 (dk_at dksX5_advance_3 9 rfl rfl)
theorem dX5_advance_83 : decode cX5_advance 83 = .ok (.aload_n 0, 1) := dk_42 (dk_at dksX5_advance_3 12 rfl rfl)
theorem dX5_advance_84 : decode cX5_advance 84 = .ok (.aload_n 0, 1) := dk_42 (dk_at dksX5_advance_3 13 rfl rfl)
theorem dX5_advance_85 : decode cX5_advance 85 = .ok (.getfield 132, 3) := dk_180 0 132 (dk_at dksX5_advance_3 14 rfl rfl)
theorem dX5_advance_88 : decode cX5_advance 88 = .ok (.invokevirtual 135, 3) := dk_182 0 135 (dk_at dksX5_advance_3 17 rfl rfl)
theorem dX5_advance_91 : decode cX5_advance 91 = .ok (.i2l, 1) := dk_133 (dk_at dksX5_advance_3 20 rfl rfl)
theorem dX5_advance_92 : decode cX5_advance 92 = .ok (.ldc2_w 145, 3) := dk_20 0 145 (dk_at dksX5_advance_3 21 rfl rfl)
theorem dX5_advance_95 : decode cX5_advance 95 = .ok (.ldc2_w 147, 3) := dk_20 0 147 (dk_at dksX5_advance_4 0 rfl rfl)
theorem dX5_advance_98 : decode cX5_advance 98 = .ok (.invokestatic 87, 3) := dk_184 0 87 (dk_at dksX5_advance_4 3 rfl rfl)
theorem dX5_advance_101 : decode cX5_advance 101 = .ok (.ifCond .eq 16, 3) := dk_153 0 16 (dk_at dksX5_advance_4 6 rfl rfl)
theorem dX5_advance_104 : decode cX5_advance 104 = .ok (.aload_n 0, 1) := dk_42 (dk_at dksX5_advance_4 9 rfl rfl)
theorem dX5_advance_105 : decode cX5_advance 105 = .ok (.dup, 1) := dk_89 (dk_at dksX5_advance_4 10 rfl rfl)
theorem dX5_advance_106 : decode cX5_advance 106 = .ok (.getfield 132, 3) := dk_180 0 132 (dk_at dksX5_advance_4 11 rfl rfl)
theorem dX5_advance_109 : decode cX5_advance 109 = .ok (.iconst 1, 1) := dk_4 (dk_at dksX5_advance_4 14 rfl rfl)
theorem dX5_advance_110 : decode cX5_advance 110 = .ok (.iadd, 1) := dk_96 (dk_at dksX5_advance_4 15 rfl rfl)
theorem dX5_advance_111 : decode cX5_advance 111 = .ok (.putfield 132, 3) := dk_181 0 132 (dk_at dksX5_advance_4 16 rfl rfl)
theorem dX5_advance_114 : decode cX5_advance 114 = .ok (.goto (-31), 3) := dk_167 255 225 (dk_at dksX5_advance_4 19 rfl rfl)
theorem dX5_advance_117 : decode cX5_advance 117 = .ok (.aload_n 0, 1) := dk_42 (dk_at dksX5_advance_4 22 rfl rfl)
theorem dX5_advance_118 : decode cX5_advance 118 = .ok (.iconst 1, 1) := dk_4 (dk_at dksX5_advance_4 23 rfl rfl)
theorem dX5_advance_119 : decode cX5_advance 119 = .ok (.putfield 142, 3) := dk_181 0 142 (dk_at dksX5_advance_5 0 rfl rfl)
theorem dX5_advance_122 : decode cX5_advance 122 = .ok (.goto 117, 3) := dk_167 0 117 (dk_at dksX5_advance_5 3 rfl rfl)
theorem dX5_advance_125 : decode cX5_advance 125 = .ok (.iload_n 1, 1) := dk_27 (dk_at dksX5_advance_5 6 rfl rfl)
theorem dX5_advance_126 : decode cX5_advance 126 = .ok (.i2l, 1) := dk_133 (dk_at dksX5_advance_5 7 rfl rfl)
theorem dX5_advance_127 : decode cX5_advance 127 = .ok (.ldc2_w 149, 3) := dk_20 0 149 (dk_at dksX5_advance_5 8 rfl rfl)
theorem dX5_advance_130 : decode cX5_advance 130 = .ok (.ldc2_w 151, 3) := dk_20 0 151 (dk_at dksX5_advance_5 11 rfl rfl)
theorem dX5_advance_133 : decode cX5_advance 133 = .ok (.invokestatic 87, 3) := dk_184 0 87 (dk_at dksX5_advance_5 14 rfl rfl)
theorem dX5_advance_136 : decode cX5_advance 136 = .ok (.ifCond .eq 78, 3) := dk_153 0 78 (dk_at dksX5_advance_5 17 rfl rfl)
theorem dX5_advance_139 : decode cX5_advance 139 = .ok (.aload_n 0, 1) := dk_42 (dk_at dksX5_advance_5 20 rfl rfl)
theorem dX5_advance_140 : decode cX5_advance 140 = .ok (.iconst 0, 1) := dk_3 (dk_at dksX5_advance_5 21 rfl rfl)
theorem dX5_advance_141 : decode cX5_advance 141 = .ok (.putfield 153, 3) := dk_181 0 153 (dk_at dksX5_advance_6 0 rfl rfl)
theorem dX5_advance_144 : decode cX5_advance 144 = .ok (.aload_n 0, 1) := dk_42 (dk_at dksX5_advance_6 3 rfl rfl)
theorem dX5_advance_145 : decode cX5_advance 145 = .ok (.aload_n 0, 1) := dk_42 (dk_at dksX5_advance_6 4 rfl rfl)
theorem dX5_advance_146 : decode cX5_advance 146 = .ok (.getfield 132, 3) := dk_180 0 132 (dk_at dksX5_advance_6 5 rfl rfl)
theorem dX5_advance_149 : decode cX5_advance 149 = .ok (.invokevirtual 135, 3) := dk_182 0 135 (dk_at dksX5_advance_6 8 rfl rfl)
theorem dX5_advance_152 : decode cX5_advance 152 = .ok (.i2l, 1) := dk_133 (dk_at dksX5_advance_6 11 rfl rfl)
theorem dX5_advance_153 : decode cX5_advance 153 = .ok (.ldc2_w 149, 3) := dk_20 0 149 (dk_at dksX5_advance_6 12 rfl rfl)
theorem dX5_advance_156 : decode cX5_advance 156 = .ok (.ldc2_w 151, 3) := dk_20 0 151 (dk_at dksX5_advance_6 15 rfl rfl)
theorem dX5_advance_159 : decode cX5_advance 159 = .ok (.invokestatic 87, 3) := dk_184 0 87 (dk_at dksX5_advance_6 18 rfl rfl)
theorem dX5_advance_162 : decode cX5_advance 162 = .ok (.ifCond .eq 44, 3) := dk_153 0 44 (dk_at dksX5_advance_6 21 rfl rfl)
theorem dX5_advance_165 : decode cX5_advance 165 = .ok (.aload_n 0, 1) := dk_42 (dk_at dksX5_advance_7 0 rfl rfl)
theorem dX5_advance_166 : decode cX5_advance 166 = .ok (.ldc 156, 2) := dk_18 156 (dk_at dksX5_advance_7 1 rfl rfl)
theorem dX5_advance_168 : decode cX5_advance 168 = .ok (.bipush 10, 2) := dk_16 10 (dk_at dksX5_advance_7 3 rfl rfl)
theorem dX5_advance_170 : decode cX5_advance 170 = .ok (.aload_n 0, 1) := dk_42 (dk_at dksX5_advance_7 5 rfl rfl)
theorem dX5_advance_171 : decode cX5_advance 171 = .ok (.getfield 153, 3) := dk_180 0 153 (dk_at dksX5_advance_7 6 rfl rfl)
theorem dX5_advance_174 : decode cX5_advance 174 = .ok (.imul, 1) := dk_104 (dk_at dksX5_advance_7 9 rfl rfl)
theorem dX5_advance_175 : decode cX5_advance 175 = .ok (.aload_n 0, 1) := dk_42 (dk_at dksX5_advance_7 10 rfl rfl)
theorem dX5_advance_176 : decode cX5_advance 176 = .ok (.aload_n 0, 1) := dk_42 (dk_at dksX5_advance_7 11 rfl rfl)
theorem dX5_advance_177 : decode cX5_advance 177 = .ok (.getfield 132, 3) := dk_180 0 132 (dk_at dksX5_advance_7 12 rfl rfl)
theorem dX5_advance_180 : decode cX5_advance 180 = .ok (.invokevirtual 135, 3) := dk_182 0 135 (dk_at dksX5_advance_7 15 rfl rfl)
theorem dX5_advance_183 : decode cX5_advance 183 = .ok (.iadd, 1) := dk_96 (dk_at dksX5_advance_7 18 rfl rfl)
theorem dX5_advance_184 : decode cX5_advance 184 = .ok (.bipush 48, 2) := dk_16 48 (dk_at dksX5_advance_7 19 rfl rfl)
theorem dX5_advance_186 : decode cX5_advance 186 = .ok (.isub, 1) := dk_100 (dk_at dksX5_advance_7 21 rfl rfl)
theorem dX5_advance_187 : decode cX5_advance 187 = .ok (.invokestatic 119, 3) := dk_184 0 119 (dk_at dksX5_advance_8 0 rfl rfl)
theorem dX5_advance_190 : decode cX5_advance 190 = .ok (.putfield 153, 3) := dk_181 0 153 (dk_at dksX5_advance_8 3 rfl rfl)
theorem dX5_advance_193 : decode cX5_advance 193 = .ok (.aload_n 0, 1) := dk_42 (dk_at dksX5_advance_8 6 rfl rfl)
theorem dX5_advance_194 : decode cX5_advance 194 = .ok (.dup, 1) := dk_89 (dk_at dksX5_advance_8 7 rfl rfl)
theorem dX5_advance_195 : decode cX5_advance 195 = .ok (.getfield 132, 3) := dk_180 0 132 (dk_at dksX5_advance_8 8 rfl rfl)
theorem dX5_advance_198 : decode cX5_advance 198 = .ok (.iconst 1, 1) := dk_4 (dk_at dksX5_advance_8 11 rfl rfl)
theorem dX5_advance_199 : decode cX5_advance 199 = .ok (.iadd, 1) := dk_96 (dk_at dksX5_advance_8 12 rfl rfl)
theorem dX5_advance_200 : decode cX5_advance 200 = .ok (.putfield 132, 3) := dk_181 0 132 (dk_at dksX5_advance_8 13 rfl rfl)
theorem dX5_advance_203 : decode cX5_advance 203 = .ok (.goto (-59), 3) := dk_167 255 197 (dk_at dksX5_advance_8 16 rfl rfl)
theorem dX5_advance_206 : decode cX5_advance 206 = .ok (.aload_n 0, 1) := dk_42 (dk_at dksX5_advance_8 19 rfl rfl)
theorem dX5_advance_207 : decode cX5_advance 207 = .ok (.iconst 2, 1) := dk_5 (dk_at dksX5_advance_8 20 rfl rfl)
theorem dX5_advance_208 : decode cX5_advance 208 = .ok (.putfield 142, 3) := dk_181 0 142 (dk_at dksX5_advance_8 21 rfl rfl)
theorem dX5_advance_211 : decode cX5_advance 211 = .ok (.goto 28, 3) := dk_167 0 28 (dk_at dksX5_advance_9 0 rfl rfl)
theorem dX5_advance_214 : decode cX5_advance 214 = .ok (.aload_n 0, 1) := dk_42 (dk_at dksX5_advance_9 3 rfl rfl)
theorem dX5_advance_215 : decode cX5_advance 215 = .ok (.iload_n 1, 1) := dk_27 (dk_at dksX5_advance_9 4 rfl rfl)
theorem dX5_advance_216 : decode cX5_advance 216 = .ok (.bipush 59, 2) := dk_16 59 (dk_at dksX5_advance_9 5 rfl rfl)
theorem dX5_advance_218 : decode cX5_advance 218 = .ok (.if_icmp .ne 7, 3) := dk_160 0 7 (dk_at dksX5_advance_9 7 rfl rfl)
theorem dX5_advance_221 : decode cX5_advance 221 = .ok (.iconst 3, 1) := dk_6 (dk_at dksX5_advance_9 10 rfl rfl)
theorem dX5_advance_222 : decode cX5_advance 222 = .ok (.goto 4, 3) := dk_167 0 4 (dk_at dksX5_advance_9 11 rfl rfl)
theorem dX5_advance_225 : decode cX5_advance 225 = .ok (.iconst 4, 1) := dk_7 (dk_at dksX5_advance_9 14 rfl rfl)
theorem dX5_advance_226 : decode cX5_advance 226 = .ok (.putfield 142, 3) := dk_181 0 142 (dk_at dksX5_advance_9 15 rfl rfl)
theorem dX5_advance_229 : decode cX5_advance 229 = .ok (.aload_n 0, 1) := dk_42 (dk_at dksX5_advance_9 18 rfl rfl)
theorem dX5_advance_230 : decode cX5_advance 230 = .ok (.dup, 1) := dk_89 (dk_at dksX5_advance_9 19 rfl rfl)
theorem dX5_advance_231 : decode cX5_advance 231 = .ok (.getfield 132, 3) := dk_180 0 132 (dk_at dksX5_advance_9 20 rfl rfl)
theorem dX5_advance_234 : decode cX5_advance 234 = .ok (.iconst 1, 1) := dk_4 (dk_at dksX5_advance_9 23 rfl rfl)
theorem dX5_advance_235 : decode cX5_advance 235 = .ok (.iadd, 1) := dk_96 (dk_at dksX5_advance_10 0 rfl rfl)
theorem dX5_advance_236 : decode cX5_advance 236 = .ok (.putfield 132, 3) := dk_181 0 132 (dk_at dksX5_advance_10 1 rfl rfl)
theorem dX5_advance_239 : decode cX5_advance 239 = .ok (.return_, 1) := dk_177 (dk_at dksX5_advance_10 4 rfl rfl)
abbrev cX5_see : ByteArray := prog_17_method_22_code
def yX5_see : MethodName := ⟨RX5, "see", "(I)I"⟩
def dkwX5_see_0 : List UInt8 := [27, 42, 180, 0, 129, 162, 0, 16, 42, 180, 0, 29, 27, 51, 17, 0, 255, 126, 167, 0, 4, 2, 172]
abbrev dktX5_see_0 : List UInt8 := dkwX5_see_0 ++ []
theorem dksX5_see_0 : cX5_see.data.toList.drop 0 = dktX5_see_0 := by decide +kernel
theorem dX5_see_0 : decode cX5_see 0 = .ok (.iload_n 1, 1) := dk_27 (dk_at dksX5_see_0 0 rfl rfl)
theorem dX5_see_1 : decode cX5_see 1 = .ok (.aload_n 0, 1) := dk_42 (dk_at dksX5_see_0 1 rfl rfl)
theorem dX5_see_2 : decode cX5_see 2 = .ok (.getfield 129, 3) := dk_180 0 129 (dk_at dksX5_see_0 2 rfl rfl)
theorem dX5_see_5 : decode cX5_see 5 = .ok (.if_icmp .ge 16, 3) := dk_162 0 16 (dk_at dksX5_see_0 5 rfl rfl)
theorem dX5_see_8 : decode cX5_see 8 = .ok (.aload_n 0, 1) := dk_42 (dk_at dksX5_see_0 8 rfl rfl)
theorem dX5_see_9 : decode cX5_see 9 = .ok (.getfield 29, 3) := dk_180 0 29 (dk_at dksX5_see_0 9 rfl rfl)
theorem dX5_see_12 : decode cX5_see 12 = .ok (.iload_n 1, 1) := dk_27 (dk_at dksX5_see_0 12 rfl rfl)
theorem dX5_see_13 : decode cX5_see 13 = .ok (.baload, 1) := dk_51 (dk_at dksX5_see_0 13 rfl rfl)
theorem dX5_see_14 : decode cX5_see 14 = .ok (.sipush 255, 3) := dk_17 0 255 (dk_at dksX5_see_0 14 rfl rfl)
theorem dX5_see_17 : decode cX5_see 17 = .ok (.iand, 1) := dk_126 (dk_at dksX5_see_0 17 rfl rfl)
theorem dX5_see_18 : decode cX5_see 18 = .ok (.goto 4, 3) := dk_167 0 4 (dk_at dksX5_see_0 18 rfl rfl)
theorem dX5_see_21 : decode cX5_see 21 = .ok (.iconst (-1), 1) := dk_2 (dk_at dksX5_see_0 21 rfl rfl)
theorem dX5_see_22 : decode cX5_see 22 = .ok (.ireturn, 1) := dk_172 (dk_at dksX5_see_0 22 rfl rfl)
abbrev cX5_good : ByteArray := prog_17_method_24_code
def yX5_good : MethodName := ⟨RX5, "good", "()Z"⟩
def dkwX5_good_0 : List UInt8 := [42, 180, 0, 157, 154, 0, 7, 4, 167, 0, 4, 3, 172]
abbrev dktX5_good_0 : List UInt8 := dkwX5_good_0 ++ []
theorem dksX5_good_0 : cX5_good.data.toList.drop 0 = dktX5_good_0 := by decide +kernel
theorem dX5_good_0 : decode cX5_good 0 = .ok (.aload_n 0, 1) := dk_42 (dk_at dksX5_good_0 0 rfl rfl)
theorem dX5_good_1 : decode cX5_good 1 = .ok (.getfield 157, 3) := dk_180 0 157 (dk_at dksX5_good_0 1 rfl rfl)
theorem dX5_good_4 : decode cX5_good 4 = .ok (.ifCond .ne 7, 3) := dk_154 0 7 (dk_at dksX5_good_0 4 rfl rfl)
theorem dX5_good_7 : decode cX5_good 7 = .ok (.iconst 1, 1) := dk_4 (dk_at dksX5_good_0 7 rfl rfl)
theorem dX5_good_8 : decode cX5_good 8 = .ok (.goto 4, 3) := dk_167 0 4 (dk_at dksX5_good_0 8 rfl rfl)
theorem dX5_good_11 : decode cX5_good 11 = .ok (.iconst 0, 1) := dk_3 (dk_at dksX5_good_0 11 rfl rfl)
theorem dX5_good_12 : decode cX5_good 12 = .ok (.ireturn, 1) := dk_172 (dk_at dksX5_good_0 12 rfl rfl)
abbrev cX5_readText : ByteArray := prog_17_method_37_code
def yX5_readText : MethodName := ⟨RX5, "readText", "()V"⟩
def dkwX5_readText_2 : List UInt8 := [182, 0, 176, 42, 180, 0, 13, 7, 92, 46, 4, 96, 79, 177]
abbrev dktX5_readText_2 : List UInt8 := dkwX5_readText_2 ++ []
def dkwX5_readText_1 : List UInt8 := [153, 0, 16, 42, 180, 0, 142, 6, 159, 0, 8, 42, 4, 182, 0, 179, 42, 182, 0, 160, 153, 0, 7, 42]
abbrev dktX5_readText_1 : List UInt8 := dkwX5_readText_1 ++ dktX5_readText_2
def dkwX5_readText_0 : List UInt8 := [42, 180, 0, 13, 7, 46, 154, 0, 10, 42, 182, 0, 251, 167, 0, 7, 42, 182, 0, 254, 42, 182, 0, 160]
abbrev dktX5_readText_0 : List UInt8 := dkwX5_readText_0 ++ dktX5_readText_1
theorem dksX5_readText_0 : cX5_readText.data.toList.drop 0 = dktX5_readText_0 := by decide +kernel
theorem dksX5_readText_1 : cX5_readText.data.toList.drop 24 = dktX5_readText_1 := dk_seg dksX5_readText_0 24 rfl rfl
theorem dksX5_readText_2 : cX5_readText.data.toList.drop 48 = dktX5_readText_2 := dk_seg dksX5_readText_1 24 rfl rfl
theorem dX5_readText_0 : decode cX5_readText 0 = .ok (.aload_n 0, 1) := dk_42 (dk_at dksX5_readText_0 0 rfl rfl)
theorem dX5_readText_1 : decode cX5_readText 1 = .ok (.getfield 13, 3) := dk_180 0 13 (dk_at dksX5_readText_0 1 rfl rfl)
theorem dX5_readText_4 : decode cX5_readText 4 = .ok (.iconst 4, 1) := dk_7 (dk_at dksX5_readText_0 4 rfl rfl)
theorem dX5_readText_5 : decode cX5_readText 5 = .ok (.iaload, 1) := dk_46 (dk_at dksX5_readText_0 5 rfl rfl)
theorem dX5_readText_6 : decode cX5_readText 6 = .ok (.ifCond .ne 10, 3) := dk_154 0 10 (dk_at dksX5_readText_0 6 rfl rfl)
theorem dX5_readText_9 : decode cX5_readText 9 = .ok (.aload_n 0, 1) := dk_42 (dk_at dksX5_readText_0 9 rfl rfl)
theorem dX5_readText_10 : decode cX5_readText 10 = .ok (.invokevirtual 251, 3) := dk_182 0 251 (dk_at dksX5_readText_0 10 rfl rfl)
theorem dX5_readText_13 : decode cX5_readText 13 = .ok (.goto 7, 3) := dk_167 0 7 (dk_at dksX5_readText_0 13 rfl rfl)
theorem dX5_readText_16 : decode cX5_readText 16 = .ok (.aload_n 0, 1) := dk_42 (dk_at dksX5_readText_0 16 rfl rfl)
theorem dX5_readText_17 : decode cX5_readText 17 = .ok (.invokevirtual 254, 3) := dk_182 0 254 (dk_at dksX5_readText_0 17 rfl rfl)
theorem dX5_readText_20 : decode cX5_readText 20 = .ok (.aload_n 0, 1) := dk_42 (dk_at dksX5_readText_0 20 rfl rfl)
theorem dX5_readText_21 : decode cX5_readText 21 = .ok (.invokevirtual 160, 3) := dk_182 0 160 (dk_at dksX5_readText_0 21 rfl rfl)
theorem dX5_readText_24 : decode cX5_readText 24 = .ok (.ifCond .eq 16, 3) := dk_153 0 16 (dk_at dksX5_readText_1 0 rfl rfl)
theorem dX5_readText_27 : decode cX5_readText 27 = .ok (.aload_n 0, 1) := dk_42 (dk_at dksX5_readText_1 3 rfl rfl)
theorem dX5_readText_28 : decode cX5_readText 28 = .ok (.getfield 142, 3) := dk_180 0 142 (dk_at dksX5_readText_1 4 rfl rfl)
theorem dX5_readText_31 : decode cX5_readText 31 = .ok (.iconst 3, 1) := dk_6 (dk_at dksX5_readText_1 7 rfl rfl)
theorem dX5_readText_32 : decode cX5_readText 32 = .ok (.if_icmp .eq 8, 3) := dk_159 0 8 (dk_at dksX5_readText_1 8 rfl rfl)
theorem dX5_readText_35 : decode cX5_readText 35 = .ok (.aload_n 0, 1) := dk_42 (dk_at dksX5_readText_1 11 rfl rfl)
theorem dX5_readText_36 : decode cX5_readText 36 = .ok (.iconst 1, 1) := dk_4 (dk_at dksX5_readText_1 12 rfl rfl)
theorem dX5_readText_37 : decode cX5_readText 37 = .ok (.invokevirtual 179, 3) := dk_182 0 179 (dk_at dksX5_readText_1 13 rfl rfl)
theorem dX5_readText_40 : decode cX5_readText 40 = .ok (.aload_n 0, 1) := dk_42 (dk_at dksX5_readText_1 16 rfl rfl)
theorem dX5_readText_41 : decode cX5_readText 41 = .ok (.invokevirtual 160, 3) := dk_182 0 160 (dk_at dksX5_readText_1 17 rfl rfl)
theorem dX5_readText_44 : decode cX5_readText 44 = .ok (.ifCond .eq 7, 3) := dk_153 0 7 (dk_at dksX5_readText_1 20 rfl rfl)
theorem dX5_readText_47 : decode cX5_readText 47 = .ok (.aload_n 0, 1) := dk_42 (dk_at dksX5_readText_1 23 rfl rfl)
theorem dX5_readText_48 : decode cX5_readText 48 = .ok (.invokevirtual 176, 3) := dk_182 0 176 (dk_at dksX5_readText_2 0 rfl rfl)
theorem dX5_readText_51 : decode cX5_readText 51 = .ok (.aload_n 0, 1) := dk_42 (dk_at dksX5_readText_2 3 rfl rfl)
theorem dX5_readText_52 : decode cX5_readText 52 = .ok (.getfield 13, 3) := dk_180 0 13 (dk_at dksX5_readText_2 4 rfl rfl)
theorem dX5_readText_55 : decode cX5_readText 55 = .ok (.iconst 4, 1) := dk_7 (dk_at dksX5_readText_2 7 rfl rfl)
theorem dX5_readText_56 : decode cX5_readText 56 = .ok (.dup2, 1) := dk_92 (dk_at dksX5_readText_2 8 rfl rfl)
theorem dX5_readText_57 : decode cX5_readText 57 = .ok (.iaload, 1) := dk_46 (dk_at dksX5_readText_2 9 rfl rfl)
theorem dX5_readText_58 : decode cX5_readText 58 = .ok (.iconst 1, 1) := dk_4 (dk_at dksX5_readText_2 10 rfl rfl)
theorem dX5_readText_59 : decode cX5_readText 59 = .ok (.iadd, 1) := dk_96 (dk_at dksX5_readText_2 11 rfl rfl)
theorem dX5_readText_60 : decode cX5_readText 60 = .ok (.iastore, 1) := dk_79 (dk_at dksX5_readText_2 12 rfl rfl)
theorem dX5_readText_61 : decode cX5_readText 61 = .ok (.return_, 1) := dk_177 (dk_at dksX5_readText_2 13 rfl rfl)
abbrev cX5_readFirst : ByteArray := prog_17_method_31_code
def yX5_readFirst : MethodName := ⟨RX5, "readFirst", "()V"⟩
def dkwX5_readFirst_8 : List UInt8 := [162, 0, 21, 42, 180, 0, 13, 16, 24, 28, 96, 17, 3, 231, 79, 132, 2, 1, 167, 255, 236, 177]
abbrev dktX5_readFirst_8 : List UInt8 := dkwX5_readFirst_8 ++ []
def dkwX5_readFirst_7 : List UInt8 := [162, 0, 19, 42, 180, 0, 13, 16, 28, 28, 96, 27, 79, 132, 2, 1, 167, 255, 235, 3, 61, 28, 7]
abbrev dktX5_readFirst_7 : List UInt8 := dkwX5_readFirst_7 ++ dktX5_readFirst_8
def dkwX5_readFirst_6 : List UInt8 := [42, 180, 0, 13, 3, 46, 42, 180, 0, 13, 4, 46, 182, 0, 113, 3, 61, 28, 42, 180, 0, 102]
abbrev dktX5_readFirst_6 : List UInt8 := dkwX5_readFirst_6 ++ dktX5_readFirst_7
def dkwX5_readFirst_5 : List UInt8 := [180, 0, 13, 6, 42, 18, 206, 4, 17, 3, 231, 182, 0, 194, 79, 42, 182, 0, 160, 154, 0, 4, 177, 42]
abbrev dktX5_readFirst_5 : List UInt8 := dkwX5_readFirst_5 ++ dktX5_readFirst_6
def dkwX5_readFirst_4 : List UInt8 := [3, 7, 182, 0, 194, 60, 42, 180, 0, 13, 5, 42, 18, 204, 3, 17, 3, 231, 182, 0, 194, 79, 42]
abbrev dktX5_readFirst_4 : List UInt8 := dkwX5_readFirst_4 ++ dktX5_readFirst_5
def dkwX5_readFirst_3 : List UInt8 := [164, 0, 8, 42, 5, 182, 0, 179, 42, 180, 0, 13, 4, 42, 4, 16, 9, 182, 0, 187, 79, 42, 18, 202]
abbrev dktX5_readFirst_3 : List UInt8 := dkwX5_readFirst_3 ++ dktX5_readFirst_4
def dkwX5_readFirst_2 : List UInt8 := [20, 0, 200, 184, 0, 87, 153, 0, 24, 42, 180, 0, 13, 3, 46, 42, 180, 0, 153, 104, 16, 9]
abbrev dktX5_readFirst_2 : List UInt8 := dkwX5_readFirst_2 ++ dktX5_readFirst_3
def dkwX5_readFirst_1 : List UInt8 := [182, 0, 183, 42, 182, 0, 160, 153, 0, 47, 42, 180, 0, 142, 5, 160, 0, 39, 42, 180, 0, 153, 133, 10]
abbrev dktX5_readFirst_1 : List UInt8 := dkwX5_readFirst_1 ++ dktX5_readFirst_2
def dkwX5_readFirst_0 : List UInt8 := [42, 18, 190, 182, 0, 183, 42, 180, 0, 13, 3, 42, 18, 192, 4, 16, 9, 182, 0, 194, 79, 42, 18, 198]
abbrev dktX5_readFirst_0 : List UInt8 := dkwX5_readFirst_0 ++ dktX5_readFirst_1
theorem dksX5_readFirst_0 : cX5_readFirst.data.toList.drop 0 = dktX5_readFirst_0 := by decide +kernel
theorem dksX5_readFirst_1 : cX5_readFirst.data.toList.drop 24 = dktX5_readFirst_1 := dk_seg dksX5_readFirst_0 24 rfl rfl
theorem dksX5_readFirst_2 : cX5_readFirst.data.toList.drop 48 = dktX5_readFirst_2 := dk_seg dksX5_readFirst_1 24 rfl rfl
theorem dksX5_readFirst_3 : cX5_readFirst.data.toList.drop 70 = dktX5_readFirst_3 := dk_seg dksX5_readFirst_2 22 rfl rfl
theorem dksX5_readFirst_4 : cX5_readFirst.data.toList.drop 94 = dktX5_readFirst_4 := dk_seg dksX5_readFirst_3 24 rfl rfl
theorem dksX5_readFirst_5 : cX5_readFirst.data.toList.drop 117 = dktX5_readFirst_5 := dk_seg dksX5_readFirst_4 23 rfl rfl
theorem dksX5_readFirst_6 : cX5_readFirst.data.toList.drop 141 = dktX5_readFirst_6 := dk_seg dksX5_readFirst_5 24 rfl rfl
theorem dksX5_readFirst_7 : cX5_readFirst.data.toList.drop 163 = dktX5_readFirst_7 := dk_seg dksX5_readFirst_6 22 rfl rfl
theorem dksX5_readFirst_8 : cX5_readFirst.data.toList.drop 186 = dktX5_readFirst_8 := dk_seg dksX5_readFirst_7 23 rfl rfl
theorem dX5_readFirst_0 : decode cX5_readFirst 0 = .ok (.aload_n 0, 1) := dk_42 (dk_at dksX5_readFirst_0 0 rfl rfl)
theorem dX5_readFirst_1 : decode cX5_readFirst 1 = .ok (.ldc 190, 2) := dk_18 190 (dk_at dksX5_readFirst_0 1 rfl rfl)
theorem dX5_readFirst_3 : decode cX5_readFirst 3 = .ok (.invokevirtual 183, 3) := dk_182 0 183 (dk_at dksX5_readFirst_0 3 rfl rfl)
theorem dX5_readFirst_6 : decode cX5_readFirst 6 = .ok (.aload_n 0, 1) := dk_42 (dk_at dksX5_readFirst_0 6 rfl rfl)
theorem dX5_readFirst_7 : decode cX5_readFirst 7 = .ok (.getfield 13, 3) := dk_180 0 13 (dk_at dksX5_readFirst_0 7 rfl rfl)
theorem dX5_readFirst_10 : decode cX5_readFirst 10 = .ok (.iconst 0, 1) := dk_3 (dk_at dksX5_readFirst_0 10 rfl rfl)
theorem dX5_readFirst_11 : decode cX5_readFirst 11 = .ok (.aload_n 0, 1) := dk_42 (dk_at dksX5_readFirst_0 11 rfl rfl)
theorem dX5_readFirst_12 : decode cX5_readFirst 12 = .ok (.ldc 192, 2) := dk_18 192 (dk_at dksX5_readFirst_0 12 rfl rfl)
theorem dX5_readFirst_14 : decode cX5_readFirst 14 = .ok (.iconst 1, 1) := dk_4 (dk_at dksX5_readFirst_0 14 rfl rfl)
theorem dX5_readFirst_15 : decode cX5_readFirst 15 = .ok (.bipush 9, 2) := dk_16 9 (dk_at dksX5_readFirst_0 15 rfl rfl)
theorem dX5_readFirst_17 : decode cX5_readFirst 17 = .ok (.invokevirtual 194, 3) := dk_182 0 194 (dk_at dksX5_readFirst_0 17 rfl rfl)
theorem dX5_readFirst_20 : decode cX5_readFirst 20 = .ok (.iastore, 1) := dk_79 (dk_at dksX5_readFirst_0 20 rfl rfl)
theorem dX5_readFirst_21 : decode cX5_readFirst 21 = .ok (.aload_n 0, 1) := dk_42 (dk_at dksX5_readFirst_0 21 rfl rfl)
theorem dX5_readFirst_22 : decode cX5_readFirst 22 = .ok (.ldc 198, 2) := dk_18 198 (dk_at dksX5_readFirst_0 22 rfl rfl)
theorem dX5_readFirst_24 : decode cX5_readFirst 24 = .ok (.invokevirtual 183, 3) := dk_182 0 183 (dk_at dksX5_readFirst_1 0 rfl rfl)
theorem dX5_readFirst_27 : decode cX5_readFirst 27 = .ok (.aload_n 0, 1) := dk_42 (dk_at dksX5_readFirst_1 3 rfl rfl)
theorem dX5_readFirst_28 : decode cX5_readFirst 28 = .ok (.invokevirtual 160, 3) := dk_182 0 160 (dk_at dksX5_readFirst_1 4 rfl rfl)
theorem dX5_readFirst_31 : decode cX5_readFirst 31 = .ok (.ifCond .eq 47, 3) := dk_153 0 47 (dk_at dksX5_readFirst_1 7 rfl rfl)
theorem dX5_readFirst_34 : decode cX5_readFirst 34 = .ok (.aload_n 0, 1) := dk_42 (dk_at dksX5_readFirst_1 10 rfl rfl)
theorem dX5_readFirst_35 : decode cX5_readFirst 35 = .ok (.getfield 142, 3) := dk_180 0 142 (dk_at dksX5_readFirst_1 11 rfl rfl)
theorem dX5_readFirst_38 : decode cX5_readFirst 38 = .ok (.iconst 2, 1) := dk_5 (dk_at dksX5_readFirst_1 14 rfl rfl)
theorem dX5_readFirst_39 : decode cX5_readFirst 39 = .ok (.if_icmp .ne 39, 3) := dk_160 0 39 (dk_at dksX5_readFirst_1 15 rfl rfl)
theorem dX5_readFirst_42 : decode cX5_readFirst 42 = .ok (.aload_n 0, 1) := dk_42 (dk_at dksX5_readFirst_1 18 rfl rfl)
theorem dX5_readFirst_43 : decode cX5_readFirst 43 = .ok (.getfield 153, 3) := dk_180 0 153 (dk_at dksX5_readFirst_1 19 rfl rfl)
theorem dX5_readFirst_46 : decode cX5_readFirst 46 = .ok (.i2l, 1) := dk_133 (dk_at dksX5_readFirst_1 22 rfl rfl)
theorem dX5_readFirst_47 : decode cX5_readFirst 47 = .ok (.lconst 1, 1) := dk_10 (dk_at dksX5_readFirst_1 23 rfl rfl)
theorem dX5_readFirst_48 : decode cX5_readFirst 48 = .ok (.ldc2_w 200, 3) := dk_20 0 200 (dk_at dksX5_readFirst_2 0 rfl rfl)
theorem dX5_readFirst_51 : decode cX5_readFirst 51 = .ok (.invokestatic 87, 3) := dk_184 0 87 (dk_at dksX5_readFirst_2 3 rfl rfl)
theorem dX5_readFirst_54 : decode cX5_readFirst 54 = .ok (.ifCond .eq 24, 3) := dk_153 0 24 (dk_at dksX5_readFirst_2 6 rfl rfl)
theorem dX5_readFirst_57 : decode cX5_readFirst 57 = .ok (.aload_n 0, 1) := dk_42 (dk_at dksX5_readFirst_2 9 rfl rfl)
theorem dX5_readFirst_58 : decode cX5_readFirst 58 = .ok (.getfield 13, 3) := dk_180 0 13 (dk_at dksX5_readFirst_2 10 rfl rfl)
theorem dX5_readFirst_61 : decode cX5_readFirst 61 = .ok (.iconst 0, 1) := dk_3 (dk_at dksX5_readFirst_2 13 rfl rfl)
theorem dX5_readFirst_62 : decode cX5_readFirst 62 = .ok (.iaload, 1) := dk_46 (dk_at dksX5_readFirst_2 14 rfl rfl)
theorem dX5_readFirst_63 : decode cX5_readFirst 63 = .ok (.aload_n 0, 1) := dk_42 (dk_at dksX5_readFirst_2 15 rfl rfl)
theorem dX5_readFirst_64 : decode cX5_readFirst 64 = .ok (.getfield 153, 3) := dk_180 0 153 (dk_at dksX5_readFirst_2 16 rfl rfl)
theorem dX5_readFirst_67 : decode cX5_readFirst 67 = .ok (.imul, 1) := dk_104 (dk_at dksX5_readFirst_2 19 rfl rfl)
theorem dX5_readFirst_68 : decode cX5_readFirst 68 = .ok (.bipush 9, 2) := dk_16 9 (dk_at dksX5_readFirst_2 20 rfl rfl)
theorem dX5_readFirst_70 : decode cX5_readFirst 70 = .ok (.if_icmp .le 8, 3) := dk_164 0 8 (dk_at dksX5_readFirst_3 0 rfl rfl)
theorem dX5_readFirst_73 : decode cX5_readFirst 73 = .ok (.aload_n 0, 1) := dk_42 (dk_at dksX5_readFirst_3 3 rfl rfl)
theorem dX5_readFirst_74 : decode cX5_readFirst 74 = .ok (.iconst 2, 1) := dk_5 (dk_at dksX5_readFirst_3 4 rfl rfl)
theorem dX5_readFirst_75 : decode cX5_readFirst 75 = .ok (.invokevirtual 179, 3) := dk_182 0 179 (dk_at dksX5_readFirst_3 5 rfl rfl)
theorem dX5_readFirst_78 : decode cX5_readFirst 78 = .ok (.aload_n 0, 1) := dk_42 (dk_at dksX5_readFirst_3 8 rfl rfl)
theorem dX5_readFirst_79 : decode cX5_readFirst 79 = .ok (.getfield 13, 3) := dk_180 0 13 (dk_at dksX5_readFirst_3 9 rfl rfl)
theorem dX5_readFirst_82 : decode cX5_readFirst 82 = .ok (.iconst 1, 1) := dk_4 (dk_at dksX5_readFirst_3 12 rfl rfl)
theorem dX5_readFirst_83 : decode cX5_readFirst 83 = .ok (.aload_n 0, 1) := dk_42 (dk_at dksX5_readFirst_3 13 rfl rfl)
theorem dX5_readFirst_84 : decode cX5_readFirst 84 = .ok (.iconst 1, 1) := dk_4 (dk_at dksX5_readFirst_3 14 rfl rfl)
theorem dX5_readFirst_85 : decode cX5_readFirst 85 = .ok (.bipush 9, 2) := dk_16 9 (dk_at dksX5_readFirst_3 15 rfl rfl)
theorem dX5_readFirst_87 : decode cX5_readFirst 87 = .ok (.invokevirtual 187, 3) := dk_182 0 187 (dk_at dksX5_readFirst_3 17 rfl rfl)
theorem dX5_readFirst_90 : decode cX5_readFirst 90 = .ok (.iastore, 1) := dk_79 (dk_at dksX5_readFirst_3 20 rfl rfl)
theorem dX5_readFirst_91 : decode cX5_readFirst 91 = .ok (.aload_n 0, 1) := dk_42 (dk_at dksX5_readFirst_3 21 rfl rfl)
theorem dX5_readFirst_92 : decode cX5_readFirst 92 = .ok (.ldc 202, 2) := dk_18 202 (dk_at dksX5_readFirst_3 22 rfl rfl)
theorem dX5_readFirst_94 : decode cX5_readFirst 94 = .ok (.iconst 0, 1) := dk_3 (dk_at dksX5_readFirst_4 0 rfl rfl)
theorem dX5_readFirst_95 : decode cX5_readFirst 95 = .ok (.iconst 4, 1) := dk_7 (dk_at dksX5_readFirst_4 1 rfl rfl)
theorem dX5_readFirst_96 : decode cX5_readFirst 96 = .ok (.invokevirtual 194, 3) := dk_182 0 194 (dk_at dksX5_readFirst_4 2 rfl rfl)
theorem dX5_readFirst_99 : decode cX5_readFirst 99 = .ok (.istore_n 1, 1) := dk_60 (dk_at dksX5_readFirst_4 5 rfl rfl)
theorem dX5_readFirst_100 : decode cX5_readFirst 100 = .ok (.aload_n 0, 1) := dk_42 (dk_at dksX5_readFirst_4 6 rfl rfl)
theorem dX5_readFirst_101 : decode cX5_readFirst 101 = .ok (.getfield 13, 3) := dk_180 0 13 (dk_at dksX5_readFirst_4 7 rfl rfl)
theorem dX5_readFirst_104 : decode cX5_readFirst 104 = .ok (.iconst 2, 1) := dk_5 (dk_at dksX5_readFirst_4 10 rfl rfl)
theorem dX5_readFirst_105 : decode cX5_readFirst 105 = .ok (.aload_n 0, 1) := dk_42 (dk_at dksX5_readFirst_4 11 rfl rfl)
theorem dX5_readFirst_106 : decode cX5_readFirst 106 = .ok (.ldc 204, 2) := dk_18 204 (dk_at dksX5_readFirst_4 12 rfl rfl)
theorem dX5_readFirst_108 : decode cX5_readFirst 108 = .ok (.iconst 0, 1) := dk_3 (dk_at dksX5_readFirst_4 14 rfl rfl)
theorem dX5_readFirst_109 : decode cX5_readFirst 109 = .ok (.sipush 999, 3) := dk_17 3 231 (dk_at dksX5_readFirst_4 15 rfl rfl)
theorem dX5_readFirst_112 : decode cX5_readFirst 112 = .ok (.invokevirtual 194, 3) := dk_182 0 194 (dk_at dksX5_readFirst_4 18 rfl rfl)
theorem dX5_readFirst_115 : decode cX5_readFirst 115 = .ok (.iastore, 1) := dk_79 (dk_at dksX5_readFirst_4 21 rfl rfl)
theorem dX5_readFirst_116 : decode cX5_readFirst 116 = .ok (.aload_n 0, 1) := dk_42 (dk_at dksX5_readFirst_4 22 rfl rfl)
theorem dX5_readFirst_117 : decode cX5_readFirst 117 = .ok (.getfield 13, 3) := dk_180 0 13 (dk_at dksX5_readFirst_5 0 rfl rfl)
theorem dX5_readFirst_120 : decode cX5_readFirst 120 = .ok (.iconst 3, 1) := dk_6 (dk_at dksX5_readFirst_5 3 rfl rfl)
theorem dX5_readFirst_121 : decode cX5_readFirst 121 = .ok (.aload_n 0, 1) := dk_42 (dk_at dksX5_readFirst_5 4 rfl rfl)
theorem dX5_readFirst_122 : decode cX5_readFirst 122 = .ok (.ldc 206, 2) := dk_18 206 (dk_at dksX5_readFirst_5 5 rfl rfl)
theorem dX5_readFirst_124 : decode cX5_readFirst 124 = .ok (.iconst 1, 1) := dk_4 (dk_at dksX5_readFirst_5 7 rfl rfl)
theorem dX5_readFirst_125 : decode cX5_readFirst 125 = .ok (.sipush 999, 3) := dk_17 3 231 (dk_at dksX5_readFirst_5 8 rfl rfl)
theorem dX5_readFirst_128 : decode cX5_readFirst 128 = .ok (.invokevirtual 194, 3) := dk_182 0 194 (dk_at dksX5_readFirst_5 11 rfl rfl)
theorem dX5_readFirst_131 : decode cX5_readFirst 131 = .ok (.iastore, 1) := dk_79 (dk_at dksX5_readFirst_5 14 rfl rfl)
theorem dX5_readFirst_132 : decode cX5_readFirst 132 = .ok (.aload_n 0, 1) := dk_42 (dk_at dksX5_readFirst_5 15 rfl rfl)
theorem dX5_readFirst_133 : decode cX5_readFirst 133 = .ok (.invokevirtual 160, 3) := dk_182 0 160 (dk_at dksX5_readFirst_5 16 rfl rfl)
theorem dX5_readFirst_136 : decode cX5_readFirst 136 = .ok (.ifCond .ne 4, 3) := dk_154 0 4 (dk_at dksX5_readFirst_5 19 rfl rfl)
theorem dX5_readFirst_139 : decode cX5_readFirst 139 = .ok (.return_, 1) := dk_177 (dk_at dksX5_readFirst_5 22 rfl rfl)
theorem dX5_readFirst_140 : decode cX5_readFirst 140 = .ok (.aload_n 0, 1) := dk_42 (dk_at dksX5_readFirst_5 23 rfl rfl)
theorem dX5_readFirst_141 : decode cX5_readFirst 141 = .ok (.aload_n 0, 1) := dk_42 (dk_at dksX5_readFirst_6 0 rfl rfl)
theorem dX5_readFirst_142 : decode cX5_readFirst 142 = .ok (.getfield 13, 3) := dk_180 0 13 (dk_at dksX5_readFirst_6 1 rfl rfl)
theorem dX5_readFirst_145 : decode cX5_readFirst 145 = .ok (.iconst 0, 1) := dk_3 (dk_at dksX5_readFirst_6 4 rfl rfl)
theorem dX5_readFirst_146 : decode cX5_readFirst 146 = .ok (.iaload, 1) := dk_46 (dk_at dksX5_readFirst_6 5 rfl rfl)
theorem dX5_readFirst_147 : decode cX5_readFirst 147 = .ok (.aload_n 0, 1) := dk_42 (dk_at dksX5_readFirst_6 6 rfl rfl)
theorem dX5_readFirst_148 : decode cX5_readFirst 148 = .ok (.getfield 13, 3) := dk_180 0 13 (dk_at dksX5_readFirst_6 7 rfl rfl)
theorem dX5_readFirst_151 : decode cX5_readFirst 151 = .ok (.iconst 1, 1) := dk_4 (dk_at dksX5_readFirst_6 10 rfl rfl)
theorem dX5_readFirst_152 : decode cX5_readFirst 152 = .ok (.iaload, 1) := dk_46 (dk_at dksX5_readFirst_6 11 rfl rfl)
theorem dX5_readFirst_153 : decode cX5_readFirst 153 = .ok (.invokevirtual 113, 3) := dk_182 0 113 (dk_at dksX5_readFirst_6 12 rfl rfl)
theorem dX5_readFirst_156 : decode cX5_readFirst 156 = .ok (.iconst 0, 1) := dk_3 (dk_at dksX5_readFirst_6 15 rfl rfl)
theorem dX5_readFirst_157 : decode cX5_readFirst 157 = .ok (.istore_n 2, 1) := dk_61 (dk_at dksX5_readFirst_6 16 rfl rfl)
theorem dX5_readFirst_158 : decode cX5_readFirst 158 = .ok (.iload_n 2, 1) := dk_28 (dk_at dksX5_readFirst_6 17 rfl rfl)
theorem dX5_readFirst_159 : decode cX5_readFirst 159 = .ok (.aload_n 0, 1) := dk_42 (dk_at dksX5_readFirst_6 18 rfl rfl)
theorem dX5_readFirst_160 : decode cX5_readFirst 160 = .ok (.getfield 102, 3) := dk_180 0 102 (dk_at dksX5_readFirst_6 19 rfl rfl)
theorem dX5_readFirst_163 : decode cX5_readFirst 163 = .ok (.if_icmp .ge 19, 3) := dk_162 0 19 (dk_at dksX5_readFirst_7 0 rfl rfl)
theorem dX5_readFirst_166 : decode cX5_readFirst 166 = .ok (.aload_n 0, 1) := dk_42 (dk_at dksX5_readFirst_7 3 rfl rfl)
theorem dX5_readFirst_167 : decode cX5_readFirst 167 = .ok (.getfield 13, 3) := dk_180 0 13 (dk_at dksX5_readFirst_7 4 rfl rfl)
theorem dX5_readFirst_170 : decode cX5_readFirst 170 = .ok (.bipush 28, 2) := dk_16 28 (dk_at dksX5_readFirst_7 7 rfl rfl)
theorem dX5_readFirst_172 : decode cX5_readFirst 172 = .ok (.iload_n 2, 1) := dk_28 (dk_at dksX5_readFirst_7 9 rfl rfl)
theorem dX5_readFirst_173 : decode cX5_readFirst 173 = .ok (.iadd, 1) := dk_96 (dk_at dksX5_readFirst_7 10 rfl rfl)
theorem dX5_readFirst_174 : decode cX5_readFirst 174 = .ok (.iload_n 1, 1) := dk_27 (dk_at dksX5_readFirst_7 11 rfl rfl)
theorem dX5_readFirst_175 : decode cX5_readFirst 175 = .ok (.iastore, 1) := dk_79 (dk_at dksX5_readFirst_7 12 rfl rfl)
theorem dX5_readFirst_176 : decode cX5_readFirst 176 = .ok (.iinc 2 1, 3) := dk_132 2 1 (dk_at dksX5_readFirst_7 13 rfl rfl)
theorem dX5_readFirst_179 : decode cX5_readFirst 179 = .ok (.goto (-21), 3) := dk_167 255 235 (dk_at dksX5_readFirst_7 16 rfl rfl)
theorem dX5_readFirst_182 : decode cX5_readFirst 182 = .ok (.iconst 0, 1) := dk_3 (dk_at dksX5_readFirst_7 19 rfl rfl)
theorem dX5_readFirst_183 : decode cX5_readFirst 183 = .ok (.istore_n 2, 1) := dk_61 (dk_at dksX5_readFirst_7 20 rfl rfl)
theorem dX5_readFirst_184 : decode cX5_readFirst 184 = .ok (.iload_n 2, 1) := dk_28 (dk_at dksX5_readFirst_7 21 rfl rfl)
theorem dX5_readFirst_185 : decode cX5_readFirst 185 = .ok (.iconst 4, 1) := dk_7 (dk_at dksX5_readFirst_7 22 rfl rfl)
theorem dX5_readFirst_186 : decode cX5_readFirst 186 = .ok (.if_icmp .ge 21, 3) := dk_162 0 21 (dk_at dksX5_readFirst_8 0 rfl rfl)
theorem dX5_readFirst_189 : decode cX5_readFirst 189 = .ok (.aload_n 0, 1) := dk_42 (dk_at dksX5_readFirst_8 3 rfl rfl)
theorem dX5_readFirst_190 : decode cX5_readFirst 190 = .ok (.getfield 13, 3) := dk_180 0 13 (dk_at dksX5_readFirst_8 4 rfl rfl)
theorem dX5_readFirst_193 : decode cX5_readFirst 193 = .ok (.bipush 24, 2) := dk_16 24 (dk_at dksX5_readFirst_8 7 rfl rfl)
theorem dX5_readFirst_195 : decode cX5_readFirst 195 = .ok (.iload_n 2, 1) := dk_28 (dk_at dksX5_readFirst_8 9 rfl rfl)
theorem dX5_readFirst_196 : decode cX5_readFirst 196 = .ok (.iadd, 1) := dk_96 (dk_at dksX5_readFirst_8 10 rfl rfl)
theorem dX5_readFirst_197 : decode cX5_readFirst 197 = .ok (.sipush 999, 3) := dk_17 3 231 (dk_at dksX5_readFirst_8 11 rfl rfl)
theorem dX5_readFirst_200 : decode cX5_readFirst 200 = .ok (.iastore, 1) := dk_79 (dk_at dksX5_readFirst_8 14 rfl rfl)
theorem dX5_readFirst_201 : decode cX5_readFirst 201 = .ok (.iinc 2 1, 3) := dk_132 2 1 (dk_at dksX5_readFirst_8 15 rfl rfl)
theorem dX5_readFirst_204 : decode cX5_readFirst 204 = .ok (.goto (-20), 3) := dk_167 255 236 (dk_at dksX5_readFirst_8 18 rfl rfl)
theorem dX5_readFirst_207 : decode cX5_readFirst 207 = .ok (.return_, 1) := dk_177 (dk_at dksX5_readFirst_8 21 rfl rfl)
abbrev cX5_expects : ByteArray := prog_17_method_27_code
def yX5_expects : MethodName := ⟨RX5, "expects", "(Ljava/lang/String;)V"⟩
def dkwX5_expects_0 : List UInt8 := [42, 43, 182, 0, 172, 153, 0, 10, 42, 182, 0, 176, 167, 0, 8, 42, 4, 182, 0, 179, 177]
abbrev dktX5_expects_0 : List UInt8 := dkwX5_expects_0 ++ []
theorem dksX5_expects_0 : cX5_expects.data.toList.drop 0 = dktX5_expects_0 := by decide +kernel
theorem dX5_expects_0 : decode cX5_expects 0 = .ok (.aload_n 0, 1) := dk_42 (dk_at dksX5_expects_0 0 rfl rfl)
theorem dX5_expects_1 : decode cX5_expects 1 = .ok (.aload_n 1, 1) := dk_43 (dk_at dksX5_expects_0 1 rfl rfl)
theorem dX5_expects_2 : decode cX5_expects 2 = .ok (.invokevirtual 172, 3) := dk_182 0 172 (dk_at dksX5_expects_0 2 rfl rfl)
theorem dX5_expects_5 : decode cX5_expects 5 = .ok (.ifCond .eq 10, 3) := dk_153 0 10 (dk_at dksX5_expects_0 5 rfl rfl)
theorem dX5_expects_8 : decode cX5_expects 8 = .ok (.aload_n 0, 1) := dk_42 (dk_at dksX5_expects_0 8 rfl rfl)
theorem dX5_expects_9 : decode cX5_expects 9 = .ok (.invokevirtual 176, 3) := dk_182 0 176 (dk_at dksX5_expects_0 9 rfl rfl)
theorem dX5_expects_12 : decode cX5_expects 12 = .ok (.goto 8, 3) := dk_167 0 8 (dk_at dksX5_expects_0 12 rfl rfl)
theorem dX5_expects_15 : decode cX5_expects 15 = .ok (.aload_n 0, 1) := dk_42 (dk_at dksX5_expects_0 15 rfl rfl)
theorem dX5_expects_16 : decode cX5_expects 16 = .ok (.iconst 1, 1) := dk_4 (dk_at dksX5_expects_0 16 rfl rfl)
theorem dX5_expects_17 : decode cX5_expects 17 = .ok (.invokevirtual 179, 3) := dk_182 0 179 (dk_at dksX5_expects_0 17 rfl rfl)
theorem dX5_expects_20 : decode cX5_expects 20 = .ok (.return_, 1) := dk_177 (dk_at dksX5_expects_0 20 rfl rfl)
abbrev cX5_is : ByteArray := prog_17_method_26_code
def yX5_is : MethodName := ⟨RX5, "is", "(Ljava/lang/String;)Z"⟩
def dkwX5_is_3 : List UInt8 := [167, 0, 4, 3, 61, 132, 3, 1, 167, 255, 216, 28, 172]
abbrev dktX5_is_3 : List UInt8 := dkwX5_is_3 ++ []
def dkwX5_is_2 : List UInt8 := [153, 0, 34, 42, 180, 0, 29, 42, 180, 0, 139, 29, 96, 51, 43, 29, 182, 0, 168, 160, 0, 7, 4]
abbrev dktX5_is_2 : List UInt8 := dkwX5_is_2 ++ dktX5_is_3
def dkwX5_is_1 : List UInt8 := [43, 182, 0, 163, 160, 0, 7, 4, 167, 0, 4, 3, 61, 3, 62, 29, 43, 182, 0, 163, 162, 0, 38, 28]
abbrev dktX5_is_1 : List UInt8 := dkwX5_is_1 ++ dktX5_is_2
def dkwX5_is_0 : List UInt8 := [42, 182, 0, 160, 153, 0, 31, 42, 180, 0, 142, 4, 160, 0, 23, 42, 180, 0, 132, 42, 180, 0, 139, 100]
abbrev dktX5_is_0 : List UInt8 := dkwX5_is_0 ++ dktX5_is_1
theorem dksX5_is_0 : cX5_is.data.toList.drop 0 = dktX5_is_0 := by decide +kernel
theorem dksX5_is_1 : cX5_is.data.toList.drop 24 = dktX5_is_1 := dk_seg dksX5_is_0 24 rfl rfl
theorem dksX5_is_2 : cX5_is.data.toList.drop 48 = dktX5_is_2 := dk_seg dksX5_is_1 24 rfl rfl
theorem dksX5_is_3 : cX5_is.data.toList.drop 71 = dktX5_is_3 := dk_seg dksX5_is_2 23 rfl rfl
theorem dX5_is_0 : decode cX5_is 0 = .ok (.aload_n 0, 1) := dk_42 (dk_at dksX5_is_0 0 rfl rfl)
theorem dX5_is_1 : decode cX5_is 1 = .ok (.invokevirtual 160, 3) := dk_182 0 160 (dk_at dksX5_is_0 1 rfl rfl)
theorem dX5_is_4 : decode cX5_is 4 = .ok (.ifCond .eq 31, 3) := dk_153 0 31 (dk_at dksX5_is_0 4 rfl rfl)
theorem dX5_is_7 : decode cX5_is 7 = .ok (.aload_n 0, 1) := dk_42 (dk_at dksX5_is_0 7 rfl rfl)
theorem dX5_is_8 : decode cX5_is 8 = .ok (.getfield 142, 3) := dk_180 0 142 (dk_at dksX5_is_0 8 rfl rfl)
theorem dX5_is_11 : decode cX5_is 11 = .ok (.iconst 1, 1) := dk_4 (dk_at dksX5_is_0 11 rfl rfl)
theorem dX5_is_12 : decode cX5_is 12 = .ok (.if_icmp .ne 23, 3) := dk_160 0 23 (dk_at dksX5_is_0 12 rfl rfl)
theorem dX5_is_15 : decode cX5_is 15 = .ok (.aload_n 0, 1) := dk_42 (dk_at dksX5_is_0 15 rfl rfl)
theorem dX5_is_16 : decode cX5_is 16 = .ok (.getfield 132, 3) := dk_180 0 132 (dk_at dksX5_is_0 16 rfl rfl)
theorem dX5_is_19 : decode cX5_is 19 = .ok (.aload_n 0, 1) := dk_42 (dk_at dksX5_is_0 19 rfl rfl)
theorem dX5_is_20 : decode cX5_is 20 = .ok (.getfield 139, 3) := dk_180 0 139 (dk_at dksX5_is_0 20 rfl rfl)
theorem dX5_is_23 : decode cX5_is 23 = .ok (.isub, 1) := dk_100 (dk_at dksX5_is_0 23 rfl rfl)
theorem dX5_is_24 : decode cX5_is 24 = .ok (.aload_n 1, 1) := dk_43 (dk_at dksX5_is_1 0 rfl rfl)
theorem dX5_is_25 : decode cX5_is 25 = .ok (.invokevirtual 163, 3) := dk_182 0 163 (dk_at dksX5_is_1 1 rfl rfl)
theorem dX5_is_28 : decode cX5_is 28 = .ok (.if_icmp .ne 7, 3) := dk_160 0 7 (dk_at dksX5_is_1 4 rfl rfl)
theorem dX5_is_31 : decode cX5_is 31 = .ok (.iconst 1, 1) := dk_4 (dk_at dksX5_is_1 7 rfl rfl)
theorem dX5_is_32 : decode cX5_is 32 = .ok (.goto 4, 3) := dk_167 0 4 (dk_at dksX5_is_1 8 rfl rfl)
theorem dX5_is_35 : decode cX5_is 35 = .ok (.iconst 0, 1) := dk_3 (dk_at dksX5_is_1 11 rfl rfl)
theorem dX5_is_36 : decode cX5_is 36 = .ok (.istore_n 2, 1) := dk_61 (dk_at dksX5_is_1 12 rfl rfl)
theorem dX5_is_37 : decode cX5_is 37 = .ok (.iconst 0, 1) := dk_3 (dk_at dksX5_is_1 13 rfl rfl)
theorem dX5_is_38 : decode cX5_is 38 = .ok (.istore_n 3, 1) := dk_62 (dk_at dksX5_is_1 14 rfl rfl)
theorem dX5_is_39 : decode cX5_is 39 = .ok (.iload_n 3, 1) := dk_29 (dk_at dksX5_is_1 15 rfl rfl)
theorem dX5_is_40 : decode cX5_is 40 = .ok (.aload_n 1, 1) := dk_43 (dk_at dksX5_is_1 16 rfl rfl)
theorem dX5_is_41 : decode cX5_is 41 = .ok (.invokevirtual 163, 3) := dk_182 0 163 (dk_at dksX5_is_1 17 rfl rfl)
theorem dX5_is_44 : decode cX5_is 44 = .ok (.if_icmp .ge 38, 3) := dk_162 0 38 (dk_at dksX5_is_1 20 rfl rfl)
theorem dX5_is_47 : decode cX5_is 47 = .ok (.iload_n 2, 1) := dk_28 (dk_at dksX5_is_1 23 rfl rfl)
theorem dX5_is_48 : decode cX5_is 48 = .ok (.ifCond .eq 34, 3) := dk_153 0 34 (dk_at dksX5_is_2 0 rfl rfl)
theorem dX5_is_51 : decode cX5_is 51 = .ok (.aload_n 0, 1) := dk_42 (dk_at dksX5_is_2 3 rfl rfl)
theorem dX5_is_52 : decode cX5_is 52 = .ok (.getfield 29, 3) := dk_180 0 29 (dk_at dksX5_is_2 4 rfl rfl)
theorem dX5_is_55 : decode cX5_is 55 = .ok (.aload_n 0, 1) := dk_42 (dk_at dksX5_is_2 7 rfl rfl)
theorem dX5_is_56 : decode cX5_is 56 = .ok (.getfield 139, 3) := dk_180 0 139 (dk_at dksX5_is_2 8 rfl rfl)
theorem dX5_is_59 : decode cX5_is 59 = .ok (.iload_n 3, 1) := dk_29 (dk_at dksX5_is_2 11 rfl rfl)
theorem dX5_is_60 : decode cX5_is 60 = .ok (.iadd, 1) := dk_96 (dk_at dksX5_is_2 12 rfl rfl)
theorem dX5_is_61 : decode cX5_is 61 = .ok (.baload, 1) := dk_51 (dk_at dksX5_is_2 13 rfl rfl)
theorem dX5_is_62 : decode cX5_is 62 = .ok (.aload_n 1, 1) := dk_43 (dk_at dksX5_is_2 14 rfl rfl)
theorem dX5_is_63 : decode cX5_is 63 = .ok (.iload_n 3, 1) := dk_29 (dk_at dksX5_is_2 15 rfl rfl)
theorem dX5_is_64 : decode cX5_is 64 = .ok (.invokevirtual 168, 3) := dk_182 0 168 (dk_at dksX5_is_2 16 rfl rfl)
theorem dX5_is_67 : decode cX5_is 67 = .ok (.if_icmp .ne 7, 3) := dk_160 0 7 (dk_at dksX5_is_2 19 rfl rfl)
theorem dX5_is_70 : decode cX5_is 70 = .ok (.iconst 1, 1) := dk_4 (dk_at dksX5_is_2 22 rfl rfl)
theorem dX5_is_71 : decode cX5_is 71 = .ok (.goto 4, 3) := dk_167 0 4 (dk_at dksX5_is_3 0 rfl rfl)
theorem dX5_is_74 : decode cX5_is 74 = .ok (.iconst 0, 1) := dk_3 (dk_at dksX5_is_3 3 rfl rfl)
theorem dX5_is_75 : decode cX5_is 75 = .ok (.istore_n 2, 1) := dk_61 (dk_at dksX5_is_3 4 rfl rfl)
theorem dX5_is_76 : decode cX5_is 76 = .ok (.iinc 3 1, 3) := dk_132 3 1 (dk_at dksX5_is_3 5 rfl rfl)
theorem dX5_is_79 : decode cX5_is 79 = .ok (.goto (-40), 3) := dk_167 255 216 (dk_at dksX5_is_3 8 rfl rfl)
theorem dX5_is_82 : decode cX5_is 82 = .ok (.iload_n 2, 1) := dk_28 (dk_at dksX5_is_3 11 rfl rfl)
theorem dX5_is_83 : decode cX5_is 83 = .ok (.ireturn, 1) := dk_172 (dk_at dksX5_is_3 12 rfl rfl)
abbrev cX5_errs : ByteArray := prog_17_method_25_code
def yX5_errs : MethodName := ⟨RX5, "errs", "(I)V"⟩
def dkwX5_errs_0 : List UInt8 := [42, 182, 0, 160, 154, 0, 4, 177, 42, 27, 181, 0, 157, 42, 42, 180, 0, 139, 181, 0, 36, 177]
abbrev dktX5_errs_0 : List UInt8 := dkwX5_errs_0 ++ []
theorem dksX5_errs_0 : cX5_errs.data.toList.drop 0 = dktX5_errs_0 := by decide +kernel
theorem dX5_errs_0 : decode cX5_errs 0 = .ok (.aload_n 0, 1) := dk_42 (dk_at dksX5_errs_0 0 rfl rfl)
theorem dX5_errs_1 : decode cX5_errs 1 = .ok (.invokevirtual 160, 3) := dk_182 0 160 (dk_at dksX5_errs_0 1 rfl rfl)
theorem dX5_errs_4 : decode cX5_errs 4 = .ok (.ifCond .ne 4, 3) := dk_154 0 4 (dk_at dksX5_errs_0 4 rfl rfl)
theorem dX5_errs_7 : decode cX5_errs 7 = .ok (.return_, 1) := dk_177 (dk_at dksX5_errs_0 7 rfl rfl)
theorem dX5_errs_8 : decode cX5_errs 8 = .ok (.aload_n 0, 1) := dk_42 (dk_at dksX5_errs_0 8 rfl rfl)
theorem dX5_errs_9 : decode cX5_errs 9 = .ok (.iload_n 1, 1) := dk_27 (dk_at dksX5_errs_0 9 rfl rfl)
theorem dX5_errs_10 : decode cX5_errs 10 = .ok (.putfield 157, 3) := dk_181 0 157 (dk_at dksX5_errs_0 10 rfl rfl)
theorem dX5_errs_13 : decode cX5_errs 13 = .ok (.aload_n 0, 1) := dk_42 (dk_at dksX5_errs_0 13 rfl rfl)
theorem dX5_errs_14 : decode cX5_errs 14 = .ok (.aload_n 0, 1) := dk_42 (dk_at dksX5_errs_0 14 rfl rfl)
theorem dX5_errs_15 : decode cX5_errs 15 = .ok (.getfield 139, 3) := dk_180 0 139 (dk_at dksX5_errs_0 15 rfl rfl)
theorem dX5_errs_18 : decode cX5_errs 18 = .ok (.putfield 36, 3) := dk_181 0 36 (dk_at dksX5_errs_0 18 rfl rfl)
theorem dX5_errs_21 : decode cX5_errs 21 = .ok (.return_, 1) := dk_177 (dk_at dksX5_errs_0 21 rfl rfl)
abbrev cX5_told : ByteArray := prog_17_method_29_code
def yX5_told : MethodName := ⟨RX5, "told", "(Ljava/lang/String;II)I"⟩
def dkwX5_told_0 : List UInt8 := [42, 43, 182, 0, 183, 42, 28, 29, 182, 0, 187, 172]
abbrev dktX5_told_0 : List UInt8 := dkwX5_told_0 ++ []
theorem dksX5_told_0 : cX5_told.data.toList.drop 0 = dktX5_told_0 := by decide +kernel
theorem dX5_told_0 : decode cX5_told 0 = .ok (.aload_n 0, 1) := dk_42 (dk_at dksX5_told_0 0 rfl rfl)
theorem dX5_told_1 : decode cX5_told 1 = .ok (.aload_n 1, 1) := dk_43 (dk_at dksX5_told_0 1 rfl rfl)
theorem dX5_told_2 : decode cX5_told 2 = .ok (.invokevirtual 183, 3) := dk_182 0 183 (dk_at dksX5_told_0 2 rfl rfl)
theorem dX5_told_5 : decode cX5_told 5 = .ok (.aload_n 0, 1) := dk_42 (dk_at dksX5_told_0 5 rfl rfl)
theorem dX5_told_6 : decode cX5_told 6 = .ok (.iload_n 2, 1) := dk_28 (dk_at dksX5_told_0 6 rfl rfl)
theorem dX5_told_7 : decode cX5_told 7 = .ok (.iload_n 3, 1) := dk_29 (dk_at dksX5_told_0 7 rfl rfl)
theorem dX5_told_8 : decode cX5_told 8 = .ok (.invokevirtual 187, 3) := dk_182 0 187 (dk_at dksX5_told_0 8 rfl rfl)
theorem dX5_told_11 : decode cX5_told 11 = .ok (.ireturn, 1) := dk_172 (dk_at dksX5_told_0 11 rfl rfl)
abbrev cX5_takes : ByteArray := prog_17_method_28_code
def yX5_takes : MethodName := ⟨RX5, "takes", "(II)I"⟩
def dkwX5_takes_2 : List UInt8 := [182, 0, 160, 154, 0, 5, 3, 172, 42, 180, 0, 153, 62, 42, 182, 0, 176, 29, 172]
abbrev dktX5_takes_2 : List UInt8 := dkwX5_takes_2 ++ []
def dkwX5_takes_1 : List UInt8 := [153, 0, 23, 42, 180, 0, 153, 133, 27, 133, 28, 133, 184, 0, 87, 154, 0, 8, 42, 5, 182, 0, 179, 42]
abbrev dktX5_takes_1 : List UInt8 := dkwX5_takes_1 ++ dktX5_takes_2
def dkwX5_takes_0 : List UInt8 := [42, 182, 0, 160, 153, 0, 16, 42, 180, 0, 142, 5, 159, 0, 8, 42, 4, 182, 0, 179, 42, 182, 0, 160]
abbrev dktX5_takes_0 : List UInt8 := dkwX5_takes_0 ++ dktX5_takes_1
theorem dksX5_takes_0 : cX5_takes.data.toList.drop 0 = dktX5_takes_0 := by decide +kernel
theorem dksX5_takes_1 : cX5_takes.data.toList.drop 24 = dktX5_takes_1 := dk_seg dksX5_takes_0 24 rfl rfl
theorem dksX5_takes_2 : cX5_takes.data.toList.drop 48 = dktX5_takes_2 := dk_seg dksX5_takes_1 24 rfl rfl
theorem dX5_takes_0 : decode cX5_takes 0 = .ok (.aload_n 0, 1) := dk_42 (dk_at dksX5_takes_0 0 rfl rfl)
theorem dX5_takes_1 : decode cX5_takes 1 = .ok (.invokevirtual 160, 3) := dk_182 0 160 (dk_at dksX5_takes_0 1 rfl rfl)
theorem dX5_takes_4 : decode cX5_takes 4 = .ok (.ifCond .eq 16, 3) := dk_153 0 16 (dk_at dksX5_takes_0 4 rfl rfl)
theorem dX5_takes_7 : decode cX5_takes 7 = .ok (.aload_n 0, 1) := dk_42 (dk_at dksX5_takes_0 7 rfl rfl)
theorem dX5_takes_8 : decode cX5_takes 8 = .ok (.getfield 142, 3) := dk_180 0 142 (dk_at dksX5_takes_0 8 rfl rfl)
theorem dX5_takes_11 : decode cX5_takes 11 = .ok (.iconst 2, 1) := dk_5 (dk_at dksX5_takes_0 11 rfl rfl)
theorem dX5_takes_12 : decode cX5_takes 12 = .ok (.if_icmp .eq 8, 3) := dk_159 0 8 (dk_at dksX5_takes_0 12 rfl rfl)
theorem dX5_takes_15 : decode cX5_takes 15 = .ok (.aload_n 0, 1) := dk_42 (dk_at dksX5_takes_0 15 rfl rfl)
theorem dX5_takes_16 : decode cX5_takes 16 = .ok (.iconst 1, 1) := dk_4 (dk_at dksX5_takes_0 16 rfl rfl)
theorem dX5_takes_17 : decode cX5_takes 17 = .ok (.invokevirtual 179, 3) := dk_182 0 179 (dk_at dksX5_takes_0 17 rfl rfl)
theorem dX5_takes_20 : decode cX5_takes 20 = .ok (.aload_n 0, 1) := dk_42 (dk_at dksX5_takes_0 20 rfl rfl)
theorem dX5_takes_21 : decode cX5_takes 21 = .ok (.invokevirtual 160, 3) := dk_182 0 160 (dk_at dksX5_takes_0 21 rfl rfl)
theorem dX5_takes_24 : decode cX5_takes 24 = .ok (.ifCond .eq 23, 3) := dk_153 0 23 (dk_at dksX5_takes_1 0 rfl rfl)
theorem dX5_takes_27 : decode cX5_takes 27 = .ok (.aload_n 0, 1) := dk_42 (dk_at dksX5_takes_1 3 rfl rfl)
theorem dX5_takes_28 : decode cX5_takes 28 = .ok (.getfield 153, 3) := dk_180 0 153 (dk_at dksX5_takes_1 4 rfl rfl)
theorem dX5_takes_31 : decode cX5_takes 31 = .ok (.i2l, 1) := dk_133 (dk_at dksX5_takes_1 7 rfl rfl)
theorem dX5_takes_32 : decode cX5_takes 32 = .ok (.iload_n 1, 1) := dk_27 (dk_at dksX5_takes_1 8 rfl rfl)
theorem dX5_takes_33 : decode cX5_takes 33 = .ok (.i2l, 1) := dk_133 (dk_at dksX5_takes_1 9 rfl rfl)
theorem dX5_takes_34 : decode cX5_takes 34 = .ok (.iload_n 2, 1) := dk_28 (dk_at dksX5_takes_1 10 rfl rfl)
theorem dX5_takes_35 : decode cX5_takes 35 = .ok (.i2l, 1) := dk_133 (dk_at dksX5_takes_1 11 rfl rfl)
theorem dX5_takes_36 : decode cX5_takes 36 = .ok (.invokestatic 87, 3) := dk_184 0 87 (dk_at dksX5_takes_1 12 rfl rfl)
theorem dX5_takes_39 : decode cX5_takes 39 = .ok (.ifCond .ne 8, 3) := dk_154 0 8 (dk_at dksX5_takes_1 15 rfl rfl)
theorem dX5_takes_42 : decode cX5_takes 42 = .ok (.aload_n 0, 1) := dk_42 (dk_at dksX5_takes_1 18 rfl rfl)
theorem dX5_takes_43 : decode cX5_takes 43 = .ok (.iconst 2, 1) := dk_5 (dk_at dksX5_takes_1 19 rfl rfl)
theorem dX5_takes_44 : decode cX5_takes 44 = .ok (.invokevirtual 179, 3) := dk_182 0 179 (dk_at dksX5_takes_1 20 rfl rfl)
theorem dX5_takes_47 : decode cX5_takes 47 = .ok (.aload_n 0, 1) := dk_42 (dk_at dksX5_takes_1 23 rfl rfl)
theorem dX5_takes_48 : decode cX5_takes 48 = .ok (.invokevirtual 160, 3) := dk_182 0 160 (dk_at dksX5_takes_2 0 rfl rfl)
theorem dX5_takes_51 : decode cX5_takes 51 = .ok (.ifCond .ne 5, 3) := dk_154 0 5 (dk_at dksX5_takes_2 3 rfl rfl)
theorem dX5_takes_54 : decode cX5_takes 54 = .ok (.iconst 0, 1) := dk_3 (dk_at dksX5_takes_2 6 rfl rfl)
theorem dX5_takes_55 : decode cX5_takes 55 = .ok (.ireturn, 1) := dk_172 (dk_at dksX5_takes_2 7 rfl rfl)
theorem dX5_takes_56 : decode cX5_takes 56 = .ok (.aload_n 0, 1) := dk_42 (dk_at dksX5_takes_2 8 rfl rfl)
theorem dX5_takes_57 : decode cX5_takes 57 = .ok (.getfield 153, 3) := dk_180 0 153 (dk_at dksX5_takes_2 9 rfl rfl)
theorem dX5_takes_60 : decode cX5_takes 60 = .ok (.istore_n 3, 1) := dk_62 (dk_at dksX5_takes_2 12 rfl rfl)
theorem dX5_takes_61 : decode cX5_takes 61 = .ok (.aload_n 0, 1) := dk_42 (dk_at dksX5_takes_2 13 rfl rfl)
theorem dX5_takes_62 : decode cX5_takes 62 = .ok (.invokevirtual 176, 3) := dk_182 0 176 (dk_at dksX5_takes_2 14 rfl rfl)
theorem dX5_takes_65 : decode cX5_takes 65 = .ok (.iload_n 3, 1) := dk_29 (dk_at dksX5_takes_2 17 rfl rfl)
theorem dX5_takes_66 : decode cX5_takes 66 = .ok (.ireturn, 1) := dk_172 (dk_at dksX5_takes_2 18 rfl rfl)
abbrev cX5_laysStraps : ByteArray := prog_17_method_16_code
def yX5_laysStraps : MethodName := ⟨RX5, "laysStraps", "(II)V"⟩
def dkwX5_laysStraps_2 : List UInt8 := [132, 3, 1, 167, 255, 212, 177]
abbrev dktX5_laysStraps_2 : List UInt8 := dkwX5_laysStraps_2 ++ []
def dkwX5_laysStraps_1 : List UInt8 := [29, 29, 4, 96, 182, 0, 105, 29, 27, 108, 28, 4, 100, 162, 0, 11, 42, 29, 29, 27, 96, 182, 0, 105]
abbrev dktX5_laysStraps_1 : List UInt8 := dkwX5_laysStraps_1 ++ dktX5_laysStraps_2
def dkwX5_laysStraps_0 : List UInt8 := [42, 3, 181, 0, 102, 3, 62, 29, 27, 28, 104, 162, 0, 43, 29, 27, 112, 27, 4, 100, 162, 0, 11, 42]
abbrev dktX5_laysStraps_0 : List UInt8 := dkwX5_laysStraps_0 ++ dktX5_laysStraps_1
theorem dksX5_laysStraps_0 : cX5_laysStraps.data.toList.drop 0 = dktX5_laysStraps_0 := by decide +kernel
theorem dksX5_laysStraps_1 : cX5_laysStraps.data.toList.drop 24 = dktX5_laysStraps_1 := dk_seg dksX5_laysStraps_0 24 rfl rfl
theorem dksX5_laysStraps_2 : cX5_laysStraps.data.toList.drop 48 = dktX5_laysStraps_2 := dk_seg dksX5_laysStraps_1 24 rfl rfl
theorem dX5_laysStraps_0 : decode cX5_laysStraps 0 = .ok (.aload_n 0, 1) := dk_42 (dk_at dksX5_laysStraps_0 0 rfl rfl)
theorem dX5_laysStraps_1 : decode cX5_laysStraps 1 = .ok (.iconst 0, 1) := dk_3 (dk_at dksX5_laysStraps_0 1 rfl rfl)
theorem dX5_laysStraps_2 : decode cX5_laysStraps 2 = .ok (.putfield 102, 3) := dk_181 0 102 (dk_at dksX5_laysStraps_0 2 rfl rfl)
theorem dX5_laysStraps_5 : decode cX5_laysStraps 5 = .ok (.iconst 0, 1) := dk_3 (dk_at dksX5_laysStraps_0 5 rfl rfl)
theorem dX5_laysStraps_6 : decode cX5_laysStraps 6 = .ok (.istore_n 3, 1) := dk_62 (dk_at dksX5_laysStraps_0 6 rfl rfl)
theorem dX5_laysStraps_7 : decode cX5_laysStraps 7 = .ok (.iload_n 3, 1) := dk_29 (dk_at dksX5_laysStraps_0 7 rfl rfl)
theorem dX5_laysStraps_8 : decode cX5_laysStraps 8 = .ok (.iload_n 1, 1) := dk_27 (dk_at dksX5_laysStraps_0 8 rfl rfl)
theorem dX5_laysStraps_9 : decode cX5_laysStraps 9 = .ok (.iload_n 2, 1) := dk_28 (dk_at dksX5_laysStraps_0 9 rfl rfl)
theorem dX5_laysStraps_10 : decode cX5_laysStraps 10 = .ok (.imul, 1) := dk_104 (dk_at dksX5_laysStraps_0 10 rfl rfl)
theorem dX5_laysStraps_11 : decode cX5_laysStraps 11 = .ok (.if_icmp .ge 43, 3) := dk_162 0 43 (dk_at dksX5_laysStraps_0 11 rfl rfl)
theorem dX5_laysStraps_14 : decode cX5_laysStraps 14 = .ok (.iload_n 3, 1) := dk_29 (dk_at dksX5_laysStraps_0 14 rfl rfl)
theorem dX5_laysStraps_15 : decode cX5_laysStraps 15 = .ok (.iload_n 1, 1) := dk_27 (dk_at dksX5_laysStraps_0 15 rfl rfl)
theorem dX5_laysStraps_16 : decode cX5_laysStraps 16 = .ok (.irem, 1) := dk_112 (dk_at dksX5_laysStraps_0 16 rfl rfl)
theorem dX5_laysStraps_17 : decode cX5_laysStraps 17 = .ok (.iload_n 1, 1) := dk_27 (dk_at dksX5_laysStraps_0 17 rfl rfl)
theorem dX5_laysStraps_18 : decode cX5_laysStraps 18 = .ok (.iconst 1, 1) := dk_4 (dk_at dksX5_laysStraps_0 18 rfl rfl)
theorem dX5_laysStraps_19 : decode cX5_laysStraps 19 = .ok (.isub, 1) := dk_100 (dk_at dksX5_laysStraps_0 19 rfl rfl)
theorem dX5_laysStraps_20 : decode cX5_laysStraps 20 = .ok (.if_icmp .ge 11, 3) := dk_162 0 11 (dk_at dksX5_laysStraps_0 20 rfl rfl)
theorem dX5_laysStraps_23 : decode cX5_laysStraps 23 = .ok (.aload_n 0, 1) := dk_42 (dk_at dksX5_laysStraps_0 23 rfl rfl)
theorem dX5_laysStraps_24 : decode cX5_laysStraps 24 = .ok (.iload_n 3, 1) := dk_29 (dk_at dksX5_laysStraps_1 0 rfl rfl)
theorem dX5_laysStraps_25 : decode cX5_laysStraps 25 = .ok (.iload_n 3, 1) := dk_29 (dk_at dksX5_laysStraps_1 1 rfl rfl)
theorem dX5_laysStraps_26 : decode cX5_laysStraps 26 = .ok (.iconst 1, 1) := dk_4 (dk_at dksX5_laysStraps_1 2 rfl rfl)
theorem dX5_laysStraps_27 : decode cX5_laysStraps 27 = .ok (.iadd, 1) := dk_96 (dk_at dksX5_laysStraps_1 3 rfl rfl)
theorem dX5_laysStraps_28 : decode cX5_laysStraps 28 = .ok (.invokevirtual 105, 3) := dk_182 0 105 (dk_at dksX5_laysStraps_1 4 rfl rfl)
theorem dX5_laysStraps_31 : decode cX5_laysStraps 31 = .ok (.iload_n 3, 1) := dk_29 (dk_at dksX5_laysStraps_1 7 rfl rfl)
theorem dX5_laysStraps_32 : decode cX5_laysStraps 32 = .ok (.iload_n 1, 1) := dk_27 (dk_at dksX5_laysStraps_1 8 rfl rfl)
theorem dX5_laysStraps_33 : decode cX5_laysStraps 33 = .ok (.idiv, 1) := dk_108 (dk_at dksX5_laysStraps_1 9 rfl rfl)
theorem dX5_laysStraps_34 : decode cX5_laysStraps 34 = .ok (.iload_n 2, 1) := dk_28 (dk_at dksX5_laysStraps_1 10 rfl rfl)
theorem dX5_laysStraps_35 : decode cX5_laysStraps 35 = .ok (.iconst 1, 1) := dk_4 (dk_at dksX5_laysStraps_1 11 rfl rfl)
theorem dX5_laysStraps_36 : decode cX5_laysStraps 36 = .ok (.isub, 1) := dk_100 (dk_at dksX5_laysStraps_1 12 rfl rfl)
theorem dX5_laysStraps_37 : decode cX5_laysStraps 37 = .ok (.if_icmp .ge 11, 3) := dk_162 0 11 (dk_at dksX5_laysStraps_1 13 rfl rfl)
theorem dX5_laysStraps_40 : decode cX5_laysStraps 40 = .ok (.aload_n 0, 1) := dk_42 (dk_at dksX5_laysStraps_1 16 rfl rfl)
theorem dX5_laysStraps_41 : decode cX5_laysStraps 41 = .ok (.iload_n 3, 1) := dk_29 (dk_at dksX5_laysStraps_1 17 rfl rfl)
theorem dX5_laysStraps_42 : decode cX5_laysStraps 42 = .ok (.iload_n 3, 1) := dk_29 (dk_at dksX5_laysStraps_1 18 rfl rfl)
theorem dX5_laysStraps_43 : decode cX5_laysStraps 43 = .ok (.iload_n 1, 1) := dk_27 (dk_at dksX5_laysStraps_1 19 rfl rfl)
theorem dX5_laysStraps_44 : decode cX5_laysStraps 44 = .ok (.iadd, 1) := dk_96 (dk_at dksX5_laysStraps_1 20 rfl rfl)
theorem dX5_laysStraps_45 : decode cX5_laysStraps 45 = .ok (.invokevirtual 105, 3) := dk_182 0 105 (dk_at dksX5_laysStraps_1 21 rfl rfl)
theorem dX5_laysStraps_48 : decode cX5_laysStraps 48 = .ok (.iinc 3 1, 3) := dk_132 3 1 (dk_at dksX5_laysStraps_2 0 rfl rfl)
theorem dX5_laysStraps_51 : decode cX5_laysStraps 51 = .ok (.goto (-44), 3) := dk_167 255 212 (dk_at dksX5_laysStraps_2 3 rfl rfl)
theorem dX5_laysStraps_54 : decode cX5_laysStraps 54 = .ok (.return_, 1) := dk_177 (dk_at dksX5_laysStraps_2 6 rfl rfl)
abbrev cX5_addsStrap : ByteArray := prog_17_method_15_code
def yX5_addsStrap : MethodName := ⟨RX5, "addsStrap", "(II)V"⟩
def dkwX5_addsStrap_1 : List UInt8 := [28, 79, 42, 89, 180, 0, 102, 4, 96, 181, 0, 102, 177]
abbrev dktX5_addsStrap_1 : List UInt8 := dkwX5_addsStrap_1 ++ []
def dkwX5_addsStrap_0 : List UInt8 := [42, 180, 0, 26, 5, 42, 180, 0, 102, 104, 27, 79, 42, 180, 0, 26, 5, 42, 180, 0, 102, 104, 4, 96]
abbrev dktX5_addsStrap_0 : List UInt8 := dkwX5_addsStrap_0 ++ dktX5_addsStrap_1
theorem dksX5_addsStrap_0 : cX5_addsStrap.data.toList.drop 0 = dktX5_addsStrap_0 := by decide +kernel
theorem dksX5_addsStrap_1 : cX5_addsStrap.data.toList.drop 24 = dktX5_addsStrap_1 := dk_seg dksX5_addsStrap_0 24 rfl rfl
theorem dX5_addsStrap_0 : decode cX5_addsStrap 0 = .ok (.aload_n 0, 1) := dk_42 (dk_at dksX5_addsStrap_0 0 rfl rfl)
theorem dX5_addsStrap_1 : decode cX5_addsStrap 1 = .ok (.getfield 26, 3) := dk_180 0 26 (dk_at dksX5_addsStrap_0 1 rfl rfl)
theorem dX5_addsStrap_4 : decode cX5_addsStrap 4 = .ok (.iconst 2, 1) := dk_5 (dk_at dksX5_addsStrap_0 4 rfl rfl)
theorem dX5_addsStrap_5 : decode cX5_addsStrap 5 = .ok (.aload_n 0, 1) := dk_42 (dk_at dksX5_addsStrap_0 5 rfl rfl)
theorem dX5_addsStrap_6 : decode cX5_addsStrap 6 = .ok (.getfield 102, 3) := dk_180 0 102 (dk_at dksX5_addsStrap_0 6 rfl rfl)
theorem dX5_addsStrap_9 : decode cX5_addsStrap 9 = .ok (.imul, 1) := dk_104 (dk_at dksX5_addsStrap_0 9 rfl rfl)
theorem dX5_addsStrap_10 : decode cX5_addsStrap 10 = .ok (.iload_n 1, 1) := dk_27 (dk_at dksX5_addsStrap_0 10 rfl rfl)
theorem dX5_addsStrap_11 : decode cX5_addsStrap 11 = .ok (.iastore, 1) := dk_79 (dk_at dksX5_addsStrap_0 11 rfl rfl)
theorem dX5_addsStrap_12 : decode cX5_addsStrap 12 = .ok (.aload_n 0, 1) := dk_42 (dk_at dksX5_addsStrap_0 12 rfl rfl)
theorem dX5_addsStrap_13 : decode cX5_addsStrap 13 = .ok (.getfield 26, 3) := dk_180 0 26 (dk_at dksX5_addsStrap_0 13 rfl rfl)
theorem dX5_addsStrap_16 : decode cX5_addsStrap 16 = .ok (.iconst 2, 1) := dk_5 (dk_at dksX5_addsStrap_0 16 rfl rfl)
theorem dX5_addsStrap_17 : decode cX5_addsStrap 17 = .ok (.aload_n 0, 1) := dk_42 (dk_at dksX5_addsStrap_0 17 rfl rfl)
theorem dX5_addsStrap_18 : decode cX5_addsStrap 18 = .ok (.getfield 102, 3) := dk_180 0 102 (dk_at dksX5_addsStrap_0 18 rfl rfl)
theorem dX5_addsStrap_21 : decode cX5_addsStrap 21 = .ok (.imul, 1) := dk_104 (dk_at dksX5_addsStrap_0 21 rfl rfl)
theorem dX5_addsStrap_22 : decode cX5_addsStrap 22 = .ok (.iconst 1, 1) := dk_4 (dk_at dksX5_addsStrap_0 22 rfl rfl)
theorem dX5_addsStrap_23 : decode cX5_addsStrap 23 = .ok (.iadd, 1) := dk_96 (dk_at dksX5_addsStrap_0 23 rfl rfl)
theorem dX5_addsStrap_24 : decode cX5_addsStrap 24 = .ok (.iload_n 2, 1) := dk_28 (dk_at dksX5_addsStrap_1 0 rfl rfl)
theorem dX5_addsStrap_25 : decode cX5_addsStrap 25 = .ok (.iastore, 1) := dk_79 (dk_at dksX5_addsStrap_1 1 rfl rfl)
theorem dX5_addsStrap_26 : decode cX5_addsStrap 26 = .ok (.aload_n 0, 1) := dk_42 (dk_at dksX5_addsStrap_1 2 rfl rfl)
theorem dX5_addsStrap_27 : decode cX5_addsStrap 27 = .ok (.dup, 1) := dk_89 (dk_at dksX5_addsStrap_1 3 rfl rfl)
theorem dX5_addsStrap_28 : decode cX5_addsStrap 28 = .ok (.getfield 102, 3) := dk_180 0 102 (dk_at dksX5_addsStrap_1 4 rfl rfl)
theorem dX5_addsStrap_31 : decode cX5_addsStrap 31 = .ok (.iconst 1, 1) := dk_4 (dk_at dksX5_addsStrap_1 7 rfl rfl)
theorem dX5_addsStrap_32 : decode cX5_addsStrap 32 = .ok (.iadd, 1) := dk_96 (dk_at dksX5_addsStrap_1 8 rfl rfl)
theorem dX5_addsStrap_33 : decode cX5_addsStrap 33 = .ok (.putfield 102, 3) := dk_181 0 102 (dk_at dksX5_addsStrap_1 9 rfl rfl)
theorem dX5_addsStrap_36 : decode cX5_addsStrap 36 = .ok (.return_, 1) := dk_177 (dk_at dksX5_addsStrap_1 12 rfl rfl)
abbrev cX5_readLine : ByteArray := prog_17_method_36_code
def yX5_readLine : MethodName := ⟨RX5, "readLine", "()V"⟩
def dkwX5_readLine_4 : List UInt8 := [153, 0, 14, 42, 182, 0, 176, 42, 182, 0, 248, 167, 0, 8, 42, 4, 182, 0, 179, 177]
abbrev dktX5_readLine_4 : List UInt8 := dkwX5_readLine_4 ++ []
def dkwX5_readLine_3 : List UInt8 := [182, 0, 172, 153, 0, 14, 42, 182, 0, 176, 42, 182, 0, 243, 167, 0, 28, 42, 18, 246, 182, 0, 172]
abbrev dktX5_readLine_3 : List UInt8 := dkwX5_readLine_3 ++ dktX5_readLine_4
def dkwX5_readLine_2 : List UInt8 := [182, 0, 160, 153, 0, 15, 42, 180, 0, 13, 8, 92, 46, 4, 27, 120, 128, 79, 167, 0, 48, 42, 18, 241]
abbrev dktX5_readLine_2 : List UInt8 := dkwX5_readLine_2 ++ dktX5_readLine_3
def dkwX5_readLine_1 : List UInt8 := [182, 0, 172, 153, 0, 40, 42, 182, 0, 176, 42, 42, 180, 0, 13, 8, 46, 182, 0, 213, 60, 42]
abbrev dktX5_readLine_1 : List UInt8 := dkwX5_readLine_1 ++ dktX5_readLine_2
def dkwX5_readLine_0 : List UInt8 := [42, 18, 234, 182, 0, 172, 153, 0, 14, 42, 182, 0, 176, 42, 182, 0, 236, 167, 0, 94, 42, 18, 239]
abbrev dktX5_readLine_0 : List UInt8 := dkwX5_readLine_0 ++ dktX5_readLine_1
theorem dksX5_readLine_0 : cX5_readLine.data.toList.drop 0 = dktX5_readLine_0 := by decide +kernel
theorem dksX5_readLine_1 : cX5_readLine.data.toList.drop 23 = dktX5_readLine_1 := dk_seg dksX5_readLine_0 23 rfl rfl
theorem dksX5_readLine_2 : cX5_readLine.data.toList.drop 45 = dktX5_readLine_2 := dk_seg dksX5_readLine_1 22 rfl rfl
theorem dksX5_readLine_3 : cX5_readLine.data.toList.drop 69 = dktX5_readLine_3 := dk_seg dksX5_readLine_2 24 rfl rfl
theorem dksX5_readLine_4 : cX5_readLine.data.toList.drop 92 = dktX5_readLine_4 := dk_seg dksX5_readLine_3 23 rfl rfl
theorem dX5_readLine_0 : decode cX5_readLine 0 = .ok (.aload_n 0, 1) := dk_42 (dk_at dksX5_readLine_0 0 rfl rfl)
theorem dX5_readLine_1 : decode cX5_readLine 1 = .ok (.ldc 234, 2) := dk_18 234 (dk_at dksX5_readLine_0 1 rfl rfl)
theorem dX5_readLine_3 : decode cX5_readLine 3 = .ok (.invokevirtual 172, 3) := dk_182 0 172 (dk_at dksX5_readLine_0 3 rfl rfl)
theorem dX5_readLine_6 : decode cX5_readLine 6 = .ok (.ifCond .eq 14, 3) := dk_153 0 14 (dk_at dksX5_readLine_0 6 rfl rfl)
theorem dX5_readLine_9 : decode cX5_readLine 9 = .ok (.aload_n 0, 1) := dk_42 (dk_at dksX5_readLine_0 9 rfl rfl)
theorem dX5_readLine_10 : decode cX5_readLine 10 = .ok (.invokevirtual 176, 3) := dk_182 0 176 (dk_at dksX5_readLine_0 10 rfl rfl)
theorem dX5_readLine_13 : decode cX5_readLine 13 = .ok (.aload_n 0, 1) := dk_42 (dk_at dksX5_readLine_0 13 rfl rfl)
theorem dX5_readLine_14 : decode cX5_readLine 14 = .ok (.invokevirtual 236, 3) := dk_182 0 236 (dk_at dksX5_readLine_0 14 rfl rfl)
theorem dX5_readLine_17 : decode cX5_readLine 17 = .ok (.goto 94, 3) := dk_167 0 94 (dk_at dksX5_readLine_0 17 rfl rfl)
theorem dX5_readLine_20 : decode cX5_readLine 20 = .ok (.aload_n 0, 1) := dk_42 (dk_at dksX5_readLine_0 20 rfl rfl)
theorem dX5_readLine_21 : decode cX5_readLine 21 = .ok (.ldc 239, 2) := dk_18 239 (dk_at dksX5_readLine_0 21 rfl rfl)
theorem dX5_readLine_23 : decode cX5_readLine 23 = .ok (.invokevirtual 172, 3) := dk_182 0 172 (dk_at dksX5_readLine_1 0 rfl rfl)
theorem dX5_readLine_26 : decode cX5_readLine 26 = .ok (.ifCond .eq 40, 3) := dk_153 0 40 (dk_at dksX5_readLine_1 3 rfl rfl)
theorem dX5_readLine_29 : decode cX5_readLine 29 = .ok (.aload_n 0, 1) := dk_42 (dk_at dksX5_readLine_1 6 rfl rfl)
theorem dX5_readLine_30 : decode cX5_readLine 30 = .ok (.invokevirtual 176, 3) := dk_182 0 176 (dk_at dksX5_readLine_1 7 rfl rfl)
theorem dX5_readLine_33 : decode cX5_readLine 33 = .ok (.aload_n 0, 1) := dk_42 (dk_at dksX5_readLine_1 10 rfl rfl)
theorem dX5_readLine_34 : decode cX5_readLine 34 = .ok (.aload_n 0, 1) := dk_42 (dk_at dksX5_readLine_1 11 rfl rfl)
theorem dX5_readLine_35 : decode cX5_readLine 35 = .ok (.getfield 13, 3) := dk_180 0 13 (dk_at dksX5_readLine_1 12 rfl rfl)
theorem dX5_readLine_38 : decode cX5_readLine 38 = .ok (.iconst 5, 1) := dk_8 (dk_at dksX5_readLine_1 15 rfl rfl)
theorem dX5_readLine_39 : decode cX5_readLine 39 = .ok (.iaload, 1) := dk_46 (dk_at dksX5_readLine_1 16 rfl rfl)
theorem dX5_readLine_40 : decode cX5_readLine 40 = .ok (.invokevirtual 213, 3) := dk_182 0 213 (dk_at dksX5_readLine_1 17 rfl rfl)
theorem dX5_readLine_43 : decode cX5_readLine 43 = .ok (.istore_n 1, 1) := dk_60 (dk_at dksX5_readLine_1 20 rfl rfl)
theorem dX5_readLine_44 : decode cX5_readLine 44 = .ok (.aload_n 0, 1) := dk_42 (dk_at dksX5_readLine_1 21 rfl rfl)
theorem dX5_readLine_45 : decode cX5_readLine 45 = .ok (.invokevirtual 160, 3) := dk_182 0 160 (dk_at dksX5_readLine_2 0 rfl rfl)
theorem dX5_readLine_48 : decode cX5_readLine 48 = .ok (.ifCond .eq 15, 3) := dk_153 0 15 (dk_at dksX5_readLine_2 3 rfl rfl)
theorem dX5_readLine_51 : decode cX5_readLine 51 = .ok (.aload_n 0, 1) := dk_42 (dk_at dksX5_readLine_2 6 rfl rfl)
theorem dX5_readLine_52 : decode cX5_readLine 52 = .ok (.getfield 13, 3) := dk_180 0 13 (dk_at dksX5_readLine_2 7 rfl rfl)
theorem dX5_readLine_55 : decode cX5_readLine 55 = .ok (.iconst 5, 1) := dk_8 (dk_at dksX5_readLine_2 10 rfl rfl)
theorem dX5_readLine_56 : decode cX5_readLine 56 = .ok (.dup2, 1) := dk_92 (dk_at dksX5_readLine_2 11 rfl rfl)
theorem dX5_readLine_57 : decode cX5_readLine 57 = .ok (.iaload, 1) := dk_46 (dk_at dksX5_readLine_2 12 rfl rfl)
theorem dX5_readLine_58 : decode cX5_readLine 58 = .ok (.iconst 1, 1) := dk_4 (dk_at dksX5_readLine_2 13 rfl rfl)
theorem dX5_readLine_59 : decode cX5_readLine 59 = .ok (.iload_n 1, 1) := dk_27 (dk_at dksX5_readLine_2 14 rfl rfl)
theorem dX5_readLine_60 : decode cX5_readLine 60 = .ok (.ishl, 1) := dk_120 (dk_at dksX5_readLine_2 15 rfl rfl)
theorem dX5_readLine_61 : decode cX5_readLine 61 = .ok (.ior, 1) := dk_128 (dk_at dksX5_readLine_2 16 rfl rfl)
theorem dX5_readLine_62 : decode cX5_readLine 62 = .ok (.iastore, 1) := dk_79 (dk_at dksX5_readLine_2 17 rfl rfl)
theorem dX5_readLine_63 : decode cX5_readLine 63 = .ok (.goto 48, 3) := dk_167 0 48 (dk_at dksX5_readLine_2 18 rfl rfl)
theorem dX5_readLine_66 : decode cX5_readLine 66 = .ok (.aload_n 0, 1) := dk_42 (dk_at dksX5_readLine_2 21 rfl rfl)
theorem dX5_readLine_67 : decode cX5_readLine 67 = .ok (.ldc 241, 2) := dk_18 241 (dk_at dksX5_readLine_2 22 rfl rfl)
theorem dX5_readLine_69 : decode cX5_readLine 69 = .ok (.invokevirtual 172, 3) := dk_182 0 172 (dk_at dksX5_readLine_3 0 rfl rfl)
theorem dX5_readLine_72 : decode cX5_readLine 72 = .ok (.ifCond .eq 14, 3) := dk_153 0 14 (dk_at dksX5_readLine_3 3 rfl rfl)
theorem dX5_readLine_75 : decode cX5_readLine 75 = .ok (.aload_n 0, 1) := dk_42 (dk_at dksX5_readLine_3 6 rfl rfl)
theorem dX5_readLine_76 : decode cX5_readLine 76 = .ok (.invokevirtual 176, 3) := dk_182 0 176 (dk_at dksX5_readLine_3 7 rfl rfl)
theorem dX5_readLine_79 : decode cX5_readLine 79 = .ok (.aload_n 0, 1) := dk_42 (dk_at dksX5_readLine_3 10 rfl rfl)
theorem dX5_readLine_80 : decode cX5_readLine 80 = .ok (.invokevirtual 243, 3) := dk_182 0 243 (dk_at dksX5_readLine_3 11 rfl rfl)
theorem dX5_readLine_83 : decode cX5_readLine 83 = .ok (.goto 28, 3) := dk_167 0 28 (dk_at dksX5_readLine_3 14 rfl rfl)
theorem dX5_readLine_86 : decode cX5_readLine 86 = .ok (.aload_n 0, 1) := dk_42 (dk_at dksX5_readLine_3 17 rfl rfl)
theorem dX5_readLine_87 : decode cX5_readLine 87 = .ok (.ldc 246, 2) := dk_18 246 (dk_at dksX5_readLine_3 18 rfl rfl)
theorem dX5_readLine_89 : decode cX5_readLine 89 = .ok (.invokevirtual 172, 3) := dk_182 0 172 (dk_at dksX5_readLine_3 20 rfl rfl)
theorem dX5_readLine_92 : decode cX5_readLine 92 = .ok (.ifCond .eq 14, 3) := dk_153 0 14 (dk_at dksX5_readLine_4 0 rfl rfl)
theorem dX5_readLine_95 : decode cX5_readLine 95 = .ok (.aload_n 0, 1) := dk_42 (dk_at dksX5_readLine_4 3 rfl rfl)
theorem dX5_readLine_96 : decode cX5_readLine 96 = .ok (.invokevirtual 176, 3) := dk_182 0 176 (dk_at dksX5_readLine_4 4 rfl rfl)
theorem dX5_readLine_99 : decode cX5_readLine 99 = .ok (.aload_n 0, 1) := dk_42 (dk_at dksX5_readLine_4 7 rfl rfl)
theorem dX5_readLine_100 : decode cX5_readLine 100 = .ok (.invokevirtual 248, 3) := dk_182 0 248 (dk_at dksX5_readLine_4 8 rfl rfl)
theorem dX5_readLine_103 : decode cX5_readLine 103 = .ok (.goto 8, 3) := dk_167 0 8 (dk_at dksX5_readLine_4 11 rfl rfl)
theorem dX5_readLine_106 : decode cX5_readLine 106 = .ok (.aload_n 0, 1) := dk_42 (dk_at dksX5_readLine_4 14 rfl rfl)
theorem dX5_readLine_107 : decode cX5_readLine 107 = .ok (.iconst 1, 1) := dk_4 (dk_at dksX5_readLine_4 15 rfl rfl)
theorem dX5_readLine_108 : decode cX5_readLine 108 = .ok (.invokevirtual 179, 3) := dk_182 0 179 (dk_at dksX5_readLine_4 16 rfl rfl)
theorem dX5_readLine_111 : decode cX5_readLine 111 = .ok (.return_, 1) := dk_177 (dk_at dksX5_readLine_4 19 rfl rfl)
abbrev cX5_readStrap : ByteArray := prog_17_method_33_code
def yX5_readStrap : MethodName := ⟨RX5, "readStrap", "()V"⟩
def dkwX5_readStrap_7 : List UInt8 := [27, 29, 182, 0, 220, 96, 21, 5, 79, 177]
abbrev dktX5_readStrap_7 : List UInt8 := dkwX5_readStrap_7 ++ []
def dkwX5_readStrap_6 : List UInt8 := [42, 18, 202, 3, 7, 182, 0, 194, 54, 5, 42, 182, 0, 160, 153, 0, 19, 42, 180, 0, 13, 16, 28, 42]
abbrev dktX5_readStrap_6 : List UInt8 := dkwX5_readStrap_6 ++ dktX5_readStrap_7
def dkwX5_readStrap_5 : List UInt8 := [153, 0, 13, 21, 4, 154, 0, 8, 42, 5, 182, 0, 179, 42, 182, 0, 160, 153, 0, 7, 42, 182, 0, 176]
abbrev dktX5_readStrap_5 : List UInt8 := dkwX5_readStrap_5 ++ dktX5_readStrap_6
def dkwX5_readStrap_4 : List UInt8 := [46, 108, 42, 180, 0, 13, 4, 46, 4, 100, 162, 0, 7, 4, 167, 0, 4, 3, 54, 4, 42, 182, 0, 160]
abbrev dktX5_readStrap_4 : List UInt8 := dkwX5_readStrap_4 ++ dktX5_readStrap_5
def dkwX5_readStrap_3 : List UInt8 := [180, 0, 13, 3, 46, 4, 100, 162, 0, 7, 4, 167, 0, 31, 3, 167, 0, 27, 27, 42, 180, 0, 13, 3]
abbrev dktX5_readStrap_3 : List UInt8 := dkwX5_readStrap_3 ++ dktX5_readStrap_4
def dkwX5_readStrap_2 : List UInt8 := [27, 42, 180, 0, 13, 3, 46, 96, 62, 28, 153, 0, 30, 27, 42, 180, 0, 13, 3, 46, 112, 42]
abbrev dktX5_readStrap_2 : List UInt8 := dkwX5_readStrap_2 ++ dktX5_readStrap_3
def dkwX5_readStrap_1 : List UInt8 := [42, 18, 218, 182, 0, 172, 154, 0, 8, 42, 4, 182, 0, 179, 28, 153, 0, 9, 27, 4, 96, 167, 0, 11]
abbrev dktX5_readStrap_1 : List UInt8 := dkwX5_readStrap_1 ++ dktX5_readStrap_2
def dkwX5_readStrap_0 : List UInt8 := [42, 3, 182, 0, 213, 60, 42, 18, 216, 182, 0, 172, 61, 42, 182, 0, 160, 153, 0, 21, 28, 154, 0, 17]
abbrev dktX5_readStrap_0 : List UInt8 := dkwX5_readStrap_0 ++ dktX5_readStrap_1
theorem dksX5_readStrap_0 : cX5_readStrap.data.toList.drop 0 = dktX5_readStrap_0 := by decide +kernel
theorem dksX5_readStrap_1 : cX5_readStrap.data.toList.drop 24 = dktX5_readStrap_1 := dk_seg dksX5_readStrap_0 24 rfl rfl
theorem dksX5_readStrap_2 : cX5_readStrap.data.toList.drop 48 = dktX5_readStrap_2 := dk_seg dksX5_readStrap_1 24 rfl rfl
theorem dksX5_readStrap_3 : cX5_readStrap.data.toList.drop 70 = dktX5_readStrap_3 := dk_seg dksX5_readStrap_2 22 rfl rfl
theorem dksX5_readStrap_4 : cX5_readStrap.data.toList.drop 94 = dktX5_readStrap_4 := dk_seg dksX5_readStrap_3 24 rfl rfl
theorem dksX5_readStrap_5 : cX5_readStrap.data.toList.drop 118 = dktX5_readStrap_5 := dk_seg dksX5_readStrap_4 24 rfl rfl
theorem dksX5_readStrap_6 : cX5_readStrap.data.toList.drop 142 = dktX5_readStrap_6 := dk_seg dksX5_readStrap_5 24 rfl rfl
theorem dksX5_readStrap_7 : cX5_readStrap.data.toList.drop 166 = dktX5_readStrap_7 := dk_seg dksX5_readStrap_6 24 rfl rfl
theorem dX5_readStrap_0 : decode cX5_readStrap 0 = .ok (.aload_n 0, 1) := dk_42 (dk_at dksX5_readStrap_0 0 rfl rfl)
theorem dX5_readStrap_1 : decode cX5_readStrap 1 = .ok (.iconst 0, 1) := dk_3 (dk_at dksX5_readStrap_0 1 rfl rfl)
theorem dX5_readStrap_2 : decode cX5_readStrap 2 = .ok (.invokevirtual 213, 3) := dk_182 0 213 (dk_at dksX5_readStrap_0 2 rfl rfl)
theorem dX5_readStrap_5 : decode cX5_readStrap 5 = .ok (.istore_n 1, 1) := dk_60 (dk_at dksX5_readStrap_0 5 rfl rfl)
theorem dX5_readStrap_6 : decode cX5_readStrap 6 = .ok (.aload_n 0, 1) := dk_42 (dk_at dksX5_readStrap_0 6 rfl rfl)
theorem dX5_readStrap_7 : decode cX5_readStrap 7 = .ok (.ldc 216, 2) := dk_18 216 (dk_at dksX5_readStrap_0 7 rfl rfl)
theorem dX5_readStrap_9 : decode cX5_readStrap 9 = .ok (.invokevirtual 172, 3) := dk_182 0 172 (dk_at dksX5_readStrap_0 9 rfl rfl)
theorem dX5_readStrap_12 : decode cX5_readStrap 12 = .ok (.istore_n 2, 1) := dk_61 (dk_at dksX5_readStrap_0 12 rfl rfl)
theorem dX5_readStrap_13 : decode cX5_readStrap 13 = .ok (.aload_n 0, 1) := dk_42 (dk_at dksX5_readStrap_0 13 rfl rfl)
theorem dX5_readStrap_14 : decode cX5_readStrap 14 = .ok (.invokevirtual 160, 3) := dk_182 0 160 (dk_at dksX5_readStrap_0 14 rfl rfl)
theorem dX5_readStrap_17 : decode cX5_readStrap 17 = .ok (.ifCond .eq 21, 3) := dk_153 0 21 (dk_at dksX5_readStrap_0 17 rfl rfl)
theorem dX5_readStrap_20 : decode cX5_readStrap 20 = .ok (.iload_n 2, 1) := dk_28 (dk_at dksX5_readStrap_0 20 rfl rfl)
theorem dX5_readStrap_21 : decode cX5_readStrap 21 = .ok (.ifCond .ne 17, 3) := dk_154 0 17 (dk_at dksX5_readStrap_0 21 rfl rfl)
theorem dX5_readStrap_24 : decode cX5_readStrap 24 = .ok (.aload_n 0, 1) := dk_42 (dk_at dksX5_readStrap_1 0 rfl rfl)
theorem dX5_readStrap_25 : decode cX5_readStrap 25 = .ok (.ldc 218, 2) := dk_18 218 (dk_at dksX5_readStrap_1 1 rfl rfl)
theorem dX5_readStrap_27 : decode cX5_readStrap 27 = .ok (.invokevirtual 172, 3) := dk_182 0 172 (dk_at dksX5_readStrap_1 3 rfl rfl)
theorem dX5_readStrap_30 : decode cX5_readStrap 30 = .ok (.ifCond .ne 8, 3) := dk_154 0 8 (dk_at dksX5_readStrap_1 6 rfl rfl)
theorem dX5_readStrap_33 : decode cX5_readStrap 33 = .ok (.aload_n 0, 1) := dk_42 (dk_at dksX5_readStrap_1 9 rfl rfl)
theorem dX5_readStrap_34 : decode cX5_readStrap 34 = .ok (.iconst 1, 1) := dk_4 (dk_at dksX5_readStrap_1 10 rfl rfl)
theorem dX5_readStrap_35 : decode cX5_readStrap 35 = .ok (.invokevirtual 179, 3) := dk_182 0 179 (dk_at dksX5_readStrap_1 11 rfl rfl)
theorem dX5_readStrap_38 : decode cX5_readStrap 38 = .ok (.iload_n 2, 1) := dk_28 (dk_at dksX5_readStrap_1 14 rfl rfl)
theorem dX5_readStrap_39 : decode cX5_readStrap 39 = .ok (.ifCond .eq 9, 3) := dk_153 0 9 (dk_at dksX5_readStrap_1 15 rfl rfl)
theorem dX5_readStrap_42 : decode cX5_readStrap 42 = .ok (.iload_n 1, 1) := dk_27 (dk_at dksX5_readStrap_1 18 rfl rfl)
theorem dX5_readStrap_43 : decode cX5_readStrap 43 = .ok (.iconst 1, 1) := dk_4 (dk_at dksX5_readStrap_1 19 rfl rfl)
theorem dX5_readStrap_44 : decode cX5_readStrap 44 = .ok (.iadd, 1) := dk_96 (dk_at dksX5_readStrap_1 20 rfl rfl)
theorem dX5_readStrap_45 : decode cX5_readStrap 45 = .ok (.goto 11, 3) := dk_167 0 11 (dk_at dksX5_readStrap_1 21 rfl rfl)
theorem dX5_readStrap_48 : decode cX5_readStrap 48 = .ok (.iload_n 1, 1) := dk_27 (dk_at dksX5_readStrap_2 0 rfl rfl)
theorem dX5_readStrap_49 : decode cX5_readStrap 49 = .ok (.aload_n 0, 1) := dk_42 (dk_at dksX5_readStrap_2 1 rfl rfl)
theorem dX5_readStrap_50 : decode cX5_readStrap 50 = .ok (.getfield 13, 3) := dk_180 0 13 (dk_at dksX5_readStrap_2 2 rfl rfl)
theorem dX5_readStrap_53 : decode cX5_readStrap 53 = .ok (.iconst 0, 1) := dk_3 (dk_at dksX5_readStrap_2 5 rfl rfl)
theorem dX5_readStrap_54 : decode cX5_readStrap 54 = .ok (.iaload, 1) := dk_46 (dk_at dksX5_readStrap_2 6 rfl rfl)
theorem dX5_readStrap_55 : decode cX5_readStrap 55 = .ok (.iadd, 1) := dk_96 (dk_at dksX5_readStrap_2 7 rfl rfl)
theorem dX5_readStrap_56 : decode cX5_readStrap 56 = .ok (.istore_n 3, 1) := dk_62 (dk_at dksX5_readStrap_2 8 rfl rfl)
theorem dX5_readStrap_57 : decode cX5_readStrap 57 = .ok (.iload_n 2, 1) := dk_28 (dk_at dksX5_readStrap_2 9 rfl rfl)
theorem dX5_readStrap_58 : decode cX5_readStrap 58 = .ok (.ifCond .eq 30, 3) := dk_153 0 30 (dk_at dksX5_readStrap_2 10 rfl rfl)
theorem dX5_readStrap_61 : decode cX5_readStrap 61 = .ok (.iload_n 1, 1) := dk_27 (dk_at dksX5_readStrap_2 13 rfl rfl)
theorem dX5_readStrap_62 : decode cX5_readStrap 62 = .ok (.aload_n 0, 1) := dk_42 (dk_at dksX5_readStrap_2 14 rfl rfl)
theorem dX5_readStrap_63 : decode cX5_readStrap 63 = .ok (.getfield 13, 3) := dk_180 0 13 (dk_at dksX5_readStrap_2 15 rfl rfl)
theorem dX5_readStrap_66 : decode cX5_readStrap 66 = .ok (.iconst 0, 1) := dk_3 (dk_at dksX5_readStrap_2 18 rfl rfl)
theorem dX5_readStrap_67 : decode cX5_readStrap 67 = .ok (.iaload, 1) := dk_46 (dk_at dksX5_readStrap_2 19 rfl rfl)
theorem dX5_readStrap_68 : decode cX5_readStrap 68 = .ok (.irem, 1) := dk_112 (dk_at dksX5_readStrap_2 20 rfl rfl)
theorem dX5_readStrap_69 : decode cX5_readStrap 69 = .ok (.aload_n 0, 1) := dk_42 (dk_at dksX5_readStrap_2 21 rfl rfl)
theorem dX5_readStrap_70 : decode cX5_readStrap 70 = .ok (.getfield 13, 3) := dk_180 0 13 (dk_at dksX5_readStrap_3 0 rfl rfl)
theorem dX5_readStrap_73 : decode cX5_readStrap 73 = .ok (.iconst 0, 1) := dk_3 (dk_at dksX5_readStrap_3 3 rfl rfl)
theorem dX5_readStrap_74 : decode cX5_readStrap 74 = .ok (.iaload, 1) := dk_46 (dk_at dksX5_readStrap_3 4 rfl rfl)
theorem dX5_readStrap_75 : decode cX5_readStrap 75 = .ok (.iconst 1, 1) := dk_4 (dk_at dksX5_readStrap_3 5 rfl rfl)
theorem dX5_readStrap_76 : decode cX5_readStrap 76 = .ok (.isub, 1) := dk_100 (dk_at dksX5_readStrap_3 6 rfl rfl)
theorem dX5_readStrap_77 : decode cX5_readStrap 77 = .ok (.if_icmp .ge 7, 3) := dk_162 0 7 (dk_at dksX5_readStrap_3 7 rfl rfl)
theorem dX5_readStrap_80 : decode cX5_readStrap 80 = .ok (.iconst 1, 1) := dk_4 (dk_at dksX5_readStrap_3 10 rfl rfl)
theorem dX5_readStrap_81 : decode cX5_readStrap 81 = .ok (.goto 31, 3) := dk_167 0 31 (dk_at dksX5_readStrap_3 11 rfl rfl)
theorem dX5_readStrap_84 : decode cX5_readStrap 84 = .ok (.iconst 0, 1) := dk_3 (dk_at dksX5_readStrap_3 14 rfl rfl)
theorem dX5_readStrap_85 : decode cX5_readStrap 85 = .ok (.goto 27, 3) := dk_167 0 27 (dk_at dksX5_readStrap_3 15 rfl rfl)
theorem dX5_readStrap_88 : decode cX5_readStrap 88 = .ok (.iload_n 1, 1) := dk_27 (dk_at dksX5_readStrap_3 18 rfl rfl)
theorem dX5_readStrap_89 : decode cX5_readStrap 89 = .ok (.aload_n 0, 1) := dk_42 (dk_at dksX5_readStrap_3 19 rfl rfl)
theorem dX5_readStrap_90 : decode cX5_readStrap 90 = .ok (.getfield 13, 3) := dk_180 0 13 (dk_at dksX5_readStrap_3 20 rfl rfl)
theorem dX5_readStrap_93 : decode cX5_readStrap 93 = .ok (.iconst 0, 1) := dk_3 (dk_at dksX5_readStrap_3 23 rfl rfl)
theorem dX5_readStrap_94 : decode cX5_readStrap 94 = .ok (.iaload, 1) := dk_46 (dk_at dksX5_readStrap_4 0 rfl rfl)
theorem dX5_readStrap_95 : decode cX5_readStrap 95 = .ok (.idiv, 1) := dk_108 (dk_at dksX5_readStrap_4 1 rfl rfl)
theorem dX5_readStrap_96 : decode cX5_readStrap 96 = .ok (.aload_n 0, 1) := dk_42 (dk_at dksX5_readStrap_4 2 rfl rfl)
theorem dX5_readStrap_97 : decode cX5_readStrap 97 = .ok (.getfield 13, 3) := dk_180 0 13 (dk_at dksX5_readStrap_4 3 rfl rfl)
theorem dX5_readStrap_100 : decode cX5_readStrap 100 = .ok (.iconst 1, 1) := dk_4 (dk_at dksX5_readStrap_4 6 rfl rfl)
theorem dX5_readStrap_101 : decode cX5_readStrap 101 = .ok (.iaload, 1) := dk_46 (dk_at dksX5_readStrap_4 7 rfl rfl)
theorem dX5_readStrap_102 : decode cX5_readStrap 102 = .ok (.iconst 1, 1) := dk_4 (dk_at dksX5_readStrap_4 8 rfl rfl)
theorem dX5_readStrap_103 : decode cX5_readStrap 103 = .ok (.isub, 1) := dk_100 (dk_at dksX5_readStrap_4 9 rfl rfl)
theorem dX5_readStrap_104 : decode cX5_readStrap 104 = .ok (.if_icmp .ge 7, 3) := dk_162 0 7 (dk_at dksX5_readStrap_4 10 rfl rfl)
theorem dX5_readStrap_107 : decode cX5_readStrap 107 = .ok (.iconst 1, 1) := dk_4 (dk_at dksX5_readStrap_4 13 rfl rfl)
theorem dX5_readStrap_108 : decode cX5_readStrap 108 = .ok (.goto 4, 3) := dk_167 0 4 (dk_at dksX5_readStrap_4 14 rfl rfl)
theorem dX5_readStrap_111 : decode cX5_readStrap 111 = .ok (.iconst 0, 1) := dk_3 (dk_at dksX5_readStrap_4 17 rfl rfl)
theorem dX5_readStrap_112 : decode cX5_readStrap 112 = .ok (.istore 4, 2) := dk_54 4 (dk_at dksX5_readStrap_4 18 rfl rfl)
theorem dX5_readStrap_114 : decode cX5_readStrap 114 = .ok (.aload_n 0, 1) := dk_42 (dk_at dksX5_readStrap_4 20 rfl rfl)
theorem dX5_readStrap_115 : decode cX5_readStrap 115 = .ok (.invokevirtual 160, 3) := dk_182 0 160 (dk_at dksX5_readStrap_4 21 rfl rfl)
theorem dX5_readStrap_118 : decode cX5_readStrap 118 = .ok (.ifCond .eq 13, 3) := dk_153 0 13 (dk_at dksX5_readStrap_5 0 rfl rfl)
theorem dX5_readStrap_121 : decode cX5_readStrap 121 = .ok (.iload 4, 2) := dk_21 4 (dk_at dksX5_readStrap_5 3 rfl rfl)
theorem dX5_readStrap_123 : decode cX5_readStrap 123 = .ok (.ifCond .ne 8, 3) := dk_154 0 8 (dk_at dksX5_readStrap_5 5 rfl rfl)
theorem dX5_readStrap_126 : decode cX5_readStrap 126 = .ok (.aload_n 0, 1) := dk_42 (dk_at dksX5_readStrap_5 8 rfl rfl)
theorem dX5_readStrap_127 : decode cX5_readStrap 127 = .ok (.iconst 2, 1) := dk_5 (dk_at dksX5_readStrap_5 9 rfl rfl)
theorem dX5_readStrap_128 : decode cX5_readStrap 128 = .ok (.invokevirtual 179, 3) := dk_182 0 179 (dk_at dksX5_readStrap_5 10 rfl rfl)
theorem dX5_readStrap_131 : decode cX5_readStrap 131 = .ok (.aload_n 0, 1) := dk_42 (dk_at dksX5_readStrap_5 13 rfl rfl)
theorem dX5_readStrap_132 : decode cX5_readStrap 132 = .ok (.invokevirtual 160, 3) := dk_182 0 160 (dk_at dksX5_readStrap_5 14 rfl rfl)
theorem dX5_readStrap_135 : decode cX5_readStrap 135 = .ok (.ifCond .eq 7, 3) := dk_153 0 7 (dk_at dksX5_readStrap_5 17 rfl rfl)
theorem dX5_readStrap_138 : decode cX5_readStrap 138 = .ok (.aload_n 0, 1) := dk_42 (dk_at dksX5_readStrap_5 20 rfl rfl)
theorem dX5_readStrap_139 : decode cX5_readStrap 139 = .ok (.invokevirtual 176, 3) := dk_182 0 176 (dk_at dksX5_readStrap_5 21 rfl rfl)
theorem dX5_readStrap_142 : decode cX5_readStrap 142 = .ok (.aload_n 0, 1) := dk_42 (dk_at dksX5_readStrap_6 0 rfl rfl)
theorem dX5_readStrap_143 : decode cX5_readStrap 143 = .ok (.ldc 202, 2) := dk_18 202 (dk_at dksX5_readStrap_6 1 rfl rfl)
theorem dX5_readStrap_145 : decode cX5_readStrap 145 = .ok (.iconst 0, 1) := dk_3 (dk_at dksX5_readStrap_6 3 rfl rfl)
theorem dX5_readStrap_146 : decode cX5_readStrap 146 = .ok (.iconst 4, 1) := dk_7 (dk_at dksX5_readStrap_6 4 rfl rfl)
theorem dX5_readStrap_147 : decode cX5_readStrap 147 = .ok (.invokevirtual 194, 3) := dk_182 0 194 (dk_at dksX5_readStrap_6 5 rfl rfl)
theorem dX5_readStrap_150 : decode cX5_readStrap 150 = .ok (.istore 5, 2) := dk_54 5 (dk_at dksX5_readStrap_6 8 rfl rfl)
theorem dX5_readStrap_152 : decode cX5_readStrap 152 = .ok (.aload_n 0, 1) := dk_42 (dk_at dksX5_readStrap_6 10 rfl rfl)
theorem dX5_readStrap_153 : decode cX5_readStrap 153 = .ok (.invokevirtual 160, 3) := dk_182 0 160 (dk_at dksX5_readStrap_6 11 rfl rfl)
theorem dX5_readStrap_156 : decode cX5_readStrap 156 = .ok (.ifCond .eq 19, 3) := dk_153 0 19 (dk_at dksX5_readStrap_6 14 rfl rfl)
theorem dX5_readStrap_159 : decode cX5_readStrap 159 = .ok (.aload_n 0, 1) := dk_42 (dk_at dksX5_readStrap_6 17 rfl rfl)
theorem dX5_readStrap_160 : decode cX5_readStrap 160 = .ok (.getfield 13, 3) := dk_180 0 13 (dk_at dksX5_readStrap_6 18 rfl rfl)
theorem dX5_readStrap_163 : decode cX5_readStrap 163 = .ok (.bipush 28, 2) := dk_16 28 (dk_at dksX5_readStrap_6 21 rfl rfl)
theorem dX5_readStrap_165 : decode cX5_readStrap 165 = .ok (.aload_n 0, 1) := dk_42 (dk_at dksX5_readStrap_6 23 rfl rfl)
theorem dX5_readStrap_166 : decode cX5_readStrap 166 = .ok (.iload_n 1, 1) := dk_27 (dk_at dksX5_readStrap_7 0 rfl rfl)
theorem dX5_readStrap_167 : decode cX5_readStrap 167 = .ok (.iload_n 3, 1) := dk_29 (dk_at dksX5_readStrap_7 1 rfl rfl)
theorem dX5_readStrap_168 : decode cX5_readStrap 168 = .ok (.invokevirtual 220, 3) := dk_182 0 220 (dk_at dksX5_readStrap_7 2 rfl rfl)
theorem dX5_readStrap_171 : decode cX5_readStrap 171 = .ok (.iadd, 1) := dk_96 (dk_at dksX5_readStrap_7 5 rfl rfl)
theorem dX5_readStrap_172 : decode cX5_readStrap 172 = .ok (.iload 5, 2) := dk_21 5 (dk_at dksX5_readStrap_7 6 rfl rfl)
theorem dX5_readStrap_174 : decode cX5_readStrap 174 = .ok (.iastore, 1) := dk_79 (dk_at dksX5_readStrap_7 8 rfl rfl)
theorem dX5_readStrap_175 : decode cX5_readStrap 175 = .ok (.return_, 1) := dk_177 (dk_at dksX5_readStrap_7 9 rfl rfl)
abbrev cX5_readPlace : ByteArray := prog_17_method_32_code
def yX5_readPlace : MethodName := ⟨RX5, "readPlace", "(I)I"⟩
def dkwX5_readPlace_4 : List UInt8 := [104, 28, 96, 172]
abbrev dktX5_readPlace_4 : List UInt8 := dkwX5_readPlace_4 ++ []
def dkwX5_readPlace_3 : List UInt8 := [182, 0, 179, 42, 3, 42, 180, 0, 13, 4, 46, 4, 100, 182, 0, 187, 62, 42, 180, 0, 13, 3, 46, 29]
abbrev dktX5_readPlace_3 : List UInt8 := dkwX5_readPlace_3 ++ dktX5_readPlace_4
def dkwX5_readPlace_2 : List UInt8 := [27, 42, 180, 0, 13, 3, 46, 42, 180, 0, 153, 104, 28, 96, 184, 0, 209, 153, 0, 8, 42, 5]
abbrev dktX5_readPlace_2 : List UInt8 := dkwX5_readPlace_2 ++ dktX5_readPlace_3
def dkwX5_readPlace_1 : List UInt8 := [153, 0, 49, 42, 180, 0, 142, 5, 160, 0, 41, 42, 180, 0, 153, 42, 180, 0, 13, 4, 46, 162, 0, 28]
abbrev dktX5_readPlace_1 : List UInt8 := dkwX5_readPlace_1 ++ dktX5_readPlace_2
def dkwX5_readPlace_0 : List UInt8 := [42, 18, 208, 182, 0, 183, 42, 3, 42, 180, 0, 13, 3, 46, 4, 100, 182, 0, 187, 61, 42, 182, 0, 160]
abbrev dktX5_readPlace_0 : List UInt8 := dkwX5_readPlace_0 ++ dktX5_readPlace_1
theorem dksX5_readPlace_0 : cX5_readPlace.data.toList.drop 0 = dktX5_readPlace_0 := by decide +kernel
theorem dksX5_readPlace_1 : cX5_readPlace.data.toList.drop 24 = dktX5_readPlace_1 := dk_seg dksX5_readPlace_0 24 rfl rfl
theorem dksX5_readPlace_2 : cX5_readPlace.data.toList.drop 48 = dktX5_readPlace_2 := dk_seg dksX5_readPlace_1 24 rfl rfl
theorem dksX5_readPlace_3 : cX5_readPlace.data.toList.drop 70 = dktX5_readPlace_3 := dk_seg dksX5_readPlace_2 22 rfl rfl
theorem dksX5_readPlace_4 : cX5_readPlace.data.toList.drop 94 = dktX5_readPlace_4 := dk_seg dksX5_readPlace_3 24 rfl rfl
theorem dX5_readPlace_0 : decode cX5_readPlace 0 = .ok (.aload_n 0, 1) := dk_42 (dk_at dksX5_readPlace_0 0 rfl rfl)
theorem dX5_readPlace_1 : decode cX5_readPlace 1 = .ok (.ldc 208, 2) := dk_18 208 (dk_at dksX5_readPlace_0 1 rfl rfl)
theorem dX5_readPlace_3 : decode cX5_readPlace 3 = .ok (.invokevirtual 183, 3) := dk_182 0 183 (dk_at dksX5_readPlace_0 3 rfl rfl)
theorem dX5_readPlace_6 : decode cX5_readPlace 6 = .ok (.aload_n 0, 1) := dk_42 (dk_at dksX5_readPlace_0 6 rfl rfl)
theorem dX5_readPlace_7 : decode cX5_readPlace 7 = .ok (.iconst 0, 1) := dk_3 (dk_at dksX5_readPlace_0 7 rfl rfl)
theorem dX5_readPlace_8 : decode cX5_readPlace 8 = .ok (.aload_n 0, 1) := dk_42 (dk_at dksX5_readPlace_0 8 rfl rfl)
theorem dX5_readPlace_9 : decode cX5_readPlace 9 = .ok (.getfield 13, 3) := dk_180 0 13 (dk_at dksX5_readPlace_0 9 rfl rfl)
theorem dX5_readPlace_12 : decode cX5_readPlace 12 = .ok (.iconst 0, 1) := dk_3 (dk_at dksX5_readPlace_0 12 rfl rfl)
theorem dX5_readPlace_13 : decode cX5_readPlace 13 = .ok (.iaload, 1) := dk_46 (dk_at dksX5_readPlace_0 13 rfl rfl)
theorem dX5_readPlace_14 : decode cX5_readPlace 14 = .ok (.iconst 1, 1) := dk_4 (dk_at dksX5_readPlace_0 14 rfl rfl)
theorem dX5_readPlace_15 : decode cX5_readPlace 15 = .ok (.isub, 1) := dk_100 (dk_at dksX5_readPlace_0 15 rfl rfl)
theorem dX5_readPlace_16 : decode cX5_readPlace 16 = .ok (.invokevirtual 187, 3) := dk_182 0 187 (dk_at dksX5_readPlace_0 16 rfl rfl)
theorem dX5_readPlace_19 : decode cX5_readPlace 19 = .ok (.istore_n 2, 1) := dk_61 (dk_at dksX5_readPlace_0 19 rfl rfl)
theorem dX5_readPlace_20 : decode cX5_readPlace 20 = .ok (.aload_n 0, 1) := dk_42 (dk_at dksX5_readPlace_0 20 rfl rfl)
theorem dX5_readPlace_21 : decode cX5_readPlace 21 = .ok (.invokevirtual 160, 3) := dk_182 0 160 (dk_at dksX5_readPlace_0 21 rfl rfl)
theorem dX5_readPlace_24 : decode cX5_readPlace 24 = .ok (.ifCond .eq 49, 3) := dk_153 0 49 (dk_at dksX5_readPlace_1 0 rfl rfl)
theorem dX5_readPlace_27 : decode cX5_readPlace 27 = .ok (.aload_n 0, 1) := dk_42 (dk_at dksX5_readPlace_1 3 rfl rfl)
theorem dX5_readPlace_28 : decode cX5_readPlace 28 = .ok (.getfield 142, 3) := dk_180 0 142 (dk_at dksX5_readPlace_1 4 rfl rfl)
theorem dX5_readPlace_31 : decode cX5_readPlace 31 = .ok (.iconst 2, 1) := dk_5 (dk_at dksX5_readPlace_1 7 rfl rfl)
theorem dX5_readPlace_32 : decode cX5_readPlace 32 = .ok (.if_icmp .ne 41, 3) := dk_160 0 41 (dk_at dksX5_readPlace_1 8 rfl rfl)
theorem dX5_readPlace_35 : decode cX5_readPlace 35 = .ok (.aload_n 0, 1) := dk_42 (dk_at dksX5_readPlace_1 11 rfl rfl)
theorem dX5_readPlace_36 : decode cX5_readPlace 36 = .ok (.getfield 153, 3) := dk_180 0 153 (dk_at dksX5_readPlace_1 12 rfl rfl)
theorem dX5_readPlace_39 : decode cX5_readPlace 39 = .ok (.aload_n 0, 1) := dk_42 (dk_at dksX5_readPlace_1 15 rfl rfl)
theorem dX5_readPlace_40 : decode cX5_readPlace 40 = .ok (.getfield 13, 3) := dk_180 0 13 (dk_at dksX5_readPlace_1 16 rfl rfl)
theorem dX5_readPlace_43 : decode cX5_readPlace 43 = .ok (.iconst 1, 1) := dk_4 (dk_at dksX5_readPlace_1 19 rfl rfl)
theorem dX5_readPlace_44 : decode cX5_readPlace 44 = .ok (.iaload, 1) := dk_46 (dk_at dksX5_readPlace_1 20 rfl rfl)
theorem dX5_readPlace_45 : decode cX5_readPlace 45 = .ok (.if_icmp .ge 28, 3) := dk_162 0 28 (dk_at dksX5_readPlace_1 21 rfl rfl)
theorem dX5_readPlace_48 : decode cX5_readPlace 48 = .ok (.iload_n 1, 1) := dk_27 (dk_at dksX5_readPlace_2 0 rfl rfl)
theorem dX5_readPlace_49 : decode cX5_readPlace 49 = .ok (.aload_n 0, 1) := dk_42 (dk_at dksX5_readPlace_2 1 rfl rfl)
theorem dX5_readPlace_50 : decode cX5_readPlace 50 = .ok (.getfield 13, 3) := dk_180 0 13 (dk_at dksX5_readPlace_2 2 rfl rfl)
theorem dX5_readPlace_53 : decode cX5_readPlace 53 = .ok (.iconst 0, 1) := dk_3 (dk_at dksX5_readPlace_2 5 rfl rfl)
theorem dX5_readPlace_54 : decode cX5_readPlace 54 = .ok (.iaload, 1) := dk_46 (dk_at dksX5_readPlace_2 6 rfl rfl)
theorem dX5_readPlace_55 : decode cX5_readPlace 55 = .ok (.aload_n 0, 1) := dk_42 (dk_at dksX5_readPlace_2 7 rfl rfl)
theorem dX5_readPlace_56 : decode cX5_readPlace 56 = .ok (.getfield 153, 3) := dk_180 0 153 (dk_at dksX5_readPlace_2 8 rfl rfl)
theorem dX5_readPlace_59 : decode cX5_readPlace 59 = .ok (.imul, 1) := dk_104 (dk_at dksX5_readPlace_2 11 rfl rfl)
theorem dX5_readPlace_60 : decode cX5_readPlace 60 = .ok (.iload_n 2, 1) := dk_28 (dk_at dksX5_readPlace_2 12 rfl rfl)
theorem dX5_readPlace_61 : decode cX5_readPlace 61 = .ok (.iadd, 1) := dk_96 (dk_at dksX5_readPlace_2 13 rfl rfl)
theorem dX5_readPlace_62 : decode cX5_readPlace 62 = .ok (.invokestatic 209, 3) := dk_184 0 209 (dk_at dksX5_readPlace_2 14 rfl rfl)
theorem dX5_readPlace_65 : decode cX5_readPlace 65 = .ok (.ifCond .eq 8, 3) := dk_153 0 8 (dk_at dksX5_readPlace_2 17 rfl rfl)
theorem dX5_readPlace_68 : decode cX5_readPlace 68 = .ok (.aload_n 0, 1) := dk_42 (dk_at dksX5_readPlace_2 20 rfl rfl)
theorem dX5_readPlace_69 : decode cX5_readPlace 69 = .ok (.iconst 2, 1) := dk_5 (dk_at dksX5_readPlace_2 21 rfl rfl)
theorem dX5_readPlace_70 : decode cX5_readPlace 70 = .ok (.invokevirtual 179, 3) := dk_182 0 179 (dk_at dksX5_readPlace_3 0 rfl rfl)
theorem dX5_readPlace_73 : decode cX5_readPlace 73 = .ok (.aload_n 0, 1) := dk_42 (dk_at dksX5_readPlace_3 3 rfl rfl)
theorem dX5_readPlace_74 : decode cX5_readPlace 74 = .ok (.iconst 0, 1) := dk_3 (dk_at dksX5_readPlace_3 4 rfl rfl)
theorem dX5_readPlace_75 : decode cX5_readPlace 75 = .ok (.aload_n 0, 1) := dk_42 (dk_at dksX5_readPlace_3 5 rfl rfl)
theorem dX5_readPlace_76 : decode cX5_readPlace 76 = .ok (.getfield 13, 3) := dk_180 0 13 (dk_at dksX5_readPlace_3 6 rfl rfl)
theorem dX5_readPlace_79 : decode cX5_readPlace 79 = .ok (.iconst 1, 1) := dk_4 (dk_at dksX5_readPlace_3 9 rfl rfl)
theorem dX5_readPlace_80 : decode cX5_readPlace 80 = .ok (.iaload, 1) := dk_46 (dk_at dksX5_readPlace_3 10 rfl rfl)
theorem dX5_readPlace_81 : decode cX5_readPlace 81 = .ok (.iconst 1, 1) := dk_4 (dk_at dksX5_readPlace_3 11 rfl rfl)
theorem dX5_readPlace_82 : decode cX5_readPlace 82 = .ok (.isub, 1) := dk_100 (dk_at dksX5_readPlace_3 12 rfl rfl)
theorem dX5_readPlace_83 : decode cX5_readPlace 83 = .ok (.invokevirtual 187, 3) := dk_182 0 187 (dk_at dksX5_readPlace_3 13 rfl rfl)
theorem dX5_readPlace_86 : decode cX5_readPlace 86 = .ok (.istore_n 3, 1) := dk_62 (dk_at dksX5_readPlace_3 16 rfl rfl)
theorem dX5_readPlace_87 : decode cX5_readPlace 87 = .ok (.aload_n 0, 1) := dk_42 (dk_at dksX5_readPlace_3 17 rfl rfl)
theorem dX5_readPlace_88 : decode cX5_readPlace 88 = .ok (.getfield 13, 3) := dk_180 0 13 (dk_at dksX5_readPlace_3 18 rfl rfl)
theorem dX5_readPlace_91 : decode cX5_readPlace 91 = .ok (.iconst 0, 1) := dk_3 (dk_at dksX5_readPlace_3 21 rfl rfl)
theorem dX5_readPlace_92 : decode cX5_readPlace 92 = .ok (.iaload, 1) := dk_46 (dk_at dksX5_readPlace_3 22 rfl rfl)
theorem dX5_readPlace_93 : decode cX5_readPlace 93 = .ok (.iload_n 3, 1) := dk_29 (dk_at dksX5_readPlace_3 23 rfl rfl)
theorem dX5_readPlace_94 : decode cX5_readPlace 94 = .ok (.imul, 1) := dk_104 (dk_at dksX5_readPlace_4 0 rfl rfl)
theorem dX5_readPlace_95 : decode cX5_readPlace 95 = .ok (.iload_n 2, 1) := dk_28 (dk_at dksX5_readPlace_4 1 rfl rfl)
theorem dX5_readPlace_96 : decode cX5_readPlace 96 = .ok (.iadd, 1) := dk_96 (dk_at dksX5_readPlace_4 2 rfl rfl)
theorem dX5_readPlace_97 : decode cX5_readPlace 97 = .ok (.ireturn, 1) := dk_172 (dk_at dksX5_readPlace_4 3 rfl rfl)
abbrev cX5_isOf : ByteArray := prog_17_method_4_code
def yX5_isOf : MethodName := ⟨RX5, "isOf", "(II)Z"⟩
def dkwX5_isOf_0 : List UInt8 := [26, 27, 122, 4, 126, 4, 160, 0, 7, 4, 167, 0, 4, 3, 172]
abbrev dktX5_isOf_0 : List UInt8 := dkwX5_isOf_0 ++ []
theorem dksX5_isOf_0 : cX5_isOf.data.toList.drop 0 = dktX5_isOf_0 := by decide +kernel
theorem dX5_isOf_0 : decode cX5_isOf 0 = .ok (.iload_n 0, 1) := dk_26 (dk_at dksX5_isOf_0 0 rfl rfl)
theorem dX5_isOf_1 : decode cX5_isOf 1 = .ok (.iload_n 1, 1) := dk_27 (dk_at dksX5_isOf_0 1 rfl rfl)
theorem dX5_isOf_2 : decode cX5_isOf 2 = .ok (.ishr, 1) := dk_122 (dk_at dksX5_isOf_0 2 rfl rfl)
theorem dX5_isOf_3 : decode cX5_isOf 3 = .ok (.iconst 1, 1) := dk_4 (dk_at dksX5_isOf_0 3 rfl rfl)
theorem dX5_isOf_4 : decode cX5_isOf 4 = .ok (.iand, 1) := dk_126 (dk_at dksX5_isOf_0 4 rfl rfl)
theorem dX5_isOf_5 : decode cX5_isOf 5 = .ok (.iconst 1, 1) := dk_4 (dk_at dksX5_isOf_0 5 rfl rfl)
theorem dX5_isOf_6 : decode cX5_isOf 6 = .ok (.if_icmp .ne 7, 3) := dk_160 0 7 (dk_at dksX5_isOf_0 6 rfl rfl)
theorem dX5_isOf_9 : decode cX5_isOf 9 = .ok (.iconst 1, 1) := dk_4 (dk_at dksX5_isOf_0 9 rfl rfl)
theorem dX5_isOf_10 : decode cX5_isOf 10 = .ok (.goto 4, 3) := dk_167 0 4 (dk_at dksX5_isOf_0 10 rfl rfl)
theorem dX5_isOf_13 : decode cX5_isOf 13 = .ok (.iconst 0, 1) := dk_3 (dk_at dksX5_isOf_0 13 rfl rfl)
theorem dX5_isOf_14 : decode cX5_isOf 14 = .ok (.ireturn, 1) := dk_172 (dk_at dksX5_isOf_0 14 rfl rfl)
abbrev cX5_strapOf : ByteArray := prog_17_method_19_code
def yX5_strapOf : MethodName := ⟨RX5, "strapOf", "(II)I"⟩
def dkwX5_strapOf_2 : List UInt8 := [132, 3, 1, 167, 255, 209, 2, 172]
abbrev dktX5_strapOf_2 : List UInt8 := dkwX5_strapOf_2 ++ []
def dkwX5_strapOf_1 : List UInt8 := [160, 0, 23, 42, 180, 0, 26, 5, 29, 104, 4, 96, 46, 27, 28, 184, 0, 123, 160, 0, 5, 29, 172]
abbrev dktX5_strapOf_1 : List UInt8 := dkwX5_strapOf_1 ++ dktX5_strapOf_2
def dkwX5_strapOf_0 : List UInt8 := [3, 62, 29, 42, 180, 0, 102, 162, 0, 45, 42, 180, 0, 26, 5, 29, 104, 46, 27, 28, 184, 0, 119]
abbrev dktX5_strapOf_0 : List UInt8 := dkwX5_strapOf_0 ++ dktX5_strapOf_1
theorem dksX5_strapOf_0 : cX5_strapOf.data.toList.drop 0 = dktX5_strapOf_0 := by decide +kernel
theorem dksX5_strapOf_1 : cX5_strapOf.data.toList.drop 23 = dktX5_strapOf_1 := dk_seg dksX5_strapOf_0 23 rfl rfl
theorem dksX5_strapOf_2 : cX5_strapOf.data.toList.drop 46 = dktX5_strapOf_2 := dk_seg dksX5_strapOf_1 23 rfl rfl
theorem dX5_strapOf_0 : decode cX5_strapOf 0 = .ok (.iconst 0, 1) := dk_3 (dk_at dksX5_strapOf_0 0 rfl rfl)
theorem dX5_strapOf_1 : decode cX5_strapOf 1 = .ok (.istore_n 3, 1) := dk_62 (dk_at dksX5_strapOf_0 1 rfl rfl)
theorem dX5_strapOf_2 : decode cX5_strapOf 2 = .ok (.iload_n 3, 1) := dk_29 (dk_at dksX5_strapOf_0 2 rfl rfl)
theorem dX5_strapOf_3 : decode cX5_strapOf 3 = .ok (.aload_n 0, 1) := dk_42 (dk_at dksX5_strapOf_0 3 rfl rfl)
theorem dX5_strapOf_4 : decode cX5_strapOf 4 = .ok (.getfield 102, 3) := dk_180 0 102 (dk_at dksX5_strapOf_0 4 rfl rfl)
theorem dX5_strapOf_7 : decode cX5_strapOf 7 = .ok (.if_icmp .ge 45, 3) := dk_162 0 45 (dk_at dksX5_strapOf_0 7 rfl rfl)
theorem dX5_strapOf_10 : decode cX5_strapOf 10 = .ok (.aload_n 0, 1) := dk_42 (dk_at dksX5_strapOf_0 10 rfl rfl)
theorem dX5_strapOf_11 : decode cX5_strapOf 11 = .ok (.getfield 26, 3) := dk_180 0 26 (dk_at dksX5_strapOf_0 11 rfl rfl)
theorem dX5_strapOf_14 : decode cX5_strapOf 14 = .ok (.iconst 2, 1) := dk_5 (dk_at dksX5_strapOf_0 14 rfl rfl)
theorem dX5_strapOf_15 : decode cX5_strapOf 15 = .ok (.iload_n 3, 1) := dk_29 (dk_at dksX5_strapOf_0 15 rfl rfl)
theorem dX5_strapOf_16 : decode cX5_strapOf 16 = .ok (.imul, 1) := dk_104 (dk_at dksX5_strapOf_0 16 rfl rfl)
theorem dX5_strapOf_17 : decode cX5_strapOf 17 = .ok (.iaload, 1) := dk_46 (dk_at dksX5_strapOf_0 17 rfl rfl)
theorem dX5_strapOf_18 : decode cX5_strapOf 18 = .ok (.iload_n 1, 1) := dk_27 (dk_at dksX5_strapOf_0 18 rfl rfl)
theorem dX5_strapOf_19 : decode cX5_strapOf 19 = .ok (.iload_n 2, 1) := dk_28 (dk_at dksX5_strapOf_0 19 rfl rfl)
theorem dX5_strapOf_20 : decode cX5_strapOf 20 = .ok (.invokestatic 119, 3) := dk_184 0 119 (dk_at dksX5_strapOf_0 20 rfl rfl)
theorem dX5_strapOf_23 : decode cX5_strapOf 23 = .ok (.if_icmp .ne 23, 3) := dk_160 0 23 (dk_at dksX5_strapOf_1 0 rfl rfl)
theorem dX5_strapOf_26 : decode cX5_strapOf 26 = .ok (.aload_n 0, 1) := dk_42 (dk_at dksX5_strapOf_1 3 rfl rfl)
theorem dX5_strapOf_27 : decode cX5_strapOf 27 = .ok (.getfield 26, 3) := dk_180 0 26 (dk_at dksX5_strapOf_1 4 rfl rfl)
theorem dX5_strapOf_30 : decode cX5_strapOf 30 = .ok (.iconst 2, 1) := dk_5 (dk_at dksX5_strapOf_1 7 rfl rfl)
theorem dX5_strapOf_31 : decode cX5_strapOf 31 = .ok (.iload_n 3, 1) := dk_29 (dk_at dksX5_strapOf_1 8 rfl rfl)
theorem dX5_strapOf_32 : decode cX5_strapOf 32 = .ok (.imul, 1) := dk_104 (dk_at dksX5_strapOf_1 9 rfl rfl)
theorem dX5_strapOf_33 : decode cX5_strapOf 33 = .ok (.iconst 1, 1) := dk_4 (dk_at dksX5_strapOf_1 10 rfl rfl)
theorem dX5_strapOf_34 : decode cX5_strapOf 34 = .ok (.iadd, 1) := dk_96 (dk_at dksX5_strapOf_1 11 rfl rfl)
theorem dX5_strapOf_35 : decode cX5_strapOf 35 = .ok (.iaload, 1) := dk_46 (dk_at dksX5_strapOf_1 12 rfl rfl)
theorem dX5_strapOf_36 : decode cX5_strapOf 36 = .ok (.iload_n 1, 1) := dk_27 (dk_at dksX5_strapOf_1 13 rfl rfl)
theorem dX5_strapOf_37 : decode cX5_strapOf 37 = .ok (.iload_n 2, 1) := dk_28 (dk_at dksX5_strapOf_1 14 rfl rfl)
theorem dX5_strapOf_38 : decode cX5_strapOf 38 = .ok (.invokestatic 123, 3) := dk_184 0 123 (dk_at dksX5_strapOf_1 15 rfl rfl)
theorem dX5_strapOf_41 : decode cX5_strapOf 41 = .ok (.if_icmp .ne 5, 3) := dk_160 0 5 (dk_at dksX5_strapOf_1 18 rfl rfl)
theorem dX5_strapOf_44 : decode cX5_strapOf 44 = .ok (.iload_n 3, 1) := dk_29 (dk_at dksX5_strapOf_1 21 rfl rfl)
theorem dX5_strapOf_45 : decode cX5_strapOf 45 = .ok (.ireturn, 1) := dk_172 (dk_at dksX5_strapOf_1 22 rfl rfl)
theorem dX5_strapOf_46 : decode cX5_strapOf 46 = .ok (.iinc 3 1, 3) := dk_132 3 1 (dk_at dksX5_strapOf_2 0 rfl rfl)
theorem dX5_strapOf_49 : decode cX5_strapOf 49 = .ok (.goto (-47), 3) := dk_167 255 209 (dk_at dksX5_strapOf_2 3 rfl rfl)
theorem dX5_strapOf_52 : decode cX5_strapOf 52 = .ok (.iconst (-1), 1) := dk_2 (dk_at dksX5_strapOf_2 6 rfl rfl)
theorem dX5_strapOf_53 : decode cX5_strapOf 53 = .ok (.ireturn, 1) := dk_172 (dk_at dksX5_strapOf_2 7 rfl rfl)
abbrev cX5_readLoad : ByteArray := prog_17_method_34_code
def yX5_readLoad : MethodName := ⟨RX5, "readLoad", "()V"⟩
def dkwX5_readLoad_3 : List UInt8 := [180, 0, 223, 4, 27, 120, 128, 181, 0, 223, 177]
abbrev dktX5_readLoad_3 : List UInt8 := dkwX5_readLoad_3 ++ []
def dkwX5_readLoad_2 : List UInt8 := [177, 42, 180, 0, 13, 16, 6, 27, 96, 28, 79, 42, 180, 0, 13, 16, 15, 27, 96, 29, 79, 42, 89]
abbrev dktX5_readLoad_2 : List UInt8 := dkwX5_readLoad_2 ++ dktX5_readLoad_3
def dkwX5_readLoad_1 : List UInt8 := [182, 0, 172, 153, 0, 14, 42, 182, 0, 176, 42, 4, 6, 182, 0, 187, 62, 42, 182, 0, 160, 154, 0, 4]
abbrev dktX5_readLoad_1 : List UInt8 := dkwX5_readLoad_1 ++ dktX5_readLoad_2
def dkwX5_readLoad_0 : List UInt8 := [42, 42, 180, 0, 223, 182, 0, 213, 60, 42, 18, 226, 4, 16, 99, 182, 0, 194, 61, 3, 62, 42, 18, 228]
abbrev dktX5_readLoad_0 : List UInt8 := dkwX5_readLoad_0 ++ dktX5_readLoad_1
theorem dksX5_readLoad_0 : cX5_readLoad.data.toList.drop 0 = dktX5_readLoad_0 := by decide +kernel
theorem dksX5_readLoad_1 : cX5_readLoad.data.toList.drop 24 = dktX5_readLoad_1 := dk_seg dksX5_readLoad_0 24 rfl rfl
theorem dksX5_readLoad_2 : cX5_readLoad.data.toList.drop 48 = dktX5_readLoad_2 := dk_seg dksX5_readLoad_1 24 rfl rfl
theorem dksX5_readLoad_3 : cX5_readLoad.data.toList.drop 71 = dktX5_readLoad_3 := dk_seg dksX5_readLoad_2 23 rfl rfl
theorem dX5_readLoad_0 : decode cX5_readLoad 0 = .ok (.aload_n 0, 1) := dk_42 (dk_at dksX5_readLoad_0 0 rfl rfl)
theorem dX5_readLoad_1 : decode cX5_readLoad 1 = .ok (.aload_n 0, 1) := dk_42 (dk_at dksX5_readLoad_0 1 rfl rfl)
theorem dX5_readLoad_2 : decode cX5_readLoad 2 = .ok (.getfield 223, 3) := dk_180 0 223 (dk_at dksX5_readLoad_0 2 rfl rfl)
theorem dX5_readLoad_5 : decode cX5_readLoad 5 = .ok (.invokevirtual 213, 3) := dk_182 0 213 (dk_at dksX5_readLoad_0 5 rfl rfl)
theorem dX5_readLoad_8 : decode cX5_readLoad 8 = .ok (.istore_n 1, 1) := dk_60 (dk_at dksX5_readLoad_0 8 rfl rfl)
theorem dX5_readLoad_9 : decode cX5_readLoad 9 = .ok (.aload_n 0, 1) := dk_42 (dk_at dksX5_readLoad_0 9 rfl rfl)
theorem dX5_readLoad_10 : decode cX5_readLoad 10 = .ok (.ldc 226, 2) := dk_18 226 (dk_at dksX5_readLoad_0 10 rfl rfl)
theorem dX5_readLoad_12 : decode cX5_readLoad 12 = .ok (.iconst 1, 1) := dk_4 (dk_at dksX5_readLoad_0 12 rfl rfl)
theorem dX5_readLoad_13 : decode cX5_readLoad 13 = .ok (.bipush 99, 2) := dk_16 99 (dk_at dksX5_readLoad_0 13 rfl rfl)
theorem dX5_readLoad_15 : decode cX5_readLoad 15 = .ok (.invokevirtual 194, 3) := dk_182 0 194 (dk_at dksX5_readLoad_0 15 rfl rfl)
theorem dX5_readLoad_18 : decode cX5_readLoad 18 = .ok (.istore_n 2, 1) := dk_61 (dk_at dksX5_readLoad_0 18 rfl rfl)
theorem dX5_readLoad_19 : decode cX5_readLoad 19 = .ok (.iconst 0, 1) := dk_3 (dk_at dksX5_readLoad_0 19 rfl rfl)
theorem dX5_readLoad_20 : decode cX5_readLoad 20 = .ok (.istore_n 3, 1) := dk_62 (dk_at dksX5_readLoad_0 20 rfl rfl)
theorem dX5_readLoad_21 : decode cX5_readLoad 21 = .ok (.aload_n 0, 1) := dk_42 (dk_at dksX5_readLoad_0 21 rfl rfl)
theorem dX5_readLoad_22 : decode cX5_readLoad 22 = .ok (.ldc 228, 2) := dk_18 228 (dk_at dksX5_readLoad_0 22 rfl rfl)
theorem dX5_readLoad_24 : decode cX5_readLoad 24 = .ok (.invokevirtual 172, 3) := dk_182 0 172 (dk_at dksX5_readLoad_1 0 rfl rfl)
theorem dX5_readLoad_27 : decode cX5_readLoad 27 = .ok (.ifCond .eq 14, 3) := dk_153 0 14 (dk_at dksX5_readLoad_1 3 rfl rfl)
theorem dX5_readLoad_30 : decode cX5_readLoad 30 = .ok (.aload_n 0, 1) := dk_42 (dk_at dksX5_readLoad_1 6 rfl rfl)
theorem dX5_readLoad_31 : decode cX5_readLoad 31 = .ok (.invokevirtual 176, 3) := dk_182 0 176 (dk_at dksX5_readLoad_1 7 rfl rfl)
theorem dX5_readLoad_34 : decode cX5_readLoad 34 = .ok (.aload_n 0, 1) := dk_42 (dk_at dksX5_readLoad_1 10 rfl rfl)
theorem dX5_readLoad_35 : decode cX5_readLoad 35 = .ok (.iconst 1, 1) := dk_4 (dk_at dksX5_readLoad_1 11 rfl rfl)
theorem dX5_readLoad_36 : decode cX5_readLoad 36 = .ok (.iconst 3, 1) := dk_6 (dk_at dksX5_readLoad_1 12 rfl rfl)
theorem dX5_readLoad_37 : decode cX5_readLoad 37 = .ok (.invokevirtual 187, 3) := dk_182 0 187 (dk_at dksX5_readLoad_1 13 rfl rfl)
theorem dX5_readLoad_40 : decode cX5_readLoad 40 = .ok (.istore_n 3, 1) := dk_62 (dk_at dksX5_readLoad_1 16 rfl rfl)
theorem dX5_readLoad_41 : decode cX5_readLoad 41 = .ok (.aload_n 0, 1) := dk_42 (dk_at dksX5_readLoad_1 17 rfl rfl)
theorem dX5_readLoad_42 : decode cX5_readLoad 42 = .ok (.invokevirtual 160, 3) := dk_182 0 160 (dk_at dksX5_readLoad_1 18 rfl rfl)
theorem dX5_readLoad_45 : decode cX5_readLoad 45 = .ok (.ifCond .ne 4, 3) := dk_154 0 4 (dk_at dksX5_readLoad_1 21 rfl rfl)
theorem dX5_readLoad_48 : decode cX5_readLoad 48 = .ok (.return_, 1) := dk_177 (dk_at dksX5_readLoad_2 0 rfl rfl)
theorem dX5_readLoad_49 : decode cX5_readLoad 49 = .ok (.aload_n 0, 1) := dk_42 (dk_at dksX5_readLoad_2 1 rfl rfl)
theorem dX5_readLoad_50 : decode cX5_readLoad 50 = .ok (.getfield 13, 3) := dk_180 0 13 (dk_at dksX5_readLoad_2 2 rfl rfl)
theorem dX5_readLoad_53 : decode cX5_readLoad 53 = .ok (.bipush 6, 2) := dk_16 6 (dk_at dksX5_readLoad_2 5 rfl rfl)
theorem dX5_readLoad_55 : decode cX5_readLoad 55 = .ok (.iload_n 1, 1) := dk_27 (dk_at dksX5_readLoad_2 7 rfl rfl)
theorem dX5_readLoad_56 : decode cX5_readLoad 56 = .ok (.iadd, 1) := dk_96 (dk_at dksX5_readLoad_2 8 rfl rfl)
theorem dX5_readLoad_57 : decode cX5_readLoad 57 = .ok (.iload_n 2, 1) := dk_28 (dk_at dksX5_readLoad_2 9 rfl rfl)
theorem dX5_readLoad_58 : decode cX5_readLoad 58 = .ok (.iastore, 1) := dk_79 (dk_at dksX5_readLoad_2 10 rfl rfl)
theorem dX5_readLoad_59 : decode cX5_readLoad 59 = .ok (.aload_n 0, 1) := dk_42 (dk_at dksX5_readLoad_2 11 rfl rfl)
theorem dX5_readLoad_60 : decode cX5_readLoad 60 = .ok (.getfield 13, 3) := dk_180 0 13 (dk_at dksX5_readLoad_2 12 rfl rfl)
theorem dX5_readLoad_63 : decode cX5_readLoad 63 = .ok (.bipush 15, 2) := dk_16 15 (dk_at dksX5_readLoad_2 15 rfl rfl)
theorem dX5_readLoad_65 : decode cX5_readLoad 65 = .ok (.iload_n 1, 1) := dk_27 (dk_at dksX5_readLoad_2 17 rfl rfl)
theorem dX5_readLoad_66 : decode cX5_readLoad 66 = .ok (.iadd, 1) := dk_96 (dk_at dksX5_readLoad_2 18 rfl rfl)
theorem dX5_readLoad_67 : decode cX5_readLoad 67 = .ok (.iload_n 3, 1) := dk_29 (dk_at dksX5_readLoad_2 19 rfl rfl)
theorem dX5_readLoad_68 : decode cX5_readLoad 68 = .ok (.iastore, 1) := dk_79 (dk_at dksX5_readLoad_2 20 rfl rfl)
theorem dX5_readLoad_69 : decode cX5_readLoad 69 = .ok (.aload_n 0, 1) := dk_42 (dk_at dksX5_readLoad_2 21 rfl rfl)
theorem dX5_readLoad_70 : decode cX5_readLoad 70 = .ok (.dup, 1) := dk_89 (dk_at dksX5_readLoad_2 22 rfl rfl)
theorem dX5_readLoad_71 : decode cX5_readLoad 71 = .ok (.getfield 223, 3) := dk_180 0 223 (dk_at dksX5_readLoad_3 0 rfl rfl)
theorem dX5_readLoad_74 : decode cX5_readLoad 74 = .ok (.iconst 1, 1) := dk_4 (dk_at dksX5_readLoad_3 3 rfl rfl)
theorem dX5_readLoad_75 : decode cX5_readLoad 75 = .ok (.iload_n 1, 1) := dk_27 (dk_at dksX5_readLoad_3 4 rfl rfl)
theorem dX5_readLoad_76 : decode cX5_readLoad 76 = .ok (.ishl, 1) := dk_120 (dk_at dksX5_readLoad_3 5 rfl rfl)
theorem dX5_readLoad_77 : decode cX5_readLoad 77 = .ok (.ior, 1) := dk_128 (dk_at dksX5_readLoad_3 6 rfl rfl)
theorem dX5_readLoad_78 : decode cX5_readLoad 78 = .ok (.putfield 223, 3) := dk_181 0 223 (dk_at dksX5_readLoad_3 7 rfl rfl)
theorem dX5_readLoad_81 : decode cX5_readLoad 81 = .ok (.return_, 1) := dk_177 (dk_at dksX5_readLoad_3 10 rfl rfl)
abbrev cX5_readBudget : ByteArray := prog_17_method_35_code
def yX5_readBudget : MethodName := ⟨RX5, "readBudget", "()V"⟩
def dkwX5_readBudget_3 : List UInt8 := [16, 24, 27, 96, 28, 79, 42, 89, 180, 0, 230, 4, 27, 120, 128, 181, 0, 230, 177]
abbrev dktX5_readBudget_3 : List UInt8 := dkwX5_readBudget_3 ++ []
def dkwX5_readBudget_2 : List UInt8 := [60, 42, 18, 233, 3, 17, 3, 231, 182, 0, 194, 61, 42, 182, 0, 160, 154, 0, 4, 177, 42, 180, 0, 13]
abbrev dktX5_readBudget_2 : List UInt8 := dkwX5_readBudget_2 ++ dktX5_readBudget_3
def dkwX5_readBudget_1 : List UInt8 := [180, 0, 230, 42, 180, 0, 153, 184, 0, 209, 153, 0, 8, 42, 5, 182, 0, 179, 42, 3, 6, 182, 0, 187]
abbrev dktX5_readBudget_1 : List UInt8 := dkwX5_readBudget_1 ++ dktX5_readBudget_2
def dkwX5_readBudget_0 : List UInt8 := [42, 182, 0, 160, 153, 0, 38, 42, 180, 0, 142, 5, 160, 0, 30, 42, 180, 0, 153, 7, 162, 0, 22, 42]
abbrev dktX5_readBudget_0 : List UInt8 := dkwX5_readBudget_0 ++ dktX5_readBudget_1
theorem dksX5_readBudget_0 : cX5_readBudget.data.toList.drop 0 = dktX5_readBudget_0 := by decide +kernel
theorem dksX5_readBudget_1 : cX5_readBudget.data.toList.drop 24 = dktX5_readBudget_1 := dk_seg dksX5_readBudget_0 24 rfl rfl
theorem dksX5_readBudget_2 : cX5_readBudget.data.toList.drop 48 = dktX5_readBudget_2 := dk_seg dksX5_readBudget_1 24 rfl rfl
theorem dksX5_readBudget_3 : cX5_readBudget.data.toList.drop 72 = dktX5_readBudget_3 := dk_seg dksX5_readBudget_2 24 rfl rfl
theorem dX5_readBudget_0 : decode cX5_readBudget 0 = .ok (.aload_n 0, 1) := dk_42 (dk_at dksX5_readBudget_0 0 rfl rfl)
theorem dX5_readBudget_1 : decode cX5_readBudget 1 = .ok (.invokevirtual 160, 3) := dk_182 0 160 (dk_at dksX5_readBudget_0 1 rfl rfl)
theorem dX5_readBudget_4 : decode cX5_readBudget 4 = .ok (.ifCond .eq 38, 3) := dk_153 0 38 (dk_at dksX5_readBudget_0 4 rfl rfl)
theorem dX5_readBudget_7 : decode cX5_readBudget 7 = .ok (.aload_n 0, 1) := dk_42 (dk_at dksX5_readBudget_0 7 rfl rfl)
theorem dX5_readBudget_8 : decode cX5_readBudget 8 = .ok (.getfield 142, 3) := dk_180 0 142 (dk_at dksX5_readBudget_0 8 rfl rfl)
theorem dX5_readBudget_11 : decode cX5_readBudget 11 = .ok (.iconst 2, 1) := dk_5 (dk_at dksX5_readBudget_0 11 rfl rfl)
theorem dX5_readBudget_12 : decode cX5_readBudget 12 = .ok (.if_icmp .ne 30, 3) := dk_160 0 30 (dk_at dksX5_readBudget_0 12 rfl rfl)
theorem dX5_readBudget_15 : decode cX5_readBudget 15 = .ok (.aload_n 0, 1) := dk_42 (dk_at dksX5_readBudget_0 15 rfl rfl)
theorem dX5_readBudget_16 : decode cX5_readBudget 16 = .ok (.getfield 153, 3) := dk_180 0 153 (dk_at dksX5_readBudget_0 16 rfl rfl)
theorem dX5_readBudget_19 : decode cX5_readBudget 19 = .ok (.iconst 4, 1) := dk_7 (dk_at dksX5_readBudget_0 19 rfl rfl)
theorem dX5_readBudget_20 : decode cX5_readBudget 20 = .ok (.if_icmp .ge 22, 3) := dk_162 0 22 (dk_at dksX5_readBudget_0 20 rfl rfl)
theorem dX5_readBudget_23 : decode cX5_readBudget 23 = .ok (.aload_n 0, 1) := dk_42 (dk_at dksX5_readBudget_0 23 rfl rfl)
theorem dX5_readBudget_24 : decode cX5_readBudget 24 = .ok (.getfield 230, 3) := dk_180 0 230 (dk_at dksX5_readBudget_1 0 rfl rfl)
theorem dX5_readBudget_27 : decode cX5_readBudget 27 = .ok (.aload_n 0, 1) := dk_42 (dk_at dksX5_readBudget_1 3 rfl rfl)
theorem dX5_readBudget_28 : decode cX5_readBudget 28 = .ok (.getfield 153, 3) := dk_180 0 153 (dk_at dksX5_readBudget_1 4 rfl rfl)
theorem dX5_readBudget_31 : decode cX5_readBudget 31 = .ok (.invokestatic 209, 3) := dk_184 0 209 (dk_at dksX5_readBudget_1 7 rfl rfl)
theorem dX5_readBudget_34 : decode cX5_readBudget 34 = .ok (.ifCond .eq 8, 3) := dk_153 0 8 (dk_at dksX5_readBudget_1 10 rfl rfl)
theorem dX5_readBudget_37 : decode cX5_readBudget 37 = .ok (.aload_n 0, 1) := dk_42 (dk_at dksX5_readBudget_1 13 rfl rfl)
theorem dX5_readBudget_38 : decode cX5_readBudget 38 = .ok (.iconst 2, 1) := dk_5 (dk_at dksX5_readBudget_1 14 rfl rfl)
theorem dX5_readBudget_39 : decode cX5_readBudget 39 = .ok (.invokevirtual 179, 3) := dk_182 0 179 (dk_at dksX5_readBudget_1 15 rfl rfl)
theorem dX5_readBudget_42 : decode cX5_readBudget 42 = .ok (.aload_n 0, 1) := dk_42 (dk_at dksX5_readBudget_1 18 rfl rfl)
theorem dX5_readBudget_43 : decode cX5_readBudget 43 = .ok (.iconst 0, 1) := dk_3 (dk_at dksX5_readBudget_1 19 rfl rfl)
theorem dX5_readBudget_44 : decode cX5_readBudget 44 = .ok (.iconst 3, 1) := dk_6 (dk_at dksX5_readBudget_1 20 rfl rfl)
theorem dX5_readBudget_45 : decode cX5_readBudget 45 = .ok (.invokevirtual 187, 3) := dk_182 0 187 (dk_at dksX5_readBudget_1 21 rfl rfl)
theorem dX5_readBudget_48 : decode cX5_readBudget 48 = .ok (.istore_n 1, 1) := dk_60 (dk_at dksX5_readBudget_2 0 rfl rfl)
theorem dX5_readBudget_49 : decode cX5_readBudget 49 = .ok (.aload_n 0, 1) := dk_42 (dk_at dksX5_readBudget_2 1 rfl rfl)
theorem dX5_readBudget_50 : decode cX5_readBudget 50 = .ok (.ldc 233, 2) := dk_18 233 (dk_at dksX5_readBudget_2 2 rfl rfl)
theorem dX5_readBudget_52 : decode cX5_readBudget 52 = .ok (.iconst 0, 1) := dk_3 (dk_at dksX5_readBudget_2 4 rfl rfl)
theorem dX5_readBudget_53 : decode cX5_readBudget 53 = .ok (.sipush 999, 3) := dk_17 3 231 (dk_at dksX5_readBudget_2 5 rfl rfl)
theorem dX5_readBudget_56 : decode cX5_readBudget 56 = .ok (.invokevirtual 194, 3) := dk_182 0 194 (dk_at dksX5_readBudget_2 8 rfl rfl)
theorem dX5_readBudget_59 : decode cX5_readBudget 59 = .ok (.istore_n 2, 1) := dk_61 (dk_at dksX5_readBudget_2 11 rfl rfl)
theorem dX5_readBudget_60 : decode cX5_readBudget 60 = .ok (.aload_n 0, 1) := dk_42 (dk_at dksX5_readBudget_2 12 rfl rfl)
theorem dX5_readBudget_61 : decode cX5_readBudget 61 = .ok (.invokevirtual 160, 3) := dk_182 0 160 (dk_at dksX5_readBudget_2 13 rfl rfl)
theorem dX5_readBudget_64 : decode cX5_readBudget 64 = .ok (.ifCond .ne 4, 3) := dk_154 0 4 (dk_at dksX5_readBudget_2 16 rfl rfl)
theorem dX5_readBudget_67 : decode cX5_readBudget 67 = .ok (.return_, 1) := dk_177 (dk_at dksX5_readBudget_2 19 rfl rfl)
theorem dX5_readBudget_68 : decode cX5_readBudget 68 = .ok (.aload_n 0, 1) := dk_42 (dk_at dksX5_readBudget_2 20 rfl rfl)
theorem dX5_readBudget_69 : decode cX5_readBudget 69 = .ok (.getfield 13, 3) := dk_180 0 13 (dk_at dksX5_readBudget_2 21 rfl rfl)
theorem dX5_readBudget_72 : decode cX5_readBudget 72 = .ok (.bipush 24, 2) := dk_16 24 (dk_at dksX5_readBudget_3 0 rfl rfl)
theorem dX5_readBudget_74 : decode cX5_readBudget 74 = .ok (.iload_n 1, 1) := dk_27 (dk_at dksX5_readBudget_3 2 rfl rfl)
theorem dX5_readBudget_75 : decode cX5_readBudget 75 = .ok (.iadd, 1) := dk_96 (dk_at dksX5_readBudget_3 3 rfl rfl)
theorem dX5_readBudget_76 : decode cX5_readBudget 76 = .ok (.iload_n 2, 1) := dk_28 (dk_at dksX5_readBudget_3 4 rfl rfl)
theorem dX5_readBudget_77 : decode cX5_readBudget 77 = .ok (.iastore, 1) := dk_79 (dk_at dksX5_readBudget_3 5 rfl rfl)
theorem dX5_readBudget_78 : decode cX5_readBudget 78 = .ok (.aload_n 0, 1) := dk_42 (dk_at dksX5_readBudget_3 6 rfl rfl)
theorem dX5_readBudget_79 : decode cX5_readBudget 79 = .ok (.dup, 1) := dk_89 (dk_at dksX5_readBudget_3 7 rfl rfl)
theorem dX5_readBudget_80 : decode cX5_readBudget 80 = .ok (.getfield 230, 3) := dk_180 0 230 (dk_at dksX5_readBudget_3 8 rfl rfl)
theorem dX5_readBudget_83 : decode cX5_readBudget 83 = .ok (.iconst 1, 1) := dk_4 (dk_at dksX5_readBudget_3 11 rfl rfl)
theorem dX5_readBudget_84 : decode cX5_readBudget 84 = .ok (.iload_n 1, 1) := dk_27 (dk_at dksX5_readBudget_3 12 rfl rfl)
theorem dX5_readBudget_85 : decode cX5_readBudget 85 = .ok (.ishl, 1) := dk_120 (dk_at dksX5_readBudget_3 13 rfl rfl)
theorem dX5_readBudget_86 : decode cX5_readBudget 86 = .ok (.ior, 1) := dk_128 (dk_at dksX5_readBudget_3 14 rfl rfl)
theorem dX5_readBudget_87 : decode cX5_readBudget 87 = .ok (.putfield 230, 3) := dk_181 0 230 (dk_at dksX5_readBudget_3 15 rfl rfl)
theorem dX5_readBudget_90 : decode cX5_readBudget 90 = .ok (.return_, 1) := dk_177 (dk_at dksX5_readBudget_3 18 rfl rfl)
abbrev cX5_count : ByteArray := prog_17_method_52_code
def yX5_count : MethodName := ⟨RX5, "count", "(I)I"⟩
def dkwX5_count_5 : List UInt8 := [167, 0, 4, 3, 172, 2, 172]
abbrev dktX5_count_5 : List UInt8 := dkwX5_count_5 ++ []
def dkwX5_count_4 : List UInt8 := [180, 0, 126, 172, 42, 180, 0, 9, 8, 46, 172, 42, 182, 1, 46, 153, 0, 10, 42, 180, 1, 10]
abbrev dktX5_count_4 : List UInt8 := dkwX5_count_4 ++ dktX5_count_5
def dkwX5_count_3 : List UInt8 := [180, 0, 9, 6, 46, 172, 42, 182, 0, 116, 172, 42, 180, 0, 91, 172, 42, 180, 0, 9, 7, 46, 172, 42]
abbrev dktX5_count_3 : List UInt8 := dkwX5_count_3 ++ dktX5_count_4
def dkwX5_count_2 : List UInt8 := [42, 180, 0, 9, 3, 46, 172, 42, 180, 0, 9, 4, 46, 172, 42, 180, 0, 9, 5, 46, 172, 42]
abbrev dktX5_count_2 : List UInt8 := dkwX5_count_2 ++ dktX5_count_3
def dkwX5_count_1 : List UInt8 := [170, 0, 0, 0, 0, 0, 128, 0, 0, 0, 0, 0, 0, 0, 9, 0, 0, 0, 55, 0, 0, 0, 62, 0, 0, 0, 69, 0, 0, 0, 76, 0, 0, 0, 83, 0, 0, 0, 88, 0, 0, 0, 93, 0, 0, 0, 100, 0, 0, 0, 105, 0, 0, 0, 112]
abbrev dktX5_count_1 : List UInt8 := dkwX5_count_1 ++ dktX5_count_2
def dkwX5_count_0 : List UInt8 := [27]
abbrev dktX5_count_0 : List UInt8 := dkwX5_count_0 ++ dktX5_count_1
theorem dksX5_count_0 : cX5_count.data.toList.drop 0 = dktX5_count_0 := by decide +kernel
theorem dksX5_count_1 : cX5_count.data.toList.drop 1 = dktX5_count_1 := dk_seg dksX5_count_0 1 rfl rfl
theorem dksX5_count_2 : cX5_count.data.toList.drop 56 = dktX5_count_2 := dk_seg dksX5_count_1 55 rfl rfl
theorem dksX5_count_3 : cX5_count.data.toList.drop 78 = dktX5_count_3 := dk_seg dksX5_count_2 22 rfl rfl
theorem dksX5_count_4 : cX5_count.data.toList.drop 102 = dktX5_count_4 := dk_seg dksX5_count_3 24 rfl rfl
theorem dksX5_count_5 : cX5_count.data.toList.drop 124 = dktX5_count_5 := dk_seg dksX5_count_4 22 rfl rfl
theorem dX5_count_0 : decode cX5_count 0 = .ok (.iload_n 1, 1) := dk_27 (dk_at dksX5_count_0 0 rfl rfl)
theorem dX5_count_1 : decode cX5_count 1 = .ok (.tableswitch 128 0 9 #[55, 62, 69, 76, 83, 88, 93, 100, 105, 112], 55) := by decide +kernel
theorem dX5_count_56 : decode cX5_count 56 = .ok (.aload_n 0, 1) := dk_42 (dk_at dksX5_count_2 0 rfl rfl)
theorem dX5_count_57 : decode cX5_count 57 = .ok (.getfield 9, 3) := dk_180 0 9 (dk_at dksX5_count_2 1 rfl rfl)
theorem dX5_count_60 : decode cX5_count 60 = .ok (.iconst 0, 1) := dk_3 (dk_at dksX5_count_2 4 rfl rfl)
theorem dX5_count_61 : decode cX5_count 61 = .ok (.iaload, 1) := dk_46 (dk_at dksX5_count_2 5 rfl rfl)
theorem dX5_count_62 : decode cX5_count 62 = .ok (.ireturn, 1) := dk_172 (dk_at dksX5_count_2 6 rfl rfl)
theorem dX5_count_63 : decode cX5_count 63 = .ok (.aload_n 0, 1) := dk_42 (dk_at dksX5_count_2 7 rfl rfl)
theorem dX5_count_64 : decode cX5_count 64 = .ok (.getfield 9, 3) := dk_180 0 9 (dk_at dksX5_count_2 8 rfl rfl)
theorem dX5_count_67 : decode cX5_count 67 = .ok (.iconst 1, 1) := dk_4 (dk_at dksX5_count_2 11 rfl rfl)
theorem dX5_count_68 : decode cX5_count 68 = .ok (.iaload, 1) := dk_46 (dk_at dksX5_count_2 12 rfl rfl)
theorem dX5_count_69 : decode cX5_count 69 = .ok (.ireturn, 1) := dk_172 (dk_at dksX5_count_2 13 rfl rfl)
theorem dX5_count_70 : decode cX5_count 70 = .ok (.aload_n 0, 1) := dk_42 (dk_at dksX5_count_2 14 rfl rfl)
theorem dX5_count_71 : decode cX5_count 71 = .ok (.getfield 9, 3) := dk_180 0 9 (dk_at dksX5_count_2 15 rfl rfl)
theorem dX5_count_74 : decode cX5_count 74 = .ok (.iconst 2, 1) := dk_5 (dk_at dksX5_count_2 18 rfl rfl)
theorem dX5_count_75 : decode cX5_count 75 = .ok (.iaload, 1) := dk_46 (dk_at dksX5_count_2 19 rfl rfl)
theorem dX5_count_76 : decode cX5_count 76 = .ok (.ireturn, 1) := dk_172 (dk_at dksX5_count_2 20 rfl rfl)
theorem dX5_count_77 : decode cX5_count 77 = .ok (.aload_n 0, 1) := dk_42 (dk_at dksX5_count_2 21 rfl rfl)
theorem dX5_count_78 : decode cX5_count 78 = .ok (.getfield 9, 3) := dk_180 0 9 (dk_at dksX5_count_3 0 rfl rfl)
theorem dX5_count_81 : decode cX5_count 81 = .ok (.iconst 3, 1) := dk_6 (dk_at dksX5_count_3 3 rfl rfl)
theorem dX5_count_82 : decode cX5_count 82 = .ok (.iaload, 1) := dk_46 (dk_at dksX5_count_3 4 rfl rfl)
theorem dX5_count_83 : decode cX5_count 83 = .ok (.ireturn, 1) := dk_172 (dk_at dksX5_count_3 5 rfl rfl)
theorem dX5_count_84 : decode cX5_count 84 = .ok (.aload_n 0, 1) := dk_42 (dk_at dksX5_count_3 6 rfl rfl)
theorem dX5_count_85 : decode cX5_count 85 = .ok (.invokevirtual 116, 3) := dk_182 0 116 (dk_at dksX5_count_3 7 rfl rfl)
theorem dX5_count_88 : decode cX5_count 88 = .ok (.ireturn, 1) := dk_172 (dk_at dksX5_count_3 10 rfl rfl)
theorem dX5_count_89 : decode cX5_count 89 = .ok (.aload_n 0, 1) := dk_42 (dk_at dksX5_count_3 11 rfl rfl)
theorem dX5_count_90 : decode cX5_count 90 = .ok (.getfield 91, 3) := dk_180 0 91 (dk_at dksX5_count_3 12 rfl rfl)
theorem dX5_count_93 : decode cX5_count 93 = .ok (.ireturn, 1) := dk_172 (dk_at dksX5_count_3 15 rfl rfl)
theorem dX5_count_94 : decode cX5_count 94 = .ok (.aload_n 0, 1) := dk_42 (dk_at dksX5_count_3 16 rfl rfl)
theorem dX5_count_95 : decode cX5_count 95 = .ok (.getfield 9, 3) := dk_180 0 9 (dk_at dksX5_count_3 17 rfl rfl)
theorem dX5_count_98 : decode cX5_count 98 = .ok (.iconst 4, 1) := dk_7 (dk_at dksX5_count_3 20 rfl rfl)
theorem dX5_count_99 : decode cX5_count 99 = .ok (.iaload, 1) := dk_46 (dk_at dksX5_count_3 21 rfl rfl)
theorem dX5_count_100 : decode cX5_count 100 = .ok (.ireturn, 1) := dk_172 (dk_at dksX5_count_3 22 rfl rfl)
theorem dX5_count_101 : decode cX5_count 101 = .ok (.aload_n 0, 1) := dk_42 (dk_at dksX5_count_3 23 rfl rfl)
theorem dX5_count_102 : decode cX5_count 102 = .ok (.getfield 126, 3) := dk_180 0 126 (dk_at dksX5_count_4 0 rfl rfl)
theorem dX5_count_105 : decode cX5_count 105 = .ok (.ireturn, 1) := dk_172 (dk_at dksX5_count_4 3 rfl rfl)
theorem dX5_count_106 : decode cX5_count 106 = .ok (.aload_n 0, 1) := dk_42 (dk_at dksX5_count_4 4 rfl rfl)
theorem dX5_count_107 : decode cX5_count 107 = .ok (.getfield 9, 3) := dk_180 0 9 (dk_at dksX5_count_4 5 rfl rfl)
theorem dX5_count_110 : decode cX5_count 110 = .ok (.iconst 5, 1) := dk_8 (dk_at dksX5_count_4 8 rfl rfl)
theorem dX5_count_111 : decode cX5_count 111 = .ok (.iaload, 1) := dk_46 (dk_at dksX5_count_4 9 rfl rfl)
theorem dX5_count_112 : decode cX5_count 112 = .ok (.ireturn, 1) := dk_172 (dk_at dksX5_count_4 10 rfl rfl)
theorem dX5_count_113 : decode cX5_count 113 = .ok (.aload_n 0, 1) := dk_42 (dk_at dksX5_count_4 11 rfl rfl)
theorem dX5_count_114 : decode cX5_count 114 = .ok (.invokevirtual 302, 3) := dk_182 1 46 (dk_at dksX5_count_4 12 rfl rfl)
theorem dX5_count_117 : decode cX5_count 117 = .ok (.ifCond .eq 10, 3) := dk_153 0 10 (dk_at dksX5_count_4 15 rfl rfl)
theorem dX5_count_120 : decode cX5_count 120 = .ok (.aload_n 0, 1) := dk_42 (dk_at dksX5_count_4 18 rfl rfl)
theorem dX5_count_121 : decode cX5_count 121 = .ok (.getfield 266, 3) := dk_180 1 10 (dk_at dksX5_count_4 19 rfl rfl)
theorem dX5_count_124 : decode cX5_count 124 = .ok (.goto 4, 3) := dk_167 0 4 (dk_at dksX5_count_5 0 rfl rfl)
theorem dX5_count_127 : decode cX5_count 127 = .ok (.iconst 0, 1) := dk_3 (dk_at dksX5_count_5 3 rfl rfl)
theorem dX5_count_128 : decode cX5_count 128 = .ok (.ireturn, 1) := dk_172 (dk_at dksX5_count_5 4 rfl rfl)
theorem dX5_count_129 : decode cX5_count 129 = .ok (.iconst (-1), 1) := dk_2 (dk_at dksX5_count_5 5 rfl rfl)
theorem dX5_count_130 : decode cX5_count 130 = .ok (.ireturn, 1) := dk_172 (dk_at dksX5_count_5 6 rfl rfl)
abbrev cX5_straps : ByteArray := prog_17_method_17_code
def yX5_straps : MethodName := ⟨RX5, "straps", "()I"⟩
def dkwX5_straps_1 : List UInt8 := [182, 0, 113, 42, 180, 0, 102, 172]
abbrev dktX5_straps_1 : List UInt8 := dkwX5_straps_1 ++ []
def dkwX5_straps_0 : List UInt8 := [42, 182, 0, 109, 154, 0, 5, 3, 172, 42, 42, 180, 0, 9, 3, 46, 42, 180, 0, 9, 4, 46]
abbrev dktX5_straps_0 : List UInt8 := dkwX5_straps_0 ++ dktX5_straps_1
theorem dksX5_straps_0 : cX5_straps.data.toList.drop 0 = dktX5_straps_0 := by decide +kernel
theorem dksX5_straps_1 : cX5_straps.data.toList.drop 22 = dktX5_straps_1 := dk_seg dksX5_straps_0 22 rfl rfl
theorem dX5_straps_0 : decode cX5_straps 0 = .ok (.aload_n 0, 1) := dk_42 (dk_at dksX5_straps_0 0 rfl rfl)
theorem dX5_straps_1 : decode cX5_straps 1 = .ok (.invokevirtual 109, 3) := dk_182 0 109 (dk_at dksX5_straps_0 1 rfl rfl)
theorem dX5_straps_4 : decode cX5_straps 4 = .ok (.ifCond .ne 5, 3) := dk_154 0 5 (dk_at dksX5_straps_0 4 rfl rfl)
theorem dX5_straps_7 : decode cX5_straps 7 = .ok (.iconst 0, 1) := dk_3 (dk_at dksX5_straps_0 7 rfl rfl)
theorem dX5_straps_8 : decode cX5_straps 8 = .ok (.ireturn, 1) := dk_172 (dk_at dksX5_straps_0 8 rfl rfl)
theorem dX5_straps_9 : decode cX5_straps 9 = .ok (.aload_n 0, 1) := dk_42 (dk_at dksX5_straps_0 9 rfl rfl)
theorem dX5_straps_10 : decode cX5_straps 10 = .ok (.aload_n 0, 1) := dk_42 (dk_at dksX5_straps_0 10 rfl rfl)
theorem dX5_straps_11 : decode cX5_straps 11 = .ok (.getfield 9, 3) := dk_180 0 9 (dk_at dksX5_straps_0 11 rfl rfl)
theorem dX5_straps_14 : decode cX5_straps 14 = .ok (.iconst 0, 1) := dk_3 (dk_at dksX5_straps_0 14 rfl rfl)
theorem dX5_straps_15 : decode cX5_straps 15 = .ok (.iaload, 1) := dk_46 (dk_at dksX5_straps_0 15 rfl rfl)
theorem dX5_straps_16 : decode cX5_straps 16 = .ok (.aload_n 0, 1) := dk_42 (dk_at dksX5_straps_0 16 rfl rfl)
theorem dX5_straps_17 : decode cX5_straps 17 = .ok (.getfield 9, 3) := dk_180 0 9 (dk_at dksX5_straps_0 17 rfl rfl)
theorem dX5_straps_20 : decode cX5_straps 20 = .ok (.iconst 1, 1) := dk_4 (dk_at dksX5_straps_0 20 rfl rfl)
theorem dX5_straps_21 : decode cX5_straps 21 = .ok (.iaload, 1) := dk_46 (dk_at dksX5_straps_0 21 rfl rfl)
theorem dX5_straps_22 : decode cX5_straps 22 = .ok (.invokevirtual 113, 3) := dk_182 0 113 (dk_at dksX5_straps_1 0 rfl rfl)
theorem dX5_straps_25 : decode cX5_straps 25 = .ok (.aload_n 0, 1) := dk_42 (dk_at dksX5_straps_1 3 rfl rfl)
theorem dX5_straps_26 : decode cX5_straps 26 = .ok (.getfield 102, 3) := dk_180 0 102 (dk_at dksX5_straps_1 4 rfl rfl)
theorem dX5_straps_29 : decode cX5_straps 29 = .ok (.ireturn, 1) := dk_172 (dk_at dksX5_straps_1 7 rfl rfl)
abbrev cX5_isGrid : ByteArray := prog_17_method_11_code
def yX5_isGrid : MethodName := ⟨RX5, "isGrid", "()Z"⟩
def dkwX5_isGrid_0 : List UInt8 := [42, 180, 0, 9, 7, 46, 158, 0, 7, 4, 167, 0, 4, 3, 172]
abbrev dktX5_isGrid_0 : List UInt8 := dkwX5_isGrid_0 ++ []
theorem dksX5_isGrid_0 : cX5_isGrid.data.toList.drop 0 = dktX5_isGrid_0 := by decide +kernel
theorem dX5_isGrid_0 : decode cX5_isGrid 0 = .ok (.aload_n 0, 1) := dk_42 (dk_at dksX5_isGrid_0 0 rfl rfl)
theorem dX5_isGrid_1 : decode cX5_isGrid 1 = .ok (.getfield 9, 3) := dk_180 0 9 (dk_at dksX5_isGrid_0 1 rfl rfl)
theorem dX5_isGrid_4 : decode cX5_isGrid 4 = .ok (.iconst 4, 1) := dk_7 (dk_at dksX5_isGrid_0 4 rfl rfl)
theorem dX5_isGrid_5 : decode cX5_isGrid 5 = .ok (.iaload, 1) := dk_46 (dk_at dksX5_isGrid_0 5 rfl rfl)
theorem dX5_isGrid_6 : decode cX5_isGrid 6 = .ok (.ifCond .le 7, 3) := dk_158 0 7 (dk_at dksX5_isGrid_0 6 rfl rfl)
theorem dX5_isGrid_9 : decode cX5_isGrid 9 = .ok (.iconst 1, 1) := dk_4 (dk_at dksX5_isGrid_0 9 rfl rfl)
theorem dX5_isGrid_10 : decode cX5_isGrid 10 = .ok (.goto 4, 3) := dk_167 0 4 (dk_at dksX5_isGrid_0 10 rfl rfl)
theorem dX5_isGrid_13 : decode cX5_isGrid 13 = .ok (.iconst 0, 1) := dk_3 (dk_at dksX5_isGrid_0 13 rfl rfl)
theorem dX5_isGrid_14 : decode cX5_isGrid 14 = .ok (.ireturn, 1) := dk_172 (dk_at dksX5_isGrid_0 14 rfl rfl)
abbrev cX5_asks : ByteArray := prog_17_method_50_code
def yX5_asks : MethodName := ⟨RX5, "asks", "()Z"⟩
def dkwX5_asks_0 : List UInt8 := [42, 182, 0, 109, 153, 0, 7, 42, 182, 1, 36, 42, 182, 0, 109, 172]
abbrev dktX5_asks_0 : List UInt8 := dkwX5_asks_0 ++ []
theorem dksX5_asks_0 : cX5_asks.data.toList.drop 0 = dktX5_asks_0 := by decide +kernel
theorem dX5_asks_0 : decode cX5_asks 0 = .ok (.aload_n 0, 1) := dk_42 (dk_at dksX5_asks_0 0 rfl rfl)
theorem dX5_asks_1 : decode cX5_asks 1 = .ok (.invokevirtual 109, 3) := dk_182 0 109 (dk_at dksX5_asks_0 1 rfl rfl)
theorem dX5_asks_4 : decode cX5_asks 4 = .ok (.ifCond .eq 7, 3) := dk_153 0 7 (dk_at dksX5_asks_0 4 rfl rfl)
theorem dX5_asks_7 : decode cX5_asks 7 = .ok (.aload_n 0, 1) := dk_42 (dk_at dksX5_asks_0 7 rfl rfl)
theorem dX5_asks_8 : decode cX5_asks 8 = .ok (.invokevirtual 292, 3) := dk_182 1 36 (dk_at dksX5_asks_0 8 rfl rfl)
theorem dX5_asks_11 : decode cX5_asks 11 = .ok (.aload_n 0, 1) := dk_42 (dk_at dksX5_asks_0 11 rfl rfl)
theorem dX5_asks_12 : decode cX5_asks 12 = .ok (.invokevirtual 109, 3) := dk_182 0 109 (dk_at dksX5_asks_0 12 rfl rfl)
theorem dX5_asks_15 : decode cX5_asks 15 = .ok (.ireturn, 1) := dk_172 (dk_at dksX5_asks_0 15 rfl rfl)
abbrev cX5_lays : ByteArray := prog_17_method_43_code
def yX5_lays : MethodName := ⟨RX5, "lays", "()V"⟩
def dkwX5_lays_0 : List UInt8 := [42, 42, 180, 0, 9, 8, 46, 182, 1, 19, 177]
abbrev dktX5_lays_0 : List UInt8 := dkwX5_lays_0 ++ []
theorem dksX5_lays_0 : cX5_lays.data.toList.drop 0 = dktX5_lays_0 := by decide +kernel
theorem dX5_lays_0 : decode cX5_lays 0 = .ok (.aload_n 0, 1) := dk_42 (dk_at dksX5_lays_0 0 rfl rfl)
theorem dX5_lays_1 : decode cX5_lays 1 = .ok (.aload_n 0, 1) := dk_42 (dk_at dksX5_lays_0 1 rfl rfl)
theorem dX5_lays_2 : decode cX5_lays 2 = .ok (.getfield 9, 3) := dk_180 0 9 (dk_at dksX5_lays_0 2 rfl rfl)
theorem dX5_lays_5 : decode cX5_lays 5 = .ok (.iconst 5, 1) := dk_8 (dk_at dksX5_lays_0 5 rfl rfl)
theorem dX5_lays_6 : decode cX5_lays 6 = .ok (.iaload, 1) := dk_46 (dk_at dksX5_lays_0 6 rfl rfl)
theorem dX5_lays_7 : decode cX5_lays 7 = .ok (.invokevirtual 275, 3) := dk_182 1 19 (dk_at dksX5_lays_0 7 rfl rfl)
theorem dX5_lays_10 : decode cX5_lays 10 = .ok (.return_, 1) := dk_177 (dk_at dksX5_lays_0 10 rfl rfl)
abbrev cX5_solves : ByteArray := prog_17_method_42_code
def yX5_solves : MethodName := ⟨RX5, "solves", "(I)V"⟩
def dkwX5_solves_4 : List UInt8 := [4, 96, 181, 1, 4, 132, 2, 1, 167, 255, 186, 42, 182, 1, 13, 42, 182, 1, 16, 177]
abbrev dktX5_solves_4 : List UInt8 := dkwX5_solves_4 ++ []
def dkwX5_solves_3 : List UInt8 := [180, 0, 40, 28, 42, 180, 1, 4, 79, 42, 180, 0, 43, 42, 180, 1, 4, 28, 79, 42, 89, 180, 1, 4]
abbrev dktX5_solves_3 : List UInt8 := dkwX5_solves_3 ++ dktX5_solves_4
def dkwX5_solves_2 : List UInt8 := [79, 42, 180, 1, 10, 28, 184, 0, 209, 154, 0, 44, 27, 28, 184, 0, 209, 153, 0, 6, 167, 0, 33, 42]
abbrev dktX5_solves_2 : List UInt8 := dkwX5_solves_2 ++ dktX5_solves_3
def dkwX5_solves_1 : List UInt8 := [181, 1, 10, 42, 3, 181, 1, 4, 3, 61, 28, 42, 182, 0, 98, 162, 0, 68, 42, 180, 0, 40, 28, 2]
abbrev dktX5_solves_1 : List UInt8 := dkwX5_solves_1 ++ dktX5_solves_2
def dkwX5_solves_0 : List UInt8 := [42, 182, 0, 116, 87, 42, 4, 42, 182, 0, 98, 120, 4, 100, 42, 27, 182, 1, 7, 2, 130, 126]
abbrev dktX5_solves_0 : List UInt8 := dkwX5_solves_0 ++ dktX5_solves_1
theorem dksX5_solves_0 : cX5_solves.data.toList.drop 0 = dktX5_solves_0 := by decide +kernel
theorem dksX5_solves_1 : cX5_solves.data.toList.drop 22 = dktX5_solves_1 := dk_seg dksX5_solves_0 22 rfl rfl
theorem dksX5_solves_2 : cX5_solves.data.toList.drop 46 = dktX5_solves_2 := dk_seg dksX5_solves_1 24 rfl rfl
theorem dksX5_solves_3 : cX5_solves.data.toList.drop 70 = dktX5_solves_3 := dk_seg dksX5_solves_2 24 rfl rfl
theorem dksX5_solves_4 : cX5_solves.data.toList.drop 94 = dktX5_solves_4 := dk_seg dksX5_solves_3 24 rfl rfl
theorem dX5_solves_0 : decode cX5_solves 0 = .ok (.aload_n 0, 1) := dk_42 (dk_at dksX5_solves_0 0 rfl rfl)
theorem dX5_solves_1 : decode cX5_solves 1 = .ok (.invokevirtual 116, 3) := dk_182 0 116 (dk_at dksX5_solves_0 1 rfl rfl)
theorem dX5_solves_4 : decode cX5_solves 4 = .ok (.pop, 1) := dk_87 (dk_at dksX5_solves_0 4 rfl rfl)
theorem dX5_solves_5 : decode cX5_solves 5 = .ok (.aload_n 0, 1) := dk_42 (dk_at dksX5_solves_0 5 rfl rfl)
theorem dX5_solves_6 : decode cX5_solves 6 = .ok (.iconst 1, 1) := dk_4 (dk_at dksX5_solves_0 6 rfl rfl)
theorem dX5_solves_7 : decode cX5_solves 7 = .ok (.aload_n 0, 1) := dk_42 (dk_at dksX5_solves_0 7 rfl rfl)
theorem dX5_solves_8 : decode cX5_solves 8 = .ok (.invokevirtual 98, 3) := dk_182 0 98 (dk_at dksX5_solves_0 8 rfl rfl)
theorem dX5_solves_11 : decode cX5_solves 11 = .ok (.ishl, 1) := dk_120 (dk_at dksX5_solves_0 11 rfl rfl)
theorem dX5_solves_12 : decode cX5_solves 12 = .ok (.iconst 1, 1) := dk_4 (dk_at dksX5_solves_0 12 rfl rfl)
theorem dX5_solves_13 : decode cX5_solves 13 = .ok (.isub, 1) := dk_100 (dk_at dksX5_solves_0 13 rfl rfl)
theorem dX5_solves_14 : decode cX5_solves 14 = .ok (.aload_n 0, 1) := dk_42 (dk_at dksX5_solves_0 14 rfl rfl)
theorem dX5_solves_15 : decode cX5_solves 15 = .ok (.iload_n 1, 1) := dk_27 (dk_at dksX5_solves_0 15 rfl rfl)
theorem dX5_solves_16 : decode cX5_solves 16 = .ok (.invokevirtual 263, 3) := dk_182 1 7 (dk_at dksX5_solves_0 16 rfl rfl)
theorem dX5_solves_19 : decode cX5_solves 19 = .ok (.iconst (-1), 1) := dk_2 (dk_at dksX5_solves_0 19 rfl rfl)
theorem dX5_solves_20 : decode cX5_solves 20 = .ok (.ixor, 1) := dk_130 (dk_at dksX5_solves_0 20 rfl rfl)
theorem dX5_solves_21 : decode cX5_solves 21 = .ok (.iand, 1) := dk_126 (dk_at dksX5_solves_0 21 rfl rfl)
theorem dX5_solves_22 : decode cX5_solves 22 = .ok (.putfield 266, 3) := dk_181 1 10 (dk_at dksX5_solves_1 0 rfl rfl)
theorem dX5_solves_25 : decode cX5_solves 25 = .ok (.aload_n 0, 1) := dk_42 (dk_at dksX5_solves_1 3 rfl rfl)
theorem dX5_solves_26 : decode cX5_solves 26 = .ok (.iconst 0, 1) := dk_3 (dk_at dksX5_solves_1 4 rfl rfl)
theorem dX5_solves_27 : decode cX5_solves 27 = .ok (.putfield 260, 3) := dk_181 1 4 (dk_at dksX5_solves_1 5 rfl rfl)
theorem dX5_solves_30 : decode cX5_solves 30 = .ok (.iconst 0, 1) := dk_3 (dk_at dksX5_solves_1 8 rfl rfl)
theorem dX5_solves_31 : decode cX5_solves 31 = .ok (.istore_n 2, 1) := dk_61 (dk_at dksX5_solves_1 9 rfl rfl)
theorem dX5_solves_32 : decode cX5_solves 32 = .ok (.iload_n 2, 1) := dk_28 (dk_at dksX5_solves_1 10 rfl rfl)
theorem dX5_solves_33 : decode cX5_solves 33 = .ok (.aload_n 0, 1) := dk_42 (dk_at dksX5_solves_1 11 rfl rfl)
theorem dX5_solves_34 : decode cX5_solves 34 = .ok (.invokevirtual 98, 3) := dk_182 0 98 (dk_at dksX5_solves_1 12 rfl rfl)
theorem dX5_solves_37 : decode cX5_solves 37 = .ok (.if_icmp .ge 68, 3) := dk_162 0 68 (dk_at dksX5_solves_1 15 rfl rfl)
theorem dX5_solves_40 : decode cX5_solves 40 = .ok (.aload_n 0, 1) := dk_42 (dk_at dksX5_solves_1 18 rfl rfl)
theorem dX5_solves_41 : decode cX5_solves 41 = .ok (.getfield 40, 3) := dk_180 0 40 (dk_at dksX5_solves_1 19 rfl rfl)
theorem dX5_solves_44 : decode cX5_solves 44 = .ok (.iload_n 2, 1) := dk_28 (dk_at dksX5_solves_1 22 rfl rfl)
theorem dX5_solves_45 : decode cX5_solves 45 = .ok (.iconst (-1), 1) := dk_2 (dk_at dksX5_solves_1 23 rfl rfl)
theorem dX5_solves_46 : decode cX5_solves 46 = .ok (.iastore, 1) := dk_79 (dk_at dksX5_solves_2 0 rfl rfl)
theorem dX5_solves_47 : decode cX5_solves 47 = .ok (.aload_n 0, 1) := dk_42 (dk_at dksX5_solves_2 1 rfl rfl)
theorem dX5_solves_48 : decode cX5_solves 48 = .ok (.getfield 266, 3) := dk_180 1 10 (dk_at dksX5_solves_2 2 rfl rfl)
theorem dX5_solves_51 : decode cX5_solves 51 = .ok (.iload_n 2, 1) := dk_28 (dk_at dksX5_solves_2 5 rfl rfl)
theorem dX5_solves_52 : decode cX5_solves 52 = .ok (.invokestatic 209, 3) := dk_184 0 209 (dk_at dksX5_solves_2 6 rfl rfl)
theorem dX5_solves_55 : decode cX5_solves 55 = .ok (.ifCond .ne 44, 3) := dk_154 0 44 (dk_at dksX5_solves_2 9 rfl rfl)
theorem dX5_solves_58 : decode cX5_solves 58 = .ok (.iload_n 1, 1) := dk_27 (dk_at dksX5_solves_2 12 rfl rfl)
theorem dX5_solves_59 : decode cX5_solves 59 = .ok (.iload_n 2, 1) := dk_28 (dk_at dksX5_solves_2 13 rfl rfl)
theorem dX5_solves_60 : decode cX5_solves 60 = .ok (.invokestatic 209, 3) := dk_184 0 209 (dk_at dksX5_solves_2 14 rfl rfl)
theorem dX5_solves_63 : decode cX5_solves 63 = .ok (.ifCond .eq 6, 3) := dk_153 0 6 (dk_at dksX5_solves_2 17 rfl rfl)
theorem dX5_solves_66 : decode cX5_solves 66 = .ok (.goto 33, 3) := dk_167 0 33 (dk_at dksX5_solves_2 20 rfl rfl)
theorem dX5_solves_69 : decode cX5_solves 69 = .ok (.aload_n 0, 1) := dk_42 (dk_at dksX5_solves_2 23 rfl rfl)
theorem dX5_solves_70 : decode cX5_solves 70 = .ok (.getfield 40, 3) := dk_180 0 40 (dk_at dksX5_solves_3 0 rfl rfl)
theorem dX5_solves_73 : decode cX5_solves 73 = .ok (.iload_n 2, 1) := dk_28 (dk_at dksX5_solves_3 3 rfl rfl)
theorem dX5_solves_74 : decode cX5_solves 74 = .ok (.aload_n 0, 1) := dk_42 (dk_at dksX5_solves_3 4 rfl rfl)
theorem dX5_solves_75 : decode cX5_solves 75 = .ok (.getfield 260, 3) := dk_180 1 4 (dk_at dksX5_solves_3 5 rfl rfl)
theorem dX5_solves_78 : decode cX5_solves 78 = .ok (.iastore, 1) := dk_79 (dk_at dksX5_solves_3 8 rfl rfl)
theorem dX5_solves_79 : decode cX5_solves 79 = .ok (.aload_n 0, 1) := dk_42 (dk_at dksX5_solves_3 9 rfl rfl)
theorem dX5_solves_80 : decode cX5_solves 80 = .ok (.getfield 43, 3) := dk_180 0 43 (dk_at dksX5_solves_3 10 rfl rfl)
theorem dX5_solves_83 : decode cX5_solves 83 = .ok (.aload_n 0, 1) := dk_42 (dk_at dksX5_solves_3 13 rfl rfl)
theorem dX5_solves_84 : decode cX5_solves 84 = .ok (.getfield 260, 3) := dk_180 1 4 (dk_at dksX5_solves_3 14 rfl rfl)
theorem dX5_solves_87 : decode cX5_solves 87 = .ok (.iload_n 2, 1) := dk_28 (dk_at dksX5_solves_3 17 rfl rfl)
theorem dX5_solves_88 : decode cX5_solves 88 = .ok (.iastore, 1) := dk_79 (dk_at dksX5_solves_3 18 rfl rfl)
theorem dX5_solves_89 : decode cX5_solves 89 = .ok (.aload_n 0, 1) := dk_42 (dk_at dksX5_solves_3 19 rfl rfl)
theorem dX5_solves_90 : decode cX5_solves 90 = .ok (.dup, 1) := dk_89 (dk_at dksX5_solves_3 20 rfl rfl)
theorem dX5_solves_91 : decode cX5_solves 91 = .ok (.getfield 260, 3) := dk_180 1 4 (dk_at dksX5_solves_3 21 rfl rfl)
theorem dX5_solves_94 : decode cX5_solves 94 = .ok (.iconst 1, 1) := dk_4 (dk_at dksX5_solves_4 0 rfl rfl)
theorem dX5_solves_95 : decode cX5_solves 95 = .ok (.iadd, 1) := dk_96 (dk_at dksX5_solves_4 1 rfl rfl)
theorem dX5_solves_96 : decode cX5_solves 96 = .ok (.putfield 260, 3) := dk_181 1 4 (dk_at dksX5_solves_4 2 rfl rfl)
theorem dX5_solves_99 : decode cX5_solves 99 = .ok (.iinc 2 1, 3) := dk_132 2 1 (dk_at dksX5_solves_4 5 rfl rfl)
theorem dX5_solves_102 : decode cX5_solves 102 = .ok (.goto (-70), 3) := dk_167 255 186 (dk_at dksX5_solves_4 8 rfl rfl)
theorem dX5_solves_105 : decode cX5_solves 105 = .ok (.aload_n 0, 1) := dk_42 (dk_at dksX5_solves_4 11 rfl rfl)
theorem dX5_solves_106 : decode cX5_solves 106 = .ok (.invokevirtual 269, 3) := dk_182 1 13 (dk_at dksX5_solves_4 12 rfl rfl)
theorem dX5_solves_109 : decode cX5_solves 109 = .ok (.aload_n 0, 1) := dk_42 (dk_at dksX5_solves_4 15 rfl rfl)
theorem dX5_solves_110 : decode cX5_solves 110 = .ok (.invokevirtual 272, 3) := dk_182 1 16 (dk_at dksX5_solves_4 16 rfl rfl)
theorem dX5_solves_113 : decode cX5_solves 113 = .ok (.return_, 1) := dk_177 (dk_at dksX5_solves_4 19 rfl rfl)
abbrev cX5_nodes : ByteArray := prog_17_method_13_code
def yX5_nodes : MethodName := ⟨RX5, "nodes", "()I"⟩
def dkwX5_nodes_0 : List UInt8 := [42, 180, 0, 9, 184, 0, 94, 172]
abbrev dktX5_nodes_0 : List UInt8 := dkwX5_nodes_0 ++ []
theorem dksX5_nodes_0 : cX5_nodes.data.toList.drop 0 = dktX5_nodes_0 := by decide +kernel
theorem dX5_nodes_0 : decode cX5_nodes 0 = .ok (.aload_n 0, 1) := dk_42 (dk_at dksX5_nodes_0 0 rfl rfl)
theorem dX5_nodes_1 : decode cX5_nodes 1 = .ok (.getfield 9, 3) := dk_180 0 9 (dk_at dksX5_nodes_0 1 rfl rfl)
theorem dX5_nodes_4 : decode cX5_nodes 4 = .ok (.invokestatic 94, 3) := dk_184 0 94 (dk_at dksX5_nodes_0 4 rfl rfl)
theorem dX5_nodes_7 : decode cX5_nodes 7 = .ok (.ireturn, 1) := dk_172 (dk_at dksX5_nodes_0 7 rfl rfl)
abbrev cX5_nodesIn : ByteArray := prog_17_method_12_code
def yX5_nodesIn : MethodName := ⟨RX5, "nodesIn", "([I)I"⟩
def dkwX5_nodesIn_0 : List UInt8 := [42, 3, 46, 42, 4, 46, 104, 172]
abbrev dktX5_nodesIn_0 : List UInt8 := dkwX5_nodesIn_0 ++ []
theorem dksX5_nodesIn_0 : cX5_nodesIn.data.toList.drop 0 = dktX5_nodesIn_0 := by decide +kernel
theorem dX5_nodesIn_0 : decode cX5_nodesIn 0 = .ok (.aload_n 0, 1) := dk_42 (dk_at dksX5_nodesIn_0 0 rfl rfl)
theorem dX5_nodesIn_1 : decode cX5_nodesIn 1 = .ok (.iconst 0, 1) := dk_3 (dk_at dksX5_nodesIn_0 1 rfl rfl)
theorem dX5_nodesIn_2 : decode cX5_nodesIn 2 = .ok (.iaload, 1) := dk_46 (dk_at dksX5_nodesIn_0 2 rfl rfl)
theorem dX5_nodesIn_3 : decode cX5_nodesIn 3 = .ok (.aload_n 0, 1) := dk_42 (dk_at dksX5_nodesIn_0 3 rfl rfl)
theorem dX5_nodesIn_4 : decode cX5_nodesIn 4 = .ok (.iconst 1, 1) := dk_4 (dk_at dksX5_nodesIn_0 4 rfl rfl)
theorem dX5_nodesIn_5 : decode cX5_nodesIn 5 = .ok (.iaload, 1) := dk_46 (dk_at dksX5_nodesIn_0 5 rfl rfl)
theorem dX5_nodesIn_6 : decode cX5_nodesIn 6 = .ok (.imul, 1) := dk_104 (dk_at dksX5_nodesIn_0 6 rfl rfl)
theorem dX5_nodesIn_7 : decode cX5_nodesIn 7 = .ok (.ireturn, 1) := dk_172 (dk_at dksX5_nodesIn_0 7 rfl rfl)
abbrev cX5_comesTo : ByteArray := prog_17_method_39_code
def yX5_comesTo : MethodName := ⟨RX5, "comesTo", "(I)I"⟩
def dkwX5_comesTo_4 : List UInt8 := [21, 4, 104, 4, 96, 46, 120, 128, 128, 61, 4, 62, 132, 4, 1, 167, 255, 159, 167, 255, 147, 28, 172]
abbrev dktX5_comesTo_4 : List UInt8 := dkwX5_comesTo_4 ++ []
def dkwX5_comesTo_3 : List UInt8 := [160, 0, 6, 167, 0, 33, 28, 4, 42, 180, 0, 26, 5, 21, 4, 104, 46, 120, 4, 42, 180, 0, 26, 5]
abbrev dktX5_comesTo_3 : List UInt8 := dkwX5_comesTo_3 ++ dktX5_comesTo_4
def dkwX5_comesTo_2 : List UInt8 := [46, 184, 0, 209, 54, 6, 42, 180, 0, 9, 16, 28, 21, 4, 96, 46, 153, 0, 43, 21, 5, 21, 6]
abbrev dktX5_comesTo_2 : List UInt8 := dkwX5_comesTo_2 ++ dktX5_comesTo_3
def dkwX5_comesTo_1 : List UInt8 := [180, 0, 26, 5, 21, 4, 104, 46, 184, 0, 209, 54, 5, 28, 42, 180, 0, 26, 5, 21, 4, 104, 4, 96]
abbrev dktX5_comesTo_1 : List UInt8 := dkwX5_comesTo_1 ++ dktX5_comesTo_2
def dkwX5_comesTo_0 : List UInt8 := [27, 61, 4, 62, 29, 153, 0, 111, 3, 62, 3, 54, 4, 21, 4, 42, 180, 0, 102, 162, 0, 94, 28, 42]
abbrev dktX5_comesTo_0 : List UInt8 := dkwX5_comesTo_0 ++ dktX5_comesTo_1
theorem dksX5_comesTo_0 : cX5_comesTo.data.toList.drop 0 = dktX5_comesTo_0 := by decide +kernel
theorem dksX5_comesTo_1 : cX5_comesTo.data.toList.drop 24 = dktX5_comesTo_1 := dk_seg dksX5_comesTo_0 24 rfl rfl
theorem dksX5_comesTo_2 : cX5_comesTo.data.toList.drop 48 = dktX5_comesTo_2 := dk_seg dksX5_comesTo_1 24 rfl rfl
theorem dksX5_comesTo_3 : cX5_comesTo.data.toList.drop 71 = dktX5_comesTo_3 := dk_seg dksX5_comesTo_2 23 rfl rfl
theorem dksX5_comesTo_4 : cX5_comesTo.data.toList.drop 95 = dktX5_comesTo_4 := dk_seg dksX5_comesTo_3 24 rfl rfl
theorem dX5_comesTo_0 : decode cX5_comesTo 0 = .ok (.iload_n 1, 1) := dk_27 (dk_at dksX5_comesTo_0 0 rfl rfl)
theorem dX5_comesTo_1 : decode cX5_comesTo 1 = .ok (.istore_n 2, 1) := dk_61 (dk_at dksX5_comesTo_0 1 rfl rfl)
theorem dX5_comesTo_2 : decode cX5_comesTo 2 = .ok (.iconst 1, 1) := dk_4 (dk_at dksX5_comesTo_0 2 rfl rfl)
theorem dX5_comesTo_3 : decode cX5_comesTo 3 = .ok (.istore_n 3, 1) := dk_62 (dk_at dksX5_comesTo_0 3 rfl rfl)
theorem dX5_comesTo_4 : decode cX5_comesTo 4 = .ok (.iload_n 3, 1) := dk_29 (dk_at dksX5_comesTo_0 4 rfl rfl)
theorem dX5_comesTo_5 : decode cX5_comesTo 5 = .ok (.ifCond .eq 111, 3) := dk_153 0 111 (dk_at dksX5_comesTo_0 5 rfl rfl)
theorem dX5_comesTo_8 : decode cX5_comesTo 8 = .ok (.iconst 0, 1) := dk_3 (dk_at dksX5_comesTo_0 8 rfl rfl)
theorem dX5_comesTo_9 : decode cX5_comesTo 9 = .ok (.istore_n 3, 1) := dk_62 (dk_at dksX5_comesTo_0 9 rfl rfl)
theorem dX5_comesTo_10 : decode cX5_comesTo 10 = .ok (.iconst 0, 1) := dk_3 (dk_at dksX5_comesTo_0 10 rfl rfl)
theorem dX5_comesTo_11 : decode cX5_comesTo 11 = .ok (.istore 4, 2) := dk_54 4 (dk_at dksX5_comesTo_0 11 rfl rfl)
theorem dX5_comesTo_13 : decode cX5_comesTo 13 = .ok (.iload 4, 2) := dk_21 4 (dk_at dksX5_comesTo_0 13 rfl rfl)
theorem dX5_comesTo_15 : decode cX5_comesTo 15 = .ok (.aload_n 0, 1) := dk_42 (dk_at dksX5_comesTo_0 15 rfl rfl)
theorem dX5_comesTo_16 : decode cX5_comesTo 16 = .ok (.getfield 102, 3) := dk_180 0 102 (dk_at dksX5_comesTo_0 16 rfl rfl)
theorem dX5_comesTo_19 : decode cX5_comesTo 19 = .ok (.if_icmp .ge 94, 3) := dk_162 0 94 (dk_at dksX5_comesTo_0 19 rfl rfl)
theorem dX5_comesTo_22 : decode cX5_comesTo 22 = .ok (.iload_n 2, 1) := dk_28 (dk_at dksX5_comesTo_0 22 rfl rfl)
theorem dX5_comesTo_23 : decode cX5_comesTo 23 = .ok (.aload_n 0, 1) := dk_42 (dk_at dksX5_comesTo_0 23 rfl rfl)
theorem dX5_comesTo_24 : decode cX5_comesTo 24 = .ok (.getfield 26, 3) := dk_180 0 26 (dk_at dksX5_comesTo_1 0 rfl rfl)
theorem dX5_comesTo_27 : decode cX5_comesTo 27 = .ok (.iconst 2, 1) := dk_5 (dk_at dksX5_comesTo_1 3 rfl rfl)
theorem dX5_comesTo_28 : decode cX5_comesTo 28 = .ok (.iload 4, 2) := dk_21 4 (dk_at dksX5_comesTo_1 4 rfl rfl)
theorem dX5_comesTo_30 : decode cX5_comesTo 30 = .ok (.imul, 1) := dk_104 (dk_at dksX5_comesTo_1 6 rfl rfl)
theorem dX5_comesTo_31 : decode cX5_comesTo 31 = .ok (.iaload, 1) := dk_46 (dk_at dksX5_comesTo_1 7 rfl rfl)
theorem dX5_comesTo_32 : decode cX5_comesTo 32 = .ok (.invokestatic 209, 3) := dk_184 0 209 (dk_at dksX5_comesTo_1 8 rfl rfl)
theorem dX5_comesTo_35 : decode cX5_comesTo 35 = .ok (.istore 5, 2) := dk_54 5 (dk_at dksX5_comesTo_1 11 rfl rfl)
theorem dX5_comesTo_37 : decode cX5_comesTo 37 = .ok (.iload_n 2, 1) := dk_28 (dk_at dksX5_comesTo_1 13 rfl rfl)
theorem dX5_comesTo_38 : decode cX5_comesTo 38 = .ok (.aload_n 0, 1) := dk_42 (dk_at dksX5_comesTo_1 14 rfl rfl)
theorem dX5_comesTo_39 : decode cX5_comesTo 39 = .ok (.getfield 26, 3) := dk_180 0 26 (dk_at dksX5_comesTo_1 15 rfl rfl)
theorem dX5_comesTo_42 : decode cX5_comesTo 42 = .ok (.iconst 2, 1) := dk_5 (dk_at dksX5_comesTo_1 18 rfl rfl)
theorem dX5_comesTo_43 : decode cX5_comesTo 43 = .ok (.iload 4, 2) := dk_21 4 (dk_at dksX5_comesTo_1 19 rfl rfl)
theorem dX5_comesTo_45 : decode cX5_comesTo 45 = .ok (.imul, 1) := dk_104 (dk_at dksX5_comesTo_1 21 rfl rfl)
theorem dX5_comesTo_46 : decode cX5_comesTo 46 = .ok (.iconst 1, 1) := dk_4 (dk_at dksX5_comesTo_1 22 rfl rfl)
theorem dX5_comesTo_47 : decode cX5_comesTo 47 = .ok (.iadd, 1) := dk_96 (dk_at dksX5_comesTo_1 23 rfl rfl)
theorem dX5_comesTo_48 : decode cX5_comesTo 48 = .ok (.iaload, 1) := dk_46 (dk_at dksX5_comesTo_2 0 rfl rfl)
theorem dX5_comesTo_49 : decode cX5_comesTo 49 = .ok (.invokestatic 209, 3) := dk_184 0 209 (dk_at dksX5_comesTo_2 1 rfl rfl)
theorem dX5_comesTo_52 : decode cX5_comesTo 52 = .ok (.istore 6, 2) := dk_54 6 (dk_at dksX5_comesTo_2 4 rfl rfl)
theorem dX5_comesTo_54 : decode cX5_comesTo 54 = .ok (.aload_n 0, 1) := dk_42 (dk_at dksX5_comesTo_2 6 rfl rfl)
theorem dX5_comesTo_55 : decode cX5_comesTo 55 = .ok (.getfield 9, 3) := dk_180 0 9 (dk_at dksX5_comesTo_2 7 rfl rfl)
theorem dX5_comesTo_58 : decode cX5_comesTo 58 = .ok (.bipush 28, 2) := dk_16 28 (dk_at dksX5_comesTo_2 10 rfl rfl)
theorem dX5_comesTo_60 : decode cX5_comesTo 60 = .ok (.iload 4, 2) := dk_21 4 (dk_at dksX5_comesTo_2 12 rfl rfl)
theorem dX5_comesTo_62 : decode cX5_comesTo 62 = .ok (.iadd, 1) := dk_96 (dk_at dksX5_comesTo_2 14 rfl rfl)
theorem dX5_comesTo_63 : decode cX5_comesTo 63 = .ok (.iaload, 1) := dk_46 (dk_at dksX5_comesTo_2 15 rfl rfl)
theorem dX5_comesTo_64 : decode cX5_comesTo 64 = .ok (.ifCond .eq 43, 3) := dk_153 0 43 (dk_at dksX5_comesTo_2 16 rfl rfl)
theorem dX5_comesTo_67 : decode cX5_comesTo 67 = .ok (.iload 5, 2) := dk_21 5 (dk_at dksX5_comesTo_2 19 rfl rfl)
theorem dX5_comesTo_69 : decode cX5_comesTo 69 = .ok (.iload 6, 2) := dk_21 6 (dk_at dksX5_comesTo_2 21 rfl rfl)
theorem dX5_comesTo_71 : decode cX5_comesTo 71 = .ok (.if_icmp .ne 6, 3) := dk_160 0 6 (dk_at dksX5_comesTo_3 0 rfl rfl)
theorem dX5_comesTo_74 : decode cX5_comesTo 74 = .ok (.goto 33, 3) := dk_167 0 33 (dk_at dksX5_comesTo_3 3 rfl rfl)
theorem dX5_comesTo_77 : decode cX5_comesTo 77 = .ok (.iload_n 2, 1) := dk_28 (dk_at dksX5_comesTo_3 6 rfl rfl)
theorem dX5_comesTo_78 : decode cX5_comesTo 78 = .ok (.iconst 1, 1) := dk_4 (dk_at dksX5_comesTo_3 7 rfl rfl)
theorem dX5_comesTo_79 : decode cX5_comesTo 79 = .ok (.aload_n 0, 1) := dk_42 (dk_at dksX5_comesTo_3 8 rfl rfl)
theorem dX5_comesTo_80 : decode cX5_comesTo 80 = .ok (.getfield 26, 3) := dk_180 0 26 (dk_at dksX5_comesTo_3 9 rfl rfl)
theorem dX5_comesTo_83 : decode cX5_comesTo 83 = .ok (.iconst 2, 1) := dk_5 (dk_at dksX5_comesTo_3 12 rfl rfl)
theorem dX5_comesTo_84 : decode cX5_comesTo 84 = .ok (.iload 4, 2) := dk_21 4 (dk_at dksX5_comesTo_3 13 rfl rfl)
theorem dX5_comesTo_86 : decode cX5_comesTo 86 = .ok (.imul, 1) := dk_104 (dk_at dksX5_comesTo_3 15 rfl rfl)
theorem dX5_comesTo_87 : decode cX5_comesTo 87 = .ok (.iaload, 1) := dk_46 (dk_at dksX5_comesTo_3 16 rfl rfl)
theorem dX5_comesTo_88 : decode cX5_comesTo 88 = .ok (.ishl, 1) := dk_120 (dk_at dksX5_comesTo_3 17 rfl rfl)
theorem dX5_comesTo_89 : decode cX5_comesTo 89 = .ok (.iconst 1, 1) := dk_4 (dk_at dksX5_comesTo_3 18 rfl rfl)
theorem dX5_comesTo_90 : decode cX5_comesTo 90 = .ok (.aload_n 0, 1) := dk_42 (dk_at dksX5_comesTo_3 19 rfl rfl)
theorem dX5_comesTo_91 : decode cX5_comesTo 91 = .ok (.getfield 26, 3) := dk_180 0 26 (dk_at dksX5_comesTo_3 20 rfl rfl)
theorem dX5_comesTo_94 : decode cX5_comesTo 94 = .ok (.iconst 2, 1) := dk_5 (dk_at dksX5_comesTo_3 23 rfl rfl)
theorem dX5_comesTo_95 : decode cX5_comesTo 95 = .ok (.iload 4, 2) := dk_21 4 (dk_at dksX5_comesTo_4 0 rfl rfl)
theorem dX5_comesTo_97 : decode cX5_comesTo 97 = .ok (.imul, 1) := dk_104 (dk_at dksX5_comesTo_4 2 rfl rfl)
theorem dX5_comesTo_98 : decode cX5_comesTo 98 = .ok (.iconst 1, 1) := dk_4 (dk_at dksX5_comesTo_4 3 rfl rfl)
theorem dX5_comesTo_99 : decode cX5_comesTo 99 = .ok (.iadd, 1) := dk_96 (dk_at dksX5_comesTo_4 4 rfl rfl)
theorem dX5_comesTo_100 : decode cX5_comesTo 100 = .ok (.iaload, 1) := dk_46 (dk_at dksX5_comesTo_4 5 rfl rfl)
theorem dX5_comesTo_101 : decode cX5_comesTo 101 = .ok (.ishl, 1) := dk_120 (dk_at dksX5_comesTo_4 6 rfl rfl)
theorem dX5_comesTo_102 : decode cX5_comesTo 102 = .ok (.ior, 1) := dk_128 (dk_at dksX5_comesTo_4 7 rfl rfl)
theorem dX5_comesTo_103 : decode cX5_comesTo 103 = .ok (.ior, 1) := dk_128 (dk_at dksX5_comesTo_4 8 rfl rfl)
theorem dX5_comesTo_104 : decode cX5_comesTo 104 = .ok (.istore_n 2, 1) := dk_61 (dk_at dksX5_comesTo_4 9 rfl rfl)
theorem dX5_comesTo_105 : decode cX5_comesTo 105 = .ok (.iconst 1, 1) := dk_4 (dk_at dksX5_comesTo_4 10 rfl rfl)
theorem dX5_comesTo_106 : decode cX5_comesTo 106 = .ok (.istore_n 3, 1) := dk_62 (dk_at dksX5_comesTo_4 11 rfl rfl)
theorem dX5_comesTo_107 : decode cX5_comesTo 107 = .ok (.iinc 4 1, 3) := dk_132 4 1 (dk_at dksX5_comesTo_4 12 rfl rfl)
theorem dX5_comesTo_110 : decode cX5_comesTo 110 = .ok (.goto (-97), 3) := dk_167 255 159 (dk_at dksX5_comesTo_4 15 rfl rfl)
theorem dX5_comesTo_113 : decode cX5_comesTo 113 = .ok (.goto (-109), 3) := dk_167 255 147 (dk_at dksX5_comesTo_4 18 rfl rfl)
theorem dX5_comesTo_116 : decode cX5_comesTo 116 = .ok (.iload_n 2, 1) := dk_28 (dk_at dksX5_comesTo_4 21 rfl rfl)
theorem dX5_comesTo_117 : decode cX5_comesTo 117 = .ok (.ireturn, 1) := dk_172 (dk_at dksX5_comesTo_4 22 rfl rfl)
abbrev cX5_laysCells : ByteArray := prog_17_method_40_code
def yX5_laysCells : MethodName := ⟨RX5, "laysCells", "()V"⟩
def dkwX5_laysCells_8 : List UInt8 := [101, 80, 132, 1, 1, 167, 255, 116, 177]
abbrev dktX5_laysCells_8 : List UInt8 := dkwX5_laysCells_8 ++ []
def dkwX5_laysCells_7 : List UInt8 := [28, 104, 29, 96, 92, 47, 22, 4, 101, 80, 42, 180, 0, 46, 16, 18, 29, 104, 28, 96, 92, 47, 22, 4]
abbrev dktX5_laysCells_7 : List UInt8 := dkwX5_laysCells_7 ++ dktX5_laysCells_8
def dkwX5_laysCells_6 : List UInt8 := [47, 22, 4, 97, 80, 28, 2, 159, 0, 43, 29, 2, 160, 0, 6, 167, 0, 35, 42, 180, 0, 46, 16, 18]
abbrev dktX5_laysCells_6 : List UInt8 := dkwX5_laysCells_6 ++ dktX5_laysCells_7
def dkwX5_laysCells_5 : List UInt8 := [28, 96, 92, 47, 22, 4, 97, 80, 29, 2, 159, 0, 19, 42, 180, 0, 46, 16, 18, 29, 104, 29, 96, 92]
abbrev dktX5_laysCells_5 : List UInt8 := dkwX5_laysCells_5 ++ dktX5_laysCells_6
def dkwX5_laysCells_4 : List UInt8 := [180, 0, 9, 16, 28, 27, 96, 46, 133, 55, 4, 28, 2, 159, 0, 19, 42, 180, 0, 46, 16, 18, 28, 104]
abbrev dktX5_laysCells_4 : List UInt8 := dkwX5_laysCells_4 ++ dktX5_laysCells_5
def dkwX5_laysCells_3 : List UInt8 := [5, 27, 104, 46, 46, 61, 42, 180, 0, 40, 42, 180, 0, 26, 5, 27, 104, 4, 96, 46, 46, 62, 42]
abbrev dktX5_laysCells_3 : List UInt8 := dkwX5_laysCells_3 ++ dktX5_laysCells_4
def dkwX5_laysCells_2 : List UInt8 := [132, 1, 1, 167, 255, 230, 3, 60, 27, 42, 180, 0, 102, 162, 0, 138, 42, 180, 0, 40, 42, 180, 0, 26]
abbrev dktX5_laysCells_2 : List UInt8 := dkwX5_laysCells_2 ++ dktX5_laysCells_3
def dkwX5_laysCells_1 : List UInt8 := [27, 42, 180, 1, 4, 162, 0, 24, 42, 180, 0, 46, 16, 18, 27, 104, 16, 9, 96, 27, 96, 10, 80]
abbrev dktX5_laysCells_1 : List UInt8 := dkwX5_laysCells_1 ++ dktX5_laysCells_2
def dkwX5_laysCells_0 : List UInt8 := [3, 60, 27, 17, 0, 162, 162, 0, 16, 42, 180, 0, 46, 27, 9, 80, 132, 1, 1, 167, 255, 239, 3, 60]
abbrev dktX5_laysCells_0 : List UInt8 := dkwX5_laysCells_0 ++ dktX5_laysCells_1
theorem dksX5_laysCells_0 : cX5_laysCells.data.toList.drop 0 = dktX5_laysCells_0 := by decide +kernel
theorem dksX5_laysCells_1 : cX5_laysCells.data.toList.drop 24 = dktX5_laysCells_1 := dk_seg dksX5_laysCells_0 24 rfl rfl
theorem dksX5_laysCells_2 : cX5_laysCells.data.toList.drop 47 = dktX5_laysCells_2 := dk_seg dksX5_laysCells_1 23 rfl rfl
theorem dksX5_laysCells_3 : cX5_laysCells.data.toList.drop 71 = dktX5_laysCells_3 := dk_seg dksX5_laysCells_2 24 rfl rfl
theorem dksX5_laysCells_4 : cX5_laysCells.data.toList.drop 94 = dktX5_laysCells_4 := dk_seg dksX5_laysCells_3 23 rfl rfl
theorem dksX5_laysCells_5 : cX5_laysCells.data.toList.drop 118 = dktX5_laysCells_5 := dk_seg dksX5_laysCells_4 24 rfl rfl
theorem dksX5_laysCells_6 : cX5_laysCells.data.toList.drop 142 = dktX5_laysCells_6 := dk_seg dksX5_laysCells_5 24 rfl rfl
theorem dksX5_laysCells_7 : cX5_laysCells.data.toList.drop 166 = dktX5_laysCells_7 := dk_seg dksX5_laysCells_6 24 rfl rfl
theorem dksX5_laysCells_8 : cX5_laysCells.data.toList.drop 190 = dktX5_laysCells_8 := dk_seg dksX5_laysCells_7 24 rfl rfl
theorem dX5_laysCells_0 : decode cX5_laysCells 0 = .ok (.iconst 0, 1) := dk_3 (dk_at dksX5_laysCells_0 0 rfl rfl)
theorem dX5_laysCells_1 : decode cX5_laysCells 1 = .ok (.istore_n 1, 1) := dk_60 (dk_at dksX5_laysCells_0 1 rfl rfl)
theorem dX5_laysCells_2 : decode cX5_laysCells 2 = .ok (.iload_n 1, 1) := dk_27 (dk_at dksX5_laysCells_0 2 rfl rfl)
theorem dX5_laysCells_3 : decode cX5_laysCells 3 = .ok (.sipush 162, 3) := dk_17 0 162 (dk_at dksX5_laysCells_0 3 rfl rfl)
theorem dX5_laysCells_6 : decode cX5_laysCells 6 = .ok (.if_icmp .ge 16, 3) := dk_162 0 16 (dk_at dksX5_laysCells_0 6 rfl rfl)
theorem dX5_laysCells_9 : decode cX5_laysCells 9 = .ok (.aload_n 0, 1) := dk_42 (dk_at dksX5_laysCells_0 9 rfl rfl)
theorem dX5_laysCells_10 : decode cX5_laysCells 10 = .ok (.getfield 46, 3) := dk_180 0 46 (dk_at dksX5_laysCells_0 10 rfl rfl)
theorem dX5_laysCells_13 : decode cX5_laysCells 13 = .ok (.iload_n 1, 1) := dk_27 (dk_at dksX5_laysCells_0 13 rfl rfl)
theorem dX5_laysCells_14 : decode cX5_laysCells 14 = .ok (.lconst 0, 1) := dk_9 (dk_at dksX5_laysCells_0 14 rfl rfl)
theorem dX5_laysCells_15 : decode cX5_laysCells 15 = .ok (.lastore, 1) := dk_80 (dk_at dksX5_laysCells_0 15 rfl rfl)
theorem dX5_laysCells_16 : decode cX5_laysCells 16 = .ok (.iinc 1 1, 3) := dk_132 1 1 (dk_at dksX5_laysCells_0 16 rfl rfl)
theorem dX5_laysCells_19 : decode cX5_laysCells 19 = .ok (.goto (-17), 3) := dk_167 255 239 (dk_at dksX5_laysCells_0 19 rfl rfl)
theorem dX5_laysCells_22 : decode cX5_laysCells 22 = .ok (.iconst 0, 1) := dk_3 (dk_at dksX5_laysCells_0 22 rfl rfl)
theorem dX5_laysCells_23 : decode cX5_laysCells 23 = .ok (.istore_n 1, 1) := dk_60 (dk_at dksX5_laysCells_0 23 rfl rfl)
theorem dX5_laysCells_24 : decode cX5_laysCells 24 = .ok (.iload_n 1, 1) := dk_27 (dk_at dksX5_laysCells_1 0 rfl rfl)
theorem dX5_laysCells_25 : decode cX5_laysCells 25 = .ok (.aload_n 0, 1) := dk_42 (dk_at dksX5_laysCells_1 1 rfl rfl)
theorem dX5_laysCells_26 : decode cX5_laysCells 26 = .ok (.getfield 260, 3) := dk_180 1 4 (dk_at dksX5_laysCells_1 2 rfl rfl)
theorem dX5_laysCells_29 : decode cX5_laysCells 29 = .ok (.if_icmp .ge 24, 3) := dk_162 0 24 (dk_at dksX5_laysCells_1 5 rfl rfl)
theorem dX5_laysCells_32 : decode cX5_laysCells 32 = .ok (.aload_n 0, 1) := dk_42 (dk_at dksX5_laysCells_1 8 rfl rfl)
theorem dX5_laysCells_33 : decode cX5_laysCells 33 = .ok (.getfield 46, 3) := dk_180 0 46 (dk_at dksX5_laysCells_1 9 rfl rfl)
theorem dX5_laysCells_36 : decode cX5_laysCells 36 = .ok (.bipush 18, 2) := dk_16 18 (dk_at dksX5_laysCells_1 12 rfl rfl)
theorem dX5_laysCells_38 : decode cX5_laysCells 38 = .ok (.iload_n 1, 1) := dk_27 (dk_at dksX5_laysCells_1 14 rfl rfl)
theorem dX5_laysCells_39 : decode cX5_laysCells 39 = .ok (.imul, 1) := dk_104 (dk_at dksX5_laysCells_1 15 rfl rfl)
theorem dX5_laysCells_40 : decode cX5_laysCells 40 = .ok (.bipush 9, 2) := dk_16 9 (dk_at dksX5_laysCells_1 16 rfl rfl)
theorem dX5_laysCells_42 : decode cX5_laysCells 42 = .ok (.iadd, 1) := dk_96 (dk_at dksX5_laysCells_1 18 rfl rfl)
theorem dX5_laysCells_43 : decode cX5_laysCells 43 = .ok (.iload_n 1, 1) := dk_27 (dk_at dksX5_laysCells_1 19 rfl rfl)
theorem dX5_laysCells_44 : decode cX5_laysCells 44 = .ok (.iadd, 1) := dk_96 (dk_at dksX5_laysCells_1 20 rfl rfl)
theorem dX5_laysCells_45 : decode cX5_laysCells 45 = .ok (.lconst 1, 1) := dk_10 (dk_at dksX5_laysCells_1 21 rfl rfl)
theorem dX5_laysCells_46 : decode cX5_laysCells 46 = .ok (.lastore, 1) := dk_80 (dk_at dksX5_laysCells_1 22 rfl rfl)
theorem dX5_laysCells_47 : decode cX5_laysCells 47 = .ok (.iinc 1 1, 3) := dk_132 1 1 (dk_at dksX5_laysCells_2 0 rfl rfl)
theorem dX5_laysCells_50 : decode cX5_laysCells 50 = .ok (.goto (-26), 3) := dk_167 255 230 (dk_at dksX5_laysCells_2 3 rfl rfl)
theorem dX5_laysCells_53 : decode cX5_laysCells 53 = .ok (.iconst 0, 1) := dk_3 (dk_at dksX5_laysCells_2 6 rfl rfl)
theorem dX5_laysCells_54 : decode cX5_laysCells 54 = .ok (.istore_n 1, 1) := dk_60 (dk_at dksX5_laysCells_2 7 rfl rfl)
theorem dX5_laysCells_55 : decode cX5_laysCells 55 = .ok (.iload_n 1, 1) := dk_27 (dk_at dksX5_laysCells_2 8 rfl rfl)
theorem dX5_laysCells_56 : decode cX5_laysCells 56 = .ok (.aload_n 0, 1) := dk_42 (dk_at dksX5_laysCells_2 9 rfl rfl)
theorem dX5_laysCells_57 : decode cX5_laysCells 57 = .ok (.getfield 102, 3) := dk_180 0 102 (dk_at dksX5_laysCells_2 10 rfl rfl)
theorem dX5_laysCells_60 : decode cX5_laysCells 60 = .ok (.if_icmp .ge 138, 3) := dk_162 0 138 (dk_at dksX5_laysCells_2 13 rfl rfl)
theorem dX5_laysCells_63 : decode cX5_laysCells 63 = .ok (.aload_n 0, 1) := dk_42 (dk_at dksX5_laysCells_2 16 rfl rfl)
theorem dX5_laysCells_64 : decode cX5_laysCells 64 = .ok (.getfield 40, 3) := dk_180 0 40 (dk_at dksX5_laysCells_2 17 rfl rfl)
theorem dX5_laysCells_67 : decode cX5_laysCells 67 = .ok (.aload_n 0, 1) := dk_42 (dk_at dksX5_laysCells_2 20 rfl rfl)
theorem dX5_laysCells_68 : decode cX5_laysCells 68 = .ok (.getfield 26, 3) := dk_180 0 26 (dk_at dksX5_laysCells_2 21 rfl rfl)
theorem dX5_laysCells_71 : decode cX5_laysCells 71 = .ok (.iconst 2, 1) := dk_5 (dk_at dksX5_laysCells_3 0 rfl rfl)
theorem dX5_laysCells_72 : decode cX5_laysCells 72 = .ok (.iload_n 1, 1) := dk_27 (dk_at dksX5_laysCells_3 1 rfl rfl)
theorem dX5_laysCells_73 : decode cX5_laysCells 73 = .ok (.imul, 1) := dk_104 (dk_at dksX5_laysCells_3 2 rfl rfl)
theorem dX5_laysCells_74 : decode cX5_laysCells 74 = .ok (.iaload, 1) := dk_46 (dk_at dksX5_laysCells_3 3 rfl rfl)
theorem dX5_laysCells_75 : decode cX5_laysCells 75 = .ok (.iaload, 1) := dk_46 (dk_at dksX5_laysCells_3 4 rfl rfl)
theorem dX5_laysCells_76 : decode cX5_laysCells 76 = .ok (.istore_n 2, 1) := dk_61 (dk_at dksX5_laysCells_3 5 rfl rfl)
theorem dX5_laysCells_77 : decode cX5_laysCells 77 = .ok (.aload_n 0, 1) := dk_42 (dk_at dksX5_laysCells_3 6 rfl rfl)
theorem dX5_laysCells_78 : decode cX5_laysCells 78 = .ok (.getfield 40, 3) := dk_180 0 40 (dk_at dksX5_laysCells_3 7 rfl rfl)
theorem dX5_laysCells_81 : decode cX5_laysCells 81 = .ok (.aload_n 0, 1) := dk_42 (dk_at dksX5_laysCells_3 10 rfl rfl)
theorem dX5_laysCells_82 : decode cX5_laysCells 82 = .ok (.getfield 26, 3) := dk_180 0 26 (dk_at dksX5_laysCells_3 11 rfl rfl)
theorem dX5_laysCells_85 : decode cX5_laysCells 85 = .ok (.iconst 2, 1) := dk_5 (dk_at dksX5_laysCells_3 14 rfl rfl)
theorem dX5_laysCells_86 : decode cX5_laysCells 86 = .ok (.iload_n 1, 1) := dk_27 (dk_at dksX5_laysCells_3 15 rfl rfl)
theorem dX5_laysCells_87 : decode cX5_laysCells 87 = .ok (.imul, 1) := dk_104 (dk_at dksX5_laysCells_3 16 rfl rfl)
theorem dX5_laysCells_88 : decode cX5_laysCells 88 = .ok (.iconst 1, 1) := dk_4 (dk_at dksX5_laysCells_3 17 rfl rfl)
theorem dX5_laysCells_89 : decode cX5_laysCells 89 = .ok (.iadd, 1) := dk_96 (dk_at dksX5_laysCells_3 18 rfl rfl)
theorem dX5_laysCells_90 : decode cX5_laysCells 90 = .ok (.iaload, 1) := dk_46 (dk_at dksX5_laysCells_3 19 rfl rfl)
theorem dX5_laysCells_91 : decode cX5_laysCells 91 = .ok (.iaload, 1) := dk_46 (dk_at dksX5_laysCells_3 20 rfl rfl)
theorem dX5_laysCells_92 : decode cX5_laysCells 92 = .ok (.istore_n 3, 1) := dk_62 (dk_at dksX5_laysCells_3 21 rfl rfl)
theorem dX5_laysCells_93 : decode cX5_laysCells 93 = .ok (.aload_n 0, 1) := dk_42 (dk_at dksX5_laysCells_3 22 rfl rfl)
theorem dX5_laysCells_94 : decode cX5_laysCells 94 = .ok (.getfield 9, 3) := dk_180 0 9 (dk_at dksX5_laysCells_4 0 rfl rfl)
theorem dX5_laysCells_97 : decode cX5_laysCells 97 = .ok (.bipush 28, 2) := dk_16 28 (dk_at dksX5_laysCells_4 3 rfl rfl)
theorem dX5_laysCells_99 : decode cX5_laysCells 99 = .ok (.iload_n 1, 1) := dk_27 (dk_at dksX5_laysCells_4 5 rfl rfl)
theorem dX5_laysCells_100 : decode cX5_laysCells 100 = .ok (.iadd, 1) := dk_96 (dk_at dksX5_laysCells_4 6 rfl rfl)
theorem dX5_laysCells_101 : decode cX5_laysCells 101 = .ok (.iaload, 1) := dk_46 (dk_at dksX5_laysCells_4 7 rfl rfl)
theorem dX5_laysCells_102 : decode cX5_laysCells 102 = .ok (.i2l, 1) := dk_133 (dk_at dksX5_laysCells_4 8 rfl rfl)
theorem dX5_laysCells_103 : decode cX5_laysCells 103 = .ok (.lstore 4, 2) := dk_55 4 (dk_at dksX5_laysCells_4 9 rfl rfl)
theorem dX5_laysCells_105 : decode cX5_laysCells 105 = .ok (.iload_n 2, 1) := dk_28 (dk_at dksX5_laysCells_4 11 rfl rfl)
theorem dX5_laysCells_106 : decode cX5_laysCells 106 = .ok (.iconst (-1), 1) := dk_2 (dk_at dksX5_laysCells_4 12 rfl rfl)
theorem dX5_laysCells_107 : decode cX5_laysCells 107 = .ok (.if_icmp .eq 19, 3) := dk_159 0 19 (dk_at dksX5_laysCells_4 13 rfl rfl)
theorem dX5_laysCells_110 : decode cX5_laysCells 110 = .ok (.aload_n 0, 1) := dk_42 (dk_at dksX5_laysCells_4 16 rfl rfl)
theorem dX5_laysCells_111 : decode cX5_laysCells 111 = .ok (.getfield 46, 3) := dk_180 0 46 (dk_at dksX5_laysCells_4 17 rfl rfl)
theorem dX5_laysCells_114 : decode cX5_laysCells 114 = .ok (.bipush 18, 2) := dk_16 18 (dk_at dksX5_laysCells_4 20 rfl rfl)
theorem dX5_laysCells_116 : decode cX5_laysCells 116 = .ok (.iload_n 2, 1) := dk_28 (dk_at dksX5_laysCells_4 22 rfl rfl)
theorem dX5_laysCells_117 : decode cX5_laysCells 117 = .ok (.imul, 1) := dk_104 (dk_at dksX5_laysCells_4 23 rfl rfl)
theorem dX5_laysCells_118 : decode cX5_laysCells 118 = .ok (.iload_n 2, 1) := dk_28 (dk_at dksX5_laysCells_5 0 rfl rfl)
theorem dX5_laysCells_119 : decode cX5_laysCells 119 = .ok (.iadd, 1) := dk_96 (dk_at dksX5_laysCells_5 1 rfl rfl)
theorem dX5_laysCells_120 : decode cX5_laysCells 120 = .ok (.dup2, 1) := dk_92 (dk_at dksX5_laysCells_5 2 rfl rfl)
theorem dX5_laysCells_121 : decode cX5_laysCells 121 = .ok (.laload, 1) := dk_47 (dk_at dksX5_laysCells_5 3 rfl rfl)
theorem dX5_laysCells_122 : decode cX5_laysCells 122 = .ok (.lload 4, 2) := dk_22 4 (dk_at dksX5_laysCells_5 4 rfl rfl)
theorem dX5_laysCells_124 : decode cX5_laysCells 124 = .ok (.ladd, 1) := dk_97 (dk_at dksX5_laysCells_5 6 rfl rfl)
theorem dX5_laysCells_125 : decode cX5_laysCells 125 = .ok (.lastore, 1) := dk_80 (dk_at dksX5_laysCells_5 7 rfl rfl)
theorem dX5_laysCells_126 : decode cX5_laysCells 126 = .ok (.iload_n 3, 1) := dk_29 (dk_at dksX5_laysCells_5 8 rfl rfl)
theorem dX5_laysCells_127 : decode cX5_laysCells 127 = .ok (.iconst (-1), 1) := dk_2 (dk_at dksX5_laysCells_5 9 rfl rfl)
theorem dX5_laysCells_128 : decode cX5_laysCells 128 = .ok (.if_icmp .eq 19, 3) := dk_159 0 19 (dk_at dksX5_laysCells_5 10 rfl rfl)
theorem dX5_laysCells_131 : decode cX5_laysCells 131 = .ok (.aload_n 0, 1) := dk_42 (dk_at dksX5_laysCells_5 13 rfl rfl)
theorem dX5_laysCells_132 : decode cX5_laysCells 132 = .ok (.getfield 46, 3) := dk_180 0 46 (dk_at dksX5_laysCells_5 14 rfl rfl)
theorem dX5_laysCells_135 : decode cX5_laysCells 135 = .ok (.bipush 18, 2) := dk_16 18 (dk_at dksX5_laysCells_5 17 rfl rfl)
theorem dX5_laysCells_137 : decode cX5_laysCells 137 = .ok (.iload_n 3, 1) := dk_29 (dk_at dksX5_laysCells_5 19 rfl rfl)
theorem dX5_laysCells_138 : decode cX5_laysCells 138 = .ok (.imul, 1) := dk_104 (dk_at dksX5_laysCells_5 20 rfl rfl)
theorem dX5_laysCells_139 : decode cX5_laysCells 139 = .ok (.iload_n 3, 1) := dk_29 (dk_at dksX5_laysCells_5 21 rfl rfl)
theorem dX5_laysCells_140 : decode cX5_laysCells 140 = .ok (.iadd, 1) := dk_96 (dk_at dksX5_laysCells_5 22 rfl rfl)
theorem dX5_laysCells_141 : decode cX5_laysCells 141 = .ok (.dup2, 1) := dk_92 (dk_at dksX5_laysCells_5 23 rfl rfl)
theorem dX5_laysCells_142 : decode cX5_laysCells 142 = .ok (.laload, 1) := dk_47 (dk_at dksX5_laysCells_6 0 rfl rfl)
theorem dX5_laysCells_143 : decode cX5_laysCells 143 = .ok (.lload 4, 2) := dk_22 4 (dk_at dksX5_laysCells_6 1 rfl rfl)
theorem dX5_laysCells_145 : decode cX5_laysCells 145 = .ok (.ladd, 1) := dk_97 (dk_at dksX5_laysCells_6 3 rfl rfl)
theorem dX5_laysCells_146 : decode cX5_laysCells 146 = .ok (.lastore, 1) := dk_80 (dk_at dksX5_laysCells_6 4 rfl rfl)
theorem dX5_laysCells_147 : decode cX5_laysCells 147 = .ok (.iload_n 2, 1) := dk_28 (dk_at dksX5_laysCells_6 5 rfl rfl)
theorem dX5_laysCells_148 : decode cX5_laysCells 148 = .ok (.iconst (-1), 1) := dk_2 (dk_at dksX5_laysCells_6 6 rfl rfl)
theorem dX5_laysCells_149 : decode cX5_laysCells 149 = .ok (.if_icmp .eq 43, 3) := dk_159 0 43 (dk_at dksX5_laysCells_6 7 rfl rfl)
theorem dX5_laysCells_152 : decode cX5_laysCells 152 = .ok (.iload_n 3, 1) := dk_29 (dk_at dksX5_laysCells_6 10 rfl rfl)
theorem dX5_laysCells_153 : decode cX5_laysCells 153 = .ok (.iconst (-1), 1) := dk_2 (dk_at dksX5_laysCells_6 11 rfl rfl)
theorem dX5_laysCells_154 : decode cX5_laysCells 154 = .ok (.if_icmp .ne 6, 3) := dk_160 0 6 (dk_at dksX5_laysCells_6 12 rfl rfl)
theorem dX5_laysCells_157 : decode cX5_laysCells 157 = .ok (.goto 35, 3) := dk_167 0 35 (dk_at dksX5_laysCells_6 15 rfl rfl)
theorem dX5_laysCells_160 : decode cX5_laysCells 160 = .ok (.aload_n 0, 1) := dk_42 (dk_at dksX5_laysCells_6 18 rfl rfl)
theorem dX5_laysCells_161 : decode cX5_laysCells 161 = .ok (.getfield 46, 3) := dk_180 0 46 (dk_at dksX5_laysCells_6 19 rfl rfl)
theorem dX5_laysCells_164 : decode cX5_laysCells 164 = .ok (.bipush 18, 2) := dk_16 18 (dk_at dksX5_laysCells_6 22 rfl rfl)
theorem dX5_laysCells_166 : decode cX5_laysCells 166 = .ok (.iload_n 2, 1) := dk_28 (dk_at dksX5_laysCells_7 0 rfl rfl)
theorem dX5_laysCells_167 : decode cX5_laysCells 167 = .ok (.imul, 1) := dk_104 (dk_at dksX5_laysCells_7 1 rfl rfl)
theorem dX5_laysCells_168 : decode cX5_laysCells 168 = .ok (.iload_n 3, 1) := dk_29 (dk_at dksX5_laysCells_7 2 rfl rfl)
theorem dX5_laysCells_169 : decode cX5_laysCells 169 = .ok (.iadd, 1) := dk_96 (dk_at dksX5_laysCells_7 3 rfl rfl)
theorem dX5_laysCells_170 : decode cX5_laysCells 170 = .ok (.dup2, 1) := dk_92 (dk_at dksX5_laysCells_7 4 rfl rfl)
theorem dX5_laysCells_171 : decode cX5_laysCells 171 = .ok (.laload, 1) := dk_47 (dk_at dksX5_laysCells_7 5 rfl rfl)
theorem dX5_laysCells_172 : decode cX5_laysCells 172 = .ok (.lload 4, 2) := dk_22 4 (dk_at dksX5_laysCells_7 6 rfl rfl)
theorem dX5_laysCells_174 : decode cX5_laysCells 174 = .ok (.lsub, 1) := dk_101 (dk_at dksX5_laysCells_7 8 rfl rfl)
theorem dX5_laysCells_175 : decode cX5_laysCells 175 = .ok (.lastore, 1) := dk_80 (dk_at dksX5_laysCells_7 9 rfl rfl)
theorem dX5_laysCells_176 : decode cX5_laysCells 176 = .ok (.aload_n 0, 1) := dk_42 (dk_at dksX5_laysCells_7 10 rfl rfl)
theorem dX5_laysCells_177 : decode cX5_laysCells 177 = .ok (.getfield 46, 3) := dk_180 0 46 (dk_at dksX5_laysCells_7 11 rfl rfl)
theorem dX5_laysCells_180 : decode cX5_laysCells 180 = .ok (.bipush 18, 2) := dk_16 18 (dk_at dksX5_laysCells_7 14 rfl rfl)
theorem dX5_laysCells_182 : decode cX5_laysCells 182 = .ok (.iload_n 3, 1) := dk_29 (dk_at dksX5_laysCells_7 16 rfl rfl)
theorem dX5_laysCells_183 : decode cX5_laysCells 183 = .ok (.imul, 1) := dk_104 (dk_at dksX5_laysCells_7 17 rfl rfl)
theorem dX5_laysCells_184 : decode cX5_laysCells 184 = .ok (.iload_n 2, 1) := dk_28 (dk_at dksX5_laysCells_7 18 rfl rfl)
theorem dX5_laysCells_185 : decode cX5_laysCells 185 = .ok (.iadd, 1) := dk_96 (dk_at dksX5_laysCells_7 19 rfl rfl)
theorem dX5_laysCells_186 : decode cX5_laysCells 186 = .ok (.dup2, 1) := dk_92 (dk_at dksX5_laysCells_7 20 rfl rfl)
theorem dX5_laysCells_187 : decode cX5_laysCells 187 = .ok (.laload, 1) := dk_47 (dk_at dksX5_laysCells_7 21 rfl rfl)
theorem dX5_laysCells_188 : decode cX5_laysCells 188 = .ok (.lload 4, 2) := dk_22 4 (dk_at dksX5_laysCells_7 22 rfl rfl)
theorem dX5_laysCells_190 : decode cX5_laysCells 190 = .ok (.lsub, 1) := dk_101 (dk_at dksX5_laysCells_8 0 rfl rfl)
theorem dX5_laysCells_191 : decode cX5_laysCells 191 = .ok (.lastore, 1) := dk_80 (dk_at dksX5_laysCells_8 1 rfl rfl)
theorem dX5_laysCells_192 : decode cX5_laysCells 192 = .ok (.iinc 1 1, 3) := dk_132 1 1 (dk_at dksX5_laysCells_8 2 rfl rfl)
theorem dX5_laysCells_195 : decode cX5_laysCells 195 = .ok (.goto (-140), 3) := dk_167 255 116 (dk_at dksX5_laysCells_8 5 rfl rfl)
theorem dX5_laysCells_198 : decode cX5_laysCells 198 = .ok (.return_, 1) := dk_177 (dk_at dksX5_laysCells_8 8 rfl rfl)
abbrev cX5_brings : ByteArray := prog_17_method_41_code
def yX5_brings : MethodName := ⟨RX5, "brings", "()V"⟩
def dkwX5_brings_5 : List UInt8 := [132, 7, 1, 167, 255, 191, 132, 4, 1, 167, 255, 159, 42, 32, 181, 0, 50, 132, 1, 1, 167, 255, 125, 177]
abbrev dktX5_brings_5 : List UInt8 := dkwX5_brings_5 ++ []
def dkwX5_brings_4 : List UInt8 := [32, 105, 42, 180, 0, 46, 16, 18, 27, 104, 21, 7, 96, 47, 22, 5, 105, 101, 42, 180, 0, 50, 109, 80]
abbrev dktX5_brings_4 : List UInt8 := dkwX5_brings_4 ++ dktX5_brings_5
def dkwX5_brings_3 : List UInt8 := [180, 0, 46, 16, 18, 21, 4, 104, 21, 7, 96, 42, 180, 0, 46, 16, 18, 21, 4, 104, 21, 7, 96, 47]
abbrev dktX5_brings_3 : List UInt8 := dkwX5_brings_3 ++ dktX5_brings_4
def dkwX5_brings_2 : List UInt8 := [27, 96, 47, 55, 5, 3, 54, 7, 21, 7, 16, 18, 162, 0, 64, 21, 4, 27, 159, 0, 58, 42]
abbrev dktX5_brings_2 : List UInt8 := dkwX5_brings_2 ++ dktX5_brings_3
def dkwX5_brings_1 : List UInt8 := [96, 47, 65, 3, 54, 4, 21, 4, 42, 180, 1, 4, 162, 0, 94, 42, 180, 0, 46, 16, 18, 21, 4, 104]
abbrev dktX5_brings_1 : List UInt8 := dkwX5_brings_1 ++ dktX5_brings_2
def dkwX5_brings_0 : List UInt8 := [42, 10, 181, 0, 50, 3, 60, 27, 42, 180, 1, 4, 162, 0, 129, 42, 180, 0, 46, 16, 18, 27, 104, 27]
abbrev dktX5_brings_0 : List UInt8 := dkwX5_brings_0 ++ dktX5_brings_1
theorem dksX5_brings_0 : cX5_brings.data.toList.drop 0 = dktX5_brings_0 := by decide +kernel
theorem dksX5_brings_1 : cX5_brings.data.toList.drop 24 = dktX5_brings_1 := dk_seg dksX5_brings_0 24 rfl rfl
theorem dksX5_brings_2 : cX5_brings.data.toList.drop 48 = dktX5_brings_2 := dk_seg dksX5_brings_1 24 rfl rfl
theorem dksX5_brings_3 : cX5_brings.data.toList.drop 70 = dktX5_brings_3 := dk_seg dksX5_brings_2 22 rfl rfl
theorem dksX5_brings_4 : cX5_brings.data.toList.drop 94 = dktX5_brings_4 := dk_seg dksX5_brings_3 24 rfl rfl
theorem dksX5_brings_5 : cX5_brings.data.toList.drop 118 = dktX5_brings_5 := dk_seg dksX5_brings_4 24 rfl rfl
theorem dX5_brings_0 : decode cX5_brings 0 = .ok (.aload_n 0, 1) := dk_42 (dk_at dksX5_brings_0 0 rfl rfl)
theorem dX5_brings_1 : decode cX5_brings 1 = .ok (.lconst 1, 1) := dk_10 (dk_at dksX5_brings_0 1 rfl rfl)
theorem dX5_brings_2 : decode cX5_brings 2 = .ok (.putfield 50, 3) := dk_181 0 50 (dk_at dksX5_brings_0 2 rfl rfl)
theorem dX5_brings_5 : decode cX5_brings 5 = .ok (.iconst 0, 1) := dk_3 (dk_at dksX5_brings_0 5 rfl rfl)
theorem dX5_brings_6 : decode cX5_brings 6 = .ok (.istore_n 1, 1) := dk_60 (dk_at dksX5_brings_0 6 rfl rfl)
theorem dX5_brings_7 : decode cX5_brings 7 = .ok (.iload_n 1, 1) := dk_27 (dk_at dksX5_brings_0 7 rfl rfl)
theorem dX5_brings_8 : decode cX5_brings 8 = .ok (.aload_n 0, 1) := dk_42 (dk_at dksX5_brings_0 8 rfl rfl)
theorem dX5_brings_9 : decode cX5_brings 9 = .ok (.getfield 260, 3) := dk_180 1 4 (dk_at dksX5_brings_0 9 rfl rfl)
theorem dX5_brings_12 : decode cX5_brings 12 = .ok (.if_icmp .ge 129, 3) := dk_162 0 129 (dk_at dksX5_brings_0 12 rfl rfl)
theorem dX5_brings_15 : decode cX5_brings 15 = .ok (.aload_n 0, 1) := dk_42 (dk_at dksX5_brings_0 15 rfl rfl)
theorem dX5_brings_16 : decode cX5_brings 16 = .ok (.getfield 46, 3) := dk_180 0 46 (dk_at dksX5_brings_0 16 rfl rfl)
theorem dX5_brings_19 : decode cX5_brings 19 = .ok (.bipush 18, 2) := dk_16 18 (dk_at dksX5_brings_0 19 rfl rfl)
theorem dX5_brings_21 : decode cX5_brings 21 = .ok (.iload_n 1, 1) := dk_27 (dk_at dksX5_brings_0 21 rfl rfl)
theorem dX5_brings_22 : decode cX5_brings 22 = .ok (.imul, 1) := dk_104 (dk_at dksX5_brings_0 22 rfl rfl)
theorem dX5_brings_23 : decode cX5_brings 23 = .ok (.iload_n 1, 1) := dk_27 (dk_at dksX5_brings_0 23 rfl rfl)
theorem dX5_brings_24 : decode cX5_brings 24 = .ok (.iadd, 1) := dk_96 (dk_at dksX5_brings_1 0 rfl rfl)
theorem dX5_brings_25 : decode cX5_brings 25 = .ok (.laload, 1) := dk_47 (dk_at dksX5_brings_1 1 rfl rfl)
theorem dX5_brings_26 : decode cX5_brings 26 = .ok (.lstore_n 2, 1) := dk_65 (dk_at dksX5_brings_1 2 rfl rfl)
theorem dX5_brings_27 : decode cX5_brings 27 = .ok (.iconst 0, 1) := dk_3 (dk_at dksX5_brings_1 3 rfl rfl)
theorem dX5_brings_28 : decode cX5_brings 28 = .ok (.istore 4, 2) := dk_54 4 (dk_at dksX5_brings_1 4 rfl rfl)
theorem dX5_brings_30 : decode cX5_brings 30 = .ok (.iload 4, 2) := dk_21 4 (dk_at dksX5_brings_1 6 rfl rfl)
theorem dX5_brings_32 : decode cX5_brings 32 = .ok (.aload_n 0, 1) := dk_42 (dk_at dksX5_brings_1 8 rfl rfl)
theorem dX5_brings_33 : decode cX5_brings 33 = .ok (.getfield 260, 3) := dk_180 1 4 (dk_at dksX5_brings_1 9 rfl rfl)
theorem dX5_brings_36 : decode cX5_brings 36 = .ok (.if_icmp .ge 94, 3) := dk_162 0 94 (dk_at dksX5_brings_1 12 rfl rfl)
theorem dX5_brings_39 : decode cX5_brings 39 = .ok (.aload_n 0, 1) := dk_42 (dk_at dksX5_brings_1 15 rfl rfl)
theorem dX5_brings_40 : decode cX5_brings 40 = .ok (.getfield 46, 3) := dk_180 0 46 (dk_at dksX5_brings_1 16 rfl rfl)
theorem dX5_brings_43 : decode cX5_brings 43 = .ok (.bipush 18, 2) := dk_16 18 (dk_at dksX5_brings_1 19 rfl rfl)
theorem dX5_brings_45 : decode cX5_brings 45 = .ok (.iload 4, 2) := dk_21 4 (dk_at dksX5_brings_1 21 rfl rfl)
theorem dX5_brings_47 : decode cX5_brings 47 = .ok (.imul, 1) := dk_104 (dk_at dksX5_brings_1 23 rfl rfl)
theorem dX5_brings_48 : decode cX5_brings 48 = .ok (.iload_n 1, 1) := dk_27 (dk_at dksX5_brings_2 0 rfl rfl)
theorem dX5_brings_49 : decode cX5_brings 49 = .ok (.iadd, 1) := dk_96 (dk_at dksX5_brings_2 1 rfl rfl)
theorem dX5_brings_50 : decode cX5_brings 50 = .ok (.laload, 1) := dk_47 (dk_at dksX5_brings_2 2 rfl rfl)
theorem dX5_brings_51 : decode cX5_brings 51 = .ok (.lstore 5, 2) := dk_55 5 (dk_at dksX5_brings_2 3 rfl rfl)
theorem dX5_brings_53 : decode cX5_brings 53 = .ok (.iconst 0, 1) := dk_3 (dk_at dksX5_brings_2 5 rfl rfl)
theorem dX5_brings_54 : decode cX5_brings 54 = .ok (.istore 7, 2) := dk_54 7 (dk_at dksX5_brings_2 6 rfl rfl)
theorem dX5_brings_56 : decode cX5_brings 56 = .ok (.iload 7, 2) := dk_21 7 (dk_at dksX5_brings_2 8 rfl rfl)
theorem dX5_brings_58 : decode cX5_brings 58 = .ok (.bipush 18, 2) := dk_16 18 (dk_at dksX5_brings_2 10 rfl rfl)
theorem dX5_brings_60 : decode cX5_brings 60 = .ok (.if_icmp .ge 64, 3) := dk_162 0 64 (dk_at dksX5_brings_2 12 rfl rfl)
theorem dX5_brings_63 : decode cX5_brings 63 = .ok (.iload 4, 2) := dk_21 4 (dk_at dksX5_brings_2 15 rfl rfl)
theorem dX5_brings_65 : decode cX5_brings 65 = .ok (.iload_n 1, 1) := dk_27 (dk_at dksX5_brings_2 17 rfl rfl)
theorem dX5_brings_66 : decode cX5_brings 66 = .ok (.if_icmp .eq 58, 3) := dk_159 0 58 (dk_at dksX5_brings_2 18 rfl rfl)
theorem dX5_brings_69 : decode cX5_brings 69 = .ok (.aload_n 0, 1) := dk_42 (dk_at dksX5_brings_2 21 rfl rfl)
theorem dX5_brings_70 : decode cX5_brings 70 = .ok (.getfield 46, 3) := dk_180 0 46 (dk_at dksX5_brings_3 0 rfl rfl)
theorem dX5_brings_73 : decode cX5_brings 73 = .ok (.bipush 18, 2) := dk_16 18 (dk_at dksX5_brings_3 3 rfl rfl)
theorem dX5_brings_75 : decode cX5_brings 75 = .ok (.iload 4, 2) := dk_21 4 (dk_at dksX5_brings_3 5 rfl rfl)
theorem dX5_brings_77 : decode cX5_brings 77 = .ok (.imul, 1) := dk_104 (dk_at dksX5_brings_3 7 rfl rfl)
theorem dX5_brings_78 : decode cX5_brings 78 = .ok (.iload 7, 2) := dk_21 7 (dk_at dksX5_brings_3 8 rfl rfl)
theorem dX5_brings_80 : decode cX5_brings 80 = .ok (.iadd, 1) := dk_96 (dk_at dksX5_brings_3 10 rfl rfl)
theorem dX5_brings_81 : decode cX5_brings 81 = .ok (.aload_n 0, 1) := dk_42 (dk_at dksX5_brings_3 11 rfl rfl)
theorem dX5_brings_82 : decode cX5_brings 82 = .ok (.getfield 46, 3) := dk_180 0 46 (dk_at dksX5_brings_3 12 rfl rfl)
theorem dX5_brings_85 : decode cX5_brings 85 = .ok (.bipush 18, 2) := dk_16 18 (dk_at dksX5_brings_3 15 rfl rfl)
theorem dX5_brings_87 : decode cX5_brings 87 = .ok (.iload 4, 2) := dk_21 4 (dk_at dksX5_brings_3 17 rfl rfl)
theorem dX5_brings_89 : decode cX5_brings 89 = .ok (.imul, 1) := dk_104 (dk_at dksX5_brings_3 19 rfl rfl)
theorem dX5_brings_90 : decode cX5_brings 90 = .ok (.iload 7, 2) := dk_21 7 (dk_at dksX5_brings_3 20 rfl rfl)
theorem dX5_brings_92 : decode cX5_brings 92 = .ok (.iadd, 1) := dk_96 (dk_at dksX5_brings_3 22 rfl rfl)
theorem dX5_brings_93 : decode cX5_brings 93 = .ok (.laload, 1) := dk_47 (dk_at dksX5_brings_3 23 rfl rfl)
theorem dX5_brings_94 : decode cX5_brings 94 = .ok (.lload_n 2, 1) := dk_32 (dk_at dksX5_brings_4 0 rfl rfl)
theorem dX5_brings_95 : decode cX5_brings 95 = .ok (.lmul, 1) := dk_105 (dk_at dksX5_brings_4 1 rfl rfl)
theorem dX5_brings_96 : decode cX5_brings 96 = .ok (.aload_n 0, 1) := dk_42 (dk_at dksX5_brings_4 2 rfl rfl)
theorem dX5_brings_97 : decode cX5_brings 97 = .ok (.getfield 46, 3) := dk_180 0 46 (dk_at dksX5_brings_4 3 rfl rfl)
theorem dX5_brings_100 : decode cX5_brings 100 = .ok (.bipush 18, 2) := dk_16 18 (dk_at dksX5_brings_4 6 rfl rfl)
theorem dX5_brings_102 : decode cX5_brings 102 = .ok (.iload_n 1, 1) := dk_27 (dk_at dksX5_brings_4 8 rfl rfl)
theorem dX5_brings_103 : decode cX5_brings 103 = .ok (.imul, 1) := dk_104 (dk_at dksX5_brings_4 9 rfl rfl)
theorem dX5_brings_104 : decode cX5_brings 104 = .ok (.iload 7, 2) := dk_21 7 (dk_at dksX5_brings_4 10 rfl rfl)
theorem dX5_brings_106 : decode cX5_brings 106 = .ok (.iadd, 1) := dk_96 (dk_at dksX5_brings_4 12 rfl rfl)
theorem dX5_brings_107 : decode cX5_brings 107 = .ok (.laload, 1) := dk_47 (dk_at dksX5_brings_4 13 rfl rfl)
theorem dX5_brings_108 : decode cX5_brings 108 = .ok (.lload 5, 2) := dk_22 5 (dk_at dksX5_brings_4 14 rfl rfl)
theorem dX5_brings_110 : decode cX5_brings 110 = .ok (.lmul, 1) := dk_105 (dk_at dksX5_brings_4 16 rfl rfl)
theorem dX5_brings_111 : decode cX5_brings 111 = .ok (.lsub, 1) := dk_101 (dk_at dksX5_brings_4 17 rfl rfl)
theorem dX5_brings_112 : decode cX5_brings 112 = .ok (.aload_n 0, 1) := dk_42 (dk_at dksX5_brings_4 18 rfl rfl)
theorem dX5_brings_113 : decode cX5_brings 113 = .ok (.getfield 50, 3) := dk_180 0 50 (dk_at dksX5_brings_4 19 rfl rfl)
theorem dX5_brings_116 : decode cX5_brings 116 = .ok (.ldiv, 1) := dk_109 (dk_at dksX5_brings_4 22 rfl rfl)
theorem dX5_brings_117 : decode cX5_brings 117 = .ok (.lastore, 1) := dk_80 (dk_at dksX5_brings_4 23 rfl rfl)
theorem dX5_brings_118 : decode cX5_brings 118 = .ok (.iinc 7 1, 3) := dk_132 7 1 (dk_at dksX5_brings_5 0 rfl rfl)
theorem dX5_brings_121 : decode cX5_brings 121 = .ok (.goto (-65), 3) := dk_167 255 191 (dk_at dksX5_brings_5 3 rfl rfl)
theorem dX5_brings_124 : decode cX5_brings 124 = .ok (.iinc 4 1, 3) := dk_132 4 1 (dk_at dksX5_brings_5 6 rfl rfl)
theorem dX5_brings_127 : decode cX5_brings 127 = .ok (.goto (-97), 3) := dk_167 255 159 (dk_at dksX5_brings_5 9 rfl rfl)
theorem dX5_brings_130 : decode cX5_brings 130 = .ok (.aload_n 0, 1) := dk_42 (dk_at dksX5_brings_5 12 rfl rfl)
theorem dX5_brings_131 : decode cX5_brings 131 = .ok (.lload_n 2, 1) := dk_32 (dk_at dksX5_brings_5 13 rfl rfl)
theorem dX5_brings_132 : decode cX5_brings 132 = .ok (.putfield 50, 3) := dk_181 0 50 (dk_at dksX5_brings_5 14 rfl rfl)
theorem dX5_brings_135 : decode cX5_brings 135 = .ok (.iinc 1 1, 3) := dk_132 1 1 (dk_at dksX5_brings_5 17 rfl rfl)
theorem dX5_brings_138 : decode cX5_brings 138 = .ok (.goto (-131), 3) := dk_167 255 125 (dk_at dksX5_brings_5 20 rfl rfl)
theorem dX5_brings_141 : decode cX5_brings 141 = .ok (.return_, 1) := dk_177 (dk_at dksX5_brings_5 23 rfl rfl)
abbrev cX5_strap : ByteArray := prog_17_method_53_code
def yX5_strap : MethodName := ⟨RX5, "strap", "(II)I"⟩
def dkwX5_strap_2 : List UInt8 := [46, 172]
abbrev dktX5_strap_2 : List UInt8 := dkwX5_strap_2 ++ []
def dkwX5_strap_1 : List UInt8 := [160, 0, 15, 42, 180, 0, 9, 16, 28, 27, 96, 46, 167, 0, 13, 42, 180, 0, 26, 5, 27, 104, 28, 96]
abbrev dktX5_strap_1 : List UInt8 := dkwX5_strap_1 ++ dktX5_strap_2
def dkwX5_strap_0 : List UInt8 := [42, 27, 182, 1, 49, 153, 0, 15, 28, 133, 9, 20, 0, 85, 184, 0, 87, 154, 0, 5, 2, 172, 28, 5]
abbrev dktX5_strap_0 : List UInt8 := dkwX5_strap_0 ++ dktX5_strap_1
theorem dksX5_strap_0 : cX5_strap.data.toList.drop 0 = dktX5_strap_0 := by decide +kernel
theorem dksX5_strap_1 : cX5_strap.data.toList.drop 24 = dktX5_strap_1 := dk_seg dksX5_strap_0 24 rfl rfl
theorem dksX5_strap_2 : cX5_strap.data.toList.drop 48 = dktX5_strap_2 := dk_seg dksX5_strap_1 24 rfl rfl
theorem dX5_strap_0 : decode cX5_strap 0 = .ok (.aload_n 0, 1) := dk_42 (dk_at dksX5_strap_0 0 rfl rfl)
theorem dX5_strap_1 : decode cX5_strap 1 = .ok (.iload_n 1, 1) := dk_27 (dk_at dksX5_strap_0 1 rfl rfl)
theorem dX5_strap_2 : decode cX5_strap 2 = .ok (.invokevirtual 305, 3) := dk_182 1 49 (dk_at dksX5_strap_0 2 rfl rfl)
theorem dX5_strap_5 : decode cX5_strap 5 = .ok (.ifCond .eq 15, 3) := dk_153 0 15 (dk_at dksX5_strap_0 5 rfl rfl)
theorem dX5_strap_8 : decode cX5_strap 8 = .ok (.iload_n 2, 1) := dk_28 (dk_at dksX5_strap_0 8 rfl rfl)
theorem dX5_strap_9 : decode cX5_strap 9 = .ok (.i2l, 1) := dk_133 (dk_at dksX5_strap_0 9 rfl rfl)
theorem dX5_strap_10 : decode cX5_strap 10 = .ok (.lconst 0, 1) := dk_9 (dk_at dksX5_strap_0 10 rfl rfl)
theorem dX5_strap_11 : decode cX5_strap 11 = .ok (.ldc2_w 85, 3) := dk_20 0 85 (dk_at dksX5_strap_0 11 rfl rfl)
theorem dX5_strap_14 : decode cX5_strap 14 = .ok (.invokestatic 87, 3) := dk_184 0 87 (dk_at dksX5_strap_0 14 rfl rfl)
theorem dX5_strap_17 : decode cX5_strap 17 = .ok (.ifCond .ne 5, 3) := dk_154 0 5 (dk_at dksX5_strap_0 17 rfl rfl)
theorem dX5_strap_20 : decode cX5_strap 20 = .ok (.iconst (-1), 1) := dk_2 (dk_at dksX5_strap_0 20 rfl rfl)
theorem dX5_strap_21 : decode cX5_strap 21 = .ok (.ireturn, 1) := dk_172 (dk_at dksX5_strap_0 21 rfl rfl)
theorem dX5_strap_22 : decode cX5_strap 22 = .ok (.iload_n 2, 1) := dk_28 (dk_at dksX5_strap_0 22 rfl rfl)
theorem dX5_strap_23 : decode cX5_strap 23 = .ok (.iconst 2, 1) := dk_5 (dk_at dksX5_strap_0 23 rfl rfl)
theorem dX5_strap_24 : decode cX5_strap 24 = .ok (.if_icmp .ne 15, 3) := dk_160 0 15 (dk_at dksX5_strap_1 0 rfl rfl)
theorem dX5_strap_27 : decode cX5_strap 27 = .ok (.aload_n 0, 1) := dk_42 (dk_at dksX5_strap_1 3 rfl rfl)
theorem dX5_strap_28 : decode cX5_strap 28 = .ok (.getfield 9, 3) := dk_180 0 9 (dk_at dksX5_strap_1 4 rfl rfl)
theorem dX5_strap_31 : decode cX5_strap 31 = .ok (.bipush 28, 2) := dk_16 28 (dk_at dksX5_strap_1 7 rfl rfl)
theorem dX5_strap_33 : decode cX5_strap 33 = .ok (.iload_n 1, 1) := dk_27 (dk_at dksX5_strap_1 9 rfl rfl)
theorem dX5_strap_34 : decode cX5_strap 34 = .ok (.iadd, 1) := dk_96 (dk_at dksX5_strap_1 10 rfl rfl)
theorem dX5_strap_35 : decode cX5_strap 35 = .ok (.iaload, 1) := dk_46 (dk_at dksX5_strap_1 11 rfl rfl)
theorem dX5_strap_36 : decode cX5_strap 36 = .ok (.goto 13, 3) := dk_167 0 13 (dk_at dksX5_strap_1 12 rfl rfl)
theorem dX5_strap_39 : decode cX5_strap 39 = .ok (.aload_n 0, 1) := dk_42 (dk_at dksX5_strap_1 15 rfl rfl)
theorem dX5_strap_40 : decode cX5_strap 40 = .ok (.getfield 26, 3) := dk_180 0 26 (dk_at dksX5_strap_1 16 rfl rfl)
theorem dX5_strap_43 : decode cX5_strap 43 = .ok (.iconst 2, 1) := dk_5 (dk_at dksX5_strap_1 19 rfl rfl)
theorem dX5_strap_44 : decode cX5_strap 44 = .ok (.iload_n 1, 1) := dk_27 (dk_at dksX5_strap_1 20 rfl rfl)
theorem dX5_strap_45 : decode cX5_strap 45 = .ok (.imul, 1) := dk_104 (dk_at dksX5_strap_1 21 rfl rfl)
theorem dX5_strap_46 : decode cX5_strap 46 = .ok (.iload_n 2, 1) := dk_28 (dk_at dksX5_strap_1 22 rfl rfl)
theorem dX5_strap_47 : decode cX5_strap 47 = .ok (.iadd, 1) := dk_96 (dk_at dksX5_strap_1 23 rfl rfl)
theorem dX5_strap_48 : decode cX5_strap 48 = .ok (.iaload, 1) := dk_46 (dk_at dksX5_strap_2 0 rfl rfl)
theorem dX5_strap_49 : decode cX5_strap 49 = .ok (.ireturn, 1) := dk_172 (dk_at dksX5_strap_2 1 rfl rfl)
abbrev cX5_isStrap : ByteArray := prog_17_method_18_code
def yX5_isStrap : MethodName := ⟨RX5, "isStrap", "(I)Z"⟩
def dkwX5_isStrap_0 : List UInt8 := [27, 133, 9, 42, 182, 0, 116, 4, 100, 133, 184, 0, 87, 172]
abbrev dktX5_isStrap_0 : List UInt8 := dkwX5_isStrap_0 ++ []
theorem dksX5_isStrap_0 : cX5_isStrap.data.toList.drop 0 = dktX5_isStrap_0 := by decide +kernel
theorem dX5_isStrap_0 : decode cX5_isStrap 0 = .ok (.iload_n 1, 1) := dk_27 (dk_at dksX5_isStrap_0 0 rfl rfl)
theorem dX5_isStrap_1 : decode cX5_isStrap 1 = .ok (.i2l, 1) := dk_133 (dk_at dksX5_isStrap_0 1 rfl rfl)
theorem dX5_isStrap_2 : decode cX5_isStrap 2 = .ok (.lconst 0, 1) := dk_9 (dk_at dksX5_isStrap_0 2 rfl rfl)
theorem dX5_isStrap_3 : decode cX5_isStrap 3 = .ok (.aload_n 0, 1) := dk_42 (dk_at dksX5_isStrap_0 3 rfl rfl)
theorem dX5_isStrap_4 : decode cX5_isStrap 4 = .ok (.invokevirtual 116, 3) := dk_182 0 116 (dk_at dksX5_isStrap_0 4 rfl rfl)
theorem dX5_isStrap_7 : decode cX5_isStrap 7 = .ok (.iconst 1, 1) := dk_4 (dk_at dksX5_isStrap_0 7 rfl rfl)
theorem dX5_isStrap_8 : decode cX5_isStrap 8 = .ok (.isub, 1) := dk_100 (dk_at dksX5_isStrap_0 8 rfl rfl)
theorem dX5_isStrap_9 : decode cX5_isStrap 9 = .ok (.i2l, 1) := dk_133 (dk_at dksX5_isStrap_0 9 rfl rfl)
theorem dX5_isStrap_10 : decode cX5_isStrap 10 = .ok (.invokestatic 87, 3) := dk_184 0 87 (dk_at dksX5_isStrap_0 10 rfl rfl)
theorem dX5_isStrap_13 : decode cX5_isStrap 13 = .ok (.ireturn, 1) := dk_172 (dk_at dksX5_isStrap_0 13 rfl rfl)
abbrev cX5_between : ByteArray := prog_17_method_54_code
def yX5_between : MethodName := ⟨RX5, "between", "(II)I"⟩
def dkwX5_between_1 : List UInt8 := [42, 27, 28, 182, 0, 220, 172]
abbrev dktX5_between_1 : List UInt8 := dkwX5_between_1 ++ []
def dkwX5_between_0 : List UInt8 := [42, 27, 182, 1, 52, 153, 0, 11, 42, 28, 182, 1, 52, 154, 0, 6, 16, 254, 172, 42, 182, 0, 116, 87]
abbrev dktX5_between_0 : List UInt8 := dkwX5_between_0 ++ dktX5_between_1
theorem dksX5_between_0 : cX5_between.data.toList.drop 0 = dktX5_between_0 := by decide +kernel
theorem dksX5_between_1 : cX5_between.data.toList.drop 24 = dktX5_between_1 := dk_seg dksX5_between_0 24 rfl rfl
theorem dX5_between_0 : decode cX5_between 0 = .ok (.aload_n 0, 1) := dk_42 (dk_at dksX5_between_0 0 rfl rfl)
theorem dX5_between_1 : decode cX5_between 1 = .ok (.iload_n 1, 1) := dk_27 (dk_at dksX5_between_0 1 rfl rfl)
theorem dX5_between_2 : decode cX5_between 2 = .ok (.invokevirtual 308, 3) := dk_182 1 52 (dk_at dksX5_between_0 2 rfl rfl)
theorem dX5_between_5 : decode cX5_between 5 = .ok (.ifCond .eq 11, 3) := dk_153 0 11 (dk_at dksX5_between_0 5 rfl rfl)
theorem dX5_between_8 : decode cX5_between 8 = .ok (.aload_n 0, 1) := dk_42 (dk_at dksX5_between_0 8 rfl rfl)
theorem dX5_between_9 : decode cX5_between 9 = .ok (.iload_n 2, 1) := dk_28 (dk_at dksX5_between_0 9 rfl rfl)
theorem dX5_between_10 : decode cX5_between 10 = .ok (.invokevirtual 308, 3) := dk_182 1 52 (dk_at dksX5_between_0 10 rfl rfl)
theorem dX5_between_13 : decode cX5_between 13 = .ok (.ifCond .ne 6, 3) := dk_154 0 6 (dk_at dksX5_between_0 13 rfl rfl)
theorem dX5_between_16 : decode cX5_between 16 = .ok (.bipush (-2), 2) := dk_16 254 (dk_at dksX5_between_0 16 rfl rfl)
theorem dX5_between_18 : decode cX5_between 18 = .ok (.ireturn, 1) := dk_172 (dk_at dksX5_between_0 18 rfl rfl)
theorem dX5_between_19 : decode cX5_between 19 = .ok (.aload_n 0, 1) := dk_42 (dk_at dksX5_between_0 19 rfl rfl)
theorem dX5_between_20 : decode cX5_between 20 = .ok (.invokevirtual 116, 3) := dk_182 0 116 (dk_at dksX5_between_0 20 rfl rfl)
theorem dX5_between_23 : decode cX5_between 23 = .ok (.pop, 1) := dk_87 (dk_at dksX5_between_0 23 rfl rfl)
theorem dX5_between_24 : decode cX5_between 24 = .ok (.aload_n 0, 1) := dk_42 (dk_at dksX5_between_1 0 rfl rfl)
theorem dX5_between_25 : decode cX5_between 25 = .ok (.iload_n 1, 1) := dk_27 (dk_at dksX5_between_1 1 rfl rfl)
theorem dX5_between_26 : decode cX5_between 26 = .ok (.iload_n 2, 1) := dk_28 (dk_at dksX5_between_1 2 rfl rfl)
theorem dX5_between_27 : decode cX5_between 27 = .ok (.invokevirtual 220, 3) := dk_182 0 220 (dk_at dksX5_between_1 3 rfl rfl)
theorem dX5_between_30 : decode cX5_between 30 = .ok (.ireturn, 1) := dk_172 (dk_at dksX5_between_1 6 rfl rfl)
abbrev cX5_isNode : ByteArray := prog_17_method_14_code
def yX5_isNode : MethodName := ⟨RX5, "isNode", "(I)Z"⟩
def dkwX5_isNode_0 : List UInt8 := [27, 133, 9, 42, 182, 0, 98, 4, 100, 133, 184, 0, 87, 172]
abbrev dktX5_isNode_0 : List UInt8 := dkwX5_isNode_0 ++ []
theorem dksX5_isNode_0 : cX5_isNode.data.toList.drop 0 = dktX5_isNode_0 := by decide +kernel
theorem dX5_isNode_0 : decode cX5_isNode 0 = .ok (.iload_n 1, 1) := dk_27 (dk_at dksX5_isNode_0 0 rfl rfl)
theorem dX5_isNode_1 : decode cX5_isNode 1 = .ok (.i2l, 1) := dk_133 (dk_at dksX5_isNode_0 1 rfl rfl)
theorem dX5_isNode_2 : decode cX5_isNode 2 = .ok (.lconst 0, 1) := dk_9 (dk_at dksX5_isNode_0 2 rfl rfl)
theorem dX5_isNode_3 : decode cX5_isNode 3 = .ok (.aload_n 0, 1) := dk_42 (dk_at dksX5_isNode_0 3 rfl rfl)
theorem dX5_isNode_4 : decode cX5_isNode 4 = .ok (.invokevirtual 98, 3) := dk_182 0 98 (dk_at dksX5_isNode_0 4 rfl rfl)
theorem dX5_isNode_7 : decode cX5_isNode 7 = .ok (.iconst 1, 1) := dk_4 (dk_at dksX5_isNode_0 7 rfl rfl)
theorem dX5_isNode_8 : decode cX5_isNode 8 = .ok (.isub, 1) := dk_100 (dk_at dksX5_isNode_0 8 rfl rfl)
theorem dX5_isNode_9 : decode cX5_isNode 9 = .ok (.i2l, 1) := dk_133 (dk_at dksX5_isNode_0 9 rfl rfl)
theorem dX5_isNode_10 : decode cX5_isNode 10 = .ok (.invokestatic 87, 3) := dk_184 0 87 (dk_at dksX5_isNode_0 10 rfl rfl)
theorem dX5_isNode_13 : decode cX5_isNode 13 = .ok (.ireturn, 1) := dk_172 (dk_at dksX5_isNode_0 13 rfl rfl)
abbrev cX5_node : ByteArray := prog_17_method_55_code
def yX5_node : MethodName := ⟨RX5, "node", "(II)I"⟩
def dkwX5_node_5 : List UInt8 := [4, 167, 0, 4, 3, 172]
abbrev dktX5_node_5 : List UInt8 := dkwX5_node_5 ++ []
def dkwX5_node_4 : List UInt8 := [16, 6, 27, 96, 46, 172, 42, 180, 0, 9, 16, 15, 27, 96, 46, 172, 42, 27, 182, 1, 32, 153, 0, 7]
abbrev dktX5_node_4 : List UInt8 := dkwX5_node_4 ++ dktX5_node_5
def dkwX5_node_3 : List UInt8 := [42, 180, 0, 9, 8, 46, 27, 184, 0, 209, 153, 0, 7, 4, 167, 0, 4, 3, 172, 42, 180, 0, 9]
abbrev dktX5_node_3 : List UInt8 := dkwX5_node_3 ++ dktX5_node_4
def dkwX5_node_2 : List UInt8 := [170, 0, 0, 0, 64, 0, 0, 0, 0, 0, 0, 0, 2, 0, 0, 0, 25, 0, 0, 0, 44, 0, 0, 0, 54]
abbrev dktX5_node_2 : List UInt8 := dkwX5_node_2 ++ dktX5_node_3
def dkwX5_node_1 : List UInt8 := [182, 1, 36, 28]
abbrev dktX5_node_1 : List UInt8 := dkwX5_node_1 ++ dktX5_node_2
def dkwX5_node_0 : List UInt8 := [42, 27, 182, 1, 52, 153, 0, 15, 28, 133, 9, 20, 1, 55, 184, 0, 87, 154, 0, 5, 2, 172, 42]
abbrev dktX5_node_0 : List UInt8 := dkwX5_node_0 ++ dktX5_node_1
theorem dksX5_node_0 : cX5_node.data.toList.drop 0 = dktX5_node_0 := by decide +kernel
theorem dksX5_node_1 : cX5_node.data.toList.drop 23 = dktX5_node_1 := dk_seg dksX5_node_0 23 rfl rfl
theorem dksX5_node_2 : cX5_node.data.toList.drop 27 = dktX5_node_2 := dk_seg dksX5_node_1 4 rfl rfl
theorem dksX5_node_3 : cX5_node.data.toList.drop 52 = dktX5_node_3 := dk_seg dksX5_node_2 25 rfl rfl
theorem dksX5_node_4 : cX5_node.data.toList.drop 75 = dktX5_node_4 := dk_seg dksX5_node_3 23 rfl rfl
theorem dksX5_node_5 : cX5_node.data.toList.drop 99 = dktX5_node_5 := dk_seg dksX5_node_4 24 rfl rfl
theorem dX5_node_0 : decode cX5_node 0 = .ok (.aload_n 0, 1) := dk_42 (dk_at dksX5_node_0 0 rfl rfl)
theorem dX5_node_1 : decode cX5_node 1 = .ok (.iload_n 1, 1) := dk_27 (dk_at dksX5_node_0 1 rfl rfl)
theorem dX5_node_2 : decode cX5_node 2 = .ok (.invokevirtual 308, 3) := dk_182 1 52 (dk_at dksX5_node_0 2 rfl rfl)
theorem dX5_node_5 : decode cX5_node 5 = .ok (.ifCond .eq 15, 3) := dk_153 0 15 (dk_at dksX5_node_0 5 rfl rfl)
theorem dX5_node_8 : decode cX5_node 8 = .ok (.iload_n 2, 1) := dk_28 (dk_at dksX5_node_0 8 rfl rfl)
theorem dX5_node_9 : decode cX5_node 9 = .ok (.i2l, 1) := dk_133 (dk_at dksX5_node_0 9 rfl rfl)
theorem dX5_node_10 : decode cX5_node 10 = .ok (.lconst 0, 1) := dk_9 (dk_at dksX5_node_0 10 rfl rfl)
theorem dX5_node_11 : decode cX5_node 11 = .ok (.ldc2_w 311, 3) := dk_20 1 55 (dk_at dksX5_node_0 11 rfl rfl)
theorem dX5_node_14 : decode cX5_node 14 = .ok (.invokestatic 87, 3) := dk_184 0 87 (dk_at dksX5_node_0 14 rfl rfl)
theorem dX5_node_17 : decode cX5_node 17 = .ok (.ifCond .ne 5, 3) := dk_154 0 5 (dk_at dksX5_node_0 17 rfl rfl)
theorem dX5_node_20 : decode cX5_node 20 = .ok (.iconst (-1), 1) := dk_2 (dk_at dksX5_node_0 20 rfl rfl)
theorem dX5_node_21 : decode cX5_node 21 = .ok (.ireturn, 1) := dk_172 (dk_at dksX5_node_0 21 rfl rfl)
theorem dX5_node_22 : decode cX5_node 22 = .ok (.aload_n 0, 1) := dk_42 (dk_at dksX5_node_0 22 rfl rfl)
theorem dX5_node_23 : decode cX5_node 23 = .ok (.invokevirtual 292, 3) := dk_182 1 36 (dk_at dksX5_node_1 0 rfl rfl)
theorem dX5_node_26 : decode cX5_node 26 = .ok (.iload_n 2, 1) := dk_28 (dk_at dksX5_node_1 3 rfl rfl)
theorem dX5_node_27 : decode cX5_node 27 = .ok (.tableswitch 64 0 2 #[25, 44, 54], 25) := by decide +kernel
theorem dX5_node_52 : decode cX5_node 52 = .ok (.aload_n 0, 1) := dk_42 (dk_at dksX5_node_3 0 rfl rfl)
theorem dX5_node_53 : decode cX5_node 53 = .ok (.getfield 9, 3) := dk_180 0 9 (dk_at dksX5_node_3 1 rfl rfl)
theorem dX5_node_56 : decode cX5_node 56 = .ok (.iconst 5, 1) := dk_8 (dk_at dksX5_node_3 4 rfl rfl)
theorem dX5_node_57 : decode cX5_node 57 = .ok (.iaload, 1) := dk_46 (dk_at dksX5_node_3 5 rfl rfl)
theorem dX5_node_58 : decode cX5_node 58 = .ok (.iload_n 1, 1) := dk_27 (dk_at dksX5_node_3 6 rfl rfl)
theorem dX5_node_59 : decode cX5_node 59 = .ok (.invokestatic 209, 3) := dk_184 0 209 (dk_at dksX5_node_3 7 rfl rfl)
theorem dX5_node_62 : decode cX5_node 62 = .ok (.ifCond .eq 7, 3) := dk_153 0 7 (dk_at dksX5_node_3 10 rfl rfl)
theorem dX5_node_65 : decode cX5_node 65 = .ok (.iconst 1, 1) := dk_4 (dk_at dksX5_node_3 13 rfl rfl)
theorem dX5_node_66 : decode cX5_node 66 = .ok (.goto 4, 3) := dk_167 0 4 (dk_at dksX5_node_3 14 rfl rfl)
theorem dX5_node_69 : decode cX5_node 69 = .ok (.iconst 0, 1) := dk_3 (dk_at dksX5_node_3 17 rfl rfl)
theorem dX5_node_70 : decode cX5_node 70 = .ok (.ireturn, 1) := dk_172 (dk_at dksX5_node_3 18 rfl rfl)
theorem dX5_node_71 : decode cX5_node 71 = .ok (.aload_n 0, 1) := dk_42 (dk_at dksX5_node_3 19 rfl rfl)
theorem dX5_node_72 : decode cX5_node 72 = .ok (.getfield 9, 3) := dk_180 0 9 (dk_at dksX5_node_3 20 rfl rfl)
theorem dX5_node_75 : decode cX5_node 75 = .ok (.bipush 6, 2) := dk_16 6 (dk_at dksX5_node_4 0 rfl rfl)
theorem dX5_node_77 : decode cX5_node 77 = .ok (.iload_n 1, 1) := dk_27 (dk_at dksX5_node_4 2 rfl rfl)
theorem dX5_node_78 : decode cX5_node 78 = .ok (.iadd, 1) := dk_96 (dk_at dksX5_node_4 3 rfl rfl)
theorem dX5_node_79 : decode cX5_node 79 = .ok (.iaload, 1) := dk_46 (dk_at dksX5_node_4 4 rfl rfl)
theorem dX5_node_80 : decode cX5_node 80 = .ok (.ireturn, 1) := dk_172 (dk_at dksX5_node_4 5 rfl rfl)
theorem dX5_node_81 : decode cX5_node 81 = .ok (.aload_n 0, 1) := dk_42 (dk_at dksX5_node_4 6 rfl rfl)
theorem dX5_node_82 : decode cX5_node 82 = .ok (.getfield 9, 3) := dk_180 0 9 (dk_at dksX5_node_4 7 rfl rfl)
theorem dX5_node_85 : decode cX5_node 85 = .ok (.bipush 15, 2) := dk_16 15 (dk_at dksX5_node_4 10 rfl rfl)
theorem dX5_node_87 : decode cX5_node 87 = .ok (.iload_n 1, 1) := dk_27 (dk_at dksX5_node_4 12 rfl rfl)
theorem dX5_node_88 : decode cX5_node 88 = .ok (.iadd, 1) := dk_96 (dk_at dksX5_node_4 13 rfl rfl)
theorem dX5_node_89 : decode cX5_node 89 = .ok (.iaload, 1) := dk_46 (dk_at dksX5_node_4 14 rfl rfl)
theorem dX5_node_90 : decode cX5_node 90 = .ok (.ireturn, 1) := dk_172 (dk_at dksX5_node_4 15 rfl rfl)
theorem dX5_node_91 : decode cX5_node 91 = .ok (.aload_n 0, 1) := dk_42 (dk_at dksX5_node_4 16 rfl rfl)
theorem dX5_node_92 : decode cX5_node 92 = .ok (.iload_n 1, 1) := dk_27 (dk_at dksX5_node_4 17 rfl rfl)
theorem dX5_node_93 : decode cX5_node 93 = .ok (.invokevirtual 288, 3) := dk_182 1 32 (dk_at dksX5_node_4 18 rfl rfl)
theorem dX5_node_96 : decode cX5_node 96 = .ok (.ifCond .eq 7, 3) := dk_153 0 7 (dk_at dksX5_node_4 21 rfl rfl)
theorem dX5_node_99 : decode cX5_node 99 = .ok (.iconst 1, 1) := dk_4 (dk_at dksX5_node_5 0 rfl rfl)
theorem dX5_node_100 : decode cX5_node 100 = .ok (.goto 4, 3) := dk_167 0 4 (dk_at dksX5_node_5 1 rfl rfl)
theorem dX5_node_103 : decode cX5_node 103 = .ok (.iconst 0, 1) := dk_3 (dk_at dksX5_node_5 4 rfl rfl)
theorem dX5_node_104 : decode cX5_node 104 = .ok (.ireturn, 1) := dk_172 (dk_at dksX5_node_5 5 rfl rfl)
abbrev cX5_isDead : ByteArray := prog_17_method_44_code
def yX5_isDead : MethodName := ⟨RX5, "isDead", "(I)Z"⟩
def dkwX5_isDead_0 : List UInt8 := [42, 180, 1, 10, 27, 184, 0, 209, 172]
abbrev dktX5_isDead_0 : List UInt8 := dkwX5_isDead_0 ++ []
theorem dksX5_isDead_0 : cX5_isDead.data.toList.drop 0 = dktX5_isDead_0 := by decide +kernel
theorem dX5_isDead_0 : decode cX5_isDead 0 = .ok (.aload_n 0, 1) := dk_42 (dk_at dksX5_isDead_0 0 rfl rfl)
theorem dX5_isDead_1 : decode cX5_isDead 1 = .ok (.getfield 266, 3) := dk_180 1 10 (dk_at dksX5_isDead_0 1 rfl rfl)
theorem dX5_isDead_4 : decode cX5_isDead 4 = .ok (.iload_n 1, 1) := dk_27 (dk_at dksX5_isDead_0 4 rfl rfl)
theorem dX5_isDead_5 : decode cX5_isDead 5 = .ok (.invokestatic 209, 3) := dk_184 0 209 (dk_at dksX5_isDead_0 5 rfl rfl)
theorem dX5_isDead_8 : decode cX5_isDead 8 = .ok (.ireturn, 1) := dk_172 (dk_at dksX5_isDead_0 8 rfl rfl)
abbrev cX5_budget : ByteArray := prog_17_method_56_code
def yX5_budget : MethodName := ⟨RX5, "budget", "(I)I"⟩
def dkwX5_budget_1 : List UInt8 := [16, 24, 27, 96, 46, 167, 0, 4, 2, 172]
abbrev dktX5_budget_1 : List UInt8 := dkwX5_budget_1 ++ []
def dkwX5_budget_0 : List UInt8 := [42, 182, 0, 109, 153, 0, 27, 27, 133, 9, 20, 1, 55, 184, 0, 87, 153, 0, 15, 42, 180, 0, 9]
abbrev dktX5_budget_0 : List UInt8 := dkwX5_budget_0 ++ dktX5_budget_1
theorem dksX5_budget_0 : cX5_budget.data.toList.drop 0 = dktX5_budget_0 := by decide +kernel
theorem dksX5_budget_1 : cX5_budget.data.toList.drop 23 = dktX5_budget_1 := dk_seg dksX5_budget_0 23 rfl rfl
theorem dX5_budget_0 : decode cX5_budget 0 = .ok (.aload_n 0, 1) := dk_42 (dk_at dksX5_budget_0 0 rfl rfl)
theorem dX5_budget_1 : decode cX5_budget 1 = .ok (.invokevirtual 109, 3) := dk_182 0 109 (dk_at dksX5_budget_0 1 rfl rfl)
theorem dX5_budget_4 : decode cX5_budget 4 = .ok (.ifCond .eq 27, 3) := dk_153 0 27 (dk_at dksX5_budget_0 4 rfl rfl)
theorem dX5_budget_7 : decode cX5_budget 7 = .ok (.iload_n 1, 1) := dk_27 (dk_at dksX5_budget_0 7 rfl rfl)
theorem dX5_budget_8 : decode cX5_budget 8 = .ok (.i2l, 1) := dk_133 (dk_at dksX5_budget_0 8 rfl rfl)
theorem dX5_budget_9 : decode cX5_budget 9 = .ok (.lconst 0, 1) := dk_9 (dk_at dksX5_budget_0 9 rfl rfl)
theorem dX5_budget_10 : decode cX5_budget 10 = .ok (.ldc2_w 311, 3) := dk_20 1 55 (dk_at dksX5_budget_0 10 rfl rfl)
theorem dX5_budget_13 : decode cX5_budget 13 = .ok (.invokestatic 87, 3) := dk_184 0 87 (dk_at dksX5_budget_0 13 rfl rfl)
theorem dX5_budget_16 : decode cX5_budget 16 = .ok (.ifCond .eq 15, 3) := dk_153 0 15 (dk_at dksX5_budget_0 16 rfl rfl)
theorem dX5_budget_19 : decode cX5_budget 19 = .ok (.aload_n 0, 1) := dk_42 (dk_at dksX5_budget_0 19 rfl rfl)
theorem dX5_budget_20 : decode cX5_budget 20 = .ok (.getfield 9, 3) := dk_180 0 9 (dk_at dksX5_budget_0 20 rfl rfl)
theorem dX5_budget_23 : decode cX5_budget 23 = .ok (.bipush 24, 2) := dk_16 24 (dk_at dksX5_budget_1 0 rfl rfl)
theorem dX5_budget_25 : decode cX5_budget 25 = .ok (.iload_n 1, 1) := dk_27 (dk_at dksX5_budget_1 2 rfl rfl)
theorem dX5_budget_26 : decode cX5_budget 26 = .ok (.iadd, 1) := dk_96 (dk_at dksX5_budget_1 3 rfl rfl)
theorem dX5_budget_27 : decode cX5_budget 27 = .ok (.iaload, 1) := dk_46 (dk_at dksX5_budget_1 4 rfl rfl)
theorem dX5_budget_28 : decode cX5_budget 28 = .ok (.goto 4, 3) := dk_167 0 4 (dk_at dksX5_budget_1 5 rfl rfl)
theorem dX5_budget_31 : decode cX5_budget 31 = .ok (.iconst (-1), 1) := dk_2 (dk_at dksX5_budget_1 8 rfl rfl)
theorem dX5_budget_32 : decode cX5_budget 32 = .ok (.ireturn, 1) := dk_172 (dk_at dksX5_budget_1 9 rfl rfl)
abbrev cX5_drop : ByteArray := prog_17_method_57_code
def yX5_drop : MethodName := ⟨RX5, "drop", "(II)J"⟩
def dkwX5_drop_2 : List UInt8 := [184, 1, 64, 173]
abbrev dktX5_drop_2 : List UInt8 := dkwX5_drop_2 ++ []
def dkwX5_drop_1 : List UInt8 := [27, 182, 1, 32, 153, 0, 9, 20, 1, 62, 167, 0, 16, 42, 27, 182, 1, 26, 42, 180, 0, 50, 28]
abbrev dktX5_drop_1 : List UInt8 := dkwX5_drop_1 ++ dktX5_drop_2
def dkwX5_drop_0 : List UInt8 := [42, 27, 182, 1, 52, 153, 0, 10, 28, 184, 1, 57, 154, 0, 7, 20, 1, 60, 173, 42, 182, 1, 36, 42]
abbrev dktX5_drop_0 : List UInt8 := dkwX5_drop_0 ++ dktX5_drop_1
theorem dksX5_drop_0 : cX5_drop.data.toList.drop 0 = dktX5_drop_0 := by decide +kernel
theorem dksX5_drop_1 : cX5_drop.data.toList.drop 24 = dktX5_drop_1 := dk_seg dksX5_drop_0 24 rfl rfl
theorem dksX5_drop_2 : cX5_drop.data.toList.drop 47 = dktX5_drop_2 := dk_seg dksX5_drop_1 23 rfl rfl
theorem dX5_drop_0 : decode cX5_drop 0 = .ok (.aload_n 0, 1) := dk_42 (dk_at dksX5_drop_0 0 rfl rfl)
theorem dX5_drop_1 : decode cX5_drop 1 = .ok (.iload_n 1, 1) := dk_27 (dk_at dksX5_drop_0 1 rfl rfl)
theorem dX5_drop_2 : decode cX5_drop 2 = .ok (.invokevirtual 308, 3) := dk_182 1 52 (dk_at dksX5_drop_0 2 rfl rfl)
theorem dX5_drop_5 : decode cX5_drop 5 = .ok (.ifCond .eq 10, 3) := dk_153 0 10 (dk_at dksX5_drop_0 5 rfl rfl)
theorem dX5_drop_8 : decode cX5_drop 8 = .ok (.iload_n 2, 1) := dk_28 (dk_at dksX5_drop_0 8 rfl rfl)
theorem dX5_drop_9 : decode cX5_drop 9 = .ok (.invokestatic 313, 3) := dk_184 1 57 (dk_at dksX5_drop_0 9 rfl rfl)
theorem dX5_drop_12 : decode cX5_drop 12 = .ok (.ifCond .ne 7, 3) := dk_154 0 7 (dk_at dksX5_drop_0 12 rfl rfl)
theorem dX5_drop_15 : decode cX5_drop 15 = .ok (.ldc2_w 316, 3) := dk_20 1 60 (dk_at dksX5_drop_0 15 rfl rfl)
theorem dX5_drop_18 : decode cX5_drop 18 = .ok (.lreturn, 1) := dk_173 (dk_at dksX5_drop_0 18 rfl rfl)
theorem dX5_drop_19 : decode cX5_drop 19 = .ok (.aload_n 0, 1) := dk_42 (dk_at dksX5_drop_0 19 rfl rfl)
theorem dX5_drop_20 : decode cX5_drop 20 = .ok (.invokevirtual 292, 3) := dk_182 1 36 (dk_at dksX5_drop_0 20 rfl rfl)
theorem dX5_drop_23 : decode cX5_drop 23 = .ok (.aload_n 0, 1) := dk_42 (dk_at dksX5_drop_0 23 rfl rfl)
theorem dX5_drop_24 : decode cX5_drop 24 = .ok (.iload_n 1, 1) := dk_27 (dk_at dksX5_drop_1 0 rfl rfl)
theorem dX5_drop_25 : decode cX5_drop 25 = .ok (.invokevirtual 288, 3) := dk_182 1 32 (dk_at dksX5_drop_1 1 rfl rfl)
theorem dX5_drop_28 : decode cX5_drop 28 = .ok (.ifCond .eq 9, 3) := dk_153 0 9 (dk_at dksX5_drop_1 4 rfl rfl)
theorem dX5_drop_31 : decode cX5_drop 31 = .ok (.ldc2_w 318, 3) := dk_20 1 62 (dk_at dksX5_drop_1 7 rfl rfl)
theorem dX5_drop_34 : decode cX5_drop 34 = .ok (.goto 16, 3) := dk_167 0 16 (dk_at dksX5_drop_1 10 rfl rfl)
theorem dX5_drop_37 : decode cX5_drop 37 = .ok (.aload_n 0, 1) := dk_42 (dk_at dksX5_drop_1 13 rfl rfl)
theorem dX5_drop_38 : decode cX5_drop 38 = .ok (.iload_n 1, 1) := dk_27 (dk_at dksX5_drop_1 14 rfl rfl)
theorem dX5_drop_39 : decode cX5_drop 39 = .ok (.invokevirtual 282, 3) := dk_182 1 26 (dk_at dksX5_drop_1 15 rfl rfl)
theorem dX5_drop_42 : decode cX5_drop 42 = .ok (.aload_n 0, 1) := dk_42 (dk_at dksX5_drop_1 18 rfl rfl)
theorem dX5_drop_43 : decode cX5_drop 43 = .ok (.getfield 50, 3) := dk_180 0 50 (dk_at dksX5_drop_1 19 rfl rfl)
theorem dX5_drop_46 : decode cX5_drop 46 = .ok (.iload_n 2, 1) := dk_28 (dk_at dksX5_drop_1 22 rfl rfl)
theorem dX5_drop_47 : decode cX5_drop 47 = .ok (.invokestatic 320, 3) := dk_184 1 64 (dk_at dksX5_drop_2 0 rfl rfl)
theorem dX5_drop_50 : decode cX5_drop 50 = .ok (.lreturn, 1) := dk_173 (dk_at dksX5_drop_2 3 rfl rfl)
abbrev cX5_isPart : ByteArray := prog_17_method_51_code
def yX5_isPart : MethodName := ⟨RX5, "isPart", "(I)Z"⟩
def dkwX5_isPart_0 : List UInt8 := [26, 133, 9, 10, 184, 0, 87, 172]
abbrev dktX5_isPart_0 : List UInt8 := dkwX5_isPart_0 ++ []
theorem dksX5_isPart_0 : cX5_isPart.data.toList.drop 0 = dktX5_isPart_0 := by decide +kernel
theorem dX5_isPart_0 : decode cX5_isPart 0 = .ok (.iload_n 0, 1) := dk_26 (dk_at dksX5_isPart_0 0 rfl rfl)
theorem dX5_isPart_1 : decode cX5_isPart 1 = .ok (.i2l, 1) := dk_133 (dk_at dksX5_isPart_0 1 rfl rfl)
theorem dX5_isPart_2 : decode cX5_isPart 2 = .ok (.lconst 0, 1) := dk_9 (dk_at dksX5_isPart_0 2 rfl rfl)
theorem dX5_isPart_3 : decode cX5_isPart 3 = .ok (.lconst 1, 1) := dk_10 (dk_at dksX5_isPart_0 3 rfl rfl)
theorem dX5_isPart_4 : decode cX5_isPart 4 = .ok (.invokestatic 87, 3) := dk_184 0 87 (dk_at dksX5_isPart_0 4 rfl rfl)
theorem dX5_isPart_7 : decode cX5_isPart 7 = .ok (.ireturn, 1) := dk_172 (dk_at dksX5_isPart_0 7 rfl rfl)
abbrev cX5_dropOf : ByteArray := prog_17_method_46_code
def yX5_dropOf : MethodName := ⟨RX5, "dropOf", "(I)J"⟩
def dkwX5_dropOf_2 : List UInt8 := [132, 4, 1, 167, 255, 212, 32, 173]
abbrev dktX5_dropOf_2 : List UInt8 := dkwX5_dropOf_2 ++ []
def dkwX5_dropOf_1 : List UInt8 := [182, 1, 22, 42, 180, 0, 9, 16, 6, 42, 180, 0, 43, 21, 4, 46, 96, 46, 133, 105, 97, 65]
abbrev dktX5_dropOf_1 : List UInt8 := dkwX5_dropOf_1 ++ dktX5_dropOf_2
def dkwX5_dropOf_0 : List UInt8 := [9, 65, 3, 54, 4, 21, 4, 42, 180, 1, 4, 162, 0, 41, 32, 42, 27, 42, 180, 0, 43, 21, 4, 46]
abbrev dktX5_dropOf_0 : List UInt8 := dkwX5_dropOf_0 ++ dktX5_dropOf_1
theorem dksX5_dropOf_0 : cX5_dropOf.data.toList.drop 0 = dktX5_dropOf_0 := by decide +kernel
theorem dksX5_dropOf_1 : cX5_dropOf.data.toList.drop 24 = dktX5_dropOf_1 := dk_seg dksX5_dropOf_0 24 rfl rfl
theorem dksX5_dropOf_2 : cX5_dropOf.data.toList.drop 46 = dktX5_dropOf_2 := dk_seg dksX5_dropOf_1 22 rfl rfl
theorem dX5_dropOf_0 : decode cX5_dropOf 0 = .ok (.lconst 0, 1) := dk_9 (dk_at dksX5_dropOf_0 0 rfl rfl)
theorem dX5_dropOf_1 : decode cX5_dropOf 1 = .ok (.lstore_n 2, 1) := dk_65 (dk_at dksX5_dropOf_0 1 rfl rfl)
theorem dX5_dropOf_2 : decode cX5_dropOf 2 = .ok (.iconst 0, 1) := dk_3 (dk_at dksX5_dropOf_0 2 rfl rfl)
theorem dX5_dropOf_3 : decode cX5_dropOf 3 = .ok (.istore 4, 2) := dk_54 4 (dk_at dksX5_dropOf_0 3 rfl rfl)
theorem dX5_dropOf_5 : decode cX5_dropOf 5 = .ok (.iload 4, 2) := dk_21 4 (dk_at dksX5_dropOf_0 5 rfl rfl)
theorem dX5_dropOf_7 : decode cX5_dropOf 7 = .ok (.aload_n 0, 1) := dk_42 (dk_at dksX5_dropOf_0 7 rfl rfl)
theorem dX5_dropOf_8 : decode cX5_dropOf 8 = .ok (.getfield 260, 3) := dk_180 1 4 (dk_at dksX5_dropOf_0 8 rfl rfl)
theorem dX5_dropOf_11 : decode cX5_dropOf 11 = .ok (.if_icmp .ge 41, 3) := dk_162 0 41 (dk_at dksX5_dropOf_0 11 rfl rfl)
theorem dX5_dropOf_14 : decode cX5_dropOf 14 = .ok (.lload_n 2, 1) := dk_32 (dk_at dksX5_dropOf_0 14 rfl rfl)
theorem dX5_dropOf_15 : decode cX5_dropOf 15 = .ok (.aload_n 0, 1) := dk_42 (dk_at dksX5_dropOf_0 15 rfl rfl)
theorem dX5_dropOf_16 : decode cX5_dropOf 16 = .ok (.iload_n 1, 1) := dk_27 (dk_at dksX5_dropOf_0 16 rfl rfl)
theorem dX5_dropOf_17 : decode cX5_dropOf 17 = .ok (.aload_n 0, 1) := dk_42 (dk_at dksX5_dropOf_0 17 rfl rfl)
theorem dX5_dropOf_18 : decode cX5_dropOf 18 = .ok (.getfield 43, 3) := dk_180 0 43 (dk_at dksX5_dropOf_0 18 rfl rfl)
theorem dX5_dropOf_21 : decode cX5_dropOf 21 = .ok (.iload 4, 2) := dk_21 4 (dk_at dksX5_dropOf_0 21 rfl rfl)
theorem dX5_dropOf_23 : decode cX5_dropOf 23 = .ok (.iaload, 1) := dk_46 (dk_at dksX5_dropOf_0 23 rfl rfl)
theorem dX5_dropOf_24 : decode cX5_dropOf 24 = .ok (.invokevirtual 278, 3) := dk_182 1 22 (dk_at dksX5_dropOf_1 0 rfl rfl)
theorem dX5_dropOf_27 : decode cX5_dropOf 27 = .ok (.aload_n 0, 1) := dk_42 (dk_at dksX5_dropOf_1 3 rfl rfl)
theorem dX5_dropOf_28 : decode cX5_dropOf 28 = .ok (.getfield 9, 3) := dk_180 0 9 (dk_at dksX5_dropOf_1 4 rfl rfl)
theorem dX5_dropOf_31 : decode cX5_dropOf 31 = .ok (.bipush 6, 2) := dk_16 6 (dk_at dksX5_dropOf_1 7 rfl rfl)
theorem dX5_dropOf_33 : decode cX5_dropOf 33 = .ok (.aload_n 0, 1) := dk_42 (dk_at dksX5_dropOf_1 9 rfl rfl)
theorem dX5_dropOf_34 : decode cX5_dropOf 34 = .ok (.getfield 43, 3) := dk_180 0 43 (dk_at dksX5_dropOf_1 10 rfl rfl)
theorem dX5_dropOf_37 : decode cX5_dropOf 37 = .ok (.iload 4, 2) := dk_21 4 (dk_at dksX5_dropOf_1 13 rfl rfl)
theorem dX5_dropOf_39 : decode cX5_dropOf 39 = .ok (.iaload, 1) := dk_46 (dk_at dksX5_dropOf_1 15 rfl rfl)
theorem dX5_dropOf_40 : decode cX5_dropOf 40 = .ok (.iadd, 1) := dk_96 (dk_at dksX5_dropOf_1 16 rfl rfl)
theorem dX5_dropOf_41 : decode cX5_dropOf 41 = .ok (.iaload, 1) := dk_46 (dk_at dksX5_dropOf_1 17 rfl rfl)
theorem dX5_dropOf_42 : decode cX5_dropOf 42 = .ok (.i2l, 1) := dk_133 (dk_at dksX5_dropOf_1 18 rfl rfl)
theorem dX5_dropOf_43 : decode cX5_dropOf 43 = .ok (.lmul, 1) := dk_105 (dk_at dksX5_dropOf_1 19 rfl rfl)
theorem dX5_dropOf_44 : decode cX5_dropOf 44 = .ok (.ladd, 1) := dk_97 (dk_at dksX5_dropOf_1 20 rfl rfl)
theorem dX5_dropOf_45 : decode cX5_dropOf 45 = .ok (.lstore_n 2, 1) := dk_65 (dk_at dksX5_dropOf_1 21 rfl rfl)
theorem dX5_dropOf_46 : decode cX5_dropOf 46 = .ok (.iinc 4 1, 3) := dk_132 4 1 (dk_at dksX5_dropOf_2 0 rfl rfl)
theorem dX5_dropOf_49 : decode cX5_dropOf 49 = .ok (.goto (-44), 3) := dk_167 255 212 (dk_at dksX5_dropOf_2 3 rfl rfl)
theorem dX5_dropOf_52 : decode cX5_dropOf 52 = .ok (.lload_n 2, 1) := dk_32 (dk_at dksX5_dropOf_2 6 rfl rfl)
theorem dX5_dropOf_53 : decode cX5_dropOf 53 = .ok (.lreturn, 1) := dk_173 (dk_at dksX5_dropOf_2 7 rfl rfl)
abbrev cX5_movesOf : ByteArray := prog_17_method_45_code
def yX5_movesOf : MethodName := ⟨RX5, "movesOf", "(II)J"⟩
def dkwX5_movesOf_1 : List UInt8 := [160, 0, 7, 9, 167, 0, 18, 42, 180, 0, 46, 16, 18, 29, 104, 16, 9, 96, 21, 4, 96, 47, 173]
abbrev dktX5_movesOf_1 : List UInt8 := dkwX5_movesOf_1 ++ []
def dkwX5_movesOf_0 : List UInt8 := [42, 180, 0, 40, 27, 46, 62, 42, 180, 0, 40, 28, 46, 54, 4, 29, 2, 159, 0, 9, 21, 4, 2]
abbrev dktX5_movesOf_0 : List UInt8 := dkwX5_movesOf_0 ++ dktX5_movesOf_1
theorem dksX5_movesOf_0 : cX5_movesOf.data.toList.drop 0 = dktX5_movesOf_0 := by decide +kernel
theorem dksX5_movesOf_1 : cX5_movesOf.data.toList.drop 23 = dktX5_movesOf_1 := dk_seg dksX5_movesOf_0 23 rfl rfl
theorem dX5_movesOf_0 : decode cX5_movesOf 0 = .ok (.aload_n 0, 1) := dk_42 (dk_at dksX5_movesOf_0 0 rfl rfl)
theorem dX5_movesOf_1 : decode cX5_movesOf 1 = .ok (.getfield 40, 3) := dk_180 0 40 (dk_at dksX5_movesOf_0 1 rfl rfl)
theorem dX5_movesOf_4 : decode cX5_movesOf 4 = .ok (.iload_n 1, 1) := dk_27 (dk_at dksX5_movesOf_0 4 rfl rfl)
theorem dX5_movesOf_5 : decode cX5_movesOf 5 = .ok (.iaload, 1) := dk_46 (dk_at dksX5_movesOf_0 5 rfl rfl)
theorem dX5_movesOf_6 : decode cX5_movesOf 6 = .ok (.istore_n 3, 1) := dk_62 (dk_at dksX5_movesOf_0 6 rfl rfl)
theorem dX5_movesOf_7 : decode cX5_movesOf 7 = .ok (.aload_n 0, 1) := dk_42 (dk_at dksX5_movesOf_0 7 rfl rfl)
theorem dX5_movesOf_8 : decode cX5_movesOf 8 = .ok (.getfield 40, 3) := dk_180 0 40 (dk_at dksX5_movesOf_0 8 rfl rfl)
theorem dX5_movesOf_11 : decode cX5_movesOf 11 = .ok (.iload_n 2, 1) := dk_28 (dk_at dksX5_movesOf_0 11 rfl rfl)
theorem dX5_movesOf_12 : decode cX5_movesOf 12 = .ok (.iaload, 1) := dk_46 (dk_at dksX5_movesOf_0 12 rfl rfl)
theorem dX5_movesOf_13 : decode cX5_movesOf 13 = .ok (.istore 4, 2) := dk_54 4 (dk_at dksX5_movesOf_0 13 rfl rfl)
theorem dX5_movesOf_15 : decode cX5_movesOf 15 = .ok (.iload_n 3, 1) := dk_29 (dk_at dksX5_movesOf_0 15 rfl rfl)
theorem dX5_movesOf_16 : decode cX5_movesOf 16 = .ok (.iconst (-1), 1) := dk_2 (dk_at dksX5_movesOf_0 16 rfl rfl)
theorem dX5_movesOf_17 : decode cX5_movesOf 17 = .ok (.if_icmp .eq 9, 3) := dk_159 0 9 (dk_at dksX5_movesOf_0 17 rfl rfl)
theorem dX5_movesOf_20 : decode cX5_movesOf 20 = .ok (.iload 4, 2) := dk_21 4 (dk_at dksX5_movesOf_0 20 rfl rfl)
theorem dX5_movesOf_22 : decode cX5_movesOf 22 = .ok (.iconst (-1), 1) := dk_2 (dk_at dksX5_movesOf_0 22 rfl rfl)
theorem dX5_movesOf_23 : decode cX5_movesOf 23 = .ok (.if_icmp .ne 7, 3) := dk_160 0 7 (dk_at dksX5_movesOf_1 0 rfl rfl)
theorem dX5_movesOf_26 : decode cX5_movesOf 26 = .ok (.lconst 0, 1) := dk_9 (dk_at dksX5_movesOf_1 3 rfl rfl)
theorem dX5_movesOf_27 : decode cX5_movesOf 27 = .ok (.goto 18, 3) := dk_167 0 18 (dk_at dksX5_movesOf_1 4 rfl rfl)
theorem dX5_movesOf_30 : decode cX5_movesOf 30 = .ok (.aload_n 0, 1) := dk_42 (dk_at dksX5_movesOf_1 7 rfl rfl)
theorem dX5_movesOf_31 : decode cX5_movesOf 31 = .ok (.getfield 46, 3) := dk_180 0 46 (dk_at dksX5_movesOf_1 8 rfl rfl)
theorem dX5_movesOf_34 : decode cX5_movesOf 34 = .ok (.bipush 18, 2) := dk_16 18 (dk_at dksX5_movesOf_1 11 rfl rfl)
theorem dX5_movesOf_36 : decode cX5_movesOf 36 = .ok (.iload_n 3, 1) := dk_29 (dk_at dksX5_movesOf_1 13 rfl rfl)
theorem dX5_movesOf_37 : decode cX5_movesOf 37 = .ok (.imul, 1) := dk_104 (dk_at dksX5_movesOf_1 14 rfl rfl)
theorem dX5_movesOf_38 : decode cX5_movesOf 38 = .ok (.bipush 9, 2) := dk_16 9 (dk_at dksX5_movesOf_1 15 rfl rfl)
theorem dX5_movesOf_40 : decode cX5_movesOf 40 = .ok (.iadd, 1) := dk_96 (dk_at dksX5_movesOf_1 17 rfl rfl)
theorem dX5_movesOf_41 : decode cX5_movesOf 41 = .ok (.iload 4, 2) := dk_21 4 (dk_at dksX5_movesOf_1 18 rfl rfl)
theorem dX5_movesOf_43 : decode cX5_movesOf 43 = .ok (.iadd, 1) := dk_96 (dk_at dksX5_movesOf_1 20 rfl rfl)
theorem dX5_movesOf_44 : decode cX5_movesOf 44 = .ok (.laload, 1) := dk_47 (dk_at dksX5_movesOf_1 21 rfl rfl)
theorem dX5_movesOf_45 : decode cX5_movesOf 45 = .ok (.lreturn, 1) := dk_173 (dk_at dksX5_movesOf_1 22 rfl rfl)
abbrev cX5_part : ByteArray := prog_17_method_7_code
def yX5_part : MethodName := ⟨RX5, "part", "(JJI)J"⟩
def dkwX5_part_0 : List UInt8 := [30, 32, 184, 0, 81, 55, 5, 21, 4, 154, 0, 10, 30, 22, 5, 109, 167, 0, 7, 32, 22, 5, 109, 173]
abbrev dktX5_part_0 : List UInt8 := dkwX5_part_0 ++ []
theorem dksX5_part_0 : cX5_part.data.toList.drop 0 = dktX5_part_0 := by decide +kernel
theorem dX5_part_0 : decode cX5_part 0 = .ok (.lload_n 0, 1) := dk_30 (dk_at dksX5_part_0 0 rfl rfl)
theorem dX5_part_1 : decode cX5_part 1 = .ok (.lload_n 2, 1) := dk_32 (dk_at dksX5_part_0 1 rfl rfl)
theorem dX5_part_2 : decode cX5_part 2 = .ok (.invokestatic 81, 3) := dk_184 0 81 (dk_at dksX5_part_0 2 rfl rfl)
theorem dX5_part_5 : decode cX5_part 5 = .ok (.lstore 5, 2) := dk_55 5 (dk_at dksX5_part_0 5 rfl rfl)
theorem dX5_part_7 : decode cX5_part 7 = .ok (.iload 4, 2) := dk_21 4 (dk_at dksX5_part_0 7 rfl rfl)
theorem dX5_part_9 : decode cX5_part 9 = .ok (.ifCond .ne 10, 3) := dk_154 0 10 (dk_at dksX5_part_0 9 rfl rfl)
theorem dX5_part_12 : decode cX5_part 12 = .ok (.lload_n 0, 1) := dk_30 (dk_at dksX5_part_0 12 rfl rfl)
theorem dX5_part_13 : decode cX5_part 13 = .ok (.lload 5, 2) := dk_22 5 (dk_at dksX5_part_0 13 rfl rfl)
theorem dX5_part_15 : decode cX5_part 15 = .ok (.ldiv, 1) := dk_109 (dk_at dksX5_part_0 15 rfl rfl)
theorem dX5_part_16 : decode cX5_part 16 = .ok (.goto 7, 3) := dk_167 0 7 (dk_at dksX5_part_0 16 rfl rfl)
theorem dX5_part_19 : decode cX5_part 19 = .ok (.lload_n 2, 1) := dk_32 (dk_at dksX5_part_0 19 rfl rfl)
theorem dX5_part_20 : decode cX5_part 20 = .ok (.lload 5, 2) := dk_22 5 (dk_at dksX5_part_0 20 rfl rfl)
theorem dX5_part_22 : decode cX5_part 22 = .ok (.ldiv, 1) := dk_109 (dk_at dksX5_part_0 22 rfl rfl)
theorem dX5_part_23 : decode cX5_part 23 = .ok (.lreturn, 1) := dk_173 (dk_at dksX5_part_0 23 rfl rfl)
abbrev cX5_common : ByteArray := prog_17_method_6_code
def yX5_common : MethodName := ⟨RX5, "common", "(JJ)J"⟩
def dkwX5_common_1 : List UInt8 := [55, 8, 22, 6, 55, 4, 22, 8, 55, 6, 167, 255, 234, 22, 4, 173]
abbrev dktX5_common_1 : List UInt8 := dkwX5_common_1 ++ []
def dkwX5_common_0 : List UInt8 := [30, 184, 0, 75, 55, 4, 32, 184, 0, 75, 55, 6, 22, 6, 9, 148, 153, 0, 21, 22, 4, 22, 6, 113]
abbrev dktX5_common_0 : List UInt8 := dkwX5_common_0 ++ dktX5_common_1
theorem dksX5_common_0 : cX5_common.data.toList.drop 0 = dktX5_common_0 := by decide +kernel
theorem dksX5_common_1 : cX5_common.data.toList.drop 24 = dktX5_common_1 := dk_seg dksX5_common_0 24 rfl rfl
theorem dX5_common_0 : decode cX5_common 0 = .ok (.lload_n 0, 1) := dk_30 (dk_at dksX5_common_0 0 rfl rfl)
theorem dX5_common_1 : decode cX5_common 1 = .ok (.invokestatic 75, 3) := dk_184 0 75 (dk_at dksX5_common_0 1 rfl rfl)
theorem dX5_common_4 : decode cX5_common 4 = .ok (.lstore 4, 2) := dk_55 4 (dk_at dksX5_common_0 4 rfl rfl)
theorem dX5_common_6 : decode cX5_common 6 = .ok (.lload_n 2, 1) := dk_32 (dk_at dksX5_common_0 6 rfl rfl)
theorem dX5_common_7 : decode cX5_common 7 = .ok (.invokestatic 75, 3) := dk_184 0 75 (dk_at dksX5_common_0 7 rfl rfl)
theorem dX5_common_10 : decode cX5_common 10 = .ok (.lstore 6, 2) := dk_55 6 (dk_at dksX5_common_0 10 rfl rfl)
theorem dX5_common_12 : decode cX5_common 12 = .ok (.lload 6, 2) := dk_22 6 (dk_at dksX5_common_0 12 rfl rfl)
theorem dX5_common_14 : decode cX5_common 14 = .ok (.lconst 0, 1) := dk_9 (dk_at dksX5_common_0 14 rfl rfl)
theorem dX5_common_15 : decode cX5_common 15 = .ok (.lcmp, 1) := dk_148 (dk_at dksX5_common_0 15 rfl rfl)
theorem dX5_common_16 : decode cX5_common 16 = .ok (.ifCond .eq 21, 3) := dk_153 0 21 (dk_at dksX5_common_0 16 rfl rfl)
theorem dX5_common_19 : decode cX5_common 19 = .ok (.lload 4, 2) := dk_22 4 (dk_at dksX5_common_0 19 rfl rfl)
theorem dX5_common_21 : decode cX5_common 21 = .ok (.lload 6, 2) := dk_22 6 (dk_at dksX5_common_0 21 rfl rfl)
theorem dX5_common_23 : decode cX5_common 23 = .ok (.lrem, 1) := dk_113 (dk_at dksX5_common_0 23 rfl rfl)
theorem dX5_common_24 : decode cX5_common 24 = .ok (.lstore 8, 2) := dk_55 8 (dk_at dksX5_common_1 0 rfl rfl)
theorem dX5_common_26 : decode cX5_common 26 = .ok (.lload 6, 2) := dk_22 6 (dk_at dksX5_common_1 2 rfl rfl)
theorem dX5_common_28 : decode cX5_common 28 = .ok (.lstore 4, 2) := dk_55 4 (dk_at dksX5_common_1 4 rfl rfl)
theorem dX5_common_30 : decode cX5_common 30 = .ok (.lload 8, 2) := dk_22 8 (dk_at dksX5_common_1 6 rfl rfl)
theorem dX5_common_32 : decode cX5_common 32 = .ok (.lstore 6, 2) := dk_55 6 (dk_at dksX5_common_1 8 rfl rfl)
theorem dX5_common_34 : decode cX5_common 34 = .ok (.goto (-22), 3) := dk_167 255 234 (dk_at dksX5_common_1 10 rfl rfl)
theorem dX5_common_37 : decode cX5_common 37 = .ok (.lload 4, 2) := dk_22 4 (dk_at dksX5_common_1 13 rfl rfl)
theorem dX5_common_39 : decode cX5_common 39 = .ok (.lreturn, 1) := dk_173 (dk_at dksX5_common_1 15 rfl rfl)
abbrev cX5_through : ByteArray := prog_17_method_59_code
def yX5_through : MethodName := ⟨RX5, "through", "(II)J"⟩
def dkwX5_through_1 : List UInt8 := [27, 182, 1, 72, 42, 180, 0, 50, 28, 184, 1, 64, 173]
abbrev dktX5_through_1 : List UInt8 := dkwX5_through_1 ++ []
def dkwX5_through_0 : List UInt8 := [42, 27, 182, 1, 49, 153, 0, 10, 28, 184, 1, 57, 154, 0, 7, 20, 1, 70, 173, 42, 182, 1, 36, 42]
abbrev dktX5_through_0 : List UInt8 := dkwX5_through_0 ++ dktX5_through_1
theorem dksX5_through_0 : cX5_through.data.toList.drop 0 = dktX5_through_0 := by decide +kernel
theorem dksX5_through_1 : cX5_through.data.toList.drop 24 = dktX5_through_1 := dk_seg dksX5_through_0 24 rfl rfl
theorem dX5_through_0 : decode cX5_through 0 = .ok (.aload_n 0, 1) := dk_42 (dk_at dksX5_through_0 0 rfl rfl)
theorem dX5_through_1 : decode cX5_through 1 = .ok (.iload_n 1, 1) := dk_27 (dk_at dksX5_through_0 1 rfl rfl)
theorem dX5_through_2 : decode cX5_through 2 = .ok (.invokevirtual 305, 3) := dk_182 1 49 (dk_at dksX5_through_0 2 rfl rfl)
theorem dX5_through_5 : decode cX5_through 5 = .ok (.ifCond .eq 10, 3) := dk_153 0 10 (dk_at dksX5_through_0 5 rfl rfl)
theorem dX5_through_8 : decode cX5_through 8 = .ok (.iload_n 2, 1) := dk_28 (dk_at dksX5_through_0 8 rfl rfl)
theorem dX5_through_9 : decode cX5_through 9 = .ok (.invokestatic 313, 3) := dk_184 1 57 (dk_at dksX5_through_0 9 rfl rfl)
theorem dX5_through_12 : decode cX5_through 12 = .ok (.ifCond .ne 7, 3) := dk_154 0 7 (dk_at dksX5_through_0 12 rfl rfl)
theorem dX5_through_15 : decode cX5_through 15 = .ok (.ldc2_w 326, 3) := dk_20 1 70 (dk_at dksX5_through_0 15 rfl rfl)
theorem dX5_through_18 : decode cX5_through 18 = .ok (.lreturn, 1) := dk_173 (dk_at dksX5_through_0 18 rfl rfl)
theorem dX5_through_19 : decode cX5_through 19 = .ok (.aload_n 0, 1) := dk_42 (dk_at dksX5_through_0 19 rfl rfl)
theorem dX5_through_20 : decode cX5_through 20 = .ok (.invokevirtual 292, 3) := dk_182 1 36 (dk_at dksX5_through_0 20 rfl rfl)
theorem dX5_through_23 : decode cX5_through 23 = .ok (.aload_n 0, 1) := dk_42 (dk_at dksX5_through_0 23 rfl rfl)
theorem dX5_through_24 : decode cX5_through 24 = .ok (.iload_n 1, 1) := dk_27 (dk_at dksX5_through_1 0 rfl rfl)
theorem dX5_through_25 : decode cX5_through 25 = .ok (.invokevirtual 328, 3) := dk_182 1 72 (dk_at dksX5_through_1 1 rfl rfl)
theorem dX5_through_28 : decode cX5_through 28 = .ok (.aload_n 0, 1) := dk_42 (dk_at dksX5_through_1 4 rfl rfl)
theorem dX5_through_29 : decode cX5_through 29 = .ok (.getfield 50, 3) := dk_180 0 50 (dk_at dksX5_through_1 5 rfl rfl)
theorem dX5_through_32 : decode cX5_through 32 = .ok (.iload_n 2, 1) := dk_28 (dk_at dksX5_through_1 8 rfl rfl)
theorem dX5_through_33 : decode cX5_through 33 = .ok (.invokestatic 320, 3) := dk_184 1 64 (dk_at dksX5_through_1 9 rfl rfl)
theorem dX5_through_36 : decode cX5_through 36 = .ok (.lreturn, 1) := dk_173 (dk_at dksX5_through_1 12 rfl rfl)
abbrev cX5_throughOf : ByteArray := prog_17_method_58_code
def yX5_throughOf : MethodName := ⟨RX5, "throughOf", "(I)J"⟩
def dkwX5_throughOf_1 : List UInt8 := [42, 42, 180, 0, 26, 5, 27, 104, 46, 182, 1, 26, 101, 105, 173]
abbrev dktX5_throughOf_1 : List UInt8 := dkwX5_throughOf_1 ++ []
def dkwX5_throughOf_0 : List UInt8 := [42, 180, 0, 9, 16, 28, 27, 96, 46, 133, 42, 42, 180, 0, 26, 5, 27, 104, 4, 96, 46, 182, 1, 26]
abbrev dktX5_throughOf_0 : List UInt8 := dkwX5_throughOf_0 ++ dktX5_throughOf_1
theorem dksX5_throughOf_0 : cX5_throughOf.data.toList.drop 0 = dktX5_throughOf_0 := by decide +kernel
theorem dksX5_throughOf_1 : cX5_throughOf.data.toList.drop 24 = dktX5_throughOf_1 := dk_seg dksX5_throughOf_0 24 rfl rfl
theorem dX5_throughOf_0 : decode cX5_throughOf 0 = .ok (.aload_n 0, 1) := dk_42 (dk_at dksX5_throughOf_0 0 rfl rfl)
theorem dX5_throughOf_1 : decode cX5_throughOf 1 = .ok (.getfield 9, 3) := dk_180 0 9 (dk_at dksX5_throughOf_0 1 rfl rfl)
theorem dX5_throughOf_4 : decode cX5_throughOf 4 = .ok (.bipush 28, 2) := dk_16 28 (dk_at dksX5_throughOf_0 4 rfl rfl)
theorem dX5_throughOf_6 : decode cX5_throughOf 6 = .ok (.iload_n 1, 1) := dk_27 (dk_at dksX5_throughOf_0 6 rfl rfl)
theorem dX5_throughOf_7 : decode cX5_throughOf 7 = .ok (.iadd, 1) := dk_96 (dk_at dksX5_throughOf_0 7 rfl rfl)
theorem dX5_throughOf_8 : decode cX5_throughOf 8 = .ok (.iaload, 1) := dk_46 (dk_at dksX5_throughOf_0 8 rfl rfl)
theorem dX5_throughOf_9 : decode cX5_throughOf 9 = .ok (.i2l, 1) := dk_133 (dk_at dksX5_throughOf_0 9 rfl rfl)
theorem dX5_throughOf_10 : decode cX5_throughOf 10 = .ok (.aload_n 0, 1) := dk_42 (dk_at dksX5_throughOf_0 10 rfl rfl)
theorem dX5_throughOf_11 : decode cX5_throughOf 11 = .ok (.aload_n 0, 1) := dk_42 (dk_at dksX5_throughOf_0 11 rfl rfl)
theorem dX5_throughOf_12 : decode cX5_throughOf 12 = .ok (.getfield 26, 3) := dk_180 0 26 (dk_at dksX5_throughOf_0 12 rfl rfl)
theorem dX5_throughOf_15 : decode cX5_throughOf 15 = .ok (.iconst 2, 1) := dk_5 (dk_at dksX5_throughOf_0 15 rfl rfl)
theorem dX5_throughOf_16 : decode cX5_throughOf 16 = .ok (.iload_n 1, 1) := dk_27 (dk_at dksX5_throughOf_0 16 rfl rfl)
theorem dX5_throughOf_17 : decode cX5_throughOf 17 = .ok (.imul, 1) := dk_104 (dk_at dksX5_throughOf_0 17 rfl rfl)
theorem dX5_throughOf_18 : decode cX5_throughOf 18 = .ok (.iconst 1, 1) := dk_4 (dk_at dksX5_throughOf_0 18 rfl rfl)
theorem dX5_throughOf_19 : decode cX5_throughOf 19 = .ok (.iadd, 1) := dk_96 (dk_at dksX5_throughOf_0 19 rfl rfl)
theorem dX5_throughOf_20 : decode cX5_throughOf 20 = .ok (.iaload, 1) := dk_46 (dk_at dksX5_throughOf_0 20 rfl rfl)
theorem dX5_throughOf_21 : decode cX5_throughOf 21 = .ok (.invokevirtual 282, 3) := dk_182 1 26 (dk_at dksX5_throughOf_0 21 rfl rfl)
theorem dX5_throughOf_24 : decode cX5_throughOf 24 = .ok (.aload_n 0, 1) := dk_42 (dk_at dksX5_throughOf_1 0 rfl rfl)
theorem dX5_throughOf_25 : decode cX5_throughOf 25 = .ok (.aload_n 0, 1) := dk_42 (dk_at dksX5_throughOf_1 1 rfl rfl)
theorem dX5_throughOf_26 : decode cX5_throughOf 26 = .ok (.getfield 26, 3) := dk_180 0 26 (dk_at dksX5_throughOf_1 2 rfl rfl)
theorem dX5_throughOf_29 : decode cX5_throughOf 29 = .ok (.iconst 2, 1) := dk_5 (dk_at dksX5_throughOf_1 5 rfl rfl)
theorem dX5_throughOf_30 : decode cX5_throughOf 30 = .ok (.iload_n 1, 1) := dk_27 (dk_at dksX5_throughOf_1 6 rfl rfl)
theorem dX5_throughOf_31 : decode cX5_throughOf 31 = .ok (.imul, 1) := dk_104 (dk_at dksX5_throughOf_1 7 rfl rfl)
theorem dX5_throughOf_32 : decode cX5_throughOf 32 = .ok (.iaload, 1) := dk_46 (dk_at dksX5_throughOf_1 8 rfl rfl)
theorem dX5_throughOf_33 : decode cX5_throughOf 33 = .ok (.invokevirtual 282, 3) := dk_182 1 26 (dk_at dksX5_throughOf_1 9 rfl rfl)
theorem dX5_throughOf_36 : decode cX5_throughOf 36 = .ok (.lsub, 1) := dk_101 (dk_at dksX5_throughOf_1 12 rfl rfl)
theorem dX5_throughOf_37 : decode cX5_throughOf 37 = .ok (.lmul, 1) := dk_105 (dk_at dksX5_throughOf_1 13 rfl rfl)
theorem dX5_throughOf_38 : decode cX5_throughOf 38 = .ok (.lreturn, 1) := dk_173 (dk_at dksX5_throughOf_1 14 rfl rfl)
abbrev cX5_chief : ByteArray := prog_17_method_60_code
def yX5_chief : MethodName := ⟨RX5, "chief", "()I"⟩
def dkwX5_chief_2 : List UInt8 := [182, 1, 75, 148, 158, 0, 5, 28, 60, 132, 2, 1, 167, 255, 211, 27, 172]
abbrev dktX5_chief_2 : List UInt8 := dkwX5_chief_2 ++ []
def dkwX5_chief_1 : List UInt8 := [180, 0, 9, 8, 46, 28, 184, 0, 209, 153, 0, 24, 27, 2, 159, 0, 17, 42, 28, 182, 1, 75, 42, 27]
abbrev dktX5_chief_1 : List UInt8 := dkwX5_chief_1 ++ dktX5_chief_2
def dkwX5_chief_0 : List UInt8 := [42, 182, 1, 46, 154, 0, 6, 16, 254, 172, 2, 60, 3, 61, 28, 42, 182, 0, 98, 162, 0, 43, 42]
abbrev dktX5_chief_0 : List UInt8 := dkwX5_chief_0 ++ dktX5_chief_1
theorem dksX5_chief_0 : cX5_chief.data.toList.drop 0 = dktX5_chief_0 := by decide +kernel
theorem dksX5_chief_1 : cX5_chief.data.toList.drop 23 = dktX5_chief_1 := dk_seg dksX5_chief_0 23 rfl rfl
theorem dksX5_chief_2 : cX5_chief.data.toList.drop 47 = dktX5_chief_2 := dk_seg dksX5_chief_1 24 rfl rfl
theorem dX5_chief_0 : decode cX5_chief 0 = .ok (.aload_n 0, 1) := dk_42 (dk_at dksX5_chief_0 0 rfl rfl)
theorem dX5_chief_1 : decode cX5_chief 1 = .ok (.invokevirtual 302, 3) := dk_182 1 46 (dk_at dksX5_chief_0 1 rfl rfl)
theorem dX5_chief_4 : decode cX5_chief 4 = .ok (.ifCond .ne 6, 3) := dk_154 0 6 (dk_at dksX5_chief_0 4 rfl rfl)
theorem dX5_chief_7 : decode cX5_chief 7 = .ok (.bipush (-2), 2) := dk_16 254 (dk_at dksX5_chief_0 7 rfl rfl)
theorem dX5_chief_9 : decode cX5_chief 9 = .ok (.ireturn, 1) := dk_172 (dk_at dksX5_chief_0 9 rfl rfl)
theorem dX5_chief_10 : decode cX5_chief 10 = .ok (.iconst (-1), 1) := dk_2 (dk_at dksX5_chief_0 10 rfl rfl)
theorem dX5_chief_11 : decode cX5_chief 11 = .ok (.istore_n 1, 1) := dk_60 (dk_at dksX5_chief_0 11 rfl rfl)
theorem dX5_chief_12 : decode cX5_chief 12 = .ok (.iconst 0, 1) := dk_3 (dk_at dksX5_chief_0 12 rfl rfl)
theorem dX5_chief_13 : decode cX5_chief 13 = .ok (.istore_n 2, 1) := dk_61 (dk_at dksX5_chief_0 13 rfl rfl)
theorem dX5_chief_14 : decode cX5_chief 14 = .ok (.iload_n 2, 1) := dk_28 (dk_at dksX5_chief_0 14 rfl rfl)
theorem dX5_chief_15 : decode cX5_chief 15 = .ok (.aload_n 0, 1) := dk_42 (dk_at dksX5_chief_0 15 rfl rfl)
theorem dX5_chief_16 : decode cX5_chief 16 = .ok (.invokevirtual 98, 3) := dk_182 0 98 (dk_at dksX5_chief_0 16 rfl rfl)
theorem dX5_chief_19 : decode cX5_chief 19 = .ok (.if_icmp .ge 43, 3) := dk_162 0 43 (dk_at dksX5_chief_0 19 rfl rfl)
theorem dX5_chief_22 : decode cX5_chief 22 = .ok (.aload_n 0, 1) := dk_42 (dk_at dksX5_chief_0 22 rfl rfl)
theorem dX5_chief_23 : decode cX5_chief 23 = .ok (.getfield 9, 3) := dk_180 0 9 (dk_at dksX5_chief_1 0 rfl rfl)
theorem dX5_chief_26 : decode cX5_chief 26 = .ok (.iconst 5, 1) := dk_8 (dk_at dksX5_chief_1 3 rfl rfl)
theorem dX5_chief_27 : decode cX5_chief 27 = .ok (.iaload, 1) := dk_46 (dk_at dksX5_chief_1 4 rfl rfl)
theorem dX5_chief_28 : decode cX5_chief 28 = .ok (.iload_n 2, 1) := dk_28 (dk_at dksX5_chief_1 5 rfl rfl)
theorem dX5_chief_29 : decode cX5_chief 29 = .ok (.invokestatic 209, 3) := dk_184 0 209 (dk_at dksX5_chief_1 6 rfl rfl)
theorem dX5_chief_32 : decode cX5_chief 32 = .ok (.ifCond .eq 24, 3) := dk_153 0 24 (dk_at dksX5_chief_1 9 rfl rfl)
theorem dX5_chief_35 : decode cX5_chief 35 = .ok (.iload_n 1, 1) := dk_27 (dk_at dksX5_chief_1 12 rfl rfl)
theorem dX5_chief_36 : decode cX5_chief 36 = .ok (.iconst (-1), 1) := dk_2 (dk_at dksX5_chief_1 13 rfl rfl)
theorem dX5_chief_37 : decode cX5_chief 37 = .ok (.if_icmp .eq 17, 3) := dk_159 0 17 (dk_at dksX5_chief_1 14 rfl rfl)
theorem dX5_chief_40 : decode cX5_chief 40 = .ok (.aload_n 0, 1) := dk_42 (dk_at dksX5_chief_1 17 rfl rfl)
theorem dX5_chief_41 : decode cX5_chief 41 = .ok (.iload_n 2, 1) := dk_28 (dk_at dksX5_chief_1 18 rfl rfl)
theorem dX5_chief_42 : decode cX5_chief 42 = .ok (.invokevirtual 331, 3) := dk_182 1 75 (dk_at dksX5_chief_1 19 rfl rfl)
theorem dX5_chief_45 : decode cX5_chief 45 = .ok (.aload_n 0, 1) := dk_42 (dk_at dksX5_chief_1 22 rfl rfl)
theorem dX5_chief_46 : decode cX5_chief 46 = .ok (.iload_n 1, 1) := dk_27 (dk_at dksX5_chief_1 23 rfl rfl)
theorem dX5_chief_47 : decode cX5_chief 47 = .ok (.invokevirtual 331, 3) := dk_182 1 75 (dk_at dksX5_chief_2 0 rfl rfl)
theorem dX5_chief_50 : decode cX5_chief 50 = .ok (.lcmp, 1) := dk_148 (dk_at dksX5_chief_2 3 rfl rfl)
theorem dX5_chief_51 : decode cX5_chief 51 = .ok (.ifCond .le 5, 3) := dk_158 0 5 (dk_at dksX5_chief_2 4 rfl rfl)
theorem dX5_chief_54 : decode cX5_chief 54 = .ok (.iload_n 2, 1) := dk_28 (dk_at dksX5_chief_2 7 rfl rfl)
theorem dX5_chief_55 : decode cX5_chief 55 = .ok (.istore_n 1, 1) := dk_60 (dk_at dksX5_chief_2 8 rfl rfl)
theorem dX5_chief_56 : decode cX5_chief 56 = .ok (.iinc 2 1, 3) := dk_132 2 1 (dk_at dksX5_chief_2 9 rfl rfl)
theorem dX5_chief_59 : decode cX5_chief 59 = .ok (.goto (-45), 3) := dk_167 255 211 (dk_at dksX5_chief_2 12 rfl rfl)
theorem dX5_chief_62 : decode cX5_chief 62 = .ok (.iload_n 1, 1) := dk_27 (dk_at dksX5_chief_2 15 rfl rfl)
theorem dX5_chief_63 : decode cX5_chief 63 = .ok (.ireturn, 1) := dk_172 (dk_at dksX5_chief_2 16 rfl rfl)
abbrev cX5_givesOf : ByteArray := prog_17_method_63_code
def yX5_givesOf : MethodName := ⟨RX5, "givesOf", "(I)J"⟩
def dkwX5_givesOf_3 : List UInt8 := [182, 1, 72, 101, 65, 132, 4, 1, 167, 255, 198, 32, 173]
abbrev dktX5_givesOf_3 : List UInt8 := dkwX5_givesOf_3 ++ []
def dkwX5_givesOf_2 : List UInt8 := [182, 1, 72, 97, 65, 42, 180, 0, 26, 5, 21, 4, 104, 4, 96, 46, 27, 160, 0, 12, 32, 42, 21, 4]
abbrev dktX5_givesOf_2 : List UInt8 := dkwX5_givesOf_2 ++ dktX5_givesOf_3
def dkwX5_givesOf_1 : List UInt8 := [180, 0, 102, 162, 0, 55, 42, 180, 0, 26, 5, 21, 4, 104, 46, 27, 160, 0, 12, 32, 42, 21, 4]
abbrev dktX5_givesOf_1 : List UInt8 := dkwX5_givesOf_1 ++ dktX5_givesOf_2
def dkwX5_givesOf_0 : List UInt8 := [42, 180, 0, 9, 16, 6, 27, 96, 46, 133, 42, 180, 0, 50, 105, 65, 3, 54, 4, 21, 4, 42]
abbrev dktX5_givesOf_0 : List UInt8 := dkwX5_givesOf_0 ++ dktX5_givesOf_1
theorem dksX5_givesOf_0 : cX5_givesOf.data.toList.drop 0 = dktX5_givesOf_0 := by decide +kernel
theorem dksX5_givesOf_1 : cX5_givesOf.data.toList.drop 22 = dktX5_givesOf_1 := dk_seg dksX5_givesOf_0 22 rfl rfl
theorem dksX5_givesOf_2 : cX5_givesOf.data.toList.drop 45 = dktX5_givesOf_2 := dk_seg dksX5_givesOf_1 23 rfl rfl
theorem dksX5_givesOf_3 : cX5_givesOf.data.toList.drop 69 = dktX5_givesOf_3 := dk_seg dksX5_givesOf_2 24 rfl rfl
theorem dX5_givesOf_0 : decode cX5_givesOf 0 = .ok (.aload_n 0, 1) := dk_42 (dk_at dksX5_givesOf_0 0 rfl rfl)
theorem dX5_givesOf_1 : decode cX5_givesOf 1 = .ok (.getfield 9, 3) := dk_180 0 9 (dk_at dksX5_givesOf_0 1 rfl rfl)
theorem dX5_givesOf_4 : decode cX5_givesOf 4 = .ok (.bipush 6, 2) := dk_16 6 (dk_at dksX5_givesOf_0 4 rfl rfl)
theorem dX5_givesOf_6 : decode cX5_givesOf 6 = .ok (.iload_n 1, 1) := dk_27 (dk_at dksX5_givesOf_0 6 rfl rfl)
theorem dX5_givesOf_7 : decode cX5_givesOf 7 = .ok (.iadd, 1) := dk_96 (dk_at dksX5_givesOf_0 7 rfl rfl)
theorem dX5_givesOf_8 : decode cX5_givesOf 8 = .ok (.iaload, 1) := dk_46 (dk_at dksX5_givesOf_0 8 rfl rfl)
theorem dX5_givesOf_9 : decode cX5_givesOf 9 = .ok (.i2l, 1) := dk_133 (dk_at dksX5_givesOf_0 9 rfl rfl)
theorem dX5_givesOf_10 : decode cX5_givesOf 10 = .ok (.aload_n 0, 1) := dk_42 (dk_at dksX5_givesOf_0 10 rfl rfl)
theorem dX5_givesOf_11 : decode cX5_givesOf 11 = .ok (.getfield 50, 3) := dk_180 0 50 (dk_at dksX5_givesOf_0 11 rfl rfl)
theorem dX5_givesOf_14 : decode cX5_givesOf 14 = .ok (.lmul, 1) := dk_105 (dk_at dksX5_givesOf_0 14 rfl rfl)
theorem dX5_givesOf_15 : decode cX5_givesOf 15 = .ok (.lstore_n 2, 1) := dk_65 (dk_at dksX5_givesOf_0 15 rfl rfl)
theorem dX5_givesOf_16 : decode cX5_givesOf 16 = .ok (.iconst 0, 1) := dk_3 (dk_at dksX5_givesOf_0 16 rfl rfl)
theorem dX5_givesOf_17 : decode cX5_givesOf 17 = .ok (.istore 4, 2) := dk_54 4 (dk_at dksX5_givesOf_0 17 rfl rfl)
theorem dX5_givesOf_19 : decode cX5_givesOf 19 = .ok (.iload 4, 2) := dk_21 4 (dk_at dksX5_givesOf_0 19 rfl rfl)
theorem dX5_givesOf_21 : decode cX5_givesOf 21 = .ok (.aload_n 0, 1) := dk_42 (dk_at dksX5_givesOf_0 21 rfl rfl)
theorem dX5_givesOf_22 : decode cX5_givesOf 22 = .ok (.getfield 102, 3) := dk_180 0 102 (dk_at dksX5_givesOf_1 0 rfl rfl)
theorem dX5_givesOf_25 : decode cX5_givesOf 25 = .ok (.if_icmp .ge 55, 3) := dk_162 0 55 (dk_at dksX5_givesOf_1 3 rfl rfl)
theorem dX5_givesOf_28 : decode cX5_givesOf 28 = .ok (.aload_n 0, 1) := dk_42 (dk_at dksX5_givesOf_1 6 rfl rfl)
theorem dX5_givesOf_29 : decode cX5_givesOf 29 = .ok (.getfield 26, 3) := dk_180 0 26 (dk_at dksX5_givesOf_1 7 rfl rfl)
theorem dX5_givesOf_32 : decode cX5_givesOf 32 = .ok (.iconst 2, 1) := dk_5 (dk_at dksX5_givesOf_1 10 rfl rfl)
theorem dX5_givesOf_33 : decode cX5_givesOf 33 = .ok (.iload 4, 2) := dk_21 4 (dk_at dksX5_givesOf_1 11 rfl rfl)
theorem dX5_givesOf_35 : decode cX5_givesOf 35 = .ok (.imul, 1) := dk_104 (dk_at dksX5_givesOf_1 13 rfl rfl)
theorem dX5_givesOf_36 : decode cX5_givesOf 36 = .ok (.iaload, 1) := dk_46 (dk_at dksX5_givesOf_1 14 rfl rfl)
theorem dX5_givesOf_37 : decode cX5_givesOf 37 = .ok (.iload_n 1, 1) := dk_27 (dk_at dksX5_givesOf_1 15 rfl rfl)
theorem dX5_givesOf_38 : decode cX5_givesOf 38 = .ok (.if_icmp .ne 12, 3) := dk_160 0 12 (dk_at dksX5_givesOf_1 16 rfl rfl)
theorem dX5_givesOf_41 : decode cX5_givesOf 41 = .ok (.lload_n 2, 1) := dk_32 (dk_at dksX5_givesOf_1 19 rfl rfl)
theorem dX5_givesOf_42 : decode cX5_givesOf 42 = .ok (.aload_n 0, 1) := dk_42 (dk_at dksX5_givesOf_1 20 rfl rfl)
theorem dX5_givesOf_43 : decode cX5_givesOf 43 = .ok (.iload 4, 2) := dk_21 4 (dk_at dksX5_givesOf_1 21 rfl rfl)
theorem dX5_givesOf_45 : decode cX5_givesOf 45 = .ok (.invokevirtual 328, 3) := dk_182 1 72 (dk_at dksX5_givesOf_2 0 rfl rfl)
theorem dX5_givesOf_48 : decode cX5_givesOf 48 = .ok (.ladd, 1) := dk_97 (dk_at dksX5_givesOf_2 3 rfl rfl)
theorem dX5_givesOf_49 : decode cX5_givesOf 49 = .ok (.lstore_n 2, 1) := dk_65 (dk_at dksX5_givesOf_2 4 rfl rfl)
theorem dX5_givesOf_50 : decode cX5_givesOf 50 = .ok (.aload_n 0, 1) := dk_42 (dk_at dksX5_givesOf_2 5 rfl rfl)
theorem dX5_givesOf_51 : decode cX5_givesOf 51 = .ok (.getfield 26, 3) := dk_180 0 26 (dk_at dksX5_givesOf_2 6 rfl rfl)
theorem dX5_givesOf_54 : decode cX5_givesOf 54 = .ok (.iconst 2, 1) := dk_5 (dk_at dksX5_givesOf_2 9 rfl rfl)
theorem dX5_givesOf_55 : decode cX5_givesOf 55 = .ok (.iload 4, 2) := dk_21 4 (dk_at dksX5_givesOf_2 10 rfl rfl)
theorem dX5_givesOf_57 : decode cX5_givesOf 57 = .ok (.imul, 1) := dk_104 (dk_at dksX5_givesOf_2 12 rfl rfl)
theorem dX5_givesOf_58 : decode cX5_givesOf 58 = .ok (.iconst 1, 1) := dk_4 (dk_at dksX5_givesOf_2 13 rfl rfl)
theorem dX5_givesOf_59 : decode cX5_givesOf 59 = .ok (.iadd, 1) := dk_96 (dk_at dksX5_givesOf_2 14 rfl rfl)
theorem dX5_givesOf_60 : decode cX5_givesOf 60 = .ok (.iaload, 1) := dk_46 (dk_at dksX5_givesOf_2 15 rfl rfl)
theorem dX5_givesOf_61 : decode cX5_givesOf 61 = .ok (.iload_n 1, 1) := dk_27 (dk_at dksX5_givesOf_2 16 rfl rfl)
theorem dX5_givesOf_62 : decode cX5_givesOf 62 = .ok (.if_icmp .ne 12, 3) := dk_160 0 12 (dk_at dksX5_givesOf_2 17 rfl rfl)
theorem dX5_givesOf_65 : decode cX5_givesOf 65 = .ok (.lload_n 2, 1) := dk_32 (dk_at dksX5_givesOf_2 20 rfl rfl)
theorem dX5_givesOf_66 : decode cX5_givesOf 66 = .ok (.aload_n 0, 1) := dk_42 (dk_at dksX5_givesOf_2 21 rfl rfl)
theorem dX5_givesOf_67 : decode cX5_givesOf 67 = .ok (.iload 4, 2) := dk_21 4 (dk_at dksX5_givesOf_2 22 rfl rfl)
theorem dX5_givesOf_69 : decode cX5_givesOf 69 = .ok (.invokevirtual 328, 3) := dk_182 1 72 (dk_at dksX5_givesOf_3 0 rfl rfl)
theorem dX5_givesOf_72 : decode cX5_givesOf 72 = .ok (.lsub, 1) := dk_101 (dk_at dksX5_givesOf_3 3 rfl rfl)
theorem dX5_givesOf_73 : decode cX5_givesOf 73 = .ok (.lstore_n 2, 1) := dk_65 (dk_at dksX5_givesOf_3 4 rfl rfl)
theorem dX5_givesOf_74 : decode cX5_givesOf 74 = .ok (.iinc 4 1, 3) := dk_132 4 1 (dk_at dksX5_givesOf_3 5 rfl rfl)
theorem dX5_givesOf_77 : decode cX5_givesOf 77 = .ok (.goto (-58), 3) := dk_167 255 198 (dk_at dksX5_givesOf_3 8 rfl rfl)
theorem dX5_givesOf_80 : decode cX5_givesOf 80 = .ok (.lload_n 2, 1) := dk_32 (dk_at dksX5_givesOf_3 11 rfl rfl)
theorem dX5_givesOf_81 : decode cX5_givesOf 81 = .ok (.lreturn, 1) := dk_173 (dk_at dksX5_givesOf_3 12 rfl rfl)
abbrev cX5_area : ByteArray := prog_17_method_61_code
def yX5_area : MethodName := ⟨RX5, "area", "()I"⟩
def dkwX5_area_1 : List UInt8 := [180, 0, 9, 16, 28, 28, 96, 46, 96, 60, 132, 2, 1, 167, 255, 235, 27, 172]
abbrev dktX5_area_1 : List UInt8 := dkwX5_area_1 ++ []
def dkwX5_area_0 : List UInt8 := [42, 182, 0, 109, 154, 0, 6, 16, 254, 172, 3, 60, 3, 61, 28, 16, 12, 162, 0, 21, 27, 42]
abbrev dktX5_area_0 : List UInt8 := dkwX5_area_0 ++ dktX5_area_1
theorem dksX5_area_0 : cX5_area.data.toList.drop 0 = dktX5_area_0 := by decide +kernel
theorem dksX5_area_1 : cX5_area.data.toList.drop 22 = dktX5_area_1 := dk_seg dksX5_area_0 22 rfl rfl
theorem dX5_area_0 : decode cX5_area 0 = .ok (.aload_n 0, 1) := dk_42 (dk_at dksX5_area_0 0 rfl rfl)
theorem dX5_area_1 : decode cX5_area 1 = .ok (.invokevirtual 109, 3) := dk_182 0 109 (dk_at dksX5_area_0 1 rfl rfl)
theorem dX5_area_4 : decode cX5_area 4 = .ok (.ifCond .ne 6, 3) := dk_154 0 6 (dk_at dksX5_area_0 4 rfl rfl)
theorem dX5_area_7 : decode cX5_area 7 = .ok (.bipush (-2), 2) := dk_16 254 (dk_at dksX5_area_0 7 rfl rfl)
theorem dX5_area_9 : decode cX5_area 9 = .ok (.ireturn, 1) := dk_172 (dk_at dksX5_area_0 9 rfl rfl)
theorem dX5_area_10 : decode cX5_area 10 = .ok (.iconst 0, 1) := dk_3 (dk_at dksX5_area_0 10 rfl rfl)
theorem dX5_area_11 : decode cX5_area 11 = .ok (.istore_n 1, 1) := dk_60 (dk_at dksX5_area_0 11 rfl rfl)
theorem dX5_area_12 : decode cX5_area 12 = .ok (.iconst 0, 1) := dk_3 (dk_at dksX5_area_0 12 rfl rfl)
theorem dX5_area_13 : decode cX5_area 13 = .ok (.istore_n 2, 1) := dk_61 (dk_at dksX5_area_0 13 rfl rfl)
theorem dX5_area_14 : decode cX5_area 14 = .ok (.iload_n 2, 1) := dk_28 (dk_at dksX5_area_0 14 rfl rfl)
theorem dX5_area_15 : decode cX5_area 15 = .ok (.bipush 12, 2) := dk_16 12 (dk_at dksX5_area_0 15 rfl rfl)
theorem dX5_area_17 : decode cX5_area 17 = .ok (.if_icmp .ge 21, 3) := dk_162 0 21 (dk_at dksX5_area_0 17 rfl rfl)
theorem dX5_area_20 : decode cX5_area 20 = .ok (.iload_n 1, 1) := dk_27 (dk_at dksX5_area_0 20 rfl rfl)
theorem dX5_area_21 : decode cX5_area 21 = .ok (.aload_n 0, 1) := dk_42 (dk_at dksX5_area_0 21 rfl rfl)
theorem dX5_area_22 : decode cX5_area 22 = .ok (.getfield 9, 3) := dk_180 0 9 (dk_at dksX5_area_1 0 rfl rfl)
theorem dX5_area_25 : decode cX5_area 25 = .ok (.bipush 28, 2) := dk_16 28 (dk_at dksX5_area_1 3 rfl rfl)
theorem dX5_area_27 : decode cX5_area 27 = .ok (.iload_n 2, 1) := dk_28 (dk_at dksX5_area_1 5 rfl rfl)
theorem dX5_area_28 : decode cX5_area 28 = .ok (.iadd, 1) := dk_96 (dk_at dksX5_area_1 6 rfl rfl)
theorem dX5_area_29 : decode cX5_area 29 = .ok (.iaload, 1) := dk_46 (dk_at dksX5_area_1 7 rfl rfl)
theorem dX5_area_30 : decode cX5_area 30 = .ok (.iadd, 1) := dk_96 (dk_at dksX5_area_1 8 rfl rfl)
theorem dX5_area_31 : decode cX5_area 31 = .ok (.istore_n 1, 1) := dk_60 (dk_at dksX5_area_1 9 rfl rfl)
theorem dX5_area_32 : decode cX5_area 32 = .ok (.iinc 2 1, 3) := dk_132 2 1 (dk_at dksX5_area_1 10 rfl rfl)
theorem dX5_area_35 : decode cX5_area 35 = .ok (.goto (-21), 3) := dk_167 255 235 (dk_at dksX5_area_1 13 rfl rfl)
theorem dX5_area_38 : decode cX5_area 38 = .ok (.iload_n 1, 1) := dk_27 (dk_at dksX5_area_1 16 rfl rfl)
theorem dX5_area_39 : decode cX5_area 39 = .ok (.ireturn, 1) := dk_172 (dk_at dksX5_area_1 17 rfl rfl)
abbrev cX5_gives : ByteArray := prog_17_method_62_code
def yX5_gives : MethodName := ⟨RX5, "gives", "(II)J"⟩
def dkwX5_gives_2 : List UInt8 := [180, 0, 50, 28, 184, 1, 64, 173]
abbrev dktX5_gives_2 : List UInt8 := dkwX5_gives_2 ++ []
def dkwX5_gives_1 : List UInt8 := [46, 27, 184, 0, 209, 154, 0, 7, 20, 1, 62, 173, 42, 182, 1, 36, 42, 27, 182, 1, 75, 42]
abbrev dktX5_gives_1 : List UInt8 := dkwX5_gives_1 ++ dktX5_gives_2
def dkwX5_gives_0 : List UInt8 := [42, 27, 182, 1, 52, 153, 0, 10, 28, 184, 1, 57, 154, 0, 7, 20, 1, 60, 173, 42, 180, 0, 9, 8]
abbrev dktX5_gives_0 : List UInt8 := dkwX5_gives_0 ++ dktX5_gives_1
theorem dksX5_gives_0 : cX5_gives.data.toList.drop 0 = dktX5_gives_0 := by decide +kernel
theorem dksX5_gives_1 : cX5_gives.data.toList.drop 24 = dktX5_gives_1 := dk_seg dksX5_gives_0 24 rfl rfl
theorem dksX5_gives_2 : cX5_gives.data.toList.drop 46 = dktX5_gives_2 := dk_seg dksX5_gives_1 22 rfl rfl
theorem dX5_gives_0 : decode cX5_gives 0 = .ok (.aload_n 0, 1) := dk_42 (dk_at dksX5_gives_0 0 rfl rfl)
theorem dX5_gives_1 : decode cX5_gives 1 = .ok (.iload_n 1, 1) := dk_27 (dk_at dksX5_gives_0 1 rfl rfl)
theorem dX5_gives_2 : decode cX5_gives 2 = .ok (.invokevirtual 308, 3) := dk_182 1 52 (dk_at dksX5_gives_0 2 rfl rfl)
theorem dX5_gives_5 : decode cX5_gives 5 = .ok (.ifCond .eq 10, 3) := dk_153 0 10 (dk_at dksX5_gives_0 5 rfl rfl)
theorem dX5_gives_8 : decode cX5_gives 8 = .ok (.iload_n 2, 1) := dk_28 (dk_at dksX5_gives_0 8 rfl rfl)
theorem dX5_gives_9 : decode cX5_gives 9 = .ok (.invokestatic 313, 3) := dk_184 1 57 (dk_at dksX5_gives_0 9 rfl rfl)
theorem dX5_gives_12 : decode cX5_gives 12 = .ok (.ifCond .ne 7, 3) := dk_154 0 7 (dk_at dksX5_gives_0 12 rfl rfl)
theorem dX5_gives_15 : decode cX5_gives 15 = .ok (.ldc2_w 316, 3) := dk_20 1 60 (dk_at dksX5_gives_0 15 rfl rfl)
theorem dX5_gives_18 : decode cX5_gives 18 = .ok (.lreturn, 1) := dk_173 (dk_at dksX5_gives_0 18 rfl rfl)
theorem dX5_gives_19 : decode cX5_gives 19 = .ok (.aload_n 0, 1) := dk_42 (dk_at dksX5_gives_0 19 rfl rfl)
theorem dX5_gives_20 : decode cX5_gives 20 = .ok (.getfield 9, 3) := dk_180 0 9 (dk_at dksX5_gives_0 20 rfl rfl)
theorem dX5_gives_23 : decode cX5_gives 23 = .ok (.iconst 5, 1) := dk_8 (dk_at dksX5_gives_0 23 rfl rfl)
theorem dX5_gives_24 : decode cX5_gives 24 = .ok (.iaload, 1) := dk_46 (dk_at dksX5_gives_1 0 rfl rfl)
theorem dX5_gives_25 : decode cX5_gives 25 = .ok (.iload_n 1, 1) := dk_27 (dk_at dksX5_gives_1 1 rfl rfl)
theorem dX5_gives_26 : decode cX5_gives 26 = .ok (.invokestatic 209, 3) := dk_184 0 209 (dk_at dksX5_gives_1 2 rfl rfl)
theorem dX5_gives_29 : decode cX5_gives 29 = .ok (.ifCond .ne 7, 3) := dk_154 0 7 (dk_at dksX5_gives_1 5 rfl rfl)
theorem dX5_gives_32 : decode cX5_gives 32 = .ok (.ldc2_w 318, 3) := dk_20 1 62 (dk_at dksX5_gives_1 8 rfl rfl)
theorem dX5_gives_35 : decode cX5_gives 35 = .ok (.lreturn, 1) := dk_173 (dk_at dksX5_gives_1 11 rfl rfl)
theorem dX5_gives_36 : decode cX5_gives 36 = .ok (.aload_n 0, 1) := dk_42 (dk_at dksX5_gives_1 12 rfl rfl)
theorem dX5_gives_37 : decode cX5_gives 37 = .ok (.invokevirtual 292, 3) := dk_182 1 36 (dk_at dksX5_gives_1 13 rfl rfl)
theorem dX5_gives_40 : decode cX5_gives 40 = .ok (.aload_n 0, 1) := dk_42 (dk_at dksX5_gives_1 16 rfl rfl)
theorem dX5_gives_41 : decode cX5_gives 41 = .ok (.iload_n 1, 1) := dk_27 (dk_at dksX5_gives_1 17 rfl rfl)
theorem dX5_gives_42 : decode cX5_gives 42 = .ok (.invokevirtual 331, 3) := dk_182 1 75 (dk_at dksX5_gives_1 18 rfl rfl)
theorem dX5_gives_45 : decode cX5_gives 45 = .ok (.aload_n 0, 1) := dk_42 (dk_at dksX5_gives_1 21 rfl rfl)
theorem dX5_gives_46 : decode cX5_gives 46 = .ok (.getfield 50, 3) := dk_180 0 50 (dk_at dksX5_gives_2 0 rfl rfl)
theorem dX5_gives_49 : decode cX5_gives 49 = .ok (.iload_n 2, 1) := dk_28 (dk_at dksX5_gives_2 3 rfl rfl)
theorem dX5_gives_50 : decode cX5_gives 50 = .ok (.invokestatic 320, 3) := dk_184 1 64 (dk_at dksX5_gives_2 4 rfl rfl)
theorem dX5_gives_53 : decode cX5_gives 53 = .ok (.lreturn, 1) := dk_173 (dk_at dksX5_gives_2 7 rfl rfl)
abbrev cX5_worst : ByteArray := prog_17_method_64_code
def yX5_worst : MethodName := ⟨RX5, "worst", "()I"⟩
def dkwX5_worst_2 : List UInt8 := [167, 255, 222, 2, 172]
abbrev dktX5_worst_2 : List UInt8 := dkwX5_worst_2 ++ []
def dkwX5_worst_1 : List UInt8 := [182, 1, 32, 154, 0, 18, 42, 27, 182, 1, 26, 42, 182, 1, 42, 148, 154, 0, 5, 27, 172, 132, 1, 1]
abbrev dktX5_worst_1 : List UInt8 := dkwX5_worst_1 ++ dktX5_worst_2
def dkwX5_worst_0 : List UInt8 := [42, 182, 1, 46, 154, 0, 6, 16, 254, 172, 3, 60, 27, 42, 182, 0, 98, 162, 0, 32, 42, 27]
abbrev dktX5_worst_0 : List UInt8 := dkwX5_worst_0 ++ dktX5_worst_1
theorem dksX5_worst_0 : cX5_worst.data.toList.drop 0 = dktX5_worst_0 := by decide +kernel
theorem dksX5_worst_1 : cX5_worst.data.toList.drop 22 = dktX5_worst_1 := dk_seg dksX5_worst_0 22 rfl rfl
theorem dksX5_worst_2 : cX5_worst.data.toList.drop 46 = dktX5_worst_2 := dk_seg dksX5_worst_1 24 rfl rfl
theorem dX5_worst_0 : decode cX5_worst 0 = .ok (.aload_n 0, 1) := dk_42 (dk_at dksX5_worst_0 0 rfl rfl)
theorem dX5_worst_1 : decode cX5_worst 1 = .ok (.invokevirtual 302, 3) := dk_182 1 46 (dk_at dksX5_worst_0 1 rfl rfl)
theorem dX5_worst_4 : decode cX5_worst 4 = .ok (.ifCond .ne 6, 3) := dk_154 0 6 (dk_at dksX5_worst_0 4 rfl rfl)
theorem dX5_worst_7 : decode cX5_worst 7 = .ok (.bipush (-2), 2) := dk_16 254 (dk_at dksX5_worst_0 7 rfl rfl)
theorem dX5_worst_9 : decode cX5_worst 9 = .ok (.ireturn, 1) := dk_172 (dk_at dksX5_worst_0 9 rfl rfl)
theorem dX5_worst_10 : decode cX5_worst 10 = .ok (.iconst 0, 1) := dk_3 (dk_at dksX5_worst_0 10 rfl rfl)
theorem dX5_worst_11 : decode cX5_worst 11 = .ok (.istore_n 1, 1) := dk_60 (dk_at dksX5_worst_0 11 rfl rfl)
theorem dX5_worst_12 : decode cX5_worst 12 = .ok (.iload_n 1, 1) := dk_27 (dk_at dksX5_worst_0 12 rfl rfl)
theorem dX5_worst_13 : decode cX5_worst 13 = .ok (.aload_n 0, 1) := dk_42 (dk_at dksX5_worst_0 13 rfl rfl)
theorem dX5_worst_14 : decode cX5_worst 14 = .ok (.invokevirtual 98, 3) := dk_182 0 98 (dk_at dksX5_worst_0 14 rfl rfl)
theorem dX5_worst_17 : decode cX5_worst 17 = .ok (.if_icmp .ge 32, 3) := dk_162 0 32 (dk_at dksX5_worst_0 17 rfl rfl)
theorem dX5_worst_20 : decode cX5_worst 20 = .ok (.aload_n 0, 1) := dk_42 (dk_at dksX5_worst_0 20 rfl rfl)
theorem dX5_worst_21 : decode cX5_worst 21 = .ok (.iload_n 1, 1) := dk_27 (dk_at dksX5_worst_0 21 rfl rfl)
theorem dX5_worst_22 : decode cX5_worst 22 = .ok (.invokevirtual 288, 3) := dk_182 1 32 (dk_at dksX5_worst_1 0 rfl rfl)
theorem dX5_worst_25 : decode cX5_worst 25 = .ok (.ifCond .ne 18, 3) := dk_154 0 18 (dk_at dksX5_worst_1 3 rfl rfl)
theorem dX5_worst_28 : decode cX5_worst 28 = .ok (.aload_n 0, 1) := dk_42 (dk_at dksX5_worst_1 6 rfl rfl)
theorem dX5_worst_29 : decode cX5_worst 29 = .ok (.iload_n 1, 1) := dk_27 (dk_at dksX5_worst_1 7 rfl rfl)
theorem dX5_worst_30 : decode cX5_worst 30 = .ok (.invokevirtual 282, 3) := dk_182 1 26 (dk_at dksX5_worst_1 8 rfl rfl)
theorem dX5_worst_33 : decode cX5_worst 33 = .ok (.aload_n 0, 1) := dk_42 (dk_at dksX5_worst_1 11 rfl rfl)
theorem dX5_worst_34 : decode cX5_worst 34 = .ok (.invokevirtual 298, 3) := dk_182 1 42 (dk_at dksX5_worst_1 12 rfl rfl)
theorem dX5_worst_37 : decode cX5_worst 37 = .ok (.lcmp, 1) := dk_148 (dk_at dksX5_worst_1 15 rfl rfl)
theorem dX5_worst_38 : decode cX5_worst 38 = .ok (.ifCond .ne 5, 3) := dk_154 0 5 (dk_at dksX5_worst_1 16 rfl rfl)
theorem dX5_worst_41 : decode cX5_worst 41 = .ok (.iload_n 1, 1) := dk_27 (dk_at dksX5_worst_1 19 rfl rfl)
theorem dX5_worst_42 : decode cX5_worst 42 = .ok (.ireturn, 1) := dk_172 (dk_at dksX5_worst_1 20 rfl rfl)
theorem dX5_worst_43 : decode cX5_worst 43 = .ok (.iinc 1 1, 3) := dk_132 1 1 (dk_at dksX5_worst_1 21 rfl rfl)
theorem dX5_worst_46 : decode cX5_worst 46 = .ok (.goto (-34), 3) := dk_167 255 222 (dk_at dksX5_worst_2 0 rfl rfl)
theorem dX5_worst_49 : decode cX5_worst 49 = .ok (.iconst (-1), 1) := dk_2 (dk_at dksX5_worst_2 3 rfl rfl)
theorem dX5_worst_50 : decode cX5_worst 50 = .ok (.ireturn, 1) := dk_172 (dk_at dksX5_worst_2 4 rfl rfl)
abbrev cX5_mostDrop : ByteArray := prog_17_method_47_code
def yX5_mostDrop : MethodName := ⟨RX5, "mostDrop", "()J"⟩
def dkwX5_mostDrop_1 : List UInt8 := [132, 3, 1, 167, 255, 235, 31, 173]
abbrev dktX5_mostDrop_1 : List UInt8 := dkwX5_mostDrop_1 ++ []
def dkwX5_mostDrop_0 : List UInt8 := [9, 64, 3, 62, 29, 42, 182, 0, 98, 162, 0, 19, 31, 42, 29, 182, 1, 26, 184, 1, 30, 64]
abbrev dktX5_mostDrop_0 : List UInt8 := dkwX5_mostDrop_0 ++ dktX5_mostDrop_1
theorem dksX5_mostDrop_0 : cX5_mostDrop.data.toList.drop 0 = dktX5_mostDrop_0 := by decide +kernel
theorem dksX5_mostDrop_1 : cX5_mostDrop.data.toList.drop 22 = dktX5_mostDrop_1 := dk_seg dksX5_mostDrop_0 22 rfl rfl
theorem dX5_mostDrop_0 : decode cX5_mostDrop 0 = .ok (.lconst 0, 1) := dk_9 (dk_at dksX5_mostDrop_0 0 rfl rfl)
theorem dX5_mostDrop_1 : decode cX5_mostDrop 1 = .ok (.lstore_n 1, 1) := dk_64 (dk_at dksX5_mostDrop_0 1 rfl rfl)
theorem dX5_mostDrop_2 : decode cX5_mostDrop 2 = .ok (.iconst 0, 1) := dk_3 (dk_at dksX5_mostDrop_0 2 rfl rfl)
theorem dX5_mostDrop_3 : decode cX5_mostDrop 3 = .ok (.istore_n 3, 1) := dk_62 (dk_at dksX5_mostDrop_0 3 rfl rfl)
theorem dX5_mostDrop_4 : decode cX5_mostDrop 4 = .ok (.iload_n 3, 1) := dk_29 (dk_at dksX5_mostDrop_0 4 rfl rfl)
theorem dX5_mostDrop_5 : decode cX5_mostDrop 5 = .ok (.aload_n 0, 1) := dk_42 (dk_at dksX5_mostDrop_0 5 rfl rfl)
theorem dX5_mostDrop_6 : decode cX5_mostDrop 6 = .ok (.invokevirtual 98, 3) := dk_182 0 98 (dk_at dksX5_mostDrop_0 6 rfl rfl)
theorem dX5_mostDrop_9 : decode cX5_mostDrop 9 = .ok (.if_icmp .ge 19, 3) := dk_162 0 19 (dk_at dksX5_mostDrop_0 9 rfl rfl)
theorem dX5_mostDrop_12 : decode cX5_mostDrop 12 = .ok (.lload_n 1, 1) := dk_31 (dk_at dksX5_mostDrop_0 12 rfl rfl)
theorem dX5_mostDrop_13 : decode cX5_mostDrop 13 = .ok (.aload_n 0, 1) := dk_42 (dk_at dksX5_mostDrop_0 13 rfl rfl)
theorem dX5_mostDrop_14 : decode cX5_mostDrop 14 = .ok (.iload_n 3, 1) := dk_29 (dk_at dksX5_mostDrop_0 14 rfl rfl)
theorem dX5_mostDrop_15 : decode cX5_mostDrop 15 = .ok (.invokevirtual 282, 3) := dk_182 1 26 (dk_at dksX5_mostDrop_0 15 rfl rfl)
theorem dX5_mostDrop_18 : decode cX5_mostDrop 18 = .ok (.invokestatic 286, 3) := dk_184 1 30 (dk_at dksX5_mostDrop_0 18 rfl rfl)
theorem dX5_mostDrop_21 : decode cX5_mostDrop 21 = .ok (.lstore_n 1, 1) := dk_64 (dk_at dksX5_mostDrop_0 21 rfl rfl)
theorem dX5_mostDrop_22 : decode cX5_mostDrop 22 = .ok (.iinc 3 1, 3) := dk_132 3 1 (dk_at dksX5_mostDrop_1 0 rfl rfl)
theorem dX5_mostDrop_25 : decode cX5_mostDrop 25 = .ok (.goto (-21), 3) := dk_167 255 235 (dk_at dksX5_mostDrop_1 3 rfl rfl)
theorem dX5_mostDrop_28 : decode cX5_mostDrop 28 = .ok (.lload_n 1, 1) := dk_31 (dk_at dksX5_mostDrop_1 6 rfl rfl)
theorem dX5_mostDrop_29 : decode cX5_mostDrop 29 = .ok (.lreturn, 1) := dk_173 (dk_at dksX5_mostDrop_1 7 rfl rfl)
abbrev cX5_over : ByteArray := prog_17_method_65_code
def yX5_over : MethodName := ⟨RX5, "over", "()I"⟩
def dkwX5_over_2 : List UInt8 := [167, 0, 4, 3, 128, 60, 132, 2, 1, 167, 255, 214, 27, 172]
abbrev dktX5_over_2 : List UInt8 := dkwX5_over_2 ++ []
def dkwX5_over_1 : List UInt8 := [28, 182, 1, 26, 42, 180, 0, 9, 5, 46, 133, 42, 180, 0, 50, 105, 148, 158, 0, 9, 4, 28, 120]
abbrev dktX5_over_1 : List UInt8 := dkwX5_over_1 ++ dktX5_over_2
def dkwX5_over_0 : List UInt8 := [42, 182, 1, 46, 154, 0, 6, 16, 254, 172, 3, 60, 3, 61, 28, 42, 182, 0, 98, 162, 0, 40, 27, 42]
abbrev dktX5_over_0 : List UInt8 := dkwX5_over_0 ++ dktX5_over_1
theorem dksX5_over_0 : cX5_over.data.toList.drop 0 = dktX5_over_0 := by decide +kernel
theorem dksX5_over_1 : cX5_over.data.toList.drop 24 = dktX5_over_1 := dk_seg dksX5_over_0 24 rfl rfl
theorem dksX5_over_2 : cX5_over.data.toList.drop 47 = dktX5_over_2 := dk_seg dksX5_over_1 23 rfl rfl
theorem dX5_over_0 : decode cX5_over 0 = .ok (.aload_n 0, 1) := dk_42 (dk_at dksX5_over_0 0 rfl rfl)
theorem dX5_over_1 : decode cX5_over 1 = .ok (.invokevirtual 302, 3) := dk_182 1 46 (dk_at dksX5_over_0 1 rfl rfl)
theorem dX5_over_4 : decode cX5_over 4 = .ok (.ifCond .ne 6, 3) := dk_154 0 6 (dk_at dksX5_over_0 4 rfl rfl)
theorem dX5_over_7 : decode cX5_over 7 = .ok (.bipush (-2), 2) := dk_16 254 (dk_at dksX5_over_0 7 rfl rfl)
theorem dX5_over_9 : decode cX5_over 9 = .ok (.ireturn, 1) := dk_172 (dk_at dksX5_over_0 9 rfl rfl)
theorem dX5_over_10 : decode cX5_over 10 = .ok (.iconst 0, 1) := dk_3 (dk_at dksX5_over_0 10 rfl rfl)
theorem dX5_over_11 : decode cX5_over 11 = .ok (.istore_n 1, 1) := dk_60 (dk_at dksX5_over_0 11 rfl rfl)
theorem dX5_over_12 : decode cX5_over 12 = .ok (.iconst 0, 1) := dk_3 (dk_at dksX5_over_0 12 rfl rfl)
theorem dX5_over_13 : decode cX5_over 13 = .ok (.istore_n 2, 1) := dk_61 (dk_at dksX5_over_0 13 rfl rfl)
theorem dX5_over_14 : decode cX5_over 14 = .ok (.iload_n 2, 1) := dk_28 (dk_at dksX5_over_0 14 rfl rfl)
theorem dX5_over_15 : decode cX5_over 15 = .ok (.aload_n 0, 1) := dk_42 (dk_at dksX5_over_0 15 rfl rfl)
theorem dX5_over_16 : decode cX5_over 16 = .ok (.invokevirtual 98, 3) := dk_182 0 98 (dk_at dksX5_over_0 16 rfl rfl)
theorem dX5_over_19 : decode cX5_over 19 = .ok (.if_icmp .ge 40, 3) := dk_162 0 40 (dk_at dksX5_over_0 19 rfl rfl)
theorem dX5_over_22 : decode cX5_over 22 = .ok (.iload_n 1, 1) := dk_27 (dk_at dksX5_over_0 22 rfl rfl)
theorem dX5_over_23 : decode cX5_over 23 = .ok (.aload_n 0, 1) := dk_42 (dk_at dksX5_over_0 23 rfl rfl)
theorem dX5_over_24 : decode cX5_over 24 = .ok (.iload_n 2, 1) := dk_28 (dk_at dksX5_over_1 0 rfl rfl)
theorem dX5_over_25 : decode cX5_over 25 = .ok (.invokevirtual 282, 3) := dk_182 1 26 (dk_at dksX5_over_1 1 rfl rfl)
theorem dX5_over_28 : decode cX5_over 28 = .ok (.aload_n 0, 1) := dk_42 (dk_at dksX5_over_1 4 rfl rfl)
theorem dX5_over_29 : decode cX5_over 29 = .ok (.getfield 9, 3) := dk_180 0 9 (dk_at dksX5_over_1 5 rfl rfl)
theorem dX5_over_32 : decode cX5_over 32 = .ok (.iconst 2, 1) := dk_5 (dk_at dksX5_over_1 8 rfl rfl)
theorem dX5_over_33 : decode cX5_over 33 = .ok (.iaload, 1) := dk_46 (dk_at dksX5_over_1 9 rfl rfl)
theorem dX5_over_34 : decode cX5_over 34 = .ok (.i2l, 1) := dk_133 (dk_at dksX5_over_1 10 rfl rfl)
theorem dX5_over_35 : decode cX5_over 35 = .ok (.aload_n 0, 1) := dk_42 (dk_at dksX5_over_1 11 rfl rfl)
theorem dX5_over_36 : decode cX5_over 36 = .ok (.getfield 50, 3) := dk_180 0 50 (dk_at dksX5_over_1 12 rfl rfl)
theorem dX5_over_39 : decode cX5_over 39 = .ok (.lmul, 1) := dk_105 (dk_at dksX5_over_1 15 rfl rfl)
theorem dX5_over_40 : decode cX5_over 40 = .ok (.lcmp, 1) := dk_148 (dk_at dksX5_over_1 16 rfl rfl)
theorem dX5_over_41 : decode cX5_over 41 = .ok (.ifCond .le 9, 3) := dk_158 0 9 (dk_at dksX5_over_1 17 rfl rfl)
theorem dX5_over_44 : decode cX5_over 44 = .ok (.iconst 1, 1) := dk_4 (dk_at dksX5_over_1 20 rfl rfl)
theorem dX5_over_45 : decode cX5_over 45 = .ok (.iload_n 2, 1) := dk_28 (dk_at dksX5_over_1 21 rfl rfl)
theorem dX5_over_46 : decode cX5_over 46 = .ok (.ishl, 1) := dk_120 (dk_at dksX5_over_1 22 rfl rfl)
theorem dX5_over_47 : decode cX5_over 47 = .ok (.goto 4, 3) := dk_167 0 4 (dk_at dksX5_over_2 0 rfl rfl)
theorem dX5_over_50 : decode cX5_over 50 = .ok (.iconst 0, 1) := dk_3 (dk_at dksX5_over_2 3 rfl rfl)
theorem dX5_over_51 : decode cX5_over 51 = .ok (.ior, 1) := dk_128 (dk_at dksX5_over_2 4 rfl rfl)
theorem dX5_over_52 : decode cX5_over 52 = .ok (.istore_n 1, 1) := dk_60 (dk_at dksX5_over_2 5 rfl rfl)
theorem dX5_over_53 : decode cX5_over 53 = .ok (.iinc 2 1, 3) := dk_132 2 1 (dk_at dksX5_over_2 6 rfl rfl)
theorem dX5_over_56 : decode cX5_over 56 = .ok (.goto (-42), 3) := dk_167 255 214 (dk_at dksX5_over_2 9 rfl rfl)
theorem dX5_over_59 : decode cX5_over 59 = .ok (.iload_n 1, 1) := dk_27 (dk_at dksX5_over_2 12 rfl rfl)
theorem dX5_over_60 : decode cX5_over 60 = .ok (.ireturn, 1) := dk_172 (dk_at dksX5_over_2 13 rfl rfl)
abbrev cX5_holds : ByteArray := prog_17_method_66_code
def yX5_holds : MethodName := ⟨RX5, "holds", "()I"⟩
def dkwX5_holds_0 : List UInt8 := [42, 182, 0, 109, 154, 0, 6, 16, 254, 172, 42, 182, 1, 78, 153, 0, 7, 4, 167, 0, 4, 3, 172]
abbrev dktX5_holds_0 : List UInt8 := dkwX5_holds_0 ++ []
theorem dksX5_holds_0 : cX5_holds.data.toList.drop 0 = dktX5_holds_0 := by decide +kernel
theorem dX5_holds_0 : decode cX5_holds 0 = .ok (.aload_n 0, 1) := dk_42 (dk_at dksX5_holds_0 0 rfl rfl)
theorem dX5_holds_1 : decode cX5_holds 1 = .ok (.invokevirtual 109, 3) := dk_182 0 109 (dk_at dksX5_holds_0 1 rfl rfl)
theorem dX5_holds_4 : decode cX5_holds 4 = .ok (.ifCond .ne 6, 3) := dk_154 0 6 (dk_at dksX5_holds_0 4 rfl rfl)
theorem dX5_holds_7 : decode cX5_holds 7 = .ok (.bipush (-2), 2) := dk_16 254 (dk_at dksX5_holds_0 7 rfl rfl)
theorem dX5_holds_9 : decode cX5_holds 9 = .ok (.ireturn, 1) := dk_172 (dk_at dksX5_holds_0 9 rfl rfl)
theorem dX5_holds_10 : decode cX5_holds 10 = .ok (.aload_n 0, 1) := dk_42 (dk_at dksX5_holds_0 10 rfl rfl)
theorem dX5_holds_11 : decode cX5_holds 11 = .ok (.invokevirtual 334, 3) := dk_182 1 78 (dk_at dksX5_holds_0 11 rfl rfl)
theorem dX5_holds_14 : decode cX5_holds 14 = .ok (.ifCond .eq 7, 3) := dk_153 0 7 (dk_at dksX5_holds_0 14 rfl rfl)
theorem dX5_holds_17 : decode cX5_holds 17 = .ok (.iconst 1, 1) := dk_4 (dk_at dksX5_holds_0 17 rfl rfl)
theorem dX5_holds_18 : decode cX5_holds 18 = .ok (.goto 4, 3) := dk_167 0 4 (dk_at dksX5_holds_0 18 rfl rfl)
theorem dX5_holds_21 : decode cX5_holds 21 = .ok (.iconst 0, 1) := dk_3 (dk_at dksX5_holds_0 21 rfl rfl)
theorem dX5_holds_22 : decode cX5_holds 22 = .ok (.ireturn, 1) := dk_172 (dk_at dksX5_holds_0 22 rfl rfl)
abbrev cX5_doesHold : ByteArray := prog_17_method_49_code
def yX5_doesHold : MethodName := ⟨RX5, "doesHold", "()Z"⟩
def dkwX5_doesHold_1 : List UInt8 := [180, 0, 50, 105, 148, 157, 0, 7, 4, 167, 0, 4, 3, 172]
abbrev dktX5_doesHold_1 : List UInt8 := dkwX5_doesHold_1 ++ []
def dkwX5_doesHold_0 : List UInt8 := [42, 182, 1, 36, 42, 182, 1, 39, 154, 0, 27, 42, 182, 1, 42, 42, 180, 0, 9, 5, 46, 133, 42]
abbrev dktX5_doesHold_0 : List UInt8 := dkwX5_doesHold_0 ++ dktX5_doesHold_1
theorem dksX5_doesHold_0 : cX5_doesHold.data.toList.drop 0 = dktX5_doesHold_0 := by decide +kernel
theorem dksX5_doesHold_1 : cX5_doesHold.data.toList.drop 23 = dktX5_doesHold_1 := dk_seg dksX5_doesHold_0 23 rfl rfl
theorem dX5_doesHold_0 : decode cX5_doesHold 0 = .ok (.aload_n 0, 1) := dk_42 (dk_at dksX5_doesHold_0 0 rfl rfl)
theorem dX5_doesHold_1 : decode cX5_doesHold 1 = .ok (.invokevirtual 292, 3) := dk_182 1 36 (dk_at dksX5_doesHold_0 1 rfl rfl)
theorem dX5_doesHold_4 : decode cX5_doesHold 4 = .ok (.aload_n 0, 1) := dk_42 (dk_at dksX5_doesHold_0 4 rfl rfl)
theorem dX5_doesHold_5 : decode cX5_doesHold 5 = .ok (.invokevirtual 295, 3) := dk_182 1 39 (dk_at dksX5_doesHold_0 5 rfl rfl)
theorem dX5_doesHold_8 : decode cX5_doesHold 8 = .ok (.ifCond .ne 27, 3) := dk_154 0 27 (dk_at dksX5_doesHold_0 8 rfl rfl)
theorem dX5_doesHold_11 : decode cX5_doesHold 11 = .ok (.aload_n 0, 1) := dk_42 (dk_at dksX5_doesHold_0 11 rfl rfl)
theorem dX5_doesHold_12 : decode cX5_doesHold 12 = .ok (.invokevirtual 298, 3) := dk_182 1 42 (dk_at dksX5_doesHold_0 12 rfl rfl)
theorem dX5_doesHold_15 : decode cX5_doesHold 15 = .ok (.aload_n 0, 1) := dk_42 (dk_at dksX5_doesHold_0 15 rfl rfl)
theorem dX5_doesHold_16 : decode cX5_doesHold 16 = .ok (.getfield 9, 3) := dk_180 0 9 (dk_at dksX5_doesHold_0 16 rfl rfl)
theorem dX5_doesHold_19 : decode cX5_doesHold 19 = .ok (.iconst 2, 1) := dk_5 (dk_at dksX5_doesHold_0 19 rfl rfl)
theorem dX5_doesHold_20 : decode cX5_doesHold 20 = .ok (.iaload, 1) := dk_46 (dk_at dksX5_doesHold_0 20 rfl rfl)
theorem dX5_doesHold_21 : decode cX5_doesHold 21 = .ok (.i2l, 1) := dk_133 (dk_at dksX5_doesHold_0 21 rfl rfl)
theorem dX5_doesHold_22 : decode cX5_doesHold 22 = .ok (.aload_n 0, 1) := dk_42 (dk_at dksX5_doesHold_0 22 rfl rfl)
theorem dX5_doesHold_23 : decode cX5_doesHold 23 = .ok (.getfield 50, 3) := dk_180 0 50 (dk_at dksX5_doesHold_1 0 rfl rfl)
theorem dX5_doesHold_26 : decode cX5_doesHold 26 = .ok (.lmul, 1) := dk_105 (dk_at dksX5_doesHold_1 3 rfl rfl)
theorem dX5_doesHold_27 : decode cX5_doesHold 27 = .ok (.lcmp, 1) := dk_148 (dk_at dksX5_doesHold_1 4 rfl rfl)
theorem dX5_doesHold_28 : decode cX5_doesHold 28 = .ok (.ifCond .gt 7, 3) := dk_157 0 7 (dk_at dksX5_doesHold_1 5 rfl rfl)
theorem dX5_doesHold_31 : decode cX5_doesHold 31 = .ok (.iconst 1, 1) := dk_4 (dk_at dksX5_doesHold_1 8 rfl rfl)
theorem dX5_doesHold_32 : decode cX5_doesHold 32 = .ok (.goto 4, 3) := dk_167 0 4 (dk_at dksX5_doesHold_1 9 rfl rfl)
theorem dX5_doesHold_35 : decode cX5_doesHold 35 = .ok (.iconst 0, 1) := dk_3 (dk_at dksX5_doesHold_1 12 rfl rfl)
theorem dX5_doesHold_36 : decode cX5_doesHold 36 = .ok (.ireturn, 1) := dk_172 (dk_at dksX5_doesHold_1 13 rfl rfl)
abbrev cX5_deadLoads : ByteArray := prog_17_method_48_code
def yX5_deadLoads : MethodName := ⟨RX5, "deadLoads", "()I"⟩
def dkwX5_deadLoads_2 : List UInt8 := [27, 172]
abbrev dktX5_deadLoads_2 : List UInt8 := dkwX5_deadLoads_2 ++ []
def dkwX5_deadLoads_1 : List UInt8 := [180, 0, 9, 16, 6, 28, 96, 46, 158, 0, 7, 4, 167, 0, 4, 3, 96, 60, 132, 2, 1, 167, 255, 217]
abbrev dktX5_deadLoads_1 : List UInt8 := dkwX5_deadLoads_1 ++ dktX5_deadLoads_2
def dkwX5_deadLoads_0 : List UInt8 := [3, 60, 3, 61, 28, 42, 182, 0, 98, 162, 0, 37, 27, 42, 28, 182, 1, 32, 153, 0, 19, 42]
abbrev dktX5_deadLoads_0 : List UInt8 := dkwX5_deadLoads_0 ++ dktX5_deadLoads_1
theorem dksX5_deadLoads_0 : cX5_deadLoads.data.toList.drop 0 = dktX5_deadLoads_0 := by decide +kernel
theorem dksX5_deadLoads_1 : cX5_deadLoads.data.toList.drop 22 = dktX5_deadLoads_1 := dk_seg dksX5_deadLoads_0 22 rfl rfl
theorem dksX5_deadLoads_2 : cX5_deadLoads.data.toList.drop 46 = dktX5_deadLoads_2 := dk_seg dksX5_deadLoads_1 24 rfl rfl
theorem dX5_deadLoads_0 : decode cX5_deadLoads 0 = .ok (.iconst 0, 1) := dk_3 (dk_at dksX5_deadLoads_0 0 rfl rfl)
theorem dX5_deadLoads_1 : decode cX5_deadLoads 1 = .ok (.istore_n 1, 1) := dk_60 (dk_at dksX5_deadLoads_0 1 rfl rfl)
theorem dX5_deadLoads_2 : decode cX5_deadLoads 2 = .ok (.iconst 0, 1) := dk_3 (dk_at dksX5_deadLoads_0 2 rfl rfl)
theorem dX5_deadLoads_3 : decode cX5_deadLoads 3 = .ok (.istore_n 2, 1) := dk_61 (dk_at dksX5_deadLoads_0 3 rfl rfl)
theorem dX5_deadLoads_4 : decode cX5_deadLoads 4 = .ok (.iload_n 2, 1) := dk_28 (dk_at dksX5_deadLoads_0 4 rfl rfl)
theorem dX5_deadLoads_5 : decode cX5_deadLoads 5 = .ok (.aload_n 0, 1) := dk_42 (dk_at dksX5_deadLoads_0 5 rfl rfl)
theorem dX5_deadLoads_6 : decode cX5_deadLoads 6 = .ok (.invokevirtual 98, 3) := dk_182 0 98 (dk_at dksX5_deadLoads_0 6 rfl rfl)
theorem dX5_deadLoads_9 : decode cX5_deadLoads 9 = .ok (.if_icmp .ge 37, 3) := dk_162 0 37 (dk_at dksX5_deadLoads_0 9 rfl rfl)
theorem dX5_deadLoads_12 : decode cX5_deadLoads 12 = .ok (.iload_n 1, 1) := dk_27 (dk_at dksX5_deadLoads_0 12 rfl rfl)
theorem dX5_deadLoads_13 : decode cX5_deadLoads 13 = .ok (.aload_n 0, 1) := dk_42 (dk_at dksX5_deadLoads_0 13 rfl rfl)
theorem dX5_deadLoads_14 : decode cX5_deadLoads 14 = .ok (.iload_n 2, 1) := dk_28 (dk_at dksX5_deadLoads_0 14 rfl rfl)
theorem dX5_deadLoads_15 : decode cX5_deadLoads 15 = .ok (.invokevirtual 288, 3) := dk_182 1 32 (dk_at dksX5_deadLoads_0 15 rfl rfl)
theorem dX5_deadLoads_18 : decode cX5_deadLoads 18 = .ok (.ifCond .eq 19, 3) := dk_153 0 19 (dk_at dksX5_deadLoads_0 18 rfl rfl)
theorem dX5_deadLoads_21 : decode cX5_deadLoads 21 = .ok (.aload_n 0, 1) := dk_42 (dk_at dksX5_deadLoads_0 21 rfl rfl)
theorem dX5_deadLoads_22 : decode cX5_deadLoads 22 = .ok (.getfield 9, 3) := dk_180 0 9 (dk_at dksX5_deadLoads_1 0 rfl rfl)
theorem dX5_deadLoads_25 : decode cX5_deadLoads 25 = .ok (.bipush 6, 2) := dk_16 6 (dk_at dksX5_deadLoads_1 3 rfl rfl)
theorem dX5_deadLoads_27 : decode cX5_deadLoads 27 = .ok (.iload_n 2, 1) := dk_28 (dk_at dksX5_deadLoads_1 5 rfl rfl)
theorem dX5_deadLoads_28 : decode cX5_deadLoads 28 = .ok (.iadd, 1) := dk_96 (dk_at dksX5_deadLoads_1 6 rfl rfl)
theorem dX5_deadLoads_29 : decode cX5_deadLoads 29 = .ok (.iaload, 1) := dk_46 (dk_at dksX5_deadLoads_1 7 rfl rfl)
theorem dX5_deadLoads_30 : decode cX5_deadLoads 30 = .ok (.ifCond .le 7, 3) := dk_158 0 7 (dk_at dksX5_deadLoads_1 8 rfl rfl)
theorem dX5_deadLoads_33 : decode cX5_deadLoads 33 = .ok (.iconst 1, 1) := dk_4 (dk_at dksX5_deadLoads_1 11 rfl rfl)
theorem dX5_deadLoads_34 : decode cX5_deadLoads 34 = .ok (.goto 4, 3) := dk_167 0 4 (dk_at dksX5_deadLoads_1 12 rfl rfl)
theorem dX5_deadLoads_37 : decode cX5_deadLoads 37 = .ok (.iconst 0, 1) := dk_3 (dk_at dksX5_deadLoads_1 15 rfl rfl)
theorem dX5_deadLoads_38 : decode cX5_deadLoads 38 = .ok (.iadd, 1) := dk_96 (dk_at dksX5_deadLoads_1 16 rfl rfl)
theorem dX5_deadLoads_39 : decode cX5_deadLoads 39 = .ok (.istore_n 1, 1) := dk_60 (dk_at dksX5_deadLoads_1 17 rfl rfl)
theorem dX5_deadLoads_40 : decode cX5_deadLoads 40 = .ok (.iinc 2 1, 3) := dk_132 2 1 (dk_at dksX5_deadLoads_1 18 rfl rfl)
theorem dX5_deadLoads_43 : decode cX5_deadLoads 43 = .ok (.goto (-39), 3) := dk_167 255 217 (dk_at dksX5_deadLoads_1 21 rfl rfl)
theorem dX5_deadLoads_46 : decode cX5_deadLoads 46 = .ok (.iload_n 1, 1) := dk_27 (dk_at dksX5_deadLoads_2 0 rfl rfl)
theorem dX5_deadLoads_47 : decode cX5_deadLoads 47 = .ok (.ireturn, 1) := dk_172 (dk_at dksX5_deadLoads_2 1 rfl rfl)
abbrev cX5_loss : ByteArray := prog_17_method_67_code
def yX5_loss : MethodName := ⟨RX5, "loss", "(I)J"⟩
def dkwX5_loss_2 : List UInt8 := [182, 1, 26, 105, 97, 65, 132, 4, 1, 167, 255, 223, 32, 42, 180, 0, 50, 27, 184, 1, 64, 173]
abbrev dktX5_loss_2 : List UInt8 := dkwX5_loss_2 ++ []
def dkwX5_loss_1 : List UInt8 := [21, 4, 42, 182, 0, 98, 162, 0, 30, 32, 42, 180, 0, 9, 16, 6, 21, 4, 96, 46, 133, 42, 21, 4]
abbrev dktX5_loss_1 : List UInt8 := dkwX5_loss_1 ++ dktX5_loss_2
def dkwX5_loss_0 : List UInt8 := [27, 184, 1, 57, 153, 0, 10, 42, 182, 1, 46, 154, 0, 7, 20, 1, 60, 173, 9, 65, 3, 54, 4]
abbrev dktX5_loss_0 : List UInt8 := dkwX5_loss_0 ++ dktX5_loss_1
theorem dksX5_loss_0 : cX5_loss.data.toList.drop 0 = dktX5_loss_0 := by decide +kernel
theorem dksX5_loss_1 : cX5_loss.data.toList.drop 23 = dktX5_loss_1 := dk_seg dksX5_loss_0 23 rfl rfl
theorem dksX5_loss_2 : cX5_loss.data.toList.drop 47 = dktX5_loss_2 := dk_seg dksX5_loss_1 24 rfl rfl
theorem dX5_loss_0 : decode cX5_loss 0 = .ok (.iload_n 1, 1) := dk_27 (dk_at dksX5_loss_0 0 rfl rfl)
theorem dX5_loss_1 : decode cX5_loss 1 = .ok (.invokestatic 313, 3) := dk_184 1 57 (dk_at dksX5_loss_0 1 rfl rfl)
theorem dX5_loss_4 : decode cX5_loss 4 = .ok (.ifCond .eq 10, 3) := dk_153 0 10 (dk_at dksX5_loss_0 4 rfl rfl)
theorem dX5_loss_7 : decode cX5_loss 7 = .ok (.aload_n 0, 1) := dk_42 (dk_at dksX5_loss_0 7 rfl rfl)
theorem dX5_loss_8 : decode cX5_loss 8 = .ok (.invokevirtual 302, 3) := dk_182 1 46 (dk_at dksX5_loss_0 8 rfl rfl)
theorem dX5_loss_11 : decode cX5_loss 11 = .ok (.ifCond .ne 7, 3) := dk_154 0 7 (dk_at dksX5_loss_0 11 rfl rfl)
theorem dX5_loss_14 : decode cX5_loss 14 = .ok (.ldc2_w 316, 3) := dk_20 1 60 (dk_at dksX5_loss_0 14 rfl rfl)
theorem dX5_loss_17 : decode cX5_loss 17 = .ok (.lreturn, 1) := dk_173 (dk_at dksX5_loss_0 17 rfl rfl)
theorem dX5_loss_18 : decode cX5_loss 18 = .ok (.lconst 0, 1) := dk_9 (dk_at dksX5_loss_0 18 rfl rfl)
theorem dX5_loss_19 : decode cX5_loss 19 = .ok (.lstore_n 2, 1) := dk_65 (dk_at dksX5_loss_0 19 rfl rfl)
theorem dX5_loss_20 : decode cX5_loss 20 = .ok (.iconst 0, 1) := dk_3 (dk_at dksX5_loss_0 20 rfl rfl)
theorem dX5_loss_21 : decode cX5_loss 21 = .ok (.istore 4, 2) := dk_54 4 (dk_at dksX5_loss_0 21 rfl rfl)
theorem dX5_loss_23 : decode cX5_loss 23 = .ok (.iload 4, 2) := dk_21 4 (dk_at dksX5_loss_1 0 rfl rfl)
theorem dX5_loss_25 : decode cX5_loss 25 = .ok (.aload_n 0, 1) := dk_42 (dk_at dksX5_loss_1 2 rfl rfl)
theorem dX5_loss_26 : decode cX5_loss 26 = .ok (.invokevirtual 98, 3) := dk_182 0 98 (dk_at dksX5_loss_1 3 rfl rfl)
theorem dX5_loss_29 : decode cX5_loss 29 = .ok (.if_icmp .ge 30, 3) := dk_162 0 30 (dk_at dksX5_loss_1 6 rfl rfl)
theorem dX5_loss_32 : decode cX5_loss 32 = .ok (.lload_n 2, 1) := dk_32 (dk_at dksX5_loss_1 9 rfl rfl)
theorem dX5_loss_33 : decode cX5_loss 33 = .ok (.aload_n 0, 1) := dk_42 (dk_at dksX5_loss_1 10 rfl rfl)
theorem dX5_loss_34 : decode cX5_loss 34 = .ok (.getfield 9, 3) := dk_180 0 9 (dk_at dksX5_loss_1 11 rfl rfl)
theorem dX5_loss_37 : decode cX5_loss 37 = .ok (.bipush 6, 2) := dk_16 6 (dk_at dksX5_loss_1 14 rfl rfl)
theorem dX5_loss_39 : decode cX5_loss 39 = .ok (.iload 4, 2) := dk_21 4 (dk_at dksX5_loss_1 16 rfl rfl)
theorem dX5_loss_41 : decode cX5_loss 41 = .ok (.iadd, 1) := dk_96 (dk_at dksX5_loss_1 18 rfl rfl)
theorem dX5_loss_42 : decode cX5_loss 42 = .ok (.iaload, 1) := dk_46 (dk_at dksX5_loss_1 19 rfl rfl)
theorem dX5_loss_43 : decode cX5_loss 43 = .ok (.i2l, 1) := dk_133 (dk_at dksX5_loss_1 20 rfl rfl)
theorem dX5_loss_44 : decode cX5_loss 44 = .ok (.aload_n 0, 1) := dk_42 (dk_at dksX5_loss_1 21 rfl rfl)
theorem dX5_loss_45 : decode cX5_loss 45 = .ok (.iload 4, 2) := dk_21 4 (dk_at dksX5_loss_1 22 rfl rfl)
theorem dX5_loss_47 : decode cX5_loss 47 = .ok (.invokevirtual 282, 3) := dk_182 1 26 (dk_at dksX5_loss_2 0 rfl rfl)
theorem dX5_loss_50 : decode cX5_loss 50 = .ok (.lmul, 1) := dk_105 (dk_at dksX5_loss_2 3 rfl rfl)
theorem dX5_loss_51 : decode cX5_loss 51 = .ok (.ladd, 1) := dk_97 (dk_at dksX5_loss_2 4 rfl rfl)
theorem dX5_loss_52 : decode cX5_loss 52 = .ok (.lstore_n 2, 1) := dk_65 (dk_at dksX5_loss_2 5 rfl rfl)
theorem dX5_loss_53 : decode cX5_loss 53 = .ok (.iinc 4 1, 3) := dk_132 4 1 (dk_at dksX5_loss_2 6 rfl rfl)
theorem dX5_loss_56 : decode cX5_loss 56 = .ok (.goto (-33), 3) := dk_167 255 223 (dk_at dksX5_loss_2 9 rfl rfl)
theorem dX5_loss_59 : decode cX5_loss 59 = .ok (.lload_n 2, 1) := dk_32 (dk_at dksX5_loss_2 12 rfl rfl)
theorem dX5_loss_60 : decode cX5_loss 60 = .ok (.aload_n 0, 1) := dk_42 (dk_at dksX5_loss_2 13 rfl rfl)
theorem dX5_loss_61 : decode cX5_loss 61 = .ok (.getfield 50, 3) := dk_180 0 50 (dk_at dksX5_loss_2 14 rfl rfl)
theorem dX5_loss_64 : decode cX5_loss 64 = .ok (.iload_n 1, 1) := dk_27 (dk_at dksX5_loss_2 17 rfl rfl)
theorem dX5_loss_65 : decode cX5_loss 65 = .ok (.invokestatic 320, 3) := dk_184 1 64 (dk_at dksX5_loss_2 18 rfl rfl)
theorem dX5_loss_68 : decode cX5_loss 68 = .ok (.lreturn, 1) := dk_173 (dk_at dksX5_loss_2 21 rfl rfl)
abbrev cX5_moves : ByteArray := prog_17_method_68_code
def yX5_moves : MethodName := ⟨RX5, "moves", "(III)J"⟩
def dkwX5_moves_2 : List UInt8 := [20, 1, 62, 167, 0, 17, 42, 27, 28, 182, 1, 22, 42, 180, 0, 50, 29, 184, 1, 64, 173]
abbrev dktX5_moves_2 : List UInt8 := dkwX5_moves_2 ++ []
def dkwX5_moves_1 : List UInt8 := [20, 1, 60, 173, 42, 182, 1, 36, 42, 27, 182, 1, 32, 154, 0, 11, 42, 28, 182, 1, 32, 153, 0, 9]
abbrev dktX5_moves_1 : List UInt8 := dkwX5_moves_1 ++ dktX5_moves_2
def dkwX5_moves_0 : List UInt8 := [42, 27, 182, 1, 52, 153, 0, 18, 42, 28, 182, 1, 52, 153, 0, 10, 29, 184, 1, 57, 154, 0, 7]
abbrev dktX5_moves_0 : List UInt8 := dkwX5_moves_0 ++ dktX5_moves_1
theorem dksX5_moves_0 : cX5_moves.data.toList.drop 0 = dktX5_moves_0 := by decide +kernel
theorem dksX5_moves_1 : cX5_moves.data.toList.drop 23 = dktX5_moves_1 := dk_seg dksX5_moves_0 23 rfl rfl
theorem dksX5_moves_2 : cX5_moves.data.toList.drop 47 = dktX5_moves_2 := dk_seg dksX5_moves_1 24 rfl rfl
theorem dX5_moves_0 : decode cX5_moves 0 = .ok (.aload_n 0, 1) := dk_42 (dk_at dksX5_moves_0 0 rfl rfl)
theorem dX5_moves_1 : decode cX5_moves 1 = .ok (.iload_n 1, 1) := dk_27 (dk_at dksX5_moves_0 1 rfl rfl)
theorem dX5_moves_2 : decode cX5_moves 2 = .ok (.invokevirtual 308, 3) := dk_182 1 52 (dk_at dksX5_moves_0 2 rfl rfl)
theorem dX5_moves_5 : decode cX5_moves 5 = .ok (.ifCond .eq 18, 3) := dk_153 0 18 (dk_at dksX5_moves_0 5 rfl rfl)
theorem dX5_moves_8 : decode cX5_moves 8 = .ok (.aload_n 0, 1) := dk_42 (dk_at dksX5_moves_0 8 rfl rfl)
theorem dX5_moves_9 : decode cX5_moves 9 = .ok (.iload_n 2, 1) := dk_28 (dk_at dksX5_moves_0 9 rfl rfl)
theorem dX5_moves_10 : decode cX5_moves 10 = .ok (.invokevirtual 308, 3) := dk_182 1 52 (dk_at dksX5_moves_0 10 rfl rfl)
theorem dX5_moves_13 : decode cX5_moves 13 = .ok (.ifCond .eq 10, 3) := dk_153 0 10 (dk_at dksX5_moves_0 13 rfl rfl)
theorem dX5_moves_16 : decode cX5_moves 16 = .ok (.iload_n 3, 1) := dk_29 (dk_at dksX5_moves_0 16 rfl rfl)
theorem dX5_moves_17 : decode cX5_moves 17 = .ok (.invokestatic 313, 3) := dk_184 1 57 (dk_at dksX5_moves_0 17 rfl rfl)
theorem dX5_moves_20 : decode cX5_moves 20 = .ok (.ifCond .ne 7, 3) := dk_154 0 7 (dk_at dksX5_moves_0 20 rfl rfl)
theorem dX5_moves_23 : decode cX5_moves 23 = .ok (.ldc2_w 316, 3) := dk_20 1 60 (dk_at dksX5_moves_1 0 rfl rfl)
theorem dX5_moves_26 : decode cX5_moves 26 = .ok (.lreturn, 1) := dk_173 (dk_at dksX5_moves_1 3 rfl rfl)
theorem dX5_moves_27 : decode cX5_moves 27 = .ok (.aload_n 0, 1) := dk_42 (dk_at dksX5_moves_1 4 rfl rfl)
theorem dX5_moves_28 : decode cX5_moves 28 = .ok (.invokevirtual 292, 3) := dk_182 1 36 (dk_at dksX5_moves_1 5 rfl rfl)
theorem dX5_moves_31 : decode cX5_moves 31 = .ok (.aload_n 0, 1) := dk_42 (dk_at dksX5_moves_1 8 rfl rfl)
theorem dX5_moves_32 : decode cX5_moves 32 = .ok (.iload_n 1, 1) := dk_27 (dk_at dksX5_moves_1 9 rfl rfl)
theorem dX5_moves_33 : decode cX5_moves 33 = .ok (.invokevirtual 288, 3) := dk_182 1 32 (dk_at dksX5_moves_1 10 rfl rfl)
theorem dX5_moves_36 : decode cX5_moves 36 = .ok (.ifCond .ne 11, 3) := dk_154 0 11 (dk_at dksX5_moves_1 13 rfl rfl)
theorem dX5_moves_39 : decode cX5_moves 39 = .ok (.aload_n 0, 1) := dk_42 (dk_at dksX5_moves_1 16 rfl rfl)
theorem dX5_moves_40 : decode cX5_moves 40 = .ok (.iload_n 2, 1) := dk_28 (dk_at dksX5_moves_1 17 rfl rfl)
theorem dX5_moves_41 : decode cX5_moves 41 = .ok (.invokevirtual 288, 3) := dk_182 1 32 (dk_at dksX5_moves_1 18 rfl rfl)
theorem dX5_moves_44 : decode cX5_moves 44 = .ok (.ifCond .eq 9, 3) := dk_153 0 9 (dk_at dksX5_moves_1 21 rfl rfl)
theorem dX5_moves_47 : decode cX5_moves 47 = .ok (.ldc2_w 318, 3) := dk_20 1 62 (dk_at dksX5_moves_2 0 rfl rfl)
theorem dX5_moves_50 : decode cX5_moves 50 = .ok (.goto 17, 3) := dk_167 0 17 (dk_at dksX5_moves_2 3 rfl rfl)
theorem dX5_moves_53 : decode cX5_moves 53 = .ok (.aload_n 0, 1) := dk_42 (dk_at dksX5_moves_2 6 rfl rfl)
theorem dX5_moves_54 : decode cX5_moves 54 = .ok (.iload_n 1, 1) := dk_27 (dk_at dksX5_moves_2 7 rfl rfl)
theorem dX5_moves_55 : decode cX5_moves 55 = .ok (.iload_n 2, 1) := dk_28 (dk_at dksX5_moves_2 8 rfl rfl)
theorem dX5_moves_56 : decode cX5_moves 56 = .ok (.invokevirtual 278, 3) := dk_182 1 22 (dk_at dksX5_moves_2 9 rfl rfl)
theorem dX5_moves_59 : decode cX5_moves 59 = .ok (.aload_n 0, 1) := dk_42 (dk_at dksX5_moves_2 12 rfl rfl)
theorem dX5_moves_60 : decode cX5_moves 60 = .ok (.getfield 50, 3) := dk_180 0 50 (dk_at dksX5_moves_2 13 rfl rfl)
theorem dX5_moves_63 : decode cX5_moves 63 = .ok (.iload_n 3, 1) := dk_29 (dk_at dksX5_moves_2 16 rfl rfl)
theorem dX5_moves_64 : decode cX5_moves 64 = .ok (.invokestatic 320, 3) := dk_184 1 64 (dk_at dksX5_moves_2 17 rfl rfl)
theorem dX5_moves_67 : decode cX5_moves 67 = .ok (.lreturn, 1) := dk_173 (dk_at dksX5_moves_2 20 rfl rfl)
abbrev cX5_resists : ByteArray := prog_17_method_69_code
def yX5_resists : MethodName := ⟨RX5, "resists", "(III)J"⟩
def dkwX5_resists_2 : List UInt8 := [167, 0, 17, 42, 28, 28, 182, 1, 22, 42, 180, 0, 50, 29, 184, 1, 64, 173]
abbrev dktX5_resists_2 : List UInt8 := dkwX5_resists_2 ++ []
def dkwX5_resists_1 : List UInt8 := [20, 1, 60, 173, 42, 4, 27, 120, 182, 1, 19, 42, 28, 182, 1, 32, 153, 0, 9, 20, 1, 62]
abbrev dktX5_resists_1 : List UInt8 := dkwX5_resists_1 ++ dktX5_resists_2
def dkwX5_resists_0 : List UInt8 := [42, 27, 182, 1, 52, 153, 0, 18, 42, 28, 182, 1, 52, 153, 0, 10, 29, 184, 1, 57, 154, 0, 7]
abbrev dktX5_resists_0 : List UInt8 := dkwX5_resists_0 ++ dktX5_resists_1
theorem dksX5_resists_0 : cX5_resists.data.toList.drop 0 = dktX5_resists_0 := by decide +kernel
theorem dksX5_resists_1 : cX5_resists.data.toList.drop 23 = dktX5_resists_1 := dk_seg dksX5_resists_0 23 rfl rfl
theorem dksX5_resists_2 : cX5_resists.data.toList.drop 45 = dktX5_resists_2 := dk_seg dksX5_resists_1 22 rfl rfl
theorem dX5_resists_0 : decode cX5_resists 0 = .ok (.aload_n 0, 1) := dk_42 (dk_at dksX5_resists_0 0 rfl rfl)
theorem dX5_resists_1 : decode cX5_resists 1 = .ok (.iload_n 1, 1) := dk_27 (dk_at dksX5_resists_0 1 rfl rfl)
theorem dX5_resists_2 : decode cX5_resists 2 = .ok (.invokevirtual 308, 3) := dk_182 1 52 (dk_at dksX5_resists_0 2 rfl rfl)
theorem dX5_resists_5 : decode cX5_resists 5 = .ok (.ifCond .eq 18, 3) := dk_153 0 18 (dk_at dksX5_resists_0 5 rfl rfl)
theorem dX5_resists_8 : decode cX5_resists 8 = .ok (.aload_n 0, 1) := dk_42 (dk_at dksX5_resists_0 8 rfl rfl)
theorem dX5_resists_9 : decode cX5_resists 9 = .ok (.iload_n 2, 1) := dk_28 (dk_at dksX5_resists_0 9 rfl rfl)
theorem dX5_resists_10 : decode cX5_resists 10 = .ok (.invokevirtual 308, 3) := dk_182 1 52 (dk_at dksX5_resists_0 10 rfl rfl)
theorem dX5_resists_13 : decode cX5_resists 13 = .ok (.ifCond .eq 10, 3) := dk_153 0 10 (dk_at dksX5_resists_0 13 rfl rfl)
theorem dX5_resists_16 : decode cX5_resists 16 = .ok (.iload_n 3, 1) := dk_29 (dk_at dksX5_resists_0 16 rfl rfl)
theorem dX5_resists_17 : decode cX5_resists 17 = .ok (.invokestatic 313, 3) := dk_184 1 57 (dk_at dksX5_resists_0 17 rfl rfl)
theorem dX5_resists_20 : decode cX5_resists 20 = .ok (.ifCond .ne 7, 3) := dk_154 0 7 (dk_at dksX5_resists_0 20 rfl rfl)
theorem dX5_resists_23 : decode cX5_resists 23 = .ok (.ldc2_w 316, 3) := dk_20 1 60 (dk_at dksX5_resists_1 0 rfl rfl)
theorem dX5_resists_26 : decode cX5_resists 26 = .ok (.lreturn, 1) := dk_173 (dk_at dksX5_resists_1 3 rfl rfl)
theorem dX5_resists_27 : decode cX5_resists 27 = .ok (.aload_n 0, 1) := dk_42 (dk_at dksX5_resists_1 4 rfl rfl)
theorem dX5_resists_28 : decode cX5_resists 28 = .ok (.iconst 1, 1) := dk_4 (dk_at dksX5_resists_1 5 rfl rfl)
theorem dX5_resists_29 : decode cX5_resists 29 = .ok (.iload_n 1, 1) := dk_27 (dk_at dksX5_resists_1 6 rfl rfl)
theorem dX5_resists_30 : decode cX5_resists 30 = .ok (.ishl, 1) := dk_120 (dk_at dksX5_resists_1 7 rfl rfl)
theorem dX5_resists_31 : decode cX5_resists 31 = .ok (.invokevirtual 275, 3) := dk_182 1 19 (dk_at dksX5_resists_1 8 rfl rfl)
theorem dX5_resists_34 : decode cX5_resists 34 = .ok (.aload_n 0, 1) := dk_42 (dk_at dksX5_resists_1 11 rfl rfl)
theorem dX5_resists_35 : decode cX5_resists 35 = .ok (.iload_n 2, 1) := dk_28 (dk_at dksX5_resists_1 12 rfl rfl)
theorem dX5_resists_36 : decode cX5_resists 36 = .ok (.invokevirtual 288, 3) := dk_182 1 32 (dk_at dksX5_resists_1 13 rfl rfl)
theorem dX5_resists_39 : decode cX5_resists 39 = .ok (.ifCond .eq 9, 3) := dk_153 0 9 (dk_at dksX5_resists_1 16 rfl rfl)
theorem dX5_resists_42 : decode cX5_resists 42 = .ok (.ldc2_w 318, 3) := dk_20 1 62 (dk_at dksX5_resists_1 19 rfl rfl)
theorem dX5_resists_45 : decode cX5_resists 45 = .ok (.goto 17, 3) := dk_167 0 17 (dk_at dksX5_resists_2 0 rfl rfl)
theorem dX5_resists_48 : decode cX5_resists 48 = .ok (.aload_n 0, 1) := dk_42 (dk_at dksX5_resists_2 3 rfl rfl)
theorem dX5_resists_49 : decode cX5_resists 49 = .ok (.iload_n 2, 1) := dk_28 (dk_at dksX5_resists_2 4 rfl rfl)
theorem dX5_resists_50 : decode cX5_resists 50 = .ok (.iload_n 2, 1) := dk_28 (dk_at dksX5_resists_2 5 rfl rfl)
theorem dX5_resists_51 : decode cX5_resists 51 = .ok (.invokevirtual 278, 3) := dk_182 1 22 (dk_at dksX5_resists_2 6 rfl rfl)
theorem dX5_resists_54 : decode cX5_resists 54 = .ok (.aload_n 0, 1) := dk_42 (dk_at dksX5_resists_2 9 rfl rfl)
theorem dX5_resists_55 : decode cX5_resists 55 = .ok (.getfield 50, 3) := dk_180 0 50 (dk_at dksX5_resists_2 10 rfl rfl)
theorem dX5_resists_58 : decode cX5_resists 58 = .ok (.iload_n 3, 1) := dk_29 (dk_at dksX5_resists_2 13 rfl rfl)
theorem dX5_resists_59 : decode cX5_resists 59 = .ok (.invokestatic 320, 3) := dk_184 1 64 (dk_at dksX5_resists_2 14 rfl rfl)
theorem dX5_resists_62 : decode cX5_resists 62 = .ok (.lreturn, 1) := dk_173 (dk_at dksX5_resists_2 17 rfl rfl)
abbrev cX5_share : ByteArray := prog_17_method_70_code
def yX5_share : MethodName := ⟨RX5, "share", "(III)J"⟩
def dkwX5_share_3 : List UInt8 := [22, 4, 9, 148, 154, 0, 8, 29, 133, 167, 0, 14, 22, 4, 42, 27, 182, 1, 26, 29, 184, 1, 64, 173]
abbrev dktX5_share_3 : List UInt8 := dkwX5_share_3 ++ []
def dkwX5_share_2 : List UInt8 := [20, 1, 62, 173, 42, 27, 28, 182, 1, 22, 42, 180, 0, 9, 16, 6, 28, 96, 46, 133, 105, 55, 4]
abbrev dktX5_share_2 : List UInt8 := dkwX5_share_2 ++ dktX5_share_3
def dkwX5_share_1 : List UInt8 := [20, 1, 60, 173, 42, 182, 1, 36, 42, 27, 182, 1, 32, 154, 0, 11, 42, 28, 182, 1, 32, 153, 0, 7]
abbrev dktX5_share_1 : List UInt8 := dkwX5_share_1 ++ dktX5_share_2
def dkwX5_share_0 : List UInt8 := [42, 27, 182, 1, 52, 153, 0, 18, 42, 28, 182, 1, 52, 153, 0, 10, 29, 184, 1, 57, 154, 0, 7]
abbrev dktX5_share_0 : List UInt8 := dkwX5_share_0 ++ dktX5_share_1
theorem dksX5_share_0 : cX5_share.data.toList.drop 0 = dktX5_share_0 := by decide +kernel
theorem dksX5_share_1 : cX5_share.data.toList.drop 23 = dktX5_share_1 := dk_seg dksX5_share_0 23 rfl rfl
theorem dksX5_share_2 : cX5_share.data.toList.drop 47 = dktX5_share_2 := dk_seg dksX5_share_1 24 rfl rfl
theorem dksX5_share_3 : cX5_share.data.toList.drop 70 = dktX5_share_3 := dk_seg dksX5_share_2 23 rfl rfl
theorem dX5_share_0 : decode cX5_share 0 = .ok (.aload_n 0, 1) := dk_42 (dk_at dksX5_share_0 0 rfl rfl)
theorem dX5_share_1 : decode cX5_share 1 = .ok (.iload_n 1, 1) := dk_27 (dk_at dksX5_share_0 1 rfl rfl)
theorem dX5_share_2 : decode cX5_share 2 = .ok (.invokevirtual 308, 3) := dk_182 1 52 (dk_at dksX5_share_0 2 rfl rfl)
theorem dX5_share_5 : decode cX5_share 5 = .ok (.ifCond .eq 18, 3) := dk_153 0 18 (dk_at dksX5_share_0 5 rfl rfl)
theorem dX5_share_8 : decode cX5_share 8 = .ok (.aload_n 0, 1) := dk_42 (dk_at dksX5_share_0 8 rfl rfl)
theorem dX5_share_9 : decode cX5_share 9 = .ok (.iload_n 2, 1) := dk_28 (dk_at dksX5_share_0 9 rfl rfl)
theorem dX5_share_10 : decode cX5_share 10 = .ok (.invokevirtual 308, 3) := dk_182 1 52 (dk_at dksX5_share_0 10 rfl rfl)
theorem dX5_share_13 : decode cX5_share 13 = .ok (.ifCond .eq 10, 3) := dk_153 0 10 (dk_at dksX5_share_0 13 rfl rfl)
theorem dX5_share_16 : decode cX5_share 16 = .ok (.iload_n 3, 1) := dk_29 (dk_at dksX5_share_0 16 rfl rfl)
theorem dX5_share_17 : decode cX5_share 17 = .ok (.invokestatic 313, 3) := dk_184 1 57 (dk_at dksX5_share_0 17 rfl rfl)
theorem dX5_share_20 : decode cX5_share 20 = .ok (.ifCond .ne 7, 3) := dk_154 0 7 (dk_at dksX5_share_0 20 rfl rfl)
theorem dX5_share_23 : decode cX5_share 23 = .ok (.ldc2_w 316, 3) := dk_20 1 60 (dk_at dksX5_share_1 0 rfl rfl)
theorem dX5_share_26 : decode cX5_share 26 = .ok (.lreturn, 1) := dk_173 (dk_at dksX5_share_1 3 rfl rfl)
theorem dX5_share_27 : decode cX5_share 27 = .ok (.aload_n 0, 1) := dk_42 (dk_at dksX5_share_1 4 rfl rfl)
theorem dX5_share_28 : decode cX5_share 28 = .ok (.invokevirtual 292, 3) := dk_182 1 36 (dk_at dksX5_share_1 5 rfl rfl)
theorem dX5_share_31 : decode cX5_share 31 = .ok (.aload_n 0, 1) := dk_42 (dk_at dksX5_share_1 8 rfl rfl)
theorem dX5_share_32 : decode cX5_share 32 = .ok (.iload_n 1, 1) := dk_27 (dk_at dksX5_share_1 9 rfl rfl)
theorem dX5_share_33 : decode cX5_share 33 = .ok (.invokevirtual 288, 3) := dk_182 1 32 (dk_at dksX5_share_1 10 rfl rfl)
theorem dX5_share_36 : decode cX5_share 36 = .ok (.ifCond .ne 11, 3) := dk_154 0 11 (dk_at dksX5_share_1 13 rfl rfl)
theorem dX5_share_39 : decode cX5_share 39 = .ok (.aload_n 0, 1) := dk_42 (dk_at dksX5_share_1 16 rfl rfl)
theorem dX5_share_40 : decode cX5_share 40 = .ok (.iload_n 2, 1) := dk_28 (dk_at dksX5_share_1 17 rfl rfl)
theorem dX5_share_41 : decode cX5_share 41 = .ok (.invokevirtual 288, 3) := dk_182 1 32 (dk_at dksX5_share_1 18 rfl rfl)
theorem dX5_share_44 : decode cX5_share 44 = .ok (.ifCond .eq 7, 3) := dk_153 0 7 (dk_at dksX5_share_1 21 rfl rfl)
theorem dX5_share_47 : decode cX5_share 47 = .ok (.ldc2_w 318, 3) := dk_20 1 62 (dk_at dksX5_share_2 0 rfl rfl)
theorem dX5_share_50 : decode cX5_share 50 = .ok (.lreturn, 1) := dk_173 (dk_at dksX5_share_2 3 rfl rfl)
theorem dX5_share_51 : decode cX5_share 51 = .ok (.aload_n 0, 1) := dk_42 (dk_at dksX5_share_2 4 rfl rfl)
theorem dX5_share_52 : decode cX5_share 52 = .ok (.iload_n 1, 1) := dk_27 (dk_at dksX5_share_2 5 rfl rfl)
theorem dX5_share_53 : decode cX5_share 53 = .ok (.iload_n 2, 1) := dk_28 (dk_at dksX5_share_2 6 rfl rfl)
theorem dX5_share_54 : decode cX5_share 54 = .ok (.invokevirtual 278, 3) := dk_182 1 22 (dk_at dksX5_share_2 7 rfl rfl)
theorem dX5_share_57 : decode cX5_share 57 = .ok (.aload_n 0, 1) := dk_42 (dk_at dksX5_share_2 10 rfl rfl)
theorem dX5_share_58 : decode cX5_share 58 = .ok (.getfield 9, 3) := dk_180 0 9 (dk_at dksX5_share_2 11 rfl rfl)
theorem dX5_share_61 : decode cX5_share 61 = .ok (.bipush 6, 2) := dk_16 6 (dk_at dksX5_share_2 14 rfl rfl)
theorem dX5_share_63 : decode cX5_share 63 = .ok (.iload_n 2, 1) := dk_28 (dk_at dksX5_share_2 16 rfl rfl)
theorem dX5_share_64 : decode cX5_share 64 = .ok (.iadd, 1) := dk_96 (dk_at dksX5_share_2 17 rfl rfl)
theorem dX5_share_65 : decode cX5_share 65 = .ok (.iaload, 1) := dk_46 (dk_at dksX5_share_2 18 rfl rfl)
theorem dX5_share_66 : decode cX5_share 66 = .ok (.i2l, 1) := dk_133 (dk_at dksX5_share_2 19 rfl rfl)
theorem dX5_share_67 : decode cX5_share 67 = .ok (.lmul, 1) := dk_105 (dk_at dksX5_share_2 20 rfl rfl)
theorem dX5_share_68 : decode cX5_share 68 = .ok (.lstore 4, 2) := dk_55 4 (dk_at dksX5_share_2 21 rfl rfl)
theorem dX5_share_70 : decode cX5_share 70 = .ok (.lload 4, 2) := dk_22 4 (dk_at dksX5_share_3 0 rfl rfl)
theorem dX5_share_72 : decode cX5_share 72 = .ok (.lconst 0, 1) := dk_9 (dk_at dksX5_share_3 2 rfl rfl)
theorem dX5_share_73 : decode cX5_share 73 = .ok (.lcmp, 1) := dk_148 (dk_at dksX5_share_3 3 rfl rfl)
theorem dX5_share_74 : decode cX5_share 74 = .ok (.ifCond .ne 8, 3) := dk_154 0 8 (dk_at dksX5_share_3 4 rfl rfl)
theorem dX5_share_77 : decode cX5_share 77 = .ok (.iload_n 3, 1) := dk_29 (dk_at dksX5_share_3 7 rfl rfl)
theorem dX5_share_78 : decode cX5_share 78 = .ok (.i2l, 1) := dk_133 (dk_at dksX5_share_3 8 rfl rfl)
theorem dX5_share_79 : decode cX5_share 79 = .ok (.goto 14, 3) := dk_167 0 14 (dk_at dksX5_share_3 9 rfl rfl)
theorem dX5_share_82 : decode cX5_share 82 = .ok (.lload 4, 2) := dk_22 4 (dk_at dksX5_share_3 12 rfl rfl)
theorem dX5_share_84 : decode cX5_share 84 = .ok (.aload_n 0, 1) := dk_42 (dk_at dksX5_share_3 14 rfl rfl)
theorem dX5_share_85 : decode cX5_share 85 = .ok (.iload_n 1, 1) := dk_27 (dk_at dksX5_share_3 15 rfl rfl)
theorem dX5_share_86 : decode cX5_share 86 = .ok (.invokevirtual 282, 3) := dk_182 1 26 (dk_at dksX5_share_3 16 rfl rfl)
theorem dX5_share_89 : decode cX5_share 89 = .ok (.iload_n 3, 1) := dk_29 (dk_at dksX5_share_3 19 rfl rfl)
theorem dX5_share_90 : decode cX5_share 90 = .ok (.invokestatic 320, 3) := dk_184 1 64 (dk_at dksX5_share_3 20 rfl rfl)
theorem dX5_share_93 : decode cX5_share 93 = .ok (.lreturn, 1) := dk_173 (dk_at dksX5_share_3 23 rfl rfl)
abbrev cX5_feeder : ByteArray := prog_17_method_73_code
def yX5_feeder : MethodName := ⟨RX5, "feeder", "(II)I"⟩
def dkwX5_feeder_2 : List UInt8 := [172]
abbrev dktX5_feeder_2 : List UInt8 := dkwX5_feeder_2 ++ []
def dkwX5_feeder_1 : List UInt8 := [21, 4, 28, 162, 0, 20, 29, 2, 159, 0, 15, 42, 29, 182, 1, 84, 62, 132, 4, 1, 167, 255, 236, 29]
abbrev dktX5_feeder_1 : List UInt8 := dkwX5_feeder_1 ++ dktX5_feeder_2
def dkwX5_feeder_0 : List UInt8 := [42, 27, 182, 1, 52, 153, 0, 7, 28, 156, 0, 6, 16, 254, 172, 42, 182, 1, 36, 27, 62, 3, 54, 4]
abbrev dktX5_feeder_0 : List UInt8 := dkwX5_feeder_0 ++ dktX5_feeder_1
theorem dksX5_feeder_0 : cX5_feeder.data.toList.drop 0 = dktX5_feeder_0 := by decide +kernel
theorem dksX5_feeder_1 : cX5_feeder.data.toList.drop 24 = dktX5_feeder_1 := dk_seg dksX5_feeder_0 24 rfl rfl
theorem dksX5_feeder_2 : cX5_feeder.data.toList.drop 48 = dktX5_feeder_2 := dk_seg dksX5_feeder_1 24 rfl rfl
theorem dX5_feeder_0 : decode cX5_feeder 0 = .ok (.aload_n 0, 1) := dk_42 (dk_at dksX5_feeder_0 0 rfl rfl)
theorem dX5_feeder_1 : decode cX5_feeder 1 = .ok (.iload_n 1, 1) := dk_27 (dk_at dksX5_feeder_0 1 rfl rfl)
theorem dX5_feeder_2 : decode cX5_feeder 2 = .ok (.invokevirtual 308, 3) := dk_182 1 52 (dk_at dksX5_feeder_0 2 rfl rfl)
theorem dX5_feeder_5 : decode cX5_feeder 5 = .ok (.ifCond .eq 7, 3) := dk_153 0 7 (dk_at dksX5_feeder_0 5 rfl rfl)
theorem dX5_feeder_8 : decode cX5_feeder 8 = .ok (.iload_n 2, 1) := dk_28 (dk_at dksX5_feeder_0 8 rfl rfl)
theorem dX5_feeder_9 : decode cX5_feeder 9 = .ok (.ifCond .ge 6, 3) := dk_156 0 6 (dk_at dksX5_feeder_0 9 rfl rfl)
theorem dX5_feeder_12 : decode cX5_feeder 12 = .ok (.bipush (-2), 2) := dk_16 254 (dk_at dksX5_feeder_0 12 rfl rfl)
theorem dX5_feeder_14 : decode cX5_feeder 14 = .ok (.ireturn, 1) := dk_172 (dk_at dksX5_feeder_0 14 rfl rfl)
theorem dX5_feeder_15 : decode cX5_feeder 15 = .ok (.aload_n 0, 1) := dk_42 (dk_at dksX5_feeder_0 15 rfl rfl)
theorem dX5_feeder_16 : decode cX5_feeder 16 = .ok (.invokevirtual 292, 3) := dk_182 1 36 (dk_at dksX5_feeder_0 16 rfl rfl)
theorem dX5_feeder_19 : decode cX5_feeder 19 = .ok (.iload_n 1, 1) := dk_27 (dk_at dksX5_feeder_0 19 rfl rfl)
theorem dX5_feeder_20 : decode cX5_feeder 20 = .ok (.istore_n 3, 1) := dk_62 (dk_at dksX5_feeder_0 20 rfl rfl)
theorem dX5_feeder_21 : decode cX5_feeder 21 = .ok (.iconst 0, 1) := dk_3 (dk_at dksX5_feeder_0 21 rfl rfl)
theorem dX5_feeder_22 : decode cX5_feeder 22 = .ok (.istore 4, 2) := dk_54 4 (dk_at dksX5_feeder_0 22 rfl rfl)
theorem dX5_feeder_24 : decode cX5_feeder 24 = .ok (.iload 4, 2) := dk_21 4 (dk_at dksX5_feeder_1 0 rfl rfl)
theorem dX5_feeder_26 : decode cX5_feeder 26 = .ok (.iload_n 2, 1) := dk_28 (dk_at dksX5_feeder_1 2 rfl rfl)
theorem dX5_feeder_27 : decode cX5_feeder 27 = .ok (.if_icmp .ge 20, 3) := dk_162 0 20 (dk_at dksX5_feeder_1 3 rfl rfl)
theorem dX5_feeder_30 : decode cX5_feeder 30 = .ok (.iload_n 3, 1) := dk_29 (dk_at dksX5_feeder_1 6 rfl rfl)
theorem dX5_feeder_31 : decode cX5_feeder 31 = .ok (.iconst (-1), 1) := dk_2 (dk_at dksX5_feeder_1 7 rfl rfl)
theorem dX5_feeder_32 : decode cX5_feeder 32 = .ok (.if_icmp .eq 15, 3) := dk_159 0 15 (dk_at dksX5_feeder_1 8 rfl rfl)
theorem dX5_feeder_35 : decode cX5_feeder 35 = .ok (.aload_n 0, 1) := dk_42 (dk_at dksX5_feeder_1 11 rfl rfl)
theorem dX5_feeder_36 : decode cX5_feeder 36 = .ok (.iload_n 3, 1) := dk_29 (dk_at dksX5_feeder_1 12 rfl rfl)
theorem dX5_feeder_37 : decode cX5_feeder 37 = .ok (.invokevirtual 340, 3) := dk_182 1 84 (dk_at dksX5_feeder_1 13 rfl rfl)
theorem dX5_feeder_40 : decode cX5_feeder 40 = .ok (.istore_n 3, 1) := dk_62 (dk_at dksX5_feeder_1 16 rfl rfl)
theorem dX5_feeder_41 : decode cX5_feeder 41 = .ok (.iinc 4 1, 3) := dk_132 4 1 (dk_at dksX5_feeder_1 17 rfl rfl)
theorem dX5_feeder_44 : decode cX5_feeder 44 = .ok (.goto (-20), 3) := dk_167 255 236 (dk_at dksX5_feeder_1 20 rfl rfl)
theorem dX5_feeder_47 : decode cX5_feeder 47 = .ok (.iload_n 3, 1) := dk_29 (dk_at dksX5_feeder_1 23 rfl rfl)
theorem dX5_feeder_48 : decode cX5_feeder 48 = .ok (.ireturn, 1) := dk_172 (dk_at dksX5_feeder_2 0 rfl rfl)
abbrev cX5_feederOf : ByteArray := prog_17_method_72_code
def yX5_feederOf : MethodName := ⟨RX5, "feederOf", "(I)I"⟩
def dkwX5_feederOf_3 : List UInt8 := [104, 4, 96, 46, 96, 27, 100, 54, 4, 132, 5, 1, 167, 255, 196, 21, 4, 172]
abbrev dktX5_feederOf_3 : List UInt8 := dkwX5_feederOf_3 ++ []
def dkwX5_feederOf_2 : List UInt8 := [42, 21, 5, 27, 182, 1, 81, 65, 42, 180, 0, 26, 5, 21, 5, 104, 46, 42, 180, 0, 26, 5, 21, 5]
abbrev dktX5_feederOf_2 : List UInt8 := dkwX5_feederOf_2 ++ dktX5_feederOf_3
def dkwX5_feederOf_1 : List UInt8 := [21, 5, 42, 180, 0, 102, 162, 0, 57, 42, 21, 5, 27, 182, 1, 81, 32, 148, 157, 0, 6, 167, 0, 36]
abbrev dktX5_feederOf_1 : List UInt8 := dkwX5_feederOf_1 ++ dktX5_feederOf_2
def dkwX5_feederOf_0 : List UInt8 := [42, 180, 0, 9, 8, 46, 27, 184, 0, 209, 153, 0, 5, 2, 172, 9, 65, 2, 54, 4, 3, 54, 5]
abbrev dktX5_feederOf_0 : List UInt8 := dkwX5_feederOf_0 ++ dktX5_feederOf_1
theorem dksX5_feederOf_0 : cX5_feederOf.data.toList.drop 0 = dktX5_feederOf_0 := by decide +kernel
theorem dksX5_feederOf_1 : cX5_feederOf.data.toList.drop 23 = dktX5_feederOf_1 := dk_seg dksX5_feederOf_0 23 rfl rfl
theorem dksX5_feederOf_2 : cX5_feederOf.data.toList.drop 47 = dktX5_feederOf_2 := dk_seg dksX5_feederOf_1 24 rfl rfl
theorem dksX5_feederOf_3 : cX5_feederOf.data.toList.drop 71 = dktX5_feederOf_3 := dk_seg dksX5_feederOf_2 24 rfl rfl
theorem dX5_feederOf_0 : decode cX5_feederOf 0 = .ok (.aload_n 0, 1) := dk_42 (dk_at dksX5_feederOf_0 0 rfl rfl)
theorem dX5_feederOf_1 : decode cX5_feederOf 1 = .ok (.getfield 9, 3) := dk_180 0 9 (dk_at dksX5_feederOf_0 1 rfl rfl)
theorem dX5_feederOf_4 : decode cX5_feederOf 4 = .ok (.iconst 5, 1) := dk_8 (dk_at dksX5_feederOf_0 4 rfl rfl)
theorem dX5_feederOf_5 : decode cX5_feederOf 5 = .ok (.iaload, 1) := dk_46 (dk_at dksX5_feederOf_0 5 rfl rfl)
theorem dX5_feederOf_6 : decode cX5_feederOf 6 = .ok (.iload_n 1, 1) := dk_27 (dk_at dksX5_feederOf_0 6 rfl rfl)
theorem dX5_feederOf_7 : decode cX5_feederOf 7 = .ok (.invokestatic 209, 3) := dk_184 0 209 (dk_at dksX5_feederOf_0 7 rfl rfl)
theorem dX5_feederOf_10 : decode cX5_feederOf 10 = .ok (.ifCond .eq 5, 3) := dk_153 0 5 (dk_at dksX5_feederOf_0 10 rfl rfl)
theorem dX5_feederOf_13 : decode cX5_feederOf 13 = .ok (.iconst (-1), 1) := dk_2 (dk_at dksX5_feederOf_0 13 rfl rfl)
theorem dX5_feederOf_14 : decode cX5_feederOf 14 = .ok (.ireturn, 1) := dk_172 (dk_at dksX5_feederOf_0 14 rfl rfl)
theorem dX5_feederOf_15 : decode cX5_feederOf 15 = .ok (.lconst 0, 1) := dk_9 (dk_at dksX5_feederOf_0 15 rfl rfl)
theorem dX5_feederOf_16 : decode cX5_feederOf 16 = .ok (.lstore_n 2, 1) := dk_65 (dk_at dksX5_feederOf_0 16 rfl rfl)
theorem dX5_feederOf_17 : decode cX5_feederOf 17 = .ok (.iconst (-1), 1) := dk_2 (dk_at dksX5_feederOf_0 17 rfl rfl)
theorem dX5_feederOf_18 : decode cX5_feederOf 18 = .ok (.istore 4, 2) := dk_54 4 (dk_at dksX5_feederOf_0 18 rfl rfl)
theorem dX5_feederOf_20 : decode cX5_feederOf 20 = .ok (.iconst 0, 1) := dk_3 (dk_at dksX5_feederOf_0 20 rfl rfl)
theorem dX5_feederOf_21 : decode cX5_feederOf 21 = .ok (.istore 5, 2) := dk_54 5 (dk_at dksX5_feederOf_0 21 rfl rfl)
theorem dX5_feederOf_23 : decode cX5_feederOf 23 = .ok (.iload 5, 2) := dk_21 5 (dk_at dksX5_feederOf_1 0 rfl rfl)
theorem dX5_feederOf_25 : decode cX5_feederOf 25 = .ok (.aload_n 0, 1) := dk_42 (dk_at dksX5_feederOf_1 2 rfl rfl)
theorem dX5_feederOf_26 : decode cX5_feederOf 26 = .ok (.getfield 102, 3) := dk_180 0 102 (dk_at dksX5_feederOf_1 3 rfl rfl)
theorem dX5_feederOf_29 : decode cX5_feederOf 29 = .ok (.if_icmp .ge 57, 3) := dk_162 0 57 (dk_at dksX5_feederOf_1 6 rfl rfl)
theorem dX5_feederOf_32 : decode cX5_feederOf 32 = .ok (.aload_n 0, 1) := dk_42 (dk_at dksX5_feederOf_1 9 rfl rfl)
theorem dX5_feederOf_33 : decode cX5_feederOf 33 = .ok (.iload 5, 2) := dk_21 5 (dk_at dksX5_feederOf_1 10 rfl rfl)
theorem dX5_feederOf_35 : decode cX5_feederOf 35 = .ok (.iload_n 1, 1) := dk_27 (dk_at dksX5_feederOf_1 12 rfl rfl)
theorem dX5_feederOf_36 : decode cX5_feederOf 36 = .ok (.invokevirtual 337, 3) := dk_182 1 81 (dk_at dksX5_feederOf_1 13 rfl rfl)
theorem dX5_feederOf_39 : decode cX5_feederOf 39 = .ok (.lload_n 2, 1) := dk_32 (dk_at dksX5_feederOf_1 16 rfl rfl)
theorem dX5_feederOf_40 : decode cX5_feederOf 40 = .ok (.lcmp, 1) := dk_148 (dk_at dksX5_feederOf_1 17 rfl rfl)
theorem dX5_feederOf_41 : decode cX5_feederOf 41 = .ok (.ifCond .gt 6, 3) := dk_157 0 6 (dk_at dksX5_feederOf_1 18 rfl rfl)
theorem dX5_feederOf_44 : decode cX5_feederOf 44 = .ok (.goto 36, 3) := dk_167 0 36 (dk_at dksX5_feederOf_1 21 rfl rfl)
theorem dX5_feederOf_47 : decode cX5_feederOf 47 = .ok (.aload_n 0, 1) := dk_42 (dk_at dksX5_feederOf_2 0 rfl rfl)
theorem dX5_feederOf_48 : decode cX5_feederOf 48 = .ok (.iload 5, 2) := dk_21 5 (dk_at dksX5_feederOf_2 1 rfl rfl)
theorem dX5_feederOf_50 : decode cX5_feederOf 50 = .ok (.iload_n 1, 1) := dk_27 (dk_at dksX5_feederOf_2 3 rfl rfl)
theorem dX5_feederOf_51 : decode cX5_feederOf 51 = .ok (.invokevirtual 337, 3) := dk_182 1 81 (dk_at dksX5_feederOf_2 4 rfl rfl)
theorem dX5_feederOf_54 : decode cX5_feederOf 54 = .ok (.lstore_n 2, 1) := dk_65 (dk_at dksX5_feederOf_2 7 rfl rfl)
theorem dX5_feederOf_55 : decode cX5_feederOf 55 = .ok (.aload_n 0, 1) := dk_42 (dk_at dksX5_feederOf_2 8 rfl rfl)
theorem dX5_feederOf_56 : decode cX5_feederOf 56 = .ok (.getfield 26, 3) := dk_180 0 26 (dk_at dksX5_feederOf_2 9 rfl rfl)
theorem dX5_feederOf_59 : decode cX5_feederOf 59 = .ok (.iconst 2, 1) := dk_5 (dk_at dksX5_feederOf_2 12 rfl rfl)
theorem dX5_feederOf_60 : decode cX5_feederOf 60 = .ok (.iload 5, 2) := dk_21 5 (dk_at dksX5_feederOf_2 13 rfl rfl)
theorem dX5_feederOf_62 : decode cX5_feederOf 62 = .ok (.imul, 1) := dk_104 (dk_at dksX5_feederOf_2 15 rfl rfl)
theorem dX5_feederOf_63 : decode cX5_feederOf 63 = .ok (.iaload, 1) := dk_46 (dk_at dksX5_feederOf_2 16 rfl rfl)
theorem dX5_feederOf_64 : decode cX5_feederOf 64 = .ok (.aload_n 0, 1) := dk_42 (dk_at dksX5_feederOf_2 17 rfl rfl)
theorem dX5_feederOf_65 : decode cX5_feederOf 65 = .ok (.getfield 26, 3) := dk_180 0 26 (dk_at dksX5_feederOf_2 18 rfl rfl)
theorem dX5_feederOf_68 : decode cX5_feederOf 68 = .ok (.iconst 2, 1) := dk_5 (dk_at dksX5_feederOf_2 21 rfl rfl)
theorem dX5_feederOf_69 : decode cX5_feederOf 69 = .ok (.iload 5, 2) := dk_21 5 (dk_at dksX5_feederOf_2 22 rfl rfl)
theorem dX5_feederOf_71 : decode cX5_feederOf 71 = .ok (.imul, 1) := dk_104 (dk_at dksX5_feederOf_3 0 rfl rfl)
theorem dX5_feederOf_72 : decode cX5_feederOf 72 = .ok (.iconst 1, 1) := dk_4 (dk_at dksX5_feederOf_3 1 rfl rfl)
theorem dX5_feederOf_73 : decode cX5_feederOf 73 = .ok (.iadd, 1) := dk_96 (dk_at dksX5_feederOf_3 2 rfl rfl)
theorem dX5_feederOf_74 : decode cX5_feederOf 74 = .ok (.iaload, 1) := dk_46 (dk_at dksX5_feederOf_3 3 rfl rfl)
theorem dX5_feederOf_75 : decode cX5_feederOf 75 = .ok (.iadd, 1) := dk_96 (dk_at dksX5_feederOf_3 4 rfl rfl)
theorem dX5_feederOf_76 : decode cX5_feederOf 76 = .ok (.iload_n 1, 1) := dk_27 (dk_at dksX5_feederOf_3 5 rfl rfl)
theorem dX5_feederOf_77 : decode cX5_feederOf 77 = .ok (.isub, 1) := dk_100 (dk_at dksX5_feederOf_3 6 rfl rfl)
theorem dX5_feederOf_78 : decode cX5_feederOf 78 = .ok (.istore 4, 2) := dk_54 4 (dk_at dksX5_feederOf_3 7 rfl rfl)
theorem dX5_feederOf_80 : decode cX5_feederOf 80 = .ok (.iinc 5 1, 3) := dk_132 5 1 (dk_at dksX5_feederOf_3 9 rfl rfl)
theorem dX5_feederOf_83 : decode cX5_feederOf 83 = .ok (.goto (-60), 3) := dk_167 255 196 (dk_at dksX5_feederOf_3 12 rfl rfl)
theorem dX5_feederOf_86 : decode cX5_feederOf 86 = .ok (.iload 4, 2) := dk_21 4 (dk_at dksX5_feederOf_3 15 rfl rfl)
theorem dX5_feederOf_88 : decode cX5_feederOf 88 = .ok (.ireturn, 1) := dk_172 (dk_at dksX5_feederOf_3 17 rfl rfl)
abbrev cX5_comesBy : ByteArray := prog_17_method_71_code
def yX5_comesBy : MethodName := ⟨RX5, "comesBy", "(II)J"⟩
def dkwX5_comesBy_1 : List UInt8 := [180, 0, 26, 5, 27, 104, 46, 28, 160, 0, 12, 42, 27, 182, 1, 72, 117, 167, 0, 4, 9, 173]
abbrev dktX5_comesBy_1 : List UInt8 := dkwX5_comesBy_1 ++ []
def dkwX5_comesBy_0 : List UInt8 := [42, 180, 0, 26, 5, 27, 104, 4, 96, 46, 28, 160, 0, 11, 42, 27, 182, 1, 72, 167, 0, 25, 42]
abbrev dktX5_comesBy_0 : List UInt8 := dkwX5_comesBy_0 ++ dktX5_comesBy_1
theorem dksX5_comesBy_0 : cX5_comesBy.data.toList.drop 0 = dktX5_comesBy_0 := by decide +kernel
theorem dksX5_comesBy_1 : cX5_comesBy.data.toList.drop 23 = dktX5_comesBy_1 := dk_seg dksX5_comesBy_0 23 rfl rfl
theorem dX5_comesBy_0 : decode cX5_comesBy 0 = .ok (.aload_n 0, 1) := dk_42 (dk_at dksX5_comesBy_0 0 rfl rfl)
theorem dX5_comesBy_1 : decode cX5_comesBy 1 = .ok (.getfield 26, 3) := dk_180 0 26 (dk_at dksX5_comesBy_0 1 rfl rfl)
theorem dX5_comesBy_4 : decode cX5_comesBy 4 = .ok (.iconst 2, 1) := dk_5 (dk_at dksX5_comesBy_0 4 rfl rfl)
theorem dX5_comesBy_5 : decode cX5_comesBy 5 = .ok (.iload_n 1, 1) := dk_27 (dk_at dksX5_comesBy_0 5 rfl rfl)
theorem dX5_comesBy_6 : decode cX5_comesBy 6 = .ok (.imul, 1) := dk_104 (dk_at dksX5_comesBy_0 6 rfl rfl)
theorem dX5_comesBy_7 : decode cX5_comesBy 7 = .ok (.iconst 1, 1) := dk_4 (dk_at dksX5_comesBy_0 7 rfl rfl)
theorem dX5_comesBy_8 : decode cX5_comesBy 8 = .ok (.iadd, 1) := dk_96 (dk_at dksX5_comesBy_0 8 rfl rfl)
theorem dX5_comesBy_9 : decode cX5_comesBy 9 = .ok (.iaload, 1) := dk_46 (dk_at dksX5_comesBy_0 9 rfl rfl)
theorem dX5_comesBy_10 : decode cX5_comesBy 10 = .ok (.iload_n 2, 1) := dk_28 (dk_at dksX5_comesBy_0 10 rfl rfl)
theorem dX5_comesBy_11 : decode cX5_comesBy 11 = .ok (.if_icmp .ne 11, 3) := dk_160 0 11 (dk_at dksX5_comesBy_0 11 rfl rfl)
theorem dX5_comesBy_14 : decode cX5_comesBy 14 = .ok (.aload_n 0, 1) := dk_42 (dk_at dksX5_comesBy_0 14 rfl rfl)
theorem dX5_comesBy_15 : decode cX5_comesBy 15 = .ok (.iload_n 1, 1) := dk_27 (dk_at dksX5_comesBy_0 15 rfl rfl)
theorem dX5_comesBy_16 : decode cX5_comesBy 16 = .ok (.invokevirtual 328, 3) := dk_182 1 72 (dk_at dksX5_comesBy_0 16 rfl rfl)
theorem dX5_comesBy_19 : decode cX5_comesBy 19 = .ok (.goto 25, 3) := dk_167 0 25 (dk_at dksX5_comesBy_0 19 rfl rfl)
theorem dX5_comesBy_22 : decode cX5_comesBy 22 = .ok (.aload_n 0, 1) := dk_42 (dk_at dksX5_comesBy_0 22 rfl rfl)
theorem dX5_comesBy_23 : decode cX5_comesBy 23 = .ok (.getfield 26, 3) := dk_180 0 26 (dk_at dksX5_comesBy_1 0 rfl rfl)
theorem dX5_comesBy_26 : decode cX5_comesBy 26 = .ok (.iconst 2, 1) := dk_5 (dk_at dksX5_comesBy_1 3 rfl rfl)
theorem dX5_comesBy_27 : decode cX5_comesBy 27 = .ok (.iload_n 1, 1) := dk_27 (dk_at dksX5_comesBy_1 4 rfl rfl)
theorem dX5_comesBy_28 : decode cX5_comesBy 28 = .ok (.imul, 1) := dk_104 (dk_at dksX5_comesBy_1 5 rfl rfl)
theorem dX5_comesBy_29 : decode cX5_comesBy 29 = .ok (.iaload, 1) := dk_46 (dk_at dksX5_comesBy_1 6 rfl rfl)
theorem dX5_comesBy_30 : decode cX5_comesBy 30 = .ok (.iload_n 2, 1) := dk_28 (dk_at dksX5_comesBy_1 7 rfl rfl)
theorem dX5_comesBy_31 : decode cX5_comesBy 31 = .ok (.if_icmp .ne 12, 3) := dk_160 0 12 (dk_at dksX5_comesBy_1 8 rfl rfl)
theorem dX5_comesBy_34 : decode cX5_comesBy 34 = .ok (.aload_n 0, 1) := dk_42 (dk_at dksX5_comesBy_1 11 rfl rfl)
theorem dX5_comesBy_35 : decode cX5_comesBy 35 = .ok (.iload_n 1, 1) := dk_27 (dk_at dksX5_comesBy_1 12 rfl rfl)
theorem dX5_comesBy_36 : decode cX5_comesBy 36 = .ok (.invokevirtual 328, 3) := dk_182 1 72 (dk_at dksX5_comesBy_1 13 rfl rfl)
theorem dX5_comesBy_39 : decode cX5_comesBy 39 = .ok (.lneg, 1) := dk_117 (dk_at dksX5_comesBy_1 16 rfl rfl)
theorem dX5_comesBy_40 : decode cX5_comesBy 40 = .ok (.goto 4, 3) := dk_167 0 4 (dk_at dksX5_comesBy_1 17 rfl rfl)
theorem dX5_comesBy_43 : decode cX5_comesBy 43 = .ok (.lconst 0, 1) := dk_9 (dk_at dksX5_comesBy_1 20 rfl rfl)
theorem dX5_comesBy_44 : decode cX5_comesBy 44 = .ok (.lreturn, 1) := dk_173 (dk_at dksX5_comesBy_1 21 rfl rfl)
abbrev cX5_parts : ByteArray := prog_17_method_74_code
def yX5_parts : MethodName := ⟨RX5, "parts", "()I"⟩
def dkwX5_parts_2 : List UInt8 := [182, 1, 7, 128, 61, 132, 1, 1, 132, 3, 1, 167, 255, 221, 27, 172]
abbrev dktX5_parts_2 : List UInt8 := dkwX5_parts_2 ++ []
def dkwX5_parts_1 : List UInt8 := [182, 0, 98, 162, 0, 33, 28, 29, 184, 0, 209, 153, 0, 6, 167, 0, 16, 28, 42, 4, 29, 120]
abbrev dktX5_parts_1 : List UInt8 := dkwX5_parts_1 ++ dktX5_parts_2
def dkwX5_parts_0 : List UInt8 := [42, 182, 0, 109, 154, 0, 6, 16, 254, 172, 42, 182, 0, 116, 87, 3, 60, 3, 61, 3, 62, 29, 42]
abbrev dktX5_parts_0 : List UInt8 := dkwX5_parts_0 ++ dktX5_parts_1
theorem dksX5_parts_0 : cX5_parts.data.toList.drop 0 = dktX5_parts_0 := by decide +kernel
theorem dksX5_parts_1 : cX5_parts.data.toList.drop 23 = dktX5_parts_1 := dk_seg dksX5_parts_0 23 rfl rfl
theorem dksX5_parts_2 : cX5_parts.data.toList.drop 45 = dktX5_parts_2 := dk_seg dksX5_parts_1 22 rfl rfl
theorem dX5_parts_0 : decode cX5_parts 0 = .ok (.aload_n 0, 1) := dk_42 (dk_at dksX5_parts_0 0 rfl rfl)
theorem dX5_parts_1 : decode cX5_parts 1 = .ok (.invokevirtual 109, 3) := dk_182 0 109 (dk_at dksX5_parts_0 1 rfl rfl)
theorem dX5_parts_4 : decode cX5_parts 4 = .ok (.ifCond .ne 6, 3) := dk_154 0 6 (dk_at dksX5_parts_0 4 rfl rfl)
theorem dX5_parts_7 : decode cX5_parts 7 = .ok (.bipush (-2), 2) := dk_16 254 (dk_at dksX5_parts_0 7 rfl rfl)
theorem dX5_parts_9 : decode cX5_parts 9 = .ok (.ireturn, 1) := dk_172 (dk_at dksX5_parts_0 9 rfl rfl)
theorem dX5_parts_10 : decode cX5_parts 10 = .ok (.aload_n 0, 1) := dk_42 (dk_at dksX5_parts_0 10 rfl rfl)
theorem dX5_parts_11 : decode cX5_parts 11 = .ok (.invokevirtual 116, 3) := dk_182 0 116 (dk_at dksX5_parts_0 11 rfl rfl)
theorem dX5_parts_14 : decode cX5_parts 14 = .ok (.pop, 1) := dk_87 (dk_at dksX5_parts_0 14 rfl rfl)
theorem dX5_parts_15 : decode cX5_parts 15 = .ok (.iconst 0, 1) := dk_3 (dk_at dksX5_parts_0 15 rfl rfl)
theorem dX5_parts_16 : decode cX5_parts 16 = .ok (.istore_n 1, 1) := dk_60 (dk_at dksX5_parts_0 16 rfl rfl)
theorem dX5_parts_17 : decode cX5_parts 17 = .ok (.iconst 0, 1) := dk_3 (dk_at dksX5_parts_0 17 rfl rfl)
theorem dX5_parts_18 : decode cX5_parts 18 = .ok (.istore_n 2, 1) := dk_61 (dk_at dksX5_parts_0 18 rfl rfl)
theorem dX5_parts_19 : decode cX5_parts 19 = .ok (.iconst 0, 1) := dk_3 (dk_at dksX5_parts_0 19 rfl rfl)
theorem dX5_parts_20 : decode cX5_parts 20 = .ok (.istore_n 3, 1) := dk_62 (dk_at dksX5_parts_0 20 rfl rfl)
theorem dX5_parts_21 : decode cX5_parts 21 = .ok (.iload_n 3, 1) := dk_29 (dk_at dksX5_parts_0 21 rfl rfl)
theorem dX5_parts_22 : decode cX5_parts 22 = .ok (.aload_n 0, 1) := dk_42 (dk_at dksX5_parts_0 22 rfl rfl)
theorem dX5_parts_23 : decode cX5_parts 23 = .ok (.invokevirtual 98, 3) := dk_182 0 98 (dk_at dksX5_parts_1 0 rfl rfl)
theorem dX5_parts_26 : decode cX5_parts 26 = .ok (.if_icmp .ge 33, 3) := dk_162 0 33 (dk_at dksX5_parts_1 3 rfl rfl)
theorem dX5_parts_29 : decode cX5_parts 29 = .ok (.iload_n 2, 1) := dk_28 (dk_at dksX5_parts_1 6 rfl rfl)
theorem dX5_parts_30 : decode cX5_parts 30 = .ok (.iload_n 3, 1) := dk_29 (dk_at dksX5_parts_1 7 rfl rfl)
theorem dX5_parts_31 : decode cX5_parts 31 = .ok (.invokestatic 209, 3) := dk_184 0 209 (dk_at dksX5_parts_1 8 rfl rfl)
theorem dX5_parts_34 : decode cX5_parts 34 = .ok (.ifCond .eq 6, 3) := dk_153 0 6 (dk_at dksX5_parts_1 11 rfl rfl)
theorem dX5_parts_37 : decode cX5_parts 37 = .ok (.goto 16, 3) := dk_167 0 16 (dk_at dksX5_parts_1 14 rfl rfl)
theorem dX5_parts_40 : decode cX5_parts 40 = .ok (.iload_n 2, 1) := dk_28 (dk_at dksX5_parts_1 17 rfl rfl)
theorem dX5_parts_41 : decode cX5_parts 41 = .ok (.aload_n 0, 1) := dk_42 (dk_at dksX5_parts_1 18 rfl rfl)
theorem dX5_parts_42 : decode cX5_parts 42 = .ok (.iconst 1, 1) := dk_4 (dk_at dksX5_parts_1 19 rfl rfl)
theorem dX5_parts_43 : decode cX5_parts 43 = .ok (.iload_n 3, 1) := dk_29 (dk_at dksX5_parts_1 20 rfl rfl)
theorem dX5_parts_44 : decode cX5_parts 44 = .ok (.ishl, 1) := dk_120 (dk_at dksX5_parts_1 21 rfl rfl)
theorem dX5_parts_45 : decode cX5_parts 45 = .ok (.invokevirtual 263, 3) := dk_182 1 7 (dk_at dksX5_parts_2 0 rfl rfl)
theorem dX5_parts_48 : decode cX5_parts 48 = .ok (.ior, 1) := dk_128 (dk_at dksX5_parts_2 3 rfl rfl)
theorem dX5_parts_49 : decode cX5_parts 49 = .ok (.istore_n 2, 1) := dk_61 (dk_at dksX5_parts_2 4 rfl rfl)
theorem dX5_parts_50 : decode cX5_parts 50 = .ok (.iinc 1 1, 3) := dk_132 1 1 (dk_at dksX5_parts_2 5 rfl rfl)
theorem dX5_parts_53 : decode cX5_parts 53 = .ok (.iinc 3 1, 3) := dk_132 3 1 (dk_at dksX5_parts_2 8 rfl rfl)
theorem dX5_parts_56 : decode cX5_parts 56 = .ok (.goto (-35), 3) := dk_167 255 221 (dk_at dksX5_parts_2 11 rfl rfl)
theorem dX5_parts_59 : decode cX5_parts 59 = .ok (.iload_n 1, 1) := dk_27 (dk_at dksX5_parts_2 14 rfl rfl)
theorem dX5_parts_60 : decode cX5_parts 60 = .ok (.ireturn, 1) := dk_172 (dk_at dksX5_parts_2 15 rfl rfl)
abbrev cX5_reached : ByteArray := prog_17_method_75_code
def yX5_reached : MethodName := ⟨RX5, "reached", "(I)I"⟩
def dkwX5_reached_0 : List UInt8 := [42, 27, 182, 1, 52, 154, 0, 6, 16, 254, 172, 42, 182, 0, 116, 87, 42, 4, 27, 120, 182, 1, 7, 172]
abbrev dktX5_reached_0 : List UInt8 := dkwX5_reached_0 ++ []
theorem dksX5_reached_0 : cX5_reached.data.toList.drop 0 = dktX5_reached_0 := by decide +kernel
theorem dX5_reached_0 : decode cX5_reached 0 = .ok (.aload_n 0, 1) := dk_42 (dk_at dksX5_reached_0 0 rfl rfl)
theorem dX5_reached_1 : decode cX5_reached 1 = .ok (.iload_n 1, 1) := dk_27 (dk_at dksX5_reached_0 1 rfl rfl)
theorem dX5_reached_2 : decode cX5_reached 2 = .ok (.invokevirtual 308, 3) := dk_182 1 52 (dk_at dksX5_reached_0 2 rfl rfl)
theorem dX5_reached_5 : decode cX5_reached 5 = .ok (.ifCond .ne 6, 3) := dk_154 0 6 (dk_at dksX5_reached_0 5 rfl rfl)
theorem dX5_reached_8 : decode cX5_reached 8 = .ok (.bipush (-2), 2) := dk_16 254 (dk_at dksX5_reached_0 8 rfl rfl)
theorem dX5_reached_10 : decode cX5_reached 10 = .ok (.ireturn, 1) := dk_172 (dk_at dksX5_reached_0 10 rfl rfl)
theorem dX5_reached_11 : decode cX5_reached 11 = .ok (.aload_n 0, 1) := dk_42 (dk_at dksX5_reached_0 11 rfl rfl)
theorem dX5_reached_12 : decode cX5_reached 12 = .ok (.invokevirtual 116, 3) := dk_182 0 116 (dk_at dksX5_reached_0 12 rfl rfl)
theorem dX5_reached_15 : decode cX5_reached 15 = .ok (.pop, 1) := dk_87 (dk_at dksX5_reached_0 15 rfl rfl)
theorem dX5_reached_16 : decode cX5_reached 16 = .ok (.aload_n 0, 1) := dk_42 (dk_at dksX5_reached_0 16 rfl rfl)
theorem dX5_reached_17 : decode cX5_reached 17 = .ok (.iconst 1, 1) := dk_4 (dk_at dksX5_reached_0 17 rfl rfl)
theorem dX5_reached_18 : decode cX5_reached 18 = .ok (.iload_n 1, 1) := dk_27 (dk_at dksX5_reached_0 18 rfl rfl)
theorem dX5_reached_19 : decode cX5_reached 19 = .ok (.ishl, 1) := dk_120 (dk_at dksX5_reached_0 19 rfl rfl)
theorem dX5_reached_20 : decode cX5_reached 20 = .ok (.invokevirtual 263, 3) := dk_182 1 7 (dk_at dksX5_reached_0 20 rfl rfl)
theorem dX5_reached_23 : decode cX5_reached 23 = .ok (.ireturn, 1) := dk_172 (dk_at dksX5_reached_0 23 rfl rfl)
abbrev cX5_most : ByteArray := prog_17_method_79_code
def yX5_most : MethodName := ⟨RX5, "most", "(II)J"⟩
def dkwX5_most_2 : List UInt8 := [184, 1, 64, 173]
abbrev dktX5_most_2 : List UInt8 := dkwX5_most_2 ++ []
def dkwX5_most_1 : List UInt8 := [27, 182, 1, 32, 153, 0, 9, 20, 1, 62, 167, 0, 16, 42, 27, 182, 1, 93, 42, 180, 0, 50, 28]
abbrev dktX5_most_1 : List UInt8 := dkwX5_most_1 ++ dktX5_most_2
def dkwX5_most_0 : List UInt8 := [42, 27, 182, 1, 52, 153, 0, 10, 28, 184, 1, 57, 154, 0, 7, 20, 1, 60, 173, 42, 182, 1, 36, 42]
abbrev dktX5_most_0 : List UInt8 := dkwX5_most_0 ++ dktX5_most_1
theorem dksX5_most_0 : cX5_most.data.toList.drop 0 = dktX5_most_0 := by decide +kernel
theorem dksX5_most_1 : cX5_most.data.toList.drop 24 = dktX5_most_1 := dk_seg dksX5_most_0 24 rfl rfl
theorem dksX5_most_2 : cX5_most.data.toList.drop 47 = dktX5_most_2 := dk_seg dksX5_most_1 23 rfl rfl
theorem dX5_most_0 : decode cX5_most 0 = .ok (.aload_n 0, 1) := dk_42 (dk_at dksX5_most_0 0 rfl rfl)
theorem dX5_most_1 : decode cX5_most 1 = .ok (.iload_n 1, 1) := dk_27 (dk_at dksX5_most_0 1 rfl rfl)
theorem dX5_most_2 : decode cX5_most 2 = .ok (.invokevirtual 308, 3) := dk_182 1 52 (dk_at dksX5_most_0 2 rfl rfl)
theorem dX5_most_5 : decode cX5_most 5 = .ok (.ifCond .eq 10, 3) := dk_153 0 10 (dk_at dksX5_most_0 5 rfl rfl)
theorem dX5_most_8 : decode cX5_most 8 = .ok (.iload_n 2, 1) := dk_28 (dk_at dksX5_most_0 8 rfl rfl)
theorem dX5_most_9 : decode cX5_most 9 = .ok (.invokestatic 313, 3) := dk_184 1 57 (dk_at dksX5_most_0 9 rfl rfl)
theorem dX5_most_12 : decode cX5_most 12 = .ok (.ifCond .ne 7, 3) := dk_154 0 7 (dk_at dksX5_most_0 12 rfl rfl)
theorem dX5_most_15 : decode cX5_most 15 = .ok (.ldc2_w 316, 3) := dk_20 1 60 (dk_at dksX5_most_0 15 rfl rfl)
theorem dX5_most_18 : decode cX5_most 18 = .ok (.lreturn, 1) := dk_173 (dk_at dksX5_most_0 18 rfl rfl)
theorem dX5_most_19 : decode cX5_most 19 = .ok (.aload_n 0, 1) := dk_42 (dk_at dksX5_most_0 19 rfl rfl)
theorem dX5_most_20 : decode cX5_most 20 = .ok (.invokevirtual 292, 3) := dk_182 1 36 (dk_at dksX5_most_0 20 rfl rfl)
theorem dX5_most_23 : decode cX5_most 23 = .ok (.aload_n 0, 1) := dk_42 (dk_at dksX5_most_0 23 rfl rfl)
theorem dX5_most_24 : decode cX5_most 24 = .ok (.iload_n 1, 1) := dk_27 (dk_at dksX5_most_1 0 rfl rfl)
theorem dX5_most_25 : decode cX5_most 25 = .ok (.invokevirtual 288, 3) := dk_182 1 32 (dk_at dksX5_most_1 1 rfl rfl)
theorem dX5_most_28 : decode cX5_most 28 = .ok (.ifCond .eq 9, 3) := dk_153 0 9 (dk_at dksX5_most_1 4 rfl rfl)
theorem dX5_most_31 : decode cX5_most 31 = .ok (.ldc2_w 318, 3) := dk_20 1 62 (dk_at dksX5_most_1 7 rfl rfl)
theorem dX5_most_34 : decode cX5_most 34 = .ok (.goto 16, 3) := dk_167 0 16 (dk_at dksX5_most_1 10 rfl rfl)
theorem dX5_most_37 : decode cX5_most 37 = .ok (.aload_n 0, 1) := dk_42 (dk_at dksX5_most_1 13 rfl rfl)
theorem dX5_most_38 : decode cX5_most 38 = .ok (.iload_n 1, 1) := dk_27 (dk_at dksX5_most_1 14 rfl rfl)
theorem dX5_most_39 : decode cX5_most 39 = .ok (.invokevirtual 349, 3) := dk_182 1 93 (dk_at dksX5_most_1 15 rfl rfl)
theorem dX5_most_42 : decode cX5_most 42 = .ok (.aload_n 0, 1) := dk_42 (dk_at dksX5_most_1 18 rfl rfl)
theorem dX5_most_43 : decode cX5_most 43 = .ok (.getfield 50, 3) := dk_180 0 50 (dk_at dksX5_most_1 19 rfl rfl)
theorem dX5_most_46 : decode cX5_most 46 = .ok (.iload_n 2, 1) := dk_28 (dk_at dksX5_most_1 22 rfl rfl)
theorem dX5_most_47 : decode cX5_most 47 = .ok (.invokestatic 320, 3) := dk_184 1 64 (dk_at dksX5_most_2 0 rfl rfl)
theorem dX5_most_50 : decode cX5_most 50 = .ok (.lreturn, 1) := dk_173 (dk_at dksX5_most_2 3 rfl rfl)
abbrev cX5_mostOf : ByteArray := prog_17_method_78_code
def yX5_mostOf : MethodName := ⟨RX5, "mostOf", "(I)J"⟩
def dkwX5_mostOf_1 : List UInt8 := [182, 1, 22, 42, 180, 0, 57, 21, 4, 46, 133, 105, 97, 65, 132, 4, 1, 167, 255, 225, 32, 173]
abbrev dktX5_mostOf_1 : List UInt8 := dkwX5_mostOf_1 ++ []
def dkwX5_mostOf_0 : List UInt8 := [42, 27, 182, 1, 91, 9, 65, 3, 54, 4, 21, 4, 42, 182, 0, 98, 162, 0, 28, 32, 42, 27, 21, 4]
abbrev dktX5_mostOf_0 : List UInt8 := dkwX5_mostOf_0 ++ dktX5_mostOf_1
theorem dksX5_mostOf_0 : cX5_mostOf.data.toList.drop 0 = dktX5_mostOf_0 := by decide +kernel
theorem dksX5_mostOf_1 : cX5_mostOf.data.toList.drop 24 = dktX5_mostOf_1 := dk_seg dksX5_mostOf_0 24 rfl rfl
theorem dX5_mostOf_0 : decode cX5_mostOf 0 = .ok (.aload_n 0, 1) := dk_42 (dk_at dksX5_mostOf_0 0 rfl rfl)
theorem dX5_mostOf_1 : decode cX5_mostOf 1 = .ok (.iload_n 1, 1) := dk_27 (dk_at dksX5_mostOf_0 1 rfl rfl)
theorem dX5_mostOf_2 : decode cX5_mostOf 2 = .ok (.invokevirtual 347, 3) := dk_182 1 91 (dk_at dksX5_mostOf_0 2 rfl rfl)
theorem dX5_mostOf_5 : decode cX5_mostOf 5 = .ok (.lconst 0, 1) := dk_9 (dk_at dksX5_mostOf_0 5 rfl rfl)
theorem dX5_mostOf_6 : decode cX5_mostOf 6 = .ok (.lstore_n 2, 1) := dk_65 (dk_at dksX5_mostOf_0 6 rfl rfl)
theorem dX5_mostOf_7 : decode cX5_mostOf 7 = .ok (.iconst 0, 1) := dk_3 (dk_at dksX5_mostOf_0 7 rfl rfl)
theorem dX5_mostOf_8 : decode cX5_mostOf 8 = .ok (.istore 4, 2) := dk_54 4 (dk_at dksX5_mostOf_0 8 rfl rfl)
theorem dX5_mostOf_10 : decode cX5_mostOf 10 = .ok (.iload 4, 2) := dk_21 4 (dk_at dksX5_mostOf_0 10 rfl rfl)
theorem dX5_mostOf_12 : decode cX5_mostOf 12 = .ok (.aload_n 0, 1) := dk_42 (dk_at dksX5_mostOf_0 12 rfl rfl)
theorem dX5_mostOf_13 : decode cX5_mostOf 13 = .ok (.invokevirtual 98, 3) := dk_182 0 98 (dk_at dksX5_mostOf_0 13 rfl rfl)
theorem dX5_mostOf_16 : decode cX5_mostOf 16 = .ok (.if_icmp .ge 28, 3) := dk_162 0 28 (dk_at dksX5_mostOf_0 16 rfl rfl)
theorem dX5_mostOf_19 : decode cX5_mostOf 19 = .ok (.lload_n 2, 1) := dk_32 (dk_at dksX5_mostOf_0 19 rfl rfl)
theorem dX5_mostOf_20 : decode cX5_mostOf 20 = .ok (.aload_n 0, 1) := dk_42 (dk_at dksX5_mostOf_0 20 rfl rfl)
theorem dX5_mostOf_21 : decode cX5_mostOf 21 = .ok (.iload_n 1, 1) := dk_27 (dk_at dksX5_mostOf_0 21 rfl rfl)
theorem dX5_mostOf_22 : decode cX5_mostOf 22 = .ok (.iload 4, 2) := dk_21 4 (dk_at dksX5_mostOf_0 22 rfl rfl)
theorem dX5_mostOf_24 : decode cX5_mostOf 24 = .ok (.invokevirtual 278, 3) := dk_182 1 22 (dk_at dksX5_mostOf_1 0 rfl rfl)
theorem dX5_mostOf_27 : decode cX5_mostOf 27 = .ok (.aload_n 0, 1) := dk_42 (dk_at dksX5_mostOf_1 3 rfl rfl)
theorem dX5_mostOf_28 : decode cX5_mostOf 28 = .ok (.getfield 57, 3) := dk_180 0 57 (dk_at dksX5_mostOf_1 4 rfl rfl)
theorem dX5_mostOf_31 : decode cX5_mostOf 31 = .ok (.iload 4, 2) := dk_21 4 (dk_at dksX5_mostOf_1 7 rfl rfl)
theorem dX5_mostOf_33 : decode cX5_mostOf 33 = .ok (.iaload, 1) := dk_46 (dk_at dksX5_mostOf_1 9 rfl rfl)
theorem dX5_mostOf_34 : decode cX5_mostOf 34 = .ok (.i2l, 1) := dk_133 (dk_at dksX5_mostOf_1 10 rfl rfl)
theorem dX5_mostOf_35 : decode cX5_mostOf 35 = .ok (.lmul, 1) := dk_105 (dk_at dksX5_mostOf_1 11 rfl rfl)
theorem dX5_mostOf_36 : decode cX5_mostOf 36 = .ok (.ladd, 1) := dk_97 (dk_at dksX5_mostOf_1 12 rfl rfl)
theorem dX5_mostOf_37 : decode cX5_mostOf 37 = .ok (.lstore_n 2, 1) := dk_65 (dk_at dksX5_mostOf_1 13 rfl rfl)
theorem dX5_mostOf_38 : decode cX5_mostOf 38 = .ok (.iinc 4 1, 3) := dk_132 4 1 (dk_at dksX5_mostOf_1 14 rfl rfl)
theorem dX5_mostOf_41 : decode cX5_mostOf 41 = .ok (.goto (-31), 3) := dk_167 255 225 (dk_at dksX5_mostOf_1 17 rfl rfl)
theorem dX5_mostOf_44 : decode cX5_mostOf 44 = .ok (.lload_n 2, 1) := dk_32 (dk_at dksX5_mostOf_1 20 rfl rfl)
theorem dX5_mostOf_45 : decode cX5_mostOf 45 = .ok (.lreturn, 1) := dk_173 (dk_at dksX5_mostOf_1 21 rfl rfl)
abbrev cX5_draws : ByteArray := prog_17_method_77_code
def yX5_draws : MethodName := ⟨RX5, "draws", "(I)V"⟩
def dkwX5_draws_9 : List UInt8 := [21, 6, 100, 79, 132, 3, 1, 167, 255, 160, 177]
abbrev dktX5_draws_9 : List UInt8 := dkwX5_draws_9 ++ []
def dkwX5_draws_8 : List UInt8 := [180, 0, 60, 3, 92, 46, 21, 6, 100, 79, 21, 5, 158, 0, 15, 42, 180, 0, 60, 21, 5, 92, 46]
abbrev dktX5_draws_8 : List UInt8 := dkwX5_draws_8 ++ dktX5_draws_9
def dkwX5_draws_7 : List UInt8 := [180, 0, 60, 21, 5, 46, 184, 0, 119, 184, 0, 119, 54, 6, 42, 180, 0, 57, 21, 4, 21, 6, 79, 42]
abbrev dktX5_draws_7 : List UInt8 := dkwX5_draws_7 ++ dktX5_draws_8
def dkwX5_draws_6 : List UInt8 := [21, 4, 96, 46, 54, 5, 42, 180, 0, 9, 16, 6, 21, 4, 96, 46, 42, 180, 0, 60, 3, 46, 42]
abbrev dktX5_draws_6 : List UInt8 := dkwX5_draws_6 ++ dktX5_draws_7
def dkwX5_draws_5 : List UInt8 := [167, 255, 233, 3, 62, 29, 28, 162, 0, 97, 42, 180, 0, 54, 29, 46, 54, 4, 42, 180, 0, 9, 16, 15]
abbrev dktX5_draws_5 : List UInt8 := dkwX5_draws_5 ++ dktX5_draws_6
def dkwX5_draws_4 : List UInt8 := [62, 29, 7, 162, 0, 24, 42, 180, 0, 60, 29, 42, 180, 0, 9, 16, 24, 29, 96, 46, 79, 132, 3, 1]
abbrev dktX5_draws_4 : List UInt8 := dkwX5_draws_4 ++ dktX5_draws_5
def dkwX5_draws_3 : List UInt8 := [132, 4, 255, 167, 255, 214, 42, 180, 0, 54, 21, 4, 29, 79, 132, 2, 1, 132, 3, 1, 167, 255, 168, 3]
abbrev dktX5_draws_3 : List UInt8 := dkwX5_draws_3 ++ dktX5_draws_4
def dkwX5_draws_2 : List UInt8 := [100, 46, 182, 1, 87, 153, 0, 25, 42, 180, 0, 54, 21, 4, 42, 180, 0, 54, 21, 4, 4, 100, 46, 79]
abbrev dktX5_draws_2 : List UInt8 := dkwX5_draws_2 ++ dktX5_draws_3
def dkwX5_draws_1 : List UInt8 := [153, 0, 6, 167, 0, 62, 28, 54, 4, 21, 4, 158, 0, 43, 42, 27, 29, 42, 180, 0, 54, 21, 4, 4]
abbrev dktX5_draws_1 : List UInt8 := dkwX5_draws_1 ++ dktX5_draws_2
def dkwX5_draws_0 : List UInt8 := [3, 61, 3, 62, 29, 42, 182, 0, 98, 162, 0, 86, 42, 180, 0, 57, 29, 3, 79, 42, 29, 182, 1, 32]
abbrev dktX5_draws_0 : List UInt8 := dkwX5_draws_0 ++ dktX5_draws_1
theorem dksX5_draws_0 : cX5_draws.data.toList.drop 0 = dktX5_draws_0 := by decide +kernel
theorem dksX5_draws_1 : cX5_draws.data.toList.drop 24 = dktX5_draws_1 := dk_seg dksX5_draws_0 24 rfl rfl
theorem dksX5_draws_2 : cX5_draws.data.toList.drop 48 = dktX5_draws_2 := dk_seg dksX5_draws_1 24 rfl rfl
theorem dksX5_draws_3 : cX5_draws.data.toList.drop 72 = dktX5_draws_3 := dk_seg dksX5_draws_2 24 rfl rfl
theorem dksX5_draws_4 : cX5_draws.data.toList.drop 96 = dktX5_draws_4 := dk_seg dksX5_draws_3 24 rfl rfl
theorem dksX5_draws_5 : cX5_draws.data.toList.drop 120 = dktX5_draws_5 := dk_seg dksX5_draws_4 24 rfl rfl
theorem dksX5_draws_6 : cX5_draws.data.toList.drop 144 = dktX5_draws_6 := dk_seg dksX5_draws_5 24 rfl rfl
theorem dksX5_draws_7 : cX5_draws.data.toList.drop 167 = dktX5_draws_7 := dk_seg dksX5_draws_6 23 rfl rfl
theorem dksX5_draws_8 : cX5_draws.data.toList.drop 191 = dktX5_draws_8 := dk_seg dksX5_draws_7 24 rfl rfl
theorem dksX5_draws_9 : cX5_draws.data.toList.drop 214 = dktX5_draws_9 := dk_seg dksX5_draws_8 23 rfl rfl
theorem dX5_draws_0 : decode cX5_draws 0 = .ok (.iconst 0, 1) := dk_3 (dk_at dksX5_draws_0 0 rfl rfl)
theorem dX5_draws_1 : decode cX5_draws 1 = .ok (.istore_n 2, 1) := dk_61 (dk_at dksX5_draws_0 1 rfl rfl)
theorem dX5_draws_2 : decode cX5_draws 2 = .ok (.iconst 0, 1) := dk_3 (dk_at dksX5_draws_0 2 rfl rfl)
theorem dX5_draws_3 : decode cX5_draws 3 = .ok (.istore_n 3, 1) := dk_62 (dk_at dksX5_draws_0 3 rfl rfl)
theorem dX5_draws_4 : decode cX5_draws 4 = .ok (.iload_n 3, 1) := dk_29 (dk_at dksX5_draws_0 4 rfl rfl)
theorem dX5_draws_5 : decode cX5_draws 5 = .ok (.aload_n 0, 1) := dk_42 (dk_at dksX5_draws_0 5 rfl rfl)
theorem dX5_draws_6 : decode cX5_draws 6 = .ok (.invokevirtual 98, 3) := dk_182 0 98 (dk_at dksX5_draws_0 6 rfl rfl)
theorem dX5_draws_9 : decode cX5_draws 9 = .ok (.if_icmp .ge 86, 3) := dk_162 0 86 (dk_at dksX5_draws_0 9 rfl rfl)
theorem dX5_draws_12 : decode cX5_draws 12 = .ok (.aload_n 0, 1) := dk_42 (dk_at dksX5_draws_0 12 rfl rfl)
theorem dX5_draws_13 : decode cX5_draws 13 = .ok (.getfield 57, 3) := dk_180 0 57 (dk_at dksX5_draws_0 13 rfl rfl)
theorem dX5_draws_16 : decode cX5_draws 16 = .ok (.iload_n 3, 1) := dk_29 (dk_at dksX5_draws_0 16 rfl rfl)
theorem dX5_draws_17 : decode cX5_draws 17 = .ok (.iconst 0, 1) := dk_3 (dk_at dksX5_draws_0 17 rfl rfl)
theorem dX5_draws_18 : decode cX5_draws 18 = .ok (.iastore, 1) := dk_79 (dk_at dksX5_draws_0 18 rfl rfl)
theorem dX5_draws_19 : decode cX5_draws 19 = .ok (.aload_n 0, 1) := dk_42 (dk_at dksX5_draws_0 19 rfl rfl)
theorem dX5_draws_20 : decode cX5_draws 20 = .ok (.iload_n 3, 1) := dk_29 (dk_at dksX5_draws_0 20 rfl rfl)
theorem dX5_draws_21 : decode cX5_draws 21 = .ok (.invokevirtual 288, 3) := dk_182 1 32 (dk_at dksX5_draws_0 21 rfl rfl)
theorem dX5_draws_24 : decode cX5_draws 24 = .ok (.ifCond .eq 6, 3) := dk_153 0 6 (dk_at dksX5_draws_1 0 rfl rfl)
theorem dX5_draws_27 : decode cX5_draws 27 = .ok (.goto 62, 3) := dk_167 0 62 (dk_at dksX5_draws_1 3 rfl rfl)
theorem dX5_draws_30 : decode cX5_draws 30 = .ok (.iload_n 2, 1) := dk_28 (dk_at dksX5_draws_1 6 rfl rfl)
theorem dX5_draws_31 : decode cX5_draws 31 = .ok (.istore 4, 2) := dk_54 4 (dk_at dksX5_draws_1 7 rfl rfl)
theorem dX5_draws_33 : decode cX5_draws 33 = .ok (.iload 4, 2) := dk_21 4 (dk_at dksX5_draws_1 9 rfl rfl)
theorem dX5_draws_35 : decode cX5_draws 35 = .ok (.ifCond .le 43, 3) := dk_158 0 43 (dk_at dksX5_draws_1 11 rfl rfl)
theorem dX5_draws_38 : decode cX5_draws 38 = .ok (.aload_n 0, 1) := dk_42 (dk_at dksX5_draws_1 14 rfl rfl)
theorem dX5_draws_39 : decode cX5_draws 39 = .ok (.iload_n 1, 1) := dk_27 (dk_at dksX5_draws_1 15 rfl rfl)
theorem dX5_draws_40 : decode cX5_draws 40 = .ok (.iload_n 3, 1) := dk_29 (dk_at dksX5_draws_1 16 rfl rfl)
theorem dX5_draws_41 : decode cX5_draws 41 = .ok (.aload_n 0, 1) := dk_42 (dk_at dksX5_draws_1 17 rfl rfl)
theorem dX5_draws_42 : decode cX5_draws 42 = .ok (.getfield 54, 3) := dk_180 0 54 (dk_at dksX5_draws_1 18 rfl rfl)
theorem dX5_draws_45 : decode cX5_draws 45 = .ok (.iload 4, 2) := dk_21 4 (dk_at dksX5_draws_1 21 rfl rfl)
theorem dX5_draws_47 : decode cX5_draws 47 = .ok (.iconst 1, 1) := dk_4 (dk_at dksX5_draws_1 23 rfl rfl)
theorem dX5_draws_48 : decode cX5_draws 48 = .ok (.isub, 1) := dk_100 (dk_at dksX5_draws_2 0 rfl rfl)
theorem dX5_draws_49 : decode cX5_draws 49 = .ok (.iaload, 1) := dk_46 (dk_at dksX5_draws_2 1 rfl rfl)
theorem dX5_draws_50 : decode cX5_draws 50 = .ok (.invokevirtual 343, 3) := dk_182 1 87 (dk_at dksX5_draws_2 2 rfl rfl)
theorem dX5_draws_53 : decode cX5_draws 53 = .ok (.ifCond .eq 25, 3) := dk_153 0 25 (dk_at dksX5_draws_2 5 rfl rfl)
theorem dX5_draws_56 : decode cX5_draws 56 = .ok (.aload_n 0, 1) := dk_42 (dk_at dksX5_draws_2 8 rfl rfl)
theorem dX5_draws_57 : decode cX5_draws 57 = .ok (.getfield 54, 3) := dk_180 0 54 (dk_at dksX5_draws_2 9 rfl rfl)
theorem dX5_draws_60 : decode cX5_draws 60 = .ok (.iload 4, 2) := dk_21 4 (dk_at dksX5_draws_2 12 rfl rfl)
theorem dX5_draws_62 : decode cX5_draws 62 = .ok (.aload_n 0, 1) := dk_42 (dk_at dksX5_draws_2 14 rfl rfl)
theorem dX5_draws_63 : decode cX5_draws 63 = .ok (.getfield 54, 3) := dk_180 0 54 (dk_at dksX5_draws_2 15 rfl rfl)
theorem dX5_draws_66 : decode cX5_draws 66 = .ok (.iload 4, 2) := dk_21 4 (dk_at dksX5_draws_2 18 rfl rfl)
theorem dX5_draws_68 : decode cX5_draws 68 = .ok (.iconst 1, 1) := dk_4 (dk_at dksX5_draws_2 20 rfl rfl)
theorem dX5_draws_69 : decode cX5_draws 69 = .ok (.isub, 1) := dk_100 (dk_at dksX5_draws_2 21 rfl rfl)
theorem dX5_draws_70 : decode cX5_draws 70 = .ok (.iaload, 1) := dk_46 (dk_at dksX5_draws_2 22 rfl rfl)
theorem dX5_draws_71 : decode cX5_draws 71 = .ok (.iastore, 1) := dk_79 (dk_at dksX5_draws_2 23 rfl rfl)
theorem dX5_draws_72 : decode cX5_draws 72 = .ok (.iinc 4 (-1), 3) := dk_132 4 255 (dk_at dksX5_draws_3 0 rfl rfl)
theorem dX5_draws_75 : decode cX5_draws 75 = .ok (.goto (-42), 3) := dk_167 255 214 (dk_at dksX5_draws_3 3 rfl rfl)
theorem dX5_draws_78 : decode cX5_draws 78 = .ok (.aload_n 0, 1) := dk_42 (dk_at dksX5_draws_3 6 rfl rfl)
theorem dX5_draws_79 : decode cX5_draws 79 = .ok (.getfield 54, 3) := dk_180 0 54 (dk_at dksX5_draws_3 7 rfl rfl)
theorem dX5_draws_82 : decode cX5_draws 82 = .ok (.iload 4, 2) := dk_21 4 (dk_at dksX5_draws_3 10 rfl rfl)
theorem dX5_draws_84 : decode cX5_draws 84 = .ok (.iload_n 3, 1) := dk_29 (dk_at dksX5_draws_3 12 rfl rfl)
theorem dX5_draws_85 : decode cX5_draws 85 = .ok (.iastore, 1) := dk_79 (dk_at dksX5_draws_3 13 rfl rfl)
theorem dX5_draws_86 : decode cX5_draws 86 = .ok (.iinc 2 1, 3) := dk_132 2 1 (dk_at dksX5_draws_3 14 rfl rfl)
theorem dX5_draws_89 : decode cX5_draws 89 = .ok (.iinc 3 1, 3) := dk_132 3 1 (dk_at dksX5_draws_3 17 rfl rfl)
theorem dX5_draws_92 : decode cX5_draws 92 = .ok (.goto (-88), 3) := dk_167 255 168 (dk_at dksX5_draws_3 20 rfl rfl)
theorem dX5_draws_95 : decode cX5_draws 95 = .ok (.iconst 0, 1) := dk_3 (dk_at dksX5_draws_3 23 rfl rfl)
theorem dX5_draws_96 : decode cX5_draws 96 = .ok (.istore_n 3, 1) := dk_62 (dk_at dksX5_draws_4 0 rfl rfl)
theorem dX5_draws_97 : decode cX5_draws 97 = .ok (.iload_n 3, 1) := dk_29 (dk_at dksX5_draws_4 1 rfl rfl)
theorem dX5_draws_98 : decode cX5_draws 98 = .ok (.iconst 4, 1) := dk_7 (dk_at dksX5_draws_4 2 rfl rfl)
theorem dX5_draws_99 : decode cX5_draws 99 = .ok (.if_icmp .ge 24, 3) := dk_162 0 24 (dk_at dksX5_draws_4 3 rfl rfl)
theorem dX5_draws_102 : decode cX5_draws 102 = .ok (.aload_n 0, 1) := dk_42 (dk_at dksX5_draws_4 6 rfl rfl)
theorem dX5_draws_103 : decode cX5_draws 103 = .ok (.getfield 60, 3) := dk_180 0 60 (dk_at dksX5_draws_4 7 rfl rfl)
theorem dX5_draws_106 : decode cX5_draws 106 = .ok (.iload_n 3, 1) := dk_29 (dk_at dksX5_draws_4 10 rfl rfl)
theorem dX5_draws_107 : decode cX5_draws 107 = .ok (.aload_n 0, 1) := dk_42 (dk_at dksX5_draws_4 11 rfl rfl)
theorem dX5_draws_108 : decode cX5_draws 108 = .ok (.getfield 9, 3) := dk_180 0 9 (dk_at dksX5_draws_4 12 rfl rfl)
theorem dX5_draws_111 : decode cX5_draws 111 = .ok (.bipush 24, 2) := dk_16 24 (dk_at dksX5_draws_4 15 rfl rfl)
theorem dX5_draws_113 : decode cX5_draws 113 = .ok (.iload_n 3, 1) := dk_29 (dk_at dksX5_draws_4 17 rfl rfl)
theorem dX5_draws_114 : decode cX5_draws 114 = .ok (.iadd, 1) := dk_96 (dk_at dksX5_draws_4 18 rfl rfl)
theorem dX5_draws_115 : decode cX5_draws 115 = .ok (.iaload, 1) := dk_46 (dk_at dksX5_draws_4 19 rfl rfl)
theorem dX5_draws_116 : decode cX5_draws 116 = .ok (.iastore, 1) := dk_79 (dk_at dksX5_draws_4 20 rfl rfl)
theorem dX5_draws_117 : decode cX5_draws 117 = .ok (.iinc 3 1, 3) := dk_132 3 1 (dk_at dksX5_draws_4 21 rfl rfl)
theorem dX5_draws_120 : decode cX5_draws 120 = .ok (.goto (-23), 3) := dk_167 255 233 (dk_at dksX5_draws_5 0 rfl rfl)
theorem dX5_draws_123 : decode cX5_draws 123 = .ok (.iconst 0, 1) := dk_3 (dk_at dksX5_draws_5 3 rfl rfl)
theorem dX5_draws_124 : decode cX5_draws 124 = .ok (.istore_n 3, 1) := dk_62 (dk_at dksX5_draws_5 4 rfl rfl)
theorem dX5_draws_125 : decode cX5_draws 125 = .ok (.iload_n 3, 1) := dk_29 (dk_at dksX5_draws_5 5 rfl rfl)
theorem dX5_draws_126 : decode cX5_draws 126 = .ok (.iload_n 2, 1) := dk_28 (dk_at dksX5_draws_5 6 rfl rfl)
theorem dX5_draws_127 : decode cX5_draws 127 = .ok (.if_icmp .ge 97, 3) := dk_162 0 97 (dk_at dksX5_draws_5 7 rfl rfl)
theorem dX5_draws_130 : decode cX5_draws 130 = .ok (.aload_n 0, 1) := dk_42 (dk_at dksX5_draws_5 10 rfl rfl)
theorem dX5_draws_131 : decode cX5_draws 131 = .ok (.getfield 54, 3) := dk_180 0 54 (dk_at dksX5_draws_5 11 rfl rfl)
theorem dX5_draws_134 : decode cX5_draws 134 = .ok (.iload_n 3, 1) := dk_29 (dk_at dksX5_draws_5 14 rfl rfl)
theorem dX5_draws_135 : decode cX5_draws 135 = .ok (.iaload, 1) := dk_46 (dk_at dksX5_draws_5 15 rfl rfl)
theorem dX5_draws_136 : decode cX5_draws 136 = .ok (.istore 4, 2) := dk_54 4 (dk_at dksX5_draws_5 16 rfl rfl)
theorem dX5_draws_138 : decode cX5_draws 138 = .ok (.aload_n 0, 1) := dk_42 (dk_at dksX5_draws_5 18 rfl rfl)
theorem dX5_draws_139 : decode cX5_draws 139 = .ok (.getfield 9, 3) := dk_180 0 9 (dk_at dksX5_draws_5 19 rfl rfl)
theorem dX5_draws_142 : decode cX5_draws 142 = .ok (.bipush 15, 2) := dk_16 15 (dk_at dksX5_draws_5 22 rfl rfl)
theorem dX5_draws_144 : decode cX5_draws 144 = .ok (.iload 4, 2) := dk_21 4 (dk_at dksX5_draws_6 0 rfl rfl)
theorem dX5_draws_146 : decode cX5_draws 146 = .ok (.iadd, 1) := dk_96 (dk_at dksX5_draws_6 2 rfl rfl)
theorem dX5_draws_147 : decode cX5_draws 147 = .ok (.iaload, 1) := dk_46 (dk_at dksX5_draws_6 3 rfl rfl)
theorem dX5_draws_148 : decode cX5_draws 148 = .ok (.istore 5, 2) := dk_54 5 (dk_at dksX5_draws_6 4 rfl rfl)
theorem dX5_draws_150 : decode cX5_draws 150 = .ok (.aload_n 0, 1) := dk_42 (dk_at dksX5_draws_6 6 rfl rfl)
theorem dX5_draws_151 : decode cX5_draws 151 = .ok (.getfield 9, 3) := dk_180 0 9 (dk_at dksX5_draws_6 7 rfl rfl)
theorem dX5_draws_154 : decode cX5_draws 154 = .ok (.bipush 6, 2) := dk_16 6 (dk_at dksX5_draws_6 10 rfl rfl)
theorem dX5_draws_156 : decode cX5_draws 156 = .ok (.iload 4, 2) := dk_21 4 (dk_at dksX5_draws_6 12 rfl rfl)
theorem dX5_draws_158 : decode cX5_draws 158 = .ok (.iadd, 1) := dk_96 (dk_at dksX5_draws_6 14 rfl rfl)
theorem dX5_draws_159 : decode cX5_draws 159 = .ok (.iaload, 1) := dk_46 (dk_at dksX5_draws_6 15 rfl rfl)
theorem dX5_draws_160 : decode cX5_draws 160 = .ok (.aload_n 0, 1) := dk_42 (dk_at dksX5_draws_6 16 rfl rfl)
theorem dX5_draws_161 : decode cX5_draws 161 = .ok (.getfield 60, 3) := dk_180 0 60 (dk_at dksX5_draws_6 17 rfl rfl)
theorem dX5_draws_164 : decode cX5_draws 164 = .ok (.iconst 0, 1) := dk_3 (dk_at dksX5_draws_6 20 rfl rfl)
theorem dX5_draws_165 : decode cX5_draws 165 = .ok (.iaload, 1) := dk_46 (dk_at dksX5_draws_6 21 rfl rfl)
theorem dX5_draws_166 : decode cX5_draws 166 = .ok (.aload_n 0, 1) := dk_42 (dk_at dksX5_draws_6 22 rfl rfl)
theorem dX5_draws_167 : decode cX5_draws 167 = .ok (.getfield 60, 3) := dk_180 0 60 (dk_at dksX5_draws_7 0 rfl rfl)
theorem dX5_draws_170 : decode cX5_draws 170 = .ok (.iload 5, 2) := dk_21 5 (dk_at dksX5_draws_7 3 rfl rfl)
theorem dX5_draws_172 : decode cX5_draws 172 = .ok (.iaload, 1) := dk_46 (dk_at dksX5_draws_7 5 rfl rfl)
theorem dX5_draws_173 : decode cX5_draws 173 = .ok (.invokestatic 119, 3) := dk_184 0 119 (dk_at dksX5_draws_7 6 rfl rfl)
theorem dX5_draws_176 : decode cX5_draws 176 = .ok (.invokestatic 119, 3) := dk_184 0 119 (dk_at dksX5_draws_7 9 rfl rfl)
theorem dX5_draws_179 : decode cX5_draws 179 = .ok (.istore 6, 2) := dk_54 6 (dk_at dksX5_draws_7 12 rfl rfl)
theorem dX5_draws_181 : decode cX5_draws 181 = .ok (.aload_n 0, 1) := dk_42 (dk_at dksX5_draws_7 14 rfl rfl)
theorem dX5_draws_182 : decode cX5_draws 182 = .ok (.getfield 57, 3) := dk_180 0 57 (dk_at dksX5_draws_7 15 rfl rfl)
theorem dX5_draws_185 : decode cX5_draws 185 = .ok (.iload 4, 2) := dk_21 4 (dk_at dksX5_draws_7 18 rfl rfl)
theorem dX5_draws_187 : decode cX5_draws 187 = .ok (.iload 6, 2) := dk_21 6 (dk_at dksX5_draws_7 20 rfl rfl)
theorem dX5_draws_189 : decode cX5_draws 189 = .ok (.iastore, 1) := dk_79 (dk_at dksX5_draws_7 22 rfl rfl)
theorem dX5_draws_190 : decode cX5_draws 190 = .ok (.aload_n 0, 1) := dk_42 (dk_at dksX5_draws_7 23 rfl rfl)
theorem dX5_draws_191 : decode cX5_draws 191 = .ok (.getfield 60, 3) := dk_180 0 60 (dk_at dksX5_draws_8 0 rfl rfl)
theorem dX5_draws_194 : decode cX5_draws 194 = .ok (.iconst 0, 1) := dk_3 (dk_at dksX5_draws_8 3 rfl rfl)
theorem dX5_draws_195 : decode cX5_draws 195 = .ok (.dup2, 1) := dk_92 (dk_at dksX5_draws_8 4 rfl rfl)
theorem dX5_draws_196 : decode cX5_draws 196 = .ok (.iaload, 1) := dk_46 (dk_at dksX5_draws_8 5 rfl rfl)
theorem dX5_draws_197 : decode cX5_draws 197 = .ok (.iload 6, 2) := dk_21 6 (dk_at dksX5_draws_8 6 rfl rfl)
theorem dX5_draws_199 : decode cX5_draws 199 = .ok (.isub, 1) := dk_100 (dk_at dksX5_draws_8 8 rfl rfl)
theorem dX5_draws_200 : decode cX5_draws 200 = .ok (.iastore, 1) := dk_79 (dk_at dksX5_draws_8 9 rfl rfl)
theorem dX5_draws_201 : decode cX5_draws 201 = .ok (.iload 5, 2) := dk_21 5 (dk_at dksX5_draws_8 10 rfl rfl)
theorem dX5_draws_203 : decode cX5_draws 203 = .ok (.ifCond .le 15, 3) := dk_158 0 15 (dk_at dksX5_draws_8 12 rfl rfl)
theorem dX5_draws_206 : decode cX5_draws 206 = .ok (.aload_n 0, 1) := dk_42 (dk_at dksX5_draws_8 15 rfl rfl)
theorem dX5_draws_207 : decode cX5_draws 207 = .ok (.getfield 60, 3) := dk_180 0 60 (dk_at dksX5_draws_8 16 rfl rfl)
theorem dX5_draws_210 : decode cX5_draws 210 = .ok (.iload 5, 2) := dk_21 5 (dk_at dksX5_draws_8 19 rfl rfl)
theorem dX5_draws_212 : decode cX5_draws 212 = .ok (.dup2, 1) := dk_92 (dk_at dksX5_draws_8 21 rfl rfl)
theorem dX5_draws_213 : decode cX5_draws 213 = .ok (.iaload, 1) := dk_46 (dk_at dksX5_draws_8 22 rfl rfl)
theorem dX5_draws_214 : decode cX5_draws 214 = .ok (.iload 6, 2) := dk_21 6 (dk_at dksX5_draws_9 0 rfl rfl)
theorem dX5_draws_216 : decode cX5_draws 216 = .ok (.isub, 1) := dk_100 (dk_at dksX5_draws_9 2 rfl rfl)
theorem dX5_draws_217 : decode cX5_draws 217 = .ok (.iastore, 1) := dk_79 (dk_at dksX5_draws_9 3 rfl rfl)
theorem dX5_draws_218 : decode cX5_draws 218 = .ok (.iinc 3 1, 3) := dk_132 3 1 (dk_at dksX5_draws_9 4 rfl rfl)
theorem dX5_draws_221 : decode cX5_draws 221 = .ok (.goto (-96), 3) := dk_167 255 160 (dk_at dksX5_draws_9 7 rfl rfl)
theorem dX5_draws_224 : decode cX5_draws 224 = .ok (.return_, 1) := dk_177 (dk_at dksX5_draws_9 10 rfl rfl)
abbrev cX5_isAhead : ByteArray := prog_17_method_76_code
def yX5_isAhead : MethodName := ⟨RX5, "isAhead", "(III)Z"⟩
def dkwX5_isAhead_2 : List UInt8 := [167, 0, 4, 3, 172]
abbrev dktX5_isAhead_2 : List UInt8 := dkwX5_isAhead_2 ++ []
def dkwX5_isAhead_1 : List UInt8 := [29, 182, 1, 22, 148, 158, 0, 7, 4, 167, 0, 17, 3, 167, 0, 13, 28, 29, 162, 0, 7, 4]
abbrev dktX5_isAhead_1 : List UInt8 := dkwX5_isAhead_1 ++ dktX5_isAhead_2
def dkwX5_isAhead_0 : List UInt8 := [42, 27, 28, 182, 1, 22, 42, 27, 29, 182, 1, 22, 148, 153, 0, 27, 42, 27, 28, 182, 1, 22, 42, 27]
abbrev dktX5_isAhead_0 : List UInt8 := dkwX5_isAhead_0 ++ dktX5_isAhead_1
theorem dksX5_isAhead_0 : cX5_isAhead.data.toList.drop 0 = dktX5_isAhead_0 := by decide +kernel
theorem dksX5_isAhead_1 : cX5_isAhead.data.toList.drop 24 = dktX5_isAhead_1 := dk_seg dksX5_isAhead_0 24 rfl rfl
theorem dksX5_isAhead_2 : cX5_isAhead.data.toList.drop 46 = dktX5_isAhead_2 := dk_seg dksX5_isAhead_1 22 rfl rfl
theorem dX5_isAhead_0 : decode cX5_isAhead 0 = .ok (.aload_n 0, 1) := dk_42 (dk_at dksX5_isAhead_0 0 rfl rfl)
theorem dX5_isAhead_1 : decode cX5_isAhead 1 = .ok (.iload_n 1, 1) := dk_27 (dk_at dksX5_isAhead_0 1 rfl rfl)
theorem dX5_isAhead_2 : decode cX5_isAhead 2 = .ok (.iload_n 2, 1) := dk_28 (dk_at dksX5_isAhead_0 2 rfl rfl)
theorem dX5_isAhead_3 : decode cX5_isAhead 3 = .ok (.invokevirtual 278, 3) := dk_182 1 22 (dk_at dksX5_isAhead_0 3 rfl rfl)
theorem dX5_isAhead_6 : decode cX5_isAhead 6 = .ok (.aload_n 0, 1) := dk_42 (dk_at dksX5_isAhead_0 6 rfl rfl)
theorem dX5_isAhead_7 : decode cX5_isAhead 7 = .ok (.iload_n 1, 1) := dk_27 (dk_at dksX5_isAhead_0 7 rfl rfl)
theorem dX5_isAhead_8 : decode cX5_isAhead 8 = .ok (.iload_n 3, 1) := dk_29 (dk_at dksX5_isAhead_0 8 rfl rfl)
theorem dX5_isAhead_9 : decode cX5_isAhead 9 = .ok (.invokevirtual 278, 3) := dk_182 1 22 (dk_at dksX5_isAhead_0 9 rfl rfl)
theorem dX5_isAhead_12 : decode cX5_isAhead 12 = .ok (.lcmp, 1) := dk_148 (dk_at dksX5_isAhead_0 12 rfl rfl)
theorem dX5_isAhead_13 : decode cX5_isAhead 13 = .ok (.ifCond .eq 27, 3) := dk_153 0 27 (dk_at dksX5_isAhead_0 13 rfl rfl)
theorem dX5_isAhead_16 : decode cX5_isAhead 16 = .ok (.aload_n 0, 1) := dk_42 (dk_at dksX5_isAhead_0 16 rfl rfl)
theorem dX5_isAhead_17 : decode cX5_isAhead 17 = .ok (.iload_n 1, 1) := dk_27 (dk_at dksX5_isAhead_0 17 rfl rfl)
theorem dX5_isAhead_18 : decode cX5_isAhead 18 = .ok (.iload_n 2, 1) := dk_28 (dk_at dksX5_isAhead_0 18 rfl rfl)
theorem dX5_isAhead_19 : decode cX5_isAhead 19 = .ok (.invokevirtual 278, 3) := dk_182 1 22 (dk_at dksX5_isAhead_0 19 rfl rfl)
theorem dX5_isAhead_22 : decode cX5_isAhead 22 = .ok (.aload_n 0, 1) := dk_42 (dk_at dksX5_isAhead_0 22 rfl rfl)
theorem dX5_isAhead_23 : decode cX5_isAhead 23 = .ok (.iload_n 1, 1) := dk_27 (dk_at dksX5_isAhead_0 23 rfl rfl)
theorem dX5_isAhead_24 : decode cX5_isAhead 24 = .ok (.iload_n 3, 1) := dk_29 (dk_at dksX5_isAhead_1 0 rfl rfl)
theorem dX5_isAhead_25 : decode cX5_isAhead 25 = .ok (.invokevirtual 278, 3) := dk_182 1 22 (dk_at dksX5_isAhead_1 1 rfl rfl)
theorem dX5_isAhead_28 : decode cX5_isAhead 28 = .ok (.lcmp, 1) := dk_148 (dk_at dksX5_isAhead_1 4 rfl rfl)
theorem dX5_isAhead_29 : decode cX5_isAhead 29 = .ok (.ifCond .le 7, 3) := dk_158 0 7 (dk_at dksX5_isAhead_1 5 rfl rfl)
theorem dX5_isAhead_32 : decode cX5_isAhead 32 = .ok (.iconst 1, 1) := dk_4 (dk_at dksX5_isAhead_1 8 rfl rfl)
theorem dX5_isAhead_33 : decode cX5_isAhead 33 = .ok (.goto 17, 3) := dk_167 0 17 (dk_at dksX5_isAhead_1 9 rfl rfl)
theorem dX5_isAhead_36 : decode cX5_isAhead 36 = .ok (.iconst 0, 1) := dk_3 (dk_at dksX5_isAhead_1 12 rfl rfl)
theorem dX5_isAhead_37 : decode cX5_isAhead 37 = .ok (.goto 13, 3) := dk_167 0 13 (dk_at dksX5_isAhead_1 13 rfl rfl)
theorem dX5_isAhead_40 : decode cX5_isAhead 40 = .ok (.iload_n 2, 1) := dk_28 (dk_at dksX5_isAhead_1 16 rfl rfl)
theorem dX5_isAhead_41 : decode cX5_isAhead 41 = .ok (.iload_n 3, 1) := dk_29 (dk_at dksX5_isAhead_1 17 rfl rfl)
theorem dX5_isAhead_42 : decode cX5_isAhead 42 = .ok (.if_icmp .ge 7, 3) := dk_162 0 7 (dk_at dksX5_isAhead_1 18 rfl rfl)
theorem dX5_isAhead_45 : decode cX5_isAhead 45 = .ok (.iconst 1, 1) := dk_4 (dk_at dksX5_isAhead_1 21 rfl rfl)
theorem dX5_isAhead_46 : decode cX5_isAhead 46 = .ok (.goto 4, 3) := dk_167 0 4 (dk_at dksX5_isAhead_2 0 rfl rfl)
theorem dX5_isAhead_49 : decode cX5_isAhead 49 = .ok (.iconst 0, 1) := dk_3 (dk_at dksX5_isAhead_2 3 rfl rfl)
theorem dX5_isAhead_50 : decode cX5_isAhead 50 = .ok (.ireturn, 1) := dk_172 (dk_at dksX5_isAhead_2 4 rfl rfl)
abbrev cX5_drawn : ByteArray := prog_17_method_80_code
def yX5_drawn : MethodName := ⟨RX5, "drawn", "(II)I"⟩
def dkwX5_drawn_1 : List UInt8 := [27, 182, 1, 32, 153, 0, 5, 2, 172, 42, 27, 182, 1, 91, 42, 180, 0, 57, 28, 46, 172]
abbrev dktX5_drawn_1 : List UInt8 := dkwX5_drawn_1 ++ []
def dkwX5_drawn_0 : List UInt8 := [42, 27, 182, 1, 52, 153, 0, 11, 42, 28, 182, 1, 52, 154, 0, 6, 16, 254, 172, 42, 182, 1, 36, 42]
abbrev dktX5_drawn_0 : List UInt8 := dkwX5_drawn_0 ++ dktX5_drawn_1
theorem dksX5_drawn_0 : cX5_drawn.data.toList.drop 0 = dktX5_drawn_0 := by decide +kernel
theorem dksX5_drawn_1 : cX5_drawn.data.toList.drop 24 = dktX5_drawn_1 := dk_seg dksX5_drawn_0 24 rfl rfl
theorem dX5_drawn_0 : decode cX5_drawn 0 = .ok (.aload_n 0, 1) := dk_42 (dk_at dksX5_drawn_0 0 rfl rfl)
theorem dX5_drawn_1 : decode cX5_drawn 1 = .ok (.iload_n 1, 1) := dk_27 (dk_at dksX5_drawn_0 1 rfl rfl)
theorem dX5_drawn_2 : decode cX5_drawn 2 = .ok (.invokevirtual 308, 3) := dk_182 1 52 (dk_at dksX5_drawn_0 2 rfl rfl)
theorem dX5_drawn_5 : decode cX5_drawn 5 = .ok (.ifCond .eq 11, 3) := dk_153 0 11 (dk_at dksX5_drawn_0 5 rfl rfl)
theorem dX5_drawn_8 : decode cX5_drawn 8 = .ok (.aload_n 0, 1) := dk_42 (dk_at dksX5_drawn_0 8 rfl rfl)
theorem dX5_drawn_9 : decode cX5_drawn 9 = .ok (.iload_n 2, 1) := dk_28 (dk_at dksX5_drawn_0 9 rfl rfl)
theorem dX5_drawn_10 : decode cX5_drawn 10 = .ok (.invokevirtual 308, 3) := dk_182 1 52 (dk_at dksX5_drawn_0 10 rfl rfl)
theorem dX5_drawn_13 : decode cX5_drawn 13 = .ok (.ifCond .ne 6, 3) := dk_154 0 6 (dk_at dksX5_drawn_0 13 rfl rfl)
theorem dX5_drawn_16 : decode cX5_drawn 16 = .ok (.bipush (-2), 2) := dk_16 254 (dk_at dksX5_drawn_0 16 rfl rfl)
theorem dX5_drawn_18 : decode cX5_drawn 18 = .ok (.ireturn, 1) := dk_172 (dk_at dksX5_drawn_0 18 rfl rfl)
theorem dX5_drawn_19 : decode cX5_drawn 19 = .ok (.aload_n 0, 1) := dk_42 (dk_at dksX5_drawn_0 19 rfl rfl)
theorem dX5_drawn_20 : decode cX5_drawn 20 = .ok (.invokevirtual 292, 3) := dk_182 1 36 (dk_at dksX5_drawn_0 20 rfl rfl)
theorem dX5_drawn_23 : decode cX5_drawn 23 = .ok (.aload_n 0, 1) := dk_42 (dk_at dksX5_drawn_0 23 rfl rfl)
theorem dX5_drawn_24 : decode cX5_drawn 24 = .ok (.iload_n 1, 1) := dk_27 (dk_at dksX5_drawn_1 0 rfl rfl)
theorem dX5_drawn_25 : decode cX5_drawn 25 = .ok (.invokevirtual 288, 3) := dk_182 1 32 (dk_at dksX5_drawn_1 1 rfl rfl)
theorem dX5_drawn_28 : decode cX5_drawn 28 = .ok (.ifCond .eq 5, 3) := dk_153 0 5 (dk_at dksX5_drawn_1 4 rfl rfl)
theorem dX5_drawn_31 : decode cX5_drawn 31 = .ok (.iconst (-1), 1) := dk_2 (dk_at dksX5_drawn_1 7 rfl rfl)
theorem dX5_drawn_32 : decode cX5_drawn 32 = .ok (.ireturn, 1) := dk_172 (dk_at dksX5_drawn_1 8 rfl rfl)
theorem dX5_drawn_33 : decode cX5_drawn 33 = .ok (.aload_n 0, 1) := dk_42 (dk_at dksX5_drawn_1 9 rfl rfl)
theorem dX5_drawn_34 : decode cX5_drawn 34 = .ok (.iload_n 1, 1) := dk_27 (dk_at dksX5_drawn_1 10 rfl rfl)
theorem dX5_drawn_35 : decode cX5_drawn 35 = .ok (.invokevirtual 347, 3) := dk_182 1 91 (dk_at dksX5_drawn_1 11 rfl rfl)
theorem dX5_drawn_38 : decode cX5_drawn 38 = .ok (.aload_n 0, 1) := dk_42 (dk_at dksX5_drawn_1 14 rfl rfl)
theorem dX5_drawn_39 : decode cX5_drawn 39 = .ok (.getfield 57, 3) := dk_180 0 57 (dk_at dksX5_drawn_1 15 rfl rfl)
theorem dX5_drawn_42 : decode cX5_drawn 42 = .ok (.iload_n 2, 1) := dk_28 (dk_at dksX5_drawn_1 18 rfl rfl)
theorem dX5_drawn_43 : decode cX5_drawn 43 = .ok (.iaload, 1) := dk_46 (dk_at dksX5_drawn_1 19 rfl rfl)
theorem dX5_drawn_44 : decode cX5_drawn 44 = .ok (.ireturn, 1) := dk_172 (dk_at dksX5_drawn_1 20 rfl rfl)
abbrev cX5_tight : ByteArray := prog_17_method_81_code
def yX5_tight : MethodName := ⟨RX5, "tight", "(I)I"⟩
def dkwX5_tight_2 : List UInt8 := [154, 0, 9, 4, 29, 120, 167, 0, 4, 3, 128, 61, 132, 3, 1, 167, 255, 229, 28, 172]
abbrev dktX5_tight_2 : List UInt8 := dkwX5_tight_2 ++ []
def dkwX5_tight_1 : List UInt8 := [172, 42, 27, 182, 1, 91, 3, 61, 3, 62, 29, 7, 162, 0, 28, 28, 42, 180, 0, 60, 29, 46]
abbrev dktX5_tight_1 : List UInt8 := dkwX5_tight_1 ++ dktX5_tight_2
def dkwX5_tight_0 : List UInt8 := [42, 27, 182, 1, 52, 154, 0, 6, 16, 254, 172, 42, 182, 1, 36, 42, 27, 182, 1, 32, 153, 0, 5, 2]
abbrev dktX5_tight_0 : List UInt8 := dkwX5_tight_0 ++ dktX5_tight_1
theorem dksX5_tight_0 : cX5_tight.data.toList.drop 0 = dktX5_tight_0 := by decide +kernel
theorem dksX5_tight_1 : cX5_tight.data.toList.drop 24 = dktX5_tight_1 := dk_seg dksX5_tight_0 24 rfl rfl
theorem dksX5_tight_2 : cX5_tight.data.toList.drop 46 = dktX5_tight_2 := dk_seg dksX5_tight_1 22 rfl rfl
theorem dX5_tight_0 : decode cX5_tight 0 = .ok (.aload_n 0, 1) := dk_42 (dk_at dksX5_tight_0 0 rfl rfl)
theorem dX5_tight_1 : decode cX5_tight 1 = .ok (.iload_n 1, 1) := dk_27 (dk_at dksX5_tight_0 1 rfl rfl)
theorem dX5_tight_2 : decode cX5_tight 2 = .ok (.invokevirtual 308, 3) := dk_182 1 52 (dk_at dksX5_tight_0 2 rfl rfl)
theorem dX5_tight_5 : decode cX5_tight 5 = .ok (.ifCond .ne 6, 3) := dk_154 0 6 (dk_at dksX5_tight_0 5 rfl rfl)
theorem dX5_tight_8 : decode cX5_tight 8 = .ok (.bipush (-2), 2) := dk_16 254 (dk_at dksX5_tight_0 8 rfl rfl)
theorem dX5_tight_10 : decode cX5_tight 10 = .ok (.ireturn, 1) := dk_172 (dk_at dksX5_tight_0 10 rfl rfl)
theorem dX5_tight_11 : decode cX5_tight 11 = .ok (.aload_n 0, 1) := dk_42 (dk_at dksX5_tight_0 11 rfl rfl)
theorem dX5_tight_12 : decode cX5_tight 12 = .ok (.invokevirtual 292, 3) := dk_182 1 36 (dk_at dksX5_tight_0 12 rfl rfl)
theorem dX5_tight_15 : decode cX5_tight 15 = .ok (.aload_n 0, 1) := dk_42 (dk_at dksX5_tight_0 15 rfl rfl)
theorem dX5_tight_16 : decode cX5_tight 16 = .ok (.iload_n 1, 1) := dk_27 (dk_at dksX5_tight_0 16 rfl rfl)
theorem dX5_tight_17 : decode cX5_tight 17 = .ok (.invokevirtual 288, 3) := dk_182 1 32 (dk_at dksX5_tight_0 17 rfl rfl)
theorem dX5_tight_20 : decode cX5_tight 20 = .ok (.ifCond .eq 5, 3) := dk_153 0 5 (dk_at dksX5_tight_0 20 rfl rfl)
theorem dX5_tight_23 : decode cX5_tight 23 = .ok (.iconst (-1), 1) := dk_2 (dk_at dksX5_tight_0 23 rfl rfl)
theorem dX5_tight_24 : decode cX5_tight 24 = .ok (.ireturn, 1) := dk_172 (dk_at dksX5_tight_1 0 rfl rfl)
theorem dX5_tight_25 : decode cX5_tight 25 = .ok (.aload_n 0, 1) := dk_42 (dk_at dksX5_tight_1 1 rfl rfl)
theorem dX5_tight_26 : decode cX5_tight 26 = .ok (.iload_n 1, 1) := dk_27 (dk_at dksX5_tight_1 2 rfl rfl)
theorem dX5_tight_27 : decode cX5_tight 27 = .ok (.invokevirtual 347, 3) := dk_182 1 91 (dk_at dksX5_tight_1 3 rfl rfl)
theorem dX5_tight_30 : decode cX5_tight 30 = .ok (.iconst 0, 1) := dk_3 (dk_at dksX5_tight_1 6 rfl rfl)
theorem dX5_tight_31 : decode cX5_tight 31 = .ok (.istore_n 2, 1) := dk_61 (dk_at dksX5_tight_1 7 rfl rfl)
theorem dX5_tight_32 : decode cX5_tight 32 = .ok (.iconst 0, 1) := dk_3 (dk_at dksX5_tight_1 8 rfl rfl)
theorem dX5_tight_33 : decode cX5_tight 33 = .ok (.istore_n 3, 1) := dk_62 (dk_at dksX5_tight_1 9 rfl rfl)
theorem dX5_tight_34 : decode cX5_tight 34 = .ok (.iload_n 3, 1) := dk_29 (dk_at dksX5_tight_1 10 rfl rfl)
theorem dX5_tight_35 : decode cX5_tight 35 = .ok (.iconst 4, 1) := dk_7 (dk_at dksX5_tight_1 11 rfl rfl)
theorem dX5_tight_36 : decode cX5_tight 36 = .ok (.if_icmp .ge 28, 3) := dk_162 0 28 (dk_at dksX5_tight_1 12 rfl rfl)
theorem dX5_tight_39 : decode cX5_tight 39 = .ok (.iload_n 2, 1) := dk_28 (dk_at dksX5_tight_1 15 rfl rfl)
theorem dX5_tight_40 : decode cX5_tight 40 = .ok (.aload_n 0, 1) := dk_42 (dk_at dksX5_tight_1 16 rfl rfl)
theorem dX5_tight_41 : decode cX5_tight 41 = .ok (.getfield 60, 3) := dk_180 0 60 (dk_at dksX5_tight_1 17 rfl rfl)
theorem dX5_tight_44 : decode cX5_tight 44 = .ok (.iload_n 3, 1) := dk_29 (dk_at dksX5_tight_1 20 rfl rfl)
theorem dX5_tight_45 : decode cX5_tight 45 = .ok (.iaload, 1) := dk_46 (dk_at dksX5_tight_1 21 rfl rfl)
theorem dX5_tight_46 : decode cX5_tight 46 = .ok (.ifCond .ne 9, 3) := dk_154 0 9 (dk_at dksX5_tight_2 0 rfl rfl)
theorem dX5_tight_49 : decode cX5_tight 49 = .ok (.iconst 1, 1) := dk_4 (dk_at dksX5_tight_2 3 rfl rfl)
theorem dX5_tight_50 : decode cX5_tight 50 = .ok (.iload_n 3, 1) := dk_29 (dk_at dksX5_tight_2 4 rfl rfl)
theorem dX5_tight_51 : decode cX5_tight 51 = .ok (.ishl, 1) := dk_120 (dk_at dksX5_tight_2 5 rfl rfl)
theorem dX5_tight_52 : decode cX5_tight 52 = .ok (.goto 4, 3) := dk_167 0 4 (dk_at dksX5_tight_2 6 rfl rfl)
theorem dX5_tight_55 : decode cX5_tight 55 = .ok (.iconst 0, 1) := dk_3 (dk_at dksX5_tight_2 9 rfl rfl)
theorem dX5_tight_56 : decode cX5_tight 56 = .ok (.ior, 1) := dk_128 (dk_at dksX5_tight_2 10 rfl rfl)
theorem dX5_tight_57 : decode cX5_tight 57 = .ok (.istore_n 2, 1) := dk_61 (dk_at dksX5_tight_2 11 rfl rfl)
theorem dX5_tight_58 : decode cX5_tight 58 = .ok (.iinc 3 1, 3) := dk_132 3 1 (dk_at dksX5_tight_2 12 rfl rfl)
theorem dX5_tight_61 : decode cX5_tight 61 = .ok (.goto (-27), 3) := dk_167 255 229 (dk_at dksX5_tight_2 15 rfl rfl)
theorem dX5_tight_64 : decode cX5_tight 64 = .ok (.iload_n 2, 1) := dk_28 (dk_at dksX5_tight_2 18 rfl rfl)
theorem dX5_tight_65 : decode cX5_tight 65 = .ok (.ireturn, 1) := dk_172 (dk_at dksX5_tight_2 19 rfl rfl)
abbrev cX5_foe : ByteArray := prog_17_method_82_code
def yX5_foe : MethodName := ⟨RX5, "foe", "()I"⟩
def dkwX5_foe_2 : List UInt8 := [157, 0, 6, 167, 0, 13, 21, 4, 60, 42, 21, 4, 182, 1, 93, 65, 132, 4, 1, 167, 255, 211, 27, 172]
abbrev dktX5_foe_2 : List UInt8 := dkwX5_foe_2 ++ []
def dkwX5_foe_1 : List UInt8 := [182, 0, 98, 162, 0, 42, 42, 21, 4, 182, 1, 32, 154, 0, 27, 42, 21, 4, 182, 1, 93, 32, 148]
abbrev dktX5_foe_1 : List UInt8 := dkwX5_foe_1 ++ dktX5_foe_2
def dkwX5_foe_0 : List UInt8 := [42, 182, 1, 46, 154, 0, 6, 16, 254, 172, 2, 60, 20, 1, 62, 65, 3, 54, 4, 21, 4, 42]
abbrev dktX5_foe_0 : List UInt8 := dkwX5_foe_0 ++ dktX5_foe_1
theorem dksX5_foe_0 : cX5_foe.data.toList.drop 0 = dktX5_foe_0 := by decide +kernel
theorem dksX5_foe_1 : cX5_foe.data.toList.drop 22 = dktX5_foe_1 := dk_seg dksX5_foe_0 22 rfl rfl
theorem dksX5_foe_2 : cX5_foe.data.toList.drop 45 = dktX5_foe_2 := dk_seg dksX5_foe_1 23 rfl rfl
theorem dX5_foe_0 : decode cX5_foe 0 = .ok (.aload_n 0, 1) := dk_42 (dk_at dksX5_foe_0 0 rfl rfl)
theorem dX5_foe_1 : decode cX5_foe 1 = .ok (.invokevirtual 302, 3) := dk_182 1 46 (dk_at dksX5_foe_0 1 rfl rfl)
theorem dX5_foe_4 : decode cX5_foe 4 = .ok (.ifCond .ne 6, 3) := dk_154 0 6 (dk_at dksX5_foe_0 4 rfl rfl)
theorem dX5_foe_7 : decode cX5_foe 7 = .ok (.bipush (-2), 2) := dk_16 254 (dk_at dksX5_foe_0 7 rfl rfl)
theorem dX5_foe_9 : decode cX5_foe 9 = .ok (.ireturn, 1) := dk_172 (dk_at dksX5_foe_0 9 rfl rfl)
theorem dX5_foe_10 : decode cX5_foe 10 = .ok (.iconst (-1), 1) := dk_2 (dk_at dksX5_foe_0 10 rfl rfl)
theorem dX5_foe_11 : decode cX5_foe 11 = .ok (.istore_n 1, 1) := dk_60 (dk_at dksX5_foe_0 11 rfl rfl)
theorem dX5_foe_12 : decode cX5_foe 12 = .ok (.ldc2_w 318, 3) := dk_20 1 62 (dk_at dksX5_foe_0 12 rfl rfl)
theorem dX5_foe_15 : decode cX5_foe 15 = .ok (.lstore_n 2, 1) := dk_65 (dk_at dksX5_foe_0 15 rfl rfl)
theorem dX5_foe_16 : decode cX5_foe 16 = .ok (.iconst 0, 1) := dk_3 (dk_at dksX5_foe_0 16 rfl rfl)
theorem dX5_foe_17 : decode cX5_foe 17 = .ok (.istore 4, 2) := dk_54 4 (dk_at dksX5_foe_0 17 rfl rfl)
theorem dX5_foe_19 : decode cX5_foe 19 = .ok (.iload 4, 2) := dk_21 4 (dk_at dksX5_foe_0 19 rfl rfl)
theorem dX5_foe_21 : decode cX5_foe 21 = .ok (.aload_n 0, 1) := dk_42 (dk_at dksX5_foe_0 21 rfl rfl)
theorem dX5_foe_22 : decode cX5_foe 22 = .ok (.invokevirtual 98, 3) := dk_182 0 98 (dk_at dksX5_foe_1 0 rfl rfl)
theorem dX5_foe_25 : decode cX5_foe 25 = .ok (.if_icmp .ge 42, 3) := dk_162 0 42 (dk_at dksX5_foe_1 3 rfl rfl)
theorem dX5_foe_28 : decode cX5_foe 28 = .ok (.aload_n 0, 1) := dk_42 (dk_at dksX5_foe_1 6 rfl rfl)
theorem dX5_foe_29 : decode cX5_foe 29 = .ok (.iload 4, 2) := dk_21 4 (dk_at dksX5_foe_1 7 rfl rfl)
theorem dX5_foe_31 : decode cX5_foe 31 = .ok (.invokevirtual 288, 3) := dk_182 1 32 (dk_at dksX5_foe_1 9 rfl rfl)
theorem dX5_foe_34 : decode cX5_foe 34 = .ok (.ifCond .ne 27, 3) := dk_154 0 27 (dk_at dksX5_foe_1 12 rfl rfl)
theorem dX5_foe_37 : decode cX5_foe 37 = .ok (.aload_n 0, 1) := dk_42 (dk_at dksX5_foe_1 15 rfl rfl)
theorem dX5_foe_38 : decode cX5_foe 38 = .ok (.iload 4, 2) := dk_21 4 (dk_at dksX5_foe_1 16 rfl rfl)
theorem dX5_foe_40 : decode cX5_foe 40 = .ok (.invokevirtual 349, 3) := dk_182 1 93 (dk_at dksX5_foe_1 18 rfl rfl)
theorem dX5_foe_43 : decode cX5_foe 43 = .ok (.lload_n 2, 1) := dk_32 (dk_at dksX5_foe_1 21 rfl rfl)
theorem dX5_foe_44 : decode cX5_foe 44 = .ok (.lcmp, 1) := dk_148 (dk_at dksX5_foe_1 22 rfl rfl)
theorem dX5_foe_45 : decode cX5_foe 45 = .ok (.ifCond .gt 6, 3) := dk_157 0 6 (dk_at dksX5_foe_2 0 rfl rfl)
theorem dX5_foe_48 : decode cX5_foe 48 = .ok (.goto 13, 3) := dk_167 0 13 (dk_at dksX5_foe_2 3 rfl rfl)
theorem dX5_foe_51 : decode cX5_foe 51 = .ok (.iload 4, 2) := dk_21 4 (dk_at dksX5_foe_2 6 rfl rfl)
theorem dX5_foe_53 : decode cX5_foe 53 = .ok (.istore_n 1, 1) := dk_60 (dk_at dksX5_foe_2 8 rfl rfl)
theorem dX5_foe_54 : decode cX5_foe 54 = .ok (.aload_n 0, 1) := dk_42 (dk_at dksX5_foe_2 9 rfl rfl)
theorem dX5_foe_55 : decode cX5_foe 55 = .ok (.iload 4, 2) := dk_21 4 (dk_at dksX5_foe_2 10 rfl rfl)
theorem dX5_foe_57 : decode cX5_foe 57 = .ok (.invokevirtual 349, 3) := dk_182 1 93 (dk_at dksX5_foe_2 12 rfl rfl)
theorem dX5_foe_60 : decode cX5_foe 60 = .ok (.lstore_n 2, 1) := dk_65 (dk_at dksX5_foe_2 15 rfl rfl)
theorem dX5_foe_61 : decode cX5_foe 61 = .ok (.iinc 4 1, 3) := dk_132 4 1 (dk_at dksX5_foe_2 16 rfl rfl)
theorem dX5_foe_64 : decode cX5_foe 64 = .ok (.goto (-45), 3) := dk_167 255 211 (dk_at dksX5_foe_2 19 rfl rfl)
theorem dX5_foe_67 : decode cX5_foe 67 = .ok (.iload_n 1, 1) := dk_27 (dk_at dksX5_foe_2 22 rfl rfl)
theorem dX5_foe_68 : decode cX5_foe 68 = .ok (.ireturn, 1) := dk_172 (dk_at dksX5_foe_2 23 rfl rfl)
abbrev cX5_unsafe : ByteArray := prog_17_method_83_code
def yX5_unsafe : MethodName := ⟨RX5, "uns\x61fe", "()I"⟩
def dkwX5_unsafe_2 : List UInt8 := [148, 158, 0, 9, 4, 28, 120, 167, 0, 4, 3, 128, 60, 132, 2, 1, 167, 255, 206, 27, 172]
abbrev dktX5_unsafe_2 : List UInt8 := dkwX5_unsafe_2 ++ []
def dkwX5_unsafe_1 : List UInt8 := [28, 182, 1, 32, 154, 0, 30, 42, 28, 182, 1, 93, 42, 180, 0, 9, 5, 46, 133, 42, 180, 0, 50, 105]
abbrev dktX5_unsafe_1 : List UInt8 := dkwX5_unsafe_1 ++ dktX5_unsafe_2
def dkwX5_unsafe_0 : List UInt8 := [42, 182, 1, 46, 154, 0, 6, 16, 254, 172, 3, 60, 3, 61, 28, 42, 182, 0, 98, 162, 0, 48, 27, 42]
abbrev dktX5_unsafe_0 : List UInt8 := dkwX5_unsafe_0 ++ dktX5_unsafe_1
theorem dksX5_unsafe_0 : cX5_unsafe.data.toList.drop 0 = dktX5_unsafe_0 := by decide +kernel
theorem dksX5_unsafe_1 : cX5_unsafe.data.toList.drop 24 = dktX5_unsafe_1 := dk_seg dksX5_unsafe_0 24 rfl rfl
theorem dksX5_unsafe_2 : cX5_unsafe.data.toList.drop 48 = dktX5_unsafe_2 := dk_seg dksX5_unsafe_1 24 rfl rfl
theorem dX5_unsafe_0 : decode cX5_unsafe 0 = .ok (.aload_n 0, 1) := dk_42 (dk_at dksX5_unsafe_0 0 rfl rfl)
theorem dX5_unsafe_1 : decode cX5_unsafe 1 = .ok (.invokevirtual 302, 3) := dk_182 1 46 (dk_at dksX5_unsafe_0 1 rfl rfl)
theorem dX5_unsafe_4 : decode cX5_unsafe 4 = .ok (.ifCond .ne 6, 3) := dk_154 0 6 (dk_at dksX5_unsafe_0 4 rfl rfl)
theorem dX5_unsafe_7 : decode cX5_unsafe 7 = .ok (.bipush (-2), 2) := dk_16 254 (dk_at dksX5_unsafe_0 7 rfl rfl)
theorem dX5_unsafe_9 : decode cX5_unsafe 9 = .ok (.ireturn, 1) := dk_172 (dk_at dksX5_unsafe_0 9 rfl rfl)
theorem dX5_unsafe_10 : decode cX5_unsafe 10 = .ok (.iconst 0, 1) := dk_3 (dk_at dksX5_unsafe_0 10 rfl rfl)
theorem dX5_unsafe_11 : decode cX5_unsafe 11 = .ok (.istore_n 1, 1) := dk_60 (dk_at dksX5_unsafe_0 11 rfl rfl)
theorem dX5_unsafe_12 : decode cX5_unsafe 12 = .ok (.iconst 0, 1) := dk_3 (dk_at dksX5_unsafe_0 12 rfl rfl)
theorem dX5_unsafe_13 : decode cX5_unsafe 13 = .ok (.istore_n 2, 1) := dk_61 (dk_at dksX5_unsafe_0 13 rfl rfl)
theorem dX5_unsafe_14 : decode cX5_unsafe 14 = .ok (.iload_n 2, 1) := dk_28 (dk_at dksX5_unsafe_0 14 rfl rfl)
theorem dX5_unsafe_15 : decode cX5_unsafe 15 = .ok (.aload_n 0, 1) := dk_42 (dk_at dksX5_unsafe_0 15 rfl rfl)
theorem dX5_unsafe_16 : decode cX5_unsafe 16 = .ok (.invokevirtual 98, 3) := dk_182 0 98 (dk_at dksX5_unsafe_0 16 rfl rfl)
theorem dX5_unsafe_19 : decode cX5_unsafe 19 = .ok (.if_icmp .ge 48, 3) := dk_162 0 48 (dk_at dksX5_unsafe_0 19 rfl rfl)
theorem dX5_unsafe_22 : decode cX5_unsafe 22 = .ok (.iload_n 1, 1) := dk_27 (dk_at dksX5_unsafe_0 22 rfl rfl)
theorem dX5_unsafe_23 : decode cX5_unsafe 23 = .ok (.aload_n 0, 1) := dk_42 (dk_at dksX5_unsafe_0 23 rfl rfl)
theorem dX5_unsafe_24 : decode cX5_unsafe 24 = .ok (.iload_n 2, 1) := dk_28 (dk_at dksX5_unsafe_1 0 rfl rfl)
theorem dX5_unsafe_25 : decode cX5_unsafe 25 = .ok (.invokevirtual 288, 3) := dk_182 1 32 (dk_at dksX5_unsafe_1 1 rfl rfl)
theorem dX5_unsafe_28 : decode cX5_unsafe 28 = .ok (.ifCond .ne 30, 3) := dk_154 0 30 (dk_at dksX5_unsafe_1 4 rfl rfl)
theorem dX5_unsafe_31 : decode cX5_unsafe 31 = .ok (.aload_n 0, 1) := dk_42 (dk_at dksX5_unsafe_1 7 rfl rfl)
theorem dX5_unsafe_32 : decode cX5_unsafe 32 = .ok (.iload_n 2, 1) := dk_28 (dk_at dksX5_unsafe_1 8 rfl rfl)
theorem dX5_unsafe_33 : decode cX5_unsafe 33 = .ok (.invokevirtual 349, 3) := dk_182 1 93 (dk_at dksX5_unsafe_1 9 rfl rfl)
theorem dX5_unsafe_36 : decode cX5_unsafe 36 = .ok (.aload_n 0, 1) := dk_42 (dk_at dksX5_unsafe_1 12 rfl rfl)
theorem dX5_unsafe_37 : decode cX5_unsafe 37 = .ok (.getfield 9, 3) := dk_180 0 9 (dk_at dksX5_unsafe_1 13 rfl rfl)
theorem dX5_unsafe_40 : decode cX5_unsafe 40 = .ok (.iconst 2, 1) := dk_5 (dk_at dksX5_unsafe_1 16 rfl rfl)
theorem dX5_unsafe_41 : decode cX5_unsafe 41 = .ok (.iaload, 1) := dk_46 (dk_at dksX5_unsafe_1 17 rfl rfl)
theorem dX5_unsafe_42 : decode cX5_unsafe 42 = .ok (.i2l, 1) := dk_133 (dk_at dksX5_unsafe_1 18 rfl rfl)
theorem dX5_unsafe_43 : decode cX5_unsafe 43 = .ok (.aload_n 0, 1) := dk_42 (dk_at dksX5_unsafe_1 19 rfl rfl)
theorem dX5_unsafe_44 : decode cX5_unsafe 44 = .ok (.getfield 50, 3) := dk_180 0 50 (dk_at dksX5_unsafe_1 20 rfl rfl)
theorem dX5_unsafe_47 : decode cX5_unsafe 47 = .ok (.lmul, 1) := dk_105 (dk_at dksX5_unsafe_1 23 rfl rfl)
theorem dX5_unsafe_48 : decode cX5_unsafe 48 = .ok (.lcmp, 1) := dk_148 (dk_at dksX5_unsafe_2 0 rfl rfl)
theorem dX5_unsafe_49 : decode cX5_unsafe 49 = .ok (.ifCond .le 9, 3) := dk_158 0 9 (dk_at dksX5_unsafe_2 1 rfl rfl)
theorem dX5_unsafe_52 : decode cX5_unsafe 52 = .ok (.iconst 1, 1) := dk_4 (dk_at dksX5_unsafe_2 4 rfl rfl)
theorem dX5_unsafe_53 : decode cX5_unsafe 53 = .ok (.iload_n 2, 1) := dk_28 (dk_at dksX5_unsafe_2 5 rfl rfl)
theorem dX5_unsafe_54 : decode cX5_unsafe 54 = .ok (.ishl, 1) := dk_120 (dk_at dksX5_unsafe_2 6 rfl rfl)
theorem dX5_unsafe_55 : decode cX5_unsafe 55 = .ok (.goto 4, 3) := dk_167 0 4 (dk_at dksX5_unsafe_2 7 rfl rfl)
theorem dX5_unsafe_58 : decode cX5_unsafe 58 = .ok (.iconst 0, 1) := dk_3 (dk_at dksX5_unsafe_2 10 rfl rfl)
theorem dX5_unsafe_59 : decode cX5_unsafe 59 = .ok (.ior, 1) := dk_128 (dk_at dksX5_unsafe_2 11 rfl rfl)
theorem dX5_unsafe_60 : decode cX5_unsafe 60 = .ok (.istore_n 1, 1) := dk_60 (dk_at dksX5_unsafe_2 12 rfl rfl)
theorem dX5_unsafe_61 : decode cX5_unsafe 61 = .ok (.iinc 2 1, 3) := dk_132 2 1 (dk_at dksX5_unsafe_2 13 rfl rfl)
theorem dX5_unsafe_64 : decode cX5_unsafe 64 = .ok (.goto (-50), 3) := dk_167 255 206 (dk_at dksX5_unsafe_2 16 rfl rfl)
theorem dX5_unsafe_67 : decode cX5_unsafe 67 = .ok (.iload_n 1, 1) := dk_27 (dk_at dksX5_unsafe_2 19 rfl rfl)
theorem dX5_unsafe_68 : decode cX5_unsafe 68 = .ok (.ireturn, 1) := dk_172 (dk_at dksX5_unsafe_2 20 rfl rfl)
abbrev cX5_heat : ByteArray := prog_17_method_85_code
def yX5_heat : MethodName := ⟨RX5, "heat", "(II)J"⟩
def dkwX5_heat_1 : List UInt8 := [27, 182, 1, 96, 42, 180, 0, 50, 28, 184, 1, 64, 173]
abbrev dktX5_heat_1 : List UInt8 := dkwX5_heat_1 ++ []
def dkwX5_heat_0 : List UInt8 := [42, 27, 182, 1, 49, 153, 0, 10, 28, 184, 1, 57, 154, 0, 7, 20, 1, 60, 173, 42, 182, 1, 36, 42]
abbrev dktX5_heat_0 : List UInt8 := dkwX5_heat_0 ++ dktX5_heat_1
theorem dksX5_heat_0 : cX5_heat.data.toList.drop 0 = dktX5_heat_0 := by decide +kernel
theorem dksX5_heat_1 : cX5_heat.data.toList.drop 24 = dktX5_heat_1 := dk_seg dksX5_heat_0 24 rfl rfl
theorem dX5_heat_0 : decode cX5_heat 0 = .ok (.aload_n 0, 1) := dk_42 (dk_at dksX5_heat_0 0 rfl rfl)
theorem dX5_heat_1 : decode cX5_heat 1 = .ok (.iload_n 1, 1) := dk_27 (dk_at dksX5_heat_0 1 rfl rfl)
theorem dX5_heat_2 : decode cX5_heat 2 = .ok (.invokevirtual 305, 3) := dk_182 1 49 (dk_at dksX5_heat_0 2 rfl rfl)
theorem dX5_heat_5 : decode cX5_heat 5 = .ok (.ifCond .eq 10, 3) := dk_153 0 10 (dk_at dksX5_heat_0 5 rfl rfl)
theorem dX5_heat_8 : decode cX5_heat 8 = .ok (.iload_n 2, 1) := dk_28 (dk_at dksX5_heat_0 8 rfl rfl)
theorem dX5_heat_9 : decode cX5_heat 9 = .ok (.invokestatic 313, 3) := dk_184 1 57 (dk_at dksX5_heat_0 9 rfl rfl)
theorem dX5_heat_12 : decode cX5_heat 12 = .ok (.ifCond .ne 7, 3) := dk_154 0 7 (dk_at dksX5_heat_0 12 rfl rfl)
theorem dX5_heat_15 : decode cX5_heat 15 = .ok (.ldc2_w 316, 3) := dk_20 1 60 (dk_at dksX5_heat_0 15 rfl rfl)
theorem dX5_heat_18 : decode cX5_heat 18 = .ok (.lreturn, 1) := dk_173 (dk_at dksX5_heat_0 18 rfl rfl)
theorem dX5_heat_19 : decode cX5_heat 19 = .ok (.aload_n 0, 1) := dk_42 (dk_at dksX5_heat_0 19 rfl rfl)
theorem dX5_heat_20 : decode cX5_heat 20 = .ok (.invokevirtual 292, 3) := dk_182 1 36 (dk_at dksX5_heat_0 20 rfl rfl)
theorem dX5_heat_23 : decode cX5_heat 23 = .ok (.aload_n 0, 1) := dk_42 (dk_at dksX5_heat_0 23 rfl rfl)
theorem dX5_heat_24 : decode cX5_heat 24 = .ok (.iload_n 1, 1) := dk_27 (dk_at dksX5_heat_1 0 rfl rfl)
theorem dX5_heat_25 : decode cX5_heat 25 = .ok (.invokevirtual 352, 3) := dk_182 1 96 (dk_at dksX5_heat_1 1 rfl rfl)
theorem dX5_heat_28 : decode cX5_heat 28 = .ok (.aload_n 0, 1) := dk_42 (dk_at dksX5_heat_1 4 rfl rfl)
theorem dX5_heat_29 : decode cX5_heat 29 = .ok (.getfield 50, 3) := dk_180 0 50 (dk_at dksX5_heat_1 5 rfl rfl)
theorem dX5_heat_32 : decode cX5_heat 32 = .ok (.iload_n 2, 1) := dk_28 (dk_at dksX5_heat_1 8 rfl rfl)
theorem dX5_heat_33 : decode cX5_heat 33 = .ok (.invokestatic 320, 3) := dk_184 1 64 (dk_at dksX5_heat_1 9 rfl rfl)
theorem dX5_heat_36 : decode cX5_heat 36 = .ok (.lreturn, 1) := dk_173 (dk_at dksX5_heat_1 12 rfl rfl)
abbrev cX5_heatOf : ByteArray := prog_17_method_84_code
def yX5_heatOf : MethodName := ⟨RX5, "heatOf", "(I)J"⟩
def dkwX5_heatOf_1 : List UInt8 := [4, 96, 46, 182, 1, 26, 42, 42, 180, 0, 26, 5, 27, 104, 46, 182, 1, 26, 101, 184, 0, 75, 173]
abbrev dktX5_heatOf_1 : List UInt8 := dkwX5_heatOf_1 ++ []
def dkwX5_heatOf_0 : List UInt8 := [42, 180, 0, 9, 16, 28, 27, 96, 46, 154, 0, 7, 9, 167, 0, 33, 42, 42, 180, 0, 26, 5, 27, 104]
abbrev dktX5_heatOf_0 : List UInt8 := dkwX5_heatOf_0 ++ dktX5_heatOf_1
theorem dksX5_heatOf_0 : cX5_heatOf.data.toList.drop 0 = dktX5_heatOf_0 := by decide +kernel
theorem dksX5_heatOf_1 : cX5_heatOf.data.toList.drop 24 = dktX5_heatOf_1 := dk_seg dksX5_heatOf_0 24 rfl rfl
theorem dX5_heatOf_0 : decode cX5_heatOf 0 = .ok (.aload_n 0, 1) := dk_42 (dk_at dksX5_heatOf_0 0 rfl rfl)
theorem dX5_heatOf_1 : decode cX5_heatOf 1 = .ok (.getfield 9, 3) := dk_180 0 9 (dk_at dksX5_heatOf_0 1 rfl rfl)
theorem dX5_heatOf_4 : decode cX5_heatOf 4 = .ok (.bipush 28, 2) := dk_16 28 (dk_at dksX5_heatOf_0 4 rfl rfl)
theorem dX5_heatOf_6 : decode cX5_heatOf 6 = .ok (.iload_n 1, 1) := dk_27 (dk_at dksX5_heatOf_0 6 rfl rfl)
theorem dX5_heatOf_7 : decode cX5_heatOf 7 = .ok (.iadd, 1) := dk_96 (dk_at dksX5_heatOf_0 7 rfl rfl)
theorem dX5_heatOf_8 : decode cX5_heatOf 8 = .ok (.iaload, 1) := dk_46 (dk_at dksX5_heatOf_0 8 rfl rfl)
theorem dX5_heatOf_9 : decode cX5_heatOf 9 = .ok (.ifCond .ne 7, 3) := dk_154 0 7 (dk_at dksX5_heatOf_0 9 rfl rfl)
theorem dX5_heatOf_12 : decode cX5_heatOf 12 = .ok (.lconst 0, 1) := dk_9 (dk_at dksX5_heatOf_0 12 rfl rfl)
theorem dX5_heatOf_13 : decode cX5_heatOf 13 = .ok (.goto 33, 3) := dk_167 0 33 (dk_at dksX5_heatOf_0 13 rfl rfl)
theorem dX5_heatOf_16 : decode cX5_heatOf 16 = .ok (.aload_n 0, 1) := dk_42 (dk_at dksX5_heatOf_0 16 rfl rfl)
theorem dX5_heatOf_17 : decode cX5_heatOf 17 = .ok (.aload_n 0, 1) := dk_42 (dk_at dksX5_heatOf_0 17 rfl rfl)
theorem dX5_heatOf_18 : decode cX5_heatOf 18 = .ok (.getfield 26, 3) := dk_180 0 26 (dk_at dksX5_heatOf_0 18 rfl rfl)
theorem dX5_heatOf_21 : decode cX5_heatOf 21 = .ok (.iconst 2, 1) := dk_5 (dk_at dksX5_heatOf_0 21 rfl rfl)
theorem dX5_heatOf_22 : decode cX5_heatOf 22 = .ok (.iload_n 1, 1) := dk_27 (dk_at dksX5_heatOf_0 22 rfl rfl)
theorem dX5_heatOf_23 : decode cX5_heatOf 23 = .ok (.imul, 1) := dk_104 (dk_at dksX5_heatOf_0 23 rfl rfl)
theorem dX5_heatOf_24 : decode cX5_heatOf 24 = .ok (.iconst 1, 1) := dk_4 (dk_at dksX5_heatOf_1 0 rfl rfl)
theorem dX5_heatOf_25 : decode cX5_heatOf 25 = .ok (.iadd, 1) := dk_96 (dk_at dksX5_heatOf_1 1 rfl rfl)
theorem dX5_heatOf_26 : decode cX5_heatOf 26 = .ok (.iaload, 1) := dk_46 (dk_at dksX5_heatOf_1 2 rfl rfl)
theorem dX5_heatOf_27 : decode cX5_heatOf 27 = .ok (.invokevirtual 282, 3) := dk_182 1 26 (dk_at dksX5_heatOf_1 3 rfl rfl)
theorem dX5_heatOf_30 : decode cX5_heatOf 30 = .ok (.aload_n 0, 1) := dk_42 (dk_at dksX5_heatOf_1 6 rfl rfl)
theorem dX5_heatOf_31 : decode cX5_heatOf 31 = .ok (.aload_n 0, 1) := dk_42 (dk_at dksX5_heatOf_1 7 rfl rfl)
theorem dX5_heatOf_32 : decode cX5_heatOf 32 = .ok (.getfield 26, 3) := dk_180 0 26 (dk_at dksX5_heatOf_1 8 rfl rfl)
theorem dX5_heatOf_35 : decode cX5_heatOf 35 = .ok (.iconst 2, 1) := dk_5 (dk_at dksX5_heatOf_1 11 rfl rfl)
theorem dX5_heatOf_36 : decode cX5_heatOf 36 = .ok (.iload_n 1, 1) := dk_27 (dk_at dksX5_heatOf_1 12 rfl rfl)
theorem dX5_heatOf_37 : decode cX5_heatOf 37 = .ok (.imul, 1) := dk_104 (dk_at dksX5_heatOf_1 13 rfl rfl)
theorem dX5_heatOf_38 : decode cX5_heatOf 38 = .ok (.iaload, 1) := dk_46 (dk_at dksX5_heatOf_1 14 rfl rfl)
theorem dX5_heatOf_39 : decode cX5_heatOf 39 = .ok (.invokevirtual 282, 3) := dk_182 1 26 (dk_at dksX5_heatOf_1 15 rfl rfl)
theorem dX5_heatOf_42 : decode cX5_heatOf 42 = .ok (.lsub, 1) := dk_101 (dk_at dksX5_heatOf_1 18 rfl rfl)
theorem dX5_heatOf_43 : decode cX5_heatOf 43 = .ok (.invokestatic 75, 3) := dk_184 0 75 (dk_at dksX5_heatOf_1 19 rfl rfl)
theorem dX5_heatOf_46 : decode cX5_heatOf 46 = .ok (.lreturn, 1) := dk_173 (dk_at dksX5_heatOf_1 22 rfl rfl)
abbrev cX5_hottest : ByteArray := prog_17_method_86_code
def yX5_hottest : MethodName := ⟨RX5, "hottest", "()I"⟩
def dkwX5_hottest_2 : List UInt8 := [182, 1, 96, 65, 132, 4, 1, 167, 255, 220, 27, 172]
abbrev dktX5_hottest_2 : List UInt8 := dkwX5_hottest_2 ++ []
def dkwX5_hottest_1 : List UInt8 := [162, 0, 33, 42, 21, 4, 182, 1, 96, 32, 148, 157, 0, 6, 167, 0, 13, 21, 4, 60, 42, 21, 4]
abbrev dktX5_hottest_1 : List UInt8 := dkwX5_hottest_1 ++ dktX5_hottest_2
def dkwX5_hottest_0 : List UInt8 := [42, 182, 1, 46, 154, 0, 6, 16, 254, 172, 2, 60, 9, 65, 3, 54, 4, 21, 4, 42, 180, 0, 102]
abbrev dktX5_hottest_0 : List UInt8 := dkwX5_hottest_0 ++ dktX5_hottest_1
theorem dksX5_hottest_0 : cX5_hottest.data.toList.drop 0 = dktX5_hottest_0 := by decide +kernel
theorem dksX5_hottest_1 : cX5_hottest.data.toList.drop 23 = dktX5_hottest_1 := dk_seg dksX5_hottest_0 23 rfl rfl
theorem dksX5_hottest_2 : cX5_hottest.data.toList.drop 46 = dktX5_hottest_2 := dk_seg dksX5_hottest_1 23 rfl rfl
theorem dX5_hottest_0 : decode cX5_hottest 0 = .ok (.aload_n 0, 1) := dk_42 (dk_at dksX5_hottest_0 0 rfl rfl)
theorem dX5_hottest_1 : decode cX5_hottest 1 = .ok (.invokevirtual 302, 3) := dk_182 1 46 (dk_at dksX5_hottest_0 1 rfl rfl)
theorem dX5_hottest_4 : decode cX5_hottest 4 = .ok (.ifCond .ne 6, 3) := dk_154 0 6 (dk_at dksX5_hottest_0 4 rfl rfl)
theorem dX5_hottest_7 : decode cX5_hottest 7 = .ok (.bipush (-2), 2) := dk_16 254 (dk_at dksX5_hottest_0 7 rfl rfl)
theorem dX5_hottest_9 : decode cX5_hottest 9 = .ok (.ireturn, 1) := dk_172 (dk_at dksX5_hottest_0 9 rfl rfl)
theorem dX5_hottest_10 : decode cX5_hottest 10 = .ok (.iconst (-1), 1) := dk_2 (dk_at dksX5_hottest_0 10 rfl rfl)
theorem dX5_hottest_11 : decode cX5_hottest 11 = .ok (.istore_n 1, 1) := dk_60 (dk_at dksX5_hottest_0 11 rfl rfl)
theorem dX5_hottest_12 : decode cX5_hottest 12 = .ok (.lconst 0, 1) := dk_9 (dk_at dksX5_hottest_0 12 rfl rfl)
theorem dX5_hottest_13 : decode cX5_hottest 13 = .ok (.lstore_n 2, 1) := dk_65 (dk_at dksX5_hottest_0 13 rfl rfl)
theorem dX5_hottest_14 : decode cX5_hottest 14 = .ok (.iconst 0, 1) := dk_3 (dk_at dksX5_hottest_0 14 rfl rfl)
theorem dX5_hottest_15 : decode cX5_hottest 15 = .ok (.istore 4, 2) := dk_54 4 (dk_at dksX5_hottest_0 15 rfl rfl)
theorem dX5_hottest_17 : decode cX5_hottest 17 = .ok (.iload 4, 2) := dk_21 4 (dk_at dksX5_hottest_0 17 rfl rfl)
theorem dX5_hottest_19 : decode cX5_hottest 19 = .ok (.aload_n 0, 1) := dk_42 (dk_at dksX5_hottest_0 19 rfl rfl)
theorem dX5_hottest_20 : decode cX5_hottest 20 = .ok (.getfield 102, 3) := dk_180 0 102 (dk_at dksX5_hottest_0 20 rfl rfl)
theorem dX5_hottest_23 : decode cX5_hottest 23 = .ok (.if_icmp .ge 33, 3) := dk_162 0 33 (dk_at dksX5_hottest_1 0 rfl rfl)
theorem dX5_hottest_26 : decode cX5_hottest 26 = .ok (.aload_n 0, 1) := dk_42 (dk_at dksX5_hottest_1 3 rfl rfl)
theorem dX5_hottest_27 : decode cX5_hottest 27 = .ok (.iload 4, 2) := dk_21 4 (dk_at dksX5_hottest_1 4 rfl rfl)
theorem dX5_hottest_29 : decode cX5_hottest 29 = .ok (.invokevirtual 352, 3) := dk_182 1 96 (dk_at dksX5_hottest_1 6 rfl rfl)
theorem dX5_hottest_32 : decode cX5_hottest 32 = .ok (.lload_n 2, 1) := dk_32 (dk_at dksX5_hottest_1 9 rfl rfl)
theorem dX5_hottest_33 : decode cX5_hottest 33 = .ok (.lcmp, 1) := dk_148 (dk_at dksX5_hottest_1 10 rfl rfl)
theorem dX5_hottest_34 : decode cX5_hottest 34 = .ok (.ifCond .gt 6, 3) := dk_157 0 6 (dk_at dksX5_hottest_1 11 rfl rfl)
theorem dX5_hottest_37 : decode cX5_hottest 37 = .ok (.goto 13, 3) := dk_167 0 13 (dk_at dksX5_hottest_1 14 rfl rfl)
theorem dX5_hottest_40 : decode cX5_hottest 40 = .ok (.iload 4, 2) := dk_21 4 (dk_at dksX5_hottest_1 17 rfl rfl)
theorem dX5_hottest_42 : decode cX5_hottest 42 = .ok (.istore_n 1, 1) := dk_60 (dk_at dksX5_hottest_1 19 rfl rfl)
theorem dX5_hottest_43 : decode cX5_hottest 43 = .ok (.aload_n 0, 1) := dk_42 (dk_at dksX5_hottest_1 20 rfl rfl)
theorem dX5_hottest_44 : decode cX5_hottest 44 = .ok (.iload 4, 2) := dk_21 4 (dk_at dksX5_hottest_1 21 rfl rfl)
theorem dX5_hottest_46 : decode cX5_hottest 46 = .ok (.invokevirtual 352, 3) := dk_182 1 96 (dk_at dksX5_hottest_2 0 rfl rfl)
theorem dX5_hottest_49 : decode cX5_hottest 49 = .ok (.lstore_n 2, 1) := dk_65 (dk_at dksX5_hottest_2 3 rfl rfl)
theorem dX5_hottest_50 : decode cX5_hottest 50 = .ok (.iinc 4 1, 3) := dk_132 4 1 (dk_at dksX5_hottest_2 4 rfl rfl)
theorem dX5_hottest_53 : decode cX5_hottest 53 = .ok (.goto (-36), 3) := dk_167 255 220 (dk_at dksX5_hottest_2 7 rfl rfl)
theorem dX5_hottest_56 : decode cX5_hottest 56 = .ok (.iload_n 1, 1) := dk_27 (dk_at dksX5_hottest_2 10 rfl rfl)
theorem dX5_hottest_57 : decode cX5_hottest 57 = .ok (.ireturn, 1) := dk_172 (dk_at dksX5_hottest_2 11 rfl rfl)
abbrev cX5_wearing : ByteArray := prog_17_method_88_code
def yX5_wearing : MethodName := ⟨RX5, "wearing", "()I"⟩
def dkwX5_wearing_0 : List UInt8 := [42, 182, 0, 109, 153, 0, 10, 42, 182, 1, 99, 167, 0, 5, 16, 254, 172]
abbrev dktX5_wearing_0 : List UInt8 := dkwX5_wearing_0 ++ []
theorem dksX5_wearing_0 : cX5_wearing.data.toList.drop 0 = dktX5_wearing_0 := by decide +kernel
theorem dX5_wearing_0 : decode cX5_wearing 0 = .ok (.aload_n 0, 1) := dk_42 (dk_at dksX5_wearing_0 0 rfl rfl)
theorem dX5_wearing_1 : decode cX5_wearing 1 = .ok (.invokevirtual 109, 3) := dk_182 0 109 (dk_at dksX5_wearing_0 1 rfl rfl)
theorem dX5_wearing_4 : decode cX5_wearing 4 = .ok (.ifCond .eq 10, 3) := dk_153 0 10 (dk_at dksX5_wearing_0 4 rfl rfl)
theorem dX5_wearing_7 : decode cX5_wearing 7 = .ok (.aload_n 0, 1) := dk_42 (dk_at dksX5_wearing_0 7 rfl rfl)
theorem dX5_wearing_8 : decode cX5_wearing 8 = .ok (.invokevirtual 355, 3) := dk_182 1 99 (dk_at dksX5_wearing_0 8 rfl rfl)
theorem dX5_wearing_11 : decode cX5_wearing 11 = .ok (.goto 5, 3) := dk_167 0 5 (dk_at dksX5_wearing_0 11 rfl rfl)
theorem dX5_wearing_14 : decode cX5_wearing 14 = .ok (.bipush (-2), 2) := dk_16 254 (dk_at dksX5_wearing_0 14 rfl rfl)
theorem dX5_wearing_16 : decode cX5_wearing 16 = .ok (.ireturn, 1) := dk_172 (dk_at dksX5_wearing_0 16 rfl rfl)
abbrev cX5_wears : ByteArray := prog_17_method_87_code
def yX5_wears : MethodName := ⟨RX5, "wears", "()I"⟩
def dkwX5_wears_2 : List UInt8 := [132, 2, 1, 167, 255, 214, 27, 172]
abbrev dktX5_wears_2 : List UInt8 := dkwX5_wears_2 ++ []
def dkwX5_wears_1 : List UInt8 := [180, 0, 9, 6, 46, 133, 42, 180, 0, 50, 105, 148, 158, 0, 9, 4, 28, 120, 167, 0, 4, 3, 128, 60]
abbrev dktX5_wears_1 : List UInt8 := dkwX5_wears_1 ++ dktX5_wears_2
def dkwX5_wears_0 : List UInt8 := [42, 182, 1, 36, 3, 60, 3, 61, 28, 42, 180, 0, 102, 162, 0, 40, 27, 42, 28, 182, 1, 96, 42]
abbrev dktX5_wears_0 : List UInt8 := dkwX5_wears_0 ++ dktX5_wears_1
theorem dksX5_wears_0 : cX5_wears.data.toList.drop 0 = dktX5_wears_0 := by decide +kernel
theorem dksX5_wears_1 : cX5_wears.data.toList.drop 23 = dktX5_wears_1 := dk_seg dksX5_wears_0 23 rfl rfl
theorem dksX5_wears_2 : cX5_wears.data.toList.drop 47 = dktX5_wears_2 := dk_seg dksX5_wears_1 24 rfl rfl
theorem dX5_wears_0 : decode cX5_wears 0 = .ok (.aload_n 0, 1) := dk_42 (dk_at dksX5_wears_0 0 rfl rfl)
theorem dX5_wears_1 : decode cX5_wears 1 = .ok (.invokevirtual 292, 3) := dk_182 1 36 (dk_at dksX5_wears_0 1 rfl rfl)
theorem dX5_wears_4 : decode cX5_wears 4 = .ok (.iconst 0, 1) := dk_3 (dk_at dksX5_wears_0 4 rfl rfl)
theorem dX5_wears_5 : decode cX5_wears 5 = .ok (.istore_n 1, 1) := dk_60 (dk_at dksX5_wears_0 5 rfl rfl)
theorem dX5_wears_6 : decode cX5_wears 6 = .ok (.iconst 0, 1) := dk_3 (dk_at dksX5_wears_0 6 rfl rfl)
theorem dX5_wears_7 : decode cX5_wears 7 = .ok (.istore_n 2, 1) := dk_61 (dk_at dksX5_wears_0 7 rfl rfl)
theorem dX5_wears_8 : decode cX5_wears 8 = .ok (.iload_n 2, 1) := dk_28 (dk_at dksX5_wears_0 8 rfl rfl)
theorem dX5_wears_9 : decode cX5_wears 9 = .ok (.aload_n 0, 1) := dk_42 (dk_at dksX5_wears_0 9 rfl rfl)
theorem dX5_wears_10 : decode cX5_wears 10 = .ok (.getfield 102, 3) := dk_180 0 102 (dk_at dksX5_wears_0 10 rfl rfl)
theorem dX5_wears_13 : decode cX5_wears 13 = .ok (.if_icmp .ge 40, 3) := dk_162 0 40 (dk_at dksX5_wears_0 13 rfl rfl)
theorem dX5_wears_16 : decode cX5_wears 16 = .ok (.iload_n 1, 1) := dk_27 (dk_at dksX5_wears_0 16 rfl rfl)
theorem dX5_wears_17 : decode cX5_wears 17 = .ok (.aload_n 0, 1) := dk_42 (dk_at dksX5_wears_0 17 rfl rfl)
theorem dX5_wears_18 : decode cX5_wears 18 = .ok (.iload_n 2, 1) := dk_28 (dk_at dksX5_wears_0 18 rfl rfl)
theorem dX5_wears_19 : decode cX5_wears 19 = .ok (.invokevirtual 352, 3) := dk_182 1 96 (dk_at dksX5_wears_0 19 rfl rfl)
theorem dX5_wears_22 : decode cX5_wears 22 = .ok (.aload_n 0, 1) := dk_42 (dk_at dksX5_wears_0 22 rfl rfl)
theorem dX5_wears_23 : decode cX5_wears 23 = .ok (.getfield 9, 3) := dk_180 0 9 (dk_at dksX5_wears_1 0 rfl rfl)
theorem dX5_wears_26 : decode cX5_wears 26 = .ok (.iconst 3, 1) := dk_6 (dk_at dksX5_wears_1 3 rfl rfl)
theorem dX5_wears_27 : decode cX5_wears 27 = .ok (.iaload, 1) := dk_46 (dk_at dksX5_wears_1 4 rfl rfl)
theorem dX5_wears_28 : decode cX5_wears 28 = .ok (.i2l, 1) := dk_133 (dk_at dksX5_wears_1 5 rfl rfl)
theorem dX5_wears_29 : decode cX5_wears 29 = .ok (.aload_n 0, 1) := dk_42 (dk_at dksX5_wears_1 6 rfl rfl)
theorem dX5_wears_30 : decode cX5_wears 30 = .ok (.getfield 50, 3) := dk_180 0 50 (dk_at dksX5_wears_1 7 rfl rfl)
theorem dX5_wears_33 : decode cX5_wears 33 = .ok (.lmul, 1) := dk_105 (dk_at dksX5_wears_1 10 rfl rfl)
theorem dX5_wears_34 : decode cX5_wears 34 = .ok (.lcmp, 1) := dk_148 (dk_at dksX5_wears_1 11 rfl rfl)
theorem dX5_wears_35 : decode cX5_wears 35 = .ok (.ifCond .le 9, 3) := dk_158 0 9 (dk_at dksX5_wears_1 12 rfl rfl)
theorem dX5_wears_38 : decode cX5_wears 38 = .ok (.iconst 1, 1) := dk_4 (dk_at dksX5_wears_1 15 rfl rfl)
theorem dX5_wears_39 : decode cX5_wears 39 = .ok (.iload_n 2, 1) := dk_28 (dk_at dksX5_wears_1 16 rfl rfl)
theorem dX5_wears_40 : decode cX5_wears 40 = .ok (.ishl, 1) := dk_120 (dk_at dksX5_wears_1 17 rfl rfl)
theorem dX5_wears_41 : decode cX5_wears 41 = .ok (.goto 4, 3) := dk_167 0 4 (dk_at dksX5_wears_1 18 rfl rfl)
theorem dX5_wears_44 : decode cX5_wears 44 = .ok (.iconst 0, 1) := dk_3 (dk_at dksX5_wears_1 21 rfl rfl)
theorem dX5_wears_45 : decode cX5_wears 45 = .ok (.ior, 1) := dk_128 (dk_at dksX5_wears_1 22 rfl rfl)
theorem dX5_wears_46 : decode cX5_wears 46 = .ok (.istore_n 1, 1) := dk_60 (dk_at dksX5_wears_1 23 rfl rfl)
theorem dX5_wears_47 : decode cX5_wears 47 = .ok (.iinc 2 1, 3) := dk_132 2 1 (dk_at dksX5_wears_2 0 rfl rfl)
theorem dX5_wears_50 : decode cX5_wears 50 = .ok (.goto (-42), 3) := dk_167 255 214 (dk_at dksX5_wears_2 3 rfl rfl)
theorem dX5_wears_53 : decode cX5_wears 53 = .ok (.iload_n 1, 1) := dk_27 (dk_at dksX5_wears_2 6 rfl rfl)
theorem dX5_wears_54 : decode cX5_wears 54 = .ok (.ireturn, 1) := dk_172 (dk_at dksX5_wears_2 7 rfl rfl)
abbrev cX5_aged : ByteArray := prog_17_method_92_code
def yX5_aged : MethodName := ⟨RX5, "aged", "(II)I"⟩
def dkwX5_aged_2 : List UInt8 := [180, 0, 9, 16, 28, 28, 96, 46, 62, 42, 182, 1, 110, 29, 172]
abbrev dktX5_aged_2 : List UInt8 := dkwX5_aged_2 ++ []
def dkwX5_aged_1 : List UInt8 := [182, 1, 104, 3, 62, 29, 27, 162, 0, 14, 42, 182, 1, 107, 87, 132, 3, 1, 167, 255, 243, 42]
abbrev dktX5_aged_1 : List UInt8 := dkwX5_aged_1 ++ dktX5_aged_2
def dkwX5_aged_0 : List UInt8 := [27, 133, 9, 20, 1, 102, 184, 0, 87, 153, 0, 11, 42, 28, 182, 1, 49, 154, 0, 6, 16, 254, 172, 42]
abbrev dktX5_aged_0 : List UInt8 := dkwX5_aged_0 ++ dktX5_aged_1
theorem dksX5_aged_0 : cX5_aged.data.toList.drop 0 = dktX5_aged_0 := by decide +kernel
theorem dksX5_aged_1 : cX5_aged.data.toList.drop 24 = dktX5_aged_1 := dk_seg dksX5_aged_0 24 rfl rfl
theorem dksX5_aged_2 : cX5_aged.data.toList.drop 46 = dktX5_aged_2 := dk_seg dksX5_aged_1 22 rfl rfl
theorem dX5_aged_0 : decode cX5_aged 0 = .ok (.iload_n 1, 1) := dk_27 (dk_at dksX5_aged_0 0 rfl rfl)
theorem dX5_aged_1 : decode cX5_aged 1 = .ok (.i2l, 1) := dk_133 (dk_at dksX5_aged_0 1 rfl rfl)
theorem dX5_aged_2 : decode cX5_aged 2 = .ok (.lconst 0, 1) := dk_9 (dk_at dksX5_aged_0 2 rfl rfl)
theorem dX5_aged_3 : decode cX5_aged 3 = .ok (.ldc2_w 358, 3) := dk_20 1 102 (dk_at dksX5_aged_0 3 rfl rfl)
theorem dX5_aged_6 : decode cX5_aged 6 = .ok (.invokestatic 87, 3) := dk_184 0 87 (dk_at dksX5_aged_0 6 rfl rfl)
theorem dX5_aged_9 : decode cX5_aged 9 = .ok (.ifCond .eq 11, 3) := dk_153 0 11 (dk_at dksX5_aged_0 9 rfl rfl)
theorem dX5_aged_12 : decode cX5_aged 12 = .ok (.aload_n 0, 1) := dk_42 (dk_at dksX5_aged_0 12 rfl rfl)
theorem dX5_aged_13 : decode cX5_aged 13 = .ok (.iload_n 2, 1) := dk_28 (dk_at dksX5_aged_0 13 rfl rfl)
theorem dX5_aged_14 : decode cX5_aged 14 = .ok (.invokevirtual 305, 3) := dk_182 1 49 (dk_at dksX5_aged_0 14 rfl rfl)
theorem dX5_aged_17 : decode cX5_aged 17 = .ok (.ifCond .ne 6, 3) := dk_154 0 6 (dk_at dksX5_aged_0 17 rfl rfl)
theorem dX5_aged_20 : decode cX5_aged 20 = .ok (.bipush (-2), 2) := dk_16 254 (dk_at dksX5_aged_0 20 rfl rfl)
theorem dX5_aged_22 : decode cX5_aged 22 = .ok (.ireturn, 1) := dk_172 (dk_at dksX5_aged_0 22 rfl rfl)
theorem dX5_aged_23 : decode cX5_aged 23 = .ok (.aload_n 0, 1) := dk_42 (dk_at dksX5_aged_0 23 rfl rfl)
theorem dX5_aged_24 : decode cX5_aged 24 = .ok (.invokevirtual 360, 3) := dk_182 1 104 (dk_at dksX5_aged_1 0 rfl rfl)
theorem dX5_aged_27 : decode cX5_aged 27 = .ok (.iconst 0, 1) := dk_3 (dk_at dksX5_aged_1 3 rfl rfl)
theorem dX5_aged_28 : decode cX5_aged 28 = .ok (.istore_n 3, 1) := dk_62 (dk_at dksX5_aged_1 4 rfl rfl)
theorem dX5_aged_29 : decode cX5_aged 29 = .ok (.iload_n 3, 1) := dk_29 (dk_at dksX5_aged_1 5 rfl rfl)
theorem dX5_aged_30 : decode cX5_aged 30 = .ok (.iload_n 1, 1) := dk_27 (dk_at dksX5_aged_1 6 rfl rfl)
theorem dX5_aged_31 : decode cX5_aged 31 = .ok (.if_icmp .ge 14, 3) := dk_162 0 14 (dk_at dksX5_aged_1 7 rfl rfl)
theorem dX5_aged_34 : decode cX5_aged 34 = .ok (.aload_n 0, 1) := dk_42 (dk_at dksX5_aged_1 10 rfl rfl)
theorem dX5_aged_35 : decode cX5_aged 35 = .ok (.invokevirtual 363, 3) := dk_182 1 107 (dk_at dksX5_aged_1 11 rfl rfl)
theorem dX5_aged_38 : decode cX5_aged 38 = .ok (.pop, 1) := dk_87 (dk_at dksX5_aged_1 14 rfl rfl)
theorem dX5_aged_39 : decode cX5_aged 39 = .ok (.iinc 3 1, 3) := dk_132 3 1 (dk_at dksX5_aged_1 15 rfl rfl)
theorem dX5_aged_42 : decode cX5_aged 42 = .ok (.goto (-13), 3) := dk_167 255 243 (dk_at dksX5_aged_1 18 rfl rfl)
theorem dX5_aged_45 : decode cX5_aged 45 = .ok (.aload_n 0, 1) := dk_42 (dk_at dksX5_aged_1 21 rfl rfl)
theorem dX5_aged_46 : decode cX5_aged 46 = .ok (.getfield 9, 3) := dk_180 0 9 (dk_at dksX5_aged_2 0 rfl rfl)
theorem dX5_aged_49 : decode cX5_aged 49 = .ok (.bipush 28, 2) := dk_16 28 (dk_at dksX5_aged_2 3 rfl rfl)
theorem dX5_aged_51 : decode cX5_aged 51 = .ok (.iload_n 2, 1) := dk_28 (dk_at dksX5_aged_2 5 rfl rfl)
theorem dX5_aged_52 : decode cX5_aged 52 = .ok (.iadd, 1) := dk_96 (dk_at dksX5_aged_2 6 rfl rfl)
theorem dX5_aged_53 : decode cX5_aged 53 = .ok (.iaload, 1) := dk_46 (dk_at dksX5_aged_2 7 rfl rfl)
theorem dX5_aged_54 : decode cX5_aged 54 = .ok (.istore_n 3, 1) := dk_62 (dk_at dksX5_aged_2 8 rfl rfl)
theorem dX5_aged_55 : decode cX5_aged 55 = .ok (.aload_n 0, 1) := dk_42 (dk_at dksX5_aged_2 9 rfl rfl)
theorem dX5_aged_56 : decode cX5_aged 56 = .ok (.invokevirtual 366, 3) := dk_182 1 110 (dk_at dksX5_aged_2 10 rfl rfl)
theorem dX5_aged_59 : decode cX5_aged 59 = .ok (.iload_n 3, 1) := dk_29 (dk_at dksX5_aged_2 13 rfl rfl)
theorem dX5_aged_60 : decode cX5_aged 60 = .ok (.ireturn, 1) := dk_172 (dk_at dksX5_aged_2 14 rfl rfl)
abbrev cX5_puts : ByteArray := prog_17_method_90_code
def yX5_puts : MethodName := ⟨RX5, "puts", "()V"⟩
def dkwX5_puts_1 : List UInt8 := [167, 255, 235, 177]
abbrev dktX5_puts_1 : List UInt8 := dkwX5_puts_1 ++ []
def dkwX5_puts_0 : List UInt8 := [3, 60, 27, 16, 40, 162, 0, 21, 42, 180, 0, 63, 27, 42, 180, 0, 9, 27, 46, 79, 132, 1, 1]
abbrev dktX5_puts_0 : List UInt8 := dkwX5_puts_0 ++ dktX5_puts_1
theorem dksX5_puts_0 : cX5_puts.data.toList.drop 0 = dktX5_puts_0 := by decide +kernel
theorem dksX5_puts_1 : cX5_puts.data.toList.drop 23 = dktX5_puts_1 := dk_seg dksX5_puts_0 23 rfl rfl
theorem dX5_puts_0 : decode cX5_puts 0 = .ok (.iconst 0, 1) := dk_3 (dk_at dksX5_puts_0 0 rfl rfl)
theorem dX5_puts_1 : decode cX5_puts 1 = .ok (.istore_n 1, 1) := dk_60 (dk_at dksX5_puts_0 1 rfl rfl)
theorem dX5_puts_2 : decode cX5_puts 2 = .ok (.iload_n 1, 1) := dk_27 (dk_at dksX5_puts_0 2 rfl rfl)
theorem dX5_puts_3 : decode cX5_puts 3 = .ok (.bipush 40, 2) := dk_16 40 (dk_at dksX5_puts_0 3 rfl rfl)
theorem dX5_puts_5 : decode cX5_puts 5 = .ok (.if_icmp .ge 21, 3) := dk_162 0 21 (dk_at dksX5_puts_0 5 rfl rfl)
theorem dX5_puts_8 : decode cX5_puts 8 = .ok (.aload_n 0, 1) := dk_42 (dk_at dksX5_puts_0 8 rfl rfl)
theorem dX5_puts_9 : decode cX5_puts 9 = .ok (.getfield 63, 3) := dk_180 0 63 (dk_at dksX5_puts_0 9 rfl rfl)
theorem dX5_puts_12 : decode cX5_puts 12 = .ok (.iload_n 1, 1) := dk_27 (dk_at dksX5_puts_0 12 rfl rfl)
theorem dX5_puts_13 : decode cX5_puts 13 = .ok (.aload_n 0, 1) := dk_42 (dk_at dksX5_puts_0 13 rfl rfl)
theorem dX5_puts_14 : decode cX5_puts 14 = .ok (.getfield 9, 3) := dk_180 0 9 (dk_at dksX5_puts_0 14 rfl rfl)
theorem dX5_puts_17 : decode cX5_puts 17 = .ok (.iload_n 1, 1) := dk_27 (dk_at dksX5_puts_0 17 rfl rfl)
theorem dX5_puts_18 : decode cX5_puts 18 = .ok (.iaload, 1) := dk_46 (dk_at dksX5_puts_0 18 rfl rfl)
theorem dX5_puts_19 : decode cX5_puts 19 = .ok (.iastore, 1) := dk_79 (dk_at dksX5_puts_0 19 rfl rfl)
theorem dX5_puts_20 : decode cX5_puts 20 = .ok (.iinc 1 1, 3) := dk_132 1 1 (dk_at dksX5_puts_0 20 rfl rfl)
theorem dX5_puts_23 : decode cX5_puts 23 = .ok (.goto (-21), 3) := dk_167 255 235 (dk_at dksX5_puts_1 0 rfl rfl)
theorem dX5_puts_26 : decode cX5_puts 26 = .ok (.return_, 1) := dk_177 (dk_at dksX5_puts_1 3 rfl rfl)
abbrev cX5_ages : ByteArray := prog_17_method_89_code
def yX5_ages : MethodName := ⟨RX5, "ages", "()I"⟩
def dkwX5_ages_1 : List UInt8 := [180, 0, 9, 16, 28, 28, 96, 92, 46, 4, 100, 79, 132, 2, 1, 167, 255, 224, 27, 172]
abbrev dktX5_ages_1 : List UInt8 := dkwX5_ages_1 ++ []
def dkwX5_ages_0 : List UInt8 := [42, 182, 1, 99, 60, 3, 61, 28, 42, 180, 0, 102, 162, 0, 30, 27, 28, 184, 0, 209, 153, 0, 16, 42]
abbrev dktX5_ages_0 : List UInt8 := dkwX5_ages_0 ++ dktX5_ages_1
theorem dksX5_ages_0 : cX5_ages.data.toList.drop 0 = dktX5_ages_0 := by decide +kernel
theorem dksX5_ages_1 : cX5_ages.data.toList.drop 24 = dktX5_ages_1 := dk_seg dksX5_ages_0 24 rfl rfl
theorem dX5_ages_0 : decode cX5_ages 0 = .ok (.aload_n 0, 1) := dk_42 (dk_at dksX5_ages_0 0 rfl rfl)
theorem dX5_ages_1 : decode cX5_ages 1 = .ok (.invokevirtual 355, 3) := dk_182 1 99 (dk_at dksX5_ages_0 1 rfl rfl)
theorem dX5_ages_4 : decode cX5_ages 4 = .ok (.istore_n 1, 1) := dk_60 (dk_at dksX5_ages_0 4 rfl rfl)
theorem dX5_ages_5 : decode cX5_ages 5 = .ok (.iconst 0, 1) := dk_3 (dk_at dksX5_ages_0 5 rfl rfl)
theorem dX5_ages_6 : decode cX5_ages 6 = .ok (.istore_n 2, 1) := dk_61 (dk_at dksX5_ages_0 6 rfl rfl)
theorem dX5_ages_7 : decode cX5_ages 7 = .ok (.iload_n 2, 1) := dk_28 (dk_at dksX5_ages_0 7 rfl rfl)
theorem dX5_ages_8 : decode cX5_ages 8 = .ok (.aload_n 0, 1) := dk_42 (dk_at dksX5_ages_0 8 rfl rfl)
theorem dX5_ages_9 : decode cX5_ages 9 = .ok (.getfield 102, 3) := dk_180 0 102 (dk_at dksX5_ages_0 9 rfl rfl)
theorem dX5_ages_12 : decode cX5_ages 12 = .ok (.if_icmp .ge 30, 3) := dk_162 0 30 (dk_at dksX5_ages_0 12 rfl rfl)
theorem dX5_ages_15 : decode cX5_ages 15 = .ok (.iload_n 1, 1) := dk_27 (dk_at dksX5_ages_0 15 rfl rfl)
theorem dX5_ages_16 : decode cX5_ages 16 = .ok (.iload_n 2, 1) := dk_28 (dk_at dksX5_ages_0 16 rfl rfl)
theorem dX5_ages_17 : decode cX5_ages 17 = .ok (.invokestatic 209, 3) := dk_184 0 209 (dk_at dksX5_ages_0 17 rfl rfl)
theorem dX5_ages_20 : decode cX5_ages 20 = .ok (.ifCond .eq 16, 3) := dk_153 0 16 (dk_at dksX5_ages_0 20 rfl rfl)
theorem dX5_ages_23 : decode cX5_ages 23 = .ok (.aload_n 0, 1) := dk_42 (dk_at dksX5_ages_0 23 rfl rfl)
theorem dX5_ages_24 : decode cX5_ages 24 = .ok (.getfield 9, 3) := dk_180 0 9 (dk_at dksX5_ages_1 0 rfl rfl)
theorem dX5_ages_27 : decode cX5_ages 27 = .ok (.bipush 28, 2) := dk_16 28 (dk_at dksX5_ages_1 3 rfl rfl)
theorem dX5_ages_29 : decode cX5_ages 29 = .ok (.iload_n 2, 1) := dk_28 (dk_at dksX5_ages_1 5 rfl rfl)
theorem dX5_ages_30 : decode cX5_ages 30 = .ok (.iadd, 1) := dk_96 (dk_at dksX5_ages_1 6 rfl rfl)
theorem dX5_ages_31 : decode cX5_ages 31 = .ok (.dup2, 1) := dk_92 (dk_at dksX5_ages_1 7 rfl rfl)
theorem dX5_ages_32 : decode cX5_ages 32 = .ok (.iaload, 1) := dk_46 (dk_at dksX5_ages_1 8 rfl rfl)
theorem dX5_ages_33 : decode cX5_ages 33 = .ok (.iconst 1, 1) := dk_4 (dk_at dksX5_ages_1 9 rfl rfl)
theorem dX5_ages_34 : decode cX5_ages 34 = .ok (.isub, 1) := dk_100 (dk_at dksX5_ages_1 10 rfl rfl)
theorem dX5_ages_35 : decode cX5_ages 35 = .ok (.iastore, 1) := dk_79 (dk_at dksX5_ages_1 11 rfl rfl)
theorem dX5_ages_36 : decode cX5_ages 36 = .ok (.iinc 2 1, 3) := dk_132 2 1 (dk_at dksX5_ages_1 12 rfl rfl)
theorem dX5_ages_39 : decode cX5_ages 39 = .ok (.goto (-32), 3) := dk_167 255 224 (dk_at dksX5_ages_1 15 rfl rfl)
theorem dX5_ages_42 : decode cX5_ages 42 = .ok (.iload_n 1, 1) := dk_27 (dk_at dksX5_ages_1 18 rfl rfl)
theorem dX5_ages_43 : decode cX5_ages 43 = .ok (.ireturn, 1) := dk_172 (dk_at dksX5_ages_1 19 rfl rfl)
abbrev cX5_takesOut : ByteArray := prog_17_method_91_code
def yX5_takesOut : MethodName := ⟨RX5, "takesOut", "()V"⟩
def dkwX5_takesOut_1 : List UInt8 := [167, 255, 235, 177]
abbrev dktX5_takesOut_1 : List UInt8 := dkwX5_takesOut_1 ++ []
def dkwX5_takesOut_0 : List UInt8 := [3, 60, 27, 16, 40, 162, 0, 21, 42, 180, 0, 9, 27, 42, 180, 0, 63, 27, 46, 79, 132, 1, 1]
abbrev dktX5_takesOut_0 : List UInt8 := dkwX5_takesOut_0 ++ dktX5_takesOut_1
theorem dksX5_takesOut_0 : cX5_takesOut.data.toList.drop 0 = dktX5_takesOut_0 := by decide +kernel
theorem dksX5_takesOut_1 : cX5_takesOut.data.toList.drop 23 = dktX5_takesOut_1 := dk_seg dksX5_takesOut_0 23 rfl rfl
theorem dX5_takesOut_0 : decode cX5_takesOut 0 = .ok (.iconst 0, 1) := dk_3 (dk_at dksX5_takesOut_0 0 rfl rfl)
theorem dX5_takesOut_1 : decode cX5_takesOut 1 = .ok (.istore_n 1, 1) := dk_60 (dk_at dksX5_takesOut_0 1 rfl rfl)
theorem dX5_takesOut_2 : decode cX5_takesOut 2 = .ok (.iload_n 1, 1) := dk_27 (dk_at dksX5_takesOut_0 2 rfl rfl)
theorem dX5_takesOut_3 : decode cX5_takesOut 3 = .ok (.bipush 40, 2) := dk_16 40 (dk_at dksX5_takesOut_0 3 rfl rfl)
theorem dX5_takesOut_5 : decode cX5_takesOut 5 = .ok (.if_icmp .ge 21, 3) := dk_162 0 21 (dk_at dksX5_takesOut_0 5 rfl rfl)
theorem dX5_takesOut_8 : decode cX5_takesOut 8 = .ok (.aload_n 0, 1) := dk_42 (dk_at dksX5_takesOut_0 8 rfl rfl)
theorem dX5_takesOut_9 : decode cX5_takesOut 9 = .ok (.getfield 9, 3) := dk_180 0 9 (dk_at dksX5_takesOut_0 9 rfl rfl)
theorem dX5_takesOut_12 : decode cX5_takesOut 12 = .ok (.iload_n 1, 1) := dk_27 (dk_at dksX5_takesOut_0 12 rfl rfl)
theorem dX5_takesOut_13 : decode cX5_takesOut 13 = .ok (.aload_n 0, 1) := dk_42 (dk_at dksX5_takesOut_0 13 rfl rfl)
theorem dX5_takesOut_14 : decode cX5_takesOut 14 = .ok (.getfield 63, 3) := dk_180 0 63 (dk_at dksX5_takesOut_0 14 rfl rfl)
theorem dX5_takesOut_17 : decode cX5_takesOut 17 = .ok (.iload_n 1, 1) := dk_27 (dk_at dksX5_takesOut_0 17 rfl rfl)
theorem dX5_takesOut_18 : decode cX5_takesOut 18 = .ok (.iaload, 1) := dk_46 (dk_at dksX5_takesOut_0 18 rfl rfl)
theorem dX5_takesOut_19 : decode cX5_takesOut 19 = .ok (.iastore, 1) := dk_79 (dk_at dksX5_takesOut_0 19 rfl rfl)
theorem dX5_takesOut_20 : decode cX5_takesOut 20 = .ok (.iinc 1 1, 3) := dk_132 1 1 (dk_at dksX5_takesOut_0 20 rfl rfl)
theorem dX5_takesOut_23 : decode cX5_takesOut 23 = .ok (.goto (-21), 3) := dk_167 255 235 (dk_at dksX5_takesOut_1 0 rfl rfl)
theorem dX5_takesOut_26 : decode cX5_takesOut 26 = .ok (.return_, 1) := dk_177 (dk_at dksX5_takesOut_1 3 rfl rfl)
abbrev cX5_lasts : ByteArray := prog_17_method_93_code
def yX5_lasts : MethodName := ⟨RX5, "lasts", "()I"⟩
def dkwX5_lasts_2 : List UInt8 := [182, 1, 110, 28, 153, 0, 7, 2, 167, 0, 4, 27, 172]
abbrev dktX5_lasts_2 : List UInt8 := dkwX5_lasts_2 ++ []
def dkwX5_lasts_1 : List UInt8 := [153, 0, 21, 42, 182, 1, 107, 153, 0, 14, 132, 1, 1, 42, 182, 1, 78, 61, 167, 255, 237, 42]
abbrev dktX5_lasts_1 : List UInt8 := dkwX5_lasts_1 ++ dktX5_lasts_2
def dkwX5_lasts_0 : List UInt8 := [42, 182, 0, 109, 154, 0, 6, 16, 254, 172, 42, 182, 1, 104, 3, 60, 42, 182, 1, 78, 61, 28]
abbrev dktX5_lasts_0 : List UInt8 := dkwX5_lasts_0 ++ dktX5_lasts_1
theorem dksX5_lasts_0 : cX5_lasts.data.toList.drop 0 = dktX5_lasts_0 := by decide +kernel
theorem dksX5_lasts_1 : cX5_lasts.data.toList.drop 22 = dktX5_lasts_1 := dk_seg dksX5_lasts_0 22 rfl rfl
theorem dksX5_lasts_2 : cX5_lasts.data.toList.drop 44 = dktX5_lasts_2 := dk_seg dksX5_lasts_1 22 rfl rfl
theorem dX5_lasts_0 : decode cX5_lasts 0 = .ok (.aload_n 0, 1) := dk_42 (dk_at dksX5_lasts_0 0 rfl rfl)
theorem dX5_lasts_1 : decode cX5_lasts 1 = .ok (.invokevirtual 109, 3) := dk_182 0 109 (dk_at dksX5_lasts_0 1 rfl rfl)
theorem dX5_lasts_4 : decode cX5_lasts 4 = .ok (.ifCond .ne 6, 3) := dk_154 0 6 (dk_at dksX5_lasts_0 4 rfl rfl)
theorem dX5_lasts_7 : decode cX5_lasts 7 = .ok (.bipush (-2), 2) := dk_16 254 (dk_at dksX5_lasts_0 7 rfl rfl)
theorem dX5_lasts_9 : decode cX5_lasts 9 = .ok (.ireturn, 1) := dk_172 (dk_at dksX5_lasts_0 9 rfl rfl)
theorem dX5_lasts_10 : decode cX5_lasts 10 = .ok (.aload_n 0, 1) := dk_42 (dk_at dksX5_lasts_0 10 rfl rfl)
theorem dX5_lasts_11 : decode cX5_lasts 11 = .ok (.invokevirtual 360, 3) := dk_182 1 104 (dk_at dksX5_lasts_0 11 rfl rfl)
theorem dX5_lasts_14 : decode cX5_lasts 14 = .ok (.iconst 0, 1) := dk_3 (dk_at dksX5_lasts_0 14 rfl rfl)
theorem dX5_lasts_15 : decode cX5_lasts 15 = .ok (.istore_n 1, 1) := dk_60 (dk_at dksX5_lasts_0 15 rfl rfl)
theorem dX5_lasts_16 : decode cX5_lasts 16 = .ok (.aload_n 0, 1) := dk_42 (dk_at dksX5_lasts_0 16 rfl rfl)
theorem dX5_lasts_17 : decode cX5_lasts 17 = .ok (.invokevirtual 334, 3) := dk_182 1 78 (dk_at dksX5_lasts_0 17 rfl rfl)
theorem dX5_lasts_20 : decode cX5_lasts 20 = .ok (.istore_n 2, 1) := dk_61 (dk_at dksX5_lasts_0 20 rfl rfl)
theorem dX5_lasts_21 : decode cX5_lasts 21 = .ok (.iload_n 2, 1) := dk_28 (dk_at dksX5_lasts_0 21 rfl rfl)
theorem dX5_lasts_22 : decode cX5_lasts 22 = .ok (.ifCond .eq 21, 3) := dk_153 0 21 (dk_at dksX5_lasts_1 0 rfl rfl)
theorem dX5_lasts_25 : decode cX5_lasts 25 = .ok (.aload_n 0, 1) := dk_42 (dk_at dksX5_lasts_1 3 rfl rfl)
theorem dX5_lasts_26 : decode cX5_lasts 26 = .ok (.invokevirtual 363, 3) := dk_182 1 107 (dk_at dksX5_lasts_1 4 rfl rfl)
theorem dX5_lasts_29 : decode cX5_lasts 29 = .ok (.ifCond .eq 14, 3) := dk_153 0 14 (dk_at dksX5_lasts_1 7 rfl rfl)
theorem dX5_lasts_32 : decode cX5_lasts 32 = .ok (.iinc 1 1, 3) := dk_132 1 1 (dk_at dksX5_lasts_1 10 rfl rfl)
theorem dX5_lasts_35 : decode cX5_lasts 35 = .ok (.aload_n 0, 1) := dk_42 (dk_at dksX5_lasts_1 13 rfl rfl)
theorem dX5_lasts_36 : decode cX5_lasts 36 = .ok (.invokevirtual 334, 3) := dk_182 1 78 (dk_at dksX5_lasts_1 14 rfl rfl)
theorem dX5_lasts_39 : decode cX5_lasts 39 = .ok (.istore_n 2, 1) := dk_61 (dk_at dksX5_lasts_1 17 rfl rfl)
theorem dX5_lasts_40 : decode cX5_lasts 40 = .ok (.goto (-19), 3) := dk_167 255 237 (dk_at dksX5_lasts_1 18 rfl rfl)
theorem dX5_lasts_43 : decode cX5_lasts 43 = .ok (.aload_n 0, 1) := dk_42 (dk_at dksX5_lasts_1 21 rfl rfl)
theorem dX5_lasts_44 : decode cX5_lasts 44 = .ok (.invokevirtual 366, 3) := dk_182 1 110 (dk_at dksX5_lasts_2 0 rfl rfl)
theorem dX5_lasts_47 : decode cX5_lasts 47 = .ok (.iload_n 2, 1) := dk_28 (dk_at dksX5_lasts_2 3 rfl rfl)
theorem dX5_lasts_48 : decode cX5_lasts 48 = .ok (.ifCond .eq 7, 3) := dk_153 0 7 (dk_at dksX5_lasts_2 4 rfl rfl)
theorem dX5_lasts_51 : decode cX5_lasts 51 = .ok (.iconst (-1), 1) := dk_2 (dk_at dksX5_lasts_2 7 rfl rfl)
theorem dX5_lasts_52 : decode cX5_lasts 52 = .ok (.goto 4, 3) := dk_167 0 4 (dk_at dksX5_lasts_2 8 rfl rfl)
theorem dX5_lasts_55 : decode cX5_lasts 55 = .ok (.iload_n 1, 1) := dk_27 (dk_at dksX5_lasts_2 11 rfl rfl)
theorem dX5_lasts_56 : decode cX5_lasts 56 = .ok (.ireturn, 1) := dk_172 (dk_at dksX5_lasts_2 12 rfl rfl)
abbrev cX5_worn : ByteArray := prog_17_method_94_code
def yX5_worn : MethodName := ⟨RX5, "worn", "(I)I"⟩
def dkwX5_worn_3 : List UInt8 := [2, 172]
abbrev dktX5_worn_3 : List UInt8 := dkwX5_worn_3 ++ []
def dkwX5_worn_2 : List UInt8 := [27, 96, 46, 154, 0, 7, 4, 167, 0, 4, 3, 62, 42, 182, 1, 110, 29, 153, 0, 7, 28, 167, 0, 4]
abbrev dktX5_worn_2 : List UInt8 := dkwX5_worn_2 ++ dktX5_worn_3
def dkwX5_worn_1 : List UInt8 := [96, 46, 158, 0, 16, 42, 182, 1, 107, 153, 0, 9, 132, 2, 1, 167, 255, 234, 42, 180, 0, 9, 16, 28]
abbrev dktX5_worn_1 : List UInt8 := dkwX5_worn_1 ++ dktX5_worn_2
def dkwX5_worn_0 : List UInt8 := [42, 27, 182, 1, 49, 154, 0, 6, 16, 254, 172, 42, 182, 1, 104, 3, 61, 42, 180, 0, 9, 16, 28, 27]
abbrev dktX5_worn_0 : List UInt8 := dkwX5_worn_0 ++ dktX5_worn_1
theorem dksX5_worn_0 : cX5_worn.data.toList.drop 0 = dktX5_worn_0 := by decide +kernel
theorem dksX5_worn_1 : cX5_worn.data.toList.drop 24 = dktX5_worn_1 := dk_seg dksX5_worn_0 24 rfl rfl
theorem dksX5_worn_2 : cX5_worn.data.toList.drop 48 = dktX5_worn_2 := dk_seg dksX5_worn_1 24 rfl rfl
theorem dksX5_worn_3 : cX5_worn.data.toList.drop 72 = dktX5_worn_3 := dk_seg dksX5_worn_2 24 rfl rfl
theorem dX5_worn_0 : decode cX5_worn 0 = .ok (.aload_n 0, 1) := dk_42 (dk_at dksX5_worn_0 0 rfl rfl)
theorem dX5_worn_1 : decode cX5_worn 1 = .ok (.iload_n 1, 1) := dk_27 (dk_at dksX5_worn_0 1 rfl rfl)
theorem dX5_worn_2 : decode cX5_worn 2 = .ok (.invokevirtual 305, 3) := dk_182 1 49 (dk_at dksX5_worn_0 2 rfl rfl)
theorem dX5_worn_5 : decode cX5_worn 5 = .ok (.ifCond .ne 6, 3) := dk_154 0 6 (dk_at dksX5_worn_0 5 rfl rfl)
theorem dX5_worn_8 : decode cX5_worn 8 = .ok (.bipush (-2), 2) := dk_16 254 (dk_at dksX5_worn_0 8 rfl rfl)
theorem dX5_worn_10 : decode cX5_worn 10 = .ok (.ireturn, 1) := dk_172 (dk_at dksX5_worn_0 10 rfl rfl)
theorem dX5_worn_11 : decode cX5_worn 11 = .ok (.aload_n 0, 1) := dk_42 (dk_at dksX5_worn_0 11 rfl rfl)
theorem dX5_worn_12 : decode cX5_worn 12 = .ok (.invokevirtual 360, 3) := dk_182 1 104 (dk_at dksX5_worn_0 12 rfl rfl)
theorem dX5_worn_15 : decode cX5_worn 15 = .ok (.iconst 0, 1) := dk_3 (dk_at dksX5_worn_0 15 rfl rfl)
theorem dX5_worn_16 : decode cX5_worn 16 = .ok (.istore_n 2, 1) := dk_61 (dk_at dksX5_worn_0 16 rfl rfl)
theorem dX5_worn_17 : decode cX5_worn 17 = .ok (.aload_n 0, 1) := dk_42 (dk_at dksX5_worn_0 17 rfl rfl)
theorem dX5_worn_18 : decode cX5_worn 18 = .ok (.getfield 9, 3) := dk_180 0 9 (dk_at dksX5_worn_0 18 rfl rfl)
theorem dX5_worn_21 : decode cX5_worn 21 = .ok (.bipush 28, 2) := dk_16 28 (dk_at dksX5_worn_0 21 rfl rfl)
theorem dX5_worn_23 : decode cX5_worn 23 = .ok (.iload_n 1, 1) := dk_27 (dk_at dksX5_worn_0 23 rfl rfl)
theorem dX5_worn_24 : decode cX5_worn 24 = .ok (.iadd, 1) := dk_96 (dk_at dksX5_worn_1 0 rfl rfl)
theorem dX5_worn_25 : decode cX5_worn 25 = .ok (.iaload, 1) := dk_46 (dk_at dksX5_worn_1 1 rfl rfl)
theorem dX5_worn_26 : decode cX5_worn 26 = .ok (.ifCond .le 16, 3) := dk_158 0 16 (dk_at dksX5_worn_1 2 rfl rfl)
theorem dX5_worn_29 : decode cX5_worn 29 = .ok (.aload_n 0, 1) := dk_42 (dk_at dksX5_worn_1 5 rfl rfl)
theorem dX5_worn_30 : decode cX5_worn 30 = .ok (.invokevirtual 363, 3) := dk_182 1 107 (dk_at dksX5_worn_1 6 rfl rfl)
theorem dX5_worn_33 : decode cX5_worn 33 = .ok (.ifCond .eq 9, 3) := dk_153 0 9 (dk_at dksX5_worn_1 9 rfl rfl)
theorem dX5_worn_36 : decode cX5_worn 36 = .ok (.iinc 2 1, 3) := dk_132 2 1 (dk_at dksX5_worn_1 12 rfl rfl)
theorem dX5_worn_39 : decode cX5_worn 39 = .ok (.goto (-22), 3) := dk_167 255 234 (dk_at dksX5_worn_1 15 rfl rfl)
theorem dX5_worn_42 : decode cX5_worn 42 = .ok (.aload_n 0, 1) := dk_42 (dk_at dksX5_worn_1 18 rfl rfl)
theorem dX5_worn_43 : decode cX5_worn 43 = .ok (.getfield 9, 3) := dk_180 0 9 (dk_at dksX5_worn_1 19 rfl rfl)
theorem dX5_worn_46 : decode cX5_worn 46 = .ok (.bipush 28, 2) := dk_16 28 (dk_at dksX5_worn_1 22 rfl rfl)
theorem dX5_worn_48 : decode cX5_worn 48 = .ok (.iload_n 1, 1) := dk_27 (dk_at dksX5_worn_2 0 rfl rfl)
theorem dX5_worn_49 : decode cX5_worn 49 = .ok (.iadd, 1) := dk_96 (dk_at dksX5_worn_2 1 rfl rfl)
theorem dX5_worn_50 : decode cX5_worn 50 = .ok (.iaload, 1) := dk_46 (dk_at dksX5_worn_2 2 rfl rfl)
theorem dX5_worn_51 : decode cX5_worn 51 = .ok (.ifCond .ne 7, 3) := dk_154 0 7 (dk_at dksX5_worn_2 3 rfl rfl)
theorem dX5_worn_54 : decode cX5_worn 54 = .ok (.iconst 1, 1) := dk_4 (dk_at dksX5_worn_2 6 rfl rfl)
theorem dX5_worn_55 : decode cX5_worn 55 = .ok (.goto 4, 3) := dk_167 0 4 (dk_at dksX5_worn_2 7 rfl rfl)
theorem dX5_worn_58 : decode cX5_worn 58 = .ok (.iconst 0, 1) := dk_3 (dk_at dksX5_worn_2 10 rfl rfl)
theorem dX5_worn_59 : decode cX5_worn 59 = .ok (.istore_n 3, 1) := dk_62 (dk_at dksX5_worn_2 11 rfl rfl)
theorem dX5_worn_60 : decode cX5_worn 60 = .ok (.aload_n 0, 1) := dk_42 (dk_at dksX5_worn_2 12 rfl rfl)
theorem dX5_worn_61 : decode cX5_worn 61 = .ok (.invokevirtual 366, 3) := dk_182 1 110 (dk_at dksX5_worn_2 13 rfl rfl)
theorem dX5_worn_64 : decode cX5_worn 64 = .ok (.iload_n 3, 1) := dk_29 (dk_at dksX5_worn_2 16 rfl rfl)
theorem dX5_worn_65 : decode cX5_worn 65 = .ok (.ifCond .eq 7, 3) := dk_153 0 7 (dk_at dksX5_worn_2 17 rfl rfl)
theorem dX5_worn_68 : decode cX5_worn 68 = .ok (.iload_n 2, 1) := dk_28 (dk_at dksX5_worn_2 20 rfl rfl)
theorem dX5_worn_69 : decode cX5_worn 69 = .ok (.goto 4, 3) := dk_167 0 4 (dk_at dksX5_worn_2 21 rfl rfl)
theorem dX5_worn_72 : decode cX5_worn 72 = .ok (.iconst (-1), 1) := dk_2 (dk_at dksX5_worn_3 0 rfl rfl)
theorem dX5_worn_73 : decode cX5_worn 73 = .ok (.ireturn, 1) := dk_172 (dk_at dksX5_worn_3 1 rfl rfl)
abbrev cX5_calms : ByteArray := prog_17_method_95_code
def yX5_calms : MethodName := ⟨RX5, "calms", "()I"⟩
def dkwX5_calms_1 : List UInt8 := [132, 1, 1, 167, 255, 246, 42, 182, 1, 110, 27, 172]
abbrev dktX5_calms_1 : List UInt8 := dkwX5_calms_1 ++ []
def dkwX5_calms_0 : List UInt8 := [42, 182, 0, 109, 154, 0, 6, 16, 254, 172, 42, 182, 1, 104, 3, 60, 42, 182, 1, 107, 153, 0, 9]
abbrev dktX5_calms_0 : List UInt8 := dkwX5_calms_0 ++ dktX5_calms_1
theorem dksX5_calms_0 : cX5_calms.data.toList.drop 0 = dktX5_calms_0 := by decide +kernel
theorem dksX5_calms_1 : cX5_calms.data.toList.drop 23 = dktX5_calms_1 := dk_seg dksX5_calms_0 23 rfl rfl
theorem dX5_calms_0 : decode cX5_calms 0 = .ok (.aload_n 0, 1) := dk_42 (dk_at dksX5_calms_0 0 rfl rfl)
theorem dX5_calms_1 : decode cX5_calms 1 = .ok (.invokevirtual 109, 3) := dk_182 0 109 (dk_at dksX5_calms_0 1 rfl rfl)
theorem dX5_calms_4 : decode cX5_calms 4 = .ok (.ifCond .ne 6, 3) := dk_154 0 6 (dk_at dksX5_calms_0 4 rfl rfl)
theorem dX5_calms_7 : decode cX5_calms 7 = .ok (.bipush (-2), 2) := dk_16 254 (dk_at dksX5_calms_0 7 rfl rfl)
theorem dX5_calms_9 : decode cX5_calms 9 = .ok (.ireturn, 1) := dk_172 (dk_at dksX5_calms_0 9 rfl rfl)
theorem dX5_calms_10 : decode cX5_calms 10 = .ok (.aload_n 0, 1) := dk_42 (dk_at dksX5_calms_0 10 rfl rfl)
theorem dX5_calms_11 : decode cX5_calms 11 = .ok (.invokevirtual 360, 3) := dk_182 1 104 (dk_at dksX5_calms_0 11 rfl rfl)
theorem dX5_calms_14 : decode cX5_calms 14 = .ok (.iconst 0, 1) := dk_3 (dk_at dksX5_calms_0 14 rfl rfl)
theorem dX5_calms_15 : decode cX5_calms 15 = .ok (.istore_n 1, 1) := dk_60 (dk_at dksX5_calms_0 15 rfl rfl)
theorem dX5_calms_16 : decode cX5_calms 16 = .ok (.aload_n 0, 1) := dk_42 (dk_at dksX5_calms_0 16 rfl rfl)
theorem dX5_calms_17 : decode cX5_calms 17 = .ok (.invokevirtual 363, 3) := dk_182 1 107 (dk_at dksX5_calms_0 17 rfl rfl)
theorem dX5_calms_20 : decode cX5_calms 20 = .ok (.ifCond .eq 9, 3) := dk_153 0 9 (dk_at dksX5_calms_0 20 rfl rfl)
theorem dX5_calms_23 : decode cX5_calms 23 = .ok (.iinc 1 1, 3) := dk_132 1 1 (dk_at dksX5_calms_1 0 rfl rfl)
theorem dX5_calms_26 : decode cX5_calms 26 = .ok (.goto (-10), 3) := dk_167 255 246 (dk_at dksX5_calms_1 3 rfl rfl)
theorem dX5_calms_29 : decode cX5_calms 29 = .ok (.aload_n 0, 1) := dk_42 (dk_at dksX5_calms_1 6 rfl rfl)
theorem dX5_calms_30 : decode cX5_calms 30 = .ok (.invokevirtual 366, 3) := dk_182 1 110 (dk_at dksX5_calms_1 7 rfl rfl)
theorem dX5_calms_33 : decode cX5_calms 33 = .ok (.iload_n 1, 1) := dk_27 (dk_at dksX5_calms_1 10 rfl rfl)
theorem dX5_calms_34 : decode cX5_calms 34 = .ok (.ireturn, 1) := dk_172 (dk_at dksX5_calms_1 11 rfl rfl)
abbrev cX5_pad : ByteArray := prog_17_method_101_code
def yX5_pad : MethodName := ⟨RX5, "pad", "(I)I"⟩
def dkwX5_pad_2 : List UInt8 := [182, 1, 135, 61, 132, 3, 1, 167, 255, 226, 42, 182, 1, 110, 28, 172]
abbrev dktX5_pad_2 : List UInt8 := dkwX5_pad_2 ++ []
def dkwX5_pad_1 : List UInt8 := [62, 29, 27, 162, 0, 31, 28, 2, 159, 0, 26, 42, 180, 0, 9, 8, 92, 46, 4, 28, 120, 128, 79, 42]
abbrev dktX5_pad_1 : List UInt8 := dkwX5_pad_1 ++ dktX5_pad_2
def dkwX5_pad_0 : List UInt8 := [42, 182, 0, 109, 153, 0, 7, 27, 156, 0, 6, 16, 254, 172, 42, 182, 1, 104, 42, 182, 1, 135, 61, 3]
abbrev dktX5_pad_0 : List UInt8 := dkwX5_pad_0 ++ dktX5_pad_1
theorem dksX5_pad_0 : cX5_pad.data.toList.drop 0 = dktX5_pad_0 := by decide +kernel
theorem dksX5_pad_1 : cX5_pad.data.toList.drop 24 = dktX5_pad_1 := dk_seg dksX5_pad_0 24 rfl rfl
theorem dksX5_pad_2 : cX5_pad.data.toList.drop 48 = dktX5_pad_2 := dk_seg dksX5_pad_1 24 rfl rfl
theorem dX5_pad_0 : decode cX5_pad 0 = .ok (.aload_n 0, 1) := dk_42 (dk_at dksX5_pad_0 0 rfl rfl)
theorem dX5_pad_1 : decode cX5_pad 1 = .ok (.invokevirtual 109, 3) := dk_182 0 109 (dk_at dksX5_pad_0 1 rfl rfl)
theorem dX5_pad_4 : decode cX5_pad 4 = .ok (.ifCond .eq 7, 3) := dk_153 0 7 (dk_at dksX5_pad_0 4 rfl rfl)
theorem dX5_pad_7 : decode cX5_pad 7 = .ok (.iload_n 1, 1) := dk_27 (dk_at dksX5_pad_0 7 rfl rfl)
theorem dX5_pad_8 : decode cX5_pad 8 = .ok (.ifCond .ge 6, 3) := dk_156 0 6 (dk_at dksX5_pad_0 8 rfl rfl)
theorem dX5_pad_11 : decode cX5_pad 11 = .ok (.bipush (-2), 2) := dk_16 254 (dk_at dksX5_pad_0 11 rfl rfl)
theorem dX5_pad_13 : decode cX5_pad 13 = .ok (.ireturn, 1) := dk_172 (dk_at dksX5_pad_0 13 rfl rfl)
theorem dX5_pad_14 : decode cX5_pad 14 = .ok (.aload_n 0, 1) := dk_42 (dk_at dksX5_pad_0 14 rfl rfl)
theorem dX5_pad_15 : decode cX5_pad 15 = .ok (.invokevirtual 360, 3) := dk_182 1 104 (dk_at dksX5_pad_0 15 rfl rfl)
theorem dX5_pad_18 : decode cX5_pad 18 = .ok (.aload_n 0, 1) := dk_42 (dk_at dksX5_pad_0 18 rfl rfl)
theorem dX5_pad_19 : decode cX5_pad 19 = .ok (.invokevirtual 391, 3) := dk_182 1 135 (dk_at dksX5_pad_0 19 rfl rfl)
theorem dX5_pad_22 : decode cX5_pad 22 = .ok (.istore_n 2, 1) := dk_61 (dk_at dksX5_pad_0 22 rfl rfl)
theorem dX5_pad_23 : decode cX5_pad 23 = .ok (.iconst 0, 1) := dk_3 (dk_at dksX5_pad_0 23 rfl rfl)
theorem dX5_pad_24 : decode cX5_pad 24 = .ok (.istore_n 3, 1) := dk_62 (dk_at dksX5_pad_1 0 rfl rfl)
theorem dX5_pad_25 : decode cX5_pad 25 = .ok (.iload_n 3, 1) := dk_29 (dk_at dksX5_pad_1 1 rfl rfl)
theorem dX5_pad_26 : decode cX5_pad 26 = .ok (.iload_n 1, 1) := dk_27 (dk_at dksX5_pad_1 2 rfl rfl)
theorem dX5_pad_27 : decode cX5_pad 27 = .ok (.if_icmp .ge 31, 3) := dk_162 0 31 (dk_at dksX5_pad_1 3 rfl rfl)
theorem dX5_pad_30 : decode cX5_pad 30 = .ok (.iload_n 2, 1) := dk_28 (dk_at dksX5_pad_1 6 rfl rfl)
theorem dX5_pad_31 : decode cX5_pad 31 = .ok (.iconst (-1), 1) := dk_2 (dk_at dksX5_pad_1 7 rfl rfl)
theorem dX5_pad_32 : decode cX5_pad 32 = .ok (.if_icmp .eq 26, 3) := dk_159 0 26 (dk_at dksX5_pad_1 8 rfl rfl)
theorem dX5_pad_35 : decode cX5_pad 35 = .ok (.aload_n 0, 1) := dk_42 (dk_at dksX5_pad_1 11 rfl rfl)
theorem dX5_pad_36 : decode cX5_pad 36 = .ok (.getfield 9, 3) := dk_180 0 9 (dk_at dksX5_pad_1 12 rfl rfl)
theorem dX5_pad_39 : decode cX5_pad 39 = .ok (.iconst 5, 1) := dk_8 (dk_at dksX5_pad_1 15 rfl rfl)
theorem dX5_pad_40 : decode cX5_pad 40 = .ok (.dup2, 1) := dk_92 (dk_at dksX5_pad_1 16 rfl rfl)
theorem dX5_pad_41 : decode cX5_pad 41 = .ok (.iaload, 1) := dk_46 (dk_at dksX5_pad_1 17 rfl rfl)
theorem dX5_pad_42 : decode cX5_pad 42 = .ok (.iconst 1, 1) := dk_4 (dk_at dksX5_pad_1 18 rfl rfl)
theorem dX5_pad_43 : decode cX5_pad 43 = .ok (.iload_n 2, 1) := dk_28 (dk_at dksX5_pad_1 19 rfl rfl)
theorem dX5_pad_44 : decode cX5_pad 44 = .ok (.ishl, 1) := dk_120 (dk_at dksX5_pad_1 20 rfl rfl)
theorem dX5_pad_45 : decode cX5_pad 45 = .ok (.ior, 1) := dk_128 (dk_at dksX5_pad_1 21 rfl rfl)
theorem dX5_pad_46 : decode cX5_pad 46 = .ok (.iastore, 1) := dk_79 (dk_at dksX5_pad_1 22 rfl rfl)
theorem dX5_pad_47 : decode cX5_pad 47 = .ok (.aload_n 0, 1) := dk_42 (dk_at dksX5_pad_1 23 rfl rfl)
theorem dX5_pad_48 : decode cX5_pad 48 = .ok (.invokevirtual 391, 3) := dk_182 1 135 (dk_at dksX5_pad_2 0 rfl rfl)
theorem dX5_pad_51 : decode cX5_pad 51 = .ok (.istore_n 2, 1) := dk_61 (dk_at dksX5_pad_2 3 rfl rfl)
theorem dX5_pad_52 : decode cX5_pad 52 = .ok (.iinc 3 1, 3) := dk_132 3 1 (dk_at dksX5_pad_2 4 rfl rfl)
theorem dX5_pad_55 : decode cX5_pad 55 = .ok (.goto (-30), 3) := dk_167 255 226 (dk_at dksX5_pad_2 7 rfl rfl)
theorem dX5_pad_58 : decode cX5_pad 58 = .ok (.aload_n 0, 1) := dk_42 (dk_at dksX5_pad_2 10 rfl rfl)
theorem dX5_pad_59 : decode cX5_pad 59 = .ok (.invokevirtual 366, 3) := dk_182 1 110 (dk_at dksX5_pad_2 11 rfl rfl)
theorem dX5_pad_62 : decode cX5_pad 62 = .ok (.iload_n 2, 1) := dk_28 (dk_at dksX5_pad_2 14 rfl rfl)
theorem dX5_pad_63 : decode cX5_pad 63 = .ok (.ireturn, 1) := dk_172 (dk_at dksX5_pad_2 15 rfl rfl)
abbrev cX5_nextPad : ByteArray := prog_17_method_100_code
def yX5_nextPad : MethodName := ⟨RX5, "nextPad", "()I"⟩
def dkwX5_nextPad_3 : List UInt8 := [126, 79, 132, 2, 1, 167, 255, 190, 27, 172]
abbrev dktX5_nextPad_3 : List UInt8 := dkwX5_nextPad_3 ++ []
def dkwX5_nextPad_2 : List UInt8 := [182, 1, 132, 156, 0, 9, 28, 60, 42, 182, 1, 126, 42, 180, 0, 9, 8, 92, 46, 4, 28, 120, 2, 130]
abbrev dktX5_nextPad_2 : List UInt8 := dkwX5_nextPad_2 ++ dktX5_nextPad_3
def dkwX5_nextPad_1 : List UInt8 := [184, 0, 209, 153, 0, 6, 167, 0, 42, 42, 180, 0, 9, 8, 92, 46, 4, 28, 120, 128, 79, 42]
abbrev dktX5_nextPad_1 : List UInt8 := dkwX5_nextPad_1 ++ dktX5_nextPad_2
def dkwX5_nextPad_0 : List UInt8 := [42, 182, 1, 129, 2, 60, 3, 61, 28, 42, 182, 0, 98, 162, 0, 64, 42, 180, 0, 9, 8, 46, 28]
abbrev dktX5_nextPad_0 : List UInt8 := dkwX5_nextPad_0 ++ dktX5_nextPad_1
theorem dksX5_nextPad_0 : cX5_nextPad.data.toList.drop 0 = dktX5_nextPad_0 := by decide +kernel
theorem dksX5_nextPad_1 : cX5_nextPad.data.toList.drop 23 = dktX5_nextPad_1 := dk_seg dksX5_nextPad_0 23 rfl rfl
theorem dksX5_nextPad_2 : cX5_nextPad.data.toList.drop 45 = dktX5_nextPad_2 := dk_seg dksX5_nextPad_1 22 rfl rfl
theorem dksX5_nextPad_3 : cX5_nextPad.data.toList.drop 69 = dktX5_nextPad_3 := dk_seg dksX5_nextPad_2 24 rfl rfl
theorem dX5_nextPad_0 : decode cX5_nextPad 0 = .ok (.aload_n 0, 1) := dk_42 (dk_at dksX5_nextPad_0 0 rfl rfl)
theorem dX5_nextPad_1 : decode cX5_nextPad 1 = .ok (.invokevirtual 385, 3) := dk_182 1 129 (dk_at dksX5_nextPad_0 1 rfl rfl)
theorem dX5_nextPad_4 : decode cX5_nextPad 4 = .ok (.iconst (-1), 1) := dk_2 (dk_at dksX5_nextPad_0 4 rfl rfl)
theorem dX5_nextPad_5 : decode cX5_nextPad 5 = .ok (.istore_n 1, 1) := dk_60 (dk_at dksX5_nextPad_0 5 rfl rfl)
theorem dX5_nextPad_6 : decode cX5_nextPad 6 = .ok (.iconst 0, 1) := dk_3 (dk_at dksX5_nextPad_0 6 rfl rfl)
theorem dX5_nextPad_7 : decode cX5_nextPad 7 = .ok (.istore_n 2, 1) := dk_61 (dk_at dksX5_nextPad_0 7 rfl rfl)
theorem dX5_nextPad_8 : decode cX5_nextPad 8 = .ok (.iload_n 2, 1) := dk_28 (dk_at dksX5_nextPad_0 8 rfl rfl)
theorem dX5_nextPad_9 : decode cX5_nextPad 9 = .ok (.aload_n 0, 1) := dk_42 (dk_at dksX5_nextPad_0 9 rfl rfl)
theorem dX5_nextPad_10 : decode cX5_nextPad 10 = .ok (.invokevirtual 98, 3) := dk_182 0 98 (dk_at dksX5_nextPad_0 10 rfl rfl)
theorem dX5_nextPad_13 : decode cX5_nextPad 13 = .ok (.if_icmp .ge 64, 3) := dk_162 0 64 (dk_at dksX5_nextPad_0 13 rfl rfl)
theorem dX5_nextPad_16 : decode cX5_nextPad 16 = .ok (.aload_n 0, 1) := dk_42 (dk_at dksX5_nextPad_0 16 rfl rfl)
theorem dX5_nextPad_17 : decode cX5_nextPad 17 = .ok (.getfield 9, 3) := dk_180 0 9 (dk_at dksX5_nextPad_0 17 rfl rfl)
theorem dX5_nextPad_20 : decode cX5_nextPad 20 = .ok (.iconst 5, 1) := dk_8 (dk_at dksX5_nextPad_0 20 rfl rfl)
theorem dX5_nextPad_21 : decode cX5_nextPad 21 = .ok (.iaload, 1) := dk_46 (dk_at dksX5_nextPad_0 21 rfl rfl)
theorem dX5_nextPad_22 : decode cX5_nextPad 22 = .ok (.iload_n 2, 1) := dk_28 (dk_at dksX5_nextPad_0 22 rfl rfl)
theorem dX5_nextPad_23 : decode cX5_nextPad 23 = .ok (.invokestatic 209, 3) := dk_184 0 209 (dk_at dksX5_nextPad_1 0 rfl rfl)
theorem dX5_nextPad_26 : decode cX5_nextPad 26 = .ok (.ifCond .eq 6, 3) := dk_153 0 6 (dk_at dksX5_nextPad_1 3 rfl rfl)
theorem dX5_nextPad_29 : decode cX5_nextPad 29 = .ok (.goto 42, 3) := dk_167 0 42 (dk_at dksX5_nextPad_1 6 rfl rfl)
theorem dX5_nextPad_32 : decode cX5_nextPad 32 = .ok (.aload_n 0, 1) := dk_42 (dk_at dksX5_nextPad_1 9 rfl rfl)
theorem dX5_nextPad_33 : decode cX5_nextPad 33 = .ok (.getfield 9, 3) := dk_180 0 9 (dk_at dksX5_nextPad_1 10 rfl rfl)
theorem dX5_nextPad_36 : decode cX5_nextPad 36 = .ok (.iconst 5, 1) := dk_8 (dk_at dksX5_nextPad_1 13 rfl rfl)
theorem dX5_nextPad_37 : decode cX5_nextPad 37 = .ok (.dup2, 1) := dk_92 (dk_at dksX5_nextPad_1 14 rfl rfl)
theorem dX5_nextPad_38 : decode cX5_nextPad 38 = .ok (.iaload, 1) := dk_46 (dk_at dksX5_nextPad_1 15 rfl rfl)
theorem dX5_nextPad_39 : decode cX5_nextPad 39 = .ok (.iconst 1, 1) := dk_4 (dk_at dksX5_nextPad_1 16 rfl rfl)
theorem dX5_nextPad_40 : decode cX5_nextPad 40 = .ok (.iload_n 2, 1) := dk_28 (dk_at dksX5_nextPad_1 17 rfl rfl)
theorem dX5_nextPad_41 : decode cX5_nextPad 41 = .ok (.ishl, 1) := dk_120 (dk_at dksX5_nextPad_1 18 rfl rfl)
theorem dX5_nextPad_42 : decode cX5_nextPad 42 = .ok (.ior, 1) := dk_128 (dk_at dksX5_nextPad_1 19 rfl rfl)
theorem dX5_nextPad_43 : decode cX5_nextPad 43 = .ok (.iastore, 1) := dk_79 (dk_at dksX5_nextPad_1 20 rfl rfl)
theorem dX5_nextPad_44 : decode cX5_nextPad 44 = .ok (.aload_n 0, 1) := dk_42 (dk_at dksX5_nextPad_1 21 rfl rfl)
theorem dX5_nextPad_45 : decode cX5_nextPad 45 = .ok (.invokevirtual 388, 3) := dk_182 1 132 (dk_at dksX5_nextPad_2 0 rfl rfl)
theorem dX5_nextPad_48 : decode cX5_nextPad 48 = .ok (.ifCond .ge 9, 3) := dk_156 0 9 (dk_at dksX5_nextPad_2 3 rfl rfl)
theorem dX5_nextPad_51 : decode cX5_nextPad 51 = .ok (.iload_n 2, 1) := dk_28 (dk_at dksX5_nextPad_2 6 rfl rfl)
theorem dX5_nextPad_52 : decode cX5_nextPad 52 = .ok (.istore_n 1, 1) := dk_60 (dk_at dksX5_nextPad_2 7 rfl rfl)
theorem dX5_nextPad_53 : decode cX5_nextPad 53 = .ok (.aload_n 0, 1) := dk_42 (dk_at dksX5_nextPad_2 8 rfl rfl)
theorem dX5_nextPad_54 : decode cX5_nextPad 54 = .ok (.invokevirtual 382, 3) := dk_182 1 126 (dk_at dksX5_nextPad_2 9 rfl rfl)
theorem dX5_nextPad_57 : decode cX5_nextPad 57 = .ok (.aload_n 0, 1) := dk_42 (dk_at dksX5_nextPad_2 12 rfl rfl)
theorem dX5_nextPad_58 : decode cX5_nextPad 58 = .ok (.getfield 9, 3) := dk_180 0 9 (dk_at dksX5_nextPad_2 13 rfl rfl)
theorem dX5_nextPad_61 : decode cX5_nextPad 61 = .ok (.iconst 5, 1) := dk_8 (dk_at dksX5_nextPad_2 16 rfl rfl)
theorem dX5_nextPad_62 : decode cX5_nextPad 62 = .ok (.dup2, 1) := dk_92 (dk_at dksX5_nextPad_2 17 rfl rfl)
theorem dX5_nextPad_63 : decode cX5_nextPad 63 = .ok (.iaload, 1) := dk_46 (dk_at dksX5_nextPad_2 18 rfl rfl)
theorem dX5_nextPad_64 : decode cX5_nextPad 64 = .ok (.iconst 1, 1) := dk_4 (dk_at dksX5_nextPad_2 19 rfl rfl)
theorem dX5_nextPad_65 : decode cX5_nextPad 65 = .ok (.iload_n 2, 1) := dk_28 (dk_at dksX5_nextPad_2 20 rfl rfl)
theorem dX5_nextPad_66 : decode cX5_nextPad 66 = .ok (.ishl, 1) := dk_120 (dk_at dksX5_nextPad_2 21 rfl rfl)
theorem dX5_nextPad_67 : decode cX5_nextPad 67 = .ok (.iconst (-1), 1) := dk_2 (dk_at dksX5_nextPad_2 22 rfl rfl)
theorem dX5_nextPad_68 : decode cX5_nextPad 68 = .ok (.ixor, 1) := dk_130 (dk_at dksX5_nextPad_2 23 rfl rfl)
theorem dX5_nextPad_69 : decode cX5_nextPad 69 = .ok (.iand, 1) := dk_126 (dk_at dksX5_nextPad_3 0 rfl rfl)
theorem dX5_nextPad_70 : decode cX5_nextPad 70 = .ok (.iastore, 1) := dk_79 (dk_at dksX5_nextPad_3 1 rfl rfl)
theorem dX5_nextPad_71 : decode cX5_nextPad 71 = .ok (.iinc 2 1, 3) := dk_132 2 1 (dk_at dksX5_nextPad_3 2 rfl rfl)
theorem dX5_nextPad_74 : decode cX5_nextPad 74 = .ok (.goto (-66), 3) := dk_167 255 190 (dk_at dksX5_nextPad_3 5 rfl rfl)
theorem dX5_nextPad_77 : decode cX5_nextPad 77 = .ok (.iload_n 1, 1) := dk_27 (dk_at dksX5_nextPad_3 8 rfl rfl)
theorem dX5_nextPad_78 : decode cX5_nextPad 78 = .ok (.ireturn, 1) := dk_172 (dk_at dksX5_nextPad_3 9 rfl rfl)
abbrev cX5_beginsWithout : ByteArray := prog_17_method_99_code
def yX5_beginsWithout : MethodName := ⟨RX5, "beginsWithout", "()V"⟩
def dkwX5_beginsWithout_0 : List UInt8 := [42, 16, 10, 181, 1, 113, 42, 9, 181, 1, 116, 42, 10, 181, 1, 119, 177]
abbrev dktX5_beginsWithout_0 : List UInt8 := dkwX5_beginsWithout_0 ++ []
theorem dksX5_beginsWithout_0 : cX5_beginsWithout.data.toList.drop 0 = dktX5_beginsWithout_0 := by decide +kernel
theorem dX5_beginsWithout_0 : decode cX5_beginsWithout 0 = .ok (.aload_n 0, 1) := dk_42 (dk_at dksX5_beginsWithout_0 0 rfl rfl)
theorem dX5_beginsWithout_1 : decode cX5_beginsWithout 1 = .ok (.bipush 10, 2) := dk_16 10 (dk_at dksX5_beginsWithout_0 1 rfl rfl)
theorem dX5_beginsWithout_3 : decode cX5_beginsWithout 3 = .ok (.putfield 369, 3) := dk_181 1 113 (dk_at dksX5_beginsWithout_0 3 rfl rfl)
theorem dX5_beginsWithout_6 : decode cX5_beginsWithout 6 = .ok (.aload_n 0, 1) := dk_42 (dk_at dksX5_beginsWithout_0 6 rfl rfl)
theorem dX5_beginsWithout_7 : decode cX5_beginsWithout 7 = .ok (.lconst 0, 1) := dk_9 (dk_at dksX5_beginsWithout_0 7 rfl rfl)
theorem dX5_beginsWithout_8 : decode cX5_beginsWithout 8 = .ok (.putfield 372, 3) := dk_181 1 116 (dk_at dksX5_beginsWithout_0 8 rfl rfl)
theorem dX5_beginsWithout_11 : decode cX5_beginsWithout 11 = .ok (.aload_n 0, 1) := dk_42 (dk_at dksX5_beginsWithout_0 11 rfl rfl)
theorem dX5_beginsWithout_12 : decode cX5_beginsWithout 12 = .ok (.lconst 1, 1) := dk_10 (dk_at dksX5_beginsWithout_0 12 rfl rfl)
theorem dX5_beginsWithout_13 : decode cX5_beginsWithout 13 = .ok (.putfield 375, 3) := dk_181 1 119 (dk_at dksX5_beginsWithout_0 13 rfl rfl)
theorem dX5_beginsWithout_16 : decode cX5_beginsWithout 16 = .ok (.return_, 1) := dk_177 (dk_at dksX5_beginsWithout_0 16 rfl rfl)
abbrev cX5_scores : ByteArray := prog_17_method_96_code
def yX5_scores : MethodName := ⟨RX5, "scores", "()I"⟩
def dkwX5_scores_2 : List UInt8 := [180, 1, 119, 184, 1, 122, 172]
abbrev dktX5_scores_2 : List UInt8 := dkwX5_scores_2 ++ []
def dkwX5_scores_1 : List UInt8 := [162, 0, 7, 2, 167, 0, 4, 4, 172, 42, 182, 1, 42, 42, 180, 0, 50, 42, 180, 1, 116, 42]
abbrev dktX5_scores_1 : List UInt8 := dkwX5_scores_1 ++ dktX5_scores_2
def dkwX5_scores_0 : List UInt8 := [42, 182, 1, 36, 42, 182, 1, 39, 42, 180, 1, 113, 159, 0, 20, 42, 182, 1, 39, 42, 180, 1, 113]
abbrev dktX5_scores_0 : List UInt8 := dkwX5_scores_0 ++ dktX5_scores_1
theorem dksX5_scores_0 : cX5_scores.data.toList.drop 0 = dktX5_scores_0 := by decide +kernel
theorem dksX5_scores_1 : cX5_scores.data.toList.drop 23 = dktX5_scores_1 := dk_seg dksX5_scores_0 23 rfl rfl
theorem dksX5_scores_2 : cX5_scores.data.toList.drop 45 = dktX5_scores_2 := dk_seg dksX5_scores_1 22 rfl rfl
theorem dX5_scores_0 : decode cX5_scores 0 = .ok (.aload_n 0, 1) := dk_42 (dk_at dksX5_scores_0 0 rfl rfl)
theorem dX5_scores_1 : decode cX5_scores 1 = .ok (.invokevirtual 292, 3) := dk_182 1 36 (dk_at dksX5_scores_0 1 rfl rfl)
theorem dX5_scores_4 : decode cX5_scores 4 = .ok (.aload_n 0, 1) := dk_42 (dk_at dksX5_scores_0 4 rfl rfl)
theorem dX5_scores_5 : decode cX5_scores 5 = .ok (.invokevirtual 295, 3) := dk_182 1 39 (dk_at dksX5_scores_0 5 rfl rfl)
theorem dX5_scores_8 : decode cX5_scores 8 = .ok (.aload_n 0, 1) := dk_42 (dk_at dksX5_scores_0 8 rfl rfl)
theorem dX5_scores_9 : decode cX5_scores 9 = .ok (.getfield 369, 3) := dk_180 1 113 (dk_at dksX5_scores_0 9 rfl rfl)
theorem dX5_scores_12 : decode cX5_scores 12 = .ok (.if_icmp .eq 20, 3) := dk_159 0 20 (dk_at dksX5_scores_0 12 rfl rfl)
theorem dX5_scores_15 : decode cX5_scores 15 = .ok (.aload_n 0, 1) := dk_42 (dk_at dksX5_scores_0 15 rfl rfl)
theorem dX5_scores_16 : decode cX5_scores 16 = .ok (.invokevirtual 295, 3) := dk_182 1 39 (dk_at dksX5_scores_0 16 rfl rfl)
theorem dX5_scores_19 : decode cX5_scores 19 = .ok (.aload_n 0, 1) := dk_42 (dk_at dksX5_scores_0 19 rfl rfl)
theorem dX5_scores_20 : decode cX5_scores 20 = .ok (.getfield 369, 3) := dk_180 1 113 (dk_at dksX5_scores_0 20 rfl rfl)
theorem dX5_scores_23 : decode cX5_scores 23 = .ok (.if_icmp .ge 7, 3) := dk_162 0 7 (dk_at dksX5_scores_1 0 rfl rfl)
theorem dX5_scores_26 : decode cX5_scores 26 = .ok (.iconst (-1), 1) := dk_2 (dk_at dksX5_scores_1 3 rfl rfl)
theorem dX5_scores_27 : decode cX5_scores 27 = .ok (.goto 4, 3) := dk_167 0 4 (dk_at dksX5_scores_1 4 rfl rfl)
theorem dX5_scores_30 : decode cX5_scores 30 = .ok (.iconst 1, 1) := dk_4 (dk_at dksX5_scores_1 7 rfl rfl)
theorem dX5_scores_31 : decode cX5_scores 31 = .ok (.ireturn, 1) := dk_172 (dk_at dksX5_scores_1 8 rfl rfl)
theorem dX5_scores_32 : decode cX5_scores 32 = .ok (.aload_n 0, 1) := dk_42 (dk_at dksX5_scores_1 9 rfl rfl)
theorem dX5_scores_33 : decode cX5_scores 33 = .ok (.invokevirtual 298, 3) := dk_182 1 42 (dk_at dksX5_scores_1 10 rfl rfl)
theorem dX5_scores_36 : decode cX5_scores 36 = .ok (.aload_n 0, 1) := dk_42 (dk_at dksX5_scores_1 13 rfl rfl)
theorem dX5_scores_37 : decode cX5_scores 37 = .ok (.getfield 50, 3) := dk_180 0 50 (dk_at dksX5_scores_1 14 rfl rfl)
theorem dX5_scores_40 : decode cX5_scores 40 = .ok (.aload_n 0, 1) := dk_42 (dk_at dksX5_scores_1 17 rfl rfl)
theorem dX5_scores_41 : decode cX5_scores 41 = .ok (.getfield 372, 3) := dk_180 1 116 (dk_at dksX5_scores_1 18 rfl rfl)
theorem dX5_scores_44 : decode cX5_scores 44 = .ok (.aload_n 0, 1) := dk_42 (dk_at dksX5_scores_1 21 rfl rfl)
theorem dX5_scores_45 : decode cX5_scores 45 = .ok (.getfield 375, 3) := dk_180 1 119 (dk_at dksX5_scores_2 0 rfl rfl)
theorem dX5_scores_48 : decode cX5_scores 48 = .ok (.invokestatic 378, 3) := dk_184 1 122 (dk_at dksX5_scores_2 3 rfl rfl)
theorem dX5_scores_51 : decode cX5_scores 51 = .ok (.ireturn, 1) := dk_172 (dk_at dksX5_scores_2 6 rfl rfl)
abbrev cX5_compares : ByteArray := prog_17_method_8_code
def yX5_compares : MethodName := ⟨RX5, "compares", "(JJJJ)I"⟩
def dkwX5_compares_5 : List UInt8 := [55, 12, 22, 19, 55, 14, 21, 16, 116, 54, 16, 167, 255, 142]
abbrev dktX5_compares_5 : List UInt8 := dkwX5_compares_5 ++ []
def dkwX5_compares_4 : List UInt8 := [9, 148, 154, 0, 9, 21, 16, 116, 167, 0, 5, 21, 16, 172, 22, 10, 55, 8, 22, 17, 55, 10, 22, 14]
abbrev dktX5_compares_4 : List UInt8 := dkwX5_compares_4 ++ dktX5_compares_5
def dkwX5_compares_3 : List UInt8 := [153, 0, 10, 22, 19, 9, 148, 154, 0, 31, 22, 17, 22, 19, 148, 154, 0, 7, 3, 167, 0, 18, 22, 17]
abbrev dktX5_compares_3 : List UInt8 := dkwX5_compares_3 ++ dktX5_compares_4
def dkwX5_compares_2 : List UInt8 := [167, 0, 5, 21, 16, 172, 22, 8, 22, 10, 113, 55, 17, 22, 12, 22, 14, 113, 55, 19, 22, 17, 9, 148]
abbrev dktX5_compares_2 : List UInt8 := dkwX5_compares_2 ++ dktX5_compares_3
def dkwX5_compares_1 : List UInt8 := [22, 14, 109, 148, 153, 0, 26, 22, 8, 22, 10, 109, 22, 12, 22, 14, 109, 148, 156, 0, 9, 21, 16, 116]
abbrev dktX5_compares_1 : List UInt8 := dkwX5_compares_1 ++ dktX5_compares_2
def dkwX5_compares_0 : List UInt8 := [30, 55, 8, 32, 55, 10, 22, 4, 55, 12, 22, 6, 55, 14, 4, 54, 16, 22, 8, 22, 10, 109, 22, 12]
abbrev dktX5_compares_0 : List UInt8 := dkwX5_compares_0 ++ dktX5_compares_1
theorem dksX5_compares_0 : cX5_compares.data.toList.drop 0 = dktX5_compares_0 := by decide +kernel
theorem dksX5_compares_1 : cX5_compares.data.toList.drop 24 = dktX5_compares_1 := dk_seg dksX5_compares_0 24 rfl rfl
theorem dksX5_compares_2 : cX5_compares.data.toList.drop 48 = dktX5_compares_2 := dk_seg dksX5_compares_1 24 rfl rfl
theorem dksX5_compares_3 : cX5_compares.data.toList.drop 72 = dktX5_compares_3 := dk_seg dksX5_compares_2 24 rfl rfl
theorem dksX5_compares_4 : cX5_compares.data.toList.drop 96 = dktX5_compares_4 := dk_seg dksX5_compares_3 24 rfl rfl
theorem dksX5_compares_5 : cX5_compares.data.toList.drop 120 = dktX5_compares_5 := dk_seg dksX5_compares_4 24 rfl rfl
theorem dX5_compares_0 : decode cX5_compares 0 = .ok (.lload_n 0, 1) := dk_30 (dk_at dksX5_compares_0 0 rfl rfl)
theorem dX5_compares_1 : decode cX5_compares 1 = .ok (.lstore 8, 2) := dk_55 8 (dk_at dksX5_compares_0 1 rfl rfl)
theorem dX5_compares_3 : decode cX5_compares 3 = .ok (.lload_n 2, 1) := dk_32 (dk_at dksX5_compares_0 3 rfl rfl)
theorem dX5_compares_4 : decode cX5_compares 4 = .ok (.lstore 10, 2) := dk_55 10 (dk_at dksX5_compares_0 4 rfl rfl)
theorem dX5_compares_6 : decode cX5_compares 6 = .ok (.lload 4, 2) := dk_22 4 (dk_at dksX5_compares_0 6 rfl rfl)
theorem dX5_compares_8 : decode cX5_compares 8 = .ok (.lstore 12, 2) := dk_55 12 (dk_at dksX5_compares_0 8 rfl rfl)
theorem dX5_compares_10 : decode cX5_compares 10 = .ok (.lload 6, 2) := dk_22 6 (dk_at dksX5_compares_0 10 rfl rfl)
theorem dX5_compares_12 : decode cX5_compares 12 = .ok (.lstore 14, 2) := dk_55 14 (dk_at dksX5_compares_0 12 rfl rfl)
theorem dX5_compares_14 : decode cX5_compares 14 = .ok (.iconst 1, 1) := dk_4 (dk_at dksX5_compares_0 14 rfl rfl)
theorem dX5_compares_15 : decode cX5_compares 15 = .ok (.istore 16, 2) := dk_54 16 (dk_at dksX5_compares_0 15 rfl rfl)
theorem dX5_compares_17 : decode cX5_compares 17 = .ok (.lload 8, 2) := dk_22 8 (dk_at dksX5_compares_0 17 rfl rfl)
theorem dX5_compares_19 : decode cX5_compares 19 = .ok (.lload 10, 2) := dk_22 10 (dk_at dksX5_compares_0 19 rfl rfl)
theorem dX5_compares_21 : decode cX5_compares 21 = .ok (.ldiv, 1) := dk_109 (dk_at dksX5_compares_0 21 rfl rfl)
theorem dX5_compares_22 : decode cX5_compares 22 = .ok (.lload 12, 2) := dk_22 12 (dk_at dksX5_compares_0 22 rfl rfl)
theorem dX5_compares_24 : decode cX5_compares 24 = .ok (.lload 14, 2) := dk_22 14 (dk_at dksX5_compares_1 0 rfl rfl)
theorem dX5_compares_26 : decode cX5_compares 26 = .ok (.ldiv, 1) := dk_109 (dk_at dksX5_compares_1 2 rfl rfl)
theorem dX5_compares_27 : decode cX5_compares 27 = .ok (.lcmp, 1) := dk_148 (dk_at dksX5_compares_1 3 rfl rfl)
theorem dX5_compares_28 : decode cX5_compares 28 = .ok (.ifCond .eq 26, 3) := dk_153 0 26 (dk_at dksX5_compares_1 4 rfl rfl)
theorem dX5_compares_31 : decode cX5_compares 31 = .ok (.lload 8, 2) := dk_22 8 (dk_at dksX5_compares_1 7 rfl rfl)
theorem dX5_compares_33 : decode cX5_compares 33 = .ok (.lload 10, 2) := dk_22 10 (dk_at dksX5_compares_1 9 rfl rfl)
theorem dX5_compares_35 : decode cX5_compares 35 = .ok (.ldiv, 1) := dk_109 (dk_at dksX5_compares_1 11 rfl rfl)
theorem dX5_compares_36 : decode cX5_compares 36 = .ok (.lload 12, 2) := dk_22 12 (dk_at dksX5_compares_1 12 rfl rfl)
theorem dX5_compares_38 : decode cX5_compares 38 = .ok (.lload 14, 2) := dk_22 14 (dk_at dksX5_compares_1 14 rfl rfl)
theorem dX5_compares_40 : decode cX5_compares 40 = .ok (.ldiv, 1) := dk_109 (dk_at dksX5_compares_1 16 rfl rfl)
theorem dX5_compares_41 : decode cX5_compares 41 = .ok (.lcmp, 1) := dk_148 (dk_at dksX5_compares_1 17 rfl rfl)
theorem dX5_compares_42 : decode cX5_compares 42 = .ok (.ifCond .ge 9, 3) := dk_156 0 9 (dk_at dksX5_compares_1 18 rfl rfl)
theorem dX5_compares_45 : decode cX5_compares 45 = .ok (.iload 16, 2) := dk_21 16 (dk_at dksX5_compares_1 21 rfl rfl)
theorem dX5_compares_47 : decode cX5_compares 47 = .ok (.ineg, 1) := dk_116 (dk_at dksX5_compares_1 23 rfl rfl)
theorem dX5_compares_48 : decode cX5_compares 48 = .ok (.goto 5, 3) := dk_167 0 5 (dk_at dksX5_compares_2 0 rfl rfl)
theorem dX5_compares_51 : decode cX5_compares 51 = .ok (.iload 16, 2) := dk_21 16 (dk_at dksX5_compares_2 3 rfl rfl)
theorem dX5_compares_53 : decode cX5_compares 53 = .ok (.ireturn, 1) := dk_172 (dk_at dksX5_compares_2 5 rfl rfl)
theorem dX5_compares_54 : decode cX5_compares 54 = .ok (.lload 8, 2) := dk_22 8 (dk_at dksX5_compares_2 6 rfl rfl)
theorem dX5_compares_56 : decode cX5_compares 56 = .ok (.lload 10, 2) := dk_22 10 (dk_at dksX5_compares_2 8 rfl rfl)
theorem dX5_compares_58 : decode cX5_compares 58 = .ok (.lrem, 1) := dk_113 (dk_at dksX5_compares_2 10 rfl rfl)
theorem dX5_compares_59 : decode cX5_compares 59 = .ok (.lstore 17, 2) := dk_55 17 (dk_at dksX5_compares_2 11 rfl rfl)
theorem dX5_compares_61 : decode cX5_compares 61 = .ok (.lload 12, 2) := dk_22 12 (dk_at dksX5_compares_2 13 rfl rfl)
theorem dX5_compares_63 : decode cX5_compares 63 = .ok (.lload 14, 2) := dk_22 14 (dk_at dksX5_compares_2 15 rfl rfl)
theorem dX5_compares_65 : decode cX5_compares 65 = .ok (.lrem, 1) := dk_113 (dk_at dksX5_compares_2 17 rfl rfl)
theorem dX5_compares_66 : decode cX5_compares 66 = .ok (.lstore 19, 2) := dk_55 19 (dk_at dksX5_compares_2 18 rfl rfl)
theorem dX5_compares_68 : decode cX5_compares 68 = .ok (.lload 17, 2) := dk_22 17 (dk_at dksX5_compares_2 20 rfl rfl)
theorem dX5_compares_70 : decode cX5_compares 70 = .ok (.lconst 0, 1) := dk_9 (dk_at dksX5_compares_2 22 rfl rfl)
theorem dX5_compares_71 : decode cX5_compares 71 = .ok (.lcmp, 1) := dk_148 (dk_at dksX5_compares_2 23 rfl rfl)
theorem dX5_compares_72 : decode cX5_compares 72 = .ok (.ifCond .eq 10, 3) := dk_153 0 10 (dk_at dksX5_compares_3 0 rfl rfl)
theorem dX5_compares_75 : decode cX5_compares 75 = .ok (.lload 19, 2) := dk_22 19 (dk_at dksX5_compares_3 3 rfl rfl)
theorem dX5_compares_77 : decode cX5_compares 77 = .ok (.lconst 0, 1) := dk_9 (dk_at dksX5_compares_3 5 rfl rfl)
theorem dX5_compares_78 : decode cX5_compares 78 = .ok (.lcmp, 1) := dk_148 (dk_at dksX5_compares_3 6 rfl rfl)
theorem dX5_compares_79 : decode cX5_compares 79 = .ok (.ifCond .ne 31, 3) := dk_154 0 31 (dk_at dksX5_compares_3 7 rfl rfl)
theorem dX5_compares_82 : decode cX5_compares 82 = .ok (.lload 17, 2) := dk_22 17 (dk_at dksX5_compares_3 10 rfl rfl)
theorem dX5_compares_84 : decode cX5_compares 84 = .ok (.lload 19, 2) := dk_22 19 (dk_at dksX5_compares_3 12 rfl rfl)
theorem dX5_compares_86 : decode cX5_compares 86 = .ok (.lcmp, 1) := dk_148 (dk_at dksX5_compares_3 14 rfl rfl)
theorem dX5_compares_87 : decode cX5_compares 87 = .ok (.ifCond .ne 7, 3) := dk_154 0 7 (dk_at dksX5_compares_3 15 rfl rfl)
theorem dX5_compares_90 : decode cX5_compares 90 = .ok (.iconst 0, 1) := dk_3 (dk_at dksX5_compares_3 18 rfl rfl)
theorem dX5_compares_91 : decode cX5_compares 91 = .ok (.goto 18, 3) := dk_167 0 18 (dk_at dksX5_compares_3 19 rfl rfl)
theorem dX5_compares_94 : decode cX5_compares 94 = .ok (.lload 17, 2) := dk_22 17 (dk_at dksX5_compares_3 22 rfl rfl)
theorem dX5_compares_96 : decode cX5_compares 96 = .ok (.lconst 0, 1) := dk_9 (dk_at dksX5_compares_4 0 rfl rfl)
theorem dX5_compares_97 : decode cX5_compares 97 = .ok (.lcmp, 1) := dk_148 (dk_at dksX5_compares_4 1 rfl rfl)
theorem dX5_compares_98 : decode cX5_compares 98 = .ok (.ifCond .ne 9, 3) := dk_154 0 9 (dk_at dksX5_compares_4 2 rfl rfl)
theorem dX5_compares_101 : decode cX5_compares 101 = .ok (.iload 16, 2) := dk_21 16 (dk_at dksX5_compares_4 5 rfl rfl)
theorem dX5_compares_103 : decode cX5_compares 103 = .ok (.ineg, 1) := dk_116 (dk_at dksX5_compares_4 7 rfl rfl)
theorem dX5_compares_104 : decode cX5_compares 104 = .ok (.goto 5, 3) := dk_167 0 5 (dk_at dksX5_compares_4 8 rfl rfl)
theorem dX5_compares_107 : decode cX5_compares 107 = .ok (.iload 16, 2) := dk_21 16 (dk_at dksX5_compares_4 11 rfl rfl)
theorem dX5_compares_109 : decode cX5_compares 109 = .ok (.ireturn, 1) := dk_172 (dk_at dksX5_compares_4 13 rfl rfl)
theorem dX5_compares_110 : decode cX5_compares 110 = .ok (.lload 10, 2) := dk_22 10 (dk_at dksX5_compares_4 14 rfl rfl)
theorem dX5_compares_112 : decode cX5_compares 112 = .ok (.lstore 8, 2) := dk_55 8 (dk_at dksX5_compares_4 16 rfl rfl)
theorem dX5_compares_114 : decode cX5_compares 114 = .ok (.lload 17, 2) := dk_22 17 (dk_at dksX5_compares_4 18 rfl rfl)
theorem dX5_compares_116 : decode cX5_compares 116 = .ok (.lstore 10, 2) := dk_55 10 (dk_at dksX5_compares_4 20 rfl rfl)
theorem dX5_compares_118 : decode cX5_compares 118 = .ok (.lload 14, 2) := dk_22 14 (dk_at dksX5_compares_4 22 rfl rfl)
theorem dX5_compares_120 : decode cX5_compares 120 = .ok (.lstore 12, 2) := dk_55 12 (dk_at dksX5_compares_5 0 rfl rfl)
theorem dX5_compares_122 : decode cX5_compares 122 = .ok (.lload 19, 2) := dk_22 19 (dk_at dksX5_compares_5 2 rfl rfl)
theorem dX5_compares_124 : decode cX5_compares 124 = .ok (.lstore 14, 2) := dk_55 14 (dk_at dksX5_compares_5 4 rfl rfl)
theorem dX5_compares_126 : decode cX5_compares 126 = .ok (.iload 16, 2) := dk_21 16 (dk_at dksX5_compares_5 6 rfl rfl)
theorem dX5_compares_128 : decode cX5_compares 128 = .ok (.ineg, 1) := dk_116 (dk_at dksX5_compares_5 8 rfl rfl)
theorem dX5_compares_129 : decode cX5_compares 129 = .ok (.istore 16, 2) := dk_54 16 (dk_at dksX5_compares_5 9 rfl rfl)
theorem dX5_compares_131 : decode cX5_compares 131 = .ok (.goto (-114), 3) := dk_167 255 142 (dk_at dksX5_compares_5 11 rfl rfl)
abbrev cX5_keeps : ByteArray := prog_17_method_97_code
def yX5_keeps : MethodName := ⟨RX5, "keeps", "()V"⟩
def dkwX5_keeps_1 : List UInt8 := [177]
abbrev dktX5_keeps_1 : List UInt8 := dkwX5_keeps_1 ++ []
def dkwX5_keeps_0 : List UInt8 := [42, 42, 182, 1, 39, 181, 1, 113, 42, 42, 182, 1, 42, 181, 1, 116, 42, 42, 180, 0, 50, 181, 1, 119]
abbrev dktX5_keeps_0 : List UInt8 := dkwX5_keeps_0 ++ dktX5_keeps_1
theorem dksX5_keeps_0 : cX5_keeps.data.toList.drop 0 = dktX5_keeps_0 := by decide +kernel
theorem dksX5_keeps_1 : cX5_keeps.data.toList.drop 24 = dktX5_keeps_1 := dk_seg dksX5_keeps_0 24 rfl rfl
theorem dX5_keeps_0 : decode cX5_keeps 0 = .ok (.aload_n 0, 1) := dk_42 (dk_at dksX5_keeps_0 0 rfl rfl)
theorem dX5_keeps_1 : decode cX5_keeps 1 = .ok (.aload_n 0, 1) := dk_42 (dk_at dksX5_keeps_0 1 rfl rfl)
theorem dX5_keeps_2 : decode cX5_keeps 2 = .ok (.invokevirtual 295, 3) := dk_182 1 39 (dk_at dksX5_keeps_0 2 rfl rfl)
theorem dX5_keeps_5 : decode cX5_keeps 5 = .ok (.putfield 369, 3) := dk_181 1 113 (dk_at dksX5_keeps_0 5 rfl rfl)
theorem dX5_keeps_8 : decode cX5_keeps 8 = .ok (.aload_n 0, 1) := dk_42 (dk_at dksX5_keeps_0 8 rfl rfl)
theorem dX5_keeps_9 : decode cX5_keeps 9 = .ok (.aload_n 0, 1) := dk_42 (dk_at dksX5_keeps_0 9 rfl rfl)
theorem dX5_keeps_10 : decode cX5_keeps 10 = .ok (.invokevirtual 298, 3) := dk_182 1 42 (dk_at dksX5_keeps_0 10 rfl rfl)
theorem dX5_keeps_13 : decode cX5_keeps 13 = .ok (.putfield 372, 3) := dk_181 1 116 (dk_at dksX5_keeps_0 13 rfl rfl)
theorem dX5_keeps_16 : decode cX5_keeps 16 = .ok (.aload_n 0, 1) := dk_42 (dk_at dksX5_keeps_0 16 rfl rfl)
theorem dX5_keeps_17 : decode cX5_keeps 17 = .ok (.aload_n 0, 1) := dk_42 (dk_at dksX5_keeps_0 17 rfl rfl)
theorem dX5_keeps_18 : decode cX5_keeps 18 = .ok (.getfield 50, 3) := dk_180 0 50 (dk_at dksX5_keeps_0 18 rfl rfl)
theorem dX5_keeps_21 : decode cX5_keeps 21 = .ok (.putfield 375, 3) := dk_181 1 119 (dk_at dksX5_keeps_0 21 rfl rfl)
theorem dX5_keeps_24 : decode cX5_keeps 24 = .ok (.return_, 1) := dk_177 (dk_at dksX5_keeps_1 0 rfl rfl)
abbrev cX5_pads : ByteArray := prog_17_method_103_code
def yX5_pads : MethodName := ⟨RX5, "pads", "(I)I"⟩
def dkwX5_pads_1 : List UInt8 := [167, 0, 5, 16, 254, 172]
abbrev dktX5_pads_1 : List UInt8 := dkwX5_pads_1 ++ []
def dkwX5_pads_0 : List UInt8 := [42, 182, 0, 109, 153, 0, 23, 27, 133, 9, 20, 0, 200, 184, 0, 87, 153, 0, 11, 42, 27, 182, 1, 141]
abbrev dktX5_pads_0 : List UInt8 := dkwX5_pads_0 ++ dktX5_pads_1
theorem dksX5_pads_0 : cX5_pads.data.toList.drop 0 = dktX5_pads_0 := by decide +kernel
theorem dksX5_pads_1 : cX5_pads.data.toList.drop 24 = dktX5_pads_1 := dk_seg dksX5_pads_0 24 rfl rfl
theorem dX5_pads_0 : decode cX5_pads 0 = .ok (.aload_n 0, 1) := dk_42 (dk_at dksX5_pads_0 0 rfl rfl)
theorem dX5_pads_1 : decode cX5_pads 1 = .ok (.invokevirtual 109, 3) := dk_182 0 109 (dk_at dksX5_pads_0 1 rfl rfl)
theorem dX5_pads_4 : decode cX5_pads 4 = .ok (.ifCond .eq 23, 3) := dk_153 0 23 (dk_at dksX5_pads_0 4 rfl rfl)
theorem dX5_pads_7 : decode cX5_pads 7 = .ok (.iload_n 1, 1) := dk_27 (dk_at dksX5_pads_0 7 rfl rfl)
theorem dX5_pads_8 : decode cX5_pads 8 = .ok (.i2l, 1) := dk_133 (dk_at dksX5_pads_0 8 rfl rfl)
theorem dX5_pads_9 : decode cX5_pads 9 = .ok (.lconst 0, 1) := dk_9 (dk_at dksX5_pads_0 9 rfl rfl)
theorem dX5_pads_10 : decode cX5_pads 10 = .ok (.ldc2_w 200, 3) := dk_20 0 200 (dk_at dksX5_pads_0 10 rfl rfl)
theorem dX5_pads_13 : decode cX5_pads 13 = .ok (.invokestatic 87, 3) := dk_184 0 87 (dk_at dksX5_pads_0 13 rfl rfl)
theorem dX5_pads_16 : decode cX5_pads 16 = .ok (.ifCond .eq 11, 3) := dk_153 0 11 (dk_at dksX5_pads_0 16 rfl rfl)
theorem dX5_pads_19 : decode cX5_pads 19 = .ok (.aload_n 0, 1) := dk_42 (dk_at dksX5_pads_0 19 rfl rfl)
theorem dX5_pads_20 : decode cX5_pads 20 = .ok (.iload_n 1, 1) := dk_27 (dk_at dksX5_pads_0 20 rfl rfl)
theorem dX5_pads_21 : decode cX5_pads 21 = .ok (.invokevirtual 397, 3) := dk_182 1 141 (dk_at dksX5_pads_0 21 rfl rfl)
theorem dX5_pads_24 : decode cX5_pads 24 = .ok (.goto 5, 3) := dk_167 0 5 (dk_at dksX5_pads_1 0 rfl rfl)
theorem dX5_pads_27 : decode cX5_pads 27 = .ok (.bipush (-2), 2) := dk_16 254 (dk_at dksX5_pads_1 3 rfl rfl)
theorem dX5_pads_29 : decode cX5_pads 29 = .ok (.ireturn, 1) := dk_172 (dk_at dksX5_pads_1 5 rfl rfl)
abbrev cX5_bestPads : ByteArray := prog_17_method_102_code
def yX5_bestPads : MethodName := ⟨RX5, "bestPads", "(I)I"⟩
def dkwX5_bestPads_3 : List UInt8 := [21, 4, 61, 42, 182, 1, 126, 132, 4, 1, 167, 255, 191, 42, 180, 0, 9, 8, 29, 79, 28, 172]
abbrev dktX5_bestPads_3 : List UInt8 := dkwX5_bestPads_3 ++ []
def dkwX5_bestPads_2 : List UInt8 := [153, 0, 6, 167, 0, 27, 42, 180, 0, 9, 8, 29, 21, 4, 128, 79, 42, 182, 1, 132, 156, 0, 10]
abbrev dktX5_bestPads_2 : List UInt8 := dkwX5_bestPads_2 ++ dktX5_bestPads_3
def dkwX5_bestPads_1 : List UInt8 := [21, 4, 4, 42, 182, 0, 98, 120, 162, 0, 46, 21, 4, 184, 1, 138, 27, 160, 0, 37, 21, 4, 29, 126]
abbrev dktX5_bestPads_1 : List UInt8 := dkwX5_bestPads_1 ++ dktX5_bestPads_2
def dkwX5_bestPads_0 : List UInt8 := [42, 182, 1, 129, 2, 61, 42, 180, 0, 9, 8, 46, 62, 3, 54, 4, 21, 4, 17, 2, 0, 162, 0, 63]
abbrev dktX5_bestPads_0 : List UInt8 := dkwX5_bestPads_0 ++ dktX5_bestPads_1
theorem dksX5_bestPads_0 : cX5_bestPads.data.toList.drop 0 = dktX5_bestPads_0 := by decide +kernel
theorem dksX5_bestPads_1 : cX5_bestPads.data.toList.drop 24 = dktX5_bestPads_1 := dk_seg dksX5_bestPads_0 24 rfl rfl
theorem dksX5_bestPads_2 : cX5_bestPads.data.toList.drop 48 = dktX5_bestPads_2 := dk_seg dksX5_bestPads_1 24 rfl rfl
theorem dksX5_bestPads_3 : cX5_bestPads.data.toList.drop 71 = dktX5_bestPads_3 := dk_seg dksX5_bestPads_2 23 rfl rfl
theorem dX5_bestPads_0 : decode cX5_bestPads 0 = .ok (.aload_n 0, 1) := dk_42 (dk_at dksX5_bestPads_0 0 rfl rfl)
theorem dX5_bestPads_1 : decode cX5_bestPads 1 = .ok (.invokevirtual 385, 3) := dk_182 1 129 (dk_at dksX5_bestPads_0 1 rfl rfl)
theorem dX5_bestPads_4 : decode cX5_bestPads 4 = .ok (.iconst (-1), 1) := dk_2 (dk_at dksX5_bestPads_0 4 rfl rfl)
theorem dX5_bestPads_5 : decode cX5_bestPads 5 = .ok (.istore_n 2, 1) := dk_61 (dk_at dksX5_bestPads_0 5 rfl rfl)
theorem dX5_bestPads_6 : decode cX5_bestPads 6 = .ok (.aload_n 0, 1) := dk_42 (dk_at dksX5_bestPads_0 6 rfl rfl)
theorem dX5_bestPads_7 : decode cX5_bestPads 7 = .ok (.getfield 9, 3) := dk_180 0 9 (dk_at dksX5_bestPads_0 7 rfl rfl)
theorem dX5_bestPads_10 : decode cX5_bestPads 10 = .ok (.iconst 5, 1) := dk_8 (dk_at dksX5_bestPads_0 10 rfl rfl)
theorem dX5_bestPads_11 : decode cX5_bestPads 11 = .ok (.iaload, 1) := dk_46 (dk_at dksX5_bestPads_0 11 rfl rfl)
theorem dX5_bestPads_12 : decode cX5_bestPads 12 = .ok (.istore_n 3, 1) := dk_62 (dk_at dksX5_bestPads_0 12 rfl rfl)
theorem dX5_bestPads_13 : decode cX5_bestPads 13 = .ok (.iconst 0, 1) := dk_3 (dk_at dksX5_bestPads_0 13 rfl rfl)
theorem dX5_bestPads_14 : decode cX5_bestPads 14 = .ok (.istore 4, 2) := dk_54 4 (dk_at dksX5_bestPads_0 14 rfl rfl)
theorem dX5_bestPads_16 : decode cX5_bestPads 16 = .ok (.iload 4, 2) := dk_21 4 (dk_at dksX5_bestPads_0 16 rfl rfl)
theorem dX5_bestPads_18 : decode cX5_bestPads 18 = .ok (.sipush 512, 3) := dk_17 2 0 (dk_at dksX5_bestPads_0 18 rfl rfl)
theorem dX5_bestPads_21 : decode cX5_bestPads 21 = .ok (.if_icmp .ge 63, 3) := dk_162 0 63 (dk_at dksX5_bestPads_0 21 rfl rfl)
theorem dX5_bestPads_24 : decode cX5_bestPads 24 = .ok (.iload 4, 2) := dk_21 4 (dk_at dksX5_bestPads_1 0 rfl rfl)
theorem dX5_bestPads_26 : decode cX5_bestPads 26 = .ok (.iconst 1, 1) := dk_4 (dk_at dksX5_bestPads_1 2 rfl rfl)
theorem dX5_bestPads_27 : decode cX5_bestPads 27 = .ok (.aload_n 0, 1) := dk_42 (dk_at dksX5_bestPads_1 3 rfl rfl)
theorem dX5_bestPads_28 : decode cX5_bestPads 28 = .ok (.invokevirtual 98, 3) := dk_182 0 98 (dk_at dksX5_bestPads_1 4 rfl rfl)
theorem dX5_bestPads_31 : decode cX5_bestPads 31 = .ok (.ishl, 1) := dk_120 (dk_at dksX5_bestPads_1 7 rfl rfl)
theorem dX5_bestPads_32 : decode cX5_bestPads 32 = .ok (.if_icmp .ge 46, 3) := dk_162 0 46 (dk_at dksX5_bestPads_1 8 rfl rfl)
theorem dX5_bestPads_35 : decode cX5_bestPads 35 = .ok (.iload 4, 2) := dk_21 4 (dk_at dksX5_bestPads_1 11 rfl rfl)
theorem dX5_bestPads_37 : decode cX5_bestPads 37 = .ok (.invokestatic 394, 3) := dk_184 1 138 (dk_at dksX5_bestPads_1 13 rfl rfl)
theorem dX5_bestPads_40 : decode cX5_bestPads 40 = .ok (.iload_n 1, 1) := dk_27 (dk_at dksX5_bestPads_1 16 rfl rfl)
theorem dX5_bestPads_41 : decode cX5_bestPads 41 = .ok (.if_icmp .ne 37, 3) := dk_160 0 37 (dk_at dksX5_bestPads_1 17 rfl rfl)
theorem dX5_bestPads_44 : decode cX5_bestPads 44 = .ok (.iload 4, 2) := dk_21 4 (dk_at dksX5_bestPads_1 20 rfl rfl)
theorem dX5_bestPads_46 : decode cX5_bestPads 46 = .ok (.iload_n 3, 1) := dk_29 (dk_at dksX5_bestPads_1 22 rfl rfl)
theorem dX5_bestPads_47 : decode cX5_bestPads 47 = .ok (.iand, 1) := dk_126 (dk_at dksX5_bestPads_1 23 rfl rfl)
theorem dX5_bestPads_48 : decode cX5_bestPads 48 = .ok (.ifCond .eq 6, 3) := dk_153 0 6 (dk_at dksX5_bestPads_2 0 rfl rfl)
theorem dX5_bestPads_51 : decode cX5_bestPads 51 = .ok (.goto 27, 3) := dk_167 0 27 (dk_at dksX5_bestPads_2 3 rfl rfl)
theorem dX5_bestPads_54 : decode cX5_bestPads 54 = .ok (.aload_n 0, 1) := dk_42 (dk_at dksX5_bestPads_2 6 rfl rfl)
theorem dX5_bestPads_55 : decode cX5_bestPads 55 = .ok (.getfield 9, 3) := dk_180 0 9 (dk_at dksX5_bestPads_2 7 rfl rfl)
theorem dX5_bestPads_58 : decode cX5_bestPads 58 = .ok (.iconst 5, 1) := dk_8 (dk_at dksX5_bestPads_2 10 rfl rfl)
theorem dX5_bestPads_59 : decode cX5_bestPads 59 = .ok (.iload_n 3, 1) := dk_29 (dk_at dksX5_bestPads_2 11 rfl rfl)
theorem dX5_bestPads_60 : decode cX5_bestPads 60 = .ok (.iload 4, 2) := dk_21 4 (dk_at dksX5_bestPads_2 12 rfl rfl)
theorem dX5_bestPads_62 : decode cX5_bestPads 62 = .ok (.ior, 1) := dk_128 (dk_at dksX5_bestPads_2 14 rfl rfl)
theorem dX5_bestPads_63 : decode cX5_bestPads 63 = .ok (.iastore, 1) := dk_79 (dk_at dksX5_bestPads_2 15 rfl rfl)
theorem dX5_bestPads_64 : decode cX5_bestPads 64 = .ok (.aload_n 0, 1) := dk_42 (dk_at dksX5_bestPads_2 16 rfl rfl)
theorem dX5_bestPads_65 : decode cX5_bestPads 65 = .ok (.invokevirtual 388, 3) := dk_182 1 132 (dk_at dksX5_bestPads_2 17 rfl rfl)
theorem dX5_bestPads_68 : decode cX5_bestPads 68 = .ok (.ifCond .ge 10, 3) := dk_156 0 10 (dk_at dksX5_bestPads_2 20 rfl rfl)
theorem dX5_bestPads_71 : decode cX5_bestPads 71 = .ok (.iload 4, 2) := dk_21 4 (dk_at dksX5_bestPads_3 0 rfl rfl)
theorem dX5_bestPads_73 : decode cX5_bestPads 73 = .ok (.istore_n 2, 1) := dk_61 (dk_at dksX5_bestPads_3 2 rfl rfl)
theorem dX5_bestPads_74 : decode cX5_bestPads 74 = .ok (.aload_n 0, 1) := dk_42 (dk_at dksX5_bestPads_3 3 rfl rfl)
theorem dX5_bestPads_75 : decode cX5_bestPads 75 = .ok (.invokevirtual 382, 3) := dk_182 1 126 (dk_at dksX5_bestPads_3 4 rfl rfl)
theorem dX5_bestPads_78 : decode cX5_bestPads 78 = .ok (.iinc 4 1, 3) := dk_132 4 1 (dk_at dksX5_bestPads_3 7 rfl rfl)
theorem dX5_bestPads_81 : decode cX5_bestPads 81 = .ok (.goto (-65), 3) := dk_167 255 191 (dk_at dksX5_bestPads_3 10 rfl rfl)
theorem dX5_bestPads_84 : decode cX5_bestPads 84 = .ok (.aload_n 0, 1) := dk_42 (dk_at dksX5_bestPads_3 13 rfl rfl)
theorem dX5_bestPads_85 : decode cX5_bestPads 85 = .ok (.getfield 9, 3) := dk_180 0 9 (dk_at dksX5_bestPads_3 14 rfl rfl)
theorem dX5_bestPads_88 : decode cX5_bestPads 88 = .ok (.iconst 5, 1) := dk_8 (dk_at dksX5_bestPads_3 17 rfl rfl)
theorem dX5_bestPads_89 : decode cX5_bestPads 89 = .ok (.iload_n 3, 1) := dk_29 (dk_at dksX5_bestPads_3 18 rfl rfl)
theorem dX5_bestPads_90 : decode cX5_bestPads 90 = .ok (.iastore, 1) := dk_79 (dk_at dksX5_bestPads_3 19 rfl rfl)
theorem dX5_bestPads_91 : decode cX5_bestPads 91 = .ok (.iload_n 2, 1) := dk_28 (dk_at dksX5_bestPads_3 20 rfl rfl)
theorem dX5_bestPads_92 : decode cX5_bestPads 92 = .ok (.ireturn, 1) := dk_172 (dk_at dksX5_bestPads_3 21 rfl rfl)
abbrev cX5_bits : ByteArray := prog_17_method_5_code
def yX5_bits : MethodName := ⟨RX5, "bits", "(I)I"⟩
def dkwX5_bits_1 : List UInt8 := [27, 172]
abbrev dktX5_bits_1 : List UInt8 := dkwX5_bits_1 ++ []
def dkwX5_bits_0 : List UInt8 := [3, 60, 3, 61, 28, 16, 9, 162, 0, 17, 27, 26, 28, 122, 4, 126, 96, 60, 132, 2, 1, 167, 255, 239]
abbrev dktX5_bits_0 : List UInt8 := dkwX5_bits_0 ++ dktX5_bits_1
theorem dksX5_bits_0 : cX5_bits.data.toList.drop 0 = dktX5_bits_0 := by decide +kernel
theorem dksX5_bits_1 : cX5_bits.data.toList.drop 24 = dktX5_bits_1 := dk_seg dksX5_bits_0 24 rfl rfl
theorem dX5_bits_0 : decode cX5_bits 0 = .ok (.iconst 0, 1) := dk_3 (dk_at dksX5_bits_0 0 rfl rfl)
theorem dX5_bits_1 : decode cX5_bits 1 = .ok (.istore_n 1, 1) := dk_60 (dk_at dksX5_bits_0 1 rfl rfl)
theorem dX5_bits_2 : decode cX5_bits 2 = .ok (.iconst 0, 1) := dk_3 (dk_at dksX5_bits_0 2 rfl rfl)
theorem dX5_bits_3 : decode cX5_bits 3 = .ok (.istore_n 2, 1) := dk_61 (dk_at dksX5_bits_0 3 rfl rfl)
theorem dX5_bits_4 : decode cX5_bits 4 = .ok (.iload_n 2, 1) := dk_28 (dk_at dksX5_bits_0 4 rfl rfl)
theorem dX5_bits_5 : decode cX5_bits 5 = .ok (.bipush 9, 2) := dk_16 9 (dk_at dksX5_bits_0 5 rfl rfl)
theorem dX5_bits_7 : decode cX5_bits 7 = .ok (.if_icmp .ge 17, 3) := dk_162 0 17 (dk_at dksX5_bits_0 7 rfl rfl)
theorem dX5_bits_10 : decode cX5_bits 10 = .ok (.iload_n 1, 1) := dk_27 (dk_at dksX5_bits_0 10 rfl rfl)
theorem dX5_bits_11 : decode cX5_bits 11 = .ok (.iload_n 0, 1) := dk_26 (dk_at dksX5_bits_0 11 rfl rfl)
theorem dX5_bits_12 : decode cX5_bits 12 = .ok (.iload_n 2, 1) := dk_28 (dk_at dksX5_bits_0 12 rfl rfl)
theorem dX5_bits_13 : decode cX5_bits 13 = .ok (.ishr, 1) := dk_122 (dk_at dksX5_bits_0 13 rfl rfl)
theorem dX5_bits_14 : decode cX5_bits 14 = .ok (.iconst 1, 1) := dk_4 (dk_at dksX5_bits_0 14 rfl rfl)
theorem dX5_bits_15 : decode cX5_bits 15 = .ok (.iand, 1) := dk_126 (dk_at dksX5_bits_0 15 rfl rfl)
theorem dX5_bits_16 : decode cX5_bits 16 = .ok (.iadd, 1) := dk_96 (dk_at dksX5_bits_0 16 rfl rfl)
theorem dX5_bits_17 : decode cX5_bits 17 = .ok (.istore_n 1, 1) := dk_60 (dk_at dksX5_bits_0 17 rfl rfl)
theorem dX5_bits_18 : decode cX5_bits 18 = .ok (.iinc 2 1, 3) := dk_132 2 1 (dk_at dksX5_bits_0 18 rfl rfl)
theorem dX5_bits_21 : decode cX5_bits 21 = .ok (.goto (-17), 3) := dk_167 255 239 (dk_at dksX5_bits_0 21 rfl rfl)
theorem dX5_bits_24 : decode cX5_bits 24 = .ok (.iload_n 1, 1) := dk_27 (dk_at dksX5_bits_1 0 rfl rfl)
theorem dX5_bits_25 : decode cX5_bits 25 = .ok (.ireturn, 1) := dk_172 (dk_at dksX5_bits_1 1 rfl rfl)
abbrev cX5_padded : ByteArray := prog_17_method_104_code
def yX5_padded : MethodName := ⟨RX5, "padded", "(II)J"⟩
def dkwX5_padded_2 : List UInt8 := [180, 1, 116, 42, 180, 1, 119, 28, 184, 1, 64, 173]
abbrev dktX5_padded_2 : List UInt8 := dkwX5_padded_2 ++ []
def dkwX5_padded_1 : List UInt8 := [154, 0, 7, 20, 1, 60, 173, 42, 27, 182, 1, 141, 2, 160, 0, 9, 20, 1, 62, 167, 0, 15, 42]
abbrev dktX5_padded_1 : List UInt8 := dkwX5_padded_1 ++ dktX5_padded_2
def dkwX5_padded_0 : List UInt8 := [42, 182, 0, 109, 153, 0, 22, 27, 133, 9, 20, 0, 200, 184, 0, 87, 153, 0, 10, 28, 184, 1, 57]
abbrev dktX5_padded_0 : List UInt8 := dkwX5_padded_0 ++ dktX5_padded_1
theorem dksX5_padded_0 : cX5_padded.data.toList.drop 0 = dktX5_padded_0 := by decide +kernel
theorem dksX5_padded_1 : cX5_padded.data.toList.drop 23 = dktX5_padded_1 := dk_seg dksX5_padded_0 23 rfl rfl
theorem dksX5_padded_2 : cX5_padded.data.toList.drop 46 = dktX5_padded_2 := dk_seg dksX5_padded_1 23 rfl rfl
theorem dX5_padded_0 : decode cX5_padded 0 = .ok (.aload_n 0, 1) := dk_42 (dk_at dksX5_padded_0 0 rfl rfl)
theorem dX5_padded_1 : decode cX5_padded 1 = .ok (.invokevirtual 109, 3) := dk_182 0 109 (dk_at dksX5_padded_0 1 rfl rfl)
theorem dX5_padded_4 : decode cX5_padded 4 = .ok (.ifCond .eq 22, 3) := dk_153 0 22 (dk_at dksX5_padded_0 4 rfl rfl)
theorem dX5_padded_7 : decode cX5_padded 7 = .ok (.iload_n 1, 1) := dk_27 (dk_at dksX5_padded_0 7 rfl rfl)
theorem dX5_padded_8 : decode cX5_padded 8 = .ok (.i2l, 1) := dk_133 (dk_at dksX5_padded_0 8 rfl rfl)
theorem dX5_padded_9 : decode cX5_padded 9 = .ok (.lconst 0, 1) := dk_9 (dk_at dksX5_padded_0 9 rfl rfl)
theorem dX5_padded_10 : decode cX5_padded 10 = .ok (.ldc2_w 200, 3) := dk_20 0 200 (dk_at dksX5_padded_0 10 rfl rfl)
theorem dX5_padded_13 : decode cX5_padded 13 = .ok (.invokestatic 87, 3) := dk_184 0 87 (dk_at dksX5_padded_0 13 rfl rfl)
theorem dX5_padded_16 : decode cX5_padded 16 = .ok (.ifCond .eq 10, 3) := dk_153 0 10 (dk_at dksX5_padded_0 16 rfl rfl)
theorem dX5_padded_19 : decode cX5_padded 19 = .ok (.iload_n 2, 1) := dk_28 (dk_at dksX5_padded_0 19 rfl rfl)
theorem dX5_padded_20 : decode cX5_padded 20 = .ok (.invokestatic 313, 3) := dk_184 1 57 (dk_at dksX5_padded_0 20 rfl rfl)
theorem dX5_padded_23 : decode cX5_padded 23 = .ok (.ifCond .ne 7, 3) := dk_154 0 7 (dk_at dksX5_padded_1 0 rfl rfl)
theorem dX5_padded_26 : decode cX5_padded 26 = .ok (.ldc2_w 316, 3) := dk_20 1 60 (dk_at dksX5_padded_1 3 rfl rfl)
theorem dX5_padded_29 : decode cX5_padded 29 = .ok (.lreturn, 1) := dk_173 (dk_at dksX5_padded_1 6 rfl rfl)
theorem dX5_padded_30 : decode cX5_padded 30 = .ok (.aload_n 0, 1) := dk_42 (dk_at dksX5_padded_1 7 rfl rfl)
theorem dX5_padded_31 : decode cX5_padded 31 = .ok (.iload_n 1, 1) := dk_27 (dk_at dksX5_padded_1 8 rfl rfl)
theorem dX5_padded_32 : decode cX5_padded 32 = .ok (.invokevirtual 397, 3) := dk_182 1 141 (dk_at dksX5_padded_1 9 rfl rfl)
theorem dX5_padded_35 : decode cX5_padded 35 = .ok (.iconst (-1), 1) := dk_2 (dk_at dksX5_padded_1 12 rfl rfl)
theorem dX5_padded_36 : decode cX5_padded 36 = .ok (.if_icmp .ne 9, 3) := dk_160 0 9 (dk_at dksX5_padded_1 13 rfl rfl)
theorem dX5_padded_39 : decode cX5_padded 39 = .ok (.ldc2_w 318, 3) := dk_20 1 62 (dk_at dksX5_padded_1 16 rfl rfl)
theorem dX5_padded_42 : decode cX5_padded 42 = .ok (.goto 15, 3) := dk_167 0 15 (dk_at dksX5_padded_1 19 rfl rfl)
theorem dX5_padded_45 : decode cX5_padded 45 = .ok (.aload_n 0, 1) := dk_42 (dk_at dksX5_padded_1 22 rfl rfl)
theorem dX5_padded_46 : decode cX5_padded 46 = .ok (.getfield 372, 3) := dk_180 1 116 (dk_at dksX5_padded_2 0 rfl rfl)
theorem dX5_padded_49 : decode cX5_padded 49 = .ok (.aload_n 0, 1) := dk_42 (dk_at dksX5_padded_2 3 rfl rfl)
theorem dX5_padded_50 : decode cX5_padded 50 = .ok (.getfield 375, 3) := dk_180 1 119 (dk_at dksX5_padded_2 4 rfl rfl)
theorem dX5_padded_53 : decode cX5_padded 53 = .ok (.iload_n 2, 1) := dk_28 (dk_at dksX5_padded_2 7 rfl rfl)
theorem dX5_padded_54 : decode cX5_padded 54 = .ok (.invokestatic 320, 3) := dk_184 1 64 (dk_at dksX5_padded_2 8 rfl rfl)
theorem dX5_padded_57 : decode cX5_padded 57 = .ok (.lreturn, 1) := dk_173 (dk_at dksX5_padded_2 11 rfl rfl)
abbrev cX5_enough : ByteArray := prog_17_method_105_code
def yX5_enough : MethodName := ⟨RX5, "enough", "()I"⟩
def dkwX5_enough_3 : List UInt8 := [132, 1, 1, 167, 255, 197, 2, 172]
abbrev dktX5_enough_3 : List UInt8 := dkwX5_enough_3 ++ []
def dkwX5_enough_2 : List UInt8 := [182, 1, 141, 128, 79, 42, 182, 1, 78, 62, 42, 180, 0, 9, 8, 28, 79, 29, 153, 0, 5, 27, 172]
abbrev dktX5_enough_2 : List UInt8 := dkwX5_enough_2 ++ dktX5_enough_3
def dkwX5_enough_1 : List UInt8 := [184, 1, 138, 100, 163, 0, 47, 42, 180, 0, 9, 8, 46, 61, 42, 180, 0, 9, 8, 28, 42, 27]
abbrev dktX5_enough_1 : List UInt8 := dkwX5_enough_1 ++ dktX5_enough_2
def dkwX5_enough_0 : List UInt8 := [42, 182, 0, 109, 154, 0, 6, 16, 254, 172, 3, 60, 27, 42, 182, 0, 98, 42, 180, 0, 9, 8, 46]
abbrev dktX5_enough_0 : List UInt8 := dkwX5_enough_0 ++ dktX5_enough_1
theorem dksX5_enough_0 : cX5_enough.data.toList.drop 0 = dktX5_enough_0 := by decide +kernel
theorem dksX5_enough_1 : cX5_enough.data.toList.drop 23 = dktX5_enough_1 := dk_seg dksX5_enough_0 23 rfl rfl
theorem dksX5_enough_2 : cX5_enough.data.toList.drop 45 = dktX5_enough_2 := dk_seg dksX5_enough_1 22 rfl rfl
theorem dksX5_enough_3 : cX5_enough.data.toList.drop 68 = dktX5_enough_3 := dk_seg dksX5_enough_2 23 rfl rfl
theorem dX5_enough_0 : decode cX5_enough 0 = .ok (.aload_n 0, 1) := dk_42 (dk_at dksX5_enough_0 0 rfl rfl)
theorem dX5_enough_1 : decode cX5_enough 1 = .ok (.invokevirtual 109, 3) := dk_182 0 109 (dk_at dksX5_enough_0 1 rfl rfl)
theorem dX5_enough_4 : decode cX5_enough 4 = .ok (.ifCond .ne 6, 3) := dk_154 0 6 (dk_at dksX5_enough_0 4 rfl rfl)
theorem dX5_enough_7 : decode cX5_enough 7 = .ok (.bipush (-2), 2) := dk_16 254 (dk_at dksX5_enough_0 7 rfl rfl)
theorem dX5_enough_9 : decode cX5_enough 9 = .ok (.ireturn, 1) := dk_172 (dk_at dksX5_enough_0 9 rfl rfl)
theorem dX5_enough_10 : decode cX5_enough 10 = .ok (.iconst 0, 1) := dk_3 (dk_at dksX5_enough_0 10 rfl rfl)
theorem dX5_enough_11 : decode cX5_enough 11 = .ok (.istore_n 1, 1) := dk_60 (dk_at dksX5_enough_0 11 rfl rfl)
theorem dX5_enough_12 : decode cX5_enough 12 = .ok (.iload_n 1, 1) := dk_27 (dk_at dksX5_enough_0 12 rfl rfl)
theorem dX5_enough_13 : decode cX5_enough 13 = .ok (.aload_n 0, 1) := dk_42 (dk_at dksX5_enough_0 13 rfl rfl)
theorem dX5_enough_14 : decode cX5_enough 14 = .ok (.invokevirtual 98, 3) := dk_182 0 98 (dk_at dksX5_enough_0 14 rfl rfl)
theorem dX5_enough_17 : decode cX5_enough 17 = .ok (.aload_n 0, 1) := dk_42 (dk_at dksX5_enough_0 17 rfl rfl)
theorem dX5_enough_18 : decode cX5_enough 18 = .ok (.getfield 9, 3) := dk_180 0 9 (dk_at dksX5_enough_0 18 rfl rfl)
theorem dX5_enough_21 : decode cX5_enough 21 = .ok (.iconst 5, 1) := dk_8 (dk_at dksX5_enough_0 21 rfl rfl)
theorem dX5_enough_22 : decode cX5_enough 22 = .ok (.iaload, 1) := dk_46 (dk_at dksX5_enough_0 22 rfl rfl)
theorem dX5_enough_23 : decode cX5_enough 23 = .ok (.invokestatic 394, 3) := dk_184 1 138 (dk_at dksX5_enough_1 0 rfl rfl)
theorem dX5_enough_26 : decode cX5_enough 26 = .ok (.isub, 1) := dk_100 (dk_at dksX5_enough_1 3 rfl rfl)
theorem dX5_enough_27 : decode cX5_enough 27 = .ok (.if_icmp .gt 47, 3) := dk_163 0 47 (dk_at dksX5_enough_1 4 rfl rfl)
theorem dX5_enough_30 : decode cX5_enough 30 = .ok (.aload_n 0, 1) := dk_42 (dk_at dksX5_enough_1 7 rfl rfl)
theorem dX5_enough_31 : decode cX5_enough 31 = .ok (.getfield 9, 3) := dk_180 0 9 (dk_at dksX5_enough_1 8 rfl rfl)
theorem dX5_enough_34 : decode cX5_enough 34 = .ok (.iconst 5, 1) := dk_8 (dk_at dksX5_enough_1 11 rfl rfl)
theorem dX5_enough_35 : decode cX5_enough 35 = .ok (.iaload, 1) := dk_46 (dk_at dksX5_enough_1 12 rfl rfl)
theorem dX5_enough_36 : decode cX5_enough 36 = .ok (.istore_n 2, 1) := dk_61 (dk_at dksX5_enough_1 13 rfl rfl)
theorem dX5_enough_37 : decode cX5_enough 37 = .ok (.aload_n 0, 1) := dk_42 (dk_at dksX5_enough_1 14 rfl rfl)
theorem dX5_enough_38 : decode cX5_enough 38 = .ok (.getfield 9, 3) := dk_180 0 9 (dk_at dksX5_enough_1 15 rfl rfl)
theorem dX5_enough_41 : decode cX5_enough 41 = .ok (.iconst 5, 1) := dk_8 (dk_at dksX5_enough_1 18 rfl rfl)
theorem dX5_enough_42 : decode cX5_enough 42 = .ok (.iload_n 2, 1) := dk_28 (dk_at dksX5_enough_1 19 rfl rfl)
theorem dX5_enough_43 : decode cX5_enough 43 = .ok (.aload_n 0, 1) := dk_42 (dk_at dksX5_enough_1 20 rfl rfl)
theorem dX5_enough_44 : decode cX5_enough 44 = .ok (.iload_n 1, 1) := dk_27 (dk_at dksX5_enough_1 21 rfl rfl)
theorem dX5_enough_45 : decode cX5_enough 45 = .ok (.invokevirtual 397, 3) := dk_182 1 141 (dk_at dksX5_enough_2 0 rfl rfl)
theorem dX5_enough_48 : decode cX5_enough 48 = .ok (.ior, 1) := dk_128 (dk_at dksX5_enough_2 3 rfl rfl)
theorem dX5_enough_49 : decode cX5_enough 49 = .ok (.iastore, 1) := dk_79 (dk_at dksX5_enough_2 4 rfl rfl)
theorem dX5_enough_50 : decode cX5_enough 50 = .ok (.aload_n 0, 1) := dk_42 (dk_at dksX5_enough_2 5 rfl rfl)
theorem dX5_enough_51 : decode cX5_enough 51 = .ok (.invokevirtual 334, 3) := dk_182 1 78 (dk_at dksX5_enough_2 6 rfl rfl)
theorem dX5_enough_54 : decode cX5_enough 54 = .ok (.istore_n 3, 1) := dk_62 (dk_at dksX5_enough_2 9 rfl rfl)
theorem dX5_enough_55 : decode cX5_enough 55 = .ok (.aload_n 0, 1) := dk_42 (dk_at dksX5_enough_2 10 rfl rfl)
theorem dX5_enough_56 : decode cX5_enough 56 = .ok (.getfield 9, 3) := dk_180 0 9 (dk_at dksX5_enough_2 11 rfl rfl)
theorem dX5_enough_59 : decode cX5_enough 59 = .ok (.iconst 5, 1) := dk_8 (dk_at dksX5_enough_2 14 rfl rfl)
theorem dX5_enough_60 : decode cX5_enough 60 = .ok (.iload_n 2, 1) := dk_28 (dk_at dksX5_enough_2 15 rfl rfl)
theorem dX5_enough_61 : decode cX5_enough 61 = .ok (.iastore, 1) := dk_79 (dk_at dksX5_enough_2 16 rfl rfl)
theorem dX5_enough_62 : decode cX5_enough 62 = .ok (.iload_n 3, 1) := dk_29 (dk_at dksX5_enough_2 17 rfl rfl)
theorem dX5_enough_63 : decode cX5_enough 63 = .ok (.ifCond .eq 5, 3) := dk_153 0 5 (dk_at dksX5_enough_2 18 rfl rfl)
theorem dX5_enough_66 : decode cX5_enough 66 = .ok (.iload_n 1, 1) := dk_27 (dk_at dksX5_enough_2 21 rfl rfl)
theorem dX5_enough_67 : decode cX5_enough 67 = .ok (.ireturn, 1) := dk_172 (dk_at dksX5_enough_2 22 rfl rfl)
theorem dX5_enough_68 : decode cX5_enough 68 = .ok (.iinc 1 1, 3) := dk_132 1 1 (dk_at dksX5_enough_3 0 rfl rfl)
theorem dX5_enough_71 : decode cX5_enough 71 = .ok (.goto (-59), 3) := dk_167 255 197 (dk_at dksX5_enough_3 3 rfl rfl)
theorem dX5_enough_74 : decode cX5_enough 74 = .ok (.iconst (-1), 1) := dk_2 (dk_at dksX5_enough_3 6 rfl rfl)
theorem dX5_enough_75 : decode cX5_enough 75 = .ok (.ireturn, 1) := dk_172 (dk_at dksX5_enough_3 7 rfl rfl)
abbrev cX5_widens : ByteArray := prog_17_method_109_code
def yX5_widens : MethodName := ⟨RX5, "widens", "()I"⟩
def dkwX5_widens_0 : List UInt8 := [42, 182, 1, 156, 153, 0, 10, 42, 180, 1, 147, 167, 0, 5, 16, 254, 172]
abbrev dktX5_widens_0 : List UInt8 := dkwX5_widens_0 ++ []
theorem dksX5_widens_0 : cX5_widens.data.toList.drop 0 = dktX5_widens_0 := by decide +kernel
theorem dX5_widens_0 : decode cX5_widens 0 = .ok (.aload_n 0, 1) := dk_42 (dk_at dksX5_widens_0 0 rfl rfl)
theorem dX5_widens_1 : decode cX5_widens 1 = .ok (.invokevirtual 412, 3) := dk_182 1 156 (dk_at dksX5_widens_0 1 rfl rfl)
theorem dX5_widens_4 : decode cX5_widens 4 = .ok (.ifCond .eq 10, 3) := dk_153 0 10 (dk_at dksX5_widens_0 4 rfl rfl)
theorem dX5_widens_7 : decode cX5_widens 7 = .ok (.aload_n 0, 1) := dk_42 (dk_at dksX5_widens_0 7 rfl rfl)
theorem dX5_widens_8 : decode cX5_widens 8 = .ok (.getfield 403, 3) := dk_180 1 147 (dk_at dksX5_widens_0 8 rfl rfl)
theorem dX5_widens_11 : decode cX5_widens 11 = .ok (.goto 5, 3) := dk_167 0 5 (dk_at dksX5_widens_0 11 rfl rfl)
theorem dX5_widens_14 : decode cX5_widens 14 = .ok (.bipush (-2), 2) := dk_16 254 (dk_at dksX5_widens_0 14 rfl rfl)
theorem dX5_widens_16 : decode cX5_widens 16 = .ok (.ireturn, 1) := dk_172 (dk_at dksX5_widens_0 16 rfl rfl)
abbrev cX5_laysWidened : ByteArray := prog_17_method_108_code
def yX5_laysWidened : MethodName := ⟨RX5, "laysWidened", "()Z"⟩
def dkwX5_laysWidened_0 : List UInt8 := [42, 182, 0, 109, 154, 0, 5, 3, 172, 42, 182, 1, 104, 42, 182, 1, 153, 42, 182, 1, 110, 4, 172]
abbrev dktX5_laysWidened_0 : List UInt8 := dkwX5_laysWidened_0 ++ []
theorem dksX5_laysWidened_0 : cX5_laysWidened.data.toList.drop 0 = dktX5_laysWidened_0 := by decide +kernel
theorem dX5_laysWidened_0 : decode cX5_laysWidened 0 = .ok (.aload_n 0, 1) := dk_42 (dk_at dksX5_laysWidened_0 0 rfl rfl)
theorem dX5_laysWidened_1 : decode cX5_laysWidened 1 = .ok (.invokevirtual 109, 3) := dk_182 0 109 (dk_at dksX5_laysWidened_0 1 rfl rfl)
theorem dX5_laysWidened_4 : decode cX5_laysWidened 4 = .ok (.ifCond .ne 5, 3) := dk_154 0 5 (dk_at dksX5_laysWidened_0 4 rfl rfl)
theorem dX5_laysWidened_7 : decode cX5_laysWidened 7 = .ok (.iconst 0, 1) := dk_3 (dk_at dksX5_laysWidened_0 7 rfl rfl)
theorem dX5_laysWidened_8 : decode cX5_laysWidened 8 = .ok (.ireturn, 1) := dk_172 (dk_at dksX5_laysWidened_0 8 rfl rfl)
theorem dX5_laysWidened_9 : decode cX5_laysWidened 9 = .ok (.aload_n 0, 1) := dk_42 (dk_at dksX5_laysWidened_0 9 rfl rfl)
theorem dX5_laysWidened_10 : decode cX5_laysWidened 10 = .ok (.invokevirtual 360, 3) := dk_182 1 104 (dk_at dksX5_laysWidened_0 10 rfl rfl)
theorem dX5_laysWidened_13 : decode cX5_laysWidened 13 = .ok (.aload_n 0, 1) := dk_42 (dk_at dksX5_laysWidened_0 13 rfl rfl)
theorem dX5_laysWidened_14 : decode cX5_laysWidened 14 = .ok (.invokevirtual 409, 3) := dk_182 1 153 (dk_at dksX5_laysWidened_0 14 rfl rfl)
theorem dX5_laysWidened_17 : decode cX5_laysWidened 17 = .ok (.aload_n 0, 1) := dk_42 (dk_at dksX5_laysWidened_0 17 rfl rfl)
theorem dX5_laysWidened_18 : decode cX5_laysWidened 18 = .ok (.invokevirtual 366, 3) := dk_182 1 110 (dk_at dksX5_laysWidened_0 18 rfl rfl)
theorem dX5_laysWidened_21 : decode cX5_laysWidened 21 = .ok (.iconst 1, 1) := dk_4 (dk_at dksX5_laysWidened_0 21 rfl rfl)
theorem dX5_laysWidened_22 : decode cX5_laysWidened 22 = .ok (.ireturn, 1) := dk_172 (dk_at dksX5_laysWidened_0 22 rfl rfl)
abbrev cX5_widensAll : ByteArray := prog_17_method_107_code
def yX5_widensAll : MethodName := ⟨RX5, "widensAll", "()V"⟩
def dkwX5_widensAll_2 : List UInt8 := [180, 0, 66, 42, 180, 1, 147, 27, 79, 42, 89, 180, 1, 147, 4, 96, 181, 1, 147, 167, 255, 196, 177]
abbrev dktX5_widensAll_2 : List UInt8 := dkwX5_widensAll_2 ++ []
def dkwX5_widensAll_1 : List UInt8 := [182, 1, 150, 60, 27, 2, 160, 0, 4, 177, 42, 180, 0, 9, 16, 28, 27, 96, 92, 46, 4, 96, 79, 42]
abbrev dktX5_widensAll_1 : List UInt8 := dkwX5_widensAll_1 ++ dktX5_widensAll_2
def dkwX5_widensAll_0 : List UInt8 := [42, 3, 181, 1, 147, 42, 180, 1, 147, 16, 20, 162, 0, 57, 42, 182, 1, 78, 154, 0, 50, 42]
abbrev dktX5_widensAll_0 : List UInt8 := dkwX5_widensAll_0 ++ dktX5_widensAll_1
theorem dksX5_widensAll_0 : cX5_widensAll.data.toList.drop 0 = dktX5_widensAll_0 := by decide +kernel
theorem dksX5_widensAll_1 : cX5_widensAll.data.toList.drop 22 = dktX5_widensAll_1 := dk_seg dksX5_widensAll_0 22 rfl rfl
theorem dksX5_widensAll_2 : cX5_widensAll.data.toList.drop 46 = dktX5_widensAll_2 := dk_seg dksX5_widensAll_1 24 rfl rfl
theorem dX5_widensAll_0 : decode cX5_widensAll 0 = .ok (.aload_n 0, 1) := dk_42 (dk_at dksX5_widensAll_0 0 rfl rfl)
theorem dX5_widensAll_1 : decode cX5_widensAll 1 = .ok (.iconst 0, 1) := dk_3 (dk_at dksX5_widensAll_0 1 rfl rfl)
theorem dX5_widensAll_2 : decode cX5_widensAll 2 = .ok (.putfield 403, 3) := dk_181 1 147 (dk_at dksX5_widensAll_0 2 rfl rfl)
theorem dX5_widensAll_5 : decode cX5_widensAll 5 = .ok (.aload_n 0, 1) := dk_42 (dk_at dksX5_widensAll_0 5 rfl rfl)
theorem dX5_widensAll_6 : decode cX5_widensAll 6 = .ok (.getfield 403, 3) := dk_180 1 147 (dk_at dksX5_widensAll_0 6 rfl rfl)
theorem dX5_widensAll_9 : decode cX5_widensAll 9 = .ok (.bipush 20, 2) := dk_16 20 (dk_at dksX5_widensAll_0 9 rfl rfl)
theorem dX5_widensAll_11 : decode cX5_widensAll 11 = .ok (.if_icmp .ge 57, 3) := dk_162 0 57 (dk_at dksX5_widensAll_0 11 rfl rfl)
theorem dX5_widensAll_14 : decode cX5_widensAll 14 = .ok (.aload_n 0, 1) := dk_42 (dk_at dksX5_widensAll_0 14 rfl rfl)
theorem dX5_widensAll_15 : decode cX5_widensAll 15 = .ok (.invokevirtual 334, 3) := dk_182 1 78 (dk_at dksX5_widensAll_0 15 rfl rfl)
theorem dX5_widensAll_18 : decode cX5_widensAll 18 = .ok (.ifCond .ne 50, 3) := dk_154 0 50 (dk_at dksX5_widensAll_0 18 rfl rfl)
theorem dX5_widensAll_21 : decode cX5_widensAll 21 = .ok (.aload_n 0, 1) := dk_42 (dk_at dksX5_widensAll_0 21 rfl rfl)
theorem dX5_widensAll_22 : decode cX5_widensAll 22 = .ok (.invokevirtual 406, 3) := dk_182 1 150 (dk_at dksX5_widensAll_1 0 rfl rfl)
theorem dX5_widensAll_25 : decode cX5_widensAll 25 = .ok (.istore_n 1, 1) := dk_60 (dk_at dksX5_widensAll_1 3 rfl rfl)
theorem dX5_widensAll_26 : decode cX5_widensAll 26 = .ok (.iload_n 1, 1) := dk_27 (dk_at dksX5_widensAll_1 4 rfl rfl)
theorem dX5_widensAll_27 : decode cX5_widensAll 27 = .ok (.iconst (-1), 1) := dk_2 (dk_at dksX5_widensAll_1 5 rfl rfl)
theorem dX5_widensAll_28 : decode cX5_widensAll 28 = .ok (.if_icmp .ne 4, 3) := dk_160 0 4 (dk_at dksX5_widensAll_1 6 rfl rfl)
theorem dX5_widensAll_31 : decode cX5_widensAll 31 = .ok (.return_, 1) := dk_177 (dk_at dksX5_widensAll_1 9 rfl rfl)
theorem dX5_widensAll_32 : decode cX5_widensAll 32 = .ok (.aload_n 0, 1) := dk_42 (dk_at dksX5_widensAll_1 10 rfl rfl)
theorem dX5_widensAll_33 : decode cX5_widensAll 33 = .ok (.getfield 9, 3) := dk_180 0 9 (dk_at dksX5_widensAll_1 11 rfl rfl)
theorem dX5_widensAll_36 : decode cX5_widensAll 36 = .ok (.bipush 28, 2) := dk_16 28 (dk_at dksX5_widensAll_1 14 rfl rfl)
theorem dX5_widensAll_38 : decode cX5_widensAll 38 = .ok (.iload_n 1, 1) := dk_27 (dk_at dksX5_widensAll_1 16 rfl rfl)
theorem dX5_widensAll_39 : decode cX5_widensAll 39 = .ok (.iadd, 1) := dk_96 (dk_at dksX5_widensAll_1 17 rfl rfl)
theorem dX5_widensAll_40 : decode cX5_widensAll 40 = .ok (.dup2, 1) := dk_92 (dk_at dksX5_widensAll_1 18 rfl rfl)
theorem dX5_widensAll_41 : decode cX5_widensAll 41 = .ok (.iaload, 1) := dk_46 (dk_at dksX5_widensAll_1 19 rfl rfl)
theorem dX5_widensAll_42 : decode cX5_widensAll 42 = .ok (.iconst 1, 1) := dk_4 (dk_at dksX5_widensAll_1 20 rfl rfl)
theorem dX5_widensAll_43 : decode cX5_widensAll 43 = .ok (.iadd, 1) := dk_96 (dk_at dksX5_widensAll_1 21 rfl rfl)
theorem dX5_widensAll_44 : decode cX5_widensAll 44 = .ok (.iastore, 1) := dk_79 (dk_at dksX5_widensAll_1 22 rfl rfl)
theorem dX5_widensAll_45 : decode cX5_widensAll 45 = .ok (.aload_n 0, 1) := dk_42 (dk_at dksX5_widensAll_1 23 rfl rfl)
theorem dX5_widensAll_46 : decode cX5_widensAll 46 = .ok (.getfield 66, 3) := dk_180 0 66 (dk_at dksX5_widensAll_2 0 rfl rfl)
theorem dX5_widensAll_49 : decode cX5_widensAll 49 = .ok (.aload_n 0, 1) := dk_42 (dk_at dksX5_widensAll_2 3 rfl rfl)
theorem dX5_widensAll_50 : decode cX5_widensAll 50 = .ok (.getfield 403, 3) := dk_180 1 147 (dk_at dksX5_widensAll_2 4 rfl rfl)
theorem dX5_widensAll_53 : decode cX5_widensAll 53 = .ok (.iload_n 1, 1) := dk_27 (dk_at dksX5_widensAll_2 7 rfl rfl)
theorem dX5_widensAll_54 : decode cX5_widensAll 54 = .ok (.iastore, 1) := dk_79 (dk_at dksX5_widensAll_2 8 rfl rfl)
theorem dX5_widensAll_55 : decode cX5_widensAll 55 = .ok (.aload_n 0, 1) := dk_42 (dk_at dksX5_widensAll_2 9 rfl rfl)
theorem dX5_widensAll_56 : decode cX5_widensAll 56 = .ok (.dup, 1) := dk_89 (dk_at dksX5_widensAll_2 10 rfl rfl)
theorem dX5_widensAll_57 : decode cX5_widensAll 57 = .ok (.getfield 403, 3) := dk_180 1 147 (dk_at dksX5_widensAll_2 11 rfl rfl)
theorem dX5_widensAll_60 : decode cX5_widensAll 60 = .ok (.iconst 1, 1) := dk_4 (dk_at dksX5_widensAll_2 14 rfl rfl)
theorem dX5_widensAll_61 : decode cX5_widensAll 61 = .ok (.iadd, 1) := dk_96 (dk_at dksX5_widensAll_2 15 rfl rfl)
theorem dX5_widensAll_62 : decode cX5_widensAll 62 = .ok (.putfield 403, 3) := dk_181 1 147 (dk_at dksX5_widensAll_2 16 rfl rfl)
theorem dX5_widensAll_65 : decode cX5_widensAll 65 = .ok (.goto (-60), 3) := dk_167 255 196 (dk_at dksX5_widensAll_2 19 rfl rfl)
theorem dX5_widensAll_68 : decode cX5_widensAll 68 = .ok (.return_, 1) := dk_177 (dk_at dksX5_widensAll_2 22 rfl rfl)
abbrev cX5_nextWider : ByteArray := prog_17_method_106_code
def yX5_nextWider : MethodName := ⟨RX5, "nextWider", "()I"⟩
def dkwX5_nextWider_3 : List UInt8 := [79, 132, 2, 1, 167, 255, 190, 27, 172]
abbrev dktX5_nextWider_3 : List UInt8 := dkwX5_nextWider_3 ++ []
def dkwX5_nextWider_2 : List UInt8 := [182, 1, 132, 156, 0, 9, 28, 60, 42, 182, 1, 126, 42, 180, 0, 9, 16, 28, 28, 96, 92, 46, 4, 100]
abbrev dktX5_nextWider_2 : List UInt8 := dkwX5_nextWider_2 ++ dktX5_nextWider_3
def dkwX5_nextWider_1 : List UInt8 := [46, 7, 160, 0, 6, 167, 0, 42, 42, 180, 0, 9, 16, 28, 28, 96, 92, 46, 4, 96, 79, 42]
abbrev dktX5_nextWider_1 : List UInt8 := dkwX5_nextWider_1 ++ dktX5_nextWider_2
def dkwX5_nextWider_0 : List UInt8 := [42, 182, 1, 144, 2, 60, 3, 61, 28, 42, 180, 0, 102, 162, 0, 64, 42, 180, 0, 9, 16, 28, 28, 96]
abbrev dktX5_nextWider_0 : List UInt8 := dkwX5_nextWider_0 ++ dktX5_nextWider_1
theorem dksX5_nextWider_0 : cX5_nextWider.data.toList.drop 0 = dktX5_nextWider_0 := by decide +kernel
theorem dksX5_nextWider_1 : cX5_nextWider.data.toList.drop 24 = dktX5_nextWider_1 := dk_seg dksX5_nextWider_0 24 rfl rfl
theorem dksX5_nextWider_2 : cX5_nextWider.data.toList.drop 46 = dktX5_nextWider_2 := dk_seg dksX5_nextWider_1 22 rfl rfl
theorem dksX5_nextWider_3 : cX5_nextWider.data.toList.drop 70 = dktX5_nextWider_3 := dk_seg dksX5_nextWider_2 24 rfl rfl
theorem dX5_nextWider_0 : decode cX5_nextWider 0 = .ok (.aload_n 0, 1) := dk_42 (dk_at dksX5_nextWider_0 0 rfl rfl)
theorem dX5_nextWider_1 : decode cX5_nextWider 1 = .ok (.invokevirtual 400, 3) := dk_182 1 144 (dk_at dksX5_nextWider_0 1 rfl rfl)
theorem dX5_nextWider_4 : decode cX5_nextWider 4 = .ok (.iconst (-1), 1) := dk_2 (dk_at dksX5_nextWider_0 4 rfl rfl)
theorem dX5_nextWider_5 : decode cX5_nextWider 5 = .ok (.istore_n 1, 1) := dk_60 (dk_at dksX5_nextWider_0 5 rfl rfl)
theorem dX5_nextWider_6 : decode cX5_nextWider 6 = .ok (.iconst 0, 1) := dk_3 (dk_at dksX5_nextWider_0 6 rfl rfl)
theorem dX5_nextWider_7 : decode cX5_nextWider 7 = .ok (.istore_n 2, 1) := dk_61 (dk_at dksX5_nextWider_0 7 rfl rfl)
theorem dX5_nextWider_8 : decode cX5_nextWider 8 = .ok (.iload_n 2, 1) := dk_28 (dk_at dksX5_nextWider_0 8 rfl rfl)
theorem dX5_nextWider_9 : decode cX5_nextWider 9 = .ok (.aload_n 0, 1) := dk_42 (dk_at dksX5_nextWider_0 9 rfl rfl)
theorem dX5_nextWider_10 : decode cX5_nextWider 10 = .ok (.getfield 102, 3) := dk_180 0 102 (dk_at dksX5_nextWider_0 10 rfl rfl)
theorem dX5_nextWider_13 : decode cX5_nextWider 13 = .ok (.if_icmp .ge 64, 3) := dk_162 0 64 (dk_at dksX5_nextWider_0 13 rfl rfl)
theorem dX5_nextWider_16 : decode cX5_nextWider 16 = .ok (.aload_n 0, 1) := dk_42 (dk_at dksX5_nextWider_0 16 rfl rfl)
theorem dX5_nextWider_17 : decode cX5_nextWider 17 = .ok (.getfield 9, 3) := dk_180 0 9 (dk_at dksX5_nextWider_0 17 rfl rfl)
theorem dX5_nextWider_20 : decode cX5_nextWider 20 = .ok (.bipush 28, 2) := dk_16 28 (dk_at dksX5_nextWider_0 20 rfl rfl)
theorem dX5_nextWider_22 : decode cX5_nextWider 22 = .ok (.iload_n 2, 1) := dk_28 (dk_at dksX5_nextWider_0 22 rfl rfl)
theorem dX5_nextWider_23 : decode cX5_nextWider 23 = .ok (.iadd, 1) := dk_96 (dk_at dksX5_nextWider_0 23 rfl rfl)
theorem dX5_nextWider_24 : decode cX5_nextWider 24 = .ok (.iaload, 1) := dk_46 (dk_at dksX5_nextWider_1 0 rfl rfl)
theorem dX5_nextWider_25 : decode cX5_nextWider 25 = .ok (.iconst 4, 1) := dk_7 (dk_at dksX5_nextWider_1 1 rfl rfl)
theorem dX5_nextWider_26 : decode cX5_nextWider 26 = .ok (.if_icmp .ne 6, 3) := dk_160 0 6 (dk_at dksX5_nextWider_1 2 rfl rfl)
theorem dX5_nextWider_29 : decode cX5_nextWider 29 = .ok (.goto 42, 3) := dk_167 0 42 (dk_at dksX5_nextWider_1 5 rfl rfl)
theorem dX5_nextWider_32 : decode cX5_nextWider 32 = .ok (.aload_n 0, 1) := dk_42 (dk_at dksX5_nextWider_1 8 rfl rfl)
theorem dX5_nextWider_33 : decode cX5_nextWider 33 = .ok (.getfield 9, 3) := dk_180 0 9 (dk_at dksX5_nextWider_1 9 rfl rfl)
theorem dX5_nextWider_36 : decode cX5_nextWider 36 = .ok (.bipush 28, 2) := dk_16 28 (dk_at dksX5_nextWider_1 12 rfl rfl)
theorem dX5_nextWider_38 : decode cX5_nextWider 38 = .ok (.iload_n 2, 1) := dk_28 (dk_at dksX5_nextWider_1 14 rfl rfl)
theorem dX5_nextWider_39 : decode cX5_nextWider 39 = .ok (.iadd, 1) := dk_96 (dk_at dksX5_nextWider_1 15 rfl rfl)
theorem dX5_nextWider_40 : decode cX5_nextWider 40 = .ok (.dup2, 1) := dk_92 (dk_at dksX5_nextWider_1 16 rfl rfl)
theorem dX5_nextWider_41 : decode cX5_nextWider 41 = .ok (.iaload, 1) := dk_46 (dk_at dksX5_nextWider_1 17 rfl rfl)
theorem dX5_nextWider_42 : decode cX5_nextWider 42 = .ok (.iconst 1, 1) := dk_4 (dk_at dksX5_nextWider_1 18 rfl rfl)
theorem dX5_nextWider_43 : decode cX5_nextWider 43 = .ok (.iadd, 1) := dk_96 (dk_at dksX5_nextWider_1 19 rfl rfl)
theorem dX5_nextWider_44 : decode cX5_nextWider 44 = .ok (.iastore, 1) := dk_79 (dk_at dksX5_nextWider_1 20 rfl rfl)
theorem dX5_nextWider_45 : decode cX5_nextWider 45 = .ok (.aload_n 0, 1) := dk_42 (dk_at dksX5_nextWider_1 21 rfl rfl)
theorem dX5_nextWider_46 : decode cX5_nextWider 46 = .ok (.invokevirtual 388, 3) := dk_182 1 132 (dk_at dksX5_nextWider_2 0 rfl rfl)
theorem dX5_nextWider_49 : decode cX5_nextWider 49 = .ok (.ifCond .ge 9, 3) := dk_156 0 9 (dk_at dksX5_nextWider_2 3 rfl rfl)
theorem dX5_nextWider_52 : decode cX5_nextWider 52 = .ok (.iload_n 2, 1) := dk_28 (dk_at dksX5_nextWider_2 6 rfl rfl)
theorem dX5_nextWider_53 : decode cX5_nextWider 53 = .ok (.istore_n 1, 1) := dk_60 (dk_at dksX5_nextWider_2 7 rfl rfl)
theorem dX5_nextWider_54 : decode cX5_nextWider 54 = .ok (.aload_n 0, 1) := dk_42 (dk_at dksX5_nextWider_2 8 rfl rfl)
theorem dX5_nextWider_55 : decode cX5_nextWider 55 = .ok (.invokevirtual 382, 3) := dk_182 1 126 (dk_at dksX5_nextWider_2 9 rfl rfl)
theorem dX5_nextWider_58 : decode cX5_nextWider 58 = .ok (.aload_n 0, 1) := dk_42 (dk_at dksX5_nextWider_2 12 rfl rfl)
theorem dX5_nextWider_59 : decode cX5_nextWider 59 = .ok (.getfield 9, 3) := dk_180 0 9 (dk_at dksX5_nextWider_2 13 rfl rfl)
theorem dX5_nextWider_62 : decode cX5_nextWider 62 = .ok (.bipush 28, 2) := dk_16 28 (dk_at dksX5_nextWider_2 16 rfl rfl)
theorem dX5_nextWider_64 : decode cX5_nextWider 64 = .ok (.iload_n 2, 1) := dk_28 (dk_at dksX5_nextWider_2 18 rfl rfl)
theorem dX5_nextWider_65 : decode cX5_nextWider 65 = .ok (.iadd, 1) := dk_96 (dk_at dksX5_nextWider_2 19 rfl rfl)
theorem dX5_nextWider_66 : decode cX5_nextWider 66 = .ok (.dup2, 1) := dk_92 (dk_at dksX5_nextWider_2 20 rfl rfl)
theorem dX5_nextWider_67 : decode cX5_nextWider 67 = .ok (.iaload, 1) := dk_46 (dk_at dksX5_nextWider_2 21 rfl rfl)
theorem dX5_nextWider_68 : decode cX5_nextWider 68 = .ok (.iconst 1, 1) := dk_4 (dk_at dksX5_nextWider_2 22 rfl rfl)
theorem dX5_nextWider_69 : decode cX5_nextWider 69 = .ok (.isub, 1) := dk_100 (dk_at dksX5_nextWider_2 23 rfl rfl)
theorem dX5_nextWider_70 : decode cX5_nextWider 70 = .ok (.iastore, 1) := dk_79 (dk_at dksX5_nextWider_3 0 rfl rfl)
theorem dX5_nextWider_71 : decode cX5_nextWider 71 = .ok (.iinc 2 1, 3) := dk_132 2 1 (dk_at dksX5_nextWider_3 1 rfl rfl)
theorem dX5_nextWider_74 : decode cX5_nextWider 74 = .ok (.goto (-66), 3) := dk_167 255 190 (dk_at dksX5_nextWider_3 4 rfl rfl)
theorem dX5_nextWider_77 : decode cX5_nextWider 77 = .ok (.iload_n 1, 1) := dk_27 (dk_at dksX5_nextWider_3 7 rfl rfl)
theorem dX5_nextWider_78 : decode cX5_nextWider 78 = .ok (.ireturn, 1) := dk_172 (dk_at dksX5_nextWider_3 8 rfl rfl)
abbrev cX5_beginsWith : ByteArray := prog_17_method_98_code
def yX5_beginsWith : MethodName := ⟨RX5, "beginsWith", "()V"⟩
def dkwX5_beginsWith_0 : List UInt8 := [42, 182, 1, 36, 42, 182, 1, 126, 177]
abbrev dktX5_beginsWith_0 : List UInt8 := dkwX5_beginsWith_0 ++ []
theorem dksX5_beginsWith_0 : cX5_beginsWith.data.toList.drop 0 = dktX5_beginsWith_0 := by decide +kernel
theorem dX5_beginsWith_0 : decode cX5_beginsWith 0 = .ok (.aload_n 0, 1) := dk_42 (dk_at dksX5_beginsWith_0 0 rfl rfl)
theorem dX5_beginsWith_1 : decode cX5_beginsWith 1 = .ok (.invokevirtual 292, 3) := dk_182 1 36 (dk_at dksX5_beginsWith_0 1 rfl rfl)
theorem dX5_beginsWith_4 : decode cX5_beginsWith 4 = .ok (.aload_n 0, 1) := dk_42 (dk_at dksX5_beginsWith_0 4 rfl rfl)
theorem dX5_beginsWith_5 : decode cX5_beginsWith 5 = .ok (.invokevirtual 382, 3) := dk_182 1 126 (dk_at dksX5_beginsWith_0 5 rfl rfl)
theorem dX5_beginsWith_8 : decode cX5_beginsWith 8 = .ok (.return_, 1) := dk_177 (dk_at dksX5_beginsWith_0 8 rfl rfl)
abbrev cX5_widen : ByteArray := prog_17_method_110_code
def yX5_widen : MethodName := ⟨RX5, "widen", "(I)I"⟩
def dkwX5_widen_1 : List UInt8 := [180, 0, 66, 27, 46, 167, 0, 4, 2, 172]
abbrev dktX5_widen_1 : List UInt8 := dkwX5_widen_1 ++ []
def dkwX5_widen_0 : List UInt8 := [27, 155, 0, 10, 42, 182, 1, 156, 154, 0, 6, 16, 254, 172, 27, 42, 180, 1, 147, 162, 0, 12, 42]
abbrev dktX5_widen_0 : List UInt8 := dkwX5_widen_0 ++ dktX5_widen_1
theorem dksX5_widen_0 : cX5_widen.data.toList.drop 0 = dktX5_widen_0 := by decide +kernel
theorem dksX5_widen_1 : cX5_widen.data.toList.drop 23 = dktX5_widen_1 := dk_seg dksX5_widen_0 23 rfl rfl
theorem dX5_widen_0 : decode cX5_widen 0 = .ok (.iload_n 1, 1) := dk_27 (dk_at dksX5_widen_0 0 rfl rfl)
theorem dX5_widen_1 : decode cX5_widen 1 = .ok (.ifCond .lt 10, 3) := dk_155 0 10 (dk_at dksX5_widen_0 1 rfl rfl)
theorem dX5_widen_4 : decode cX5_widen 4 = .ok (.aload_n 0, 1) := dk_42 (dk_at dksX5_widen_0 4 rfl rfl)
theorem dX5_widen_5 : decode cX5_widen 5 = .ok (.invokevirtual 412, 3) := dk_182 1 156 (dk_at dksX5_widen_0 5 rfl rfl)
theorem dX5_widen_8 : decode cX5_widen 8 = .ok (.ifCond .ne 6, 3) := dk_154 0 6 (dk_at dksX5_widen_0 8 rfl rfl)
theorem dX5_widen_11 : decode cX5_widen 11 = .ok (.bipush (-2), 2) := dk_16 254 (dk_at dksX5_widen_0 11 rfl rfl)
theorem dX5_widen_13 : decode cX5_widen 13 = .ok (.ireturn, 1) := dk_172 (dk_at dksX5_widen_0 13 rfl rfl)
theorem dX5_widen_14 : decode cX5_widen 14 = .ok (.iload_n 1, 1) := dk_27 (dk_at dksX5_widen_0 14 rfl rfl)
theorem dX5_widen_15 : decode cX5_widen 15 = .ok (.aload_n 0, 1) := dk_42 (dk_at dksX5_widen_0 15 rfl rfl)
theorem dX5_widen_16 : decode cX5_widen 16 = .ok (.getfield 403, 3) := dk_180 1 147 (dk_at dksX5_widen_0 16 rfl rfl)
theorem dX5_widen_19 : decode cX5_widen 19 = .ok (.if_icmp .ge 12, 3) := dk_162 0 12 (dk_at dksX5_widen_0 19 rfl rfl)
theorem dX5_widen_22 : decode cX5_widen 22 = .ok (.aload_n 0, 1) := dk_42 (dk_at dksX5_widen_0 22 rfl rfl)
theorem dX5_widen_23 : decode cX5_widen 23 = .ok (.getfield 66, 3) := dk_180 0 66 (dk_at dksX5_widen_1 0 rfl rfl)
theorem dX5_widen_26 : decode cX5_widen 26 = .ok (.iload_n 1, 1) := dk_27 (dk_at dksX5_widen_1 3 rfl rfl)
theorem dX5_widen_27 : decode cX5_widen 27 = .ok (.iaload, 1) := dk_46 (dk_at dksX5_widen_1 4 rfl rfl)
theorem dX5_widen_28 : decode cX5_widen 28 = .ok (.goto 4, 3) := dk_167 0 4 (dk_at dksX5_widen_1 5 rfl rfl)
theorem dX5_widen_31 : decode cX5_widen 31 = .ok (.iconst (-1), 1) := dk_2 (dk_at dksX5_widen_1 8 rfl rfl)
theorem dX5_widen_32 : decode cX5_widen 32 = .ok (.ireturn, 1) := dk_172 (dk_at dksX5_widen_1 9 rfl rfl)
abbrev cX5_wide : ByteArray := prog_17_method_111_code
def yX5_wide : MethodName := ⟨RX5, "wide", "()I"⟩
def dkwX5_wide_1 : List UInt8 := [153, 0, 7, 4, 167, 0, 4, 3, 60, 42, 182, 1, 110, 27, 172]
abbrev dktX5_wide_1 : List UInt8 := dkwX5_wide_1 ++ []
def dkwX5_wide_0 : List UInt8 := [42, 182, 0, 109, 154, 0, 6, 16, 254, 172, 42, 182, 1, 104, 42, 182, 1, 153, 42, 182, 1, 78]
abbrev dktX5_wide_0 : List UInt8 := dkwX5_wide_0 ++ dktX5_wide_1
theorem dksX5_wide_0 : cX5_wide.data.toList.drop 0 = dktX5_wide_0 := by decide +kernel
theorem dksX5_wide_1 : cX5_wide.data.toList.drop 22 = dktX5_wide_1 := dk_seg dksX5_wide_0 22 rfl rfl
theorem dX5_wide_0 : decode cX5_wide 0 = .ok (.aload_n 0, 1) := dk_42 (dk_at dksX5_wide_0 0 rfl rfl)
theorem dX5_wide_1 : decode cX5_wide 1 = .ok (.invokevirtual 109, 3) := dk_182 0 109 (dk_at dksX5_wide_0 1 rfl rfl)
theorem dX5_wide_4 : decode cX5_wide 4 = .ok (.ifCond .ne 6, 3) := dk_154 0 6 (dk_at dksX5_wide_0 4 rfl rfl)
theorem dX5_wide_7 : decode cX5_wide 7 = .ok (.bipush (-2), 2) := dk_16 254 (dk_at dksX5_wide_0 7 rfl rfl)
theorem dX5_wide_9 : decode cX5_wide 9 = .ok (.ireturn, 1) := dk_172 (dk_at dksX5_wide_0 9 rfl rfl)
theorem dX5_wide_10 : decode cX5_wide 10 = .ok (.aload_n 0, 1) := dk_42 (dk_at dksX5_wide_0 10 rfl rfl)
theorem dX5_wide_11 : decode cX5_wide 11 = .ok (.invokevirtual 360, 3) := dk_182 1 104 (dk_at dksX5_wide_0 11 rfl rfl)
theorem dX5_wide_14 : decode cX5_wide 14 = .ok (.aload_n 0, 1) := dk_42 (dk_at dksX5_wide_0 14 rfl rfl)
theorem dX5_wide_15 : decode cX5_wide 15 = .ok (.invokevirtual 409, 3) := dk_182 1 153 (dk_at dksX5_wide_0 15 rfl rfl)
theorem dX5_wide_18 : decode cX5_wide 18 = .ok (.aload_n 0, 1) := dk_42 (dk_at dksX5_wide_0 18 rfl rfl)
theorem dX5_wide_19 : decode cX5_wide 19 = .ok (.invokevirtual 334, 3) := dk_182 1 78 (dk_at dksX5_wide_0 19 rfl rfl)
theorem dX5_wide_22 : decode cX5_wide 22 = .ok (.ifCond .eq 7, 3) := dk_153 0 7 (dk_at dksX5_wide_1 0 rfl rfl)
theorem dX5_wide_25 : decode cX5_wide 25 = .ok (.iconst 1, 1) := dk_4 (dk_at dksX5_wide_1 3 rfl rfl)
theorem dX5_wide_26 : decode cX5_wide 26 = .ok (.goto 4, 3) := dk_167 0 4 (dk_at dksX5_wide_1 4 rfl rfl)
theorem dX5_wide_29 : decode cX5_wide 29 = .ok (.iconst 0, 1) := dk_3 (dk_at dksX5_wide_1 7 rfl rfl)
theorem dX5_wide_30 : decode cX5_wide 30 = .ok (.istore_n 1, 1) := dk_60 (dk_at dksX5_wide_1 8 rfl rfl)
theorem dX5_wide_31 : decode cX5_wide 31 = .ok (.aload_n 0, 1) := dk_42 (dk_at dksX5_wide_1 9 rfl rfl)
theorem dX5_wide_32 : decode cX5_wide 32 = .ok (.invokevirtual 366, 3) := dk_182 1 110 (dk_at dksX5_wide_1 10 rfl rfl)
theorem dX5_wide_35 : decode cX5_wide 35 = .ok (.iload_n 1, 1) := dk_27 (dk_at dksX5_wide_1 13 rfl rfl)
theorem dX5_wide_36 : decode cX5_wide 36 = .ok (.ireturn, 1) := dk_172 (dk_at dksX5_wide_1 14 rfl rfl)
abbrev cX5_fewest : ByteArray := prog_17_method_114_code
def yX5_fewest : MethodName := ⟨RX5, "fewest", "()I"⟩
def dkwX5_fewest_0 : List UInt8 := [42, 182, 0, 109, 153, 0, 10, 42, 182, 1, 162, 167, 0, 5, 16, 254, 172]
abbrev dktX5_fewest_0 : List UInt8 := dkwX5_fewest_0 ++ []
theorem dksX5_fewest_0 : cX5_fewest.data.toList.drop 0 = dktX5_fewest_0 := by decide +kernel
theorem dX5_fewest_0 : decode cX5_fewest 0 = .ok (.aload_n 0, 1) := dk_42 (dk_at dksX5_fewest_0 0 rfl rfl)
theorem dX5_fewest_1 : decode cX5_fewest 1 = .ok (.invokevirtual 109, 3) := dk_182 0 109 (dk_at dksX5_fewest_0 1 rfl rfl)
theorem dX5_fewest_4 : decode cX5_fewest 4 = .ok (.ifCond .eq 10, 3) := dk_153 0 10 (dk_at dksX5_fewest_0 4 rfl rfl)
theorem dX5_fewest_7 : decode cX5_fewest 7 = .ok (.aload_n 0, 1) := dk_42 (dk_at dksX5_fewest_0 7 rfl rfl)
theorem dX5_fewest_8 : decode cX5_fewest 8 = .ok (.invokevirtual 418, 3) := dk_182 1 162 (dk_at dksX5_fewest_0 8 rfl rfl)
theorem dX5_fewest_11 : decode cX5_fewest 11 = .ok (.goto 5, 3) := dk_167 0 5 (dk_at dksX5_fewest_0 11 rfl rfl)
theorem dX5_fewest_14 : decode cX5_fewest 14 = .ok (.bipush (-2), 2) := dk_16 254 (dk_at dksX5_fewest_0 14 rfl rfl)
theorem dX5_fewest_16 : decode cX5_fewest 16 = .ok (.ireturn, 1) := dk_172 (dk_at dksX5_fewest_0 16 rfl rfl)
abbrev cX5_fewestOf : ByteArray := prog_17_method_113_code
def yX5_fewestOf : MethodName := ⟨RX5, "fewestOf", "()I"⟩
def dkwX5_fewestOf_1 : List UInt8 := [167, 255, 236, 2, 172]
abbrev dktX5_fewestOf_1 : List UInt8 := dkwX5_fewestOf_1 ++ []
def dkwX5_fewestOf_0 : List UInt8 := [3, 60, 27, 6, 163, 0, 21, 42, 3, 27, 3, 182, 1, 159, 153, 0, 5, 27, 172, 132, 1, 1]
abbrev dktX5_fewestOf_0 : List UInt8 := dkwX5_fewestOf_0 ++ dktX5_fewestOf_1
theorem dksX5_fewestOf_0 : cX5_fewestOf.data.toList.drop 0 = dktX5_fewestOf_0 := by decide +kernel
theorem dksX5_fewestOf_1 : cX5_fewestOf.data.toList.drop 22 = dktX5_fewestOf_1 := dk_seg dksX5_fewestOf_0 22 rfl rfl
theorem dX5_fewestOf_0 : decode cX5_fewestOf 0 = .ok (.iconst 0, 1) := dk_3 (dk_at dksX5_fewestOf_0 0 rfl rfl)
theorem dX5_fewestOf_1 : decode cX5_fewestOf 1 = .ok (.istore_n 1, 1) := dk_60 (dk_at dksX5_fewestOf_0 1 rfl rfl)
theorem dX5_fewestOf_2 : decode cX5_fewestOf 2 = .ok (.iload_n 1, 1) := dk_27 (dk_at dksX5_fewestOf_0 2 rfl rfl)
theorem dX5_fewestOf_3 : decode cX5_fewestOf 3 = .ok (.iconst 3, 1) := dk_6 (dk_at dksX5_fewestOf_0 3 rfl rfl)
theorem dX5_fewestOf_4 : decode cX5_fewestOf 4 = .ok (.if_icmp .gt 21, 3) := dk_163 0 21 (dk_at dksX5_fewestOf_0 4 rfl rfl)
theorem dX5_fewestOf_7 : decode cX5_fewestOf 7 = .ok (.aload_n 0, 1) := dk_42 (dk_at dksX5_fewestOf_0 7 rfl rfl)
theorem dX5_fewestOf_8 : decode cX5_fewestOf 8 = .ok (.iconst 0, 1) := dk_3 (dk_at dksX5_fewestOf_0 8 rfl rfl)
theorem dX5_fewestOf_9 : decode cX5_fewestOf 9 = .ok (.iload_n 1, 1) := dk_27 (dk_at dksX5_fewestOf_0 9 rfl rfl)
theorem dX5_fewestOf_10 : decode cX5_fewestOf 10 = .ok (.iconst 0, 1) := dk_3 (dk_at dksX5_fewestOf_0 10 rfl rfl)
theorem dX5_fewestOf_11 : decode cX5_fewestOf 11 = .ok (.invokevirtual 415, 3) := dk_182 1 159 (dk_at dksX5_fewestOf_0 11 rfl rfl)
theorem dX5_fewestOf_14 : decode cX5_fewestOf 14 = .ok (.ifCond .eq 5, 3) := dk_153 0 5 (dk_at dksX5_fewestOf_0 14 rfl rfl)
theorem dX5_fewestOf_17 : decode cX5_fewestOf 17 = .ok (.iload_n 1, 1) := dk_27 (dk_at dksX5_fewestOf_0 17 rfl rfl)
theorem dX5_fewestOf_18 : decode cX5_fewestOf 18 = .ok (.ireturn, 1) := dk_172 (dk_at dksX5_fewestOf_0 18 rfl rfl)
theorem dX5_fewestOf_19 : decode cX5_fewestOf 19 = .ok (.iinc 1 1, 3) := dk_132 1 1 (dk_at dksX5_fewestOf_0 19 rfl rfl)
theorem dX5_fewestOf_22 : decode cX5_fewestOf 22 = .ok (.goto (-20), 3) := dk_167 255 236 (dk_at dksX5_fewestOf_1 0 rfl rfl)
theorem dX5_fewestOf_25 : decode cX5_fewestOf 25 = .ok (.iconst (-1), 1) := dk_2 (dk_at dksX5_fewestOf_1 3 rfl rfl)
theorem dX5_fewestOf_26 : decode cX5_fewestOf 26 = .ok (.ireturn, 1) := dk_172 (dk_at dksX5_fewestOf_1 4 rfl rfl)
abbrev cX5_does : ByteArray := prog_17_method_112_code
def yX5_does : MethodName := ⟨RX5, "does", "(III)Z"⟩
def dkwX5_does_4 : List UInt8 := [132, 4, 1, 167, 255, 172, 3, 172]
abbrev dktX5_does_4 : List UInt8 := dkwX5_does_4 ++ []
def dkwX5_does_3 : List UInt8 := [54, 5, 42, 180, 0, 9, 16, 28, 21, 4, 96, 92, 46, 4, 100, 79, 21, 5, 153, 0, 5, 4, 172]
abbrev dktX5_does_3 : List UInt8 := dkwX5_does_3 ++ dktX5_does_4
def dkwX5_does_2 : List UInt8 := [96, 92, 46, 4, 96, 79, 42, 180, 0, 69, 27, 21, 4, 79, 42, 27, 4, 96, 28, 21, 4, 182, 1, 159]
abbrev dktX5_does_2 : List UInt8 := dkwX5_does_2 ++ dktX5_does_3
def dkwX5_does_1 : List UInt8 := [180, 0, 9, 16, 28, 21, 4, 96, 46, 7, 160, 0, 6, 167, 0, 58, 42, 180, 0, 9, 16, 28, 21, 4]
abbrev dktX5_does_1 : List UInt8 := dkwX5_does_1 ++ dktX5_does_2
def dkwX5_does_0 : List UInt8 := [27, 28, 160, 0, 8, 42, 182, 1, 78, 172, 29, 54, 4, 21, 4, 42, 182, 0, 116, 162, 0, 81, 42]
abbrev dktX5_does_0 : List UInt8 := dkwX5_does_0 ++ dktX5_does_1
theorem dksX5_does_0 : cX5_does.data.toList.drop 0 = dktX5_does_0 := by decide +kernel
theorem dksX5_does_1 : cX5_does.data.toList.drop 23 = dktX5_does_1 := dk_seg dksX5_does_0 23 rfl rfl
theorem dksX5_does_2 : cX5_does.data.toList.drop 47 = dktX5_does_2 := dk_seg dksX5_does_1 24 rfl rfl
theorem dksX5_does_3 : cX5_does.data.toList.drop 71 = dktX5_does_3 := dk_seg dksX5_does_2 24 rfl rfl
theorem dksX5_does_4 : cX5_does.data.toList.drop 94 = dktX5_does_4 := dk_seg dksX5_does_3 23 rfl rfl
theorem dX5_does_0 : decode cX5_does 0 = .ok (.iload_n 1, 1) := dk_27 (dk_at dksX5_does_0 0 rfl rfl)
theorem dX5_does_1 : decode cX5_does 1 = .ok (.iload_n 2, 1) := dk_28 (dk_at dksX5_does_0 1 rfl rfl)
theorem dX5_does_2 : decode cX5_does 2 = .ok (.if_icmp .ne 8, 3) := dk_160 0 8 (dk_at dksX5_does_0 2 rfl rfl)
theorem dX5_does_5 : decode cX5_does 5 = .ok (.aload_n 0, 1) := dk_42 (dk_at dksX5_does_0 5 rfl rfl)
theorem dX5_does_6 : decode cX5_does 6 = .ok (.invokevirtual 334, 3) := dk_182 1 78 (dk_at dksX5_does_0 6 rfl rfl)
theorem dX5_does_9 : decode cX5_does 9 = .ok (.ireturn, 1) := dk_172 (dk_at dksX5_does_0 9 rfl rfl)
theorem dX5_does_10 : decode cX5_does 10 = .ok (.iload_n 3, 1) := dk_29 (dk_at dksX5_does_0 10 rfl rfl)
theorem dX5_does_11 : decode cX5_does 11 = .ok (.istore 4, 2) := dk_54 4 (dk_at dksX5_does_0 11 rfl rfl)
theorem dX5_does_13 : decode cX5_does 13 = .ok (.iload 4, 2) := dk_21 4 (dk_at dksX5_does_0 13 rfl rfl)
theorem dX5_does_15 : decode cX5_does 15 = .ok (.aload_n 0, 1) := dk_42 (dk_at dksX5_does_0 15 rfl rfl)
theorem dX5_does_16 : decode cX5_does 16 = .ok (.invokevirtual 116, 3) := dk_182 0 116 (dk_at dksX5_does_0 16 rfl rfl)
theorem dX5_does_19 : decode cX5_does 19 = .ok (.if_icmp .ge 81, 3) := dk_162 0 81 (dk_at dksX5_does_0 19 rfl rfl)
theorem dX5_does_22 : decode cX5_does 22 = .ok (.aload_n 0, 1) := dk_42 (dk_at dksX5_does_0 22 rfl rfl)
theorem dX5_does_23 : decode cX5_does 23 = .ok (.getfield 9, 3) := dk_180 0 9 (dk_at dksX5_does_1 0 rfl rfl)
theorem dX5_does_26 : decode cX5_does 26 = .ok (.bipush 28, 2) := dk_16 28 (dk_at dksX5_does_1 3 rfl rfl)
theorem dX5_does_28 : decode cX5_does 28 = .ok (.iload 4, 2) := dk_21 4 (dk_at dksX5_does_1 5 rfl rfl)
theorem dX5_does_30 : decode cX5_does 30 = .ok (.iadd, 1) := dk_96 (dk_at dksX5_does_1 7 rfl rfl)
theorem dX5_does_31 : decode cX5_does 31 = .ok (.iaload, 1) := dk_46 (dk_at dksX5_does_1 8 rfl rfl)
theorem dX5_does_32 : decode cX5_does 32 = .ok (.iconst 4, 1) := dk_7 (dk_at dksX5_does_1 9 rfl rfl)
theorem dX5_does_33 : decode cX5_does 33 = .ok (.if_icmp .ne 6, 3) := dk_160 0 6 (dk_at dksX5_does_1 10 rfl rfl)
theorem dX5_does_36 : decode cX5_does 36 = .ok (.goto 58, 3) := dk_167 0 58 (dk_at dksX5_does_1 13 rfl rfl)
theorem dX5_does_39 : decode cX5_does 39 = .ok (.aload_n 0, 1) := dk_42 (dk_at dksX5_does_1 16 rfl rfl)
theorem dX5_does_40 : decode cX5_does 40 = .ok (.getfield 9, 3) := dk_180 0 9 (dk_at dksX5_does_1 17 rfl rfl)
theorem dX5_does_43 : decode cX5_does 43 = .ok (.bipush 28, 2) := dk_16 28 (dk_at dksX5_does_1 20 rfl rfl)
theorem dX5_does_45 : decode cX5_does 45 = .ok (.iload 4, 2) := dk_21 4 (dk_at dksX5_does_1 22 rfl rfl)
theorem dX5_does_47 : decode cX5_does 47 = .ok (.iadd, 1) := dk_96 (dk_at dksX5_does_2 0 rfl rfl)
theorem dX5_does_48 : decode cX5_does 48 = .ok (.dup2, 1) := dk_92 (dk_at dksX5_does_2 1 rfl rfl)
theorem dX5_does_49 : decode cX5_does 49 = .ok (.iaload, 1) := dk_46 (dk_at dksX5_does_2 2 rfl rfl)
theorem dX5_does_50 : decode cX5_does 50 = .ok (.iconst 1, 1) := dk_4 (dk_at dksX5_does_2 3 rfl rfl)
theorem dX5_does_51 : decode cX5_does 51 = .ok (.iadd, 1) := dk_96 (dk_at dksX5_does_2 4 rfl rfl)
theorem dX5_does_52 : decode cX5_does 52 = .ok (.iastore, 1) := dk_79 (dk_at dksX5_does_2 5 rfl rfl)
theorem dX5_does_53 : decode cX5_does 53 = .ok (.aload_n 0, 1) := dk_42 (dk_at dksX5_does_2 6 rfl rfl)
theorem dX5_does_54 : decode cX5_does 54 = .ok (.getfield 69, 3) := dk_180 0 69 (dk_at dksX5_does_2 7 rfl rfl)
theorem dX5_does_57 : decode cX5_does 57 = .ok (.iload_n 1, 1) := dk_27 (dk_at dksX5_does_2 10 rfl rfl)
theorem dX5_does_58 : decode cX5_does 58 = .ok (.iload 4, 2) := dk_21 4 (dk_at dksX5_does_2 11 rfl rfl)
theorem dX5_does_60 : decode cX5_does 60 = .ok (.iastore, 1) := dk_79 (dk_at dksX5_does_2 13 rfl rfl)
theorem dX5_does_61 : decode cX5_does 61 = .ok (.aload_n 0, 1) := dk_42 (dk_at dksX5_does_2 14 rfl rfl)
theorem dX5_does_62 : decode cX5_does 62 = .ok (.iload_n 1, 1) := dk_27 (dk_at dksX5_does_2 15 rfl rfl)
theorem dX5_does_63 : decode cX5_does 63 = .ok (.iconst 1, 1) := dk_4 (dk_at dksX5_does_2 16 rfl rfl)
theorem dX5_does_64 : decode cX5_does 64 = .ok (.iadd, 1) := dk_96 (dk_at dksX5_does_2 17 rfl rfl)
theorem dX5_does_65 : decode cX5_does 65 = .ok (.iload_n 2, 1) := dk_28 (dk_at dksX5_does_2 18 rfl rfl)
theorem dX5_does_66 : decode cX5_does 66 = .ok (.iload 4, 2) := dk_21 4 (dk_at dksX5_does_2 19 rfl rfl)
theorem dX5_does_68 : decode cX5_does 68 = .ok (.invokevirtual 415, 3) := dk_182 1 159 (dk_at dksX5_does_2 21 rfl rfl)
theorem dX5_does_71 : decode cX5_does 71 = .ok (.istore 5, 2) := dk_54 5 (dk_at dksX5_does_3 0 rfl rfl)
theorem dX5_does_73 : decode cX5_does 73 = .ok (.aload_n 0, 1) := dk_42 (dk_at dksX5_does_3 2 rfl rfl)
theorem dX5_does_74 : decode cX5_does 74 = .ok (.getfield 9, 3) := dk_180 0 9 (dk_at dksX5_does_3 3 rfl rfl)
theorem dX5_does_77 : decode cX5_does 77 = .ok (.bipush 28, 2) := dk_16 28 (dk_at dksX5_does_3 6 rfl rfl)
theorem dX5_does_79 : decode cX5_does 79 = .ok (.iload 4, 2) := dk_21 4 (dk_at dksX5_does_3 8 rfl rfl)
theorem dX5_does_81 : decode cX5_does 81 = .ok (.iadd, 1) := dk_96 (dk_at dksX5_does_3 10 rfl rfl)
theorem dX5_does_82 : decode cX5_does 82 = .ok (.dup2, 1) := dk_92 (dk_at dksX5_does_3 11 rfl rfl)
theorem dX5_does_83 : decode cX5_does 83 = .ok (.iaload, 1) := dk_46 (dk_at dksX5_does_3 12 rfl rfl)
theorem dX5_does_84 : decode cX5_does 84 = .ok (.iconst 1, 1) := dk_4 (dk_at dksX5_does_3 13 rfl rfl)
theorem dX5_does_85 : decode cX5_does 85 = .ok (.isub, 1) := dk_100 (dk_at dksX5_does_3 14 rfl rfl)
theorem dX5_does_86 : decode cX5_does 86 = .ok (.iastore, 1) := dk_79 (dk_at dksX5_does_3 15 rfl rfl)
theorem dX5_does_87 : decode cX5_does 87 = .ok (.iload 5, 2) := dk_21 5 (dk_at dksX5_does_3 16 rfl rfl)
theorem dX5_does_89 : decode cX5_does 89 = .ok (.ifCond .eq 5, 3) := dk_153 0 5 (dk_at dksX5_does_3 18 rfl rfl)
theorem dX5_does_92 : decode cX5_does 92 = .ok (.iconst 1, 1) := dk_4 (dk_at dksX5_does_3 21 rfl rfl)
theorem dX5_does_93 : decode cX5_does 93 = .ok (.ireturn, 1) := dk_172 (dk_at dksX5_does_3 22 rfl rfl)
theorem dX5_does_94 : decode cX5_does 94 = .ok (.iinc 4 1, 3) := dk_132 4 1 (dk_at dksX5_does_4 0 rfl rfl)
theorem dX5_does_97 : decode cX5_does 97 = .ok (.goto (-84), 3) := dk_167 255 172 (dk_at dksX5_does_4 3 rfl rfl)
theorem dX5_does_100 : decode cX5_does 100 = .ok (.iconst 0, 1) := dk_3 (dk_at dksX5_does_4 6 rfl rfl)
theorem dX5_does_101 : decode cX5_does 101 = .ok (.ireturn, 1) := dk_172 (dk_at dksX5_does_4 7 rfl rfl)
abbrev cX5_few : ByteArray := prog_17_method_115_code
def yX5_few : MethodName := ⟨RX5, "few", "(I)I"⟩
def dkwX5_few_1 : List UInt8 := [42, 180, 0, 69, 27, 46, 167, 0, 4, 2, 172]
abbrev dktX5_few_1 : List UInt8 := dkwX5_few_1 ++ []
def dkwX5_few_0 : List UInt8 := [42, 182, 0, 109, 153, 0, 7, 27, 156, 0, 6, 16, 254, 172, 42, 182, 1, 162, 61, 27, 28, 162, 0, 12]
abbrev dktX5_few_0 : List UInt8 := dkwX5_few_0 ++ dktX5_few_1
theorem dksX5_few_0 : cX5_few.data.toList.drop 0 = dktX5_few_0 := by decide +kernel
theorem dksX5_few_1 : cX5_few.data.toList.drop 24 = dktX5_few_1 := dk_seg dksX5_few_0 24 rfl rfl
theorem dX5_few_0 : decode cX5_few 0 = .ok (.aload_n 0, 1) := dk_42 (dk_at dksX5_few_0 0 rfl rfl)
theorem dX5_few_1 : decode cX5_few 1 = .ok (.invokevirtual 109, 3) := dk_182 0 109 (dk_at dksX5_few_0 1 rfl rfl)
theorem dX5_few_4 : decode cX5_few 4 = .ok (.ifCond .eq 7, 3) := dk_153 0 7 (dk_at dksX5_few_0 4 rfl rfl)
theorem dX5_few_7 : decode cX5_few 7 = .ok (.iload_n 1, 1) := dk_27 (dk_at dksX5_few_0 7 rfl rfl)
theorem dX5_few_8 : decode cX5_few 8 = .ok (.ifCond .ge 6, 3) := dk_156 0 6 (dk_at dksX5_few_0 8 rfl rfl)
theorem dX5_few_11 : decode cX5_few 11 = .ok (.bipush (-2), 2) := dk_16 254 (dk_at dksX5_few_0 11 rfl rfl)
theorem dX5_few_13 : decode cX5_few 13 = .ok (.ireturn, 1) := dk_172 (dk_at dksX5_few_0 13 rfl rfl)
theorem dX5_few_14 : decode cX5_few 14 = .ok (.aload_n 0, 1) := dk_42 (dk_at dksX5_few_0 14 rfl rfl)
theorem dX5_few_15 : decode cX5_few 15 = .ok (.invokevirtual 418, 3) := dk_182 1 162 (dk_at dksX5_few_0 15 rfl rfl)
theorem dX5_few_18 : decode cX5_few 18 = .ok (.istore_n 2, 1) := dk_61 (dk_at dksX5_few_0 18 rfl rfl)
theorem dX5_few_19 : decode cX5_few 19 = .ok (.iload_n 1, 1) := dk_27 (dk_at dksX5_few_0 19 rfl rfl)
theorem dX5_few_20 : decode cX5_few 20 = .ok (.iload_n 2, 1) := dk_28 (dk_at dksX5_few_0 20 rfl rfl)
theorem dX5_few_21 : decode cX5_few 21 = .ok (.if_icmp .ge 12, 3) := dk_162 0 12 (dk_at dksX5_few_0 21 rfl rfl)
theorem dX5_few_24 : decode cX5_few 24 = .ok (.aload_n 0, 1) := dk_42 (dk_at dksX5_few_1 0 rfl rfl)
theorem dX5_few_25 : decode cX5_few 25 = .ok (.getfield 69, 3) := dk_180 0 69 (dk_at dksX5_few_1 1 rfl rfl)
theorem dX5_few_28 : decode cX5_few 28 = .ok (.iload_n 1, 1) := dk_27 (dk_at dksX5_few_1 4 rfl rfl)
theorem dX5_few_29 : decode cX5_few 29 = .ok (.iaload, 1) := dk_46 (dk_at dksX5_few_1 5 rfl rfl)
theorem dX5_few_30 : decode cX5_few 30 = .ok (.goto 4, 3) := dk_167 0 4 (dk_at dksX5_few_1 6 rfl rfl)
theorem dX5_few_33 : decode cX5_few 33 = .ok (.iconst (-1), 1) := dk_2 (dk_at dksX5_few_1 9 rfl rfl)
theorem dX5_few_34 : decode cX5_few 34 = .ok (.ireturn, 1) := dk_172 (dk_at dksX5_few_1 10 rfl rfl)
abbrev cX5_slims : ByteArray := prog_17_method_118_code
def yX5_slims : MethodName := ⟨RX5, "slims", "()I"⟩
def dkwX5_slims_1 : List UInt8 := [182, 1, 168, 60, 42, 182, 1, 110, 27, 172]
abbrev dktX5_slims_1 : List UInt8 := dkwX5_slims_1 ++ []
def dkwX5_slims_0 : List UInt8 := [42, 182, 0, 109, 154, 0, 6, 16, 254, 172, 42, 182, 1, 78, 154, 0, 5, 2, 172, 42, 182, 1, 104, 42]
abbrev dktX5_slims_0 : List UInt8 := dkwX5_slims_0 ++ dktX5_slims_1
theorem dksX5_slims_0 : cX5_slims.data.toList.drop 0 = dktX5_slims_0 := by decide +kernel
theorem dksX5_slims_1 : cX5_slims.data.toList.drop 24 = dktX5_slims_1 := dk_seg dksX5_slims_0 24 rfl rfl
theorem dX5_slims_0 : decode cX5_slims 0 = .ok (.aload_n 0, 1) := dk_42 (dk_at dksX5_slims_0 0 rfl rfl)
theorem dX5_slims_1 : decode cX5_slims 1 = .ok (.invokevirtual 109, 3) := dk_182 0 109 (dk_at dksX5_slims_0 1 rfl rfl)
theorem dX5_slims_4 : decode cX5_slims 4 = .ok (.ifCond .ne 6, 3) := dk_154 0 6 (dk_at dksX5_slims_0 4 rfl rfl)
theorem dX5_slims_7 : decode cX5_slims 7 = .ok (.bipush (-2), 2) := dk_16 254 (dk_at dksX5_slims_0 7 rfl rfl)
theorem dX5_slims_9 : decode cX5_slims 9 = .ok (.ireturn, 1) := dk_172 (dk_at dksX5_slims_0 9 rfl rfl)
theorem dX5_slims_10 : decode cX5_slims 10 = .ok (.aload_n 0, 1) := dk_42 (dk_at dksX5_slims_0 10 rfl rfl)
theorem dX5_slims_11 : decode cX5_slims 11 = .ok (.invokevirtual 334, 3) := dk_182 1 78 (dk_at dksX5_slims_0 11 rfl rfl)
theorem dX5_slims_14 : decode cX5_slims 14 = .ok (.ifCond .ne 5, 3) := dk_154 0 5 (dk_at dksX5_slims_0 14 rfl rfl)
theorem dX5_slims_17 : decode cX5_slims 17 = .ok (.iconst (-1), 1) := dk_2 (dk_at dksX5_slims_0 17 rfl rfl)
theorem dX5_slims_18 : decode cX5_slims 18 = .ok (.ireturn, 1) := dk_172 (dk_at dksX5_slims_0 18 rfl rfl)
theorem dX5_slims_19 : decode cX5_slims 19 = .ok (.aload_n 0, 1) := dk_42 (dk_at dksX5_slims_0 19 rfl rfl)
theorem dX5_slims_20 : decode cX5_slims 20 = .ok (.invokevirtual 360, 3) := dk_182 1 104 (dk_at dksX5_slims_0 20 rfl rfl)
theorem dX5_slims_23 : decode cX5_slims 23 = .ok (.aload_n 0, 1) := dk_42 (dk_at dksX5_slims_0 23 rfl rfl)
theorem dX5_slims_24 : decode cX5_slims 24 = .ok (.invokevirtual 424, 3) := dk_182 1 168 (dk_at dksX5_slims_1 0 rfl rfl)
theorem dX5_slims_27 : decode cX5_slims 27 = .ok (.istore_n 1, 1) := dk_60 (dk_at dksX5_slims_1 3 rfl rfl)
theorem dX5_slims_28 : decode cX5_slims 28 = .ok (.aload_n 0, 1) := dk_42 (dk_at dksX5_slims_1 4 rfl rfl)
theorem dX5_slims_29 : decode cX5_slims 29 = .ok (.invokevirtual 366, 3) := dk_182 1 110 (dk_at dksX5_slims_1 5 rfl rfl)
theorem dX5_slims_32 : decode cX5_slims 32 = .ok (.iload_n 1, 1) := dk_27 (dk_at dksX5_slims_1 8 rfl rfl)
theorem dX5_slims_33 : decode cX5_slims 33 = .ok (.ireturn, 1) := dk_172 (dk_at dksX5_slims_1 9 rfl rfl)
abbrev cX5_slimsAll : ByteArray := prog_17_method_117_code
def yX5_slimsAll : MethodName := ⟨RX5, "slimsAll", "()I"⟩
def dkwX5_slimsAll_1 : List UInt8 := [79, 132, 1, 1, 42, 182, 1, 165, 61, 167, 255, 230, 27, 172]
abbrev dktX5_slimsAll_1 : List UInt8 := dkwX5_slimsAll_1 ++ []
def dkwX5_slimsAll_0 : List UInt8 := [3, 60, 42, 182, 1, 165, 61, 28, 2, 159, 0, 27, 42, 180, 0, 9, 16, 28, 28, 96, 92, 46, 4, 100]
abbrev dktX5_slimsAll_0 : List UInt8 := dkwX5_slimsAll_0 ++ dktX5_slimsAll_1
theorem dksX5_slimsAll_0 : cX5_slimsAll.data.toList.drop 0 = dktX5_slimsAll_0 := by decide +kernel
theorem dksX5_slimsAll_1 : cX5_slimsAll.data.toList.drop 24 = dktX5_slimsAll_1 := dk_seg dksX5_slimsAll_0 24 rfl rfl
theorem dX5_slimsAll_0 : decode cX5_slimsAll 0 = .ok (.iconst 0, 1) := dk_3 (dk_at dksX5_slimsAll_0 0 rfl rfl)
theorem dX5_slimsAll_1 : decode cX5_slimsAll 1 = .ok (.istore_n 1, 1) := dk_60 (dk_at dksX5_slimsAll_0 1 rfl rfl)
theorem dX5_slimsAll_2 : decode cX5_slimsAll 2 = .ok (.aload_n 0, 1) := dk_42 (dk_at dksX5_slimsAll_0 2 rfl rfl)
theorem dX5_slimsAll_3 : decode cX5_slimsAll 3 = .ok (.invokevirtual 421, 3) := dk_182 1 165 (dk_at dksX5_slimsAll_0 3 rfl rfl)
theorem dX5_slimsAll_6 : decode cX5_slimsAll 6 = .ok (.istore_n 2, 1) := dk_61 (dk_at dksX5_slimsAll_0 6 rfl rfl)
theorem dX5_slimsAll_7 : decode cX5_slimsAll 7 = .ok (.iload_n 2, 1) := dk_28 (dk_at dksX5_slimsAll_0 7 rfl rfl)
theorem dX5_slimsAll_8 : decode cX5_slimsAll 8 = .ok (.iconst (-1), 1) := dk_2 (dk_at dksX5_slimsAll_0 8 rfl rfl)
theorem dX5_slimsAll_9 : decode cX5_slimsAll 9 = .ok (.if_icmp .eq 27, 3) := dk_159 0 27 (dk_at dksX5_slimsAll_0 9 rfl rfl)
theorem dX5_slimsAll_12 : decode cX5_slimsAll 12 = .ok (.aload_n 0, 1) := dk_42 (dk_at dksX5_slimsAll_0 12 rfl rfl)
theorem dX5_slimsAll_13 : decode cX5_slimsAll 13 = .ok (.getfield 9, 3) := dk_180 0 9 (dk_at dksX5_slimsAll_0 13 rfl rfl)
theorem dX5_slimsAll_16 : decode cX5_slimsAll 16 = .ok (.bipush 28, 2) := dk_16 28 (dk_at dksX5_slimsAll_0 16 rfl rfl)
theorem dX5_slimsAll_18 : decode cX5_slimsAll 18 = .ok (.iload_n 2, 1) := dk_28 (dk_at dksX5_slimsAll_0 18 rfl rfl)
theorem dX5_slimsAll_19 : decode cX5_slimsAll 19 = .ok (.iadd, 1) := dk_96 (dk_at dksX5_slimsAll_0 19 rfl rfl)
theorem dX5_slimsAll_20 : decode cX5_slimsAll 20 = .ok (.dup2, 1) := dk_92 (dk_at dksX5_slimsAll_0 20 rfl rfl)
theorem dX5_slimsAll_21 : decode cX5_slimsAll 21 = .ok (.iaload, 1) := dk_46 (dk_at dksX5_slimsAll_0 21 rfl rfl)
theorem dX5_slimsAll_22 : decode cX5_slimsAll 22 = .ok (.iconst 1, 1) := dk_4 (dk_at dksX5_slimsAll_0 22 rfl rfl)
theorem dX5_slimsAll_23 : decode cX5_slimsAll 23 = .ok (.isub, 1) := dk_100 (dk_at dksX5_slimsAll_0 23 rfl rfl)
theorem dX5_slimsAll_24 : decode cX5_slimsAll 24 = .ok (.iastore, 1) := dk_79 (dk_at dksX5_slimsAll_1 0 rfl rfl)
theorem dX5_slimsAll_25 : decode cX5_slimsAll 25 = .ok (.iinc 1 1, 3) := dk_132 1 1 (dk_at dksX5_slimsAll_1 1 rfl rfl)
theorem dX5_slimsAll_28 : decode cX5_slimsAll 28 = .ok (.aload_n 0, 1) := dk_42 (dk_at dksX5_slimsAll_1 4 rfl rfl)
theorem dX5_slimsAll_29 : decode cX5_slimsAll 29 = .ok (.invokevirtual 421, 3) := dk_182 1 165 (dk_at dksX5_slimsAll_1 5 rfl rfl)
theorem dX5_slimsAll_32 : decode cX5_slimsAll 32 = .ok (.istore_n 2, 1) := dk_61 (dk_at dksX5_slimsAll_1 8 rfl rfl)
theorem dX5_slimsAll_33 : decode cX5_slimsAll 33 = .ok (.goto (-26), 3) := dk_167 255 230 (dk_at dksX5_slimsAll_1 9 rfl rfl)
theorem dX5_slimsAll_36 : decode cX5_slimsAll 36 = .ok (.iload_n 1, 1) := dk_27 (dk_at dksX5_slimsAll_1 12 rfl rfl)
theorem dX5_slimsAll_37 : decode cX5_slimsAll 37 = .ok (.ireturn, 1) := dk_172 (dk_at dksX5_slimsAll_1 13 rfl rfl)
abbrev cX5_nextSlim : ByteArray := prog_17_method_116_code
def yX5_nextSlim : MethodName := ⟨RX5, "nextSlim", "()I"⟩
def dkwX5_nextSlim_3 : List UInt8 := [92, 46, 4, 96, 79, 132, 2, 1, 167, 255, 184, 27, 172]
abbrev dktX5_nextSlim_3 : List UInt8 := dkwX5_nextSlim_3 ++ []
def dkwX5_nextSlim_2 : List UInt8 := [153, 0, 16, 42, 182, 1, 132, 156, 0, 9, 28, 60, 42, 182, 1, 126, 42, 180, 0, 9, 16, 28, 28, 96]
abbrev dktX5_nextSlim_2 : List UInt8 := dkwX5_nextSlim_2 ++ dktX5_nextSlim_3
def dkwX5_nextSlim_1 : List UInt8 := [46, 154, 0, 6, 167, 0, 49, 42, 180, 0, 9, 16, 28, 28, 96, 92, 46, 4, 100, 79, 42, 182, 1, 78]
abbrev dktX5_nextSlim_1 : List UInt8 := dkwX5_nextSlim_1 ++ dktX5_nextSlim_2
def dkwX5_nextSlim_0 : List UInt8 := [42, 182, 1, 129, 2, 60, 3, 61, 28, 42, 180, 0, 102, 162, 0, 70, 42, 180, 0, 9, 16, 28, 28, 96]
abbrev dktX5_nextSlim_0 : List UInt8 := dkwX5_nextSlim_0 ++ dktX5_nextSlim_1
theorem dksX5_nextSlim_0 : cX5_nextSlim.data.toList.drop 0 = dktX5_nextSlim_0 := by decide +kernel
theorem dksX5_nextSlim_1 : cX5_nextSlim.data.toList.drop 24 = dktX5_nextSlim_1 := dk_seg dksX5_nextSlim_0 24 rfl rfl
theorem dksX5_nextSlim_2 : cX5_nextSlim.data.toList.drop 48 = dktX5_nextSlim_2 := dk_seg dksX5_nextSlim_1 24 rfl rfl
theorem dksX5_nextSlim_3 : cX5_nextSlim.data.toList.drop 72 = dktX5_nextSlim_3 := dk_seg dksX5_nextSlim_2 24 rfl rfl
theorem dX5_nextSlim_0 : decode cX5_nextSlim 0 = .ok (.aload_n 0, 1) := dk_42 (dk_at dksX5_nextSlim_0 0 rfl rfl)
theorem dX5_nextSlim_1 : decode cX5_nextSlim 1 = .ok (.invokevirtual 385, 3) := dk_182 1 129 (dk_at dksX5_nextSlim_0 1 rfl rfl)
theorem dX5_nextSlim_4 : decode cX5_nextSlim 4 = .ok (.iconst (-1), 1) := dk_2 (dk_at dksX5_nextSlim_0 4 rfl rfl)
theorem dX5_nextSlim_5 : decode cX5_nextSlim 5 = .ok (.istore_n 1, 1) := dk_60 (dk_at dksX5_nextSlim_0 5 rfl rfl)
theorem dX5_nextSlim_6 : decode cX5_nextSlim 6 = .ok (.iconst 0, 1) := dk_3 (dk_at dksX5_nextSlim_0 6 rfl rfl)
theorem dX5_nextSlim_7 : decode cX5_nextSlim 7 = .ok (.istore_n 2, 1) := dk_61 (dk_at dksX5_nextSlim_0 7 rfl rfl)
theorem dX5_nextSlim_8 : decode cX5_nextSlim 8 = .ok (.iload_n 2, 1) := dk_28 (dk_at dksX5_nextSlim_0 8 rfl rfl)
theorem dX5_nextSlim_9 : decode cX5_nextSlim 9 = .ok (.aload_n 0, 1) := dk_42 (dk_at dksX5_nextSlim_0 9 rfl rfl)
theorem dX5_nextSlim_10 : decode cX5_nextSlim 10 = .ok (.getfield 102, 3) := dk_180 0 102 (dk_at dksX5_nextSlim_0 10 rfl rfl)
theorem dX5_nextSlim_13 : decode cX5_nextSlim 13 = .ok (.if_icmp .ge 70, 3) := dk_162 0 70 (dk_at dksX5_nextSlim_0 13 rfl rfl)
theorem dX5_nextSlim_16 : decode cX5_nextSlim 16 = .ok (.aload_n 0, 1) := dk_42 (dk_at dksX5_nextSlim_0 16 rfl rfl)
theorem dX5_nextSlim_17 : decode cX5_nextSlim 17 = .ok (.getfield 9, 3) := dk_180 0 9 (dk_at dksX5_nextSlim_0 17 rfl rfl)
theorem dX5_nextSlim_20 : decode cX5_nextSlim 20 = .ok (.bipush 28, 2) := dk_16 28 (dk_at dksX5_nextSlim_0 20 rfl rfl)
theorem dX5_nextSlim_22 : decode cX5_nextSlim 22 = .ok (.iload_n 2, 1) := dk_28 (dk_at dksX5_nextSlim_0 22 rfl rfl)
theorem dX5_nextSlim_23 : decode cX5_nextSlim 23 = .ok (.iadd, 1) := dk_96 (dk_at dksX5_nextSlim_0 23 rfl rfl)
theorem dX5_nextSlim_24 : decode cX5_nextSlim 24 = .ok (.iaload, 1) := dk_46 (dk_at dksX5_nextSlim_1 0 rfl rfl)
theorem dX5_nextSlim_25 : decode cX5_nextSlim 25 = .ok (.ifCond .ne 6, 3) := dk_154 0 6 (dk_at dksX5_nextSlim_1 1 rfl rfl)
theorem dX5_nextSlim_28 : decode cX5_nextSlim 28 = .ok (.goto 49, 3) := dk_167 0 49 (dk_at dksX5_nextSlim_1 4 rfl rfl)
theorem dX5_nextSlim_31 : decode cX5_nextSlim 31 = .ok (.aload_n 0, 1) := dk_42 (dk_at dksX5_nextSlim_1 7 rfl rfl)
theorem dX5_nextSlim_32 : decode cX5_nextSlim 32 = .ok (.getfield 9, 3) := dk_180 0 9 (dk_at dksX5_nextSlim_1 8 rfl rfl)
theorem dX5_nextSlim_35 : decode cX5_nextSlim 35 = .ok (.bipush 28, 2) := dk_16 28 (dk_at dksX5_nextSlim_1 11 rfl rfl)
theorem dX5_nextSlim_37 : decode cX5_nextSlim 37 = .ok (.iload_n 2, 1) := dk_28 (dk_at dksX5_nextSlim_1 13 rfl rfl)
theorem dX5_nextSlim_38 : decode cX5_nextSlim 38 = .ok (.iadd, 1) := dk_96 (dk_at dksX5_nextSlim_1 14 rfl rfl)
theorem dX5_nextSlim_39 : decode cX5_nextSlim 39 = .ok (.dup2, 1) := dk_92 (dk_at dksX5_nextSlim_1 15 rfl rfl)
theorem dX5_nextSlim_40 : decode cX5_nextSlim 40 = .ok (.iaload, 1) := dk_46 (dk_at dksX5_nextSlim_1 16 rfl rfl)
theorem dX5_nextSlim_41 : decode cX5_nextSlim 41 = .ok (.iconst 1, 1) := dk_4 (dk_at dksX5_nextSlim_1 17 rfl rfl)
theorem dX5_nextSlim_42 : decode cX5_nextSlim 42 = .ok (.isub, 1) := dk_100 (dk_at dksX5_nextSlim_1 18 rfl rfl)
theorem dX5_nextSlim_43 : decode cX5_nextSlim 43 = .ok (.iastore, 1) := dk_79 (dk_at dksX5_nextSlim_1 19 rfl rfl)
theorem dX5_nextSlim_44 : decode cX5_nextSlim 44 = .ok (.aload_n 0, 1) := dk_42 (dk_at dksX5_nextSlim_1 20 rfl rfl)
theorem dX5_nextSlim_45 : decode cX5_nextSlim 45 = .ok (.invokevirtual 334, 3) := dk_182 1 78 (dk_at dksX5_nextSlim_1 21 rfl rfl)
theorem dX5_nextSlim_48 : decode cX5_nextSlim 48 = .ok (.ifCond .eq 16, 3) := dk_153 0 16 (dk_at dksX5_nextSlim_2 0 rfl rfl)
theorem dX5_nextSlim_51 : decode cX5_nextSlim 51 = .ok (.aload_n 0, 1) := dk_42 (dk_at dksX5_nextSlim_2 3 rfl rfl)
theorem dX5_nextSlim_52 : decode cX5_nextSlim 52 = .ok (.invokevirtual 388, 3) := dk_182 1 132 (dk_at dksX5_nextSlim_2 4 rfl rfl)
theorem dX5_nextSlim_55 : decode cX5_nextSlim 55 = .ok (.ifCond .ge 9, 3) := dk_156 0 9 (dk_at dksX5_nextSlim_2 7 rfl rfl)
theorem dX5_nextSlim_58 : decode cX5_nextSlim 58 = .ok (.iload_n 2, 1) := dk_28 (dk_at dksX5_nextSlim_2 10 rfl rfl)
theorem dX5_nextSlim_59 : decode cX5_nextSlim 59 = .ok (.istore_n 1, 1) := dk_60 (dk_at dksX5_nextSlim_2 11 rfl rfl)
theorem dX5_nextSlim_60 : decode cX5_nextSlim 60 = .ok (.aload_n 0, 1) := dk_42 (dk_at dksX5_nextSlim_2 12 rfl rfl)
theorem dX5_nextSlim_61 : decode cX5_nextSlim 61 = .ok (.invokevirtual 382, 3) := dk_182 1 126 (dk_at dksX5_nextSlim_2 13 rfl rfl)
theorem dX5_nextSlim_64 : decode cX5_nextSlim 64 = .ok (.aload_n 0, 1) := dk_42 (dk_at dksX5_nextSlim_2 16 rfl rfl)
theorem dX5_nextSlim_65 : decode cX5_nextSlim 65 = .ok (.getfield 9, 3) := dk_180 0 9 (dk_at dksX5_nextSlim_2 17 rfl rfl)
theorem dX5_nextSlim_68 : decode cX5_nextSlim 68 = .ok (.bipush 28, 2) := dk_16 28 (dk_at dksX5_nextSlim_2 20 rfl rfl)
theorem dX5_nextSlim_70 : decode cX5_nextSlim 70 = .ok (.iload_n 2, 1) := dk_28 (dk_at dksX5_nextSlim_2 22 rfl rfl)
theorem dX5_nextSlim_71 : decode cX5_nextSlim 71 = .ok (.iadd, 1) := dk_96 (dk_at dksX5_nextSlim_2 23 rfl rfl)
theorem dX5_nextSlim_72 : decode cX5_nextSlim 72 = .ok (.dup2, 1) := dk_92 (dk_at dksX5_nextSlim_3 0 rfl rfl)
theorem dX5_nextSlim_73 : decode cX5_nextSlim 73 = .ok (.iaload, 1) := dk_46 (dk_at dksX5_nextSlim_3 1 rfl rfl)
theorem dX5_nextSlim_74 : decode cX5_nextSlim 74 = .ok (.iconst 1, 1) := dk_4 (dk_at dksX5_nextSlim_3 2 rfl rfl)
theorem dX5_nextSlim_75 : decode cX5_nextSlim 75 = .ok (.iadd, 1) := dk_96 (dk_at dksX5_nextSlim_3 3 rfl rfl)
theorem dX5_nextSlim_76 : decode cX5_nextSlim 76 = .ok (.iastore, 1) := dk_79 (dk_at dksX5_nextSlim_3 4 rfl rfl)
theorem dX5_nextSlim_77 : decode cX5_nextSlim 77 = .ok (.iinc 2 1, 3) := dk_132 2 1 (dk_at dksX5_nextSlim_3 5 rfl rfl)
theorem dX5_nextSlim_80 : decode cX5_nextSlim 80 = .ok (.goto (-72), 3) := dk_167 255 184 (dk_at dksX5_nextSlim_3 8 rfl rfl)
theorem dX5_nextSlim_83 : decode cX5_nextSlim 83 = .ok (.iload_n 1, 1) := dk_27 (dk_at dksX5_nextSlim_3 11 rfl rfl)
theorem dX5_nextSlim_84 : decode cX5_nextSlim 84 = .ok (.ireturn, 1) := dk_172 (dk_at dksX5_nextSlim_3 12 rfl rfl)
abbrev cX5_slim : ByteArray := prog_17_method_119_code
def yX5_slim : MethodName := ⟨RX5, "slim", "(I)I"⟩
def dkwX5_slim_1 : List UInt8 := [42, 182, 1, 168, 87, 42, 180, 0, 9, 16, 28, 27, 96, 46, 61, 42, 182, 1, 110, 28, 172]
abbrev dktX5_slim_1 : List UInt8 := dkwX5_slim_1 ++ []
def dkwX5_slim_0 : List UInt8 := [42, 27, 182, 1, 49, 154, 0, 6, 16, 254, 172, 42, 182, 1, 78, 154, 0, 5, 2, 172, 42, 182, 1, 104]
abbrev dktX5_slim_0 : List UInt8 := dkwX5_slim_0 ++ dktX5_slim_1
theorem dksX5_slim_0 : cX5_slim.data.toList.drop 0 = dktX5_slim_0 := by decide +kernel
theorem dksX5_slim_1 : cX5_slim.data.toList.drop 24 = dktX5_slim_1 := dk_seg dksX5_slim_0 24 rfl rfl
theorem dX5_slim_0 : decode cX5_slim 0 = .ok (.aload_n 0, 1) := dk_42 (dk_at dksX5_slim_0 0 rfl rfl)
theorem dX5_slim_1 : decode cX5_slim 1 = .ok (.iload_n 1, 1) := dk_27 (dk_at dksX5_slim_0 1 rfl rfl)
theorem dX5_slim_2 : decode cX5_slim 2 = .ok (.invokevirtual 305, 3) := dk_182 1 49 (dk_at dksX5_slim_0 2 rfl rfl)
theorem dX5_slim_5 : decode cX5_slim 5 = .ok (.ifCond .ne 6, 3) := dk_154 0 6 (dk_at dksX5_slim_0 5 rfl rfl)
theorem dX5_slim_8 : decode cX5_slim 8 = .ok (.bipush (-2), 2) := dk_16 254 (dk_at dksX5_slim_0 8 rfl rfl)
theorem dX5_slim_10 : decode cX5_slim 10 = .ok (.ireturn, 1) := dk_172 (dk_at dksX5_slim_0 10 rfl rfl)
theorem dX5_slim_11 : decode cX5_slim 11 = .ok (.aload_n 0, 1) := dk_42 (dk_at dksX5_slim_0 11 rfl rfl)
theorem dX5_slim_12 : decode cX5_slim 12 = .ok (.invokevirtual 334, 3) := dk_182 1 78 (dk_at dksX5_slim_0 12 rfl rfl)
theorem dX5_slim_15 : decode cX5_slim 15 = .ok (.ifCond .ne 5, 3) := dk_154 0 5 (dk_at dksX5_slim_0 15 rfl rfl)
theorem dX5_slim_18 : decode cX5_slim 18 = .ok (.iconst (-1), 1) := dk_2 (dk_at dksX5_slim_0 18 rfl rfl)
theorem dX5_slim_19 : decode cX5_slim 19 = .ok (.ireturn, 1) := dk_172 (dk_at dksX5_slim_0 19 rfl rfl)
theorem dX5_slim_20 : decode cX5_slim 20 = .ok (.aload_n 0, 1) := dk_42 (dk_at dksX5_slim_0 20 rfl rfl)
theorem dX5_slim_21 : decode cX5_slim 21 = .ok (.invokevirtual 360, 3) := dk_182 1 104 (dk_at dksX5_slim_0 21 rfl rfl)
theorem dX5_slim_24 : decode cX5_slim 24 = .ok (.aload_n 0, 1) := dk_42 (dk_at dksX5_slim_1 0 rfl rfl)
theorem dX5_slim_25 : decode cX5_slim 25 = .ok (.invokevirtual 424, 3) := dk_182 1 168 (dk_at dksX5_slim_1 1 rfl rfl)
theorem dX5_slim_28 : decode cX5_slim 28 = .ok (.pop, 1) := dk_87 (dk_at dksX5_slim_1 4 rfl rfl)
theorem dX5_slim_29 : decode cX5_slim 29 = .ok (.aload_n 0, 1) := dk_42 (dk_at dksX5_slim_1 5 rfl rfl)
theorem dX5_slim_30 : decode cX5_slim 30 = .ok (.getfield 9, 3) := dk_180 0 9 (dk_at dksX5_slim_1 6 rfl rfl)
theorem dX5_slim_33 : decode cX5_slim 33 = .ok (.bipush 28, 2) := dk_16 28 (dk_at dksX5_slim_1 9 rfl rfl)
theorem dX5_slim_35 : decode cX5_slim 35 = .ok (.iload_n 1, 1) := dk_27 (dk_at dksX5_slim_1 11 rfl rfl)
theorem dX5_slim_36 : decode cX5_slim 36 = .ok (.iadd, 1) := dk_96 (dk_at dksX5_slim_1 12 rfl rfl)
theorem dX5_slim_37 : decode cX5_slim 37 = .ok (.iaload, 1) := dk_46 (dk_at dksX5_slim_1 13 rfl rfl)
theorem dX5_slim_38 : decode cX5_slim 38 = .ok (.istore_n 2, 1) := dk_61 (dk_at dksX5_slim_1 14 rfl rfl)
theorem dX5_slim_39 : decode cX5_slim 39 = .ok (.aload_n 0, 1) := dk_42 (dk_at dksX5_slim_1 15 rfl rfl)
theorem dX5_slim_40 : decode cX5_slim 40 = .ok (.invokevirtual 366, 3) := dk_182 1 110 (dk_at dksX5_slim_1 16 rfl rfl)
theorem dX5_slim_43 : decode cX5_slim 43 = .ok (.iload_n 2, 1) := dk_28 (dk_at dksX5_slim_1 19 rfl rfl)
theorem dX5_slim_44 : decode cX5_slim 44 = .ok (.ireturn, 1) := dk_172 (dk_at dksX5_slim_1 20 rfl rfl)
abbrev cX5_pairs : ByteArray := prog_17_method_123_code
def yX5_pairs : MethodName := ⟨RX5, "pairs", "()I"⟩
def dkwX5_pairs_0 : List UInt8 := [42, 182, 0, 109, 153, 0, 11, 42, 2, 182, 1, 177, 167, 0, 5, 16, 254, 172]
abbrev dktX5_pairs_0 : List UInt8 := dkwX5_pairs_0 ++ []
theorem dksX5_pairs_0 : cX5_pairs.data.toList.drop 0 = dktX5_pairs_0 := by decide +kernel
theorem dX5_pairs_0 : decode cX5_pairs 0 = .ok (.aload_n 0, 1) := dk_42 (dk_at dksX5_pairs_0 0 rfl rfl)
theorem dX5_pairs_1 : decode cX5_pairs 1 = .ok (.invokevirtual 109, 3) := dk_182 0 109 (dk_at dksX5_pairs_0 1 rfl rfl)
theorem dX5_pairs_4 : decode cX5_pairs 4 = .ok (.ifCond .eq 11, 3) := dk_153 0 11 (dk_at dksX5_pairs_0 4 rfl rfl)
theorem dX5_pairs_7 : decode cX5_pairs 7 = .ok (.aload_n 0, 1) := dk_42 (dk_at dksX5_pairs_0 7 rfl rfl)
theorem dX5_pairs_8 : decode cX5_pairs 8 = .ok (.iconst (-1), 1) := dk_2 (dk_at dksX5_pairs_0 8 rfl rfl)
theorem dX5_pairs_9 : decode cX5_pairs 9 = .ok (.invokevirtual 433, 3) := dk_182 1 177 (dk_at dksX5_pairs_0 9 rfl rfl)
theorem dX5_pairs_12 : decode cX5_pairs 12 = .ok (.goto 5, 3) := dk_167 0 5 (dk_at dksX5_pairs_0 12 rfl rfl)
theorem dX5_pairs_15 : decode cX5_pairs 15 = .ok (.bipush (-2), 2) := dk_16 254 (dk_at dksX5_pairs_0 15 rfl rfl)
theorem dX5_pairs_17 : decode cX5_pairs 17 = .ok (.ireturn, 1) := dk_172 (dk_at dksX5_pairs_0 17 rfl rfl)
abbrev cX5_pairBy : ByteArray := prog_17_method_122_code
def yX5_pairBy : MethodName := ⟨RX5, "pairBy", "(I)I"⟩
def dkwX5_pairBy_3 : List UInt8 := [28, 167, 0, 4, 2, 172]
abbrev dktX5_pairBy_3 : List UInt8 := dkwX5_pairBy_3 ++ []
def dkwX5_pairBy_2 : List UInt8 := [104, 21, 4, 96, 172, 132, 2, 1, 132, 4, 1, 167, 255, 215, 132, 3, 1, 167, 255, 196, 27, 156, 0, 7]
abbrev dktX5_pairBy_2 : List UInt8 := dkwX5_pairBy_2 ++ dktX5_pairBy_3
def dkwX5_pairBy_1 : List UInt8 := [162, 0, 38, 42, 29, 21, 4, 182, 1, 174, 154, 0, 6, 167, 0, 19, 28, 27, 160, 0, 11, 16, 100, 29]
abbrev dktX5_pairBy_1 : List UInt8 := dkwX5_pairBy_1 ++ dktX5_pairBy_2
def dkwX5_pairBy_0 : List UInt8 := [3, 61, 3, 62, 29, 42, 182, 0, 116, 162, 0, 58, 29, 4, 96, 54, 4, 21, 4, 42, 182, 0, 116]
abbrev dktX5_pairBy_0 : List UInt8 := dkwX5_pairBy_0 ++ dktX5_pairBy_1
theorem dksX5_pairBy_0 : cX5_pairBy.data.toList.drop 0 = dktX5_pairBy_0 := by decide +kernel
theorem dksX5_pairBy_1 : cX5_pairBy.data.toList.drop 23 = dktX5_pairBy_1 := dk_seg dksX5_pairBy_0 23 rfl rfl
theorem dksX5_pairBy_2 : cX5_pairBy.data.toList.drop 47 = dktX5_pairBy_2 := dk_seg dksX5_pairBy_1 24 rfl rfl
theorem dksX5_pairBy_3 : cX5_pairBy.data.toList.drop 71 = dktX5_pairBy_3 := dk_seg dksX5_pairBy_2 24 rfl rfl
theorem dX5_pairBy_0 : decode cX5_pairBy 0 = .ok (.iconst 0, 1) := dk_3 (dk_at dksX5_pairBy_0 0 rfl rfl)
theorem dX5_pairBy_1 : decode cX5_pairBy 1 = .ok (.istore_n 2, 1) := dk_61 (dk_at dksX5_pairBy_0 1 rfl rfl)
theorem dX5_pairBy_2 : decode cX5_pairBy 2 = .ok (.iconst 0, 1) := dk_3 (dk_at dksX5_pairBy_0 2 rfl rfl)
theorem dX5_pairBy_3 : decode cX5_pairBy 3 = .ok (.istore_n 3, 1) := dk_62 (dk_at dksX5_pairBy_0 3 rfl rfl)
theorem dX5_pairBy_4 : decode cX5_pairBy 4 = .ok (.iload_n 3, 1) := dk_29 (dk_at dksX5_pairBy_0 4 rfl rfl)
theorem dX5_pairBy_5 : decode cX5_pairBy 5 = .ok (.aload_n 0, 1) := dk_42 (dk_at dksX5_pairBy_0 5 rfl rfl)
theorem dX5_pairBy_6 : decode cX5_pairBy 6 = .ok (.invokevirtual 116, 3) := dk_182 0 116 (dk_at dksX5_pairBy_0 6 rfl rfl)
theorem dX5_pairBy_9 : decode cX5_pairBy 9 = .ok (.if_icmp .ge 58, 3) := dk_162 0 58 (dk_at dksX5_pairBy_0 9 rfl rfl)
theorem dX5_pairBy_12 : decode cX5_pairBy 12 = .ok (.iload_n 3, 1) := dk_29 (dk_at dksX5_pairBy_0 12 rfl rfl)
theorem dX5_pairBy_13 : decode cX5_pairBy 13 = .ok (.iconst 1, 1) := dk_4 (dk_at dksX5_pairBy_0 13 rfl rfl)
theorem dX5_pairBy_14 : decode cX5_pairBy 14 = .ok (.iadd, 1) := dk_96 (dk_at dksX5_pairBy_0 14 rfl rfl)
theorem dX5_pairBy_15 : decode cX5_pairBy 15 = .ok (.istore 4, 2) := dk_54 4 (dk_at dksX5_pairBy_0 15 rfl rfl)
theorem dX5_pairBy_17 : decode cX5_pairBy 17 = .ok (.iload 4, 2) := dk_21 4 (dk_at dksX5_pairBy_0 17 rfl rfl)
theorem dX5_pairBy_19 : decode cX5_pairBy 19 = .ok (.aload_n 0, 1) := dk_42 (dk_at dksX5_pairBy_0 19 rfl rfl)
theorem dX5_pairBy_20 : decode cX5_pairBy 20 = .ok (.invokevirtual 116, 3) := dk_182 0 116 (dk_at dksX5_pairBy_0 20 rfl rfl)
theorem dX5_pairBy_23 : decode cX5_pairBy 23 = .ok (.if_icmp .ge 38, 3) := dk_162 0 38 (dk_at dksX5_pairBy_1 0 rfl rfl)
theorem dX5_pairBy_26 : decode cX5_pairBy 26 = .ok (.aload_n 0, 1) := dk_42 (dk_at dksX5_pairBy_1 3 rfl rfl)
theorem dX5_pairBy_27 : decode cX5_pairBy 27 = .ok (.iload_n 3, 1) := dk_29 (dk_at dksX5_pairBy_1 4 rfl rfl)
theorem dX5_pairBy_28 : decode cX5_pairBy 28 = .ok (.iload 4, 2) := dk_21 4 (dk_at dksX5_pairBy_1 5 rfl rfl)
theorem dX5_pairBy_30 : decode cX5_pairBy 30 = .ok (.invokevirtual 430, 3) := dk_182 1 174 (dk_at dksX5_pairBy_1 7 rfl rfl)
theorem dX5_pairBy_33 : decode cX5_pairBy 33 = .ok (.ifCond .ne 6, 3) := dk_154 0 6 (dk_at dksX5_pairBy_1 10 rfl rfl)
theorem dX5_pairBy_36 : decode cX5_pairBy 36 = .ok (.goto 19, 3) := dk_167 0 19 (dk_at dksX5_pairBy_1 13 rfl rfl)
theorem dX5_pairBy_39 : decode cX5_pairBy 39 = .ok (.iload_n 2, 1) := dk_28 (dk_at dksX5_pairBy_1 16 rfl rfl)
theorem dX5_pairBy_40 : decode cX5_pairBy 40 = .ok (.iload_n 1, 1) := dk_27 (dk_at dksX5_pairBy_1 17 rfl rfl)
theorem dX5_pairBy_41 : decode cX5_pairBy 41 = .ok (.if_icmp .ne 11, 3) := dk_160 0 11 (dk_at dksX5_pairBy_1 18 rfl rfl)
theorem dX5_pairBy_44 : decode cX5_pairBy 44 = .ok (.bipush 100, 2) := dk_16 100 (dk_at dksX5_pairBy_1 21 rfl rfl)
theorem dX5_pairBy_46 : decode cX5_pairBy 46 = .ok (.iload_n 3, 1) := dk_29 (dk_at dksX5_pairBy_1 23 rfl rfl)
theorem dX5_pairBy_47 : decode cX5_pairBy 47 = .ok (.imul, 1) := dk_104 (dk_at dksX5_pairBy_2 0 rfl rfl)
theorem dX5_pairBy_48 : decode cX5_pairBy 48 = .ok (.iload 4, 2) := dk_21 4 (dk_at dksX5_pairBy_2 1 rfl rfl)
theorem dX5_pairBy_50 : decode cX5_pairBy 50 = .ok (.iadd, 1) := dk_96 (dk_at dksX5_pairBy_2 3 rfl rfl)
theorem dX5_pairBy_51 : decode cX5_pairBy 51 = .ok (.ireturn, 1) := dk_172 (dk_at dksX5_pairBy_2 4 rfl rfl)
theorem dX5_pairBy_52 : decode cX5_pairBy 52 = .ok (.iinc 2 1, 3) := dk_132 2 1 (dk_at dksX5_pairBy_2 5 rfl rfl)
theorem dX5_pairBy_55 : decode cX5_pairBy 55 = .ok (.iinc 4 1, 3) := dk_132 4 1 (dk_at dksX5_pairBy_2 8 rfl rfl)
theorem dX5_pairBy_58 : decode cX5_pairBy 58 = .ok (.goto (-41), 3) := dk_167 255 215 (dk_at dksX5_pairBy_2 11 rfl rfl)
theorem dX5_pairBy_61 : decode cX5_pairBy 61 = .ok (.iinc 3 1, 3) := dk_132 3 1 (dk_at dksX5_pairBy_2 14 rfl rfl)
theorem dX5_pairBy_64 : decode cX5_pairBy 64 = .ok (.goto (-60), 3) := dk_167 255 196 (dk_at dksX5_pairBy_2 17 rfl rfl)
theorem dX5_pairBy_67 : decode cX5_pairBy 67 = .ok (.iload_n 1, 1) := dk_27 (dk_at dksX5_pairBy_2 20 rfl rfl)
theorem dX5_pairBy_68 : decode cX5_pairBy 68 = .ok (.ifCond .ge 7, 3) := dk_156 0 7 (dk_at dksX5_pairBy_2 21 rfl rfl)
theorem dX5_pairBy_71 : decode cX5_pairBy 71 = .ok (.iload_n 2, 1) := dk_28 (dk_at dksX5_pairBy_3 0 rfl rfl)
theorem dX5_pairBy_72 : decode cX5_pairBy 72 = .ok (.goto 4, 3) := dk_167 0 4 (dk_at dksX5_pairBy_3 1 rfl rfl)
theorem dX5_pairBy_75 : decode cX5_pairBy 75 = .ok (.iconst (-1), 1) := dk_2 (dk_at dksX5_pairBy_3 4 rfl rfl)
theorem dX5_pairBy_76 : decode cX5_pairBy 76 = .ok (.ireturn, 1) := dk_172 (dk_at dksX5_pairBy_3 5 rfl rfl)
abbrev cX5_isPair : ByteArray := prog_17_method_121_code
def yX5_isPair : MethodName := ⟨RX5, "isPair", "(II)Z"⟩
def dkwX5_isPair_2 : List UInt8 := [182, 1, 171, 153, 0, 7, 4, 167, 0, 4, 3, 172]
abbrev dktX5_isPair_2 : List UInt8 := dkwX5_isPair_2 ++ []
def dkwX5_isPair_1 : List UInt8 := [3, 172, 42, 27, 28, 182, 1, 171, 154, 0, 25, 42, 27, 27, 182, 1, 171, 153, 0, 16, 42, 28, 28]
abbrev dktX5_isPair_1 : List UInt8 := dkwX5_isPair_1 ++ dktX5_isPair_2
def dkwX5_isPair_0 : List UInt8 := [42, 180, 0, 9, 16, 28, 27, 96, 46, 153, 0, 15, 42, 180, 0, 9, 16, 28, 28, 96, 46, 154, 0, 5]
abbrev dktX5_isPair_0 : List UInt8 := dkwX5_isPair_0 ++ dktX5_isPair_1
theorem dksX5_isPair_0 : cX5_isPair.data.toList.drop 0 = dktX5_isPair_0 := by decide +kernel
theorem dksX5_isPair_1 : cX5_isPair.data.toList.drop 24 = dktX5_isPair_1 := dk_seg dksX5_isPair_0 24 rfl rfl
theorem dksX5_isPair_2 : cX5_isPair.data.toList.drop 47 = dktX5_isPair_2 := dk_seg dksX5_isPair_1 23 rfl rfl
theorem dX5_isPair_0 : decode cX5_isPair 0 = .ok (.aload_n 0, 1) := dk_42 (dk_at dksX5_isPair_0 0 rfl rfl)
theorem dX5_isPair_1 : decode cX5_isPair 1 = .ok (.getfield 9, 3) := dk_180 0 9 (dk_at dksX5_isPair_0 1 rfl rfl)
theorem dX5_isPair_4 : decode cX5_isPair 4 = .ok (.bipush 28, 2) := dk_16 28 (dk_at dksX5_isPair_0 4 rfl rfl)
theorem dX5_isPair_6 : decode cX5_isPair 6 = .ok (.iload_n 1, 1) := dk_27 (dk_at dksX5_isPair_0 6 rfl rfl)
theorem dX5_isPair_7 : decode cX5_isPair 7 = .ok (.iadd, 1) := dk_96 (dk_at dksX5_isPair_0 7 rfl rfl)
theorem dX5_isPair_8 : decode cX5_isPair 8 = .ok (.iaload, 1) := dk_46 (dk_at dksX5_isPair_0 8 rfl rfl)
theorem dX5_isPair_9 : decode cX5_isPair 9 = .ok (.ifCond .eq 15, 3) := dk_153 0 15 (dk_at dksX5_isPair_0 9 rfl rfl)
theorem dX5_isPair_12 : decode cX5_isPair 12 = .ok (.aload_n 0, 1) := dk_42 (dk_at dksX5_isPair_0 12 rfl rfl)
theorem dX5_isPair_13 : decode cX5_isPair 13 = .ok (.getfield 9, 3) := dk_180 0 9 (dk_at dksX5_isPair_0 13 rfl rfl)
theorem dX5_isPair_16 : decode cX5_isPair 16 = .ok (.bipush 28, 2) := dk_16 28 (dk_at dksX5_isPair_0 16 rfl rfl)
theorem dX5_isPair_18 : decode cX5_isPair 18 = .ok (.iload_n 2, 1) := dk_28 (dk_at dksX5_isPair_0 18 rfl rfl)
theorem dX5_isPair_19 : decode cX5_isPair 19 = .ok (.iadd, 1) := dk_96 (dk_at dksX5_isPair_0 19 rfl rfl)
theorem dX5_isPair_20 : decode cX5_isPair 20 = .ok (.iaload, 1) := dk_46 (dk_at dksX5_isPair_0 20 rfl rfl)
theorem dX5_isPair_21 : decode cX5_isPair 21 = .ok (.ifCond .ne 5, 3) := dk_154 0 5 (dk_at dksX5_isPair_0 21 rfl rfl)
theorem dX5_isPair_24 : decode cX5_isPair 24 = .ok (.iconst 0, 1) := dk_3 (dk_at dksX5_isPair_1 0 rfl rfl)
theorem dX5_isPair_25 : decode cX5_isPair 25 = .ok (.ireturn, 1) := dk_172 (dk_at dksX5_isPair_1 1 rfl rfl)
theorem dX5_isPair_26 : decode cX5_isPair 26 = .ok (.aload_n 0, 1) := dk_42 (dk_at dksX5_isPair_1 2 rfl rfl)
theorem dX5_isPair_27 : decode cX5_isPair 27 = .ok (.iload_n 1, 1) := dk_27 (dk_at dksX5_isPair_1 3 rfl rfl)
theorem dX5_isPair_28 : decode cX5_isPair 28 = .ok (.iload_n 2, 1) := dk_28 (dk_at dksX5_isPair_1 4 rfl rfl)
theorem dX5_isPair_29 : decode cX5_isPair 29 = .ok (.invokevirtual 427, 3) := dk_182 1 171 (dk_at dksX5_isPair_1 5 rfl rfl)
theorem dX5_isPair_32 : decode cX5_isPair 32 = .ok (.ifCond .ne 25, 3) := dk_154 0 25 (dk_at dksX5_isPair_1 8 rfl rfl)
theorem dX5_isPair_35 : decode cX5_isPair 35 = .ok (.aload_n 0, 1) := dk_42 (dk_at dksX5_isPair_1 11 rfl rfl)
theorem dX5_isPair_36 : decode cX5_isPair 36 = .ok (.iload_n 1, 1) := dk_27 (dk_at dksX5_isPair_1 12 rfl rfl)
theorem dX5_isPair_37 : decode cX5_isPair 37 = .ok (.iload_n 1, 1) := dk_27 (dk_at dksX5_isPair_1 13 rfl rfl)
theorem dX5_isPair_38 : decode cX5_isPair 38 = .ok (.invokevirtual 427, 3) := dk_182 1 171 (dk_at dksX5_isPair_1 14 rfl rfl)
theorem dX5_isPair_41 : decode cX5_isPair 41 = .ok (.ifCond .eq 16, 3) := dk_153 0 16 (dk_at dksX5_isPair_1 17 rfl rfl)
theorem dX5_isPair_44 : decode cX5_isPair 44 = .ok (.aload_n 0, 1) := dk_42 (dk_at dksX5_isPair_1 20 rfl rfl)
theorem dX5_isPair_45 : decode cX5_isPair 45 = .ok (.iload_n 2, 1) := dk_28 (dk_at dksX5_isPair_1 21 rfl rfl)
theorem dX5_isPair_46 : decode cX5_isPair 46 = .ok (.iload_n 2, 1) := dk_28 (dk_at dksX5_isPair_1 22 rfl rfl)
theorem dX5_isPair_47 : decode cX5_isPair 47 = .ok (.invokevirtual 427, 3) := dk_182 1 171 (dk_at dksX5_isPair_2 0 rfl rfl)
theorem dX5_isPair_50 : decode cX5_isPair 50 = .ok (.ifCond .eq 7, 3) := dk_153 0 7 (dk_at dksX5_isPair_2 3 rfl rfl)
theorem dX5_isPair_53 : decode cX5_isPair 53 = .ok (.iconst 1, 1) := dk_4 (dk_at dksX5_isPair_2 6 rfl rfl)
theorem dX5_isPair_54 : decode cX5_isPair 54 = .ok (.goto 4, 3) := dk_167 0 4 (dk_at dksX5_isPair_2 7 rfl rfl)
theorem dX5_isPair_57 : decode cX5_isPair 57 = .ok (.iconst 0, 1) := dk_3 (dk_at dksX5_isPair_2 10 rfl rfl)
theorem dX5_isPair_58 : decode cX5_isPair 58 = .ok (.ireturn, 1) := dk_172 (dk_at dksX5_isPair_2 11 rfl rfl)
abbrev cX5_holdsWithout : ByteArray := prog_17_method_120_code
def yX5_holdsWithout : MethodName := ⟨RX5, "holdsWithout", "(II)Z"⟩
def dkwX5_holdsWithout_3 : List UInt8 := [21, 5, 172]
abbrev dktX5_holdsWithout_3 : List UInt8 := dkwX5_holdsWithout_3 ++ []
def dkwX5_holdsWithout_2 : List UInt8 := [54, 5, 42, 180, 0, 9, 16, 28, 28, 96, 21, 4, 79, 42, 180, 0, 9, 16, 28, 27, 96, 29, 79]
abbrev dktX5_holdsWithout_2 : List UInt8 := dkwX5_holdsWithout_2 ++ dktX5_holdsWithout_3
def dkwX5_holdsWithout_1 : List UInt8 := [180, 0, 9, 16, 28, 27, 96, 3, 79, 42, 180, 0, 9, 16, 28, 28, 96, 3, 79, 42, 182, 1, 78]
abbrev dktX5_holdsWithout_1 : List UInt8 := dkwX5_holdsWithout_1 ++ dktX5_holdsWithout_2
def dkwX5_holdsWithout_0 : List UInt8 := [42, 180, 0, 9, 16, 28, 27, 96, 46, 62, 42, 180, 0, 9, 16, 28, 28, 96, 46, 54, 4, 42]
abbrev dktX5_holdsWithout_0 : List UInt8 := dkwX5_holdsWithout_0 ++ dktX5_holdsWithout_1
theorem dksX5_holdsWithout_0 : cX5_holdsWithout.data.toList.drop 0 = dktX5_holdsWithout_0 := by decide +kernel
theorem dksX5_holdsWithout_1 : cX5_holdsWithout.data.toList.drop 22 = dktX5_holdsWithout_1 := dk_seg dksX5_holdsWithout_0 22 rfl rfl
theorem dksX5_holdsWithout_2 : cX5_holdsWithout.data.toList.drop 45 = dktX5_holdsWithout_2 := dk_seg dksX5_holdsWithout_1 23 rfl rfl
theorem dksX5_holdsWithout_3 : cX5_holdsWithout.data.toList.drop 68 = dktX5_holdsWithout_3 := dk_seg dksX5_holdsWithout_2 23 rfl rfl
theorem dX5_holdsWithout_0 : decode cX5_holdsWithout 0 = .ok (.aload_n 0, 1) := dk_42 (dk_at dksX5_holdsWithout_0 0 rfl rfl)
theorem dX5_holdsWithout_1 : decode cX5_holdsWithout 1 = .ok (.getfield 9, 3) := dk_180 0 9 (dk_at dksX5_holdsWithout_0 1 rfl rfl)
theorem dX5_holdsWithout_4 : decode cX5_holdsWithout 4 = .ok (.bipush 28, 2) := dk_16 28 (dk_at dksX5_holdsWithout_0 4 rfl rfl)
theorem dX5_holdsWithout_6 : decode cX5_holdsWithout 6 = .ok (.iload_n 1, 1) := dk_27 (dk_at dksX5_holdsWithout_0 6 rfl rfl)
theorem dX5_holdsWithout_7 : decode cX5_holdsWithout 7 = .ok (.iadd, 1) := dk_96 (dk_at dksX5_holdsWithout_0 7 rfl rfl)
theorem dX5_holdsWithout_8 : decode cX5_holdsWithout 8 = .ok (.iaload, 1) := dk_46 (dk_at dksX5_holdsWithout_0 8 rfl rfl)
theorem dX5_holdsWithout_9 : decode cX5_holdsWithout 9 = .ok (.istore_n 3, 1) := dk_62 (dk_at dksX5_holdsWithout_0 9 rfl rfl)
theorem dX5_holdsWithout_10 : decode cX5_holdsWithout 10 = .ok (.aload_n 0, 1) := dk_42 (dk_at dksX5_holdsWithout_0 10 rfl rfl)
theorem dX5_holdsWithout_11 : decode cX5_holdsWithout 11 = .ok (.getfield 9, 3) := dk_180 0 9 (dk_at dksX5_holdsWithout_0 11 rfl rfl)
theorem dX5_holdsWithout_14 : decode cX5_holdsWithout 14 = .ok (.bipush 28, 2) := dk_16 28 (dk_at dksX5_holdsWithout_0 14 rfl rfl)
theorem dX5_holdsWithout_16 : decode cX5_holdsWithout 16 = .ok (.iload_n 2, 1) := dk_28 (dk_at dksX5_holdsWithout_0 16 rfl rfl)
theorem dX5_holdsWithout_17 : decode cX5_holdsWithout 17 = .ok (.iadd, 1) := dk_96 (dk_at dksX5_holdsWithout_0 17 rfl rfl)
theorem dX5_holdsWithout_18 : decode cX5_holdsWithout 18 = .ok (.iaload, 1) := dk_46 (dk_at dksX5_holdsWithout_0 18 rfl rfl)
theorem dX5_holdsWithout_19 : decode cX5_holdsWithout 19 = .ok (.istore 4, 2) := dk_54 4 (dk_at dksX5_holdsWithout_0 19 rfl rfl)
theorem dX5_holdsWithout_21 : decode cX5_holdsWithout 21 = .ok (.aload_n 0, 1) := dk_42 (dk_at dksX5_holdsWithout_0 21 rfl rfl)
theorem dX5_holdsWithout_22 : decode cX5_holdsWithout 22 = .ok (.getfield 9, 3) := dk_180 0 9 (dk_at dksX5_holdsWithout_1 0 rfl rfl)
theorem dX5_holdsWithout_25 : decode cX5_holdsWithout 25 = .ok (.bipush 28, 2) := dk_16 28 (dk_at dksX5_holdsWithout_1 3 rfl rfl)
theorem dX5_holdsWithout_27 : decode cX5_holdsWithout 27 = .ok (.iload_n 1, 1) := dk_27 (dk_at dksX5_holdsWithout_1 5 rfl rfl)
theorem dX5_holdsWithout_28 : decode cX5_holdsWithout 28 = .ok (.iadd, 1) := dk_96 (dk_at dksX5_holdsWithout_1 6 rfl rfl)
theorem dX5_holdsWithout_29 : decode cX5_holdsWithout 29 = .ok (.iconst 0, 1) := dk_3 (dk_at dksX5_holdsWithout_1 7 rfl rfl)
theorem dX5_holdsWithout_30 : decode cX5_holdsWithout 30 = .ok (.iastore, 1) := dk_79 (dk_at dksX5_holdsWithout_1 8 rfl rfl)
theorem dX5_holdsWithout_31 : decode cX5_holdsWithout 31 = .ok (.aload_n 0, 1) := dk_42 (dk_at dksX5_holdsWithout_1 9 rfl rfl)
theorem dX5_holdsWithout_32 : decode cX5_holdsWithout 32 = .ok (.getfield 9, 3) := dk_180 0 9 (dk_at dksX5_holdsWithout_1 10 rfl rfl)
theorem dX5_holdsWithout_35 : decode cX5_holdsWithout 35 = .ok (.bipush 28, 2) := dk_16 28 (dk_at dksX5_holdsWithout_1 13 rfl rfl)
theorem dX5_holdsWithout_37 : decode cX5_holdsWithout 37 = .ok (.iload_n 2, 1) := dk_28 (dk_at dksX5_holdsWithout_1 15 rfl rfl)
theorem dX5_holdsWithout_38 : decode cX5_holdsWithout 38 = .ok (.iadd, 1) := dk_96 (dk_at dksX5_holdsWithout_1 16 rfl rfl)
theorem dX5_holdsWithout_39 : decode cX5_holdsWithout 39 = .ok (.iconst 0, 1) := dk_3 (dk_at dksX5_holdsWithout_1 17 rfl rfl)
theorem dX5_holdsWithout_40 : decode cX5_holdsWithout 40 = .ok (.iastore, 1) := dk_79 (dk_at dksX5_holdsWithout_1 18 rfl rfl)
theorem dX5_holdsWithout_41 : decode cX5_holdsWithout 41 = .ok (.aload_n 0, 1) := dk_42 (dk_at dksX5_holdsWithout_1 19 rfl rfl)
theorem dX5_holdsWithout_42 : decode cX5_holdsWithout 42 = .ok (.invokevirtual 334, 3) := dk_182 1 78 (dk_at dksX5_holdsWithout_1 20 rfl rfl)
theorem dX5_holdsWithout_45 : decode cX5_holdsWithout 45 = .ok (.istore 5, 2) := dk_54 5 (dk_at dksX5_holdsWithout_2 0 rfl rfl)
theorem dX5_holdsWithout_47 : decode cX5_holdsWithout 47 = .ok (.aload_n 0, 1) := dk_42 (dk_at dksX5_holdsWithout_2 2 rfl rfl)
theorem dX5_holdsWithout_48 : decode cX5_holdsWithout 48 = .ok (.getfield 9, 3) := dk_180 0 9 (dk_at dksX5_holdsWithout_2 3 rfl rfl)
theorem dX5_holdsWithout_51 : decode cX5_holdsWithout 51 = .ok (.bipush 28, 2) := dk_16 28 (dk_at dksX5_holdsWithout_2 6 rfl rfl)
theorem dX5_holdsWithout_53 : decode cX5_holdsWithout 53 = .ok (.iload_n 2, 1) := dk_28 (dk_at dksX5_holdsWithout_2 8 rfl rfl)
theorem dX5_holdsWithout_54 : decode cX5_holdsWithout 54 = .ok (.iadd, 1) := dk_96 (dk_at dksX5_holdsWithout_2 9 rfl rfl)
theorem dX5_holdsWithout_55 : decode cX5_holdsWithout 55 = .ok (.iload 4, 2) := dk_21 4 (dk_at dksX5_holdsWithout_2 10 rfl rfl)
theorem dX5_holdsWithout_57 : decode cX5_holdsWithout 57 = .ok (.iastore, 1) := dk_79 (dk_at dksX5_holdsWithout_2 12 rfl rfl)
theorem dX5_holdsWithout_58 : decode cX5_holdsWithout 58 = .ok (.aload_n 0, 1) := dk_42 (dk_at dksX5_holdsWithout_2 13 rfl rfl)
theorem dX5_holdsWithout_59 : decode cX5_holdsWithout 59 = .ok (.getfield 9, 3) := dk_180 0 9 (dk_at dksX5_holdsWithout_2 14 rfl rfl)
theorem dX5_holdsWithout_62 : decode cX5_holdsWithout 62 = .ok (.bipush 28, 2) := dk_16 28 (dk_at dksX5_holdsWithout_2 17 rfl rfl)
theorem dX5_holdsWithout_64 : decode cX5_holdsWithout 64 = .ok (.iload_n 1, 1) := dk_27 (dk_at dksX5_holdsWithout_2 19 rfl rfl)
theorem dX5_holdsWithout_65 : decode cX5_holdsWithout 65 = .ok (.iadd, 1) := dk_96 (dk_at dksX5_holdsWithout_2 20 rfl rfl)
theorem dX5_holdsWithout_66 : decode cX5_holdsWithout 66 = .ok (.iload_n 3, 1) := dk_29 (dk_at dksX5_holdsWithout_2 21 rfl rfl)
theorem dX5_holdsWithout_67 : decode cX5_holdsWithout 67 = .ok (.iastore, 1) := dk_79 (dk_at dksX5_holdsWithout_2 22 rfl rfl)
theorem dX5_holdsWithout_68 : decode cX5_holdsWithout 68 = .ok (.iload 5, 2) := dk_21 5 (dk_at dksX5_holdsWithout_3 0 rfl rfl)
theorem dX5_holdsWithout_70 : decode cX5_holdsWithout 70 = .ok (.ireturn, 1) := dk_172 (dk_at dksX5_holdsWithout_3 2 rfl rfl)
abbrev cX5_pair : ByteArray := prog_17_method_124_code
def yX5_pair : MethodName := ⟨RX5, "pair", "(I)I"⟩
def dkwX5_pair_0 : List UInt8 := [42, 182, 0, 109, 153, 0, 15, 27, 155, 0, 11, 42, 27, 182, 1, 177, 167, 0, 5, 16, 254, 172]
abbrev dktX5_pair_0 : List UInt8 := dkwX5_pair_0 ++ []
theorem dksX5_pair_0 : cX5_pair.data.toList.drop 0 = dktX5_pair_0 := by decide +kernel
theorem dX5_pair_0 : decode cX5_pair 0 = .ok (.aload_n 0, 1) := dk_42 (dk_at dksX5_pair_0 0 rfl rfl)
theorem dX5_pair_1 : decode cX5_pair 1 = .ok (.invokevirtual 109, 3) := dk_182 0 109 (dk_at dksX5_pair_0 1 rfl rfl)
theorem dX5_pair_4 : decode cX5_pair 4 = .ok (.ifCond .eq 15, 3) := dk_153 0 15 (dk_at dksX5_pair_0 4 rfl rfl)
theorem dX5_pair_7 : decode cX5_pair 7 = .ok (.iload_n 1, 1) := dk_27 (dk_at dksX5_pair_0 7 rfl rfl)
theorem dX5_pair_8 : decode cX5_pair 8 = .ok (.ifCond .lt 11, 3) := dk_155 0 11 (dk_at dksX5_pair_0 8 rfl rfl)
theorem dX5_pair_11 : decode cX5_pair 11 = .ok (.aload_n 0, 1) := dk_42 (dk_at dksX5_pair_0 11 rfl rfl)
theorem dX5_pair_12 : decode cX5_pair 12 = .ok (.iload_n 1, 1) := dk_27 (dk_at dksX5_pair_0 12 rfl rfl)
theorem dX5_pair_13 : decode cX5_pair 13 = .ok (.invokevirtual 433, 3) := dk_182 1 177 (dk_at dksX5_pair_0 13 rfl rfl)
theorem dX5_pair_16 : decode cX5_pair 16 = .ok (.goto 5, 3) := dk_167 0 5 (dk_at dksX5_pair_0 16 rfl rfl)
theorem dX5_pair_19 : decode cX5_pair 19 = .ok (.bipush (-2), 2) := dk_16 254 (dk_at dksX5_pair_0 19 rfl rfl)
theorem dX5_pair_21 : decode cX5_pair 21 = .ok (.ireturn, 1) := dk_172 (dk_at dksX5_pair_0 21 rfl rfl)
abbrev cX5_chance : ByteArray := prog_17_method_127_code
def yX5_chance : MethodName := ⟨RX5, "chance", "(II)I"⟩
def dkwX5_chance_1 : List UInt8 := [27, 28, 182, 1, 194, 167, 0, 5, 16, 254, 172]
abbrev dktX5_chance_1 : List UInt8 := dkwX5_chance_1 ++ []
def dkwX5_chance_0 : List UInt8 := [42, 182, 0, 109, 153, 0, 28, 27, 155, 0, 24, 28, 133, 10, 20, 1, 102, 184, 0, 87, 153, 0, 12, 42]
abbrev dktX5_chance_0 : List UInt8 := dkwX5_chance_0 ++ dktX5_chance_1
theorem dksX5_chance_0 : cX5_chance.data.toList.drop 0 = dktX5_chance_0 := by decide +kernel
theorem dksX5_chance_1 : cX5_chance.data.toList.drop 24 = dktX5_chance_1 := dk_seg dksX5_chance_0 24 rfl rfl
theorem dX5_chance_0 : decode cX5_chance 0 = .ok (.aload_n 0, 1) := dk_42 (dk_at dksX5_chance_0 0 rfl rfl)
theorem dX5_chance_1 : decode cX5_chance 1 = .ok (.invokevirtual 109, 3) := dk_182 0 109 (dk_at dksX5_chance_0 1 rfl rfl)
theorem dX5_chance_4 : decode cX5_chance 4 = .ok (.ifCond .eq 28, 3) := dk_153 0 28 (dk_at dksX5_chance_0 4 rfl rfl)
theorem dX5_chance_7 : decode cX5_chance 7 = .ok (.iload_n 1, 1) := dk_27 (dk_at dksX5_chance_0 7 rfl rfl)
theorem dX5_chance_8 : decode cX5_chance 8 = .ok (.ifCond .lt 24, 3) := dk_155 0 24 (dk_at dksX5_chance_0 8 rfl rfl)
theorem dX5_chance_11 : decode cX5_chance 11 = .ok (.iload_n 2, 1) := dk_28 (dk_at dksX5_chance_0 11 rfl rfl)
theorem dX5_chance_12 : decode cX5_chance 12 = .ok (.i2l, 1) := dk_133 (dk_at dksX5_chance_0 12 rfl rfl)
theorem dX5_chance_13 : decode cX5_chance 13 = .ok (.lconst 1, 1) := dk_10 (dk_at dksX5_chance_0 13 rfl rfl)
theorem dX5_chance_14 : decode cX5_chance 14 = .ok (.ldc2_w 358, 3) := dk_20 1 102 (dk_at dksX5_chance_0 14 rfl rfl)
theorem dX5_chance_17 : decode cX5_chance 17 = .ok (.invokestatic 87, 3) := dk_184 0 87 (dk_at dksX5_chance_0 17 rfl rfl)
theorem dX5_chance_20 : decode cX5_chance 20 = .ok (.ifCond .eq 12, 3) := dk_153 0 12 (dk_at dksX5_chance_0 20 rfl rfl)
theorem dX5_chance_23 : decode cX5_chance 23 = .ok (.aload_n 0, 1) := dk_42 (dk_at dksX5_chance_0 23 rfl rfl)
theorem dX5_chance_24 : decode cX5_chance 24 = .ok (.iload_n 1, 1) := dk_27 (dk_at dksX5_chance_1 0 rfl rfl)
theorem dX5_chance_25 : decode cX5_chance 25 = .ok (.iload_n 2, 1) := dk_28 (dk_at dksX5_chance_1 1 rfl rfl)
theorem dX5_chance_26 : decode cX5_chance 26 = .ok (.invokevirtual 450, 3) := dk_182 1 194 (dk_at dksX5_chance_1 2 rfl rfl)
theorem dX5_chance_29 : decode cX5_chance 29 = .ok (.goto 5, 3) := dk_167 0 5 (dk_at dksX5_chance_1 5 rfl rfl)
theorem dX5_chance_32 : decode cX5_chance 32 = .ok (.bipush (-2), 2) := dk_16 254 (dk_at dksX5_chance_1 8 rfl rfl)
theorem dX5_chance_34 : decode cX5_chance 34 = .ok (.ireturn, 1) := dk_172 (dk_at dksX5_chance_1 10 rfl rfl)
abbrev cX5_tries : ByteArray := prog_17_method_126_code
def yX5_tries : MethodName := ⟨RX5, "tries", "(II)I"⟩
def dkwX5_tries_6 : List UInt8 := [29, 172]
abbrev dktX5_tries_6 : List UInt8 := dkwX5_tries_6 ++ []
def dkwX5_tries_5 : List UInt8 := [182, 1, 42, 181, 1, 116, 42, 42, 180, 0, 50, 181, 1, 119, 132, 4, 1, 167, 255, 149, 42, 182, 1, 110]
abbrev dktX5_tries_5 : List UInt8 := dkwX5_tries_5 ++ dktX5_tries_6
def dkwX5_tries_4 : List UInt8 := [180, 0, 50, 42, 180, 1, 116, 42, 180, 1, 119, 184, 1, 122, 157, 0, 6, 167, 0, 19, 42, 42]
abbrev dktX5_tries_4 : List UInt8 := dkwX5_tries_4 ++ dktX5_tries_5
def dkwX5_tries_3 : List UInt8 := [167, 255, 220, 29, 42, 182, 1, 78, 153, 0, 7, 4, 167, 0, 4, 3, 96, 62, 42, 182, 1, 42, 42]
abbrev dktX5_tries_3 : List UInt8 := dkwX5_tries_3 ++ dktX5_tries_4
def dkwX5_tries_2 : List UInt8 := [16, 6, 21, 5, 96, 42, 42, 180, 0, 63, 16, 6, 21, 5, 96, 46, 182, 1, 191, 79, 132, 5, 1]
abbrev dktX5_tries_2 : List UInt8 := dkwX5_tries_2 ++ dktX5_tries_3
def dkwX5_tries_1 : List UInt8 := [54, 4, 21, 4, 28, 162, 0, 107, 3, 54, 5, 21, 5, 42, 182, 0, 98, 162, 0, 33, 42, 180, 0, 9]
abbrev dktX5_tries_1 : List UInt8 := dkwX5_tries_1 ++ dktX5_tries_2
def dkwX5_tries_0 : List UInt8 := [42, 182, 1, 104, 42, 27, 133, 181, 1, 182, 3, 62, 42, 9, 181, 1, 116, 42, 10, 181, 1, 119, 3]
abbrev dktX5_tries_0 : List UInt8 := dkwX5_tries_0 ++ dktX5_tries_1
theorem dksX5_tries_0 : cX5_tries.data.toList.drop 0 = dktX5_tries_0 := by decide +kernel
theorem dksX5_tries_1 : cX5_tries.data.toList.drop 23 = dktX5_tries_1 := dk_seg dksX5_tries_0 23 rfl rfl
theorem dksX5_tries_2 : cX5_tries.data.toList.drop 47 = dktX5_tries_2 := dk_seg dksX5_tries_1 24 rfl rfl
theorem dksX5_tries_3 : cX5_tries.data.toList.drop 70 = dktX5_tries_3 := dk_seg dksX5_tries_2 23 rfl rfl
theorem dksX5_tries_4 : cX5_tries.data.toList.drop 93 = dktX5_tries_4 := dk_seg dksX5_tries_3 23 rfl rfl
theorem dksX5_tries_5 : cX5_tries.data.toList.drop 115 = dktX5_tries_5 := dk_seg dksX5_tries_4 22 rfl rfl
theorem dksX5_tries_6 : cX5_tries.data.toList.drop 139 = dktX5_tries_6 := dk_seg dksX5_tries_5 24 rfl rfl
theorem dX5_tries_0 : decode cX5_tries 0 = .ok (.aload_n 0, 1) := dk_42 (dk_at dksX5_tries_0 0 rfl rfl)
theorem dX5_tries_1 : decode cX5_tries 1 = .ok (.invokevirtual 360, 3) := dk_182 1 104 (dk_at dksX5_tries_0 1 rfl rfl)
theorem dX5_tries_4 : decode cX5_tries 4 = .ok (.aload_n 0, 1) := dk_42 (dk_at dksX5_tries_0 4 rfl rfl)
theorem dX5_tries_5 : decode cX5_tries 5 = .ok (.iload_n 1, 1) := dk_27 (dk_at dksX5_tries_0 5 rfl rfl)
theorem dX5_tries_6 : decode cX5_tries 6 = .ok (.i2l, 1) := dk_133 (dk_at dksX5_tries_0 6 rfl rfl)
theorem dX5_tries_7 : decode cX5_tries 7 = .ok (.putfield 438, 3) := dk_181 1 182 (dk_at dksX5_tries_0 7 rfl rfl)
theorem dX5_tries_10 : decode cX5_tries 10 = .ok (.iconst 0, 1) := dk_3 (dk_at dksX5_tries_0 10 rfl rfl)
theorem dX5_tries_11 : decode cX5_tries 11 = .ok (.istore_n 3, 1) := dk_62 (dk_at dksX5_tries_0 11 rfl rfl)
theorem dX5_tries_12 : decode cX5_tries 12 = .ok (.aload_n 0, 1) := dk_42 (dk_at dksX5_tries_0 12 rfl rfl)
theorem dX5_tries_13 : decode cX5_tries 13 = .ok (.lconst 0, 1) := dk_9 (dk_at dksX5_tries_0 13 rfl rfl)
theorem dX5_tries_14 : decode cX5_tries 14 = .ok (.putfield 372, 3) := dk_181 1 116 (dk_at dksX5_tries_0 14 rfl rfl)
theorem dX5_tries_17 : decode cX5_tries 17 = .ok (.aload_n 0, 1) := dk_42 (dk_at dksX5_tries_0 17 rfl rfl)
theorem dX5_tries_18 : decode cX5_tries 18 = .ok (.lconst 1, 1) := dk_10 (dk_at dksX5_tries_0 18 rfl rfl)
theorem dX5_tries_19 : decode cX5_tries 19 = .ok (.putfield 375, 3) := dk_181 1 119 (dk_at dksX5_tries_0 19 rfl rfl)
theorem dX5_tries_22 : decode cX5_tries 22 = .ok (.iconst 0, 1) := dk_3 (dk_at dksX5_tries_0 22 rfl rfl)
theorem dX5_tries_23 : decode cX5_tries 23 = .ok (.istore 4, 2) := dk_54 4 (dk_at dksX5_tries_1 0 rfl rfl)
theorem dX5_tries_25 : decode cX5_tries 25 = .ok (.iload 4, 2) := dk_21 4 (dk_at dksX5_tries_1 2 rfl rfl)
theorem dX5_tries_27 : decode cX5_tries 27 = .ok (.iload_n 2, 1) := dk_28 (dk_at dksX5_tries_1 4 rfl rfl)
theorem dX5_tries_28 : decode cX5_tries 28 = .ok (.if_icmp .ge 107, 3) := dk_162 0 107 (dk_at dksX5_tries_1 5 rfl rfl)
theorem dX5_tries_31 : decode cX5_tries 31 = .ok (.iconst 0, 1) := dk_3 (dk_at dksX5_tries_1 8 rfl rfl)
theorem dX5_tries_32 : decode cX5_tries 32 = .ok (.istore 5, 2) := dk_54 5 (dk_at dksX5_tries_1 9 rfl rfl)
theorem dX5_tries_34 : decode cX5_tries 34 = .ok (.iload 5, 2) := dk_21 5 (dk_at dksX5_tries_1 11 rfl rfl)
theorem dX5_tries_36 : decode cX5_tries 36 = .ok (.aload_n 0, 1) := dk_42 (dk_at dksX5_tries_1 13 rfl rfl)
theorem dX5_tries_37 : decode cX5_tries 37 = .ok (.invokevirtual 98, 3) := dk_182 0 98 (dk_at dksX5_tries_1 14 rfl rfl)
theorem dX5_tries_40 : decode cX5_tries 40 = .ok (.if_icmp .ge 33, 3) := dk_162 0 33 (dk_at dksX5_tries_1 17 rfl rfl)
theorem dX5_tries_43 : decode cX5_tries 43 = .ok (.aload_n 0, 1) := dk_42 (dk_at dksX5_tries_1 20 rfl rfl)
theorem dX5_tries_44 : decode cX5_tries 44 = .ok (.getfield 9, 3) := dk_180 0 9 (dk_at dksX5_tries_1 21 rfl rfl)
theorem dX5_tries_47 : decode cX5_tries 47 = .ok (.bipush 6, 2) := dk_16 6 (dk_at dksX5_tries_2 0 rfl rfl)
theorem dX5_tries_49 : decode cX5_tries 49 = .ok (.iload 5, 2) := dk_21 5 (dk_at dksX5_tries_2 2 rfl rfl)
theorem dX5_tries_51 : decode cX5_tries 51 = .ok (.iadd, 1) := dk_96 (dk_at dksX5_tries_2 4 rfl rfl)
theorem dX5_tries_52 : decode cX5_tries 52 = .ok (.aload_n 0, 1) := dk_42 (dk_at dksX5_tries_2 5 rfl rfl)
theorem dX5_tries_53 : decode cX5_tries 53 = .ok (.aload_n 0, 1) := dk_42 (dk_at dksX5_tries_2 6 rfl rfl)
theorem dX5_tries_54 : decode cX5_tries 54 = .ok (.getfield 63, 3) := dk_180 0 63 (dk_at dksX5_tries_2 7 rfl rfl)
theorem dX5_tries_57 : decode cX5_tries 57 = .ok (.bipush 6, 2) := dk_16 6 (dk_at dksX5_tries_2 10 rfl rfl)
theorem dX5_tries_59 : decode cX5_tries 59 = .ok (.iload 5, 2) := dk_21 5 (dk_at dksX5_tries_2 12 rfl rfl)
theorem dX5_tries_61 : decode cX5_tries 61 = .ok (.iadd, 1) := dk_96 (dk_at dksX5_tries_2 14 rfl rfl)
theorem dX5_tries_62 : decode cX5_tries 62 = .ok (.iaload, 1) := dk_46 (dk_at dksX5_tries_2 15 rfl rfl)
theorem dX5_tries_63 : decode cX5_tries 63 = .ok (.invokevirtual 447, 3) := dk_182 1 191 (dk_at dksX5_tries_2 16 rfl rfl)
theorem dX5_tries_66 : decode cX5_tries 66 = .ok (.iastore, 1) := dk_79 (dk_at dksX5_tries_2 19 rfl rfl)
theorem dX5_tries_67 : decode cX5_tries 67 = .ok (.iinc 5 1, 3) := dk_132 5 1 (dk_at dksX5_tries_2 20 rfl rfl)
theorem dX5_tries_70 : decode cX5_tries 70 = .ok (.goto (-36), 3) := dk_167 255 220 (dk_at dksX5_tries_3 0 rfl rfl)
theorem dX5_tries_73 : decode cX5_tries 73 = .ok (.iload_n 3, 1) := dk_29 (dk_at dksX5_tries_3 3 rfl rfl)
theorem dX5_tries_74 : decode cX5_tries 74 = .ok (.aload_n 0, 1) := dk_42 (dk_at dksX5_tries_3 4 rfl rfl)
theorem dX5_tries_75 : decode cX5_tries 75 = .ok (.invokevirtual 334, 3) := dk_182 1 78 (dk_at dksX5_tries_3 5 rfl rfl)
theorem dX5_tries_78 : decode cX5_tries 78 = .ok (.ifCond .eq 7, 3) := dk_153 0 7 (dk_at dksX5_tries_3 8 rfl rfl)
theorem dX5_tries_81 : decode cX5_tries 81 = .ok (.iconst 1, 1) := dk_4 (dk_at dksX5_tries_3 11 rfl rfl)
theorem dX5_tries_82 : decode cX5_tries 82 = .ok (.goto 4, 3) := dk_167 0 4 (dk_at dksX5_tries_3 12 rfl rfl)
theorem dX5_tries_85 : decode cX5_tries 85 = .ok (.iconst 0, 1) := dk_3 (dk_at dksX5_tries_3 15 rfl rfl)
theorem dX5_tries_86 : decode cX5_tries 86 = .ok (.iadd, 1) := dk_96 (dk_at dksX5_tries_3 16 rfl rfl)
theorem dX5_tries_87 : decode cX5_tries 87 = .ok (.istore_n 3, 1) := dk_62 (dk_at dksX5_tries_3 17 rfl rfl)
theorem dX5_tries_88 : decode cX5_tries 88 = .ok (.aload_n 0, 1) := dk_42 (dk_at dksX5_tries_3 18 rfl rfl)
theorem dX5_tries_89 : decode cX5_tries 89 = .ok (.invokevirtual 298, 3) := dk_182 1 42 (dk_at dksX5_tries_3 19 rfl rfl)
theorem dX5_tries_92 : decode cX5_tries 92 = .ok (.aload_n 0, 1) := dk_42 (dk_at dksX5_tries_3 22 rfl rfl)
theorem dX5_tries_93 : decode cX5_tries 93 = .ok (.getfield 50, 3) := dk_180 0 50 (dk_at dksX5_tries_4 0 rfl rfl)
theorem dX5_tries_96 : decode cX5_tries 96 = .ok (.aload_n 0, 1) := dk_42 (dk_at dksX5_tries_4 3 rfl rfl)
theorem dX5_tries_97 : decode cX5_tries 97 = .ok (.getfield 372, 3) := dk_180 1 116 (dk_at dksX5_tries_4 4 rfl rfl)
theorem dX5_tries_100 : decode cX5_tries 100 = .ok (.aload_n 0, 1) := dk_42 (dk_at dksX5_tries_4 7 rfl rfl)
theorem dX5_tries_101 : decode cX5_tries 101 = .ok (.getfield 375, 3) := dk_180 1 119 (dk_at dksX5_tries_4 8 rfl rfl)
theorem dX5_tries_104 : decode cX5_tries 104 = .ok (.invokestatic 378, 3) := dk_184 1 122 (dk_at dksX5_tries_4 11 rfl rfl)
theorem dX5_tries_107 : decode cX5_tries 107 = .ok (.ifCond .gt 6, 3) := dk_157 0 6 (dk_at dksX5_tries_4 14 rfl rfl)
theorem dX5_tries_110 : decode cX5_tries 110 = .ok (.goto 19, 3) := dk_167 0 19 (dk_at dksX5_tries_4 17 rfl rfl)
theorem dX5_tries_113 : decode cX5_tries 113 = .ok (.aload_n 0, 1) := dk_42 (dk_at dksX5_tries_4 20 rfl rfl)
theorem dX5_tries_114 : decode cX5_tries 114 = .ok (.aload_n 0, 1) := dk_42 (dk_at dksX5_tries_4 21 rfl rfl)
theorem dX5_tries_115 : decode cX5_tries 115 = .ok (.invokevirtual 298, 3) := dk_182 1 42 (dk_at dksX5_tries_5 0 rfl rfl)
theorem dX5_tries_118 : decode cX5_tries 118 = .ok (.putfield 372, 3) := dk_181 1 116 (dk_at dksX5_tries_5 3 rfl rfl)
theorem dX5_tries_121 : decode cX5_tries 121 = .ok (.aload_n 0, 1) := dk_42 (dk_at dksX5_tries_5 6 rfl rfl)
theorem dX5_tries_122 : decode cX5_tries 122 = .ok (.aload_n 0, 1) := dk_42 (dk_at dksX5_tries_5 7 rfl rfl)
theorem dX5_tries_123 : decode cX5_tries 123 = .ok (.getfield 50, 3) := dk_180 0 50 (dk_at dksX5_tries_5 8 rfl rfl)
theorem dX5_tries_126 : decode cX5_tries 126 = .ok (.putfield 375, 3) := dk_181 1 119 (dk_at dksX5_tries_5 11 rfl rfl)
theorem dX5_tries_129 : decode cX5_tries 129 = .ok (.iinc 4 1, 3) := dk_132 4 1 (dk_at dksX5_tries_5 14 rfl rfl)
theorem dX5_tries_132 : decode cX5_tries 132 = .ok (.goto (-107), 3) := dk_167 255 149 (dk_at dksX5_tries_5 17 rfl rfl)
theorem dX5_tries_135 : decode cX5_tries 135 = .ok (.aload_n 0, 1) := dk_42 (dk_at dksX5_tries_5 20 rfl rfl)
theorem dX5_tries_136 : decode cX5_tries 136 = .ok (.invokevirtual 366, 3) := dk_182 1 110 (dk_at dksX5_tries_5 21 rfl rfl)
theorem dX5_tries_139 : decode cX5_tries 139 = .ok (.iload_n 3, 1) := dk_29 (dk_at dksX5_tries_6 0 rfl rfl)
theorem dX5_tries_140 : decode cX5_tries 140 = .ok (.ireturn, 1) := dk_172 (dk_at dksX5_tries_6 1 rfl rfl)
abbrev cX5_draws1 : ByteArray := prog_17_method_125_code
def yX5_draws1 : MethodName := ⟨RX5, "draws1", "(I)I"⟩
def dkwX5_draws1_1 : List UInt8 := [20, 1, 189, 109, 27, 4, 96, 133, 113, 136, 172]
abbrev dktX5_draws1_1 : List UInt8 := dkwX5_draws1_1 ++ []
def dkwX5_draws1_0 : List UInt8 := [42, 20, 1, 180, 42, 180, 1, 182, 105, 20, 1, 185, 97, 20, 1, 187, 113, 181, 1, 182, 42, 180, 1, 182]
abbrev dktX5_draws1_0 : List UInt8 := dkwX5_draws1_0 ++ dktX5_draws1_1
theorem dksX5_draws1_0 : cX5_draws1.data.toList.drop 0 = dktX5_draws1_0 := by decide +kernel
theorem dksX5_draws1_1 : cX5_draws1.data.toList.drop 24 = dktX5_draws1_1 := dk_seg dksX5_draws1_0 24 rfl rfl
theorem dX5_draws1_0 : decode cX5_draws1 0 = .ok (.aload_n 0, 1) := dk_42 (dk_at dksX5_draws1_0 0 rfl rfl)
theorem dX5_draws1_1 : decode cX5_draws1 1 = .ok (.ldc2_w 436, 3) := dk_20 1 180 (dk_at dksX5_draws1_0 1 rfl rfl)
theorem dX5_draws1_4 : decode cX5_draws1 4 = .ok (.aload_n 0, 1) := dk_42 (dk_at dksX5_draws1_0 4 rfl rfl)
theorem dX5_draws1_5 : decode cX5_draws1 5 = .ok (.getfield 438, 3) := dk_180 1 182 (dk_at dksX5_draws1_0 5 rfl rfl)
theorem dX5_draws1_8 : decode cX5_draws1 8 = .ok (.lmul, 1) := dk_105 (dk_at dksX5_draws1_0 8 rfl rfl)
theorem dX5_draws1_9 : decode cX5_draws1 9 = .ok (.ldc2_w 441, 3) := dk_20 1 185 (dk_at dksX5_draws1_0 9 rfl rfl)
theorem dX5_draws1_12 : decode cX5_draws1 12 = .ok (.ladd, 1) := dk_97 (dk_at dksX5_draws1_0 12 rfl rfl)
theorem dX5_draws1_13 : decode cX5_draws1 13 = .ok (.ldc2_w 443, 3) := dk_20 1 187 (dk_at dksX5_draws1_0 13 rfl rfl)
theorem dX5_draws1_16 : decode cX5_draws1 16 = .ok (.lrem, 1) := dk_113 (dk_at dksX5_draws1_0 16 rfl rfl)
theorem dX5_draws1_17 : decode cX5_draws1 17 = .ok (.putfield 438, 3) := dk_181 1 182 (dk_at dksX5_draws1_0 17 rfl rfl)
theorem dX5_draws1_20 : decode cX5_draws1 20 = .ok (.aload_n 0, 1) := dk_42 (dk_at dksX5_draws1_0 20 rfl rfl)
theorem dX5_draws1_21 : decode cX5_draws1 21 = .ok (.getfield 438, 3) := dk_180 1 182 (dk_at dksX5_draws1_0 21 rfl rfl)
theorem dX5_draws1_24 : decode cX5_draws1 24 = .ok (.ldc2_w 445, 3) := dk_20 1 189 (dk_at dksX5_draws1_1 0 rfl rfl)
theorem dX5_draws1_27 : decode cX5_draws1 27 = .ok (.ldiv, 1) := dk_109 (dk_at dksX5_draws1_1 3 rfl rfl)
theorem dX5_draws1_28 : decode cX5_draws1 28 = .ok (.iload_n 1, 1) := dk_27 (dk_at dksX5_draws1_1 4 rfl rfl)
theorem dX5_draws1_29 : decode cX5_draws1 29 = .ok (.iconst 1, 1) := dk_4 (dk_at dksX5_draws1_1 5 rfl rfl)
theorem dX5_draws1_30 : decode cX5_draws1 30 = .ok (.iadd, 1) := dk_96 (dk_at dksX5_draws1_1 6 rfl rfl)
theorem dX5_draws1_31 : decode cX5_draws1 31 = .ok (.i2l, 1) := dk_133 (dk_at dksX5_draws1_1 7 rfl rfl)
theorem dX5_draws1_32 : decode cX5_draws1 32 = .ok (.lrem, 1) := dk_113 (dk_at dksX5_draws1_1 8 rfl rfl)
theorem dX5_draws1_33 : decode cX5_draws1 33 = .ok (.l2i, 1) := dk_136 (dk_at dksX5_draws1_1 9 rfl rfl)
theorem dX5_draws1_34 : decode cX5_draws1 34 = .ok (.ireturn, 1) := dk_172 (dk_at dksX5_draws1_1 10 rfl rfl)
abbrev cX5_luck : ByteArray := prog_17_method_128_code
def yX5_luck : MethodName := ⟨RX5, "luck", "(III)J"⟩
def dkwX5_luck_2 : List UInt8 := [180, 1, 119, 29, 184, 1, 64, 173]
abbrev dktX5_luck_2 : List UInt8 := dkwX5_luck_2 ++ []
def dkwX5_luck_1 : List UInt8 := [184, 1, 57, 154, 0, 7, 20, 1, 60, 173, 42, 27, 28, 182, 1, 194, 87, 42, 180, 1, 116, 42]
abbrev dktX5_luck_1 : List UInt8 := dkwX5_luck_1 ++ dktX5_luck_2
def dkwX5_luck_0 : List UInt8 := [42, 182, 0, 109, 153, 0, 26, 27, 155, 0, 22, 28, 133, 10, 20, 1, 102, 184, 0, 87, 153, 0, 10, 29]
abbrev dktX5_luck_0 : List UInt8 := dkwX5_luck_0 ++ dktX5_luck_1
theorem dksX5_luck_0 : cX5_luck.data.toList.drop 0 = dktX5_luck_0 := by decide +kernel
theorem dksX5_luck_1 : cX5_luck.data.toList.drop 24 = dktX5_luck_1 := dk_seg dksX5_luck_0 24 rfl rfl
theorem dksX5_luck_2 : cX5_luck.data.toList.drop 46 = dktX5_luck_2 := dk_seg dksX5_luck_1 22 rfl rfl
theorem dX5_luck_0 : decode cX5_luck 0 = .ok (.aload_n 0, 1) := dk_42 (dk_at dksX5_luck_0 0 rfl rfl)
theorem dX5_luck_1 : decode cX5_luck 1 = .ok (.invokevirtual 109, 3) := dk_182 0 109 (dk_at dksX5_luck_0 1 rfl rfl)
theorem dX5_luck_4 : decode cX5_luck 4 = .ok (.ifCond .eq 26, 3) := dk_153 0 26 (dk_at dksX5_luck_0 4 rfl rfl)
theorem dX5_luck_7 : decode cX5_luck 7 = .ok (.iload_n 1, 1) := dk_27 (dk_at dksX5_luck_0 7 rfl rfl)
theorem dX5_luck_8 : decode cX5_luck 8 = .ok (.ifCond .lt 22, 3) := dk_155 0 22 (dk_at dksX5_luck_0 8 rfl rfl)
theorem dX5_luck_11 : decode cX5_luck 11 = .ok (.iload_n 2, 1) := dk_28 (dk_at dksX5_luck_0 11 rfl rfl)
theorem dX5_luck_12 : decode cX5_luck 12 = .ok (.i2l, 1) := dk_133 (dk_at dksX5_luck_0 12 rfl rfl)
theorem dX5_luck_13 : decode cX5_luck 13 = .ok (.lconst 1, 1) := dk_10 (dk_at dksX5_luck_0 13 rfl rfl)
theorem dX5_luck_14 : decode cX5_luck 14 = .ok (.ldc2_w 358, 3) := dk_20 1 102 (dk_at dksX5_luck_0 14 rfl rfl)
theorem dX5_luck_17 : decode cX5_luck 17 = .ok (.invokestatic 87, 3) := dk_184 0 87 (dk_at dksX5_luck_0 17 rfl rfl)
theorem dX5_luck_20 : decode cX5_luck 20 = .ok (.ifCond .eq 10, 3) := dk_153 0 10 (dk_at dksX5_luck_0 20 rfl rfl)
theorem dX5_luck_23 : decode cX5_luck 23 = .ok (.iload_n 3, 1) := dk_29 (dk_at dksX5_luck_0 23 rfl rfl)
theorem dX5_luck_24 : decode cX5_luck 24 = .ok (.invokestatic 313, 3) := dk_184 1 57 (dk_at dksX5_luck_1 0 rfl rfl)
theorem dX5_luck_27 : decode cX5_luck 27 = .ok (.ifCond .ne 7, 3) := dk_154 0 7 (dk_at dksX5_luck_1 3 rfl rfl)
theorem dX5_luck_30 : decode cX5_luck 30 = .ok (.ldc2_w 316, 3) := dk_20 1 60 (dk_at dksX5_luck_1 6 rfl rfl)
theorem dX5_luck_33 : decode cX5_luck 33 = .ok (.lreturn, 1) := dk_173 (dk_at dksX5_luck_1 9 rfl rfl)
theorem dX5_luck_34 : decode cX5_luck 34 = .ok (.aload_n 0, 1) := dk_42 (dk_at dksX5_luck_1 10 rfl rfl)
theorem dX5_luck_35 : decode cX5_luck 35 = .ok (.iload_n 1, 1) := dk_27 (dk_at dksX5_luck_1 11 rfl rfl)
theorem dX5_luck_36 : decode cX5_luck 36 = .ok (.iload_n 2, 1) := dk_28 (dk_at dksX5_luck_1 12 rfl rfl)
theorem dX5_luck_37 : decode cX5_luck 37 = .ok (.invokevirtual 450, 3) := dk_182 1 194 (dk_at dksX5_luck_1 13 rfl rfl)
theorem dX5_luck_40 : decode cX5_luck 40 = .ok (.pop, 1) := dk_87 (dk_at dksX5_luck_1 16 rfl rfl)
theorem dX5_luck_41 : decode cX5_luck 41 = .ok (.aload_n 0, 1) := dk_42 (dk_at dksX5_luck_1 17 rfl rfl)
theorem dX5_luck_42 : decode cX5_luck 42 = .ok (.getfield 372, 3) := dk_180 1 116 (dk_at dksX5_luck_1 18 rfl rfl)
theorem dX5_luck_45 : decode cX5_luck 45 = .ok (.aload_n 0, 1) := dk_42 (dk_at dksX5_luck_1 21 rfl rfl)
theorem dX5_luck_46 : decode cX5_luck 46 = .ok (.getfield 375, 3) := dk_180 1 119 (dk_at dksX5_luck_2 0 rfl rfl)
theorem dX5_luck_49 : decode cX5_luck 49 = .ok (.iload_n 3, 1) := dk_29 (dk_at dksX5_luck_2 3 rfl rfl)
theorem dX5_luck_50 : decode cX5_luck 50 = .ok (.invokestatic 320, 3) := dk_184 1 64 (dk_at dksX5_luck_2 4 rfl rfl)
theorem dX5_luck_53 : decode cX5_luck 53 = .ok (.lreturn, 1) := dk_173 (dk_at dksX5_luck_2 7 rfl rfl)
abbrev cX5_without : ByteArray := prog_17_method_129_code
def yX5_without : MethodName := ⟨RX5, "without", "(II)J"⟩
def dkwX5_without_2 : List UInt8 := [42, 180, 0, 50, 28, 184, 1, 64, 55, 4, 42, 180, 0, 9, 16, 28, 27, 96, 29, 79, 22, 4, 173]
abbrev dktX5_without_2 : List UInt8 := dkwX5_without_2 ++ []
def dkwX5_without_1 : List UInt8 := [16, 28, 27, 96, 46, 62, 42, 180, 0, 9, 16, 28, 27, 96, 3, 79, 42, 182, 1, 36, 42, 182, 1, 42]
abbrev dktX5_without_1 : List UInt8 := dkwX5_without_1 ++ dktX5_without_2
def dkwX5_without_0 : List UInt8 := [42, 27, 182, 1, 49, 153, 0, 10, 28, 184, 1, 57, 154, 0, 7, 20, 1, 60, 173, 42, 180, 0, 9]
abbrev dktX5_without_0 : List UInt8 := dkwX5_without_0 ++ dktX5_without_1
theorem dksX5_without_0 : cX5_without.data.toList.drop 0 = dktX5_without_0 := by decide +kernel
theorem dksX5_without_1 : cX5_without.data.toList.drop 23 = dktX5_without_1 := dk_seg dksX5_without_0 23 rfl rfl
theorem dksX5_without_2 : cX5_without.data.toList.drop 47 = dktX5_without_2 := dk_seg dksX5_without_1 24 rfl rfl
theorem dX5_without_0 : decode cX5_without 0 = .ok (.aload_n 0, 1) := dk_42 (dk_at dksX5_without_0 0 rfl rfl)
theorem dX5_without_1 : decode cX5_without 1 = .ok (.iload_n 1, 1) := dk_27 (dk_at dksX5_without_0 1 rfl rfl)
theorem dX5_without_2 : decode cX5_without 2 = .ok (.invokevirtual 305, 3) := dk_182 1 49 (dk_at dksX5_without_0 2 rfl rfl)
theorem dX5_without_5 : decode cX5_without 5 = .ok (.ifCond .eq 10, 3) := dk_153 0 10 (dk_at dksX5_without_0 5 rfl rfl)
theorem dX5_without_8 : decode cX5_without 8 = .ok (.iload_n 2, 1) := dk_28 (dk_at dksX5_without_0 8 rfl rfl)
theorem dX5_without_9 : decode cX5_without 9 = .ok (.invokestatic 313, 3) := dk_184 1 57 (dk_at dksX5_without_0 9 rfl rfl)
theorem dX5_without_12 : decode cX5_without 12 = .ok (.ifCond .ne 7, 3) := dk_154 0 7 (dk_at dksX5_without_0 12 rfl rfl)
theorem dX5_without_15 : decode cX5_without 15 = .ok (.ldc2_w 316, 3) := dk_20 1 60 (dk_at dksX5_without_0 15 rfl rfl)
theorem dX5_without_18 : decode cX5_without 18 = .ok (.lreturn, 1) := dk_173 (dk_at dksX5_without_0 18 rfl rfl)
theorem dX5_without_19 : decode cX5_without 19 = .ok (.aload_n 0, 1) := dk_42 (dk_at dksX5_without_0 19 rfl rfl)
theorem dX5_without_20 : decode cX5_without 20 = .ok (.getfield 9, 3) := dk_180 0 9 (dk_at dksX5_without_0 20 rfl rfl)
theorem dX5_without_23 : decode cX5_without 23 = .ok (.bipush 28, 2) := dk_16 28 (dk_at dksX5_without_1 0 rfl rfl)
theorem dX5_without_25 : decode cX5_without 25 = .ok (.iload_n 1, 1) := dk_27 (dk_at dksX5_without_1 2 rfl rfl)
theorem dX5_without_26 : decode cX5_without 26 = .ok (.iadd, 1) := dk_96 (dk_at dksX5_without_1 3 rfl rfl)
theorem dX5_without_27 : decode cX5_without 27 = .ok (.iaload, 1) := dk_46 (dk_at dksX5_without_1 4 rfl rfl)
theorem dX5_without_28 : decode cX5_without 28 = .ok (.istore_n 3, 1) := dk_62 (dk_at dksX5_without_1 5 rfl rfl)
theorem dX5_without_29 : decode cX5_without 29 = .ok (.aload_n 0, 1) := dk_42 (dk_at dksX5_without_1 6 rfl rfl)
theorem dX5_without_30 : decode cX5_without 30 = .ok (.getfield 9, 3) := dk_180 0 9 (dk_at dksX5_without_1 7 rfl rfl)
theorem dX5_without_33 : decode cX5_without 33 = .ok (.bipush 28, 2) := dk_16 28 (dk_at dksX5_without_1 10 rfl rfl)
theorem dX5_without_35 : decode cX5_without 35 = .ok (.iload_n 1, 1) := dk_27 (dk_at dksX5_without_1 12 rfl rfl)
theorem dX5_without_36 : decode cX5_without 36 = .ok (.iadd, 1) := dk_96 (dk_at dksX5_without_1 13 rfl rfl)
theorem dX5_without_37 : decode cX5_without 37 = .ok (.iconst 0, 1) := dk_3 (dk_at dksX5_without_1 14 rfl rfl)
theorem dX5_without_38 : decode cX5_without 38 = .ok (.iastore, 1) := dk_79 (dk_at dksX5_without_1 15 rfl rfl)
theorem dX5_without_39 : decode cX5_without 39 = .ok (.aload_n 0, 1) := dk_42 (dk_at dksX5_without_1 16 rfl rfl)
theorem dX5_without_40 : decode cX5_without 40 = .ok (.invokevirtual 292, 3) := dk_182 1 36 (dk_at dksX5_without_1 17 rfl rfl)
theorem dX5_without_43 : decode cX5_without 43 = .ok (.aload_n 0, 1) := dk_42 (dk_at dksX5_without_1 20 rfl rfl)
theorem dX5_without_44 : decode cX5_without 44 = .ok (.invokevirtual 298, 3) := dk_182 1 42 (dk_at dksX5_without_1 21 rfl rfl)
theorem dX5_without_47 : decode cX5_without 47 = .ok (.aload_n 0, 1) := dk_42 (dk_at dksX5_without_2 0 rfl rfl)
theorem dX5_without_48 : decode cX5_without 48 = .ok (.getfield 50, 3) := dk_180 0 50 (dk_at dksX5_without_2 1 rfl rfl)
theorem dX5_without_51 : decode cX5_without 51 = .ok (.iload_n 2, 1) := dk_28 (dk_at dksX5_without_2 4 rfl rfl)
theorem dX5_without_52 : decode cX5_without 52 = .ok (.invokestatic 320, 3) := dk_184 1 64 (dk_at dksX5_without_2 5 rfl rfl)
theorem dX5_without_55 : decode cX5_without 55 = .ok (.lstore 4, 2) := dk_55 4 (dk_at dksX5_without_2 8 rfl rfl)
theorem dX5_without_57 : decode cX5_without 57 = .ok (.aload_n 0, 1) := dk_42 (dk_at dksX5_without_2 10 rfl rfl)
theorem dX5_without_58 : decode cX5_without 58 = .ok (.getfield 9, 3) := dk_180 0 9 (dk_at dksX5_without_2 11 rfl rfl)
theorem dX5_without_61 : decode cX5_without 61 = .ok (.bipush 28, 2) := dk_16 28 (dk_at dksX5_without_2 14 rfl rfl)
theorem dX5_without_63 : decode cX5_without 63 = .ok (.iload_n 1, 1) := dk_27 (dk_at dksX5_without_2 16 rfl rfl)
theorem dX5_without_64 : decode cX5_without 64 = .ok (.iadd, 1) := dk_96 (dk_at dksX5_without_2 17 rfl rfl)
theorem dX5_without_65 : decode cX5_without 65 = .ok (.iload_n 3, 1) := dk_29 (dk_at dksX5_without_2 18 rfl rfl)
theorem dX5_without_66 : decode cX5_without 66 = .ok (.iastore, 1) := dk_79 (dk_at dksX5_without_2 19 rfl rfl)
theorem dX5_without_67 : decode cX5_without 67 = .ok (.lload 4, 2) := dk_22 4 (dk_at dksX5_without_2 20 rfl rfl)
theorem dX5_without_69 : decode cX5_without 69 = .ok (.lreturn, 1) := dk_173 (dk_at dksX5_without_2 22 rfl rfl)
abbrev cX5_lost : ByteArray := prog_17_method_130_code
def yX5_lost : MethodName := ⟨RX5, "lost", "(I)I"⟩
def dkwX5_lost_2 : List UInt8 := [180, 1, 10, 172]
abbrev dktX5_lost_2 : List UInt8 := dkwX5_lost_2 ++ []
def dkwX5_lost_1 : List UInt8 := [180, 0, 9, 16, 28, 27, 96, 3, 79, 42, 182, 1, 36, 42, 180, 0, 9, 16, 28, 27, 96, 28, 79, 42]
abbrev dktX5_lost_1 : List UInt8 := dkwX5_lost_1 ++ dktX5_lost_2
def dkwX5_lost_0 : List UInt8 := [42, 27, 182, 1, 49, 154, 0, 6, 16, 254, 172, 42, 180, 0, 9, 16, 28, 27, 96, 46, 61, 42]
abbrev dktX5_lost_0 : List UInt8 := dkwX5_lost_0 ++ dktX5_lost_1
theorem dksX5_lost_0 : cX5_lost.data.toList.drop 0 = dktX5_lost_0 := by decide +kernel
theorem dksX5_lost_1 : cX5_lost.data.toList.drop 22 = dktX5_lost_1 := dk_seg dksX5_lost_0 22 rfl rfl
theorem dksX5_lost_2 : cX5_lost.data.toList.drop 46 = dktX5_lost_2 := dk_seg dksX5_lost_1 24 rfl rfl
theorem dX5_lost_0 : decode cX5_lost 0 = .ok (.aload_n 0, 1) := dk_42 (dk_at dksX5_lost_0 0 rfl rfl)
theorem dX5_lost_1 : decode cX5_lost 1 = .ok (.iload_n 1, 1) := dk_27 (dk_at dksX5_lost_0 1 rfl rfl)
theorem dX5_lost_2 : decode cX5_lost 2 = .ok (.invokevirtual 305, 3) := dk_182 1 49 (dk_at dksX5_lost_0 2 rfl rfl)
theorem dX5_lost_5 : decode cX5_lost 5 = .ok (.ifCond .ne 6, 3) := dk_154 0 6 (dk_at dksX5_lost_0 5 rfl rfl)
theorem dX5_lost_8 : decode cX5_lost 8 = .ok (.bipush (-2), 2) := dk_16 254 (dk_at dksX5_lost_0 8 rfl rfl)
theorem dX5_lost_10 : decode cX5_lost 10 = .ok (.ireturn, 1) := dk_172 (dk_at dksX5_lost_0 10 rfl rfl)
theorem dX5_lost_11 : decode cX5_lost 11 = .ok (.aload_n 0, 1) := dk_42 (dk_at dksX5_lost_0 11 rfl rfl)
theorem dX5_lost_12 : decode cX5_lost 12 = .ok (.getfield 9, 3) := dk_180 0 9 (dk_at dksX5_lost_0 12 rfl rfl)
theorem dX5_lost_15 : decode cX5_lost 15 = .ok (.bipush 28, 2) := dk_16 28 (dk_at dksX5_lost_0 15 rfl rfl)
theorem dX5_lost_17 : decode cX5_lost 17 = .ok (.iload_n 1, 1) := dk_27 (dk_at dksX5_lost_0 17 rfl rfl)
theorem dX5_lost_18 : decode cX5_lost 18 = .ok (.iadd, 1) := dk_96 (dk_at dksX5_lost_0 18 rfl rfl)
theorem dX5_lost_19 : decode cX5_lost 19 = .ok (.iaload, 1) := dk_46 (dk_at dksX5_lost_0 19 rfl rfl)
theorem dX5_lost_20 : decode cX5_lost 20 = .ok (.istore_n 2, 1) := dk_61 (dk_at dksX5_lost_0 20 rfl rfl)
theorem dX5_lost_21 : decode cX5_lost 21 = .ok (.aload_n 0, 1) := dk_42 (dk_at dksX5_lost_0 21 rfl rfl)
theorem dX5_lost_22 : decode cX5_lost 22 = .ok (.getfield 9, 3) := dk_180 0 9 (dk_at dksX5_lost_1 0 rfl rfl)
theorem dX5_lost_25 : decode cX5_lost 25 = .ok (.bipush 28, 2) := dk_16 28 (dk_at dksX5_lost_1 3 rfl rfl)
theorem dX5_lost_27 : decode cX5_lost 27 = .ok (.iload_n 1, 1) := dk_27 (dk_at dksX5_lost_1 5 rfl rfl)
theorem dX5_lost_28 : decode cX5_lost 28 = .ok (.iadd, 1) := dk_96 (dk_at dksX5_lost_1 6 rfl rfl)
theorem dX5_lost_29 : decode cX5_lost 29 = .ok (.iconst 0, 1) := dk_3 (dk_at dksX5_lost_1 7 rfl rfl)
theorem dX5_lost_30 : decode cX5_lost 30 = .ok (.iastore, 1) := dk_79 (dk_at dksX5_lost_1 8 rfl rfl)
theorem dX5_lost_31 : decode cX5_lost 31 = .ok (.aload_n 0, 1) := dk_42 (dk_at dksX5_lost_1 9 rfl rfl)
theorem dX5_lost_32 : decode cX5_lost 32 = .ok (.invokevirtual 292, 3) := dk_182 1 36 (dk_at dksX5_lost_1 10 rfl rfl)
theorem dX5_lost_35 : decode cX5_lost 35 = .ok (.aload_n 0, 1) := dk_42 (dk_at dksX5_lost_1 13 rfl rfl)
theorem dX5_lost_36 : decode cX5_lost 36 = .ok (.getfield 9, 3) := dk_180 0 9 (dk_at dksX5_lost_1 14 rfl rfl)
theorem dX5_lost_39 : decode cX5_lost 39 = .ok (.bipush 28, 2) := dk_16 28 (dk_at dksX5_lost_1 17 rfl rfl)
theorem dX5_lost_41 : decode cX5_lost 41 = .ok (.iload_n 1, 1) := dk_27 (dk_at dksX5_lost_1 19 rfl rfl)
theorem dX5_lost_42 : decode cX5_lost 42 = .ok (.iadd, 1) := dk_96 (dk_at dksX5_lost_1 20 rfl rfl)
theorem dX5_lost_43 : decode cX5_lost 43 = .ok (.iload_n 2, 1) := dk_28 (dk_at dksX5_lost_1 21 rfl rfl)
theorem dX5_lost_44 : decode cX5_lost 44 = .ok (.iastore, 1) := dk_79 (dk_at dksX5_lost_1 22 rfl rfl)
theorem dX5_lost_45 : decode cX5_lost 45 = .ok (.aload_n 0, 1) := dk_42 (dk_at dksX5_lost_1 23 rfl rfl)
theorem dX5_lost_46 : decode cX5_lost 46 = .ok (.getfield 266, 3) := dk_180 1 10 (dk_at dksX5_lost_2 0 rfl rfl)
theorem dX5_lost_49 : decode cX5_lost 49 = .ok (.ireturn, 1) := dk_172 (dk_at dksX5_lost_2 3 rfl rfl)
abbrev cX5_vital : ByteArray := prog_17_method_131_code
def yX5_vital : MethodName := ⟨RX5, "vital", "()I"⟩
def dkwX5_vital_3 : List UInt8 := [182, 1, 126, 42, 180, 0, 9, 16, 28, 28, 96, 29, 79, 132, 2, 1, 167, 255, 198, 27, 172]
abbrev dktX5_vital_3 : List UInt8 := dkwX5_vital_3 ++ []
def dkwX5_vital_2 : List UInt8 := [180, 0, 9, 16, 28, 28, 96, 3, 79, 29, 158, 0, 16, 42, 182, 1, 132, 158, 0, 9, 28, 60, 42]
abbrev dktX5_vital_2 : List UInt8 := dkwX5_vital_2 ++ dktX5_vital_3
def dkwX5_vital_1 : List UInt8 := [181, 1, 119, 3, 61, 28, 42, 182, 0, 116, 162, 0, 56, 42, 180, 0, 9, 16, 28, 28, 96, 46, 62, 42]
abbrev dktX5_vital_1 : List UInt8 := dkwX5_vital_1 ++ dktX5_vital_2
def dkwX5_vital_0 : List UInt8 := [42, 182, 0, 109, 154, 0, 6, 16, 254, 172, 2, 60, 42, 2, 181, 1, 113, 42, 9, 181, 1, 116, 42, 10]
abbrev dktX5_vital_0 : List UInt8 := dkwX5_vital_0 ++ dktX5_vital_1
theorem dksX5_vital_0 : cX5_vital.data.toList.drop 0 = dktX5_vital_0 := by decide +kernel
theorem dksX5_vital_1 : cX5_vital.data.toList.drop 24 = dktX5_vital_1 := dk_seg dksX5_vital_0 24 rfl rfl
theorem dksX5_vital_2 : cX5_vital.data.toList.drop 48 = dktX5_vital_2 := dk_seg dksX5_vital_1 24 rfl rfl
theorem dksX5_vital_3 : cX5_vital.data.toList.drop 71 = dktX5_vital_3 := dk_seg dksX5_vital_2 23 rfl rfl
theorem dX5_vital_0 : decode cX5_vital 0 = .ok (.aload_n 0, 1) := dk_42 (dk_at dksX5_vital_0 0 rfl rfl)
theorem dX5_vital_1 : decode cX5_vital 1 = .ok (.invokevirtual 109, 3) := dk_182 0 109 (dk_at dksX5_vital_0 1 rfl rfl)
theorem dX5_vital_4 : decode cX5_vital 4 = .ok (.ifCond .ne 6, 3) := dk_154 0 6 (dk_at dksX5_vital_0 4 rfl rfl)
theorem dX5_vital_7 : decode cX5_vital 7 = .ok (.bipush (-2), 2) := dk_16 254 (dk_at dksX5_vital_0 7 rfl rfl)
theorem dX5_vital_9 : decode cX5_vital 9 = .ok (.ireturn, 1) := dk_172 (dk_at dksX5_vital_0 9 rfl rfl)
theorem dX5_vital_10 : decode cX5_vital 10 = .ok (.iconst (-1), 1) := dk_2 (dk_at dksX5_vital_0 10 rfl rfl)
theorem dX5_vital_11 : decode cX5_vital 11 = .ok (.istore_n 1, 1) := dk_60 (dk_at dksX5_vital_0 11 rfl rfl)
theorem dX5_vital_12 : decode cX5_vital 12 = .ok (.aload_n 0, 1) := dk_42 (dk_at dksX5_vital_0 12 rfl rfl)
theorem dX5_vital_13 : decode cX5_vital 13 = .ok (.iconst (-1), 1) := dk_2 (dk_at dksX5_vital_0 13 rfl rfl)
theorem dX5_vital_14 : decode cX5_vital 14 = .ok (.putfield 369, 3) := dk_181 1 113 (dk_at dksX5_vital_0 14 rfl rfl)
theorem dX5_vital_17 : decode cX5_vital 17 = .ok (.aload_n 0, 1) := dk_42 (dk_at dksX5_vital_0 17 rfl rfl)
theorem dX5_vital_18 : decode cX5_vital 18 = .ok (.lconst 0, 1) := dk_9 (dk_at dksX5_vital_0 18 rfl rfl)
theorem dX5_vital_19 : decode cX5_vital 19 = .ok (.putfield 372, 3) := dk_181 1 116 (dk_at dksX5_vital_0 19 rfl rfl)
theorem dX5_vital_22 : decode cX5_vital 22 = .ok (.aload_n 0, 1) := dk_42 (dk_at dksX5_vital_0 22 rfl rfl)
theorem dX5_vital_23 : decode cX5_vital 23 = .ok (.lconst 1, 1) := dk_10 (dk_at dksX5_vital_0 23 rfl rfl)
theorem dX5_vital_24 : decode cX5_vital 24 = .ok (.putfield 375, 3) := dk_181 1 119 (dk_at dksX5_vital_1 0 rfl rfl)
theorem dX5_vital_27 : decode cX5_vital 27 = .ok (.iconst 0, 1) := dk_3 (dk_at dksX5_vital_1 3 rfl rfl)
theorem dX5_vital_28 : decode cX5_vital 28 = .ok (.istore_n 2, 1) := dk_61 (dk_at dksX5_vital_1 4 rfl rfl)
theorem dX5_vital_29 : decode cX5_vital 29 = .ok (.iload_n 2, 1) := dk_28 (dk_at dksX5_vital_1 5 rfl rfl)
theorem dX5_vital_30 : decode cX5_vital 30 = .ok (.aload_n 0, 1) := dk_42 (dk_at dksX5_vital_1 6 rfl rfl)
theorem dX5_vital_31 : decode cX5_vital 31 = .ok (.invokevirtual 116, 3) := dk_182 0 116 (dk_at dksX5_vital_1 7 rfl rfl)
theorem dX5_vital_34 : decode cX5_vital 34 = .ok (.if_icmp .ge 56, 3) := dk_162 0 56 (dk_at dksX5_vital_1 10 rfl rfl)
theorem dX5_vital_37 : decode cX5_vital 37 = .ok (.aload_n 0, 1) := dk_42 (dk_at dksX5_vital_1 13 rfl rfl)
theorem dX5_vital_38 : decode cX5_vital 38 = .ok (.getfield 9, 3) := dk_180 0 9 (dk_at dksX5_vital_1 14 rfl rfl)
theorem dX5_vital_41 : decode cX5_vital 41 = .ok (.bipush 28, 2) := dk_16 28 (dk_at dksX5_vital_1 17 rfl rfl)
theorem dX5_vital_43 : decode cX5_vital 43 = .ok (.iload_n 2, 1) := dk_28 (dk_at dksX5_vital_1 19 rfl rfl)
theorem dX5_vital_44 : decode cX5_vital 44 = .ok (.iadd, 1) := dk_96 (dk_at dksX5_vital_1 20 rfl rfl)
theorem dX5_vital_45 : decode cX5_vital 45 = .ok (.iaload, 1) := dk_46 (dk_at dksX5_vital_1 21 rfl rfl)
theorem dX5_vital_46 : decode cX5_vital 46 = .ok (.istore_n 3, 1) := dk_62 (dk_at dksX5_vital_1 22 rfl rfl)
theorem dX5_vital_47 : decode cX5_vital 47 = .ok (.aload_n 0, 1) := dk_42 (dk_at dksX5_vital_1 23 rfl rfl)
theorem dX5_vital_48 : decode cX5_vital 48 = .ok (.getfield 9, 3) := dk_180 0 9 (dk_at dksX5_vital_2 0 rfl rfl)
theorem dX5_vital_51 : decode cX5_vital 51 = .ok (.bipush 28, 2) := dk_16 28 (dk_at dksX5_vital_2 3 rfl rfl)
theorem dX5_vital_53 : decode cX5_vital 53 = .ok (.iload_n 2, 1) := dk_28 (dk_at dksX5_vital_2 5 rfl rfl)
theorem dX5_vital_54 : decode cX5_vital 54 = .ok (.iadd, 1) := dk_96 (dk_at dksX5_vital_2 6 rfl rfl)
theorem dX5_vital_55 : decode cX5_vital 55 = .ok (.iconst 0, 1) := dk_3 (dk_at dksX5_vital_2 7 rfl rfl)
theorem dX5_vital_56 : decode cX5_vital 56 = .ok (.iastore, 1) := dk_79 (dk_at dksX5_vital_2 8 rfl rfl)
theorem dX5_vital_57 : decode cX5_vital 57 = .ok (.iload_n 3, 1) := dk_29 (dk_at dksX5_vital_2 9 rfl rfl)
theorem dX5_vital_58 : decode cX5_vital 58 = .ok (.ifCond .le 16, 3) := dk_158 0 16 (dk_at dksX5_vital_2 10 rfl rfl)
theorem dX5_vital_61 : decode cX5_vital 61 = .ok (.aload_n 0, 1) := dk_42 (dk_at dksX5_vital_2 13 rfl rfl)
theorem dX5_vital_62 : decode cX5_vital 62 = .ok (.invokevirtual 388, 3) := dk_182 1 132 (dk_at dksX5_vital_2 14 rfl rfl)
theorem dX5_vital_65 : decode cX5_vital 65 = .ok (.ifCond .le 9, 3) := dk_158 0 9 (dk_at dksX5_vital_2 17 rfl rfl)
theorem dX5_vital_68 : decode cX5_vital 68 = .ok (.iload_n 2, 1) := dk_28 (dk_at dksX5_vital_2 20 rfl rfl)
theorem dX5_vital_69 : decode cX5_vital 69 = .ok (.istore_n 1, 1) := dk_60 (dk_at dksX5_vital_2 21 rfl rfl)
theorem dX5_vital_70 : decode cX5_vital 70 = .ok (.aload_n 0, 1) := dk_42 (dk_at dksX5_vital_2 22 rfl rfl)
theorem dX5_vital_71 : decode cX5_vital 71 = .ok (.invokevirtual 382, 3) := dk_182 1 126 (dk_at dksX5_vital_3 0 rfl rfl)
theorem dX5_vital_74 : decode cX5_vital 74 = .ok (.aload_n 0, 1) := dk_42 (dk_at dksX5_vital_3 3 rfl rfl)
theorem dX5_vital_75 : decode cX5_vital 75 = .ok (.getfield 9, 3) := dk_180 0 9 (dk_at dksX5_vital_3 4 rfl rfl)
theorem dX5_vital_78 : decode cX5_vital 78 = .ok (.bipush 28, 2) := dk_16 28 (dk_at dksX5_vital_3 7 rfl rfl)
theorem dX5_vital_80 : decode cX5_vital 80 = .ok (.iload_n 2, 1) := dk_28 (dk_at dksX5_vital_3 9 rfl rfl)
theorem dX5_vital_81 : decode cX5_vital 81 = .ok (.iadd, 1) := dk_96 (dk_at dksX5_vital_3 10 rfl rfl)
theorem dX5_vital_82 : decode cX5_vital 82 = .ok (.iload_n 3, 1) := dk_29 (dk_at dksX5_vital_3 11 rfl rfl)
theorem dX5_vital_83 : decode cX5_vital 83 = .ok (.iastore, 1) := dk_79 (dk_at dksX5_vital_3 12 rfl rfl)
theorem dX5_vital_84 : decode cX5_vital 84 = .ok (.iinc 2 1, 3) := dk_132 2 1 (dk_at dksX5_vital_3 13 rfl rfl)
theorem dX5_vital_87 : decode cX5_vital 87 = .ok (.goto (-58), 3) := dk_167 255 198 (dk_at dksX5_vital_3 16 rfl rfl)
theorem dX5_vital_90 : decode cX5_vital 90 = .ok (.iload_n 1, 1) := dk_27 (dk_at dksX5_vital_3 19 rfl rfl)
theorem dX5_vital_91 : decode cX5_vital 91 = .ok (.ireturn, 1) := dk_172 (dk_at dksX5_vital_3 20 rfl rfl)
abbrev cX5_spare : ByteArray := prog_17_method_132_code
def yX5_spare : MethodName := ⟨RX5, "spare", "()I"⟩
def dkwX5_spare_3 : List UInt8 := [29, 79, 132, 2, 1, 167, 255, 194, 27, 172]
abbrev dktX5_spare_3 : List UInt8 := dkwX5_spare_3 ++ []
def dkwX5_spare_2 : List UInt8 := [42, 182, 1, 78, 153, 0, 9, 4, 28, 120, 167, 0, 4, 3, 128, 60, 42, 180, 0, 9, 16, 28, 28, 96]
abbrev dktX5_spare_2 : List UInt8 := dkwX5_spare_2 ++ dktX5_spare_3
def dkwX5_spare_1 : List UInt8 := [180, 0, 9, 16, 28, 28, 96, 46, 62, 42, 180, 0, 9, 16, 28, 28, 96, 3, 79, 27, 29, 158, 0, 16]
abbrev dktX5_spare_1 : List UInt8 := dkwX5_spare_1 ++ dktX5_spare_2
def dkwX5_spare_0 : List UInt8 := [42, 182, 0, 109, 154, 0, 6, 16, 254, 172, 3, 60, 3, 61, 28, 42, 182, 0, 116, 162, 0, 60, 42]
abbrev dktX5_spare_0 : List UInt8 := dkwX5_spare_0 ++ dktX5_spare_1
theorem dksX5_spare_0 : cX5_spare.data.toList.drop 0 = dktX5_spare_0 := by decide +kernel
theorem dksX5_spare_1 : cX5_spare.data.toList.drop 23 = dktX5_spare_1 := dk_seg dksX5_spare_0 23 rfl rfl
theorem dksX5_spare_2 : cX5_spare.data.toList.drop 47 = dktX5_spare_2 := dk_seg dksX5_spare_1 24 rfl rfl
theorem dksX5_spare_3 : cX5_spare.data.toList.drop 71 = dktX5_spare_3 := dk_seg dksX5_spare_2 24 rfl rfl
theorem dX5_spare_0 : decode cX5_spare 0 = .ok (.aload_n 0, 1) := dk_42 (dk_at dksX5_spare_0 0 rfl rfl)
theorem dX5_spare_1 : decode cX5_spare 1 = .ok (.invokevirtual 109, 3) := dk_182 0 109 (dk_at dksX5_spare_0 1 rfl rfl)
theorem dX5_spare_4 : decode cX5_spare 4 = .ok (.ifCond .ne 6, 3) := dk_154 0 6 (dk_at dksX5_spare_0 4 rfl rfl)
theorem dX5_spare_7 : decode cX5_spare 7 = .ok (.bipush (-2), 2) := dk_16 254 (dk_at dksX5_spare_0 7 rfl rfl)
theorem dX5_spare_9 : decode cX5_spare 9 = .ok (.ireturn, 1) := dk_172 (dk_at dksX5_spare_0 9 rfl rfl)
theorem dX5_spare_10 : decode cX5_spare 10 = .ok (.iconst 0, 1) := dk_3 (dk_at dksX5_spare_0 10 rfl rfl)
theorem dX5_spare_11 : decode cX5_spare 11 = .ok (.istore_n 1, 1) := dk_60 (dk_at dksX5_spare_0 11 rfl rfl)
theorem dX5_spare_12 : decode cX5_spare 12 = .ok (.iconst 0, 1) := dk_3 (dk_at dksX5_spare_0 12 rfl rfl)
theorem dX5_spare_13 : decode cX5_spare 13 = .ok (.istore_n 2, 1) := dk_61 (dk_at dksX5_spare_0 13 rfl rfl)
theorem dX5_spare_14 : decode cX5_spare 14 = .ok (.iload_n 2, 1) := dk_28 (dk_at dksX5_spare_0 14 rfl rfl)
theorem dX5_spare_15 : decode cX5_spare 15 = .ok (.aload_n 0, 1) := dk_42 (dk_at dksX5_spare_0 15 rfl rfl)
theorem dX5_spare_16 : decode cX5_spare 16 = .ok (.invokevirtual 116, 3) := dk_182 0 116 (dk_at dksX5_spare_0 16 rfl rfl)
theorem dX5_spare_19 : decode cX5_spare 19 = .ok (.if_icmp .ge 60, 3) := dk_162 0 60 (dk_at dksX5_spare_0 19 rfl rfl)
theorem dX5_spare_22 : decode cX5_spare 22 = .ok (.aload_n 0, 1) := dk_42 (dk_at dksX5_spare_0 22 rfl rfl)
theorem dX5_spare_23 : decode cX5_spare 23 = .ok (.getfield 9, 3) := dk_180 0 9 (dk_at dksX5_spare_1 0 rfl rfl)
theorem dX5_spare_26 : decode cX5_spare 26 = .ok (.bipush 28, 2) := dk_16 28 (dk_at dksX5_spare_1 3 rfl rfl)
theorem dX5_spare_28 : decode cX5_spare 28 = .ok (.iload_n 2, 1) := dk_28 (dk_at dksX5_spare_1 5 rfl rfl)
theorem dX5_spare_29 : decode cX5_spare 29 = .ok (.iadd, 1) := dk_96 (dk_at dksX5_spare_1 6 rfl rfl)
theorem dX5_spare_30 : decode cX5_spare 30 = .ok (.iaload, 1) := dk_46 (dk_at dksX5_spare_1 7 rfl rfl)
theorem dX5_spare_31 : decode cX5_spare 31 = .ok (.istore_n 3, 1) := dk_62 (dk_at dksX5_spare_1 8 rfl rfl)
theorem dX5_spare_32 : decode cX5_spare 32 = .ok (.aload_n 0, 1) := dk_42 (dk_at dksX5_spare_1 9 rfl rfl)
theorem dX5_spare_33 : decode cX5_spare 33 = .ok (.getfield 9, 3) := dk_180 0 9 (dk_at dksX5_spare_1 10 rfl rfl)
theorem dX5_spare_36 : decode cX5_spare 36 = .ok (.bipush 28, 2) := dk_16 28 (dk_at dksX5_spare_1 13 rfl rfl)
theorem dX5_spare_38 : decode cX5_spare 38 = .ok (.iload_n 2, 1) := dk_28 (dk_at dksX5_spare_1 15 rfl rfl)
theorem dX5_spare_39 : decode cX5_spare 39 = .ok (.iadd, 1) := dk_96 (dk_at dksX5_spare_1 16 rfl rfl)
theorem dX5_spare_40 : decode cX5_spare 40 = .ok (.iconst 0, 1) := dk_3 (dk_at dksX5_spare_1 17 rfl rfl)
theorem dX5_spare_41 : decode cX5_spare 41 = .ok (.iastore, 1) := dk_79 (dk_at dksX5_spare_1 18 rfl rfl)
theorem dX5_spare_42 : decode cX5_spare 42 = .ok (.iload_n 1, 1) := dk_27 (dk_at dksX5_spare_1 19 rfl rfl)
theorem dX5_spare_43 : decode cX5_spare 43 = .ok (.iload_n 3, 1) := dk_29 (dk_at dksX5_spare_1 20 rfl rfl)
theorem dX5_spare_44 : decode cX5_spare 44 = .ok (.ifCond .le 16, 3) := dk_158 0 16 (dk_at dksX5_spare_1 21 rfl rfl)
theorem dX5_spare_47 : decode cX5_spare 47 = .ok (.aload_n 0, 1) := dk_42 (dk_at dksX5_spare_2 0 rfl rfl)
theorem dX5_spare_48 : decode cX5_spare 48 = .ok (.invokevirtual 334, 3) := dk_182 1 78 (dk_at dksX5_spare_2 1 rfl rfl)
theorem dX5_spare_51 : decode cX5_spare 51 = .ok (.ifCond .eq 9, 3) := dk_153 0 9 (dk_at dksX5_spare_2 4 rfl rfl)
theorem dX5_spare_54 : decode cX5_spare 54 = .ok (.iconst 1, 1) := dk_4 (dk_at dksX5_spare_2 7 rfl rfl)
theorem dX5_spare_55 : decode cX5_spare 55 = .ok (.iload_n 2, 1) := dk_28 (dk_at dksX5_spare_2 8 rfl rfl)
theorem dX5_spare_56 : decode cX5_spare 56 = .ok (.ishl, 1) := dk_120 (dk_at dksX5_spare_2 9 rfl rfl)
theorem dX5_spare_57 : decode cX5_spare 57 = .ok (.goto 4, 3) := dk_167 0 4 (dk_at dksX5_spare_2 10 rfl rfl)
theorem dX5_spare_60 : decode cX5_spare 60 = .ok (.iconst 0, 1) := dk_3 (dk_at dksX5_spare_2 13 rfl rfl)
theorem dX5_spare_61 : decode cX5_spare 61 = .ok (.ior, 1) := dk_128 (dk_at dksX5_spare_2 14 rfl rfl)
theorem dX5_spare_62 : decode cX5_spare 62 = .ok (.istore_n 1, 1) := dk_60 (dk_at dksX5_spare_2 15 rfl rfl)
theorem dX5_spare_63 : decode cX5_spare 63 = .ok (.aload_n 0, 1) := dk_42 (dk_at dksX5_spare_2 16 rfl rfl)
theorem dX5_spare_64 : decode cX5_spare 64 = .ok (.getfield 9, 3) := dk_180 0 9 (dk_at dksX5_spare_2 17 rfl rfl)
theorem dX5_spare_67 : decode cX5_spare 67 = .ok (.bipush 28, 2) := dk_16 28 (dk_at dksX5_spare_2 20 rfl rfl)
theorem dX5_spare_69 : decode cX5_spare 69 = .ok (.iload_n 2, 1) := dk_28 (dk_at dksX5_spare_2 22 rfl rfl)
theorem dX5_spare_70 : decode cX5_spare 70 = .ok (.iadd, 1) := dk_96 (dk_at dksX5_spare_2 23 rfl rfl)
theorem dX5_spare_71 : decode cX5_spare 71 = .ok (.iload_n 3, 1) := dk_29 (dk_at dksX5_spare_3 0 rfl rfl)
theorem dX5_spare_72 : decode cX5_spare 72 = .ok (.iastore, 1) := dk_79 (dk_at dksX5_spare_3 1 rfl rfl)
theorem dX5_spare_73 : decode cX5_spare 73 = .ok (.iinc 2 1, 3) := dk_132 2 1 (dk_at dksX5_spare_3 2 rfl rfl)
theorem dX5_spare_76 : decode cX5_spare 76 = .ok (.goto (-62), 3) := dk_167 255 194 (dk_at dksX5_spare_3 5 rfl rfl)
theorem dX5_spare_79 : decode cX5_spare 79 = .ok (.iload_n 1, 1) := dk_27 (dk_at dksX5_spare_3 8 rfl rfl)
theorem dX5_spare_80 : decode cX5_spare 80 = .ok (.ireturn, 1) := dk_172 (dk_at dksX5_spare_3 9 rfl rfl)
abbrev cX5_room : ByteArray := prog_17_method_133_code
def yX5_room : MethodName := ⟨RX5, "room", "(I)I"⟩
def dkwX5_room_3 : List UInt8 := [172]
abbrev dktX5_room_3 : List UInt8 := dkwX5_room_3 ++ []
def dkwX5_room_2 : List UInt8 := [42, 180, 0, 9, 16, 6, 27, 96, 29, 79, 167, 255, 232, 42, 180, 0, 9, 16, 6, 27, 96, 28, 79, 29]
abbrev dktX5_room_2 : List UInt8 := dkwX5_room_2 ++ dktX5_room_3
def dkwX5_room_1 : List UInt8 := [42, 180, 0, 9, 16, 6, 27, 96, 29, 79, 29, 155, 0, 26, 42, 182, 1, 78, 154, 0, 19, 132, 3, 255]
abbrev dktX5_room_1 : List UInt8 := dkwX5_room_1 ++ dktX5_room_2
def dkwX5_room_0 : List UInt8 := [42, 27, 182, 1, 52, 154, 0, 6, 16, 254, 172, 42, 180, 0, 9, 16, 6, 27, 96, 46, 61, 16, 99, 62]
abbrev dktX5_room_0 : List UInt8 := dkwX5_room_0 ++ dktX5_room_1
theorem dksX5_room_0 : cX5_room.data.toList.drop 0 = dktX5_room_0 := by decide +kernel
theorem dksX5_room_1 : cX5_room.data.toList.drop 24 = dktX5_room_1 := dk_seg dksX5_room_0 24 rfl rfl
theorem dksX5_room_2 : cX5_room.data.toList.drop 48 = dktX5_room_2 := dk_seg dksX5_room_1 24 rfl rfl
theorem dksX5_room_3 : cX5_room.data.toList.drop 72 = dktX5_room_3 := dk_seg dksX5_room_2 24 rfl rfl
theorem dX5_room_0 : decode cX5_room 0 = .ok (.aload_n 0, 1) := dk_42 (dk_at dksX5_room_0 0 rfl rfl)
theorem dX5_room_1 : decode cX5_room 1 = .ok (.iload_n 1, 1) := dk_27 (dk_at dksX5_room_0 1 rfl rfl)
theorem dX5_room_2 : decode cX5_room 2 = .ok (.invokevirtual 308, 3) := dk_182 1 52 (dk_at dksX5_room_0 2 rfl rfl)
theorem dX5_room_5 : decode cX5_room 5 = .ok (.ifCond .ne 6, 3) := dk_154 0 6 (dk_at dksX5_room_0 5 rfl rfl)
theorem dX5_room_8 : decode cX5_room 8 = .ok (.bipush (-2), 2) := dk_16 254 (dk_at dksX5_room_0 8 rfl rfl)
theorem dX5_room_10 : decode cX5_room 10 = .ok (.ireturn, 1) := dk_172 (dk_at dksX5_room_0 10 rfl rfl)
theorem dX5_room_11 : decode cX5_room 11 = .ok (.aload_n 0, 1) := dk_42 (dk_at dksX5_room_0 11 rfl rfl)
theorem dX5_room_12 : decode cX5_room 12 = .ok (.getfield 9, 3) := dk_180 0 9 (dk_at dksX5_room_0 12 rfl rfl)
theorem dX5_room_15 : decode cX5_room 15 = .ok (.bipush 6, 2) := dk_16 6 (dk_at dksX5_room_0 15 rfl rfl)
theorem dX5_room_17 : decode cX5_room 17 = .ok (.iload_n 1, 1) := dk_27 (dk_at dksX5_room_0 17 rfl rfl)
theorem dX5_room_18 : decode cX5_room 18 = .ok (.iadd, 1) := dk_96 (dk_at dksX5_room_0 18 rfl rfl)
theorem dX5_room_19 : decode cX5_room 19 = .ok (.iaload, 1) := dk_46 (dk_at dksX5_room_0 19 rfl rfl)
theorem dX5_room_20 : decode cX5_room 20 = .ok (.istore_n 2, 1) := dk_61 (dk_at dksX5_room_0 20 rfl rfl)
theorem dX5_room_21 : decode cX5_room 21 = .ok (.bipush 99, 2) := dk_16 99 (dk_at dksX5_room_0 21 rfl rfl)
theorem dX5_room_23 : decode cX5_room 23 = .ok (.istore_n 3, 1) := dk_62 (dk_at dksX5_room_0 23 rfl rfl)
theorem dX5_room_24 : decode cX5_room 24 = .ok (.aload_n 0, 1) := dk_42 (dk_at dksX5_room_1 0 rfl rfl)
theorem dX5_room_25 : decode cX5_room 25 = .ok (.getfield 9, 3) := dk_180 0 9 (dk_at dksX5_room_1 1 rfl rfl)
theorem dX5_room_28 : decode cX5_room 28 = .ok (.bipush 6, 2) := dk_16 6 (dk_at dksX5_room_1 4 rfl rfl)
theorem dX5_room_30 : decode cX5_room 30 = .ok (.iload_n 1, 1) := dk_27 (dk_at dksX5_room_1 6 rfl rfl)
theorem dX5_room_31 : decode cX5_room 31 = .ok (.iadd, 1) := dk_96 (dk_at dksX5_room_1 7 rfl rfl)
theorem dX5_room_32 : decode cX5_room 32 = .ok (.iload_n 3, 1) := dk_29 (dk_at dksX5_room_1 8 rfl rfl)
theorem dX5_room_33 : decode cX5_room 33 = .ok (.iastore, 1) := dk_79 (dk_at dksX5_room_1 9 rfl rfl)
theorem dX5_room_34 : decode cX5_room 34 = .ok (.iload_n 3, 1) := dk_29 (dk_at dksX5_room_1 10 rfl rfl)
theorem dX5_room_35 : decode cX5_room 35 = .ok (.ifCond .lt 26, 3) := dk_155 0 26 (dk_at dksX5_room_1 11 rfl rfl)
theorem dX5_room_38 : decode cX5_room 38 = .ok (.aload_n 0, 1) := dk_42 (dk_at dksX5_room_1 14 rfl rfl)
theorem dX5_room_39 : decode cX5_room 39 = .ok (.invokevirtual 334, 3) := dk_182 1 78 (dk_at dksX5_room_1 15 rfl rfl)
theorem dX5_room_42 : decode cX5_room 42 = .ok (.ifCond .ne 19, 3) := dk_154 0 19 (dk_at dksX5_room_1 18 rfl rfl)
theorem dX5_room_45 : decode cX5_room 45 = .ok (.iinc 3 (-1), 3) := dk_132 3 255 (dk_at dksX5_room_1 21 rfl rfl)
theorem dX5_room_48 : decode cX5_room 48 = .ok (.aload_n 0, 1) := dk_42 (dk_at dksX5_room_2 0 rfl rfl)
theorem dX5_room_49 : decode cX5_room 49 = .ok (.getfield 9, 3) := dk_180 0 9 (dk_at dksX5_room_2 1 rfl rfl)
theorem dX5_room_52 : decode cX5_room 52 = .ok (.bipush 6, 2) := dk_16 6 (dk_at dksX5_room_2 4 rfl rfl)
theorem dX5_room_54 : decode cX5_room 54 = .ok (.iload_n 1, 1) := dk_27 (dk_at dksX5_room_2 6 rfl rfl)
theorem dX5_room_55 : decode cX5_room 55 = .ok (.iadd, 1) := dk_96 (dk_at dksX5_room_2 7 rfl rfl)
theorem dX5_room_56 : decode cX5_room 56 = .ok (.iload_n 3, 1) := dk_29 (dk_at dksX5_room_2 8 rfl rfl)
theorem dX5_room_57 : decode cX5_room 57 = .ok (.iastore, 1) := dk_79 (dk_at dksX5_room_2 9 rfl rfl)
theorem dX5_room_58 : decode cX5_room 58 = .ok (.goto (-24), 3) := dk_167 255 232 (dk_at dksX5_room_2 10 rfl rfl)
theorem dX5_room_61 : decode cX5_room 61 = .ok (.aload_n 0, 1) := dk_42 (dk_at dksX5_room_2 13 rfl rfl)
theorem dX5_room_62 : decode cX5_room 62 = .ok (.getfield 9, 3) := dk_180 0 9 (dk_at dksX5_room_2 14 rfl rfl)
theorem dX5_room_65 : decode cX5_room 65 = .ok (.bipush 6, 2) := dk_16 6 (dk_at dksX5_room_2 17 rfl rfl)
theorem dX5_room_67 : decode cX5_room 67 = .ok (.iload_n 1, 1) := dk_27 (dk_at dksX5_room_2 19 rfl rfl)
theorem dX5_room_68 : decode cX5_room 68 = .ok (.iadd, 1) := dk_96 (dk_at dksX5_room_2 20 rfl rfl)
theorem dX5_room_69 : decode cX5_room 69 = .ok (.iload_n 2, 1) := dk_28 (dk_at dksX5_room_2 21 rfl rfl)
theorem dX5_room_70 : decode cX5_room 70 = .ok (.iastore, 1) := dk_79 (dk_at dksX5_room_2 22 rfl rfl)
theorem dX5_room_71 : decode cX5_room 71 = .ok (.iload_n 3, 1) := dk_29 (dk_at dksX5_room_2 23 rfl rfl)
theorem dX5_room_72 : decode cX5_room 72 = .ok (.ireturn, 1) := dk_172 (dk_at dksX5_room_3 0 rfl rfl)
abbrev cX5_did : ByteArray := prog_17_method_136_code
def yX5_did : MethodName := ⟨RX5, "did", "(II)I"⟩
def dkwX5_did_3 : List UInt8 := [180, 0, 16, 16, 42, 21, 4, 104, 16, 40, 96, 4, 96, 46, 96, 62, 132, 4, 1, 167, 255, 201, 29, 172]
abbrev dktX5_did_3 : List UInt8 := dkwX5_did_3 ++ []
def dkwX5_did_2 : List UInt8 := [16, 42, 21, 4, 104, 16, 40, 96, 46, 27, 160, 0, 29, 29, 28, 154, 0, 7, 4, 167, 0, 18, 42]
abbrev dktX5_did_2 : List UInt8 := dkwX5_did_2 ++ dktX5_did_3
def dkwX5_did_1 : List UInt8 := [154, 0, 6, 16, 254, 172, 3, 62, 3, 54, 4, 21, 4, 42, 180, 0, 91, 162, 0, 52, 42, 180, 0, 16]
abbrev dktX5_did_1 : List UInt8 := dkwX5_did_1 ++ dktX5_did_2
def dkwX5_did_0 : List UInt8 := [42, 182, 0, 109, 153, 0, 22, 27, 133, 9, 20, 1, 55, 184, 0, 87, 153, 0, 10, 28, 184, 1, 57]
abbrev dktX5_did_0 : List UInt8 := dkwX5_did_0 ++ dktX5_did_1
theorem dksX5_did_0 : cX5_did.data.toList.drop 0 = dktX5_did_0 := by decide +kernel
theorem dksX5_did_1 : cX5_did.data.toList.drop 23 = dktX5_did_1 := dk_seg dksX5_did_0 23 rfl rfl
theorem dksX5_did_2 : cX5_did.data.toList.drop 47 = dktX5_did_2 := dk_seg dksX5_did_1 24 rfl rfl
theorem dksX5_did_3 : cX5_did.data.toList.drop 70 = dktX5_did_3 := dk_seg dksX5_did_2 23 rfl rfl
theorem dX5_did_0 : decode cX5_did 0 = .ok (.aload_n 0, 1) := dk_42 (dk_at dksX5_did_0 0 rfl rfl)
theorem dX5_did_1 : decode cX5_did 1 = .ok (.invokevirtual 109, 3) := dk_182 0 109 (dk_at dksX5_did_0 1 rfl rfl)
theorem dX5_did_4 : decode cX5_did 4 = .ok (.ifCond .eq 22, 3) := dk_153 0 22 (dk_at dksX5_did_0 4 rfl rfl)
theorem dX5_did_7 : decode cX5_did 7 = .ok (.iload_n 1, 1) := dk_27 (dk_at dksX5_did_0 7 rfl rfl)
theorem dX5_did_8 : decode cX5_did 8 = .ok (.i2l, 1) := dk_133 (dk_at dksX5_did_0 8 rfl rfl)
theorem dX5_did_9 : decode cX5_did 9 = .ok (.lconst 0, 1) := dk_9 (dk_at dksX5_did_0 9 rfl rfl)
theorem dX5_did_10 : decode cX5_did 10 = .ok (.ldc2_w 311, 3) := dk_20 1 55 (dk_at dksX5_did_0 10 rfl rfl)
theorem dX5_did_13 : decode cX5_did 13 = .ok (.invokestatic 87, 3) := dk_184 0 87 (dk_at dksX5_did_0 13 rfl rfl)
theorem dX5_did_16 : decode cX5_did 16 = .ok (.ifCond .eq 10, 3) := dk_153 0 10 (dk_at dksX5_did_0 16 rfl rfl)
theorem dX5_did_19 : decode cX5_did 19 = .ok (.iload_n 2, 1) := dk_28 (dk_at dksX5_did_0 19 rfl rfl)
theorem dX5_did_20 : decode cX5_did 20 = .ok (.invokestatic 313, 3) := dk_184 1 57 (dk_at dksX5_did_0 20 rfl rfl)
theorem dX5_did_23 : decode cX5_did 23 = .ok (.ifCond .ne 6, 3) := dk_154 0 6 (dk_at dksX5_did_1 0 rfl rfl)
theorem dX5_did_26 : decode cX5_did 26 = .ok (.bipush (-2), 2) := dk_16 254 (dk_at dksX5_did_1 3 rfl rfl)
theorem dX5_did_28 : decode cX5_did 28 = .ok (.ireturn, 1) := dk_172 (dk_at dksX5_did_1 5 rfl rfl)
theorem dX5_did_29 : decode cX5_did 29 = .ok (.iconst 0, 1) := dk_3 (dk_at dksX5_did_1 6 rfl rfl)
theorem dX5_did_30 : decode cX5_did 30 = .ok (.istore_n 3, 1) := dk_62 (dk_at dksX5_did_1 7 rfl rfl)
theorem dX5_did_31 : decode cX5_did 31 = .ok (.iconst 0, 1) := dk_3 (dk_at dksX5_did_1 8 rfl rfl)
theorem dX5_did_32 : decode cX5_did 32 = .ok (.istore 4, 2) := dk_54 4 (dk_at dksX5_did_1 9 rfl rfl)
theorem dX5_did_34 : decode cX5_did 34 = .ok (.iload 4, 2) := dk_21 4 (dk_at dksX5_did_1 11 rfl rfl)
theorem dX5_did_36 : decode cX5_did 36 = .ok (.aload_n 0, 1) := dk_42 (dk_at dksX5_did_1 13 rfl rfl)
theorem dX5_did_37 : decode cX5_did 37 = .ok (.getfield 91, 3) := dk_180 0 91 (dk_at dksX5_did_1 14 rfl rfl)
theorem dX5_did_40 : decode cX5_did 40 = .ok (.if_icmp .ge 52, 3) := dk_162 0 52 (dk_at dksX5_did_1 17 rfl rfl)
theorem dX5_did_43 : decode cX5_did 43 = .ok (.aload_n 0, 1) := dk_42 (dk_at dksX5_did_1 20 rfl rfl)
theorem dX5_did_44 : decode cX5_did 44 = .ok (.getfield 16, 3) := dk_180 0 16 (dk_at dksX5_did_1 21 rfl rfl)
theorem dX5_did_47 : decode cX5_did 47 = .ok (.bipush 42, 2) := dk_16 42 (dk_at dksX5_did_2 0 rfl rfl)
theorem dX5_did_49 : decode cX5_did 49 = .ok (.iload 4, 2) := dk_21 4 (dk_at dksX5_did_2 2 rfl rfl)
theorem dX5_did_51 : decode cX5_did 51 = .ok (.imul, 1) := dk_104 (dk_at dksX5_did_2 4 rfl rfl)
theorem dX5_did_52 : decode cX5_did 52 = .ok (.bipush 40, 2) := dk_16 40 (dk_at dksX5_did_2 5 rfl rfl)
theorem dX5_did_54 : decode cX5_did 54 = .ok (.iadd, 1) := dk_96 (dk_at dksX5_did_2 7 rfl rfl)
theorem dX5_did_55 : decode cX5_did 55 = .ok (.iaload, 1) := dk_46 (dk_at dksX5_did_2 8 rfl rfl)
theorem dX5_did_56 : decode cX5_did 56 = .ok (.iload_n 1, 1) := dk_27 (dk_at dksX5_did_2 9 rfl rfl)
theorem dX5_did_57 : decode cX5_did 57 = .ok (.if_icmp .ne 29, 3) := dk_160 0 29 (dk_at dksX5_did_2 10 rfl rfl)
theorem dX5_did_60 : decode cX5_did 60 = .ok (.iload_n 3, 1) := dk_29 (dk_at dksX5_did_2 13 rfl rfl)
theorem dX5_did_61 : decode cX5_did 61 = .ok (.iload_n 2, 1) := dk_28 (dk_at dksX5_did_2 14 rfl rfl)
theorem dX5_did_62 : decode cX5_did 62 = .ok (.ifCond .ne 7, 3) := dk_154 0 7 (dk_at dksX5_did_2 15 rfl rfl)
theorem dX5_did_65 : decode cX5_did 65 = .ok (.iconst 1, 1) := dk_4 (dk_at dksX5_did_2 18 rfl rfl)
theorem dX5_did_66 : decode cX5_did 66 = .ok (.goto 18, 3) := dk_167 0 18 (dk_at dksX5_did_2 19 rfl rfl)
theorem dX5_did_69 : decode cX5_did 69 = .ok (.aload_n 0, 1) := dk_42 (dk_at dksX5_did_2 22 rfl rfl)
theorem dX5_did_70 : decode cX5_did 70 = .ok (.getfield 16, 3) := dk_180 0 16 (dk_at dksX5_did_3 0 rfl rfl)
theorem dX5_did_73 : decode cX5_did 73 = .ok (.bipush 42, 2) := dk_16 42 (dk_at dksX5_did_3 3 rfl rfl)
theorem dX5_did_75 : decode cX5_did 75 = .ok (.iload 4, 2) := dk_21 4 (dk_at dksX5_did_3 5 rfl rfl)
theorem dX5_did_77 : decode cX5_did 77 = .ok (.imul, 1) := dk_104 (dk_at dksX5_did_3 7 rfl rfl)
theorem dX5_did_78 : decode cX5_did 78 = .ok (.bipush 40, 2) := dk_16 40 (dk_at dksX5_did_3 8 rfl rfl)
theorem dX5_did_80 : decode cX5_did 80 = .ok (.iadd, 1) := dk_96 (dk_at dksX5_did_3 10 rfl rfl)
theorem dX5_did_81 : decode cX5_did 81 = .ok (.iconst 1, 1) := dk_4 (dk_at dksX5_did_3 11 rfl rfl)
theorem dX5_did_82 : decode cX5_did 82 = .ok (.iadd, 1) := dk_96 (dk_at dksX5_did_3 12 rfl rfl)
theorem dX5_did_83 : decode cX5_did 83 = .ok (.iaload, 1) := dk_46 (dk_at dksX5_did_3 13 rfl rfl)
theorem dX5_did_84 : decode cX5_did 84 = .ok (.iadd, 1) := dk_96 (dk_at dksX5_did_3 14 rfl rfl)
theorem dX5_did_85 : decode cX5_did 85 = .ok (.istore_n 3, 1) := dk_62 (dk_at dksX5_did_3 15 rfl rfl)
theorem dX5_did_86 : decode cX5_did 86 = .ok (.iinc 4 1, 3) := dk_132 4 1 (dk_at dksX5_did_3 16 rfl rfl)
theorem dX5_did_89 : decode cX5_did 89 = .ok (.goto (-55), 3) := dk_167 255 201 (dk_at dksX5_did_3 19 rfl rfl)
theorem dX5_did_92 : decode cX5_did 92 = .ok (.iload_n 3, 1) := dk_29 (dk_at dksX5_did_3 22 rfl rfl)
theorem dX5_did_93 : decode cX5_did 93 = .ok (.ireturn, 1) := dk_172 (dk_at dksX5_did_3 23 rfl rfl)
abbrev cX5_lay : ByteArray := prog_17_method_137_code
def yX5_lay : MethodName := ⟨RX5, "lay", "(II)I"⟩
def dkwX5_lay_2 : List UInt8 := [42, 3, 29, 182, 1, 202, 42, 180, 0, 9, 16, 28, 27, 96, 28, 79, 29, 172]
abbrev dktX5_lay_2 : List UInt8 := dkwX5_lay_2 ++ []
def dkwX5_lay_1 : List UInt8 := [180, 0, 9, 16, 28, 27, 96, 46, 62, 29, 28, 159, 0, 10, 42, 182, 1, 199, 153, 0, 6, 16, 251, 172]
abbrev dktX5_lay_1 : List UInt8 := dkwX5_lay_1 ++ dktX5_lay_2
def dkwX5_lay_0 : List UInt8 := [42, 27, 182, 1, 49, 153, 0, 15, 28, 133, 9, 20, 1, 197, 184, 0, 87, 154, 0, 6, 16, 254, 172, 42]
abbrev dktX5_lay_0 : List UInt8 := dkwX5_lay_0 ++ dktX5_lay_1
theorem dksX5_lay_0 : cX5_lay.data.toList.drop 0 = dktX5_lay_0 := by decide +kernel
theorem dksX5_lay_1 : cX5_lay.data.toList.drop 24 = dktX5_lay_1 := dk_seg dksX5_lay_0 24 rfl rfl
theorem dksX5_lay_2 : cX5_lay.data.toList.drop 48 = dktX5_lay_2 := dk_seg dksX5_lay_1 24 rfl rfl
theorem dX5_lay_0 : decode cX5_lay 0 = .ok (.aload_n 0, 1) := dk_42 (dk_at dksX5_lay_0 0 rfl rfl)
theorem dX5_lay_1 : decode cX5_lay 1 = .ok (.iload_n 1, 1) := dk_27 (dk_at dksX5_lay_0 1 rfl rfl)
theorem dX5_lay_2 : decode cX5_lay 2 = .ok (.invokevirtual 305, 3) := dk_182 1 49 (dk_at dksX5_lay_0 2 rfl rfl)
theorem dX5_lay_5 : decode cX5_lay 5 = .ok (.ifCond .eq 15, 3) := dk_153 0 15 (dk_at dksX5_lay_0 5 rfl rfl)
theorem dX5_lay_8 : decode cX5_lay 8 = .ok (.iload_n 2, 1) := dk_28 (dk_at dksX5_lay_0 8 rfl rfl)
theorem dX5_lay_9 : decode cX5_lay 9 = .ok (.i2l, 1) := dk_133 (dk_at dksX5_lay_0 9 rfl rfl)
theorem dX5_lay_10 : decode cX5_lay 10 = .ok (.lconst 0, 1) := dk_9 (dk_at dksX5_lay_0 10 rfl rfl)
theorem dX5_lay_11 : decode cX5_lay 11 = .ok (.ldc2_w 453, 3) := dk_20 1 197 (dk_at dksX5_lay_0 11 rfl rfl)
theorem dX5_lay_14 : decode cX5_lay 14 = .ok (.invokestatic 87, 3) := dk_184 0 87 (dk_at dksX5_lay_0 14 rfl rfl)
theorem dX5_lay_17 : decode cX5_lay 17 = .ok (.ifCond .ne 6, 3) := dk_154 0 6 (dk_at dksX5_lay_0 17 rfl rfl)
theorem dX5_lay_20 : decode cX5_lay 20 = .ok (.bipush (-2), 2) := dk_16 254 (dk_at dksX5_lay_0 20 rfl rfl)
theorem dX5_lay_22 : decode cX5_lay 22 = .ok (.ireturn, 1) := dk_172 (dk_at dksX5_lay_0 22 rfl rfl)
theorem dX5_lay_23 : decode cX5_lay 23 = .ok (.aload_n 0, 1) := dk_42 (dk_at dksX5_lay_0 23 rfl rfl)
theorem dX5_lay_24 : decode cX5_lay 24 = .ok (.getfield 9, 3) := dk_180 0 9 (dk_at dksX5_lay_1 0 rfl rfl)
theorem dX5_lay_27 : decode cX5_lay 27 = .ok (.bipush 28, 2) := dk_16 28 (dk_at dksX5_lay_1 3 rfl rfl)
theorem dX5_lay_29 : decode cX5_lay 29 = .ok (.iload_n 1, 1) := dk_27 (dk_at dksX5_lay_1 5 rfl rfl)
theorem dX5_lay_30 : decode cX5_lay 30 = .ok (.iadd, 1) := dk_96 (dk_at dksX5_lay_1 6 rfl rfl)
theorem dX5_lay_31 : decode cX5_lay 31 = .ok (.iaload, 1) := dk_46 (dk_at dksX5_lay_1 7 rfl rfl)
theorem dX5_lay_32 : decode cX5_lay 32 = .ok (.istore_n 3, 1) := dk_62 (dk_at dksX5_lay_1 8 rfl rfl)
theorem dX5_lay_33 : decode cX5_lay 33 = .ok (.iload_n 3, 1) := dk_29 (dk_at dksX5_lay_1 9 rfl rfl)
theorem dX5_lay_34 : decode cX5_lay 34 = .ok (.iload_n 2, 1) := dk_28 (dk_at dksX5_lay_1 10 rfl rfl)
theorem dX5_lay_35 : decode cX5_lay 35 = .ok (.if_icmp .eq 10, 3) := dk_159 0 10 (dk_at dksX5_lay_1 11 rfl rfl)
theorem dX5_lay_38 : decode cX5_lay 38 = .ok (.aload_n 0, 1) := dk_42 (dk_at dksX5_lay_1 14 rfl rfl)
theorem dX5_lay_39 : decode cX5_lay 39 = .ok (.invokevirtual 455, 3) := dk_182 1 199 (dk_at dksX5_lay_1 15 rfl rfl)
theorem dX5_lay_42 : decode cX5_lay 42 = .ok (.ifCond .eq 6, 3) := dk_153 0 6 (dk_at dksX5_lay_1 18 rfl rfl)
theorem dX5_lay_45 : decode cX5_lay 45 = .ok (.bipush (-5), 2) := dk_16 251 (dk_at dksX5_lay_1 21 rfl rfl)
theorem dX5_lay_47 : decode cX5_lay 47 = .ok (.ireturn, 1) := dk_172 (dk_at dksX5_lay_1 23 rfl rfl)
theorem dX5_lay_48 : decode cX5_lay 48 = .ok (.aload_n 0, 1) := dk_42 (dk_at dksX5_lay_2 0 rfl rfl)
theorem dX5_lay_49 : decode cX5_lay 49 = .ok (.iconst 0, 1) := dk_3 (dk_at dksX5_lay_2 1 rfl rfl)
theorem dX5_lay_50 : decode cX5_lay 50 = .ok (.iload_n 3, 1) := dk_29 (dk_at dksX5_lay_2 2 rfl rfl)
theorem dX5_lay_51 : decode cX5_lay 51 = .ok (.invokevirtual 458, 3) := dk_182 1 202 (dk_at dksX5_lay_2 3 rfl rfl)
theorem dX5_lay_54 : decode cX5_lay 54 = .ok (.aload_n 0, 1) := dk_42 (dk_at dksX5_lay_2 6 rfl rfl)
theorem dX5_lay_55 : decode cX5_lay 55 = .ok (.getfield 9, 3) := dk_180 0 9 (dk_at dksX5_lay_2 7 rfl rfl)
theorem dX5_lay_58 : decode cX5_lay 58 = .ok (.bipush 28, 2) := dk_16 28 (dk_at dksX5_lay_2 10 rfl rfl)
theorem dX5_lay_60 : decode cX5_lay 60 = .ok (.iload_n 1, 1) := dk_27 (dk_at dksX5_lay_2 12 rfl rfl)
theorem dX5_lay_61 : decode cX5_lay 61 = .ok (.iadd, 1) := dk_96 (dk_at dksX5_lay_2 13 rfl rfl)
theorem dX5_lay_62 : decode cX5_lay 62 = .ok (.iload_n 2, 1) := dk_28 (dk_at dksX5_lay_2 14 rfl rfl)
theorem dX5_lay_63 : decode cX5_lay 63 = .ok (.iastore, 1) := dk_79 (dk_at dksX5_lay_2 15 rfl rfl)
theorem dX5_lay_64 : decode cX5_lay 64 = .ok (.iload_n 3, 1) := dk_29 (dk_at dksX5_lay_2 16 rfl rfl)
theorem dX5_lay_65 : decode cX5_lay 65 = .ok (.ireturn, 1) := dk_172 (dk_at dksX5_lay_2 17 rfl rfl)
abbrev cX5_isFull : ByteArray := prog_17_method_134_code
def yX5_isFull : MethodName := ⟨RX5, "isFull", "()Z"⟩
def dkwX5_isFull_0 : List UInt8 := [42, 180, 0, 91, 16, 20, 160, 0, 7, 4, 167, 0, 4, 3, 172]
abbrev dktX5_isFull_0 : List UInt8 := dkwX5_isFull_0 ++ []
theorem dksX5_isFull_0 : cX5_isFull.data.toList.drop 0 = dktX5_isFull_0 := by decide +kernel
theorem dX5_isFull_0 : decode cX5_isFull 0 = .ok (.aload_n 0, 1) := dk_42 (dk_at dksX5_isFull_0 0 rfl rfl)
theorem dX5_isFull_1 : decode cX5_isFull 1 = .ok (.getfield 91, 3) := dk_180 0 91 (dk_at dksX5_isFull_0 1 rfl rfl)
theorem dX5_isFull_4 : decode cX5_isFull 4 = .ok (.bipush 20, 2) := dk_16 20 (dk_at dksX5_isFull_0 4 rfl rfl)
theorem dX5_isFull_6 : decode cX5_isFull 6 = .ok (.if_icmp .ne 7, 3) := dk_160 0 7 (dk_at dksX5_isFull_0 6 rfl rfl)
theorem dX5_isFull_9 : decode cX5_isFull 9 = .ok (.iconst 1, 1) := dk_4 (dk_at dksX5_isFull_0 9 rfl rfl)
theorem dX5_isFull_10 : decode cX5_isFull 10 = .ok (.goto 4, 3) := dk_167 0 4 (dk_at dksX5_isFull_0 10 rfl rfl)
theorem dX5_isFull_13 : decode cX5_isFull 13 = .ok (.iconst 0, 1) := dk_3 (dk_at dksX5_isFull_0 13 rfl rfl)
theorem dX5_isFull_14 : decode cX5_isFull 14 = .ok (.ireturn, 1) := dk_172 (dk_at dksX5_isFull_0 14 rfl rfl)
abbrev cX5_remembers : ByteArray := prog_17_method_135_code
def yX5_remembers : MethodName := ⟨RX5, "remembers", "(II)V"⟩
def dkwX5_remembers_3 : List UInt8 := [89, 180, 0, 91, 4, 96, 181, 0, 91, 177]
abbrev dktX5_remembers_3 : List UInt8 := dkwX5_remembers_3 ++ []
def dkwX5_remembers_2 : List UInt8 := [16, 40, 96, 27, 79, 42, 180, 0, 16, 16, 42, 42, 180, 0, 91, 104, 16, 40, 96, 4, 96, 28, 79, 42]
abbrev dktX5_remembers_2 : List UInt8 := dkwX5_remembers_2 ++ dktX5_remembers_3
def dkwX5_remembers_1 : List UInt8 := [180, 0, 9, 29, 46, 79, 132, 3, 1, 167, 255, 227, 42, 180, 0, 16, 16, 42, 42, 180, 0, 91, 104]
abbrev dktX5_remembers_1 : List UInt8 := dkwX5_remembers_1 ++ dktX5_remembers_2
def dkwX5_remembers_0 : List UInt8 := [3, 62, 29, 16, 40, 162, 0, 29, 42, 180, 0, 16, 16, 42, 42, 180, 0, 91, 104, 29, 96, 42]
abbrev dktX5_remembers_0 : List UInt8 := dkwX5_remembers_0 ++ dktX5_remembers_1
theorem dksX5_remembers_0 : cX5_remembers.data.toList.drop 0 = dktX5_remembers_0 := by decide +kernel
theorem dksX5_remembers_1 : cX5_remembers.data.toList.drop 22 = dktX5_remembers_1 := dk_seg dksX5_remembers_0 22 rfl rfl
theorem dksX5_remembers_2 : cX5_remembers.data.toList.drop 45 = dktX5_remembers_2 := dk_seg dksX5_remembers_1 23 rfl rfl
theorem dksX5_remembers_3 : cX5_remembers.data.toList.drop 69 = dktX5_remembers_3 := dk_seg dksX5_remembers_2 24 rfl rfl
theorem dX5_remembers_0 : decode cX5_remembers 0 = .ok (.iconst 0, 1) := dk_3 (dk_at dksX5_remembers_0 0 rfl rfl)
theorem dX5_remembers_1 : decode cX5_remembers 1 = .ok (.istore_n 3, 1) := dk_62 (dk_at dksX5_remembers_0 1 rfl rfl)
theorem dX5_remembers_2 : decode cX5_remembers 2 = .ok (.iload_n 3, 1) := dk_29 (dk_at dksX5_remembers_0 2 rfl rfl)
theorem dX5_remembers_3 : decode cX5_remembers 3 = .ok (.bipush 40, 2) := dk_16 40 (dk_at dksX5_remembers_0 3 rfl rfl)
theorem dX5_remembers_5 : decode cX5_remembers 5 = .ok (.if_icmp .ge 29, 3) := dk_162 0 29 (dk_at dksX5_remembers_0 5 rfl rfl)
theorem dX5_remembers_8 : decode cX5_remembers 8 = .ok (.aload_n 0, 1) := dk_42 (dk_at dksX5_remembers_0 8 rfl rfl)
theorem dX5_remembers_9 : decode cX5_remembers 9 = .ok (.getfield 16, 3) := dk_180 0 16 (dk_at dksX5_remembers_0 9 rfl rfl)
theorem dX5_remembers_12 : decode cX5_remembers 12 = .ok (.bipush 42, 2) := dk_16 42 (dk_at dksX5_remembers_0 12 rfl rfl)
theorem dX5_remembers_14 : decode cX5_remembers 14 = .ok (.aload_n 0, 1) := dk_42 (dk_at dksX5_remembers_0 14 rfl rfl)
theorem dX5_remembers_15 : decode cX5_remembers 15 = .ok (.getfield 91, 3) := dk_180 0 91 (dk_at dksX5_remembers_0 15 rfl rfl)
theorem dX5_remembers_18 : decode cX5_remembers 18 = .ok (.imul, 1) := dk_104 (dk_at dksX5_remembers_0 18 rfl rfl)
theorem dX5_remembers_19 : decode cX5_remembers 19 = .ok (.iload_n 3, 1) := dk_29 (dk_at dksX5_remembers_0 19 rfl rfl)
theorem dX5_remembers_20 : decode cX5_remembers 20 = .ok (.iadd, 1) := dk_96 (dk_at dksX5_remembers_0 20 rfl rfl)
theorem dX5_remembers_21 : decode cX5_remembers 21 = .ok (.aload_n 0, 1) := dk_42 (dk_at dksX5_remembers_0 21 rfl rfl)
theorem dX5_remembers_22 : decode cX5_remembers 22 = .ok (.getfield 9, 3) := dk_180 0 9 (dk_at dksX5_remembers_1 0 rfl rfl)
theorem dX5_remembers_25 : decode cX5_remembers 25 = .ok (.iload_n 3, 1) := dk_29 (dk_at dksX5_remembers_1 3 rfl rfl)
theorem dX5_remembers_26 : decode cX5_remembers 26 = .ok (.iaload, 1) := dk_46 (dk_at dksX5_remembers_1 4 rfl rfl)
theorem dX5_remembers_27 : decode cX5_remembers 27 = .ok (.iastore, 1) := dk_79 (dk_at dksX5_remembers_1 5 rfl rfl)
theorem dX5_remembers_28 : decode cX5_remembers 28 = .ok (.iinc 3 1, 3) := dk_132 3 1 (dk_at dksX5_remembers_1 6 rfl rfl)
theorem dX5_remembers_31 : decode cX5_remembers 31 = .ok (.goto (-29), 3) := dk_167 255 227 (dk_at dksX5_remembers_1 9 rfl rfl)
theorem dX5_remembers_34 : decode cX5_remembers 34 = .ok (.aload_n 0, 1) := dk_42 (dk_at dksX5_remembers_1 12 rfl rfl)
theorem dX5_remembers_35 : decode cX5_remembers 35 = .ok (.getfield 16, 3) := dk_180 0 16 (dk_at dksX5_remembers_1 13 rfl rfl)
theorem dX5_remembers_38 : decode cX5_remembers 38 = .ok (.bipush 42, 2) := dk_16 42 (dk_at dksX5_remembers_1 16 rfl rfl)
theorem dX5_remembers_40 : decode cX5_remembers 40 = .ok (.aload_n 0, 1) := dk_42 (dk_at dksX5_remembers_1 18 rfl rfl)
theorem dX5_remembers_41 : decode cX5_remembers 41 = .ok (.getfield 91, 3) := dk_180 0 91 (dk_at dksX5_remembers_1 19 rfl rfl)
theorem dX5_remembers_44 : decode cX5_remembers 44 = .ok (.imul, 1) := dk_104 (dk_at dksX5_remembers_1 22 rfl rfl)
theorem dX5_remembers_45 : decode cX5_remembers 45 = .ok (.bipush 40, 2) := dk_16 40 (dk_at dksX5_remembers_2 0 rfl rfl)
theorem dX5_remembers_47 : decode cX5_remembers 47 = .ok (.iadd, 1) := dk_96 (dk_at dksX5_remembers_2 2 rfl rfl)
theorem dX5_remembers_48 : decode cX5_remembers 48 = .ok (.iload_n 1, 1) := dk_27 (dk_at dksX5_remembers_2 3 rfl rfl)
theorem dX5_remembers_49 : decode cX5_remembers 49 = .ok (.iastore, 1) := dk_79 (dk_at dksX5_remembers_2 4 rfl rfl)
theorem dX5_remembers_50 : decode cX5_remembers 50 = .ok (.aload_n 0, 1) := dk_42 (dk_at dksX5_remembers_2 5 rfl rfl)
theorem dX5_remembers_51 : decode cX5_remembers 51 = .ok (.getfield 16, 3) := dk_180 0 16 (dk_at dksX5_remembers_2 6 rfl rfl)
theorem dX5_remembers_54 : decode cX5_remembers 54 = .ok (.bipush 42, 2) := dk_16 42 (dk_at dksX5_remembers_2 9 rfl rfl)
theorem dX5_remembers_56 : decode cX5_remembers 56 = .ok (.aload_n 0, 1) := dk_42 (dk_at dksX5_remembers_2 11 rfl rfl)
theorem dX5_remembers_57 : decode cX5_remembers 57 = .ok (.getfield 91, 3) := dk_180 0 91 (dk_at dksX5_remembers_2 12 rfl rfl)
theorem dX5_remembers_60 : decode cX5_remembers 60 = .ok (.imul, 1) := dk_104 (dk_at dksX5_remembers_2 15 rfl rfl)
theorem dX5_remembers_61 : decode cX5_remembers 61 = .ok (.bipush 40, 2) := dk_16 40 (dk_at dksX5_remembers_2 16 rfl rfl)
theorem dX5_remembers_63 : decode cX5_remembers 63 = .ok (.iadd, 1) := dk_96 (dk_at dksX5_remembers_2 18 rfl rfl)
theorem dX5_remembers_64 : decode cX5_remembers 64 = .ok (.iconst 1, 1) := dk_4 (dk_at dksX5_remembers_2 19 rfl rfl)
theorem dX5_remembers_65 : decode cX5_remembers 65 = .ok (.iadd, 1) := dk_96 (dk_at dksX5_remembers_2 20 rfl rfl)
theorem dX5_remembers_66 : decode cX5_remembers 66 = .ok (.iload_n 2, 1) := dk_28 (dk_at dksX5_remembers_2 21 rfl rfl)
theorem dX5_remembers_67 : decode cX5_remembers 67 = .ok (.iastore, 1) := dk_79 (dk_at dksX5_remembers_2 22 rfl rfl)
theorem dX5_remembers_68 : decode cX5_remembers 68 = .ok (.aload_n 0, 1) := dk_42 (dk_at dksX5_remembers_2 23 rfl rfl)
theorem dX5_remembers_69 : decode cX5_remembers 69 = .ok (.dup, 1) := dk_89 (dk_at dksX5_remembers_3 0 rfl rfl)
theorem dX5_remembers_70 : decode cX5_remembers 70 = .ok (.getfield 91, 3) := dk_180 0 91 (dk_at dksX5_remembers_3 1 rfl rfl)
theorem dX5_remembers_73 : decode cX5_remembers 73 = .ok (.iconst 1, 1) := dk_4 (dk_at dksX5_remembers_3 4 rfl rfl)
theorem dX5_remembers_74 : decode cX5_remembers 74 = .ok (.iadd, 1) := dk_96 (dk_at dksX5_remembers_3 5 rfl rfl)
theorem dX5_remembers_75 : decode cX5_remembers 75 = .ok (.putfield 91, 3) := dk_181 0 91 (dk_at dksX5_remembers_3 6 rfl rfl)
theorem dX5_remembers_78 : decode cX5_remembers 78 = .ok (.return_, 1) := dk_177 (dk_at dksX5_remembers_3 9 rfl rfl)
abbrev cX5_feeds : ByteArray := prog_17_method_138_code
def yX5_feeds : MethodName := ⟨RX5, "feeds", "(I)I"⟩
def dkwX5_feeds_2 : List UInt8 := [172]
abbrev dktX5_feeds_2 : List UInt8 := dkwX5_feeds_2 ++ []
def dkwX5_feeds_1 : List UInt8 := [182, 1, 202, 42, 180, 0, 9, 8, 92, 46, 4, 27, 120, 130, 79, 42, 180, 0, 9, 8, 46, 184, 1, 138]
abbrev dktX5_feeds_1 : List UInt8 := dkwX5_feeds_1 ++ dktX5_feeds_2
def dkwX5_feeds_0 : List UInt8 := [42, 27, 182, 1, 52, 154, 0, 6, 16, 254, 172, 42, 182, 1, 199, 153, 0, 6, 16, 251, 172, 42, 4, 3]
abbrev dktX5_feeds_0 : List UInt8 := dkwX5_feeds_0 ++ dktX5_feeds_1
theorem dksX5_feeds_0 : cX5_feeds.data.toList.drop 0 = dktX5_feeds_0 := by decide +kernel
theorem dksX5_feeds_1 : cX5_feeds.data.toList.drop 24 = dktX5_feeds_1 := dk_seg dksX5_feeds_0 24 rfl rfl
theorem dksX5_feeds_2 : cX5_feeds.data.toList.drop 48 = dktX5_feeds_2 := dk_seg dksX5_feeds_1 24 rfl rfl
theorem dX5_feeds_0 : decode cX5_feeds 0 = .ok (.aload_n 0, 1) := dk_42 (dk_at dksX5_feeds_0 0 rfl rfl)
theorem dX5_feeds_1 : decode cX5_feeds 1 = .ok (.iload_n 1, 1) := dk_27 (dk_at dksX5_feeds_0 1 rfl rfl)
theorem dX5_feeds_2 : decode cX5_feeds 2 = .ok (.invokevirtual 308, 3) := dk_182 1 52 (dk_at dksX5_feeds_0 2 rfl rfl)
theorem dX5_feeds_5 : decode cX5_feeds 5 = .ok (.ifCond .ne 6, 3) := dk_154 0 6 (dk_at dksX5_feeds_0 5 rfl rfl)
theorem dX5_feeds_8 : decode cX5_feeds 8 = .ok (.bipush (-2), 2) := dk_16 254 (dk_at dksX5_feeds_0 8 rfl rfl)
theorem dX5_feeds_10 : decode cX5_feeds 10 = .ok (.ireturn, 1) := dk_172 (dk_at dksX5_feeds_0 10 rfl rfl)
theorem dX5_feeds_11 : decode cX5_feeds 11 = .ok (.aload_n 0, 1) := dk_42 (dk_at dksX5_feeds_0 11 rfl rfl)
theorem dX5_feeds_12 : decode cX5_feeds 12 = .ok (.invokevirtual 455, 3) := dk_182 1 199 (dk_at dksX5_feeds_0 12 rfl rfl)
theorem dX5_feeds_15 : decode cX5_feeds 15 = .ok (.ifCond .eq 6, 3) := dk_153 0 6 (dk_at dksX5_feeds_0 15 rfl rfl)
theorem dX5_feeds_18 : decode cX5_feeds 18 = .ok (.bipush (-5), 2) := dk_16 251 (dk_at dksX5_feeds_0 18 rfl rfl)
theorem dX5_feeds_20 : decode cX5_feeds 20 = .ok (.ireturn, 1) := dk_172 (dk_at dksX5_feeds_0 20 rfl rfl)
theorem dX5_feeds_21 : decode cX5_feeds 21 = .ok (.aload_n 0, 1) := dk_42 (dk_at dksX5_feeds_0 21 rfl rfl)
theorem dX5_feeds_22 : decode cX5_feeds 22 = .ok (.iconst 1, 1) := dk_4 (dk_at dksX5_feeds_0 22 rfl rfl)
theorem dX5_feeds_23 : decode cX5_feeds 23 = .ok (.iconst 0, 1) := dk_3 (dk_at dksX5_feeds_0 23 rfl rfl)
theorem dX5_feeds_24 : decode cX5_feeds 24 = .ok (.invokevirtual 458, 3) := dk_182 1 202 (dk_at dksX5_feeds_1 0 rfl rfl)
theorem dX5_feeds_27 : decode cX5_feeds 27 = .ok (.aload_n 0, 1) := dk_42 (dk_at dksX5_feeds_1 3 rfl rfl)
theorem dX5_feeds_28 : decode cX5_feeds 28 = .ok (.getfield 9, 3) := dk_180 0 9 (dk_at dksX5_feeds_1 4 rfl rfl)
theorem dX5_feeds_31 : decode cX5_feeds 31 = .ok (.iconst 5, 1) := dk_8 (dk_at dksX5_feeds_1 7 rfl rfl)
theorem dX5_feeds_32 : decode cX5_feeds 32 = .ok (.dup2, 1) := dk_92 (dk_at dksX5_feeds_1 8 rfl rfl)
theorem dX5_feeds_33 : decode cX5_feeds 33 = .ok (.iaload, 1) := dk_46 (dk_at dksX5_feeds_1 9 rfl rfl)
theorem dX5_feeds_34 : decode cX5_feeds 34 = .ok (.iconst 1, 1) := dk_4 (dk_at dksX5_feeds_1 10 rfl rfl)
theorem dX5_feeds_35 : decode cX5_feeds 35 = .ok (.iload_n 1, 1) := dk_27 (dk_at dksX5_feeds_1 11 rfl rfl)
theorem dX5_feeds_36 : decode cX5_feeds 36 = .ok (.ishl, 1) := dk_120 (dk_at dksX5_feeds_1 12 rfl rfl)
theorem dX5_feeds_37 : decode cX5_feeds 37 = .ok (.ixor, 1) := dk_130 (dk_at dksX5_feeds_1 13 rfl rfl)
theorem dX5_feeds_38 : decode cX5_feeds 38 = .ok (.iastore, 1) := dk_79 (dk_at dksX5_feeds_1 14 rfl rfl)
theorem dX5_feeds_39 : decode cX5_feeds 39 = .ok (.aload_n 0, 1) := dk_42 (dk_at dksX5_feeds_1 15 rfl rfl)
theorem dX5_feeds_40 : decode cX5_feeds 40 = .ok (.getfield 9, 3) := dk_180 0 9 (dk_at dksX5_feeds_1 16 rfl rfl)
theorem dX5_feeds_43 : decode cX5_feeds 43 = .ok (.iconst 5, 1) := dk_8 (dk_at dksX5_feeds_1 19 rfl rfl)
theorem dX5_feeds_44 : decode cX5_feeds 44 = .ok (.iaload, 1) := dk_46 (dk_at dksX5_feeds_1 20 rfl rfl)
theorem dX5_feeds_45 : decode cX5_feeds 45 = .ok (.invokestatic 394, 3) := dk_184 1 138 (dk_at dksX5_feeds_1 21 rfl rfl)
theorem dX5_feeds_48 : decode cX5_feeds 48 = .ok (.ireturn, 1) := dk_172 (dk_at dksX5_feeds_2 0 rfl rfl)
abbrev cX5_draw : ByteArray := prog_17_method_139_code
def yX5_draw : MethodName := ⟨RX5, "draw", "(II)I"⟩
def dkwX5_draw_2 : List UInt8 := [42, 5, 29, 182, 1, 202, 42, 180, 0, 9, 16, 6, 27, 96, 28, 79, 29, 172]
abbrev dktX5_draw_2 : List UInt8 := dkwX5_draw_2 ++ []
def dkwX5_draw_1 : List UInt8 := [180, 0, 9, 16, 6, 27, 96, 46, 62, 29, 28, 159, 0, 10, 42, 182, 1, 199, 153, 0, 6, 16, 251, 172]
abbrev dktX5_draw_1 : List UInt8 := dkwX5_draw_1 ++ dktX5_draw_2
def dkwX5_draw_0 : List UInt8 := [42, 27, 182, 1, 52, 153, 0, 15, 28, 133, 9, 20, 1, 205, 184, 0, 87, 154, 0, 6, 16, 254, 172, 42]
abbrev dktX5_draw_0 : List UInt8 := dkwX5_draw_0 ++ dktX5_draw_1
theorem dksX5_draw_0 : cX5_draw.data.toList.drop 0 = dktX5_draw_0 := by decide +kernel
theorem dksX5_draw_1 : cX5_draw.data.toList.drop 24 = dktX5_draw_1 := dk_seg dksX5_draw_0 24 rfl rfl
theorem dksX5_draw_2 : cX5_draw.data.toList.drop 48 = dktX5_draw_2 := dk_seg dksX5_draw_1 24 rfl rfl
theorem dX5_draw_0 : decode cX5_draw 0 = .ok (.aload_n 0, 1) := dk_42 (dk_at dksX5_draw_0 0 rfl rfl)
theorem dX5_draw_1 : decode cX5_draw 1 = .ok (.iload_n 1, 1) := dk_27 (dk_at dksX5_draw_0 1 rfl rfl)
theorem dX5_draw_2 : decode cX5_draw 2 = .ok (.invokevirtual 308, 3) := dk_182 1 52 (dk_at dksX5_draw_0 2 rfl rfl)
theorem dX5_draw_5 : decode cX5_draw 5 = .ok (.ifCond .eq 15, 3) := dk_153 0 15 (dk_at dksX5_draw_0 5 rfl rfl)
theorem dX5_draw_8 : decode cX5_draw 8 = .ok (.iload_n 2, 1) := dk_28 (dk_at dksX5_draw_0 8 rfl rfl)
theorem dX5_draw_9 : decode cX5_draw 9 = .ok (.i2l, 1) := dk_133 (dk_at dksX5_draw_0 9 rfl rfl)
theorem dX5_draw_10 : decode cX5_draw 10 = .ok (.lconst 0, 1) := dk_9 (dk_at dksX5_draw_0 10 rfl rfl)
theorem dX5_draw_11 : decode cX5_draw 11 = .ok (.ldc2_w 461, 3) := dk_20 1 205 (dk_at dksX5_draw_0 11 rfl rfl)
theorem dX5_draw_14 : decode cX5_draw 14 = .ok (.invokestatic 87, 3) := dk_184 0 87 (dk_at dksX5_draw_0 14 rfl rfl)
theorem dX5_draw_17 : decode cX5_draw 17 = .ok (.ifCond .ne 6, 3) := dk_154 0 6 (dk_at dksX5_draw_0 17 rfl rfl)
theorem dX5_draw_20 : decode cX5_draw 20 = .ok (.bipush (-2), 2) := dk_16 254 (dk_at dksX5_draw_0 20 rfl rfl)
theorem dX5_draw_22 : decode cX5_draw 22 = .ok (.ireturn, 1) := dk_172 (dk_at dksX5_draw_0 22 rfl rfl)
theorem dX5_draw_23 : decode cX5_draw 23 = .ok (.aload_n 0, 1) := dk_42 (dk_at dksX5_draw_0 23 rfl rfl)
theorem dX5_draw_24 : decode cX5_draw 24 = .ok (.getfield 9, 3) := dk_180 0 9 (dk_at dksX5_draw_1 0 rfl rfl)
theorem dX5_draw_27 : decode cX5_draw 27 = .ok (.bipush 6, 2) := dk_16 6 (dk_at dksX5_draw_1 3 rfl rfl)
theorem dX5_draw_29 : decode cX5_draw 29 = .ok (.iload_n 1, 1) := dk_27 (dk_at dksX5_draw_1 5 rfl rfl)
theorem dX5_draw_30 : decode cX5_draw 30 = .ok (.iadd, 1) := dk_96 (dk_at dksX5_draw_1 6 rfl rfl)
theorem dX5_draw_31 : decode cX5_draw 31 = .ok (.iaload, 1) := dk_46 (dk_at dksX5_draw_1 7 rfl rfl)
theorem dX5_draw_32 : decode cX5_draw 32 = .ok (.istore_n 3, 1) := dk_62 (dk_at dksX5_draw_1 8 rfl rfl)
theorem dX5_draw_33 : decode cX5_draw 33 = .ok (.iload_n 3, 1) := dk_29 (dk_at dksX5_draw_1 9 rfl rfl)
theorem dX5_draw_34 : decode cX5_draw 34 = .ok (.iload_n 2, 1) := dk_28 (dk_at dksX5_draw_1 10 rfl rfl)
theorem dX5_draw_35 : decode cX5_draw 35 = .ok (.if_icmp .eq 10, 3) := dk_159 0 10 (dk_at dksX5_draw_1 11 rfl rfl)
theorem dX5_draw_38 : decode cX5_draw 38 = .ok (.aload_n 0, 1) := dk_42 (dk_at dksX5_draw_1 14 rfl rfl)
theorem dX5_draw_39 : decode cX5_draw 39 = .ok (.invokevirtual 455, 3) := dk_182 1 199 (dk_at dksX5_draw_1 15 rfl rfl)
theorem dX5_draw_42 : decode cX5_draw 42 = .ok (.ifCond .eq 6, 3) := dk_153 0 6 (dk_at dksX5_draw_1 18 rfl rfl)
theorem dX5_draw_45 : decode cX5_draw 45 = .ok (.bipush (-5), 2) := dk_16 251 (dk_at dksX5_draw_1 21 rfl rfl)
theorem dX5_draw_47 : decode cX5_draw 47 = .ok (.ireturn, 1) := dk_172 (dk_at dksX5_draw_1 23 rfl rfl)
theorem dX5_draw_48 : decode cX5_draw 48 = .ok (.aload_n 0, 1) := dk_42 (dk_at dksX5_draw_2 0 rfl rfl)
theorem dX5_draw_49 : decode cX5_draw 49 = .ok (.iconst 2, 1) := dk_5 (dk_at dksX5_draw_2 1 rfl rfl)
theorem dX5_draw_50 : decode cX5_draw 50 = .ok (.iload_n 3, 1) := dk_29 (dk_at dksX5_draw_2 2 rfl rfl)
theorem dX5_draw_51 : decode cX5_draw 51 = .ok (.invokevirtual 458, 3) := dk_182 1 202 (dk_at dksX5_draw_2 3 rfl rfl)
theorem dX5_draw_54 : decode cX5_draw 54 = .ok (.aload_n 0, 1) := dk_42 (dk_at dksX5_draw_2 6 rfl rfl)
theorem dX5_draw_55 : decode cX5_draw 55 = .ok (.getfield 9, 3) := dk_180 0 9 (dk_at dksX5_draw_2 7 rfl rfl)
theorem dX5_draw_58 : decode cX5_draw 58 = .ok (.bipush 6, 2) := dk_16 6 (dk_at dksX5_draw_2 10 rfl rfl)
theorem dX5_draw_60 : decode cX5_draw 60 = .ok (.iload_n 1, 1) := dk_27 (dk_at dksX5_draw_2 12 rfl rfl)
theorem dX5_draw_61 : decode cX5_draw 61 = .ok (.iadd, 1) := dk_96 (dk_at dksX5_draw_2 13 rfl rfl)
theorem dX5_draw_62 : decode cX5_draw 62 = .ok (.iload_n 2, 1) := dk_28 (dk_at dksX5_draw_2 14 rfl rfl)
theorem dX5_draw_63 : decode cX5_draw 63 = .ok (.iastore, 1) := dk_79 (dk_at dksX5_draw_2 15 rfl rfl)
theorem dX5_draw_64 : decode cX5_draw 64 = .ok (.iload_n 3, 1) := dk_29 (dk_at dksX5_draw_2 16 rfl rfl)
theorem dX5_draw_65 : decode cX5_draw 65 = .ok (.ireturn, 1) := dk_172 (dk_at dksX5_draw_2 17 rfl rfl)
abbrev cX5_year : ByteArray := prog_17_method_140_code
def yX5_year : MethodName := ⟨RX5, "year", "()I"⟩
def dkwX5_year_3 : List UInt8 := [172]
abbrev dktX5_year_3 : List UInt8 := dkwX5_year_3 ++ []
def dkwX5_year_2 : List UInt8 := [167, 0, 4, 3, 96, 61, 132, 3, 1, 167, 255, 229, 42, 6, 28, 182, 1, 202, 42, 182, 1, 107, 87, 28]
abbrev dktX5_year_2 : List UInt8 := dkwX5_year_2 ++ dktX5_year_3
def dkwX5_year_1 : List UInt8 := [60, 3, 61, 3, 62, 29, 42, 180, 0, 102, 162, 0, 25, 28, 27, 29, 184, 0, 209, 153, 0, 7, 4]
abbrev dktX5_year_1 : List UInt8 := dkwX5_year_1 ++ dktX5_year_2
def dkwX5_year_0 : List UInt8 := [42, 182, 0, 109, 154, 0, 6, 16, 254, 172, 42, 182, 1, 199, 153, 0, 6, 16, 251, 172, 42, 182, 1, 99]
abbrev dktX5_year_0 : List UInt8 := dkwX5_year_0 ++ dktX5_year_1
theorem dksX5_year_0 : cX5_year.data.toList.drop 0 = dktX5_year_0 := by decide +kernel
theorem dksX5_year_1 : cX5_year.data.toList.drop 24 = dktX5_year_1 := dk_seg dksX5_year_0 24 rfl rfl
theorem dksX5_year_2 : cX5_year.data.toList.drop 47 = dktX5_year_2 := dk_seg dksX5_year_1 23 rfl rfl
theorem dksX5_year_3 : cX5_year.data.toList.drop 71 = dktX5_year_3 := dk_seg dksX5_year_2 24 rfl rfl
theorem dX5_year_0 : decode cX5_year 0 = .ok (.aload_n 0, 1) := dk_42 (dk_at dksX5_year_0 0 rfl rfl)
theorem dX5_year_1 : decode cX5_year 1 = .ok (.invokevirtual 109, 3) := dk_182 0 109 (dk_at dksX5_year_0 1 rfl rfl)
theorem dX5_year_4 : decode cX5_year 4 = .ok (.ifCond .ne 6, 3) := dk_154 0 6 (dk_at dksX5_year_0 4 rfl rfl)
theorem dX5_year_7 : decode cX5_year 7 = .ok (.bipush (-2), 2) := dk_16 254 (dk_at dksX5_year_0 7 rfl rfl)
theorem dX5_year_9 : decode cX5_year 9 = .ok (.ireturn, 1) := dk_172 (dk_at dksX5_year_0 9 rfl rfl)
theorem dX5_year_10 : decode cX5_year 10 = .ok (.aload_n 0, 1) := dk_42 (dk_at dksX5_year_0 10 rfl rfl)
theorem dX5_year_11 : decode cX5_year 11 = .ok (.invokevirtual 455, 3) := dk_182 1 199 (dk_at dksX5_year_0 11 rfl rfl)
theorem dX5_year_14 : decode cX5_year 14 = .ok (.ifCond .eq 6, 3) := dk_153 0 6 (dk_at dksX5_year_0 14 rfl rfl)
theorem dX5_year_17 : decode cX5_year 17 = .ok (.bipush (-5), 2) := dk_16 251 (dk_at dksX5_year_0 17 rfl rfl)
theorem dX5_year_19 : decode cX5_year 19 = .ok (.ireturn, 1) := dk_172 (dk_at dksX5_year_0 19 rfl rfl)
theorem dX5_year_20 : decode cX5_year 20 = .ok (.aload_n 0, 1) := dk_42 (dk_at dksX5_year_0 20 rfl rfl)
theorem dX5_year_21 : decode cX5_year 21 = .ok (.invokevirtual 355, 3) := dk_182 1 99 (dk_at dksX5_year_0 21 rfl rfl)
theorem dX5_year_24 : decode cX5_year 24 = .ok (.istore_n 1, 1) := dk_60 (dk_at dksX5_year_1 0 rfl rfl)
theorem dX5_year_25 : decode cX5_year 25 = .ok (.iconst 0, 1) := dk_3 (dk_at dksX5_year_1 1 rfl rfl)
theorem dX5_year_26 : decode cX5_year 26 = .ok (.istore_n 2, 1) := dk_61 (dk_at dksX5_year_1 2 rfl rfl)
theorem dX5_year_27 : decode cX5_year 27 = .ok (.iconst 0, 1) := dk_3 (dk_at dksX5_year_1 3 rfl rfl)
theorem dX5_year_28 : decode cX5_year 28 = .ok (.istore_n 3, 1) := dk_62 (dk_at dksX5_year_1 4 rfl rfl)
theorem dX5_year_29 : decode cX5_year 29 = .ok (.iload_n 3, 1) := dk_29 (dk_at dksX5_year_1 5 rfl rfl)
theorem dX5_year_30 : decode cX5_year 30 = .ok (.aload_n 0, 1) := dk_42 (dk_at dksX5_year_1 6 rfl rfl)
theorem dX5_year_31 : decode cX5_year 31 = .ok (.getfield 102, 3) := dk_180 0 102 (dk_at dksX5_year_1 7 rfl rfl)
theorem dX5_year_34 : decode cX5_year 34 = .ok (.if_icmp .ge 25, 3) := dk_162 0 25 (dk_at dksX5_year_1 10 rfl rfl)
theorem dX5_year_37 : decode cX5_year 37 = .ok (.iload_n 2, 1) := dk_28 (dk_at dksX5_year_1 13 rfl rfl)
theorem dX5_year_38 : decode cX5_year 38 = .ok (.iload_n 1, 1) := dk_27 (dk_at dksX5_year_1 14 rfl rfl)
theorem dX5_year_39 : decode cX5_year 39 = .ok (.iload_n 3, 1) := dk_29 (dk_at dksX5_year_1 15 rfl rfl)
theorem dX5_year_40 : decode cX5_year 40 = .ok (.invokestatic 209, 3) := dk_184 0 209 (dk_at dksX5_year_1 16 rfl rfl)
theorem dX5_year_43 : decode cX5_year 43 = .ok (.ifCond .eq 7, 3) := dk_153 0 7 (dk_at dksX5_year_1 19 rfl rfl)
theorem dX5_year_46 : decode cX5_year 46 = .ok (.iconst 1, 1) := dk_4 (dk_at dksX5_year_1 22 rfl rfl)
theorem dX5_year_47 : decode cX5_year 47 = .ok (.goto 4, 3) := dk_167 0 4 (dk_at dksX5_year_2 0 rfl rfl)
theorem dX5_year_50 : decode cX5_year 50 = .ok (.iconst 0, 1) := dk_3 (dk_at dksX5_year_2 3 rfl rfl)
theorem dX5_year_51 : decode cX5_year 51 = .ok (.iadd, 1) := dk_96 (dk_at dksX5_year_2 4 rfl rfl)
theorem dX5_year_52 : decode cX5_year 52 = .ok (.istore_n 2, 1) := dk_61 (dk_at dksX5_year_2 5 rfl rfl)
theorem dX5_year_53 : decode cX5_year 53 = .ok (.iinc 3 1, 3) := dk_132 3 1 (dk_at dksX5_year_2 6 rfl rfl)
theorem dX5_year_56 : decode cX5_year 56 = .ok (.goto (-27), 3) := dk_167 255 229 (dk_at dksX5_year_2 9 rfl rfl)
theorem dX5_year_59 : decode cX5_year 59 = .ok (.aload_n 0, 1) := dk_42 (dk_at dksX5_year_2 12 rfl rfl)
theorem dX5_year_60 : decode cX5_year 60 = .ok (.iconst 3, 1) := dk_6 (dk_at dksX5_year_2 13 rfl rfl)
theorem dX5_year_61 : decode cX5_year 61 = .ok (.iload_n 2, 1) := dk_28 (dk_at dksX5_year_2 14 rfl rfl)
theorem dX5_year_62 : decode cX5_year 62 = .ok (.invokevirtual 458, 3) := dk_182 1 202 (dk_at dksX5_year_2 15 rfl rfl)
theorem dX5_year_65 : decode cX5_year 65 = .ok (.aload_n 0, 1) := dk_42 (dk_at dksX5_year_2 18 rfl rfl)
theorem dX5_year_66 : decode cX5_year 66 = .ok (.invokevirtual 363, 3) := dk_182 1 107 (dk_at dksX5_year_2 19 rfl rfl)
theorem dX5_year_69 : decode cX5_year 69 = .ok (.pop, 1) := dk_87 (dk_at dksX5_year_2 22 rfl rfl)
theorem dX5_year_70 : decode cX5_year 70 = .ok (.iload_n 2, 1) := dk_28 (dk_at dksX5_year_2 23 rfl rfl)
theorem dX5_year_71 : decode cX5_year 71 = .ok (.ireturn, 1) := dk_172 (dk_at dksX5_year_3 0 rfl rfl)
abbrev cX5_undo : ByteArray := prog_17_method_142_code
def yX5_undo : MethodName := ⟨RX5, "undo", "()I"⟩
def dkwX5_undo_1 : List UInt8 := [42, 180, 0, 91, 172]
abbrev dktX5_undo_1 : List UInt8 := dkwX5_undo_1 ++ []
def dkwX5_undo_0 : List UInt8 := [42, 182, 0, 109, 154, 0, 6, 16, 254, 172, 42, 180, 0, 91, 154, 0, 6, 16, 251, 172, 42, 182, 1, 207]
abbrev dktX5_undo_0 : List UInt8 := dkwX5_undo_0 ++ dktX5_undo_1
theorem dksX5_undo_0 : cX5_undo.data.toList.drop 0 = dktX5_undo_0 := by decide +kernel
theorem dksX5_undo_1 : cX5_undo.data.toList.drop 24 = dktX5_undo_1 := dk_seg dksX5_undo_0 24 rfl rfl
theorem dX5_undo_0 : decode cX5_undo 0 = .ok (.aload_n 0, 1) := dk_42 (dk_at dksX5_undo_0 0 rfl rfl)
theorem dX5_undo_1 : decode cX5_undo 1 = .ok (.invokevirtual 109, 3) := dk_182 0 109 (dk_at dksX5_undo_0 1 rfl rfl)
theorem dX5_undo_4 : decode cX5_undo 4 = .ok (.ifCond .ne 6, 3) := dk_154 0 6 (dk_at dksX5_undo_0 4 rfl rfl)
theorem dX5_undo_7 : decode cX5_undo 7 = .ok (.bipush (-2), 2) := dk_16 254 (dk_at dksX5_undo_0 7 rfl rfl)
theorem dX5_undo_9 : decode cX5_undo 9 = .ok (.ireturn, 1) := dk_172 (dk_at dksX5_undo_0 9 rfl rfl)
theorem dX5_undo_10 : decode cX5_undo 10 = .ok (.aload_n 0, 1) := dk_42 (dk_at dksX5_undo_0 10 rfl rfl)
theorem dX5_undo_11 : decode cX5_undo 11 = .ok (.getfield 91, 3) := dk_180 0 91 (dk_at dksX5_undo_0 11 rfl rfl)
theorem dX5_undo_14 : decode cX5_undo 14 = .ok (.ifCond .ne 6, 3) := dk_154 0 6 (dk_at dksX5_undo_0 14 rfl rfl)
theorem dX5_undo_17 : decode cX5_undo 17 = .ok (.bipush (-5), 2) := dk_16 251 (dk_at dksX5_undo_0 17 rfl rfl)
theorem dX5_undo_19 : decode cX5_undo 19 = .ok (.ireturn, 1) := dk_172 (dk_at dksX5_undo_0 19 rfl rfl)
theorem dX5_undo_20 : decode cX5_undo 20 = .ok (.aload_n 0, 1) := dk_42 (dk_at dksX5_undo_0 20 rfl rfl)
theorem dX5_undo_21 : decode cX5_undo 21 = .ok (.invokevirtual 463, 3) := dk_182 1 207 (dk_at dksX5_undo_0 21 rfl rfl)
theorem dX5_undo_24 : decode cX5_undo 24 = .ok (.aload_n 0, 1) := dk_42 (dk_at dksX5_undo_1 0 rfl rfl)
theorem dX5_undo_25 : decode cX5_undo 25 = .ok (.getfield 91, 3) := dk_180 0 91 (dk_at dksX5_undo_1 1 rfl rfl)
theorem dX5_undo_28 : decode cX5_undo 28 = .ok (.ireturn, 1) := dk_172 (dk_at dksX5_undo_1 4 rfl rfl)
abbrev cX5_takesBack : ByteArray := prog_17_method_141_code
def yX5_takesBack : MethodName := ⟨RX5, "takesBack", "()V"⟩
def dkwX5_takesBack_1 : List UInt8 := [180, 0, 16, 16, 42, 42, 180, 0, 91, 104, 27, 96, 46, 79, 132, 1, 1, 167, 255, 227, 177]
abbrev dktX5_takesBack_1 : List UInt8 := dkwX5_takesBack_1 ++ []
def dkwX5_takesBack_0 : List UInt8 := [42, 89, 180, 0, 91, 4, 100, 181, 0, 91, 3, 60, 27, 16, 40, 162, 0, 29, 42, 180, 0, 9, 27, 42]
abbrev dktX5_takesBack_0 : List UInt8 := dkwX5_takesBack_0 ++ dktX5_takesBack_1
theorem dksX5_takesBack_0 : cX5_takesBack.data.toList.drop 0 = dktX5_takesBack_0 := by decide +kernel
theorem dksX5_takesBack_1 : cX5_takesBack.data.toList.drop 24 = dktX5_takesBack_1 := dk_seg dksX5_takesBack_0 24 rfl rfl
theorem dX5_takesBack_0 : decode cX5_takesBack 0 = .ok (.aload_n 0, 1) := dk_42 (dk_at dksX5_takesBack_0 0 rfl rfl)
theorem dX5_takesBack_1 : decode cX5_takesBack 1 = .ok (.dup, 1) := dk_89 (dk_at dksX5_takesBack_0 1 rfl rfl)
theorem dX5_takesBack_2 : decode cX5_takesBack 2 = .ok (.getfield 91, 3) := dk_180 0 91 (dk_at dksX5_takesBack_0 2 rfl rfl)
theorem dX5_takesBack_5 : decode cX5_takesBack 5 = .ok (.iconst 1, 1) := dk_4 (dk_at dksX5_takesBack_0 5 rfl rfl)
theorem dX5_takesBack_6 : decode cX5_takesBack 6 = .ok (.isub, 1) := dk_100 (dk_at dksX5_takesBack_0 6 rfl rfl)
theorem dX5_takesBack_7 : decode cX5_takesBack 7 = .ok (.putfield 91, 3) := dk_181 0 91 (dk_at dksX5_takesBack_0 7 rfl rfl)
theorem dX5_takesBack_10 : decode cX5_takesBack 10 = .ok (.iconst 0, 1) := dk_3 (dk_at dksX5_takesBack_0 10 rfl rfl)
theorem dX5_takesBack_11 : decode cX5_takesBack 11 = .ok (.istore_n 1, 1) := dk_60 (dk_at dksX5_takesBack_0 11 rfl rfl)
theorem dX5_takesBack_12 : decode cX5_takesBack 12 = .ok (.iload_n 1, 1) := dk_27 (dk_at dksX5_takesBack_0 12 rfl rfl)
theorem dX5_takesBack_13 : decode cX5_takesBack 13 = .ok (.bipush 40, 2) := dk_16 40 (dk_at dksX5_takesBack_0 13 rfl rfl)
theorem dX5_takesBack_15 : decode cX5_takesBack 15 = .ok (.if_icmp .ge 29, 3) := dk_162 0 29 (dk_at dksX5_takesBack_0 15 rfl rfl)
theorem dX5_takesBack_18 : decode cX5_takesBack 18 = .ok (.aload_n 0, 1) := dk_42 (dk_at dksX5_takesBack_0 18 rfl rfl)
theorem dX5_takesBack_19 : decode cX5_takesBack 19 = .ok (.getfield 9, 3) := dk_180 0 9 (dk_at dksX5_takesBack_0 19 rfl rfl)
theorem dX5_takesBack_22 : decode cX5_takesBack 22 = .ok (.iload_n 1, 1) := dk_27 (dk_at dksX5_takesBack_0 22 rfl rfl)
theorem dX5_takesBack_23 : decode cX5_takesBack 23 = .ok (.aload_n 0, 1) := dk_42 (dk_at dksX5_takesBack_0 23 rfl rfl)
theorem dX5_takesBack_24 : decode cX5_takesBack 24 = .ok (.getfield 16, 3) := dk_180 0 16 (dk_at dksX5_takesBack_1 0 rfl rfl)
theorem dX5_takesBack_27 : decode cX5_takesBack 27 = .ok (.bipush 42, 2) := dk_16 42 (dk_at dksX5_takesBack_1 3 rfl rfl)
theorem dX5_takesBack_29 : decode cX5_takesBack 29 = .ok (.aload_n 0, 1) := dk_42 (dk_at dksX5_takesBack_1 5 rfl rfl)
theorem dX5_takesBack_30 : decode cX5_takesBack 30 = .ok (.getfield 91, 3) := dk_180 0 91 (dk_at dksX5_takesBack_1 6 rfl rfl)
theorem dX5_takesBack_33 : decode cX5_takesBack 33 = .ok (.imul, 1) := dk_104 (dk_at dksX5_takesBack_1 9 rfl rfl)
theorem dX5_takesBack_34 : decode cX5_takesBack 34 = .ok (.iload_n 1, 1) := dk_27 (dk_at dksX5_takesBack_1 10 rfl rfl)
theorem dX5_takesBack_35 : decode cX5_takesBack 35 = .ok (.iadd, 1) := dk_96 (dk_at dksX5_takesBack_1 11 rfl rfl)
theorem dX5_takesBack_36 : decode cX5_takesBack 36 = .ok (.iaload, 1) := dk_46 (dk_at dksX5_takesBack_1 12 rfl rfl)
theorem dX5_takesBack_37 : decode cX5_takesBack 37 = .ok (.iastore, 1) := dk_79 (dk_at dksX5_takesBack_1 13 rfl rfl)
theorem dX5_takesBack_38 : decode cX5_takesBack 38 = .ok (.iinc 1 1, 3) := dk_132 1 1 (dk_at dksX5_takesBack_1 14 rfl rfl)
theorem dX5_takesBack_41 : decode cX5_takesBack 41 = .ok (.goto (-29), 3) := dk_167 255 227 (dk_at dksX5_takesBack_1 17 rfl rfl)
theorem dX5_takesBack_44 : decode cX5_takesBack 44 = .ok (.return_, 1) := dk_177 (dk_at dksX5_takesBack_1 20 rfl rfl)
abbrev cX5_anew : ByteArray := prog_17_method_143_code
def yX5_anew : MethodName := ⟨RX5, "anew", "()I"⟩
def dkwX5_anew_1 : List UInt8 := [182, 1, 207, 167, 255, 245, 27, 172]
abbrev dktX5_anew_1 : List UInt8 := dkwX5_anew_1 ++ []
def dkwX5_anew_0 : List UInt8 := [42, 182, 0, 109, 154, 0, 6, 16, 254, 172, 42, 180, 0, 91, 60, 42, 180, 0, 91, 158, 0, 10, 42]
abbrev dktX5_anew_0 : List UInt8 := dkwX5_anew_0 ++ dktX5_anew_1
theorem dksX5_anew_0 : cX5_anew.data.toList.drop 0 = dktX5_anew_0 := by decide +kernel
theorem dksX5_anew_1 : cX5_anew.data.toList.drop 23 = dktX5_anew_1 := dk_seg dksX5_anew_0 23 rfl rfl
theorem dX5_anew_0 : decode cX5_anew 0 = .ok (.aload_n 0, 1) := dk_42 (dk_at dksX5_anew_0 0 rfl rfl)
theorem dX5_anew_1 : decode cX5_anew 1 = .ok (.invokevirtual 109, 3) := dk_182 0 109 (dk_at dksX5_anew_0 1 rfl rfl)
theorem dX5_anew_4 : decode cX5_anew 4 = .ok (.ifCond .ne 6, 3) := dk_154 0 6 (dk_at dksX5_anew_0 4 rfl rfl)
theorem dX5_anew_7 : decode cX5_anew 7 = .ok (.bipush (-2), 2) := dk_16 254 (dk_at dksX5_anew_0 7 rfl rfl)
theorem dX5_anew_9 : decode cX5_anew 9 = .ok (.ireturn, 1) := dk_172 (dk_at dksX5_anew_0 9 rfl rfl)
theorem dX5_anew_10 : decode cX5_anew 10 = .ok (.aload_n 0, 1) := dk_42 (dk_at dksX5_anew_0 10 rfl rfl)
theorem dX5_anew_11 : decode cX5_anew 11 = .ok (.getfield 91, 3) := dk_180 0 91 (dk_at dksX5_anew_0 11 rfl rfl)
theorem dX5_anew_14 : decode cX5_anew 14 = .ok (.istore_n 1, 1) := dk_60 (dk_at dksX5_anew_0 14 rfl rfl)
theorem dX5_anew_15 : decode cX5_anew 15 = .ok (.aload_n 0, 1) := dk_42 (dk_at dksX5_anew_0 15 rfl rfl)
theorem dX5_anew_16 : decode cX5_anew 16 = .ok (.getfield 91, 3) := dk_180 0 91 (dk_at dksX5_anew_0 16 rfl rfl)
theorem dX5_anew_19 : decode cX5_anew 19 = .ok (.ifCond .le 10, 3) := dk_158 0 10 (dk_at dksX5_anew_0 19 rfl rfl)
theorem dX5_anew_22 : decode cX5_anew 22 = .ok (.aload_n 0, 1) := dk_42 (dk_at dksX5_anew_0 22 rfl rfl)
theorem dX5_anew_23 : decode cX5_anew 23 = .ok (.invokevirtual 463, 3) := dk_182 1 207 (dk_at dksX5_anew_1 0 rfl rfl)
theorem dX5_anew_26 : decode cX5_anew 26 = .ok (.goto (-11), 3) := dk_167 255 245 (dk_at dksX5_anew_1 3 rfl rfl)
theorem dX5_anew_29 : decode cX5_anew 29 = .ok (.iload_n 1, 1) := dk_27 (dk_at dksX5_anew_1 6 rfl rfl)
theorem dX5_anew_30 : decode cX5_anew 30 = .ok (.ireturn, 1) := dk_172 (dk_at dksX5_anew_1 7 rfl rfl)
theorem q127 : (Jvm.Cond.initialized "SupplyGridModel") ∈ lw_all := lw_g (lw_at lw_m1 9 rfl) rfl
theorem q1217 : (Jvm.Cond.selects "SupplyGridModel" ({ cls := "java/lang/Object", name := "getClass", desc := "()Ljava/lang/Class;" } : Jvm.MethodName) ({ cls := "java/lang/Object", name := "getClass", desc := "()Ljava/lang/Class;" } : Jvm.MethodName)) ∈ lw_all := lw_g (lw_at lw_m5 139 rfl) rfl
theorem q1381 : (Jvm.Cond.instantiable "SupplyGridModel" (38 : Nat)) ∈ lw_all := lw_g (lw_at lw_m6 63 rfl) rfl
theorem q1383 : (Jvm.Cond.instanceMethod ({ cls := "SupplyGridModel", name := "<init>", desc := "()V" } : Jvm.MethodName)) ∈ lw_all := lw_g (lw_at lw_m6 65 rfl) rfl
theorem q1384 : (Jvm.Cond.code ({ cls := "SupplyGridModel", name := "<init>", desc := "()V" } : Jvm.MethodName) prog_17_method_1_code (1 : Nat) (Option.none : Option Jvm.ClassFile.FieldType)) ∈ lw_all := lw_g (lw_at lw_m6 66 rfl) rfl
theorem q1385 : (Jvm.Cond.methodLink "SupplyGridModel" (3 : Nat) ({ cls := "java/lang/Object", name := "<init>", desc := "()V" } : Jvm.MethodName)) ∈ lw_all := lw_g (lw_at lw_m6 67 rfl) rfl
theorem q1386 : (Jvm.Cond.fieldLink "SupplyGridModel" (9 : Nat) "SupplyGridModel" "world" "[I") ∈ lw_all := lw_g (lw_at lw_m6 68 rfl) rfl
theorem q1387 : (Jvm.Cond.fieldLink "SupplyGridModel" (13 : Nat) "SupplyGridModel" "fresh" "[I") ∈ lw_all := lw_g (lw_at lw_m6 69 rfl) rfl
theorem q1388 : (Jvm.Cond.fieldLink "SupplyGridModel" (16 : Nat) "SupplyGridModel" "waysBack" "[I") ∈ lw_all := lw_g (lw_at lw_m6 70 rfl) rfl
theorem q1389 : (Jvm.Cond.fieldLink "SupplyGridModel" (91 : Nat) "SupplyGridModel" "acts" "I") ∈ lw_all := lw_g (lw_at lw_m6 71 rfl) rfl
theorem q1390 : (Jvm.Cond.fieldLink "SupplyGridModel" (19 : Nat) "SupplyGridModel" "images" "[I") ∈ lw_all := lw_g (lw_at lw_m6 72 rfl) rfl
theorem q1391 : (Jvm.Cond.fieldLink "SupplyGridModel" (22 : Nat) "SupplyGridModel" "hasImage" "[Z") ∈ lw_all := lw_g (lw_at lw_m6 73 rfl) rfl
theorem q1392 : (Jvm.Cond.fieldLink "SupplyGridModel" (26 : Nat) "SupplyGridModel" "endOf" "[I") ∈ lw_all := lw_g (lw_at lw_m6 74 rfl) rfl
theorem q1393 : (Jvm.Cond.fieldLink "SupplyGridModel" (102 : Nat) "SupplyGridModel" "strapMany" "I") ∈ lw_all := lw_g (lw_at lw_m6 75 rfl) rfl
theorem q1394 : (Jvm.Cond.fieldLink "SupplyGridModel" (29 : Nat) "SupplyGridModel" "tape" "[B") ∈ lw_all := lw_g (lw_at lw_m6 76 rfl) rfl
theorem q1395 : (Jvm.Cond.fieldLink "SupplyGridModel" (126 : Nat) "SupplyGridModel" "taped" "I") ∈ lw_all := lw_g (lw_at lw_m6 77 rfl) rfl
theorem q1396 : (Jvm.Cond.fieldLink "SupplyGridModel" (33 : Nat) "SupplyGridModel" "five" "[I") ∈ lw_all := lw_g (lw_at lw_m6 78 rfl) rfl
theorem q1397 : (Jvm.Cond.fieldLink "SupplyGridModel" (129 : Nat) "SupplyGridModel" "size" "I") ∈ lw_all := lw_g (lw_at lw_m6 79 rfl) rfl
theorem q1398 : (Jvm.Cond.fieldLink "SupplyGridModel" (132 : Nat) "SupplyGridModel" "at" "I") ∈ lw_all := lw_g (lw_at lw_m6 80 rfl) rfl
theorem q1399 : (Jvm.Cond.fieldLink "SupplyGridModel" (139 : Nat) "SupplyGridModel" "from" "I") ∈ lw_all := lw_g (lw_at lw_m6 81 rfl) rfl
theorem q1400 : (Jvm.Cond.fieldLink "SupplyGridModel" (142 : Nat) "SupplyGridModel" "token" "I") ∈ lw_all := lw_g (lw_at lw_m6 82 rfl) rfl
theorem q1401 : (Jvm.Cond.fieldLink "SupplyGridModel" (153 : Nat) "SupplyGridModel" "value" "I") ∈ lw_all := lw_g (lw_at lw_m6 83 rfl) rfl
theorem q1402 : (Jvm.Cond.fieldLink "SupplyGridModel" (157 : Nat) "SupplyGridModel" "faultKind" "I") ∈ lw_all := lw_g (lw_at lw_m6 84 rfl) rfl
theorem q1403 : (Jvm.Cond.fieldLink "SupplyGridModel" (36 : Nat) "SupplyGridModel" "faultPlace" "I") ∈ lw_all := lw_g (lw_at lw_m6 85 rfl) rfl
theorem q1404 : (Jvm.Cond.fieldLink "SupplyGridModel" (230 : Nat) "SupplyGridModel" "budgetsTold" "I") ∈ lw_all := lw_g (lw_at lw_m6 86 rfl) rfl
theorem q1405 : (Jvm.Cond.fieldLink "SupplyGridModel" (223 : Nat) "SupplyGridModel" "loadsTold" "I") ∈ lw_all := lw_g (lw_at lw_m6 87 rfl) rfl
theorem q1406 : (Jvm.Cond.fieldLink "SupplyGridModel" (266 : Nat) "SupplyGridModel" "deadSet" "I") ∈ lw_all := lw_g (lw_at lw_m6 88 rfl) rfl
theorem q1407 : (Jvm.Cond.fieldLink "SupplyGridModel" (40 : Nat) "SupplyGridModel" "unknownOf" "[I") ∈ lw_all := lw_g (lw_at lw_m6 89 rfl) rfl
theorem q1408 : (Jvm.Cond.fieldLink "SupplyGridModel" (43 : Nat) "SupplyGridModel" "nodeOf" "[I") ∈ lw_all := lw_g (lw_at lw_m6 90 rfl) rfl
theorem q1409 : (Jvm.Cond.fieldLink "SupplyGridModel" (260 : Nat) "SupplyGridModel" "unknowns" "I") ∈ lw_all := lw_g (lw_at lw_m6 91 rfl) rfl
theorem q1410 : (Jvm.Cond.fieldLink "SupplyGridModel" (46 : Nat) "SupplyGridModel" "cells" "[J") ∈ lw_all := lw_g (lw_at lw_m6 92 rfl) rfl
theorem q1411 : (Jvm.Cond.fieldLink "SupplyGridModel" (50 : Nat) "SupplyGridModel" "whole" "J") ∈ lw_all := lw_g (lw_at lw_m6 93 rfl) rfl
theorem q1412 : (Jvm.Cond.fieldLink "SupplyGridModel" (54 : Nat) "SupplyGridModel" "ordered" "[I") ∈ lw_all := lw_g (lw_at lw_m6 94 rfl) rfl
theorem q1413 : (Jvm.Cond.fieldLink "SupplyGridModel" (57 : Nat) "SupplyGridModel" "drawnBy" "[I") ∈ lw_all := lw_g (lw_at lw_m6 95 rfl) rfl
theorem q1414 : (Jvm.Cond.fieldLink "SupplyGridModel" (60 : Nat) "SupplyGridModel" "left" "[I") ∈ lw_all := lw_g (lw_at lw_m6 96 rfl) rfl
theorem q1415 : (Jvm.Cond.fieldLink "SupplyGridModel" (63 : Nat) "SupplyGridModel" "aside" "[I") ∈ lw_all := lw_g (lw_at lw_m6 97 rfl) rfl
theorem q1416 : (Jvm.Cond.fieldLink "SupplyGridModel" (369 : Nat) "SupplyGridModel" "bestDead" "I") ∈ lw_all := lw_g (lw_at lw_m6 98 rfl) rfl
theorem q1417 : (Jvm.Cond.fieldLink "SupplyGridModel" (372 : Nat) "SupplyGridModel" "bestAbove" "J") ∈ lw_all := lw_g (lw_at lw_m6 99 rfl) rfl
theorem q1418 : (Jvm.Cond.fieldLink "SupplyGridModel" (375 : Nat) "SupplyGridModel" "bestBelow" "J") ∈ lw_all := lw_g (lw_at lw_m6 100 rfl) rfl
theorem q1419 : (Jvm.Cond.fieldLink "SupplyGridModel" (66 : Nat) "SupplyGridModel" "widened" "[I") ∈ lw_all := lw_g (lw_at lw_m6 101 rfl) rfl
theorem q1420 : (Jvm.Cond.fieldLink "SupplyGridModel" (403 : Nat) "SupplyGridModel" "widenedMany" "I") ∈ lw_all := lw_g (lw_at lw_m6 102 rfl) rfl
theorem q1421 : (Jvm.Cond.fieldLink "SupplyGridModel" (69 : Nat) "SupplyGridModel" "fewOf" "[I") ∈ lw_all := lw_g (lw_at lw_m6 103 rfl) rfl
theorem q1422 : (Jvm.Cond.fieldLink "SupplyGridModel" (438 : Nat) "SupplyGridModel" "drawing" "J") ∈ lw_all := lw_g (lw_at lw_m6 104 rfl) rfl
theorem q1423 : (Jvm.Cond.lays "SupplyGridModel" "SupplyGridModel" "thrown" "I") ∈ lw_all := lw_g (lw_at lw_m6 105 rfl) rfl
theorem q1424 : (Jvm.Cond.soleField "SupplyGridModel" "thrown") ∈ lw_all := lw_g (lw_at lw_m6 106 rfl) rfl
theorem q1425 : (Jvm.Cond.laysFinal "SupplyGridModel" "SupplyGridModel" "world" "[I") ∈ lw_all := lw_g (lw_at lw_m6 107 rfl) rfl
theorem q1426 : (Jvm.Cond.soleField "SupplyGridModel" "world") ∈ lw_all := lw_g (lw_at lw_m6 108 rfl) rfl
theorem q1427 : (Jvm.Cond.laysFinal "SupplyGridModel" "SupplyGridModel" "fresh" "[I") ∈ lw_all := lw_g (lw_at lw_m6 109 rfl) rfl
theorem q1428 : (Jvm.Cond.soleField "SupplyGridModel" "fresh") ∈ lw_all := lw_g (lw_at lw_m6 110 rfl) rfl
theorem q1429 : (Jvm.Cond.laysFinal "SupplyGridModel" "SupplyGridModel" "waysBack" "[I") ∈ lw_all := lw_g (lw_at lw_m6 111 rfl) rfl
theorem q1430 : (Jvm.Cond.soleField "SupplyGridModel" "waysBack") ∈ lw_all := lw_g (lw_at lw_m6 112 rfl) rfl
theorem q1431 : (Jvm.Cond.lays "SupplyGridModel" "SupplyGridModel" "acts" "I") ∈ lw_all := lw_g (lw_at lw_m6 113 rfl) rfl
theorem q1432 : (Jvm.Cond.soleField "SupplyGridModel" "acts") ∈ lw_all := lw_g (lw_at lw_m6 114 rfl) rfl
theorem q1433 : (Jvm.Cond.laysFinal "SupplyGridModel" "SupplyGridModel" "images" "[I") ∈ lw_all := lw_g (lw_at lw_m6 115 rfl) rfl
theorem q1434 : (Jvm.Cond.soleField "SupplyGridModel" "images") ∈ lw_all := lw_g (lw_at lw_m6 116 rfl) rfl
theorem q1435 : (Jvm.Cond.laysFinal "SupplyGridModel" "SupplyGridModel" "hasImage" "[Z") ∈ lw_all := lw_g (lw_at lw_m6 117 rfl) rfl
theorem q1436 : (Jvm.Cond.soleField "SupplyGridModel" "hasImage") ∈ lw_all := lw_g (lw_at lw_m6 118 rfl) rfl
theorem q1437 : (Jvm.Cond.laysFinal "SupplyGridModel" "SupplyGridModel" "endOf" "[I") ∈ lw_all := lw_g (lw_at lw_m6 119 rfl) rfl
theorem q1438 : (Jvm.Cond.soleField "SupplyGridModel" "endOf") ∈ lw_all := lw_g (lw_at lw_m6 120 rfl) rfl
theorem q1439 : (Jvm.Cond.lays "SupplyGridModel" "SupplyGridModel" "strapMany" "I") ∈ lw_all := lw_g (lw_at lw_m6 121 rfl) rfl
theorem q1440 : (Jvm.Cond.soleField "SupplyGridModel" "strapMany") ∈ lw_all := lw_g (lw_at lw_m6 122 rfl) rfl
theorem q1441 : (Jvm.Cond.laysFinal "SupplyGridModel" "SupplyGridModel" "tape" "[B") ∈ lw_all := lw_g (lw_at lw_m6 123 rfl) rfl
theorem q1442 : (Jvm.Cond.soleField "SupplyGridModel" "tape") ∈ lw_all := lw_g (lw_at lw_m6 124 rfl) rfl
theorem q1443 : (Jvm.Cond.lays "SupplyGridModel" "SupplyGridModel" "taped" "I") ∈ lw_all := lw_g (lw_at lw_m6 125 rfl) rfl
theorem q1444 : (Jvm.Cond.soleField "SupplyGridModel" "taped") ∈ lw_all := lw_g (lw_at lw_m6 126 rfl) rfl
theorem q1445 : (Jvm.Cond.laysFinal "SupplyGridModel" "SupplyGridModel" "five" "[I") ∈ lw_all := lw_g (lw_at lw_m6 127 rfl) rfl
theorem q1446 : (Jvm.Cond.soleField "SupplyGridModel" "five") ∈ lw_all := lw_g (lw_at lw_m6 128 rfl) rfl
theorem q1447 : (Jvm.Cond.lays "SupplyGridModel" "SupplyGridModel" "size" "I") ∈ lw_all := lw_g (lw_at lw_m6 129 rfl) rfl
theorem q1448 : (Jvm.Cond.soleField "SupplyGridModel" "size") ∈ lw_all := lw_g (lw_at lw_m6 130 rfl) rfl
theorem q1449 : (Jvm.Cond.lays "SupplyGridModel" "SupplyGridModel" "at" "I") ∈ lw_all := lw_g (lw_at lw_m6 131 rfl) rfl
theorem q1450 : (Jvm.Cond.soleField "SupplyGridModel" "at") ∈ lw_all := lw_g (lw_at lw_m6 132 rfl) rfl
theorem q1451 : (Jvm.Cond.lays "SupplyGridModel" "SupplyGridModel" "from" "I") ∈ lw_all := lw_g (lw_at lw_m6 133 rfl) rfl
theorem q1452 : (Jvm.Cond.soleField "SupplyGridModel" "from") ∈ lw_all := lw_g (lw_at lw_m6 134 rfl) rfl
theorem q1453 : (Jvm.Cond.lays "SupplyGridModel" "SupplyGridModel" "token" "I") ∈ lw_all := lw_g (lw_at lw_m6 135 rfl) rfl
theorem q1454 : (Jvm.Cond.soleField "SupplyGridModel" "token") ∈ lw_all := lw_g (lw_at lw_m6 136 rfl) rfl
theorem q1455 : (Jvm.Cond.lays "SupplyGridModel" "SupplyGridModel" "value" "I") ∈ lw_all := lw_g (lw_at lw_m6 137 rfl) rfl
theorem q1456 : (Jvm.Cond.soleField "SupplyGridModel" "value") ∈ lw_all := lw_g (lw_at lw_m6 138 rfl) rfl
theorem q1457 : (Jvm.Cond.lays "SupplyGridModel" "SupplyGridModel" "faultKind" "I") ∈ lw_all := lw_g (lw_at lw_m6 139 rfl) rfl
theorem q1458 : (Jvm.Cond.soleField "SupplyGridModel" "faultKind") ∈ lw_all := lw_g (lw_at lw_m6 140 rfl) rfl
theorem q1459 : (Jvm.Cond.lays "SupplyGridModel" "SupplyGridModel" "faultPlace" "I") ∈ lw_all := lw_g (lw_at lw_m6 141 rfl) rfl
theorem q1460 : (Jvm.Cond.soleField "SupplyGridModel" "faultPlace") ∈ lw_all := lw_g (lw_at lw_m6 142 rfl) rfl
theorem q1461 : (Jvm.Cond.lays "SupplyGridModel" "SupplyGridModel" "budgetsTold" "I") ∈ lw_all := lw_g (lw_at lw_m6 143 rfl) rfl
theorem q1462 : (Jvm.Cond.soleField "SupplyGridModel" "budgetsTold") ∈ lw_all := lw_g (lw_at lw_m6 144 rfl) rfl
theorem q1463 : (Jvm.Cond.lays "SupplyGridModel" "SupplyGridModel" "loadsTold" "I") ∈ lw_all := lw_g (lw_at lw_m6 145 rfl) rfl
theorem q1464 : (Jvm.Cond.soleField "SupplyGridModel" "loadsTold") ∈ lw_all := lw_g (lw_at lw_m6 146 rfl) rfl
theorem q1465 : (Jvm.Cond.lays "SupplyGridModel" "SupplyGridModel" "deadSet" "I") ∈ lw_all := lw_g (lw_at lw_m6 147 rfl) rfl
theorem q1466 : (Jvm.Cond.soleField "SupplyGridModel" "deadSet") ∈ lw_all := lw_g (lw_at lw_m6 148 rfl) rfl
theorem q1467 : (Jvm.Cond.laysFinal "SupplyGridModel" "SupplyGridModel" "unknownOf" "[I") ∈ lw_all := lw_g (lw_at lw_m6 149 rfl) rfl
theorem q1468 : (Jvm.Cond.soleField "SupplyGridModel" "unknownOf") ∈ lw_all := lw_g (lw_at lw_m6 150 rfl) rfl
theorem q1469 : (Jvm.Cond.laysFinal "SupplyGridModel" "SupplyGridModel" "nodeOf" "[I") ∈ lw_all := lw_g (lw_at lw_m6 151 rfl) rfl
theorem q1470 : (Jvm.Cond.soleField "SupplyGridModel" "nodeOf") ∈ lw_all := lw_g (lw_at lw_m6 152 rfl) rfl
theorem q1471 : (Jvm.Cond.lays "SupplyGridModel" "SupplyGridModel" "unknowns" "I") ∈ lw_all := lw_g (lw_at lw_m6 153 rfl) rfl
theorem q1472 : (Jvm.Cond.soleField "SupplyGridModel" "unknowns") ∈ lw_all := lw_g (lw_at lw_m6 154 rfl) rfl
theorem q1473 : (Jvm.Cond.laysFinal "SupplyGridModel" "SupplyGridModel" "cells" "[J") ∈ lw_all := lw_g (lw_at lw_m6 155 rfl) rfl
theorem q1474 : (Jvm.Cond.soleField "SupplyGridModel" "cells") ∈ lw_all := lw_g (lw_at lw_m6 156 rfl) rfl
theorem q1475 : (Jvm.Cond.lays "SupplyGridModel" "SupplyGridModel" "whole" "J") ∈ lw_all := lw_g (lw_at lw_m6 157 rfl) rfl
theorem q1476 : (Jvm.Cond.soleField "SupplyGridModel" "whole") ∈ lw_all := lw_g (lw_at lw_m6 158 rfl) rfl
theorem q1477 : (Jvm.Cond.laysFinal "SupplyGridModel" "SupplyGridModel" "ordered" "[I") ∈ lw_all := lw_g (lw_at lw_m6 159 rfl) rfl
theorem q1478 : (Jvm.Cond.soleField "SupplyGridModel" "ordered") ∈ lw_all := lw_g (lw_at lw_m6 160 rfl) rfl
theorem q1479 : (Jvm.Cond.laysFinal "SupplyGridModel" "SupplyGridModel" "drawnBy" "[I") ∈ lw_all := lw_g (lw_at lw_m6 161 rfl) rfl
theorem q1480 : (Jvm.Cond.soleField "SupplyGridModel" "drawnBy") ∈ lw_all := lw_g (lw_at lw_m6 162 rfl) rfl
theorem q1481 : (Jvm.Cond.laysFinal "SupplyGridModel" "SupplyGridModel" "left" "[I") ∈ lw_all := lw_g (lw_at lw_m6 163 rfl) rfl
theorem q1482 : (Jvm.Cond.soleField "SupplyGridModel" "left") ∈ lw_all := lw_g (lw_at lw_m6 164 rfl) rfl
theorem q1483 : (Jvm.Cond.laysFinal "SupplyGridModel" "SupplyGridModel" "aside" "[I") ∈ lw_all := lw_g (lw_at lw_m6 165 rfl) rfl
theorem q1484 : (Jvm.Cond.soleField "SupplyGridModel" "aside") ∈ lw_all := lw_g (lw_at lw_m6 166 rfl) rfl
theorem q1485 : (Jvm.Cond.lays "SupplyGridModel" "SupplyGridModel" "bestDead" "I") ∈ lw_all := lw_g (lw_at lw_m6 167 rfl) rfl
theorem q1486 : (Jvm.Cond.soleField "SupplyGridModel" "bestDead") ∈ lw_all := lw_g (lw_at lw_m6 168 rfl) rfl
theorem q1487 : (Jvm.Cond.lays "SupplyGridModel" "SupplyGridModel" "bestAbove" "J") ∈ lw_all := lw_g (lw_at lw_m6 169 rfl) rfl
theorem q1488 : (Jvm.Cond.soleField "SupplyGridModel" "bestAbove") ∈ lw_all := lw_g (lw_at lw_m6 170 rfl) rfl
theorem q1489 : (Jvm.Cond.lays "SupplyGridModel" "SupplyGridModel" "bestBelow" "J") ∈ lw_all := lw_g (lw_at lw_m6 171 rfl) rfl
theorem q1490 : (Jvm.Cond.soleField "SupplyGridModel" "bestBelow") ∈ lw_all := lw_g (lw_at lw_m6 172 rfl) rfl
theorem q1491 : (Jvm.Cond.laysFinal "SupplyGridModel" "SupplyGridModel" "widened" "[I") ∈ lw_all := lw_g (lw_at lw_m6 173 rfl) rfl
theorem q1492 : (Jvm.Cond.soleField "SupplyGridModel" "widened") ∈ lw_all := lw_g (lw_at lw_m6 174 rfl) rfl
theorem q1493 : (Jvm.Cond.lays "SupplyGridModel" "SupplyGridModel" "widenedMany" "I") ∈ lw_all := lw_g (lw_at lw_m6 175 rfl) rfl
theorem q1494 : (Jvm.Cond.soleField "SupplyGridModel" "widenedMany") ∈ lw_all := lw_g (lw_at lw_m6 176 rfl) rfl
theorem q1495 : (Jvm.Cond.laysFinal "SupplyGridModel" "SupplyGridModel" "fewOf" "[I") ∈ lw_all := lw_g (lw_at lw_m6 177 rfl) rfl
theorem q1496 : (Jvm.Cond.soleField "SupplyGridModel" "fewOf") ∈ lw_all := lw_g (lw_at lw_m6 178 rfl) rfl
theorem q1497 : (Jvm.Cond.lays "SupplyGridModel" "SupplyGridModel" "drawing" "J") ∈ lw_all := lw_g (lw_at lw_m6 179 rfl) rfl
theorem q1498 : (Jvm.Cond.soleField "SupplyGridModel" "drawing") ∈ lw_all := lw_g (lw_at lw_m6 180 rfl) rfl
theorem q1499 : (Jvm.Cond.superclass "SupplyGridModel" "java/lang/Object") ∈ lw_all := lw_g (lw_at lw_m6 181 rfl) rfl
theorem q1502 : (Jvm.Cond.instanceMethod ({ cls := "SupplyGridModel", name := "image", desc := "(I)I" } : Jvm.MethodName)) ∈ lw_all := lw_g (lw_at lw_m6 184 rfl) rfl
theorem q1503 : (Jvm.Cond.selects "SupplyGridModel" ({ cls := "SupplyGridModel", name := "image", desc := "(I)I" } : Jvm.MethodName) ({ cls := "SupplyGridModel", name := "image", desc := "(I)I" } : Jvm.MethodName)) ∈ lw_all := lw_g (lw_at lw_m6 185 rfl) rfl
theorem q1504 : (Jvm.Cond.code ({ cls := "SupplyGridModel", name := "image", desc := "(I)I" } : Jvm.MethodName) prog_17_method_9_code (4 : Nat) (Option.some Jvm.ClassFile.FieldType.int)) ∈ lw_all := lw_g (lw_at lw_m6 186 rfl) rfl
theorem q1505 : (Jvm.Cond.constantLong "SupplyGridModel" (85 : Nat) (2 : Int64)) ∈ lw_all := lw_g (lw_at lw_m6 187 rfl) rfl
theorem q1506 : (Jvm.Cond.methodLink "SupplyGridModel" (87 : Nat) ({ cls := "SupplyGridModel", name := "in", desc := "(JJJ)Z" } : Jvm.MethodName)) ∈ lw_all := lw_g (lw_at lw_m6 188 rfl) rfl
theorem q1507 : (Jvm.Cond.static ({ cls := "SupplyGridModel", name := "in", desc := "(JJJ)Z" } : Jvm.MethodName)) ∈ lw_all := lw_g (lw_at lw_m6 189 rfl) rfl
theorem q1508 : (Jvm.Cond.code ({ cls := "SupplyGridModel", name := "in", desc := "(JJJ)Z" } : Jvm.MethodName) prog_17_method_3_code (6 : Nat) (Option.some Jvm.ClassFile.FieldType.boolean)) ∈ lw_all := lw_g (lw_at lw_m6 190 rfl) rfl
theorem q1510 : (Jvm.Cond.instanceMethod ({ cls := "SupplyGridModel", name := "back", desc := "(I)I" } : Jvm.MethodName)) ∈ lw_all := lw_g (lw_at lw_m6 192 rfl) rfl
theorem q1511 : (Jvm.Cond.selects "SupplyGridModel" ({ cls := "SupplyGridModel", name := "back", desc := "(I)I" } : Jvm.MethodName) ({ cls := "SupplyGridModel", name := "back", desc := "(I)I" } : Jvm.MethodName)) ∈ lw_all := lw_g (lw_at lw_m6 193 rfl) rfl
theorem q1512 : (Jvm.Cond.code ({ cls := "SupplyGridModel", name := "back", desc := "(I)I" } : Jvm.MethodName) prog_17_method_10_code (4 : Nat) (Option.some Jvm.ClassFile.FieldType.int)) ∈ lw_all := lw_g (lw_at lw_m6 194 rfl) rfl
theorem q1514 : (Jvm.Cond.instanceMethod ({ cls := "SupplyGridModel", name := "feed", desc := "(IIIII)I" } : Jvm.MethodName)) ∈ lw_all := lw_g (lw_at lw_m6 196 rfl) rfl
theorem q1515 : (Jvm.Cond.selects "SupplyGridModel" ({ cls := "SupplyGridModel", name := "feed", desc := "(IIIII)I" } : Jvm.MethodName) ({ cls := "SupplyGridModel", name := "feed", desc := "(IIIII)I" } : Jvm.MethodName)) ∈ lw_all := lw_g (lw_at lw_m6 197 rfl) rfl
theorem q1516 : (Jvm.Cond.code ({ cls := "SupplyGridModel", name := "feed", desc := "(IIIII)I" } : Jvm.MethodName) prog_17_method_20_code (7 : Nat) (Option.some Jvm.ClassFile.FieldType.int)) ∈ lw_all := lw_g (lw_at lw_m6 198 rfl) rfl
theorem q1518 : (Jvm.Cond.instanceMethod ({ cls := "SupplyGridModel", name := "end", desc := "(I)I" } : Jvm.MethodName)) ∈ lw_all := lw_g (lw_at lw_m6 200 rfl) rfl
theorem q1519 : (Jvm.Cond.selects "SupplyGridModel" ({ cls := "SupplyGridModel", name := "end", desc := "(I)I" } : Jvm.MethodName) ({ cls := "SupplyGridModel", name := "end", desc := "(I)I" } : Jvm.MethodName)) ∈ lw_all := lw_g (lw_at lw_m6 201 rfl) rfl
theorem q1520 : (Jvm.Cond.code ({ cls := "SupplyGridModel", name := "end", desc := "(I)I" } : Jvm.MethodName) prog_17_method_21_code (2 : Nat) (Option.some Jvm.ClassFile.FieldType.int)) ∈ lw_all := lw_g (lw_at lw_m6 202 rfl) rfl
theorem q1522 : (Jvm.Cond.instanceMethod ({ cls := "SupplyGridModel", name := "fault", desc := "(I)I" } : Jvm.MethodName)) ∈ lw_all := lw_g (lw_at lw_m6 204 rfl) rfl
theorem q1523 : (Jvm.Cond.selects "SupplyGridModel" ({ cls := "SupplyGridModel", name := "fault", desc := "(I)I" } : Jvm.MethodName) ({ cls := "SupplyGridModel", name := "fault", desc := "(I)I" } : Jvm.MethodName)) ∈ lw_all := lw_g (lw_at lw_m6 205 rfl) rfl
theorem q1524 : (Jvm.Cond.code ({ cls := "SupplyGridModel", name := "fault", desc := "(I)I" } : Jvm.MethodName) prog_17_method_30_code (2 : Nat) (Option.some Jvm.ClassFile.FieldType.int)) ∈ lw_all := lw_g (lw_at lw_m6 206 rfl) rfl
theorem q1526 : (Jvm.Cond.instanceMethod ({ cls := "SupplyGridModel", name := "grid", desc := "()I" } : Jvm.MethodName)) ∈ lw_all := lw_g (lw_at lw_m6 208 rfl) rfl
theorem q1527 : (Jvm.Cond.selects "SupplyGridModel" ({ cls := "SupplyGridModel", name := "grid", desc := "()I" } : Jvm.MethodName) ({ cls := "SupplyGridModel", name := "grid", desc := "()I" } : Jvm.MethodName)) ∈ lw_all := lw_g (lw_at lw_m6 209 rfl) rfl
theorem q1528 : (Jvm.Cond.code ({ cls := "SupplyGridModel", name := "grid", desc := "()I" } : Jvm.MethodName) prog_17_method_38_code (2 : Nat) (Option.some Jvm.ClassFile.FieldType.int)) ∈ lw_all := lw_g (lw_at lw_m6 210 rfl) rfl
theorem q1529 : (Jvm.Cond.methodLink "SupplyGridModel" (176 : Nat) ({ cls := "SupplyGridModel", name := "advance", desc := "()V" } : Jvm.MethodName)) ∈ lw_all := lw_g (lw_at lw_m6 211 rfl) rfl
theorem q1530 : (Jvm.Cond.privateMethod ({ cls := "SupplyGridModel", name := "advance", desc := "()V" } : Jvm.MethodName)) ∈ lw_tbl := lw_at lw_m6 212 rfl
theorem q1531 : (Jvm.Cond.instanceMethod ({ cls := "SupplyGridModel", name := "advance", desc := "()V" } : Jvm.MethodName)) ∈ lw_all := lw_g (lw_at lw_m6 213 rfl) rfl
theorem q1532 : (Jvm.Cond.code ({ cls := "SupplyGridModel", name := "advance", desc := "()V" } : Jvm.MethodName) prog_17_method_23_code (2 : Nat) (Option.none : Option Jvm.ClassFile.FieldType)) ∈ lw_all := lw_g (lw_at lw_m6 214 rfl) rfl
theorem q1533 : (Jvm.Cond.methodLink "SupplyGridModel" (135 : Nat) ({ cls := "SupplyGridModel", name := "see", desc := "(I)I" } : Jvm.MethodName)) ∈ lw_all := lw_g (lw_at lw_m6 215 rfl) rfl
theorem q1534 : (Jvm.Cond.privateMethod ({ cls := "SupplyGridModel", name := "see", desc := "(I)I" } : Jvm.MethodName)) ∈ lw_tbl := lw_at lw_m6 216 rfl
theorem q1535 : (Jvm.Cond.instanceMethod ({ cls := "SupplyGridModel", name := "see", desc := "(I)I" } : Jvm.MethodName)) ∈ lw_all := lw_g (lw_at lw_m6 217 rfl) rfl
theorem q1536 : (Jvm.Cond.code ({ cls := "SupplyGridModel", name := "see", desc := "(I)I" } : Jvm.MethodName) prog_17_method_22_code (2 : Nat) (Option.some Jvm.ClassFile.FieldType.int)) ∈ lw_all := lw_g (lw_at lw_m6 218 rfl) rfl
theorem q1537 : (Jvm.Cond.constantLong "SupplyGridModel" (145 : Nat) (97 : Int64)) ∈ lw_all := lw_g (lw_at lw_m6 219 rfl) rfl
theorem q1538 : (Jvm.Cond.constantLong "SupplyGridModel" (147 : Nat) (122 : Int64)) ∈ lw_all := lw_g (lw_at lw_m6 220 rfl) rfl
theorem q1539 : (Jvm.Cond.constantLong "SupplyGridModel" (149 : Nat) (48 : Int64)) ∈ lw_all := lw_g (lw_at lw_m6 221 rfl) rfl
theorem q1540 : (Jvm.Cond.constantLong "SupplyGridModel" (151 : Nat) (57 : Int64)) ∈ lw_all := lw_g (lw_at lw_m6 222 rfl) rfl
theorem q1541 : (Jvm.Cond.constant "SupplyGridModel" (156 : Nat) (99999 : Int32)) ∈ lw_all := lw_g (lw_at lw_m6 223 rfl) rfl
theorem q1542 : (Jvm.Cond.methodLink "SupplyGridModel" (119 : Nat) ({ cls := "java/lang/Math", name := "min", desc := "(II)I" } : Jvm.MethodName)) ∈ lw_all := lw_g (lw_at lw_m6 224 rfl) rfl
theorem q1543 : (Jvm.Cond.methodLink "SupplyGridModel" (160 : Nat) ({ cls := "SupplyGridModel", name := "good", desc := "()Z" } : Jvm.MethodName)) ∈ lw_all := lw_g (lw_at lw_m6 225 rfl) rfl
theorem q1544 : (Jvm.Cond.privateMethod ({ cls := "SupplyGridModel", name := "good", desc := "()Z" } : Jvm.MethodName)) ∈ lw_tbl := lw_at lw_m6 226 rfl
theorem q1545 : (Jvm.Cond.instanceMethod ({ cls := "SupplyGridModel", name := "good", desc := "()Z" } : Jvm.MethodName)) ∈ lw_all := lw_g (lw_at lw_m6 227 rfl) rfl
theorem q1546 : (Jvm.Cond.code ({ cls := "SupplyGridModel", name := "good", desc := "()Z" } : Jvm.MethodName) prog_17_method_24_code (1 : Nat) (Option.some Jvm.ClassFile.FieldType.boolean)) ∈ lw_all := lw_g (lw_at lw_m6 228 rfl) rfl
theorem q1547 : (Jvm.Cond.methodLink "SupplyGridModel" (257 : Nat) ({ cls := "SupplyGridModel", name := "readText", desc := "()V" } : Jvm.MethodName)) ∈ lw_all := lw_g (lw_at lw_m6 229 rfl) rfl
theorem q1548 : (Jvm.Cond.privateMethod ({ cls := "SupplyGridModel", name := "readText", desc := "()V" } : Jvm.MethodName)) ∈ lw_tbl := lw_at lw_m6 230 rfl
theorem q1549 : (Jvm.Cond.instanceMethod ({ cls := "SupplyGridModel", name := "readText", desc := "()V" } : Jvm.MethodName)) ∈ lw_all := lw_g (lw_at lw_m6 231 rfl) rfl
theorem q1550 : (Jvm.Cond.code ({ cls := "SupplyGridModel", name := "readText", desc := "()V" } : Jvm.MethodName) prog_17_method_37_code (1 : Nat) (Option.none : Option Jvm.ClassFile.FieldType)) ∈ lw_all := lw_g (lw_at lw_m6 232 rfl) rfl
theorem q1551 : (Jvm.Cond.methodLink "SupplyGridModel" (251 : Nat) ({ cls := "SupplyGridModel", name := "readFirst", desc := "()V" } : Jvm.MethodName)) ∈ lw_all := lw_g (lw_at lw_m6 233 rfl) rfl
theorem q1552 : (Jvm.Cond.privateMethod ({ cls := "SupplyGridModel", name := "readFirst", desc := "()V" } : Jvm.MethodName)) ∈ lw_tbl := lw_at lw_m6 234 rfl
theorem q1553 : (Jvm.Cond.instanceMethod ({ cls := "SupplyGridModel", name := "readFirst", desc := "()V" } : Jvm.MethodName)) ∈ lw_all := lw_g (lw_at lw_m6 235 rfl) rfl
theorem q1554 : (Jvm.Cond.code ({ cls := "SupplyGridModel", name := "readFirst", desc := "()V" } : Jvm.MethodName) prog_17_method_31_code (3 : Nat) (Option.none : Option Jvm.ClassFile.FieldType)) ∈ lw_all := lw_g (lw_at lw_m6 236 rfl) rfl
theorem q1555 : (Jvm.Cond.stringRef "SupplyGridModel" (190 : Nat) "grid") ∈ lw_tbl := lw_at lw_m6 237 rfl
theorem q1556 : (Jvm.Cond.methodLink "SupplyGridModel" (183 : Nat) ({ cls := "SupplyGridModel", name := "expects", desc := "(Ljava/lang/String;)V" } : Jvm.MethodName)) ∈ lw_all := lw_g (lw_at lw_m6 238 rfl) rfl
theorem q1557 : (Jvm.Cond.privateMethod ({ cls := "SupplyGridModel", name := "expects", desc := "(Ljava/lang/String;)V" } : Jvm.MethodName)) ∈ lw_tbl := lw_at lw_m6 239 rfl
theorem q1558 : (Jvm.Cond.instanceMethod ({ cls := "SupplyGridModel", name := "expects", desc := "(Ljava/lang/String;)V" } : Jvm.MethodName)) ∈ lw_all := lw_g (lw_at lw_m7 0 rfl) rfl
theorem q1559 : (Jvm.Cond.code ({ cls := "SupplyGridModel", name := "expects", desc := "(Ljava/lang/String;)V" } : Jvm.MethodName) prog_17_method_27_code (2 : Nat) (Option.none : Option Jvm.ClassFile.FieldType)) ∈ lw_all := lw_g (lw_at lw_m7 1 rfl) rfl
theorem q1560 : (Jvm.Cond.methodLink "SupplyGridModel" (172 : Nat) ({ cls := "SupplyGridModel", name := "is", desc := "(Ljava/lang/String;)Z" } : Jvm.MethodName)) ∈ lw_all := lw_g (lw_at lw_m7 2 rfl) rfl
theorem q1561 : (Jvm.Cond.privateMethod ({ cls := "SupplyGridModel", name := "is", desc := "(Ljava/lang/String;)Z" } : Jvm.MethodName)) ∈ lw_tbl := lw_at lw_m7 3 rfl
theorem q1562 : (Jvm.Cond.instanceMethod ({ cls := "SupplyGridModel", name := "is", desc := "(Ljava/lang/String;)Z" } : Jvm.MethodName)) ∈ lw_all := lw_g (lw_at lw_m7 4 rfl) rfl
theorem q1563 : (Jvm.Cond.code ({ cls := "SupplyGridModel", name := "is", desc := "(Ljava/lang/String;)Z" } : Jvm.MethodName) prog_17_method_26_code (4 : Nat) (Option.some Jvm.ClassFile.FieldType.boolean)) ∈ lw_all := lw_g (lw_at lw_m7 5 rfl) rfl
theorem q1564 : (Jvm.Cond.methodLink "SupplyGridModel" (163 : Nat) ({ cls := "java/lang/String", name := "length", desc := "()I" } : Jvm.MethodName)) ∈ lw_all := lw_g (lw_at lw_m7 6 rfl) rfl
theorem q1565 : (Jvm.Cond.methodLink "SupplyGridModel" (168 : Nat) ({ cls := "java/lang/String", name := "charAt", desc := "(I)C" } : Jvm.MethodName)) ∈ lw_all := lw_g (lw_at lw_m7 7 rfl) rfl
theorem q1566 : (Jvm.Cond.methodLink "SupplyGridModel" (179 : Nat) ({ cls := "SupplyGridModel", name := "errs", desc := "(I)V" } : Jvm.MethodName)) ∈ lw_all := lw_g (lw_at lw_m7 8 rfl) rfl
theorem q1567 : (Jvm.Cond.privateMethod ({ cls := "SupplyGridModel", name := "errs", desc := "(I)V" } : Jvm.MethodName)) ∈ lw_tbl := lw_at lw_m7 9 rfl
theorem q1568 : (Jvm.Cond.instanceMethod ({ cls := "SupplyGridModel", name := "errs", desc := "(I)V" } : Jvm.MethodName)) ∈ lw_all := lw_g (lw_at lw_m7 10 rfl) rfl
theorem q1569 : (Jvm.Cond.code ({ cls := "SupplyGridModel", name := "errs", desc := "(I)V" } : Jvm.MethodName) prog_17_method_25_code (2 : Nat) (Option.none : Option Jvm.ClassFile.FieldType)) ∈ lw_all := lw_g (lw_at lw_m7 11 rfl) rfl
theorem q1570 : (Jvm.Cond.stringRef "SupplyGridModel" (192 : Nat) "columns") ∈ lw_tbl := lw_at lw_m7 12 rfl
theorem q1571 : (Jvm.Cond.methodLink "SupplyGridModel" (194 : Nat) ({ cls := "SupplyGridModel", name := "told", desc := "(Ljava/lang/String;II)I" } : Jvm.MethodName)) ∈ lw_all := lw_g (lw_at lw_m7 13 rfl) rfl
theorem q1572 : (Jvm.Cond.privateMethod ({ cls := "SupplyGridModel", name := "told", desc := "(Ljava/lang/String;II)I" } : Jvm.MethodName)) ∈ lw_tbl := lw_at lw_m7 14 rfl
theorem q1573 : (Jvm.Cond.instanceMethod ({ cls := "SupplyGridModel", name := "told", desc := "(Ljava/lang/String;II)I" } : Jvm.MethodName)) ∈ lw_all := lw_g (lw_at lw_m7 15 rfl) rfl
theorem q1574 : (Jvm.Cond.code ({ cls := "SupplyGridModel", name := "told", desc := "(Ljava/lang/String;II)I" } : Jvm.MethodName) prog_17_method_29_code (4 : Nat) (Option.some Jvm.ClassFile.FieldType.int)) ∈ lw_all := lw_g (lw_at lw_m7 16 rfl) rfl
theorem q1575 : (Jvm.Cond.methodLink "SupplyGridModel" (187 : Nat) ({ cls := "SupplyGridModel", name := "takes", desc := "(II)I" } : Jvm.MethodName)) ∈ lw_all := lw_g (lw_at lw_m7 17 rfl) rfl
theorem q1576 : (Jvm.Cond.privateMethod ({ cls := "SupplyGridModel", name := "takes", desc := "(II)I" } : Jvm.MethodName)) ∈ lw_tbl := lw_at lw_m7 18 rfl
theorem q1577 : (Jvm.Cond.instanceMethod ({ cls := "SupplyGridModel", name := "takes", desc := "(II)I" } : Jvm.MethodName)) ∈ lw_all := lw_g (lw_at lw_m7 19 rfl) rfl
theorem q1578 : (Jvm.Cond.code ({ cls := "SupplyGridModel", name := "takes", desc := "(II)I" } : Jvm.MethodName) prog_17_method_28_code (4 : Nat) (Option.some Jvm.ClassFile.FieldType.int)) ∈ lw_all := lw_g (lw_at lw_m7 20 rfl) rfl
theorem q1579 : (Jvm.Cond.stringRef "SupplyGridModel" (198 : Nat) "rows") ∈ lw_tbl := lw_at lw_m7 21 rfl
theorem q1580 : (Jvm.Cond.constantLong "SupplyGridModel" (200 : Nat) (9 : Int64)) ∈ lw_all := lw_g (lw_at lw_m7 22 rfl) rfl
theorem q1581 : (Jvm.Cond.stringRef "SupplyGridModel" (202 : Nat) "width") ∈ lw_tbl := lw_at lw_m7 23 rfl
theorem q1582 : (Jvm.Cond.stringRef "SupplyGridModel" (204 : Nat) "limit") ∈ lw_tbl := lw_at lw_m7 24 rfl
theorem q1583 : (Jvm.Cond.stringRef "SupplyGridModel" (206 : Nat) "wear") ∈ lw_tbl := lw_at lw_m7 25 rfl
theorem q1584 : (Jvm.Cond.methodLink "SupplyGridModel" (113 : Nat) ({ cls := "SupplyGridModel", name := "laysStraps", desc := "(II)V" } : Jvm.MethodName)) ∈ lw_all := lw_g (lw_at lw_m7 26 rfl) rfl
theorem q1585 : (Jvm.Cond.privateMethod ({ cls := "SupplyGridModel", name := "laysStraps", desc := "(II)V" } : Jvm.MethodName)) ∈ lw_tbl := lw_at lw_m7 27 rfl
theorem q1586 : (Jvm.Cond.instanceMethod ({ cls := "SupplyGridModel", name := "laysStraps", desc := "(II)V" } : Jvm.MethodName)) ∈ lw_all := lw_g (lw_at lw_m7 28 rfl) rfl
theorem q1587 : (Jvm.Cond.code ({ cls := "SupplyGridModel", name := "laysStraps", desc := "(II)V" } : Jvm.MethodName) prog_17_method_16_code (4 : Nat) (Option.none : Option Jvm.ClassFile.FieldType)) ∈ lw_all := lw_g (lw_at lw_m7 29 rfl) rfl
theorem q1588 : (Jvm.Cond.methodLink "SupplyGridModel" (105 : Nat) ({ cls := "SupplyGridModel", name := "addsStrap", desc := "(II)V" } : Jvm.MethodName)) ∈ lw_all := lw_g (lw_at lw_m7 30 rfl) rfl
theorem q1589 : (Jvm.Cond.privateMethod ({ cls := "SupplyGridModel", name := "addsStrap", desc := "(II)V" } : Jvm.MethodName)) ∈ lw_tbl := lw_at lw_m7 31 rfl
theorem q1590 : (Jvm.Cond.instanceMethod ({ cls := "SupplyGridModel", name := "addsStrap", desc := "(II)V" } : Jvm.MethodName)) ∈ lw_all := lw_g (lw_at lw_m7 32 rfl) rfl
theorem q1591 : (Jvm.Cond.code ({ cls := "SupplyGridModel", name := "addsStrap", desc := "(II)V" } : Jvm.MethodName) prog_17_method_15_code (3 : Nat) (Option.none : Option Jvm.ClassFile.FieldType)) ∈ lw_all := lw_g (lw_at lw_m7 33 rfl) rfl
theorem q1592 : (Jvm.Cond.methodLink "SupplyGridModel" (254 : Nat) ({ cls := "SupplyGridModel", name := "readLine", desc := "()V" } : Jvm.MethodName)) ∈ lw_all := lw_g (lw_at lw_m7 34 rfl) rfl
theorem q1593 : (Jvm.Cond.privateMethod ({ cls := "SupplyGridModel", name := "readLine", desc := "()V" } : Jvm.MethodName)) ∈ lw_tbl := lw_at lw_m7 35 rfl
theorem q1594 : (Jvm.Cond.instanceMethod ({ cls := "SupplyGridModel", name := "readLine", desc := "()V" } : Jvm.MethodName)) ∈ lw_all := lw_g (lw_at lw_m7 36 rfl) rfl
theorem q1595 : (Jvm.Cond.code ({ cls := "SupplyGridModel", name := "readLine", desc := "()V" } : Jvm.MethodName) prog_17_method_36_code (2 : Nat) (Option.none : Option Jvm.ClassFile.FieldType)) ∈ lw_all := lw_g (lw_at lw_m7 37 rfl) rfl
theorem q1596 : (Jvm.Cond.stringRef "SupplyGridModel" (234 : Nat) "strap") ∈ lw_tbl := lw_at lw_m7 38 rfl
theorem q1597 : (Jvm.Cond.methodLink "SupplyGridModel" (236 : Nat) ({ cls := "SupplyGridModel", name := "readStrap", desc := "()V" } : Jvm.MethodName)) ∈ lw_all := lw_g (lw_at lw_m7 39 rfl) rfl
theorem q1598 : (Jvm.Cond.privateMethod ({ cls := "SupplyGridModel", name := "readStrap", desc := "()V" } : Jvm.MethodName)) ∈ lw_tbl := lw_at lw_m7 40 rfl
theorem q1599 : (Jvm.Cond.instanceMethod ({ cls := "SupplyGridModel", name := "readStrap", desc := "()V" } : Jvm.MethodName)) ∈ lw_all := lw_g (lw_at lw_m7 41 rfl) rfl
theorem q1600 : (Jvm.Cond.code ({ cls := "SupplyGridModel", name := "readStrap", desc := "()V" } : Jvm.MethodName) prog_17_method_33_code (6 : Nat) (Option.none : Option Jvm.ClassFile.FieldType)) ∈ lw_all := lw_g (lw_at lw_m7 42 rfl) rfl
theorem q1601 : (Jvm.Cond.methodLink "SupplyGridModel" (213 : Nat) ({ cls := "SupplyGridModel", name := "readPlace", desc := "(I)I" } : Jvm.MethodName)) ∈ lw_all := lw_g (lw_at lw_m7 43 rfl) rfl
theorem q1602 : (Jvm.Cond.privateMethod ({ cls := "SupplyGridModel", name := "readPlace", desc := "(I)I" } : Jvm.MethodName)) ∈ lw_tbl := lw_at lw_m7 44 rfl
theorem q1603 : (Jvm.Cond.instanceMethod ({ cls := "SupplyGridModel", name := "readPlace", desc := "(I)I" } : Jvm.MethodName)) ∈ lw_all := lw_g (lw_at lw_m7 45 rfl) rfl
theorem q1604 : (Jvm.Cond.code ({ cls := "SupplyGridModel", name := "readPlace", desc := "(I)I" } : Jvm.MethodName) prog_17_method_32_code (4 : Nat) (Option.some Jvm.ClassFile.FieldType.int)) ∈ lw_all := lw_g (lw_at lw_m7 46 rfl) rfl
theorem q1605 : (Jvm.Cond.stringRef "SupplyGridModel" (208 : Nat) "at") ∈ lw_tbl := lw_at lw_m7 47 rfl
theorem q1606 : (Jvm.Cond.methodLink "SupplyGridModel" (209 : Nat) ({ cls := "SupplyGridModel", name := "isOf", desc := "(II)Z" } : Jvm.MethodName)) ∈ lw_all := lw_g (lw_at lw_m7 48 rfl) rfl
theorem q1607 : (Jvm.Cond.static ({ cls := "SupplyGridModel", name := "isOf", desc := "(II)Z" } : Jvm.MethodName)) ∈ lw_all := lw_g (lw_at lw_m7 49 rfl) rfl
theorem q1608 : (Jvm.Cond.code ({ cls := "SupplyGridModel", name := "isOf", desc := "(II)Z" } : Jvm.MethodName) prog_17_method_4_code (2 : Nat) (Option.some Jvm.ClassFile.FieldType.boolean)) ∈ lw_all := lw_g (lw_at lw_m7 50 rfl) rfl
theorem q1609 : (Jvm.Cond.stringRef "SupplyGridModel" (216 : Nat) "east") ∈ lw_tbl := lw_at lw_m7 51 rfl
theorem q1610 : (Jvm.Cond.stringRef "SupplyGridModel" (218 : Nat) "south") ∈ lw_tbl := lw_at lw_m7 52 rfl
theorem q1611 : (Jvm.Cond.methodLink "SupplyGridModel" (220 : Nat) ({ cls := "SupplyGridModel", name := "strapOf", desc := "(II)I" } : Jvm.MethodName)) ∈ lw_all := lw_g (lw_at lw_m7 53 rfl) rfl
theorem q1612 : (Jvm.Cond.privateMethod ({ cls := "SupplyGridModel", name := "strapOf", desc := "(II)I" } : Jvm.MethodName)) ∈ lw_tbl := lw_at lw_m7 54 rfl
theorem q1613 : (Jvm.Cond.instanceMethod ({ cls := "SupplyGridModel", name := "strapOf", desc := "(II)I" } : Jvm.MethodName)) ∈ lw_all := lw_g (lw_at lw_m7 55 rfl) rfl
theorem q1614 : (Jvm.Cond.code ({ cls := "SupplyGridModel", name := "strapOf", desc := "(II)I" } : Jvm.MethodName) prog_17_method_19_code (4 : Nat) (Option.some Jvm.ClassFile.FieldType.int)) ∈ lw_all := lw_g (lw_at lw_m7 56 rfl) rfl
theorem q1615 : (Jvm.Cond.methodLink "SupplyGridModel" (123 : Nat) ({ cls := "java/lang/Math", name := "max", desc := "(II)I" } : Jvm.MethodName)) ∈ lw_all := lw_g (lw_at lw_m7 57 rfl) rfl
theorem q1616 : (Jvm.Cond.stringRef "SupplyGridModel" (239 : Nat) "pad") ∈ lw_tbl := lw_at lw_m7 58 rfl
theorem q1617 : (Jvm.Cond.stringRef "SupplyGridModel" (241 : Nat) "load") ∈ lw_tbl := lw_at lw_m7 59 rfl
theorem q1618 : (Jvm.Cond.methodLink "SupplyGridModel" (243 : Nat) ({ cls := "SupplyGridModel", name := "readLoad", desc := "()V" } : Jvm.MethodName)) ∈ lw_all := lw_g (lw_at lw_m7 60 rfl) rfl
theorem q1619 : (Jvm.Cond.privateMethod ({ cls := "SupplyGridModel", name := "readLoad", desc := "()V" } : Jvm.MethodName)) ∈ lw_tbl := lw_at lw_m7 61 rfl
theorem q1620 : (Jvm.Cond.instanceMethod ({ cls := "SupplyGridModel", name := "readLoad", desc := "()V" } : Jvm.MethodName)) ∈ lw_all := lw_g (lw_at lw_m7 62 rfl) rfl
theorem q1621 : (Jvm.Cond.code ({ cls := "SupplyGridModel", name := "readLoad", desc := "()V" } : Jvm.MethodName) prog_17_method_34_code (4 : Nat) (Option.none : Option Jvm.ClassFile.FieldType)) ∈ lw_all := lw_g (lw_at lw_m7 63 rfl) rfl
theorem q1622 : (Jvm.Cond.stringRef "SupplyGridModel" (226 : Nat) "draws") ∈ lw_tbl := lw_at lw_m7 64 rfl
theorem q1623 : (Jvm.Cond.stringRef "SupplyGridModel" (228 : Nat) "group") ∈ lw_tbl := lw_at lw_m7 65 rfl
theorem q1624 : (Jvm.Cond.stringRef "SupplyGridModel" (246 : Nat) "budget") ∈ lw_tbl := lw_at lw_m7 66 rfl
theorem q1625 : (Jvm.Cond.methodLink "SupplyGridModel" (248 : Nat) ({ cls := "SupplyGridModel", name := "readBudget", desc := "()V" } : Jvm.MethodName)) ∈ lw_all := lw_g (lw_at lw_m7 67 rfl) rfl
theorem q1626 : (Jvm.Cond.privateMethod ({ cls := "SupplyGridModel", name := "readBudget", desc := "()V" } : Jvm.MethodName)) ∈ lw_tbl := lw_at lw_m7 68 rfl
theorem q1627 : (Jvm.Cond.instanceMethod ({ cls := "SupplyGridModel", name := "readBudget", desc := "()V" } : Jvm.MethodName)) ∈ lw_all := lw_g (lw_at lw_m7 69 rfl) rfl
theorem q1628 : (Jvm.Cond.code ({ cls := "SupplyGridModel", name := "readBudget", desc := "()V" } : Jvm.MethodName) prog_17_method_35_code (3 : Nat) (Option.none : Option Jvm.ClassFile.FieldType)) ∈ lw_all := lw_g (lw_at lw_m7 70 rfl) rfl
theorem q1629 : (Jvm.Cond.stringRef "SupplyGridModel" (233 : Nat) "is") ∈ lw_tbl := lw_at lw_m7 71 rfl
theorem q1631 : (Jvm.Cond.instanceMethod ({ cls := "SupplyGridModel", name := "count", desc := "(I)I" } : Jvm.MethodName)) ∈ lw_all := lw_g (lw_at lw_m7 73 rfl) rfl
theorem q1632 : (Jvm.Cond.selects "SupplyGridModel" ({ cls := "SupplyGridModel", name := "count", desc := "(I)I" } : Jvm.MethodName) ({ cls := "SupplyGridModel", name := "count", desc := "(I)I" } : Jvm.MethodName)) ∈ lw_all := lw_g (lw_at lw_m7 74 rfl) rfl
theorem q1633 : (Jvm.Cond.code ({ cls := "SupplyGridModel", name := "count", desc := "(I)I" } : Jvm.MethodName) prog_17_method_52_code (2 : Nat) (Option.some Jvm.ClassFile.FieldType.int)) ∈ lw_all := lw_g (lw_at lw_m7 75 rfl) rfl
theorem q1634 : (Jvm.Cond.methodLink "SupplyGridModel" (116 : Nat) ({ cls := "SupplyGridModel", name := "straps", desc := "()I" } : Jvm.MethodName)) ∈ lw_all := lw_g (lw_at lw_m7 76 rfl) rfl
theorem q1635 : (Jvm.Cond.privateMethod ({ cls := "SupplyGridModel", name := "straps", desc := "()I" } : Jvm.MethodName)) ∈ lw_tbl := lw_at lw_m7 77 rfl
theorem q1636 : (Jvm.Cond.instanceMethod ({ cls := "SupplyGridModel", name := "straps", desc := "()I" } : Jvm.MethodName)) ∈ lw_all := lw_g (lw_at lw_m7 78 rfl) rfl
theorem q1637 : (Jvm.Cond.code ({ cls := "SupplyGridModel", name := "straps", desc := "()I" } : Jvm.MethodName) prog_17_method_17_code (1 : Nat) (Option.some Jvm.ClassFile.FieldType.int)) ∈ lw_all := lw_g (lw_at lw_m7 79 rfl) rfl
theorem q1638 : (Jvm.Cond.methodLink "SupplyGridModel" (109 : Nat) ({ cls := "SupplyGridModel", name := "isGrid", desc := "()Z" } : Jvm.MethodName)) ∈ lw_all := lw_g (lw_at lw_m7 80 rfl) rfl
theorem q1639 : (Jvm.Cond.privateMethod ({ cls := "SupplyGridModel", name := "isGrid", desc := "()Z" } : Jvm.MethodName)) ∈ lw_tbl := lw_at lw_m7 81 rfl
theorem q1640 : (Jvm.Cond.instanceMethod ({ cls := "SupplyGridModel", name := "isGrid", desc := "()Z" } : Jvm.MethodName)) ∈ lw_all := lw_g (lw_at lw_m7 82 rfl) rfl
theorem q1641 : (Jvm.Cond.code ({ cls := "SupplyGridModel", name := "isGrid", desc := "()Z" } : Jvm.MethodName) prog_17_method_11_code (1 : Nat) (Option.some Jvm.ClassFile.FieldType.boolean)) ∈ lw_all := lw_g (lw_at lw_m7 83 rfl) rfl
theorem q1642 : (Jvm.Cond.methodLink "SupplyGridModel" (302 : Nat) ({ cls := "SupplyGridModel", name := "asks", desc := "()Z" } : Jvm.MethodName)) ∈ lw_all := lw_g (lw_at lw_m7 84 rfl) rfl
theorem q1643 : (Jvm.Cond.privateMethod ({ cls := "SupplyGridModel", name := "asks", desc := "()Z" } : Jvm.MethodName)) ∈ lw_tbl := lw_at lw_m7 85 rfl
theorem q1644 : (Jvm.Cond.instanceMethod ({ cls := "SupplyGridModel", name := "asks", desc := "()Z" } : Jvm.MethodName)) ∈ lw_all := lw_g (lw_at lw_m7 86 rfl) rfl
theorem q1645 : (Jvm.Cond.code ({ cls := "SupplyGridModel", name := "asks", desc := "()Z" } : Jvm.MethodName) prog_17_method_50_code (1 : Nat) (Option.some Jvm.ClassFile.FieldType.boolean)) ∈ lw_all := lw_g (lw_at lw_m7 87 rfl) rfl
theorem q1646 : (Jvm.Cond.methodLink "SupplyGridModel" (292 : Nat) ({ cls := "SupplyGridModel", name := "lays", desc := "()V" } : Jvm.MethodName)) ∈ lw_all := lw_g (lw_at lw_m7 88 rfl) rfl
theorem q1647 : (Jvm.Cond.privateMethod ({ cls := "SupplyGridModel", name := "lays", desc := "()V" } : Jvm.MethodName)) ∈ lw_tbl := lw_at lw_m7 89 rfl
theorem q1648 : (Jvm.Cond.instanceMethod ({ cls := "SupplyGridModel", name := "lays", desc := "()V" } : Jvm.MethodName)) ∈ lw_all := lw_g (lw_at lw_m7 90 rfl) rfl
theorem q1649 : (Jvm.Cond.code ({ cls := "SupplyGridModel", name := "lays", desc := "()V" } : Jvm.MethodName) prog_17_method_43_code (1 : Nat) (Option.none : Option Jvm.ClassFile.FieldType)) ∈ lw_all := lw_g (lw_at lw_m7 91 rfl) rfl
theorem q1650 : (Jvm.Cond.methodLink "SupplyGridModel" (275 : Nat) ({ cls := "SupplyGridModel", name := "solves", desc := "(I)V" } : Jvm.MethodName)) ∈ lw_all := lw_g (lw_at lw_m7 92 rfl) rfl
theorem q1651 : (Jvm.Cond.privateMethod ({ cls := "SupplyGridModel", name := "solves", desc := "(I)V" } : Jvm.MethodName)) ∈ lw_tbl := lw_at lw_m7 93 rfl
theorem q1652 : (Jvm.Cond.instanceMethod ({ cls := "SupplyGridModel", name := "solves", desc := "(I)V" } : Jvm.MethodName)) ∈ lw_all := lw_g (lw_at lw_m7 94 rfl) rfl
theorem q1653 : (Jvm.Cond.code ({ cls := "SupplyGridModel", name := "solves", desc := "(I)V" } : Jvm.MethodName) prog_17_method_42_code (3 : Nat) (Option.none : Option Jvm.ClassFile.FieldType)) ∈ lw_all := lw_g (lw_at lw_m7 95 rfl) rfl
theorem q1654 : (Jvm.Cond.methodLink "SupplyGridModel" (98 : Nat) ({ cls := "SupplyGridModel", name := "nodes", desc := "()I" } : Jvm.MethodName)) ∈ lw_all := lw_g (lw_at lw_m7 96 rfl) rfl
theorem q1655 : (Jvm.Cond.privateMethod ({ cls := "SupplyGridModel", name := "nodes", desc := "()I" } : Jvm.MethodName)) ∈ lw_tbl := lw_at lw_m7 97 rfl
theorem q1656 : (Jvm.Cond.instanceMethod ({ cls := "SupplyGridModel", name := "nodes", desc := "()I" } : Jvm.MethodName)) ∈ lw_all := lw_g (lw_at lw_m7 98 rfl) rfl
theorem q1657 : (Jvm.Cond.code ({ cls := "SupplyGridModel", name := "nodes", desc := "()I" } : Jvm.MethodName) prog_17_method_13_code (1 : Nat) (Option.some Jvm.ClassFile.FieldType.int)) ∈ lw_all := lw_g (lw_at lw_m7 99 rfl) rfl
theorem q1658 : (Jvm.Cond.methodLink "SupplyGridModel" (94 : Nat) ({ cls := "SupplyGridModel", name := "nodesIn", desc := "([I)I" } : Jvm.MethodName)) ∈ lw_all := lw_g (lw_at lw_m7 100 rfl) rfl
theorem q1659 : (Jvm.Cond.static ({ cls := "SupplyGridModel", name := "nodesIn", desc := "([I)I" } : Jvm.MethodName)) ∈ lw_all := lw_g (lw_at lw_m7 101 rfl) rfl
theorem q1660 : (Jvm.Cond.code ({ cls := "SupplyGridModel", name := "nodesIn", desc := "([I)I" } : Jvm.MethodName) prog_17_method_12_code (1 : Nat) (Option.some Jvm.ClassFile.FieldType.int)) ∈ lw_all := lw_g (lw_at lw_m7 102 rfl) rfl
theorem q1661 : (Jvm.Cond.methodLink "SupplyGridModel" (263 : Nat) ({ cls := "SupplyGridModel", name := "comesTo", desc := "(I)I" } : Jvm.MethodName)) ∈ lw_all := lw_g (lw_at lw_m7 103 rfl) rfl
theorem q1662 : (Jvm.Cond.privateMethod ({ cls := "SupplyGridModel", name := "comesTo", desc := "(I)I" } : Jvm.MethodName)) ∈ lw_tbl := lw_at lw_m7 104 rfl
theorem q1663 : (Jvm.Cond.instanceMethod ({ cls := "SupplyGridModel", name := "comesTo", desc := "(I)I" } : Jvm.MethodName)) ∈ lw_all := lw_g (lw_at lw_m7 105 rfl) rfl
theorem q1664 : (Jvm.Cond.code ({ cls := "SupplyGridModel", name := "comesTo", desc := "(I)I" } : Jvm.MethodName) prog_17_method_39_code (7 : Nat) (Option.some Jvm.ClassFile.FieldType.int)) ∈ lw_all := lw_g (lw_at lw_m7 106 rfl) rfl
theorem q1665 : (Jvm.Cond.methodLink "SupplyGridModel" (269 : Nat) ({ cls := "SupplyGridModel", name := "laysCells", desc := "()V" } : Jvm.MethodName)) ∈ lw_all := lw_g (lw_at lw_m7 107 rfl) rfl
theorem q1666 : (Jvm.Cond.privateMethod ({ cls := "SupplyGridModel", name := "laysCells", desc := "()V" } : Jvm.MethodName)) ∈ lw_tbl := lw_at lw_m7 108 rfl
theorem q1667 : (Jvm.Cond.instanceMethod ({ cls := "SupplyGridModel", name := "laysCells", desc := "()V" } : Jvm.MethodName)) ∈ lw_all := lw_g (lw_at lw_m7 109 rfl) rfl
theorem q1668 : (Jvm.Cond.code ({ cls := "SupplyGridModel", name := "laysCells", desc := "()V" } : Jvm.MethodName) prog_17_method_40_code (6 : Nat) (Option.none : Option Jvm.ClassFile.FieldType)) ∈ lw_all := lw_g (lw_at lw_m7 110 rfl) rfl
theorem q1669 : (Jvm.Cond.methodLink "SupplyGridModel" (272 : Nat) ({ cls := "SupplyGridModel", name := "brings", desc := "()V" } : Jvm.MethodName)) ∈ lw_all := lw_g (lw_at lw_m7 111 rfl) rfl
theorem q1670 : (Jvm.Cond.privateMethod ({ cls := "SupplyGridModel", name := "brings", desc := "()V" } : Jvm.MethodName)) ∈ lw_tbl := lw_at lw_m7 112 rfl
theorem q1671 : (Jvm.Cond.instanceMethod ({ cls := "SupplyGridModel", name := "brings", desc := "()V" } : Jvm.MethodName)) ∈ lw_all := lw_g (lw_at lw_m7 113 rfl) rfl
theorem q1672 : (Jvm.Cond.code ({ cls := "SupplyGridModel", name := "brings", desc := "()V" } : Jvm.MethodName) prog_17_method_41_code (8 : Nat) (Option.none : Option Jvm.ClassFile.FieldType)) ∈ lw_all := lw_g (lw_at lw_m7 114 rfl) rfl
theorem q1674 : (Jvm.Cond.instanceMethod ({ cls := "SupplyGridModel", name := "strap", desc := "(II)I" } : Jvm.MethodName)) ∈ lw_all := lw_g (lw_at lw_m7 116 rfl) rfl
theorem q1675 : (Jvm.Cond.selects "SupplyGridModel" ({ cls := "SupplyGridModel", name := "strap", desc := "(II)I" } : Jvm.MethodName) ({ cls := "SupplyGridModel", name := "strap", desc := "(II)I" } : Jvm.MethodName)) ∈ lw_all := lw_g (lw_at lw_m7 117 rfl) rfl
theorem q1676 : (Jvm.Cond.code ({ cls := "SupplyGridModel", name := "strap", desc := "(II)I" } : Jvm.MethodName) prog_17_method_53_code (3 : Nat) (Option.some Jvm.ClassFile.FieldType.int)) ∈ lw_all := lw_g (lw_at lw_m7 118 rfl) rfl
theorem q1677 : (Jvm.Cond.methodLink "SupplyGridModel" (305 : Nat) ({ cls := "SupplyGridModel", name := "isStrap", desc := "(I)Z" } : Jvm.MethodName)) ∈ lw_all := lw_g (lw_at lw_m7 119 rfl) rfl
theorem q1678 : (Jvm.Cond.privateMethod ({ cls := "SupplyGridModel", name := "isStrap", desc := "(I)Z" } : Jvm.MethodName)) ∈ lw_tbl := lw_at lw_m7 120 rfl
theorem q1679 : (Jvm.Cond.instanceMethod ({ cls := "SupplyGridModel", name := "isStrap", desc := "(I)Z" } : Jvm.MethodName)) ∈ lw_all := lw_g (lw_at lw_m7 121 rfl) rfl
theorem q1680 : (Jvm.Cond.code ({ cls := "SupplyGridModel", name := "isStrap", desc := "(I)Z" } : Jvm.MethodName) prog_17_method_18_code (2 : Nat) (Option.some Jvm.ClassFile.FieldType.boolean)) ∈ lw_all := lw_g (lw_at lw_m7 122 rfl) rfl
theorem q1682 : (Jvm.Cond.instanceMethod ({ cls := "SupplyGridModel", name := "between", desc := "(II)I" } : Jvm.MethodName)) ∈ lw_all := lw_g (lw_at lw_m7 124 rfl) rfl
theorem q1683 : (Jvm.Cond.selects "SupplyGridModel" ({ cls := "SupplyGridModel", name := "between", desc := "(II)I" } : Jvm.MethodName) ({ cls := "SupplyGridModel", name := "between", desc := "(II)I" } : Jvm.MethodName)) ∈ lw_all := lw_g (lw_at lw_m7 125 rfl) rfl
theorem q1684 : (Jvm.Cond.code ({ cls := "SupplyGridModel", name := "between", desc := "(II)I" } : Jvm.MethodName) prog_17_method_54_code (3 : Nat) (Option.some Jvm.ClassFile.FieldType.int)) ∈ lw_all := lw_g (lw_at lw_m7 126 rfl) rfl
theorem q1685 : (Jvm.Cond.methodLink "SupplyGridModel" (308 : Nat) ({ cls := "SupplyGridModel", name := "isNode", desc := "(I)Z" } : Jvm.MethodName)) ∈ lw_all := lw_g (lw_at lw_m7 127 rfl) rfl
theorem q1686 : (Jvm.Cond.privateMethod ({ cls := "SupplyGridModel", name := "isNode", desc := "(I)Z" } : Jvm.MethodName)) ∈ lw_tbl := lw_at lw_m7 128 rfl
theorem q1687 : (Jvm.Cond.instanceMethod ({ cls := "SupplyGridModel", name := "isNode", desc := "(I)Z" } : Jvm.MethodName)) ∈ lw_all := lw_g (lw_at lw_m7 129 rfl) rfl
theorem q1688 : (Jvm.Cond.code ({ cls := "SupplyGridModel", name := "isNode", desc := "(I)Z" } : Jvm.MethodName) prog_17_method_14_code (2 : Nat) (Option.some Jvm.ClassFile.FieldType.boolean)) ∈ lw_all := lw_g (lw_at lw_m7 130 rfl) rfl
theorem q1690 : (Jvm.Cond.instanceMethod ({ cls := "SupplyGridModel", name := "node", desc := "(II)I" } : Jvm.MethodName)) ∈ lw_all := lw_g (lw_at lw_m7 132 rfl) rfl
theorem q1691 : (Jvm.Cond.selects "SupplyGridModel" ({ cls := "SupplyGridModel", name := "node", desc := "(II)I" } : Jvm.MethodName) ({ cls := "SupplyGridModel", name := "node", desc := "(II)I" } : Jvm.MethodName)) ∈ lw_all := lw_g (lw_at lw_m7 133 rfl) rfl
theorem q1692 : (Jvm.Cond.code ({ cls := "SupplyGridModel", name := "node", desc := "(II)I" } : Jvm.MethodName) prog_17_method_55_code (3 : Nat) (Option.some Jvm.ClassFile.FieldType.int)) ∈ lw_all := lw_g (lw_at lw_m7 134 rfl) rfl
theorem q1693 : (Jvm.Cond.constantLong "SupplyGridModel" (311 : Nat) (3 : Int64)) ∈ lw_all := lw_g (lw_at lw_m7 135 rfl) rfl
theorem q1694 : (Jvm.Cond.methodLink "SupplyGridModel" (288 : Nat) ({ cls := "SupplyGridModel", name := "isDead", desc := "(I)Z" } : Jvm.MethodName)) ∈ lw_all := lw_g (lw_at lw_m7 136 rfl) rfl
theorem q1695 : (Jvm.Cond.privateMethod ({ cls := "SupplyGridModel", name := "isDead", desc := "(I)Z" } : Jvm.MethodName)) ∈ lw_tbl := lw_at lw_m7 137 rfl
theorem q1696 : (Jvm.Cond.instanceMethod ({ cls := "SupplyGridModel", name := "isDead", desc := "(I)Z" } : Jvm.MethodName)) ∈ lw_all := lw_g (lw_at lw_m7 138 rfl) rfl
theorem q1697 : (Jvm.Cond.code ({ cls := "SupplyGridModel", name := "isDead", desc := "(I)Z" } : Jvm.MethodName) prog_17_method_44_code (2 : Nat) (Option.some Jvm.ClassFile.FieldType.boolean)) ∈ lw_all := lw_g (lw_at lw_m7 139 rfl) rfl
theorem q1699 : (Jvm.Cond.instanceMethod ({ cls := "SupplyGridModel", name := "budget", desc := "(I)I" } : Jvm.MethodName)) ∈ lw_all := lw_g (lw_at lw_m7 141 rfl) rfl
theorem q1700 : (Jvm.Cond.selects "SupplyGridModel" ({ cls := "SupplyGridModel", name := "budget", desc := "(I)I" } : Jvm.MethodName) ({ cls := "SupplyGridModel", name := "budget", desc := "(I)I" } : Jvm.MethodName)) ∈ lw_all := lw_g (lw_at lw_m7 142 rfl) rfl
theorem q1701 : (Jvm.Cond.code ({ cls := "SupplyGridModel", name := "budget", desc := "(I)I" } : Jvm.MethodName) prog_17_method_56_code (2 : Nat) (Option.some Jvm.ClassFile.FieldType.int)) ∈ lw_all := lw_g (lw_at lw_m7 143 rfl) rfl
theorem q1703 : (Jvm.Cond.instanceMethod ({ cls := "SupplyGridModel", name := "drop", desc := "(II)J" } : Jvm.MethodName)) ∈ lw_all := lw_g (lw_at lw_m7 145 rfl) rfl
theorem q1704 : (Jvm.Cond.selects "SupplyGridModel" ({ cls := "SupplyGridModel", name := "drop", desc := "(II)J" } : Jvm.MethodName) ({ cls := "SupplyGridModel", name := "drop", desc := "(II)J" } : Jvm.MethodName)) ∈ lw_all := lw_g (lw_at lw_m7 146 rfl) rfl
theorem q1705 : (Jvm.Cond.code ({ cls := "SupplyGridModel", name := "drop", desc := "(II)J" } : Jvm.MethodName) prog_17_method_57_code (3 : Nat) (Option.some Jvm.ClassFile.FieldType.long)) ∈ lw_all := lw_g (lw_at lw_m7 147 rfl) rfl
theorem q1706 : (Jvm.Cond.methodLink "SupplyGridModel" (313 : Nat) ({ cls := "SupplyGridModel", name := "isPart", desc := "(I)Z" } : Jvm.MethodName)) ∈ lw_all := lw_g (lw_at lw_m7 148 rfl) rfl
theorem q1707 : (Jvm.Cond.static ({ cls := "SupplyGridModel", name := "isPart", desc := "(I)Z" } : Jvm.MethodName)) ∈ lw_all := lw_g (lw_at lw_m7 149 rfl) rfl
theorem q1708 : (Jvm.Cond.code ({ cls := "SupplyGridModel", name := "isPart", desc := "(I)Z" } : Jvm.MethodName) prog_17_method_51_code (1 : Nat) (Option.some Jvm.ClassFile.FieldType.boolean)) ∈ lw_all := lw_g (lw_at lw_m7 150 rfl) rfl
theorem q1709 : (Jvm.Cond.constantLong "SupplyGridModel" (316 : Nat) (-2 : Int64)) ∈ lw_all := lw_g (lw_at lw_m7 151 rfl) rfl
theorem q1710 : (Jvm.Cond.constantLong "SupplyGridModel" (318 : Nat) (-1 : Int64)) ∈ lw_all := lw_g (lw_at lw_m7 152 rfl) rfl
theorem q1711 : (Jvm.Cond.methodLink "SupplyGridModel" (282 : Nat) ({ cls := "SupplyGridModel", name := "dropOf", desc := "(I)J" } : Jvm.MethodName)) ∈ lw_all := lw_g (lw_at lw_m7 153 rfl) rfl
theorem q1712 : (Jvm.Cond.privateMethod ({ cls := "SupplyGridModel", name := "dropOf", desc := "(I)J" } : Jvm.MethodName)) ∈ lw_tbl := lw_at lw_m7 154 rfl
theorem q1713 : (Jvm.Cond.instanceMethod ({ cls := "SupplyGridModel", name := "dropOf", desc := "(I)J" } : Jvm.MethodName)) ∈ lw_all := lw_g (lw_at lw_m7 155 rfl) rfl
theorem q1714 : (Jvm.Cond.code ({ cls := "SupplyGridModel", name := "dropOf", desc := "(I)J" } : Jvm.MethodName) prog_17_method_46_code (5 : Nat) (Option.some Jvm.ClassFile.FieldType.long)) ∈ lw_all := lw_g (lw_at lw_m7 156 rfl) rfl
theorem q1715 : (Jvm.Cond.methodLink "SupplyGridModel" (278 : Nat) ({ cls := "SupplyGridModel", name := "movesOf", desc := "(II)J" } : Jvm.MethodName)) ∈ lw_all := lw_g (lw_at lw_m7 157 rfl) rfl
theorem q1716 : (Jvm.Cond.privateMethod ({ cls := "SupplyGridModel", name := "movesOf", desc := "(II)J" } : Jvm.MethodName)) ∈ lw_tbl := lw_at lw_m7 158 rfl
theorem q1717 : (Jvm.Cond.instanceMethod ({ cls := "SupplyGridModel", name := "movesOf", desc := "(II)J" } : Jvm.MethodName)) ∈ lw_all := lw_g (lw_at lw_m7 159 rfl) rfl
theorem q1718 : (Jvm.Cond.code ({ cls := "SupplyGridModel", name := "movesOf", desc := "(II)J" } : Jvm.MethodName) prog_17_method_45_code (5 : Nat) (Option.some Jvm.ClassFile.FieldType.long)) ∈ lw_all := lw_g (lw_at lw_m7 160 rfl) rfl
theorem q1719 : (Jvm.Cond.methodLink "SupplyGridModel" (320 : Nat) ({ cls := "SupplyGridModel", name := "part", desc := "(JJI)J" } : Jvm.MethodName)) ∈ lw_all := lw_g (lw_at lw_m7 161 rfl) rfl
theorem q1720 : (Jvm.Cond.static ({ cls := "SupplyGridModel", name := "part", desc := "(JJI)J" } : Jvm.MethodName)) ∈ lw_all := lw_g (lw_at lw_m7 162 rfl) rfl
theorem q1721 : (Jvm.Cond.code ({ cls := "SupplyGridModel", name := "part", desc := "(JJI)J" } : Jvm.MethodName) prog_17_method_7_code (7 : Nat) (Option.some Jvm.ClassFile.FieldType.long)) ∈ lw_all := lw_g (lw_at lw_m7 163 rfl) rfl
theorem q1722 : (Jvm.Cond.methodLink "SupplyGridModel" (81 : Nat) ({ cls := "SupplyGridModel", name := "common", desc := "(JJ)J" } : Jvm.MethodName)) ∈ lw_all := lw_g (lw_at lw_m7 164 rfl) rfl
theorem q1723 : (Jvm.Cond.static ({ cls := "SupplyGridModel", name := "common", desc := "(JJ)J" } : Jvm.MethodName)) ∈ lw_all := lw_g (lw_at lw_m7 165 rfl) rfl
theorem q1724 : (Jvm.Cond.code ({ cls := "SupplyGridModel", name := "common", desc := "(JJ)J" } : Jvm.MethodName) prog_17_method_6_code (10 : Nat) (Option.some Jvm.ClassFile.FieldType.long)) ∈ lw_all := lw_g (lw_at lw_m7 166 rfl) rfl
theorem q1725 : (Jvm.Cond.methodLink "SupplyGridModel" (75 : Nat) ({ cls := "java/lang/Math", name := "abs", desc := "(J)J" } : Jvm.MethodName)) ∈ lw_all := lw_g (lw_at lw_m7 167 rfl) rfl
theorem q1727 : (Jvm.Cond.instanceMethod ({ cls := "SupplyGridModel", name := "through", desc := "(II)J" } : Jvm.MethodName)) ∈ lw_all := lw_g (lw_at lw_m7 169 rfl) rfl
theorem q1728 : (Jvm.Cond.selects "SupplyGridModel" ({ cls := "SupplyGridModel", name := "through", desc := "(II)J" } : Jvm.MethodName) ({ cls := "SupplyGridModel", name := "through", desc := "(II)J" } : Jvm.MethodName)) ∈ lw_all := lw_g (lw_at lw_m7 170 rfl) rfl
theorem q1729 : (Jvm.Cond.code ({ cls := "SupplyGridModel", name := "through", desc := "(II)J" } : Jvm.MethodName) prog_17_method_59_code (3 : Nat) (Option.some Jvm.ClassFile.FieldType.long)) ∈ lw_all := lw_g (lw_at lw_m7 171 rfl) rfl
theorem q1730 : (Jvm.Cond.constantLong "SupplyGridModel" (326 : Nat) (-9223372036854775808 : Int64)) ∈ lw_all := lw_g (lw_at lw_m7 172 rfl) rfl
theorem q1731 : (Jvm.Cond.methodLink "SupplyGridModel" (328 : Nat) ({ cls := "SupplyGridModel", name := "throughOf", desc := "(I)J" } : Jvm.MethodName)) ∈ lw_all := lw_g (lw_at lw_m7 173 rfl) rfl
theorem q1732 : (Jvm.Cond.privateMethod ({ cls := "SupplyGridModel", name := "throughOf", desc := "(I)J" } : Jvm.MethodName)) ∈ lw_tbl := lw_at lw_m7 174 rfl
theorem q1733 : (Jvm.Cond.instanceMethod ({ cls := "SupplyGridModel", name := "throughOf", desc := "(I)J" } : Jvm.MethodName)) ∈ lw_all := lw_g (lw_at lw_m7 175 rfl) rfl
theorem q1734 : (Jvm.Cond.code ({ cls := "SupplyGridModel", name := "throughOf", desc := "(I)J" } : Jvm.MethodName) prog_17_method_58_code (2 : Nat) (Option.some Jvm.ClassFile.FieldType.long)) ∈ lw_all := lw_g (lw_at lw_m7 176 rfl) rfl
theorem q1736 : (Jvm.Cond.instanceMethod ({ cls := "SupplyGridModel", name := "chief", desc := "()I" } : Jvm.MethodName)) ∈ lw_all := lw_g (lw_at lw_m7 178 rfl) rfl
theorem q1737 : (Jvm.Cond.selects "SupplyGridModel" ({ cls := "SupplyGridModel", name := "chief", desc := "()I" } : Jvm.MethodName) ({ cls := "SupplyGridModel", name := "chief", desc := "()I" } : Jvm.MethodName)) ∈ lw_all := lw_g (lw_at lw_m7 179 rfl) rfl
theorem q1738 : (Jvm.Cond.code ({ cls := "SupplyGridModel", name := "chief", desc := "()I" } : Jvm.MethodName) prog_17_method_60_code (3 : Nat) (Option.some Jvm.ClassFile.FieldType.int)) ∈ lw_all := lw_g (lw_at lw_m7 180 rfl) rfl
theorem q1739 : (Jvm.Cond.methodLink "SupplyGridModel" (331 : Nat) ({ cls := "SupplyGridModel", name := "givesOf", desc := "(I)J" } : Jvm.MethodName)) ∈ lw_all := lw_g (lw_at lw_m7 181 rfl) rfl
theorem q1740 : (Jvm.Cond.privateMethod ({ cls := "SupplyGridModel", name := "givesOf", desc := "(I)J" } : Jvm.MethodName)) ∈ lw_tbl := lw_at lw_m7 182 rfl
theorem q1741 : (Jvm.Cond.instanceMethod ({ cls := "SupplyGridModel", name := "givesOf", desc := "(I)J" } : Jvm.MethodName)) ∈ lw_all := lw_g (lw_at lw_m7 183 rfl) rfl
theorem q1742 : (Jvm.Cond.code ({ cls := "SupplyGridModel", name := "givesOf", desc := "(I)J" } : Jvm.MethodName) prog_17_method_63_code (5 : Nat) (Option.some Jvm.ClassFile.FieldType.long)) ∈ lw_all := lw_g (lw_at lw_m7 184 rfl) rfl
theorem q1744 : (Jvm.Cond.instanceMethod ({ cls := "SupplyGridModel", name := "area", desc := "()I" } : Jvm.MethodName)) ∈ lw_all := lw_g (lw_at lw_m7 186 rfl) rfl
theorem q1745 : (Jvm.Cond.selects "SupplyGridModel" ({ cls := "SupplyGridModel", name := "area", desc := "()I" } : Jvm.MethodName) ({ cls := "SupplyGridModel", name := "area", desc := "()I" } : Jvm.MethodName)) ∈ lw_all := lw_g (lw_at lw_m7 187 rfl) rfl
theorem q1746 : (Jvm.Cond.code ({ cls := "SupplyGridModel", name := "area", desc := "()I" } : Jvm.MethodName) prog_17_method_61_code (3 : Nat) (Option.some Jvm.ClassFile.FieldType.int)) ∈ lw_all := lw_g (lw_at lw_m7 188 rfl) rfl
theorem q1748 : (Jvm.Cond.instanceMethod ({ cls := "SupplyGridModel", name := "gives", desc := "(II)J" } : Jvm.MethodName)) ∈ lw_all := lw_g (lw_at lw_m7 190 rfl) rfl
theorem q1749 : (Jvm.Cond.selects "SupplyGridModel" ({ cls := "SupplyGridModel", name := "gives", desc := "(II)J" } : Jvm.MethodName) ({ cls := "SupplyGridModel", name := "gives", desc := "(II)J" } : Jvm.MethodName)) ∈ lw_all := lw_g (lw_at lw_m7 191 rfl) rfl
theorem q1750 : (Jvm.Cond.code ({ cls := "SupplyGridModel", name := "gives", desc := "(II)J" } : Jvm.MethodName) prog_17_method_62_code (3 : Nat) (Option.some Jvm.ClassFile.FieldType.long)) ∈ lw_all := lw_g (lw_at lw_m7 192 rfl) rfl
theorem q1752 : (Jvm.Cond.instanceMethod ({ cls := "SupplyGridModel", name := "worst", desc := "()I" } : Jvm.MethodName)) ∈ lw_all := lw_g (lw_at lw_m7 194 rfl) rfl
theorem q1753 : (Jvm.Cond.selects "SupplyGridModel" ({ cls := "SupplyGridModel", name := "worst", desc := "()I" } : Jvm.MethodName) ({ cls := "SupplyGridModel", name := "worst", desc := "()I" } : Jvm.MethodName)) ∈ lw_all := lw_g (lw_at lw_m7 195 rfl) rfl
theorem q1754 : (Jvm.Cond.code ({ cls := "SupplyGridModel", name := "worst", desc := "()I" } : Jvm.MethodName) prog_17_method_64_code (2 : Nat) (Option.some Jvm.ClassFile.FieldType.int)) ∈ lw_all := lw_g (lw_at lw_m7 196 rfl) rfl
theorem q1755 : (Jvm.Cond.methodLink "SupplyGridModel" (298 : Nat) ({ cls := "SupplyGridModel", name := "mostDrop", desc := "()J" } : Jvm.MethodName)) ∈ lw_all := lw_g (lw_at lw_m7 197 rfl) rfl
theorem q1756 : (Jvm.Cond.privateMethod ({ cls := "SupplyGridModel", name := "mostDrop", desc := "()J" } : Jvm.MethodName)) ∈ lw_tbl := lw_at lw_m7 198 rfl
theorem q1757 : (Jvm.Cond.instanceMethod ({ cls := "SupplyGridModel", name := "mostDrop", desc := "()J" } : Jvm.MethodName)) ∈ lw_all := lw_g (lw_at lw_m7 199 rfl) rfl
theorem q1758 : (Jvm.Cond.code ({ cls := "SupplyGridModel", name := "mostDrop", desc := "()J" } : Jvm.MethodName) prog_17_method_47_code (4 : Nat) (Option.some Jvm.ClassFile.FieldType.long)) ∈ lw_all := lw_g (lw_at lw_m7 200 rfl) rfl
theorem q1759 : (Jvm.Cond.methodLink "SupplyGridModel" (286 : Nat) ({ cls := "java/lang/Math", name := "max", desc := "(JJ)J" } : Jvm.MethodName)) ∈ lw_all := lw_g (lw_at lw_m7 201 rfl) rfl
theorem q1763 : (Jvm.Cond.instanceMethod ({ cls := "SupplyGridModel", name := "over", desc := "()I" } : Jvm.MethodName)) ∈ lw_all := lw_g (lw_at lw_m7 205 rfl) rfl
theorem q1764 : (Jvm.Cond.selects "SupplyGridModel" ({ cls := "SupplyGridModel", name := "over", desc := "()I" } : Jvm.MethodName) ({ cls := "SupplyGridModel", name := "over", desc := "()I" } : Jvm.MethodName)) ∈ lw_all := lw_g (lw_at lw_m7 206 rfl) rfl
theorem q1765 : (Jvm.Cond.code ({ cls := "SupplyGridModel", name := "over", desc := "()I" } : Jvm.MethodName) prog_17_method_65_code (3 : Nat) (Option.some Jvm.ClassFile.FieldType.int)) ∈ lw_all := lw_g (lw_at lw_m7 207 rfl) rfl
theorem q1767 : (Jvm.Cond.instanceMethod ({ cls := "SupplyGridModel", name := "holds", desc := "()I" } : Jvm.MethodName)) ∈ lw_all := lw_g (lw_at lw_m7 209 rfl) rfl
theorem q1768 : (Jvm.Cond.selects "SupplyGridModel" ({ cls := "SupplyGridModel", name := "holds", desc := "()I" } : Jvm.MethodName) ({ cls := "SupplyGridModel", name := "holds", desc := "()I" } : Jvm.MethodName)) ∈ lw_all := lw_g (lw_at lw_m7 210 rfl) rfl
theorem q1769 : (Jvm.Cond.code ({ cls := "SupplyGridModel", name := "holds", desc := "()I" } : Jvm.MethodName) prog_17_method_66_code (1 : Nat) (Option.some Jvm.ClassFile.FieldType.int)) ∈ lw_all := lw_g (lw_at lw_m7 211 rfl) rfl
theorem q1770 : (Jvm.Cond.methodLink "SupplyGridModel" (334 : Nat) ({ cls := "SupplyGridModel", name := "doesHold", desc := "()Z" } : Jvm.MethodName)) ∈ lw_all := lw_g (lw_at lw_m7 212 rfl) rfl
theorem q1771 : (Jvm.Cond.privateMethod ({ cls := "SupplyGridModel", name := "doesHold", desc := "()Z" } : Jvm.MethodName)) ∈ lw_tbl := lw_at lw_m7 213 rfl
theorem q1772 : (Jvm.Cond.instanceMethod ({ cls := "SupplyGridModel", name := "doesHold", desc := "()Z" } : Jvm.MethodName)) ∈ lw_all := lw_g (lw_at lw_m7 214 rfl) rfl
theorem q1773 : (Jvm.Cond.code ({ cls := "SupplyGridModel", name := "doesHold", desc := "()Z" } : Jvm.MethodName) prog_17_method_49_code (1 : Nat) (Option.some Jvm.ClassFile.FieldType.boolean)) ∈ lw_all := lw_g (lw_at lw_m7 215 rfl) rfl
theorem q1774 : (Jvm.Cond.methodLink "SupplyGridModel" (295 : Nat) ({ cls := "SupplyGridModel", name := "deadLoads", desc := "()I" } : Jvm.MethodName)) ∈ lw_all := lw_g (lw_at lw_m7 216 rfl) rfl
theorem q1775 : (Jvm.Cond.privateMethod ({ cls := "SupplyGridModel", name := "deadLoads", desc := "()I" } : Jvm.MethodName)) ∈ lw_tbl := lw_at lw_m7 217 rfl
theorem q1776 : (Jvm.Cond.instanceMethod ({ cls := "SupplyGridModel", name := "deadLoads", desc := "()I" } : Jvm.MethodName)) ∈ lw_all := lw_g (lw_at lw_m7 218 rfl) rfl
theorem q1777 : (Jvm.Cond.code ({ cls := "SupplyGridModel", name := "deadLoads", desc := "()I" } : Jvm.MethodName) prog_17_method_48_code (3 : Nat) (Option.some Jvm.ClassFile.FieldType.int)) ∈ lw_all := lw_g (lw_at lw_m7 219 rfl) rfl
theorem q1779 : (Jvm.Cond.instanceMethod ({ cls := "SupplyGridModel", name := "loss", desc := "(I)J" } : Jvm.MethodName)) ∈ lw_all := lw_g (lw_at lw_m7 221 rfl) rfl
theorem q1780 : (Jvm.Cond.selects "SupplyGridModel" ({ cls := "SupplyGridModel", name := "loss", desc := "(I)J" } : Jvm.MethodName) ({ cls := "SupplyGridModel", name := "loss", desc := "(I)J" } : Jvm.MethodName)) ∈ lw_all := lw_g (lw_at lw_m7 222 rfl) rfl
theorem q1781 : (Jvm.Cond.code ({ cls := "SupplyGridModel", name := "loss", desc := "(I)J" } : Jvm.MethodName) prog_17_method_67_code (5 : Nat) (Option.some Jvm.ClassFile.FieldType.long)) ∈ lw_all := lw_g (lw_at lw_m7 223 rfl) rfl
theorem q1783 : (Jvm.Cond.instanceMethod ({ cls := "SupplyGridModel", name := "moves", desc := "(III)J" } : Jvm.MethodName)) ∈ lw_all := lw_g (lw_at lw_m7 225 rfl) rfl
theorem q1784 : (Jvm.Cond.selects "SupplyGridModel" ({ cls := "SupplyGridModel", name := "moves", desc := "(III)J" } : Jvm.MethodName) ({ cls := "SupplyGridModel", name := "moves", desc := "(III)J" } : Jvm.MethodName)) ∈ lw_all := lw_g (lw_at lw_m7 226 rfl) rfl
theorem q1785 : (Jvm.Cond.code ({ cls := "SupplyGridModel", name := "moves", desc := "(III)J" } : Jvm.MethodName) prog_17_method_68_code (4 : Nat) (Option.some Jvm.ClassFile.FieldType.long)) ∈ lw_all := lw_g (lw_at lw_m7 227 rfl) rfl
theorem q1787 : (Jvm.Cond.instanceMethod ({ cls := "SupplyGridModel", name := "resists", desc := "(III)J" } : Jvm.MethodName)) ∈ lw_all := lw_g (lw_at lw_m7 229 rfl) rfl
theorem q1788 : (Jvm.Cond.selects "SupplyGridModel" ({ cls := "SupplyGridModel", name := "resists", desc := "(III)J" } : Jvm.MethodName) ({ cls := "SupplyGridModel", name := "resists", desc := "(III)J" } : Jvm.MethodName)) ∈ lw_all := lw_g (lw_at lw_m7 230 rfl) rfl
theorem q1789 : (Jvm.Cond.code ({ cls := "SupplyGridModel", name := "resists", desc := "(III)J" } : Jvm.MethodName) prog_17_method_69_code (4 : Nat) (Option.some Jvm.ClassFile.FieldType.long)) ∈ lw_all := lw_g (lw_at lw_m7 231 rfl) rfl
theorem q1791 : (Jvm.Cond.instanceMethod ({ cls := "SupplyGridModel", name := "share", desc := "(III)J" } : Jvm.MethodName)) ∈ lw_all := lw_g (lw_at lw_m7 233 rfl) rfl
theorem q1792 : (Jvm.Cond.selects "SupplyGridModel" ({ cls := "SupplyGridModel", name := "share", desc := "(III)J" } : Jvm.MethodName) ({ cls := "SupplyGridModel", name := "share", desc := "(III)J" } : Jvm.MethodName)) ∈ lw_all := lw_g (lw_at lw_m7 234 rfl) rfl
theorem q1793 : (Jvm.Cond.code ({ cls := "SupplyGridModel", name := "share", desc := "(III)J" } : Jvm.MethodName) prog_17_method_70_code (6 : Nat) (Option.some Jvm.ClassFile.FieldType.long)) ∈ lw_all := lw_g (lw_at lw_m7 235 rfl) rfl
theorem q1795 : (Jvm.Cond.instanceMethod ({ cls := "SupplyGridModel", name := "feeder", desc := "(II)I" } : Jvm.MethodName)) ∈ lw_all := lw_g (lw_at lw_m7 237 rfl) rfl
theorem q1796 : (Jvm.Cond.selects "SupplyGridModel" ({ cls := "SupplyGridModel", name := "feeder", desc := "(II)I" } : Jvm.MethodName) ({ cls := "SupplyGridModel", name := "feeder", desc := "(II)I" } : Jvm.MethodName)) ∈ lw_all := lw_g (lw_at lw_m7 238 rfl) rfl
theorem q1797 : (Jvm.Cond.code ({ cls := "SupplyGridModel", name := "feeder", desc := "(II)I" } : Jvm.MethodName) prog_17_method_73_code (5 : Nat) (Option.some Jvm.ClassFile.FieldType.int)) ∈ lw_all := lw_g (lw_at lw_m7 239 rfl) rfl
theorem q1798 : (Jvm.Cond.methodLink "SupplyGridModel" (340 : Nat) ({ cls := "SupplyGridModel", name := "feederOf", desc := "(I)I" } : Jvm.MethodName)) ∈ lw_all := lw_g (lw_at lw_m8 0 rfl) rfl
theorem q1799 : (Jvm.Cond.privateMethod ({ cls := "SupplyGridModel", name := "feederOf", desc := "(I)I" } : Jvm.MethodName)) ∈ lw_tbl := lw_at lw_m8 1 rfl
theorem q1800 : (Jvm.Cond.instanceMethod ({ cls := "SupplyGridModel", name := "feederOf", desc := "(I)I" } : Jvm.MethodName)) ∈ lw_all := lw_g (lw_at lw_m8 2 rfl) rfl
theorem q1801 : (Jvm.Cond.code ({ cls := "SupplyGridModel", name := "feederOf", desc := "(I)I" } : Jvm.MethodName) prog_17_method_72_code (6 : Nat) (Option.some Jvm.ClassFile.FieldType.int)) ∈ lw_all := lw_g (lw_at lw_m8 3 rfl) rfl
theorem q1802 : (Jvm.Cond.methodLink "SupplyGridModel" (337 : Nat) ({ cls := "SupplyGridModel", name := "comesBy", desc := "(II)J" } : Jvm.MethodName)) ∈ lw_all := lw_g (lw_at lw_m8 4 rfl) rfl
theorem q1803 : (Jvm.Cond.privateMethod ({ cls := "SupplyGridModel", name := "comesBy", desc := "(II)J" } : Jvm.MethodName)) ∈ lw_tbl := lw_at lw_m8 5 rfl
theorem q1804 : (Jvm.Cond.instanceMethod ({ cls := "SupplyGridModel", name := "comesBy", desc := "(II)J" } : Jvm.MethodName)) ∈ lw_all := lw_g (lw_at lw_m8 6 rfl) rfl
theorem q1805 : (Jvm.Cond.code ({ cls := "SupplyGridModel", name := "comesBy", desc := "(II)J" } : Jvm.MethodName) prog_17_method_71_code (3 : Nat) (Option.some Jvm.ClassFile.FieldType.long)) ∈ lw_all := lw_g (lw_at lw_m8 7 rfl) rfl
theorem q1807 : (Jvm.Cond.instanceMethod ({ cls := "SupplyGridModel", name := "parts", desc := "()I" } : Jvm.MethodName)) ∈ lw_all := lw_g (lw_at lw_m8 9 rfl) rfl
theorem q1808 : (Jvm.Cond.selects "SupplyGridModel" ({ cls := "SupplyGridModel", name := "parts", desc := "()I" } : Jvm.MethodName) ({ cls := "SupplyGridModel", name := "parts", desc := "()I" } : Jvm.MethodName)) ∈ lw_all := lw_g (lw_at lw_m8 10 rfl) rfl
theorem q1809 : (Jvm.Cond.code ({ cls := "SupplyGridModel", name := "parts", desc := "()I" } : Jvm.MethodName) prog_17_method_74_code (4 : Nat) (Option.some Jvm.ClassFile.FieldType.int)) ∈ lw_all := lw_g (lw_at lw_m8 11 rfl) rfl
theorem q1811 : (Jvm.Cond.instanceMethod ({ cls := "SupplyGridModel", name := "reached", desc := "(I)I" } : Jvm.MethodName)) ∈ lw_all := lw_g (lw_at lw_m8 13 rfl) rfl
theorem q1812 : (Jvm.Cond.selects "SupplyGridModel" ({ cls := "SupplyGridModel", name := "reached", desc := "(I)I" } : Jvm.MethodName) ({ cls := "SupplyGridModel", name := "reached", desc := "(I)I" } : Jvm.MethodName)) ∈ lw_all := lw_g (lw_at lw_m8 14 rfl) rfl
theorem q1813 : (Jvm.Cond.code ({ cls := "SupplyGridModel", name := "reached", desc := "(I)I" } : Jvm.MethodName) prog_17_method_75_code (2 : Nat) (Option.some Jvm.ClassFile.FieldType.int)) ∈ lw_all := lw_g (lw_at lw_m8 15 rfl) rfl
theorem q1815 : (Jvm.Cond.instanceMethod ({ cls := "SupplyGridModel", name := "most", desc := "(II)J" } : Jvm.MethodName)) ∈ lw_all := lw_g (lw_at lw_m8 17 rfl) rfl
theorem q1816 : (Jvm.Cond.selects "SupplyGridModel" ({ cls := "SupplyGridModel", name := "most", desc := "(II)J" } : Jvm.MethodName) ({ cls := "SupplyGridModel", name := "most", desc := "(II)J" } : Jvm.MethodName)) ∈ lw_all := lw_g (lw_at lw_m8 18 rfl) rfl
theorem q1817 : (Jvm.Cond.code ({ cls := "SupplyGridModel", name := "most", desc := "(II)J" } : Jvm.MethodName) prog_17_method_79_code (3 : Nat) (Option.some Jvm.ClassFile.FieldType.long)) ∈ lw_all := lw_g (lw_at lw_m8 19 rfl) rfl
theorem q1818 : (Jvm.Cond.methodLink "SupplyGridModel" (349 : Nat) ({ cls := "SupplyGridModel", name := "mostOf", desc := "(I)J" } : Jvm.MethodName)) ∈ lw_all := lw_g (lw_at lw_m8 20 rfl) rfl
theorem q1819 : (Jvm.Cond.privateMethod ({ cls := "SupplyGridModel", name := "mostOf", desc := "(I)J" } : Jvm.MethodName)) ∈ lw_tbl := lw_at lw_m8 21 rfl
theorem q1820 : (Jvm.Cond.instanceMethod ({ cls := "SupplyGridModel", name := "mostOf", desc := "(I)J" } : Jvm.MethodName)) ∈ lw_all := lw_g (lw_at lw_m8 22 rfl) rfl
theorem q1821 : (Jvm.Cond.code ({ cls := "SupplyGridModel", name := "mostOf", desc := "(I)J" } : Jvm.MethodName) prog_17_method_78_code (5 : Nat) (Option.some Jvm.ClassFile.FieldType.long)) ∈ lw_all := lw_g (lw_at lw_m8 23 rfl) rfl
theorem q1822 : (Jvm.Cond.methodLink "SupplyGridModel" (347 : Nat) ({ cls := "SupplyGridModel", name := "draws", desc := "(I)V" } : Jvm.MethodName)) ∈ lw_all := lw_g (lw_at lw_m8 24 rfl) rfl
theorem q1823 : (Jvm.Cond.privateMethod ({ cls := "SupplyGridModel", name := "draws", desc := "(I)V" } : Jvm.MethodName)) ∈ lw_tbl := lw_at lw_m8 25 rfl
theorem q1824 : (Jvm.Cond.instanceMethod ({ cls := "SupplyGridModel", name := "draws", desc := "(I)V" } : Jvm.MethodName)) ∈ lw_all := lw_g (lw_at lw_m8 26 rfl) rfl
theorem q1825 : (Jvm.Cond.code ({ cls := "SupplyGridModel", name := "draws", desc := "(I)V" } : Jvm.MethodName) prog_17_method_77_code (7 : Nat) (Option.none : Option Jvm.ClassFile.FieldType)) ∈ lw_all := lw_g (lw_at lw_m8 27 rfl) rfl
theorem q1826 : (Jvm.Cond.methodLink "SupplyGridModel" (343 : Nat) ({ cls := "SupplyGridModel", name := "isAhead", desc := "(III)Z" } : Jvm.MethodName)) ∈ lw_all := lw_g (lw_at lw_m8 28 rfl) rfl
theorem q1827 : (Jvm.Cond.privateMethod ({ cls := "SupplyGridModel", name := "isAhead", desc := "(III)Z" } : Jvm.MethodName)) ∈ lw_tbl := lw_at lw_m8 29 rfl
theorem q1828 : (Jvm.Cond.instanceMethod ({ cls := "SupplyGridModel", name := "isAhead", desc := "(III)Z" } : Jvm.MethodName)) ∈ lw_all := lw_g (lw_at lw_m8 30 rfl) rfl
theorem q1829 : (Jvm.Cond.code ({ cls := "SupplyGridModel", name := "isAhead", desc := "(III)Z" } : Jvm.MethodName) prog_17_method_76_code (4 : Nat) (Option.some Jvm.ClassFile.FieldType.boolean)) ∈ lw_all := lw_g (lw_at lw_m8 31 rfl) rfl
theorem q1831 : (Jvm.Cond.instanceMethod ({ cls := "SupplyGridModel", name := "drawn", desc := "(II)I" } : Jvm.MethodName)) ∈ lw_all := lw_g (lw_at lw_m8 33 rfl) rfl
theorem q1832 : (Jvm.Cond.selects "SupplyGridModel" ({ cls := "SupplyGridModel", name := "drawn", desc := "(II)I" } : Jvm.MethodName) ({ cls := "SupplyGridModel", name := "drawn", desc := "(II)I" } : Jvm.MethodName)) ∈ lw_all := lw_g (lw_at lw_m8 34 rfl) rfl
theorem q1833 : (Jvm.Cond.code ({ cls := "SupplyGridModel", name := "drawn", desc := "(II)I" } : Jvm.MethodName) prog_17_method_80_code (3 : Nat) (Option.some Jvm.ClassFile.FieldType.int)) ∈ lw_all := lw_g (lw_at lw_m8 35 rfl) rfl
theorem q1835 : (Jvm.Cond.instanceMethod ({ cls := "SupplyGridModel", name := "tight", desc := "(I)I" } : Jvm.MethodName)) ∈ lw_all := lw_g (lw_at lw_m8 37 rfl) rfl
theorem q1836 : (Jvm.Cond.selects "SupplyGridModel" ({ cls := "SupplyGridModel", name := "tight", desc := "(I)I" } : Jvm.MethodName) ({ cls := "SupplyGridModel", name := "tight", desc := "(I)I" } : Jvm.MethodName)) ∈ lw_all := lw_g (lw_at lw_m8 38 rfl) rfl
theorem q1837 : (Jvm.Cond.code ({ cls := "SupplyGridModel", name := "tight", desc := "(I)I" } : Jvm.MethodName) prog_17_method_81_code (4 : Nat) (Option.some Jvm.ClassFile.FieldType.int)) ∈ lw_all := lw_g (lw_at lw_m8 39 rfl) rfl
theorem q1839 : (Jvm.Cond.instanceMethod ({ cls := "SupplyGridModel", name := "foe", desc := "()I" } : Jvm.MethodName)) ∈ lw_all := lw_g (lw_at lw_m8 41 rfl) rfl
theorem q1840 : (Jvm.Cond.selects "SupplyGridModel" ({ cls := "SupplyGridModel", name := "foe", desc := "()I" } : Jvm.MethodName) ({ cls := "SupplyGridModel", name := "foe", desc := "()I" } : Jvm.MethodName)) ∈ lw_all := lw_g (lw_at lw_m8 42 rfl) rfl
theorem q1841 : (Jvm.Cond.code ({ cls := "SupplyGridModel", name := "foe", desc := "()I" } : Jvm.MethodName) prog_17_method_82_code (5 : Nat) (Option.some Jvm.ClassFile.FieldType.int)) ∈ lw_all := lw_g (lw_at lw_m8 43 rfl) rfl
theorem q1843 : (Jvm.Cond.instanceMethod ({ cls := "SupplyGridModel", name := "uns\x61fe", desc := "()I" } : Jvm.MethodName)) ∈ lw_all := lw_g (lw_at lw_m8 45 rfl) rfl
theorem q1844 : (Jvm.Cond.selects "SupplyGridModel" ({ cls := "SupplyGridModel", name := "uns\x61fe", desc := "()I" } : Jvm.MethodName) ({ cls := "SupplyGridModel", name := "uns\x61fe", desc := "()I" } : Jvm.MethodName)) ∈ lw_all := lw_g (lw_at lw_m8 46 rfl) rfl
theorem q1845 : (Jvm.Cond.code ({ cls := "SupplyGridModel", name := "uns\x61fe", desc := "()I" } : Jvm.MethodName) prog_17_method_83_code (3 : Nat) (Option.some Jvm.ClassFile.FieldType.int)) ∈ lw_all := lw_g (lw_at lw_m8 47 rfl) rfl
theorem q1847 : (Jvm.Cond.instanceMethod ({ cls := "SupplyGridModel", name := "heat", desc := "(II)J" } : Jvm.MethodName)) ∈ lw_all := lw_g (lw_at lw_m8 49 rfl) rfl
theorem q1848 : (Jvm.Cond.selects "SupplyGridModel" ({ cls := "SupplyGridModel", name := "heat", desc := "(II)J" } : Jvm.MethodName) ({ cls := "SupplyGridModel", name := "heat", desc := "(II)J" } : Jvm.MethodName)) ∈ lw_all := lw_g (lw_at lw_m8 50 rfl) rfl
theorem q1849 : (Jvm.Cond.code ({ cls := "SupplyGridModel", name := "heat", desc := "(II)J" } : Jvm.MethodName) prog_17_method_85_code (3 : Nat) (Option.some Jvm.ClassFile.FieldType.long)) ∈ lw_all := lw_g (lw_at lw_m8 51 rfl) rfl
theorem q1850 : (Jvm.Cond.methodLink "SupplyGridModel" (352 : Nat) ({ cls := "SupplyGridModel", name := "heatOf", desc := "(I)J" } : Jvm.MethodName)) ∈ lw_all := lw_g (lw_at lw_m8 52 rfl) rfl
theorem q1851 : (Jvm.Cond.privateMethod ({ cls := "SupplyGridModel", name := "heatOf", desc := "(I)J" } : Jvm.MethodName)) ∈ lw_tbl := lw_at lw_m8 53 rfl
theorem q1852 : (Jvm.Cond.instanceMethod ({ cls := "SupplyGridModel", name := "heatOf", desc := "(I)J" } : Jvm.MethodName)) ∈ lw_all := lw_g (lw_at lw_m8 54 rfl) rfl
theorem q1853 : (Jvm.Cond.code ({ cls := "SupplyGridModel", name := "heatOf", desc := "(I)J" } : Jvm.MethodName) prog_17_method_84_code (2 : Nat) (Option.some Jvm.ClassFile.FieldType.long)) ∈ lw_all := lw_g (lw_at lw_m8 55 rfl) rfl
theorem q1855 : (Jvm.Cond.instanceMethod ({ cls := "SupplyGridModel", name := "hottest", desc := "()I" } : Jvm.MethodName)) ∈ lw_all := lw_g (lw_at lw_m8 57 rfl) rfl
theorem q1856 : (Jvm.Cond.selects "SupplyGridModel" ({ cls := "SupplyGridModel", name := "hottest", desc := "()I" } : Jvm.MethodName) ({ cls := "SupplyGridModel", name := "hottest", desc := "()I" } : Jvm.MethodName)) ∈ lw_all := lw_g (lw_at lw_m8 58 rfl) rfl
theorem q1857 : (Jvm.Cond.code ({ cls := "SupplyGridModel", name := "hottest", desc := "()I" } : Jvm.MethodName) prog_17_method_86_code (5 : Nat) (Option.some Jvm.ClassFile.FieldType.int)) ∈ lw_all := lw_g (lw_at lw_m8 59 rfl) rfl
theorem q1859 : (Jvm.Cond.instanceMethod ({ cls := "SupplyGridModel", name := "wearing", desc := "()I" } : Jvm.MethodName)) ∈ lw_all := lw_g (lw_at lw_m8 61 rfl) rfl
theorem q1860 : (Jvm.Cond.selects "SupplyGridModel" ({ cls := "SupplyGridModel", name := "wearing", desc := "()I" } : Jvm.MethodName) ({ cls := "SupplyGridModel", name := "wearing", desc := "()I" } : Jvm.MethodName)) ∈ lw_all := lw_g (lw_at lw_m8 62 rfl) rfl
theorem q1861 : (Jvm.Cond.code ({ cls := "SupplyGridModel", name := "wearing", desc := "()I" } : Jvm.MethodName) prog_17_method_88_code (1 : Nat) (Option.some Jvm.ClassFile.FieldType.int)) ∈ lw_all := lw_g (lw_at lw_m8 63 rfl) rfl
theorem q1862 : (Jvm.Cond.methodLink "SupplyGridModel" (355 : Nat) ({ cls := "SupplyGridModel", name := "wears", desc := "()I" } : Jvm.MethodName)) ∈ lw_all := lw_g (lw_at lw_m8 64 rfl) rfl
theorem q1863 : (Jvm.Cond.privateMethod ({ cls := "SupplyGridModel", name := "wears", desc := "()I" } : Jvm.MethodName)) ∈ lw_tbl := lw_at lw_m8 65 rfl
theorem q1864 : (Jvm.Cond.instanceMethod ({ cls := "SupplyGridModel", name := "wears", desc := "()I" } : Jvm.MethodName)) ∈ lw_all := lw_g (lw_at lw_m8 66 rfl) rfl
theorem q1865 : (Jvm.Cond.code ({ cls := "SupplyGridModel", name := "wears", desc := "()I" } : Jvm.MethodName) prog_17_method_87_code (3 : Nat) (Option.some Jvm.ClassFile.FieldType.int)) ∈ lw_all := lw_g (lw_at lw_m8 67 rfl) rfl
theorem q1867 : (Jvm.Cond.instanceMethod ({ cls := "SupplyGridModel", name := "aged", desc := "(II)I" } : Jvm.MethodName)) ∈ lw_all := lw_g (lw_at lw_m8 69 rfl) rfl
theorem q1868 : (Jvm.Cond.selects "SupplyGridModel" ({ cls := "SupplyGridModel", name := "aged", desc := "(II)I" } : Jvm.MethodName) ({ cls := "SupplyGridModel", name := "aged", desc := "(II)I" } : Jvm.MethodName)) ∈ lw_all := lw_g (lw_at lw_m8 70 rfl) rfl
theorem q1869 : (Jvm.Cond.code ({ cls := "SupplyGridModel", name := "aged", desc := "(II)I" } : Jvm.MethodName) prog_17_method_92_code (4 : Nat) (Option.some Jvm.ClassFile.FieldType.int)) ∈ lw_all := lw_g (lw_at lw_m8 71 rfl) rfl
theorem q1870 : (Jvm.Cond.constantLong "SupplyGridModel" (358 : Nat) (100 : Int64)) ∈ lw_all := lw_g (lw_at lw_m8 72 rfl) rfl
theorem q1871 : (Jvm.Cond.methodLink "SupplyGridModel" (360 : Nat) ({ cls := "SupplyGridModel", name := "puts", desc := "()V" } : Jvm.MethodName)) ∈ lw_all := lw_g (lw_at lw_m8 73 rfl) rfl
theorem q1872 : (Jvm.Cond.privateMethod ({ cls := "SupplyGridModel", name := "puts", desc := "()V" } : Jvm.MethodName)) ∈ lw_tbl := lw_at lw_m8 74 rfl
theorem q1873 : (Jvm.Cond.instanceMethod ({ cls := "SupplyGridModel", name := "puts", desc := "()V" } : Jvm.MethodName)) ∈ lw_all := lw_g (lw_at lw_m8 75 rfl) rfl
theorem q1874 : (Jvm.Cond.code ({ cls := "SupplyGridModel", name := "puts", desc := "()V" } : Jvm.MethodName) prog_17_method_90_code (2 : Nat) (Option.none : Option Jvm.ClassFile.FieldType)) ∈ lw_all := lw_g (lw_at lw_m8 76 rfl) rfl
theorem q1875 : (Jvm.Cond.methodLink "SupplyGridModel" (363 : Nat) ({ cls := "SupplyGridModel", name := "ages", desc := "()I" } : Jvm.MethodName)) ∈ lw_all := lw_g (lw_at lw_m8 77 rfl) rfl
theorem q1876 : (Jvm.Cond.privateMethod ({ cls := "SupplyGridModel", name := "ages", desc := "()I" } : Jvm.MethodName)) ∈ lw_tbl := lw_at lw_m8 78 rfl
theorem q1877 : (Jvm.Cond.instanceMethod ({ cls := "SupplyGridModel", name := "ages", desc := "()I" } : Jvm.MethodName)) ∈ lw_all := lw_g (lw_at lw_m8 79 rfl) rfl
theorem q1878 : (Jvm.Cond.code ({ cls := "SupplyGridModel", name := "ages", desc := "()I" } : Jvm.MethodName) prog_17_method_89_code (3 : Nat) (Option.some Jvm.ClassFile.FieldType.int)) ∈ lw_all := lw_g (lw_at lw_m8 80 rfl) rfl
theorem q1879 : (Jvm.Cond.methodLink "SupplyGridModel" (366 : Nat) ({ cls := "SupplyGridModel", name := "takesOut", desc := "()V" } : Jvm.MethodName)) ∈ lw_all := lw_g (lw_at lw_m8 81 rfl) rfl
theorem q1880 : (Jvm.Cond.privateMethod ({ cls := "SupplyGridModel", name := "takesOut", desc := "()V" } : Jvm.MethodName)) ∈ lw_tbl := lw_at lw_m8 82 rfl
theorem q1881 : (Jvm.Cond.instanceMethod ({ cls := "SupplyGridModel", name := "takesOut", desc := "()V" } : Jvm.MethodName)) ∈ lw_all := lw_g (lw_at lw_m8 83 rfl) rfl
theorem q1882 : (Jvm.Cond.code ({ cls := "SupplyGridModel", name := "takesOut", desc := "()V" } : Jvm.MethodName) prog_17_method_91_code (2 : Nat) (Option.none : Option Jvm.ClassFile.FieldType)) ∈ lw_all := lw_g (lw_at lw_m8 84 rfl) rfl
theorem q1884 : (Jvm.Cond.instanceMethod ({ cls := "SupplyGridModel", name := "lasts", desc := "()I" } : Jvm.MethodName)) ∈ lw_all := lw_g (lw_at lw_m8 86 rfl) rfl
theorem q1885 : (Jvm.Cond.selects "SupplyGridModel" ({ cls := "SupplyGridModel", name := "lasts", desc := "()I" } : Jvm.MethodName) ({ cls := "SupplyGridModel", name := "lasts", desc := "()I" } : Jvm.MethodName)) ∈ lw_all := lw_g (lw_at lw_m8 87 rfl) rfl
theorem q1886 : (Jvm.Cond.code ({ cls := "SupplyGridModel", name := "lasts", desc := "()I" } : Jvm.MethodName) prog_17_method_93_code (3 : Nat) (Option.some Jvm.ClassFile.FieldType.int)) ∈ lw_all := lw_g (lw_at lw_m8 88 rfl) rfl
theorem q1888 : (Jvm.Cond.instanceMethod ({ cls := "SupplyGridModel", name := "worn", desc := "(I)I" } : Jvm.MethodName)) ∈ lw_all := lw_g (lw_at lw_m8 90 rfl) rfl
theorem q1889 : (Jvm.Cond.selects "SupplyGridModel" ({ cls := "SupplyGridModel", name := "worn", desc := "(I)I" } : Jvm.MethodName) ({ cls := "SupplyGridModel", name := "worn", desc := "(I)I" } : Jvm.MethodName)) ∈ lw_all := lw_g (lw_at lw_m8 91 rfl) rfl
theorem q1890 : (Jvm.Cond.code ({ cls := "SupplyGridModel", name := "worn", desc := "(I)I" } : Jvm.MethodName) prog_17_method_94_code (4 : Nat) (Option.some Jvm.ClassFile.FieldType.int)) ∈ lw_all := lw_g (lw_at lw_m8 92 rfl) rfl
theorem q1892 : (Jvm.Cond.instanceMethod ({ cls := "SupplyGridModel", name := "calms", desc := "()I" } : Jvm.MethodName)) ∈ lw_all := lw_g (lw_at lw_m8 94 rfl) rfl
theorem q1893 : (Jvm.Cond.selects "SupplyGridModel" ({ cls := "SupplyGridModel", name := "calms", desc := "()I" } : Jvm.MethodName) ({ cls := "SupplyGridModel", name := "calms", desc := "()I" } : Jvm.MethodName)) ∈ lw_all := lw_g (lw_at lw_m8 95 rfl) rfl
theorem q1894 : (Jvm.Cond.code ({ cls := "SupplyGridModel", name := "calms", desc := "()I" } : Jvm.MethodName) prog_17_method_95_code (2 : Nat) (Option.some Jvm.ClassFile.FieldType.int)) ∈ lw_all := lw_g (lw_at lw_m8 96 rfl) rfl
theorem q1896 : (Jvm.Cond.instanceMethod ({ cls := "SupplyGridModel", name := "pad", desc := "(I)I" } : Jvm.MethodName)) ∈ lw_all := lw_g (lw_at lw_m8 98 rfl) rfl
theorem q1897 : (Jvm.Cond.selects "SupplyGridModel" ({ cls := "SupplyGridModel", name := "pad", desc := "(I)I" } : Jvm.MethodName) ({ cls := "SupplyGridModel", name := "pad", desc := "(I)I" } : Jvm.MethodName)) ∈ lw_all := lw_g (lw_at lw_m8 99 rfl) rfl
theorem q1898 : (Jvm.Cond.code ({ cls := "SupplyGridModel", name := "pad", desc := "(I)I" } : Jvm.MethodName) prog_17_method_101_code (4 : Nat) (Option.some Jvm.ClassFile.FieldType.int)) ∈ lw_all := lw_g (lw_at lw_m8 100 rfl) rfl
theorem q1899 : (Jvm.Cond.methodLink "SupplyGridModel" (391 : Nat) ({ cls := "SupplyGridModel", name := "nextPad", desc := "()I" } : Jvm.MethodName)) ∈ lw_all := lw_g (lw_at lw_m8 101 rfl) rfl
theorem q1900 : (Jvm.Cond.privateMethod ({ cls := "SupplyGridModel", name := "nextPad", desc := "()I" } : Jvm.MethodName)) ∈ lw_tbl := lw_at lw_m8 102 rfl
theorem q1901 : (Jvm.Cond.instanceMethod ({ cls := "SupplyGridModel", name := "nextPad", desc := "()I" } : Jvm.MethodName)) ∈ lw_all := lw_g (lw_at lw_m8 103 rfl) rfl
theorem q1902 : (Jvm.Cond.code ({ cls := "SupplyGridModel", name := "nextPad", desc := "()I" } : Jvm.MethodName) prog_17_method_100_code (3 : Nat) (Option.some Jvm.ClassFile.FieldType.int)) ∈ lw_all := lw_g (lw_at lw_m8 104 rfl) rfl
theorem q1903 : (Jvm.Cond.methodLink "SupplyGridModel" (385 : Nat) ({ cls := "SupplyGridModel", name := "beginsWithout", desc := "()V" } : Jvm.MethodName)) ∈ lw_all := lw_g (lw_at lw_m8 105 rfl) rfl
theorem q1904 : (Jvm.Cond.privateMethod ({ cls := "SupplyGridModel", name := "beginsWithout", desc := "()V" } : Jvm.MethodName)) ∈ lw_tbl := lw_at lw_m8 106 rfl
theorem q1905 : (Jvm.Cond.instanceMethod ({ cls := "SupplyGridModel", name := "beginsWithout", desc := "()V" } : Jvm.MethodName)) ∈ lw_all := lw_g (lw_at lw_m8 107 rfl) rfl
theorem q1906 : (Jvm.Cond.code ({ cls := "SupplyGridModel", name := "beginsWithout", desc := "()V" } : Jvm.MethodName) prog_17_method_99_code (1 : Nat) (Option.none : Option Jvm.ClassFile.FieldType)) ∈ lw_all := lw_g (lw_at lw_m8 108 rfl) rfl
theorem q1907 : (Jvm.Cond.methodLink "SupplyGridModel" (388 : Nat) ({ cls := "SupplyGridModel", name := "scores", desc := "()I" } : Jvm.MethodName)) ∈ lw_all := lw_g (lw_at lw_m8 109 rfl) rfl
theorem q1908 : (Jvm.Cond.privateMethod ({ cls := "SupplyGridModel", name := "scores", desc := "()I" } : Jvm.MethodName)) ∈ lw_tbl := lw_at lw_m8 110 rfl
theorem q1909 : (Jvm.Cond.instanceMethod ({ cls := "SupplyGridModel", name := "scores", desc := "()I" } : Jvm.MethodName)) ∈ lw_all := lw_g (lw_at lw_m8 111 rfl) rfl
theorem q1910 : (Jvm.Cond.code ({ cls := "SupplyGridModel", name := "scores", desc := "()I" } : Jvm.MethodName) prog_17_method_96_code (1 : Nat) (Option.some Jvm.ClassFile.FieldType.int)) ∈ lw_all := lw_g (lw_at lw_m8 112 rfl) rfl
theorem q1911 : (Jvm.Cond.methodLink "SupplyGridModel" (378 : Nat) ({ cls := "SupplyGridModel", name := "compares", desc := "(JJJJ)I" } : Jvm.MethodName)) ∈ lw_all := lw_g (lw_at lw_m8 113 rfl) rfl
theorem q1912 : (Jvm.Cond.static ({ cls := "SupplyGridModel", name := "compares", desc := "(JJJJ)I" } : Jvm.MethodName)) ∈ lw_all := lw_g (lw_at lw_m8 114 rfl) rfl
theorem q1913 : (Jvm.Cond.code ({ cls := "SupplyGridModel", name := "compares", desc := "(JJJJ)I" } : Jvm.MethodName) prog_17_method_8_code (21 : Nat) (Option.some Jvm.ClassFile.FieldType.int)) ∈ lw_all := lw_g (lw_at lw_m8 115 rfl) rfl
theorem q1914 : (Jvm.Cond.methodLink "SupplyGridModel" (382 : Nat) ({ cls := "SupplyGridModel", name := "keeps", desc := "()V" } : Jvm.MethodName)) ∈ lw_all := lw_g (lw_at lw_m8 116 rfl) rfl
theorem q1915 : (Jvm.Cond.privateMethod ({ cls := "SupplyGridModel", name := "keeps", desc := "()V" } : Jvm.MethodName)) ∈ lw_tbl := lw_at lw_m8 117 rfl
theorem q1916 : (Jvm.Cond.instanceMethod ({ cls := "SupplyGridModel", name := "keeps", desc := "()V" } : Jvm.MethodName)) ∈ lw_all := lw_g (lw_at lw_m8 118 rfl) rfl
theorem q1917 : (Jvm.Cond.code ({ cls := "SupplyGridModel", name := "keeps", desc := "()V" } : Jvm.MethodName) prog_17_method_97_code (1 : Nat) (Option.none : Option Jvm.ClassFile.FieldType)) ∈ lw_all := lw_g (lw_at lw_m8 119 rfl) rfl
theorem q1919 : (Jvm.Cond.instanceMethod ({ cls := "SupplyGridModel", name := "pads", desc := "(I)I" } : Jvm.MethodName)) ∈ lw_all := lw_g (lw_at lw_m8 121 rfl) rfl
theorem q1920 : (Jvm.Cond.selects "SupplyGridModel" ({ cls := "SupplyGridModel", name := "pads", desc := "(I)I" } : Jvm.MethodName) ({ cls := "SupplyGridModel", name := "pads", desc := "(I)I" } : Jvm.MethodName)) ∈ lw_all := lw_g (lw_at lw_m8 122 rfl) rfl
theorem q1921 : (Jvm.Cond.code ({ cls := "SupplyGridModel", name := "pads", desc := "(I)I" } : Jvm.MethodName) prog_17_method_103_code (2 : Nat) (Option.some Jvm.ClassFile.FieldType.int)) ∈ lw_all := lw_g (lw_at lw_m8 123 rfl) rfl
theorem q1922 : (Jvm.Cond.methodLink "SupplyGridModel" (397 : Nat) ({ cls := "SupplyGridModel", name := "bestPads", desc := "(I)I" } : Jvm.MethodName)) ∈ lw_all := lw_g (lw_at lw_m8 124 rfl) rfl
theorem q1923 : (Jvm.Cond.privateMethod ({ cls := "SupplyGridModel", name := "bestPads", desc := "(I)I" } : Jvm.MethodName)) ∈ lw_tbl := lw_at lw_m8 125 rfl
theorem q1924 : (Jvm.Cond.instanceMethod ({ cls := "SupplyGridModel", name := "bestPads", desc := "(I)I" } : Jvm.MethodName)) ∈ lw_all := lw_g (lw_at lw_m8 126 rfl) rfl
theorem q1925 : (Jvm.Cond.code ({ cls := "SupplyGridModel", name := "bestPads", desc := "(I)I" } : Jvm.MethodName) prog_17_method_102_code (5 : Nat) (Option.some Jvm.ClassFile.FieldType.int)) ∈ lw_all := lw_g (lw_at lw_m8 127 rfl) rfl
theorem q1926 : (Jvm.Cond.methodLink "SupplyGridModel" (394 : Nat) ({ cls := "SupplyGridModel", name := "bits", desc := "(I)I" } : Jvm.MethodName)) ∈ lw_all := lw_g (lw_at lw_m8 128 rfl) rfl
theorem q1927 : (Jvm.Cond.static ({ cls := "SupplyGridModel", name := "bits", desc := "(I)I" } : Jvm.MethodName)) ∈ lw_all := lw_g (lw_at lw_m8 129 rfl) rfl
theorem q1928 : (Jvm.Cond.code ({ cls := "SupplyGridModel", name := "bits", desc := "(I)I" } : Jvm.MethodName) prog_17_method_5_code (3 : Nat) (Option.some Jvm.ClassFile.FieldType.int)) ∈ lw_all := lw_g (lw_at lw_m8 130 rfl) rfl
theorem q1930 : (Jvm.Cond.instanceMethod ({ cls := "SupplyGridModel", name := "padded", desc := "(II)J" } : Jvm.MethodName)) ∈ lw_all := lw_g (lw_at lw_m8 132 rfl) rfl
theorem q1931 : (Jvm.Cond.selects "SupplyGridModel" ({ cls := "SupplyGridModel", name := "padded", desc := "(II)J" } : Jvm.MethodName) ({ cls := "SupplyGridModel", name := "padded", desc := "(II)J" } : Jvm.MethodName)) ∈ lw_all := lw_g (lw_at lw_m8 133 rfl) rfl
theorem q1932 : (Jvm.Cond.code ({ cls := "SupplyGridModel", name := "padded", desc := "(II)J" } : Jvm.MethodName) prog_17_method_104_code (3 : Nat) (Option.some Jvm.ClassFile.FieldType.long)) ∈ lw_all := lw_g (lw_at lw_m8 134 rfl) rfl
theorem q1934 : (Jvm.Cond.instanceMethod ({ cls := "SupplyGridModel", name := "enough", desc := "()I" } : Jvm.MethodName)) ∈ lw_all := lw_g (lw_at lw_m8 136 rfl) rfl
theorem q1935 : (Jvm.Cond.selects "SupplyGridModel" ({ cls := "SupplyGridModel", name := "enough", desc := "()I" } : Jvm.MethodName) ({ cls := "SupplyGridModel", name := "enough", desc := "()I" } : Jvm.MethodName)) ∈ lw_all := lw_g (lw_at lw_m8 137 rfl) rfl
theorem q1936 : (Jvm.Cond.code ({ cls := "SupplyGridModel", name := "enough", desc := "()I" } : Jvm.MethodName) prog_17_method_105_code (4 : Nat) (Option.some Jvm.ClassFile.FieldType.int)) ∈ lw_all := lw_g (lw_at lw_m8 138 rfl) rfl
theorem q1938 : (Jvm.Cond.instanceMethod ({ cls := "SupplyGridModel", name := "widens", desc := "()I" } : Jvm.MethodName)) ∈ lw_all := lw_g (lw_at lw_m8 140 rfl) rfl
theorem q1939 : (Jvm.Cond.selects "SupplyGridModel" ({ cls := "SupplyGridModel", name := "widens", desc := "()I" } : Jvm.MethodName) ({ cls := "SupplyGridModel", name := "widens", desc := "()I" } : Jvm.MethodName)) ∈ lw_all := lw_g (lw_at lw_m8 141 rfl) rfl
theorem q1940 : (Jvm.Cond.code ({ cls := "SupplyGridModel", name := "widens", desc := "()I" } : Jvm.MethodName) prog_17_method_109_code (1 : Nat) (Option.some Jvm.ClassFile.FieldType.int)) ∈ lw_all := lw_g (lw_at lw_m8 142 rfl) rfl
theorem q1941 : (Jvm.Cond.methodLink "SupplyGridModel" (412 : Nat) ({ cls := "SupplyGridModel", name := "laysWidened", desc := "()Z" } : Jvm.MethodName)) ∈ lw_all := lw_g (lw_at lw_m8 143 rfl) rfl
theorem q1942 : (Jvm.Cond.privateMethod ({ cls := "SupplyGridModel", name := "laysWidened", desc := "()Z" } : Jvm.MethodName)) ∈ lw_tbl := lw_at lw_m8 144 rfl
theorem q1943 : (Jvm.Cond.instanceMethod ({ cls := "SupplyGridModel", name := "laysWidened", desc := "()Z" } : Jvm.MethodName)) ∈ lw_all := lw_g (lw_at lw_m8 145 rfl) rfl
theorem q1944 : (Jvm.Cond.code ({ cls := "SupplyGridModel", name := "laysWidened", desc := "()Z" } : Jvm.MethodName) prog_17_method_108_code (1 : Nat) (Option.some Jvm.ClassFile.FieldType.boolean)) ∈ lw_all := lw_g (lw_at lw_m8 146 rfl) rfl
theorem q1945 : (Jvm.Cond.methodLink "SupplyGridModel" (409 : Nat) ({ cls := "SupplyGridModel", name := "widensAll", desc := "()V" } : Jvm.MethodName)) ∈ lw_all := lw_g (lw_at lw_m8 147 rfl) rfl
theorem q1946 : (Jvm.Cond.privateMethod ({ cls := "SupplyGridModel", name := "widensAll", desc := "()V" } : Jvm.MethodName)) ∈ lw_tbl := lw_at lw_m8 148 rfl
theorem q1947 : (Jvm.Cond.instanceMethod ({ cls := "SupplyGridModel", name := "widensAll", desc := "()V" } : Jvm.MethodName)) ∈ lw_all := lw_g (lw_at lw_m8 149 rfl) rfl
theorem q1948 : (Jvm.Cond.code ({ cls := "SupplyGridModel", name := "widensAll", desc := "()V" } : Jvm.MethodName) prog_17_method_107_code (2 : Nat) (Option.none : Option Jvm.ClassFile.FieldType)) ∈ lw_all := lw_g (lw_at lw_m8 150 rfl) rfl
theorem q1949 : (Jvm.Cond.methodLink "SupplyGridModel" (406 : Nat) ({ cls := "SupplyGridModel", name := "nextWider", desc := "()I" } : Jvm.MethodName)) ∈ lw_all := lw_g (lw_at lw_m8 151 rfl) rfl
theorem q1950 : (Jvm.Cond.privateMethod ({ cls := "SupplyGridModel", name := "nextWider", desc := "()I" } : Jvm.MethodName)) ∈ lw_tbl := lw_at lw_m8 152 rfl
theorem q1951 : (Jvm.Cond.instanceMethod ({ cls := "SupplyGridModel", name := "nextWider", desc := "()I" } : Jvm.MethodName)) ∈ lw_all := lw_g (lw_at lw_m8 153 rfl) rfl
theorem q1952 : (Jvm.Cond.code ({ cls := "SupplyGridModel", name := "nextWider", desc := "()I" } : Jvm.MethodName) prog_17_method_106_code (3 : Nat) (Option.some Jvm.ClassFile.FieldType.int)) ∈ lw_all := lw_g (lw_at lw_m8 154 rfl) rfl
theorem q1953 : (Jvm.Cond.methodLink "SupplyGridModel" (400 : Nat) ({ cls := "SupplyGridModel", name := "beginsWith", desc := "()V" } : Jvm.MethodName)) ∈ lw_all := lw_g (lw_at lw_m8 155 rfl) rfl
theorem q1954 : (Jvm.Cond.privateMethod ({ cls := "SupplyGridModel", name := "beginsWith", desc := "()V" } : Jvm.MethodName)) ∈ lw_tbl := lw_at lw_m8 156 rfl
theorem q1955 : (Jvm.Cond.instanceMethod ({ cls := "SupplyGridModel", name := "beginsWith", desc := "()V" } : Jvm.MethodName)) ∈ lw_all := lw_g (lw_at lw_m8 157 rfl) rfl
theorem q1956 : (Jvm.Cond.code ({ cls := "SupplyGridModel", name := "beginsWith", desc := "()V" } : Jvm.MethodName) prog_17_method_98_code (1 : Nat) (Option.none : Option Jvm.ClassFile.FieldType)) ∈ lw_all := lw_g (lw_at lw_m8 158 rfl) rfl
theorem q1958 : (Jvm.Cond.instanceMethod ({ cls := "SupplyGridModel", name := "widen", desc := "(I)I" } : Jvm.MethodName)) ∈ lw_all := lw_g (lw_at lw_m8 160 rfl) rfl
theorem q1959 : (Jvm.Cond.selects "SupplyGridModel" ({ cls := "SupplyGridModel", name := "widen", desc := "(I)I" } : Jvm.MethodName) ({ cls := "SupplyGridModel", name := "widen", desc := "(I)I" } : Jvm.MethodName)) ∈ lw_all := lw_g (lw_at lw_m8 161 rfl) rfl
theorem q1960 : (Jvm.Cond.code ({ cls := "SupplyGridModel", name := "widen", desc := "(I)I" } : Jvm.MethodName) prog_17_method_110_code (2 : Nat) (Option.some Jvm.ClassFile.FieldType.int)) ∈ lw_all := lw_g (lw_at lw_m8 162 rfl) rfl
theorem q1962 : (Jvm.Cond.instanceMethod ({ cls := "SupplyGridModel", name := "wide", desc := "()I" } : Jvm.MethodName)) ∈ lw_all := lw_g (lw_at lw_m8 164 rfl) rfl
theorem q1963 : (Jvm.Cond.selects "SupplyGridModel" ({ cls := "SupplyGridModel", name := "wide", desc := "()I" } : Jvm.MethodName) ({ cls := "SupplyGridModel", name := "wide", desc := "()I" } : Jvm.MethodName)) ∈ lw_all := lw_g (lw_at lw_m8 165 rfl) rfl
theorem q1964 : (Jvm.Cond.code ({ cls := "SupplyGridModel", name := "wide", desc := "()I" } : Jvm.MethodName) prog_17_method_111_code (2 : Nat) (Option.some Jvm.ClassFile.FieldType.int)) ∈ lw_all := lw_g (lw_at lw_m8 166 rfl) rfl
theorem q1966 : (Jvm.Cond.instanceMethod ({ cls := "SupplyGridModel", name := "fewest", desc := "()I" } : Jvm.MethodName)) ∈ lw_all := lw_g (lw_at lw_m8 168 rfl) rfl
theorem q1967 : (Jvm.Cond.selects "SupplyGridModel" ({ cls := "SupplyGridModel", name := "fewest", desc := "()I" } : Jvm.MethodName) ({ cls := "SupplyGridModel", name := "fewest", desc := "()I" } : Jvm.MethodName)) ∈ lw_all := lw_g (lw_at lw_m8 169 rfl) rfl
theorem q1968 : (Jvm.Cond.code ({ cls := "SupplyGridModel", name := "fewest", desc := "()I" } : Jvm.MethodName) prog_17_method_114_code (1 : Nat) (Option.some Jvm.ClassFile.FieldType.int)) ∈ lw_all := lw_g (lw_at lw_m8 170 rfl) rfl
theorem q1969 : (Jvm.Cond.methodLink "SupplyGridModel" (418 : Nat) ({ cls := "SupplyGridModel", name := "fewestOf", desc := "()I" } : Jvm.MethodName)) ∈ lw_all := lw_g (lw_at lw_m8 171 rfl) rfl
theorem q1970 : (Jvm.Cond.privateMethod ({ cls := "SupplyGridModel", name := "fewestOf", desc := "()I" } : Jvm.MethodName)) ∈ lw_tbl := lw_at lw_m8 172 rfl
theorem q1971 : (Jvm.Cond.instanceMethod ({ cls := "SupplyGridModel", name := "fewestOf", desc := "()I" } : Jvm.MethodName)) ∈ lw_all := lw_g (lw_at lw_m8 173 rfl) rfl
theorem q1972 : (Jvm.Cond.code ({ cls := "SupplyGridModel", name := "fewestOf", desc := "()I" } : Jvm.MethodName) prog_17_method_113_code (2 : Nat) (Option.some Jvm.ClassFile.FieldType.int)) ∈ lw_all := lw_g (lw_at lw_m8 174 rfl) rfl
theorem q1973 : (Jvm.Cond.methodLink "SupplyGridModel" (415 : Nat) ({ cls := "SupplyGridModel", name := "does", desc := "(III)Z" } : Jvm.MethodName)) ∈ lw_all := lw_g (lw_at lw_m8 175 rfl) rfl
theorem q1974 : (Jvm.Cond.privateMethod ({ cls := "SupplyGridModel", name := "does", desc := "(III)Z" } : Jvm.MethodName)) ∈ lw_tbl := lw_at lw_m8 176 rfl
theorem q1975 : (Jvm.Cond.instanceMethod ({ cls := "SupplyGridModel", name := "does", desc := "(III)Z" } : Jvm.MethodName)) ∈ lw_all := lw_g (lw_at lw_m8 177 rfl) rfl
theorem q1976 : (Jvm.Cond.code ({ cls := "SupplyGridModel", name := "does", desc := "(III)Z" } : Jvm.MethodName) prog_17_method_112_code (6 : Nat) (Option.some Jvm.ClassFile.FieldType.boolean)) ∈ lw_all := lw_g (lw_at lw_m8 178 rfl) rfl
theorem q1978 : (Jvm.Cond.instanceMethod ({ cls := "SupplyGridModel", name := "few", desc := "(I)I" } : Jvm.MethodName)) ∈ lw_all := lw_g (lw_at lw_m8 180 rfl) rfl
theorem q1979 : (Jvm.Cond.selects "SupplyGridModel" ({ cls := "SupplyGridModel", name := "few", desc := "(I)I" } : Jvm.MethodName) ({ cls := "SupplyGridModel", name := "few", desc := "(I)I" } : Jvm.MethodName)) ∈ lw_all := lw_g (lw_at lw_m8 181 rfl) rfl
theorem q1980 : (Jvm.Cond.code ({ cls := "SupplyGridModel", name := "few", desc := "(I)I" } : Jvm.MethodName) prog_17_method_115_code (3 : Nat) (Option.some Jvm.ClassFile.FieldType.int)) ∈ lw_all := lw_g (lw_at lw_m8 182 rfl) rfl
theorem q1982 : (Jvm.Cond.instanceMethod ({ cls := "SupplyGridModel", name := "slims", desc := "()I" } : Jvm.MethodName)) ∈ lw_all := lw_g (lw_at lw_m8 184 rfl) rfl
theorem q1983 : (Jvm.Cond.selects "SupplyGridModel" ({ cls := "SupplyGridModel", name := "slims", desc := "()I" } : Jvm.MethodName) ({ cls := "SupplyGridModel", name := "slims", desc := "()I" } : Jvm.MethodName)) ∈ lw_all := lw_g (lw_at lw_m8 185 rfl) rfl
theorem q1984 : (Jvm.Cond.code ({ cls := "SupplyGridModel", name := "slims", desc := "()I" } : Jvm.MethodName) prog_17_method_118_code (2 : Nat) (Option.some Jvm.ClassFile.FieldType.int)) ∈ lw_all := lw_g (lw_at lw_m8 186 rfl) rfl
theorem q1985 : (Jvm.Cond.methodLink "SupplyGridModel" (424 : Nat) ({ cls := "SupplyGridModel", name := "slimsAll", desc := "()I" } : Jvm.MethodName)) ∈ lw_all := lw_g (lw_at lw_m8 187 rfl) rfl
theorem q1986 : (Jvm.Cond.privateMethod ({ cls := "SupplyGridModel", name := "slimsAll", desc := "()I" } : Jvm.MethodName)) ∈ lw_tbl := lw_at lw_m8 188 rfl
theorem q1987 : (Jvm.Cond.instanceMethod ({ cls := "SupplyGridModel", name := "slimsAll", desc := "()I" } : Jvm.MethodName)) ∈ lw_all := lw_g (lw_at lw_m8 189 rfl) rfl
theorem q1988 : (Jvm.Cond.code ({ cls := "SupplyGridModel", name := "slimsAll", desc := "()I" } : Jvm.MethodName) prog_17_method_117_code (3 : Nat) (Option.some Jvm.ClassFile.FieldType.int)) ∈ lw_all := lw_g (lw_at lw_m8 190 rfl) rfl
theorem q1989 : (Jvm.Cond.methodLink "SupplyGridModel" (421 : Nat) ({ cls := "SupplyGridModel", name := "nextSlim", desc := "()I" } : Jvm.MethodName)) ∈ lw_all := lw_g (lw_at lw_m8 191 rfl) rfl
theorem q1990 : (Jvm.Cond.privateMethod ({ cls := "SupplyGridModel", name := "nextSlim", desc := "()I" } : Jvm.MethodName)) ∈ lw_tbl := lw_at lw_m8 192 rfl
theorem q1991 : (Jvm.Cond.instanceMethod ({ cls := "SupplyGridModel", name := "nextSlim", desc := "()I" } : Jvm.MethodName)) ∈ lw_all := lw_g (lw_at lw_m8 193 rfl) rfl
theorem q1992 : (Jvm.Cond.code ({ cls := "SupplyGridModel", name := "nextSlim", desc := "()I" } : Jvm.MethodName) prog_17_method_116_code (3 : Nat) (Option.some Jvm.ClassFile.FieldType.int)) ∈ lw_all := lw_g (lw_at lw_m8 194 rfl) rfl
theorem q1994 : (Jvm.Cond.instanceMethod ({ cls := "SupplyGridModel", name := "slim", desc := "(I)I" } : Jvm.MethodName)) ∈ lw_all := lw_g (lw_at lw_m8 196 rfl) rfl
theorem q1995 : (Jvm.Cond.selects "SupplyGridModel" ({ cls := "SupplyGridModel", name := "slim", desc := "(I)I" } : Jvm.MethodName) ({ cls := "SupplyGridModel", name := "slim", desc := "(I)I" } : Jvm.MethodName)) ∈ lw_all := lw_g (lw_at lw_m8 197 rfl) rfl
theorem q1996 : (Jvm.Cond.code ({ cls := "SupplyGridModel", name := "slim", desc := "(I)I" } : Jvm.MethodName) prog_17_method_119_code (3 : Nat) (Option.some Jvm.ClassFile.FieldType.int)) ∈ lw_all := lw_g (lw_at lw_m8 198 rfl) rfl
theorem q1998 : (Jvm.Cond.instanceMethod ({ cls := "SupplyGridModel", name := "pairs", desc := "()I" } : Jvm.MethodName)) ∈ lw_all := lw_g (lw_at lw_m8 200 rfl) rfl
theorem q1999 : (Jvm.Cond.selects "SupplyGridModel" ({ cls := "SupplyGridModel", name := "pairs", desc := "()I" } : Jvm.MethodName) ({ cls := "SupplyGridModel", name := "pairs", desc := "()I" } : Jvm.MethodName)) ∈ lw_all := lw_g (lw_at lw_m8 201 rfl) rfl
theorem q2000 : (Jvm.Cond.code ({ cls := "SupplyGridModel", name := "pairs", desc := "()I" } : Jvm.MethodName) prog_17_method_123_code (1 : Nat) (Option.some Jvm.ClassFile.FieldType.int)) ∈ lw_all := lw_g (lw_at lw_m8 202 rfl) rfl
theorem q2001 : (Jvm.Cond.methodLink "SupplyGridModel" (433 : Nat) ({ cls := "SupplyGridModel", name := "pairBy", desc := "(I)I" } : Jvm.MethodName)) ∈ lw_all := lw_g (lw_at lw_m8 203 rfl) rfl
theorem q2002 : (Jvm.Cond.privateMethod ({ cls := "SupplyGridModel", name := "pairBy", desc := "(I)I" } : Jvm.MethodName)) ∈ lw_tbl := lw_at lw_m8 204 rfl
theorem q2003 : (Jvm.Cond.instanceMethod ({ cls := "SupplyGridModel", name := "pairBy", desc := "(I)I" } : Jvm.MethodName)) ∈ lw_all := lw_g (lw_at lw_m8 205 rfl) rfl
theorem q2004 : (Jvm.Cond.code ({ cls := "SupplyGridModel", name := "pairBy", desc := "(I)I" } : Jvm.MethodName) prog_17_method_122_code (5 : Nat) (Option.some Jvm.ClassFile.FieldType.int)) ∈ lw_all := lw_g (lw_at lw_m8 206 rfl) rfl
theorem q2005 : (Jvm.Cond.methodLink "SupplyGridModel" (430 : Nat) ({ cls := "SupplyGridModel", name := "isPair", desc := "(II)Z" } : Jvm.MethodName)) ∈ lw_all := lw_g (lw_at lw_m8 207 rfl) rfl
theorem q2006 : (Jvm.Cond.privateMethod ({ cls := "SupplyGridModel", name := "isPair", desc := "(II)Z" } : Jvm.MethodName)) ∈ lw_tbl := lw_at lw_m8 208 rfl
theorem q2007 : (Jvm.Cond.instanceMethod ({ cls := "SupplyGridModel", name := "isPair", desc := "(II)Z" } : Jvm.MethodName)) ∈ lw_all := lw_g (lw_at lw_m8 209 rfl) rfl
theorem q2008 : (Jvm.Cond.code ({ cls := "SupplyGridModel", name := "isPair", desc := "(II)Z" } : Jvm.MethodName) prog_17_method_121_code (3 : Nat) (Option.some Jvm.ClassFile.FieldType.boolean)) ∈ lw_all := lw_g (lw_at lw_m8 210 rfl) rfl
theorem q2009 : (Jvm.Cond.methodLink "SupplyGridModel" (427 : Nat) ({ cls := "SupplyGridModel", name := "holdsWithout", desc := "(II)Z" } : Jvm.MethodName)) ∈ lw_all := lw_g (lw_at lw_m8 211 rfl) rfl
theorem q2010 : (Jvm.Cond.privateMethod ({ cls := "SupplyGridModel", name := "holdsWithout", desc := "(II)Z" } : Jvm.MethodName)) ∈ lw_tbl := lw_at lw_m8 212 rfl
theorem q2011 : (Jvm.Cond.instanceMethod ({ cls := "SupplyGridModel", name := "holdsWithout", desc := "(II)Z" } : Jvm.MethodName)) ∈ lw_all := lw_g (lw_at lw_m8 213 rfl) rfl
theorem q2012 : (Jvm.Cond.code ({ cls := "SupplyGridModel", name := "holdsWithout", desc := "(II)Z" } : Jvm.MethodName) prog_17_method_120_code (6 : Nat) (Option.some Jvm.ClassFile.FieldType.boolean)) ∈ lw_all := lw_g (lw_at lw_m8 214 rfl) rfl
theorem q2014 : (Jvm.Cond.instanceMethod ({ cls := "SupplyGridModel", name := "pair", desc := "(I)I" } : Jvm.MethodName)) ∈ lw_all := lw_g (lw_at lw_m8 216 rfl) rfl
theorem q2015 : (Jvm.Cond.selects "SupplyGridModel" ({ cls := "SupplyGridModel", name := "pair", desc := "(I)I" } : Jvm.MethodName) ({ cls := "SupplyGridModel", name := "pair", desc := "(I)I" } : Jvm.MethodName)) ∈ lw_all := lw_g (lw_at lw_m8 217 rfl) rfl
theorem q2016 : (Jvm.Cond.code ({ cls := "SupplyGridModel", name := "pair", desc := "(I)I" } : Jvm.MethodName) prog_17_method_124_code (2 : Nat) (Option.some Jvm.ClassFile.FieldType.int)) ∈ lw_all := lw_g (lw_at lw_m8 218 rfl) rfl
theorem q2018 : (Jvm.Cond.instanceMethod ({ cls := "SupplyGridModel", name := "chance", desc := "(II)I" } : Jvm.MethodName)) ∈ lw_all := lw_g (lw_at lw_m8 220 rfl) rfl
theorem q2019 : (Jvm.Cond.selects "SupplyGridModel" ({ cls := "SupplyGridModel", name := "chance", desc := "(II)I" } : Jvm.MethodName) ({ cls := "SupplyGridModel", name := "chance", desc := "(II)I" } : Jvm.MethodName)) ∈ lw_all := lw_g (lw_at lw_m8 221 rfl) rfl
theorem q2020 : (Jvm.Cond.code ({ cls := "SupplyGridModel", name := "chance", desc := "(II)I" } : Jvm.MethodName) prog_17_method_127_code (3 : Nat) (Option.some Jvm.ClassFile.FieldType.int)) ∈ lw_all := lw_g (lw_at lw_m8 222 rfl) rfl
theorem q2021 : (Jvm.Cond.methodLink "SupplyGridModel" (450 : Nat) ({ cls := "SupplyGridModel", name := "tries", desc := "(II)I" } : Jvm.MethodName)) ∈ lw_all := lw_g (lw_at lw_m8 223 rfl) rfl
theorem q2022 : (Jvm.Cond.privateMethod ({ cls := "SupplyGridModel", name := "tries", desc := "(II)I" } : Jvm.MethodName)) ∈ lw_tbl := lw_at lw_m8 224 rfl
theorem q2023 : (Jvm.Cond.instanceMethod ({ cls := "SupplyGridModel", name := "tries", desc := "(II)I" } : Jvm.MethodName)) ∈ lw_all := lw_g (lw_at lw_m8 225 rfl) rfl
theorem q2024 : (Jvm.Cond.code ({ cls := "SupplyGridModel", name := "tries", desc := "(II)I" } : Jvm.MethodName) prog_17_method_126_code (6 : Nat) (Option.some Jvm.ClassFile.FieldType.int)) ∈ lw_all := lw_g (lw_at lw_m8 226 rfl) rfl
theorem q2025 : (Jvm.Cond.methodLink "SupplyGridModel" (447 : Nat) ({ cls := "SupplyGridModel", name := "draws1", desc := "(I)I" } : Jvm.MethodName)) ∈ lw_all := lw_g (lw_at lw_m8 227 rfl) rfl
theorem q2026 : (Jvm.Cond.privateMethod ({ cls := "SupplyGridModel", name := "draws1", desc := "(I)I" } : Jvm.MethodName)) ∈ lw_tbl := lw_at lw_m8 228 rfl
theorem q2027 : (Jvm.Cond.instanceMethod ({ cls := "SupplyGridModel", name := "draws1", desc := "(I)I" } : Jvm.MethodName)) ∈ lw_all := lw_g (lw_at lw_m8 229 rfl) rfl
theorem q2028 : (Jvm.Cond.code ({ cls := "SupplyGridModel", name := "draws1", desc := "(I)I" } : Jvm.MethodName) prog_17_method_125_code (2 : Nat) (Option.some Jvm.ClassFile.FieldType.int)) ∈ lw_all := lw_g (lw_at lw_m8 230 rfl) rfl
theorem q2029 : (Jvm.Cond.constantLong "SupplyGridModel" (436 : Nat) (1103515245 : Int64)) ∈ lw_all := lw_g (lw_at lw_m8 231 rfl) rfl
theorem q2030 : (Jvm.Cond.constantLong "SupplyGridModel" (441 : Nat) (12345 : Int64)) ∈ lw_all := lw_g (lw_at lw_m8 232 rfl) rfl
theorem q2031 : (Jvm.Cond.constantLong "SupplyGridModel" (443 : Nat) (2147483648 : Int64)) ∈ lw_all := lw_g (lw_at lw_m8 233 rfl) rfl
theorem q2032 : (Jvm.Cond.constantLong "SupplyGridModel" (445 : Nat) (65536 : Int64)) ∈ lw_all := lw_g (lw_at lw_m8 234 rfl) rfl
theorem q2034 : (Jvm.Cond.instanceMethod ({ cls := "SupplyGridModel", name := "luck", desc := "(III)J" } : Jvm.MethodName)) ∈ lw_all := lw_g (lw_at lw_m8 236 rfl) rfl
theorem q2035 : (Jvm.Cond.selects "SupplyGridModel" ({ cls := "SupplyGridModel", name := "luck", desc := "(III)J" } : Jvm.MethodName) ({ cls := "SupplyGridModel", name := "luck", desc := "(III)J" } : Jvm.MethodName)) ∈ lw_all := lw_g (lw_at lw_m8 237 rfl) rfl
theorem q2036 : (Jvm.Cond.code ({ cls := "SupplyGridModel", name := "luck", desc := "(III)J" } : Jvm.MethodName) prog_17_method_128_code (4 : Nat) (Option.some Jvm.ClassFile.FieldType.long)) ∈ lw_all := lw_g (lw_at lw_m8 238 rfl) rfl
theorem q2038 : (Jvm.Cond.instanceMethod ({ cls := "SupplyGridModel", name := "without", desc := "(II)J" } : Jvm.MethodName)) ∈ lw_all := lw_g (lw_at lw_m9 0 rfl) rfl
theorem q2039 : (Jvm.Cond.selects "SupplyGridModel" ({ cls := "SupplyGridModel", name := "without", desc := "(II)J" } : Jvm.MethodName) ({ cls := "SupplyGridModel", name := "without", desc := "(II)J" } : Jvm.MethodName)) ∈ lw_all := lw_g (lw_at lw_m9 1 rfl) rfl
theorem q2040 : (Jvm.Cond.code ({ cls := "SupplyGridModel", name := "without", desc := "(II)J" } : Jvm.MethodName) prog_17_method_129_code (6 : Nat) (Option.some Jvm.ClassFile.FieldType.long)) ∈ lw_all := lw_g (lw_at lw_m9 2 rfl) rfl
theorem q2042 : (Jvm.Cond.instanceMethod ({ cls := "SupplyGridModel", name := "lost", desc := "(I)I" } : Jvm.MethodName)) ∈ lw_all := lw_g (lw_at lw_m9 4 rfl) rfl
theorem q2043 : (Jvm.Cond.selects "SupplyGridModel" ({ cls := "SupplyGridModel", name := "lost", desc := "(I)I" } : Jvm.MethodName) ({ cls := "SupplyGridModel", name := "lost", desc := "(I)I" } : Jvm.MethodName)) ∈ lw_all := lw_g (lw_at lw_m9 5 rfl) rfl
theorem q2044 : (Jvm.Cond.code ({ cls := "SupplyGridModel", name := "lost", desc := "(I)I" } : Jvm.MethodName) prog_17_method_130_code (3 : Nat) (Option.some Jvm.ClassFile.FieldType.int)) ∈ lw_all := lw_g (lw_at lw_m9 6 rfl) rfl
theorem q2046 : (Jvm.Cond.instanceMethod ({ cls := "SupplyGridModel", name := "vital", desc := "()I" } : Jvm.MethodName)) ∈ lw_all := lw_g (lw_at lw_m9 8 rfl) rfl
theorem q2047 : (Jvm.Cond.selects "SupplyGridModel" ({ cls := "SupplyGridModel", name := "vital", desc := "()I" } : Jvm.MethodName) ({ cls := "SupplyGridModel", name := "vital", desc := "()I" } : Jvm.MethodName)) ∈ lw_all := lw_g (lw_at lw_m9 9 rfl) rfl
theorem q2048 : (Jvm.Cond.code ({ cls := "SupplyGridModel", name := "vital", desc := "()I" } : Jvm.MethodName) prog_17_method_131_code (4 : Nat) (Option.some Jvm.ClassFile.FieldType.int)) ∈ lw_all := lw_g (lw_at lw_m9 10 rfl) rfl
theorem q2050 : (Jvm.Cond.instanceMethod ({ cls := "SupplyGridModel", name := "spare", desc := "()I" } : Jvm.MethodName)) ∈ lw_all := lw_g (lw_at lw_m9 12 rfl) rfl
theorem q2051 : (Jvm.Cond.selects "SupplyGridModel" ({ cls := "SupplyGridModel", name := "spare", desc := "()I" } : Jvm.MethodName) ({ cls := "SupplyGridModel", name := "spare", desc := "()I" } : Jvm.MethodName)) ∈ lw_all := lw_g (lw_at lw_m9 13 rfl) rfl
theorem q2052 : (Jvm.Cond.code ({ cls := "SupplyGridModel", name := "spare", desc := "()I" } : Jvm.MethodName) prog_17_method_132_code (4 : Nat) (Option.some Jvm.ClassFile.FieldType.int)) ∈ lw_all := lw_g (lw_at lw_m9 14 rfl) rfl
theorem q2054 : (Jvm.Cond.instanceMethod ({ cls := "SupplyGridModel", name := "room", desc := "(I)I" } : Jvm.MethodName)) ∈ lw_all := lw_g (lw_at lw_m9 16 rfl) rfl
theorem q2055 : (Jvm.Cond.selects "SupplyGridModel" ({ cls := "SupplyGridModel", name := "room", desc := "(I)I" } : Jvm.MethodName) ({ cls := "SupplyGridModel", name := "room", desc := "(I)I" } : Jvm.MethodName)) ∈ lw_all := lw_g (lw_at lw_m9 17 rfl) rfl
theorem q2056 : (Jvm.Cond.code ({ cls := "SupplyGridModel", name := "room", desc := "(I)I" } : Jvm.MethodName) prog_17_method_133_code (4 : Nat) (Option.some Jvm.ClassFile.FieldType.int)) ∈ lw_all := lw_g (lw_at lw_m9 18 rfl) rfl
theorem q2058 : (Jvm.Cond.instanceMethod ({ cls := "SupplyGridModel", name := "did", desc := "(II)I" } : Jvm.MethodName)) ∈ lw_all := lw_g (lw_at lw_m9 20 rfl) rfl
theorem q2059 : (Jvm.Cond.selects "SupplyGridModel" ({ cls := "SupplyGridModel", name := "did", desc := "(II)I" } : Jvm.MethodName) ({ cls := "SupplyGridModel", name := "did", desc := "(II)I" } : Jvm.MethodName)) ∈ lw_all := lw_g (lw_at lw_m9 21 rfl) rfl
theorem q2060 : (Jvm.Cond.code ({ cls := "SupplyGridModel", name := "did", desc := "(II)I" } : Jvm.MethodName) prog_17_method_136_code (5 : Nat) (Option.some Jvm.ClassFile.FieldType.int)) ∈ lw_all := lw_g (lw_at lw_m9 22 rfl) rfl
theorem q2062 : (Jvm.Cond.instanceMethod ({ cls := "SupplyGridModel", name := "lay", desc := "(II)I" } : Jvm.MethodName)) ∈ lw_all := lw_g (lw_at lw_m9 24 rfl) rfl
theorem q2063 : (Jvm.Cond.selects "SupplyGridModel" ({ cls := "SupplyGridModel", name := "lay", desc := "(II)I" } : Jvm.MethodName) ({ cls := "SupplyGridModel", name := "lay", desc := "(II)I" } : Jvm.MethodName)) ∈ lw_all := lw_g (lw_at lw_m9 25 rfl) rfl
theorem q2064 : (Jvm.Cond.code ({ cls := "SupplyGridModel", name := "lay", desc := "(II)I" } : Jvm.MethodName) prog_17_method_137_code (4 : Nat) (Option.some Jvm.ClassFile.FieldType.int)) ∈ lw_all := lw_g (lw_at lw_m9 26 rfl) rfl
theorem q2065 : (Jvm.Cond.constantLong "SupplyGridModel" (453 : Nat) (4 : Int64)) ∈ lw_all := lw_g (lw_at lw_m9 27 rfl) rfl
theorem q2066 : (Jvm.Cond.methodLink "SupplyGridModel" (455 : Nat) ({ cls := "SupplyGridModel", name := "isFull", desc := "()Z" } : Jvm.MethodName)) ∈ lw_all := lw_g (lw_at lw_m9 28 rfl) rfl
theorem q2067 : (Jvm.Cond.privateMethod ({ cls := "SupplyGridModel", name := "isFull", desc := "()Z" } : Jvm.MethodName)) ∈ lw_tbl := lw_at lw_m9 29 rfl
theorem q2068 : (Jvm.Cond.instanceMethod ({ cls := "SupplyGridModel", name := "isFull", desc := "()Z" } : Jvm.MethodName)) ∈ lw_all := lw_g (lw_at lw_m9 30 rfl) rfl
theorem q2069 : (Jvm.Cond.code ({ cls := "SupplyGridModel", name := "isFull", desc := "()Z" } : Jvm.MethodName) prog_17_method_134_code (1 : Nat) (Option.some Jvm.ClassFile.FieldType.boolean)) ∈ lw_all := lw_g (lw_at lw_m9 31 rfl) rfl
theorem q2070 : (Jvm.Cond.methodLink "SupplyGridModel" (458 : Nat) ({ cls := "SupplyGridModel", name := "remembers", desc := "(II)V" } : Jvm.MethodName)) ∈ lw_all := lw_g (lw_at lw_m9 32 rfl) rfl
theorem q2071 : (Jvm.Cond.privateMethod ({ cls := "SupplyGridModel", name := "remembers", desc := "(II)V" } : Jvm.MethodName)) ∈ lw_tbl := lw_at lw_m9 33 rfl
theorem q2072 : (Jvm.Cond.instanceMethod ({ cls := "SupplyGridModel", name := "remembers", desc := "(II)V" } : Jvm.MethodName)) ∈ lw_all := lw_g (lw_at lw_m9 34 rfl) rfl
theorem q2073 : (Jvm.Cond.code ({ cls := "SupplyGridModel", name := "remembers", desc := "(II)V" } : Jvm.MethodName) prog_17_method_135_code (4 : Nat) (Option.none : Option Jvm.ClassFile.FieldType)) ∈ lw_all := lw_g (lw_at lw_m9 35 rfl) rfl
theorem q2075 : (Jvm.Cond.instanceMethod ({ cls := "SupplyGridModel", name := "feeds", desc := "(I)I" } : Jvm.MethodName)) ∈ lw_all := lw_g (lw_at lw_m9 37 rfl) rfl
theorem q2076 : (Jvm.Cond.selects "SupplyGridModel" ({ cls := "SupplyGridModel", name := "feeds", desc := "(I)I" } : Jvm.MethodName) ({ cls := "SupplyGridModel", name := "feeds", desc := "(I)I" } : Jvm.MethodName)) ∈ lw_all := lw_g (lw_at lw_m9 38 rfl) rfl
theorem q2077 : (Jvm.Cond.code ({ cls := "SupplyGridModel", name := "feeds", desc := "(I)I" } : Jvm.MethodName) prog_17_method_138_code (2 : Nat) (Option.some Jvm.ClassFile.FieldType.int)) ∈ lw_all := lw_g (lw_at lw_m9 39 rfl) rfl
theorem q2079 : (Jvm.Cond.instanceMethod ({ cls := "SupplyGridModel", name := "draw", desc := "(II)I" } : Jvm.MethodName)) ∈ lw_all := lw_g (lw_at lw_m9 41 rfl) rfl
theorem q2080 : (Jvm.Cond.selects "SupplyGridModel" ({ cls := "SupplyGridModel", name := "draw", desc := "(II)I" } : Jvm.MethodName) ({ cls := "SupplyGridModel", name := "draw", desc := "(II)I" } : Jvm.MethodName)) ∈ lw_all := lw_g (lw_at lw_m9 42 rfl) rfl
theorem q2081 : (Jvm.Cond.code ({ cls := "SupplyGridModel", name := "draw", desc := "(II)I" } : Jvm.MethodName) prog_17_method_139_code (4 : Nat) (Option.some Jvm.ClassFile.FieldType.int)) ∈ lw_all := lw_g (lw_at lw_m9 43 rfl) rfl
theorem q2082 : (Jvm.Cond.constantLong "SupplyGridModel" (461 : Nat) (99 : Int64)) ∈ lw_all := lw_g (lw_at lw_m9 44 rfl) rfl
theorem q2084 : (Jvm.Cond.instanceMethod ({ cls := "SupplyGridModel", name := "year", desc := "()I" } : Jvm.MethodName)) ∈ lw_all := lw_g (lw_at lw_m9 46 rfl) rfl
theorem q2085 : (Jvm.Cond.selects "SupplyGridModel" ({ cls := "SupplyGridModel", name := "year", desc := "()I" } : Jvm.MethodName) ({ cls := "SupplyGridModel", name := "year", desc := "()I" } : Jvm.MethodName)) ∈ lw_all := lw_g (lw_at lw_m9 47 rfl) rfl
theorem q2086 : (Jvm.Cond.code ({ cls := "SupplyGridModel", name := "year", desc := "()I" } : Jvm.MethodName) prog_17_method_140_code (4 : Nat) (Option.some Jvm.ClassFile.FieldType.int)) ∈ lw_all := lw_g (lw_at lw_m9 48 rfl) rfl
theorem q2088 : (Jvm.Cond.instanceMethod ({ cls := "SupplyGridModel", name := "undo", desc := "()I" } : Jvm.MethodName)) ∈ lw_all := lw_g (lw_at lw_m9 50 rfl) rfl
theorem q2089 : (Jvm.Cond.selects "SupplyGridModel" ({ cls := "SupplyGridModel", name := "undo", desc := "()I" } : Jvm.MethodName) ({ cls := "SupplyGridModel", name := "undo", desc := "()I" } : Jvm.MethodName)) ∈ lw_all := lw_g (lw_at lw_m9 51 rfl) rfl
theorem q2090 : (Jvm.Cond.code ({ cls := "SupplyGridModel", name := "undo", desc := "()I" } : Jvm.MethodName) prog_17_method_142_code (1 : Nat) (Option.some Jvm.ClassFile.FieldType.int)) ∈ lw_all := lw_g (lw_at lw_m9 52 rfl) rfl
theorem q2091 : (Jvm.Cond.methodLink "SupplyGridModel" (463 : Nat) ({ cls := "SupplyGridModel", name := "takesBack", desc := "()V" } : Jvm.MethodName)) ∈ lw_all := lw_g (lw_at lw_m9 53 rfl) rfl
theorem q2092 : (Jvm.Cond.privateMethod ({ cls := "SupplyGridModel", name := "takesBack", desc := "()V" } : Jvm.MethodName)) ∈ lw_tbl := lw_at lw_m9 54 rfl
theorem q2093 : (Jvm.Cond.instanceMethod ({ cls := "SupplyGridModel", name := "takesBack", desc := "()V" } : Jvm.MethodName)) ∈ lw_all := lw_g (lw_at lw_m9 55 rfl) rfl
theorem q2094 : (Jvm.Cond.code ({ cls := "SupplyGridModel", name := "takesBack", desc := "()V" } : Jvm.MethodName) prog_17_method_141_code (2 : Nat) (Option.none : Option Jvm.ClassFile.FieldType)) ∈ lw_all := lw_g (lw_at lw_m9 56 rfl) rfl
theorem q2096 : (Jvm.Cond.instanceMethod ({ cls := "SupplyGridModel", name := "anew", desc := "()I" } : Jvm.MethodName)) ∈ lw_all := lw_g (lw_at lw_m9 58 rfl) rfl
theorem q2097 : (Jvm.Cond.selects "SupplyGridModel" ({ cls := "SupplyGridModel", name := "anew", desc := "()I" } : Jvm.MethodName) ({ cls := "SupplyGridModel", name := "anew", desc := "()I" } : Jvm.MethodName)) ∈ lw_all := lw_g (lw_at lw_m9 59 rfl) rfl
theorem q2098 : (Jvm.Cond.code ({ cls := "SupplyGridModel", name := "anew", desc := "()I" } : Jvm.MethodName) prog_17_method_143_code (2 : Nat) (Option.some Jvm.ClassFile.FieldType.int)) ∈ lw_all := lw_g (lw_at lw_m9 60 rfl) rfl
theorem q2104 : (Jvm.Cond.castable "SupplyGridModel" "java/lang/Object") ∈ lw_tbl := lw_at lw_m9 66 rfl
theorem in_X5 : ∀ w ∈ wsX50, w ∈ lw_all := lw_in wsX50 [1423, 1425, 1427, 1429, 1431, 1433, 1435, 1437, 1439, 1441, 1443, 1445, 1447, 1449, 1451, 1453, 1455, 1457, 1459, 1461, 1463, 1465, 1467, 1469, 1471, 1473, 1475, 1477, 1479, 1481, 1483, 1485, 1487, 1489, 1491, 1493, 1495, 1497] (by decide +kernel) (by decide +kernel)
