/-! OpenLinesModel -/
set_option maxRecDepth 100000
def RX4 : String := "OpenLinesModel"
def TX4 : u_T := fun k => match k with
  | 0 => ("OpenLinesModel", "thrown", "I", false)
  | 1 => ("OpenLinesModel", "trouble", "I", false)
  | 2 => ("OpenLinesModel", "fault", "I", false)
  | 3 => ("OpenLinesModel", "where", "I", false)
  | 4 => ("OpenLinesModel", "tape", "[I", true)
  | 5 => ("OpenLinesModel", "taped", "I", false)
  | 6 => ("OpenLinesModel", "is", "[I", true)
  | 7 => ("OpenLinesModel", "read", "[I", true)
  | 8 => ("OpenLinesModel", "names", "[J", true)
  | 9 => ("OpenLinesModel", "isTold", "Z", false)
  | 10 => ("OpenLinesModel", "textLong", "I", false)
  | 11 => ("OpenLinesModel", "place", "I", false)
  | 12 => ("OpenLinesModel", "spot", "I", false)
  | 13 => ("OpenLinesModel", "token", "I", false)
  | 14 => ("OpenLinesModel", "whole", "I", false)
  | 15 => ("OpenLinesModel", "readFault", "I", false)
  | 16 => ("OpenLinesModel", "readPlace", "I", false)
  | 17 => ("OpenLinesModel", "hasBus", "Z", false)
  | 18 => ("OpenLinesModel", "row", "[I", true)
  | 19 => ("OpenLinesModel", "aside", "[I", true)
  | 20 => ("OpenLinesModel", "kept", "[I", true)
  | 21 => ("OpenLinesModel", "isKept", "Z", false)
  | 22 => ("OpenLinesModel", "words", "[I", true)
  | 23 => ("OpenLinesModel", "contenders", "I", false)
  | 24 => ("OpenLinesModel", "driven", "[I", true)
  | 25 => ("OpenLinesModel", "sees", "[I", true)
  | 26 => ("OpenLinesModel", "takes", "[I", true)
  | 27 => ("OpenLinesModel", "isOut", "[I", true)
  | 28 => ("OpenLinesModel", "dipped", "[I", true)
  | 29 => ("OpenLinesModel", "dipMany", "I", false)
  | 30 => ("OpenLinesModel", "faultyMany", "I", false)
  | 31 => ("OpenLinesModel", "firstWinners", "I", false)
  | _ => ("OpenLinesModel", "secondWinners", "I", false)
def tyX4 : Nat → FieldType := fun k => match k with
  | 0 => .int
  | 1 => .int
  | 2 => .int
  | 3 => .int
  | 4 => .array .int
  | 5 => .int
  | 6 => .array .int
  | 7 => .array .int
  | 8 => .array .long
  | 9 => .boolean
  | 10 => .int
  | 11 => .int
  | 12 => .int
  | 13 => .int
  | 14 => .int
  | 15 => .int
  | 16 => .int
  | 17 => .boolean
  | 18 => .array .int
  | 19 => .array .int
  | 20 => .array .int
  | 21 => .boolean
  | 22 => .array .int
  | 23 => .int
  | 24 => .array .int
  | 25 => .array .int
  | 26 => .array .int
  | 27 => .array .int
  | 28 => .array .int
  | 29 => .int
  | 30 => .int
  | 31 => .int
  | _ => .int
abbrev wsX40 : List Cond := u_ws RX4 TX4 33
set_option maxRecDepth 100000 in
theorem nmX4 : ∀ a, a < 33 → ∀ b, b < 33 → a ≠ b → (TX4 a).2.1 ≠ (TX4 b).2.1 := by decide +kernel
set_option maxRecDepth 100000 in
theorem tyX4_ok : ∀ k, k < 33 → parseFieldDescriptor (TX4 k).2.2.1 = some (tyX4 k) := by decide +kernel
abbrev cX4_init : ByteArray := prog_19_method_1_code
def yX4_init : MethodName := ⟨RX4, "<init>", "()V"⟩
def dkwX4_init_5 : List UInt8 := [17, 10, 206, 188, 10, 181, 0, 51, 177]
abbrev dktX4_init_5 : List UInt8 := dkwX4_init_5 ++ []
def dkwX4_init_4 : List UInt8 := [181, 0, 42, 42, 17, 9, 102, 188, 10, 181, 0, 45, 42, 17, 9, 102, 188, 10, 181, 0, 48, 42]
abbrev dktX4_init_4 : List UInt8 := dkwX4_init_4 ++ dktX4_init_5
def dkwX4_init_3 : List UInt8 := [16, 6, 188, 10, 181, 0, 36, 42, 17, 9, 102, 188, 10, 181, 0, 39, 42, 17, 9, 102, 188, 10]
abbrev dktX4_init_3 : List UInt8 := dkwX4_init_3 ++ dktX4_init_4
def dkwX4_init_2 : List UInt8 := [188, 10, 181, 0, 27, 42, 17, 0, 251, 188, 10, 181, 0, 30, 42, 17, 0, 251, 188, 10, 181, 0, 33, 42]
abbrev dktX4_init_2 : List UInt8 := dkwX4_init_2 ++ dktX4_init_3
def dkwX4_init_1 : List UInt8 := [181, 0, 17, 42, 16, 59, 188, 10, 181, 0, 20, 42, 16, 6, 188, 11, 181, 0, 23, 42, 17, 0, 251]
abbrev dktX4_init_1 : List UInt8 := dkwX4_init_1 ++ dktX4_init_2
def dkwX4_init_0 : List UInt8 := [42, 183, 0, 3, 42, 2, 181, 0, 9, 42, 17, 2, 188, 188, 10, 181, 0, 13, 42, 16, 59, 188, 10]
abbrev dktX4_init_0 : List UInt8 := dkwX4_init_0 ++ dktX4_init_1
theorem dksX4_init_0 : cX4_init.data.toList.drop 0 = dktX4_init_0 := by decide +kernel
theorem dksX4_init_1 : cX4_init.data.toList.drop 23 = dktX4_init_1 := dk_seg dksX4_init_0 23 rfl rfl
theorem dksX4_init_2 : cX4_init.data.toList.drop 46 = dktX4_init_2 := dk_seg dksX4_init_1 23 rfl rfl
theorem dksX4_init_3 : cX4_init.data.toList.drop 70 = dktX4_init_3 := dk_seg dksX4_init_2 24 rfl rfl
theorem dksX4_init_4 : cX4_init.data.toList.drop 92 = dktX4_init_4 := dk_seg dksX4_init_3 22 rfl rfl
theorem dksX4_init_5 : cX4_init.data.toList.drop 114 = dktX4_init_5 := dk_seg dksX4_init_4 22 rfl rfl
theorem dX4_init_0 : decode cX4_init 0 = .ok (.aload_n 0, 1) := dk_42 (dk_at dksX4_init_0 0 rfl rfl)
theorem dX4_init_1 : decode cX4_init 1 = .ok (.invokespecial 3, 3) := dk_183 0 3 (dk_at dksX4_init_0 1 rfl rfl)
theorem dX4_init_4 : decode cX4_init 4 = .ok (.aload_n 0, 1) := dk_42 (dk_at dksX4_init_0 4 rfl rfl)
theorem dX4_init_5 : decode cX4_init 5 = .ok (.iconst (-1), 1) := dk_2 (dk_at dksX4_init_0 5 rfl rfl)
theorem dX4_init_6 : decode cX4_init 6 = .ok (.putfield 9, 3) := dk_181 0 9 (dk_at dksX4_init_0 6 rfl rfl)
theorem dX4_init_9 : decode cX4_init 9 = .ok (.aload_n 0, 1) := dk_42 (dk_at dksX4_init_0 9 rfl rfl)
theorem dX4_init_10 : decode cX4_init 10 = .ok (.sipush 700, 3) := dk_17 2 188 (dk_at dksX4_init_0 10 rfl rfl)
theorem dX4_init_13 : decode cX4_init 13 = .ok (.newarray .int, 2) := dk_188_10 (dk_at dksX4_init_0 13 rfl rfl)
theorem dX4_init_15 : decode cX4_init 15 = .ok (.putfield 13, 3) := dk_181 0 13 (dk_at dksX4_init_0 15 rfl rfl)
theorem dX4_init_18 : decode cX4_init 18 = .ok (.aload_n 0, 1) := dk_42 (dk_at dksX4_init_0 18 rfl rfl)
theorem dX4_init_19 : decode cX4_init 19 = .ok (.bipush 59, 2) := dk_16 59 (dk_at dksX4_init_0 19 rfl rfl)
theorem dX4_init_21 : decode cX4_init 21 = .ok (.newarray .int, 2) := dk_188_10 (dk_at dksX4_init_0 21 rfl rfl)
theorem dX4_init_23 : decode cX4_init 23 = .ok (.putfield 17, 3) := dk_181 0 17 (dk_at dksX4_init_1 0 rfl rfl)
theorem dX4_init_26 : decode cX4_init 26 = .ok (.aload_n 0, 1) := dk_42 (dk_at dksX4_init_1 3 rfl rfl)
theorem dX4_init_27 : decode cX4_init 27 = .ok (.bipush 59, 2) := dk_16 59 (dk_at dksX4_init_1 4 rfl rfl)
theorem dX4_init_29 : decode cX4_init 29 = .ok (.newarray .int, 2) := dk_188_10 (dk_at dksX4_init_1 6 rfl rfl)
theorem dX4_init_31 : decode cX4_init 31 = .ok (.putfield 20, 3) := dk_181 0 20 (dk_at dksX4_init_1 8 rfl rfl)
theorem dX4_init_34 : decode cX4_init 34 = .ok (.aload_n 0, 1) := dk_42 (dk_at dksX4_init_1 11 rfl rfl)
theorem dX4_init_35 : decode cX4_init 35 = .ok (.bipush 6, 2) := dk_16 6 (dk_at dksX4_init_1 12 rfl rfl)
theorem dX4_init_37 : decode cX4_init 37 = .ok (.newarray .long, 2) := dk_188_11 (dk_at dksX4_init_1 14 rfl rfl)
theorem dX4_init_39 : decode cX4_init 39 = .ok (.putfield 23, 3) := dk_181 0 23 (dk_at dksX4_init_1 16 rfl rfl)
theorem dX4_init_42 : decode cX4_init 42 = .ok (.aload_n 0, 1) := dk_42 (dk_at dksX4_init_1 19 rfl rfl)
theorem dX4_init_43 : decode cX4_init 43 = .ok (.sipush 251, 3) := dk_17 0 251 (dk_at dksX4_init_1 20 rfl rfl)
theorem dX4_init_46 : decode cX4_init 46 = .ok (.newarray .int, 2) := dk_188_10 (dk_at dksX4_init_2 0 rfl rfl)
theorem dX4_init_48 : decode cX4_init 48 = .ok (.putfield 27, 3) := dk_181 0 27 (dk_at dksX4_init_2 2 rfl rfl)
theorem dX4_init_51 : decode cX4_init 51 = .ok (.aload_n 0, 1) := dk_42 (dk_at dksX4_init_2 5 rfl rfl)
theorem dX4_init_52 : decode cX4_init 52 = .ok (.sipush 251, 3) := dk_17 0 251 (dk_at dksX4_init_2 6 rfl rfl)
theorem dX4_init_55 : decode cX4_init 55 = .ok (.newarray .int, 2) := dk_188_10 (dk_at dksX4_init_2 9 rfl rfl)
theorem dX4_init_57 : decode cX4_init 57 = .ok (.putfield 30, 3) := dk_181 0 30 (dk_at dksX4_init_2 11 rfl rfl)
theorem dX4_init_60 : decode cX4_init 60 = .ok (.aload_n 0, 1) := dk_42 (dk_at dksX4_init_2 14 rfl rfl)
theorem dX4_init_61 : decode cX4_init 61 = .ok (.sipush 251, 3) := dk_17 0 251 (dk_at dksX4_init_2 15 rfl rfl)
theorem dX4_init_64 : decode cX4_init 64 = .ok (.newarray .int, 2) := dk_188_10 (dk_at dksX4_init_2 18 rfl rfl)
theorem dX4_init_66 : decode cX4_init 66 = .ok (.putfield 33, 3) := dk_181 0 33 (dk_at dksX4_init_2 20 rfl rfl)
theorem dX4_init_69 : decode cX4_init 69 = .ok (.aload_n 0, 1) := dk_42 (dk_at dksX4_init_2 23 rfl rfl)
theorem dX4_init_70 : decode cX4_init 70 = .ok (.bipush 6, 2) := dk_16 6 (dk_at dksX4_init_3 0 rfl rfl)
theorem dX4_init_72 : decode cX4_init 72 = .ok (.newarray .int, 2) := dk_188_10 (dk_at dksX4_init_3 2 rfl rfl)
theorem dX4_init_74 : decode cX4_init 74 = .ok (.putfield 36, 3) := dk_181 0 36 (dk_at dksX4_init_3 4 rfl rfl)
theorem dX4_init_77 : decode cX4_init 77 = .ok (.aload_n 0, 1) := dk_42 (dk_at dksX4_init_3 7 rfl rfl)
theorem dX4_init_78 : decode cX4_init 78 = .ok (.sipush 2406, 3) := dk_17 9 102 (dk_at dksX4_init_3 8 rfl rfl)
theorem dX4_init_81 : decode cX4_init 81 = .ok (.newarray .int, 2) := dk_188_10 (dk_at dksX4_init_3 11 rfl rfl)
theorem dX4_init_83 : decode cX4_init 83 = .ok (.putfield 39, 3) := dk_181 0 39 (dk_at dksX4_init_3 13 rfl rfl)
theorem dX4_init_86 : decode cX4_init 86 = .ok (.aload_n 0, 1) := dk_42 (dk_at dksX4_init_3 16 rfl rfl)
theorem dX4_init_87 : decode cX4_init 87 = .ok (.sipush 2406, 3) := dk_17 9 102 (dk_at dksX4_init_3 17 rfl rfl)
theorem dX4_init_90 : decode cX4_init 90 = .ok (.newarray .int, 2) := dk_188_10 (dk_at dksX4_init_3 20 rfl rfl)
theorem dX4_init_92 : decode cX4_init 92 = .ok (.putfield 42, 3) := dk_181 0 42 (dk_at dksX4_init_4 0 rfl rfl)
theorem dX4_init_95 : decode cX4_init 95 = .ok (.aload_n 0, 1) := dk_42 (dk_at dksX4_init_4 3 rfl rfl)
theorem dX4_init_96 : decode cX4_init 96 = .ok (.sipush 2406, 3) := dk_17 9 102 (dk_at dksX4_init_4 4 rfl rfl)
theorem dX4_init_99 : decode cX4_init 99 = .ok (.newarray .int, 2) := dk_188_10 (dk_at dksX4_init_4 7 rfl rfl)
theorem dX4_init_101 : decode cX4_init 101 = .ok (.putfield 45, 3) := dk_181 0 45 (dk_at dksX4_init_4 9 rfl rfl)
theorem dX4_init_104 : decode cX4_init 104 = .ok (.aload_n 0, 1) := dk_42 (dk_at dksX4_init_4 12 rfl rfl)
theorem dX4_init_105 : decode cX4_init 105 = .ok (.sipush 2406, 3) := dk_17 9 102 (dk_at dksX4_init_4 13 rfl rfl)
theorem dX4_init_108 : decode cX4_init 108 = .ok (.newarray .int, 2) := dk_188_10 (dk_at dksX4_init_4 16 rfl rfl)
theorem dX4_init_110 : decode cX4_init 110 = .ok (.putfield 48, 3) := dk_181 0 48 (dk_at dksX4_init_4 18 rfl rfl)
theorem dX4_init_113 : decode cX4_init 113 = .ok (.aload_n 0, 1) := dk_42 (dk_at dksX4_init_4 21 rfl rfl)
theorem dX4_init_114 : decode cX4_init 114 = .ok (.sipush 2766, 3) := dk_17 10 206 (dk_at dksX4_init_5 0 rfl rfl)
theorem dX4_init_117 : decode cX4_init 117 = .ok (.newarray .int, 2) := dk_188_10 (dk_at dksX4_init_5 3 rfl rfl)
theorem dX4_init_119 : decode cX4_init 119 = .ok (.putfield 51, 3) := dk_181 0 51 (dk_at dksX4_init_5 5 rfl rfl)
theorem dX4_init_122 : decode cX4_init 122 = .ok (.return_, 1) := dk_177 (dk_at dksX4_init_5 8 rfl rfl)
abbrev cX4_thrown : ByteArray := prog_19_method_2_code
def yX4_thrown : MethodName := ⟨RX4, "thrown", "()I"⟩
theorem dX4_thrown_0 : decode cX4_thrown 0 = .ok (.aload_n 0, 1) := by decide +kernel
theorem dX4_thrown_1 : decode cX4_thrown 1 = .ok (.getfield 54, 3) := by decide +kernel
theorem dX4_thrown_4 : decode cX4_thrown 4 = .ok (.ireturn, 1) := by decide +kernel
abbrev cX4_feed : ByteArray := prog_19_method_7_code
def yX4_feed : MethodName := ⟨RX4, "feed", "(IIIII)I"⟩
def dkwX4_feed_2 : List UInt8 := [172]
abbrev dktX4_feed_2 : List UInt8 := dkwX4_feed_2 ++ []
def dkwX4_feed_1 : List UInt8 := [182, 0, 63, 42, 29, 182, 0, 63, 42, 21, 4, 182, 0, 63, 42, 21, 5, 182, 0, 63, 42, 180, 0, 60]
abbrev dktX4_feed_1 : List UInt8 := dkwX4_feed_1 ++ dktX4_feed_2
def dkwX4_feed_0 : List UInt8 := [42, 3, 181, 0, 54, 42, 180, 0, 60, 17, 2, 168, 164, 0, 5, 2, 172, 42, 27, 182, 0, 63, 42, 28]
abbrev dktX4_feed_0 : List UInt8 := dkwX4_feed_0 ++ dktX4_feed_1
theorem dksX4_feed_0 : cX4_feed.data.toList.drop 0 = dktX4_feed_0 := by decide +kernel
theorem dksX4_feed_1 : cX4_feed.data.toList.drop 24 = dktX4_feed_1 := dk_seg dksX4_feed_0 24 rfl rfl
theorem dksX4_feed_2 : cX4_feed.data.toList.drop 48 = dktX4_feed_2 := dk_seg dksX4_feed_1 24 rfl rfl
theorem dX4_feed_0 : decode cX4_feed 0 = .ok (.aload_n 0, 1) := dk_42 (dk_at dksX4_feed_0 0 rfl rfl)
theorem dX4_feed_1 : decode cX4_feed 1 = .ok (.iconst 0, 1) := dk_3 (dk_at dksX4_feed_0 1 rfl rfl)
theorem dX4_feed_2 : decode cX4_feed 2 = .ok (.putfield 54, 3) := dk_181 0 54 (dk_at dksX4_feed_0 2 rfl rfl)
theorem dX4_feed_5 : decode cX4_feed 5 = .ok (.aload_n 0, 1) := dk_42 (dk_at dksX4_feed_0 5 rfl rfl)
theorem dX4_feed_6 : decode cX4_feed 6 = .ok (.getfield 60, 3) := dk_180 0 60 (dk_at dksX4_feed_0 6 rfl rfl)
theorem dX4_feed_9 : decode cX4_feed 9 = .ok (.sipush 680, 3) := dk_17 2 168 (dk_at dksX4_feed_0 9 rfl rfl)
theorem dX4_feed_12 : decode cX4_feed 12 = .ok (.if_icmp .le 5, 3) := dk_164 0 5 (dk_at dksX4_feed_0 12 rfl rfl)
theorem dX4_feed_15 : decode cX4_feed 15 = .ok (.iconst (-1), 1) := dk_2 (dk_at dksX4_feed_0 15 rfl rfl)
theorem dX4_feed_16 : decode cX4_feed 16 = .ok (.ireturn, 1) := dk_172 (dk_at dksX4_feed_0 16 rfl rfl)
theorem dX4_feed_17 : decode cX4_feed 17 = .ok (.aload_n 0, 1) := dk_42 (dk_at dksX4_feed_0 17 rfl rfl)
theorem dX4_feed_18 : decode cX4_feed 18 = .ok (.iload_n 1, 1) := dk_27 (dk_at dksX4_feed_0 18 rfl rfl)
theorem dX4_feed_19 : decode cX4_feed 19 = .ok (.invokevirtual 63, 3) := dk_182 0 63 (dk_at dksX4_feed_0 19 rfl rfl)
theorem dX4_feed_22 : decode cX4_feed 22 = .ok (.aload_n 0, 1) := dk_42 (dk_at dksX4_feed_0 22 rfl rfl)
theorem dX4_feed_23 : decode cX4_feed 23 = .ok (.iload_n 2, 1) := dk_28 (dk_at dksX4_feed_0 23 rfl rfl)
theorem dX4_feed_24 : decode cX4_feed 24 = .ok (.invokevirtual 63, 3) := dk_182 0 63 (dk_at dksX4_feed_1 0 rfl rfl)
theorem dX4_feed_27 : decode cX4_feed 27 = .ok (.aload_n 0, 1) := dk_42 (dk_at dksX4_feed_1 3 rfl rfl)
theorem dX4_feed_28 : decode cX4_feed 28 = .ok (.iload_n 3, 1) := dk_29 (dk_at dksX4_feed_1 4 rfl rfl)
theorem dX4_feed_29 : decode cX4_feed 29 = .ok (.invokevirtual 63, 3) := dk_182 0 63 (dk_at dksX4_feed_1 5 rfl rfl)
theorem dX4_feed_32 : decode cX4_feed 32 = .ok (.aload_n 0, 1) := dk_42 (dk_at dksX4_feed_1 8 rfl rfl)
theorem dX4_feed_33 : decode cX4_feed 33 = .ok (.iload 4, 2) := dk_21 4 (dk_at dksX4_feed_1 9 rfl rfl)
theorem dX4_feed_35 : decode cX4_feed 35 = .ok (.invokevirtual 63, 3) := dk_182 0 63 (dk_at dksX4_feed_1 11 rfl rfl)
theorem dX4_feed_38 : decode cX4_feed 38 = .ok (.aload_n 0, 1) := dk_42 (dk_at dksX4_feed_1 14 rfl rfl)
theorem dX4_feed_39 : decode cX4_feed 39 = .ok (.iload 5, 2) := dk_21 5 (dk_at dksX4_feed_1 15 rfl rfl)
theorem dX4_feed_41 : decode cX4_feed 41 = .ok (.invokevirtual 63, 3) := dk_182 0 63 (dk_at dksX4_feed_1 17 rfl rfl)
theorem dX4_feed_44 : decode cX4_feed 44 = .ok (.aload_n 0, 1) := dk_42 (dk_at dksX4_feed_1 20 rfl rfl)
theorem dX4_feed_45 : decode cX4_feed 45 = .ok (.getfield 60, 3) := dk_180 0 60 (dk_at dksX4_feed_1 21 rfl rfl)
theorem dX4_feed_48 : decode cX4_feed 48 = .ok (.ireturn, 1) := dk_172 (dk_at dksX4_feed_2 0 rfl rfl)
abbrev cX4_laysWord : ByteArray := prog_19_method_8_code
def yX4_laysWord : MethodName := ⟨RX4, "laysWord", "(I)V"⟩
def dkwX4_laysWord_1 : List UInt8 := [100, 122, 17, 0, 255, 126, 79, 132, 2, 1, 167, 255, 224, 42, 89, 180, 0, 60, 7, 96, 181, 0, 60, 177]
abbrev dktX4_laysWord_1 : List UInt8 := dkwX4_laysWord_1 ++ []
def dkwX4_laysWord_0 : List UInt8 := [3, 61, 28, 7, 162, 0, 33, 42, 180, 0, 13, 42, 180, 0, 60, 28, 96, 27, 16, 24, 16, 8, 28, 104]
abbrev dktX4_laysWord_0 : List UInt8 := dkwX4_laysWord_0 ++ dktX4_laysWord_1
theorem dksX4_laysWord_0 : cX4_laysWord.data.toList.drop 0 = dktX4_laysWord_0 := by decide +kernel
theorem dksX4_laysWord_1 : cX4_laysWord.data.toList.drop 24 = dktX4_laysWord_1 := dk_seg dksX4_laysWord_0 24 rfl rfl
theorem dX4_laysWord_0 : decode cX4_laysWord 0 = .ok (.iconst 0, 1) := dk_3 (dk_at dksX4_laysWord_0 0 rfl rfl)
theorem dX4_laysWord_1 : decode cX4_laysWord 1 = .ok (.istore_n 2, 1) := dk_61 (dk_at dksX4_laysWord_0 1 rfl rfl)
theorem dX4_laysWord_2 : decode cX4_laysWord 2 = .ok (.iload_n 2, 1) := dk_28 (dk_at dksX4_laysWord_0 2 rfl rfl)
theorem dX4_laysWord_3 : decode cX4_laysWord 3 = .ok (.iconst 4, 1) := dk_7 (dk_at dksX4_laysWord_0 3 rfl rfl)
theorem dX4_laysWord_4 : decode cX4_laysWord 4 = .ok (.if_icmp .ge 33, 3) := dk_162 0 33 (dk_at dksX4_laysWord_0 4 rfl rfl)
theorem dX4_laysWord_7 : decode cX4_laysWord 7 = .ok (.aload_n 0, 1) := dk_42 (dk_at dksX4_laysWord_0 7 rfl rfl)
theorem dX4_laysWord_8 : decode cX4_laysWord 8 = .ok (.getfield 13, 3) := dk_180 0 13 (dk_at dksX4_laysWord_0 8 rfl rfl)
theorem dX4_laysWord_11 : decode cX4_laysWord 11 = .ok (.aload_n 0, 1) := dk_42 (dk_at dksX4_laysWord_0 11 rfl rfl)
theorem dX4_laysWord_12 : decode cX4_laysWord 12 = .ok (.getfield 60, 3) := dk_180 0 60 (dk_at dksX4_laysWord_0 12 rfl rfl)
theorem dX4_laysWord_15 : decode cX4_laysWord 15 = .ok (.iload_n 2, 1) := dk_28 (dk_at dksX4_laysWord_0 15 rfl rfl)
theorem dX4_laysWord_16 : decode cX4_laysWord 16 = .ok (.iadd, 1) := dk_96 (dk_at dksX4_laysWord_0 16 rfl rfl)
theorem dX4_laysWord_17 : decode cX4_laysWord 17 = .ok (.iload_n 1, 1) := dk_27 (dk_at dksX4_laysWord_0 17 rfl rfl)
theorem dX4_laysWord_18 : decode cX4_laysWord 18 = .ok (.bipush 24, 2) := dk_16 24 (dk_at dksX4_laysWord_0 18 rfl rfl)
theorem dX4_laysWord_20 : decode cX4_laysWord 20 = .ok (.bipush 8, 2) := dk_16 8 (dk_at dksX4_laysWord_0 20 rfl rfl)
theorem dX4_laysWord_22 : decode cX4_laysWord 22 = .ok (.iload_n 2, 1) := dk_28 (dk_at dksX4_laysWord_0 22 rfl rfl)
theorem dX4_laysWord_23 : decode cX4_laysWord 23 = .ok (.imul, 1) := dk_104 (dk_at dksX4_laysWord_0 23 rfl rfl)
theorem dX4_laysWord_24 : decode cX4_laysWord 24 = .ok (.isub, 1) := dk_100 (dk_at dksX4_laysWord_1 0 rfl rfl)
theorem dX4_laysWord_25 : decode cX4_laysWord 25 = .ok (.ishr, 1) := dk_122 (dk_at dksX4_laysWord_1 1 rfl rfl)
theorem dX4_laysWord_26 : decode cX4_laysWord 26 = .ok (.sipush 255, 3) := dk_17 0 255 (dk_at dksX4_laysWord_1 2 rfl rfl)
theorem dX4_laysWord_29 : decode cX4_laysWord 29 = .ok (.iand, 1) := dk_126 (dk_at dksX4_laysWord_1 5 rfl rfl)
theorem dX4_laysWord_30 : decode cX4_laysWord 30 = .ok (.iastore, 1) := dk_79 (dk_at dksX4_laysWord_1 6 rfl rfl)
theorem dX4_laysWord_31 : decode cX4_laysWord 31 = .ok (.iinc 2 1, 3) := dk_132 2 1 (dk_at dksX4_laysWord_1 7 rfl rfl)
theorem dX4_laysWord_34 : decode cX4_laysWord 34 = .ok (.goto (-32), 3) := dk_167 255 224 (dk_at dksX4_laysWord_1 10 rfl rfl)
theorem dX4_laysWord_37 : decode cX4_laysWord 37 = .ok (.aload_n 0, 1) := dk_42 (dk_at dksX4_laysWord_1 13 rfl rfl)
theorem dX4_laysWord_38 : decode cX4_laysWord 38 = .ok (.dup, 1) := dk_89 (dk_at dksX4_laysWord_1 14 rfl rfl)
theorem dX4_laysWord_39 : decode cX4_laysWord 39 = .ok (.getfield 60, 3) := dk_180 0 60 (dk_at dksX4_laysWord_1 15 rfl rfl)
theorem dX4_laysWord_42 : decode cX4_laysWord 42 = .ok (.iconst 4, 1) := dk_7 (dk_at dksX4_laysWord_1 18 rfl rfl)
theorem dX4_laysWord_43 : decode cX4_laysWord 43 = .ok (.iadd, 1) := dk_96 (dk_at dksX4_laysWord_1 19 rfl rfl)
theorem dX4_laysWord_44 : decode cX4_laysWord 44 = .ok (.putfield 60, 3) := dk_181 0 60 (dk_at dksX4_laysWord_1 20 rfl rfl)
theorem dX4_laysWord_47 : decode cX4_laysWord 47 = .ok (.return_, 1) := dk_177 (dk_at dksX4_laysWord_1 23 rfl rfl)
abbrev cX4_bus : ByteArray := prog_19_method_25_code
def yX4_bus : MethodName := ⟨RX4, "bus", "(I)I"⟩
def dkwX4_bus_4 : List UInt8 := [4, 181, 0, 192, 42, 3, 181, 0, 195, 42, 182, 0, 198, 42, 180, 0, 17, 6, 46, 172]
abbrev dktX4_bus_4 : List UInt8 := dkwX4_bus_4 ++ []
def dkwX4_bus_3 : List UInt8 := [16, 59, 162, 0, 21, 42, 180, 0, 17, 28, 42, 180, 0, 20, 28, 46, 79, 132, 2, 1, 167, 255, 235, 42]
abbrev dktX4_bus_3 : List UInt8 := dkwX4_bus_3 ++ dktX4_bus_4
def dkwX4_bus_2 : List UInt8 := [180, 0, 100, 181, 0, 183, 42, 42, 180, 0, 103, 181, 0, 9, 42, 7, 182, 0, 189, 172, 3, 61, 28]
abbrev dktX4_bus_2 : List UInt8 := dkwX4_bus_2 ++ dktX4_bus_3
def dkwX4_bus_1 : List UInt8 := [2, 172, 42, 3, 181, 0, 60, 42, 3, 181, 0, 183, 42, 27, 182, 0, 186, 154, 0, 25, 42, 42]
abbrev dktX4_bus_1 : List UInt8 := dkwX4_bus_1 ++ dktX4_bus_2
def dkwX4_bus_0 : List UInt8 := [42, 27, 3, 42, 180, 0, 60, 184, 0, 83, 153, 0, 7, 3, 167, 0, 4, 5, 182, 0, 180, 153, 0, 5]
abbrev dktX4_bus_0 : List UInt8 := dkwX4_bus_0 ++ dktX4_bus_1
theorem dksX4_bus_0 : cX4_bus.data.toList.drop 0 = dktX4_bus_0 := by decide +kernel
theorem dksX4_bus_1 : cX4_bus.data.toList.drop 24 = dktX4_bus_1 := dk_seg dksX4_bus_0 24 rfl rfl
theorem dksX4_bus_2 : cX4_bus.data.toList.drop 46 = dktX4_bus_2 := dk_seg dksX4_bus_1 22 rfl rfl
theorem dksX4_bus_3 : cX4_bus.data.toList.drop 69 = dktX4_bus_3 := dk_seg dksX4_bus_2 23 rfl rfl
theorem dksX4_bus_4 : cX4_bus.data.toList.drop 93 = dktX4_bus_4 := dk_seg dksX4_bus_3 24 rfl rfl
theorem dX4_bus_0 : decode cX4_bus 0 = .ok (.aload_n 0, 1) := dk_42 (dk_at dksX4_bus_0 0 rfl rfl)
theorem dX4_bus_1 : decode cX4_bus 1 = .ok (.iload_n 1, 1) := dk_27 (dk_at dksX4_bus_0 1 rfl rfl)
theorem dX4_bus_2 : decode cX4_bus 2 = .ok (.iconst 0, 1) := dk_3 (dk_at dksX4_bus_0 2 rfl rfl)
theorem dX4_bus_3 : decode cX4_bus 3 = .ok (.aload_n 0, 1) := dk_42 (dk_at dksX4_bus_0 3 rfl rfl)
theorem dX4_bus_4 : decode cX4_bus 4 = .ok (.getfield 60, 3) := dk_180 0 60 (dk_at dksX4_bus_0 4 rfl rfl)
theorem dX4_bus_7 : decode cX4_bus 7 = .ok (.invokestatic 83, 3) := dk_184 0 83 (dk_at dksX4_bus_0 7 rfl rfl)
theorem dX4_bus_10 : decode cX4_bus 10 = .ok (.ifCond .eq 7, 3) := dk_153 0 7 (dk_at dksX4_bus_0 10 rfl rfl)
theorem dX4_bus_13 : decode cX4_bus 13 = .ok (.iconst 0, 1) := dk_3 (dk_at dksX4_bus_0 13 rfl rfl)
theorem dX4_bus_14 : decode cX4_bus 14 = .ok (.goto 4, 3) := dk_167 0 4 (dk_at dksX4_bus_0 14 rfl rfl)
theorem dX4_bus_17 : decode cX4_bus 17 = .ok (.iconst 2, 1) := dk_5 (dk_at dksX4_bus_0 17 rfl rfl)
theorem dX4_bus_18 : decode cX4_bus 18 = .ok (.invokevirtual 180, 3) := dk_182 0 180 (dk_at dksX4_bus_0 18 rfl rfl)
theorem dX4_bus_21 : decode cX4_bus 21 = .ok (.ifCond .eq 5, 3) := dk_153 0 5 (dk_at dksX4_bus_0 21 rfl rfl)
theorem dX4_bus_24 : decode cX4_bus 24 = .ok (.iconst (-1), 1) := dk_2 (dk_at dksX4_bus_1 0 rfl rfl)
theorem dX4_bus_25 : decode cX4_bus 25 = .ok (.ireturn, 1) := dk_172 (dk_at dksX4_bus_1 1 rfl rfl)
theorem dX4_bus_26 : decode cX4_bus 26 = .ok (.aload_n 0, 1) := dk_42 (dk_at dksX4_bus_1 2 rfl rfl)
theorem dX4_bus_27 : decode cX4_bus 27 = .ok (.iconst 0, 1) := dk_3 (dk_at dksX4_bus_1 3 rfl rfl)
theorem dX4_bus_28 : decode cX4_bus 28 = .ok (.putfield 60, 3) := dk_181 0 60 (dk_at dksX4_bus_1 4 rfl rfl)
theorem dX4_bus_31 : decode cX4_bus 31 = .ok (.aload_n 0, 1) := dk_42 (dk_at dksX4_bus_1 7 rfl rfl)
theorem dX4_bus_32 : decode cX4_bus 32 = .ok (.iconst 0, 1) := dk_3 (dk_at dksX4_bus_1 8 rfl rfl)
theorem dX4_bus_33 : decode cX4_bus 33 = .ok (.putfield 183, 3) := dk_181 0 183 (dk_at dksX4_bus_1 9 rfl rfl)
theorem dX4_bus_36 : decode cX4_bus 36 = .ok (.aload_n 0, 1) := dk_42 (dk_at dksX4_bus_1 12 rfl rfl)
theorem dX4_bus_37 : decode cX4_bus 37 = .ok (.iload_n 1, 1) := dk_27 (dk_at dksX4_bus_1 13 rfl rfl)
theorem dX4_bus_38 : decode cX4_bus 38 = .ok (.invokevirtual 186, 3) := dk_182 0 186 (dk_at dksX4_bus_1 14 rfl rfl)
theorem dX4_bus_41 : decode cX4_bus 41 = .ok (.ifCond .ne 25, 3) := dk_154 0 25 (dk_at dksX4_bus_1 17 rfl rfl)
theorem dX4_bus_44 : decode cX4_bus 44 = .ok (.aload_n 0, 1) := dk_42 (dk_at dksX4_bus_1 20 rfl rfl)
theorem dX4_bus_45 : decode cX4_bus 45 = .ok (.aload_n 0, 1) := dk_42 (dk_at dksX4_bus_1 21 rfl rfl)
theorem dX4_bus_46 : decode cX4_bus 46 = .ok (.getfield 100, 3) := dk_180 0 100 (dk_at dksX4_bus_2 0 rfl rfl)
theorem dX4_bus_49 : decode cX4_bus 49 = .ok (.putfield 183, 3) := dk_181 0 183 (dk_at dksX4_bus_2 3 rfl rfl)
theorem dX4_bus_52 : decode cX4_bus 52 = .ok (.aload_n 0, 1) := dk_42 (dk_at dksX4_bus_2 6 rfl rfl)
theorem dX4_bus_53 : decode cX4_bus 53 = .ok (.aload_n 0, 1) := dk_42 (dk_at dksX4_bus_2 7 rfl rfl)
theorem dX4_bus_54 : decode cX4_bus 54 = .ok (.getfield 103, 3) := dk_180 0 103 (dk_at dksX4_bus_2 8 rfl rfl)
theorem dX4_bus_57 : decode cX4_bus 57 = .ok (.putfield 9, 3) := dk_181 0 9 (dk_at dksX4_bus_2 11 rfl rfl)
theorem dX4_bus_60 : decode cX4_bus 60 = .ok (.aload_n 0, 1) := dk_42 (dk_at dksX4_bus_2 14 rfl rfl)
theorem dX4_bus_61 : decode cX4_bus 61 = .ok (.iconst 4, 1) := dk_7 (dk_at dksX4_bus_2 15 rfl rfl)
theorem dX4_bus_62 : decode cX4_bus 62 = .ok (.invokevirtual 189, 3) := dk_182 0 189 (dk_at dksX4_bus_2 16 rfl rfl)
theorem dX4_bus_65 : decode cX4_bus 65 = .ok (.ireturn, 1) := dk_172 (dk_at dksX4_bus_2 19 rfl rfl)
theorem dX4_bus_66 : decode cX4_bus 66 = .ok (.iconst 0, 1) := dk_3 (dk_at dksX4_bus_2 20 rfl rfl)
theorem dX4_bus_67 : decode cX4_bus 67 = .ok (.istore_n 2, 1) := dk_61 (dk_at dksX4_bus_2 21 rfl rfl)
theorem dX4_bus_68 : decode cX4_bus 68 = .ok (.iload_n 2, 1) := dk_28 (dk_at dksX4_bus_2 22 rfl rfl)
theorem dX4_bus_69 : decode cX4_bus 69 = .ok (.bipush 59, 2) := dk_16 59 (dk_at dksX4_bus_3 0 rfl rfl)
theorem dX4_bus_71 : decode cX4_bus 71 = .ok (.if_icmp .ge 21, 3) := dk_162 0 21 (dk_at dksX4_bus_3 2 rfl rfl)
theorem dX4_bus_74 : decode cX4_bus 74 = .ok (.aload_n 0, 1) := dk_42 (dk_at dksX4_bus_3 5 rfl rfl)
theorem dX4_bus_75 : decode cX4_bus 75 = .ok (.getfield 17, 3) := dk_180 0 17 (dk_at dksX4_bus_3 6 rfl rfl)
theorem dX4_bus_78 : decode cX4_bus 78 = .ok (.iload_n 2, 1) := dk_28 (dk_at dksX4_bus_3 9 rfl rfl)
theorem dX4_bus_79 : decode cX4_bus 79 = .ok (.aload_n 0, 1) := dk_42 (dk_at dksX4_bus_3 10 rfl rfl)
theorem dX4_bus_80 : decode cX4_bus 80 = .ok (.getfield 20, 3) := dk_180 0 20 (dk_at dksX4_bus_3 11 rfl rfl)
theorem dX4_bus_83 : decode cX4_bus 83 = .ok (.iload_n 2, 1) := dk_28 (dk_at dksX4_bus_3 14 rfl rfl)
theorem dX4_bus_84 : decode cX4_bus 84 = .ok (.iaload, 1) := dk_46 (dk_at dksX4_bus_3 15 rfl rfl)
theorem dX4_bus_85 : decode cX4_bus 85 = .ok (.iastore, 1) := dk_79 (dk_at dksX4_bus_3 16 rfl rfl)
theorem dX4_bus_86 : decode cX4_bus 86 = .ok (.iinc 2 1, 3) := dk_132 2 1 (dk_at dksX4_bus_3 17 rfl rfl)
theorem dX4_bus_89 : decode cX4_bus 89 = .ok (.goto (-21), 3) := dk_167 255 235 (dk_at dksX4_bus_3 20 rfl rfl)
theorem dX4_bus_92 : decode cX4_bus 92 = .ok (.aload_n 0, 1) := dk_42 (dk_at dksX4_bus_3 23 rfl rfl)
theorem dX4_bus_93 : decode cX4_bus 93 = .ok (.iconst 1, 1) := dk_4 (dk_at dksX4_bus_4 0 rfl rfl)
theorem dX4_bus_94 : decode cX4_bus 94 = .ok (.putfield 192, 3) := dk_181 0 192 (dk_at dksX4_bus_4 1 rfl rfl)
theorem dX4_bus_97 : decode cX4_bus 97 = .ok (.aload_n 0, 1) := dk_42 (dk_at dksX4_bus_4 4 rfl rfl)
theorem dX4_bus_98 : decode cX4_bus 98 = .ok (.iconst 0, 1) := dk_3 (dk_at dksX4_bus_4 5 rfl rfl)
theorem dX4_bus_99 : decode cX4_bus 99 = .ok (.putfield 195, 3) := dk_181 0 195 (dk_at dksX4_bus_4 6 rfl rfl)
theorem dX4_bus_102 : decode cX4_bus 102 = .ok (.aload_n 0, 1) := dk_42 (dk_at dksX4_bus_4 9 rfl rfl)
theorem dX4_bus_103 : decode cX4_bus 103 = .ok (.invokevirtual 198, 3) := dk_182 0 198 (dk_at dksX4_bus_4 10 rfl rfl)
theorem dX4_bus_106 : decode cX4_bus 106 = .ok (.aload_n 0, 1) := dk_42 (dk_at dksX4_bus_4 13 rfl rfl)
theorem dX4_bus_107 : decode cX4_bus 107 = .ok (.getfield 17, 3) := dk_180 0 17 (dk_at dksX4_bus_4 14 rfl rfl)
theorem dX4_bus_110 : decode cX4_bus 110 = .ok (.iconst 3, 1) := dk_6 (dk_at dksX4_bus_4 17 rfl rfl)
theorem dX4_bus_111 : decode cX4_bus 111 = .ok (.iaload, 1) := dk_46 (dk_at dksX4_bus_4 18 rfl rfl)
theorem dX4_bus_112 : decode cX4_bus 112 = .ok (.ireturn, 1) := dk_172 (dk_at dksX4_bus_4 19 rfl rfl)
abbrev cX4_in : ByteArray := prog_19_method_3_code
def yX4_in : MethodName := ⟨RX4, "in", "(III)Z"⟩
def dkwX4_in_0 : List UInt8 := [26, 27, 161, 0, 12, 26, 28, 163, 0, 7, 4, 167, 0, 4, 3, 172]
abbrev dktX4_in_0 : List UInt8 := dkwX4_in_0 ++ []
theorem dksX4_in_0 : cX4_in.data.toList.drop 0 = dktX4_in_0 := by decide +kernel
theorem dX4_in_0 : decode cX4_in 0 = .ok (.iload_n 0, 1) := dk_26 (dk_at dksX4_in_0 0 rfl rfl)
theorem dX4_in_1 : decode cX4_in 1 = .ok (.iload_n 1, 1) := dk_27 (dk_at dksX4_in_0 1 rfl rfl)
theorem dX4_in_2 : decode cX4_in 2 = .ok (.if_icmp .lt 12, 3) := dk_161 0 12 (dk_at dksX4_in_0 2 rfl rfl)
theorem dX4_in_5 : decode cX4_in 5 = .ok (.iload_n 0, 1) := dk_26 (dk_at dksX4_in_0 5 rfl rfl)
theorem dX4_in_6 : decode cX4_in 6 = .ok (.iload_n 2, 1) := dk_28 (dk_at dksX4_in_0 6 rfl rfl)
theorem dX4_in_7 : decode cX4_in 7 = .ok (.if_icmp .gt 7, 3) := dk_163 0 7 (dk_at dksX4_in_0 7 rfl rfl)
theorem dX4_in_10 : decode cX4_in 10 = .ok (.iconst 1, 1) := dk_4 (dk_at dksX4_in_0 10 rfl rfl)
theorem dX4_in_11 : decode cX4_in 11 = .ok (.goto 4, 3) := dk_167 0 4 (dk_at dksX4_in_0 11 rfl rfl)
theorem dX4_in_14 : decode cX4_in 14 = .ok (.iconst 0, 1) := dk_3 (dk_at dksX4_in_0 14 rfl rfl)
theorem dX4_in_15 : decode cX4_in 15 = .ok (.ireturn, 1) := dk_172 (dk_at dksX4_in_0 15 rfl rfl)
abbrev cX4_isRefused : ByteArray := prog_19_method_5_code
def yX4_isRefused : MethodName := ⟨RX4, "isRefused", "(I)Z"⟩
def dkwX4_isRefused_1 : List UInt8 := [172]
abbrev dktX4_isRefused_1 : List UInt8 := dkwX4_isRefused_1 ++ []
def dkwX4_isRefused_0 : List UInt8 := [42, 3, 181, 0, 54, 42, 2, 181, 0, 9, 42, 27, 181, 0, 57, 27, 153, 0, 7, 4, 167, 0, 4, 3]
abbrev dktX4_isRefused_0 : List UInt8 := dkwX4_isRefused_0 ++ dktX4_isRefused_1
theorem dksX4_isRefused_0 : cX4_isRefused.data.toList.drop 0 = dktX4_isRefused_0 := by decide +kernel
theorem dksX4_isRefused_1 : cX4_isRefused.data.toList.drop 24 = dktX4_isRefused_1 := dk_seg dksX4_isRefused_0 24 rfl rfl
theorem dX4_isRefused_0 : decode cX4_isRefused 0 = .ok (.aload_n 0, 1) := dk_42 (dk_at dksX4_isRefused_0 0 rfl rfl)
theorem dX4_isRefused_1 : decode cX4_isRefused 1 = .ok (.iconst 0, 1) := dk_3 (dk_at dksX4_isRefused_0 1 rfl rfl)
theorem dX4_isRefused_2 : decode cX4_isRefused 2 = .ok (.putfield 54, 3) := dk_181 0 54 (dk_at dksX4_isRefused_0 2 rfl rfl)
theorem dX4_isRefused_5 : decode cX4_isRefused 5 = .ok (.aload_n 0, 1) := dk_42 (dk_at dksX4_isRefused_0 5 rfl rfl)
theorem dX4_isRefused_6 : decode cX4_isRefused 6 = .ok (.iconst (-1), 1) := dk_2 (dk_at dksX4_isRefused_0 6 rfl rfl)
theorem dX4_isRefused_7 : decode cX4_isRefused 7 = .ok (.putfield 9, 3) := dk_181 0 9 (dk_at dksX4_isRefused_0 7 rfl rfl)
theorem dX4_isRefused_10 : decode cX4_isRefused 10 = .ok (.aload_n 0, 1) := dk_42 (dk_at dksX4_isRefused_0 10 rfl rfl)
theorem dX4_isRefused_11 : decode cX4_isRefused 11 = .ok (.iload_n 1, 1) := dk_27 (dk_at dksX4_isRefused_0 11 rfl rfl)
theorem dX4_isRefused_12 : decode cX4_isRefused 12 = .ok (.putfield 57, 3) := dk_181 0 57 (dk_at dksX4_isRefused_0 12 rfl rfl)
theorem dX4_isRefused_15 : decode cX4_isRefused 15 = .ok (.iload_n 1, 1) := dk_27 (dk_at dksX4_isRefused_0 15 rfl rfl)
theorem dX4_isRefused_16 : decode cX4_isRefused 16 = .ok (.ifCond .eq 7, 3) := dk_153 0 7 (dk_at dksX4_isRefused_0 16 rfl rfl)
theorem dX4_isRefused_19 : decode cX4_isRefused 19 = .ok (.iconst 1, 1) := dk_4 (dk_at dksX4_isRefused_0 19 rfl rfl)
theorem dX4_isRefused_20 : decode cX4_isRefused 20 = .ok (.goto 4, 3) := dk_167 0 4 (dk_at dksX4_isRefused_0 20 rfl rfl)
theorem dX4_isRefused_23 : decode cX4_isRefused 23 = .ok (.iconst 0, 1) := dk_3 (dk_at dksX4_isRefused_0 23 rfl rfl)
theorem dX4_isRefused_24 : decode cX4_isRefused 24 = .ok (.ireturn, 1) := dk_172 (dk_at dksX4_isRefused_1 0 rfl rfl)
abbrev cX4_readAll : ByteArray := prog_19_method_24_code
def yX4_readAll : MethodName := ⟨RX4, "readAll", "(I)Z"⟩
def dkwX4_readAll_4 : List UInt8 := [153, 0, 7, 4, 167, 0, 4, 3, 172]
abbrev dktX4_readAll_4 : List UInt8 := dkwX4_readAll_4 ++ []
def dkwX4_readAll_3 : List UInt8 := [153, 0, 9, 42, 4, 182, 0, 106, 172, 42, 180, 0, 20, 6, 46, 157, 0, 12, 42, 16, 6, 182, 0, 106]
abbrev dktX4_readAll_3 : List UInt8 := dkwX4_readAll_3 ++ dktX4_readAll_4
def dkwX4_readAll_2 : List UInt8 := [16, 59, 160, 0, 16, 42, 182, 0, 110, 42, 182, 0, 177, 154, 255, 239, 3, 172, 42, 180, 0, 80]
abbrev dktX4_readAll_2 : List UInt8 := dkwX4_readAll_2 ++ dktX4_readAll_3
def dkwX4_readAll_1 : List UInt8 := [180, 0, 20, 7, 3, 79, 42, 182, 0, 110, 42, 182, 0, 177, 154, 0, 5, 3, 172, 42, 180, 0, 80]
abbrev dktX4_readAll_1 : List UInt8 := dkwX4_readAll_1 ++ dktX4_readAll_2
def dkwX4_readAll_0 : List UInt8 := [42, 27, 181, 0, 67, 42, 3, 181, 0, 70, 42, 3, 181, 0, 134, 42, 180, 0, 20, 6, 3, 79, 42]
abbrev dktX4_readAll_0 : List UInt8 := dkwX4_readAll_0 ++ dktX4_readAll_1
theorem dksX4_readAll_0 : cX4_readAll.data.toList.drop 0 = dktX4_readAll_0 := by decide +kernel
theorem dksX4_readAll_1 : cX4_readAll.data.toList.drop 23 = dktX4_readAll_1 := dk_seg dksX4_readAll_0 23 rfl rfl
theorem dksX4_readAll_2 : cX4_readAll.data.toList.drop 46 = dktX4_readAll_2 := dk_seg dksX4_readAll_1 23 rfl rfl
theorem dksX4_readAll_3 : cX4_readAll.data.toList.drop 68 = dktX4_readAll_3 := dk_seg dksX4_readAll_2 22 rfl rfl
theorem dksX4_readAll_4 : cX4_readAll.data.toList.drop 92 = dktX4_readAll_4 := dk_seg dksX4_readAll_3 24 rfl rfl
theorem dX4_readAll_0 : decode cX4_readAll 0 = .ok (.aload_n 0, 1) := dk_42 (dk_at dksX4_readAll_0 0 rfl rfl)
theorem dX4_readAll_1 : decode cX4_readAll 1 = .ok (.iload_n 1, 1) := dk_27 (dk_at dksX4_readAll_0 1 rfl rfl)
theorem dX4_readAll_2 : decode cX4_readAll 2 = .ok (.putfield 67, 3) := dk_181 0 67 (dk_at dksX4_readAll_0 2 rfl rfl)
theorem dX4_readAll_5 : decode cX4_readAll 5 = .ok (.aload_n 0, 1) := dk_42 (dk_at dksX4_readAll_0 5 rfl rfl)
theorem dX4_readAll_6 : decode cX4_readAll 6 = .ok (.iconst 0, 1) := dk_3 (dk_at dksX4_readAll_0 6 rfl rfl)
theorem dX4_readAll_7 : decode cX4_readAll 7 = .ok (.putfield 70, 3) := dk_181 0 70 (dk_at dksX4_readAll_0 7 rfl rfl)
theorem dX4_readAll_10 : decode cX4_readAll 10 = .ok (.aload_n 0, 1) := dk_42 (dk_at dksX4_readAll_0 10 rfl rfl)
theorem dX4_readAll_11 : decode cX4_readAll 11 = .ok (.iconst 0, 1) := dk_3 (dk_at dksX4_readAll_0 11 rfl rfl)
theorem dX4_readAll_12 : decode cX4_readAll 12 = .ok (.putfield 134, 3) := dk_181 0 134 (dk_at dksX4_readAll_0 12 rfl rfl)
theorem dX4_readAll_15 : decode cX4_readAll 15 = .ok (.aload_n 0, 1) := dk_42 (dk_at dksX4_readAll_0 15 rfl rfl)
theorem dX4_readAll_16 : decode cX4_readAll 16 = .ok (.getfield 20, 3) := dk_180 0 20 (dk_at dksX4_readAll_0 16 rfl rfl)
theorem dX4_readAll_19 : decode cX4_readAll 19 = .ok (.iconst 3, 1) := dk_6 (dk_at dksX4_readAll_0 19 rfl rfl)
theorem dX4_readAll_20 : decode cX4_readAll 20 = .ok (.iconst 0, 1) := dk_3 (dk_at dksX4_readAll_0 20 rfl rfl)
theorem dX4_readAll_21 : decode cX4_readAll 21 = .ok (.iastore, 1) := dk_79 (dk_at dksX4_readAll_0 21 rfl rfl)
theorem dX4_readAll_22 : decode cX4_readAll 22 = .ok (.aload_n 0, 1) := dk_42 (dk_at dksX4_readAll_0 22 rfl rfl)
theorem dX4_readAll_23 : decode cX4_readAll 23 = .ok (.getfield 20, 3) := dk_180 0 20 (dk_at dksX4_readAll_1 0 rfl rfl)
theorem dX4_readAll_26 : decode cX4_readAll 26 = .ok (.iconst 4, 1) := dk_7 (dk_at dksX4_readAll_1 3 rfl rfl)
theorem dX4_readAll_27 : decode cX4_readAll 27 = .ok (.iconst 0, 1) := dk_3 (dk_at dksX4_readAll_1 4 rfl rfl)
theorem dX4_readAll_28 : decode cX4_readAll 28 = .ok (.iastore, 1) := dk_79 (dk_at dksX4_readAll_1 5 rfl rfl)
theorem dX4_readAll_29 : decode cX4_readAll 29 = .ok (.aload_n 0, 1) := dk_42 (dk_at dksX4_readAll_1 6 rfl rfl)
theorem dX4_readAll_30 : decode cX4_readAll 30 = .ok (.invokevirtual 110, 3) := dk_182 0 110 (dk_at dksX4_readAll_1 7 rfl rfl)
theorem dX4_readAll_33 : decode cX4_readAll 33 = .ok (.aload_n 0, 1) := dk_42 (dk_at dksX4_readAll_1 10 rfl rfl)
theorem dX4_readAll_34 : decode cX4_readAll 34 = .ok (.invokevirtual 177, 3) := dk_182 0 177 (dk_at dksX4_readAll_1 11 rfl rfl)
theorem dX4_readAll_37 : decode cX4_readAll 37 = .ok (.ifCond .ne 5, 3) := dk_154 0 5 (dk_at dksX4_readAll_1 14 rfl rfl)
theorem dX4_readAll_40 : decode cX4_readAll 40 = .ok (.iconst 0, 1) := dk_3 (dk_at dksX4_readAll_1 17 rfl rfl)
theorem dX4_readAll_41 : decode cX4_readAll 41 = .ok (.ireturn, 1) := dk_172 (dk_at dksX4_readAll_1 18 rfl rfl)
theorem dX4_readAll_42 : decode cX4_readAll 42 = .ok (.aload_n 0, 1) := dk_42 (dk_at dksX4_readAll_1 19 rfl rfl)
theorem dX4_readAll_43 : decode cX4_readAll 43 = .ok (.getfield 80, 3) := dk_180 0 80 (dk_at dksX4_readAll_1 20 rfl rfl)
theorem dX4_readAll_46 : decode cX4_readAll 46 = .ok (.bipush 59, 2) := dk_16 59 (dk_at dksX4_readAll_2 0 rfl rfl)
theorem dX4_readAll_48 : decode cX4_readAll 48 = .ok (.if_icmp .ne 16, 3) := dk_160 0 16 (dk_at dksX4_readAll_2 2 rfl rfl)
theorem dX4_readAll_51 : decode cX4_readAll 51 = .ok (.aload_n 0, 1) := dk_42 (dk_at dksX4_readAll_2 5 rfl rfl)
theorem dX4_readAll_52 : decode cX4_readAll 52 = .ok (.invokevirtual 110, 3) := dk_182 0 110 (dk_at dksX4_readAll_2 6 rfl rfl)
theorem dX4_readAll_55 : decode cX4_readAll 55 = .ok (.aload_n 0, 1) := dk_42 (dk_at dksX4_readAll_2 9 rfl rfl)
theorem dX4_readAll_56 : decode cX4_readAll 56 = .ok (.invokevirtual 177, 3) := dk_182 0 177 (dk_at dksX4_readAll_2 10 rfl rfl)
theorem dX4_readAll_59 : decode cX4_readAll 59 = .ok (.ifCond .ne (-17), 3) := dk_154 255 239 (dk_at dksX4_readAll_2 13 rfl rfl)
theorem dX4_readAll_62 : decode cX4_readAll 62 = .ok (.iconst 0, 1) := dk_3 (dk_at dksX4_readAll_2 16 rfl rfl)
theorem dX4_readAll_63 : decode cX4_readAll 63 = .ok (.ireturn, 1) := dk_172 (dk_at dksX4_readAll_2 17 rfl rfl)
theorem dX4_readAll_64 : decode cX4_readAll 64 = .ok (.aload_n 0, 1) := dk_42 (dk_at dksX4_readAll_2 18 rfl rfl)
theorem dX4_readAll_65 : decode cX4_readAll 65 = .ok (.getfield 80, 3) := dk_180 0 80 (dk_at dksX4_readAll_2 19 rfl rfl)
theorem dX4_readAll_68 : decode cX4_readAll 68 = .ok (.ifCond .eq 9, 3) := dk_153 0 9 (dk_at dksX4_readAll_3 0 rfl rfl)
theorem dX4_readAll_71 : decode cX4_readAll 71 = .ok (.aload_n 0, 1) := dk_42 (dk_at dksX4_readAll_3 3 rfl rfl)
theorem dX4_readAll_72 : decode cX4_readAll 72 = .ok (.iconst 1, 1) := dk_4 (dk_at dksX4_readAll_3 4 rfl rfl)
theorem dX4_readAll_73 : decode cX4_readAll 73 = .ok (.invokevirtual 106, 3) := dk_182 0 106 (dk_at dksX4_readAll_3 5 rfl rfl)
theorem dX4_readAll_76 : decode cX4_readAll 76 = .ok (.ireturn, 1) := dk_172 (dk_at dksX4_readAll_3 8 rfl rfl)
theorem dX4_readAll_77 : decode cX4_readAll 77 = .ok (.aload_n 0, 1) := dk_42 (dk_at dksX4_readAll_3 9 rfl rfl)
theorem dX4_readAll_78 : decode cX4_readAll 78 = .ok (.getfield 20, 3) := dk_180 0 20 (dk_at dksX4_readAll_3 10 rfl rfl)
theorem dX4_readAll_81 : decode cX4_readAll 81 = .ok (.iconst 3, 1) := dk_6 (dk_at dksX4_readAll_3 13 rfl rfl)
theorem dX4_readAll_82 : decode cX4_readAll 82 = .ok (.iaload, 1) := dk_46 (dk_at dksX4_readAll_3 14 rfl rfl)
theorem dX4_readAll_83 : decode cX4_readAll 83 = .ok (.ifCond .gt 12, 3) := dk_157 0 12 (dk_at dksX4_readAll_3 15 rfl rfl)
theorem dX4_readAll_86 : decode cX4_readAll 86 = .ok (.aload_n 0, 1) := dk_42 (dk_at dksX4_readAll_3 18 rfl rfl)
theorem dX4_readAll_87 : decode cX4_readAll 87 = .ok (.bipush 6, 2) := dk_16 6 (dk_at dksX4_readAll_3 19 rfl rfl)
theorem dX4_readAll_89 : decode cX4_readAll 89 = .ok (.invokevirtual 106, 3) := dk_182 0 106 (dk_at dksX4_readAll_3 21 rfl rfl)
theorem dX4_readAll_92 : decode cX4_readAll 92 = .ok (.ifCond .eq 7, 3) := dk_153 0 7 (dk_at dksX4_readAll_4 0 rfl rfl)
theorem dX4_readAll_95 : decode cX4_readAll 95 = .ok (.iconst 1, 1) := dk_4 (dk_at dksX4_readAll_4 3 rfl rfl)
theorem dX4_readAll_96 : decode cX4_readAll 96 = .ok (.goto 4, 3) := dk_167 0 4 (dk_at dksX4_readAll_4 4 rfl rfl)
theorem dX4_readAll_99 : decode cX4_readAll 99 = .ok (.iconst 0, 1) := dk_3 (dk_at dksX4_readAll_4 7 rfl rfl)
theorem dX4_readAll_100 : decode cX4_readAll 100 = .ok (.ireturn, 1) := dk_172 (dk_at dksX4_readAll_4 8 rfl rfl)
abbrev cX4_goesOn : ByteArray := prog_19_method_10_code
def yX4_goesOn : MethodName := ⟨RX4, "goesOn", "()V"⟩
def dkwX4_goesOn_11 : List UInt8 := [167, 0, 4, 4, 181, 0, 80, 177]
abbrev dktX4_goesOn_11 : List UInt8 := dkwX4_goesOn_11 ++ []
def dkwX4_goesOn_10 : List UInt8 := [181, 0, 80, 177, 42, 89, 180, 0, 70, 4, 96, 181, 0, 70, 42, 27, 16, 59, 160, 0, 7, 27]
abbrev dktX4_goesOn_10 : List UInt8 := dkwX4_goesOn_10 ++ dktX4_goesOn_11
def dkwX4_goesOn_9 : List UInt8 := [167, 255, 185, 42, 42, 180, 0, 70, 42, 180, 0, 77, 100, 6, 164, 0, 7, 4, 167, 0, 4, 6]
abbrev dktX4_goesOn_9 : List UInt8 := dkwX4_goesOn_9 ++ dktX4_goesOn_10
def dkwX4_goesOn_8 : List UInt8 := [16, 48, 100, 167, 0, 7, 42, 180, 0, 87, 181, 0, 87, 42, 89, 180, 0, 70, 4, 96, 181, 0, 70]
abbrev dktX4_goesOn_8 : List UInt8 := dkwX4_goesOn_8 ++ dktX4_goesOn_9
def dkwX4_goesOn_7 : List UInt8 := [180, 0, 77, 100, 6, 162, 0, 25, 16, 10, 42, 180, 0, 87, 104, 42, 42, 180, 0, 70, 182, 0, 73, 96]
abbrev dktX4_goesOn_7 : List UInt8 := dkwX4_goesOn_7 ++ dktX4_goesOn_8
def dkwX4_goesOn_6 : List UInt8 := [42, 42, 180, 0, 70, 182, 0, 73, 16, 48, 16, 57, 184, 0, 83, 153, 0, 59, 42, 42, 180, 0, 70, 42]
abbrev dktX4_goesOn_6 : List UInt8 := dkwX4_goesOn_6 ++ dktX4_goesOn_7
def dkwX4_goesOn_5 : List UInt8 := [167, 0, 4, 5, 181, 0, 80, 177, 27, 16, 48, 16, 57, 184, 0, 83, 153, 0, 105, 42, 3, 181, 0, 87]
abbrev dktX4_goesOn_5 : List UInt8 := dkwX4_goesOn_5 ++ dktX4_goesOn_6
def dkwX4_goesOn_4 : List UInt8 := [181, 0, 70, 167, 255, 228, 42, 42, 180, 0, 70, 42, 180, 0, 77, 100, 16, 6, 164, 0, 7, 4]
abbrev dktX4_goesOn_4 : List UInt8 := dkwX4_goesOn_4 ++ dktX4_goesOn_5
def dkwX4_goesOn_3 : List UInt8 := [180, 0, 70, 182, 0, 73, 16, 97, 16, 122, 184, 0, 83, 153, 0, 16, 42, 89, 180, 0, 70, 4, 96]
abbrev dktX4_goesOn_3 : List UInt8 := dkwX4_goesOn_3 ++ dktX4_goesOn_4
def dkwX4_goesOn_2 : List UInt8 := [160, 0, 9, 42, 3, 181, 0, 80, 177, 27, 16, 97, 16, 122, 184, 0, 83, 153, 0, 58, 42, 42]
abbrev dktX4_goesOn_2 : List UInt8 := dkwX4_goesOn_2 ++ dktX4_goesOn_3
def dkwX4_goesOn_1 : List UInt8 := [167, 255, 233, 42, 42, 180, 0, 70, 181, 0, 77, 42, 42, 180, 0, 70, 182, 0, 73, 60, 27, 2]
abbrev dktX4_goesOn_1 : List UInt8 := dkwX4_goesOn_1 ++ dktX4_goesOn_2
def dkwX4_goesOn_0 : List UInt8 := [42, 42, 180, 0, 70, 182, 0, 73, 16, 32, 160, 0, 16, 42, 89, 180, 0, 70, 4, 96, 181, 0, 70]
abbrev dktX4_goesOn_0 : List UInt8 := dkwX4_goesOn_0 ++ dktX4_goesOn_1
theorem dksX4_goesOn_0 : cX4_goesOn.data.toList.drop 0 = dktX4_goesOn_0 := by decide +kernel
theorem dksX4_goesOn_1 : cX4_goesOn.data.toList.drop 23 = dktX4_goesOn_1 := dk_seg dksX4_goesOn_0 23 rfl rfl
theorem dksX4_goesOn_2 : cX4_goesOn.data.toList.drop 45 = dktX4_goesOn_2 := dk_seg dksX4_goesOn_1 22 rfl rfl
theorem dksX4_goesOn_3 : cX4_goesOn.data.toList.drop 67 = dktX4_goesOn_3 := dk_seg dksX4_goesOn_2 22 rfl rfl
theorem dksX4_goesOn_4 : cX4_goesOn.data.toList.drop 90 = dktX4_goesOn_4 := dk_seg dksX4_goesOn_3 23 rfl rfl
theorem dksX4_goesOn_5 : cX4_goesOn.data.toList.drop 112 = dktX4_goesOn_5 := dk_seg dksX4_goesOn_4 22 rfl rfl
theorem dksX4_goesOn_6 : cX4_goesOn.data.toList.drop 136 = dktX4_goesOn_6 := dk_seg dksX4_goesOn_5 24 rfl rfl
theorem dksX4_goesOn_7 : cX4_goesOn.data.toList.drop 160 = dktX4_goesOn_7 := dk_seg dksX4_goesOn_6 24 rfl rfl
theorem dksX4_goesOn_8 : cX4_goesOn.data.toList.drop 184 = dktX4_goesOn_8 := dk_seg dksX4_goesOn_7 24 rfl rfl
theorem dksX4_goesOn_9 : cX4_goesOn.data.toList.drop 207 = dktX4_goesOn_9 := dk_seg dksX4_goesOn_8 23 rfl rfl
theorem dksX4_goesOn_10 : cX4_goesOn.data.toList.drop 229 = dktX4_goesOn_10 := dk_seg dksX4_goesOn_9 22 rfl rfl
theorem dksX4_goesOn_11 : cX4_goesOn.data.toList.drop 251 = dktX4_goesOn_11 := dk_seg dksX4_goesOn_10 22 rfl rfl
theorem dX4_goesOn_0 : decode cX4_goesOn 0 = .ok (.aload_n 0, 1) := dk_42 (dk_at dksX4_goesOn_0 0 rfl rfl)
theorem dX4_goesOn_1 : decode cX4_goesOn 1 = .ok (.aload_n 0, 1) := dk_42 (dk_at dksX4_goesOn_0 1 rfl rfl)
theorem dX4_goesOn_2 : decode cX4_goesOn 2 = .ok (.getfield 70, 3) := dk_180 0 70 (dk_at dksX4_goesOn_0 2 rfl rfl)
theorem dX4_goesOn_5 : decode cX4_goesOn 5 = .ok (.invokevirtual 73, 3) := dk_182 0 73 (dk_at dksX4_goesOn_0 5 rfl rfl)
theorem dX4_goesOn_8 : decode cX4_goesOn 8 = .ok (.bipush 32, 2) := dk_16 32 (dk_at dksX4_goesOn_0 8 rfl rfl)
theorem dX4_goesOn_10 : decode cX4_goesOn 10 = .ok (.if_icmp .ne 16, 3) := dk_160 0 16 (dk_at dksX4_goesOn_0 10 rfl rfl)
theorem dX4_goesOn_13 : decode cX4_goesOn 13 = .ok (.aload_n 0, 1) := dk_42 (dk_at dksX4_goesOn_0 13 rfl rfl)
theorem dX4_goesOn_14 : decode cX4_goesOn 14 = .ok (.dup, 1) := dk_89 (dk_at dksX4_goesOn_0 14 rfl rfl)
theorem dX4_goesOn_15 : decode cX4_goesOn 15 = .ok (.getfield 70, 3) := dk_180 0 70 (dk_at dksX4_goesOn_0 15 rfl rfl)
theorem dX4_goesOn_18 : decode cX4_goesOn 18 = .ok (.iconst 1, 1) := dk_4 (dk_at dksX4_goesOn_0 18 rfl rfl)
theorem dX4_goesOn_19 : decode cX4_goesOn 19 = .ok (.iadd, 1) := dk_96 (dk_at dksX4_goesOn_0 19 rfl rfl)
theorem dX4_goesOn_20 : decode cX4_goesOn 20 = .ok (.putfield 70, 3) := dk_181 0 70 (dk_at dksX4_goesOn_0 20 rfl rfl)
theorem dX4_goesOn_23 : decode cX4_goesOn 23 = .ok (.goto (-23), 3) := dk_167 255 233 (dk_at dksX4_goesOn_1 0 rfl rfl)
theorem dX4_goesOn_26 : decode cX4_goesOn 26 = .ok (.aload_n 0, 1) := dk_42 (dk_at dksX4_goesOn_1 3 rfl rfl)
theorem dX4_goesOn_27 : decode cX4_goesOn 27 = .ok (.aload_n 0, 1) := dk_42 (dk_at dksX4_goesOn_1 4 rfl rfl)
theorem dX4_goesOn_28 : decode cX4_goesOn 28 = .ok (.getfield 70, 3) := dk_180 0 70 (dk_at dksX4_goesOn_1 5 rfl rfl)
theorem dX4_goesOn_31 : decode cX4_goesOn 31 = .ok (.putfield 77, 3) := dk_181 0 77 (dk_at dksX4_goesOn_1 8 rfl rfl)
theorem dX4_goesOn_34 : decode cX4_goesOn 34 = .ok (.aload_n 0, 1) := dk_42 (dk_at dksX4_goesOn_1 11 rfl rfl)
theorem dX4_goesOn_35 : decode cX4_goesOn 35 = .ok (.aload_n 0, 1) := dk_42 (dk_at dksX4_goesOn_1 12 rfl rfl)
theorem dX4_goesOn_36 : decode cX4_goesOn 36 = .ok (.getfield 70, 3) := dk_180 0 70 (dk_at dksX4_goesOn_1 13 rfl rfl)
theorem dX4_goesOn_39 : decode cX4_goesOn 39 = .ok (.invokevirtual 73, 3) := dk_182 0 73 (dk_at dksX4_goesOn_1 16 rfl rfl)
theorem dX4_goesOn_42 : decode cX4_goesOn 42 = .ok (.istore_n 1, 1) := dk_60 (dk_at dksX4_goesOn_1 19 rfl rfl)
theorem dX4_goesOn_43 : decode cX4_goesOn 43 = .ok (.iload_n 1, 1) := dk_27 (dk_at dksX4_goesOn_1 20 rfl rfl)
theorem dX4_goesOn_44 : decode cX4_goesOn 44 = .ok (.iconst (-1), 1) := dk_2 (dk_at dksX4_goesOn_1 21 rfl rfl)
theorem dX4_goesOn_45 : decode cX4_goesOn 45 = .ok (.if_icmp .ne 9, 3) := dk_160 0 9 (dk_at dksX4_goesOn_2 0 rfl rfl)
theorem dX4_goesOn_48 : decode cX4_goesOn 48 = .ok (.aload_n 0, 1) := dk_42 (dk_at dksX4_goesOn_2 3 rfl rfl)
theorem dX4_goesOn_49 : decode cX4_goesOn 49 = .ok (.iconst 0, 1) := dk_3 (dk_at dksX4_goesOn_2 4 rfl rfl)
theorem dX4_goesOn_50 : decode cX4_goesOn 50 = .ok (.putfield 80, 3) := dk_181 0 80 (dk_at dksX4_goesOn_2 5 rfl rfl)
theorem dX4_goesOn_53 : decode cX4_goesOn 53 = .ok (.return_, 1) := dk_177 (dk_at dksX4_goesOn_2 8 rfl rfl)
theorem dX4_goesOn_54 : decode cX4_goesOn 54 = .ok (.iload_n 1, 1) := dk_27 (dk_at dksX4_goesOn_2 9 rfl rfl)
theorem dX4_goesOn_55 : decode cX4_goesOn 55 = .ok (.bipush 97, 2) := dk_16 97 (dk_at dksX4_goesOn_2 10 rfl rfl)
theorem dX4_goesOn_57 : decode cX4_goesOn 57 = .ok (.bipush 122, 2) := dk_16 122 (dk_at dksX4_goesOn_2 12 rfl rfl)
theorem dX4_goesOn_59 : decode cX4_goesOn 59 = .ok (.invokestatic 83, 3) := dk_184 0 83 (dk_at dksX4_goesOn_2 14 rfl rfl)
theorem dX4_goesOn_62 : decode cX4_goesOn 62 = .ok (.ifCond .eq 58, 3) := dk_153 0 58 (dk_at dksX4_goesOn_2 17 rfl rfl)
theorem dX4_goesOn_65 : decode cX4_goesOn 65 = .ok (.aload_n 0, 1) := dk_42 (dk_at dksX4_goesOn_2 20 rfl rfl)
theorem dX4_goesOn_66 : decode cX4_goesOn 66 = .ok (.aload_n 0, 1) := dk_42 (dk_at dksX4_goesOn_2 21 rfl rfl)
theorem dX4_goesOn_67 : decode cX4_goesOn 67 = .ok (.getfield 70, 3) := dk_180 0 70 (dk_at dksX4_goesOn_3 0 rfl rfl)
theorem dX4_goesOn_70 : decode cX4_goesOn 70 = .ok (.invokevirtual 73, 3) := dk_182 0 73 (dk_at dksX4_goesOn_3 3 rfl rfl)
theorem dX4_goesOn_73 : decode cX4_goesOn 73 = .ok (.bipush 97, 2) := dk_16 97 (dk_at dksX4_goesOn_3 6 rfl rfl)
theorem dX4_goesOn_75 : decode cX4_goesOn 75 = .ok (.bipush 122, 2) := dk_16 122 (dk_at dksX4_goesOn_3 8 rfl rfl)
theorem dX4_goesOn_77 : decode cX4_goesOn 77 = .ok (.invokestatic 83, 3) := dk_184 0 83 (dk_at dksX4_goesOn_3 10 rfl rfl)
theorem dX4_goesOn_80 : decode cX4_goesOn 80 = .ok (.ifCond .eq 16, 3) := dk_153 0 16 (dk_at dksX4_goesOn_3 13 rfl rfl)
theorem dX4_goesOn_83 : decode cX4_goesOn 83 = .ok (.aload_n 0, 1) := dk_42 (dk_at dksX4_goesOn_3 16 rfl rfl)
theorem dX4_goesOn_84 : decode cX4_goesOn 84 = .ok (.dup, 1) := dk_89 (dk_at dksX4_goesOn_3 17 rfl rfl)
theorem dX4_goesOn_85 : decode cX4_goesOn 85 = .ok (.getfield 70, 3) := dk_180 0 70 (dk_at dksX4_goesOn_3 18 rfl rfl)
theorem dX4_goesOn_88 : decode cX4_goesOn 88 = .ok (.iconst 1, 1) := dk_4 (dk_at dksX4_goesOn_3 21 rfl rfl)
theorem dX4_goesOn_89 : decode cX4_goesOn 89 = .ok (.iadd, 1) := dk_96 (dk_at dksX4_goesOn_3 22 rfl rfl)
theorem dX4_goesOn_90 : decode cX4_goesOn 90 = .ok (.putfield 70, 3) := dk_181 0 70 (dk_at dksX4_goesOn_4 0 rfl rfl)
theorem dX4_goesOn_93 : decode cX4_goesOn 93 = .ok (.goto (-28), 3) := dk_167 255 228 (dk_at dksX4_goesOn_4 3 rfl rfl)
theorem dX4_goesOn_96 : decode cX4_goesOn 96 = .ok (.aload_n 0, 1) := dk_42 (dk_at dksX4_goesOn_4 6 rfl rfl)
theorem dX4_goesOn_97 : decode cX4_goesOn 97 = .ok (.aload_n 0, 1) := dk_42 (dk_at dksX4_goesOn_4 7 rfl rfl)
theorem dX4_goesOn_98 : decode cX4_goesOn 98 = .ok (.getfield 70, 3) := dk_180 0 70 (dk_at dksX4_goesOn_4 8 rfl rfl)
theorem dX4_goesOn_101 : decode cX4_goesOn 101 = .ok (.aload_n 0, 1) := dk_42 (dk_at dksX4_goesOn_4 11 rfl rfl)
theorem dX4_goesOn_102 : decode cX4_goesOn 102 = .ok (.getfield 77, 3) := dk_180 0 77 (dk_at dksX4_goesOn_4 12 rfl rfl)
theorem dX4_goesOn_105 : decode cX4_goesOn 105 = .ok (.isub, 1) := dk_100 (dk_at dksX4_goesOn_4 15 rfl rfl)
theorem dX4_goesOn_106 : decode cX4_goesOn 106 = .ok (.bipush 6, 2) := dk_16 6 (dk_at dksX4_goesOn_4 16 rfl rfl)
theorem dX4_goesOn_108 : decode cX4_goesOn 108 = .ok (.if_icmp .le 7, 3) := dk_164 0 7 (dk_at dksX4_goesOn_4 18 rfl rfl)
theorem dX4_goesOn_111 : decode cX4_goesOn 111 = .ok (.iconst 1, 1) := dk_4 (dk_at dksX4_goesOn_4 21 rfl rfl)
theorem dX4_goesOn_112 : decode cX4_goesOn 112 = .ok (.goto 4, 3) := dk_167 0 4 (dk_at dksX4_goesOn_5 0 rfl rfl)
theorem dX4_goesOn_115 : decode cX4_goesOn 115 = .ok (.iconst 2, 1) := dk_5 (dk_at dksX4_goesOn_5 3 rfl rfl)
theorem dX4_goesOn_116 : decode cX4_goesOn 116 = .ok (.putfield 80, 3) := dk_181 0 80 (dk_at dksX4_goesOn_5 4 rfl rfl)
theorem dX4_goesOn_119 : decode cX4_goesOn 119 = .ok (.return_, 1) := dk_177 (dk_at dksX4_goesOn_5 7 rfl rfl)
theorem dX4_goesOn_120 : decode cX4_goesOn 120 = .ok (.iload_n 1, 1) := dk_27 (dk_at dksX4_goesOn_5 8 rfl rfl)
theorem dX4_goesOn_121 : decode cX4_goesOn 121 = .ok (.bipush 48, 2) := dk_16 48 (dk_at dksX4_goesOn_5 9 rfl rfl)
theorem dX4_goesOn_123 : decode cX4_goesOn 123 = .ok (.bipush 57, 2) := dk_16 57 (dk_at dksX4_goesOn_5 11 rfl rfl)
theorem dX4_goesOn_125 : decode cX4_goesOn 125 = .ok (.invokestatic 83, 3) := dk_184 0 83 (dk_at dksX4_goesOn_5 13 rfl rfl)
theorem dX4_goesOn_128 : decode cX4_goesOn 128 = .ok (.ifCond .eq 105, 3) := dk_153 0 105 (dk_at dksX4_goesOn_5 16 rfl rfl)
theorem dX4_goesOn_131 : decode cX4_goesOn 131 = .ok (.aload_n 0, 1) := dk_42 (dk_at dksX4_goesOn_5 19 rfl rfl)
theorem dX4_goesOn_132 : decode cX4_goesOn 132 = .ok (.iconst 0, 1) := dk_3 (dk_at dksX4_goesOn_5 20 rfl rfl)
theorem dX4_goesOn_133 : decode cX4_goesOn 133 = .ok (.putfield 87, 3) := dk_181 0 87 (dk_at dksX4_goesOn_5 21 rfl rfl)
theorem dX4_goesOn_136 : decode cX4_goesOn 136 = .ok (.aload_n 0, 1) := dk_42 (dk_at dksX4_goesOn_6 0 rfl rfl)
theorem dX4_goesOn_137 : decode cX4_goesOn 137 = .ok (.aload_n 0, 1) := dk_42 (dk_at dksX4_goesOn_6 1 rfl rfl)
theorem dX4_goesOn_138 : decode cX4_goesOn 138 = .ok (.getfield 70, 3) := dk_180 0 70 (dk_at dksX4_goesOn_6 2 rfl rfl)
theorem dX4_goesOn_141 : decode cX4_goesOn 141 = .ok (.invokevirtual 73, 3) := dk_182 0 73 (dk_at dksX4_goesOn_6 5 rfl rfl)
theorem dX4_goesOn_144 : decode cX4_goesOn 144 = .ok (.bipush 48, 2) := dk_16 48 (dk_at dksX4_goesOn_6 8 rfl rfl)
theorem dX4_goesOn_146 : decode cX4_goesOn 146 = .ok (.bipush 57, 2) := dk_16 57 (dk_at dksX4_goesOn_6 10 rfl rfl)
theorem dX4_goesOn_148 : decode cX4_goesOn 148 = .ok (.invokestatic 83, 3) := dk_184 0 83 (dk_at dksX4_goesOn_6 12 rfl rfl)
theorem dX4_goesOn_151 : decode cX4_goesOn 151 = .ok (.ifCond .eq 59, 3) := dk_153 0 59 (dk_at dksX4_goesOn_6 15 rfl rfl)
theorem dX4_goesOn_154 : decode cX4_goesOn 154 = .ok (.aload_n 0, 1) := dk_42 (dk_at dksX4_goesOn_6 18 rfl rfl)
theorem dX4_goesOn_155 : decode cX4_goesOn 155 = .ok (.aload_n 0, 1) := dk_42 (dk_at dksX4_goesOn_6 19 rfl rfl)
theorem dX4_goesOn_156 : decode cX4_goesOn 156 = .ok (.getfield 70, 3) := dk_180 0 70 (dk_at dksX4_goesOn_6 20 rfl rfl)
theorem dX4_goesOn_159 : decode cX4_goesOn 159 = .ok (.aload_n 0, 1) := dk_42 (dk_at dksX4_goesOn_6 23 rfl rfl)
theorem dX4_goesOn_160 : decode cX4_goesOn 160 = .ok (.getfield 77, 3) := dk_180 0 77 (dk_at dksX4_goesOn_7 0 rfl rfl)
theorem dX4_goesOn_163 : decode cX4_goesOn 163 = .ok (.isub, 1) := dk_100 (dk_at dksX4_goesOn_7 3 rfl rfl)
theorem dX4_goesOn_164 : decode cX4_goesOn 164 = .ok (.iconst 3, 1) := dk_6 (dk_at dksX4_goesOn_7 4 rfl rfl)
theorem dX4_goesOn_165 : decode cX4_goesOn 165 = .ok (.if_icmp .ge 25, 3) := dk_162 0 25 (dk_at dksX4_goesOn_7 5 rfl rfl)
theorem dX4_goesOn_168 : decode cX4_goesOn 168 = .ok (.bipush 10, 2) := dk_16 10 (dk_at dksX4_goesOn_7 8 rfl rfl)
theorem dX4_goesOn_170 : decode cX4_goesOn 170 = .ok (.aload_n 0, 1) := dk_42 (dk_at dksX4_goesOn_7 10 rfl rfl)
theorem dX4_goesOn_171 : decode cX4_goesOn 171 = .ok (.getfield 87, 3) := dk_180 0 87 (dk_at dksX4_goesOn_7 11 rfl rfl)
theorem dX4_goesOn_174 : decode cX4_goesOn 174 = .ok (.imul, 1) := dk_104 (dk_at dksX4_goesOn_7 14 rfl rfl)
theorem dX4_goesOn_175 : decode cX4_goesOn 175 = .ok (.aload_n 0, 1) := dk_42 (dk_at dksX4_goesOn_7 15 rfl rfl)
theorem dX4_goesOn_176 : decode cX4_goesOn 176 = .ok (.aload_n 0, 1) := dk_42 (dk_at dksX4_goesOn_7 16 rfl rfl)
theorem dX4_goesOn_177 : decode cX4_goesOn 177 = .ok (.getfield 70, 3) := dk_180 0 70 (dk_at dksX4_goesOn_7 17 rfl rfl)
theorem dX4_goesOn_180 : decode cX4_goesOn 180 = .ok (.invokevirtual 73, 3) := dk_182 0 73 (dk_at dksX4_goesOn_7 20 rfl rfl)
theorem dX4_goesOn_183 : decode cX4_goesOn 183 = .ok (.iadd, 1) := dk_96 (dk_at dksX4_goesOn_7 23 rfl rfl)
theorem dX4_goesOn_184 : decode cX4_goesOn 184 = .ok (.bipush 48, 2) := dk_16 48 (dk_at dksX4_goesOn_8 0 rfl rfl)
theorem dX4_goesOn_186 : decode cX4_goesOn 186 = .ok (.isub, 1) := dk_100 (dk_at dksX4_goesOn_8 2 rfl rfl)
theorem dX4_goesOn_187 : decode cX4_goesOn 187 = .ok (.goto 7, 3) := dk_167 0 7 (dk_at dksX4_goesOn_8 3 rfl rfl)
theorem dX4_goesOn_190 : decode cX4_goesOn 190 = .ok (.aload_n 0, 1) := dk_42 (dk_at dksX4_goesOn_8 6 rfl rfl)
theorem dX4_goesOn_191 : decode cX4_goesOn 191 = .ok (.getfield 87, 3) := dk_180 0 87 (dk_at dksX4_goesOn_8 7 rfl rfl)
theorem dX4_goesOn_194 : decode cX4_goesOn 194 = .ok (.putfield 87, 3) := dk_181 0 87 (dk_at dksX4_goesOn_8 10 rfl rfl)
theorem dX4_goesOn_197 : decode cX4_goesOn 197 = .ok (.aload_n 0, 1) := dk_42 (dk_at dksX4_goesOn_8 13 rfl rfl)
theorem dX4_goesOn_198 : decode cX4_goesOn 198 = .ok (.dup, 1) := dk_89 (dk_at dksX4_goesOn_8 14 rfl rfl)
theorem dX4_goesOn_199 : decode cX4_goesOn 199 = .ok (.getfield 70, 3) := dk_180 0 70 (dk_at dksX4_goesOn_8 15 rfl rfl)
theorem dX4_goesOn_202 : decode cX4_goesOn 202 = .ok (.iconst 1, 1) := dk_4 (dk_at dksX4_goesOn_8 18 rfl rfl)
theorem dX4_goesOn_203 : decode cX4_goesOn 203 = .ok (.iadd, 1) := dk_96 (dk_at dksX4_goesOn_8 19 rfl rfl)
theorem dX4_goesOn_204 : decode cX4_goesOn 204 = .ok (.putfield 70, 3) := dk_181 0 70 (dk_at dksX4_goesOn_8 20 rfl rfl)
theorem dX4_goesOn_207 : decode cX4_goesOn 207 = .ok (.goto (-71), 3) := dk_167 255 185 (dk_at dksX4_goesOn_9 0 rfl rfl)
theorem dX4_goesOn_210 : decode cX4_goesOn 210 = .ok (.aload_n 0, 1) := dk_42 (dk_at dksX4_goesOn_9 3 rfl rfl)
theorem dX4_goesOn_211 : decode cX4_goesOn 211 = .ok (.aload_n 0, 1) := dk_42 (dk_at dksX4_goesOn_9 4 rfl rfl)
theorem dX4_goesOn_212 : decode cX4_goesOn 212 = .ok (.getfield 70, 3) := dk_180 0 70 (dk_at dksX4_goesOn_9 5 rfl rfl)
theorem dX4_goesOn_215 : decode cX4_goesOn 215 = .ok (.aload_n 0, 1) := dk_42 (dk_at dksX4_goesOn_9 8 rfl rfl)
theorem dX4_goesOn_216 : decode cX4_goesOn 216 = .ok (.getfield 77, 3) := dk_180 0 77 (dk_at dksX4_goesOn_9 9 rfl rfl)
theorem dX4_goesOn_219 : decode cX4_goesOn 219 = .ok (.isub, 1) := dk_100 (dk_at dksX4_goesOn_9 12 rfl rfl)
theorem dX4_goesOn_220 : decode cX4_goesOn 220 = .ok (.iconst 3, 1) := dk_6 (dk_at dksX4_goesOn_9 13 rfl rfl)
theorem dX4_goesOn_221 : decode cX4_goesOn 221 = .ok (.if_icmp .le 7, 3) := dk_164 0 7 (dk_at dksX4_goesOn_9 14 rfl rfl)
theorem dX4_goesOn_224 : decode cX4_goesOn 224 = .ok (.iconst 1, 1) := dk_4 (dk_at dksX4_goesOn_9 17 rfl rfl)
theorem dX4_goesOn_225 : decode cX4_goesOn 225 = .ok (.goto 4, 3) := dk_167 0 4 (dk_at dksX4_goesOn_9 18 rfl rfl)
theorem dX4_goesOn_228 : decode cX4_goesOn 228 = .ok (.iconst 3, 1) := dk_6 (dk_at dksX4_goesOn_9 21 rfl rfl)
theorem dX4_goesOn_229 : decode cX4_goesOn 229 = .ok (.putfield 80, 3) := dk_181 0 80 (dk_at dksX4_goesOn_10 0 rfl rfl)
theorem dX4_goesOn_232 : decode cX4_goesOn 232 = .ok (.return_, 1) := dk_177 (dk_at dksX4_goesOn_10 3 rfl rfl)
theorem dX4_goesOn_233 : decode cX4_goesOn 233 = .ok (.aload_n 0, 1) := dk_42 (dk_at dksX4_goesOn_10 4 rfl rfl)
theorem dX4_goesOn_234 : decode cX4_goesOn 234 = .ok (.dup, 1) := dk_89 (dk_at dksX4_goesOn_10 5 rfl rfl)
theorem dX4_goesOn_235 : decode cX4_goesOn 235 = .ok (.getfield 70, 3) := dk_180 0 70 (dk_at dksX4_goesOn_10 6 rfl rfl)
theorem dX4_goesOn_238 : decode cX4_goesOn 238 = .ok (.iconst 1, 1) := dk_4 (dk_at dksX4_goesOn_10 9 rfl rfl)
theorem dX4_goesOn_239 : decode cX4_goesOn 239 = .ok (.iadd, 1) := dk_96 (dk_at dksX4_goesOn_10 10 rfl rfl)
theorem dX4_goesOn_240 : decode cX4_goesOn 240 = .ok (.putfield 70, 3) := dk_181 0 70 (dk_at dksX4_goesOn_10 11 rfl rfl)
theorem dX4_goesOn_243 : decode cX4_goesOn 243 = .ok (.aload_n 0, 1) := dk_42 (dk_at dksX4_goesOn_10 14 rfl rfl)
theorem dX4_goesOn_244 : decode cX4_goesOn 244 = .ok (.iload_n 1, 1) := dk_27 (dk_at dksX4_goesOn_10 15 rfl rfl)
theorem dX4_goesOn_245 : decode cX4_goesOn 245 = .ok (.bipush 59, 2) := dk_16 59 (dk_at dksX4_goesOn_10 16 rfl rfl)
theorem dX4_goesOn_247 : decode cX4_goesOn 247 = .ok (.if_icmp .ne 7, 3) := dk_160 0 7 (dk_at dksX4_goesOn_10 18 rfl rfl)
theorem dX4_goesOn_250 : decode cX4_goesOn 250 = .ok (.iload_n 1, 1) := dk_27 (dk_at dksX4_goesOn_10 21 rfl rfl)
theorem dX4_goesOn_251 : decode cX4_goesOn 251 = .ok (.goto 4, 3) := dk_167 0 4 (dk_at dksX4_goesOn_11 0 rfl rfl)
theorem dX4_goesOn_254 : decode cX4_goesOn 254 = .ok (.iconst 1, 1) := dk_4 (dk_at dksX4_goesOn_11 3 rfl rfl)
theorem dX4_goesOn_255 : decode cX4_goesOn 255 = .ok (.putfield 80, 3) := dk_181 0 80 (dk_at dksX4_goesOn_11 4 rfl rfl)
theorem dX4_goesOn_258 : decode cX4_goesOn 258 = .ok (.return_, 1) := dk_177 (dk_at dksX4_goesOn_11 7 rfl rfl)
abbrev cX4_see : ByteArray := prog_19_method_9_code
def yX4_see : MethodName := ⟨RX4, "see", "(I)I"⟩
def dkwX4_see_0 : List UInt8 := [27, 42, 180, 0, 67, 162, 0, 12, 42, 180, 0, 13, 27, 46, 167, 0, 4, 2, 172]
abbrev dktX4_see_0 : List UInt8 := dkwX4_see_0 ++ []
theorem dksX4_see_0 : cX4_see.data.toList.drop 0 = dktX4_see_0 := by decide +kernel
theorem dX4_see_0 : decode cX4_see 0 = .ok (.iload_n 1, 1) := dk_27 (dk_at dksX4_see_0 0 rfl rfl)
theorem dX4_see_1 : decode cX4_see 1 = .ok (.aload_n 0, 1) := dk_42 (dk_at dksX4_see_0 1 rfl rfl)
theorem dX4_see_2 : decode cX4_see 2 = .ok (.getfield 67, 3) := dk_180 0 67 (dk_at dksX4_see_0 2 rfl rfl)
theorem dX4_see_5 : decode cX4_see 5 = .ok (.if_icmp .ge 12, 3) := dk_162 0 12 (dk_at dksX4_see_0 5 rfl rfl)
theorem dX4_see_8 : decode cX4_see 8 = .ok (.aload_n 0, 1) := dk_42 (dk_at dksX4_see_0 8 rfl rfl)
theorem dX4_see_9 : decode cX4_see 9 = .ok (.getfield 13, 3) := dk_180 0 13 (dk_at dksX4_see_0 9 rfl rfl)
theorem dX4_see_12 : decode cX4_see 12 = .ok (.iload_n 1, 1) := dk_27 (dk_at dksX4_see_0 12 rfl rfl)
theorem dX4_see_13 : decode cX4_see 13 = .ok (.iaload, 1) := dk_46 (dk_at dksX4_see_0 13 rfl rfl)
theorem dX4_see_14 : decode cX4_see 14 = .ok (.goto 4, 3) := dk_167 0 4 (dk_at dksX4_see_0 14 rfl rfl)
theorem dX4_see_17 : decode cX4_see 17 = .ok (.iconst (-1), 1) := dk_2 (dk_at dksX4_see_0 17 rfl rfl)
theorem dX4_see_18 : decode cX4_see 18 = .ok (.ireturn, 1) := dk_172 (dk_at dksX4_see_0 18 rfl rfl)
abbrev cX4_readLine : ByteArray := prog_19_method_23_code
def yX4_readLine : MethodName := ⟨RX4, "readLine", "()Z"⟩
def dkwX4_readLine_2 : List UInt8 := [182, 0, 106, 172]
abbrev dktX4_readLine_2 : List UInt8 := dkwX4_readLine_2 ++ []
def dkwX4_readLine_1 : List UInt8 := [182, 0, 171, 172, 42, 18, 124, 182, 0, 113, 153, 0, 10, 42, 182, 0, 174, 167, 0, 8, 42, 4]
abbrev dktX4_readLine_1 : List UInt8 := dkwX4_readLine_1 ++ dktX4_readLine_2
def dkwX4_readLine_0 : List UInt8 := [42, 18, 120, 182, 0, 113, 153, 0, 8, 42, 182, 0, 168, 172, 42, 18, 122, 182, 0, 113, 153, 0, 8, 42]
abbrev dktX4_readLine_0 : List UInt8 := dkwX4_readLine_0 ++ dktX4_readLine_1
theorem dksX4_readLine_0 : cX4_readLine.data.toList.drop 0 = dktX4_readLine_0 := by decide +kernel
theorem dksX4_readLine_1 : cX4_readLine.data.toList.drop 24 = dktX4_readLine_1 := dk_seg dksX4_readLine_0 24 rfl rfl
theorem dksX4_readLine_2 : cX4_readLine.data.toList.drop 46 = dktX4_readLine_2 := dk_seg dksX4_readLine_1 22 rfl rfl
theorem dX4_readLine_0 : decode cX4_readLine 0 = .ok (.aload_n 0, 1) := dk_42 (dk_at dksX4_readLine_0 0 rfl rfl)
theorem dX4_readLine_1 : decode cX4_readLine 1 = .ok (.ldc 120, 2) := dk_18 120 (dk_at dksX4_readLine_0 1 rfl rfl)
theorem dX4_readLine_3 : decode cX4_readLine 3 = .ok (.invokevirtual 113, 3) := dk_182 0 113 (dk_at dksX4_readLine_0 3 rfl rfl)
theorem dX4_readLine_6 : decode cX4_readLine 6 = .ok (.ifCond .eq 8, 3) := dk_153 0 8 (dk_at dksX4_readLine_0 6 rfl rfl)
theorem dX4_readLine_9 : decode cX4_readLine 9 = .ok (.aload_n 0, 1) := dk_42 (dk_at dksX4_readLine_0 9 rfl rfl)
theorem dX4_readLine_10 : decode cX4_readLine 10 = .ok (.invokevirtual 168, 3) := dk_182 0 168 (dk_at dksX4_readLine_0 10 rfl rfl)
theorem dX4_readLine_13 : decode cX4_readLine 13 = .ok (.ireturn, 1) := dk_172 (dk_at dksX4_readLine_0 13 rfl rfl)
theorem dX4_readLine_14 : decode cX4_readLine 14 = .ok (.aload_n 0, 1) := dk_42 (dk_at dksX4_readLine_0 14 rfl rfl)
theorem dX4_readLine_15 : decode cX4_readLine 15 = .ok (.ldc 122, 2) := dk_18 122 (dk_at dksX4_readLine_0 15 rfl rfl)
theorem dX4_readLine_17 : decode cX4_readLine 17 = .ok (.invokevirtual 113, 3) := dk_182 0 113 (dk_at dksX4_readLine_0 17 rfl rfl)
theorem dX4_readLine_20 : decode cX4_readLine 20 = .ok (.ifCond .eq 8, 3) := dk_153 0 8 (dk_at dksX4_readLine_0 20 rfl rfl)
theorem dX4_readLine_23 : decode cX4_readLine 23 = .ok (.aload_n 0, 1) := dk_42 (dk_at dksX4_readLine_0 23 rfl rfl)
theorem dX4_readLine_24 : decode cX4_readLine 24 = .ok (.invokevirtual 171, 3) := dk_182 0 171 (dk_at dksX4_readLine_1 0 rfl rfl)
theorem dX4_readLine_27 : decode cX4_readLine 27 = .ok (.ireturn, 1) := dk_172 (dk_at dksX4_readLine_1 3 rfl rfl)
theorem dX4_readLine_28 : decode cX4_readLine 28 = .ok (.aload_n 0, 1) := dk_42 (dk_at dksX4_readLine_1 4 rfl rfl)
theorem dX4_readLine_29 : decode cX4_readLine 29 = .ok (.ldc 124, 2) := dk_18 124 (dk_at dksX4_readLine_1 5 rfl rfl)
theorem dX4_readLine_31 : decode cX4_readLine 31 = .ok (.invokevirtual 113, 3) := dk_182 0 113 (dk_at dksX4_readLine_1 7 rfl rfl)
theorem dX4_readLine_34 : decode cX4_readLine 34 = .ok (.ifCond .eq 10, 3) := dk_153 0 10 (dk_at dksX4_readLine_1 10 rfl rfl)
theorem dX4_readLine_37 : decode cX4_readLine 37 = .ok (.aload_n 0, 1) := dk_42 (dk_at dksX4_readLine_1 13 rfl rfl)
theorem dX4_readLine_38 : decode cX4_readLine 38 = .ok (.invokevirtual 174, 3) := dk_182 0 174 (dk_at dksX4_readLine_1 14 rfl rfl)
theorem dX4_readLine_41 : decode cX4_readLine 41 = .ok (.goto 8, 3) := dk_167 0 8 (dk_at dksX4_readLine_1 17 rfl rfl)
theorem dX4_readLine_44 : decode cX4_readLine 44 = .ok (.aload_n 0, 1) := dk_42 (dk_at dksX4_readLine_1 20 rfl rfl)
theorem dX4_readLine_45 : decode cX4_readLine 45 = .ok (.iconst 1, 1) := dk_4 (dk_at dksX4_readLine_1 21 rfl rfl)
theorem dX4_readLine_46 : decode cX4_readLine 46 = .ok (.invokevirtual 106, 3) := dk_182 0 106 (dk_at dksX4_readLine_2 0 rfl rfl)
theorem dX4_readLine_49 : decode cX4_readLine 49 = .ok (.ireturn, 1) := dk_172 (dk_at dksX4_readLine_2 3 rfl rfl)
abbrev cX4_isWord : ByteArray := prog_19_method_11_code
def yX4_isWord : MethodName := ⟨RX4, "isWord", "(Ljava/lang/String;)Z"⟩
def dkwX4_isWord_2 : List UInt8 := [28, 182, 0, 96, 159, 0, 5, 3, 172, 132, 2, 1, 167, 255, 224, 4, 172]
abbrev dktX4_isWord_2 : List UInt8 := dkwX4_isWord_2 ++ []
def dkwX4_isWord_1 : List UInt8 := [3, 172, 3, 61, 28, 43, 182, 0, 90, 162, 0, 30, 42, 180, 0, 13, 42, 180, 0, 77, 28, 96, 46, 43]
abbrev dktX4_isWord_1 : List UInt8 := dkwX4_isWord_1 ++ dktX4_isWord_2
def dkwX4_isWord_0 : List UInt8 := [42, 180, 0, 80, 5, 160, 0, 19, 42, 180, 0, 70, 42, 180, 0, 77, 100, 43, 182, 0, 90, 159, 0, 5]
abbrev dktX4_isWord_0 : List UInt8 := dkwX4_isWord_0 ++ dktX4_isWord_1
theorem dksX4_isWord_0 : cX4_isWord.data.toList.drop 0 = dktX4_isWord_0 := by decide +kernel
theorem dksX4_isWord_1 : cX4_isWord.data.toList.drop 24 = dktX4_isWord_1 := dk_seg dksX4_isWord_0 24 rfl rfl
theorem dksX4_isWord_2 : cX4_isWord.data.toList.drop 48 = dktX4_isWord_2 := dk_seg dksX4_isWord_1 24 rfl rfl
theorem dX4_isWord_0 : decode cX4_isWord 0 = .ok (.aload_n 0, 1) := dk_42 (dk_at dksX4_isWord_0 0 rfl rfl)
theorem dX4_isWord_1 : decode cX4_isWord 1 = .ok (.getfield 80, 3) := dk_180 0 80 (dk_at dksX4_isWord_0 1 rfl rfl)
theorem dX4_isWord_4 : decode cX4_isWord 4 = .ok (.iconst 2, 1) := dk_5 (dk_at dksX4_isWord_0 4 rfl rfl)
theorem dX4_isWord_5 : decode cX4_isWord 5 = .ok (.if_icmp .ne 19, 3) := dk_160 0 19 (dk_at dksX4_isWord_0 5 rfl rfl)
theorem dX4_isWord_8 : decode cX4_isWord 8 = .ok (.aload_n 0, 1) := dk_42 (dk_at dksX4_isWord_0 8 rfl rfl)
theorem dX4_isWord_9 : decode cX4_isWord 9 = .ok (.getfield 70, 3) := dk_180 0 70 (dk_at dksX4_isWord_0 9 rfl rfl)
theorem dX4_isWord_12 : decode cX4_isWord 12 = .ok (.aload_n 0, 1) := dk_42 (dk_at dksX4_isWord_0 12 rfl rfl)
theorem dX4_isWord_13 : decode cX4_isWord 13 = .ok (.getfield 77, 3) := dk_180 0 77 (dk_at dksX4_isWord_0 13 rfl rfl)
theorem dX4_isWord_16 : decode cX4_isWord 16 = .ok (.isub, 1) := dk_100 (dk_at dksX4_isWord_0 16 rfl rfl)
theorem dX4_isWord_17 : decode cX4_isWord 17 = .ok (.aload_n 1, 1) := dk_43 (dk_at dksX4_isWord_0 17 rfl rfl)
theorem dX4_isWord_18 : decode cX4_isWord 18 = .ok (.invokevirtual 90, 3) := dk_182 0 90 (dk_at dksX4_isWord_0 18 rfl rfl)
theorem dX4_isWord_21 : decode cX4_isWord 21 = .ok (.if_icmp .eq 5, 3) := dk_159 0 5 (dk_at dksX4_isWord_0 21 rfl rfl)
theorem dX4_isWord_24 : decode cX4_isWord 24 = .ok (.iconst 0, 1) := dk_3 (dk_at dksX4_isWord_1 0 rfl rfl)
theorem dX4_isWord_25 : decode cX4_isWord 25 = .ok (.ireturn, 1) := dk_172 (dk_at dksX4_isWord_1 1 rfl rfl)
theorem dX4_isWord_26 : decode cX4_isWord 26 = .ok (.iconst 0, 1) := dk_3 (dk_at dksX4_isWord_1 2 rfl rfl)
theorem dX4_isWord_27 : decode cX4_isWord 27 = .ok (.istore_n 2, 1) := dk_61 (dk_at dksX4_isWord_1 3 rfl rfl)
theorem dX4_isWord_28 : decode cX4_isWord 28 = .ok (.iload_n 2, 1) := dk_28 (dk_at dksX4_isWord_1 4 rfl rfl)
theorem dX4_isWord_29 : decode cX4_isWord 29 = .ok (.aload_n 1, 1) := dk_43 (dk_at dksX4_isWord_1 5 rfl rfl)
theorem dX4_isWord_30 : decode cX4_isWord 30 = .ok (.invokevirtual 90, 3) := dk_182 0 90 (dk_at dksX4_isWord_1 6 rfl rfl)
theorem dX4_isWord_33 : decode cX4_isWord 33 = .ok (.if_icmp .ge 30, 3) := dk_162 0 30 (dk_at dksX4_isWord_1 9 rfl rfl)
theorem dX4_isWord_36 : decode cX4_isWord 36 = .ok (.aload_n 0, 1) := dk_42 (dk_at dksX4_isWord_1 12 rfl rfl)
theorem dX4_isWord_37 : decode cX4_isWord 37 = .ok (.getfield 13, 3) := dk_180 0 13 (dk_at dksX4_isWord_1 13 rfl rfl)
theorem dX4_isWord_40 : decode cX4_isWord 40 = .ok (.aload_n 0, 1) := dk_42 (dk_at dksX4_isWord_1 16 rfl rfl)
theorem dX4_isWord_41 : decode cX4_isWord 41 = .ok (.getfield 77, 3) := dk_180 0 77 (dk_at dksX4_isWord_1 17 rfl rfl)
theorem dX4_isWord_44 : decode cX4_isWord 44 = .ok (.iload_n 2, 1) := dk_28 (dk_at dksX4_isWord_1 20 rfl rfl)
theorem dX4_isWord_45 : decode cX4_isWord 45 = .ok (.iadd, 1) := dk_96 (dk_at dksX4_isWord_1 21 rfl rfl)
theorem dX4_isWord_46 : decode cX4_isWord 46 = .ok (.iaload, 1) := dk_46 (dk_at dksX4_isWord_1 22 rfl rfl)
theorem dX4_isWord_47 : decode cX4_isWord 47 = .ok (.aload_n 1, 1) := dk_43 (dk_at dksX4_isWord_1 23 rfl rfl)
theorem dX4_isWord_48 : decode cX4_isWord 48 = .ok (.iload_n 2, 1) := dk_28 (dk_at dksX4_isWord_2 0 rfl rfl)
theorem dX4_isWord_49 : decode cX4_isWord 49 = .ok (.invokevirtual 96, 3) := dk_182 0 96 (dk_at dksX4_isWord_2 1 rfl rfl)
theorem dX4_isWord_52 : decode cX4_isWord 52 = .ok (.if_icmp .eq 5, 3) := dk_159 0 5 (dk_at dksX4_isWord_2 4 rfl rfl)
theorem dX4_isWord_55 : decode cX4_isWord 55 = .ok (.iconst 0, 1) := dk_3 (dk_at dksX4_isWord_2 7 rfl rfl)
theorem dX4_isWord_56 : decode cX4_isWord 56 = .ok (.ireturn, 1) := dk_172 (dk_at dksX4_isWord_2 8 rfl rfl)
theorem dX4_isWord_57 : decode cX4_isWord 57 = .ok (.iinc 2 1, 3) := dk_132 2 1 (dk_at dksX4_isWord_2 9 rfl rfl)
theorem dX4_isWord_60 : decode cX4_isWord 60 = .ok (.goto (-32), 3) := dk_167 255 224 (dk_at dksX4_isWord_2 12 rfl rfl)
theorem dX4_isWord_63 : decode cX4_isWord 63 = .ok (.iconst 1, 1) := dk_4 (dk_at dksX4_isWord_2 15 rfl rfl)
theorem dX4_isWord_64 : decode cX4_isWord 64 = .ok (.ireturn, 1) := dk_172 (dk_at dksX4_isWord_2 16 rfl rfl)
abbrev cX4_readBus : ByteArray := prog_19_method_19_code
def yX4_readBus : MethodName := ⟨RX4, "readBus", "()Z"⟩
def dkwX4_readBus_2 : List UInt8 := [17, 0, 200, 182, 0, 140, 153, 0, 7, 4, 167, 0, 4, 3, 181, 0, 134, 42, 180, 0, 134, 172]
abbrev dktX4_readBus_2 : List UInt8 := dkwX4_readBus_2 ++ []
def dkwX4_readBus_1 : List UInt8 := [182, 0, 140, 153, 0, 34, 42, 18, 144, 4, 3, 16, 20, 182, 0, 140, 153, 0, 21, 42, 18, 146, 5, 4]
abbrev dktX4_readBus_1 : List UInt8 := dkwX4_readBus_1 ++ dktX4_readBus_2
def dkwX4_readBus_0 : List UInt8 := [42, 180, 0, 134, 153, 0, 9, 42, 6, 182, 0, 106, 172, 42, 182, 0, 110, 42, 42, 18, 138, 3, 4, 6]
abbrev dktX4_readBus_0 : List UInt8 := dkwX4_readBus_0 ++ dktX4_readBus_1
theorem dksX4_readBus_0 : cX4_readBus.data.toList.drop 0 = dktX4_readBus_0 := by decide +kernel
theorem dksX4_readBus_1 : cX4_readBus.data.toList.drop 24 = dktX4_readBus_1 := dk_seg dksX4_readBus_0 24 rfl rfl
theorem dksX4_readBus_2 : cX4_readBus.data.toList.drop 48 = dktX4_readBus_2 := dk_seg dksX4_readBus_1 24 rfl rfl
theorem dX4_readBus_0 : decode cX4_readBus 0 = .ok (.aload_n 0, 1) := dk_42 (dk_at dksX4_readBus_0 0 rfl rfl)
theorem dX4_readBus_1 : decode cX4_readBus 1 = .ok (.getfield 134, 3) := dk_180 0 134 (dk_at dksX4_readBus_0 1 rfl rfl)
theorem dX4_readBus_4 : decode cX4_readBus 4 = .ok (.ifCond .eq 9, 3) := dk_153 0 9 (dk_at dksX4_readBus_0 4 rfl rfl)
theorem dX4_readBus_7 : decode cX4_readBus 7 = .ok (.aload_n 0, 1) := dk_42 (dk_at dksX4_readBus_0 7 rfl rfl)
theorem dX4_readBus_8 : decode cX4_readBus 8 = .ok (.iconst 3, 1) := dk_6 (dk_at dksX4_readBus_0 8 rfl rfl)
theorem dX4_readBus_9 : decode cX4_readBus 9 = .ok (.invokevirtual 106, 3) := dk_182 0 106 (dk_at dksX4_readBus_0 9 rfl rfl)
theorem dX4_readBus_12 : decode cX4_readBus 12 = .ok (.ireturn, 1) := dk_172 (dk_at dksX4_readBus_0 12 rfl rfl)
theorem dX4_readBus_13 : decode cX4_readBus 13 = .ok (.aload_n 0, 1) := dk_42 (dk_at dksX4_readBus_0 13 rfl rfl)
theorem dX4_readBus_14 : decode cX4_readBus 14 = .ok (.invokevirtual 110, 3) := dk_182 0 110 (dk_at dksX4_readBus_0 14 rfl rfl)
theorem dX4_readBus_17 : decode cX4_readBus 17 = .ok (.aload_n 0, 1) := dk_42 (dk_at dksX4_readBus_0 17 rfl rfl)
theorem dX4_readBus_18 : decode cX4_readBus 18 = .ok (.aload_n 0, 1) := dk_42 (dk_at dksX4_readBus_0 18 rfl rfl)
theorem dX4_readBus_19 : decode cX4_readBus 19 = .ok (.ldc 138, 2) := dk_18 138 (dk_at dksX4_readBus_0 19 rfl rfl)
theorem dX4_readBus_21 : decode cX4_readBus 21 = .ok (.iconst 0, 1) := dk_3 (dk_at dksX4_readBus_0 21 rfl rfl)
theorem dX4_readBus_22 : decode cX4_readBus 22 = .ok (.iconst 1, 1) := dk_4 (dk_at dksX4_readBus_0 22 rfl rfl)
theorem dX4_readBus_23 : decode cX4_readBus 23 = .ok (.iconst 3, 1) := dk_6 (dk_at dksX4_readBus_0 23 rfl rfl)
theorem dX4_readBus_24 : decode cX4_readBus 24 = .ok (.invokevirtual 140, 3) := dk_182 0 140 (dk_at dksX4_readBus_1 0 rfl rfl)
theorem dX4_readBus_27 : decode cX4_readBus 27 = .ok (.ifCond .eq 34, 3) := dk_153 0 34 (dk_at dksX4_readBus_1 3 rfl rfl)
theorem dX4_readBus_30 : decode cX4_readBus 30 = .ok (.aload_n 0, 1) := dk_42 (dk_at dksX4_readBus_1 6 rfl rfl)
theorem dX4_readBus_31 : decode cX4_readBus 31 = .ok (.ldc 144, 2) := dk_18 144 (dk_at dksX4_readBus_1 7 rfl rfl)
theorem dX4_readBus_33 : decode cX4_readBus 33 = .ok (.iconst 1, 1) := dk_4 (dk_at dksX4_readBus_1 9 rfl rfl)
theorem dX4_readBus_34 : decode cX4_readBus 34 = .ok (.iconst 0, 1) := dk_3 (dk_at dksX4_readBus_1 10 rfl rfl)
theorem dX4_readBus_35 : decode cX4_readBus 35 = .ok (.bipush 20, 2) := dk_16 20 (dk_at dksX4_readBus_1 11 rfl rfl)
theorem dX4_readBus_37 : decode cX4_readBus 37 = .ok (.invokevirtual 140, 3) := dk_182 0 140 (dk_at dksX4_readBus_1 13 rfl rfl)
theorem dX4_readBus_40 : decode cX4_readBus 40 = .ok (.ifCond .eq 21, 3) := dk_153 0 21 (dk_at dksX4_readBus_1 16 rfl rfl)
theorem dX4_readBus_43 : decode cX4_readBus 43 = .ok (.aload_n 0, 1) := dk_42 (dk_at dksX4_readBus_1 19 rfl rfl)
theorem dX4_readBus_44 : decode cX4_readBus 44 = .ok (.ldc 146, 2) := dk_18 146 (dk_at dksX4_readBus_1 20 rfl rfl)
theorem dX4_readBus_46 : decode cX4_readBus 46 = .ok (.iconst 2, 1) := dk_5 (dk_at dksX4_readBus_1 22 rfl rfl)
theorem dX4_readBus_47 : decode cX4_readBus 47 = .ok (.iconst 1, 1) := dk_4 (dk_at dksX4_readBus_1 23 rfl rfl)
theorem dX4_readBus_48 : decode cX4_readBus 48 = .ok (.sipush 200, 3) := dk_17 0 200 (dk_at dksX4_readBus_2 0 rfl rfl)
theorem dX4_readBus_51 : decode cX4_readBus 51 = .ok (.invokevirtual 140, 3) := dk_182 0 140 (dk_at dksX4_readBus_2 3 rfl rfl)
theorem dX4_readBus_54 : decode cX4_readBus 54 = .ok (.ifCond .eq 7, 3) := dk_153 0 7 (dk_at dksX4_readBus_2 6 rfl rfl)
theorem dX4_readBus_57 : decode cX4_readBus 57 = .ok (.iconst 1, 1) := dk_4 (dk_at dksX4_readBus_2 9 rfl rfl)
theorem dX4_readBus_58 : decode cX4_readBus 58 = .ok (.goto 4, 3) := dk_167 0 4 (dk_at dksX4_readBus_2 10 rfl rfl)
theorem dX4_readBus_61 : decode cX4_readBus 61 = .ok (.iconst 0, 1) := dk_3 (dk_at dksX4_readBus_2 13 rfl rfl)
theorem dX4_readBus_62 : decode cX4_readBus 62 = .ok (.putfield 134, 3) := dk_181 0 134 (dk_at dksX4_readBus_2 14 rfl rfl)
theorem dX4_readBus_65 : decode cX4_readBus 65 = .ok (.aload_n 0, 1) := dk_42 (dk_at dksX4_readBus_2 17 rfl rfl)
theorem dX4_readBus_66 : decode cX4_readBus 66 = .ok (.getfield 134, 3) := dk_180 0 134 (dk_at dksX4_readBus_2 18 rfl rfl)
theorem dX4_readBus_69 : decode cX4_readBus 69 = .ok (.ireturn, 1) := dk_172 (dk_at dksX4_readBus_2 21 rfl rfl)
abbrev cX4_errs : ByteArray := prog_19_method_12_code
def yX4_errs : MethodName := ⟨RX4, "errs", "(I)Z"⟩
def dkwX4_errs_0 : List UInt8 := [42, 27, 181, 0, 100, 42, 42, 180, 0, 77, 181, 0, 103, 3, 172]
abbrev dktX4_errs_0 : List UInt8 := dkwX4_errs_0 ++ []
theorem dksX4_errs_0 : cX4_errs.data.toList.drop 0 = dktX4_errs_0 := by decide +kernel
theorem dX4_errs_0 : decode cX4_errs 0 = .ok (.aload_n 0, 1) := dk_42 (dk_at dksX4_errs_0 0 rfl rfl)
theorem dX4_errs_1 : decode cX4_errs 1 = .ok (.iload_n 1, 1) := dk_27 (dk_at dksX4_errs_0 1 rfl rfl)
theorem dX4_errs_2 : decode cX4_errs 2 = .ok (.putfield 100, 3) := dk_181 0 100 (dk_at dksX4_errs_0 2 rfl rfl)
theorem dX4_errs_5 : decode cX4_errs 5 = .ok (.aload_n 0, 1) := dk_42 (dk_at dksX4_errs_0 5 rfl rfl)
theorem dX4_errs_6 : decode cX4_errs 6 = .ok (.aload_n 0, 1) := dk_42 (dk_at dksX4_errs_0 6 rfl rfl)
theorem dX4_errs_7 : decode cX4_errs 7 = .ok (.getfield 77, 3) := dk_180 0 77 (dk_at dksX4_errs_0 7 rfl rfl)
theorem dX4_errs_10 : decode cX4_errs 10 = .ok (.putfield 103, 3) := dk_181 0 103 (dk_at dksX4_errs_0 10 rfl rfl)
theorem dX4_errs_13 : decode cX4_errs 13 = .ok (.iconst 0, 1) := dk_3 (dk_at dksX4_errs_0 13 rfl rfl)
theorem dX4_errs_14 : decode cX4_errs 14 = .ok (.ireturn, 1) := dk_172 (dk_at dksX4_errs_0 14 rfl rfl)
abbrev cX4_after : ByteArray := prog_19_method_14_code
def yX4_after : MethodName := ⟨RX4, "after", "(Ljava/lang/String;III)Z"⟩
def dkwX4_after_1 : List UInt8 := [182, 0, 117, 172]
abbrev dktX4_after_1 : List UInt8 := dkwX4_after_1 ++ []
def dkwX4_after_0 : List UInt8 := [42, 43, 182, 0, 113, 154, 0, 9, 42, 4, 182, 0, 106, 172, 42, 182, 0, 110, 42, 28, 29, 21, 4]
abbrev dktX4_after_0 : List UInt8 := dkwX4_after_0 ++ dktX4_after_1
theorem dksX4_after_0 : cX4_after.data.toList.drop 0 = dktX4_after_0 := by decide +kernel
theorem dksX4_after_1 : cX4_after.data.toList.drop 23 = dktX4_after_1 := dk_seg dksX4_after_0 23 rfl rfl
theorem dX4_after_0 : decode cX4_after 0 = .ok (.aload_n 0, 1) := dk_42 (dk_at dksX4_after_0 0 rfl rfl)
theorem dX4_after_1 : decode cX4_after 1 = .ok (.aload_n 1, 1) := dk_43 (dk_at dksX4_after_0 1 rfl rfl)
theorem dX4_after_2 : decode cX4_after 2 = .ok (.invokevirtual 113, 3) := dk_182 0 113 (dk_at dksX4_after_0 2 rfl rfl)
theorem dX4_after_5 : decode cX4_after 5 = .ok (.ifCond .ne 9, 3) := dk_154 0 9 (dk_at dksX4_after_0 5 rfl rfl)
theorem dX4_after_8 : decode cX4_after 8 = .ok (.aload_n 0, 1) := dk_42 (dk_at dksX4_after_0 8 rfl rfl)
theorem dX4_after_9 : decode cX4_after 9 = .ok (.iconst 1, 1) := dk_4 (dk_at dksX4_after_0 9 rfl rfl)
theorem dX4_after_10 : decode cX4_after 10 = .ok (.invokevirtual 106, 3) := dk_182 0 106 (dk_at dksX4_after_0 10 rfl rfl)
theorem dX4_after_13 : decode cX4_after 13 = .ok (.ireturn, 1) := dk_172 (dk_at dksX4_after_0 13 rfl rfl)
theorem dX4_after_14 : decode cX4_after 14 = .ok (.aload_n 0, 1) := dk_42 (dk_at dksX4_after_0 14 rfl rfl)
theorem dX4_after_15 : decode cX4_after 15 = .ok (.invokevirtual 110, 3) := dk_182 0 110 (dk_at dksX4_after_0 15 rfl rfl)
theorem dX4_after_18 : decode cX4_after 18 = .ok (.aload_n 0, 1) := dk_42 (dk_at dksX4_after_0 18 rfl rfl)
theorem dX4_after_19 : decode cX4_after 19 = .ok (.iload_n 2, 1) := dk_28 (dk_at dksX4_after_0 19 rfl rfl)
theorem dX4_after_20 : decode cX4_after 20 = .ok (.iload_n 3, 1) := dk_29 (dk_at dksX4_after_0 20 rfl rfl)
theorem dX4_after_21 : decode cX4_after 21 = .ok (.iload 4, 2) := dk_21 4 (dk_at dksX4_after_0 21 rfl rfl)
theorem dX4_after_23 : decode cX4_after 23 = .ok (.invokevirtual 117, 3) := dk_182 0 117 (dk_at dksX4_after_1 0 rfl rfl)
theorem dX4_after_26 : decode cX4_after 26 = .ok (.ireturn, 1) := dk_172 (dk_at dksX4_after_1 3 rfl rfl)
abbrev cX4_lays : ByteArray := prog_19_method_13_code
def yX4_lays : MethodName := ⟨RX4, "lays", "(III)Z"⟩
def dkwX4_lays_2 : List UInt8 := [172]
abbrev dktX4_lays_2 : List UInt8 := dkwX4_lays_2 ++ []
def dkwX4_lays_1 : List UInt8 := [154, 0, 9, 42, 7, 182, 0, 106, 172, 42, 180, 0, 20, 27, 42, 180, 0, 87, 79, 42, 182, 0, 110, 4]
abbrev dktX4_lays_1 : List UInt8 := dkwX4_lays_1 ++ dktX4_lays_2
def dkwX4_lays_0 : List UInt8 := [42, 180, 0, 80, 6, 159, 0, 9, 42, 4, 182, 0, 106, 172, 42, 180, 0, 87, 28, 29, 184, 0, 83]
abbrev dktX4_lays_0 : List UInt8 := dkwX4_lays_0 ++ dktX4_lays_1
theorem dksX4_lays_0 : cX4_lays.data.toList.drop 0 = dktX4_lays_0 := by decide +kernel
theorem dksX4_lays_1 : cX4_lays.data.toList.drop 23 = dktX4_lays_1 := dk_seg dksX4_lays_0 23 rfl rfl
theorem dksX4_lays_2 : cX4_lays.data.toList.drop 47 = dktX4_lays_2 := dk_seg dksX4_lays_1 24 rfl rfl
theorem dX4_lays_0 : decode cX4_lays 0 = .ok (.aload_n 0, 1) := dk_42 (dk_at dksX4_lays_0 0 rfl rfl)
theorem dX4_lays_1 : decode cX4_lays 1 = .ok (.getfield 80, 3) := dk_180 0 80 (dk_at dksX4_lays_0 1 rfl rfl)
theorem dX4_lays_4 : decode cX4_lays 4 = .ok (.iconst 3, 1) := dk_6 (dk_at dksX4_lays_0 4 rfl rfl)
theorem dX4_lays_5 : decode cX4_lays 5 = .ok (.if_icmp .eq 9, 3) := dk_159 0 9 (dk_at dksX4_lays_0 5 rfl rfl)
theorem dX4_lays_8 : decode cX4_lays 8 = .ok (.aload_n 0, 1) := dk_42 (dk_at dksX4_lays_0 8 rfl rfl)
theorem dX4_lays_9 : decode cX4_lays 9 = .ok (.iconst 1, 1) := dk_4 (dk_at dksX4_lays_0 9 rfl rfl)
theorem dX4_lays_10 : decode cX4_lays 10 = .ok (.invokevirtual 106, 3) := dk_182 0 106 (dk_at dksX4_lays_0 10 rfl rfl)
theorem dX4_lays_13 : decode cX4_lays 13 = .ok (.ireturn, 1) := dk_172 (dk_at dksX4_lays_0 13 rfl rfl)
theorem dX4_lays_14 : decode cX4_lays 14 = .ok (.aload_n 0, 1) := dk_42 (dk_at dksX4_lays_0 14 rfl rfl)
theorem dX4_lays_15 : decode cX4_lays 15 = .ok (.getfield 87, 3) := dk_180 0 87 (dk_at dksX4_lays_0 15 rfl rfl)
theorem dX4_lays_18 : decode cX4_lays 18 = .ok (.iload_n 2, 1) := dk_28 (dk_at dksX4_lays_0 18 rfl rfl)
theorem dX4_lays_19 : decode cX4_lays 19 = .ok (.iload_n 3, 1) := dk_29 (dk_at dksX4_lays_0 19 rfl rfl)
theorem dX4_lays_20 : decode cX4_lays 20 = .ok (.invokestatic 83, 3) := dk_184 0 83 (dk_at dksX4_lays_0 20 rfl rfl)
theorem dX4_lays_23 : decode cX4_lays 23 = .ok (.ifCond .ne 9, 3) := dk_154 0 9 (dk_at dksX4_lays_1 0 rfl rfl)
theorem dX4_lays_26 : decode cX4_lays 26 = .ok (.aload_n 0, 1) := dk_42 (dk_at dksX4_lays_1 3 rfl rfl)
theorem dX4_lays_27 : decode cX4_lays 27 = .ok (.iconst 4, 1) := dk_7 (dk_at dksX4_lays_1 4 rfl rfl)
theorem dX4_lays_28 : decode cX4_lays 28 = .ok (.invokevirtual 106, 3) := dk_182 0 106 (dk_at dksX4_lays_1 5 rfl rfl)
theorem dX4_lays_31 : decode cX4_lays 31 = .ok (.ireturn, 1) := dk_172 (dk_at dksX4_lays_1 8 rfl rfl)
theorem dX4_lays_32 : decode cX4_lays 32 = .ok (.aload_n 0, 1) := dk_42 (dk_at dksX4_lays_1 9 rfl rfl)
theorem dX4_lays_33 : decode cX4_lays 33 = .ok (.getfield 20, 3) := dk_180 0 20 (dk_at dksX4_lays_1 10 rfl rfl)
theorem dX4_lays_36 : decode cX4_lays 36 = .ok (.iload_n 1, 1) := dk_27 (dk_at dksX4_lays_1 13 rfl rfl)
theorem dX4_lays_37 : decode cX4_lays 37 = .ok (.aload_n 0, 1) := dk_42 (dk_at dksX4_lays_1 14 rfl rfl)
theorem dX4_lays_38 : decode cX4_lays 38 = .ok (.getfield 87, 3) := dk_180 0 87 (dk_at dksX4_lays_1 15 rfl rfl)
theorem dX4_lays_41 : decode cX4_lays 41 = .ok (.iastore, 1) := dk_79 (dk_at dksX4_lays_1 18 rfl rfl)
theorem dX4_lays_42 : decode cX4_lays 42 = .ok (.aload_n 0, 1) := dk_42 (dk_at dksX4_lays_1 19 rfl rfl)
theorem dX4_lays_43 : decode cX4_lays 43 = .ok (.invokevirtual 110, 3) := dk_182 0 110 (dk_at dksX4_lays_1 20 rfl rfl)
theorem dX4_lays_46 : decode cX4_lays 46 = .ok (.iconst 1, 1) := dk_4 (dk_at dksX4_lays_1 23 rfl rfl)
theorem dX4_lays_47 : decode cX4_lays 47 = .ok (.ireturn, 1) := dk_172 (dk_at dksX4_lays_2 0 rfl rfl)
abbrev cX4_readBoard : ByteArray := prog_19_method_21_code
def yX4_readBoard : MethodName := ⟨RX4, "readBoard", "()Z"⟩
def dkwX4_readBoard_5 : List UInt8 := [180, 0, 20, 6, 92, 46, 4, 96, 79, 4, 172]
abbrev dktX4_readBoard_5 : List UInt8 := dkwX4_readBoard_5 ++ []
def dkwX4_readBoard_4 : List UInt8 := [153, 0, 19, 42, 18, 166, 16, 17, 27, 96, 3, 16, 7, 182, 0, 140, 154, 0, 5, 3, 172, 42]
abbrev dktX4_readBoard_4 : List UInt8 := dkwX4_readBoard_4 ++ dktX4_readBoard_5
def dkwX4_readBoard_3 : List UInt8 := [18, 159, 8, 3, 16, 9, 182, 0, 161, 153, 0, 33, 42, 18, 164, 16, 11, 4, 16, 31, 182, 0, 161]
abbrev dktX4_readBoard_3 : List UInt8 := dkwX4_readBoard_3 ++ dktX4_readBoard_4
def dkwX4_readBoard_2 : List UInt8 := [159, 0, 9, 42, 6, 182, 0, 106, 172, 42, 180, 0, 23, 27, 42, 182, 0, 130, 80, 42, 182, 0, 110, 42]
abbrev dktX4_readBoard_2 : List UInt8 := dkwX4_readBoard_2 ++ dktX4_readBoard_3
def dkwX4_readBoard_1 : List UInt8 := [154, 0, 5, 3, 172, 42, 182, 0, 152, 154, 0, 9, 42, 4, 182, 0, 106, 172, 42, 182, 0, 156, 2]
abbrev dktX4_readBoard_1 : List UInt8 := dkwX4_readBoard_1 ++ dktX4_readBoard_2
def dkwX4_readBoard_0 : List UInt8 := [42, 180, 0, 20, 6, 46, 60, 42, 27, 16, 6, 162, 0, 7, 4, 167, 0, 4, 3, 182, 0, 148]
abbrev dktX4_readBoard_0 : List UInt8 := dkwX4_readBoard_0 ++ dktX4_readBoard_1
theorem dksX4_readBoard_0 : cX4_readBoard.data.toList.drop 0 = dktX4_readBoard_0 := by decide +kernel
theorem dksX4_readBoard_1 : cX4_readBoard.data.toList.drop 22 = dktX4_readBoard_1 := dk_seg dksX4_readBoard_0 22 rfl rfl
theorem dksX4_readBoard_2 : cX4_readBoard.data.toList.drop 45 = dktX4_readBoard_2 := dk_seg dksX4_readBoard_1 23 rfl rfl
theorem dksX4_readBoard_3 : cX4_readBoard.data.toList.drop 69 = dktX4_readBoard_3 := dk_seg dksX4_readBoard_2 24 rfl rfl
theorem dksX4_readBoard_4 : cX4_readBoard.data.toList.drop 92 = dktX4_readBoard_4 := dk_seg dksX4_readBoard_3 23 rfl rfl
theorem dksX4_readBoard_5 : cX4_readBoard.data.toList.drop 114 = dktX4_readBoard_5 := dk_seg dksX4_readBoard_4 22 rfl rfl
theorem dX4_readBoard_0 : decode cX4_readBoard 0 = .ok (.aload_n 0, 1) := dk_42 (dk_at dksX4_readBoard_0 0 rfl rfl)
theorem dX4_readBoard_1 : decode cX4_readBoard 1 = .ok (.getfield 20, 3) := dk_180 0 20 (dk_at dksX4_readBoard_0 1 rfl rfl)
theorem dX4_readBoard_4 : decode cX4_readBoard 4 = .ok (.iconst 3, 1) := dk_6 (dk_at dksX4_readBoard_0 4 rfl rfl)
theorem dX4_readBoard_5 : decode cX4_readBoard 5 = .ok (.iaload, 1) := dk_46 (dk_at dksX4_readBoard_0 5 rfl rfl)
theorem dX4_readBoard_6 : decode cX4_readBoard 6 = .ok (.istore_n 1, 1) := dk_60 (dk_at dksX4_readBoard_0 6 rfl rfl)
theorem dX4_readBoard_7 : decode cX4_readBoard 7 = .ok (.aload_n 0, 1) := dk_42 (dk_at dksX4_readBoard_0 7 rfl rfl)
theorem dX4_readBoard_8 : decode cX4_readBoard 8 = .ok (.iload_n 1, 1) := dk_27 (dk_at dksX4_readBoard_0 8 rfl rfl)
theorem dX4_readBoard_9 : decode cX4_readBoard 9 = .ok (.bipush 6, 2) := dk_16 6 (dk_at dksX4_readBoard_0 9 rfl rfl)
theorem dX4_readBoard_11 : decode cX4_readBoard 11 = .ok (.if_icmp .ge 7, 3) := dk_162 0 7 (dk_at dksX4_readBoard_0 11 rfl rfl)
theorem dX4_readBoard_14 : decode cX4_readBoard 14 = .ok (.iconst 1, 1) := dk_4 (dk_at dksX4_readBoard_0 14 rfl rfl)
theorem dX4_readBoard_15 : decode cX4_readBoard 15 = .ok (.goto 4, 3) := dk_167 0 4 (dk_at dksX4_readBoard_0 15 rfl rfl)
theorem dX4_readBoard_18 : decode cX4_readBoard 18 = .ok (.iconst 0, 1) := dk_3 (dk_at dksX4_readBoard_0 18 rfl rfl)
theorem dX4_readBoard_19 : decode cX4_readBoard 19 = .ok (.invokevirtual 148, 3) := dk_182 0 148 (dk_at dksX4_readBoard_0 19 rfl rfl)
theorem dX4_readBoard_22 : decode cX4_readBoard 22 = .ok (.ifCond .ne 5, 3) := dk_154 0 5 (dk_at dksX4_readBoard_1 0 rfl rfl)
theorem dX4_readBoard_25 : decode cX4_readBoard 25 = .ok (.iconst 0, 1) := dk_3 (dk_at dksX4_readBoard_1 3 rfl rfl)
theorem dX4_readBoard_26 : decode cX4_readBoard 26 = .ok (.ireturn, 1) := dk_172 (dk_at dksX4_readBoard_1 4 rfl rfl)
theorem dX4_readBoard_27 : decode cX4_readBoard 27 = .ok (.aload_n 0, 1) := dk_42 (dk_at dksX4_readBoard_1 5 rfl rfl)
theorem dX4_readBoard_28 : decode cX4_readBoard 28 = .ok (.invokevirtual 152, 3) := dk_182 0 152 (dk_at dksX4_readBoard_1 6 rfl rfl)
theorem dX4_readBoard_31 : decode cX4_readBoard 31 = .ok (.ifCond .ne 9, 3) := dk_154 0 9 (dk_at dksX4_readBoard_1 9 rfl rfl)
theorem dX4_readBoard_34 : decode cX4_readBoard 34 = .ok (.aload_n 0, 1) := dk_42 (dk_at dksX4_readBoard_1 12 rfl rfl)
theorem dX4_readBoard_35 : decode cX4_readBoard 35 = .ok (.iconst 1, 1) := dk_4 (dk_at dksX4_readBoard_1 13 rfl rfl)
theorem dX4_readBoard_36 : decode cX4_readBoard 36 = .ok (.invokevirtual 106, 3) := dk_182 0 106 (dk_at dksX4_readBoard_1 14 rfl rfl)
theorem dX4_readBoard_39 : decode cX4_readBoard 39 = .ok (.ireturn, 1) := dk_172 (dk_at dksX4_readBoard_1 17 rfl rfl)
theorem dX4_readBoard_40 : decode cX4_readBoard 40 = .ok (.aload_n 0, 1) := dk_42 (dk_at dksX4_readBoard_1 18 rfl rfl)
theorem dX4_readBoard_41 : decode cX4_readBoard 41 = .ok (.invokevirtual 156, 3) := dk_182 0 156 (dk_at dksX4_readBoard_1 19 rfl rfl)
theorem dX4_readBoard_44 : decode cX4_readBoard 44 = .ok (.iconst (-1), 1) := dk_2 (dk_at dksX4_readBoard_1 22 rfl rfl)
theorem dX4_readBoard_45 : decode cX4_readBoard 45 = .ok (.if_icmp .eq 9, 3) := dk_159 0 9 (dk_at dksX4_readBoard_2 0 rfl rfl)
theorem dX4_readBoard_48 : decode cX4_readBoard 48 = .ok (.aload_n 0, 1) := dk_42 (dk_at dksX4_readBoard_2 3 rfl rfl)
theorem dX4_readBoard_49 : decode cX4_readBoard 49 = .ok (.iconst 3, 1) := dk_6 (dk_at dksX4_readBoard_2 4 rfl rfl)
theorem dX4_readBoard_50 : decode cX4_readBoard 50 = .ok (.invokevirtual 106, 3) := dk_182 0 106 (dk_at dksX4_readBoard_2 5 rfl rfl)
theorem dX4_readBoard_53 : decode cX4_readBoard 53 = .ok (.ireturn, 1) := dk_172 (dk_at dksX4_readBoard_2 8 rfl rfl)
theorem dX4_readBoard_54 : decode cX4_readBoard 54 = .ok (.aload_n 0, 1) := dk_42 (dk_at dksX4_readBoard_2 9 rfl rfl)
theorem dX4_readBoard_55 : decode cX4_readBoard 55 = .ok (.getfield 23, 3) := dk_180 0 23 (dk_at dksX4_readBoard_2 10 rfl rfl)
theorem dX4_readBoard_58 : decode cX4_readBoard 58 = .ok (.iload_n 1, 1) := dk_27 (dk_at dksX4_readBoard_2 13 rfl rfl)
theorem dX4_readBoard_59 : decode cX4_readBoard 59 = .ok (.aload_n 0, 1) := dk_42 (dk_at dksX4_readBoard_2 14 rfl rfl)
theorem dX4_readBoard_60 : decode cX4_readBoard 60 = .ok (.invokevirtual 130, 3) := dk_182 0 130 (dk_at dksX4_readBoard_2 15 rfl rfl)
theorem dX4_readBoard_63 : decode cX4_readBoard 63 = .ok (.lastore, 1) := dk_80 (dk_at dksX4_readBoard_2 18 rfl rfl)
theorem dX4_readBoard_64 : decode cX4_readBoard 64 = .ok (.aload_n 0, 1) := dk_42 (dk_at dksX4_readBoard_2 19 rfl rfl)
theorem dX4_readBoard_65 : decode cX4_readBoard 65 = .ok (.invokevirtual 110, 3) := dk_182 0 110 (dk_at dksX4_readBoard_2 20 rfl rfl)
theorem dX4_readBoard_68 : decode cX4_readBoard 68 = .ok (.aload_n 0, 1) := dk_42 (dk_at dksX4_readBoard_2 23 rfl rfl)
theorem dX4_readBoard_69 : decode cX4_readBoard 69 = .ok (.ldc 159, 2) := dk_18 159 (dk_at dksX4_readBoard_3 0 rfl rfl)
theorem dX4_readBoard_71 : decode cX4_readBoard 71 = .ok (.iconst 5, 1) := dk_8 (dk_at dksX4_readBoard_3 2 rfl rfl)
theorem dX4_readBoard_72 : decode cX4_readBoard 72 = .ok (.iconst 0, 1) := dk_3 (dk_at dksX4_readBoard_3 3 rfl rfl)
theorem dX4_readBoard_73 : decode cX4_readBoard 73 = .ok (.bipush 9, 2) := dk_16 9 (dk_at dksX4_readBoard_3 4 rfl rfl)
theorem dX4_readBoard_75 : decode cX4_readBoard 75 = .ok (.invokevirtual 161, 3) := dk_182 0 161 (dk_at dksX4_readBoard_3 6 rfl rfl)
theorem dX4_readBoard_78 : decode cX4_readBoard 78 = .ok (.ifCond .eq 33, 3) := dk_153 0 33 (dk_at dksX4_readBoard_3 9 rfl rfl)
theorem dX4_readBoard_81 : decode cX4_readBoard 81 = .ok (.aload_n 0, 1) := dk_42 (dk_at dksX4_readBoard_3 12 rfl rfl)
theorem dX4_readBoard_82 : decode cX4_readBoard 82 = .ok (.ldc 164, 2) := dk_18 164 (dk_at dksX4_readBoard_3 13 rfl rfl)
theorem dX4_readBoard_84 : decode cX4_readBoard 84 = .ok (.bipush 11, 2) := dk_16 11 (dk_at dksX4_readBoard_3 15 rfl rfl)
theorem dX4_readBoard_86 : decode cX4_readBoard 86 = .ok (.iconst 1, 1) := dk_4 (dk_at dksX4_readBoard_3 17 rfl rfl)
theorem dX4_readBoard_87 : decode cX4_readBoard 87 = .ok (.bipush 31, 2) := dk_16 31 (dk_at dksX4_readBoard_3 18 rfl rfl)
theorem dX4_readBoard_89 : decode cX4_readBoard 89 = .ok (.invokevirtual 161, 3) := dk_182 0 161 (dk_at dksX4_readBoard_3 20 rfl rfl)
theorem dX4_readBoard_92 : decode cX4_readBoard 92 = .ok (.ifCond .eq 19, 3) := dk_153 0 19 (dk_at dksX4_readBoard_4 0 rfl rfl)
theorem dX4_readBoard_95 : decode cX4_readBoard 95 = .ok (.aload_n 0, 1) := dk_42 (dk_at dksX4_readBoard_4 3 rfl rfl)
theorem dX4_readBoard_96 : decode cX4_readBoard 96 = .ok (.ldc 166, 2) := dk_18 166 (dk_at dksX4_readBoard_4 4 rfl rfl)
theorem dX4_readBoard_98 : decode cX4_readBoard 98 = .ok (.bipush 17, 2) := dk_16 17 (dk_at dksX4_readBoard_4 6 rfl rfl)
theorem dX4_readBoard_100 : decode cX4_readBoard 100 = .ok (.iload_n 1, 1) := dk_27 (dk_at dksX4_readBoard_4 8 rfl rfl)
theorem dX4_readBoard_101 : decode cX4_readBoard 101 = .ok (.iadd, 1) := dk_96 (dk_at dksX4_readBoard_4 9 rfl rfl)
theorem dX4_readBoard_102 : decode cX4_readBoard 102 = .ok (.iconst 0, 1) := dk_3 (dk_at dksX4_readBoard_4 10 rfl rfl)
theorem dX4_readBoard_103 : decode cX4_readBoard 103 = .ok (.bipush 7, 2) := dk_16 7 (dk_at dksX4_readBoard_4 11 rfl rfl)
theorem dX4_readBoard_105 : decode cX4_readBoard 105 = .ok (.invokevirtual 140, 3) := dk_182 0 140 (dk_at dksX4_readBoard_4 13 rfl rfl)
theorem dX4_readBoard_108 : decode cX4_readBoard 108 = .ok (.ifCond .ne 5, 3) := dk_154 0 5 (dk_at dksX4_readBoard_4 16 rfl rfl)
theorem dX4_readBoard_111 : decode cX4_readBoard 111 = .ok (.iconst 0, 1) := dk_3 (dk_at dksX4_readBoard_4 19 rfl rfl)
theorem dX4_readBoard_112 : decode cX4_readBoard 112 = .ok (.ireturn, 1) := dk_172 (dk_at dksX4_readBoard_4 20 rfl rfl)
theorem dX4_readBoard_113 : decode cX4_readBoard 113 = .ok (.aload_n 0, 1) := dk_42 (dk_at dksX4_readBoard_4 21 rfl rfl)
theorem dX4_readBoard_114 : decode cX4_readBoard 114 = .ok (.getfield 20, 3) := dk_180 0 20 (dk_at dksX4_readBoard_5 0 rfl rfl)
theorem dX4_readBoard_117 : decode cX4_readBoard 117 = .ok (.iconst 3, 1) := dk_6 (dk_at dksX4_readBoard_5 3 rfl rfl)
theorem dX4_readBoard_118 : decode cX4_readBoard 118 = .ok (.dup2, 1) := dk_92 (dk_at dksX4_readBoard_5 4 rfl rfl)
theorem dX4_readBoard_119 : decode cX4_readBoard 119 = .ok (.iaload, 1) := dk_46 (dk_at dksX4_readBoard_5 5 rfl rfl)
theorem dX4_readBoard_120 : decode cX4_readBoard 120 = .ok (.iconst 1, 1) := dk_4 (dk_at dksX4_readBoard_5 6 rfl rfl)
theorem dX4_readBoard_121 : decode cX4_readBoard 121 = .ok (.iadd, 1) := dk_96 (dk_at dksX4_readBoard_5 7 rfl rfl)
theorem dX4_readBoard_122 : decode cX4_readBoard 122 = .ok (.iastore, 1) := dk_79 (dk_at dksX4_readBoard_5 8 rfl rfl)
theorem dX4_readBoard_123 : decode cX4_readBoard 123 = .ok (.iconst 1, 1) := dk_4 (dk_at dksX4_readBoard_5 9 rfl rfl)
theorem dX4_readBoard_124 : decode cX4_readBoard 124 = .ok (.ireturn, 1) := dk_172 (dk_at dksX4_readBoard_5 10 rfl rfl)
abbrev cX4_begins : ByteArray := prog_19_method_18_code
def yX4_begins : MethodName := ⟨RX4, "begins", "(Z)Z"⟩
def dkwX4_begins_1 : List UInt8 := [42, 182, 0, 110, 4, 172]
abbrev dktX4_begins_1 : List UInt8 := dkwX4_begins_1 ++ []
def dkwX4_begins_0 : List UInt8 := [27, 154, 0, 9, 42, 8, 182, 0, 106, 172, 42, 180, 0, 134, 154, 0, 10, 42, 16, 6, 182, 0, 106, 172]
abbrev dktX4_begins_0 : List UInt8 := dkwX4_begins_0 ++ dktX4_begins_1
theorem dksX4_begins_0 : cX4_begins.data.toList.drop 0 = dktX4_begins_0 := by decide +kernel
theorem dksX4_begins_1 : cX4_begins.data.toList.drop 24 = dktX4_begins_1 := dk_seg dksX4_begins_0 24 rfl rfl
theorem dX4_begins_0 : decode cX4_begins 0 = .ok (.iload_n 1, 1) := dk_27 (dk_at dksX4_begins_0 0 rfl rfl)
theorem dX4_begins_1 : decode cX4_begins 1 = .ok (.ifCond .ne 9, 3) := dk_154 0 9 (dk_at dksX4_begins_0 1 rfl rfl)
theorem dX4_begins_4 : decode cX4_begins 4 = .ok (.aload_n 0, 1) := dk_42 (dk_at dksX4_begins_0 4 rfl rfl)
theorem dX4_begins_5 : decode cX4_begins 5 = .ok (.iconst 5, 1) := dk_8 (dk_at dksX4_begins_0 5 rfl rfl)
theorem dX4_begins_6 : decode cX4_begins 6 = .ok (.invokevirtual 106, 3) := dk_182 0 106 (dk_at dksX4_begins_0 6 rfl rfl)
theorem dX4_begins_9 : decode cX4_begins 9 = .ok (.ireturn, 1) := dk_172 (dk_at dksX4_begins_0 9 rfl rfl)
theorem dX4_begins_10 : decode cX4_begins 10 = .ok (.aload_n 0, 1) := dk_42 (dk_at dksX4_begins_0 10 rfl rfl)
theorem dX4_begins_11 : decode cX4_begins 11 = .ok (.getfield 134, 3) := dk_180 0 134 (dk_at dksX4_begins_0 11 rfl rfl)
theorem dX4_begins_14 : decode cX4_begins 14 = .ok (.ifCond .ne 10, 3) := dk_154 0 10 (dk_at dksX4_begins_0 14 rfl rfl)
theorem dX4_begins_17 : decode cX4_begins 17 = .ok (.aload_n 0, 1) := dk_42 (dk_at dksX4_begins_0 17 rfl rfl)
theorem dX4_begins_18 : decode cX4_begins 18 = .ok (.bipush 6, 2) := dk_16 6 (dk_at dksX4_begins_0 18 rfl rfl)
theorem dX4_begins_20 : decode cX4_begins 20 = .ok (.invokevirtual 106, 3) := dk_182 0 106 (dk_at dksX4_begins_0 20 rfl rfl)
theorem dX4_begins_23 : decode cX4_begins 23 = .ok (.ireturn, 1) := dk_172 (dk_at dksX4_begins_0 23 rfl rfl)
theorem dX4_begins_24 : decode cX4_begins 24 = .ok (.aload_n 0, 1) := dk_42 (dk_at dksX4_begins_1 0 rfl rfl)
theorem dX4_begins_25 : decode cX4_begins 25 = .ok (.invokevirtual 110, 3) := dk_182 0 110 (dk_at dksX4_begins_1 1 rfl rfl)
theorem dX4_begins_28 : decode cX4_begins 28 = .ok (.iconst 1, 1) := dk_4 (dk_at dksX4_begins_1 4 rfl rfl)
theorem dX4_begins_29 : decode cX4_begins 29 = .ok (.ireturn, 1) := dk_172 (dk_at dksX4_begins_1 5 rfl rfl)
abbrev cX4_isName : ByteArray := prog_19_method_15_code
def yX4_isName : MethodName := ⟨RX4, "isName", "()Z"⟩
def dkwX4_isName_1 : List UInt8 := [154, 0, 16, 42, 18, 124, 182, 0, 113, 154, 0, 7, 4, 167, 0, 4, 3, 172]
abbrev dktX4_isName_1 : List UInt8 := dkwX4_isName_1 ++ []
def dkwX4_isName_0 : List UInt8 := [42, 180, 0, 80, 5, 160, 0, 34, 42, 18, 120, 182, 0, 113, 154, 0, 25, 42, 18, 122, 182, 0, 113]
abbrev dktX4_isName_0 : List UInt8 := dkwX4_isName_0 ++ dktX4_isName_1
theorem dksX4_isName_0 : cX4_isName.data.toList.drop 0 = dktX4_isName_0 := by decide +kernel
theorem dksX4_isName_1 : cX4_isName.data.toList.drop 23 = dktX4_isName_1 := dk_seg dksX4_isName_0 23 rfl rfl
theorem dX4_isName_0 : decode cX4_isName 0 = .ok (.aload_n 0, 1) := dk_42 (dk_at dksX4_isName_0 0 rfl rfl)
theorem dX4_isName_1 : decode cX4_isName 1 = .ok (.getfield 80, 3) := dk_180 0 80 (dk_at dksX4_isName_0 1 rfl rfl)
theorem dX4_isName_4 : decode cX4_isName 4 = .ok (.iconst 2, 1) := dk_5 (dk_at dksX4_isName_0 4 rfl rfl)
theorem dX4_isName_5 : decode cX4_isName 5 = .ok (.if_icmp .ne 34, 3) := dk_160 0 34 (dk_at dksX4_isName_0 5 rfl rfl)
theorem dX4_isName_8 : decode cX4_isName 8 = .ok (.aload_n 0, 1) := dk_42 (dk_at dksX4_isName_0 8 rfl rfl)
theorem dX4_isName_9 : decode cX4_isName 9 = .ok (.ldc 120, 2) := dk_18 120 (dk_at dksX4_isName_0 9 rfl rfl)
theorem dX4_isName_11 : decode cX4_isName 11 = .ok (.invokevirtual 113, 3) := dk_182 0 113 (dk_at dksX4_isName_0 11 rfl rfl)
theorem dX4_isName_14 : decode cX4_isName 14 = .ok (.ifCond .ne 25, 3) := dk_154 0 25 (dk_at dksX4_isName_0 14 rfl rfl)
theorem dX4_isName_17 : decode cX4_isName 17 = .ok (.aload_n 0, 1) := dk_42 (dk_at dksX4_isName_0 17 rfl rfl)
theorem dX4_isName_18 : decode cX4_isName 18 = .ok (.ldc 122, 2) := dk_18 122 (dk_at dksX4_isName_0 18 rfl rfl)
theorem dX4_isName_20 : decode cX4_isName 20 = .ok (.invokevirtual 113, 3) := dk_182 0 113 (dk_at dksX4_isName_0 20 rfl rfl)
theorem dX4_isName_23 : decode cX4_isName 23 = .ok (.ifCond .ne 16, 3) := dk_154 0 16 (dk_at dksX4_isName_1 0 rfl rfl)
theorem dX4_isName_26 : decode cX4_isName 26 = .ok (.aload_n 0, 1) := dk_42 (dk_at dksX4_isName_1 3 rfl rfl)
theorem dX4_isName_27 : decode cX4_isName 27 = .ok (.ldc 124, 2) := dk_18 124 (dk_at dksX4_isName_1 4 rfl rfl)
theorem dX4_isName_29 : decode cX4_isName 29 = .ok (.invokevirtual 113, 3) := dk_182 0 113 (dk_at dksX4_isName_1 6 rfl rfl)
theorem dX4_isName_32 : decode cX4_isName 32 = .ok (.ifCond .ne 7, 3) := dk_154 0 7 (dk_at dksX4_isName_1 9 rfl rfl)
theorem dX4_isName_35 : decode cX4_isName 35 = .ok (.iconst 1, 1) := dk_4 (dk_at dksX4_isName_1 12 rfl rfl)
theorem dX4_isName_36 : decode cX4_isName 36 = .ok (.goto 4, 3) := dk_167 0 4 (dk_at dksX4_isName_1 13 rfl rfl)
theorem dX4_isName_39 : decode cX4_isName 39 = .ok (.iconst 0, 1) := dk_3 (dk_at dksX4_isName_1 16 rfl rfl)
theorem dX4_isName_40 : decode cX4_isName 40 = .ok (.ireturn, 1) := dk_172 (dk_at dksX4_isName_1 17 rfl rfl)
abbrev cX4_boardHere : ByteArray := prog_19_method_17_code
def yX4_boardHere : MethodName := ⟨RX4, "boardHere", "()I"⟩
def dkwX4_boardHere_1 : List UInt8 := [154, 0, 5, 27, 172, 132, 1, 1, 167, 255, 227, 2, 172]
abbrev dktX4_boardHere_1 : List UInt8 := dkwX4_boardHere_1 ++ []
def dkwX4_boardHere_0 : List UInt8 := [3, 60, 27, 42, 180, 0, 20, 6, 46, 162, 0, 25, 42, 180, 0, 23, 27, 47, 42, 182, 0, 130, 148]
abbrev dktX4_boardHere_0 : List UInt8 := dkwX4_boardHere_0 ++ dktX4_boardHere_1
theorem dksX4_boardHere_0 : cX4_boardHere.data.toList.drop 0 = dktX4_boardHere_0 := by decide +kernel
theorem dksX4_boardHere_1 : cX4_boardHere.data.toList.drop 23 = dktX4_boardHere_1 := dk_seg dksX4_boardHere_0 23 rfl rfl
theorem dX4_boardHere_0 : decode cX4_boardHere 0 = .ok (.iconst 0, 1) := dk_3 (dk_at dksX4_boardHere_0 0 rfl rfl)
theorem dX4_boardHere_1 : decode cX4_boardHere 1 = .ok (.istore_n 1, 1) := dk_60 (dk_at dksX4_boardHere_0 1 rfl rfl)
theorem dX4_boardHere_2 : decode cX4_boardHere 2 = .ok (.iload_n 1, 1) := dk_27 (dk_at dksX4_boardHere_0 2 rfl rfl)
theorem dX4_boardHere_3 : decode cX4_boardHere 3 = .ok (.aload_n 0, 1) := dk_42 (dk_at dksX4_boardHere_0 3 rfl rfl)
theorem dX4_boardHere_4 : decode cX4_boardHere 4 = .ok (.getfield 20, 3) := dk_180 0 20 (dk_at dksX4_boardHere_0 4 rfl rfl)
theorem dX4_boardHere_7 : decode cX4_boardHere 7 = .ok (.iconst 3, 1) := dk_6 (dk_at dksX4_boardHere_0 7 rfl rfl)
theorem dX4_boardHere_8 : decode cX4_boardHere 8 = .ok (.iaload, 1) := dk_46 (dk_at dksX4_boardHere_0 8 rfl rfl)
theorem dX4_boardHere_9 : decode cX4_boardHere 9 = .ok (.if_icmp .ge 25, 3) := dk_162 0 25 (dk_at dksX4_boardHere_0 9 rfl rfl)
theorem dX4_boardHere_12 : decode cX4_boardHere 12 = .ok (.aload_n 0, 1) := dk_42 (dk_at dksX4_boardHere_0 12 rfl rfl)
theorem dX4_boardHere_13 : decode cX4_boardHere 13 = .ok (.getfield 23, 3) := dk_180 0 23 (dk_at dksX4_boardHere_0 13 rfl rfl)
theorem dX4_boardHere_16 : decode cX4_boardHere 16 = .ok (.iload_n 1, 1) := dk_27 (dk_at dksX4_boardHere_0 16 rfl rfl)
theorem dX4_boardHere_17 : decode cX4_boardHere 17 = .ok (.laload, 1) := dk_47 (dk_at dksX4_boardHere_0 17 rfl rfl)
theorem dX4_boardHere_18 : decode cX4_boardHere 18 = .ok (.aload_n 0, 1) := dk_42 (dk_at dksX4_boardHere_0 18 rfl rfl)
theorem dX4_boardHere_19 : decode cX4_boardHere 19 = .ok (.invokevirtual 130, 3) := dk_182 0 130 (dk_at dksX4_boardHere_0 19 rfl rfl)
theorem dX4_boardHere_22 : decode cX4_boardHere 22 = .ok (.lcmp, 1) := dk_148 (dk_at dksX4_boardHere_0 22 rfl rfl)
theorem dX4_boardHere_23 : decode cX4_boardHere 23 = .ok (.ifCond .ne 5, 3) := dk_154 0 5 (dk_at dksX4_boardHere_1 0 rfl rfl)
theorem dX4_boardHere_26 : decode cX4_boardHere 26 = .ok (.iload_n 1, 1) := dk_27 (dk_at dksX4_boardHere_1 3 rfl rfl)
theorem dX4_boardHere_27 : decode cX4_boardHere 27 = .ok (.ireturn, 1) := dk_172 (dk_at dksX4_boardHere_1 4 rfl rfl)
theorem dX4_boardHere_28 : decode cX4_boardHere 28 = .ok (.iinc 1 1, 3) := dk_132 1 1 (dk_at dksX4_boardHere_1 5 rfl rfl)
theorem dX4_boardHere_31 : decode cX4_boardHere 31 = .ok (.goto (-29), 3) := dk_167 255 227 (dk_at dksX4_boardHere_1 8 rfl rfl)
theorem dX4_boardHere_34 : decode cX4_boardHere 34 = .ok (.iconst (-1), 1) := dk_2 (dk_at dksX4_boardHere_1 11 rfl rfl)
theorem dX4_boardHere_35 : decode cX4_boardHere 35 = .ok (.ireturn, 1) := dk_172 (dk_at dksX4_boardHere_1 12 rfl rfl)
abbrev cX4_spelt : ByteArray := prog_19_method_16_code
def yX4_spelt : MethodName := ⟨RX4, "spelt", "()J"⟩
def dkwX4_spelt_1 : List UInt8 := [29, 46, 133, 97, 20, 0, 128, 101, 64, 132, 3, 1, 167, 255, 227, 31, 173]
abbrev dktX4_spelt_1 : List UInt8 := dkwX4_spelt_1 ++ []
def dkwX4_spelt_0 : List UInt8 := [9, 64, 42, 180, 0, 77, 62, 29, 42, 180, 0, 70, 162, 0, 27, 20, 0, 126, 31, 105, 42, 180, 0, 13]
abbrev dktX4_spelt_0 : List UInt8 := dkwX4_spelt_0 ++ dktX4_spelt_1
theorem dksX4_spelt_0 : cX4_spelt.data.toList.drop 0 = dktX4_spelt_0 := by decide +kernel
theorem dksX4_spelt_1 : cX4_spelt.data.toList.drop 24 = dktX4_spelt_1 := dk_seg dksX4_spelt_0 24 rfl rfl
theorem dX4_spelt_0 : decode cX4_spelt 0 = .ok (.lconst 0, 1) := dk_9 (dk_at dksX4_spelt_0 0 rfl rfl)
theorem dX4_spelt_1 : decode cX4_spelt 1 = .ok (.lstore_n 1, 1) := dk_64 (dk_at dksX4_spelt_0 1 rfl rfl)
theorem dX4_spelt_2 : decode cX4_spelt 2 = .ok (.aload_n 0, 1) := dk_42 (dk_at dksX4_spelt_0 2 rfl rfl)
theorem dX4_spelt_3 : decode cX4_spelt 3 = .ok (.getfield 77, 3) := dk_180 0 77 (dk_at dksX4_spelt_0 3 rfl rfl)
theorem dX4_spelt_6 : decode cX4_spelt 6 = .ok (.istore_n 3, 1) := dk_62 (dk_at dksX4_spelt_0 6 rfl rfl)
theorem dX4_spelt_7 : decode cX4_spelt 7 = .ok (.iload_n 3, 1) := dk_29 (dk_at dksX4_spelt_0 7 rfl rfl)
theorem dX4_spelt_8 : decode cX4_spelt 8 = .ok (.aload_n 0, 1) := dk_42 (dk_at dksX4_spelt_0 8 rfl rfl)
theorem dX4_spelt_9 : decode cX4_spelt 9 = .ok (.getfield 70, 3) := dk_180 0 70 (dk_at dksX4_spelt_0 9 rfl rfl)
theorem dX4_spelt_12 : decode cX4_spelt 12 = .ok (.if_icmp .ge 27, 3) := dk_162 0 27 (dk_at dksX4_spelt_0 12 rfl rfl)
theorem dX4_spelt_15 : decode cX4_spelt 15 = .ok (.ldc2_w 126, 3) := dk_20 0 126 (dk_at dksX4_spelt_0 15 rfl rfl)
theorem dX4_spelt_18 : decode cX4_spelt 18 = .ok (.lload_n 1, 1) := dk_31 (dk_at dksX4_spelt_0 18 rfl rfl)
theorem dX4_spelt_19 : decode cX4_spelt 19 = .ok (.lmul, 1) := dk_105 (dk_at dksX4_spelt_0 19 rfl rfl)
theorem dX4_spelt_20 : decode cX4_spelt 20 = .ok (.aload_n 0, 1) := dk_42 (dk_at dksX4_spelt_0 20 rfl rfl)
theorem dX4_spelt_21 : decode cX4_spelt 21 = .ok (.getfield 13, 3) := dk_180 0 13 (dk_at dksX4_spelt_0 21 rfl rfl)
theorem dX4_spelt_24 : decode cX4_spelt 24 = .ok (.iload_n 3, 1) := dk_29 (dk_at dksX4_spelt_1 0 rfl rfl)
theorem dX4_spelt_25 : decode cX4_spelt 25 = .ok (.iaload, 1) := dk_46 (dk_at dksX4_spelt_1 1 rfl rfl)
theorem dX4_spelt_26 : decode cX4_spelt 26 = .ok (.i2l, 1) := dk_133 (dk_at dksX4_spelt_1 2 rfl rfl)
theorem dX4_spelt_27 : decode cX4_spelt 27 = .ok (.ladd, 1) := dk_97 (dk_at dksX4_spelt_1 3 rfl rfl)
theorem dX4_spelt_28 : decode cX4_spelt 28 = .ok (.ldc2_w 128, 3) := dk_20 0 128 (dk_at dksX4_spelt_1 4 rfl rfl)
theorem dX4_spelt_31 : decode cX4_spelt 31 = .ok (.lsub, 1) := dk_101 (dk_at dksX4_spelt_1 7 rfl rfl)
theorem dX4_spelt_32 : decode cX4_spelt 32 = .ok (.lstore_n 1, 1) := dk_64 (dk_at dksX4_spelt_1 8 rfl rfl)
theorem dX4_spelt_33 : decode cX4_spelt 33 = .ok (.iinc 3 1, 3) := dk_132 3 1 (dk_at dksX4_spelt_1 9 rfl rfl)
theorem dX4_spelt_36 : decode cX4_spelt 36 = .ok (.goto (-29), 3) := dk_167 255 227 (dk_at dksX4_spelt_1 12 rfl rfl)
theorem dX4_spelt_39 : decode cX4_spelt 39 = .ok (.lload_n 1, 1) := dk_31 (dk_at dksX4_spelt_1 15 rfl rfl)
theorem dX4_spelt_40 : decode cX4_spelt 40 = .ok (.lreturn, 1) := dk_173 (dk_at dksX4_spelt_1 16 rfl rfl)
abbrev cX4_laysOwn : ByteArray := prog_19_method_20_code
def yX4_laysOwn : MethodName := ⟨RX4, "laysOwn", "(Ljava/lang/String;III)Z"⟩
def dkwX4_laysOwn_3 : List UInt8 := [180, 0, 20, 6, 46, 96, 29, 21, 4, 182, 0, 117, 172]
abbrev dktX4_laysOwn_3 : List UInt8 := dkwX4_laysOwn_3 ++ []
def dkwX4_laysOwn_2 : List UInt8 := [46, 42, 180, 0, 87, 160, 0, 9, 42, 6, 182, 0, 106, 172, 132, 5, 1, 167, 255, 212, 42, 28, 42]
abbrev dktX4_laysOwn_2 : List UInt8 := dkwX4_laysOwn_2 ++ dktX4_laysOwn_3
def dkwX4_laysOwn_1 : List UInt8 := [180, 0, 20, 6, 46, 162, 0, 39, 42, 180, 0, 80, 6, 160, 0, 25, 42, 180, 0, 20, 28, 21, 5, 96]
abbrev dktX4_laysOwn_1 : List UInt8 := dkwX4_laysOwn_1 ++ dktX4_laysOwn_2
def dkwX4_laysOwn_0 : List UInt8 := [42, 43, 182, 0, 113, 154, 0, 9, 42, 4, 182, 0, 106, 172, 42, 182, 0, 110, 3, 54, 5, 21, 5, 42]
abbrev dktX4_laysOwn_0 : List UInt8 := dkwX4_laysOwn_0 ++ dktX4_laysOwn_1
theorem dksX4_laysOwn_0 : cX4_laysOwn.data.toList.drop 0 = dktX4_laysOwn_0 := by decide +kernel
theorem dksX4_laysOwn_1 : cX4_laysOwn.data.toList.drop 24 = dktX4_laysOwn_1 := dk_seg dksX4_laysOwn_0 24 rfl rfl
theorem dksX4_laysOwn_2 : cX4_laysOwn.data.toList.drop 48 = dktX4_laysOwn_2 := dk_seg dksX4_laysOwn_1 24 rfl rfl
theorem dksX4_laysOwn_3 : cX4_laysOwn.data.toList.drop 71 = dktX4_laysOwn_3 := dk_seg dksX4_laysOwn_2 23 rfl rfl
theorem dX4_laysOwn_0 : decode cX4_laysOwn 0 = .ok (.aload_n 0, 1) := dk_42 (dk_at dksX4_laysOwn_0 0 rfl rfl)
theorem dX4_laysOwn_1 : decode cX4_laysOwn 1 = .ok (.aload_n 1, 1) := dk_43 (dk_at dksX4_laysOwn_0 1 rfl rfl)
theorem dX4_laysOwn_2 : decode cX4_laysOwn 2 = .ok (.invokevirtual 113, 3) := dk_182 0 113 (dk_at dksX4_laysOwn_0 2 rfl rfl)
theorem dX4_laysOwn_5 : decode cX4_laysOwn 5 = .ok (.ifCond .ne 9, 3) := dk_154 0 9 (dk_at dksX4_laysOwn_0 5 rfl rfl)
theorem dX4_laysOwn_8 : decode cX4_laysOwn 8 = .ok (.aload_n 0, 1) := dk_42 (dk_at dksX4_laysOwn_0 8 rfl rfl)
theorem dX4_laysOwn_9 : decode cX4_laysOwn 9 = .ok (.iconst 1, 1) := dk_4 (dk_at dksX4_laysOwn_0 9 rfl rfl)
theorem dX4_laysOwn_10 : decode cX4_laysOwn 10 = .ok (.invokevirtual 106, 3) := dk_182 0 106 (dk_at dksX4_laysOwn_0 10 rfl rfl)
theorem dX4_laysOwn_13 : decode cX4_laysOwn 13 = .ok (.ireturn, 1) := dk_172 (dk_at dksX4_laysOwn_0 13 rfl rfl)
theorem dX4_laysOwn_14 : decode cX4_laysOwn 14 = .ok (.aload_n 0, 1) := dk_42 (dk_at dksX4_laysOwn_0 14 rfl rfl)
theorem dX4_laysOwn_15 : decode cX4_laysOwn 15 = .ok (.invokevirtual 110, 3) := dk_182 0 110 (dk_at dksX4_laysOwn_0 15 rfl rfl)
theorem dX4_laysOwn_18 : decode cX4_laysOwn 18 = .ok (.iconst 0, 1) := dk_3 (dk_at dksX4_laysOwn_0 18 rfl rfl)
theorem dX4_laysOwn_19 : decode cX4_laysOwn 19 = .ok (.istore 5, 2) := dk_54 5 (dk_at dksX4_laysOwn_0 19 rfl rfl)
theorem dX4_laysOwn_21 : decode cX4_laysOwn 21 = .ok (.iload 5, 2) := dk_21 5 (dk_at dksX4_laysOwn_0 21 rfl rfl)
theorem dX4_laysOwn_23 : decode cX4_laysOwn 23 = .ok (.aload_n 0, 1) := dk_42 (dk_at dksX4_laysOwn_0 23 rfl rfl)
theorem dX4_laysOwn_24 : decode cX4_laysOwn 24 = .ok (.getfield 20, 3) := dk_180 0 20 (dk_at dksX4_laysOwn_1 0 rfl rfl)
theorem dX4_laysOwn_27 : decode cX4_laysOwn 27 = .ok (.iconst 3, 1) := dk_6 (dk_at dksX4_laysOwn_1 3 rfl rfl)
theorem dX4_laysOwn_28 : decode cX4_laysOwn 28 = .ok (.iaload, 1) := dk_46 (dk_at dksX4_laysOwn_1 4 rfl rfl)
theorem dX4_laysOwn_29 : decode cX4_laysOwn 29 = .ok (.if_icmp .ge 39, 3) := dk_162 0 39 (dk_at dksX4_laysOwn_1 5 rfl rfl)
theorem dX4_laysOwn_32 : decode cX4_laysOwn 32 = .ok (.aload_n 0, 1) := dk_42 (dk_at dksX4_laysOwn_1 8 rfl rfl)
theorem dX4_laysOwn_33 : decode cX4_laysOwn 33 = .ok (.getfield 80, 3) := dk_180 0 80 (dk_at dksX4_laysOwn_1 9 rfl rfl)
theorem dX4_laysOwn_36 : decode cX4_laysOwn 36 = .ok (.iconst 3, 1) := dk_6 (dk_at dksX4_laysOwn_1 12 rfl rfl)
theorem dX4_laysOwn_37 : decode cX4_laysOwn 37 = .ok (.if_icmp .ne 25, 3) := dk_160 0 25 (dk_at dksX4_laysOwn_1 13 rfl rfl)
theorem dX4_laysOwn_40 : decode cX4_laysOwn 40 = .ok (.aload_n 0, 1) := dk_42 (dk_at dksX4_laysOwn_1 16 rfl rfl)
theorem dX4_laysOwn_41 : decode cX4_laysOwn 41 = .ok (.getfield 20, 3) := dk_180 0 20 (dk_at dksX4_laysOwn_1 17 rfl rfl)
theorem dX4_laysOwn_44 : decode cX4_laysOwn 44 = .ok (.iload_n 2, 1) := dk_28 (dk_at dksX4_laysOwn_1 20 rfl rfl)
theorem dX4_laysOwn_45 : decode cX4_laysOwn 45 = .ok (.iload 5, 2) := dk_21 5 (dk_at dksX4_laysOwn_1 21 rfl rfl)
theorem dX4_laysOwn_47 : decode cX4_laysOwn 47 = .ok (.iadd, 1) := dk_96 (dk_at dksX4_laysOwn_1 23 rfl rfl)
theorem dX4_laysOwn_48 : decode cX4_laysOwn 48 = .ok (.iaload, 1) := dk_46 (dk_at dksX4_laysOwn_2 0 rfl rfl)
theorem dX4_laysOwn_49 : decode cX4_laysOwn 49 = .ok (.aload_n 0, 1) := dk_42 (dk_at dksX4_laysOwn_2 1 rfl rfl)
theorem dX4_laysOwn_50 : decode cX4_laysOwn 50 = .ok (.getfield 87, 3) := dk_180 0 87 (dk_at dksX4_laysOwn_2 2 rfl rfl)
theorem dX4_laysOwn_53 : decode cX4_laysOwn 53 = .ok (.if_icmp .ne 9, 3) := dk_160 0 9 (dk_at dksX4_laysOwn_2 5 rfl rfl)
theorem dX4_laysOwn_56 : decode cX4_laysOwn 56 = .ok (.aload_n 0, 1) := dk_42 (dk_at dksX4_laysOwn_2 8 rfl rfl)
theorem dX4_laysOwn_57 : decode cX4_laysOwn 57 = .ok (.iconst 3, 1) := dk_6 (dk_at dksX4_laysOwn_2 9 rfl rfl)
theorem dX4_laysOwn_58 : decode cX4_laysOwn 58 = .ok (.invokevirtual 106, 3) := dk_182 0 106 (dk_at dksX4_laysOwn_2 10 rfl rfl)
theorem dX4_laysOwn_61 : decode cX4_laysOwn 61 = .ok (.ireturn, 1) := dk_172 (dk_at dksX4_laysOwn_2 13 rfl rfl)
theorem dX4_laysOwn_62 : decode cX4_laysOwn 62 = .ok (.iinc 5 1, 3) := dk_132 5 1 (dk_at dksX4_laysOwn_2 14 rfl rfl)
theorem dX4_laysOwn_65 : decode cX4_laysOwn 65 = .ok (.goto (-44), 3) := dk_167 255 212 (dk_at dksX4_laysOwn_2 17 rfl rfl)
theorem dX4_laysOwn_68 : decode cX4_laysOwn 68 = .ok (.aload_n 0, 1) := dk_42 (dk_at dksX4_laysOwn_2 20 rfl rfl)
theorem dX4_laysOwn_69 : decode cX4_laysOwn 69 = .ok (.iload_n 2, 1) := dk_28 (dk_at dksX4_laysOwn_2 21 rfl rfl)
theorem dX4_laysOwn_70 : decode cX4_laysOwn 70 = .ok (.aload_n 0, 1) := dk_42 (dk_at dksX4_laysOwn_2 22 rfl rfl)
theorem dX4_laysOwn_71 : decode cX4_laysOwn 71 = .ok (.getfield 20, 3) := dk_180 0 20 (dk_at dksX4_laysOwn_3 0 rfl rfl)
theorem dX4_laysOwn_74 : decode cX4_laysOwn 74 = .ok (.iconst 3, 1) := dk_6 (dk_at dksX4_laysOwn_3 3 rfl rfl)
theorem dX4_laysOwn_75 : decode cX4_laysOwn 75 = .ok (.iaload, 1) := dk_46 (dk_at dksX4_laysOwn_3 4 rfl rfl)
theorem dX4_laysOwn_76 : decode cX4_laysOwn 76 = .ok (.iadd, 1) := dk_96 (dk_at dksX4_laysOwn_3 5 rfl rfl)
theorem dX4_laysOwn_77 : decode cX4_laysOwn 77 = .ok (.iload_n 3, 1) := dk_29 (dk_at dksX4_laysOwn_3 6 rfl rfl)
theorem dX4_laysOwn_78 : decode cX4_laysOwn 78 = .ok (.iload 4, 2) := dk_21 4 (dk_at dksX4_laysOwn_3 7 rfl rfl)
theorem dX4_laysOwn_80 : decode cX4_laysOwn 80 = .ok (.invokevirtual 117, 3) := dk_182 0 117 (dk_at dksX4_laysOwn_3 9 rfl rfl)
theorem dX4_laysOwn_83 : decode cX4_laysOwn 83 = .ok (.ireturn, 1) := dk_172 (dk_at dksX4_laysOwn_3 12 rfl rfl)
abbrev cX4_readAsk : ByteArray := prog_19_method_22_code
def yX4_readAsk : MethodName := ⟨RX4, "readAsk", "()Z"⟩
def dkwX4_readAsk_5 : List UInt8 := [182, 0, 117, 154, 0, 5, 3, 172, 42, 180, 0, 20, 7, 92, 46, 4, 96, 79, 4, 172]
abbrev dktX4_readAsk_5 : List UInt8 := dkwX4_readAsk_5 ++ []
def dkwX4_readAsk_4 : List UInt8 := [96, 46, 2, 160, 0, 9, 42, 5, 182, 0, 106, 172, 42, 182, 0, 110, 42, 16, 47, 27, 96, 4, 16, 99]
abbrev dktX4_readAsk_4 : List UInt8 := dkwX4_readAsk_4 ++ dktX4_readAsk_5
def dkwX4_readAsk_3 : List UInt8 := [182, 0, 106, 172, 42, 180, 0, 20, 16, 35, 27, 96, 42, 182, 0, 156, 79, 42, 180, 0, 20, 16, 35, 27]
abbrev dktX4_readAsk_3 : List UInt8 := dkwX4_readAsk_3 ++ dktX4_readAsk_4
def dkwX4_readAsk_2 : List UInt8 := [4, 100, 46, 17, 3, 231, 182, 0, 117, 154, 0, 5, 3, 172, 42, 182, 0, 152, 154, 0, 9, 42, 4]
abbrev dktX4_readAsk_2 : List UInt8 := dkwX4_readAsk_2 ++ dktX4_readAsk_3
def dkwX4_readAsk_1 : List UInt8 := [153, 0, 36, 42, 16, 23, 27, 96, 27, 154, 0, 7, 4, 167, 0, 14, 42, 180, 0, 20, 16, 23, 27, 96]
abbrev dktX4_readAsk_1 : List UInt8 := dkwX4_readAsk_1 ++ dktX4_readAsk_2
def dkwX4_readAsk_0 : List UInt8 := [42, 180, 0, 20, 7, 46, 60, 42, 27, 16, 12, 162, 0, 7, 4, 167, 0, 4, 3, 182, 0, 148]
abbrev dktX4_readAsk_0 : List UInt8 := dkwX4_readAsk_0 ++ dktX4_readAsk_1
theorem dksX4_readAsk_0 : cX4_readAsk.data.toList.drop 0 = dktX4_readAsk_0 := by decide +kernel
theorem dksX4_readAsk_1 : cX4_readAsk.data.toList.drop 22 = dktX4_readAsk_1 := dk_seg dksX4_readAsk_0 22 rfl rfl
theorem dksX4_readAsk_2 : cX4_readAsk.data.toList.drop 46 = dktX4_readAsk_2 := dk_seg dksX4_readAsk_1 24 rfl rfl
theorem dksX4_readAsk_3 : cX4_readAsk.data.toList.drop 69 = dktX4_readAsk_3 := dk_seg dksX4_readAsk_2 23 rfl rfl
theorem dksX4_readAsk_4 : cX4_readAsk.data.toList.drop 93 = dktX4_readAsk_4 := dk_seg dksX4_readAsk_3 24 rfl rfl
theorem dksX4_readAsk_5 : cX4_readAsk.data.toList.drop 117 = dktX4_readAsk_5 := dk_seg dksX4_readAsk_4 24 rfl rfl
theorem dX4_readAsk_0 : decode cX4_readAsk 0 = .ok (.aload_n 0, 1) := dk_42 (dk_at dksX4_readAsk_0 0 rfl rfl)
theorem dX4_readAsk_1 : decode cX4_readAsk 1 = .ok (.getfield 20, 3) := dk_180 0 20 (dk_at dksX4_readAsk_0 1 rfl rfl)
theorem dX4_readAsk_4 : decode cX4_readAsk 4 = .ok (.iconst 4, 1) := dk_7 (dk_at dksX4_readAsk_0 4 rfl rfl)
theorem dX4_readAsk_5 : decode cX4_readAsk 5 = .ok (.iaload, 1) := dk_46 (dk_at dksX4_readAsk_0 5 rfl rfl)
theorem dX4_readAsk_6 : decode cX4_readAsk 6 = .ok (.istore_n 1, 1) := dk_60 (dk_at dksX4_readAsk_0 6 rfl rfl)
theorem dX4_readAsk_7 : decode cX4_readAsk 7 = .ok (.aload_n 0, 1) := dk_42 (dk_at dksX4_readAsk_0 7 rfl rfl)
theorem dX4_readAsk_8 : decode cX4_readAsk 8 = .ok (.iload_n 1, 1) := dk_27 (dk_at dksX4_readAsk_0 8 rfl rfl)
theorem dX4_readAsk_9 : decode cX4_readAsk 9 = .ok (.bipush 12, 2) := dk_16 12 (dk_at dksX4_readAsk_0 9 rfl rfl)
theorem dX4_readAsk_11 : decode cX4_readAsk 11 = .ok (.if_icmp .ge 7, 3) := dk_162 0 7 (dk_at dksX4_readAsk_0 11 rfl rfl)
theorem dX4_readAsk_14 : decode cX4_readAsk 14 = .ok (.iconst 1, 1) := dk_4 (dk_at dksX4_readAsk_0 14 rfl rfl)
theorem dX4_readAsk_15 : decode cX4_readAsk 15 = .ok (.goto 4, 3) := dk_167 0 4 (dk_at dksX4_readAsk_0 15 rfl rfl)
theorem dX4_readAsk_18 : decode cX4_readAsk 18 = .ok (.iconst 0, 1) := dk_3 (dk_at dksX4_readAsk_0 18 rfl rfl)
theorem dX4_readAsk_19 : decode cX4_readAsk 19 = .ok (.invokevirtual 148, 3) := dk_182 0 148 (dk_at dksX4_readAsk_0 19 rfl rfl)
theorem dX4_readAsk_22 : decode cX4_readAsk 22 = .ok (.ifCond .eq 36, 3) := dk_153 0 36 (dk_at dksX4_readAsk_1 0 rfl rfl)
theorem dX4_readAsk_25 : decode cX4_readAsk 25 = .ok (.aload_n 0, 1) := dk_42 (dk_at dksX4_readAsk_1 3 rfl rfl)
theorem dX4_readAsk_26 : decode cX4_readAsk 26 = .ok (.bipush 23, 2) := dk_16 23 (dk_at dksX4_readAsk_1 4 rfl rfl)
theorem dX4_readAsk_28 : decode cX4_readAsk 28 = .ok (.iload_n 1, 1) := dk_27 (dk_at dksX4_readAsk_1 6 rfl rfl)
theorem dX4_readAsk_29 : decode cX4_readAsk 29 = .ok (.iadd, 1) := dk_96 (dk_at dksX4_readAsk_1 7 rfl rfl)
theorem dX4_readAsk_30 : decode cX4_readAsk 30 = .ok (.iload_n 1, 1) := dk_27 (dk_at dksX4_readAsk_1 8 rfl rfl)
theorem dX4_readAsk_31 : decode cX4_readAsk 31 = .ok (.ifCond .ne 7, 3) := dk_154 0 7 (dk_at dksX4_readAsk_1 9 rfl rfl)
theorem dX4_readAsk_34 : decode cX4_readAsk 34 = .ok (.iconst 1, 1) := dk_4 (dk_at dksX4_readAsk_1 12 rfl rfl)
theorem dX4_readAsk_35 : decode cX4_readAsk 35 = .ok (.goto 14, 3) := dk_167 0 14 (dk_at dksX4_readAsk_1 13 rfl rfl)
theorem dX4_readAsk_38 : decode cX4_readAsk 38 = .ok (.aload_n 0, 1) := dk_42 (dk_at dksX4_readAsk_1 16 rfl rfl)
theorem dX4_readAsk_39 : decode cX4_readAsk 39 = .ok (.getfield 20, 3) := dk_180 0 20 (dk_at dksX4_readAsk_1 17 rfl rfl)
theorem dX4_readAsk_42 : decode cX4_readAsk 42 = .ok (.bipush 23, 2) := dk_16 23 (dk_at dksX4_readAsk_1 20 rfl rfl)
theorem dX4_readAsk_44 : decode cX4_readAsk 44 = .ok (.iload_n 1, 1) := dk_27 (dk_at dksX4_readAsk_1 22 rfl rfl)
theorem dX4_readAsk_45 : decode cX4_readAsk 45 = .ok (.iadd, 1) := dk_96 (dk_at dksX4_readAsk_1 23 rfl rfl)
theorem dX4_readAsk_46 : decode cX4_readAsk 46 = .ok (.iconst 1, 1) := dk_4 (dk_at dksX4_readAsk_2 0 rfl rfl)
theorem dX4_readAsk_47 : decode cX4_readAsk 47 = .ok (.isub, 1) := dk_100 (dk_at dksX4_readAsk_2 1 rfl rfl)
theorem dX4_readAsk_48 : decode cX4_readAsk 48 = .ok (.iaload, 1) := dk_46 (dk_at dksX4_readAsk_2 2 rfl rfl)
theorem dX4_readAsk_49 : decode cX4_readAsk 49 = .ok (.sipush 999, 3) := dk_17 3 231 (dk_at dksX4_readAsk_2 3 rfl rfl)
theorem dX4_readAsk_52 : decode cX4_readAsk 52 = .ok (.invokevirtual 117, 3) := dk_182 0 117 (dk_at dksX4_readAsk_2 6 rfl rfl)
theorem dX4_readAsk_55 : decode cX4_readAsk 55 = .ok (.ifCond .ne 5, 3) := dk_154 0 5 (dk_at dksX4_readAsk_2 9 rfl rfl)
theorem dX4_readAsk_58 : decode cX4_readAsk 58 = .ok (.iconst 0, 1) := dk_3 (dk_at dksX4_readAsk_2 12 rfl rfl)
theorem dX4_readAsk_59 : decode cX4_readAsk 59 = .ok (.ireturn, 1) := dk_172 (dk_at dksX4_readAsk_2 13 rfl rfl)
theorem dX4_readAsk_60 : decode cX4_readAsk 60 = .ok (.aload_n 0, 1) := dk_42 (dk_at dksX4_readAsk_2 14 rfl rfl)
theorem dX4_readAsk_61 : decode cX4_readAsk 61 = .ok (.invokevirtual 152, 3) := dk_182 0 152 (dk_at dksX4_readAsk_2 15 rfl rfl)
theorem dX4_readAsk_64 : decode cX4_readAsk 64 = .ok (.ifCond .ne 9, 3) := dk_154 0 9 (dk_at dksX4_readAsk_2 18 rfl rfl)
theorem dX4_readAsk_67 : decode cX4_readAsk 67 = .ok (.aload_n 0, 1) := dk_42 (dk_at dksX4_readAsk_2 21 rfl rfl)
theorem dX4_readAsk_68 : decode cX4_readAsk 68 = .ok (.iconst 1, 1) := dk_4 (dk_at dksX4_readAsk_2 22 rfl rfl)
theorem dX4_readAsk_69 : decode cX4_readAsk 69 = .ok (.invokevirtual 106, 3) := dk_182 0 106 (dk_at dksX4_readAsk_3 0 rfl rfl)
theorem dX4_readAsk_72 : decode cX4_readAsk 72 = .ok (.ireturn, 1) := dk_172 (dk_at dksX4_readAsk_3 3 rfl rfl)
theorem dX4_readAsk_73 : decode cX4_readAsk 73 = .ok (.aload_n 0, 1) := dk_42 (dk_at dksX4_readAsk_3 4 rfl rfl)
theorem dX4_readAsk_74 : decode cX4_readAsk 74 = .ok (.getfield 20, 3) := dk_180 0 20 (dk_at dksX4_readAsk_3 5 rfl rfl)
theorem dX4_readAsk_77 : decode cX4_readAsk 77 = .ok (.bipush 35, 2) := dk_16 35 (dk_at dksX4_readAsk_3 8 rfl rfl)
theorem dX4_readAsk_79 : decode cX4_readAsk 79 = .ok (.iload_n 1, 1) := dk_27 (dk_at dksX4_readAsk_3 10 rfl rfl)
theorem dX4_readAsk_80 : decode cX4_readAsk 80 = .ok (.iadd, 1) := dk_96 (dk_at dksX4_readAsk_3 11 rfl rfl)
theorem dX4_readAsk_81 : decode cX4_readAsk 81 = .ok (.aload_n 0, 1) := dk_42 (dk_at dksX4_readAsk_3 12 rfl rfl)
theorem dX4_readAsk_82 : decode cX4_readAsk 82 = .ok (.invokevirtual 156, 3) := dk_182 0 156 (dk_at dksX4_readAsk_3 13 rfl rfl)
theorem dX4_readAsk_85 : decode cX4_readAsk 85 = .ok (.iastore, 1) := dk_79 (dk_at dksX4_readAsk_3 16 rfl rfl)
theorem dX4_readAsk_86 : decode cX4_readAsk 86 = .ok (.aload_n 0, 1) := dk_42 (dk_at dksX4_readAsk_3 17 rfl rfl)
theorem dX4_readAsk_87 : decode cX4_readAsk 87 = .ok (.getfield 20, 3) := dk_180 0 20 (dk_at dksX4_readAsk_3 18 rfl rfl)
theorem dX4_readAsk_90 : decode cX4_readAsk 90 = .ok (.bipush 35, 2) := dk_16 35 (dk_at dksX4_readAsk_3 21 rfl rfl)
theorem dX4_readAsk_92 : decode cX4_readAsk 92 = .ok (.iload_n 1, 1) := dk_27 (dk_at dksX4_readAsk_3 23 rfl rfl)
theorem dX4_readAsk_93 : decode cX4_readAsk 93 = .ok (.iadd, 1) := dk_96 (dk_at dksX4_readAsk_4 0 rfl rfl)
theorem dX4_readAsk_94 : decode cX4_readAsk 94 = .ok (.iaload, 1) := dk_46 (dk_at dksX4_readAsk_4 1 rfl rfl)
theorem dX4_readAsk_95 : decode cX4_readAsk 95 = .ok (.iconst (-1), 1) := dk_2 (dk_at dksX4_readAsk_4 2 rfl rfl)
theorem dX4_readAsk_96 : decode cX4_readAsk 96 = .ok (.if_icmp .ne 9, 3) := dk_160 0 9 (dk_at dksX4_readAsk_4 3 rfl rfl)
theorem dX4_readAsk_99 : decode cX4_readAsk 99 = .ok (.aload_n 0, 1) := dk_42 (dk_at dksX4_readAsk_4 6 rfl rfl)
theorem dX4_readAsk_100 : decode cX4_readAsk 100 = .ok (.iconst 2, 1) := dk_5 (dk_at dksX4_readAsk_4 7 rfl rfl)
theorem dX4_readAsk_101 : decode cX4_readAsk 101 = .ok (.invokevirtual 106, 3) := dk_182 0 106 (dk_at dksX4_readAsk_4 8 rfl rfl)
theorem dX4_readAsk_104 : decode cX4_readAsk 104 = .ok (.ireturn, 1) := dk_172 (dk_at dksX4_readAsk_4 11 rfl rfl)
theorem dX4_readAsk_105 : decode cX4_readAsk 105 = .ok (.aload_n 0, 1) := dk_42 (dk_at dksX4_readAsk_4 12 rfl rfl)
theorem dX4_readAsk_106 : decode cX4_readAsk 106 = .ok (.invokevirtual 110, 3) := dk_182 0 110 (dk_at dksX4_readAsk_4 13 rfl rfl)
theorem dX4_readAsk_109 : decode cX4_readAsk 109 = .ok (.aload_n 0, 1) := dk_42 (dk_at dksX4_readAsk_4 16 rfl rfl)
theorem dX4_readAsk_110 : decode cX4_readAsk 110 = .ok (.bipush 47, 2) := dk_16 47 (dk_at dksX4_readAsk_4 17 rfl rfl)
theorem dX4_readAsk_112 : decode cX4_readAsk 112 = .ok (.iload_n 1, 1) := dk_27 (dk_at dksX4_readAsk_4 19 rfl rfl)
theorem dX4_readAsk_113 : decode cX4_readAsk 113 = .ok (.iadd, 1) := dk_96 (dk_at dksX4_readAsk_4 20 rfl rfl)
theorem dX4_readAsk_114 : decode cX4_readAsk 114 = .ok (.iconst 1, 1) := dk_4 (dk_at dksX4_readAsk_4 21 rfl rfl)
theorem dX4_readAsk_115 : decode cX4_readAsk 115 = .ok (.bipush 99, 2) := dk_16 99 (dk_at dksX4_readAsk_4 22 rfl rfl)
theorem dX4_readAsk_117 : decode cX4_readAsk 117 = .ok (.invokevirtual 117, 3) := dk_182 0 117 (dk_at dksX4_readAsk_5 0 rfl rfl)
theorem dX4_readAsk_120 : decode cX4_readAsk 120 = .ok (.ifCond .ne 5, 3) := dk_154 0 5 (dk_at dksX4_readAsk_5 3 rfl rfl)
theorem dX4_readAsk_123 : decode cX4_readAsk 123 = .ok (.iconst 0, 1) := dk_3 (dk_at dksX4_readAsk_5 6 rfl rfl)
theorem dX4_readAsk_124 : decode cX4_readAsk 124 = .ok (.ireturn, 1) := dk_172 (dk_at dksX4_readAsk_5 7 rfl rfl)
theorem dX4_readAsk_125 : decode cX4_readAsk 125 = .ok (.aload_n 0, 1) := dk_42 (dk_at dksX4_readAsk_5 8 rfl rfl)
theorem dX4_readAsk_126 : decode cX4_readAsk 126 = .ok (.getfield 20, 3) := dk_180 0 20 (dk_at dksX4_readAsk_5 9 rfl rfl)
theorem dX4_readAsk_129 : decode cX4_readAsk 129 = .ok (.iconst 4, 1) := dk_7 (dk_at dksX4_readAsk_5 12 rfl rfl)
theorem dX4_readAsk_130 : decode cX4_readAsk 130 = .ok (.dup2, 1) := dk_92 (dk_at dksX4_readAsk_5 13 rfl rfl)
theorem dX4_readAsk_131 : decode cX4_readAsk 131 = .ok (.iaload, 1) := dk_46 (dk_at dksX4_readAsk_5 14 rfl rfl)
theorem dX4_readAsk_132 : decode cX4_readAsk 132 = .ok (.iconst 1, 1) := dk_4 (dk_at dksX4_readAsk_5 15 rfl rfl)
theorem dX4_readAsk_133 : decode cX4_readAsk 133 = .ok (.iadd, 1) := dk_96 (dk_at dksX4_readAsk_5 16 rfl rfl)
theorem dX4_readAsk_134 : decode cX4_readAsk 134 = .ok (.iastore, 1) := dk_79 (dk_at dksX4_readAsk_5 17 rfl rfl)
theorem dX4_readAsk_135 : decode cX4_readAsk 135 = .ok (.iconst 1, 1) := dk_4 (dk_at dksX4_readAsk_5 18 rfl rfl)
theorem dX4_readAsk_136 : decode cX4_readAsk 136 = .ok (.ireturn, 1) := dk_172 (dk_at dksX4_readAsk_5 19 rfl rfl)
abbrev cX4_no : ByteArray := prog_19_method_4_code
def yX4_no : MethodName := ⟨RX4, "no", "(I)I"⟩
def dkwX4_no_0 : List UInt8 := [42, 27, 181, 0, 57, 2, 172]
abbrev dktX4_no_0 : List UInt8 := dkwX4_no_0 ++ []
theorem dksX4_no_0 : cX4_no.data.toList.drop 0 = dktX4_no_0 := by decide +kernel
theorem dX4_no_0 : decode cX4_no 0 = .ok (.aload_n 0, 1) := dk_42 (dk_at dksX4_no_0 0 rfl rfl)
theorem dX4_no_1 : decode cX4_no 1 = .ok (.iload_n 1, 1) := dk_27 (dk_at dksX4_no_0 1 rfl rfl)
theorem dX4_no_2 : decode cX4_no 2 = .ok (.putfield 57, 3) := dk_181 0 57 (dk_at dksX4_no_0 2 rfl rfl)
theorem dX4_no_5 : decode cX4_no 5 = .ok (.iconst (-1), 1) := dk_2 (dk_at dksX4_no_0 5 rfl rfl)
theorem dX4_no_6 : decode cX4_no 6 = .ok (.ireturn, 1) := dk_172 (dk_at dksX4_no_0 6 rfl rfl)
abbrev cX4_beginsAnew : ByteArray := prog_19_method_29_code
def yX4_beginsAnew : MethodName := ⟨RX4, "beginsAnew", "()V"⟩
def dkwX4_beginsAnew_4 : List UInt8 := [16, 254, 79, 132, 1, 1, 167, 255, 211, 177]
abbrev dktX4_beginsAnew_4 : List UInt8 := dkwX4_beginsAnew_4 ++ []
def dkwX4_beginsAnew_3 : List UInt8 := [4, 79, 42, 180, 0, 27, 27, 6, 184, 0, 201, 16, 254, 79, 42, 180, 0, 27, 27, 16, 10, 184, 0, 201]
abbrev dktX4_beginsAnew_3 : List UInt8 := dkwX4_beginsAnew_3 ++ dktX4_beginsAnew_4
def dkwX4_beginsAnew_2 : List UInt8 := [180, 0, 27, 7, 16, 254, 79, 3, 60, 27, 16, 6, 162, 0, 45, 42, 180, 0, 27, 27, 5, 184, 0, 201]
abbrev dktX4_beginsAnew_2 : List UInt8 := dkwX4_beginsAnew_2 ++ dktX4_beginsAnew_3
def dkwX4_beginsAnew_1 : List UInt8 := [180, 0, 27, 4, 16, 254, 79, 42, 180, 0, 27, 5, 16, 254, 79, 42, 180, 0, 27, 6, 16, 254, 79, 42]
abbrev dktX4_beginsAnew_1 : List UInt8 := dkwX4_beginsAnew_1 ++ dktX4_beginsAnew_2
def dkwX4_beginsAnew_0 : List UInt8 := [3, 60, 27, 17, 0, 251, 162, 0, 16, 42, 180, 0, 27, 27, 3, 79, 132, 1, 1, 167, 255, 239, 42]
abbrev dktX4_beginsAnew_0 : List UInt8 := dkwX4_beginsAnew_0 ++ dktX4_beginsAnew_1
theorem dksX4_beginsAnew_0 : cX4_beginsAnew.data.toList.drop 0 = dktX4_beginsAnew_0 := by decide +kernel
theorem dksX4_beginsAnew_1 : cX4_beginsAnew.data.toList.drop 23 = dktX4_beginsAnew_1 := dk_seg dksX4_beginsAnew_0 23 rfl rfl
theorem dksX4_beginsAnew_2 : cX4_beginsAnew.data.toList.drop 47 = dktX4_beginsAnew_2 := dk_seg dksX4_beginsAnew_1 24 rfl rfl
theorem dksX4_beginsAnew_3 : cX4_beginsAnew.data.toList.drop 71 = dktX4_beginsAnew_3 := dk_seg dksX4_beginsAnew_2 24 rfl rfl
theorem dksX4_beginsAnew_4 : cX4_beginsAnew.data.toList.drop 95 = dktX4_beginsAnew_4 := dk_seg dksX4_beginsAnew_3 24 rfl rfl
theorem dX4_beginsAnew_0 : decode cX4_beginsAnew 0 = .ok (.iconst 0, 1) := dk_3 (dk_at dksX4_beginsAnew_0 0 rfl rfl)
theorem dX4_beginsAnew_1 : decode cX4_beginsAnew 1 = .ok (.istore_n 1, 1) := dk_60 (dk_at dksX4_beginsAnew_0 1 rfl rfl)
theorem dX4_beginsAnew_2 : decode cX4_beginsAnew 2 = .ok (.iload_n 1, 1) := dk_27 (dk_at dksX4_beginsAnew_0 2 rfl rfl)
theorem dX4_beginsAnew_3 : decode cX4_beginsAnew 3 = .ok (.sipush 251, 3) := dk_17 0 251 (dk_at dksX4_beginsAnew_0 3 rfl rfl)
theorem dX4_beginsAnew_6 : decode cX4_beginsAnew 6 = .ok (.if_icmp .ge 16, 3) := dk_162 0 16 (dk_at dksX4_beginsAnew_0 6 rfl rfl)
theorem dX4_beginsAnew_9 : decode cX4_beginsAnew 9 = .ok (.aload_n 0, 1) := dk_42 (dk_at dksX4_beginsAnew_0 9 rfl rfl)
theorem dX4_beginsAnew_10 : decode cX4_beginsAnew 10 = .ok (.getfield 27, 3) := dk_180 0 27 (dk_at dksX4_beginsAnew_0 10 rfl rfl)
theorem dX4_beginsAnew_13 : decode cX4_beginsAnew 13 = .ok (.iload_n 1, 1) := dk_27 (dk_at dksX4_beginsAnew_0 13 rfl rfl)
theorem dX4_beginsAnew_14 : decode cX4_beginsAnew 14 = .ok (.iconst 0, 1) := dk_3 (dk_at dksX4_beginsAnew_0 14 rfl rfl)
theorem dX4_beginsAnew_15 : decode cX4_beginsAnew 15 = .ok (.iastore, 1) := dk_79 (dk_at dksX4_beginsAnew_0 15 rfl rfl)
theorem dX4_beginsAnew_16 : decode cX4_beginsAnew 16 = .ok (.iinc 1 1, 3) := dk_132 1 1 (dk_at dksX4_beginsAnew_0 16 rfl rfl)
theorem dX4_beginsAnew_19 : decode cX4_beginsAnew 19 = .ok (.goto (-17), 3) := dk_167 255 239 (dk_at dksX4_beginsAnew_0 19 rfl rfl)
theorem dX4_beginsAnew_22 : decode cX4_beginsAnew 22 = .ok (.aload_n 0, 1) := dk_42 (dk_at dksX4_beginsAnew_0 22 rfl rfl)
theorem dX4_beginsAnew_23 : decode cX4_beginsAnew 23 = .ok (.getfield 27, 3) := dk_180 0 27 (dk_at dksX4_beginsAnew_1 0 rfl rfl)
theorem dX4_beginsAnew_26 : decode cX4_beginsAnew 26 = .ok (.iconst 1, 1) := dk_4 (dk_at dksX4_beginsAnew_1 3 rfl rfl)
theorem dX4_beginsAnew_27 : decode cX4_beginsAnew 27 = .ok (.bipush (-2), 2) := dk_16 254 (dk_at dksX4_beginsAnew_1 4 rfl rfl)
theorem dX4_beginsAnew_29 : decode cX4_beginsAnew 29 = .ok (.iastore, 1) := dk_79 (dk_at dksX4_beginsAnew_1 6 rfl rfl)
theorem dX4_beginsAnew_30 : decode cX4_beginsAnew 30 = .ok (.aload_n 0, 1) := dk_42 (dk_at dksX4_beginsAnew_1 7 rfl rfl)
theorem dX4_beginsAnew_31 : decode cX4_beginsAnew 31 = .ok (.getfield 27, 3) := dk_180 0 27 (dk_at dksX4_beginsAnew_1 8 rfl rfl)
theorem dX4_beginsAnew_34 : decode cX4_beginsAnew 34 = .ok (.iconst 2, 1) := dk_5 (dk_at dksX4_beginsAnew_1 11 rfl rfl)
theorem dX4_beginsAnew_35 : decode cX4_beginsAnew 35 = .ok (.bipush (-2), 2) := dk_16 254 (dk_at dksX4_beginsAnew_1 12 rfl rfl)
theorem dX4_beginsAnew_37 : decode cX4_beginsAnew 37 = .ok (.iastore, 1) := dk_79 (dk_at dksX4_beginsAnew_1 14 rfl rfl)
theorem dX4_beginsAnew_38 : decode cX4_beginsAnew 38 = .ok (.aload_n 0, 1) := dk_42 (dk_at dksX4_beginsAnew_1 15 rfl rfl)
theorem dX4_beginsAnew_39 : decode cX4_beginsAnew 39 = .ok (.getfield 27, 3) := dk_180 0 27 (dk_at dksX4_beginsAnew_1 16 rfl rfl)
theorem dX4_beginsAnew_42 : decode cX4_beginsAnew 42 = .ok (.iconst 3, 1) := dk_6 (dk_at dksX4_beginsAnew_1 19 rfl rfl)
theorem dX4_beginsAnew_43 : decode cX4_beginsAnew 43 = .ok (.bipush (-2), 2) := dk_16 254 (dk_at dksX4_beginsAnew_1 20 rfl rfl)
theorem dX4_beginsAnew_45 : decode cX4_beginsAnew 45 = .ok (.iastore, 1) := dk_79 (dk_at dksX4_beginsAnew_1 22 rfl rfl)
theorem dX4_beginsAnew_46 : decode cX4_beginsAnew 46 = .ok (.aload_n 0, 1) := dk_42 (dk_at dksX4_beginsAnew_1 23 rfl rfl)
theorem dX4_beginsAnew_47 : decode cX4_beginsAnew 47 = .ok (.getfield 27, 3) := dk_180 0 27 (dk_at dksX4_beginsAnew_2 0 rfl rfl)
theorem dX4_beginsAnew_50 : decode cX4_beginsAnew 50 = .ok (.iconst 4, 1) := dk_7 (dk_at dksX4_beginsAnew_2 3 rfl rfl)
theorem dX4_beginsAnew_51 : decode cX4_beginsAnew 51 = .ok (.bipush (-2), 2) := dk_16 254 (dk_at dksX4_beginsAnew_2 4 rfl rfl)
theorem dX4_beginsAnew_53 : decode cX4_beginsAnew 53 = .ok (.iastore, 1) := dk_79 (dk_at dksX4_beginsAnew_2 6 rfl rfl)
theorem dX4_beginsAnew_54 : decode cX4_beginsAnew 54 = .ok (.iconst 0, 1) := dk_3 (dk_at dksX4_beginsAnew_2 7 rfl rfl)
theorem dX4_beginsAnew_55 : decode cX4_beginsAnew 55 = .ok (.istore_n 1, 1) := dk_60 (dk_at dksX4_beginsAnew_2 8 rfl rfl)
theorem dX4_beginsAnew_56 : decode cX4_beginsAnew 56 = .ok (.iload_n 1, 1) := dk_27 (dk_at dksX4_beginsAnew_2 9 rfl rfl)
theorem dX4_beginsAnew_57 : decode cX4_beginsAnew 57 = .ok (.bipush 6, 2) := dk_16 6 (dk_at dksX4_beginsAnew_2 10 rfl rfl)
theorem dX4_beginsAnew_59 : decode cX4_beginsAnew 59 = .ok (.if_icmp .ge 45, 3) := dk_162 0 45 (dk_at dksX4_beginsAnew_2 12 rfl rfl)
theorem dX4_beginsAnew_62 : decode cX4_beginsAnew 62 = .ok (.aload_n 0, 1) := dk_42 (dk_at dksX4_beginsAnew_2 15 rfl rfl)
theorem dX4_beginsAnew_63 : decode cX4_beginsAnew 63 = .ok (.getfield 27, 3) := dk_180 0 27 (dk_at dksX4_beginsAnew_2 16 rfl rfl)
theorem dX4_beginsAnew_66 : decode cX4_beginsAnew 66 = .ok (.iload_n 1, 1) := dk_27 (dk_at dksX4_beginsAnew_2 19 rfl rfl)
theorem dX4_beginsAnew_67 : decode cX4_beginsAnew 67 = .ok (.iconst 2, 1) := dk_5 (dk_at dksX4_beginsAnew_2 20 rfl rfl)
theorem dX4_beginsAnew_68 : decode cX4_beginsAnew 68 = .ok (.invokestatic 201, 3) := dk_184 0 201 (dk_at dksX4_beginsAnew_2 21 rfl rfl)
theorem dX4_beginsAnew_71 : decode cX4_beginsAnew 71 = .ok (.iconst 1, 1) := dk_4 (dk_at dksX4_beginsAnew_3 0 rfl rfl)
theorem dX4_beginsAnew_72 : decode cX4_beginsAnew 72 = .ok (.iastore, 1) := dk_79 (dk_at dksX4_beginsAnew_3 1 rfl rfl)
theorem dX4_beginsAnew_73 : decode cX4_beginsAnew 73 = .ok (.aload_n 0, 1) := dk_42 (dk_at dksX4_beginsAnew_3 2 rfl rfl)
theorem dX4_beginsAnew_74 : decode cX4_beginsAnew 74 = .ok (.getfield 27, 3) := dk_180 0 27 (dk_at dksX4_beginsAnew_3 3 rfl rfl)
theorem dX4_beginsAnew_77 : decode cX4_beginsAnew 77 = .ok (.iload_n 1, 1) := dk_27 (dk_at dksX4_beginsAnew_3 6 rfl rfl)
theorem dX4_beginsAnew_78 : decode cX4_beginsAnew 78 = .ok (.iconst 3, 1) := dk_6 (dk_at dksX4_beginsAnew_3 7 rfl rfl)
theorem dX4_beginsAnew_79 : decode cX4_beginsAnew 79 = .ok (.invokestatic 201, 3) := dk_184 0 201 (dk_at dksX4_beginsAnew_3 8 rfl rfl)
theorem dX4_beginsAnew_82 : decode cX4_beginsAnew 82 = .ok (.bipush (-2), 2) := dk_16 254 (dk_at dksX4_beginsAnew_3 11 rfl rfl)
theorem dX4_beginsAnew_84 : decode cX4_beginsAnew 84 = .ok (.iastore, 1) := dk_79 (dk_at dksX4_beginsAnew_3 13 rfl rfl)
theorem dX4_beginsAnew_85 : decode cX4_beginsAnew 85 = .ok (.aload_n 0, 1) := dk_42 (dk_at dksX4_beginsAnew_3 14 rfl rfl)
theorem dX4_beginsAnew_86 : decode cX4_beginsAnew 86 = .ok (.getfield 27, 3) := dk_180 0 27 (dk_at dksX4_beginsAnew_3 15 rfl rfl)
theorem dX4_beginsAnew_89 : decode cX4_beginsAnew 89 = .ok (.iload_n 1, 1) := dk_27 (dk_at dksX4_beginsAnew_3 18 rfl rfl)
theorem dX4_beginsAnew_90 : decode cX4_beginsAnew 90 = .ok (.bipush 10, 2) := dk_16 10 (dk_at dksX4_beginsAnew_3 19 rfl rfl)
theorem dX4_beginsAnew_92 : decode cX4_beginsAnew 92 = .ok (.invokestatic 201, 3) := dk_184 0 201 (dk_at dksX4_beginsAnew_3 21 rfl rfl)
theorem dX4_beginsAnew_95 : decode cX4_beginsAnew 95 = .ok (.bipush (-2), 2) := dk_16 254 (dk_at dksX4_beginsAnew_4 0 rfl rfl)
theorem dX4_beginsAnew_97 : decode cX4_beginsAnew 97 = .ok (.iastore, 1) := dk_79 (dk_at dksX4_beginsAnew_4 2 rfl rfl)
theorem dX4_beginsAnew_98 : decode cX4_beginsAnew 98 = .ok (.iinc 1 1, 3) := dk_132 1 1 (dk_at dksX4_beginsAnew_4 3 rfl rfl)
theorem dX4_beginsAnew_101 : decode cX4_beginsAnew 101 = .ok (.goto (-45), 3) := dk_167 255 211 (dk_at dksX4_beginsAnew_4 6 rfl rfl)
theorem dX4_beginsAnew_104 : decode cX4_beginsAnew 104 = .ok (.return_, 1) := dk_177 (dk_at dksX4_beginsAnew_4 9 rfl rfl)
abbrev cX4_at : ByteArray := prog_19_method_28_code
def yX4_at : MethodName := ⟨RX4, "at", "(II)I"⟩
def dkwX4_at_0 : List UInt8 := [16, 18, 16, 12, 26, 104, 96, 27, 96, 172]
abbrev dktX4_at_0 : List UInt8 := dkwX4_at_0 ++ []
theorem dksX4_at_0 : cX4_at.data.toList.drop 0 = dktX4_at_0 := by decide +kernel
theorem dX4_at_0 : decode cX4_at 0 = .ok (.bipush 18, 2) := dk_16 18 (dk_at dksX4_at_0 0 rfl rfl)
theorem dX4_at_2 : decode cX4_at 2 = .ok (.bipush 12, 2) := dk_16 12 (dk_at dksX4_at_0 2 rfl rfl)
theorem dX4_at_4 : decode cX4_at 4 = .ok (.iload_n 0, 1) := dk_26 (dk_at dksX4_at_0 4 rfl rfl)
theorem dX4_at_5 : decode cX4_at 5 = .ok (.imul, 1) := dk_104 (dk_at dksX4_at_0 5 rfl rfl)
theorem dX4_at_6 : decode cX4_at 6 = .ok (.iadd, 1) := dk_96 (dk_at dksX4_at_0 6 rfl rfl)
theorem dX4_at_7 : decode cX4_at 7 = .ok (.iload_n 1, 1) := dk_27 (dk_at dksX4_at_0 7 rfl rfl)
theorem dX4_at_8 : decode cX4_at 8 = .ok (.iadd, 1) := dk_96 (dk_at dksX4_at_0 8 rfl rfl)
theorem dX4_at_9 : decode cX4_at 9 = .ok (.ireturn, 1) := dk_172 (dk_at dksX4_at_0 9 rfl rfl)
abbrev cX4_fault : ByteArray := prog_19_method_26_code
def yX4_fault : MethodName := ⟨RX4, "fault", "()I"⟩
def dkwX4_fault_0 : List UInt8 := [42, 3, 181, 0, 54, 42, 180, 0, 183, 172]
abbrev dktX4_fault_0 : List UInt8 := dkwX4_fault_0 ++ []
theorem dksX4_fault_0 : cX4_fault.data.toList.drop 0 = dktX4_fault_0 := by decide +kernel
theorem dX4_fault_0 : decode cX4_fault 0 = .ok (.aload_n 0, 1) := dk_42 (dk_at dksX4_fault_0 0 rfl rfl)
theorem dX4_fault_1 : decode cX4_fault 1 = .ok (.iconst 0, 1) := dk_3 (dk_at dksX4_fault_0 1 rfl rfl)
theorem dX4_fault_2 : decode cX4_fault 2 = .ok (.putfield 54, 3) := dk_181 0 54 (dk_at dksX4_fault_0 2 rfl rfl)
theorem dX4_fault_5 : decode cX4_fault 5 = .ok (.aload_n 0, 1) := dk_42 (dk_at dksX4_fault_0 5 rfl rfl)
theorem dX4_fault_6 : decode cX4_fault 6 = .ok (.getfield 183, 3) := dk_180 0 183 (dk_at dksX4_fault_0 6 rfl rfl)
theorem dX4_fault_9 : decode cX4_fault 9 = .ok (.ireturn, 1) := dk_172 (dk_at dksX4_fault_0 9 rfl rfl)
abbrev cX4_where : ByteArray := prog_19_method_27_code
def yX4_where : MethodName := ⟨RX4, "where", "()I"⟩
def dkwX4_where_0 : List UInt8 := [42, 3, 181, 0, 54, 42, 180, 0, 57, 7, 160, 0, 10, 42, 180, 0, 9, 167, 0, 4, 2, 172]
abbrev dktX4_where_0 : List UInt8 := dkwX4_where_0 ++ []
theorem dksX4_where_0 : cX4_where.data.toList.drop 0 = dktX4_where_0 := by decide +kernel
theorem dX4_where_0 : decode cX4_where 0 = .ok (.aload_n 0, 1) := dk_42 (dk_at dksX4_where_0 0 rfl rfl)
theorem dX4_where_1 : decode cX4_where 1 = .ok (.iconst 0, 1) := dk_3 (dk_at dksX4_where_0 1 rfl rfl)
theorem dX4_where_2 : decode cX4_where 2 = .ok (.putfield 54, 3) := dk_181 0 54 (dk_at dksX4_where_0 2 rfl rfl)
theorem dX4_where_5 : decode cX4_where 5 = .ok (.aload_n 0, 1) := dk_42 (dk_at dksX4_where_0 5 rfl rfl)
theorem dX4_where_6 : decode cX4_where 6 = .ok (.getfield 57, 3) := dk_180 0 57 (dk_at dksX4_where_0 6 rfl rfl)
theorem dX4_where_9 : decode cX4_where 9 = .ok (.iconst 4, 1) := dk_7 (dk_at dksX4_where_0 9 rfl rfl)
theorem dX4_where_10 : decode cX4_where 10 = .ok (.if_icmp .ne 10, 3) := dk_160 0 10 (dk_at dksX4_where_0 10 rfl rfl)
theorem dX4_where_13 : decode cX4_where 13 = .ok (.aload_n 0, 1) := dk_42 (dk_at dksX4_where_0 13 rfl rfl)
theorem dX4_where_14 : decode cX4_where 14 = .ok (.getfield 9, 3) := dk_180 0 9 (dk_at dksX4_where_0 14 rfl rfl)
theorem dX4_where_17 : decode cX4_where 17 = .ok (.goto 4, 3) := dk_167 0 4 (dk_at dksX4_where_0 17 rfl rfl)
theorem dX4_where_20 : decode cX4_where 20 = .ok (.iconst (-1), 1) := dk_2 (dk_at dksX4_where_0 20 rfl rfl)
theorem dX4_where_21 : decode cX4_where 21 = .ok (.ireturn, 1) := dk_172 (dk_at dksX4_where_0 21 rfl rfl)
abbrev cX4_drives : ByteArray := prog_19_method_54_code
def yX4_drives : MethodName := ⟨RX4, "drives", "(IIII)I"⟩
def dkwX4_drives_1 : List UInt8 := [28, 182, 1, 19, 42, 180, 0, 39, 29, 21, 4, 184, 0, 224, 46, 172]
abbrev dktX4_drives_1 : List UInt8 := dkwX4_drives_1 ++ []
def dkwX4_drives_0 : List UInt8 := [42, 42, 42, 29, 182, 1, 12, 27, 28, 21, 4, 182, 1, 15, 182, 0, 180, 153, 0, 5, 2, 172, 42, 27]
abbrev dktX4_drives_0 : List UInt8 := dkwX4_drives_0 ++ dktX4_drives_1
theorem dksX4_drives_0 : cX4_drives.data.toList.drop 0 = dktX4_drives_0 := by decide +kernel
theorem dksX4_drives_1 : cX4_drives.data.toList.drop 24 = dktX4_drives_1 := dk_seg dksX4_drives_0 24 rfl rfl
theorem dX4_drives_0 : decode cX4_drives 0 = .ok (.aload_n 0, 1) := dk_42 (dk_at dksX4_drives_0 0 rfl rfl)
theorem dX4_drives_1 : decode cX4_drives 1 = .ok (.aload_n 0, 1) := dk_42 (dk_at dksX4_drives_0 1 rfl rfl)
theorem dX4_drives_2 : decode cX4_drives 2 = .ok (.aload_n 0, 1) := dk_42 (dk_at dksX4_drives_0 2 rfl rfl)
theorem dX4_drives_3 : decode cX4_drives 3 = .ok (.iload_n 3, 1) := dk_29 (dk_at dksX4_drives_0 3 rfl rfl)
theorem dX4_drives_4 : decode cX4_drives 4 = .ok (.invokevirtual 268, 3) := dk_182 1 12 (dk_at dksX4_drives_0 4 rfl rfl)
theorem dX4_drives_7 : decode cX4_drives 7 = .ok (.iload_n 1, 1) := dk_27 (dk_at dksX4_drives_0 7 rfl rfl)
theorem dX4_drives_8 : decode cX4_drives 8 = .ok (.iload_n 2, 1) := dk_28 (dk_at dksX4_drives_0 8 rfl rfl)
theorem dX4_drives_9 : decode cX4_drives 9 = .ok (.iload 4, 2) := dk_21 4 (dk_at dksX4_drives_0 9 rfl rfl)
theorem dX4_drives_11 : decode cX4_drives 11 = .ok (.invokevirtual 271, 3) := dk_182 1 15 (dk_at dksX4_drives_0 11 rfl rfl)
theorem dX4_drives_14 : decode cX4_drives 14 = .ok (.invokevirtual 180, 3) := dk_182 0 180 (dk_at dksX4_drives_0 14 rfl rfl)
theorem dX4_drives_17 : decode cX4_drives 17 = .ok (.ifCond .eq 5, 3) := dk_153 0 5 (dk_at dksX4_drives_0 17 rfl rfl)
theorem dX4_drives_20 : decode cX4_drives 20 = .ok (.iconst (-1), 1) := dk_2 (dk_at dksX4_drives_0 20 rfl rfl)
theorem dX4_drives_21 : decode cX4_drives 21 = .ok (.ireturn, 1) := dk_172 (dk_at dksX4_drives_0 21 rfl rfl)
theorem dX4_drives_22 : decode cX4_drives 22 = .ok (.aload_n 0, 1) := dk_42 (dk_at dksX4_drives_0 22 rfl rfl)
theorem dX4_drives_23 : decode cX4_drives 23 = .ok (.iload_n 1, 1) := dk_27 (dk_at dksX4_drives_0 23 rfl rfl)
theorem dX4_drives_24 : decode cX4_drives 24 = .ok (.iload_n 2, 1) := dk_28 (dk_at dksX4_drives_1 0 rfl rfl)
theorem dX4_drives_25 : decode cX4_drives 25 = .ok (.invokevirtual 275, 3) := dk_182 1 19 (dk_at dksX4_drives_1 1 rfl rfl)
theorem dX4_drives_28 : decode cX4_drives 28 = .ok (.aload_n 0, 1) := dk_42 (dk_at dksX4_drives_1 4 rfl rfl)
theorem dX4_drives_29 : decode cX4_drives 29 = .ok (.getfield 39, 3) := dk_180 0 39 (dk_at dksX4_drives_1 5 rfl rfl)
theorem dX4_drives_32 : decode cX4_drives 32 = .ok (.iload_n 3, 1) := dk_29 (dk_at dksX4_drives_1 8 rfl rfl)
theorem dX4_drives_33 : decode cX4_drives 33 = .ok (.iload 4, 2) := dk_21 4 (dk_at dksX4_drives_1 9 rfl rfl)
theorem dX4_drives_35 : decode cX4_drives 35 = .ok (.invokestatic 224, 3) := dk_184 0 224 (dk_at dksX4_drives_1 11 rfl rfl)
theorem dX4_drives_38 : decode cX4_drives 38 = .ok (.iaload, 1) := dk_46 (dk_at dksX4_drives_1 14 rfl rfl)
theorem dX4_drives_39 : decode cX4_drives 39 = .ok (.ireturn, 1) := dk_172 (dk_at dksX4_drives_1 15 rfl rfl)
abbrev cX4_isBoard : ByteArray := prog_19_method_30_code
def yX4_isBoard : MethodName := ⟨RX4, "isBoard", "(I)Z"⟩
def dkwX4_isBoard_1 : List UInt8 := [167, 0, 4, 3, 172]
abbrev dktX4_isBoard_1 : List UInt8 := dkwX4_isBoard_1 ++ []
def dkwX4_isBoard_0 : List UInt8 := [42, 180, 0, 192, 153, 0, 23, 27, 3, 42, 180, 0, 17, 6, 46, 4, 100, 184, 0, 83, 153, 0, 7, 4]
abbrev dktX4_isBoard_0 : List UInt8 := dkwX4_isBoard_0 ++ dktX4_isBoard_1
theorem dksX4_isBoard_0 : cX4_isBoard.data.toList.drop 0 = dktX4_isBoard_0 := by decide +kernel
theorem dksX4_isBoard_1 : cX4_isBoard.data.toList.drop 24 = dktX4_isBoard_1 := dk_seg dksX4_isBoard_0 24 rfl rfl
theorem dX4_isBoard_0 : decode cX4_isBoard 0 = .ok (.aload_n 0, 1) := dk_42 (dk_at dksX4_isBoard_0 0 rfl rfl)
theorem dX4_isBoard_1 : decode cX4_isBoard 1 = .ok (.getfield 192, 3) := dk_180 0 192 (dk_at dksX4_isBoard_0 1 rfl rfl)
theorem dX4_isBoard_4 : decode cX4_isBoard 4 = .ok (.ifCond .eq 23, 3) := dk_153 0 23 (dk_at dksX4_isBoard_0 4 rfl rfl)
theorem dX4_isBoard_7 : decode cX4_isBoard 7 = .ok (.iload_n 1, 1) := dk_27 (dk_at dksX4_isBoard_0 7 rfl rfl)
theorem dX4_isBoard_8 : decode cX4_isBoard 8 = .ok (.iconst 0, 1) := dk_3 (dk_at dksX4_isBoard_0 8 rfl rfl)
theorem dX4_isBoard_9 : decode cX4_isBoard 9 = .ok (.aload_n 0, 1) := dk_42 (dk_at dksX4_isBoard_0 9 rfl rfl)
theorem dX4_isBoard_10 : decode cX4_isBoard 10 = .ok (.getfield 17, 3) := dk_180 0 17 (dk_at dksX4_isBoard_0 10 rfl rfl)
theorem dX4_isBoard_13 : decode cX4_isBoard 13 = .ok (.iconst 3, 1) := dk_6 (dk_at dksX4_isBoard_0 13 rfl rfl)
theorem dX4_isBoard_14 : decode cX4_isBoard 14 = .ok (.iaload, 1) := dk_46 (dk_at dksX4_isBoard_0 14 rfl rfl)
theorem dX4_isBoard_15 : decode cX4_isBoard 15 = .ok (.iconst 1, 1) := dk_4 (dk_at dksX4_isBoard_0 15 rfl rfl)
theorem dX4_isBoard_16 : decode cX4_isBoard 16 = .ok (.isub, 1) := dk_100 (dk_at dksX4_isBoard_0 16 rfl rfl)
theorem dX4_isBoard_17 : decode cX4_isBoard 17 = .ok (.invokestatic 83, 3) := dk_184 0 83 (dk_at dksX4_isBoard_0 17 rfl rfl)
theorem dX4_isBoard_20 : decode cX4_isBoard 20 = .ok (.ifCond .eq 7, 3) := dk_153 0 7 (dk_at dksX4_isBoard_0 20 rfl rfl)
theorem dX4_isBoard_23 : decode cX4_isBoard 23 = .ok (.iconst 1, 1) := dk_4 (dk_at dksX4_isBoard_0 23 rfl rfl)
theorem dX4_isBoard_24 : decode cX4_isBoard 24 = .ok (.goto 4, 3) := dk_167 0 4 (dk_at dksX4_isBoard_1 0 rfl rfl)
theorem dX4_isBoard_27 : decode cX4_isBoard 27 = .ok (.iconst 0, 1) := dk_3 (dk_at dksX4_isBoard_1 3 rfl rfl)
theorem dX4_isBoard_28 : decode cX4_isBoard 28 = .ok (.ireturn, 1) := dk_172 (dk_at dksX4_isBoard_1 4 rfl rfl)
abbrev cX4_passWhy : ByteArray := prog_19_method_53_code
def yX4_passWhy : MethodName := ⟨RX4, "passWhy", "(ZIII)I"⟩
def dkwX4_passWhy_2 : List UInt8 := [5, 172]
abbrev dktX4_passWhy_2 : List UInt8 := dkwX4_passWhy_2 ++ []
def dkwX4_passWhy_1 : List UInt8 := [42, 29, 182, 1, 9, 153, 0, 19, 21, 4, 3, 17, 1, 144, 184, 0, 83, 153, 0, 7, 3, 167, 0, 4]
abbrev dktX4_passWhy_1 : List UInt8 := dkwX4_passWhy_1 ++ dktX4_passWhy_2
def dkwX4_passWhy_0 : List UInt8 := [42, 180, 0, 192, 153, 0, 7, 27, 154, 0, 7, 4, 167, 0, 37, 28, 4, 5, 184, 0, 83, 153, 0, 27]
abbrev dktX4_passWhy_0 : List UInt8 := dkwX4_passWhy_0 ++ dktX4_passWhy_1
theorem dksX4_passWhy_0 : cX4_passWhy.data.toList.drop 0 = dktX4_passWhy_0 := by decide +kernel
theorem dksX4_passWhy_1 : cX4_passWhy.data.toList.drop 24 = dktX4_passWhy_1 := dk_seg dksX4_passWhy_0 24 rfl rfl
theorem dksX4_passWhy_2 : cX4_passWhy.data.toList.drop 48 = dktX4_passWhy_2 := dk_seg dksX4_passWhy_1 24 rfl rfl
theorem dX4_passWhy_0 : decode cX4_passWhy 0 = .ok (.aload_n 0, 1) := dk_42 (dk_at dksX4_passWhy_0 0 rfl rfl)
theorem dX4_passWhy_1 : decode cX4_passWhy 1 = .ok (.getfield 192, 3) := dk_180 0 192 (dk_at dksX4_passWhy_0 1 rfl rfl)
theorem dX4_passWhy_4 : decode cX4_passWhy 4 = .ok (.ifCond .eq 7, 3) := dk_153 0 7 (dk_at dksX4_passWhy_0 4 rfl rfl)
theorem dX4_passWhy_7 : decode cX4_passWhy 7 = .ok (.iload_n 1, 1) := dk_27 (dk_at dksX4_passWhy_0 7 rfl rfl)
theorem dX4_passWhy_8 : decode cX4_passWhy 8 = .ok (.ifCond .ne 7, 3) := dk_154 0 7 (dk_at dksX4_passWhy_0 8 rfl rfl)
theorem dX4_passWhy_11 : decode cX4_passWhy 11 = .ok (.iconst 1, 1) := dk_4 (dk_at dksX4_passWhy_0 11 rfl rfl)
theorem dX4_passWhy_12 : decode cX4_passWhy 12 = .ok (.goto 37, 3) := dk_167 0 37 (dk_at dksX4_passWhy_0 12 rfl rfl)
theorem dX4_passWhy_15 : decode cX4_passWhy 15 = .ok (.iload_n 2, 1) := dk_28 (dk_at dksX4_passWhy_0 15 rfl rfl)
theorem dX4_passWhy_16 : decode cX4_passWhy 16 = .ok (.iconst 1, 1) := dk_4 (dk_at dksX4_passWhy_0 16 rfl rfl)
theorem dX4_passWhy_17 : decode cX4_passWhy 17 = .ok (.iconst 2, 1) := dk_5 (dk_at dksX4_passWhy_0 17 rfl rfl)
theorem dX4_passWhy_18 : decode cX4_passWhy 18 = .ok (.invokestatic 83, 3) := dk_184 0 83 (dk_at dksX4_passWhy_0 18 rfl rfl)
theorem dX4_passWhy_21 : decode cX4_passWhy 21 = .ok (.ifCond .eq 27, 3) := dk_153 0 27 (dk_at dksX4_passWhy_0 21 rfl rfl)
theorem dX4_passWhy_24 : decode cX4_passWhy 24 = .ok (.aload_n 0, 1) := dk_42 (dk_at dksX4_passWhy_1 0 rfl rfl)
theorem dX4_passWhy_25 : decode cX4_passWhy 25 = .ok (.iload_n 3, 1) := dk_29 (dk_at dksX4_passWhy_1 1 rfl rfl)
theorem dX4_passWhy_26 : decode cX4_passWhy 26 = .ok (.invokevirtual 265, 3) := dk_182 1 9 (dk_at dksX4_passWhy_1 2 rfl rfl)
theorem dX4_passWhy_29 : decode cX4_passWhy 29 = .ok (.ifCond .eq 19, 3) := dk_153 0 19 (dk_at dksX4_passWhy_1 5 rfl rfl)
theorem dX4_passWhy_32 : decode cX4_passWhy 32 = .ok (.iload 4, 2) := dk_21 4 (dk_at dksX4_passWhy_1 8 rfl rfl)
theorem dX4_passWhy_34 : decode cX4_passWhy 34 = .ok (.iconst 0, 1) := dk_3 (dk_at dksX4_passWhy_1 10 rfl rfl)
theorem dX4_passWhy_35 : decode cX4_passWhy 35 = .ok (.sipush 400, 3) := dk_17 1 144 (dk_at dksX4_passWhy_1 11 rfl rfl)
theorem dX4_passWhy_38 : decode cX4_passWhy 38 = .ok (.invokestatic 83, 3) := dk_184 0 83 (dk_at dksX4_passWhy_1 14 rfl rfl)
theorem dX4_passWhy_41 : decode cX4_passWhy 41 = .ok (.ifCond .eq 7, 3) := dk_153 0 7 (dk_at dksX4_passWhy_1 17 rfl rfl)
theorem dX4_passWhy_44 : decode cX4_passWhy 44 = .ok (.iconst 0, 1) := dk_3 (dk_at dksX4_passWhy_1 20 rfl rfl)
theorem dX4_passWhy_45 : decode cX4_passWhy 45 = .ok (.goto 4, 3) := dk_167 0 4 (dk_at dksX4_passWhy_1 21 rfl rfl)
theorem dX4_passWhy_48 : decode cX4_passWhy 48 = .ok (.iconst 2, 1) := dk_5 (dk_at dksX4_passWhy_2 0 rfl rfl)
theorem dX4_passWhy_49 : decode cX4_passWhy 49 = .ok (.ireturn, 1) := dk_172 (dk_at dksX4_passWhy_2 1 rfl rfl)
abbrev cX4_isSet : ByteArray := prog_19_method_52_code
def yX4_isSet : MethodName := ⟨RX4, "isSet", "(I)Z"⟩
def dkwX4_isSet_0 : List UInt8 := [27, 4, 4, 42, 180, 0, 17, 6, 46, 120, 4, 100, 184, 0, 83, 172]
abbrev dktX4_isSet_0 : List UInt8 := dkwX4_isSet_0 ++ []
theorem dksX4_isSet_0 : cX4_isSet.data.toList.drop 0 = dktX4_isSet_0 := by decide +kernel
theorem dX4_isSet_0 : decode cX4_isSet 0 = .ok (.iload_n 1, 1) := dk_27 (dk_at dksX4_isSet_0 0 rfl rfl)
theorem dX4_isSet_1 : decode cX4_isSet 1 = .ok (.iconst 1, 1) := dk_4 (dk_at dksX4_isSet_0 1 rfl rfl)
theorem dX4_isSet_2 : decode cX4_isSet 2 = .ok (.iconst 1, 1) := dk_4 (dk_at dksX4_isSet_0 2 rfl rfl)
theorem dX4_isSet_3 : decode cX4_isSet 3 = .ok (.aload_n 0, 1) := dk_42 (dk_at dksX4_isSet_0 3 rfl rfl)
theorem dX4_isSet_4 : decode cX4_isSet 4 = .ok (.getfield 17, 3) := dk_180 0 17 (dk_at dksX4_isSet_0 4 rfl rfl)
theorem dX4_isSet_7 : decode cX4_isSet 7 = .ok (.iconst 3, 1) := dk_6 (dk_at dksX4_isSet_0 7 rfl rfl)
theorem dX4_isSet_8 : decode cX4_isSet 8 = .ok (.iaload, 1) := dk_46 (dk_at dksX4_isSet_0 8 rfl rfl)
theorem dX4_isSet_9 : decode cX4_isSet 9 = .ok (.ishl, 1) := dk_120 (dk_at dksX4_isSet_0 9 rfl rfl)
theorem dX4_isSet_10 : decode cX4_isSet 10 = .ok (.iconst 1, 1) := dk_4 (dk_at dksX4_isSet_0 10 rfl rfl)
theorem dX4_isSet_11 : decode cX4_isSet 11 = .ok (.isub, 1) := dk_100 (dk_at dksX4_isSet_0 11 rfl rfl)
theorem dX4_isSet_12 : decode cX4_isSet 12 = .ok (.invokestatic 83, 3) := dk_184 0 83 (dk_at dksX4_isSet_0 12 rfl rfl)
theorem dX4_isSet_15 : decode cX4_isSet 15 = .ok (.ireturn, 1) := dk_172 (dk_at dksX4_isSet_0 15 rfl rfl)
abbrev cX4_passes : ByteArray := prog_19_method_45_code
def yX4_passes : MethodName := ⟨RX4, "passes", "(II)V"⟩
def dkwX4_passes_1 : List UInt8 := [132, 3, 1, 167, 255, 231, 42, 28, 182, 0, 253, 177]
abbrev dktX4_passes_1 : List UInt8 := dkwX4_passes_1 ++ []
def dkwX4_passes_0 : List UInt8 := [3, 62, 29, 42, 180, 0, 17, 6, 46, 162, 0, 21, 42, 180, 0, 36, 29, 42, 29, 27, 182, 0, 250, 79]
abbrev dktX4_passes_0 : List UInt8 := dkwX4_passes_0 ++ dktX4_passes_1
theorem dksX4_passes_0 : cX4_passes.data.toList.drop 0 = dktX4_passes_0 := by decide +kernel
theorem dksX4_passes_1 : cX4_passes.data.toList.drop 24 = dktX4_passes_1 := dk_seg dksX4_passes_0 24 rfl rfl
theorem dX4_passes_0 : decode cX4_passes 0 = .ok (.iconst 0, 1) := dk_3 (dk_at dksX4_passes_0 0 rfl rfl)
theorem dX4_passes_1 : decode cX4_passes 1 = .ok (.istore_n 3, 1) := dk_62 (dk_at dksX4_passes_0 1 rfl rfl)
theorem dX4_passes_2 : decode cX4_passes 2 = .ok (.iload_n 3, 1) := dk_29 (dk_at dksX4_passes_0 2 rfl rfl)
theorem dX4_passes_3 : decode cX4_passes 3 = .ok (.aload_n 0, 1) := dk_42 (dk_at dksX4_passes_0 3 rfl rfl)
theorem dX4_passes_4 : decode cX4_passes 4 = .ok (.getfield 17, 3) := dk_180 0 17 (dk_at dksX4_passes_0 4 rfl rfl)
theorem dX4_passes_7 : decode cX4_passes 7 = .ok (.iconst 3, 1) := dk_6 (dk_at dksX4_passes_0 7 rfl rfl)
theorem dX4_passes_8 : decode cX4_passes 8 = .ok (.iaload, 1) := dk_46 (dk_at dksX4_passes_0 8 rfl rfl)
theorem dX4_passes_9 : decode cX4_passes 9 = .ok (.if_icmp .ge 21, 3) := dk_162 0 21 (dk_at dksX4_passes_0 9 rfl rfl)
theorem dX4_passes_12 : decode cX4_passes 12 = .ok (.aload_n 0, 1) := dk_42 (dk_at dksX4_passes_0 12 rfl rfl)
theorem dX4_passes_13 : decode cX4_passes 13 = .ok (.getfield 36, 3) := dk_180 0 36 (dk_at dksX4_passes_0 13 rfl rfl)
theorem dX4_passes_16 : decode cX4_passes 16 = .ok (.iload_n 3, 1) := dk_29 (dk_at dksX4_passes_0 16 rfl rfl)
theorem dX4_passes_17 : decode cX4_passes 17 = .ok (.aload_n 0, 1) := dk_42 (dk_at dksX4_passes_0 17 rfl rfl)
theorem dX4_passes_18 : decode cX4_passes 18 = .ok (.iload_n 3, 1) := dk_29 (dk_at dksX4_passes_0 18 rfl rfl)
theorem dX4_passes_19 : decode cX4_passes 19 = .ok (.iload_n 1, 1) := dk_27 (dk_at dksX4_passes_0 19 rfl rfl)
theorem dX4_passes_20 : decode cX4_passes 20 = .ok (.invokevirtual 250, 3) := dk_182 0 250 (dk_at dksX4_passes_0 20 rfl rfl)
theorem dX4_passes_23 : decode cX4_passes 23 = .ok (.iastore, 1) := dk_79 (dk_at dksX4_passes_0 23 rfl rfl)
theorem dX4_passes_24 : decode cX4_passes 24 = .ok (.iinc 3 1, 3) := dk_132 3 1 (dk_at dksX4_passes_1 0 rfl rfl)
theorem dX4_passes_27 : decode cX4_passes 27 = .ok (.goto (-25), 3) := dk_167 255 231 (dk_at dksX4_passes_1 3 rfl rfl)
theorem dX4_passes_30 : decode cX4_passes 30 = .ok (.aload_n 0, 1) := dk_42 (dk_at dksX4_passes_1 6 rfl rfl)
theorem dX4_passes_31 : decode cX4_passes 31 = .ok (.iload_n 2, 1) := dk_28 (dk_at dksX4_passes_1 7 rfl rfl)
theorem dX4_passes_32 : decode cX4_passes 32 = .ok (.invokevirtual 253, 3) := dk_182 0 253 (dk_at dksX4_passes_1 8 rfl rfl)
theorem dX4_passes_35 : decode cX4_passes 35 = .ok (.return_, 1) := dk_177 (dk_at dksX4_passes_1 11 rfl rfl)
abbrev cX4_wordOf : ByteArray := prog_19_method_36_code
def yX4_wordOf : MethodName := ⟨RX4, "wordOf", "(II)I"⟩
def dkwX4_wordOf_1 : List UInt8 := [104, 96, 184, 0, 215, 167, 0, 17, 5, 42, 180, 0, 17, 16, 11, 27, 96, 46, 104, 184, 0, 215, 172]
abbrev dktX4_wordOf_1 : List UInt8 := dkwX4_wordOf_1 ++ []
def dkwX4_wordOf_0 : List UInt8 := [28, 4, 160, 0, 30, 16, 8, 42, 27, 182, 0, 212, 104, 7, 42, 180, 0, 27, 27, 5, 184, 0, 201, 46]
abbrev dktX4_wordOf_0 : List UInt8 := dkwX4_wordOf_0 ++ dktX4_wordOf_1
theorem dksX4_wordOf_0 : cX4_wordOf.data.toList.drop 0 = dktX4_wordOf_0 := by decide +kernel
theorem dksX4_wordOf_1 : cX4_wordOf.data.toList.drop 24 = dktX4_wordOf_1 := dk_seg dksX4_wordOf_0 24 rfl rfl
theorem dX4_wordOf_0 : decode cX4_wordOf 0 = .ok (.iload_n 2, 1) := dk_28 (dk_at dksX4_wordOf_0 0 rfl rfl)
theorem dX4_wordOf_1 : decode cX4_wordOf 1 = .ok (.iconst 1, 1) := dk_4 (dk_at dksX4_wordOf_0 1 rfl rfl)
theorem dX4_wordOf_2 : decode cX4_wordOf 2 = .ok (.if_icmp .ne 30, 3) := dk_160 0 30 (dk_at dksX4_wordOf_0 2 rfl rfl)
theorem dX4_wordOf_5 : decode cX4_wordOf 5 = .ok (.bipush 8, 2) := dk_16 8 (dk_at dksX4_wordOf_0 5 rfl rfl)
theorem dX4_wordOf_7 : decode cX4_wordOf 7 = .ok (.aload_n 0, 1) := dk_42 (dk_at dksX4_wordOf_0 7 rfl rfl)
theorem dX4_wordOf_8 : decode cX4_wordOf 8 = .ok (.iload_n 1, 1) := dk_27 (dk_at dksX4_wordOf_0 8 rfl rfl)
theorem dX4_wordOf_9 : decode cX4_wordOf 9 = .ok (.invokevirtual 212, 3) := dk_182 0 212 (dk_at dksX4_wordOf_0 9 rfl rfl)
theorem dX4_wordOf_12 : decode cX4_wordOf 12 = .ok (.imul, 1) := dk_104 (dk_at dksX4_wordOf_0 12 rfl rfl)
theorem dX4_wordOf_13 : decode cX4_wordOf 13 = .ok (.iconst 4, 1) := dk_7 (dk_at dksX4_wordOf_0 13 rfl rfl)
theorem dX4_wordOf_14 : decode cX4_wordOf 14 = .ok (.aload_n 0, 1) := dk_42 (dk_at dksX4_wordOf_0 14 rfl rfl)
theorem dX4_wordOf_15 : decode cX4_wordOf 15 = .ok (.getfield 27, 3) := dk_180 0 27 (dk_at dksX4_wordOf_0 15 rfl rfl)
theorem dX4_wordOf_18 : decode cX4_wordOf 18 = .ok (.iload_n 1, 1) := dk_27 (dk_at dksX4_wordOf_0 18 rfl rfl)
theorem dX4_wordOf_19 : decode cX4_wordOf 19 = .ok (.iconst 2, 1) := dk_5 (dk_at dksX4_wordOf_0 19 rfl rfl)
theorem dX4_wordOf_20 : decode cX4_wordOf 20 = .ok (.invokestatic 201, 3) := dk_184 0 201 (dk_at dksX4_wordOf_0 20 rfl rfl)
theorem dX4_wordOf_23 : decode cX4_wordOf 23 = .ok (.iaload, 1) := dk_46 (dk_at dksX4_wordOf_0 23 rfl rfl)
theorem dX4_wordOf_24 : decode cX4_wordOf 24 = .ok (.imul, 1) := dk_104 (dk_at dksX4_wordOf_1 0 rfl rfl)
theorem dX4_wordOf_25 : decode cX4_wordOf 25 = .ok (.iadd, 1) := dk_96 (dk_at dksX4_wordOf_1 1 rfl rfl)
theorem dX4_wordOf_26 : decode cX4_wordOf 26 = .ok (.invokestatic 215, 3) := dk_184 0 215 (dk_at dksX4_wordOf_1 2 rfl rfl)
theorem dX4_wordOf_29 : decode cX4_wordOf 29 = .ok (.goto 17, 3) := dk_167 0 17 (dk_at dksX4_wordOf_1 5 rfl rfl)
theorem dX4_wordOf_32 : decode cX4_wordOf 32 = .ok (.iconst 2, 1) := dk_5 (dk_at dksX4_wordOf_1 8 rfl rfl)
theorem dX4_wordOf_33 : decode cX4_wordOf 33 = .ok (.aload_n 0, 1) := dk_42 (dk_at dksX4_wordOf_1 9 rfl rfl)
theorem dX4_wordOf_34 : decode cX4_wordOf 34 = .ok (.getfield 17, 3) := dk_180 0 17 (dk_at dksX4_wordOf_1 10 rfl rfl)
theorem dX4_wordOf_37 : decode cX4_wordOf 37 = .ok (.bipush 11, 2) := dk_16 11 (dk_at dksX4_wordOf_1 13 rfl rfl)
theorem dX4_wordOf_39 : decode cX4_wordOf 39 = .ok (.iload_n 1, 1) := dk_27 (dk_at dksX4_wordOf_1 15 rfl rfl)
theorem dX4_wordOf_40 : decode cX4_wordOf 40 = .ok (.iadd, 1) := dk_96 (dk_at dksX4_wordOf_1 16 rfl rfl)
theorem dX4_wordOf_41 : decode cX4_wordOf 41 = .ok (.iaload, 1) := dk_46 (dk_at dksX4_wordOf_1 17 rfl rfl)
theorem dX4_wordOf_42 : decode cX4_wordOf 42 = .ok (.imul, 1) := dk_104 (dk_at dksX4_wordOf_1 18 rfl rfl)
theorem dX4_wordOf_43 : decode cX4_wordOf 43 = .ok (.invokestatic 215, 3) := dk_184 0 215 (dk_at dksX4_wordOf_1 19 rfl rfl)
theorem dX4_wordOf_46 : decode cX4_wordOf 46 = .ok (.ireturn, 1) := dk_172 (dk_at dksX4_wordOf_1 22 rfl rfl)
abbrev cX4_rankOf : ByteArray := prog_19_method_34_code
def yX4_rankOf : MethodName := ⟨RX4, "rankOf", "(I)I"⟩
def dkwX4_rankOf_2 : List UInt8 := [28, 61, 132, 3, 1, 167, 255, 207, 28, 172]
abbrev dktX4_rankOf_2 : List UInt8 := dkwX4_rankOf_2 ++ []
def dkwX4_rankOf_1 : List UInt8 := [180, 0, 17, 16, 17, 29, 96, 46, 28, 164, 0, 15, 42, 180, 0, 17, 16, 17, 29, 96, 46, 167, 0, 4]
abbrev dktX4_rankOf_1 : List UInt8 := dkwX4_rankOf_1 ++ dktX4_rankOf_2
def dkwX4_rankOf_0 : List UInt8 := [3, 61, 3, 62, 29, 42, 180, 0, 17, 6, 46, 162, 0, 45, 42, 29, 27, 182, 0, 205, 153, 0, 28, 42]
abbrev dktX4_rankOf_0 : List UInt8 := dkwX4_rankOf_0 ++ dktX4_rankOf_1
theorem dksX4_rankOf_0 : cX4_rankOf.data.toList.drop 0 = dktX4_rankOf_0 := by decide +kernel
theorem dksX4_rankOf_1 : cX4_rankOf.data.toList.drop 24 = dktX4_rankOf_1 := dk_seg dksX4_rankOf_0 24 rfl rfl
theorem dksX4_rankOf_2 : cX4_rankOf.data.toList.drop 48 = dktX4_rankOf_2 := dk_seg dksX4_rankOf_1 24 rfl rfl
theorem dX4_rankOf_0 : decode cX4_rankOf 0 = .ok (.iconst 0, 1) := dk_3 (dk_at dksX4_rankOf_0 0 rfl rfl)
theorem dX4_rankOf_1 : decode cX4_rankOf 1 = .ok (.istore_n 2, 1) := dk_61 (dk_at dksX4_rankOf_0 1 rfl rfl)
theorem dX4_rankOf_2 : decode cX4_rankOf 2 = .ok (.iconst 0, 1) := dk_3 (dk_at dksX4_rankOf_0 2 rfl rfl)
theorem dX4_rankOf_3 : decode cX4_rankOf 3 = .ok (.istore_n 3, 1) := dk_62 (dk_at dksX4_rankOf_0 3 rfl rfl)
theorem dX4_rankOf_4 : decode cX4_rankOf 4 = .ok (.iload_n 3, 1) := dk_29 (dk_at dksX4_rankOf_0 4 rfl rfl)
theorem dX4_rankOf_5 : decode cX4_rankOf 5 = .ok (.aload_n 0, 1) := dk_42 (dk_at dksX4_rankOf_0 5 rfl rfl)
theorem dX4_rankOf_6 : decode cX4_rankOf 6 = .ok (.getfield 17, 3) := dk_180 0 17 (dk_at dksX4_rankOf_0 6 rfl rfl)
theorem dX4_rankOf_9 : decode cX4_rankOf 9 = .ok (.iconst 3, 1) := dk_6 (dk_at dksX4_rankOf_0 9 rfl rfl)
theorem dX4_rankOf_10 : decode cX4_rankOf 10 = .ok (.iaload, 1) := dk_46 (dk_at dksX4_rankOf_0 10 rfl rfl)
theorem dX4_rankOf_11 : decode cX4_rankOf 11 = .ok (.if_icmp .ge 45, 3) := dk_162 0 45 (dk_at dksX4_rankOf_0 11 rfl rfl)
theorem dX4_rankOf_14 : decode cX4_rankOf 14 = .ok (.aload_n 0, 1) := dk_42 (dk_at dksX4_rankOf_0 14 rfl rfl)
theorem dX4_rankOf_15 : decode cX4_rankOf 15 = .ok (.iload_n 3, 1) := dk_29 (dk_at dksX4_rankOf_0 15 rfl rfl)
theorem dX4_rankOf_16 : decode cX4_rankOf 16 = .ok (.iload_n 1, 1) := dk_27 (dk_at dksX4_rankOf_0 16 rfl rfl)
theorem dX4_rankOf_17 : decode cX4_rankOf 17 = .ok (.invokevirtual 205, 3) := dk_182 0 205 (dk_at dksX4_rankOf_0 17 rfl rfl)
theorem dX4_rankOf_20 : decode cX4_rankOf 20 = .ok (.ifCond .eq 28, 3) := dk_153 0 28 (dk_at dksX4_rankOf_0 20 rfl rfl)
theorem dX4_rankOf_23 : decode cX4_rankOf 23 = .ok (.aload_n 0, 1) := dk_42 (dk_at dksX4_rankOf_0 23 rfl rfl)
theorem dX4_rankOf_24 : decode cX4_rankOf 24 = .ok (.getfield 17, 3) := dk_180 0 17 (dk_at dksX4_rankOf_1 0 rfl rfl)
theorem dX4_rankOf_27 : decode cX4_rankOf 27 = .ok (.bipush 17, 2) := dk_16 17 (dk_at dksX4_rankOf_1 3 rfl rfl)
theorem dX4_rankOf_29 : decode cX4_rankOf 29 = .ok (.iload_n 3, 1) := dk_29 (dk_at dksX4_rankOf_1 5 rfl rfl)
theorem dX4_rankOf_30 : decode cX4_rankOf 30 = .ok (.iadd, 1) := dk_96 (dk_at dksX4_rankOf_1 6 rfl rfl)
theorem dX4_rankOf_31 : decode cX4_rankOf 31 = .ok (.iaload, 1) := dk_46 (dk_at dksX4_rankOf_1 7 rfl rfl)
theorem dX4_rankOf_32 : decode cX4_rankOf 32 = .ok (.iload_n 2, 1) := dk_28 (dk_at dksX4_rankOf_1 8 rfl rfl)
theorem dX4_rankOf_33 : decode cX4_rankOf 33 = .ok (.if_icmp .le 15, 3) := dk_164 0 15 (dk_at dksX4_rankOf_1 9 rfl rfl)
theorem dX4_rankOf_36 : decode cX4_rankOf 36 = .ok (.aload_n 0, 1) := dk_42 (dk_at dksX4_rankOf_1 12 rfl rfl)
theorem dX4_rankOf_37 : decode cX4_rankOf 37 = .ok (.getfield 17, 3) := dk_180 0 17 (dk_at dksX4_rankOf_1 13 rfl rfl)
theorem dX4_rankOf_40 : decode cX4_rankOf 40 = .ok (.bipush 17, 2) := dk_16 17 (dk_at dksX4_rankOf_1 16 rfl rfl)
theorem dX4_rankOf_42 : decode cX4_rankOf 42 = .ok (.iload_n 3, 1) := dk_29 (dk_at dksX4_rankOf_1 18 rfl rfl)
theorem dX4_rankOf_43 : decode cX4_rankOf 43 = .ok (.iadd, 1) := dk_96 (dk_at dksX4_rankOf_1 19 rfl rfl)
theorem dX4_rankOf_44 : decode cX4_rankOf 44 = .ok (.iaload, 1) := dk_46 (dk_at dksX4_rankOf_1 20 rfl rfl)
theorem dX4_rankOf_45 : decode cX4_rankOf 45 = .ok (.goto 4, 3) := dk_167 0 4 (dk_at dksX4_rankOf_1 21 rfl rfl)
theorem dX4_rankOf_48 : decode cX4_rankOf 48 = .ok (.iload_n 2, 1) := dk_28 (dk_at dksX4_rankOf_2 0 rfl rfl)
theorem dX4_rankOf_49 : decode cX4_rankOf 49 = .ok (.istore_n 2, 1) := dk_61 (dk_at dksX4_rankOf_2 1 rfl rfl)
theorem dX4_rankOf_50 : decode cX4_rankOf 50 = .ok (.iinc 3 1, 3) := dk_132 3 1 (dk_at dksX4_rankOf_2 2 rfl rfl)
theorem dX4_rankOf_53 : decode cX4_rankOf 53 = .ok (.goto (-49), 3) := dk_167 255 207 (dk_at dksX4_rankOf_2 5 rfl rfl)
theorem dX4_rankOf_56 : decode cX4_rankOf 56 = .ok (.iload_n 2, 1) := dk_28 (dk_at dksX4_rankOf_2 8 rfl rfl)
theorem dX4_rankOf_57 : decode cX4_rankOf 57 = .ok (.ireturn, 1) := dk_172 (dk_at dksX4_rankOf_2 9 rfl rfl)
abbrev cX4_doesWait : ByteArray := prog_19_method_33_code
def yX4_doesWait : MethodName := ⟨RX4, "doesWait", "(II)Z"⟩
def dkwX4_doesWait_1 : List UInt8 := [167, 255, 234, 29, 28, 160, 0, 7, 4, 167, 0, 4, 3, 172]
abbrev dktX4_doesWait_1 : List UInt8 := dkwX4_doesWait_1 ++ []
def dkwX4_doesWait_0 : List UInt8 := [27, 62, 29, 16, 254, 159, 0, 22, 29, 28, 159, 0, 17, 42, 180, 0, 27, 29, 6, 184, 0, 201, 46, 62]
abbrev dktX4_doesWait_0 : List UInt8 := dkwX4_doesWait_0 ++ dktX4_doesWait_1
theorem dksX4_doesWait_0 : cX4_doesWait.data.toList.drop 0 = dktX4_doesWait_0 := by decide +kernel
theorem dksX4_doesWait_1 : cX4_doesWait.data.toList.drop 24 = dktX4_doesWait_1 := dk_seg dksX4_doesWait_0 24 rfl rfl
theorem dX4_doesWait_0 : decode cX4_doesWait 0 = .ok (.iload_n 1, 1) := dk_27 (dk_at dksX4_doesWait_0 0 rfl rfl)
theorem dX4_doesWait_1 : decode cX4_doesWait 1 = .ok (.istore_n 3, 1) := dk_62 (dk_at dksX4_doesWait_0 1 rfl rfl)
theorem dX4_doesWait_2 : decode cX4_doesWait 2 = .ok (.iload_n 3, 1) := dk_29 (dk_at dksX4_doesWait_0 2 rfl rfl)
theorem dX4_doesWait_3 : decode cX4_doesWait 3 = .ok (.bipush (-2), 2) := dk_16 254 (dk_at dksX4_doesWait_0 3 rfl rfl)
theorem dX4_doesWait_5 : decode cX4_doesWait 5 = .ok (.if_icmp .eq 22, 3) := dk_159 0 22 (dk_at dksX4_doesWait_0 5 rfl rfl)
theorem dX4_doesWait_8 : decode cX4_doesWait 8 = .ok (.iload_n 3, 1) := dk_29 (dk_at dksX4_doesWait_0 8 rfl rfl)
theorem dX4_doesWait_9 : decode cX4_doesWait 9 = .ok (.iload_n 2, 1) := dk_28 (dk_at dksX4_doesWait_0 9 rfl rfl)
theorem dX4_doesWait_10 : decode cX4_doesWait 10 = .ok (.if_icmp .eq 17, 3) := dk_159 0 17 (dk_at dksX4_doesWait_0 10 rfl rfl)
theorem dX4_doesWait_13 : decode cX4_doesWait 13 = .ok (.aload_n 0, 1) := dk_42 (dk_at dksX4_doesWait_0 13 rfl rfl)
theorem dX4_doesWait_14 : decode cX4_doesWait 14 = .ok (.getfield 27, 3) := dk_180 0 27 (dk_at dksX4_doesWait_0 14 rfl rfl)
theorem dX4_doesWait_17 : decode cX4_doesWait 17 = .ok (.iload_n 3, 1) := dk_29 (dk_at dksX4_doesWait_0 17 rfl rfl)
theorem dX4_doesWait_18 : decode cX4_doesWait 18 = .ok (.iconst 3, 1) := dk_6 (dk_at dksX4_doesWait_0 18 rfl rfl)
theorem dX4_doesWait_19 : decode cX4_doesWait 19 = .ok (.invokestatic 201, 3) := dk_184 0 201 (dk_at dksX4_doesWait_0 19 rfl rfl)
theorem dX4_doesWait_22 : decode cX4_doesWait 22 = .ok (.iaload, 1) := dk_46 (dk_at dksX4_doesWait_0 22 rfl rfl)
theorem dX4_doesWait_23 : decode cX4_doesWait 23 = .ok (.istore_n 3, 1) := dk_62 (dk_at dksX4_doesWait_0 23 rfl rfl)
theorem dX4_doesWait_24 : decode cX4_doesWait 24 = .ok (.goto (-22), 3) := dk_167 255 234 (dk_at dksX4_doesWait_1 0 rfl rfl)
theorem dX4_doesWait_27 : decode cX4_doesWait 27 = .ok (.iload_n 3, 1) := dk_29 (dk_at dksX4_doesWait_1 3 rfl rfl)
theorem dX4_doesWait_28 : decode cX4_doesWait 28 = .ok (.iload_n 2, 1) := dk_28 (dk_at dksX4_doesWait_1 4 rfl rfl)
theorem dX4_doesWait_29 : decode cX4_doesWait 29 = .ok (.if_icmp .ne 7, 3) := dk_160 0 7 (dk_at dksX4_doesWait_1 5 rfl rfl)
theorem dX4_doesWait_32 : decode cX4_doesWait 32 = .ok (.iconst 1, 1) := dk_4 (dk_at dksX4_doesWait_1 8 rfl rfl)
theorem dX4_doesWait_33 : decode cX4_doesWait 33 = .ok (.goto 4, 3) := dk_167 0 4 (dk_at dksX4_doesWait_1 9 rfl rfl)
theorem dX4_doesWait_36 : decode cX4_doesWait 36 = .ok (.iconst 0, 1) := dk_3 (dk_at dksX4_doesWait_1 12 rfl rfl)
theorem dX4_doesWait_37 : decode cX4_doesWait 37 = .ok (.ireturn, 1) := dk_172 (dk_at dksX4_doesWait_1 13 rfl rfl)
abbrev cX4_odd : ByteArray := prog_19_method_35_code
def yX4_odd : MethodName := ⟨RX4, "odd", "(I)I"⟩
def dkwX4_odd_0 : List UInt8 := [26, 184, 0, 209, 5, 112, 4, 160, 0, 7, 26, 167, 0, 6, 26, 4, 96, 172]
abbrev dktX4_odd_0 : List UInt8 := dkwX4_odd_0 ++ []
theorem dksX4_odd_0 : cX4_odd.data.toList.drop 0 = dktX4_odd_0 := by decide +kernel
theorem dX4_odd_0 : decode cX4_odd 0 = .ok (.iload_n 0, 1) := dk_26 (dk_at dksX4_odd_0 0 rfl rfl)
theorem dX4_odd_1 : decode cX4_odd 1 = .ok (.invokestatic 209, 3) := dk_184 0 209 (dk_at dksX4_odd_0 1 rfl rfl)
theorem dX4_odd_4 : decode cX4_odd 4 = .ok (.iconst 2, 1) := dk_5 (dk_at dksX4_odd_0 4 rfl rfl)
theorem dX4_odd_5 : decode cX4_odd 5 = .ok (.irem, 1) := dk_112 (dk_at dksX4_odd_0 5 rfl rfl)
theorem dX4_odd_6 : decode cX4_odd 6 = .ok (.iconst 1, 1) := dk_4 (dk_at dksX4_odd_0 6 rfl rfl)
theorem dX4_odd_7 : decode cX4_odd 7 = .ok (.if_icmp .ne 7, 3) := dk_160 0 7 (dk_at dksX4_odd_0 7 rfl rfl)
theorem dX4_odd_10 : decode cX4_odd 10 = .ok (.iload_n 0, 1) := dk_26 (dk_at dksX4_odd_0 10 rfl rfl)
theorem dX4_odd_11 : decode cX4_odd 11 = .ok (.goto 6, 3) := dk_167 0 6 (dk_at dksX4_odd_0 11 rfl rfl)
theorem dX4_odd_14 : decode cX4_odd 14 = .ok (.iload_n 0, 1) := dk_26 (dk_at dksX4_odd_0 14 rfl rfl)
theorem dX4_odd_15 : decode cX4_odd 15 = .ok (.iconst 1, 1) := dk_4 (dk_at dksX4_odd_0 15 rfl rfl)
theorem dX4_odd_16 : decode cX4_odd 16 = .ok (.iadd, 1) := dk_96 (dk_at dksX4_odd_0 16 rfl rfl)
theorem dX4_odd_17 : decode cX4_odd 17 = .ok (.ireturn, 1) := dk_172 (dk_at dksX4_odd_0 17 rfl rfl)
abbrev cX4_bitsOf : ByteArray := prog_19_method_32_code
def yX4_bitsOf : MethodName := ⟨RX4, "bitsOf", "(I)I"⟩
def dkwX4_bitsOf_0 : List UInt8 := [3, 60, 26, 61, 28, 153, 0, 15, 132, 1, 1, 28, 28, 4, 100, 126, 61, 167, 255, 243, 27, 172]
abbrev dktX4_bitsOf_0 : List UInt8 := dkwX4_bitsOf_0 ++ []
theorem dksX4_bitsOf_0 : cX4_bitsOf.data.toList.drop 0 = dktX4_bitsOf_0 := by decide +kernel
theorem dX4_bitsOf_0 : decode cX4_bitsOf 0 = .ok (.iconst 0, 1) := dk_3 (dk_at dksX4_bitsOf_0 0 rfl rfl)
theorem dX4_bitsOf_1 : decode cX4_bitsOf 1 = .ok (.istore_n 1, 1) := dk_60 (dk_at dksX4_bitsOf_0 1 rfl rfl)
theorem dX4_bitsOf_2 : decode cX4_bitsOf 2 = .ok (.iload_n 0, 1) := dk_26 (dk_at dksX4_bitsOf_0 2 rfl rfl)
theorem dX4_bitsOf_3 : decode cX4_bitsOf 3 = .ok (.istore_n 2, 1) := dk_61 (dk_at dksX4_bitsOf_0 3 rfl rfl)
theorem dX4_bitsOf_4 : decode cX4_bitsOf 4 = .ok (.iload_n 2, 1) := dk_28 (dk_at dksX4_bitsOf_0 4 rfl rfl)
theorem dX4_bitsOf_5 : decode cX4_bitsOf 5 = .ok (.ifCond .eq 15, 3) := dk_153 0 15 (dk_at dksX4_bitsOf_0 5 rfl rfl)
theorem dX4_bitsOf_8 : decode cX4_bitsOf 8 = .ok (.iinc 1 1, 3) := dk_132 1 1 (dk_at dksX4_bitsOf_0 8 rfl rfl)
theorem dX4_bitsOf_11 : decode cX4_bitsOf 11 = .ok (.iload_n 2, 1) := dk_28 (dk_at dksX4_bitsOf_0 11 rfl rfl)
theorem dX4_bitsOf_12 : decode cX4_bitsOf 12 = .ok (.iload_n 2, 1) := dk_28 (dk_at dksX4_bitsOf_0 12 rfl rfl)
theorem dX4_bitsOf_13 : decode cX4_bitsOf 13 = .ok (.iconst 1, 1) := dk_4 (dk_at dksX4_bitsOf_0 13 rfl rfl)
theorem dX4_bitsOf_14 : decode cX4_bitsOf 14 = .ok (.isub, 1) := dk_100 (dk_at dksX4_bitsOf_0 14 rfl rfl)
theorem dX4_bitsOf_15 : decode cX4_bitsOf 15 = .ok (.iand, 1) := dk_126 (dk_at dksX4_bitsOf_0 15 rfl rfl)
theorem dX4_bitsOf_16 : decode cX4_bitsOf 16 = .ok (.istore_n 2, 1) := dk_61 (dk_at dksX4_bitsOf_0 16 rfl rfl)
theorem dX4_bitsOf_17 : decode cX4_bitsOf 17 = .ok (.goto (-13), 3) := dk_167 255 243 (dk_at dksX4_bitsOf_0 17 rfl rfl)
theorem dX4_bitsOf_20 : decode cX4_bitsOf 20 = .ok (.iload_n 1, 1) := dk_27 (dk_at dksX4_bitsOf_0 20 rfl rfl)
theorem dX4_bitsOf_21 : decode cX4_bitsOf 21 = .ok (.ireturn, 1) := dk_172 (dk_at dksX4_bitsOf_0 21 rfl rfl)
abbrev cX4_laysPass : ByteArray := prog_19_method_44_code
def yX4_laysPass : MethodName := ⟨RX4, "laysPass", "(I)V"⟩
def dkwX4_laysPass_4 : List UInt8 := [6, 46, 162, 0, 15, 42, 29, 28, 182, 0, 247, 132, 3, 1, 167, 255, 237, 132, 2, 1, 167, 255, 174, 177]
abbrev dktX4_laysPass_4 : List UInt8 := dkwX4_laysPass_4 ++ []
def dkwX4_laysPass_3 : List UInt8 := [6, 46, 162, 0, 15, 42, 29, 28, 182, 0, 244, 132, 3, 1, 167, 255, 237, 3, 62, 29, 42, 180, 0, 17]
abbrev dktX4_laysPass_3 : List UInt8 := dkwX4_laysPass_3 ++ dktX4_laysPass_4
def dkwX4_laysPass_2 : List UInt8 := [6, 46, 162, 0, 15, 42, 29, 28, 182, 0, 240, 132, 3, 1, 167, 255, 237, 3, 62, 29, 42, 180, 0, 17]
abbrev dktX4_laysPass_2 : List UInt8 := dkwX4_laysPass_2 ++ dktX4_laysPass_3
def dkwX4_laysPass_1 : List UInt8 := [3, 79, 132, 2, 1, 167, 255, 239, 3, 61, 28, 17, 1, 145, 162, 0, 81, 3, 62, 29, 42, 180, 0, 17]
abbrev dktX4_laysPass_1 : List UInt8 := dkwX4_laysPass_1 ++ dktX4_laysPass_2
def dkwX4_laysPass_0 : List UInt8 := [42, 27, 181, 0, 218, 42, 3, 181, 0, 234, 3, 61, 28, 17, 10, 206, 162, 0, 16, 42, 180, 0, 51, 28]
abbrev dktX4_laysPass_0 : List UInt8 := dkwX4_laysPass_0 ++ dktX4_laysPass_1
theorem dksX4_laysPass_0 : cX4_laysPass.data.toList.drop 0 = dktX4_laysPass_0 := by decide +kernel
theorem dksX4_laysPass_1 : cX4_laysPass.data.toList.drop 24 = dktX4_laysPass_1 := dk_seg dksX4_laysPass_0 24 rfl rfl
theorem dksX4_laysPass_2 : cX4_laysPass.data.toList.drop 48 = dktX4_laysPass_2 := dk_seg dksX4_laysPass_1 24 rfl rfl
theorem dksX4_laysPass_3 : cX4_laysPass.data.toList.drop 72 = dktX4_laysPass_3 := dk_seg dksX4_laysPass_2 24 rfl rfl
theorem dksX4_laysPass_4 : cX4_laysPass.data.toList.drop 96 = dktX4_laysPass_4 := dk_seg dksX4_laysPass_3 24 rfl rfl
theorem dX4_laysPass_0 : decode cX4_laysPass 0 = .ok (.aload_n 0, 1) := dk_42 (dk_at dksX4_laysPass_0 0 rfl rfl)
theorem dX4_laysPass_1 : decode cX4_laysPass 1 = .ok (.iload_n 1, 1) := dk_27 (dk_at dksX4_laysPass_0 1 rfl rfl)
theorem dX4_laysPass_2 : decode cX4_laysPass 2 = .ok (.putfield 218, 3) := dk_181 0 218 (dk_at dksX4_laysPass_0 2 rfl rfl)
theorem dX4_laysPass_5 : decode cX4_laysPass 5 = .ok (.aload_n 0, 1) := dk_42 (dk_at dksX4_laysPass_0 5 rfl rfl)
theorem dX4_laysPass_6 : decode cX4_laysPass 6 = .ok (.iconst 0, 1) := dk_3 (dk_at dksX4_laysPass_0 6 rfl rfl)
theorem dX4_laysPass_7 : decode cX4_laysPass 7 = .ok (.putfield 234, 3) := dk_181 0 234 (dk_at dksX4_laysPass_0 7 rfl rfl)
theorem dX4_laysPass_10 : decode cX4_laysPass 10 = .ok (.iconst 0, 1) := dk_3 (dk_at dksX4_laysPass_0 10 rfl rfl)
theorem dX4_laysPass_11 : decode cX4_laysPass 11 = .ok (.istore_n 2, 1) := dk_61 (dk_at dksX4_laysPass_0 11 rfl rfl)
theorem dX4_laysPass_12 : decode cX4_laysPass 12 = .ok (.iload_n 2, 1) := dk_28 (dk_at dksX4_laysPass_0 12 rfl rfl)
theorem dX4_laysPass_13 : decode cX4_laysPass 13 = .ok (.sipush 2766, 3) := dk_17 10 206 (dk_at dksX4_laysPass_0 13 rfl rfl)
theorem dX4_laysPass_16 : decode cX4_laysPass 16 = .ok (.if_icmp .ge 16, 3) := dk_162 0 16 (dk_at dksX4_laysPass_0 16 rfl rfl)
theorem dX4_laysPass_19 : decode cX4_laysPass 19 = .ok (.aload_n 0, 1) := dk_42 (dk_at dksX4_laysPass_0 19 rfl rfl)
theorem dX4_laysPass_20 : decode cX4_laysPass 20 = .ok (.getfield 51, 3) := dk_180 0 51 (dk_at dksX4_laysPass_0 20 rfl rfl)
theorem dX4_laysPass_23 : decode cX4_laysPass 23 = .ok (.iload_n 2, 1) := dk_28 (dk_at dksX4_laysPass_0 23 rfl rfl)
theorem dX4_laysPass_24 : decode cX4_laysPass 24 = .ok (.iconst 0, 1) := dk_3 (dk_at dksX4_laysPass_1 0 rfl rfl)
theorem dX4_laysPass_25 : decode cX4_laysPass 25 = .ok (.iastore, 1) := dk_79 (dk_at dksX4_laysPass_1 1 rfl rfl)
theorem dX4_laysPass_26 : decode cX4_laysPass 26 = .ok (.iinc 2 1, 3) := dk_132 2 1 (dk_at dksX4_laysPass_1 2 rfl rfl)
theorem dX4_laysPass_29 : decode cX4_laysPass 29 = .ok (.goto (-17), 3) := dk_167 255 239 (dk_at dksX4_laysPass_1 5 rfl rfl)
theorem dX4_laysPass_32 : decode cX4_laysPass 32 = .ok (.iconst 0, 1) := dk_3 (dk_at dksX4_laysPass_1 8 rfl rfl)
theorem dX4_laysPass_33 : decode cX4_laysPass 33 = .ok (.istore_n 2, 1) := dk_61 (dk_at dksX4_laysPass_1 9 rfl rfl)
theorem dX4_laysPass_34 : decode cX4_laysPass 34 = .ok (.iload_n 2, 1) := dk_28 (dk_at dksX4_laysPass_1 10 rfl rfl)
theorem dX4_laysPass_35 : decode cX4_laysPass 35 = .ok (.sipush 401, 3) := dk_17 1 145 (dk_at dksX4_laysPass_1 11 rfl rfl)
theorem dX4_laysPass_38 : decode cX4_laysPass 38 = .ok (.if_icmp .ge 81, 3) := dk_162 0 81 (dk_at dksX4_laysPass_1 14 rfl rfl)
theorem dX4_laysPass_41 : decode cX4_laysPass 41 = .ok (.iconst 0, 1) := dk_3 (dk_at dksX4_laysPass_1 17 rfl rfl)
theorem dX4_laysPass_42 : decode cX4_laysPass 42 = .ok (.istore_n 3, 1) := dk_62 (dk_at dksX4_laysPass_1 18 rfl rfl)
theorem dX4_laysPass_43 : decode cX4_laysPass 43 = .ok (.iload_n 3, 1) := dk_29 (dk_at dksX4_laysPass_1 19 rfl rfl)
theorem dX4_laysPass_44 : decode cX4_laysPass 44 = .ok (.aload_n 0, 1) := dk_42 (dk_at dksX4_laysPass_1 20 rfl rfl)
theorem dX4_laysPass_45 : decode cX4_laysPass 45 = .ok (.getfield 17, 3) := dk_180 0 17 (dk_at dksX4_laysPass_1 21 rfl rfl)
theorem dX4_laysPass_48 : decode cX4_laysPass 48 = .ok (.iconst 3, 1) := dk_6 (dk_at dksX4_laysPass_2 0 rfl rfl)
theorem dX4_laysPass_49 : decode cX4_laysPass 49 = .ok (.iaload, 1) := dk_46 (dk_at dksX4_laysPass_2 1 rfl rfl)
theorem dX4_laysPass_50 : decode cX4_laysPass 50 = .ok (.if_icmp .ge 15, 3) := dk_162 0 15 (dk_at dksX4_laysPass_2 2 rfl rfl)
theorem dX4_laysPass_53 : decode cX4_laysPass 53 = .ok (.aload_n 0, 1) := dk_42 (dk_at dksX4_laysPass_2 5 rfl rfl)
theorem dX4_laysPass_54 : decode cX4_laysPass 54 = .ok (.iload_n 3, 1) := dk_29 (dk_at dksX4_laysPass_2 6 rfl rfl)
theorem dX4_laysPass_55 : decode cX4_laysPass 55 = .ok (.iload_n 2, 1) := dk_28 (dk_at dksX4_laysPass_2 7 rfl rfl)
theorem dX4_laysPass_56 : decode cX4_laysPass 56 = .ok (.invokevirtual 240, 3) := dk_182 0 240 (dk_at dksX4_laysPass_2 8 rfl rfl)
theorem dX4_laysPass_59 : decode cX4_laysPass 59 = .ok (.iinc 3 1, 3) := dk_132 3 1 (dk_at dksX4_laysPass_2 11 rfl rfl)
theorem dX4_laysPass_62 : decode cX4_laysPass 62 = .ok (.goto (-19), 3) := dk_167 255 237 (dk_at dksX4_laysPass_2 14 rfl rfl)
theorem dX4_laysPass_65 : decode cX4_laysPass 65 = .ok (.iconst 0, 1) := dk_3 (dk_at dksX4_laysPass_2 17 rfl rfl)
theorem dX4_laysPass_66 : decode cX4_laysPass 66 = .ok (.istore_n 3, 1) := dk_62 (dk_at dksX4_laysPass_2 18 rfl rfl)
theorem dX4_laysPass_67 : decode cX4_laysPass 67 = .ok (.iload_n 3, 1) := dk_29 (dk_at dksX4_laysPass_2 19 rfl rfl)
theorem dX4_laysPass_68 : decode cX4_laysPass 68 = .ok (.aload_n 0, 1) := dk_42 (dk_at dksX4_laysPass_2 20 rfl rfl)
theorem dX4_laysPass_69 : decode cX4_laysPass 69 = .ok (.getfield 17, 3) := dk_180 0 17 (dk_at dksX4_laysPass_2 21 rfl rfl)
theorem dX4_laysPass_72 : decode cX4_laysPass 72 = .ok (.iconst 3, 1) := dk_6 (dk_at dksX4_laysPass_3 0 rfl rfl)
theorem dX4_laysPass_73 : decode cX4_laysPass 73 = .ok (.iaload, 1) := dk_46 (dk_at dksX4_laysPass_3 1 rfl rfl)
theorem dX4_laysPass_74 : decode cX4_laysPass 74 = .ok (.if_icmp .ge 15, 3) := dk_162 0 15 (dk_at dksX4_laysPass_3 2 rfl rfl)
theorem dX4_laysPass_77 : decode cX4_laysPass 77 = .ok (.aload_n 0, 1) := dk_42 (dk_at dksX4_laysPass_3 5 rfl rfl)
theorem dX4_laysPass_78 : decode cX4_laysPass 78 = .ok (.iload_n 3, 1) := dk_29 (dk_at dksX4_laysPass_3 6 rfl rfl)
theorem dX4_laysPass_79 : decode cX4_laysPass 79 = .ok (.iload_n 2, 1) := dk_28 (dk_at dksX4_laysPass_3 7 rfl rfl)
theorem dX4_laysPass_80 : decode cX4_laysPass 80 = .ok (.invokevirtual 244, 3) := dk_182 0 244 (dk_at dksX4_laysPass_3 8 rfl rfl)
theorem dX4_laysPass_83 : decode cX4_laysPass 83 = .ok (.iinc 3 1, 3) := dk_132 3 1 (dk_at dksX4_laysPass_3 11 rfl rfl)
theorem dX4_laysPass_86 : decode cX4_laysPass 86 = .ok (.goto (-19), 3) := dk_167 255 237 (dk_at dksX4_laysPass_3 14 rfl rfl)
theorem dX4_laysPass_89 : decode cX4_laysPass 89 = .ok (.iconst 0, 1) := dk_3 (dk_at dksX4_laysPass_3 17 rfl rfl)
theorem dX4_laysPass_90 : decode cX4_laysPass 90 = .ok (.istore_n 3, 1) := dk_62 (dk_at dksX4_laysPass_3 18 rfl rfl)
theorem dX4_laysPass_91 : decode cX4_laysPass 91 = .ok (.iload_n 3, 1) := dk_29 (dk_at dksX4_laysPass_3 19 rfl rfl)
theorem dX4_laysPass_92 : decode cX4_laysPass 92 = .ok (.aload_n 0, 1) := dk_42 (dk_at dksX4_laysPass_3 20 rfl rfl)
theorem dX4_laysPass_93 : decode cX4_laysPass 93 = .ok (.getfield 17, 3) := dk_180 0 17 (dk_at dksX4_laysPass_3 21 rfl rfl)
theorem dX4_laysPass_96 : decode cX4_laysPass 96 = .ok (.iconst 3, 1) := dk_6 (dk_at dksX4_laysPass_4 0 rfl rfl)
theorem dX4_laysPass_97 : decode cX4_laysPass 97 = .ok (.iaload, 1) := dk_46 (dk_at dksX4_laysPass_4 1 rfl rfl)
theorem dX4_laysPass_98 : decode cX4_laysPass 98 = .ok (.if_icmp .ge 15, 3) := dk_162 0 15 (dk_at dksX4_laysPass_4 2 rfl rfl)
theorem dX4_laysPass_101 : decode cX4_laysPass 101 = .ok (.aload_n 0, 1) := dk_42 (dk_at dksX4_laysPass_4 5 rfl rfl)
theorem dX4_laysPass_102 : decode cX4_laysPass 102 = .ok (.iload_n 3, 1) := dk_29 (dk_at dksX4_laysPass_4 6 rfl rfl)
theorem dX4_laysPass_103 : decode cX4_laysPass 103 = .ok (.iload_n 2, 1) := dk_28 (dk_at dksX4_laysPass_4 7 rfl rfl)
theorem dX4_laysPass_104 : decode cX4_laysPass 104 = .ok (.invokevirtual 247, 3) := dk_182 0 247 (dk_at dksX4_laysPass_4 8 rfl rfl)
theorem dX4_laysPass_107 : decode cX4_laysPass 107 = .ok (.iinc 3 1, 3) := dk_132 3 1 (dk_at dksX4_laysPass_4 11 rfl rfl)
theorem dX4_laysPass_110 : decode cX4_laysPass 110 = .ok (.goto (-19), 3) := dk_167 255 237 (dk_at dksX4_laysPass_4 14 rfl rfl)
theorem dX4_laysPass_113 : decode cX4_laysPass 113 = .ok (.iinc 2 1, 3) := dk_132 2 1 (dk_at dksX4_laysPass_4 17 rfl rfl)
theorem dX4_laysPass_116 : decode cX4_laysPass 116 = .ok (.goto (-82), 3) := dk_167 255 174 (dk_at dksX4_laysPass_4 20 rfl rfl)
theorem dX4_laysPass_119 : decode cX4_laysPass 119 = .ok (.return_, 1) := dk_177 (dk_at dksX4_laysPass_4 23 rfl rfl)
abbrev cX4_drivesAt : ByteArray := prog_19_method_39_code
def yX4_drivesAt : MethodName := ⟨RX4, "drivesAt", "(II)V"⟩
def dkwX4_drivesAt_3 : List UInt8 := [160, 0, 7, 29, 167, 0, 14, 29, 21, 5, 4, 96, 122, 21, 5, 4, 96, 120, 79, 177]
abbrev dktX4_drivesAt_3 : List UInt8 := dkwX4_drivesAt_3 ++ []
def dkwX4_drivesAt_2 : List UInt8 := [21, 4, 100, 184, 0, 224, 46, 54, 5, 42, 180, 0, 39, 27, 28, 184, 0, 224, 21, 5, 16, 254]
abbrev dktX4_drivesAt_2 : List UInt8 := dkwX4_drivesAt_2 ++ dktX4_drivesAt_3
def dkwX4_drivesAt_1 : List UInt8 := [180, 0, 17, 3, 46, 54, 4, 28, 21, 4, 162, 0, 8, 16, 254, 167, 0, 16, 42, 180, 0, 48, 27, 28]
abbrev dktX4_drivesAt_1 : List UInt8 := dkwX4_drivesAt_1 ++ dktX4_drivesAt_2
def dkwX4_drivesAt_0 : List UInt8 := [42, 180, 0, 218, 27, 184, 0, 221, 153, 0, 12, 42, 180, 0, 36, 27, 46, 167, 0, 4, 3, 62, 42]
abbrev dktX4_drivesAt_0 : List UInt8 := dkwX4_drivesAt_0 ++ dktX4_drivesAt_1
theorem dksX4_drivesAt_0 : cX4_drivesAt.data.toList.drop 0 = dktX4_drivesAt_0 := by decide +kernel
theorem dksX4_drivesAt_1 : cX4_drivesAt.data.toList.drop 23 = dktX4_drivesAt_1 := dk_seg dksX4_drivesAt_0 23 rfl rfl
theorem dksX4_drivesAt_2 : cX4_drivesAt.data.toList.drop 47 = dktX4_drivesAt_2 := dk_seg dksX4_drivesAt_1 24 rfl rfl
theorem dksX4_drivesAt_3 : cX4_drivesAt.data.toList.drop 69 = dktX4_drivesAt_3 := dk_seg dksX4_drivesAt_2 22 rfl rfl
theorem dX4_drivesAt_0 : decode cX4_drivesAt 0 = .ok (.aload_n 0, 1) := dk_42 (dk_at dksX4_drivesAt_0 0 rfl rfl)
theorem dX4_drivesAt_1 : decode cX4_drivesAt 1 = .ok (.getfield 218, 3) := dk_180 0 218 (dk_at dksX4_drivesAt_0 1 rfl rfl)
theorem dX4_drivesAt_4 : decode cX4_drivesAt 4 = .ok (.iload_n 1, 1) := dk_27 (dk_at dksX4_drivesAt_0 4 rfl rfl)
theorem dX4_drivesAt_5 : decode cX4_drivesAt 5 = .ok (.invokestatic 221, 3) := dk_184 0 221 (dk_at dksX4_drivesAt_0 5 rfl rfl)
theorem dX4_drivesAt_8 : decode cX4_drivesAt 8 = .ok (.ifCond .eq 12, 3) := dk_153 0 12 (dk_at dksX4_drivesAt_0 8 rfl rfl)
theorem dX4_drivesAt_11 : decode cX4_drivesAt 11 = .ok (.aload_n 0, 1) := dk_42 (dk_at dksX4_drivesAt_0 11 rfl rfl)
theorem dX4_drivesAt_12 : decode cX4_drivesAt 12 = .ok (.getfield 36, 3) := dk_180 0 36 (dk_at dksX4_drivesAt_0 12 rfl rfl)
theorem dX4_drivesAt_15 : decode cX4_drivesAt 15 = .ok (.iload_n 1, 1) := dk_27 (dk_at dksX4_drivesAt_0 15 rfl rfl)
theorem dX4_drivesAt_16 : decode cX4_drivesAt 16 = .ok (.iaload, 1) := dk_46 (dk_at dksX4_drivesAt_0 16 rfl rfl)
theorem dX4_drivesAt_17 : decode cX4_drivesAt 17 = .ok (.goto 4, 3) := dk_167 0 4 (dk_at dksX4_drivesAt_0 17 rfl rfl)
theorem dX4_drivesAt_20 : decode cX4_drivesAt 20 = .ok (.iconst 0, 1) := dk_3 (dk_at dksX4_drivesAt_0 20 rfl rfl)
theorem dX4_drivesAt_21 : decode cX4_drivesAt 21 = .ok (.istore_n 3, 1) := dk_62 (dk_at dksX4_drivesAt_0 21 rfl rfl)
theorem dX4_drivesAt_22 : decode cX4_drivesAt 22 = .ok (.aload_n 0, 1) := dk_42 (dk_at dksX4_drivesAt_0 22 rfl rfl)
theorem dX4_drivesAt_23 : decode cX4_drivesAt 23 = .ok (.getfield 17, 3) := dk_180 0 17 (dk_at dksX4_drivesAt_1 0 rfl rfl)
theorem dX4_drivesAt_26 : decode cX4_drivesAt 26 = .ok (.iconst 0, 1) := dk_3 (dk_at dksX4_drivesAt_1 3 rfl rfl)
theorem dX4_drivesAt_27 : decode cX4_drivesAt 27 = .ok (.iaload, 1) := dk_46 (dk_at dksX4_drivesAt_1 4 rfl rfl)
theorem dX4_drivesAt_28 : decode cX4_drivesAt 28 = .ok (.istore 4, 2) := dk_54 4 (dk_at dksX4_drivesAt_1 5 rfl rfl)
theorem dX4_drivesAt_30 : decode cX4_drivesAt 30 = .ok (.iload_n 2, 1) := dk_28 (dk_at dksX4_drivesAt_1 7 rfl rfl)
theorem dX4_drivesAt_31 : decode cX4_drivesAt 31 = .ok (.iload 4, 2) := dk_21 4 (dk_at dksX4_drivesAt_1 8 rfl rfl)
theorem dX4_drivesAt_33 : decode cX4_drivesAt 33 = .ok (.if_icmp .ge 8, 3) := dk_162 0 8 (dk_at dksX4_drivesAt_1 10 rfl rfl)
theorem dX4_drivesAt_36 : decode cX4_drivesAt 36 = .ok (.bipush (-2), 2) := dk_16 254 (dk_at dksX4_drivesAt_1 13 rfl rfl)
theorem dX4_drivesAt_38 : decode cX4_drivesAt 38 = .ok (.goto 16, 3) := dk_167 0 16 (dk_at dksX4_drivesAt_1 15 rfl rfl)
theorem dX4_drivesAt_41 : decode cX4_drivesAt 41 = .ok (.aload_n 0, 1) := dk_42 (dk_at dksX4_drivesAt_1 18 rfl rfl)
theorem dX4_drivesAt_42 : decode cX4_drivesAt 42 = .ok (.getfield 48, 3) := dk_180 0 48 (dk_at dksX4_drivesAt_1 19 rfl rfl)
theorem dX4_drivesAt_45 : decode cX4_drivesAt 45 = .ok (.iload_n 1, 1) := dk_27 (dk_at dksX4_drivesAt_1 22 rfl rfl)
theorem dX4_drivesAt_46 : decode cX4_drivesAt 46 = .ok (.iload_n 2, 1) := dk_28 (dk_at dksX4_drivesAt_1 23 rfl rfl)
theorem dX4_drivesAt_47 : decode cX4_drivesAt 47 = .ok (.iload 4, 2) := dk_21 4 (dk_at dksX4_drivesAt_2 0 rfl rfl)
theorem dX4_drivesAt_49 : decode cX4_drivesAt 49 = .ok (.isub, 1) := dk_100 (dk_at dksX4_drivesAt_2 2 rfl rfl)
theorem dX4_drivesAt_50 : decode cX4_drivesAt 50 = .ok (.invokestatic 224, 3) := dk_184 0 224 (dk_at dksX4_drivesAt_2 3 rfl rfl)
theorem dX4_drivesAt_53 : decode cX4_drivesAt 53 = .ok (.iaload, 1) := dk_46 (dk_at dksX4_drivesAt_2 6 rfl rfl)
theorem dX4_drivesAt_54 : decode cX4_drivesAt 54 = .ok (.istore 5, 2) := dk_54 5 (dk_at dksX4_drivesAt_2 7 rfl rfl)
theorem dX4_drivesAt_56 : decode cX4_drivesAt 56 = .ok (.aload_n 0, 1) := dk_42 (dk_at dksX4_drivesAt_2 9 rfl rfl)
theorem dX4_drivesAt_57 : decode cX4_drivesAt 57 = .ok (.getfield 39, 3) := dk_180 0 39 (dk_at dksX4_drivesAt_2 10 rfl rfl)
theorem dX4_drivesAt_60 : decode cX4_drivesAt 60 = .ok (.iload_n 1, 1) := dk_27 (dk_at dksX4_drivesAt_2 13 rfl rfl)
theorem dX4_drivesAt_61 : decode cX4_drivesAt 61 = .ok (.iload_n 2, 1) := dk_28 (dk_at dksX4_drivesAt_2 14 rfl rfl)
theorem dX4_drivesAt_62 : decode cX4_drivesAt 62 = .ok (.invokestatic 224, 3) := dk_184 0 224 (dk_at dksX4_drivesAt_2 15 rfl rfl)
theorem dX4_drivesAt_65 : decode cX4_drivesAt 65 = .ok (.iload 5, 2) := dk_21 5 (dk_at dksX4_drivesAt_2 18 rfl rfl)
theorem dX4_drivesAt_67 : decode cX4_drivesAt 67 = .ok (.bipush (-2), 2) := dk_16 254 (dk_at dksX4_drivesAt_2 20 rfl rfl)
theorem dX4_drivesAt_69 : decode cX4_drivesAt 69 = .ok (.if_icmp .ne 7, 3) := dk_160 0 7 (dk_at dksX4_drivesAt_3 0 rfl rfl)
theorem dX4_drivesAt_72 : decode cX4_drivesAt 72 = .ok (.iload_n 3, 1) := dk_29 (dk_at dksX4_drivesAt_3 3 rfl rfl)
theorem dX4_drivesAt_73 : decode cX4_drivesAt 73 = .ok (.goto 14, 3) := dk_167 0 14 (dk_at dksX4_drivesAt_3 4 rfl rfl)
theorem dX4_drivesAt_76 : decode cX4_drivesAt 76 = .ok (.iload_n 3, 1) := dk_29 (dk_at dksX4_drivesAt_3 7 rfl rfl)
theorem dX4_drivesAt_77 : decode cX4_drivesAt 77 = .ok (.iload 5, 2) := dk_21 5 (dk_at dksX4_drivesAt_3 8 rfl rfl)
theorem dX4_drivesAt_79 : decode cX4_drivesAt 79 = .ok (.iconst 1, 1) := dk_4 (dk_at dksX4_drivesAt_3 10 rfl rfl)
theorem dX4_drivesAt_80 : decode cX4_drivesAt 80 = .ok (.iadd, 1) := dk_96 (dk_at dksX4_drivesAt_3 11 rfl rfl)
theorem dX4_drivesAt_81 : decode cX4_drivesAt 81 = .ok (.ishr, 1) := dk_122 (dk_at dksX4_drivesAt_3 12 rfl rfl)
theorem dX4_drivesAt_82 : decode cX4_drivesAt 82 = .ok (.iload 5, 2) := dk_21 5 (dk_at dksX4_drivesAt_3 13 rfl rfl)
theorem dX4_drivesAt_84 : decode cX4_drivesAt 84 = .ok (.iconst 1, 1) := dk_4 (dk_at dksX4_drivesAt_3 15 rfl rfl)
theorem dX4_drivesAt_85 : decode cX4_drivesAt 85 = .ok (.iadd, 1) := dk_96 (dk_at dksX4_drivesAt_3 16 rfl rfl)
theorem dX4_drivesAt_86 : decode cX4_drivesAt 86 = .ok (.ishl, 1) := dk_120 (dk_at dksX4_drivesAt_3 17 rfl rfl)
theorem dX4_drivesAt_87 : decode cX4_drivesAt 87 = .ok (.iastore, 1) := dk_79 (dk_at dksX4_drivesAt_3 18 rfl rfl)
theorem dX4_drivesAt_88 : decode cX4_drivesAt 88 = .ok (.return_, 1) := dk_177 (dk_at dksX4_drivesAt_3 19 rfl rfl)
abbrev cX4_has : ByteArray := prog_19_method_31_code
def yX4_has : MethodName := ⟨RX4, "has", "(II)Z"⟩
def dkwX4_has_0 : List UInt8 := [26, 27, 122, 4, 126, 4, 160, 0, 7, 4, 167, 0, 4, 3, 172]
abbrev dktX4_has_0 : List UInt8 := dkwX4_has_0 ++ []
theorem dksX4_has_0 : cX4_has.data.toList.drop 0 = dktX4_has_0 := by decide +kernel
theorem dX4_has_0 : decode cX4_has 0 = .ok (.iload_n 0, 1) := dk_26 (dk_at dksX4_has_0 0 rfl rfl)
theorem dX4_has_1 : decode cX4_has 1 = .ok (.iload_n 1, 1) := dk_27 (dk_at dksX4_has_0 1 rfl rfl)
theorem dX4_has_2 : decode cX4_has 2 = .ok (.ishr, 1) := dk_122 (dk_at dksX4_has_0 2 rfl rfl)
theorem dX4_has_3 : decode cX4_has 3 = .ok (.iconst 1, 1) := dk_4 (dk_at dksX4_has_0 3 rfl rfl)
theorem dX4_has_4 : decode cX4_has 4 = .ok (.iand, 1) := dk_126 (dk_at dksX4_has_0 4 rfl rfl)
theorem dX4_has_5 : decode cX4_has 5 = .ok (.iconst 1, 1) := dk_4 (dk_at dksX4_has_0 5 rfl rfl)
theorem dX4_has_6 : decode cX4_has 6 = .ok (.if_icmp .ne 7, 3) := dk_160 0 7 (dk_at dksX4_has_0 6 rfl rfl)
theorem dX4_has_9 : decode cX4_has 9 = .ok (.iconst 1, 1) := dk_4 (dk_at dksX4_has_0 9 rfl rfl)
theorem dX4_has_10 : decode cX4_has 10 = .ok (.goto 4, 3) := dk_167 0 4 (dk_at dksX4_has_0 10 rfl rfl)
theorem dX4_has_13 : decode cX4_has 13 = .ok (.iconst 0, 1) := dk_3 (dk_at dksX4_has_0 13 rfl rfl)
theorem dX4_has_14 : decode cX4_has 14 = .ok (.ireturn, 1) := dk_172 (dk_at dksX4_has_0 14 rfl rfl)
abbrev cX4_cell : ByteArray := prog_19_method_38_code
def yX4_cell : MethodName := ⟨RX4, "cell", "(II)I"⟩
def dkwX4_cell_0 : List UInt8 := [17, 1, 145, 26, 104, 27, 96, 172]
abbrev dktX4_cell_0 : List UInt8 := dkwX4_cell_0 ++ []
theorem dksX4_cell_0 : cX4_cell.data.toList.drop 0 = dktX4_cell_0 := by decide +kernel
theorem dX4_cell_0 : decode cX4_cell 0 = .ok (.sipush 401, 3) := dk_17 1 145 (dk_at dksX4_cell_0 0 rfl rfl)
theorem dX4_cell_3 : decode cX4_cell 3 = .ok (.iload_n 0, 1) := dk_26 (dk_at dksX4_cell_0 3 rfl rfl)
theorem dX4_cell_4 : decode cX4_cell 4 = .ok (.imul, 1) := dk_104 (dk_at dksX4_cell_0 4 rfl rfl)
theorem dX4_cell_5 : decode cX4_cell 5 = .ok (.iload_n 1, 1) := dk_27 (dk_at dksX4_cell_0 5 rfl rfl)
theorem dX4_cell_6 : decode cX4_cell 6 = .ok (.iadd, 1) := dk_96 (dk_at dksX4_cell_0 6 rfl rfl)
theorem dX4_cell_7 : decode cX4_cell 7 = .ok (.ireturn, 1) := dk_172 (dk_at dksX4_cell_0 7 rfl rfl)
abbrev cX4_dipsAt : ByteArray := prog_19_method_41_code
def yX4_dipsAt : MethodName := ⟨RX4, "dipsAt", "(II)V"⟩
def dkwX4_dipsAt_7 : List UInt8 := [167, 255, 131, 177]
abbrev dktX4_dipsAt_7 : List UInt8 := dkwX4_dipsAt_7 ++ []
def dkwX4_dipsAt_6 : List UInt8 := [96, 92, 46, 4, 21, 4, 120, 128, 79, 132, 8, 1, 167, 255, 220, 132, 6, 1, 167, 255, 188, 132, 4, 1]
abbrev dktX4_dipsAt_6 : List UInt8 := dkwX4_dipsAt_6 ++ dktX4_dipsAt_7
def dkwX4_dipsAt_5 : List UInt8 := [21, 8, 21, 7, 5, 21, 5, 104, 96, 162, 0, 30, 42, 180, 0, 51, 17, 1, 205, 21, 6, 104, 21, 8]
abbrev dktX4_dipsAt_5 : List UInt8 := dkwX4_dipsAt_5 ++ dktX4_dipsAt_6
def dkwX4_dipsAt_4 : List UInt8 := [180, 0, 17, 6, 46, 162, 0, 63, 28, 42, 27, 21, 6, 182, 0, 227, 96, 54, 7, 21, 7, 54, 8]
abbrev dktX4_dipsAt_4 : List UInt8 := dkwX4_dipsAt_4 ++ dktX4_dipsAt_5
def dkwX4_dipsAt_3 : List UInt8 := [154, 0, 6, 167, 0, 87, 42, 89, 180, 0, 234, 4, 96, 181, 0, 234, 3, 54, 6, 21, 6, 42]
abbrev dktX4_dipsAt_3 : List UInt8 := dkwX4_dipsAt_3 ++ dktX4_dipsAt_4
def dkwX4_dipsAt_2 : List UInt8 := [184, 0, 221, 153, 0, 14, 42, 27, 21, 4, 28, 182, 0, 230, 167, 0, 4, 3, 54, 5, 21, 5]
abbrev dktX4_dipsAt_2 : List UInt8 := dkwX4_dipsAt_2 ++ dktX4_dipsAt_3
def dkwX4_dipsAt_1 : List UInt8 := [27, 28, 184, 0, 224, 46, 2, 130, 126, 62, 3, 54, 4, 21, 4, 16, 6, 162, 0, 124, 29, 21, 4]
abbrev dktX4_dipsAt_1 : List UInt8 := dkwX4_dipsAt_1 ++ dktX4_dipsAt_2
def dkwX4_dipsAt_0 : List UInt8 := [28, 154, 0, 7, 3, 167, 0, 28, 42, 180, 0, 39, 27, 28, 4, 100, 184, 0, 224, 46, 42, 180, 0, 39]
abbrev dktX4_dipsAt_0 : List UInt8 := dkwX4_dipsAt_0 ++ dktX4_dipsAt_1
theorem dksX4_dipsAt_0 : cX4_dipsAt.data.toList.drop 0 = dktX4_dipsAt_0 := by decide +kernel
theorem dksX4_dipsAt_1 : cX4_dipsAt.data.toList.drop 24 = dktX4_dipsAt_1 := dk_seg dksX4_dipsAt_0 24 rfl rfl
theorem dksX4_dipsAt_2 : cX4_dipsAt.data.toList.drop 47 = dktX4_dipsAt_2 := dk_seg dksX4_dipsAt_1 23 rfl rfl
theorem dksX4_dipsAt_3 : cX4_dipsAt.data.toList.drop 69 = dktX4_dipsAt_3 := dk_seg dksX4_dipsAt_2 22 rfl rfl
theorem dksX4_dipsAt_4 : cX4_dipsAt.data.toList.drop 91 = dktX4_dipsAt_4 := dk_seg dksX4_dipsAt_3 22 rfl rfl
theorem dksX4_dipsAt_5 : cX4_dipsAt.data.toList.drop 114 = dktX4_dipsAt_5 := dk_seg dksX4_dipsAt_4 23 rfl rfl
theorem dksX4_dipsAt_6 : cX4_dipsAt.data.toList.drop 138 = dktX4_dipsAt_6 := dk_seg dksX4_dipsAt_5 24 rfl rfl
theorem dksX4_dipsAt_7 : cX4_dipsAt.data.toList.drop 162 = dktX4_dipsAt_7 := dk_seg dksX4_dipsAt_6 24 rfl rfl
theorem dX4_dipsAt_0 : decode cX4_dipsAt 0 = .ok (.iload_n 2, 1) := dk_28 (dk_at dksX4_dipsAt_0 0 rfl rfl)
theorem dX4_dipsAt_1 : decode cX4_dipsAt 1 = .ok (.ifCond .ne 7, 3) := dk_154 0 7 (dk_at dksX4_dipsAt_0 1 rfl rfl)
theorem dX4_dipsAt_4 : decode cX4_dipsAt 4 = .ok (.iconst 0, 1) := dk_3 (dk_at dksX4_dipsAt_0 4 rfl rfl)
theorem dX4_dipsAt_5 : decode cX4_dipsAt 5 = .ok (.goto 28, 3) := dk_167 0 28 (dk_at dksX4_dipsAt_0 5 rfl rfl)
theorem dX4_dipsAt_8 : decode cX4_dipsAt 8 = .ok (.aload_n 0, 1) := dk_42 (dk_at dksX4_dipsAt_0 8 rfl rfl)
theorem dX4_dipsAt_9 : decode cX4_dipsAt 9 = .ok (.getfield 39, 3) := dk_180 0 39 (dk_at dksX4_dipsAt_0 9 rfl rfl)
theorem dX4_dipsAt_12 : decode cX4_dipsAt 12 = .ok (.iload_n 1, 1) := dk_27 (dk_at dksX4_dipsAt_0 12 rfl rfl)
theorem dX4_dipsAt_13 : decode cX4_dipsAt 13 = .ok (.iload_n 2, 1) := dk_28 (dk_at dksX4_dipsAt_0 13 rfl rfl)
theorem dX4_dipsAt_14 : decode cX4_dipsAt 14 = .ok (.iconst 1, 1) := dk_4 (dk_at dksX4_dipsAt_0 14 rfl rfl)
theorem dX4_dipsAt_15 : decode cX4_dipsAt 15 = .ok (.isub, 1) := dk_100 (dk_at dksX4_dipsAt_0 15 rfl rfl)
theorem dX4_dipsAt_16 : decode cX4_dipsAt 16 = .ok (.invokestatic 224, 3) := dk_184 0 224 (dk_at dksX4_dipsAt_0 16 rfl rfl)
theorem dX4_dipsAt_19 : decode cX4_dipsAt 19 = .ok (.iaload, 1) := dk_46 (dk_at dksX4_dipsAt_0 19 rfl rfl)
theorem dX4_dipsAt_20 : decode cX4_dipsAt 20 = .ok (.aload_n 0, 1) := dk_42 (dk_at dksX4_dipsAt_0 20 rfl rfl)
theorem dX4_dipsAt_21 : decode cX4_dipsAt 21 = .ok (.getfield 39, 3) := dk_180 0 39 (dk_at dksX4_dipsAt_0 21 rfl rfl)
theorem dX4_dipsAt_24 : decode cX4_dipsAt 24 = .ok (.iload_n 1, 1) := dk_27 (dk_at dksX4_dipsAt_1 0 rfl rfl)
theorem dX4_dipsAt_25 : decode cX4_dipsAt 25 = .ok (.iload_n 2, 1) := dk_28 (dk_at dksX4_dipsAt_1 1 rfl rfl)
theorem dX4_dipsAt_26 : decode cX4_dipsAt 26 = .ok (.invokestatic 224, 3) := dk_184 0 224 (dk_at dksX4_dipsAt_1 2 rfl rfl)
theorem dX4_dipsAt_29 : decode cX4_dipsAt 29 = .ok (.iaload, 1) := dk_46 (dk_at dksX4_dipsAt_1 5 rfl rfl)
theorem dX4_dipsAt_30 : decode cX4_dipsAt 30 = .ok (.iconst (-1), 1) := dk_2 (dk_at dksX4_dipsAt_1 6 rfl rfl)
theorem dX4_dipsAt_31 : decode cX4_dipsAt 31 = .ok (.ixor, 1) := dk_130 (dk_at dksX4_dipsAt_1 7 rfl rfl)
theorem dX4_dipsAt_32 : decode cX4_dipsAt 32 = .ok (.iand, 1) := dk_126 (dk_at dksX4_dipsAt_1 8 rfl rfl)
theorem dX4_dipsAt_33 : decode cX4_dipsAt 33 = .ok (.istore_n 3, 1) := dk_62 (dk_at dksX4_dipsAt_1 9 rfl rfl)
theorem dX4_dipsAt_34 : decode cX4_dipsAt 34 = .ok (.iconst 0, 1) := dk_3 (dk_at dksX4_dipsAt_1 10 rfl rfl)
theorem dX4_dipsAt_35 : decode cX4_dipsAt 35 = .ok (.istore 4, 2) := dk_54 4 (dk_at dksX4_dipsAt_1 11 rfl rfl)
theorem dX4_dipsAt_37 : decode cX4_dipsAt 37 = .ok (.iload 4, 2) := dk_21 4 (dk_at dksX4_dipsAt_1 13 rfl rfl)
theorem dX4_dipsAt_39 : decode cX4_dipsAt 39 = .ok (.bipush 6, 2) := dk_16 6 (dk_at dksX4_dipsAt_1 15 rfl rfl)
theorem dX4_dipsAt_41 : decode cX4_dipsAt 41 = .ok (.if_icmp .ge 124, 3) := dk_162 0 124 (dk_at dksX4_dipsAt_1 17 rfl rfl)
theorem dX4_dipsAt_44 : decode cX4_dipsAt 44 = .ok (.iload_n 3, 1) := dk_29 (dk_at dksX4_dipsAt_1 20 rfl rfl)
theorem dX4_dipsAt_45 : decode cX4_dipsAt 45 = .ok (.iload 4, 2) := dk_21 4 (dk_at dksX4_dipsAt_1 21 rfl rfl)
theorem dX4_dipsAt_47 : decode cX4_dipsAt 47 = .ok (.invokestatic 221, 3) := dk_184 0 221 (dk_at dksX4_dipsAt_2 0 rfl rfl)
theorem dX4_dipsAt_50 : decode cX4_dipsAt 50 = .ok (.ifCond .eq 14, 3) := dk_153 0 14 (dk_at dksX4_dipsAt_2 3 rfl rfl)
theorem dX4_dipsAt_53 : decode cX4_dipsAt 53 = .ok (.aload_n 0, 1) := dk_42 (dk_at dksX4_dipsAt_2 6 rfl rfl)
theorem dX4_dipsAt_54 : decode cX4_dipsAt 54 = .ok (.iload_n 1, 1) := dk_27 (dk_at dksX4_dipsAt_2 7 rfl rfl)
theorem dX4_dipsAt_55 : decode cX4_dipsAt 55 = .ok (.iload 4, 2) := dk_21 4 (dk_at dksX4_dipsAt_2 8 rfl rfl)
theorem dX4_dipsAt_57 : decode cX4_dipsAt 57 = .ok (.iload_n 2, 1) := dk_28 (dk_at dksX4_dipsAt_2 10 rfl rfl)
theorem dX4_dipsAt_58 : decode cX4_dipsAt 58 = .ok (.invokevirtual 230, 3) := dk_182 0 230 (dk_at dksX4_dipsAt_2 11 rfl rfl)
theorem dX4_dipsAt_61 : decode cX4_dipsAt 61 = .ok (.goto 4, 3) := dk_167 0 4 (dk_at dksX4_dipsAt_2 14 rfl rfl)
theorem dX4_dipsAt_64 : decode cX4_dipsAt 64 = .ok (.iconst 0, 1) := dk_3 (dk_at dksX4_dipsAt_2 17 rfl rfl)
theorem dX4_dipsAt_65 : decode cX4_dipsAt 65 = .ok (.istore 5, 2) := dk_54 5 (dk_at dksX4_dipsAt_2 18 rfl rfl)
theorem dX4_dipsAt_67 : decode cX4_dipsAt 67 = .ok (.iload 5, 2) := dk_21 5 (dk_at dksX4_dipsAt_2 20 rfl rfl)
theorem dX4_dipsAt_69 : decode cX4_dipsAt 69 = .ok (.ifCond .ne 6, 3) := dk_154 0 6 (dk_at dksX4_dipsAt_3 0 rfl rfl)
theorem dX4_dipsAt_72 : decode cX4_dipsAt 72 = .ok (.goto 87, 3) := dk_167 0 87 (dk_at dksX4_dipsAt_3 3 rfl rfl)
theorem dX4_dipsAt_75 : decode cX4_dipsAt 75 = .ok (.aload_n 0, 1) := dk_42 (dk_at dksX4_dipsAt_3 6 rfl rfl)
theorem dX4_dipsAt_76 : decode cX4_dipsAt 76 = .ok (.dup, 1) := dk_89 (dk_at dksX4_dipsAt_3 7 rfl rfl)
theorem dX4_dipsAt_77 : decode cX4_dipsAt 77 = .ok (.getfield 234, 3) := dk_180 0 234 (dk_at dksX4_dipsAt_3 8 rfl rfl)
theorem dX4_dipsAt_80 : decode cX4_dipsAt 80 = .ok (.iconst 1, 1) := dk_4 (dk_at dksX4_dipsAt_3 11 rfl rfl)
theorem dX4_dipsAt_81 : decode cX4_dipsAt 81 = .ok (.iadd, 1) := dk_96 (dk_at dksX4_dipsAt_3 12 rfl rfl)
theorem dX4_dipsAt_82 : decode cX4_dipsAt 82 = .ok (.putfield 234, 3) := dk_181 0 234 (dk_at dksX4_dipsAt_3 13 rfl rfl)
theorem dX4_dipsAt_85 : decode cX4_dipsAt 85 = .ok (.iconst 0, 1) := dk_3 (dk_at dksX4_dipsAt_3 16 rfl rfl)
theorem dX4_dipsAt_86 : decode cX4_dipsAt 86 = .ok (.istore 6, 2) := dk_54 6 (dk_at dksX4_dipsAt_3 17 rfl rfl)
theorem dX4_dipsAt_88 : decode cX4_dipsAt 88 = .ok (.iload 6, 2) := dk_21 6 (dk_at dksX4_dipsAt_3 19 rfl rfl)
theorem dX4_dipsAt_90 : decode cX4_dipsAt 90 = .ok (.aload_n 0, 1) := dk_42 (dk_at dksX4_dipsAt_3 21 rfl rfl)
theorem dX4_dipsAt_91 : decode cX4_dipsAt 91 = .ok (.getfield 17, 3) := dk_180 0 17 (dk_at dksX4_dipsAt_4 0 rfl rfl)
theorem dX4_dipsAt_94 : decode cX4_dipsAt 94 = .ok (.iconst 3, 1) := dk_6 (dk_at dksX4_dipsAt_4 3 rfl rfl)
theorem dX4_dipsAt_95 : decode cX4_dipsAt 95 = .ok (.iaload, 1) := dk_46 (dk_at dksX4_dipsAt_4 4 rfl rfl)
theorem dX4_dipsAt_96 : decode cX4_dipsAt 96 = .ok (.if_icmp .ge 63, 3) := dk_162 0 63 (dk_at dksX4_dipsAt_4 5 rfl rfl)
theorem dX4_dipsAt_99 : decode cX4_dipsAt 99 = .ok (.iload_n 2, 1) := dk_28 (dk_at dksX4_dipsAt_4 8 rfl rfl)
theorem dX4_dipsAt_100 : decode cX4_dipsAt 100 = .ok (.aload_n 0, 1) := dk_42 (dk_at dksX4_dipsAt_4 9 rfl rfl)
theorem dX4_dipsAt_101 : decode cX4_dipsAt 101 = .ok (.iload_n 1, 1) := dk_27 (dk_at dksX4_dipsAt_4 10 rfl rfl)
theorem dX4_dipsAt_102 : decode cX4_dipsAt 102 = .ok (.iload 6, 2) := dk_21 6 (dk_at dksX4_dipsAt_4 11 rfl rfl)
theorem dX4_dipsAt_104 : decode cX4_dipsAt 104 = .ok (.invokevirtual 227, 3) := dk_182 0 227 (dk_at dksX4_dipsAt_4 13 rfl rfl)
theorem dX4_dipsAt_107 : decode cX4_dipsAt 107 = .ok (.iadd, 1) := dk_96 (dk_at dksX4_dipsAt_4 16 rfl rfl)
theorem dX4_dipsAt_108 : decode cX4_dipsAt 108 = .ok (.istore 7, 2) := dk_54 7 (dk_at dksX4_dipsAt_4 17 rfl rfl)
theorem dX4_dipsAt_110 : decode cX4_dipsAt 110 = .ok (.iload 7, 2) := dk_21 7 (dk_at dksX4_dipsAt_4 19 rfl rfl)
theorem dX4_dipsAt_112 : decode cX4_dipsAt 112 = .ok (.istore 8, 2) := dk_54 8 (dk_at dksX4_dipsAt_4 21 rfl rfl)
theorem dX4_dipsAt_114 : decode cX4_dipsAt 114 = .ok (.iload 8, 2) := dk_21 8 (dk_at dksX4_dipsAt_5 0 rfl rfl)
theorem dX4_dipsAt_116 : decode cX4_dipsAt 116 = .ok (.iload 7, 2) := dk_21 7 (dk_at dksX4_dipsAt_5 2 rfl rfl)
theorem dX4_dipsAt_118 : decode cX4_dipsAt 118 = .ok (.iconst 2, 1) := dk_5 (dk_at dksX4_dipsAt_5 4 rfl rfl)
theorem dX4_dipsAt_119 : decode cX4_dipsAt 119 = .ok (.iload 5, 2) := dk_21 5 (dk_at dksX4_dipsAt_5 5 rfl rfl)
theorem dX4_dipsAt_121 : decode cX4_dipsAt 121 = .ok (.imul, 1) := dk_104 (dk_at dksX4_dipsAt_5 7 rfl rfl)
theorem dX4_dipsAt_122 : decode cX4_dipsAt 122 = .ok (.iadd, 1) := dk_96 (dk_at dksX4_dipsAt_5 8 rfl rfl)
theorem dX4_dipsAt_123 : decode cX4_dipsAt 123 = .ok (.if_icmp .ge 30, 3) := dk_162 0 30 (dk_at dksX4_dipsAt_5 9 rfl rfl)
theorem dX4_dipsAt_126 : decode cX4_dipsAt 126 = .ok (.aload_n 0, 1) := dk_42 (dk_at dksX4_dipsAt_5 12 rfl rfl)
theorem dX4_dipsAt_127 : decode cX4_dipsAt 127 = .ok (.getfield 51, 3) := dk_180 0 51 (dk_at dksX4_dipsAt_5 13 rfl rfl)
theorem dX4_dipsAt_130 : decode cX4_dipsAt 130 = .ok (.sipush 461, 3) := dk_17 1 205 (dk_at dksX4_dipsAt_5 16 rfl rfl)
theorem dX4_dipsAt_133 : decode cX4_dipsAt 133 = .ok (.iload 6, 2) := dk_21 6 (dk_at dksX4_dipsAt_5 19 rfl rfl)
theorem dX4_dipsAt_135 : decode cX4_dipsAt 135 = .ok (.imul, 1) := dk_104 (dk_at dksX4_dipsAt_5 21 rfl rfl)
theorem dX4_dipsAt_136 : decode cX4_dipsAt 136 = .ok (.iload 8, 2) := dk_21 8 (dk_at dksX4_dipsAt_5 22 rfl rfl)
theorem dX4_dipsAt_138 : decode cX4_dipsAt 138 = .ok (.iadd, 1) := dk_96 (dk_at dksX4_dipsAt_6 0 rfl rfl)
theorem dX4_dipsAt_139 : decode cX4_dipsAt 139 = .ok (.dup2, 1) := dk_92 (dk_at dksX4_dipsAt_6 1 rfl rfl)
theorem dX4_dipsAt_140 : decode cX4_dipsAt 140 = .ok (.iaload, 1) := dk_46 (dk_at dksX4_dipsAt_6 2 rfl rfl)
theorem dX4_dipsAt_141 : decode cX4_dipsAt 141 = .ok (.iconst 1, 1) := dk_4 (dk_at dksX4_dipsAt_6 3 rfl rfl)
theorem dX4_dipsAt_142 : decode cX4_dipsAt 142 = .ok (.iload 4, 2) := dk_21 4 (dk_at dksX4_dipsAt_6 4 rfl rfl)
theorem dX4_dipsAt_144 : decode cX4_dipsAt 144 = .ok (.ishl, 1) := dk_120 (dk_at dksX4_dipsAt_6 6 rfl rfl)
theorem dX4_dipsAt_145 : decode cX4_dipsAt 145 = .ok (.ior, 1) := dk_128 (dk_at dksX4_dipsAt_6 7 rfl rfl)
theorem dX4_dipsAt_146 : decode cX4_dipsAt 146 = .ok (.iastore, 1) := dk_79 (dk_at dksX4_dipsAt_6 8 rfl rfl)
theorem dX4_dipsAt_147 : decode cX4_dipsAt 147 = .ok (.iinc 8 1, 3) := dk_132 8 1 (dk_at dksX4_dipsAt_6 9 rfl rfl)
theorem dX4_dipsAt_150 : decode cX4_dipsAt 150 = .ok (.goto (-36), 3) := dk_167 255 220 (dk_at dksX4_dipsAt_6 12 rfl rfl)
theorem dX4_dipsAt_153 : decode cX4_dipsAt 153 = .ok (.iinc 6 1, 3) := dk_132 6 1 (dk_at dksX4_dipsAt_6 15 rfl rfl)
theorem dX4_dipsAt_156 : decode cX4_dipsAt 156 = .ok (.goto (-68), 3) := dk_167 255 188 (dk_at dksX4_dipsAt_6 18 rfl rfl)
theorem dX4_dipsAt_159 : decode cX4_dipsAt 159 = .ok (.iinc 4 1, 3) := dk_132 4 1 (dk_at dksX4_dipsAt_6 21 rfl rfl)
theorem dX4_dipsAt_162 : decode cX4_dipsAt 162 = .ok (.goto (-125), 3) := dk_167 255 131 (dk_at dksX4_dipsAt_7 0 rfl rfl)
theorem dX4_dipsAt_165 : decode cX4_dipsAt 165 = .ok (.return_, 1) := dk_177 (dk_at dksX4_dipsAt_7 3 rfl rfl)
abbrev cX4_nearest : ByteArray := prog_19_method_40_code
def yX4_nearest : MethodName := ⟨RX4, "nearest", "(III)I"⟩
def dkwX4_nearest_3 : List UInt8 := [132, 5, 1, 167, 255, 188, 21, 4, 172]
abbrev dktX4_nearest_3 : List UInt8 := dkwX4_nearest_3 ++ []
def dkwX4_nearest_2 : List UInt8 := [153, 0, 20, 21, 4, 153, 0, 10, 21, 6, 21, 4, 162, 0, 8, 21, 6, 167, 0, 5, 21, 4, 54, 4]
abbrev dktX4_nearest_2 : List UInt8 := dkwX4_nearest_2 ++ dktX4_nearest_3
def dkwX4_nearest_1 : List UInt8 := [54, 6, 21, 5, 27, 159, 0, 38, 42, 180, 0, 39, 21, 5, 29, 184, 0, 224, 46, 28, 184, 0, 221]
abbrev dktX4_nearest_1 : List UInt8 := dkwX4_nearest_1 ++ dktX4_nearest_2
def dkwX4_nearest_0 : List UInt8 := [3, 54, 4, 3, 54, 5, 21, 5, 42, 180, 0, 17, 6, 46, 162, 0, 63, 42, 27, 21, 5, 182, 0, 227]
abbrev dktX4_nearest_0 : List UInt8 := dkwX4_nearest_0 ++ dktX4_nearest_1
theorem dksX4_nearest_0 : cX4_nearest.data.toList.drop 0 = dktX4_nearest_0 := by decide +kernel
theorem dksX4_nearest_1 : cX4_nearest.data.toList.drop 24 = dktX4_nearest_1 := dk_seg dksX4_nearest_0 24 rfl rfl
theorem dksX4_nearest_2 : cX4_nearest.data.toList.drop 47 = dktX4_nearest_2 := dk_seg dksX4_nearest_1 23 rfl rfl
theorem dksX4_nearest_3 : cX4_nearest.data.toList.drop 71 = dktX4_nearest_3 := dk_seg dksX4_nearest_2 24 rfl rfl
theorem dX4_nearest_0 : decode cX4_nearest 0 = .ok (.iconst 0, 1) := dk_3 (dk_at dksX4_nearest_0 0 rfl rfl)
theorem dX4_nearest_1 : decode cX4_nearest 1 = .ok (.istore 4, 2) := dk_54 4 (dk_at dksX4_nearest_0 1 rfl rfl)
theorem dX4_nearest_3 : decode cX4_nearest 3 = .ok (.iconst 0, 1) := dk_3 (dk_at dksX4_nearest_0 3 rfl rfl)
theorem dX4_nearest_4 : decode cX4_nearest 4 = .ok (.istore 5, 2) := dk_54 5 (dk_at dksX4_nearest_0 4 rfl rfl)
theorem dX4_nearest_6 : decode cX4_nearest 6 = .ok (.iload 5, 2) := dk_21 5 (dk_at dksX4_nearest_0 6 rfl rfl)
theorem dX4_nearest_8 : decode cX4_nearest 8 = .ok (.aload_n 0, 1) := dk_42 (dk_at dksX4_nearest_0 8 rfl rfl)
theorem dX4_nearest_9 : decode cX4_nearest 9 = .ok (.getfield 17, 3) := dk_180 0 17 (dk_at dksX4_nearest_0 9 rfl rfl)
theorem dX4_nearest_12 : decode cX4_nearest 12 = .ok (.iconst 3, 1) := dk_6 (dk_at dksX4_nearest_0 12 rfl rfl)
theorem dX4_nearest_13 : decode cX4_nearest 13 = .ok (.iaload, 1) := dk_46 (dk_at dksX4_nearest_0 13 rfl rfl)
theorem dX4_nearest_14 : decode cX4_nearest 14 = .ok (.if_icmp .ge 63, 3) := dk_162 0 63 (dk_at dksX4_nearest_0 14 rfl rfl)
theorem dX4_nearest_17 : decode cX4_nearest 17 = .ok (.aload_n 0, 1) := dk_42 (dk_at dksX4_nearest_0 17 rfl rfl)
theorem dX4_nearest_18 : decode cX4_nearest 18 = .ok (.iload_n 1, 1) := dk_27 (dk_at dksX4_nearest_0 18 rfl rfl)
theorem dX4_nearest_19 : decode cX4_nearest 19 = .ok (.iload 5, 2) := dk_21 5 (dk_at dksX4_nearest_0 19 rfl rfl)
theorem dX4_nearest_21 : decode cX4_nearest 21 = .ok (.invokevirtual 227, 3) := dk_182 0 227 (dk_at dksX4_nearest_0 21 rfl rfl)
theorem dX4_nearest_24 : decode cX4_nearest 24 = .ok (.istore 6, 2) := dk_54 6 (dk_at dksX4_nearest_1 0 rfl rfl)
theorem dX4_nearest_26 : decode cX4_nearest 26 = .ok (.iload 5, 2) := dk_21 5 (dk_at dksX4_nearest_1 2 rfl rfl)
theorem dX4_nearest_28 : decode cX4_nearest 28 = .ok (.iload_n 1, 1) := dk_27 (dk_at dksX4_nearest_1 4 rfl rfl)
theorem dX4_nearest_29 : decode cX4_nearest 29 = .ok (.if_icmp .eq 38, 3) := dk_159 0 38 (dk_at dksX4_nearest_1 5 rfl rfl)
theorem dX4_nearest_32 : decode cX4_nearest 32 = .ok (.aload_n 0, 1) := dk_42 (dk_at dksX4_nearest_1 8 rfl rfl)
theorem dX4_nearest_33 : decode cX4_nearest 33 = .ok (.getfield 39, 3) := dk_180 0 39 (dk_at dksX4_nearest_1 9 rfl rfl)
theorem dX4_nearest_36 : decode cX4_nearest 36 = .ok (.iload 5, 2) := dk_21 5 (dk_at dksX4_nearest_1 12 rfl rfl)
theorem dX4_nearest_38 : decode cX4_nearest 38 = .ok (.iload_n 3, 1) := dk_29 (dk_at dksX4_nearest_1 14 rfl rfl)
theorem dX4_nearest_39 : decode cX4_nearest 39 = .ok (.invokestatic 224, 3) := dk_184 0 224 (dk_at dksX4_nearest_1 15 rfl rfl)
theorem dX4_nearest_42 : decode cX4_nearest 42 = .ok (.iaload, 1) := dk_46 (dk_at dksX4_nearest_1 18 rfl rfl)
theorem dX4_nearest_43 : decode cX4_nearest 43 = .ok (.iload_n 2, 1) := dk_28 (dk_at dksX4_nearest_1 19 rfl rfl)
theorem dX4_nearest_44 : decode cX4_nearest 44 = .ok (.invokestatic 221, 3) := dk_184 0 221 (dk_at dksX4_nearest_1 20 rfl rfl)
theorem dX4_nearest_47 : decode cX4_nearest 47 = .ok (.ifCond .eq 20, 3) := dk_153 0 20 (dk_at dksX4_nearest_2 0 rfl rfl)
theorem dX4_nearest_50 : decode cX4_nearest 50 = .ok (.iload 4, 2) := dk_21 4 (dk_at dksX4_nearest_2 3 rfl rfl)
theorem dX4_nearest_52 : decode cX4_nearest 52 = .ok (.ifCond .eq 10, 3) := dk_153 0 10 (dk_at dksX4_nearest_2 5 rfl rfl)
theorem dX4_nearest_55 : decode cX4_nearest 55 = .ok (.iload 6, 2) := dk_21 6 (dk_at dksX4_nearest_2 8 rfl rfl)
theorem dX4_nearest_57 : decode cX4_nearest 57 = .ok (.iload 4, 2) := dk_21 4 (dk_at dksX4_nearest_2 10 rfl rfl)
theorem dX4_nearest_59 : decode cX4_nearest 59 = .ok (.if_icmp .ge 8, 3) := dk_162 0 8 (dk_at dksX4_nearest_2 12 rfl rfl)
theorem dX4_nearest_62 : decode cX4_nearest 62 = .ok (.iload 6, 2) := dk_21 6 (dk_at dksX4_nearest_2 15 rfl rfl)
theorem dX4_nearest_64 : decode cX4_nearest 64 = .ok (.goto 5, 3) := dk_167 0 5 (dk_at dksX4_nearest_2 17 rfl rfl)
theorem dX4_nearest_67 : decode cX4_nearest 67 = .ok (.iload 4, 2) := dk_21 4 (dk_at dksX4_nearest_2 20 rfl rfl)
theorem dX4_nearest_69 : decode cX4_nearest 69 = .ok (.istore 4, 2) := dk_54 4 (dk_at dksX4_nearest_2 22 rfl rfl)
theorem dX4_nearest_71 : decode cX4_nearest 71 = .ok (.iinc 5 1, 3) := dk_132 5 1 (dk_at dksX4_nearest_3 0 rfl rfl)
theorem dX4_nearest_74 : decode cX4_nearest 74 = .ok (.goto (-68), 3) := dk_167 255 188 (dk_at dksX4_nearest_3 3 rfl rfl)
theorem dX4_nearest_77 : decode cX4_nearest 77 = .ok (.iload 4, 2) := dk_21 4 (dk_at dksX4_nearest_3 6 rfl rfl)
theorem dX4_nearest_79 : decode cX4_nearest 79 = .ok (.ireturn, 1) := dk_172 (dk_at dksX4_nearest_3 8 rfl rfl)
abbrev cX4_slotsApart : ByteArray := prog_19_method_37_code
def yX4_slotsApart : MethodName := ⟨RX4, "slotsApart", "(II)I"⟩
def dkwX4_slotsApart_1 : List UInt8 := [167, 0, 4, 29, 172]
abbrev dktX4_slotsApart_1 : List UInt8 := dkwX4_slotsApart_1 ++ []
def dkwX4_slotsApart_0 : List UInt8 := [42, 180, 0, 17, 8, 27, 96, 46, 42, 180, 0, 17, 8, 28, 96, 46, 100, 62, 29, 156, 0, 8, 29, 116]
abbrev dktX4_slotsApart_0 : List UInt8 := dkwX4_slotsApart_0 ++ dktX4_slotsApart_1
theorem dksX4_slotsApart_0 : cX4_slotsApart.data.toList.drop 0 = dktX4_slotsApart_0 := by decide +kernel
theorem dksX4_slotsApart_1 : cX4_slotsApart.data.toList.drop 24 = dktX4_slotsApart_1 := dk_seg dksX4_slotsApart_0 24 rfl rfl
theorem dX4_slotsApart_0 : decode cX4_slotsApart 0 = .ok (.aload_n 0, 1) := dk_42 (dk_at dksX4_slotsApart_0 0 rfl rfl)
theorem dX4_slotsApart_1 : decode cX4_slotsApart 1 = .ok (.getfield 17, 3) := dk_180 0 17 (dk_at dksX4_slotsApart_0 1 rfl rfl)
theorem dX4_slotsApart_4 : decode cX4_slotsApart 4 = .ok (.iconst 5, 1) := dk_8 (dk_at dksX4_slotsApart_0 4 rfl rfl)
theorem dX4_slotsApart_5 : decode cX4_slotsApart 5 = .ok (.iload_n 1, 1) := dk_27 (dk_at dksX4_slotsApart_0 5 rfl rfl)
theorem dX4_slotsApart_6 : decode cX4_slotsApart 6 = .ok (.iadd, 1) := dk_96 (dk_at dksX4_slotsApart_0 6 rfl rfl)
theorem dX4_slotsApart_7 : decode cX4_slotsApart 7 = .ok (.iaload, 1) := dk_46 (dk_at dksX4_slotsApart_0 7 rfl rfl)
theorem dX4_slotsApart_8 : decode cX4_slotsApart 8 = .ok (.aload_n 0, 1) := dk_42 (dk_at dksX4_slotsApart_0 8 rfl rfl)
theorem dX4_slotsApart_9 : decode cX4_slotsApart 9 = .ok (.getfield 17, 3) := dk_180 0 17 (dk_at dksX4_slotsApart_0 9 rfl rfl)
theorem dX4_slotsApart_12 : decode cX4_slotsApart 12 = .ok (.iconst 5, 1) := dk_8 (dk_at dksX4_slotsApart_0 12 rfl rfl)
theorem dX4_slotsApart_13 : decode cX4_slotsApart 13 = .ok (.iload_n 2, 1) := dk_28 (dk_at dksX4_slotsApart_0 13 rfl rfl)
theorem dX4_slotsApart_14 : decode cX4_slotsApart 14 = .ok (.iadd, 1) := dk_96 (dk_at dksX4_slotsApart_0 14 rfl rfl)
theorem dX4_slotsApart_15 : decode cX4_slotsApart 15 = .ok (.iaload, 1) := dk_46 (dk_at dksX4_slotsApart_0 15 rfl rfl)
theorem dX4_slotsApart_16 : decode cX4_slotsApart 16 = .ok (.isub, 1) := dk_100 (dk_at dksX4_slotsApart_0 16 rfl rfl)
theorem dX4_slotsApart_17 : decode cX4_slotsApart 17 = .ok (.istore_n 3, 1) := dk_62 (dk_at dksX4_slotsApart_0 17 rfl rfl)
theorem dX4_slotsApart_18 : decode cX4_slotsApart 18 = .ok (.iload_n 3, 1) := dk_29 (dk_at dksX4_slotsApart_0 18 rfl rfl)
theorem dX4_slotsApart_19 : decode cX4_slotsApart 19 = .ok (.ifCond .ge 8, 3) := dk_156 0 8 (dk_at dksX4_slotsApart_0 19 rfl rfl)
theorem dX4_slotsApart_22 : decode cX4_slotsApart 22 = .ok (.iload_n 3, 1) := dk_29 (dk_at dksX4_slotsApart_0 22 rfl rfl)
theorem dX4_slotsApart_23 : decode cX4_slotsApart 23 = .ok (.ineg, 1) := dk_116 (dk_at dksX4_slotsApart_0 23 rfl rfl)
theorem dX4_slotsApart_24 : decode cX4_slotsApart 24 = .ok (.goto 4, 3) := dk_167 0 4 (dk_at dksX4_slotsApart_1 0 rfl rfl)
theorem dX4_slotsApart_27 : decode cX4_slotsApart 27 = .ok (.iload_n 3, 1) := dk_29 (dk_at dksX4_slotsApart_1 3 rfl rfl)
theorem dX4_slotsApart_28 : decode cX4_slotsApart 28 = .ok (.ireturn, 1) := dk_172 (dk_at dksX4_slotsApart_1 4 rfl rfl)
abbrev cX4_looksAt : ByteArray := prog_19_method_43_code
def yX4_looksAt : MethodName := ⟨RX4, "looksAt", "(II)V"⟩
def dkwX4_looksAt_7 : List UInt8 := [54, 5, 132, 6, 1, 167, 255, 202, 42, 180, 0, 48, 27, 28, 184, 0, 224, 21, 5, 79, 177]
abbrev dktX4_looksAt_7 : List UInt8 := dkwX4_looksAt_7 ++ []
def dkwX4_looksAt_6 : List UInt8 := [153, 0, 22, 42, 180, 0, 36, 27, 46, 21, 6, 184, 0, 221, 154, 0, 8, 21, 6, 167, 0, 5, 21, 5]
abbrev dktX4_looksAt_6 : List UInt8 := dkwX4_looksAt_6 ++ dktX4_looksAt_7
def dkwX4_looksAt_5 : List UInt8 := [16, 6, 162, 0, 53, 42, 180, 0, 218, 27, 184, 0, 221, 153, 0, 42, 21, 4, 21, 6, 184, 0, 221]
abbrev dktX4_looksAt_5 : List UInt8 := dkwX4_looksAt_5 ++ dktX4_looksAt_6
def dkwX4_looksAt_4 : List UInt8 := [167, 255, 219, 42, 180, 0, 45, 27, 28, 184, 0, 224, 21, 4, 79, 16, 254, 54, 5, 3, 54, 6, 21, 6]
abbrev dktX4_looksAt_4 : List UInt8 := dkwX4_looksAt_4 ++ dktX4_looksAt_5
def dkwX4_looksAt_3 : List UInt8 := [46, 100, 161, 0, 25, 21, 4, 42, 180, 0, 42, 27, 21, 5, 184, 0, 224, 46, 128, 54, 4, 132, 5, 255]
abbrev dktX4_looksAt_3 : List UInt8 := dkwX4_looksAt_3 ++ dktX4_looksAt_4
def dkwX4_looksAt_2 : List UInt8 := [184, 0, 224, 29, 79, 3, 54, 4, 28, 54, 5, 21, 5, 155, 0, 38, 21, 5, 28, 42, 180, 0, 17, 4]
abbrev dktX4_looksAt_2 : List UInt8 := dkwX4_looksAt_2 ++ dktX4_looksAt_3
def dkwX4_looksAt_1 : List UInt8 := [4, 21, 4, 120, 167, 0, 4, 3, 128, 62, 132, 4, 1, 167, 255, 224, 42, 180, 0, 42, 27, 28]
abbrev dktX4_looksAt_1 : List UInt8 := dkwX4_looksAt_1 ++ dktX4_looksAt_2
def dkwX4_looksAt_0 : List UInt8 := [3, 62, 3, 54, 4, 21, 4, 16, 6, 162, 0, 31, 29, 42, 27, 21, 4, 28, 182, 0, 237, 153, 0, 10]
abbrev dktX4_looksAt_0 : List UInt8 := dkwX4_looksAt_0 ++ dktX4_looksAt_1
theorem dksX4_looksAt_0 : cX4_looksAt.data.toList.drop 0 = dktX4_looksAt_0 := by decide +kernel
theorem dksX4_looksAt_1 : cX4_looksAt.data.toList.drop 24 = dktX4_looksAt_1 := dk_seg dksX4_looksAt_0 24 rfl rfl
theorem dksX4_looksAt_2 : cX4_looksAt.data.toList.drop 46 = dktX4_looksAt_2 := dk_seg dksX4_looksAt_1 22 rfl rfl
theorem dksX4_looksAt_3 : cX4_looksAt.data.toList.drop 70 = dktX4_looksAt_3 := dk_seg dksX4_looksAt_2 24 rfl rfl
theorem dksX4_looksAt_4 : cX4_looksAt.data.toList.drop 94 = dktX4_looksAt_4 := dk_seg dksX4_looksAt_3 24 rfl rfl
theorem dksX4_looksAt_5 : cX4_looksAt.data.toList.drop 118 = dktX4_looksAt_5 := dk_seg dksX4_looksAt_4 24 rfl rfl
theorem dksX4_looksAt_6 : cX4_looksAt.data.toList.drop 141 = dktX4_looksAt_6 := dk_seg dksX4_looksAt_5 23 rfl rfl
theorem dksX4_looksAt_7 : cX4_looksAt.data.toList.drop 165 = dktX4_looksAt_7 := dk_seg dksX4_looksAt_6 24 rfl rfl
theorem dX4_looksAt_0 : decode cX4_looksAt 0 = .ok (.iconst 0, 1) := dk_3 (dk_at dksX4_looksAt_0 0 rfl rfl)
theorem dX4_looksAt_1 : decode cX4_looksAt 1 = .ok (.istore_n 3, 1) := dk_62 (dk_at dksX4_looksAt_0 1 rfl rfl)
theorem dX4_looksAt_2 : decode cX4_looksAt 2 = .ok (.iconst 0, 1) := dk_3 (dk_at dksX4_looksAt_0 2 rfl rfl)
theorem dX4_looksAt_3 : decode cX4_looksAt 3 = .ok (.istore 4, 2) := dk_54 4 (dk_at dksX4_looksAt_0 3 rfl rfl)
theorem dX4_looksAt_5 : decode cX4_looksAt 5 = .ok (.iload 4, 2) := dk_21 4 (dk_at dksX4_looksAt_0 5 rfl rfl)
theorem dX4_looksAt_7 : decode cX4_looksAt 7 = .ok (.bipush 6, 2) := dk_16 6 (dk_at dksX4_looksAt_0 7 rfl rfl)
theorem dX4_looksAt_9 : decode cX4_looksAt 9 = .ok (.if_icmp .ge 31, 3) := dk_162 0 31 (dk_at dksX4_looksAt_0 9 rfl rfl)
theorem dX4_looksAt_12 : decode cX4_looksAt 12 = .ok (.iload_n 3, 1) := dk_29 (dk_at dksX4_looksAt_0 12 rfl rfl)
theorem dX4_looksAt_13 : decode cX4_looksAt 13 = .ok (.aload_n 0, 1) := dk_42 (dk_at dksX4_looksAt_0 13 rfl rfl)
theorem dX4_looksAt_14 : decode cX4_looksAt 14 = .ok (.iload_n 1, 1) := dk_27 (dk_at dksX4_looksAt_0 14 rfl rfl)
theorem dX4_looksAt_15 : decode cX4_looksAt 15 = .ok (.iload 4, 2) := dk_21 4 (dk_at dksX4_looksAt_0 15 rfl rfl)
theorem dX4_looksAt_17 : decode cX4_looksAt 17 = .ok (.iload_n 2, 1) := dk_28 (dk_at dksX4_looksAt_0 17 rfl rfl)
theorem dX4_looksAt_18 : decode cX4_looksAt 18 = .ok (.invokevirtual 237, 3) := dk_182 0 237 (dk_at dksX4_looksAt_0 18 rfl rfl)
theorem dX4_looksAt_21 : decode cX4_looksAt 21 = .ok (.ifCond .eq 10, 3) := dk_153 0 10 (dk_at dksX4_looksAt_0 21 rfl rfl)
theorem dX4_looksAt_24 : decode cX4_looksAt 24 = .ok (.iconst 1, 1) := dk_4 (dk_at dksX4_looksAt_1 0 rfl rfl)
theorem dX4_looksAt_25 : decode cX4_looksAt 25 = .ok (.iload 4, 2) := dk_21 4 (dk_at dksX4_looksAt_1 1 rfl rfl)
theorem dX4_looksAt_27 : decode cX4_looksAt 27 = .ok (.ishl, 1) := dk_120 (dk_at dksX4_looksAt_1 3 rfl rfl)
theorem dX4_looksAt_28 : decode cX4_looksAt 28 = .ok (.goto 4, 3) := dk_167 0 4 (dk_at dksX4_looksAt_1 4 rfl rfl)
theorem dX4_looksAt_31 : decode cX4_looksAt 31 = .ok (.iconst 0, 1) := dk_3 (dk_at dksX4_looksAt_1 7 rfl rfl)
theorem dX4_looksAt_32 : decode cX4_looksAt 32 = .ok (.ior, 1) := dk_128 (dk_at dksX4_looksAt_1 8 rfl rfl)
theorem dX4_looksAt_33 : decode cX4_looksAt 33 = .ok (.istore_n 3, 1) := dk_62 (dk_at dksX4_looksAt_1 9 rfl rfl)
theorem dX4_looksAt_34 : decode cX4_looksAt 34 = .ok (.iinc 4 1, 3) := dk_132 4 1 (dk_at dksX4_looksAt_1 10 rfl rfl)
theorem dX4_looksAt_37 : decode cX4_looksAt 37 = .ok (.goto (-32), 3) := dk_167 255 224 (dk_at dksX4_looksAt_1 13 rfl rfl)
theorem dX4_looksAt_40 : decode cX4_looksAt 40 = .ok (.aload_n 0, 1) := dk_42 (dk_at dksX4_looksAt_1 16 rfl rfl)
theorem dX4_looksAt_41 : decode cX4_looksAt 41 = .ok (.getfield 42, 3) := dk_180 0 42 (dk_at dksX4_looksAt_1 17 rfl rfl)
theorem dX4_looksAt_44 : decode cX4_looksAt 44 = .ok (.iload_n 1, 1) := dk_27 (dk_at dksX4_looksAt_1 20 rfl rfl)
theorem dX4_looksAt_45 : decode cX4_looksAt 45 = .ok (.iload_n 2, 1) := dk_28 (dk_at dksX4_looksAt_1 21 rfl rfl)
theorem dX4_looksAt_46 : decode cX4_looksAt 46 = .ok (.invokestatic 224, 3) := dk_184 0 224 (dk_at dksX4_looksAt_2 0 rfl rfl)
theorem dX4_looksAt_49 : decode cX4_looksAt 49 = .ok (.iload_n 3, 1) := dk_29 (dk_at dksX4_looksAt_2 3 rfl rfl)
theorem dX4_looksAt_50 : decode cX4_looksAt 50 = .ok (.iastore, 1) := dk_79 (dk_at dksX4_looksAt_2 4 rfl rfl)
theorem dX4_looksAt_51 : decode cX4_looksAt 51 = .ok (.iconst 0, 1) := dk_3 (dk_at dksX4_looksAt_2 5 rfl rfl)
theorem dX4_looksAt_52 : decode cX4_looksAt 52 = .ok (.istore 4, 2) := dk_54 4 (dk_at dksX4_looksAt_2 6 rfl rfl)
theorem dX4_looksAt_54 : decode cX4_looksAt 54 = .ok (.iload_n 2, 1) := dk_28 (dk_at dksX4_looksAt_2 8 rfl rfl)
theorem dX4_looksAt_55 : decode cX4_looksAt 55 = .ok (.istore 5, 2) := dk_54 5 (dk_at dksX4_looksAt_2 9 rfl rfl)
theorem dX4_looksAt_57 : decode cX4_looksAt 57 = .ok (.iload 5, 2) := dk_21 5 (dk_at dksX4_looksAt_2 11 rfl rfl)
theorem dX4_looksAt_59 : decode cX4_looksAt 59 = .ok (.ifCond .lt 38, 3) := dk_155 0 38 (dk_at dksX4_looksAt_2 13 rfl rfl)
theorem dX4_looksAt_62 : decode cX4_looksAt 62 = .ok (.iload 5, 2) := dk_21 5 (dk_at dksX4_looksAt_2 16 rfl rfl)
theorem dX4_looksAt_64 : decode cX4_looksAt 64 = .ok (.iload_n 2, 1) := dk_28 (dk_at dksX4_looksAt_2 18 rfl rfl)
theorem dX4_looksAt_65 : decode cX4_looksAt 65 = .ok (.aload_n 0, 1) := dk_42 (dk_at dksX4_looksAt_2 19 rfl rfl)
theorem dX4_looksAt_66 : decode cX4_looksAt 66 = .ok (.getfield 17, 3) := dk_180 0 17 (dk_at dksX4_looksAt_2 20 rfl rfl)
theorem dX4_looksAt_69 : decode cX4_looksAt 69 = .ok (.iconst 1, 1) := dk_4 (dk_at dksX4_looksAt_2 23 rfl rfl)
theorem dX4_looksAt_70 : decode cX4_looksAt 70 = .ok (.iaload, 1) := dk_46 (dk_at dksX4_looksAt_3 0 rfl rfl)
theorem dX4_looksAt_71 : decode cX4_looksAt 71 = .ok (.isub, 1) := dk_100 (dk_at dksX4_looksAt_3 1 rfl rfl)
theorem dX4_looksAt_72 : decode cX4_looksAt 72 = .ok (.if_icmp .lt 25, 3) := dk_161 0 25 (dk_at dksX4_looksAt_3 2 rfl rfl)
theorem dX4_looksAt_75 : decode cX4_looksAt 75 = .ok (.iload 4, 2) := dk_21 4 (dk_at dksX4_looksAt_3 5 rfl rfl)
theorem dX4_looksAt_77 : decode cX4_looksAt 77 = .ok (.aload_n 0, 1) := dk_42 (dk_at dksX4_looksAt_3 7 rfl rfl)
theorem dX4_looksAt_78 : decode cX4_looksAt 78 = .ok (.getfield 42, 3) := dk_180 0 42 (dk_at dksX4_looksAt_3 8 rfl rfl)
theorem dX4_looksAt_81 : decode cX4_looksAt 81 = .ok (.iload_n 1, 1) := dk_27 (dk_at dksX4_looksAt_3 11 rfl rfl)
theorem dX4_looksAt_82 : decode cX4_looksAt 82 = .ok (.iload 5, 2) := dk_21 5 (dk_at dksX4_looksAt_3 12 rfl rfl)
theorem dX4_looksAt_84 : decode cX4_looksAt 84 = .ok (.invokestatic 224, 3) := dk_184 0 224 (dk_at dksX4_looksAt_3 14 rfl rfl)
theorem dX4_looksAt_87 : decode cX4_looksAt 87 = .ok (.iaload, 1) := dk_46 (dk_at dksX4_looksAt_3 17 rfl rfl)
theorem dX4_looksAt_88 : decode cX4_looksAt 88 = .ok (.ior, 1) := dk_128 (dk_at dksX4_looksAt_3 18 rfl rfl)
theorem dX4_looksAt_89 : decode cX4_looksAt 89 = .ok (.istore 4, 2) := dk_54 4 (dk_at dksX4_looksAt_3 19 rfl rfl)
theorem dX4_looksAt_91 : decode cX4_looksAt 91 = .ok (.iinc 5 (-1), 3) := dk_132 5 255 (dk_at dksX4_looksAt_3 21 rfl rfl)
theorem dX4_looksAt_94 : decode cX4_looksAt 94 = .ok (.goto (-37), 3) := dk_167 255 219 (dk_at dksX4_looksAt_4 0 rfl rfl)
theorem dX4_looksAt_97 : decode cX4_looksAt 97 = .ok (.aload_n 0, 1) := dk_42 (dk_at dksX4_looksAt_4 3 rfl rfl)
theorem dX4_looksAt_98 : decode cX4_looksAt 98 = .ok (.getfield 45, 3) := dk_180 0 45 (dk_at dksX4_looksAt_4 4 rfl rfl)
theorem dX4_looksAt_101 : decode cX4_looksAt 101 = .ok (.iload_n 1, 1) := dk_27 (dk_at dksX4_looksAt_4 7 rfl rfl)
theorem dX4_looksAt_102 : decode cX4_looksAt 102 = .ok (.iload_n 2, 1) := dk_28 (dk_at dksX4_looksAt_4 8 rfl rfl)
theorem dX4_looksAt_103 : decode cX4_looksAt 103 = .ok (.invokestatic 224, 3) := dk_184 0 224 (dk_at dksX4_looksAt_4 9 rfl rfl)
theorem dX4_looksAt_106 : decode cX4_looksAt 106 = .ok (.iload 4, 2) := dk_21 4 (dk_at dksX4_looksAt_4 12 rfl rfl)
theorem dX4_looksAt_108 : decode cX4_looksAt 108 = .ok (.iastore, 1) := dk_79 (dk_at dksX4_looksAt_4 14 rfl rfl)
theorem dX4_looksAt_109 : decode cX4_looksAt 109 = .ok (.bipush (-2), 2) := dk_16 254 (dk_at dksX4_looksAt_4 15 rfl rfl)
theorem dX4_looksAt_111 : decode cX4_looksAt 111 = .ok (.istore 5, 2) := dk_54 5 (dk_at dksX4_looksAt_4 17 rfl rfl)
theorem dX4_looksAt_113 : decode cX4_looksAt 113 = .ok (.iconst 0, 1) := dk_3 (dk_at dksX4_looksAt_4 19 rfl rfl)
theorem dX4_looksAt_114 : decode cX4_looksAt 114 = .ok (.istore 6, 2) := dk_54 6 (dk_at dksX4_looksAt_4 20 rfl rfl)
theorem dX4_looksAt_116 : decode cX4_looksAt 116 = .ok (.iload 6, 2) := dk_21 6 (dk_at dksX4_looksAt_4 22 rfl rfl)
theorem dX4_looksAt_118 : decode cX4_looksAt 118 = .ok (.bipush 6, 2) := dk_16 6 (dk_at dksX4_looksAt_5 0 rfl rfl)
theorem dX4_looksAt_120 : decode cX4_looksAt 120 = .ok (.if_icmp .ge 53, 3) := dk_162 0 53 (dk_at dksX4_looksAt_5 2 rfl rfl)
theorem dX4_looksAt_123 : decode cX4_looksAt 123 = .ok (.aload_n 0, 1) := dk_42 (dk_at dksX4_looksAt_5 5 rfl rfl)
theorem dX4_looksAt_124 : decode cX4_looksAt 124 = .ok (.getfield 218, 3) := dk_180 0 218 (dk_at dksX4_looksAt_5 6 rfl rfl)
theorem dX4_looksAt_127 : decode cX4_looksAt 127 = .ok (.iload_n 1, 1) := dk_27 (dk_at dksX4_looksAt_5 9 rfl rfl)
theorem dX4_looksAt_128 : decode cX4_looksAt 128 = .ok (.invokestatic 221, 3) := dk_184 0 221 (dk_at dksX4_looksAt_5 10 rfl rfl)
theorem dX4_looksAt_131 : decode cX4_looksAt 131 = .ok (.ifCond .eq 42, 3) := dk_153 0 42 (dk_at dksX4_looksAt_5 13 rfl rfl)
theorem dX4_looksAt_134 : decode cX4_looksAt 134 = .ok (.iload 4, 2) := dk_21 4 (dk_at dksX4_looksAt_5 16 rfl rfl)
theorem dX4_looksAt_136 : decode cX4_looksAt 136 = .ok (.iload 6, 2) := dk_21 6 (dk_at dksX4_looksAt_5 18 rfl rfl)
theorem dX4_looksAt_138 : decode cX4_looksAt 138 = .ok (.invokestatic 221, 3) := dk_184 0 221 (dk_at dksX4_looksAt_5 20 rfl rfl)
theorem dX4_looksAt_141 : decode cX4_looksAt 141 = .ok (.ifCond .eq 22, 3) := dk_153 0 22 (dk_at dksX4_looksAt_6 0 rfl rfl)
theorem dX4_looksAt_144 : decode cX4_looksAt 144 = .ok (.aload_n 0, 1) := dk_42 (dk_at dksX4_looksAt_6 3 rfl rfl)
theorem dX4_looksAt_145 : decode cX4_looksAt 145 = .ok (.getfield 36, 3) := dk_180 0 36 (dk_at dksX4_looksAt_6 4 rfl rfl)
theorem dX4_looksAt_148 : decode cX4_looksAt 148 = .ok (.iload_n 1, 1) := dk_27 (dk_at dksX4_looksAt_6 7 rfl rfl)
theorem dX4_looksAt_149 : decode cX4_looksAt 149 = .ok (.iaload, 1) := dk_46 (dk_at dksX4_looksAt_6 8 rfl rfl)
theorem dX4_looksAt_150 : decode cX4_looksAt 150 = .ok (.iload 6, 2) := dk_21 6 (dk_at dksX4_looksAt_6 9 rfl rfl)
theorem dX4_looksAt_152 : decode cX4_looksAt 152 = .ok (.invokestatic 221, 3) := dk_184 0 221 (dk_at dksX4_looksAt_6 11 rfl rfl)
theorem dX4_looksAt_155 : decode cX4_looksAt 155 = .ok (.ifCond .ne 8, 3) := dk_154 0 8 (dk_at dksX4_looksAt_6 14 rfl rfl)
theorem dX4_looksAt_158 : decode cX4_looksAt 158 = .ok (.iload 6, 2) := dk_21 6 (dk_at dksX4_looksAt_6 17 rfl rfl)
theorem dX4_looksAt_160 : decode cX4_looksAt 160 = .ok (.goto 5, 3) := dk_167 0 5 (dk_at dksX4_looksAt_6 19 rfl rfl)
theorem dX4_looksAt_163 : decode cX4_looksAt 163 = .ok (.iload 5, 2) := dk_21 5 (dk_at dksX4_looksAt_6 22 rfl rfl)
theorem dX4_looksAt_165 : decode cX4_looksAt 165 = .ok (.istore 5, 2) := dk_54 5 (dk_at dksX4_looksAt_7 0 rfl rfl)
theorem dX4_looksAt_167 : decode cX4_looksAt 167 = .ok (.iinc 6 1, 3) := dk_132 6 1 (dk_at dksX4_looksAt_7 2 rfl rfl)
theorem dX4_looksAt_170 : decode cX4_looksAt 170 = .ok (.goto (-54), 3) := dk_167 255 202 (dk_at dksX4_looksAt_7 5 rfl rfl)
theorem dX4_looksAt_173 : decode cX4_looksAt 173 = .ok (.aload_n 0, 1) := dk_42 (dk_at dksX4_looksAt_7 8 rfl rfl)
theorem dX4_looksAt_174 : decode cX4_looksAt 174 = .ok (.getfield 48, 3) := dk_180 0 48 (dk_at dksX4_looksAt_7 9 rfl rfl)
theorem dX4_looksAt_177 : decode cX4_looksAt 177 = .ok (.iload_n 1, 1) := dk_27 (dk_at dksX4_looksAt_7 12 rfl rfl)
theorem dX4_looksAt_178 : decode cX4_looksAt 178 = .ok (.iload_n 2, 1) := dk_28 (dk_at dksX4_looksAt_7 13 rfl rfl)
theorem dX4_looksAt_179 : decode cX4_looksAt 179 = .ok (.invokestatic 224, 3) := dk_184 0 224 (dk_at dksX4_looksAt_7 14 rfl rfl)
theorem dX4_looksAt_182 : decode cX4_looksAt 182 = .ok (.iload 5, 2) := dk_21 5 (dk_at dksX4_looksAt_7 17 rfl rfl)
theorem dX4_looksAt_184 : decode cX4_looksAt 184 = .ok (.iastore, 1) := dk_79 (dk_at dksX4_looksAt_7 19 rfl rfl)
theorem dX4_looksAt_185 : decode cX4_looksAt 185 = .ok (.return_, 1) := dk_177 (dk_at dksX4_looksAt_7 20 rfl rfl)
abbrev cX4_isSeen : ByteArray := prog_19_method_42_code
def yX4_isSeen : MethodName := ⟨RX4, "isSeen", "(III)Z"⟩
def dkwX4_isSeen_5 : List UInt8 := [184, 0, 224, 46, 28, 184, 0, 221, 153, 0, 5, 4, 172, 132, 4, 1, 167, 255, 199, 3, 172]
abbrev dktX4_isSeen_5 : List UInt8 := dkwX4_isSeen_5 ++ []
def dkwX4_isSeen_4 : List UInt8 := [100, 54, 5, 21, 4, 27, 159, 0, 29, 21, 5, 155, 0, 24, 42, 180, 0, 39, 21, 4, 21, 5]
abbrev dktX4_isSeen_4 : List UInt8 := dkwX4_isSeen_4 ++ dktX4_isSeen_5
def dkwX4_isSeen_3 : List UInt8 := [3, 172, 3, 54, 4, 21, 4, 42, 180, 0, 17, 6, 46, 162, 0, 52, 29, 42, 27, 21, 4, 182, 0, 227]
abbrev dktX4_isSeen_3 : List UInt8 := dkwX4_isSeen_3 ++ dktX4_isSeen_4
def dkwX4_isSeen_2 : List UInt8 := [167, 0, 4, 3, 172, 42, 180, 0, 51, 17, 1, 205, 27, 104, 29, 96, 46, 28, 184, 0, 221, 153, 0, 5]
abbrev dktX4_isSeen_2 : List UInt8 := dkwX4_isSeen_2 ++ dktX4_isSeen_3
def dkwX4_isSeen_1 : List UInt8 := [16, 12, 28, 96, 46, 153, 0, 22, 42, 180, 0, 27, 16, 12, 28, 96, 46, 4, 160, 0, 7, 4]
abbrev dktX4_isSeen_1 : List UInt8 := dkwX4_isSeen_1 ++ dktX4_isSeen_2
def dkwX4_isSeen_0 : List UInt8 := [42, 180, 0, 39, 27, 29, 184, 0, 224, 46, 28, 184, 0, 221, 153, 0, 5, 4, 172, 42, 180, 0, 27]
abbrev dktX4_isSeen_0 : List UInt8 := dkwX4_isSeen_0 ++ dktX4_isSeen_1
theorem dksX4_isSeen_0 : cX4_isSeen.data.toList.drop 0 = dktX4_isSeen_0 := by decide +kernel
theorem dksX4_isSeen_1 : cX4_isSeen.data.toList.drop 23 = dktX4_isSeen_1 := dk_seg dksX4_isSeen_0 23 rfl rfl
theorem dksX4_isSeen_2 : cX4_isSeen.data.toList.drop 45 = dktX4_isSeen_2 := dk_seg dksX4_isSeen_1 22 rfl rfl
theorem dksX4_isSeen_3 : cX4_isSeen.data.toList.drop 69 = dktX4_isSeen_3 := dk_seg dksX4_isSeen_2 24 rfl rfl
theorem dksX4_isSeen_4 : cX4_isSeen.data.toList.drop 93 = dktX4_isSeen_4 := dk_seg dksX4_isSeen_3 24 rfl rfl
theorem dksX4_isSeen_5 : cX4_isSeen.data.toList.drop 115 = dktX4_isSeen_5 := dk_seg dksX4_isSeen_4 22 rfl rfl
theorem dX4_isSeen_0 : decode cX4_isSeen 0 = .ok (.aload_n 0, 1) := dk_42 (dk_at dksX4_isSeen_0 0 rfl rfl)
theorem dX4_isSeen_1 : decode cX4_isSeen 1 = .ok (.getfield 39, 3) := dk_180 0 39 (dk_at dksX4_isSeen_0 1 rfl rfl)
theorem dX4_isSeen_4 : decode cX4_isSeen 4 = .ok (.iload_n 1, 1) := dk_27 (dk_at dksX4_isSeen_0 4 rfl rfl)
theorem dX4_isSeen_5 : decode cX4_isSeen 5 = .ok (.iload_n 3, 1) := dk_29 (dk_at dksX4_isSeen_0 5 rfl rfl)
theorem dX4_isSeen_6 : decode cX4_isSeen 6 = .ok (.invokestatic 224, 3) := dk_184 0 224 (dk_at dksX4_isSeen_0 6 rfl rfl)
theorem dX4_isSeen_9 : decode cX4_isSeen 9 = .ok (.iaload, 1) := dk_46 (dk_at dksX4_isSeen_0 9 rfl rfl)
theorem dX4_isSeen_10 : decode cX4_isSeen 10 = .ok (.iload_n 2, 1) := dk_28 (dk_at dksX4_isSeen_0 10 rfl rfl)
theorem dX4_isSeen_11 : decode cX4_isSeen 11 = .ok (.invokestatic 221, 3) := dk_184 0 221 (dk_at dksX4_isSeen_0 11 rfl rfl)
theorem dX4_isSeen_14 : decode cX4_isSeen 14 = .ok (.ifCond .eq 5, 3) := dk_153 0 5 (dk_at dksX4_isSeen_0 14 rfl rfl)
theorem dX4_isSeen_17 : decode cX4_isSeen 17 = .ok (.iconst 1, 1) := dk_4 (dk_at dksX4_isSeen_0 17 rfl rfl)
theorem dX4_isSeen_18 : decode cX4_isSeen 18 = .ok (.ireturn, 1) := dk_172 (dk_at dksX4_isSeen_0 18 rfl rfl)
theorem dX4_isSeen_19 : decode cX4_isSeen 19 = .ok (.aload_n 0, 1) := dk_42 (dk_at dksX4_isSeen_0 19 rfl rfl)
theorem dX4_isSeen_20 : decode cX4_isSeen 20 = .ok (.getfield 27, 3) := dk_180 0 27 (dk_at dksX4_isSeen_0 20 rfl rfl)
theorem dX4_isSeen_23 : decode cX4_isSeen 23 = .ok (.bipush 12, 2) := dk_16 12 (dk_at dksX4_isSeen_1 0 rfl rfl)
theorem dX4_isSeen_25 : decode cX4_isSeen 25 = .ok (.iload_n 2, 1) := dk_28 (dk_at dksX4_isSeen_1 2 rfl rfl)
theorem dX4_isSeen_26 : decode cX4_isSeen 26 = .ok (.iadd, 1) := dk_96 (dk_at dksX4_isSeen_1 3 rfl rfl)
theorem dX4_isSeen_27 : decode cX4_isSeen 27 = .ok (.iaload, 1) := dk_46 (dk_at dksX4_isSeen_1 4 rfl rfl)
theorem dX4_isSeen_28 : decode cX4_isSeen 28 = .ok (.ifCond .eq 22, 3) := dk_153 0 22 (dk_at dksX4_isSeen_1 5 rfl rfl)
theorem dX4_isSeen_31 : decode cX4_isSeen 31 = .ok (.aload_n 0, 1) := dk_42 (dk_at dksX4_isSeen_1 8 rfl rfl)
theorem dX4_isSeen_32 : decode cX4_isSeen 32 = .ok (.getfield 27, 3) := dk_180 0 27 (dk_at dksX4_isSeen_1 9 rfl rfl)
theorem dX4_isSeen_35 : decode cX4_isSeen 35 = .ok (.bipush 12, 2) := dk_16 12 (dk_at dksX4_isSeen_1 12 rfl rfl)
theorem dX4_isSeen_37 : decode cX4_isSeen 37 = .ok (.iload_n 2, 1) := dk_28 (dk_at dksX4_isSeen_1 14 rfl rfl)
theorem dX4_isSeen_38 : decode cX4_isSeen 38 = .ok (.iadd, 1) := dk_96 (dk_at dksX4_isSeen_1 15 rfl rfl)
theorem dX4_isSeen_39 : decode cX4_isSeen 39 = .ok (.iaload, 1) := dk_46 (dk_at dksX4_isSeen_1 16 rfl rfl)
theorem dX4_isSeen_40 : decode cX4_isSeen 40 = .ok (.iconst 1, 1) := dk_4 (dk_at dksX4_isSeen_1 17 rfl rfl)
theorem dX4_isSeen_41 : decode cX4_isSeen 41 = .ok (.if_icmp .ne 7, 3) := dk_160 0 7 (dk_at dksX4_isSeen_1 18 rfl rfl)
theorem dX4_isSeen_44 : decode cX4_isSeen 44 = .ok (.iconst 1, 1) := dk_4 (dk_at dksX4_isSeen_1 21 rfl rfl)
theorem dX4_isSeen_45 : decode cX4_isSeen 45 = .ok (.goto 4, 3) := dk_167 0 4 (dk_at dksX4_isSeen_2 0 rfl rfl)
theorem dX4_isSeen_48 : decode cX4_isSeen 48 = .ok (.iconst 0, 1) := dk_3 (dk_at dksX4_isSeen_2 3 rfl rfl)
theorem dX4_isSeen_49 : decode cX4_isSeen 49 = .ok (.ireturn, 1) := dk_172 (dk_at dksX4_isSeen_2 4 rfl rfl)
theorem dX4_isSeen_50 : decode cX4_isSeen 50 = .ok (.aload_n 0, 1) := dk_42 (dk_at dksX4_isSeen_2 5 rfl rfl)
theorem dX4_isSeen_51 : decode cX4_isSeen 51 = .ok (.getfield 51, 3) := dk_180 0 51 (dk_at dksX4_isSeen_2 6 rfl rfl)
theorem dX4_isSeen_54 : decode cX4_isSeen 54 = .ok (.sipush 461, 3) := dk_17 1 205 (dk_at dksX4_isSeen_2 9 rfl rfl)
theorem dX4_isSeen_57 : decode cX4_isSeen 57 = .ok (.iload_n 1, 1) := dk_27 (dk_at dksX4_isSeen_2 12 rfl rfl)
theorem dX4_isSeen_58 : decode cX4_isSeen 58 = .ok (.imul, 1) := dk_104 (dk_at dksX4_isSeen_2 13 rfl rfl)
theorem dX4_isSeen_59 : decode cX4_isSeen 59 = .ok (.iload_n 3, 1) := dk_29 (dk_at dksX4_isSeen_2 14 rfl rfl)
theorem dX4_isSeen_60 : decode cX4_isSeen 60 = .ok (.iadd, 1) := dk_96 (dk_at dksX4_isSeen_2 15 rfl rfl)
theorem dX4_isSeen_61 : decode cX4_isSeen 61 = .ok (.iaload, 1) := dk_46 (dk_at dksX4_isSeen_2 16 rfl rfl)
theorem dX4_isSeen_62 : decode cX4_isSeen 62 = .ok (.iload_n 2, 1) := dk_28 (dk_at dksX4_isSeen_2 17 rfl rfl)
theorem dX4_isSeen_63 : decode cX4_isSeen 63 = .ok (.invokestatic 221, 3) := dk_184 0 221 (dk_at dksX4_isSeen_2 18 rfl rfl)
theorem dX4_isSeen_66 : decode cX4_isSeen 66 = .ok (.ifCond .eq 5, 3) := dk_153 0 5 (dk_at dksX4_isSeen_2 21 rfl rfl)
theorem dX4_isSeen_69 : decode cX4_isSeen 69 = .ok (.iconst 0, 1) := dk_3 (dk_at dksX4_isSeen_3 0 rfl rfl)
theorem dX4_isSeen_70 : decode cX4_isSeen 70 = .ok (.ireturn, 1) := dk_172 (dk_at dksX4_isSeen_3 1 rfl rfl)
theorem dX4_isSeen_71 : decode cX4_isSeen 71 = .ok (.iconst 0, 1) := dk_3 (dk_at dksX4_isSeen_3 2 rfl rfl)
theorem dX4_isSeen_72 : decode cX4_isSeen 72 = .ok (.istore 4, 2) := dk_54 4 (dk_at dksX4_isSeen_3 3 rfl rfl)
theorem dX4_isSeen_74 : decode cX4_isSeen 74 = .ok (.iload 4, 2) := dk_21 4 (dk_at dksX4_isSeen_3 5 rfl rfl)
theorem dX4_isSeen_76 : decode cX4_isSeen 76 = .ok (.aload_n 0, 1) := dk_42 (dk_at dksX4_isSeen_3 7 rfl rfl)
theorem dX4_isSeen_77 : decode cX4_isSeen 77 = .ok (.getfield 17, 3) := dk_180 0 17 (dk_at dksX4_isSeen_3 8 rfl rfl)
theorem dX4_isSeen_80 : decode cX4_isSeen 80 = .ok (.iconst 3, 1) := dk_6 (dk_at dksX4_isSeen_3 11 rfl rfl)
theorem dX4_isSeen_81 : decode cX4_isSeen 81 = .ok (.iaload, 1) := dk_46 (dk_at dksX4_isSeen_3 12 rfl rfl)
theorem dX4_isSeen_82 : decode cX4_isSeen 82 = .ok (.if_icmp .ge 52, 3) := dk_162 0 52 (dk_at dksX4_isSeen_3 13 rfl rfl)
theorem dX4_isSeen_85 : decode cX4_isSeen 85 = .ok (.iload_n 3, 1) := dk_29 (dk_at dksX4_isSeen_3 16 rfl rfl)
theorem dX4_isSeen_86 : decode cX4_isSeen 86 = .ok (.aload_n 0, 1) := dk_42 (dk_at dksX4_isSeen_3 17 rfl rfl)
theorem dX4_isSeen_87 : decode cX4_isSeen 87 = .ok (.iload_n 1, 1) := dk_27 (dk_at dksX4_isSeen_3 18 rfl rfl)
theorem dX4_isSeen_88 : decode cX4_isSeen 88 = .ok (.iload 4, 2) := dk_21 4 (dk_at dksX4_isSeen_3 19 rfl rfl)
theorem dX4_isSeen_90 : decode cX4_isSeen 90 = .ok (.invokevirtual 227, 3) := dk_182 0 227 (dk_at dksX4_isSeen_3 21 rfl rfl)
theorem dX4_isSeen_93 : decode cX4_isSeen 93 = .ok (.isub, 1) := dk_100 (dk_at dksX4_isSeen_4 0 rfl rfl)
theorem dX4_isSeen_94 : decode cX4_isSeen 94 = .ok (.istore 5, 2) := dk_54 5 (dk_at dksX4_isSeen_4 1 rfl rfl)
theorem dX4_isSeen_96 : decode cX4_isSeen 96 = .ok (.iload 4, 2) := dk_21 4 (dk_at dksX4_isSeen_4 3 rfl rfl)
theorem dX4_isSeen_98 : decode cX4_isSeen 98 = .ok (.iload_n 1, 1) := dk_27 (dk_at dksX4_isSeen_4 5 rfl rfl)
theorem dX4_isSeen_99 : decode cX4_isSeen 99 = .ok (.if_icmp .eq 29, 3) := dk_159 0 29 (dk_at dksX4_isSeen_4 6 rfl rfl)
theorem dX4_isSeen_102 : decode cX4_isSeen 102 = .ok (.iload 5, 2) := dk_21 5 (dk_at dksX4_isSeen_4 9 rfl rfl)
theorem dX4_isSeen_104 : decode cX4_isSeen 104 = .ok (.ifCond .lt 24, 3) := dk_155 0 24 (dk_at dksX4_isSeen_4 11 rfl rfl)
theorem dX4_isSeen_107 : decode cX4_isSeen 107 = .ok (.aload_n 0, 1) := dk_42 (dk_at dksX4_isSeen_4 14 rfl rfl)
theorem dX4_isSeen_108 : decode cX4_isSeen 108 = .ok (.getfield 39, 3) := dk_180 0 39 (dk_at dksX4_isSeen_4 15 rfl rfl)
theorem dX4_isSeen_111 : decode cX4_isSeen 111 = .ok (.iload 4, 2) := dk_21 4 (dk_at dksX4_isSeen_4 18 rfl rfl)
theorem dX4_isSeen_113 : decode cX4_isSeen 113 = .ok (.iload 5, 2) := dk_21 5 (dk_at dksX4_isSeen_4 20 rfl rfl)
theorem dX4_isSeen_115 : decode cX4_isSeen 115 = .ok (.invokestatic 224, 3) := dk_184 0 224 (dk_at dksX4_isSeen_5 0 rfl rfl)
theorem dX4_isSeen_118 : decode cX4_isSeen 118 = .ok (.iaload, 1) := dk_46 (dk_at dksX4_isSeen_5 3 rfl rfl)
theorem dX4_isSeen_119 : decode cX4_isSeen 119 = .ok (.iload_n 2, 1) := dk_28 (dk_at dksX4_isSeen_5 4 rfl rfl)
theorem dX4_isSeen_120 : decode cX4_isSeen 120 = .ok (.invokestatic 221, 3) := dk_184 0 221 (dk_at dksX4_isSeen_5 5 rfl rfl)
theorem dX4_isSeen_123 : decode cX4_isSeen 123 = .ok (.ifCond .eq 5, 3) := dk_153 0 5 (dk_at dksX4_isSeen_5 8 rfl rfl)
theorem dX4_isSeen_126 : decode cX4_isSeen 126 = .ok (.iconst 1, 1) := dk_4 (dk_at dksX4_isSeen_5 11 rfl rfl)
theorem dX4_isSeen_127 : decode cX4_isSeen 127 = .ok (.ireturn, 1) := dk_172 (dk_at dksX4_isSeen_5 12 rfl rfl)
theorem dX4_isSeen_128 : decode cX4_isSeen 128 = .ok (.iinc 4 1, 3) := dk_132 4 1 (dk_at dksX4_isSeen_5 13 rfl rfl)
theorem dX4_isSeen_131 : decode cX4_isSeen 131 = .ok (.goto (-57), 3) := dk_167 255 199 (dk_at dksX4_isSeen_5 16 rfl rfl)
theorem dX4_isSeen_134 : decode cX4_isSeen 134 = .ok (.iconst 0, 1) := dk_3 (dk_at dksX4_isSeen_5 19 rfl rfl)
theorem dX4_isSeen_135 : decode cX4_isSeen 135 = .ok (.ireturn, 1) := dk_172 (dk_at dksX4_isSeen_5 20 rfl rfl)
abbrev cX4_seen : ByteArray := prog_19_method_55_code
def yX4_seen : MethodName := ⟨RX4, "seen", "(IIII)I"⟩
def dkwX4_seen_1 : List UInt8 := [28, 182, 1, 19, 42, 180, 0, 42, 29, 21, 4, 184, 0, 224, 46, 172]
abbrev dktX4_seen_1 : List UInt8 := dkwX4_seen_1 ++ []
def dkwX4_seen_0 : List UInt8 := [42, 42, 42, 29, 182, 1, 12, 27, 28, 21, 4, 182, 1, 15, 182, 0, 180, 153, 0, 5, 2, 172, 42, 27]
abbrev dktX4_seen_0 : List UInt8 := dkwX4_seen_0 ++ dktX4_seen_1
theorem dksX4_seen_0 : cX4_seen.data.toList.drop 0 = dktX4_seen_0 := by decide +kernel
theorem dksX4_seen_1 : cX4_seen.data.toList.drop 24 = dktX4_seen_1 := dk_seg dksX4_seen_0 24 rfl rfl
theorem dX4_seen_0 : decode cX4_seen 0 = .ok (.aload_n 0, 1) := dk_42 (dk_at dksX4_seen_0 0 rfl rfl)
theorem dX4_seen_1 : decode cX4_seen 1 = .ok (.aload_n 0, 1) := dk_42 (dk_at dksX4_seen_0 1 rfl rfl)
theorem dX4_seen_2 : decode cX4_seen 2 = .ok (.aload_n 0, 1) := dk_42 (dk_at dksX4_seen_0 2 rfl rfl)
theorem dX4_seen_3 : decode cX4_seen 3 = .ok (.iload_n 3, 1) := dk_29 (dk_at dksX4_seen_0 3 rfl rfl)
theorem dX4_seen_4 : decode cX4_seen 4 = .ok (.invokevirtual 268, 3) := dk_182 1 12 (dk_at dksX4_seen_0 4 rfl rfl)
theorem dX4_seen_7 : decode cX4_seen 7 = .ok (.iload_n 1, 1) := dk_27 (dk_at dksX4_seen_0 7 rfl rfl)
theorem dX4_seen_8 : decode cX4_seen 8 = .ok (.iload_n 2, 1) := dk_28 (dk_at dksX4_seen_0 8 rfl rfl)
theorem dX4_seen_9 : decode cX4_seen 9 = .ok (.iload 4, 2) := dk_21 4 (dk_at dksX4_seen_0 9 rfl rfl)
theorem dX4_seen_11 : decode cX4_seen 11 = .ok (.invokevirtual 271, 3) := dk_182 1 15 (dk_at dksX4_seen_0 11 rfl rfl)
theorem dX4_seen_14 : decode cX4_seen 14 = .ok (.invokevirtual 180, 3) := dk_182 0 180 (dk_at dksX4_seen_0 14 rfl rfl)
theorem dX4_seen_17 : decode cX4_seen 17 = .ok (.ifCond .eq 5, 3) := dk_153 0 5 (dk_at dksX4_seen_0 17 rfl rfl)
theorem dX4_seen_20 : decode cX4_seen 20 = .ok (.iconst (-1), 1) := dk_2 (dk_at dksX4_seen_0 20 rfl rfl)
theorem dX4_seen_21 : decode cX4_seen 21 = .ok (.ireturn, 1) := dk_172 (dk_at dksX4_seen_0 21 rfl rfl)
theorem dX4_seen_22 : decode cX4_seen 22 = .ok (.aload_n 0, 1) := dk_42 (dk_at dksX4_seen_0 22 rfl rfl)
theorem dX4_seen_23 : decode cX4_seen 23 = .ok (.iload_n 1, 1) := dk_27 (dk_at dksX4_seen_0 23 rfl rfl)
theorem dX4_seen_24 : decode cX4_seen 24 = .ok (.iload_n 2, 1) := dk_28 (dk_at dksX4_seen_1 0 rfl rfl)
theorem dX4_seen_25 : decode cX4_seen 25 = .ok (.invokevirtual 275, 3) := dk_182 1 19 (dk_at dksX4_seen_1 1 rfl rfl)
theorem dX4_seen_28 : decode cX4_seen 28 = .ok (.aload_n 0, 1) := dk_42 (dk_at dksX4_seen_1 4 rfl rfl)
theorem dX4_seen_29 : decode cX4_seen 29 = .ok (.getfield 42, 3) := dk_180 0 42 (dk_at dksX4_seen_1 5 rfl rfl)
theorem dX4_seen_32 : decode cX4_seen 32 = .ok (.iload_n 3, 1) := dk_29 (dk_at dksX4_seen_1 8 rfl rfl)
theorem dX4_seen_33 : decode cX4_seen 33 = .ok (.iload 4, 2) := dk_21 4 (dk_at dksX4_seen_1 9 rfl rfl)
theorem dX4_seen_35 : decode cX4_seen 35 = .ok (.invokestatic 224, 3) := dk_184 0 224 (dk_at dksX4_seen_1 11 rfl rfl)
theorem dX4_seen_38 : decode cX4_seen 38 = .ok (.iaload, 1) := dk_46 (dk_at dksX4_seen_1 14 rfl rfl)
theorem dX4_seen_39 : decode cX4_seen 39 = .ok (.ireturn, 1) := dk_172 (dk_at dksX4_seen_1 15 rfl rfl)
abbrev cX4_taken : ByteArray := prog_19_method_56_code
def yX4_taken : MethodName := ⟨RX4, "taken", "(IIII)I"⟩
def dkwX4_taken_1 : List UInt8 := [28, 182, 1, 19, 42, 180, 0, 45, 29, 21, 4, 184, 0, 224, 46, 172]
abbrev dktX4_taken_1 : List UInt8 := dkwX4_taken_1 ++ []
def dkwX4_taken_0 : List UInt8 := [42, 42, 42, 29, 182, 1, 12, 27, 28, 21, 4, 182, 1, 15, 182, 0, 180, 153, 0, 5, 2, 172, 42, 27]
abbrev dktX4_taken_0 : List UInt8 := dkwX4_taken_0 ++ dktX4_taken_1
theorem dksX4_taken_0 : cX4_taken.data.toList.drop 0 = dktX4_taken_0 := by decide +kernel
theorem dksX4_taken_1 : cX4_taken.data.toList.drop 24 = dktX4_taken_1 := dk_seg dksX4_taken_0 24 rfl rfl
theorem dX4_taken_0 : decode cX4_taken 0 = .ok (.aload_n 0, 1) := dk_42 (dk_at dksX4_taken_0 0 rfl rfl)
theorem dX4_taken_1 : decode cX4_taken 1 = .ok (.aload_n 0, 1) := dk_42 (dk_at dksX4_taken_0 1 rfl rfl)
theorem dX4_taken_2 : decode cX4_taken 2 = .ok (.aload_n 0, 1) := dk_42 (dk_at dksX4_taken_0 2 rfl rfl)
theorem dX4_taken_3 : decode cX4_taken 3 = .ok (.iload_n 3, 1) := dk_29 (dk_at dksX4_taken_0 3 rfl rfl)
theorem dX4_taken_4 : decode cX4_taken 4 = .ok (.invokevirtual 268, 3) := dk_182 1 12 (dk_at dksX4_taken_0 4 rfl rfl)
theorem dX4_taken_7 : decode cX4_taken 7 = .ok (.iload_n 1, 1) := dk_27 (dk_at dksX4_taken_0 7 rfl rfl)
theorem dX4_taken_8 : decode cX4_taken 8 = .ok (.iload_n 2, 1) := dk_28 (dk_at dksX4_taken_0 8 rfl rfl)
theorem dX4_taken_9 : decode cX4_taken 9 = .ok (.iload 4, 2) := dk_21 4 (dk_at dksX4_taken_0 9 rfl rfl)
theorem dX4_taken_11 : decode cX4_taken 11 = .ok (.invokevirtual 271, 3) := dk_182 1 15 (dk_at dksX4_taken_0 11 rfl rfl)
theorem dX4_taken_14 : decode cX4_taken 14 = .ok (.invokevirtual 180, 3) := dk_182 0 180 (dk_at dksX4_taken_0 14 rfl rfl)
theorem dX4_taken_17 : decode cX4_taken 17 = .ok (.ifCond .eq 5, 3) := dk_153 0 5 (dk_at dksX4_taken_0 17 rfl rfl)
theorem dX4_taken_20 : decode cX4_taken 20 = .ok (.iconst (-1), 1) := dk_2 (dk_at dksX4_taken_0 20 rfl rfl)
theorem dX4_taken_21 : decode cX4_taken 21 = .ok (.ireturn, 1) := dk_172 (dk_at dksX4_taken_0 21 rfl rfl)
theorem dX4_taken_22 : decode cX4_taken 22 = .ok (.aload_n 0, 1) := dk_42 (dk_at dksX4_taken_0 22 rfl rfl)
theorem dX4_taken_23 : decode cX4_taken 23 = .ok (.iload_n 1, 1) := dk_27 (dk_at dksX4_taken_0 23 rfl rfl)
theorem dX4_taken_24 : decode cX4_taken 24 = .ok (.iload_n 2, 1) := dk_28 (dk_at dksX4_taken_1 0 rfl rfl)
theorem dX4_taken_25 : decode cX4_taken 25 = .ok (.invokevirtual 275, 3) := dk_182 1 19 (dk_at dksX4_taken_1 1 rfl rfl)
theorem dX4_taken_28 : decode cX4_taken 28 = .ok (.aload_n 0, 1) := dk_42 (dk_at dksX4_taken_1 4 rfl rfl)
theorem dX4_taken_29 : decode cX4_taken 29 = .ok (.getfield 45, 3) := dk_180 0 45 (dk_at dksX4_taken_1 5 rfl rfl)
theorem dX4_taken_32 : decode cX4_taken 32 = .ok (.iload_n 3, 1) := dk_29 (dk_at dksX4_taken_1 8 rfl rfl)
theorem dX4_taken_33 : decode cX4_taken 33 = .ok (.iload 4, 2) := dk_21 4 (dk_at dksX4_taken_1 9 rfl rfl)
theorem dX4_taken_35 : decode cX4_taken 35 = .ok (.invokestatic 224, 3) := dk_184 0 224 (dk_at dksX4_taken_1 11 rfl rfl)
theorem dX4_taken_38 : decode cX4_taken 38 = .ok (.iaload, 1) := dk_46 (dk_at dksX4_taken_1 14 rfl rfl)
theorem dX4_taken_39 : decode cX4_taken 39 = .ok (.ireturn, 1) := dk_172 (dk_at dksX4_taken_1 15 rfl rfl)
abbrev cX4_withdrawn : ByteArray := prog_19_method_57_code
def yX4_withdrawn : MethodName := ⟨RX4, "withdrawn", "(IIII)I"⟩
def dkwX4_withdrawn_1 : List UInt8 := [28, 182, 1, 19, 42, 180, 0, 48, 29, 21, 4, 184, 0, 224, 46, 172]
abbrev dktX4_withdrawn_1 : List UInt8 := dkwX4_withdrawn_1 ++ []
def dkwX4_withdrawn_0 : List UInt8 := [42, 42, 42, 29, 182, 1, 12, 27, 28, 21, 4, 182, 1, 15, 182, 0, 180, 153, 0, 5, 2, 172, 42, 27]
abbrev dktX4_withdrawn_0 : List UInt8 := dkwX4_withdrawn_0 ++ dktX4_withdrawn_1
theorem dksX4_withdrawn_0 : cX4_withdrawn.data.toList.drop 0 = dktX4_withdrawn_0 := by decide +kernel
theorem dksX4_withdrawn_1 : cX4_withdrawn.data.toList.drop 24 = dktX4_withdrawn_1 := dk_seg dksX4_withdrawn_0 24 rfl rfl
theorem dX4_withdrawn_0 : decode cX4_withdrawn 0 = .ok (.aload_n 0, 1) := dk_42 (dk_at dksX4_withdrawn_0 0 rfl rfl)
theorem dX4_withdrawn_1 : decode cX4_withdrawn 1 = .ok (.aload_n 0, 1) := dk_42 (dk_at dksX4_withdrawn_0 1 rfl rfl)
theorem dX4_withdrawn_2 : decode cX4_withdrawn 2 = .ok (.aload_n 0, 1) := dk_42 (dk_at dksX4_withdrawn_0 2 rfl rfl)
theorem dX4_withdrawn_3 : decode cX4_withdrawn 3 = .ok (.iload_n 3, 1) := dk_29 (dk_at dksX4_withdrawn_0 3 rfl rfl)
theorem dX4_withdrawn_4 : decode cX4_withdrawn 4 = .ok (.invokevirtual 268, 3) := dk_182 1 12 (dk_at dksX4_withdrawn_0 4 rfl rfl)
theorem dX4_withdrawn_7 : decode cX4_withdrawn 7 = .ok (.iload_n 1, 1) := dk_27 (dk_at dksX4_withdrawn_0 7 rfl rfl)
theorem dX4_withdrawn_8 : decode cX4_withdrawn 8 = .ok (.iload_n 2, 1) := dk_28 (dk_at dksX4_withdrawn_0 8 rfl rfl)
theorem dX4_withdrawn_9 : decode cX4_withdrawn 9 = .ok (.iload 4, 2) := dk_21 4 (dk_at dksX4_withdrawn_0 9 rfl rfl)
theorem dX4_withdrawn_11 : decode cX4_withdrawn 11 = .ok (.invokevirtual 271, 3) := dk_182 1 15 (dk_at dksX4_withdrawn_0 11 rfl rfl)
theorem dX4_withdrawn_14 : decode cX4_withdrawn 14 = .ok (.invokevirtual 180, 3) := dk_182 0 180 (dk_at dksX4_withdrawn_0 14 rfl rfl)
theorem dX4_withdrawn_17 : decode cX4_withdrawn 17 = .ok (.ifCond .eq 5, 3) := dk_153 0 5 (dk_at dksX4_withdrawn_0 17 rfl rfl)
theorem dX4_withdrawn_20 : decode cX4_withdrawn 20 = .ok (.iconst (-1), 1) := dk_2 (dk_at dksX4_withdrawn_0 20 rfl rfl)
theorem dX4_withdrawn_21 : decode cX4_withdrawn 21 = .ok (.ireturn, 1) := dk_172 (dk_at dksX4_withdrawn_0 21 rfl rfl)
theorem dX4_withdrawn_22 : decode cX4_withdrawn 22 = .ok (.aload_n 0, 1) := dk_42 (dk_at dksX4_withdrawn_0 22 rfl rfl)
theorem dX4_withdrawn_23 : decode cX4_withdrawn 23 = .ok (.iload_n 1, 1) := dk_27 (dk_at dksX4_withdrawn_0 23 rfl rfl)
theorem dX4_withdrawn_24 : decode cX4_withdrawn 24 = .ok (.iload_n 2, 1) := dk_28 (dk_at dksX4_withdrawn_1 0 rfl rfl)
theorem dX4_withdrawn_25 : decode cX4_withdrawn 25 = .ok (.invokevirtual 275, 3) := dk_182 1 19 (dk_at dksX4_withdrawn_1 1 rfl rfl)
theorem dX4_withdrawn_28 : decode cX4_withdrawn 28 = .ok (.aload_n 0, 1) := dk_42 (dk_at dksX4_withdrawn_1 4 rfl rfl)
theorem dX4_withdrawn_29 : decode cX4_withdrawn 29 = .ok (.getfield 48, 3) := dk_180 0 48 (dk_at dksX4_withdrawn_1 5 rfl rfl)
theorem dX4_withdrawn_32 : decode cX4_withdrawn 32 = .ok (.iload_n 3, 1) := dk_29 (dk_at dksX4_withdrawn_1 8 rfl rfl)
theorem dX4_withdrawn_33 : decode cX4_withdrawn 33 = .ok (.iload 4, 2) := dk_21 4 (dk_at dksX4_withdrawn_1 9 rfl rfl)
theorem dX4_withdrawn_35 : decode cX4_withdrawn 35 = .ok (.invokestatic 224, 3) := dk_184 0 224 (dk_at dksX4_withdrawn_1 11 rfl rfl)
theorem dX4_withdrawn_38 : decode cX4_withdrawn 38 = .ok (.iaload, 1) := dk_46 (dk_at dksX4_withdrawn_1 14 rfl rfl)
theorem dX4_withdrawn_39 : decode cX4_withdrawn 39 = .ok (.ireturn, 1) := dk_172 (dk_at dksX4_withdrawn_1 15 rfl rfl)
abbrev cX4_winners : ByteArray := prog_19_method_58_code
def yX4_winners : MethodName := ⟨RX4, "winners", "(III)I"⟩
def dkwX4_winners_1 : List UInt8 := [29, 182, 1, 6, 172]
abbrev dktX4_winners_1 : List UInt8 := dkwX4_winners_1 ++ []
def dkwX4_winners_0 : List UInt8 := [42, 42, 4, 27, 28, 29, 182, 1, 15, 182, 0, 180, 153, 0, 5, 2, 172, 42, 27, 28, 182, 1, 19, 42]
abbrev dktX4_winners_0 : List UInt8 := dkwX4_winners_0 ++ dktX4_winners_1
theorem dksX4_winners_0 : cX4_winners.data.toList.drop 0 = dktX4_winners_0 := by decide +kernel
theorem dksX4_winners_1 : cX4_winners.data.toList.drop 24 = dktX4_winners_1 := dk_seg dksX4_winners_0 24 rfl rfl
theorem dX4_winners_0 : decode cX4_winners 0 = .ok (.aload_n 0, 1) := dk_42 (dk_at dksX4_winners_0 0 rfl rfl)
theorem dX4_winners_1 : decode cX4_winners 1 = .ok (.aload_n 0, 1) := dk_42 (dk_at dksX4_winners_0 1 rfl rfl)
theorem dX4_winners_2 : decode cX4_winners 2 = .ok (.iconst 1, 1) := dk_4 (dk_at dksX4_winners_0 2 rfl rfl)
theorem dX4_winners_3 : decode cX4_winners 3 = .ok (.iload_n 1, 1) := dk_27 (dk_at dksX4_winners_0 3 rfl rfl)
theorem dX4_winners_4 : decode cX4_winners 4 = .ok (.iload_n 2, 1) := dk_28 (dk_at dksX4_winners_0 4 rfl rfl)
theorem dX4_winners_5 : decode cX4_winners 5 = .ok (.iload_n 3, 1) := dk_29 (dk_at dksX4_winners_0 5 rfl rfl)
theorem dX4_winners_6 : decode cX4_winners 6 = .ok (.invokevirtual 271, 3) := dk_182 1 15 (dk_at dksX4_winners_0 6 rfl rfl)
theorem dX4_winners_9 : decode cX4_winners 9 = .ok (.invokevirtual 180, 3) := dk_182 0 180 (dk_at dksX4_winners_0 9 rfl rfl)
theorem dX4_winners_12 : decode cX4_winners 12 = .ok (.ifCond .eq 5, 3) := dk_153 0 5 (dk_at dksX4_winners_0 12 rfl rfl)
theorem dX4_winners_15 : decode cX4_winners 15 = .ok (.iconst (-1), 1) := dk_2 (dk_at dksX4_winners_0 15 rfl rfl)
theorem dX4_winners_16 : decode cX4_winners 16 = .ok (.ireturn, 1) := dk_172 (dk_at dksX4_winners_0 16 rfl rfl)
theorem dX4_winners_17 : decode cX4_winners 17 = .ok (.aload_n 0, 1) := dk_42 (dk_at dksX4_winners_0 17 rfl rfl)
theorem dX4_winners_18 : decode cX4_winners 18 = .ok (.iload_n 1, 1) := dk_27 (dk_at dksX4_winners_0 18 rfl rfl)
theorem dX4_winners_19 : decode cX4_winners 19 = .ok (.iload_n 2, 1) := dk_28 (dk_at dksX4_winners_0 19 rfl rfl)
theorem dX4_winners_20 : decode cX4_winners 20 = .ok (.invokevirtual 275, 3) := dk_182 1 19 (dk_at dksX4_winners_0 20 rfl rfl)
theorem dX4_winners_23 : decode cX4_winners 23 = .ok (.aload_n 0, 1) := dk_42 (dk_at dksX4_winners_0 23 rfl rfl)
theorem dX4_winners_24 : decode cX4_winners 24 = .ok (.iload_n 3, 1) := dk_29 (dk_at dksX4_winners_1 0 rfl rfl)
theorem dX4_winners_25 : decode cX4_winners 25 = .ok (.invokevirtual 262, 3) := dk_182 1 6 (dk_at dksX4_winners_1 1 rfl rfl)
theorem dX4_winners_28 : decode cX4_winners 28 = .ok (.ireturn, 1) := dk_172 (dk_at dksX4_winners_1 4 rfl rfl)
abbrev cX4_winnersAt : ByteArray := prog_19_method_46_code
def yX4_winnersAt : MethodName := ⟨RX4, "winnersAt", "(I)I"⟩
def dkwX4_winnersAt_2 : List UInt8 := [3, 128, 61, 132, 3, 1, 167, 255, 207, 28, 172]
abbrev dktX4_winnersAt_2 : List UInt8 := dkwX4_winnersAt_2 ++ []
def dkwX4_winnersAt_1 : List UInt8 := [153, 0, 24, 42, 180, 0, 48, 29, 27, 184, 0, 224, 46, 16, 254, 160, 0, 9, 4, 29, 120, 167, 0, 4]
abbrev dktX4_winnersAt_1 : List UInt8 := dkwX4_winnersAt_1 ++ dktX4_winnersAt_2
def dkwX4_winnersAt_0 : List UInt8 := [3, 61, 3, 62, 29, 42, 180, 0, 17, 6, 46, 162, 0, 45, 28, 42, 180, 0, 218, 29, 184, 0, 221]
abbrev dktX4_winnersAt_0 : List UInt8 := dkwX4_winnersAt_0 ++ dktX4_winnersAt_1
theorem dksX4_winnersAt_0 : cX4_winnersAt.data.toList.drop 0 = dktX4_winnersAt_0 := by decide +kernel
theorem dksX4_winnersAt_1 : cX4_winnersAt.data.toList.drop 23 = dktX4_winnersAt_1 := dk_seg dksX4_winnersAt_0 23 rfl rfl
theorem dksX4_winnersAt_2 : cX4_winnersAt.data.toList.drop 47 = dktX4_winnersAt_2 := dk_seg dksX4_winnersAt_1 24 rfl rfl
theorem dX4_winnersAt_0 : decode cX4_winnersAt 0 = .ok (.iconst 0, 1) := dk_3 (dk_at dksX4_winnersAt_0 0 rfl rfl)
theorem dX4_winnersAt_1 : decode cX4_winnersAt 1 = .ok (.istore_n 2, 1) := dk_61 (dk_at dksX4_winnersAt_0 1 rfl rfl)
theorem dX4_winnersAt_2 : decode cX4_winnersAt 2 = .ok (.iconst 0, 1) := dk_3 (dk_at dksX4_winnersAt_0 2 rfl rfl)
theorem dX4_winnersAt_3 : decode cX4_winnersAt 3 = .ok (.istore_n 3, 1) := dk_62 (dk_at dksX4_winnersAt_0 3 rfl rfl)
theorem dX4_winnersAt_4 : decode cX4_winnersAt 4 = .ok (.iload_n 3, 1) := dk_29 (dk_at dksX4_winnersAt_0 4 rfl rfl)
theorem dX4_winnersAt_5 : decode cX4_winnersAt 5 = .ok (.aload_n 0, 1) := dk_42 (dk_at dksX4_winnersAt_0 5 rfl rfl)
theorem dX4_winnersAt_6 : decode cX4_winnersAt 6 = .ok (.getfield 17, 3) := dk_180 0 17 (dk_at dksX4_winnersAt_0 6 rfl rfl)
theorem dX4_winnersAt_9 : decode cX4_winnersAt 9 = .ok (.iconst 3, 1) := dk_6 (dk_at dksX4_winnersAt_0 9 rfl rfl)
theorem dX4_winnersAt_10 : decode cX4_winnersAt 10 = .ok (.iaload, 1) := dk_46 (dk_at dksX4_winnersAt_0 10 rfl rfl)
theorem dX4_winnersAt_11 : decode cX4_winnersAt 11 = .ok (.if_icmp .ge 45, 3) := dk_162 0 45 (dk_at dksX4_winnersAt_0 11 rfl rfl)
theorem dX4_winnersAt_14 : decode cX4_winnersAt 14 = .ok (.iload_n 2, 1) := dk_28 (dk_at dksX4_winnersAt_0 14 rfl rfl)
theorem dX4_winnersAt_15 : decode cX4_winnersAt 15 = .ok (.aload_n 0, 1) := dk_42 (dk_at dksX4_winnersAt_0 15 rfl rfl)
theorem dX4_winnersAt_16 : decode cX4_winnersAt 16 = .ok (.getfield 218, 3) := dk_180 0 218 (dk_at dksX4_winnersAt_0 16 rfl rfl)
theorem dX4_winnersAt_19 : decode cX4_winnersAt 19 = .ok (.iload_n 3, 1) := dk_29 (dk_at dksX4_winnersAt_0 19 rfl rfl)
theorem dX4_winnersAt_20 : decode cX4_winnersAt 20 = .ok (.invokestatic 221, 3) := dk_184 0 221 (dk_at dksX4_winnersAt_0 20 rfl rfl)
theorem dX4_winnersAt_23 : decode cX4_winnersAt 23 = .ok (.ifCond .eq 24, 3) := dk_153 0 24 (dk_at dksX4_winnersAt_1 0 rfl rfl)
theorem dX4_winnersAt_26 : decode cX4_winnersAt 26 = .ok (.aload_n 0, 1) := dk_42 (dk_at dksX4_winnersAt_1 3 rfl rfl)
theorem dX4_winnersAt_27 : decode cX4_winnersAt 27 = .ok (.getfield 48, 3) := dk_180 0 48 (dk_at dksX4_winnersAt_1 4 rfl rfl)
theorem dX4_winnersAt_30 : decode cX4_winnersAt 30 = .ok (.iload_n 3, 1) := dk_29 (dk_at dksX4_winnersAt_1 7 rfl rfl)
theorem dX4_winnersAt_31 : decode cX4_winnersAt 31 = .ok (.iload_n 1, 1) := dk_27 (dk_at dksX4_winnersAt_1 8 rfl rfl)
theorem dX4_winnersAt_32 : decode cX4_winnersAt 32 = .ok (.invokestatic 224, 3) := dk_184 0 224 (dk_at dksX4_winnersAt_1 9 rfl rfl)
theorem dX4_winnersAt_35 : decode cX4_winnersAt 35 = .ok (.iaload, 1) := dk_46 (dk_at dksX4_winnersAt_1 12 rfl rfl)
theorem dX4_winnersAt_36 : decode cX4_winnersAt 36 = .ok (.bipush (-2), 2) := dk_16 254 (dk_at dksX4_winnersAt_1 13 rfl rfl)
theorem dX4_winnersAt_38 : decode cX4_winnersAt 38 = .ok (.if_icmp .ne 9, 3) := dk_160 0 9 (dk_at dksX4_winnersAt_1 15 rfl rfl)
theorem dX4_winnersAt_41 : decode cX4_winnersAt 41 = .ok (.iconst 1, 1) := dk_4 (dk_at dksX4_winnersAt_1 18 rfl rfl)
theorem dX4_winnersAt_42 : decode cX4_winnersAt 42 = .ok (.iload_n 3, 1) := dk_29 (dk_at dksX4_winnersAt_1 19 rfl rfl)
theorem dX4_winnersAt_43 : decode cX4_winnersAt 43 = .ok (.ishl, 1) := dk_120 (dk_at dksX4_winnersAt_1 20 rfl rfl)
theorem dX4_winnersAt_44 : decode cX4_winnersAt 44 = .ok (.goto 4, 3) := dk_167 0 4 (dk_at dksX4_winnersAt_1 21 rfl rfl)
theorem dX4_winnersAt_47 : decode cX4_winnersAt 47 = .ok (.iconst 0, 1) := dk_3 (dk_at dksX4_winnersAt_2 0 rfl rfl)
theorem dX4_winnersAt_48 : decode cX4_winnersAt 48 = .ok (.ior, 1) := dk_128 (dk_at dksX4_winnersAt_2 1 rfl rfl)
theorem dX4_winnersAt_49 : decode cX4_winnersAt 49 = .ok (.istore_n 2, 1) := dk_61 (dk_at dksX4_winnersAt_2 2 rfl rfl)
theorem dX4_winnersAt_50 : decode cX4_winnersAt 50 = .ok (.iinc 3 1, 3) := dk_132 3 1 (dk_at dksX4_winnersAt_2 3 rfl rfl)
theorem dX4_winnersAt_53 : decode cX4_winnersAt 53 = .ok (.goto (-49), 3) := dk_167 255 207 (dk_at dksX4_winnersAt_2 6 rfl rfl)
theorem dX4_winnersAt_56 : decode cX4_winnersAt 56 = .ok (.iload_n 2, 1) := dk_28 (dk_at dksX4_winnersAt_2 9 rfl rfl)
theorem dX4_winnersAt_57 : decode cX4_winnersAt 57 = .ok (.ireturn, 1) := dk_172 (dk_at dksX4_winnersAt_2 10 rfl rfl)
abbrev cX4_settles : ByteArray := prog_19_method_59_code
def yX4_settles : MethodName := ⟨RX4, "settles", "(II)I"⟩
def dkwX4_settles_1 : List UInt8 := [182, 1, 22, 172]
abbrev dktX4_settles_1 : List UInt8 := dkwX4_settles_1 ++ []
def dkwX4_settles_0 : List UInt8 := [42, 42, 4, 27, 28, 3, 182, 1, 15, 182, 0, 180, 153, 0, 5, 2, 172, 42, 27, 28, 182, 1, 19, 42]
abbrev dktX4_settles_0 : List UInt8 := dkwX4_settles_0 ++ dktX4_settles_1
theorem dksX4_settles_0 : cX4_settles.data.toList.drop 0 = dktX4_settles_0 := by decide +kernel
theorem dksX4_settles_1 : cX4_settles.data.toList.drop 24 = dktX4_settles_1 := dk_seg dksX4_settles_0 24 rfl rfl
theorem dX4_settles_0 : decode cX4_settles 0 = .ok (.aload_n 0, 1) := dk_42 (dk_at dksX4_settles_0 0 rfl rfl)
theorem dX4_settles_1 : decode cX4_settles 1 = .ok (.aload_n 0, 1) := dk_42 (dk_at dksX4_settles_0 1 rfl rfl)
theorem dX4_settles_2 : decode cX4_settles 2 = .ok (.iconst 1, 1) := dk_4 (dk_at dksX4_settles_0 2 rfl rfl)
theorem dX4_settles_3 : decode cX4_settles 3 = .ok (.iload_n 1, 1) := dk_27 (dk_at dksX4_settles_0 3 rfl rfl)
theorem dX4_settles_4 : decode cX4_settles 4 = .ok (.iload_n 2, 1) := dk_28 (dk_at dksX4_settles_0 4 rfl rfl)
theorem dX4_settles_5 : decode cX4_settles 5 = .ok (.iconst 0, 1) := dk_3 (dk_at dksX4_settles_0 5 rfl rfl)
theorem dX4_settles_6 : decode cX4_settles 6 = .ok (.invokevirtual 271, 3) := dk_182 1 15 (dk_at dksX4_settles_0 6 rfl rfl)
theorem dX4_settles_9 : decode cX4_settles 9 = .ok (.invokevirtual 180, 3) := dk_182 0 180 (dk_at dksX4_settles_0 9 rfl rfl)
theorem dX4_settles_12 : decode cX4_settles 12 = .ok (.ifCond .eq 5, 3) := dk_153 0 5 (dk_at dksX4_settles_0 12 rfl rfl)
theorem dX4_settles_15 : decode cX4_settles 15 = .ok (.iconst (-1), 1) := dk_2 (dk_at dksX4_settles_0 15 rfl rfl)
theorem dX4_settles_16 : decode cX4_settles 16 = .ok (.ireturn, 1) := dk_172 (dk_at dksX4_settles_0 16 rfl rfl)
theorem dX4_settles_17 : decode cX4_settles 17 = .ok (.aload_n 0, 1) := dk_42 (dk_at dksX4_settles_0 17 rfl rfl)
theorem dX4_settles_18 : decode cX4_settles 18 = .ok (.iload_n 1, 1) := dk_27 (dk_at dksX4_settles_0 18 rfl rfl)
theorem dX4_settles_19 : decode cX4_settles 19 = .ok (.iload_n 2, 1) := dk_28 (dk_at dksX4_settles_0 19 rfl rfl)
theorem dX4_settles_20 : decode cX4_settles 20 = .ok (.invokevirtual 275, 3) := dk_182 1 19 (dk_at dksX4_settles_0 20 rfl rfl)
theorem dX4_settles_23 : decode cX4_settles 23 = .ok (.aload_n 0, 1) := dk_42 (dk_at dksX4_settles_0 23 rfl rfl)
theorem dX4_settles_24 : decode cX4_settles 24 = .ok (.invokevirtual 278, 3) := dk_182 1 22 (dk_at dksX4_settles_1 0 rfl rfl)
theorem dX4_settles_27 : decode cX4_settles 27 = .ok (.ireturn, 1) := dk_172 (dk_at dksX4_settles_1 3 rfl rfl)
abbrev cX4_settledAt : ByteArray := prog_19_method_49_code
def yX4_settledAt : MethodName := ⟨RX4, "settledAt", "()I"⟩
def dkwX4_settledAt_1 : List UInt8 := [27, 172]
abbrev dktX4_settledAt_1 : List UInt8 := dkwX4_settledAt_1 ++ []
def dkwX4_settledAt_0 : List UInt8 := [17, 1, 144, 60, 27, 158, 0, 19, 42, 27, 4, 100, 182, 1, 0, 153, 0, 9, 132, 1, 255, 167, 255, 239]
abbrev dktX4_settledAt_0 : List UInt8 := dkwX4_settledAt_0 ++ dktX4_settledAt_1
theorem dksX4_settledAt_0 : cX4_settledAt.data.toList.drop 0 = dktX4_settledAt_0 := by decide +kernel
theorem dksX4_settledAt_1 : cX4_settledAt.data.toList.drop 24 = dktX4_settledAt_1 := dk_seg dksX4_settledAt_0 24 rfl rfl
theorem dX4_settledAt_0 : decode cX4_settledAt 0 = .ok (.sipush 400, 3) := dk_17 1 144 (dk_at dksX4_settledAt_0 0 rfl rfl)
theorem dX4_settledAt_3 : decode cX4_settledAt 3 = .ok (.istore_n 1, 1) := dk_60 (dk_at dksX4_settledAt_0 3 rfl rfl)
theorem dX4_settledAt_4 : decode cX4_settledAt 4 = .ok (.iload_n 1, 1) := dk_27 (dk_at dksX4_settledAt_0 4 rfl rfl)
theorem dX4_settledAt_5 : decode cX4_settledAt 5 = .ok (.ifCond .le 19, 3) := dk_158 0 19 (dk_at dksX4_settledAt_0 5 rfl rfl)
theorem dX4_settledAt_8 : decode cX4_settledAt 8 = .ok (.aload_n 0, 1) := dk_42 (dk_at dksX4_settledAt_0 8 rfl rfl)
theorem dX4_settledAt_9 : decode cX4_settledAt 9 = .ok (.iload_n 1, 1) := dk_27 (dk_at dksX4_settledAt_0 9 rfl rfl)
theorem dX4_settledAt_10 : decode cX4_settledAt 10 = .ok (.iconst 1, 1) := dk_4 (dk_at dksX4_settledAt_0 10 rfl rfl)
theorem dX4_settledAt_11 : decode cX4_settledAt 11 = .ok (.isub, 1) := dk_100 (dk_at dksX4_settledAt_0 11 rfl rfl)
theorem dX4_settledAt_12 : decode cX4_settledAt 12 = .ok (.invokevirtual 256, 3) := dk_182 1 0 (dk_at dksX4_settledAt_0 12 rfl rfl)
theorem dX4_settledAt_15 : decode cX4_settledAt 15 = .ok (.ifCond .eq 9, 3) := dk_153 0 9 (dk_at dksX4_settledAt_0 15 rfl rfl)
theorem dX4_settledAt_18 : decode cX4_settledAt 18 = .ok (.iinc 1 (-1), 3) := dk_132 1 255 (dk_at dksX4_settledAt_0 18 rfl rfl)
theorem dX4_settledAt_21 : decode cX4_settledAt 21 = .ok (.goto (-17), 3) := dk_167 255 239 (dk_at dksX4_settledAt_0 21 rfl rfl)
theorem dX4_settledAt_24 : decode cX4_settledAt 24 = .ok (.iload_n 1, 1) := dk_27 (dk_at dksX4_settledAt_1 0 rfl rfl)
theorem dX4_settledAt_25 : decode cX4_settledAt 25 = .ok (.ireturn, 1) := dk_172 (dk_at dksX4_settledAt_1 1 rfl rfl)
abbrev cX4_areSettled : ByteArray := prog_19_method_48_code
def yX4_areSettled : MethodName := ⟨RX4, "areSettled", "(I)Z"⟩
def dkwX4_areSettled_1 : List UInt8 := [180, 0, 39, 28, 17, 1, 144, 184, 0, 224, 46, 159, 0, 5, 3, 172, 132, 2, 1, 167, 255, 216, 4, 172]
abbrev dktX4_areSettled_1 : List UInt8 := dkwX4_areSettled_1 ++ []
def dkwX4_areSettled_0 : List UInt8 := [3, 61, 28, 42, 180, 0, 17, 6, 46, 162, 0, 36, 42, 180, 0, 39, 28, 27, 184, 0, 224, 46, 42]
abbrev dktX4_areSettled_0 : List UInt8 := dkwX4_areSettled_0 ++ dktX4_areSettled_1
theorem dksX4_areSettled_0 : cX4_areSettled.data.toList.drop 0 = dktX4_areSettled_0 := by decide +kernel
theorem dksX4_areSettled_1 : cX4_areSettled.data.toList.drop 23 = dktX4_areSettled_1 := dk_seg dksX4_areSettled_0 23 rfl rfl
theorem dX4_areSettled_0 : decode cX4_areSettled 0 = .ok (.iconst 0, 1) := dk_3 (dk_at dksX4_areSettled_0 0 rfl rfl)
theorem dX4_areSettled_1 : decode cX4_areSettled 1 = .ok (.istore_n 2, 1) := dk_61 (dk_at dksX4_areSettled_0 1 rfl rfl)
theorem dX4_areSettled_2 : decode cX4_areSettled 2 = .ok (.iload_n 2, 1) := dk_28 (dk_at dksX4_areSettled_0 2 rfl rfl)
theorem dX4_areSettled_3 : decode cX4_areSettled 3 = .ok (.aload_n 0, 1) := dk_42 (dk_at dksX4_areSettled_0 3 rfl rfl)
theorem dX4_areSettled_4 : decode cX4_areSettled 4 = .ok (.getfield 17, 3) := dk_180 0 17 (dk_at dksX4_areSettled_0 4 rfl rfl)
theorem dX4_areSettled_7 : decode cX4_areSettled 7 = .ok (.iconst 3, 1) := dk_6 (dk_at dksX4_areSettled_0 7 rfl rfl)
theorem dX4_areSettled_8 : decode cX4_areSettled 8 = .ok (.iaload, 1) := dk_46 (dk_at dksX4_areSettled_0 8 rfl rfl)
theorem dX4_areSettled_9 : decode cX4_areSettled 9 = .ok (.if_icmp .ge 36, 3) := dk_162 0 36 (dk_at dksX4_areSettled_0 9 rfl rfl)
theorem dX4_areSettled_12 : decode cX4_areSettled 12 = .ok (.aload_n 0, 1) := dk_42 (dk_at dksX4_areSettled_0 12 rfl rfl)
theorem dX4_areSettled_13 : decode cX4_areSettled 13 = .ok (.getfield 39, 3) := dk_180 0 39 (dk_at dksX4_areSettled_0 13 rfl rfl)
theorem dX4_areSettled_16 : decode cX4_areSettled 16 = .ok (.iload_n 2, 1) := dk_28 (dk_at dksX4_areSettled_0 16 rfl rfl)
theorem dX4_areSettled_17 : decode cX4_areSettled 17 = .ok (.iload_n 1, 1) := dk_27 (dk_at dksX4_areSettled_0 17 rfl rfl)
theorem dX4_areSettled_18 : decode cX4_areSettled 18 = .ok (.invokestatic 224, 3) := dk_184 0 224 (dk_at dksX4_areSettled_0 18 rfl rfl)
theorem dX4_areSettled_21 : decode cX4_areSettled 21 = .ok (.iaload, 1) := dk_46 (dk_at dksX4_areSettled_0 21 rfl rfl)
theorem dX4_areSettled_22 : decode cX4_areSettled 22 = .ok (.aload_n 0, 1) := dk_42 (dk_at dksX4_areSettled_0 22 rfl rfl)
theorem dX4_areSettled_23 : decode cX4_areSettled 23 = .ok (.getfield 39, 3) := dk_180 0 39 (dk_at dksX4_areSettled_1 0 rfl rfl)
theorem dX4_areSettled_26 : decode cX4_areSettled 26 = .ok (.iload_n 2, 1) := dk_28 (dk_at dksX4_areSettled_1 3 rfl rfl)
theorem dX4_areSettled_27 : decode cX4_areSettled 27 = .ok (.sipush 400, 3) := dk_17 1 144 (dk_at dksX4_areSettled_1 4 rfl rfl)
theorem dX4_areSettled_30 : decode cX4_areSettled 30 = .ok (.invokestatic 224, 3) := dk_184 0 224 (dk_at dksX4_areSettled_1 7 rfl rfl)
theorem dX4_areSettled_33 : decode cX4_areSettled 33 = .ok (.iaload, 1) := dk_46 (dk_at dksX4_areSettled_1 10 rfl rfl)
theorem dX4_areSettled_34 : decode cX4_areSettled 34 = .ok (.if_icmp .eq 5, 3) := dk_159 0 5 (dk_at dksX4_areSettled_1 11 rfl rfl)
theorem dX4_areSettled_37 : decode cX4_areSettled 37 = .ok (.iconst 0, 1) := dk_3 (dk_at dksX4_areSettled_1 14 rfl rfl)
theorem dX4_areSettled_38 : decode cX4_areSettled 38 = .ok (.ireturn, 1) := dk_172 (dk_at dksX4_areSettled_1 15 rfl rfl)
theorem dX4_areSettled_39 : decode cX4_areSettled 39 = .ok (.iinc 2 1, 3) := dk_132 2 1 (dk_at dksX4_areSettled_1 16 rfl rfl)
theorem dX4_areSettled_42 : decode cX4_areSettled 42 = .ok (.goto (-40), 3) := dk_167 255 216 (dk_at dksX4_areSettled_1 19 rfl rfl)
theorem dX4_areSettled_45 : decode cX4_areSettled 45 = .ok (.iconst 1, 1) := dk_4 (dk_at dksX4_areSettled_1 22 rfl rfl)
theorem dX4_areSettled_46 : decode cX4_areSettled 46 = .ok (.ireturn, 1) := dk_172 (dk_at dksX4_areSettled_1 23 rfl rfl)
abbrev cX4_sure : ByteArray := prog_19_method_60_code
def yX4_sure : MethodName := ⟨RX4, "sure", "(II)I"⟩
def dkwX4_sure_1 : List UInt8 := [182, 1, 25, 172]
abbrev dktX4_sure_1 : List UInt8 := dkwX4_sure_1 ++ []
def dkwX4_sure_0 : List UInt8 := [42, 42, 4, 27, 28, 3, 182, 1, 15, 182, 0, 180, 153, 0, 5, 2, 172, 42, 27, 28, 182, 1, 19, 42]
abbrev dktX4_sure_0 : List UInt8 := dkwX4_sure_0 ++ dktX4_sure_1
theorem dksX4_sure_0 : cX4_sure.data.toList.drop 0 = dktX4_sure_0 := by decide +kernel
theorem dksX4_sure_1 : cX4_sure.data.toList.drop 24 = dktX4_sure_1 := dk_seg dksX4_sure_0 24 rfl rfl
theorem dX4_sure_0 : decode cX4_sure 0 = .ok (.aload_n 0, 1) := dk_42 (dk_at dksX4_sure_0 0 rfl rfl)
theorem dX4_sure_1 : decode cX4_sure 1 = .ok (.aload_n 0, 1) := dk_42 (dk_at dksX4_sure_0 1 rfl rfl)
theorem dX4_sure_2 : decode cX4_sure 2 = .ok (.iconst 1, 1) := dk_4 (dk_at dksX4_sure_0 2 rfl rfl)
theorem dX4_sure_3 : decode cX4_sure 3 = .ok (.iload_n 1, 1) := dk_27 (dk_at dksX4_sure_0 3 rfl rfl)
theorem dX4_sure_4 : decode cX4_sure 4 = .ok (.iload_n 2, 1) := dk_28 (dk_at dksX4_sure_0 4 rfl rfl)
theorem dX4_sure_5 : decode cX4_sure 5 = .ok (.iconst 0, 1) := dk_3 (dk_at dksX4_sure_0 5 rfl rfl)
theorem dX4_sure_6 : decode cX4_sure 6 = .ok (.invokevirtual 271, 3) := dk_182 1 15 (dk_at dksX4_sure_0 6 rfl rfl)
theorem dX4_sure_9 : decode cX4_sure 9 = .ok (.invokevirtual 180, 3) := dk_182 0 180 (dk_at dksX4_sure_0 9 rfl rfl)
theorem dX4_sure_12 : decode cX4_sure 12 = .ok (.ifCond .eq 5, 3) := dk_153 0 5 (dk_at dksX4_sure_0 12 rfl rfl)
theorem dX4_sure_15 : decode cX4_sure 15 = .ok (.iconst (-1), 1) := dk_2 (dk_at dksX4_sure_0 15 rfl rfl)
theorem dX4_sure_16 : decode cX4_sure 16 = .ok (.ireturn, 1) := dk_172 (dk_at dksX4_sure_0 16 rfl rfl)
theorem dX4_sure_17 : decode cX4_sure 17 = .ok (.aload_n 0, 1) := dk_42 (dk_at dksX4_sure_0 17 rfl rfl)
theorem dX4_sure_18 : decode cX4_sure 18 = .ok (.iload_n 1, 1) := dk_27 (dk_at dksX4_sure_0 18 rfl rfl)
theorem dX4_sure_19 : decode cX4_sure 19 = .ok (.iload_n 2, 1) := dk_28 (dk_at dksX4_sure_0 19 rfl rfl)
theorem dX4_sure_20 : decode cX4_sure 20 = .ok (.invokevirtual 275, 3) := dk_182 1 19 (dk_at dksX4_sure_0 20 rfl rfl)
theorem dX4_sure_23 : decode cX4_sure 23 = .ok (.aload_n 0, 1) := dk_42 (dk_at dksX4_sure_0 23 rfl rfl)
theorem dX4_sure_24 : decode cX4_sure 24 = .ok (.invokevirtual 281, 3) := dk_182 1 25 (dk_at dksX4_sure_1 0 rfl rfl)
theorem dX4_sure_27 : decode cX4_sure 27 = .ok (.ireturn, 1) := dk_172 (dk_at dksX4_sure_1 3 rfl rfl)
abbrev cX4_sureAt : ByteArray := prog_19_method_50_code
def yX4_sureAt : MethodName := ⟨RX4, "sureAt", "()I"⟩
def dkwX4_sureAt_1 : List UInt8 := [132, 2, 255, 167, 255, 238, 28, 17, 1, 145, 160, 0, 8, 16, 254, 167, 0, 4, 28, 172]
abbrev dktX4_sureAt_1 : List UInt8 := dkwX4_sureAt_1 ++ []
def dkwX4_sureAt_0 : List UInt8 := [42, 182, 1, 3, 60, 17, 1, 145, 61, 28, 158, 0, 20, 42, 28, 4, 100, 182, 1, 6, 27, 160, 0, 9]
abbrev dktX4_sureAt_0 : List UInt8 := dkwX4_sureAt_0 ++ dktX4_sureAt_1
theorem dksX4_sureAt_0 : cX4_sureAt.data.toList.drop 0 = dktX4_sureAt_0 := by decide +kernel
theorem dksX4_sureAt_1 : cX4_sureAt.data.toList.drop 24 = dktX4_sureAt_1 := dk_seg dksX4_sureAt_0 24 rfl rfl
theorem dX4_sureAt_0 : decode cX4_sureAt 0 = .ok (.aload_n 0, 1) := dk_42 (dk_at dksX4_sureAt_0 0 rfl rfl)
theorem dX4_sureAt_1 : decode cX4_sureAt 1 = .ok (.invokevirtual 259, 3) := dk_182 1 3 (dk_at dksX4_sureAt_0 1 rfl rfl)
theorem dX4_sureAt_4 : decode cX4_sureAt 4 = .ok (.istore_n 1, 1) := dk_60 (dk_at dksX4_sureAt_0 4 rfl rfl)
theorem dX4_sureAt_5 : decode cX4_sureAt 5 = .ok (.sipush 401, 3) := dk_17 1 145 (dk_at dksX4_sureAt_0 5 rfl rfl)
theorem dX4_sureAt_8 : decode cX4_sureAt 8 = .ok (.istore_n 2, 1) := dk_61 (dk_at dksX4_sureAt_0 8 rfl rfl)
theorem dX4_sureAt_9 : decode cX4_sureAt 9 = .ok (.iload_n 2, 1) := dk_28 (dk_at dksX4_sureAt_0 9 rfl rfl)
theorem dX4_sureAt_10 : decode cX4_sureAt 10 = .ok (.ifCond .le 20, 3) := dk_158 0 20 (dk_at dksX4_sureAt_0 10 rfl rfl)
theorem dX4_sureAt_13 : decode cX4_sureAt 13 = .ok (.aload_n 0, 1) := dk_42 (dk_at dksX4_sureAt_0 13 rfl rfl)
theorem dX4_sureAt_14 : decode cX4_sureAt 14 = .ok (.iload_n 2, 1) := dk_28 (dk_at dksX4_sureAt_0 14 rfl rfl)
theorem dX4_sureAt_15 : decode cX4_sureAt 15 = .ok (.iconst 1, 1) := dk_4 (dk_at dksX4_sureAt_0 15 rfl rfl)
theorem dX4_sureAt_16 : decode cX4_sureAt 16 = .ok (.isub, 1) := dk_100 (dk_at dksX4_sureAt_0 16 rfl rfl)
theorem dX4_sureAt_17 : decode cX4_sureAt 17 = .ok (.invokevirtual 262, 3) := dk_182 1 6 (dk_at dksX4_sureAt_0 17 rfl rfl)
theorem dX4_sureAt_20 : decode cX4_sureAt 20 = .ok (.iload_n 1, 1) := dk_27 (dk_at dksX4_sureAt_0 20 rfl rfl)
theorem dX4_sureAt_21 : decode cX4_sureAt 21 = .ok (.if_icmp .ne 9, 3) := dk_160 0 9 (dk_at dksX4_sureAt_0 21 rfl rfl)
theorem dX4_sureAt_24 : decode cX4_sureAt 24 = .ok (.iinc 2 (-1), 3) := dk_132 2 255 (dk_at dksX4_sureAt_1 0 rfl rfl)
theorem dX4_sureAt_27 : decode cX4_sureAt 27 = .ok (.goto (-18), 3) := dk_167 255 238 (dk_at dksX4_sureAt_1 3 rfl rfl)
theorem dX4_sureAt_30 : decode cX4_sureAt 30 = .ok (.iload_n 2, 1) := dk_28 (dk_at dksX4_sureAt_1 6 rfl rfl)
theorem dX4_sureAt_31 : decode cX4_sureAt 31 = .ok (.sipush 401, 3) := dk_17 1 145 (dk_at dksX4_sureAt_1 7 rfl rfl)
theorem dX4_sureAt_34 : decode cX4_sureAt 34 = .ok (.if_icmp .ne 8, 3) := dk_160 0 8 (dk_at dksX4_sureAt_1 10 rfl rfl)
theorem dX4_sureAt_37 : decode cX4_sureAt 37 = .ok (.bipush (-2), 2) := dk_16 254 (dk_at dksX4_sureAt_1 13 rfl rfl)
theorem dX4_sureAt_39 : decode cX4_sureAt 39 = .ok (.goto 4, 3) := dk_167 0 4 (dk_at dksX4_sureAt_1 15 rfl rfl)
theorem dX4_sureAt_42 : decode cX4_sureAt 42 = .ok (.iload_n 2, 1) := dk_28 (dk_at dksX4_sureAt_1 18 rfl rfl)
theorem dX4_sureAt_43 : decode cX4_sureAt 43 = .ok (.ireturn, 1) := dk_172 (dk_at dksX4_sureAt_1 19 rfl rfl)
abbrev cX4_rightOnes : ByteArray := prog_19_method_47_code
def yX4_rightOnes : MethodName := ⟨RX4, "rightOnes", "()I"⟩
def dkwX4_rightOnes_3 : List UInt8 := [28, 172]
abbrev dktX4_rightOnes_3 : List UInt8 := dkwX4_rightOnes_3 ++ []
def dkwX4_rightOnes_2 : List UInt8 := [29, 120, 167, 0, 8, 28, 4, 29, 120, 128, 61, 42, 180, 0, 36, 29, 46, 60, 132, 3, 1, 167, 255, 193]
abbrev dktX4_rightOnes_2 : List UInt8 := dkwX4_rightOnes_2 ++ dktX4_rightOnes_3
def dkwX4_rightOnes_1 : List UInt8 := [153, 0, 42, 42, 180, 0, 36, 29, 46, 27, 161, 0, 32, 42, 180, 0, 36, 29, 46, 27, 164, 0, 9, 4]
abbrev dktX4_rightOnes_1 : List UInt8 := dkwX4_rightOnes_1 ++ dktX4_rightOnes_2
def dkwX4_rightOnes_0 : List UInt8 := [2, 60, 3, 61, 3, 62, 29, 42, 180, 0, 17, 6, 46, 162, 0, 59, 42, 180, 0, 218, 29, 184, 0, 221]
abbrev dktX4_rightOnes_0 : List UInt8 := dkwX4_rightOnes_0 ++ dktX4_rightOnes_1
theorem dksX4_rightOnes_0 : cX4_rightOnes.data.toList.drop 0 = dktX4_rightOnes_0 := by decide +kernel
theorem dksX4_rightOnes_1 : cX4_rightOnes.data.toList.drop 24 = dktX4_rightOnes_1 := dk_seg dksX4_rightOnes_0 24 rfl rfl
theorem dksX4_rightOnes_2 : cX4_rightOnes.data.toList.drop 48 = dktX4_rightOnes_2 := dk_seg dksX4_rightOnes_1 24 rfl rfl
theorem dksX4_rightOnes_3 : cX4_rightOnes.data.toList.drop 72 = dktX4_rightOnes_3 := dk_seg dksX4_rightOnes_2 24 rfl rfl
theorem dX4_rightOnes_0 : decode cX4_rightOnes 0 = .ok (.iconst (-1), 1) := dk_2 (dk_at dksX4_rightOnes_0 0 rfl rfl)
theorem dX4_rightOnes_1 : decode cX4_rightOnes 1 = .ok (.istore_n 1, 1) := dk_60 (dk_at dksX4_rightOnes_0 1 rfl rfl)
theorem dX4_rightOnes_2 : decode cX4_rightOnes 2 = .ok (.iconst 0, 1) := dk_3 (dk_at dksX4_rightOnes_0 2 rfl rfl)
theorem dX4_rightOnes_3 : decode cX4_rightOnes 3 = .ok (.istore_n 2, 1) := dk_61 (dk_at dksX4_rightOnes_0 3 rfl rfl)
theorem dX4_rightOnes_4 : decode cX4_rightOnes 4 = .ok (.iconst 0, 1) := dk_3 (dk_at dksX4_rightOnes_0 4 rfl rfl)
theorem dX4_rightOnes_5 : decode cX4_rightOnes 5 = .ok (.istore_n 3, 1) := dk_62 (dk_at dksX4_rightOnes_0 5 rfl rfl)
theorem dX4_rightOnes_6 : decode cX4_rightOnes 6 = .ok (.iload_n 3, 1) := dk_29 (dk_at dksX4_rightOnes_0 6 rfl rfl)
theorem dX4_rightOnes_7 : decode cX4_rightOnes 7 = .ok (.aload_n 0, 1) := dk_42 (dk_at dksX4_rightOnes_0 7 rfl rfl)
theorem dX4_rightOnes_8 : decode cX4_rightOnes 8 = .ok (.getfield 17, 3) := dk_180 0 17 (dk_at dksX4_rightOnes_0 8 rfl rfl)
theorem dX4_rightOnes_11 : decode cX4_rightOnes 11 = .ok (.iconst 3, 1) := dk_6 (dk_at dksX4_rightOnes_0 11 rfl rfl)
theorem dX4_rightOnes_12 : decode cX4_rightOnes 12 = .ok (.iaload, 1) := dk_46 (dk_at dksX4_rightOnes_0 12 rfl rfl)
theorem dX4_rightOnes_13 : decode cX4_rightOnes 13 = .ok (.if_icmp .ge 59, 3) := dk_162 0 59 (dk_at dksX4_rightOnes_0 13 rfl rfl)
theorem dX4_rightOnes_16 : decode cX4_rightOnes 16 = .ok (.aload_n 0, 1) := dk_42 (dk_at dksX4_rightOnes_0 16 rfl rfl)
theorem dX4_rightOnes_17 : decode cX4_rightOnes 17 = .ok (.getfield 218, 3) := dk_180 0 218 (dk_at dksX4_rightOnes_0 17 rfl rfl)
theorem dX4_rightOnes_20 : decode cX4_rightOnes 20 = .ok (.iload_n 3, 1) := dk_29 (dk_at dksX4_rightOnes_0 20 rfl rfl)
theorem dX4_rightOnes_21 : decode cX4_rightOnes 21 = .ok (.invokestatic 221, 3) := dk_184 0 221 (dk_at dksX4_rightOnes_0 21 rfl rfl)
theorem dX4_rightOnes_24 : decode cX4_rightOnes 24 = .ok (.ifCond .eq 42, 3) := dk_153 0 42 (dk_at dksX4_rightOnes_1 0 rfl rfl)
theorem dX4_rightOnes_27 : decode cX4_rightOnes 27 = .ok (.aload_n 0, 1) := dk_42 (dk_at dksX4_rightOnes_1 3 rfl rfl)
theorem dX4_rightOnes_28 : decode cX4_rightOnes 28 = .ok (.getfield 36, 3) := dk_180 0 36 (dk_at dksX4_rightOnes_1 4 rfl rfl)
theorem dX4_rightOnes_31 : decode cX4_rightOnes 31 = .ok (.iload_n 3, 1) := dk_29 (dk_at dksX4_rightOnes_1 7 rfl rfl)
theorem dX4_rightOnes_32 : decode cX4_rightOnes 32 = .ok (.iaload, 1) := dk_46 (dk_at dksX4_rightOnes_1 8 rfl rfl)
theorem dX4_rightOnes_33 : decode cX4_rightOnes 33 = .ok (.iload_n 1, 1) := dk_27 (dk_at dksX4_rightOnes_1 9 rfl rfl)
theorem dX4_rightOnes_34 : decode cX4_rightOnes 34 = .ok (.if_icmp .lt 32, 3) := dk_161 0 32 (dk_at dksX4_rightOnes_1 10 rfl rfl)
theorem dX4_rightOnes_37 : decode cX4_rightOnes 37 = .ok (.aload_n 0, 1) := dk_42 (dk_at dksX4_rightOnes_1 13 rfl rfl)
theorem dX4_rightOnes_38 : decode cX4_rightOnes 38 = .ok (.getfield 36, 3) := dk_180 0 36 (dk_at dksX4_rightOnes_1 14 rfl rfl)
theorem dX4_rightOnes_41 : decode cX4_rightOnes 41 = .ok (.iload_n 3, 1) := dk_29 (dk_at dksX4_rightOnes_1 17 rfl rfl)
theorem dX4_rightOnes_42 : decode cX4_rightOnes 42 = .ok (.iaload, 1) := dk_46 (dk_at dksX4_rightOnes_1 18 rfl rfl)
theorem dX4_rightOnes_43 : decode cX4_rightOnes 43 = .ok (.iload_n 1, 1) := dk_27 (dk_at dksX4_rightOnes_1 19 rfl rfl)
theorem dX4_rightOnes_44 : decode cX4_rightOnes 44 = .ok (.if_icmp .le 9, 3) := dk_164 0 9 (dk_at dksX4_rightOnes_1 20 rfl rfl)
theorem dX4_rightOnes_47 : decode cX4_rightOnes 47 = .ok (.iconst 1, 1) := dk_4 (dk_at dksX4_rightOnes_1 23 rfl rfl)
theorem dX4_rightOnes_48 : decode cX4_rightOnes 48 = .ok (.iload_n 3, 1) := dk_29 (dk_at dksX4_rightOnes_2 0 rfl rfl)
theorem dX4_rightOnes_49 : decode cX4_rightOnes 49 = .ok (.ishl, 1) := dk_120 (dk_at dksX4_rightOnes_2 1 rfl rfl)
theorem dX4_rightOnes_50 : decode cX4_rightOnes 50 = .ok (.goto 8, 3) := dk_167 0 8 (dk_at dksX4_rightOnes_2 2 rfl rfl)
theorem dX4_rightOnes_53 : decode cX4_rightOnes 53 = .ok (.iload_n 2, 1) := dk_28 (dk_at dksX4_rightOnes_2 5 rfl rfl)
theorem dX4_rightOnes_54 : decode cX4_rightOnes 54 = .ok (.iconst 1, 1) := dk_4 (dk_at dksX4_rightOnes_2 6 rfl rfl)
theorem dX4_rightOnes_55 : decode cX4_rightOnes 55 = .ok (.iload_n 3, 1) := dk_29 (dk_at dksX4_rightOnes_2 7 rfl rfl)
theorem dX4_rightOnes_56 : decode cX4_rightOnes 56 = .ok (.ishl, 1) := dk_120 (dk_at dksX4_rightOnes_2 8 rfl rfl)
theorem dX4_rightOnes_57 : decode cX4_rightOnes 57 = .ok (.ior, 1) := dk_128 (dk_at dksX4_rightOnes_2 9 rfl rfl)
theorem dX4_rightOnes_58 : decode cX4_rightOnes 58 = .ok (.istore_n 2, 1) := dk_61 (dk_at dksX4_rightOnes_2 10 rfl rfl)
theorem dX4_rightOnes_59 : decode cX4_rightOnes 59 = .ok (.aload_n 0, 1) := dk_42 (dk_at dksX4_rightOnes_2 11 rfl rfl)
theorem dX4_rightOnes_60 : decode cX4_rightOnes 60 = .ok (.getfield 36, 3) := dk_180 0 36 (dk_at dksX4_rightOnes_2 12 rfl rfl)
theorem dX4_rightOnes_63 : decode cX4_rightOnes 63 = .ok (.iload_n 3, 1) := dk_29 (dk_at dksX4_rightOnes_2 15 rfl rfl)
theorem dX4_rightOnes_64 : decode cX4_rightOnes 64 = .ok (.iaload, 1) := dk_46 (dk_at dksX4_rightOnes_2 16 rfl rfl)
theorem dX4_rightOnes_65 : decode cX4_rightOnes 65 = .ok (.istore_n 1, 1) := dk_60 (dk_at dksX4_rightOnes_2 17 rfl rfl)
theorem dX4_rightOnes_66 : decode cX4_rightOnes 66 = .ok (.iinc 3 1, 3) := dk_132 3 1 (dk_at dksX4_rightOnes_2 18 rfl rfl)
theorem dX4_rightOnes_69 : decode cX4_rightOnes 69 = .ok (.goto (-63), 3) := dk_167 255 193 (dk_at dksX4_rightOnes_2 21 rfl rfl)
theorem dX4_rightOnes_72 : decode cX4_rightOnes 72 = .ok (.iload_n 2, 1) := dk_28 (dk_at dksX4_rightOnes_3 0 rfl rfl)
theorem dX4_rightOnes_73 : decode cX4_rightOnes 73 = .ok (.ireturn, 1) := dk_172 (dk_at dksX4_rightOnes_3 1 rfl rfl)
abbrev cX4_right : ByteArray := prog_19_method_61_code
def yX4_right : MethodName := ⟨RX4, "right", "(II)I"⟩
def dkwX4_right_1 : List UInt8 := [182, 1, 3, 172]
abbrev dktX4_right_1 : List UInt8 := dkwX4_right_1 ++ []
def dkwX4_right_0 : List UInt8 := [42, 42, 4, 27, 28, 3, 182, 1, 15, 182, 0, 180, 153, 0, 5, 2, 172, 42, 27, 28, 182, 1, 19, 42]
abbrev dktX4_right_0 : List UInt8 := dkwX4_right_0 ++ dktX4_right_1
theorem dksX4_right_0 : cX4_right.data.toList.drop 0 = dktX4_right_0 := by decide +kernel
theorem dksX4_right_1 : cX4_right.data.toList.drop 24 = dktX4_right_1 := dk_seg dksX4_right_0 24 rfl rfl
theorem dX4_right_0 : decode cX4_right 0 = .ok (.aload_n 0, 1) := dk_42 (dk_at dksX4_right_0 0 rfl rfl)
theorem dX4_right_1 : decode cX4_right 1 = .ok (.aload_n 0, 1) := dk_42 (dk_at dksX4_right_0 1 rfl rfl)
theorem dX4_right_2 : decode cX4_right 2 = .ok (.iconst 1, 1) := dk_4 (dk_at dksX4_right_0 2 rfl rfl)
theorem dX4_right_3 : decode cX4_right 3 = .ok (.iload_n 1, 1) := dk_27 (dk_at dksX4_right_0 3 rfl rfl)
theorem dX4_right_4 : decode cX4_right 4 = .ok (.iload_n 2, 1) := dk_28 (dk_at dksX4_right_0 4 rfl rfl)
theorem dX4_right_5 : decode cX4_right 5 = .ok (.iconst 0, 1) := dk_3 (dk_at dksX4_right_0 5 rfl rfl)
theorem dX4_right_6 : decode cX4_right 6 = .ok (.invokevirtual 271, 3) := dk_182 1 15 (dk_at dksX4_right_0 6 rfl rfl)
theorem dX4_right_9 : decode cX4_right 9 = .ok (.invokevirtual 180, 3) := dk_182 0 180 (dk_at dksX4_right_0 9 rfl rfl)
theorem dX4_right_12 : decode cX4_right 12 = .ok (.ifCond .eq 5, 3) := dk_153 0 5 (dk_at dksX4_right_0 12 rfl rfl)
theorem dX4_right_15 : decode cX4_right 15 = .ok (.iconst (-1), 1) := dk_2 (dk_at dksX4_right_0 15 rfl rfl)
theorem dX4_right_16 : decode cX4_right 16 = .ok (.ireturn, 1) := dk_172 (dk_at dksX4_right_0 16 rfl rfl)
theorem dX4_right_17 : decode cX4_right 17 = .ok (.aload_n 0, 1) := dk_42 (dk_at dksX4_right_0 17 rfl rfl)
theorem dX4_right_18 : decode cX4_right 18 = .ok (.iload_n 1, 1) := dk_27 (dk_at dksX4_right_0 18 rfl rfl)
theorem dX4_right_19 : decode cX4_right 19 = .ok (.iload_n 2, 1) := dk_28 (dk_at dksX4_right_0 19 rfl rfl)
theorem dX4_right_20 : decode cX4_right 20 = .ok (.invokevirtual 275, 3) := dk_182 1 19 (dk_at dksX4_right_0 20 rfl rfl)
theorem dX4_right_23 : decode cX4_right 23 = .ok (.aload_n 0, 1) := dk_42 (dk_at dksX4_right_0 23 rfl rfl)
theorem dX4_right_24 : decode cX4_right 24 = .ok (.invokevirtual 259, 3) := dk_182 1 3 (dk_at dksX4_right_1 0 rfl rfl)
theorem dX4_right_27 : decode cX4_right 27 = .ok (.ireturn, 1) := dk_172 (dk_at dksX4_right_1 3 rfl rfl)
abbrev cX4_dips : ByteArray := prog_19_method_62_code
def yX4_dips : MethodName := ⟨RX4, "dips", "(II)I"⟩
def dkwX4_dips_1 : List UInt8 := [180, 0, 234, 172]
abbrev dktX4_dips_1 : List UInt8 := dkwX4_dips_1 ++ []
def dkwX4_dips_0 : List UInt8 := [42, 42, 4, 27, 28, 3, 182, 1, 15, 182, 0, 180, 153, 0, 5, 2, 172, 42, 27, 28, 182, 1, 19, 42]
abbrev dktX4_dips_0 : List UInt8 := dkwX4_dips_0 ++ dktX4_dips_1
theorem dksX4_dips_0 : cX4_dips.data.toList.drop 0 = dktX4_dips_0 := by decide +kernel
theorem dksX4_dips_1 : cX4_dips.data.toList.drop 24 = dktX4_dips_1 := dk_seg dksX4_dips_0 24 rfl rfl
theorem dX4_dips_0 : decode cX4_dips 0 = .ok (.aload_n 0, 1) := dk_42 (dk_at dksX4_dips_0 0 rfl rfl)
theorem dX4_dips_1 : decode cX4_dips 1 = .ok (.aload_n 0, 1) := dk_42 (dk_at dksX4_dips_0 1 rfl rfl)
theorem dX4_dips_2 : decode cX4_dips 2 = .ok (.iconst 1, 1) := dk_4 (dk_at dksX4_dips_0 2 rfl rfl)
theorem dX4_dips_3 : decode cX4_dips 3 = .ok (.iload_n 1, 1) := dk_27 (dk_at dksX4_dips_0 3 rfl rfl)
theorem dX4_dips_4 : decode cX4_dips 4 = .ok (.iload_n 2, 1) := dk_28 (dk_at dksX4_dips_0 4 rfl rfl)
theorem dX4_dips_5 : decode cX4_dips 5 = .ok (.iconst 0, 1) := dk_3 (dk_at dksX4_dips_0 5 rfl rfl)
theorem dX4_dips_6 : decode cX4_dips 6 = .ok (.invokevirtual 271, 3) := dk_182 1 15 (dk_at dksX4_dips_0 6 rfl rfl)
theorem dX4_dips_9 : decode cX4_dips 9 = .ok (.invokevirtual 180, 3) := dk_182 0 180 (dk_at dksX4_dips_0 9 rfl rfl)
theorem dX4_dips_12 : decode cX4_dips 12 = .ok (.ifCond .eq 5, 3) := dk_153 0 5 (dk_at dksX4_dips_0 12 rfl rfl)
theorem dX4_dips_15 : decode cX4_dips 15 = .ok (.iconst (-1), 1) := dk_2 (dk_at dksX4_dips_0 15 rfl rfl)
theorem dX4_dips_16 : decode cX4_dips 16 = .ok (.ireturn, 1) := dk_172 (dk_at dksX4_dips_0 16 rfl rfl)
theorem dX4_dips_17 : decode cX4_dips 17 = .ok (.aload_n 0, 1) := dk_42 (dk_at dksX4_dips_0 17 rfl rfl)
theorem dX4_dips_18 : decode cX4_dips 18 = .ok (.iload_n 1, 1) := dk_27 (dk_at dksX4_dips_0 18 rfl rfl)
theorem dX4_dips_19 : decode cX4_dips 19 = .ok (.iload_n 2, 1) := dk_28 (dk_at dksX4_dips_0 19 rfl rfl)
theorem dX4_dips_20 : decode cX4_dips 20 = .ok (.invokevirtual 275, 3) := dk_182 1 19 (dk_at dksX4_dips_0 20 rfl rfl)
theorem dX4_dips_23 : decode cX4_dips 23 = .ok (.aload_n 0, 1) := dk_42 (dk_at dksX4_dips_0 23 rfl rfl)
theorem dX4_dips_24 : decode cX4_dips 24 = .ok (.getfield 234, 3) := dk_180 0 234 (dk_at dksX4_dips_1 0 rfl rfl)
theorem dX4_dips_27 : decode cX4_dips 27 = .ok (.ireturn, 1) := dk_172 (dk_at dksX4_dips_1 3 rfl rfl)
abbrev cX4_faulty : ByteArray := prog_19_method_63_code
def yX4_faulty : MethodName := ⟨RX4, "faulty", "(III)I"⟩
def dkwX4_faulty_1 : List UInt8 := [29, 182, 1, 28, 153, 0, 7, 4, 167, 0, 4, 3, 172]
abbrev dktX4_faulty_1 : List UInt8 := dkwX4_faulty_1 ++ []
def dkwX4_faulty_0 : List UInt8 := [42, 42, 4, 27, 28, 29, 182, 1, 15, 182, 0, 180, 153, 0, 5, 2, 172, 42, 27, 28, 182, 1, 19, 42]
abbrev dktX4_faulty_0 : List UInt8 := dkwX4_faulty_0 ++ dktX4_faulty_1
theorem dksX4_faulty_0 : cX4_faulty.data.toList.drop 0 = dktX4_faulty_0 := by decide +kernel
theorem dksX4_faulty_1 : cX4_faulty.data.toList.drop 24 = dktX4_faulty_1 := dk_seg dksX4_faulty_0 24 rfl rfl
theorem dX4_faulty_0 : decode cX4_faulty 0 = .ok (.aload_n 0, 1) := dk_42 (dk_at dksX4_faulty_0 0 rfl rfl)
theorem dX4_faulty_1 : decode cX4_faulty 1 = .ok (.aload_n 0, 1) := dk_42 (dk_at dksX4_faulty_0 1 rfl rfl)
theorem dX4_faulty_2 : decode cX4_faulty 2 = .ok (.iconst 1, 1) := dk_4 (dk_at dksX4_faulty_0 2 rfl rfl)
theorem dX4_faulty_3 : decode cX4_faulty 3 = .ok (.iload_n 1, 1) := dk_27 (dk_at dksX4_faulty_0 3 rfl rfl)
theorem dX4_faulty_4 : decode cX4_faulty 4 = .ok (.iload_n 2, 1) := dk_28 (dk_at dksX4_faulty_0 4 rfl rfl)
theorem dX4_faulty_5 : decode cX4_faulty 5 = .ok (.iload_n 3, 1) := dk_29 (dk_at dksX4_faulty_0 5 rfl rfl)
theorem dX4_faulty_6 : decode cX4_faulty 6 = .ok (.invokevirtual 271, 3) := dk_182 1 15 (dk_at dksX4_faulty_0 6 rfl rfl)
theorem dX4_faulty_9 : decode cX4_faulty 9 = .ok (.invokevirtual 180, 3) := dk_182 0 180 (dk_at dksX4_faulty_0 9 rfl rfl)
theorem dX4_faulty_12 : decode cX4_faulty 12 = .ok (.ifCond .eq 5, 3) := dk_153 0 5 (dk_at dksX4_faulty_0 12 rfl rfl)
theorem dX4_faulty_15 : decode cX4_faulty 15 = .ok (.iconst (-1), 1) := dk_2 (dk_at dksX4_faulty_0 15 rfl rfl)
theorem dX4_faulty_16 : decode cX4_faulty 16 = .ok (.ireturn, 1) := dk_172 (dk_at dksX4_faulty_0 16 rfl rfl)
theorem dX4_faulty_17 : decode cX4_faulty 17 = .ok (.aload_n 0, 1) := dk_42 (dk_at dksX4_faulty_0 17 rfl rfl)
theorem dX4_faulty_18 : decode cX4_faulty 18 = .ok (.iload_n 1, 1) := dk_27 (dk_at dksX4_faulty_0 18 rfl rfl)
theorem dX4_faulty_19 : decode cX4_faulty 19 = .ok (.iload_n 2, 1) := dk_28 (dk_at dksX4_faulty_0 19 rfl rfl)
theorem dX4_faulty_20 : decode cX4_faulty 20 = .ok (.invokevirtual 275, 3) := dk_182 1 19 (dk_at dksX4_faulty_0 20 rfl rfl)
theorem dX4_faulty_23 : decode cX4_faulty 23 = .ok (.aload_n 0, 1) := dk_42 (dk_at dksX4_faulty_0 23 rfl rfl)
theorem dX4_faulty_24 : decode cX4_faulty 24 = .ok (.iload_n 3, 1) := dk_29 (dk_at dksX4_faulty_1 0 rfl rfl)
theorem dX4_faulty_25 : decode cX4_faulty 25 = .ok (.invokevirtual 284, 3) := dk_182 1 28 (dk_at dksX4_faulty_1 1 rfl rfl)
theorem dX4_faulty_28 : decode cX4_faulty 28 = .ok (.ifCond .eq 7, 3) := dk_153 0 7 (dk_at dksX4_faulty_1 4 rfl rfl)
theorem dX4_faulty_31 : decode cX4_faulty 31 = .ok (.iconst 1, 1) := dk_4 (dk_at dksX4_faulty_1 7 rfl rfl)
theorem dX4_faulty_32 : decode cX4_faulty 32 = .ok (.goto 4, 3) := dk_167 0 4 (dk_at dksX4_faulty_1 8 rfl rfl)
theorem dX4_faulty_35 : decode cX4_faulty 35 = .ok (.iconst 0, 1) := dk_3 (dk_at dksX4_faulty_1 11 rfl rfl)
theorem dX4_faulty_36 : decode cX4_faulty 36 = .ok (.ireturn, 1) := dk_172 (dk_at dksX4_faulty_1 12 rfl rfl)
abbrev cX4_isFaultyAt : ByteArray := prog_19_method_51_code
def yX4_isFaultyAt : MethodName := ⟨RX4, "isFaultyAt", "(I)Z"⟩
def dkwX4_isFaultyAt_1 : List UInt8 := [184, 0, 209, 5, 112, 154, 0, 5, 4, 172, 132, 2, 1, 167, 255, 223, 3, 172]
abbrev dktX4_isFaultyAt_1 : List UInt8 := dkwX4_isFaultyAt_1 ++ []
def dkwX4_isFaultyAt_0 : List UInt8 := [3, 61, 28, 42, 180, 0, 17, 6, 46, 162, 0, 29, 42, 180, 0, 45, 28, 27, 184, 0, 224, 46]
abbrev dktX4_isFaultyAt_0 : List UInt8 := dkwX4_isFaultyAt_0 ++ dktX4_isFaultyAt_1
theorem dksX4_isFaultyAt_0 : cX4_isFaultyAt.data.toList.drop 0 = dktX4_isFaultyAt_0 := by decide +kernel
theorem dksX4_isFaultyAt_1 : cX4_isFaultyAt.data.toList.drop 22 = dktX4_isFaultyAt_1 := dk_seg dksX4_isFaultyAt_0 22 rfl rfl
theorem dX4_isFaultyAt_0 : decode cX4_isFaultyAt 0 = .ok (.iconst 0, 1) := dk_3 (dk_at dksX4_isFaultyAt_0 0 rfl rfl)
theorem dX4_isFaultyAt_1 : decode cX4_isFaultyAt 1 = .ok (.istore_n 2, 1) := dk_61 (dk_at dksX4_isFaultyAt_0 1 rfl rfl)
theorem dX4_isFaultyAt_2 : decode cX4_isFaultyAt 2 = .ok (.iload_n 2, 1) := dk_28 (dk_at dksX4_isFaultyAt_0 2 rfl rfl)
theorem dX4_isFaultyAt_3 : decode cX4_isFaultyAt 3 = .ok (.aload_n 0, 1) := dk_42 (dk_at dksX4_isFaultyAt_0 3 rfl rfl)
theorem dX4_isFaultyAt_4 : decode cX4_isFaultyAt 4 = .ok (.getfield 17, 3) := dk_180 0 17 (dk_at dksX4_isFaultyAt_0 4 rfl rfl)
theorem dX4_isFaultyAt_7 : decode cX4_isFaultyAt 7 = .ok (.iconst 3, 1) := dk_6 (dk_at dksX4_isFaultyAt_0 7 rfl rfl)
theorem dX4_isFaultyAt_8 : decode cX4_isFaultyAt 8 = .ok (.iaload, 1) := dk_46 (dk_at dksX4_isFaultyAt_0 8 rfl rfl)
theorem dX4_isFaultyAt_9 : decode cX4_isFaultyAt 9 = .ok (.if_icmp .ge 29, 3) := dk_162 0 29 (dk_at dksX4_isFaultyAt_0 9 rfl rfl)
theorem dX4_isFaultyAt_12 : decode cX4_isFaultyAt 12 = .ok (.aload_n 0, 1) := dk_42 (dk_at dksX4_isFaultyAt_0 12 rfl rfl)
theorem dX4_isFaultyAt_13 : decode cX4_isFaultyAt 13 = .ok (.getfield 45, 3) := dk_180 0 45 (dk_at dksX4_isFaultyAt_0 13 rfl rfl)
theorem dX4_isFaultyAt_16 : decode cX4_isFaultyAt 16 = .ok (.iload_n 2, 1) := dk_28 (dk_at dksX4_isFaultyAt_0 16 rfl rfl)
theorem dX4_isFaultyAt_17 : decode cX4_isFaultyAt 17 = .ok (.iload_n 1, 1) := dk_27 (dk_at dksX4_isFaultyAt_0 17 rfl rfl)
theorem dX4_isFaultyAt_18 : decode cX4_isFaultyAt 18 = .ok (.invokestatic 224, 3) := dk_184 0 224 (dk_at dksX4_isFaultyAt_0 18 rfl rfl)
theorem dX4_isFaultyAt_21 : decode cX4_isFaultyAt 21 = .ok (.iaload, 1) := dk_46 (dk_at dksX4_isFaultyAt_0 21 rfl rfl)
theorem dX4_isFaultyAt_22 : decode cX4_isFaultyAt 22 = .ok (.invokestatic 209, 3) := dk_184 0 209 (dk_at dksX4_isFaultyAt_1 0 rfl rfl)
theorem dX4_isFaultyAt_25 : decode cX4_isFaultyAt 25 = .ok (.iconst 2, 1) := dk_5 (dk_at dksX4_isFaultyAt_1 3 rfl rfl)
theorem dX4_isFaultyAt_26 : decode cX4_isFaultyAt 26 = .ok (.irem, 1) := dk_112 (dk_at dksX4_isFaultyAt_1 4 rfl rfl)
theorem dX4_isFaultyAt_27 : decode cX4_isFaultyAt 27 = .ok (.ifCond .ne 5, 3) := dk_154 0 5 (dk_at dksX4_isFaultyAt_1 5 rfl rfl)
theorem dX4_isFaultyAt_30 : decode cX4_isFaultyAt 30 = .ok (.iconst 1, 1) := dk_4 (dk_at dksX4_isFaultyAt_1 8 rfl rfl)
theorem dX4_isFaultyAt_31 : decode cX4_isFaultyAt 31 = .ok (.ireturn, 1) := dk_172 (dk_at dksX4_isFaultyAt_1 9 rfl rfl)
theorem dX4_isFaultyAt_32 : decode cX4_isFaultyAt 32 = .ok (.iinc 2 1, 3) := dk_132 2 1 (dk_at dksX4_isFaultyAt_1 10 rfl rfl)
theorem dX4_isFaultyAt_35 : decode cX4_isFaultyAt 35 = .ok (.goto (-33), 3) := dk_167 255 223 (dk_at dksX4_isFaultyAt_1 13 rfl rfl)
theorem dX4_isFaultyAt_38 : decode cX4_isFaultyAt 38 = .ok (.iconst 0, 1) := dk_3 (dk_at dksX4_isFaultyAt_1 16 rfl rfl)
theorem dX4_isFaultyAt_39 : decode cX4_isFaultyAt 39 = .ok (.ireturn, 1) := dk_172 (dk_at dksX4_isFaultyAt_1 17 rfl rfl)
abbrev cX4_edges : ByteArray := prog_19_method_64_code
def yX4_edges : MethodName := ⟨RX4, "edges", "(IIII)I"⟩
def dkwX4_edges_4 : List UInt8 := [167, 0, 4, 3, 96, 54, 5, 132, 6, 1, 167, 255, 202, 21, 5, 172]
abbrev dktX4_edges_4 : List UInt8 := dkwX4_edges_4 ++ []
def dkwX4_edges_3 : List UInt8 := [42, 180, 0, 42, 29, 21, 6, 4, 100, 184, 0, 224, 46, 130, 21, 4, 184, 0, 221, 153, 0, 7, 4]
abbrev dktX4_edges_3 : List UInt8 := dkwX4_edges_3 ++ dktX4_edges_4
def dkwX4_edges_2 : List UInt8 := [4, 54, 6, 21, 6, 17, 1, 145, 162, 0, 52, 21, 5, 42, 180, 0, 42, 29, 21, 6, 184, 0, 224, 46]
abbrev dktX4_edges_2 : List UInt8 := dkwX4_edges_2 ++ dktX4_edges_3
def dkwX4_edges_1 : List UInt8 := [3, 27, 28, 3, 182, 1, 15, 182, 0, 180, 153, 0, 5, 2, 172, 42, 27, 28, 182, 1, 19, 3, 54, 5]
abbrev dktX4_edges_1 : List UInt8 := dkwX4_edges_1 ++ dktX4_edges_2
def dkwX4_edges_0 : List UInt8 := [42, 42, 42, 29, 182, 1, 12, 153, 0, 17, 21, 4, 3, 8, 184, 0, 83, 153, 0, 7, 4, 167, 0, 4]
abbrev dktX4_edges_0 : List UInt8 := dkwX4_edges_0 ++ dktX4_edges_1
theorem dksX4_edges_0 : cX4_edges.data.toList.drop 0 = dktX4_edges_0 := by decide +kernel
theorem dksX4_edges_1 : cX4_edges.data.toList.drop 24 = dktX4_edges_1 := dk_seg dksX4_edges_0 24 rfl rfl
theorem dksX4_edges_2 : cX4_edges.data.toList.drop 48 = dktX4_edges_2 := dk_seg dksX4_edges_1 24 rfl rfl
theorem dksX4_edges_3 : cX4_edges.data.toList.drop 72 = dktX4_edges_3 := dk_seg dksX4_edges_2 24 rfl rfl
theorem dksX4_edges_4 : cX4_edges.data.toList.drop 95 = dktX4_edges_4 := dk_seg dksX4_edges_3 23 rfl rfl
theorem dX4_edges_0 : decode cX4_edges 0 = .ok (.aload_n 0, 1) := dk_42 (dk_at dksX4_edges_0 0 rfl rfl)
theorem dX4_edges_1 : decode cX4_edges 1 = .ok (.aload_n 0, 1) := dk_42 (dk_at dksX4_edges_0 1 rfl rfl)
theorem dX4_edges_2 : decode cX4_edges 2 = .ok (.aload_n 0, 1) := dk_42 (dk_at dksX4_edges_0 2 rfl rfl)
theorem dX4_edges_3 : decode cX4_edges 3 = .ok (.iload_n 3, 1) := dk_29 (dk_at dksX4_edges_0 3 rfl rfl)
theorem dX4_edges_4 : decode cX4_edges 4 = .ok (.invokevirtual 268, 3) := dk_182 1 12 (dk_at dksX4_edges_0 4 rfl rfl)
theorem dX4_edges_7 : decode cX4_edges 7 = .ok (.ifCond .eq 17, 3) := dk_153 0 17 (dk_at dksX4_edges_0 7 rfl rfl)
theorem dX4_edges_10 : decode cX4_edges 10 = .ok (.iload 4, 2) := dk_21 4 (dk_at dksX4_edges_0 10 rfl rfl)
theorem dX4_edges_12 : decode cX4_edges 12 = .ok (.iconst 0, 1) := dk_3 (dk_at dksX4_edges_0 12 rfl rfl)
theorem dX4_edges_13 : decode cX4_edges 13 = .ok (.iconst 5, 1) := dk_8 (dk_at dksX4_edges_0 13 rfl rfl)
theorem dX4_edges_14 : decode cX4_edges 14 = .ok (.invokestatic 83, 3) := dk_184 0 83 (dk_at dksX4_edges_0 14 rfl rfl)
theorem dX4_edges_17 : decode cX4_edges 17 = .ok (.ifCond .eq 7, 3) := dk_153 0 7 (dk_at dksX4_edges_0 17 rfl rfl)
theorem dX4_edges_20 : decode cX4_edges 20 = .ok (.iconst 1, 1) := dk_4 (dk_at dksX4_edges_0 20 rfl rfl)
theorem dX4_edges_21 : decode cX4_edges 21 = .ok (.goto 4, 3) := dk_167 0 4 (dk_at dksX4_edges_0 21 rfl rfl)
theorem dX4_edges_24 : decode cX4_edges 24 = .ok (.iconst 0, 1) := dk_3 (dk_at dksX4_edges_1 0 rfl rfl)
theorem dX4_edges_25 : decode cX4_edges 25 = .ok (.iload_n 1, 1) := dk_27 (dk_at dksX4_edges_1 1 rfl rfl)
theorem dX4_edges_26 : decode cX4_edges 26 = .ok (.iload_n 2, 1) := dk_28 (dk_at dksX4_edges_1 2 rfl rfl)
theorem dX4_edges_27 : decode cX4_edges 27 = .ok (.iconst 0, 1) := dk_3 (dk_at dksX4_edges_1 3 rfl rfl)
theorem dX4_edges_28 : decode cX4_edges 28 = .ok (.invokevirtual 271, 3) := dk_182 1 15 (dk_at dksX4_edges_1 4 rfl rfl)
theorem dX4_edges_31 : decode cX4_edges 31 = .ok (.invokevirtual 180, 3) := dk_182 0 180 (dk_at dksX4_edges_1 7 rfl rfl)
theorem dX4_edges_34 : decode cX4_edges 34 = .ok (.ifCond .eq 5, 3) := dk_153 0 5 (dk_at dksX4_edges_1 10 rfl rfl)
theorem dX4_edges_37 : decode cX4_edges 37 = .ok (.iconst (-1), 1) := dk_2 (dk_at dksX4_edges_1 13 rfl rfl)
theorem dX4_edges_38 : decode cX4_edges 38 = .ok (.ireturn, 1) := dk_172 (dk_at dksX4_edges_1 14 rfl rfl)
theorem dX4_edges_39 : decode cX4_edges 39 = .ok (.aload_n 0, 1) := dk_42 (dk_at dksX4_edges_1 15 rfl rfl)
theorem dX4_edges_40 : decode cX4_edges 40 = .ok (.iload_n 1, 1) := dk_27 (dk_at dksX4_edges_1 16 rfl rfl)
theorem dX4_edges_41 : decode cX4_edges 41 = .ok (.iload_n 2, 1) := dk_28 (dk_at dksX4_edges_1 17 rfl rfl)
theorem dX4_edges_42 : decode cX4_edges 42 = .ok (.invokevirtual 275, 3) := dk_182 1 19 (dk_at dksX4_edges_1 18 rfl rfl)
theorem dX4_edges_45 : decode cX4_edges 45 = .ok (.iconst 0, 1) := dk_3 (dk_at dksX4_edges_1 21 rfl rfl)
theorem dX4_edges_46 : decode cX4_edges 46 = .ok (.istore 5, 2) := dk_54 5 (dk_at dksX4_edges_1 22 rfl rfl)
theorem dX4_edges_48 : decode cX4_edges 48 = .ok (.iconst 1, 1) := dk_4 (dk_at dksX4_edges_2 0 rfl rfl)
theorem dX4_edges_49 : decode cX4_edges 49 = .ok (.istore 6, 2) := dk_54 6 (dk_at dksX4_edges_2 1 rfl rfl)
theorem dX4_edges_51 : decode cX4_edges 51 = .ok (.iload 6, 2) := dk_21 6 (dk_at dksX4_edges_2 3 rfl rfl)
theorem dX4_edges_53 : decode cX4_edges 53 = .ok (.sipush 401, 3) := dk_17 1 145 (dk_at dksX4_edges_2 5 rfl rfl)
theorem dX4_edges_56 : decode cX4_edges 56 = .ok (.if_icmp .ge 52, 3) := dk_162 0 52 (dk_at dksX4_edges_2 8 rfl rfl)
theorem dX4_edges_59 : decode cX4_edges 59 = .ok (.iload 5, 2) := dk_21 5 (dk_at dksX4_edges_2 11 rfl rfl)
theorem dX4_edges_61 : decode cX4_edges 61 = .ok (.aload_n 0, 1) := dk_42 (dk_at dksX4_edges_2 13 rfl rfl)
theorem dX4_edges_62 : decode cX4_edges 62 = .ok (.getfield 42, 3) := dk_180 0 42 (dk_at dksX4_edges_2 14 rfl rfl)
theorem dX4_edges_65 : decode cX4_edges 65 = .ok (.iload_n 3, 1) := dk_29 (dk_at dksX4_edges_2 17 rfl rfl)
theorem dX4_edges_66 : decode cX4_edges 66 = .ok (.iload 6, 2) := dk_21 6 (dk_at dksX4_edges_2 18 rfl rfl)
theorem dX4_edges_68 : decode cX4_edges 68 = .ok (.invokestatic 224, 3) := dk_184 0 224 (dk_at dksX4_edges_2 20 rfl rfl)
theorem dX4_edges_71 : decode cX4_edges 71 = .ok (.iaload, 1) := dk_46 (dk_at dksX4_edges_2 23 rfl rfl)
theorem dX4_edges_72 : decode cX4_edges 72 = .ok (.aload_n 0, 1) := dk_42 (dk_at dksX4_edges_3 0 rfl rfl)
theorem dX4_edges_73 : decode cX4_edges 73 = .ok (.getfield 42, 3) := dk_180 0 42 (dk_at dksX4_edges_3 1 rfl rfl)
theorem dX4_edges_76 : decode cX4_edges 76 = .ok (.iload_n 3, 1) := dk_29 (dk_at dksX4_edges_3 4 rfl rfl)
theorem dX4_edges_77 : decode cX4_edges 77 = .ok (.iload 6, 2) := dk_21 6 (dk_at dksX4_edges_3 5 rfl rfl)
theorem dX4_edges_79 : decode cX4_edges 79 = .ok (.iconst 1, 1) := dk_4 (dk_at dksX4_edges_3 7 rfl rfl)
theorem dX4_edges_80 : decode cX4_edges 80 = .ok (.isub, 1) := dk_100 (dk_at dksX4_edges_3 8 rfl rfl)
theorem dX4_edges_81 : decode cX4_edges 81 = .ok (.invokestatic 224, 3) := dk_184 0 224 (dk_at dksX4_edges_3 9 rfl rfl)
theorem dX4_edges_84 : decode cX4_edges 84 = .ok (.iaload, 1) := dk_46 (dk_at dksX4_edges_3 12 rfl rfl)
theorem dX4_edges_85 : decode cX4_edges 85 = .ok (.ixor, 1) := dk_130 (dk_at dksX4_edges_3 13 rfl rfl)
theorem dX4_edges_86 : decode cX4_edges 86 = .ok (.iload 4, 2) := dk_21 4 (dk_at dksX4_edges_3 14 rfl rfl)
theorem dX4_edges_88 : decode cX4_edges 88 = .ok (.invokestatic 221, 3) := dk_184 0 221 (dk_at dksX4_edges_3 16 rfl rfl)
theorem dX4_edges_91 : decode cX4_edges 91 = .ok (.ifCond .eq 7, 3) := dk_153 0 7 (dk_at dksX4_edges_3 19 rfl rfl)
theorem dX4_edges_94 : decode cX4_edges 94 = .ok (.iconst 1, 1) := dk_4 (dk_at dksX4_edges_3 22 rfl rfl)
theorem dX4_edges_95 : decode cX4_edges 95 = .ok (.goto 4, 3) := dk_167 0 4 (dk_at dksX4_edges_4 0 rfl rfl)
theorem dX4_edges_98 : decode cX4_edges 98 = .ok (.iconst 0, 1) := dk_3 (dk_at dksX4_edges_4 3 rfl rfl)
theorem dX4_edges_99 : decode cX4_edges 99 = .ok (.iadd, 1) := dk_96 (dk_at dksX4_edges_4 4 rfl rfl)
theorem dX4_edges_100 : decode cX4_edges 100 = .ok (.istore 5, 2) := dk_54 5 (dk_at dksX4_edges_4 5 rfl rfl)
theorem dX4_edges_102 : decode cX4_edges 102 = .ok (.iinc 6 1, 3) := dk_132 6 1 (dk_at dksX4_edges_4 7 rfl rfl)
theorem dX4_edges_105 : decode cX4_edges 105 = .ok (.goto (-54), 3) := dk_167 255 202 (dk_at dksX4_edges_4 10 rfl rfl)
theorem dX4_edges_108 : decode cX4_edges 108 = .ok (.iload 5, 2) := dk_21 5 (dk_at dksX4_edges_4 13 rfl rfl)
theorem dX4_edges_110 : decode cX4_edges 110 = .ok (.ireturn, 1) := dk_172 (dk_at dksX4_edges_4 15 rfl rfl)
abbrev cX4_filters : ByteArray := prog_19_method_65_code
def yX4_filters : MethodName := ⟨RX4, "filters", "(II)I"⟩
def dkwX4_filters_4 : List UInt8 := [79, 21, 4, 172]
abbrev dktX4_filters_4 : List UInt8 := dkwX4_filters_4 ++ []
def dkwX4_filters_3 : List UInt8 := [163, 0, 8, 21, 5, 167, 0, 5, 21, 4, 54, 4, 132, 5, 255, 167, 255, 201, 42, 180, 0, 17, 4, 29]
abbrev dktX4_filters_3 : List UInt8 := dkwX4_filters_3 ++ dktX4_filters_4
def dkwX4_filters_2 : List UInt8 := [182, 1, 19, 42, 182, 1, 25, 54, 6, 21, 6, 16, 254, 159, 0, 19, 21, 6, 42, 180, 0, 17, 5, 46]
abbrev dktX4_filters_2 : List UInt8 := dkwX4_filters_2 ++ dktX4_filters_3
def dkwX4_filters_1 : List UInt8 := [16, 254, 54, 4, 16, 20, 54, 5, 21, 5, 155, 0, 56, 42, 180, 0, 17, 4, 21, 5, 79, 42, 27, 28]
abbrev dktX4_filters_1 : List UInt8 := dkwX4_filters_1 ++ dktX4_filters_2
def dkwX4_filters_0 : List UInt8 := [42, 42, 4, 27, 28, 3, 182, 1, 15, 182, 0, 180, 153, 0, 5, 2, 172, 42, 180, 0, 17, 4, 46, 62]
abbrev dktX4_filters_0 : List UInt8 := dkwX4_filters_0 ++ dktX4_filters_1
theorem dksX4_filters_0 : cX4_filters.data.toList.drop 0 = dktX4_filters_0 := by decide +kernel
theorem dksX4_filters_1 : cX4_filters.data.toList.drop 24 = dktX4_filters_1 := dk_seg dksX4_filters_0 24 rfl rfl
theorem dksX4_filters_2 : cX4_filters.data.toList.drop 48 = dktX4_filters_2 := dk_seg dksX4_filters_1 24 rfl rfl
theorem dksX4_filters_3 : cX4_filters.data.toList.drop 72 = dktX4_filters_3 := dk_seg dksX4_filters_2 24 rfl rfl
theorem dksX4_filters_4 : cX4_filters.data.toList.drop 96 = dktX4_filters_4 := dk_seg dksX4_filters_3 24 rfl rfl
theorem dX4_filters_0 : decode cX4_filters 0 = .ok (.aload_n 0, 1) := dk_42 (dk_at dksX4_filters_0 0 rfl rfl)
theorem dX4_filters_1 : decode cX4_filters 1 = .ok (.aload_n 0, 1) := dk_42 (dk_at dksX4_filters_0 1 rfl rfl)
theorem dX4_filters_2 : decode cX4_filters 2 = .ok (.iconst 1, 1) := dk_4 (dk_at dksX4_filters_0 2 rfl rfl)
theorem dX4_filters_3 : decode cX4_filters 3 = .ok (.iload_n 1, 1) := dk_27 (dk_at dksX4_filters_0 3 rfl rfl)
theorem dX4_filters_4 : decode cX4_filters 4 = .ok (.iload_n 2, 1) := dk_28 (dk_at dksX4_filters_0 4 rfl rfl)
theorem dX4_filters_5 : decode cX4_filters 5 = .ok (.iconst 0, 1) := dk_3 (dk_at dksX4_filters_0 5 rfl rfl)
theorem dX4_filters_6 : decode cX4_filters 6 = .ok (.invokevirtual 271, 3) := dk_182 1 15 (dk_at dksX4_filters_0 6 rfl rfl)
theorem dX4_filters_9 : decode cX4_filters 9 = .ok (.invokevirtual 180, 3) := dk_182 0 180 (dk_at dksX4_filters_0 9 rfl rfl)
theorem dX4_filters_12 : decode cX4_filters 12 = .ok (.ifCond .eq 5, 3) := dk_153 0 5 (dk_at dksX4_filters_0 12 rfl rfl)
theorem dX4_filters_15 : decode cX4_filters 15 = .ok (.iconst (-1), 1) := dk_2 (dk_at dksX4_filters_0 15 rfl rfl)
theorem dX4_filters_16 : decode cX4_filters 16 = .ok (.ireturn, 1) := dk_172 (dk_at dksX4_filters_0 16 rfl rfl)
theorem dX4_filters_17 : decode cX4_filters 17 = .ok (.aload_n 0, 1) := dk_42 (dk_at dksX4_filters_0 17 rfl rfl)
theorem dX4_filters_18 : decode cX4_filters 18 = .ok (.getfield 17, 3) := dk_180 0 17 (dk_at dksX4_filters_0 18 rfl rfl)
theorem dX4_filters_21 : decode cX4_filters 21 = .ok (.iconst 1, 1) := dk_4 (dk_at dksX4_filters_0 21 rfl rfl)
theorem dX4_filters_22 : decode cX4_filters 22 = .ok (.iaload, 1) := dk_46 (dk_at dksX4_filters_0 22 rfl rfl)
theorem dX4_filters_23 : decode cX4_filters 23 = .ok (.istore_n 3, 1) := dk_62 (dk_at dksX4_filters_0 23 rfl rfl)
theorem dX4_filters_24 : decode cX4_filters 24 = .ok (.bipush (-2), 2) := dk_16 254 (dk_at dksX4_filters_1 0 rfl rfl)
theorem dX4_filters_26 : decode cX4_filters 26 = .ok (.istore 4, 2) := dk_54 4 (dk_at dksX4_filters_1 2 rfl rfl)
theorem dX4_filters_28 : decode cX4_filters 28 = .ok (.bipush 20, 2) := dk_16 20 (dk_at dksX4_filters_1 4 rfl rfl)
theorem dX4_filters_30 : decode cX4_filters 30 = .ok (.istore 5, 2) := dk_54 5 (dk_at dksX4_filters_1 6 rfl rfl)
theorem dX4_filters_32 : decode cX4_filters 32 = .ok (.iload 5, 2) := dk_21 5 (dk_at dksX4_filters_1 8 rfl rfl)
theorem dX4_filters_34 : decode cX4_filters 34 = .ok (.ifCond .lt 56, 3) := dk_155 0 56 (dk_at dksX4_filters_1 10 rfl rfl)
theorem dX4_filters_37 : decode cX4_filters 37 = .ok (.aload_n 0, 1) := dk_42 (dk_at dksX4_filters_1 13 rfl rfl)
theorem dX4_filters_38 : decode cX4_filters 38 = .ok (.getfield 17, 3) := dk_180 0 17 (dk_at dksX4_filters_1 14 rfl rfl)
theorem dX4_filters_41 : decode cX4_filters 41 = .ok (.iconst 1, 1) := dk_4 (dk_at dksX4_filters_1 17 rfl rfl)
theorem dX4_filters_42 : decode cX4_filters 42 = .ok (.iload 5, 2) := dk_21 5 (dk_at dksX4_filters_1 18 rfl rfl)
theorem dX4_filters_44 : decode cX4_filters 44 = .ok (.iastore, 1) := dk_79 (dk_at dksX4_filters_1 20 rfl rfl)
theorem dX4_filters_45 : decode cX4_filters 45 = .ok (.aload_n 0, 1) := dk_42 (dk_at dksX4_filters_1 21 rfl rfl)
theorem dX4_filters_46 : decode cX4_filters 46 = .ok (.iload_n 1, 1) := dk_27 (dk_at dksX4_filters_1 22 rfl rfl)
theorem dX4_filters_47 : decode cX4_filters 47 = .ok (.iload_n 2, 1) := dk_28 (dk_at dksX4_filters_1 23 rfl rfl)
theorem dX4_filters_48 : decode cX4_filters 48 = .ok (.invokevirtual 275, 3) := dk_182 1 19 (dk_at dksX4_filters_2 0 rfl rfl)
theorem dX4_filters_51 : decode cX4_filters 51 = .ok (.aload_n 0, 1) := dk_42 (dk_at dksX4_filters_2 3 rfl rfl)
theorem dX4_filters_52 : decode cX4_filters 52 = .ok (.invokevirtual 281, 3) := dk_182 1 25 (dk_at dksX4_filters_2 4 rfl rfl)
theorem dX4_filters_55 : decode cX4_filters 55 = .ok (.istore 6, 2) := dk_54 6 (dk_at dksX4_filters_2 7 rfl rfl)
theorem dX4_filters_57 : decode cX4_filters 57 = .ok (.iload 6, 2) := dk_21 6 (dk_at dksX4_filters_2 9 rfl rfl)
theorem dX4_filters_59 : decode cX4_filters 59 = .ok (.bipush (-2), 2) := dk_16 254 (dk_at dksX4_filters_2 11 rfl rfl)
theorem dX4_filters_61 : decode cX4_filters 61 = .ok (.if_icmp .eq 19, 3) := dk_159 0 19 (dk_at dksX4_filters_2 13 rfl rfl)
theorem dX4_filters_64 : decode cX4_filters 64 = .ok (.iload 6, 2) := dk_21 6 (dk_at dksX4_filters_2 16 rfl rfl)
theorem dX4_filters_66 : decode cX4_filters 66 = .ok (.aload_n 0, 1) := dk_42 (dk_at dksX4_filters_2 18 rfl rfl)
theorem dX4_filters_67 : decode cX4_filters 67 = .ok (.getfield 17, 3) := dk_180 0 17 (dk_at dksX4_filters_2 19 rfl rfl)
theorem dX4_filters_70 : decode cX4_filters 70 = .ok (.iconst 2, 1) := dk_5 (dk_at dksX4_filters_2 22 rfl rfl)
theorem dX4_filters_71 : decode cX4_filters 71 = .ok (.iaload, 1) := dk_46 (dk_at dksX4_filters_2 23 rfl rfl)
theorem dX4_filters_72 : decode cX4_filters 72 = .ok (.if_icmp .gt 8, 3) := dk_163 0 8 (dk_at dksX4_filters_3 0 rfl rfl)
theorem dX4_filters_75 : decode cX4_filters 75 = .ok (.iload 5, 2) := dk_21 5 (dk_at dksX4_filters_3 3 rfl rfl)
theorem dX4_filters_77 : decode cX4_filters 77 = .ok (.goto 5, 3) := dk_167 0 5 (dk_at dksX4_filters_3 5 rfl rfl)
theorem dX4_filters_80 : decode cX4_filters 80 = .ok (.iload 4, 2) := dk_21 4 (dk_at dksX4_filters_3 8 rfl rfl)
theorem dX4_filters_82 : decode cX4_filters 82 = .ok (.istore 4, 2) := dk_54 4 (dk_at dksX4_filters_3 10 rfl rfl)
theorem dX4_filters_84 : decode cX4_filters 84 = .ok (.iinc 5 (-1), 3) := dk_132 5 255 (dk_at dksX4_filters_3 12 rfl rfl)
theorem dX4_filters_87 : decode cX4_filters 87 = .ok (.goto (-55), 3) := dk_167 255 201 (dk_at dksX4_filters_3 15 rfl rfl)
theorem dX4_filters_90 : decode cX4_filters 90 = .ok (.aload_n 0, 1) := dk_42 (dk_at dksX4_filters_3 18 rfl rfl)
theorem dX4_filters_91 : decode cX4_filters 91 = .ok (.getfield 17, 3) := dk_180 0 17 (dk_at dksX4_filters_3 19 rfl rfl)
theorem dX4_filters_94 : decode cX4_filters 94 = .ok (.iconst 1, 1) := dk_4 (dk_at dksX4_filters_3 22 rfl rfl)
theorem dX4_filters_95 : decode cX4_filters 95 = .ok (.iload_n 3, 1) := dk_29 (dk_at dksX4_filters_3 23 rfl rfl)
theorem dX4_filters_96 : decode cX4_filters 96 = .ok (.iastore, 1) := dk_79 (dk_at dksX4_filters_4 0 rfl rfl)
theorem dX4_filters_97 : decode cX4_filters 97 = .ok (.iload 4, 2) := dk_21 4 (dk_at dksX4_filters_4 1 rfl rfl)
theorem dX4_filters_99 : decode cX4_filters 99 = .ok (.ireturn, 1) := dk_172 (dk_at dksX4_filters_4 3 rfl rfl)
abbrev cX4_settled : ByteArray := prog_19_method_66_code
def yX4_settled : MethodName := ⟨RX4, "settled", "(II)I"⟩
def dkwX4_settled_2 : List UInt8 := [163, 0, 7, 4, 167, 0, 4, 3, 96, 62, 132, 4, 1, 167, 255, 217, 29, 172]
abbrev dktX4_settled_2 : List UInt8 := dkwX4_settled_2 ++ []
def dkwX4_settled_1 : List UInt8 := [4, 42, 180, 0, 17, 6, 46, 120, 162, 0, 32, 42, 27, 21, 4, 182, 1, 19, 29, 42, 182, 1, 22, 28]
abbrev dktX4_settled_1 : List UInt8 := dkwX4_settled_1 ++ dktX4_settled_2
def dkwX4_settled_0 : List UInt8 := [42, 42, 4, 27, 4, 28, 182, 1, 15, 182, 0, 180, 153, 0, 5, 2, 172, 3, 62, 4, 54, 4, 21, 4]
abbrev dktX4_settled_0 : List UInt8 := dkwX4_settled_0 ++ dktX4_settled_1
theorem dksX4_settled_0 : cX4_settled.data.toList.drop 0 = dktX4_settled_0 := by decide +kernel
theorem dksX4_settled_1 : cX4_settled.data.toList.drop 24 = dktX4_settled_1 := dk_seg dksX4_settled_0 24 rfl rfl
theorem dksX4_settled_2 : cX4_settled.data.toList.drop 48 = dktX4_settled_2 := dk_seg dksX4_settled_1 24 rfl rfl
theorem dX4_settled_0 : decode cX4_settled 0 = .ok (.aload_n 0, 1) := dk_42 (dk_at dksX4_settled_0 0 rfl rfl)
theorem dX4_settled_1 : decode cX4_settled 1 = .ok (.aload_n 0, 1) := dk_42 (dk_at dksX4_settled_0 1 rfl rfl)
theorem dX4_settled_2 : decode cX4_settled 2 = .ok (.iconst 1, 1) := dk_4 (dk_at dksX4_settled_0 2 rfl rfl)
theorem dX4_settled_3 : decode cX4_settled 3 = .ok (.iload_n 1, 1) := dk_27 (dk_at dksX4_settled_0 3 rfl rfl)
theorem dX4_settled_4 : decode cX4_settled 4 = .ok (.iconst 1, 1) := dk_4 (dk_at dksX4_settled_0 4 rfl rfl)
theorem dX4_settled_5 : decode cX4_settled 5 = .ok (.iload_n 2, 1) := dk_28 (dk_at dksX4_settled_0 5 rfl rfl)
theorem dX4_settled_6 : decode cX4_settled 6 = .ok (.invokevirtual 271, 3) := dk_182 1 15 (dk_at dksX4_settled_0 6 rfl rfl)
theorem dX4_settled_9 : decode cX4_settled 9 = .ok (.invokevirtual 180, 3) := dk_182 0 180 (dk_at dksX4_settled_0 9 rfl rfl)
theorem dX4_settled_12 : decode cX4_settled 12 = .ok (.ifCond .eq 5, 3) := dk_153 0 5 (dk_at dksX4_settled_0 12 rfl rfl)
theorem dX4_settled_15 : decode cX4_settled 15 = .ok (.iconst (-1), 1) := dk_2 (dk_at dksX4_settled_0 15 rfl rfl)
theorem dX4_settled_16 : decode cX4_settled 16 = .ok (.ireturn, 1) := dk_172 (dk_at dksX4_settled_0 16 rfl rfl)
theorem dX4_settled_17 : decode cX4_settled 17 = .ok (.iconst 0, 1) := dk_3 (dk_at dksX4_settled_0 17 rfl rfl)
theorem dX4_settled_18 : decode cX4_settled 18 = .ok (.istore_n 3, 1) := dk_62 (dk_at dksX4_settled_0 18 rfl rfl)
theorem dX4_settled_19 : decode cX4_settled 19 = .ok (.iconst 1, 1) := dk_4 (dk_at dksX4_settled_0 19 rfl rfl)
theorem dX4_settled_20 : decode cX4_settled 20 = .ok (.istore 4, 2) := dk_54 4 (dk_at dksX4_settled_0 20 rfl rfl)
theorem dX4_settled_22 : decode cX4_settled 22 = .ok (.iload 4, 2) := dk_21 4 (dk_at dksX4_settled_0 22 rfl rfl)
theorem dX4_settled_24 : decode cX4_settled 24 = .ok (.iconst 1, 1) := dk_4 (dk_at dksX4_settled_1 0 rfl rfl)
theorem dX4_settled_25 : decode cX4_settled 25 = .ok (.aload_n 0, 1) := dk_42 (dk_at dksX4_settled_1 1 rfl rfl)
theorem dX4_settled_26 : decode cX4_settled 26 = .ok (.getfield 17, 3) := dk_180 0 17 (dk_at dksX4_settled_1 2 rfl rfl)
theorem dX4_settled_29 : decode cX4_settled 29 = .ok (.iconst 3, 1) := dk_6 (dk_at dksX4_settled_1 5 rfl rfl)
theorem dX4_settled_30 : decode cX4_settled 30 = .ok (.iaload, 1) := dk_46 (dk_at dksX4_settled_1 6 rfl rfl)
theorem dX4_settled_31 : decode cX4_settled 31 = .ok (.ishl, 1) := dk_120 (dk_at dksX4_settled_1 7 rfl rfl)
theorem dX4_settled_32 : decode cX4_settled 32 = .ok (.if_icmp .ge 32, 3) := dk_162 0 32 (dk_at dksX4_settled_1 8 rfl rfl)
theorem dX4_settled_35 : decode cX4_settled 35 = .ok (.aload_n 0, 1) := dk_42 (dk_at dksX4_settled_1 11 rfl rfl)
theorem dX4_settled_36 : decode cX4_settled 36 = .ok (.iload_n 1, 1) := dk_27 (dk_at dksX4_settled_1 12 rfl rfl)
theorem dX4_settled_37 : decode cX4_settled 37 = .ok (.iload 4, 2) := dk_21 4 (dk_at dksX4_settled_1 13 rfl rfl)
theorem dX4_settled_39 : decode cX4_settled 39 = .ok (.invokevirtual 275, 3) := dk_182 1 19 (dk_at dksX4_settled_1 15 rfl rfl)
theorem dX4_settled_42 : decode cX4_settled 42 = .ok (.iload_n 3, 1) := dk_29 (dk_at dksX4_settled_1 18 rfl rfl)
theorem dX4_settled_43 : decode cX4_settled 43 = .ok (.aload_n 0, 1) := dk_42 (dk_at dksX4_settled_1 19 rfl rfl)
theorem dX4_settled_44 : decode cX4_settled 44 = .ok (.invokevirtual 278, 3) := dk_182 1 22 (dk_at dksX4_settled_1 20 rfl rfl)
theorem dX4_settled_47 : decode cX4_settled 47 = .ok (.iload_n 2, 1) := dk_28 (dk_at dksX4_settled_1 23 rfl rfl)
theorem dX4_settled_48 : decode cX4_settled 48 = .ok (.if_icmp .gt 7, 3) := dk_163 0 7 (dk_at dksX4_settled_2 0 rfl rfl)
theorem dX4_settled_51 : decode cX4_settled 51 = .ok (.iconst 1, 1) := dk_4 (dk_at dksX4_settled_2 3 rfl rfl)
theorem dX4_settled_52 : decode cX4_settled 52 = .ok (.goto 4, 3) := dk_167 0 4 (dk_at dksX4_settled_2 4 rfl rfl)
theorem dX4_settled_55 : decode cX4_settled 55 = .ok (.iconst 0, 1) := dk_3 (dk_at dksX4_settled_2 7 rfl rfl)
theorem dX4_settled_56 : decode cX4_settled 56 = .ok (.iadd, 1) := dk_96 (dk_at dksX4_settled_2 8 rfl rfl)
theorem dX4_settled_57 : decode cX4_settled 57 = .ok (.istore_n 3, 1) := dk_62 (dk_at dksX4_settled_2 9 rfl rfl)
theorem dX4_settled_58 : decode cX4_settled 58 = .ok (.iinc 4 1, 3) := dk_132 4 1 (dk_at dksX4_settled_2 10 rfl rfl)
theorem dX4_settled_61 : decode cX4_settled 61 = .ok (.goto (-39), 3) := dk_167 255 217 (dk_at dksX4_settled_2 13 rfl rfl)
theorem dX4_settled_64 : decode cX4_settled 64 = .ok (.iload_n 3, 1) := dk_29 (dk_at dksX4_settled_2 16 rfl rfl)
theorem dX4_settled_65 : decode cX4_settled 65 = .ok (.ireturn, 1) := dk_172 (dk_at dksX4_settled_2 17 rfl rfl)
abbrev cX4_slowest : ByteArray := prog_19_method_67_code
def yX4_slowest : MethodName := ⟨RX4, "slowest", "(I)I"⟩
def dkwX4_slowest_2 : List UInt8 := [29, 164, 0, 11, 42, 182, 1, 22, 62, 21, 4, 61, 132, 4, 1, 167, 255, 217, 28, 172]
abbrev dktX4_slowest_2 : List UInt8 := dkwX4_slowest_2 ++ []
def dkwX4_slowest_1 : List UInt8 := [21, 4, 4, 42, 180, 0, 17, 6, 46, 120, 162, 0, 32, 42, 27, 21, 4, 182, 1, 19, 42, 182, 1, 22]
abbrev dktX4_slowest_1 : List UInt8 := dkwX4_slowest_1 ++ dktX4_slowest_2
def dkwX4_slowest_0 : List UInt8 := [42, 42, 4, 27, 4, 3, 182, 1, 15, 182, 0, 180, 153, 0, 5, 2, 172, 3, 61, 2, 62, 4, 54, 4]
abbrev dktX4_slowest_0 : List UInt8 := dkwX4_slowest_0 ++ dktX4_slowest_1
theorem dksX4_slowest_0 : cX4_slowest.data.toList.drop 0 = dktX4_slowest_0 := by decide +kernel
theorem dksX4_slowest_1 : cX4_slowest.data.toList.drop 24 = dktX4_slowest_1 := dk_seg dksX4_slowest_0 24 rfl rfl
theorem dksX4_slowest_2 : cX4_slowest.data.toList.drop 48 = dktX4_slowest_2 := dk_seg dksX4_slowest_1 24 rfl rfl
theorem dX4_slowest_0 : decode cX4_slowest 0 = .ok (.aload_n 0, 1) := dk_42 (dk_at dksX4_slowest_0 0 rfl rfl)
theorem dX4_slowest_1 : decode cX4_slowest 1 = .ok (.aload_n 0, 1) := dk_42 (dk_at dksX4_slowest_0 1 rfl rfl)
theorem dX4_slowest_2 : decode cX4_slowest 2 = .ok (.iconst 1, 1) := dk_4 (dk_at dksX4_slowest_0 2 rfl rfl)
theorem dX4_slowest_3 : decode cX4_slowest 3 = .ok (.iload_n 1, 1) := dk_27 (dk_at dksX4_slowest_0 3 rfl rfl)
theorem dX4_slowest_4 : decode cX4_slowest 4 = .ok (.iconst 1, 1) := dk_4 (dk_at dksX4_slowest_0 4 rfl rfl)
theorem dX4_slowest_5 : decode cX4_slowest 5 = .ok (.iconst 0, 1) := dk_3 (dk_at dksX4_slowest_0 5 rfl rfl)
theorem dX4_slowest_6 : decode cX4_slowest 6 = .ok (.invokevirtual 271, 3) := dk_182 1 15 (dk_at dksX4_slowest_0 6 rfl rfl)
theorem dX4_slowest_9 : decode cX4_slowest 9 = .ok (.invokevirtual 180, 3) := dk_182 0 180 (dk_at dksX4_slowest_0 9 rfl rfl)
theorem dX4_slowest_12 : decode cX4_slowest 12 = .ok (.ifCond .eq 5, 3) := dk_153 0 5 (dk_at dksX4_slowest_0 12 rfl rfl)
theorem dX4_slowest_15 : decode cX4_slowest 15 = .ok (.iconst (-1), 1) := dk_2 (dk_at dksX4_slowest_0 15 rfl rfl)
theorem dX4_slowest_16 : decode cX4_slowest 16 = .ok (.ireturn, 1) := dk_172 (dk_at dksX4_slowest_0 16 rfl rfl)
theorem dX4_slowest_17 : decode cX4_slowest 17 = .ok (.iconst 0, 1) := dk_3 (dk_at dksX4_slowest_0 17 rfl rfl)
theorem dX4_slowest_18 : decode cX4_slowest 18 = .ok (.istore_n 2, 1) := dk_61 (dk_at dksX4_slowest_0 18 rfl rfl)
theorem dX4_slowest_19 : decode cX4_slowest 19 = .ok (.iconst (-1), 1) := dk_2 (dk_at dksX4_slowest_0 19 rfl rfl)
theorem dX4_slowest_20 : decode cX4_slowest 20 = .ok (.istore_n 3, 1) := dk_62 (dk_at dksX4_slowest_0 20 rfl rfl)
theorem dX4_slowest_21 : decode cX4_slowest 21 = .ok (.iconst 1, 1) := dk_4 (dk_at dksX4_slowest_0 21 rfl rfl)
theorem dX4_slowest_22 : decode cX4_slowest 22 = .ok (.istore 4, 2) := dk_54 4 (dk_at dksX4_slowest_0 22 rfl rfl)
theorem dX4_slowest_24 : decode cX4_slowest 24 = .ok (.iload 4, 2) := dk_21 4 (dk_at dksX4_slowest_1 0 rfl rfl)
theorem dX4_slowest_26 : decode cX4_slowest 26 = .ok (.iconst 1, 1) := dk_4 (dk_at dksX4_slowest_1 2 rfl rfl)
theorem dX4_slowest_27 : decode cX4_slowest 27 = .ok (.aload_n 0, 1) := dk_42 (dk_at dksX4_slowest_1 3 rfl rfl)
theorem dX4_slowest_28 : decode cX4_slowest 28 = .ok (.getfield 17, 3) := dk_180 0 17 (dk_at dksX4_slowest_1 4 rfl rfl)
theorem dX4_slowest_31 : decode cX4_slowest 31 = .ok (.iconst 3, 1) := dk_6 (dk_at dksX4_slowest_1 7 rfl rfl)
theorem dX4_slowest_32 : decode cX4_slowest 32 = .ok (.iaload, 1) := dk_46 (dk_at dksX4_slowest_1 8 rfl rfl)
theorem dX4_slowest_33 : decode cX4_slowest 33 = .ok (.ishl, 1) := dk_120 (dk_at dksX4_slowest_1 9 rfl rfl)
theorem dX4_slowest_34 : decode cX4_slowest 34 = .ok (.if_icmp .ge 32, 3) := dk_162 0 32 (dk_at dksX4_slowest_1 10 rfl rfl)
theorem dX4_slowest_37 : decode cX4_slowest 37 = .ok (.aload_n 0, 1) := dk_42 (dk_at dksX4_slowest_1 13 rfl rfl)
theorem dX4_slowest_38 : decode cX4_slowest 38 = .ok (.iload_n 1, 1) := dk_27 (dk_at dksX4_slowest_1 14 rfl rfl)
theorem dX4_slowest_39 : decode cX4_slowest 39 = .ok (.iload 4, 2) := dk_21 4 (dk_at dksX4_slowest_1 15 rfl rfl)
theorem dX4_slowest_41 : decode cX4_slowest 41 = .ok (.invokevirtual 275, 3) := dk_182 1 19 (dk_at dksX4_slowest_1 17 rfl rfl)
theorem dX4_slowest_44 : decode cX4_slowest 44 = .ok (.aload_n 0, 1) := dk_42 (dk_at dksX4_slowest_1 20 rfl rfl)
theorem dX4_slowest_45 : decode cX4_slowest 45 = .ok (.invokevirtual 278, 3) := dk_182 1 22 (dk_at dksX4_slowest_1 21 rfl rfl)
theorem dX4_slowest_48 : decode cX4_slowest 48 = .ok (.iload_n 3, 1) := dk_29 (dk_at dksX4_slowest_2 0 rfl rfl)
theorem dX4_slowest_49 : decode cX4_slowest 49 = .ok (.if_icmp .le 11, 3) := dk_164 0 11 (dk_at dksX4_slowest_2 1 rfl rfl)
theorem dX4_slowest_52 : decode cX4_slowest 52 = .ok (.aload_n 0, 1) := dk_42 (dk_at dksX4_slowest_2 4 rfl rfl)
theorem dX4_slowest_53 : decode cX4_slowest 53 = .ok (.invokevirtual 278, 3) := dk_182 1 22 (dk_at dksX4_slowest_2 5 rfl rfl)
theorem dX4_slowest_56 : decode cX4_slowest 56 = .ok (.istore_n 3, 1) := dk_62 (dk_at dksX4_slowest_2 8 rfl rfl)
theorem dX4_slowest_57 : decode cX4_slowest 57 = .ok (.iload 4, 2) := dk_21 4 (dk_at dksX4_slowest_2 9 rfl rfl)
theorem dX4_slowest_59 : decode cX4_slowest 59 = .ok (.istore_n 2, 1) := dk_61 (dk_at dksX4_slowest_2 11 rfl rfl)
theorem dX4_slowest_60 : decode cX4_slowest 60 = .ok (.iinc 4 1, 3) := dk_132 4 1 (dk_at dksX4_slowest_2 12 rfl rfl)
theorem dX4_slowest_63 : decode cX4_slowest 63 = .ok (.goto (-39), 3) := dk_167 255 217 (dk_at dksX4_slowest_2 15 rfl rfl)
theorem dX4_slowest_66 : decode cX4_slowest 66 = .ok (.iload_n 2, 1) := dk_28 (dk_at dksX4_slowest_2 18 rfl rfl)
theorem dX4_slowest_67 : decode cX4_slowest 67 = .ok (.ireturn, 1) := dk_172 (dk_at dksX4_slowest_2 19 rfl rfl)
abbrev cX4_enough : ByteArray := prog_19_method_68_code
def yX4_enough : MethodName := ⟨RX4, "enough", "(I)I"⟩
def dkwX4_enough_3 : List UInt8 := [167, 255, 206, 28, 172]
abbrev dktX4_enough_3 : List UInt8 := dkwX4_enough_3 ++ []
def dkwX4_enough_2 : List UInt8 := [16, 254, 160, 0, 6, 16, 254, 172, 21, 4, 28, 164, 0, 8, 21, 4, 167, 0, 4, 28, 61, 132, 3, 1]
abbrev dktX4_enough_2 : List UInt8 := dkwX4_enough_2 ++ dktX4_enough_3
def dkwX4_enough_1 : List UInt8 := [180, 0, 17, 6, 46, 120, 162, 0, 44, 42, 27, 29, 182, 1, 19, 42, 182, 1, 25, 54, 4, 21, 4]
abbrev dktX4_enough_1 : List UInt8 := dkwX4_enough_1 ++ dktX4_enough_2
def dkwX4_enough_0 : List UInt8 := [42, 42, 4, 27, 4, 3, 182, 1, 15, 182, 0, 180, 153, 0, 5, 2, 172, 3, 61, 4, 62, 29, 4, 42]
abbrev dktX4_enough_0 : List UInt8 := dkwX4_enough_0 ++ dktX4_enough_1
theorem dksX4_enough_0 : cX4_enough.data.toList.drop 0 = dktX4_enough_0 := by decide +kernel
theorem dksX4_enough_1 : cX4_enough.data.toList.drop 24 = dktX4_enough_1 := dk_seg dksX4_enough_0 24 rfl rfl
theorem dksX4_enough_2 : cX4_enough.data.toList.drop 47 = dktX4_enough_2 := dk_seg dksX4_enough_1 23 rfl rfl
theorem dksX4_enough_3 : cX4_enough.data.toList.drop 71 = dktX4_enough_3 := dk_seg dksX4_enough_2 24 rfl rfl
theorem dX4_enough_0 : decode cX4_enough 0 = .ok (.aload_n 0, 1) := dk_42 (dk_at dksX4_enough_0 0 rfl rfl)
theorem dX4_enough_1 : decode cX4_enough 1 = .ok (.aload_n 0, 1) := dk_42 (dk_at dksX4_enough_0 1 rfl rfl)
theorem dX4_enough_2 : decode cX4_enough 2 = .ok (.iconst 1, 1) := dk_4 (dk_at dksX4_enough_0 2 rfl rfl)
theorem dX4_enough_3 : decode cX4_enough 3 = .ok (.iload_n 1, 1) := dk_27 (dk_at dksX4_enough_0 3 rfl rfl)
theorem dX4_enough_4 : decode cX4_enough 4 = .ok (.iconst 1, 1) := dk_4 (dk_at dksX4_enough_0 4 rfl rfl)
theorem dX4_enough_5 : decode cX4_enough 5 = .ok (.iconst 0, 1) := dk_3 (dk_at dksX4_enough_0 5 rfl rfl)
theorem dX4_enough_6 : decode cX4_enough 6 = .ok (.invokevirtual 271, 3) := dk_182 1 15 (dk_at dksX4_enough_0 6 rfl rfl)
theorem dX4_enough_9 : decode cX4_enough 9 = .ok (.invokevirtual 180, 3) := dk_182 0 180 (dk_at dksX4_enough_0 9 rfl rfl)
theorem dX4_enough_12 : decode cX4_enough 12 = .ok (.ifCond .eq 5, 3) := dk_153 0 5 (dk_at dksX4_enough_0 12 rfl rfl)
theorem dX4_enough_15 : decode cX4_enough 15 = .ok (.iconst (-1), 1) := dk_2 (dk_at dksX4_enough_0 15 rfl rfl)
theorem dX4_enough_16 : decode cX4_enough 16 = .ok (.ireturn, 1) := dk_172 (dk_at dksX4_enough_0 16 rfl rfl)
theorem dX4_enough_17 : decode cX4_enough 17 = .ok (.iconst 0, 1) := dk_3 (dk_at dksX4_enough_0 17 rfl rfl)
theorem dX4_enough_18 : decode cX4_enough 18 = .ok (.istore_n 2, 1) := dk_61 (dk_at dksX4_enough_0 18 rfl rfl)
theorem dX4_enough_19 : decode cX4_enough 19 = .ok (.iconst 1, 1) := dk_4 (dk_at dksX4_enough_0 19 rfl rfl)
theorem dX4_enough_20 : decode cX4_enough 20 = .ok (.istore_n 3, 1) := dk_62 (dk_at dksX4_enough_0 20 rfl rfl)
theorem dX4_enough_21 : decode cX4_enough 21 = .ok (.iload_n 3, 1) := dk_29 (dk_at dksX4_enough_0 21 rfl rfl)
theorem dX4_enough_22 : decode cX4_enough 22 = .ok (.iconst 1, 1) := dk_4 (dk_at dksX4_enough_0 22 rfl rfl)
theorem dX4_enough_23 : decode cX4_enough 23 = .ok (.aload_n 0, 1) := dk_42 (dk_at dksX4_enough_0 23 rfl rfl)
theorem dX4_enough_24 : decode cX4_enough 24 = .ok (.getfield 17, 3) := dk_180 0 17 (dk_at dksX4_enough_1 0 rfl rfl)
theorem dX4_enough_27 : decode cX4_enough 27 = .ok (.iconst 3, 1) := dk_6 (dk_at dksX4_enough_1 3 rfl rfl)
theorem dX4_enough_28 : decode cX4_enough 28 = .ok (.iaload, 1) := dk_46 (dk_at dksX4_enough_1 4 rfl rfl)
theorem dX4_enough_29 : decode cX4_enough 29 = .ok (.ishl, 1) := dk_120 (dk_at dksX4_enough_1 5 rfl rfl)
theorem dX4_enough_30 : decode cX4_enough 30 = .ok (.if_icmp .ge 44, 3) := dk_162 0 44 (dk_at dksX4_enough_1 6 rfl rfl)
theorem dX4_enough_33 : decode cX4_enough 33 = .ok (.aload_n 0, 1) := dk_42 (dk_at dksX4_enough_1 9 rfl rfl)
theorem dX4_enough_34 : decode cX4_enough 34 = .ok (.iload_n 1, 1) := dk_27 (dk_at dksX4_enough_1 10 rfl rfl)
theorem dX4_enough_35 : decode cX4_enough 35 = .ok (.iload_n 3, 1) := dk_29 (dk_at dksX4_enough_1 11 rfl rfl)
theorem dX4_enough_36 : decode cX4_enough 36 = .ok (.invokevirtual 275, 3) := dk_182 1 19 (dk_at dksX4_enough_1 12 rfl rfl)
theorem dX4_enough_39 : decode cX4_enough 39 = .ok (.aload_n 0, 1) := dk_42 (dk_at dksX4_enough_1 15 rfl rfl)
theorem dX4_enough_40 : decode cX4_enough 40 = .ok (.invokevirtual 281, 3) := dk_182 1 25 (dk_at dksX4_enough_1 16 rfl rfl)
theorem dX4_enough_43 : decode cX4_enough 43 = .ok (.istore 4, 2) := dk_54 4 (dk_at dksX4_enough_1 19 rfl rfl)
theorem dX4_enough_45 : decode cX4_enough 45 = .ok (.iload 4, 2) := dk_21 4 (dk_at dksX4_enough_1 21 rfl rfl)
theorem dX4_enough_47 : decode cX4_enough 47 = .ok (.bipush (-2), 2) := dk_16 254 (dk_at dksX4_enough_2 0 rfl rfl)
theorem dX4_enough_49 : decode cX4_enough 49 = .ok (.if_icmp .ne 6, 3) := dk_160 0 6 (dk_at dksX4_enough_2 2 rfl rfl)
theorem dX4_enough_52 : decode cX4_enough 52 = .ok (.bipush (-2), 2) := dk_16 254 (dk_at dksX4_enough_2 5 rfl rfl)
theorem dX4_enough_54 : decode cX4_enough 54 = .ok (.ireturn, 1) := dk_172 (dk_at dksX4_enough_2 7 rfl rfl)
theorem dX4_enough_55 : decode cX4_enough 55 = .ok (.iload 4, 2) := dk_21 4 (dk_at dksX4_enough_2 8 rfl rfl)
theorem dX4_enough_57 : decode cX4_enough 57 = .ok (.iload_n 2, 1) := dk_28 (dk_at dksX4_enough_2 10 rfl rfl)
theorem dX4_enough_58 : decode cX4_enough 58 = .ok (.if_icmp .le 8, 3) := dk_164 0 8 (dk_at dksX4_enough_2 11 rfl rfl)
theorem dX4_enough_61 : decode cX4_enough 61 = .ok (.iload 4, 2) := dk_21 4 (dk_at dksX4_enough_2 14 rfl rfl)
theorem dX4_enough_63 : decode cX4_enough 63 = .ok (.goto 4, 3) := dk_167 0 4 (dk_at dksX4_enough_2 16 rfl rfl)
theorem dX4_enough_66 : decode cX4_enough 66 = .ok (.iload_n 2, 1) := dk_28 (dk_at dksX4_enough_2 19 rfl rfl)
theorem dX4_enough_67 : decode cX4_enough 67 = .ok (.istore_n 2, 1) := dk_61 (dk_at dksX4_enough_2 20 rfl rfl)
theorem dX4_enough_68 : decode cX4_enough 68 = .ok (.iinc 3 1, 3) := dk_132 3 1 (dk_at dksX4_enough_2 21 rfl rfl)
theorem dX4_enough_71 : decode cX4_enough 71 = .ok (.goto (-50), 3) := dk_167 255 206 (dk_at dksX4_enough_3 0 rfl rfl)
theorem dX4_enough_74 : decode cX4_enough 74 = .ok (.iload_n 2, 1) := dk_28 (dk_at dksX4_enough_3 3 rfl rfl)
theorem dX4_enough_75 : decode cX4_enough 75 = .ok (.ireturn, 1) := dk_172 (dk_at dksX4_enough_3 4 rfl rfl)
abbrev cX4_would : ByteArray := prog_19_method_70_code
def yX4_would : MethodName := ⟨RX4, "would", "(I)I"⟩
def dkwX4_would_1 : List UInt8 := [5, 182, 0, 180, 153, 0, 5, 2, 172, 42, 27, 3, 182, 1, 40, 172]
abbrev dktX4_would_1 : List UInt8 := dkwX4_would_1 ++ []
def dkwX4_would_0 : List UInt8 := [42, 42, 180, 0, 192, 154, 0, 7, 4, 167, 0, 16, 42, 27, 182, 1, 9, 153, 0, 7, 3, 167, 0, 4]
abbrev dktX4_would_0 : List UInt8 := dkwX4_would_0 ++ dktX4_would_1
theorem dksX4_would_0 : cX4_would.data.toList.drop 0 = dktX4_would_0 := by decide +kernel
theorem dksX4_would_1 : cX4_would.data.toList.drop 24 = dktX4_would_1 := dk_seg dksX4_would_0 24 rfl rfl
theorem dX4_would_0 : decode cX4_would 0 = .ok (.aload_n 0, 1) := dk_42 (dk_at dksX4_would_0 0 rfl rfl)
theorem dX4_would_1 : decode cX4_would 1 = .ok (.aload_n 0, 1) := dk_42 (dk_at dksX4_would_0 1 rfl rfl)
theorem dX4_would_2 : decode cX4_would 2 = .ok (.getfield 192, 3) := dk_180 0 192 (dk_at dksX4_would_0 2 rfl rfl)
theorem dX4_would_5 : decode cX4_would 5 = .ok (.ifCond .ne 7, 3) := dk_154 0 7 (dk_at dksX4_would_0 5 rfl rfl)
theorem dX4_would_8 : decode cX4_would 8 = .ok (.iconst 1, 1) := dk_4 (dk_at dksX4_would_0 8 rfl rfl)
theorem dX4_would_9 : decode cX4_would 9 = .ok (.goto 16, 3) := dk_167 0 16 (dk_at dksX4_would_0 9 rfl rfl)
theorem dX4_would_12 : decode cX4_would 12 = .ok (.aload_n 0, 1) := dk_42 (dk_at dksX4_would_0 12 rfl rfl)
theorem dX4_would_13 : decode cX4_would 13 = .ok (.iload_n 1, 1) := dk_27 (dk_at dksX4_would_0 13 rfl rfl)
theorem dX4_would_14 : decode cX4_would 14 = .ok (.invokevirtual 265, 3) := dk_182 1 9 (dk_at dksX4_would_0 14 rfl rfl)
theorem dX4_would_17 : decode cX4_would 17 = .ok (.ifCond .eq 7, 3) := dk_153 0 7 (dk_at dksX4_would_0 17 rfl rfl)
theorem dX4_would_20 : decode cX4_would 20 = .ok (.iconst 0, 1) := dk_3 (dk_at dksX4_would_0 20 rfl rfl)
theorem dX4_would_21 : decode cX4_would 21 = .ok (.goto 4, 3) := dk_167 0 4 (dk_at dksX4_would_0 21 rfl rfl)
theorem dX4_would_24 : decode cX4_would 24 = .ok (.iconst 2, 1) := dk_5 (dk_at dksX4_would_1 0 rfl rfl)
theorem dX4_would_25 : decode cX4_would 25 = .ok (.invokevirtual 180, 3) := dk_182 0 180 (dk_at dksX4_would_1 1 rfl rfl)
theorem dX4_would_28 : decode cX4_would 28 = .ok (.ifCond .eq 5, 3) := dk_153 0 5 (dk_at dksX4_would_1 4 rfl rfl)
theorem dX4_would_31 : decode cX4_would 31 = .ok (.iconst (-1), 1) := dk_2 (dk_at dksX4_would_1 7 rfl rfl)
theorem dX4_would_32 : decode cX4_would 32 = .ok (.ireturn, 1) := dk_172 (dk_at dksX4_would_1 8 rfl rfl)
theorem dX4_would_33 : decode cX4_would 33 = .ok (.aload_n 0, 1) := dk_42 (dk_at dksX4_would_1 9 rfl rfl)
theorem dX4_would_34 : decode cX4_would 34 = .ok (.iload_n 1, 1) := dk_27 (dk_at dksX4_would_1 10 rfl rfl)
theorem dX4_would_35 : decode cX4_would 35 = .ok (.iconst 0, 1) := dk_3 (dk_at dksX4_would_1 11 rfl rfl)
theorem dX4_would_36 : decode cX4_would 36 = .ok (.invokevirtual 296, 3) := dk_182 1 40 (dk_at dksX4_would_1 12 rfl rfl)
theorem dX4_would_39 : decode cX4_would 39 = .ok (.ireturn, 1) := dk_172 (dk_at dksX4_would_1 15 rfl rfl)
abbrev cX4_elects : ByteArray := prog_19_method_69_code
def yX4_elects : MethodName := ⟨RX4, "elects", "(IZ)I"⟩
def dkwX4_elects_9 : List UInt8 := [167, 0, 5, 16, 254, 172]
abbrev dktX4_elects_9 : List UInt8 := dkwX4_elects_9 ++ []
def dkwX4_elects_8 : List UInt8 := [184, 0, 221, 154, 0, 9, 132, 4, 1, 167, 255, 240, 29, 184, 0, 209, 4, 160, 0, 8, 21, 4]
abbrev dktX4_elects_8 : List UInt8 := dkwX4_elects_8 ++ dktX4_elects_9
def dkwX4_elects_7 : List UInt8 := [29, 167, 0, 4, 3, 181, 1, 37, 132, 4, 1, 167, 255, 104, 3, 54, 4, 29, 153, 0, 18, 29, 21, 4]
abbrev dktX4_elects_7 : List UInt8 := dkwX4_elects_7 ++ dktX4_elects_8
def dkwX4_elects_6 : List UInt8 := [21, 4, 4, 160, 0, 7, 29, 167, 0, 7, 42, 180, 1, 34, 181, 1, 34, 42, 21, 4, 5, 160, 0, 7]
abbrev dktX4_elects_6 : List UInt8 := dkwX4_elects_6 ++ dktX4_elects_7
def dkwX4_elects_5 : List UInt8 := [153, 0, 7, 4, 167, 0, 4, 3, 96, 181, 1, 31, 42, 42, 180, 0, 17, 5, 46, 182, 1, 6, 62, 42]
abbrev dktX4_elects_5 : List UInt8 := dkwX4_elects_5 ++ dktX4_elects_6
def dkwX4_elects_4 : List UInt8 := [167, 255, 199, 42, 29, 182, 0, 253, 42, 89, 180, 1, 31, 42, 42, 180, 0, 17, 5, 46, 182, 1, 28]
abbrev dktX4_elects_4 : List UInt8 := dkwX4_elects_4 ++ dktX4_elects_5
def dkwX4_elects_3 : List UInt8 := [167, 0, 4, 8, 184, 0, 201, 46, 167, 0, 11, 42, 21, 5, 21, 4, 182, 0, 250, 79, 132, 5, 1]
abbrev dktX4_elects_3 : List UInt8 := dkwX4_elects_3 ++ dktX4_elects_4
def dkwX4_elects_2 : List UInt8 := [180, 0, 36, 21, 5, 28, 153, 0, 27, 42, 180, 0, 27, 21, 5, 21, 4, 4, 160, 0, 7, 7]
abbrev dktX4_elects_2 : List UInt8 := dkwX4_elects_2 ++ dktX4_elects_3
def dkwX4_elects_1 : List UInt8 := [162, 0, 152, 29, 153, 0, 148, 3, 54, 5, 21, 5, 42, 180, 0, 17, 6, 46, 162, 0, 52, 42]
abbrev dktX4_elects_1 : List UInt8 := dkwX4_elects_1 ++ dktX4_elects_2
def dkwX4_elects_0 : List UInt8 := [42, 3, 181, 1, 31, 42, 3, 181, 1, 34, 42, 3, 181, 1, 37, 27, 62, 4, 54, 4, 21, 4, 6]
abbrev dktX4_elects_0 : List UInt8 := dkwX4_elects_0 ++ dktX4_elects_1
theorem dksX4_elects_0 : cX4_elects.data.toList.drop 0 = dktX4_elects_0 := by decide +kernel
theorem dksX4_elects_1 : cX4_elects.data.toList.drop 23 = dktX4_elects_1 := dk_seg dksX4_elects_0 23 rfl rfl
theorem dksX4_elects_2 : cX4_elects.data.toList.drop 45 = dktX4_elects_2 := dk_seg dksX4_elects_1 22 rfl rfl
theorem dksX4_elects_3 : cX4_elects.data.toList.drop 67 = dktX4_elects_3 := dk_seg dksX4_elects_2 22 rfl rfl
theorem dksX4_elects_4 : cX4_elects.data.toList.drop 90 = dktX4_elects_4 := dk_seg dksX4_elects_3 23 rfl rfl
theorem dksX4_elects_5 : cX4_elects.data.toList.drop 113 = dktX4_elects_5 := dk_seg dksX4_elects_4 23 rfl rfl
theorem dksX4_elects_6 : cX4_elects.data.toList.drop 137 = dktX4_elects_6 := dk_seg dksX4_elects_5 24 rfl rfl
theorem dksX4_elects_7 : cX4_elects.data.toList.drop 161 = dktX4_elects_7 := dk_seg dksX4_elects_6 24 rfl rfl
theorem dksX4_elects_8 : cX4_elects.data.toList.drop 185 = dktX4_elects_8 := dk_seg dksX4_elects_7 24 rfl rfl
theorem dksX4_elects_9 : cX4_elects.data.toList.drop 207 = dktX4_elects_9 := dk_seg dksX4_elects_8 22 rfl rfl
theorem dX4_elects_0 : decode cX4_elects 0 = .ok (.aload_n 0, 1) := dk_42 (dk_at dksX4_elects_0 0 rfl rfl)
theorem dX4_elects_1 : decode cX4_elects 1 = .ok (.iconst 0, 1) := dk_3 (dk_at dksX4_elects_0 1 rfl rfl)
theorem dX4_elects_2 : decode cX4_elects 2 = .ok (.putfield 287, 3) := dk_181 1 31 (dk_at dksX4_elects_0 2 rfl rfl)
theorem dX4_elects_5 : decode cX4_elects 5 = .ok (.aload_n 0, 1) := dk_42 (dk_at dksX4_elects_0 5 rfl rfl)
theorem dX4_elects_6 : decode cX4_elects 6 = .ok (.iconst 0, 1) := dk_3 (dk_at dksX4_elects_0 6 rfl rfl)
theorem dX4_elects_7 : decode cX4_elects 7 = .ok (.putfield 290, 3) := dk_181 1 34 (dk_at dksX4_elects_0 7 rfl rfl)
theorem dX4_elects_10 : decode cX4_elects 10 = .ok (.aload_n 0, 1) := dk_42 (dk_at dksX4_elects_0 10 rfl rfl)
theorem dX4_elects_11 : decode cX4_elects 11 = .ok (.iconst 0, 1) := dk_3 (dk_at dksX4_elects_0 11 rfl rfl)
theorem dX4_elects_12 : decode cX4_elects 12 = .ok (.putfield 293, 3) := dk_181 1 37 (dk_at dksX4_elects_0 12 rfl rfl)
theorem dX4_elects_15 : decode cX4_elects 15 = .ok (.iload_n 1, 1) := dk_27 (dk_at dksX4_elects_0 15 rfl rfl)
theorem dX4_elects_16 : decode cX4_elects 16 = .ok (.istore_n 3, 1) := dk_62 (dk_at dksX4_elects_0 16 rfl rfl)
theorem dX4_elects_17 : decode cX4_elects 17 = .ok (.iconst 1, 1) := dk_4 (dk_at dksX4_elects_0 17 rfl rfl)
theorem dX4_elects_18 : decode cX4_elects 18 = .ok (.istore 4, 2) := dk_54 4 (dk_at dksX4_elects_0 18 rfl rfl)
theorem dX4_elects_20 : decode cX4_elects 20 = .ok (.iload 4, 2) := dk_21 4 (dk_at dksX4_elects_0 20 rfl rfl)
theorem dX4_elects_22 : decode cX4_elects 22 = .ok (.iconst 3, 1) := dk_6 (dk_at dksX4_elects_0 22 rfl rfl)
theorem dX4_elects_23 : decode cX4_elects 23 = .ok (.if_icmp .ge 152, 3) := dk_162 0 152 (dk_at dksX4_elects_1 0 rfl rfl)
theorem dX4_elects_26 : decode cX4_elects 26 = .ok (.iload_n 3, 1) := dk_29 (dk_at dksX4_elects_1 3 rfl rfl)
theorem dX4_elects_27 : decode cX4_elects 27 = .ok (.ifCond .eq 148, 3) := dk_153 0 148 (dk_at dksX4_elects_1 4 rfl rfl)
theorem dX4_elects_30 : decode cX4_elects 30 = .ok (.iconst 0, 1) := dk_3 (dk_at dksX4_elects_1 7 rfl rfl)
theorem dX4_elects_31 : decode cX4_elects 31 = .ok (.istore 5, 2) := dk_54 5 (dk_at dksX4_elects_1 8 rfl rfl)
theorem dX4_elects_33 : decode cX4_elects 33 = .ok (.iload 5, 2) := dk_21 5 (dk_at dksX4_elects_1 10 rfl rfl)
theorem dX4_elects_35 : decode cX4_elects 35 = .ok (.aload_n 0, 1) := dk_42 (dk_at dksX4_elects_1 12 rfl rfl)
theorem dX4_elects_36 : decode cX4_elects 36 = .ok (.getfield 17, 3) := dk_180 0 17 (dk_at dksX4_elects_1 13 rfl rfl)
theorem dX4_elects_39 : decode cX4_elects 39 = .ok (.iconst 3, 1) := dk_6 (dk_at dksX4_elects_1 16 rfl rfl)
theorem dX4_elects_40 : decode cX4_elects 40 = .ok (.iaload, 1) := dk_46 (dk_at dksX4_elects_1 17 rfl rfl)
theorem dX4_elects_41 : decode cX4_elects 41 = .ok (.if_icmp .ge 52, 3) := dk_162 0 52 (dk_at dksX4_elects_1 18 rfl rfl)
theorem dX4_elects_44 : decode cX4_elects 44 = .ok (.aload_n 0, 1) := dk_42 (dk_at dksX4_elects_1 21 rfl rfl)
theorem dX4_elects_45 : decode cX4_elects 45 = .ok (.getfield 36, 3) := dk_180 0 36 (dk_at dksX4_elects_2 0 rfl rfl)
theorem dX4_elects_48 : decode cX4_elects 48 = .ok (.iload 5, 2) := dk_21 5 (dk_at dksX4_elects_2 3 rfl rfl)
theorem dX4_elects_50 : decode cX4_elects 50 = .ok (.iload_n 2, 1) := dk_28 (dk_at dksX4_elects_2 5 rfl rfl)
theorem dX4_elects_51 : decode cX4_elects 51 = .ok (.ifCond .eq 27, 3) := dk_153 0 27 (dk_at dksX4_elects_2 6 rfl rfl)
theorem dX4_elects_54 : decode cX4_elects 54 = .ok (.aload_n 0, 1) := dk_42 (dk_at dksX4_elects_2 9 rfl rfl)
theorem dX4_elects_55 : decode cX4_elects 55 = .ok (.getfield 27, 3) := dk_180 0 27 (dk_at dksX4_elects_2 10 rfl rfl)
theorem dX4_elects_58 : decode cX4_elects 58 = .ok (.iload 5, 2) := dk_21 5 (dk_at dksX4_elects_2 13 rfl rfl)
theorem dX4_elects_60 : decode cX4_elects 60 = .ok (.iload 4, 2) := dk_21 4 (dk_at dksX4_elects_2 15 rfl rfl)
theorem dX4_elects_62 : decode cX4_elects 62 = .ok (.iconst 1, 1) := dk_4 (dk_at dksX4_elects_2 17 rfl rfl)
theorem dX4_elects_63 : decode cX4_elects 63 = .ok (.if_icmp .ne 7, 3) := dk_160 0 7 (dk_at dksX4_elects_2 18 rfl rfl)
theorem dX4_elects_66 : decode cX4_elects 66 = .ok (.iconst 4, 1) := dk_7 (dk_at dksX4_elects_2 21 rfl rfl)
theorem dX4_elects_67 : decode cX4_elects 67 = .ok (.goto 4, 3) := dk_167 0 4 (dk_at dksX4_elects_3 0 rfl rfl)
theorem dX4_elects_70 : decode cX4_elects 70 = .ok (.iconst 5, 1) := dk_8 (dk_at dksX4_elects_3 3 rfl rfl)
theorem dX4_elects_71 : decode cX4_elects 71 = .ok (.invokestatic 201, 3) := dk_184 0 201 (dk_at dksX4_elects_3 4 rfl rfl)
theorem dX4_elects_74 : decode cX4_elects 74 = .ok (.iaload, 1) := dk_46 (dk_at dksX4_elects_3 7 rfl rfl)
theorem dX4_elects_75 : decode cX4_elects 75 = .ok (.goto 11, 3) := dk_167 0 11 (dk_at dksX4_elects_3 8 rfl rfl)
theorem dX4_elects_78 : decode cX4_elects 78 = .ok (.aload_n 0, 1) := dk_42 (dk_at dksX4_elects_3 11 rfl rfl)
theorem dX4_elects_79 : decode cX4_elects 79 = .ok (.iload 5, 2) := dk_21 5 (dk_at dksX4_elects_3 12 rfl rfl)
theorem dX4_elects_81 : decode cX4_elects 81 = .ok (.iload 4, 2) := dk_21 4 (dk_at dksX4_elects_3 14 rfl rfl)
theorem dX4_elects_83 : decode cX4_elects 83 = .ok (.invokevirtual 250, 3) := dk_182 0 250 (dk_at dksX4_elects_3 16 rfl rfl)
theorem dX4_elects_86 : decode cX4_elects 86 = .ok (.iastore, 1) := dk_79 (dk_at dksX4_elects_3 19 rfl rfl)
theorem dX4_elects_87 : decode cX4_elects 87 = .ok (.iinc 5 1, 3) := dk_132 5 1 (dk_at dksX4_elects_3 20 rfl rfl)
theorem dX4_elects_90 : decode cX4_elects 90 = .ok (.goto (-57), 3) := dk_167 255 199 (dk_at dksX4_elects_4 0 rfl rfl)
theorem dX4_elects_93 : decode cX4_elects 93 = .ok (.aload_n 0, 1) := dk_42 (dk_at dksX4_elects_4 3 rfl rfl)
theorem dX4_elects_94 : decode cX4_elects 94 = .ok (.iload_n 3, 1) := dk_29 (dk_at dksX4_elects_4 4 rfl rfl)
theorem dX4_elects_95 : decode cX4_elects 95 = .ok (.invokevirtual 253, 3) := dk_182 0 253 (dk_at dksX4_elects_4 5 rfl rfl)
theorem dX4_elects_98 : decode cX4_elects 98 = .ok (.aload_n 0, 1) := dk_42 (dk_at dksX4_elects_4 8 rfl rfl)
theorem dX4_elects_99 : decode cX4_elects 99 = .ok (.dup, 1) := dk_89 (dk_at dksX4_elects_4 9 rfl rfl)
theorem dX4_elects_100 : decode cX4_elects 100 = .ok (.getfield 287, 3) := dk_180 1 31 (dk_at dksX4_elects_4 10 rfl rfl)
theorem dX4_elects_103 : decode cX4_elects 103 = .ok (.aload_n 0, 1) := dk_42 (dk_at dksX4_elects_4 13 rfl rfl)
theorem dX4_elects_104 : decode cX4_elects 104 = .ok (.aload_n 0, 1) := dk_42 (dk_at dksX4_elects_4 14 rfl rfl)
theorem dX4_elects_105 : decode cX4_elects 105 = .ok (.getfield 17, 3) := dk_180 0 17 (dk_at dksX4_elects_4 15 rfl rfl)
theorem dX4_elects_108 : decode cX4_elects 108 = .ok (.iconst 2, 1) := dk_5 (dk_at dksX4_elects_4 18 rfl rfl)
theorem dX4_elects_109 : decode cX4_elects 109 = .ok (.iaload, 1) := dk_46 (dk_at dksX4_elects_4 19 rfl rfl)
theorem dX4_elects_110 : decode cX4_elects 110 = .ok (.invokevirtual 284, 3) := dk_182 1 28 (dk_at dksX4_elects_4 20 rfl rfl)
theorem dX4_elects_113 : decode cX4_elects 113 = .ok (.ifCond .eq 7, 3) := dk_153 0 7 (dk_at dksX4_elects_5 0 rfl rfl)
theorem dX4_elects_116 : decode cX4_elects 116 = .ok (.iconst 1, 1) := dk_4 (dk_at dksX4_elects_5 3 rfl rfl)
theorem dX4_elects_117 : decode cX4_elects 117 = .ok (.goto 4, 3) := dk_167 0 4 (dk_at dksX4_elects_5 4 rfl rfl)
theorem dX4_elects_120 : decode cX4_elects 120 = .ok (.iconst 0, 1) := dk_3 (dk_at dksX4_elects_5 7 rfl rfl)
theorem dX4_elects_121 : decode cX4_elects 121 = .ok (.iadd, 1) := dk_96 (dk_at dksX4_elects_5 8 rfl rfl)
theorem dX4_elects_122 : decode cX4_elects 122 = .ok (.putfield 287, 3) := dk_181 1 31 (dk_at dksX4_elects_5 9 rfl rfl)
theorem dX4_elects_125 : decode cX4_elects 125 = .ok (.aload_n 0, 1) := dk_42 (dk_at dksX4_elects_5 12 rfl rfl)
theorem dX4_elects_126 : decode cX4_elects 126 = .ok (.aload_n 0, 1) := dk_42 (dk_at dksX4_elects_5 13 rfl rfl)
theorem dX4_elects_127 : decode cX4_elects 127 = .ok (.getfield 17, 3) := dk_180 0 17 (dk_at dksX4_elects_5 14 rfl rfl)
theorem dX4_elects_130 : decode cX4_elects 130 = .ok (.iconst 2, 1) := dk_5 (dk_at dksX4_elects_5 17 rfl rfl)
theorem dX4_elects_131 : decode cX4_elects 131 = .ok (.iaload, 1) := dk_46 (dk_at dksX4_elects_5 18 rfl rfl)
theorem dX4_elects_132 : decode cX4_elects 132 = .ok (.invokevirtual 262, 3) := dk_182 1 6 (dk_at dksX4_elects_5 19 rfl rfl)
theorem dX4_elects_135 : decode cX4_elects 135 = .ok (.istore_n 3, 1) := dk_62 (dk_at dksX4_elects_5 22 rfl rfl)
theorem dX4_elects_136 : decode cX4_elects 136 = .ok (.aload_n 0, 1) := dk_42 (dk_at dksX4_elects_5 23 rfl rfl)
theorem dX4_elects_137 : decode cX4_elects 137 = .ok (.iload 4, 2) := dk_21 4 (dk_at dksX4_elects_6 0 rfl rfl)
theorem dX4_elects_139 : decode cX4_elects 139 = .ok (.iconst 1, 1) := dk_4 (dk_at dksX4_elects_6 2 rfl rfl)
theorem dX4_elects_140 : decode cX4_elects 140 = .ok (.if_icmp .ne 7, 3) := dk_160 0 7 (dk_at dksX4_elects_6 3 rfl rfl)
theorem dX4_elects_143 : decode cX4_elects 143 = .ok (.iload_n 3, 1) := dk_29 (dk_at dksX4_elects_6 6 rfl rfl)
theorem dX4_elects_144 : decode cX4_elects 144 = .ok (.goto 7, 3) := dk_167 0 7 (dk_at dksX4_elects_6 7 rfl rfl)
theorem dX4_elects_147 : decode cX4_elects 147 = .ok (.aload_n 0, 1) := dk_42 (dk_at dksX4_elects_6 10 rfl rfl)
theorem dX4_elects_148 : decode cX4_elects 148 = .ok (.getfield 290, 3) := dk_180 1 34 (dk_at dksX4_elects_6 11 rfl rfl)
theorem dX4_elects_151 : decode cX4_elects 151 = .ok (.putfield 290, 3) := dk_181 1 34 (dk_at dksX4_elects_6 14 rfl rfl)
theorem dX4_elects_154 : decode cX4_elects 154 = .ok (.aload_n 0, 1) := dk_42 (dk_at dksX4_elects_6 17 rfl rfl)
theorem dX4_elects_155 : decode cX4_elects 155 = .ok (.iload 4, 2) := dk_21 4 (dk_at dksX4_elects_6 18 rfl rfl)
theorem dX4_elects_157 : decode cX4_elects 157 = .ok (.iconst 2, 1) := dk_5 (dk_at dksX4_elects_6 20 rfl rfl)
theorem dX4_elects_158 : decode cX4_elects 158 = .ok (.if_icmp .ne 7, 3) := dk_160 0 7 (dk_at dksX4_elects_6 21 rfl rfl)
theorem dX4_elects_161 : decode cX4_elects 161 = .ok (.iload_n 3, 1) := dk_29 (dk_at dksX4_elects_7 0 rfl rfl)
theorem dX4_elects_162 : decode cX4_elects 162 = .ok (.goto 4, 3) := dk_167 0 4 (dk_at dksX4_elects_7 1 rfl rfl)
theorem dX4_elects_165 : decode cX4_elects 165 = .ok (.iconst 0, 1) := dk_3 (dk_at dksX4_elects_7 4 rfl rfl)
theorem dX4_elects_166 : decode cX4_elects 166 = .ok (.putfield 293, 3) := dk_181 1 37 (dk_at dksX4_elects_7 5 rfl rfl)
theorem dX4_elects_169 : decode cX4_elects 169 = .ok (.iinc 4 1, 3) := dk_132 4 1 (dk_at dksX4_elects_7 8 rfl rfl)
theorem dX4_elects_172 : decode cX4_elects 172 = .ok (.goto (-152), 3) := dk_167 255 104 (dk_at dksX4_elects_7 11 rfl rfl)
theorem dX4_elects_175 : decode cX4_elects 175 = .ok (.iconst 0, 1) := dk_3 (dk_at dksX4_elects_7 14 rfl rfl)
theorem dX4_elects_176 : decode cX4_elects 176 = .ok (.istore 4, 2) := dk_54 4 (dk_at dksX4_elects_7 15 rfl rfl)
theorem dX4_elects_178 : decode cX4_elects 178 = .ok (.iload_n 3, 1) := dk_29 (dk_at dksX4_elects_7 17 rfl rfl)
theorem dX4_elects_179 : decode cX4_elects 179 = .ok (.ifCond .eq 18, 3) := dk_153 0 18 (dk_at dksX4_elects_7 18 rfl rfl)
theorem dX4_elects_182 : decode cX4_elects 182 = .ok (.iload_n 3, 1) := dk_29 (dk_at dksX4_elects_7 21 rfl rfl)
theorem dX4_elects_183 : decode cX4_elects 183 = .ok (.iload 4, 2) := dk_21 4 (dk_at dksX4_elects_7 22 rfl rfl)
theorem dX4_elects_185 : decode cX4_elects 185 = .ok (.invokestatic 221, 3) := dk_184 0 221 (dk_at dksX4_elects_8 0 rfl rfl)
theorem dX4_elects_188 : decode cX4_elects 188 = .ok (.ifCond .ne 9, 3) := dk_154 0 9 (dk_at dksX4_elects_8 3 rfl rfl)
theorem dX4_elects_191 : decode cX4_elects 191 = .ok (.iinc 4 1, 3) := dk_132 4 1 (dk_at dksX4_elects_8 6 rfl rfl)
theorem dX4_elects_194 : decode cX4_elects 194 = .ok (.goto (-16), 3) := dk_167 255 240 (dk_at dksX4_elects_8 9 rfl rfl)
theorem dX4_elects_197 : decode cX4_elects 197 = .ok (.iload_n 3, 1) := dk_29 (dk_at dksX4_elects_8 12 rfl rfl)
theorem dX4_elects_198 : decode cX4_elects 198 = .ok (.invokestatic 209, 3) := dk_184 0 209 (dk_at dksX4_elects_8 13 rfl rfl)
theorem dX4_elects_201 : decode cX4_elects 201 = .ok (.iconst 1, 1) := dk_4 (dk_at dksX4_elects_8 16 rfl rfl)
theorem dX4_elects_202 : decode cX4_elects 202 = .ok (.if_icmp .ne 8, 3) := dk_160 0 8 (dk_at dksX4_elects_8 17 rfl rfl)
theorem dX4_elects_205 : decode cX4_elects 205 = .ok (.iload 4, 2) := dk_21 4 (dk_at dksX4_elects_8 20 rfl rfl)
theorem dX4_elects_207 : decode cX4_elects 207 = .ok (.goto 5, 3) := dk_167 0 5 (dk_at dksX4_elects_9 0 rfl rfl)
theorem dX4_elects_210 : decode cX4_elects 210 = .ok (.bipush (-2), 2) := dk_16 254 (dk_at dksX4_elects_9 3 rfl rfl)
theorem dX4_elects_212 : decode cX4_elects 212 = .ok (.ireturn, 1) := dk_172 (dk_at dksX4_elects_9 5 rfl rfl)
abbrev cX4_now : ByteArray := prog_19_method_83_code
def yX4_now : MethodName := ⟨RX4, "now", "(I)I"⟩
def dkwX4_now_1 : List UInt8 := [184, 1, 68, 182, 0, 180, 153, 0, 7, 2, 167, 0, 8, 42, 27, 182, 1, 72, 172]
abbrev dktX4_now_1 : List UInt8 := dkwX4_now_1 ++ []
def dkwX4_now_0 : List UInt8 := [42, 42, 180, 0, 192, 153, 0, 17, 27, 3, 16, 10, 184, 0, 83, 153, 0, 7, 4, 167, 0, 4, 3]
abbrev dktX4_now_0 : List UInt8 := dkwX4_now_0 ++ dktX4_now_1
theorem dksX4_now_0 : cX4_now.data.toList.drop 0 = dktX4_now_0 := by decide +kernel
theorem dksX4_now_1 : cX4_now.data.toList.drop 23 = dktX4_now_1 := dk_seg dksX4_now_0 23 rfl rfl
theorem dX4_now_0 : decode cX4_now 0 = .ok (.aload_n 0, 1) := dk_42 (dk_at dksX4_now_0 0 rfl rfl)
theorem dX4_now_1 : decode cX4_now 1 = .ok (.aload_n 0, 1) := dk_42 (dk_at dksX4_now_0 1 rfl rfl)
theorem dX4_now_2 : decode cX4_now 2 = .ok (.getfield 192, 3) := dk_180 0 192 (dk_at dksX4_now_0 2 rfl rfl)
theorem dX4_now_5 : decode cX4_now 5 = .ok (.ifCond .eq 17, 3) := dk_153 0 17 (dk_at dksX4_now_0 5 rfl rfl)
theorem dX4_now_8 : decode cX4_now 8 = .ok (.iload_n 1, 1) := dk_27 (dk_at dksX4_now_0 8 rfl rfl)
theorem dX4_now_9 : decode cX4_now 9 = .ok (.iconst 0, 1) := dk_3 (dk_at dksX4_now_0 9 rfl rfl)
theorem dX4_now_10 : decode cX4_now 10 = .ok (.bipush 10, 2) := dk_16 10 (dk_at dksX4_now_0 10 rfl rfl)
theorem dX4_now_12 : decode cX4_now 12 = .ok (.invokestatic 83, 3) := dk_184 0 83 (dk_at dksX4_now_0 12 rfl rfl)
theorem dX4_now_15 : decode cX4_now 15 = .ok (.ifCond .eq 7, 3) := dk_153 0 7 (dk_at dksX4_now_0 15 rfl rfl)
theorem dX4_now_18 : decode cX4_now 18 = .ok (.iconst 1, 1) := dk_4 (dk_at dksX4_now_0 18 rfl rfl)
theorem dX4_now_19 : decode cX4_now 19 = .ok (.goto 4, 3) := dk_167 0 4 (dk_at dksX4_now_0 19 rfl rfl)
theorem dX4_now_22 : decode cX4_now 22 = .ok (.iconst 0, 1) := dk_3 (dk_at dksX4_now_0 22 rfl rfl)
theorem dX4_now_23 : decode cX4_now 23 = .ok (.invokestatic 324, 3) := dk_184 1 68 (dk_at dksX4_now_1 0 rfl rfl)
theorem dX4_now_26 : decode cX4_now 26 = .ok (.invokevirtual 180, 3) := dk_182 0 180 (dk_at dksX4_now_1 3 rfl rfl)
theorem dX4_now_29 : decode cX4_now 29 = .ok (.ifCond .eq 7, 3) := dk_153 0 7 (dk_at dksX4_now_1 6 rfl rfl)
theorem dX4_now_32 : decode cX4_now 32 = .ok (.iconst (-1), 1) := dk_2 (dk_at dksX4_now_1 9 rfl rfl)
theorem dX4_now_33 : decode cX4_now 33 = .ok (.goto 8, 3) := dk_167 0 8 (dk_at dksX4_now_1 10 rfl rfl)
theorem dX4_now_36 : decode cX4_now 36 = .ok (.aload_n 0, 1) := dk_42 (dk_at dksX4_now_1 13 rfl rfl)
theorem dX4_now_37 : decode cX4_now 37 = .ok (.iload_n 1, 1) := dk_27 (dk_at dksX4_now_1 14 rfl rfl)
theorem dX4_now_38 : decode cX4_now 38 = .ok (.invokevirtual 328, 3) := dk_182 1 72 (dk_at dksX4_now_1 15 rfl rfl)
theorem dX4_now_41 : decode cX4_now 41 = .ok (.ireturn, 1) := dk_172 (dk_at dksX4_now_1 18 rfl rfl)
abbrev cX4_unless : ByteArray := prog_19_method_6_code
def yX4_unless : MethodName := ⟨RX4, "unless", "(Z)I"⟩
def dkwX4_unless_0 : List UInt8 := [26, 153, 0, 7, 3, 167, 0, 4, 4, 172]
abbrev dktX4_unless_0 : List UInt8 := dkwX4_unless_0 ++ []
theorem dksX4_unless_0 : cX4_unless.data.toList.drop 0 = dktX4_unless_0 := by decide +kernel
theorem dX4_unless_0 : decode cX4_unless 0 = .ok (.iload_n 0, 1) := dk_26 (dk_at dksX4_unless_0 0 rfl rfl)
theorem dX4_unless_1 : decode cX4_unless 1 = .ok (.ifCond .eq 7, 3) := dk_153 0 7 (dk_at dksX4_unless_0 1 rfl rfl)
theorem dX4_unless_4 : decode cX4_unless 4 = .ok (.iconst 0, 1) := dk_3 (dk_at dksX4_unless_0 4 rfl rfl)
theorem dX4_unless_5 : decode cX4_unless 5 = .ok (.goto 4, 3) := dk_167 0 4 (dk_at dksX4_unless_0 5 rfl rfl)
theorem dX4_unless_8 : decode cX4_unless 8 = .ok (.iconst 1, 1) := dk_4 (dk_at dksX4_unless_0 8 rfl rfl)
theorem dX4_unless_9 : decode cX4_unless 9 = .ok (.ireturn, 1) := dk_172 (dk_at dksX4_unless_0 9 rfl rfl)
abbrev cX4_told : ByteArray := prog_19_method_82_code
def yX4_told : MethodName := ⟨RX4, "told", "(I)I"⟩
def dkwX4_told_4 : List UInt8 := [27, 96, 16, 6, 100, 46, 172]
abbrev dktX4_told_4 : List UInt8 := dkwX4_told_4 ++ []
def dkwX4_told_3 : List UInt8 := [180, 0, 27, 7, 46, 172, 42, 180, 0, 27, 8, 46, 172, 42, 182, 1, 44, 172, 42, 180, 0, 27, 16, 6]
abbrev dktX4_told_3 : List UInt8 := dkwX4_told_3 ++ dktX4_told_4
def dkwX4_told_2 : List UInt8 := [42, 180, 0, 27, 4, 46, 172, 42, 180, 0, 27, 5, 46, 172, 42, 180, 0, 27, 6, 46, 172, 42]
abbrev dktX4_told_2 : List UInt8 := dkwX4_told_2 ++ dktX4_told_3
def dkwX4_told_1 : List UInt8 := [170, 0, 0, 0, 0, 0, 79, 0, 0, 0, 0, 0, 0, 0, 5, 0, 0, 0, 39, 0, 0, 0, 46, 0, 0, 0, 53, 0, 0, 0, 60, 0, 0, 0, 67, 0, 0, 0, 74]
abbrev dktX4_told_1 : List UInt8 := dkwX4_told_1 ++ dktX4_told_2
def dkwX4_told_0 : List UInt8 := [27]
abbrev dktX4_told_0 : List UInt8 := dkwX4_told_0 ++ dktX4_told_1
theorem dksX4_told_0 : cX4_told.data.toList.drop 0 = dktX4_told_0 := by decide +kernel
theorem dksX4_told_1 : cX4_told.data.toList.drop 1 = dktX4_told_1 := dk_seg dksX4_told_0 1 rfl rfl
theorem dksX4_told_2 : cX4_told.data.toList.drop 40 = dktX4_told_2 := dk_seg dksX4_told_1 39 rfl rfl
theorem dksX4_told_3 : cX4_told.data.toList.drop 62 = dktX4_told_3 := dk_seg dksX4_told_2 22 rfl rfl
theorem dksX4_told_4 : cX4_told.data.toList.drop 86 = dktX4_told_4 := dk_seg dksX4_told_3 24 rfl rfl
theorem dX4_told_0 : decode cX4_told 0 = .ok (.iload_n 1, 1) := dk_27 (dk_at dksX4_told_0 0 rfl rfl)
theorem dX4_told_1 : decode cX4_told 1 = .ok (.tableswitch 79 0 5 #[39, 46, 53, 60, 67, 74], 39) := by decide +kernel
theorem dX4_told_40 : decode cX4_told 40 = .ok (.aload_n 0, 1) := dk_42 (dk_at dksX4_told_2 0 rfl rfl)
theorem dX4_told_41 : decode cX4_told 41 = .ok (.getfield 27, 3) := dk_180 0 27 (dk_at dksX4_told_2 1 rfl rfl)
theorem dX4_told_44 : decode cX4_told 44 = .ok (.iconst 1, 1) := dk_4 (dk_at dksX4_told_2 4 rfl rfl)
theorem dX4_told_45 : decode cX4_told 45 = .ok (.iaload, 1) := dk_46 (dk_at dksX4_told_2 5 rfl rfl)
theorem dX4_told_46 : decode cX4_told 46 = .ok (.ireturn, 1) := dk_172 (dk_at dksX4_told_2 6 rfl rfl)
theorem dX4_told_47 : decode cX4_told 47 = .ok (.aload_n 0, 1) := dk_42 (dk_at dksX4_told_2 7 rfl rfl)
theorem dX4_told_48 : decode cX4_told 48 = .ok (.getfield 27, 3) := dk_180 0 27 (dk_at dksX4_told_2 8 rfl rfl)
theorem dX4_told_51 : decode cX4_told 51 = .ok (.iconst 2, 1) := dk_5 (dk_at dksX4_told_2 11 rfl rfl)
theorem dX4_told_52 : decode cX4_told 52 = .ok (.iaload, 1) := dk_46 (dk_at dksX4_told_2 12 rfl rfl)
theorem dX4_told_53 : decode cX4_told 53 = .ok (.ireturn, 1) := dk_172 (dk_at dksX4_told_2 13 rfl rfl)
theorem dX4_told_54 : decode cX4_told 54 = .ok (.aload_n 0, 1) := dk_42 (dk_at dksX4_told_2 14 rfl rfl)
theorem dX4_told_55 : decode cX4_told 55 = .ok (.getfield 27, 3) := dk_180 0 27 (dk_at dksX4_told_2 15 rfl rfl)
theorem dX4_told_58 : decode cX4_told 58 = .ok (.iconst 3, 1) := dk_6 (dk_at dksX4_told_2 18 rfl rfl)
theorem dX4_told_59 : decode cX4_told 59 = .ok (.iaload, 1) := dk_46 (dk_at dksX4_told_2 19 rfl rfl)
theorem dX4_told_60 : decode cX4_told 60 = .ok (.ireturn, 1) := dk_172 (dk_at dksX4_told_2 20 rfl rfl)
theorem dX4_told_61 : decode cX4_told 61 = .ok (.aload_n 0, 1) := dk_42 (dk_at dksX4_told_2 21 rfl rfl)
theorem dX4_told_62 : decode cX4_told 62 = .ok (.getfield 27, 3) := dk_180 0 27 (dk_at dksX4_told_3 0 rfl rfl)
theorem dX4_told_65 : decode cX4_told 65 = .ok (.iconst 4, 1) := dk_7 (dk_at dksX4_told_3 3 rfl rfl)
theorem dX4_told_66 : decode cX4_told 66 = .ok (.iaload, 1) := dk_46 (dk_at dksX4_told_3 4 rfl rfl)
theorem dX4_told_67 : decode cX4_told 67 = .ok (.ireturn, 1) := dk_172 (dk_at dksX4_told_3 5 rfl rfl)
theorem dX4_told_68 : decode cX4_told 68 = .ok (.aload_n 0, 1) := dk_42 (dk_at dksX4_told_3 6 rfl rfl)
theorem dX4_told_69 : decode cX4_told 69 = .ok (.getfield 27, 3) := dk_180 0 27 (dk_at dksX4_told_3 7 rfl rfl)
theorem dX4_told_72 : decode cX4_told 72 = .ok (.iconst 5, 1) := dk_8 (dk_at dksX4_told_3 10 rfl rfl)
theorem dX4_told_73 : decode cX4_told 73 = .ok (.iaload, 1) := dk_46 (dk_at dksX4_told_3 11 rfl rfl)
theorem dX4_told_74 : decode cX4_told 74 = .ok (.ireturn, 1) := dk_172 (dk_at dksX4_told_3 12 rfl rfl)
theorem dX4_told_75 : decode cX4_told 75 = .ok (.aload_n 0, 1) := dk_42 (dk_at dksX4_told_3 13 rfl rfl)
theorem dX4_told_76 : decode cX4_told 76 = .ok (.invokevirtual 300, 3) := dk_182 1 44 (dk_at dksX4_told_3 14 rfl rfl)
theorem dX4_told_79 : decode cX4_told 79 = .ok (.ireturn, 1) := dk_172 (dk_at dksX4_told_3 17 rfl rfl)
theorem dX4_told_80 : decode cX4_told 80 = .ok (.aload_n 0, 1) := dk_42 (dk_at dksX4_told_3 18 rfl rfl)
theorem dX4_told_81 : decode cX4_told 81 = .ok (.getfield 27, 3) := dk_180 0 27 (dk_at dksX4_told_3 19 rfl rfl)
theorem dX4_told_84 : decode cX4_told 84 = .ok (.bipush 6, 2) := dk_16 6 (dk_at dksX4_told_3 22 rfl rfl)
theorem dX4_told_86 : decode cX4_told 86 = .ok (.iload_n 1, 1) := dk_27 (dk_at dksX4_told_4 0 rfl rfl)
theorem dX4_told_87 : decode cX4_told 87 = .ok (.iadd, 1) := dk_96 (dk_at dksX4_told_4 1 rfl rfl)
theorem dX4_told_88 : decode cX4_told 88 = .ok (.bipush 6, 2) := dk_16 6 (dk_at dksX4_told_4 2 rfl rfl)
theorem dX4_told_90 : decode cX4_told 90 = .ok (.isub, 1) := dk_100 (dk_at dksX4_told_4 4 rfl rfl)
theorem dX4_told_91 : decode cX4_told 91 = .ok (.iaload, 1) := dk_46 (dk_at dksX4_told_4 5 rfl rfl)
theorem dX4_told_92 : decode cX4_told 92 = .ok (.ireturn, 1) := dk_172 (dk_at dksX4_told_4 6 rfl rfl)
abbrev cX4_askingOnes : ByteArray := prog_19_method_72_code
def yX4_askingOnes : MethodName := ⟨RX4, "askingOnes", "()I"⟩
def dkwX4_askingOnes_1 : List UInt8 := [46, 158, 0, 9, 4, 28, 120, 167, 0, 4, 3, 128, 60, 132, 2, 1, 167, 255, 220, 27, 172]
abbrev dktX4_askingOnes_1 : List UInt8 := dkwX4_askingOnes_1 ++ []
def dkwX4_askingOnes_0 : List UInt8 := [3, 60, 3, 61, 28, 42, 180, 0, 17, 6, 46, 162, 0, 32, 27, 42, 180, 0, 27, 28, 3, 184, 0, 201]
abbrev dktX4_askingOnes_0 : List UInt8 := dkwX4_askingOnes_0 ++ dktX4_askingOnes_1
theorem dksX4_askingOnes_0 : cX4_askingOnes.data.toList.drop 0 = dktX4_askingOnes_0 := by decide +kernel
theorem dksX4_askingOnes_1 : cX4_askingOnes.data.toList.drop 24 = dktX4_askingOnes_1 := dk_seg dksX4_askingOnes_0 24 rfl rfl
theorem dX4_askingOnes_0 : decode cX4_askingOnes 0 = .ok (.iconst 0, 1) := dk_3 (dk_at dksX4_askingOnes_0 0 rfl rfl)
theorem dX4_askingOnes_1 : decode cX4_askingOnes 1 = .ok (.istore_n 1, 1) := dk_60 (dk_at dksX4_askingOnes_0 1 rfl rfl)
theorem dX4_askingOnes_2 : decode cX4_askingOnes 2 = .ok (.iconst 0, 1) := dk_3 (dk_at dksX4_askingOnes_0 2 rfl rfl)
theorem dX4_askingOnes_3 : decode cX4_askingOnes 3 = .ok (.istore_n 2, 1) := dk_61 (dk_at dksX4_askingOnes_0 3 rfl rfl)
theorem dX4_askingOnes_4 : decode cX4_askingOnes 4 = .ok (.iload_n 2, 1) := dk_28 (dk_at dksX4_askingOnes_0 4 rfl rfl)
theorem dX4_askingOnes_5 : decode cX4_askingOnes 5 = .ok (.aload_n 0, 1) := dk_42 (dk_at dksX4_askingOnes_0 5 rfl rfl)
theorem dX4_askingOnes_6 : decode cX4_askingOnes 6 = .ok (.getfield 17, 3) := dk_180 0 17 (dk_at dksX4_askingOnes_0 6 rfl rfl)
theorem dX4_askingOnes_9 : decode cX4_askingOnes 9 = .ok (.iconst 3, 1) := dk_6 (dk_at dksX4_askingOnes_0 9 rfl rfl)
theorem dX4_askingOnes_10 : decode cX4_askingOnes 10 = .ok (.iaload, 1) := dk_46 (dk_at dksX4_askingOnes_0 10 rfl rfl)
theorem dX4_askingOnes_11 : decode cX4_askingOnes 11 = .ok (.if_icmp .ge 32, 3) := dk_162 0 32 (dk_at dksX4_askingOnes_0 11 rfl rfl)
theorem dX4_askingOnes_14 : decode cX4_askingOnes 14 = .ok (.iload_n 1, 1) := dk_27 (dk_at dksX4_askingOnes_0 14 rfl rfl)
theorem dX4_askingOnes_15 : decode cX4_askingOnes 15 = .ok (.aload_n 0, 1) := dk_42 (dk_at dksX4_askingOnes_0 15 rfl rfl)
theorem dX4_askingOnes_16 : decode cX4_askingOnes 16 = .ok (.getfield 27, 3) := dk_180 0 27 (dk_at dksX4_askingOnes_0 16 rfl rfl)
theorem dX4_askingOnes_19 : decode cX4_askingOnes 19 = .ok (.iload_n 2, 1) := dk_28 (dk_at dksX4_askingOnes_0 19 rfl rfl)
theorem dX4_askingOnes_20 : decode cX4_askingOnes 20 = .ok (.iconst 0, 1) := dk_3 (dk_at dksX4_askingOnes_0 20 rfl rfl)
theorem dX4_askingOnes_21 : decode cX4_askingOnes 21 = .ok (.invokestatic 201, 3) := dk_184 0 201 (dk_at dksX4_askingOnes_0 21 rfl rfl)
theorem dX4_askingOnes_24 : decode cX4_askingOnes 24 = .ok (.iaload, 1) := dk_46 (dk_at dksX4_askingOnes_1 0 rfl rfl)
theorem dX4_askingOnes_25 : decode cX4_askingOnes 25 = .ok (.ifCond .le 9, 3) := dk_158 0 9 (dk_at dksX4_askingOnes_1 1 rfl rfl)
theorem dX4_askingOnes_28 : decode cX4_askingOnes 28 = .ok (.iconst 1, 1) := dk_4 (dk_at dksX4_askingOnes_1 4 rfl rfl)
theorem dX4_askingOnes_29 : decode cX4_askingOnes 29 = .ok (.iload_n 2, 1) := dk_28 (dk_at dksX4_askingOnes_1 5 rfl rfl)
theorem dX4_askingOnes_30 : decode cX4_askingOnes 30 = .ok (.ishl, 1) := dk_120 (dk_at dksX4_askingOnes_1 6 rfl rfl)
theorem dX4_askingOnes_31 : decode cX4_askingOnes 31 = .ok (.goto 4, 3) := dk_167 0 4 (dk_at dksX4_askingOnes_1 7 rfl rfl)
theorem dX4_askingOnes_34 : decode cX4_askingOnes 34 = .ok (.iconst 0, 1) := dk_3 (dk_at dksX4_askingOnes_1 10 rfl rfl)
theorem dX4_askingOnes_35 : decode cX4_askingOnes 35 = .ok (.ior, 1) := dk_128 (dk_at dksX4_askingOnes_1 11 rfl rfl)
theorem dX4_askingOnes_36 : decode cX4_askingOnes 36 = .ok (.istore_n 1, 1) := dk_60 (dk_at dksX4_askingOnes_1 12 rfl rfl)
theorem dX4_askingOnes_37 : decode cX4_askingOnes 37 = .ok (.iinc 2 1, 3) := dk_132 2 1 (dk_at dksX4_askingOnes_1 13 rfl rfl)
theorem dX4_askingOnes_40 : decode cX4_askingOnes 40 = .ok (.goto (-36), 3) := dk_167 255 220 (dk_at dksX4_askingOnes_1 16 rfl rfl)
theorem dX4_askingOnes_43 : decode cX4_askingOnes 43 = .ok (.iload_n 1, 1) := dk_27 (dk_at dksX4_askingOnes_1 19 rfl rfl)
theorem dX4_askingOnes_44 : decode cX4_askingOnes 44 = .ok (.ireturn, 1) := dk_172 (dk_at dksX4_askingOnes_1 20 rfl rfl)
abbrev cX4_ledger : ByteArray := prog_19_method_84_code
def yX4_ledger : MethodName := ⟨RX4, "ledger", "(II)I"⟩
def dkwX4_ledger_2 : List UInt8 := [184, 0, 201, 46, 172]
abbrev dktX4_ledger_2 : List UInt8 := dkwX4_ledger_2 ++ []
def dkwX4_ledger_1 : List UInt8 := [184, 1, 68, 182, 0, 180, 153, 0, 7, 2, 167, 0, 16, 42, 180, 0, 27, 27, 16, 6, 28, 96]
abbrev dktX4_ledger_1 : List UInt8 := dkwX4_ledger_1 ++ dktX4_ledger_2
def dkwX4_ledger_0 : List UInt8 := [42, 42, 27, 182, 1, 12, 153, 0, 16, 28, 3, 8, 184, 0, 83, 153, 0, 7, 4, 167, 0, 4, 3]
abbrev dktX4_ledger_0 : List UInt8 := dkwX4_ledger_0 ++ dktX4_ledger_1
theorem dksX4_ledger_0 : cX4_ledger.data.toList.drop 0 = dktX4_ledger_0 := by decide +kernel
theorem dksX4_ledger_1 : cX4_ledger.data.toList.drop 23 = dktX4_ledger_1 := dk_seg dksX4_ledger_0 23 rfl rfl
theorem dksX4_ledger_2 : cX4_ledger.data.toList.drop 45 = dktX4_ledger_2 := dk_seg dksX4_ledger_1 22 rfl rfl
theorem dX4_ledger_0 : decode cX4_ledger 0 = .ok (.aload_n 0, 1) := dk_42 (dk_at dksX4_ledger_0 0 rfl rfl)
theorem dX4_ledger_1 : decode cX4_ledger 1 = .ok (.aload_n 0, 1) := dk_42 (dk_at dksX4_ledger_0 1 rfl rfl)
theorem dX4_ledger_2 : decode cX4_ledger 2 = .ok (.iload_n 1, 1) := dk_27 (dk_at dksX4_ledger_0 2 rfl rfl)
theorem dX4_ledger_3 : decode cX4_ledger 3 = .ok (.invokevirtual 268, 3) := dk_182 1 12 (dk_at dksX4_ledger_0 3 rfl rfl)
theorem dX4_ledger_6 : decode cX4_ledger 6 = .ok (.ifCond .eq 16, 3) := dk_153 0 16 (dk_at dksX4_ledger_0 6 rfl rfl)
theorem dX4_ledger_9 : decode cX4_ledger 9 = .ok (.iload_n 2, 1) := dk_28 (dk_at dksX4_ledger_0 9 rfl rfl)
theorem dX4_ledger_10 : decode cX4_ledger 10 = .ok (.iconst 0, 1) := dk_3 (dk_at dksX4_ledger_0 10 rfl rfl)
theorem dX4_ledger_11 : decode cX4_ledger 11 = .ok (.iconst 5, 1) := dk_8 (dk_at dksX4_ledger_0 11 rfl rfl)
theorem dX4_ledger_12 : decode cX4_ledger 12 = .ok (.invokestatic 83, 3) := dk_184 0 83 (dk_at dksX4_ledger_0 12 rfl rfl)
theorem dX4_ledger_15 : decode cX4_ledger 15 = .ok (.ifCond .eq 7, 3) := dk_153 0 7 (dk_at dksX4_ledger_0 15 rfl rfl)
theorem dX4_ledger_18 : decode cX4_ledger 18 = .ok (.iconst 1, 1) := dk_4 (dk_at dksX4_ledger_0 18 rfl rfl)
theorem dX4_ledger_19 : decode cX4_ledger 19 = .ok (.goto 4, 3) := dk_167 0 4 (dk_at dksX4_ledger_0 19 rfl rfl)
theorem dX4_ledger_22 : decode cX4_ledger 22 = .ok (.iconst 0, 1) := dk_3 (dk_at dksX4_ledger_0 22 rfl rfl)
theorem dX4_ledger_23 : decode cX4_ledger 23 = .ok (.invokestatic 324, 3) := dk_184 1 68 (dk_at dksX4_ledger_1 0 rfl rfl)
theorem dX4_ledger_26 : decode cX4_ledger 26 = .ok (.invokevirtual 180, 3) := dk_182 0 180 (dk_at dksX4_ledger_1 3 rfl rfl)
theorem dX4_ledger_29 : decode cX4_ledger 29 = .ok (.ifCond .eq 7, 3) := dk_153 0 7 (dk_at dksX4_ledger_1 6 rfl rfl)
theorem dX4_ledger_32 : decode cX4_ledger 32 = .ok (.iconst (-1), 1) := dk_2 (dk_at dksX4_ledger_1 9 rfl rfl)
theorem dX4_ledger_33 : decode cX4_ledger 33 = .ok (.goto 16, 3) := dk_167 0 16 (dk_at dksX4_ledger_1 10 rfl rfl)
theorem dX4_ledger_36 : decode cX4_ledger 36 = .ok (.aload_n 0, 1) := dk_42 (dk_at dksX4_ledger_1 13 rfl rfl)
theorem dX4_ledger_37 : decode cX4_ledger 37 = .ok (.getfield 27, 3) := dk_180 0 27 (dk_at dksX4_ledger_1 14 rfl rfl)
theorem dX4_ledger_40 : decode cX4_ledger 40 = .ok (.iload_n 1, 1) := dk_27 (dk_at dksX4_ledger_1 17 rfl rfl)
theorem dX4_ledger_41 : decode cX4_ledger 41 = .ok (.bipush 6, 2) := dk_16 6 (dk_at dksX4_ledger_1 18 rfl rfl)
theorem dX4_ledger_43 : decode cX4_ledger 43 = .ok (.iload_n 2, 1) := dk_28 (dk_at dksX4_ledger_1 20 rfl rfl)
theorem dX4_ledger_44 : decode cX4_ledger 44 = .ok (.iadd, 1) := dk_96 (dk_at dksX4_ledger_1 21 rfl rfl)
theorem dX4_ledger_45 : decode cX4_ledger 45 = .ok (.invokestatic 201, 3) := dk_184 0 201 (dk_at dksX4_ledger_2 0 rfl rfl)
theorem dX4_ledger_48 : decode cX4_ledger 48 = .ok (.iaload, 1) := dk_46 (dk_at dksX4_ledger_2 3 rfl rfl)
theorem dX4_ledger_49 : decode cX4_ledger 49 = .ok (.ireturn, 1) := dk_172 (dk_at dksX4_ledger_2 4 rfl rfl)
abbrev cX4_past : ByteArray := prog_19_method_85_code
def yX4_past : MethodName := ⟨RX4, "past", "(I)I"⟩
def dkwX4_past_3 : List UInt8 := [172]
abbrev dktX4_past_3 : List UInt8 := dkwX4_past_3 ++ []
def dkwX4_past_2 : List UInt8 := [180, 0, 27, 17, 0, 187, 42, 180, 0, 27, 3, 46, 27, 100, 16, 64, 112, 96, 46, 167, 0, 5, 16, 254]
abbrev dktX4_past_2 : List UInt8 := dkwX4_past_2 ++ dktX4_past_3
def dkwX4_past_1 : List UInt8 := [167, 0, 4, 5, 182, 0, 180, 153, 0, 5, 2, 172, 27, 42, 180, 0, 27, 3, 46, 162, 0, 26, 42]
abbrev dktX4_past_1 : List UInt8 := dkwX4_past_1 ++ dktX4_past_2
def dkwX4_past_0 : List UInt8 := [42, 42, 180, 0, 192, 154, 0, 7, 4, 167, 0, 18, 27, 3, 16, 63, 184, 0, 83, 153, 0, 7, 3]
abbrev dktX4_past_0 : List UInt8 := dkwX4_past_0 ++ dktX4_past_1
theorem dksX4_past_0 : cX4_past.data.toList.drop 0 = dktX4_past_0 := by decide +kernel
theorem dksX4_past_1 : cX4_past.data.toList.drop 23 = dktX4_past_1 := dk_seg dksX4_past_0 23 rfl rfl
theorem dksX4_past_2 : cX4_past.data.toList.drop 46 = dktX4_past_2 := dk_seg dksX4_past_1 23 rfl rfl
theorem dksX4_past_3 : cX4_past.data.toList.drop 70 = dktX4_past_3 := dk_seg dksX4_past_2 24 rfl rfl
theorem dX4_past_0 : decode cX4_past 0 = .ok (.aload_n 0, 1) := dk_42 (dk_at dksX4_past_0 0 rfl rfl)
theorem dX4_past_1 : decode cX4_past 1 = .ok (.aload_n 0, 1) := dk_42 (dk_at dksX4_past_0 1 rfl rfl)
theorem dX4_past_2 : decode cX4_past 2 = .ok (.getfield 192, 3) := dk_180 0 192 (dk_at dksX4_past_0 2 rfl rfl)
theorem dX4_past_5 : decode cX4_past 5 = .ok (.ifCond .ne 7, 3) := dk_154 0 7 (dk_at dksX4_past_0 5 rfl rfl)
theorem dX4_past_8 : decode cX4_past 8 = .ok (.iconst 1, 1) := dk_4 (dk_at dksX4_past_0 8 rfl rfl)
theorem dX4_past_9 : decode cX4_past 9 = .ok (.goto 18, 3) := dk_167 0 18 (dk_at dksX4_past_0 9 rfl rfl)
theorem dX4_past_12 : decode cX4_past 12 = .ok (.iload_n 1, 1) := dk_27 (dk_at dksX4_past_0 12 rfl rfl)
theorem dX4_past_13 : decode cX4_past 13 = .ok (.iconst 0, 1) := dk_3 (dk_at dksX4_past_0 13 rfl rfl)
theorem dX4_past_14 : decode cX4_past 14 = .ok (.bipush 63, 2) := dk_16 63 (dk_at dksX4_past_0 14 rfl rfl)
theorem dX4_past_16 : decode cX4_past 16 = .ok (.invokestatic 83, 3) := dk_184 0 83 (dk_at dksX4_past_0 16 rfl rfl)
theorem dX4_past_19 : decode cX4_past 19 = .ok (.ifCond .eq 7, 3) := dk_153 0 7 (dk_at dksX4_past_0 19 rfl rfl)
theorem dX4_past_22 : decode cX4_past 22 = .ok (.iconst 0, 1) := dk_3 (dk_at dksX4_past_0 22 rfl rfl)
theorem dX4_past_23 : decode cX4_past 23 = .ok (.goto 4, 3) := dk_167 0 4 (dk_at dksX4_past_1 0 rfl rfl)
theorem dX4_past_26 : decode cX4_past 26 = .ok (.iconst 2, 1) := dk_5 (dk_at dksX4_past_1 3 rfl rfl)
theorem dX4_past_27 : decode cX4_past 27 = .ok (.invokevirtual 180, 3) := dk_182 0 180 (dk_at dksX4_past_1 4 rfl rfl)
theorem dX4_past_30 : decode cX4_past 30 = .ok (.ifCond .eq 5, 3) := dk_153 0 5 (dk_at dksX4_past_1 7 rfl rfl)
theorem dX4_past_33 : decode cX4_past 33 = .ok (.iconst (-1), 1) := dk_2 (dk_at dksX4_past_1 10 rfl rfl)
theorem dX4_past_34 : decode cX4_past 34 = .ok (.ireturn, 1) := dk_172 (dk_at dksX4_past_1 11 rfl rfl)
theorem dX4_past_35 : decode cX4_past 35 = .ok (.iload_n 1, 1) := dk_27 (dk_at dksX4_past_1 12 rfl rfl)
theorem dX4_past_36 : decode cX4_past 36 = .ok (.aload_n 0, 1) := dk_42 (dk_at dksX4_past_1 13 rfl rfl)
theorem dX4_past_37 : decode cX4_past 37 = .ok (.getfield 27, 3) := dk_180 0 27 (dk_at dksX4_past_1 14 rfl rfl)
theorem dX4_past_40 : decode cX4_past 40 = .ok (.iconst 0, 1) := dk_3 (dk_at dksX4_past_1 17 rfl rfl)
theorem dX4_past_41 : decode cX4_past 41 = .ok (.iaload, 1) := dk_46 (dk_at dksX4_past_1 18 rfl rfl)
theorem dX4_past_42 : decode cX4_past 42 = .ok (.if_icmp .ge 26, 3) := dk_162 0 26 (dk_at dksX4_past_1 19 rfl rfl)
theorem dX4_past_45 : decode cX4_past 45 = .ok (.aload_n 0, 1) := dk_42 (dk_at dksX4_past_1 22 rfl rfl)
theorem dX4_past_46 : decode cX4_past 46 = .ok (.getfield 27, 3) := dk_180 0 27 (dk_at dksX4_past_2 0 rfl rfl)
theorem dX4_past_49 : decode cX4_past 49 = .ok (.sipush 187, 3) := dk_17 0 187 (dk_at dksX4_past_2 3 rfl rfl)
theorem dX4_past_52 : decode cX4_past 52 = .ok (.aload_n 0, 1) := dk_42 (dk_at dksX4_past_2 6 rfl rfl)
theorem dX4_past_53 : decode cX4_past 53 = .ok (.getfield 27, 3) := dk_180 0 27 (dk_at dksX4_past_2 7 rfl rfl)
theorem dX4_past_56 : decode cX4_past 56 = .ok (.iconst 0, 1) := dk_3 (dk_at dksX4_past_2 10 rfl rfl)
theorem dX4_past_57 : decode cX4_past 57 = .ok (.iaload, 1) := dk_46 (dk_at dksX4_past_2 11 rfl rfl)
theorem dX4_past_58 : decode cX4_past 58 = .ok (.iload_n 1, 1) := dk_27 (dk_at dksX4_past_2 12 rfl rfl)
theorem dX4_past_59 : decode cX4_past 59 = .ok (.isub, 1) := dk_100 (dk_at dksX4_past_2 13 rfl rfl)
theorem dX4_past_60 : decode cX4_past 60 = .ok (.bipush 64, 2) := dk_16 64 (dk_at dksX4_past_2 14 rfl rfl)
theorem dX4_past_62 : decode cX4_past 62 = .ok (.irem, 1) := dk_112 (dk_at dksX4_past_2 16 rfl rfl)
theorem dX4_past_63 : decode cX4_past 63 = .ok (.iadd, 1) := dk_96 (dk_at dksX4_past_2 17 rfl rfl)
theorem dX4_past_64 : decode cX4_past 64 = .ok (.iaload, 1) := dk_46 (dk_at dksX4_past_2 18 rfl rfl)
theorem dX4_past_65 : decode cX4_past 65 = .ok (.goto 5, 3) := dk_167 0 5 (dk_at dksX4_past_2 19 rfl rfl)
theorem dX4_past_68 : decode cX4_past 68 = .ok (.bipush (-2), 2) := dk_16 254 (dk_at dksX4_past_2 22 rfl rfl)
theorem dX4_past_70 : decode cX4_past 70 = .ok (.ireturn, 1) := dk_172 (dk_at dksX4_past_3 0 rfl rfl)
abbrev cX4_idle : ByteArray := prog_19_method_86_code
def yX4_idle : MethodName := ⟨RX4, "idle", "()I"⟩
def dkwX4_idle_3 : List UInt8 := [132, 2, 1, 167, 255, 204, 27, 172]
abbrev dktX4_idle_3 : List UInt8 := dkwX4_idle_3 ++ []
def dkwX4_idle_2 : List UInt8 := [180, 0, 27, 3, 46, 28, 100, 16, 64, 112, 96, 46, 16, 254, 160, 0, 7, 4, 167, 0, 4, 3, 96, 60]
abbrev dktX4_idle_2 : List UInt8 := dkwX4_idle_2 ++ dktX4_idle_3
def dkwX4_idle_1 : List UInt8 := [162, 0, 52, 28, 42, 180, 0, 27, 3, 46, 162, 0, 42, 27, 42, 180, 0, 27, 17, 0, 187, 42]
abbrev dktX4_idle_1 : List UInt8 := dkwX4_idle_1 ++ dktX4_idle_2
def dkwX4_idle_0 : List UInt8 := [42, 42, 180, 0, 192, 184, 1, 68, 182, 0, 180, 153, 0, 5, 2, 172, 3, 60, 3, 61, 28, 16, 64]
abbrev dktX4_idle_0 : List UInt8 := dkwX4_idle_0 ++ dktX4_idle_1
theorem dksX4_idle_0 : cX4_idle.data.toList.drop 0 = dktX4_idle_0 := by decide +kernel
theorem dksX4_idle_1 : cX4_idle.data.toList.drop 23 = dktX4_idle_1 := dk_seg dksX4_idle_0 23 rfl rfl
theorem dksX4_idle_2 : cX4_idle.data.toList.drop 45 = dktX4_idle_2 := dk_seg dksX4_idle_1 22 rfl rfl
theorem dksX4_idle_3 : cX4_idle.data.toList.drop 69 = dktX4_idle_3 := dk_seg dksX4_idle_2 24 rfl rfl
theorem dX4_idle_0 : decode cX4_idle 0 = .ok (.aload_n 0, 1) := dk_42 (dk_at dksX4_idle_0 0 rfl rfl)
theorem dX4_idle_1 : decode cX4_idle 1 = .ok (.aload_n 0, 1) := dk_42 (dk_at dksX4_idle_0 1 rfl rfl)
theorem dX4_idle_2 : decode cX4_idle 2 = .ok (.getfield 192, 3) := dk_180 0 192 (dk_at dksX4_idle_0 2 rfl rfl)
theorem dX4_idle_5 : decode cX4_idle 5 = .ok (.invokestatic 324, 3) := dk_184 1 68 (dk_at dksX4_idle_0 5 rfl rfl)
theorem dX4_idle_8 : decode cX4_idle 8 = .ok (.invokevirtual 180, 3) := dk_182 0 180 (dk_at dksX4_idle_0 8 rfl rfl)
theorem dX4_idle_11 : decode cX4_idle 11 = .ok (.ifCond .eq 5, 3) := dk_153 0 5 (dk_at dksX4_idle_0 11 rfl rfl)
theorem dX4_idle_14 : decode cX4_idle 14 = .ok (.iconst (-1), 1) := dk_2 (dk_at dksX4_idle_0 14 rfl rfl)
theorem dX4_idle_15 : decode cX4_idle 15 = .ok (.ireturn, 1) := dk_172 (dk_at dksX4_idle_0 15 rfl rfl)
theorem dX4_idle_16 : decode cX4_idle 16 = .ok (.iconst 0, 1) := dk_3 (dk_at dksX4_idle_0 16 rfl rfl)
theorem dX4_idle_17 : decode cX4_idle 17 = .ok (.istore_n 1, 1) := dk_60 (dk_at dksX4_idle_0 17 rfl rfl)
theorem dX4_idle_18 : decode cX4_idle 18 = .ok (.iconst 0, 1) := dk_3 (dk_at dksX4_idle_0 18 rfl rfl)
theorem dX4_idle_19 : decode cX4_idle 19 = .ok (.istore_n 2, 1) := dk_61 (dk_at dksX4_idle_0 19 rfl rfl)
theorem dX4_idle_20 : decode cX4_idle 20 = .ok (.iload_n 2, 1) := dk_28 (dk_at dksX4_idle_0 20 rfl rfl)
theorem dX4_idle_21 : decode cX4_idle 21 = .ok (.bipush 64, 2) := dk_16 64 (dk_at dksX4_idle_0 21 rfl rfl)
theorem dX4_idle_23 : decode cX4_idle 23 = .ok (.if_icmp .ge 52, 3) := dk_162 0 52 (dk_at dksX4_idle_1 0 rfl rfl)
theorem dX4_idle_26 : decode cX4_idle 26 = .ok (.iload_n 2, 1) := dk_28 (dk_at dksX4_idle_1 3 rfl rfl)
theorem dX4_idle_27 : decode cX4_idle 27 = .ok (.aload_n 0, 1) := dk_42 (dk_at dksX4_idle_1 4 rfl rfl)
theorem dX4_idle_28 : decode cX4_idle 28 = .ok (.getfield 27, 3) := dk_180 0 27 (dk_at dksX4_idle_1 5 rfl rfl)
theorem dX4_idle_31 : decode cX4_idle 31 = .ok (.iconst 0, 1) := dk_3 (dk_at dksX4_idle_1 8 rfl rfl)
theorem dX4_idle_32 : decode cX4_idle 32 = .ok (.iaload, 1) := dk_46 (dk_at dksX4_idle_1 9 rfl rfl)
theorem dX4_idle_33 : decode cX4_idle 33 = .ok (.if_icmp .ge 42, 3) := dk_162 0 42 (dk_at dksX4_idle_1 10 rfl rfl)
theorem dX4_idle_36 : decode cX4_idle 36 = .ok (.iload_n 1, 1) := dk_27 (dk_at dksX4_idle_1 13 rfl rfl)
theorem dX4_idle_37 : decode cX4_idle 37 = .ok (.aload_n 0, 1) := dk_42 (dk_at dksX4_idle_1 14 rfl rfl)
theorem dX4_idle_38 : decode cX4_idle 38 = .ok (.getfield 27, 3) := dk_180 0 27 (dk_at dksX4_idle_1 15 rfl rfl)
theorem dX4_idle_41 : decode cX4_idle 41 = .ok (.sipush 187, 3) := dk_17 0 187 (dk_at dksX4_idle_1 18 rfl rfl)
theorem dX4_idle_44 : decode cX4_idle 44 = .ok (.aload_n 0, 1) := dk_42 (dk_at dksX4_idle_1 21 rfl rfl)
theorem dX4_idle_45 : decode cX4_idle 45 = .ok (.getfield 27, 3) := dk_180 0 27 (dk_at dksX4_idle_2 0 rfl rfl)
theorem dX4_idle_48 : decode cX4_idle 48 = .ok (.iconst 0, 1) := dk_3 (dk_at dksX4_idle_2 3 rfl rfl)
theorem dX4_idle_49 : decode cX4_idle 49 = .ok (.iaload, 1) := dk_46 (dk_at dksX4_idle_2 4 rfl rfl)
theorem dX4_idle_50 : decode cX4_idle 50 = .ok (.iload_n 2, 1) := dk_28 (dk_at dksX4_idle_2 5 rfl rfl)
theorem dX4_idle_51 : decode cX4_idle 51 = .ok (.isub, 1) := dk_100 (dk_at dksX4_idle_2 6 rfl rfl)
theorem dX4_idle_52 : decode cX4_idle 52 = .ok (.bipush 64, 2) := dk_16 64 (dk_at dksX4_idle_2 7 rfl rfl)
theorem dX4_idle_54 : decode cX4_idle 54 = .ok (.irem, 1) := dk_112 (dk_at dksX4_idle_2 9 rfl rfl)
theorem dX4_idle_55 : decode cX4_idle 55 = .ok (.iadd, 1) := dk_96 (dk_at dksX4_idle_2 10 rfl rfl)
theorem dX4_idle_56 : decode cX4_idle 56 = .ok (.iaload, 1) := dk_46 (dk_at dksX4_idle_2 11 rfl rfl)
theorem dX4_idle_57 : decode cX4_idle 57 = .ok (.bipush (-2), 2) := dk_16 254 (dk_at dksX4_idle_2 12 rfl rfl)
theorem dX4_idle_59 : decode cX4_idle 59 = .ok (.if_icmp .ne 7, 3) := dk_160 0 7 (dk_at dksX4_idle_2 14 rfl rfl)
theorem dX4_idle_62 : decode cX4_idle 62 = .ok (.iconst 1, 1) := dk_4 (dk_at dksX4_idle_2 17 rfl rfl)
theorem dX4_idle_63 : decode cX4_idle 63 = .ok (.goto 4, 3) := dk_167 0 4 (dk_at dksX4_idle_2 18 rfl rfl)
theorem dX4_idle_66 : decode cX4_idle 66 = .ok (.iconst 0, 1) := dk_3 (dk_at dksX4_idle_2 21 rfl rfl)
theorem dX4_idle_67 : decode cX4_idle 67 = .ok (.iadd, 1) := dk_96 (dk_at dksX4_idle_2 22 rfl rfl)
theorem dX4_idle_68 : decode cX4_idle 68 = .ok (.istore_n 1, 1) := dk_60 (dk_at dksX4_idle_2 23 rfl rfl)
theorem dX4_idle_69 : decode cX4_idle 69 = .ok (.iinc 2 1, 3) := dk_132 2 1 (dk_at dksX4_idle_3 0 rfl rfl)
theorem dX4_idle_72 : decode cX4_idle 72 = .ok (.goto (-52), 3) := dk_167 255 204 (dk_at dksX4_idle_3 3 rfl rfl)
theorem dX4_idle_75 : decode cX4_idle 75 = .ok (.iload_n 1, 1) := dk_27 (dk_at dksX4_idle_3 6 rfl rfl)
theorem dX4_idle_76 : decode cX4_idle 76 = .ok (.ireturn, 1) := dk_172 (dk_at dksX4_idle_3 7 rfl rfl)
abbrev cX4_log : ByteArray := prog_19_method_87_code
def yX4_log : MethodName := ⟨RX4, "log", "(II)I"⟩
def dkwX4_log_2 : List UInt8 := [153, 0, 7, 2, 167, 0, 17, 42, 180, 0, 27, 16, 91, 16, 6, 27, 104, 96, 28, 96, 46, 172]
abbrev dktX4_log_2 : List UInt8 := dkwX4_log_2 ++ []
def dkwX4_log_1 : List UInt8 := [153, 0, 16, 28, 3, 8, 184, 0, 83, 153, 0, 7, 4, 167, 0, 4, 3, 184, 1, 68, 182, 0, 180]
abbrev dktX4_log_1 : List UInt8 := dkwX4_log_1 ++ dktX4_log_2
def dkwX4_log_0 : List UInt8 := [42, 42, 180, 0, 192, 153, 0, 33, 27, 3, 42, 180, 0, 27, 16, 90, 46, 4, 100, 184, 0, 83]
abbrev dktX4_log_0 : List UInt8 := dkwX4_log_0 ++ dktX4_log_1
theorem dksX4_log_0 : cX4_log.data.toList.drop 0 = dktX4_log_0 := by decide +kernel
theorem dksX4_log_1 : cX4_log.data.toList.drop 22 = dktX4_log_1 := dk_seg dksX4_log_0 22 rfl rfl
theorem dksX4_log_2 : cX4_log.data.toList.drop 45 = dktX4_log_2 := dk_seg dksX4_log_1 23 rfl rfl
theorem dX4_log_0 : decode cX4_log 0 = .ok (.aload_n 0, 1) := dk_42 (dk_at dksX4_log_0 0 rfl rfl)
theorem dX4_log_1 : decode cX4_log 1 = .ok (.aload_n 0, 1) := dk_42 (dk_at dksX4_log_0 1 rfl rfl)
theorem dX4_log_2 : decode cX4_log 2 = .ok (.getfield 192, 3) := dk_180 0 192 (dk_at dksX4_log_0 2 rfl rfl)
theorem dX4_log_5 : decode cX4_log 5 = .ok (.ifCond .eq 33, 3) := dk_153 0 33 (dk_at dksX4_log_0 5 rfl rfl)
theorem dX4_log_8 : decode cX4_log 8 = .ok (.iload_n 1, 1) := dk_27 (dk_at dksX4_log_0 8 rfl rfl)
theorem dX4_log_9 : decode cX4_log 9 = .ok (.iconst 0, 1) := dk_3 (dk_at dksX4_log_0 9 rfl rfl)
theorem dX4_log_10 : decode cX4_log 10 = .ok (.aload_n 0, 1) := dk_42 (dk_at dksX4_log_0 10 rfl rfl)
theorem dX4_log_11 : decode cX4_log 11 = .ok (.getfield 27, 3) := dk_180 0 27 (dk_at dksX4_log_0 11 rfl rfl)
theorem dX4_log_14 : decode cX4_log 14 = .ok (.bipush 90, 2) := dk_16 90 (dk_at dksX4_log_0 14 rfl rfl)
theorem dX4_log_16 : decode cX4_log 16 = .ok (.iaload, 1) := dk_46 (dk_at dksX4_log_0 16 rfl rfl)
theorem dX4_log_17 : decode cX4_log 17 = .ok (.iconst 1, 1) := dk_4 (dk_at dksX4_log_0 17 rfl rfl)
theorem dX4_log_18 : decode cX4_log 18 = .ok (.isub, 1) := dk_100 (dk_at dksX4_log_0 18 rfl rfl)
theorem dX4_log_19 : decode cX4_log 19 = .ok (.invokestatic 83, 3) := dk_184 0 83 (dk_at dksX4_log_0 19 rfl rfl)
theorem dX4_log_22 : decode cX4_log 22 = .ok (.ifCond .eq 16, 3) := dk_153 0 16 (dk_at dksX4_log_1 0 rfl rfl)
theorem dX4_log_25 : decode cX4_log 25 = .ok (.iload_n 2, 1) := dk_28 (dk_at dksX4_log_1 3 rfl rfl)
theorem dX4_log_26 : decode cX4_log 26 = .ok (.iconst 0, 1) := dk_3 (dk_at dksX4_log_1 4 rfl rfl)
theorem dX4_log_27 : decode cX4_log 27 = .ok (.iconst 5, 1) := dk_8 (dk_at dksX4_log_1 5 rfl rfl)
theorem dX4_log_28 : decode cX4_log 28 = .ok (.invokestatic 83, 3) := dk_184 0 83 (dk_at dksX4_log_1 6 rfl rfl)
theorem dX4_log_31 : decode cX4_log 31 = .ok (.ifCond .eq 7, 3) := dk_153 0 7 (dk_at dksX4_log_1 9 rfl rfl)
theorem dX4_log_34 : decode cX4_log 34 = .ok (.iconst 1, 1) := dk_4 (dk_at dksX4_log_1 12 rfl rfl)
theorem dX4_log_35 : decode cX4_log 35 = .ok (.goto 4, 3) := dk_167 0 4 (dk_at dksX4_log_1 13 rfl rfl)
theorem dX4_log_38 : decode cX4_log 38 = .ok (.iconst 0, 1) := dk_3 (dk_at dksX4_log_1 16 rfl rfl)
theorem dX4_log_39 : decode cX4_log 39 = .ok (.invokestatic 324, 3) := dk_184 1 68 (dk_at dksX4_log_1 17 rfl rfl)
theorem dX4_log_42 : decode cX4_log 42 = .ok (.invokevirtual 180, 3) := dk_182 0 180 (dk_at dksX4_log_1 20 rfl rfl)
theorem dX4_log_45 : decode cX4_log 45 = .ok (.ifCond .eq 7, 3) := dk_153 0 7 (dk_at dksX4_log_2 0 rfl rfl)
theorem dX4_log_48 : decode cX4_log 48 = .ok (.iconst (-1), 1) := dk_2 (dk_at dksX4_log_2 3 rfl rfl)
theorem dX4_log_49 : decode cX4_log 49 = .ok (.goto 17, 3) := dk_167 0 17 (dk_at dksX4_log_2 4 rfl rfl)
theorem dX4_log_52 : decode cX4_log 52 = .ok (.aload_n 0, 1) := dk_42 (dk_at dksX4_log_2 7 rfl rfl)
theorem dX4_log_53 : decode cX4_log 53 = .ok (.getfield 27, 3) := dk_180 0 27 (dk_at dksX4_log_2 8 rfl rfl)
theorem dX4_log_56 : decode cX4_log 56 = .ok (.bipush 91, 2) := dk_16 91 (dk_at dksX4_log_2 11 rfl rfl)
theorem dX4_log_58 : decode cX4_log 58 = .ok (.bipush 6, 2) := dk_16 6 (dk_at dksX4_log_2 13 rfl rfl)
theorem dX4_log_60 : decode cX4_log 60 = .ok (.iload_n 1, 1) := dk_27 (dk_at dksX4_log_2 15 rfl rfl)
theorem dX4_log_61 : decode cX4_log 61 = .ok (.imul, 1) := dk_104 (dk_at dksX4_log_2 16 rfl rfl)
theorem dX4_log_62 : decode cX4_log 62 = .ok (.iadd, 1) := dk_96 (dk_at dksX4_log_2 17 rfl rfl)
theorem dX4_log_63 : decode cX4_log 63 = .ok (.iload_n 2, 1) := dk_28 (dk_at dksX4_log_2 18 rfl rfl)
theorem dX4_log_64 : decode cX4_log 64 = .ok (.iadd, 1) := dk_96 (dk_at dksX4_log_2 19 rfl rfl)
theorem dX4_log_65 : decode cX4_log 65 = .ok (.iaload, 1) := dk_46 (dk_at dksX4_log_2 20 rfl rfl)
theorem dX4_log_66 : decode cX4_log 66 = .ok (.ireturn, 1) := dk_172 (dk_at dksX4_log_2 21 rfl rfl)
abbrev cX4_waiting : ByteArray := prog_19_method_88_code
def yX4_waiting : MethodName := ⟨RX4, "waiting", "(I)I"⟩
def dkwX4_waiting_2 : List UInt8 := [29, 120, 167, 0, 4, 3, 128, 61, 132, 3, 1, 167, 255, 219, 28, 172]
abbrev dktX4_waiting_2 : List UInt8 := dkwX4_waiting_2 ++ []
def dkwX4_waiting_1 : List UInt8 := [180, 0, 17, 6, 46, 162, 0, 33, 28, 29, 27, 159, 0, 18, 42, 29, 27, 182, 0, 205, 153, 0, 9, 4]
abbrev dktX4_waiting_1 : List UInt8 := dkwX4_waiting_1 ++ dktX4_waiting_2
def dkwX4_waiting_0 : List UInt8 := [42, 42, 27, 182, 1, 12, 184, 1, 68, 182, 0, 180, 153, 0, 5, 2, 172, 3, 61, 3, 62, 29, 42]
abbrev dktX4_waiting_0 : List UInt8 := dkwX4_waiting_0 ++ dktX4_waiting_1
theorem dksX4_waiting_0 : cX4_waiting.data.toList.drop 0 = dktX4_waiting_0 := by decide +kernel
theorem dksX4_waiting_1 : cX4_waiting.data.toList.drop 23 = dktX4_waiting_1 := dk_seg dksX4_waiting_0 23 rfl rfl
theorem dksX4_waiting_2 : cX4_waiting.data.toList.drop 47 = dktX4_waiting_2 := dk_seg dksX4_waiting_1 24 rfl rfl
theorem dX4_waiting_0 : decode cX4_waiting 0 = .ok (.aload_n 0, 1) := dk_42 (dk_at dksX4_waiting_0 0 rfl rfl)
theorem dX4_waiting_1 : decode cX4_waiting 1 = .ok (.aload_n 0, 1) := dk_42 (dk_at dksX4_waiting_0 1 rfl rfl)
theorem dX4_waiting_2 : decode cX4_waiting 2 = .ok (.iload_n 1, 1) := dk_27 (dk_at dksX4_waiting_0 2 rfl rfl)
theorem dX4_waiting_3 : decode cX4_waiting 3 = .ok (.invokevirtual 268, 3) := dk_182 1 12 (dk_at dksX4_waiting_0 3 rfl rfl)
theorem dX4_waiting_6 : decode cX4_waiting 6 = .ok (.invokestatic 324, 3) := dk_184 1 68 (dk_at dksX4_waiting_0 6 rfl rfl)
theorem dX4_waiting_9 : decode cX4_waiting 9 = .ok (.invokevirtual 180, 3) := dk_182 0 180 (dk_at dksX4_waiting_0 9 rfl rfl)
theorem dX4_waiting_12 : decode cX4_waiting 12 = .ok (.ifCond .eq 5, 3) := dk_153 0 5 (dk_at dksX4_waiting_0 12 rfl rfl)
theorem dX4_waiting_15 : decode cX4_waiting 15 = .ok (.iconst (-1), 1) := dk_2 (dk_at dksX4_waiting_0 15 rfl rfl)
theorem dX4_waiting_16 : decode cX4_waiting 16 = .ok (.ireturn, 1) := dk_172 (dk_at dksX4_waiting_0 16 rfl rfl)
theorem dX4_waiting_17 : decode cX4_waiting 17 = .ok (.iconst 0, 1) := dk_3 (dk_at dksX4_waiting_0 17 rfl rfl)
theorem dX4_waiting_18 : decode cX4_waiting 18 = .ok (.istore_n 2, 1) := dk_61 (dk_at dksX4_waiting_0 18 rfl rfl)
theorem dX4_waiting_19 : decode cX4_waiting 19 = .ok (.iconst 0, 1) := dk_3 (dk_at dksX4_waiting_0 19 rfl rfl)
theorem dX4_waiting_20 : decode cX4_waiting 20 = .ok (.istore_n 3, 1) := dk_62 (dk_at dksX4_waiting_0 20 rfl rfl)
theorem dX4_waiting_21 : decode cX4_waiting 21 = .ok (.iload_n 3, 1) := dk_29 (dk_at dksX4_waiting_0 21 rfl rfl)
theorem dX4_waiting_22 : decode cX4_waiting 22 = .ok (.aload_n 0, 1) := dk_42 (dk_at dksX4_waiting_0 22 rfl rfl)
theorem dX4_waiting_23 : decode cX4_waiting 23 = .ok (.getfield 17, 3) := dk_180 0 17 (dk_at dksX4_waiting_1 0 rfl rfl)
theorem dX4_waiting_26 : decode cX4_waiting 26 = .ok (.iconst 3, 1) := dk_6 (dk_at dksX4_waiting_1 3 rfl rfl)
theorem dX4_waiting_27 : decode cX4_waiting 27 = .ok (.iaload, 1) := dk_46 (dk_at dksX4_waiting_1 4 rfl rfl)
theorem dX4_waiting_28 : decode cX4_waiting 28 = .ok (.if_icmp .ge 33, 3) := dk_162 0 33 (dk_at dksX4_waiting_1 5 rfl rfl)
theorem dX4_waiting_31 : decode cX4_waiting 31 = .ok (.iload_n 2, 1) := dk_28 (dk_at dksX4_waiting_1 8 rfl rfl)
theorem dX4_waiting_32 : decode cX4_waiting 32 = .ok (.iload_n 3, 1) := dk_29 (dk_at dksX4_waiting_1 9 rfl rfl)
theorem dX4_waiting_33 : decode cX4_waiting 33 = .ok (.iload_n 1, 1) := dk_27 (dk_at dksX4_waiting_1 10 rfl rfl)
theorem dX4_waiting_34 : decode cX4_waiting 34 = .ok (.if_icmp .eq 18, 3) := dk_159 0 18 (dk_at dksX4_waiting_1 11 rfl rfl)
theorem dX4_waiting_37 : decode cX4_waiting 37 = .ok (.aload_n 0, 1) := dk_42 (dk_at dksX4_waiting_1 14 rfl rfl)
theorem dX4_waiting_38 : decode cX4_waiting 38 = .ok (.iload_n 3, 1) := dk_29 (dk_at dksX4_waiting_1 15 rfl rfl)
theorem dX4_waiting_39 : decode cX4_waiting 39 = .ok (.iload_n 1, 1) := dk_27 (dk_at dksX4_waiting_1 16 rfl rfl)
theorem dX4_waiting_40 : decode cX4_waiting 40 = .ok (.invokevirtual 205, 3) := dk_182 0 205 (dk_at dksX4_waiting_1 17 rfl rfl)
theorem dX4_waiting_43 : decode cX4_waiting 43 = .ok (.ifCond .eq 9, 3) := dk_153 0 9 (dk_at dksX4_waiting_1 20 rfl rfl)
theorem dX4_waiting_46 : decode cX4_waiting 46 = .ok (.iconst 1, 1) := dk_4 (dk_at dksX4_waiting_1 23 rfl rfl)
theorem dX4_waiting_47 : decode cX4_waiting 47 = .ok (.iload_n 3, 1) := dk_29 (dk_at dksX4_waiting_2 0 rfl rfl)
theorem dX4_waiting_48 : decode cX4_waiting 48 = .ok (.ishl, 1) := dk_120 (dk_at dksX4_waiting_2 1 rfl rfl)
theorem dX4_waiting_49 : decode cX4_waiting 49 = .ok (.goto 4, 3) := dk_167 0 4 (dk_at dksX4_waiting_2 2 rfl rfl)
theorem dX4_waiting_52 : decode cX4_waiting 52 = .ok (.iconst 0, 1) := dk_3 (dk_at dksX4_waiting_2 5 rfl rfl)
theorem dX4_waiting_53 : decode cX4_waiting 53 = .ok (.ior, 1) := dk_128 (dk_at dksX4_waiting_2 6 rfl rfl)
theorem dX4_waiting_54 : decode cX4_waiting 54 = .ok (.istore_n 2, 1) := dk_61 (dk_at dksX4_waiting_2 7 rfl rfl)
theorem dX4_waiting_55 : decode cX4_waiting 55 = .ok (.iinc 3 1, 3) := dk_132 3 1 (dk_at dksX4_waiting_2 8 rfl rfl)
theorem dX4_waiting_58 : decode cX4_waiting 58 = .ok (.goto (-37), 3) := dk_167 255 219 (dk_at dksX4_waiting_2 11 rfl rfl)
theorem dX4_waiting_61 : decode cX4_waiting 61 = .ok (.iload_n 2, 1) := dk_28 (dk_at dksX4_waiting_2 14 rfl rfl)
theorem dX4_waiting_62 : decode cX4_waiting 62 = .ok (.ireturn, 1) := dk_172 (dk_at dksX4_waiting_2 15 rfl rfl)
abbrev cX4_longest : ByteArray := prog_19_method_89_code
def yX4_longest : MethodName := ⟨RX4, "longest", "()I"⟩
def dkwX4_longest_5 : List UInt8 := [172]
abbrev dktX4_longest_5 : List UInt8 := dkwX4_longest_5 ++ []
def dkwX4_longest_4 : List UInt8 := [42, 180, 0, 17, 8, 27, 96, 46, 162, 0, 7, 28, 167, 0, 4, 27, 60, 132, 2, 1, 167, 255, 162, 27]
abbrev dktX4_longest_4 : List UInt8 := dkwX4_longest_4 ++ dktX4_longest_5
def dkwX4_longest_3 : List UInt8 := [28, 4, 184, 0, 201, 46, 100, 62, 29, 157, 0, 26, 29, 154, 0, 26, 42, 180, 0, 17, 8, 28, 96, 46]
abbrev dktX4_longest_3 : List UInt8 := dkwX4_longest_3 ++ dktX4_longest_4
def dkwX4_longest_2 : List UInt8 := [27, 16, 254, 160, 0, 7, 4, 167, 0, 24, 42, 180, 0, 27, 27, 4, 184, 0, 201, 46, 42, 180, 0, 27]
abbrev dktX4_longest_2 : List UInt8 := dkwX4_longest_2 ++ dktX4_longest_3
def dkwX4_longest_1 : List UInt8 := [180, 0, 17, 6, 46, 162, 0, 90, 42, 180, 0, 27, 28, 3, 184, 0, 201, 46, 154, 0, 6, 167, 0, 68]
abbrev dktX4_longest_1 : List UInt8 := dkwX4_longest_1 ++ dktX4_longest_2
def dkwX4_longest_0 : List UInt8 := [42, 42, 180, 0, 192, 184, 1, 68, 182, 0, 180, 153, 0, 5, 2, 172, 16, 254, 60, 3, 61, 28, 42]
abbrev dktX4_longest_0 : List UInt8 := dkwX4_longest_0 ++ dktX4_longest_1
theorem dksX4_longest_0 : cX4_longest.data.toList.drop 0 = dktX4_longest_0 := by decide +kernel
theorem dksX4_longest_1 : cX4_longest.data.toList.drop 23 = dktX4_longest_1 := dk_seg dksX4_longest_0 23 rfl rfl
theorem dksX4_longest_2 : cX4_longest.data.toList.drop 47 = dktX4_longest_2 := dk_seg dksX4_longest_1 24 rfl rfl
theorem dksX4_longest_3 : cX4_longest.data.toList.drop 71 = dktX4_longest_3 := dk_seg dksX4_longest_2 24 rfl rfl
theorem dksX4_longest_4 : cX4_longest.data.toList.drop 95 = dktX4_longest_4 := dk_seg dksX4_longest_3 24 rfl rfl
theorem dksX4_longest_5 : cX4_longest.data.toList.drop 119 = dktX4_longest_5 := dk_seg dksX4_longest_4 24 rfl rfl
theorem dX4_longest_0 : decode cX4_longest 0 = .ok (.aload_n 0, 1) := dk_42 (dk_at dksX4_longest_0 0 rfl rfl)
theorem dX4_longest_1 : decode cX4_longest 1 = .ok (.aload_n 0, 1) := dk_42 (dk_at dksX4_longest_0 1 rfl rfl)
theorem dX4_longest_2 : decode cX4_longest 2 = .ok (.getfield 192, 3) := dk_180 0 192 (dk_at dksX4_longest_0 2 rfl rfl)
theorem dX4_longest_5 : decode cX4_longest 5 = .ok (.invokestatic 324, 3) := dk_184 1 68 (dk_at dksX4_longest_0 5 rfl rfl)
theorem dX4_longest_8 : decode cX4_longest 8 = .ok (.invokevirtual 180, 3) := dk_182 0 180 (dk_at dksX4_longest_0 8 rfl rfl)
theorem dX4_longest_11 : decode cX4_longest 11 = .ok (.ifCond .eq 5, 3) := dk_153 0 5 (dk_at dksX4_longest_0 11 rfl rfl)
theorem dX4_longest_14 : decode cX4_longest 14 = .ok (.iconst (-1), 1) := dk_2 (dk_at dksX4_longest_0 14 rfl rfl)
theorem dX4_longest_15 : decode cX4_longest 15 = .ok (.ireturn, 1) := dk_172 (dk_at dksX4_longest_0 15 rfl rfl)
theorem dX4_longest_16 : decode cX4_longest 16 = .ok (.bipush (-2), 2) := dk_16 254 (dk_at dksX4_longest_0 16 rfl rfl)
theorem dX4_longest_18 : decode cX4_longest 18 = .ok (.istore_n 1, 1) := dk_60 (dk_at dksX4_longest_0 18 rfl rfl)
theorem dX4_longest_19 : decode cX4_longest 19 = .ok (.iconst 0, 1) := dk_3 (dk_at dksX4_longest_0 19 rfl rfl)
theorem dX4_longest_20 : decode cX4_longest 20 = .ok (.istore_n 2, 1) := dk_61 (dk_at dksX4_longest_0 20 rfl rfl)
theorem dX4_longest_21 : decode cX4_longest 21 = .ok (.iload_n 2, 1) := dk_28 (dk_at dksX4_longest_0 21 rfl rfl)
theorem dX4_longest_22 : decode cX4_longest 22 = .ok (.aload_n 0, 1) := dk_42 (dk_at dksX4_longest_0 22 rfl rfl)
theorem dX4_longest_23 : decode cX4_longest 23 = .ok (.getfield 17, 3) := dk_180 0 17 (dk_at dksX4_longest_1 0 rfl rfl)
theorem dX4_longest_26 : decode cX4_longest 26 = .ok (.iconst 3, 1) := dk_6 (dk_at dksX4_longest_1 3 rfl rfl)
theorem dX4_longest_27 : decode cX4_longest 27 = .ok (.iaload, 1) := dk_46 (dk_at dksX4_longest_1 4 rfl rfl)
theorem dX4_longest_28 : decode cX4_longest 28 = .ok (.if_icmp .ge 90, 3) := dk_162 0 90 (dk_at dksX4_longest_1 5 rfl rfl)
theorem dX4_longest_31 : decode cX4_longest 31 = .ok (.aload_n 0, 1) := dk_42 (dk_at dksX4_longest_1 8 rfl rfl)
theorem dX4_longest_32 : decode cX4_longest 32 = .ok (.getfield 27, 3) := dk_180 0 27 (dk_at dksX4_longest_1 9 rfl rfl)
theorem dX4_longest_35 : decode cX4_longest 35 = .ok (.iload_n 2, 1) := dk_28 (dk_at dksX4_longest_1 12 rfl rfl)
theorem dX4_longest_36 : decode cX4_longest 36 = .ok (.iconst 0, 1) := dk_3 (dk_at dksX4_longest_1 13 rfl rfl)
theorem dX4_longest_37 : decode cX4_longest 37 = .ok (.invokestatic 201, 3) := dk_184 0 201 (dk_at dksX4_longest_1 14 rfl rfl)
theorem dX4_longest_40 : decode cX4_longest 40 = .ok (.iaload, 1) := dk_46 (dk_at dksX4_longest_1 17 rfl rfl)
theorem dX4_longest_41 : decode cX4_longest 41 = .ok (.ifCond .ne 6, 3) := dk_154 0 6 (dk_at dksX4_longest_1 18 rfl rfl)
theorem dX4_longest_44 : decode cX4_longest 44 = .ok (.goto 68, 3) := dk_167 0 68 (dk_at dksX4_longest_1 21 rfl rfl)
theorem dX4_longest_47 : decode cX4_longest 47 = .ok (.iload_n 1, 1) := dk_27 (dk_at dksX4_longest_2 0 rfl rfl)
theorem dX4_longest_48 : decode cX4_longest 48 = .ok (.bipush (-2), 2) := dk_16 254 (dk_at dksX4_longest_2 1 rfl rfl)
theorem dX4_longest_50 : decode cX4_longest 50 = .ok (.if_icmp .ne 7, 3) := dk_160 0 7 (dk_at dksX4_longest_2 3 rfl rfl)
theorem dX4_longest_53 : decode cX4_longest 53 = .ok (.iconst 1, 1) := dk_4 (dk_at dksX4_longest_2 6 rfl rfl)
theorem dX4_longest_54 : decode cX4_longest 54 = .ok (.goto 24, 3) := dk_167 0 24 (dk_at dksX4_longest_2 7 rfl rfl)
theorem dX4_longest_57 : decode cX4_longest 57 = .ok (.aload_n 0, 1) := dk_42 (dk_at dksX4_longest_2 10 rfl rfl)
theorem dX4_longest_58 : decode cX4_longest 58 = .ok (.getfield 27, 3) := dk_180 0 27 (dk_at dksX4_longest_2 11 rfl rfl)
theorem dX4_longest_61 : decode cX4_longest 61 = .ok (.iload_n 1, 1) := dk_27 (dk_at dksX4_longest_2 14 rfl rfl)
theorem dX4_longest_62 : decode cX4_longest 62 = .ok (.iconst 1, 1) := dk_4 (dk_at dksX4_longest_2 15 rfl rfl)
theorem dX4_longest_63 : decode cX4_longest 63 = .ok (.invokestatic 201, 3) := dk_184 0 201 (dk_at dksX4_longest_2 16 rfl rfl)
theorem dX4_longest_66 : decode cX4_longest 66 = .ok (.iaload, 1) := dk_46 (dk_at dksX4_longest_2 19 rfl rfl)
theorem dX4_longest_67 : decode cX4_longest 67 = .ok (.aload_n 0, 1) := dk_42 (dk_at dksX4_longest_2 20 rfl rfl)
theorem dX4_longest_68 : decode cX4_longest 68 = .ok (.getfield 27, 3) := dk_180 0 27 (dk_at dksX4_longest_2 21 rfl rfl)
theorem dX4_longest_71 : decode cX4_longest 71 = .ok (.iload_n 2, 1) := dk_28 (dk_at dksX4_longest_3 0 rfl rfl)
theorem dX4_longest_72 : decode cX4_longest 72 = .ok (.iconst 1, 1) := dk_4 (dk_at dksX4_longest_3 1 rfl rfl)
theorem dX4_longest_73 : decode cX4_longest 73 = .ok (.invokestatic 201, 3) := dk_184 0 201 (dk_at dksX4_longest_3 2 rfl rfl)
theorem dX4_longest_76 : decode cX4_longest 76 = .ok (.iaload, 1) := dk_46 (dk_at dksX4_longest_3 5 rfl rfl)
theorem dX4_longest_77 : decode cX4_longest 77 = .ok (.isub, 1) := dk_100 (dk_at dksX4_longest_3 6 rfl rfl)
theorem dX4_longest_78 : decode cX4_longest 78 = .ok (.istore_n 3, 1) := dk_62 (dk_at dksX4_longest_3 7 rfl rfl)
theorem dX4_longest_79 : decode cX4_longest 79 = .ok (.iload_n 3, 1) := dk_29 (dk_at dksX4_longest_3 8 rfl rfl)
theorem dX4_longest_80 : decode cX4_longest 80 = .ok (.ifCond .gt 26, 3) := dk_157 0 26 (dk_at dksX4_longest_3 9 rfl rfl)
theorem dX4_longest_83 : decode cX4_longest 83 = .ok (.iload_n 3, 1) := dk_29 (dk_at dksX4_longest_3 12 rfl rfl)
theorem dX4_longest_84 : decode cX4_longest 84 = .ok (.ifCond .ne 26, 3) := dk_154 0 26 (dk_at dksX4_longest_3 13 rfl rfl)
theorem dX4_longest_87 : decode cX4_longest 87 = .ok (.aload_n 0, 1) := dk_42 (dk_at dksX4_longest_3 16 rfl rfl)
theorem dX4_longest_88 : decode cX4_longest 88 = .ok (.getfield 17, 3) := dk_180 0 17 (dk_at dksX4_longest_3 17 rfl rfl)
theorem dX4_longest_91 : decode cX4_longest 91 = .ok (.iconst 5, 1) := dk_8 (dk_at dksX4_longest_3 20 rfl rfl)
theorem dX4_longest_92 : decode cX4_longest 92 = .ok (.iload_n 2, 1) := dk_28 (dk_at dksX4_longest_3 21 rfl rfl)
theorem dX4_longest_93 : decode cX4_longest 93 = .ok (.iadd, 1) := dk_96 (dk_at dksX4_longest_3 22 rfl rfl)
theorem dX4_longest_94 : decode cX4_longest 94 = .ok (.iaload, 1) := dk_46 (dk_at dksX4_longest_3 23 rfl rfl)
theorem dX4_longest_95 : decode cX4_longest 95 = .ok (.aload_n 0, 1) := dk_42 (dk_at dksX4_longest_4 0 rfl rfl)
theorem dX4_longest_96 : decode cX4_longest 96 = .ok (.getfield 17, 3) := dk_180 0 17 (dk_at dksX4_longest_4 1 rfl rfl)
theorem dX4_longest_99 : decode cX4_longest 99 = .ok (.iconst 5, 1) := dk_8 (dk_at dksX4_longest_4 4 rfl rfl)
theorem dX4_longest_100 : decode cX4_longest 100 = .ok (.iload_n 1, 1) := dk_27 (dk_at dksX4_longest_4 5 rfl rfl)
theorem dX4_longest_101 : decode cX4_longest 101 = .ok (.iadd, 1) := dk_96 (dk_at dksX4_longest_4 6 rfl rfl)
theorem dX4_longest_102 : decode cX4_longest 102 = .ok (.iaload, 1) := dk_46 (dk_at dksX4_longest_4 7 rfl rfl)
theorem dX4_longest_103 : decode cX4_longest 103 = .ok (.if_icmp .ge 7, 3) := dk_162 0 7 (dk_at dksX4_longest_4 8 rfl rfl)
theorem dX4_longest_106 : decode cX4_longest 106 = .ok (.iload_n 2, 1) := dk_28 (dk_at dksX4_longest_4 11 rfl rfl)
theorem dX4_longest_107 : decode cX4_longest 107 = .ok (.goto 4, 3) := dk_167 0 4 (dk_at dksX4_longest_4 12 rfl rfl)
theorem dX4_longest_110 : decode cX4_longest 110 = .ok (.iload_n 1, 1) := dk_27 (dk_at dksX4_longest_4 15 rfl rfl)
theorem dX4_longest_111 : decode cX4_longest 111 = .ok (.istore_n 1, 1) := dk_60 (dk_at dksX4_longest_4 16 rfl rfl)
theorem dX4_longest_112 : decode cX4_longest 112 = .ok (.iinc 2 1, 3) := dk_132 2 1 (dk_at dksX4_longest_4 17 rfl rfl)
theorem dX4_longest_115 : decode cX4_longest 115 = .ok (.goto (-94), 3) := dk_167 255 162 (dk_at dksX4_longest_4 20 rfl rfl)
theorem dX4_longest_118 : decode cX4_longest 118 = .ok (.iload_n 1, 1) := dk_27 (dk_at dksX4_longest_4 23 rfl rfl)
theorem dX4_longest_119 : decode cX4_longest 119 = .ok (.ireturn, 1) := dk_172 (dk_at dksX4_longest_5 0 rfl rfl)
abbrev cX4_will : ByteArray := prog_19_method_90_code
def yX4_will : MethodName := ⟨RX4, "will", "(II)I"⟩
def dkwX4_will_3 : List UInt8 := [182, 1, 72, 62, 42, 182, 1, 81, 29, 172]
abbrev dktX4_will_3 : List UInt8 := dkwX4_will_3 ++ []
def dkwX4_will_2 : List UInt8 := [182, 1, 75, 3, 62, 29, 27, 162, 0, 13, 42, 182, 1, 78, 132, 3, 1, 167, 255, 244, 42, 28]
abbrev dktX4_will_2 : List UInt8 := dkwX4_will_2 ++ dktX4_will_3
def dkwX4_will_1 : List UInt8 := [17, 3, 231, 184, 0, 83, 153, 0, 7, 3, 167, 0, 4, 5, 182, 0, 180, 153, 0, 5, 2, 172, 42]
abbrev dktX4_will_1 : List UInt8 := dkwX4_will_1 ++ dktX4_will_2
def dkwX4_will_0 : List UInt8 := [42, 42, 180, 0, 192, 153, 0, 13, 28, 3, 16, 10, 184, 0, 83, 154, 0, 7, 4, 167, 0, 19, 27, 4]
abbrev dktX4_will_0 : List UInt8 := dkwX4_will_0 ++ dktX4_will_1
theorem dksX4_will_0 : cX4_will.data.toList.drop 0 = dktX4_will_0 := by decide +kernel
theorem dksX4_will_1 : cX4_will.data.toList.drop 24 = dktX4_will_1 := dk_seg dksX4_will_0 24 rfl rfl
theorem dksX4_will_2 : cX4_will.data.toList.drop 47 = dktX4_will_2 := dk_seg dksX4_will_1 23 rfl rfl
theorem dksX4_will_3 : cX4_will.data.toList.drop 69 = dktX4_will_3 := dk_seg dksX4_will_2 22 rfl rfl
theorem dX4_will_0 : decode cX4_will 0 = .ok (.aload_n 0, 1) := dk_42 (dk_at dksX4_will_0 0 rfl rfl)
theorem dX4_will_1 : decode cX4_will 1 = .ok (.aload_n 0, 1) := dk_42 (dk_at dksX4_will_0 1 rfl rfl)
theorem dX4_will_2 : decode cX4_will 2 = .ok (.getfield 192, 3) := dk_180 0 192 (dk_at dksX4_will_0 2 rfl rfl)
theorem dX4_will_5 : decode cX4_will 5 = .ok (.ifCond .eq 13, 3) := dk_153 0 13 (dk_at dksX4_will_0 5 rfl rfl)
theorem dX4_will_8 : decode cX4_will 8 = .ok (.iload_n 2, 1) := dk_28 (dk_at dksX4_will_0 8 rfl rfl)
theorem dX4_will_9 : decode cX4_will 9 = .ok (.iconst 0, 1) := dk_3 (dk_at dksX4_will_0 9 rfl rfl)
theorem dX4_will_10 : decode cX4_will 10 = .ok (.bipush 10, 2) := dk_16 10 (dk_at dksX4_will_0 10 rfl rfl)
theorem dX4_will_12 : decode cX4_will 12 = .ok (.invokestatic 83, 3) := dk_184 0 83 (dk_at dksX4_will_0 12 rfl rfl)
theorem dX4_will_15 : decode cX4_will 15 = .ok (.ifCond .ne 7, 3) := dk_154 0 7 (dk_at dksX4_will_0 15 rfl rfl)
theorem dX4_will_18 : decode cX4_will 18 = .ok (.iconst 1, 1) := dk_4 (dk_at dksX4_will_0 18 rfl rfl)
theorem dX4_will_19 : decode cX4_will 19 = .ok (.goto 19, 3) := dk_167 0 19 (dk_at dksX4_will_0 19 rfl rfl)
theorem dX4_will_22 : decode cX4_will 22 = .ok (.iload_n 1, 1) := dk_27 (dk_at dksX4_will_0 22 rfl rfl)
theorem dX4_will_23 : decode cX4_will 23 = .ok (.iconst 1, 1) := dk_4 (dk_at dksX4_will_0 23 rfl rfl)
theorem dX4_will_24 : decode cX4_will 24 = .ok (.sipush 999, 3) := dk_17 3 231 (dk_at dksX4_will_1 0 rfl rfl)
theorem dX4_will_27 : decode cX4_will 27 = .ok (.invokestatic 83, 3) := dk_184 0 83 (dk_at dksX4_will_1 3 rfl rfl)
theorem dX4_will_30 : decode cX4_will 30 = .ok (.ifCond .eq 7, 3) := dk_153 0 7 (dk_at dksX4_will_1 6 rfl rfl)
theorem dX4_will_33 : decode cX4_will 33 = .ok (.iconst 0, 1) := dk_3 (dk_at dksX4_will_1 9 rfl rfl)
theorem dX4_will_34 : decode cX4_will 34 = .ok (.goto 4, 3) := dk_167 0 4 (dk_at dksX4_will_1 10 rfl rfl)
theorem dX4_will_37 : decode cX4_will 37 = .ok (.iconst 2, 1) := dk_5 (dk_at dksX4_will_1 13 rfl rfl)
theorem dX4_will_38 : decode cX4_will 38 = .ok (.invokevirtual 180, 3) := dk_182 0 180 (dk_at dksX4_will_1 14 rfl rfl)
theorem dX4_will_41 : decode cX4_will 41 = .ok (.ifCond .eq 5, 3) := dk_153 0 5 (dk_at dksX4_will_1 17 rfl rfl)
theorem dX4_will_44 : decode cX4_will 44 = .ok (.iconst (-1), 1) := dk_2 (dk_at dksX4_will_1 20 rfl rfl)
theorem dX4_will_45 : decode cX4_will 45 = .ok (.ireturn, 1) := dk_172 (dk_at dksX4_will_1 21 rfl rfl)
theorem dX4_will_46 : decode cX4_will 46 = .ok (.aload_n 0, 1) := dk_42 (dk_at dksX4_will_1 22 rfl rfl)
theorem dX4_will_47 : decode cX4_will 47 = .ok (.invokevirtual 331, 3) := dk_182 1 75 (dk_at dksX4_will_2 0 rfl rfl)
theorem dX4_will_50 : decode cX4_will 50 = .ok (.iconst 0, 1) := dk_3 (dk_at dksX4_will_2 3 rfl rfl)
theorem dX4_will_51 : decode cX4_will 51 = .ok (.istore_n 3, 1) := dk_62 (dk_at dksX4_will_2 4 rfl rfl)
theorem dX4_will_52 : decode cX4_will 52 = .ok (.iload_n 3, 1) := dk_29 (dk_at dksX4_will_2 5 rfl rfl)
theorem dX4_will_53 : decode cX4_will 53 = .ok (.iload_n 1, 1) := dk_27 (dk_at dksX4_will_2 6 rfl rfl)
theorem dX4_will_54 : decode cX4_will 54 = .ok (.if_icmp .ge 13, 3) := dk_162 0 13 (dk_at dksX4_will_2 7 rfl rfl)
theorem dX4_will_57 : decode cX4_will 57 = .ok (.aload_n 0, 1) := dk_42 (dk_at dksX4_will_2 10 rfl rfl)
theorem dX4_will_58 : decode cX4_will 58 = .ok (.invokevirtual 334, 3) := dk_182 1 78 (dk_at dksX4_will_2 11 rfl rfl)
theorem dX4_will_61 : decode cX4_will 61 = .ok (.iinc 3 1, 3) := dk_132 3 1 (dk_at dksX4_will_2 14 rfl rfl)
theorem dX4_will_64 : decode cX4_will 64 = .ok (.goto (-12), 3) := dk_167 255 244 (dk_at dksX4_will_2 17 rfl rfl)
theorem dX4_will_67 : decode cX4_will 67 = .ok (.aload_n 0, 1) := dk_42 (dk_at dksX4_will_2 20 rfl rfl)
theorem dX4_will_68 : decode cX4_will 68 = .ok (.iload_n 2, 1) := dk_28 (dk_at dksX4_will_2 21 rfl rfl)
theorem dX4_will_69 : decode cX4_will 69 = .ok (.invokevirtual 328, 3) := dk_182 1 72 (dk_at dksX4_will_3 0 rfl rfl)
theorem dX4_will_72 : decode cX4_will 72 = .ok (.istore_n 3, 1) := dk_62 (dk_at dksX4_will_3 3 rfl rfl)
theorem dX4_will_73 : decode cX4_will 73 = .ok (.aload_n 0, 1) := dk_42 (dk_at dksX4_will_3 4 rfl rfl)
theorem dX4_will_74 : decode cX4_will 74 = .ok (.invokevirtual 337, 3) := dk_182 1 81 (dk_at dksX4_will_3 5 rfl rfl)
theorem dX4_will_77 : decode cX4_will 77 = .ok (.iload_n 3, 1) := dk_29 (dk_at dksX4_will_3 8 rfl rfl)
theorem dX4_will_78 : decode cX4_will 78 = .ok (.ireturn, 1) := dk_172 (dk_at dksX4_will_3 9 rfl rfl)
abbrev cX4_laysAside : ByteArray := prog_19_method_80_code
def yX4_laysAside : MethodName := ⟨RX4, "laysAside", "()V"⟩
def dkwX4_laysAside_1 : List UInt8 := [167, 255, 234, 177]
abbrev dktX4_laysAside_1 : List UInt8 := dkwX4_laysAside_1 ++ []
def dkwX4_laysAside_0 : List UInt8 := [3, 60, 27, 17, 0, 251, 162, 0, 21, 42, 180, 0, 30, 27, 42, 180, 0, 27, 27, 46, 79, 132, 1, 1]
abbrev dktX4_laysAside_0 : List UInt8 := dkwX4_laysAside_0 ++ dktX4_laysAside_1
theorem dksX4_laysAside_0 : cX4_laysAside.data.toList.drop 0 = dktX4_laysAside_0 := by decide +kernel
theorem dksX4_laysAside_1 : cX4_laysAside.data.toList.drop 24 = dktX4_laysAside_1 := dk_seg dksX4_laysAside_0 24 rfl rfl
theorem dX4_laysAside_0 : decode cX4_laysAside 0 = .ok (.iconst 0, 1) := dk_3 (dk_at dksX4_laysAside_0 0 rfl rfl)
theorem dX4_laysAside_1 : decode cX4_laysAside 1 = .ok (.istore_n 1, 1) := dk_60 (dk_at dksX4_laysAside_0 1 rfl rfl)
theorem dX4_laysAside_2 : decode cX4_laysAside 2 = .ok (.iload_n 1, 1) := dk_27 (dk_at dksX4_laysAside_0 2 rfl rfl)
theorem dX4_laysAside_3 : decode cX4_laysAside 3 = .ok (.sipush 251, 3) := dk_17 0 251 (dk_at dksX4_laysAside_0 3 rfl rfl)
theorem dX4_laysAside_6 : decode cX4_laysAside 6 = .ok (.if_icmp .ge 21, 3) := dk_162 0 21 (dk_at dksX4_laysAside_0 6 rfl rfl)
theorem dX4_laysAside_9 : decode cX4_laysAside 9 = .ok (.aload_n 0, 1) := dk_42 (dk_at dksX4_laysAside_0 9 rfl rfl)
theorem dX4_laysAside_10 : decode cX4_laysAside 10 = .ok (.getfield 30, 3) := dk_180 0 30 (dk_at dksX4_laysAside_0 10 rfl rfl)
theorem dX4_laysAside_13 : decode cX4_laysAside 13 = .ok (.iload_n 1, 1) := dk_27 (dk_at dksX4_laysAside_0 13 rfl rfl)
theorem dX4_laysAside_14 : decode cX4_laysAside 14 = .ok (.aload_n 0, 1) := dk_42 (dk_at dksX4_laysAside_0 14 rfl rfl)
theorem dX4_laysAside_15 : decode cX4_laysAside 15 = .ok (.getfield 27, 3) := dk_180 0 27 (dk_at dksX4_laysAside_0 15 rfl rfl)
theorem dX4_laysAside_18 : decode cX4_laysAside 18 = .ok (.iload_n 1, 1) := dk_27 (dk_at dksX4_laysAside_0 18 rfl rfl)
theorem dX4_laysAside_19 : decode cX4_laysAside 19 = .ok (.iaload, 1) := dk_46 (dk_at dksX4_laysAside_0 19 rfl rfl)
theorem dX4_laysAside_20 : decode cX4_laysAside 20 = .ok (.iastore, 1) := dk_79 (dk_at dksX4_laysAside_0 20 rfl rfl)
theorem dX4_laysAside_21 : decode cX4_laysAside 21 = .ok (.iinc 1 1, 3) := dk_132 1 1 (dk_at dksX4_laysAside_0 21 rfl rfl)
theorem dX4_laysAside_24 : decode cX4_laysAside 24 = .ok (.goto (-22), 3) := dk_167 255 234 (dk_at dksX4_laysAside_1 0 rfl rfl)
theorem dX4_laysAside_27 : decode cX4_laysAside 27 = .ok (.return_, 1) := dk_177 (dk_at dksX4_laysAside_1 3 rfl rfl)
abbrev cX4_tick : ByteArray := prog_19_method_79_code
def yX4_tick : MethodName := ⟨RX4, "tick", "()V"⟩
def dkwX4_tick_11 : List UInt8 := [180, 0, 27, 3, 46, 16, 64, 112, 96, 42, 180, 0, 27, 4, 46, 79, 177]
abbrev dktX4_tick_11 : List UInt8 := dkwX4_tick_11 ++ []
def dkwX4_tick_10 : List UInt8 := [180, 0, 27, 4, 46, 16, 7, 184, 0, 201, 92, 46, 4, 96, 79, 42, 180, 0, 27, 17, 0, 187, 42]
abbrev dktX4_tick_10 : List UInt8 := dkwX4_tick_10 ++ dktX4_tick_11
def dkwX4_tick_9 : List UInt8 := [153, 0, 7, 42, 182, 1, 65, 42, 180, 0, 27, 4, 46, 16, 254, 159, 0, 23, 42, 180, 0, 27, 42]
abbrev dktX4_tick_9 : List UInt8 := dkwX4_tick_9 ++ dktX4_tick_10
def dkwX4_tick_8 : List UInt8 := [160, 0, 7, 42, 182, 1, 59, 42, 180, 0, 27, 7, 46, 16, 254, 160, 0, 14, 42, 182, 1, 62]
abbrev dktX4_tick_8 : List UInt8 := dkwX4_tick_8 ++ dktX4_tick_9
def dkwX4_tick_7 : List UInt8 := [160, 0, 29, 42, 180, 0, 27, 6, 46, 16, 254, 159, 0, 18, 42, 180, 0, 27, 7, 46, 16, 254]
abbrev dktX4_tick_7 : List UInt8 := dkwX4_tick_7 ++ dktX4_tick_8
def dkwX4_tick_6 : List UInt8 := [46, 42, 180, 0, 27, 3, 46, 160, 0, 7, 42, 182, 1, 56, 42, 180, 0, 27, 4, 46, 16, 254]
abbrev dktX4_tick_6 : List UInt8 := dkwX4_tick_6 ++ dktX4_tick_7
def dkwX4_tick_5 : List UInt8 := [160, 0, 19, 42, 180, 0, 27, 4, 16, 254, 79, 42, 180, 0, 27, 5, 16, 254, 79, 42, 180, 0, 27, 7]
abbrev dktX4_tick_5 : List UInt8 := dkwX4_tick_5 ++ dktX4_tick_6
def dkwX4_tick_4 : List UInt8 := [42, 180, 0, 27, 4, 46, 16, 254, 159, 0, 34, 42, 180, 0, 27, 5, 46, 42, 180, 0, 27, 3, 46]
abbrev dktX4_tick_4 : List UInt8 := dkwX4_tick_4 ++ dktX4_tick_5
def dkwX4_tick_3 : List UInt8 := [180, 0, 17, 16, 35, 27, 96, 46, 42, 180, 0, 17, 16, 47, 27, 96, 46, 182, 1, 53, 61, 167, 255, 174]
abbrev dktX4_tick_3 : List UInt8 := dkwX4_tick_3 ++ dktX4_tick_4
def dkwX4_tick_2 : List UInt8 := [160, 0, 48, 42, 180, 0, 27, 16, 11, 46, 60, 42, 180, 0, 27, 16, 11, 92, 46, 4, 96, 79, 42, 42]
abbrev dktX4_tick_2 : List UInt8 := dkwX4_tick_2 ++ dktX4_tick_3
def dkwX4_tick_1 : List UInt8 := [162, 0, 72, 42, 180, 0, 17, 16, 23, 42, 180, 0, 27, 16, 11, 46, 96, 46, 42, 180, 0, 27, 3, 46]
abbrev dktX4_tick_1 : List UInt8 := dkwX4_tick_1 ++ dktX4_tick_2
def dkwX4_tick_0 : List UInt8 := [42, 180, 0, 27, 3, 92, 46, 4, 96, 79, 42, 180, 0, 27, 16, 11, 46, 42, 180, 0, 17, 7, 46]
abbrev dktX4_tick_0 : List UInt8 := dkwX4_tick_0 ++ dktX4_tick_1
theorem dksX4_tick_0 : cX4_tick.data.toList.drop 0 = dktX4_tick_0 := by decide +kernel
theorem dksX4_tick_1 : cX4_tick.data.toList.drop 23 = dktX4_tick_1 := dk_seg dksX4_tick_0 23 rfl rfl
theorem dksX4_tick_2 : cX4_tick.data.toList.drop 47 = dktX4_tick_2 := dk_seg dksX4_tick_1 24 rfl rfl
theorem dksX4_tick_3 : cX4_tick.data.toList.drop 71 = dktX4_tick_3 := dk_seg dksX4_tick_2 24 rfl rfl
theorem dksX4_tick_4 : cX4_tick.data.toList.drop 95 = dktX4_tick_4 := dk_seg dksX4_tick_3 24 rfl rfl
theorem dksX4_tick_5 : cX4_tick.data.toList.drop 118 = dktX4_tick_5 := dk_seg dksX4_tick_4 23 rfl rfl
theorem dksX4_tick_6 : cX4_tick.data.toList.drop 142 = dktX4_tick_6 := dk_seg dksX4_tick_5 24 rfl rfl
theorem dksX4_tick_7 : cX4_tick.data.toList.drop 164 = dktX4_tick_7 := dk_seg dksX4_tick_6 22 rfl rfl
theorem dksX4_tick_8 : cX4_tick.data.toList.drop 186 = dktX4_tick_8 := dk_seg dksX4_tick_7 22 rfl rfl
theorem dksX4_tick_9 : cX4_tick.data.toList.drop 208 = dktX4_tick_9 := dk_seg dksX4_tick_8 22 rfl rfl
theorem dksX4_tick_10 : cX4_tick.data.toList.drop 231 = dktX4_tick_10 := dk_seg dksX4_tick_9 23 rfl rfl
theorem dksX4_tick_11 : cX4_tick.data.toList.drop 254 = dktX4_tick_11 := dk_seg dksX4_tick_10 23 rfl rfl
theorem dX4_tick_0 : decode cX4_tick 0 = .ok (.aload_n 0, 1) := dk_42 (dk_at dksX4_tick_0 0 rfl rfl)
theorem dX4_tick_1 : decode cX4_tick 1 = .ok (.getfield 27, 3) := dk_180 0 27 (dk_at dksX4_tick_0 1 rfl rfl)
theorem dX4_tick_4 : decode cX4_tick 4 = .ok (.iconst 0, 1) := dk_3 (dk_at dksX4_tick_0 4 rfl rfl)
theorem dX4_tick_5 : decode cX4_tick 5 = .ok (.dup2, 1) := dk_92 (dk_at dksX4_tick_0 5 rfl rfl)
theorem dX4_tick_6 : decode cX4_tick 6 = .ok (.iaload, 1) := dk_46 (dk_at dksX4_tick_0 6 rfl rfl)
theorem dX4_tick_7 : decode cX4_tick 7 = .ok (.iconst 1, 1) := dk_4 (dk_at dksX4_tick_0 7 rfl rfl)
theorem dX4_tick_8 : decode cX4_tick 8 = .ok (.iadd, 1) := dk_96 (dk_at dksX4_tick_0 8 rfl rfl)
theorem dX4_tick_9 : decode cX4_tick 9 = .ok (.iastore, 1) := dk_79 (dk_at dksX4_tick_0 9 rfl rfl)
theorem dX4_tick_10 : decode cX4_tick 10 = .ok (.aload_n 0, 1) := dk_42 (dk_at dksX4_tick_0 10 rfl rfl)
theorem dX4_tick_11 : decode cX4_tick 11 = .ok (.getfield 27, 3) := dk_180 0 27 (dk_at dksX4_tick_0 11 rfl rfl)
theorem dX4_tick_14 : decode cX4_tick 14 = .ok (.bipush 11, 2) := dk_16 11 (dk_at dksX4_tick_0 14 rfl rfl)
theorem dX4_tick_16 : decode cX4_tick 16 = .ok (.iaload, 1) := dk_46 (dk_at dksX4_tick_0 16 rfl rfl)
theorem dX4_tick_17 : decode cX4_tick 17 = .ok (.aload_n 0, 1) := dk_42 (dk_at dksX4_tick_0 17 rfl rfl)
theorem dX4_tick_18 : decode cX4_tick 18 = .ok (.getfield 17, 3) := dk_180 0 17 (dk_at dksX4_tick_0 18 rfl rfl)
theorem dX4_tick_21 : decode cX4_tick 21 = .ok (.iconst 4, 1) := dk_7 (dk_at dksX4_tick_0 21 rfl rfl)
theorem dX4_tick_22 : decode cX4_tick 22 = .ok (.iaload, 1) := dk_46 (dk_at dksX4_tick_0 22 rfl rfl)
theorem dX4_tick_23 : decode cX4_tick 23 = .ok (.if_icmp .ge 72, 3) := dk_162 0 72 (dk_at dksX4_tick_1 0 rfl rfl)
theorem dX4_tick_26 : decode cX4_tick 26 = .ok (.aload_n 0, 1) := dk_42 (dk_at dksX4_tick_1 3 rfl rfl)
theorem dX4_tick_27 : decode cX4_tick 27 = .ok (.getfield 17, 3) := dk_180 0 17 (dk_at dksX4_tick_1 4 rfl rfl)
theorem dX4_tick_30 : decode cX4_tick 30 = .ok (.bipush 23, 2) := dk_16 23 (dk_at dksX4_tick_1 7 rfl rfl)
theorem dX4_tick_32 : decode cX4_tick 32 = .ok (.aload_n 0, 1) := dk_42 (dk_at dksX4_tick_1 9 rfl rfl)
theorem dX4_tick_33 : decode cX4_tick 33 = .ok (.getfield 27, 3) := dk_180 0 27 (dk_at dksX4_tick_1 10 rfl rfl)
theorem dX4_tick_36 : decode cX4_tick 36 = .ok (.bipush 11, 2) := dk_16 11 (dk_at dksX4_tick_1 13 rfl rfl)
theorem dX4_tick_38 : decode cX4_tick 38 = .ok (.iaload, 1) := dk_46 (dk_at dksX4_tick_1 15 rfl rfl)
theorem dX4_tick_39 : decode cX4_tick 39 = .ok (.iadd, 1) := dk_96 (dk_at dksX4_tick_1 16 rfl rfl)
theorem dX4_tick_40 : decode cX4_tick 40 = .ok (.iaload, 1) := dk_46 (dk_at dksX4_tick_1 17 rfl rfl)
theorem dX4_tick_41 : decode cX4_tick 41 = .ok (.aload_n 0, 1) := dk_42 (dk_at dksX4_tick_1 18 rfl rfl)
theorem dX4_tick_42 : decode cX4_tick 42 = .ok (.getfield 27, 3) := dk_180 0 27 (dk_at dksX4_tick_1 19 rfl rfl)
theorem dX4_tick_45 : decode cX4_tick 45 = .ok (.iconst 0, 1) := dk_3 (dk_at dksX4_tick_1 22 rfl rfl)
theorem dX4_tick_46 : decode cX4_tick 46 = .ok (.iaload, 1) := dk_46 (dk_at dksX4_tick_1 23 rfl rfl)
theorem dX4_tick_47 : decode cX4_tick 47 = .ok (.if_icmp .ne 48, 3) := dk_160 0 48 (dk_at dksX4_tick_2 0 rfl rfl)
theorem dX4_tick_50 : decode cX4_tick 50 = .ok (.aload_n 0, 1) := dk_42 (dk_at dksX4_tick_2 3 rfl rfl)
theorem dX4_tick_51 : decode cX4_tick 51 = .ok (.getfield 27, 3) := dk_180 0 27 (dk_at dksX4_tick_2 4 rfl rfl)
theorem dX4_tick_54 : decode cX4_tick 54 = .ok (.bipush 11, 2) := dk_16 11 (dk_at dksX4_tick_2 7 rfl rfl)
theorem dX4_tick_56 : decode cX4_tick 56 = .ok (.iaload, 1) := dk_46 (dk_at dksX4_tick_2 9 rfl rfl)
theorem dX4_tick_57 : decode cX4_tick 57 = .ok (.istore_n 1, 1) := dk_60 (dk_at dksX4_tick_2 10 rfl rfl)
theorem dX4_tick_58 : decode cX4_tick 58 = .ok (.aload_n 0, 1) := dk_42 (dk_at dksX4_tick_2 11 rfl rfl)
theorem dX4_tick_59 : decode cX4_tick 59 = .ok (.getfield 27, 3) := dk_180 0 27 (dk_at dksX4_tick_2 12 rfl rfl)
theorem dX4_tick_62 : decode cX4_tick 62 = .ok (.bipush 11, 2) := dk_16 11 (dk_at dksX4_tick_2 15 rfl rfl)
theorem dX4_tick_64 : decode cX4_tick 64 = .ok (.dup2, 1) := dk_92 (dk_at dksX4_tick_2 17 rfl rfl)
theorem dX4_tick_65 : decode cX4_tick 65 = .ok (.iaload, 1) := dk_46 (dk_at dksX4_tick_2 18 rfl rfl)
theorem dX4_tick_66 : decode cX4_tick 66 = .ok (.iconst 1, 1) := dk_4 (dk_at dksX4_tick_2 19 rfl rfl)
theorem dX4_tick_67 : decode cX4_tick 67 = .ok (.iadd, 1) := dk_96 (dk_at dksX4_tick_2 20 rfl rfl)
theorem dX4_tick_68 : decode cX4_tick 68 = .ok (.iastore, 1) := dk_79 (dk_at dksX4_tick_2 21 rfl rfl)
theorem dX4_tick_69 : decode cX4_tick 69 = .ok (.aload_n 0, 1) := dk_42 (dk_at dksX4_tick_2 22 rfl rfl)
theorem dX4_tick_70 : decode cX4_tick 70 = .ok (.aload_n 0, 1) := dk_42 (dk_at dksX4_tick_2 23 rfl rfl)
theorem dX4_tick_71 : decode cX4_tick 71 = .ok (.getfield 17, 3) := dk_180 0 17 (dk_at dksX4_tick_3 0 rfl rfl)
theorem dX4_tick_74 : decode cX4_tick 74 = .ok (.bipush 35, 2) := dk_16 35 (dk_at dksX4_tick_3 3 rfl rfl)
theorem dX4_tick_76 : decode cX4_tick 76 = .ok (.iload_n 1, 1) := dk_27 (dk_at dksX4_tick_3 5 rfl rfl)
theorem dX4_tick_77 : decode cX4_tick 77 = .ok (.iadd, 1) := dk_96 (dk_at dksX4_tick_3 6 rfl rfl)
theorem dX4_tick_78 : decode cX4_tick 78 = .ok (.iaload, 1) := dk_46 (dk_at dksX4_tick_3 7 rfl rfl)
theorem dX4_tick_79 : decode cX4_tick 79 = .ok (.aload_n 0, 1) := dk_42 (dk_at dksX4_tick_3 8 rfl rfl)
theorem dX4_tick_80 : decode cX4_tick 80 = .ok (.getfield 17, 3) := dk_180 0 17 (dk_at dksX4_tick_3 9 rfl rfl)
theorem dX4_tick_83 : decode cX4_tick 83 = .ok (.bipush 47, 2) := dk_16 47 (dk_at dksX4_tick_3 12 rfl rfl)
theorem dX4_tick_85 : decode cX4_tick 85 = .ok (.iload_n 1, 1) := dk_27 (dk_at dksX4_tick_3 14 rfl rfl)
theorem dX4_tick_86 : decode cX4_tick 86 = .ok (.iadd, 1) := dk_96 (dk_at dksX4_tick_3 15 rfl rfl)
theorem dX4_tick_87 : decode cX4_tick 87 = .ok (.iaload, 1) := dk_46 (dk_at dksX4_tick_3 16 rfl rfl)
theorem dX4_tick_88 : decode cX4_tick 88 = .ok (.invokevirtual 309, 3) := dk_182 1 53 (dk_at dksX4_tick_3 17 rfl rfl)
theorem dX4_tick_91 : decode cX4_tick 91 = .ok (.istore_n 2, 1) := dk_61 (dk_at dksX4_tick_3 20 rfl rfl)
theorem dX4_tick_92 : decode cX4_tick 92 = .ok (.goto (-82), 3) := dk_167 255 174 (dk_at dksX4_tick_3 21 rfl rfl)
theorem dX4_tick_95 : decode cX4_tick 95 = .ok (.aload_n 0, 1) := dk_42 (dk_at dksX4_tick_4 0 rfl rfl)
theorem dX4_tick_96 : decode cX4_tick 96 = .ok (.getfield 27, 3) := dk_180 0 27 (dk_at dksX4_tick_4 1 rfl rfl)
theorem dX4_tick_99 : decode cX4_tick 99 = .ok (.iconst 1, 1) := dk_4 (dk_at dksX4_tick_4 4 rfl rfl)
theorem dX4_tick_100 : decode cX4_tick 100 = .ok (.iaload, 1) := dk_46 (dk_at dksX4_tick_4 5 rfl rfl)
theorem dX4_tick_101 : decode cX4_tick 101 = .ok (.bipush (-2), 2) := dk_16 254 (dk_at dksX4_tick_4 6 rfl rfl)
theorem dX4_tick_103 : decode cX4_tick 103 = .ok (.if_icmp .eq 34, 3) := dk_159 0 34 (dk_at dksX4_tick_4 8 rfl rfl)
theorem dX4_tick_106 : decode cX4_tick 106 = .ok (.aload_n 0, 1) := dk_42 (dk_at dksX4_tick_4 11 rfl rfl)
theorem dX4_tick_107 : decode cX4_tick 107 = .ok (.getfield 27, 3) := dk_180 0 27 (dk_at dksX4_tick_4 12 rfl rfl)
theorem dX4_tick_110 : decode cX4_tick 110 = .ok (.iconst 2, 1) := dk_5 (dk_at dksX4_tick_4 15 rfl rfl)
theorem dX4_tick_111 : decode cX4_tick 111 = .ok (.iaload, 1) := dk_46 (dk_at dksX4_tick_4 16 rfl rfl)
theorem dX4_tick_112 : decode cX4_tick 112 = .ok (.aload_n 0, 1) := dk_42 (dk_at dksX4_tick_4 17 rfl rfl)
theorem dX4_tick_113 : decode cX4_tick 113 = .ok (.getfield 27, 3) := dk_180 0 27 (dk_at dksX4_tick_4 18 rfl rfl)
theorem dX4_tick_116 : decode cX4_tick 116 = .ok (.iconst 0, 1) := dk_3 (dk_at dksX4_tick_4 21 rfl rfl)
theorem dX4_tick_117 : decode cX4_tick 117 = .ok (.iaload, 1) := dk_46 (dk_at dksX4_tick_4 22 rfl rfl)
theorem dX4_tick_118 : decode cX4_tick 118 = .ok (.if_icmp .ne 19, 3) := dk_160 0 19 (dk_at dksX4_tick_5 0 rfl rfl)
theorem dX4_tick_121 : decode cX4_tick 121 = .ok (.aload_n 0, 1) := dk_42 (dk_at dksX4_tick_5 3 rfl rfl)
theorem dX4_tick_122 : decode cX4_tick 122 = .ok (.getfield 27, 3) := dk_180 0 27 (dk_at dksX4_tick_5 4 rfl rfl)
theorem dX4_tick_125 : decode cX4_tick 125 = .ok (.iconst 1, 1) := dk_4 (dk_at dksX4_tick_5 7 rfl rfl)
theorem dX4_tick_126 : decode cX4_tick 126 = .ok (.bipush (-2), 2) := dk_16 254 (dk_at dksX4_tick_5 8 rfl rfl)
theorem dX4_tick_128 : decode cX4_tick 128 = .ok (.iastore, 1) := dk_79 (dk_at dksX4_tick_5 10 rfl rfl)
theorem dX4_tick_129 : decode cX4_tick 129 = .ok (.aload_n 0, 1) := dk_42 (dk_at dksX4_tick_5 11 rfl rfl)
theorem dX4_tick_130 : decode cX4_tick 130 = .ok (.getfield 27, 3) := dk_180 0 27 (dk_at dksX4_tick_5 12 rfl rfl)
theorem dX4_tick_133 : decode cX4_tick 133 = .ok (.iconst 2, 1) := dk_5 (dk_at dksX4_tick_5 15 rfl rfl)
theorem dX4_tick_134 : decode cX4_tick 134 = .ok (.bipush (-2), 2) := dk_16 254 (dk_at dksX4_tick_5 16 rfl rfl)
theorem dX4_tick_136 : decode cX4_tick 136 = .ok (.iastore, 1) := dk_79 (dk_at dksX4_tick_5 18 rfl rfl)
theorem dX4_tick_137 : decode cX4_tick 137 = .ok (.aload_n 0, 1) := dk_42 (dk_at dksX4_tick_5 19 rfl rfl)
theorem dX4_tick_138 : decode cX4_tick 138 = .ok (.getfield 27, 3) := dk_180 0 27 (dk_at dksX4_tick_5 20 rfl rfl)
theorem dX4_tick_141 : decode cX4_tick 141 = .ok (.iconst 4, 1) := dk_7 (dk_at dksX4_tick_5 23 rfl rfl)
theorem dX4_tick_142 : decode cX4_tick 142 = .ok (.iaload, 1) := dk_46 (dk_at dksX4_tick_6 0 rfl rfl)
theorem dX4_tick_143 : decode cX4_tick 143 = .ok (.aload_n 0, 1) := dk_42 (dk_at dksX4_tick_6 1 rfl rfl)
theorem dX4_tick_144 : decode cX4_tick 144 = .ok (.getfield 27, 3) := dk_180 0 27 (dk_at dksX4_tick_6 2 rfl rfl)
theorem dX4_tick_147 : decode cX4_tick 147 = .ok (.iconst 0, 1) := dk_3 (dk_at dksX4_tick_6 5 rfl rfl)
theorem dX4_tick_148 : decode cX4_tick 148 = .ok (.iaload, 1) := dk_46 (dk_at dksX4_tick_6 6 rfl rfl)
theorem dX4_tick_149 : decode cX4_tick 149 = .ok (.if_icmp .ne 7, 3) := dk_160 0 7 (dk_at dksX4_tick_6 7 rfl rfl)
theorem dX4_tick_152 : decode cX4_tick 152 = .ok (.aload_n 0, 1) := dk_42 (dk_at dksX4_tick_6 10 rfl rfl)
theorem dX4_tick_153 : decode cX4_tick 153 = .ok (.invokevirtual 312, 3) := dk_182 1 56 (dk_at dksX4_tick_6 11 rfl rfl)
theorem dX4_tick_156 : decode cX4_tick 156 = .ok (.aload_n 0, 1) := dk_42 (dk_at dksX4_tick_6 14 rfl rfl)
theorem dX4_tick_157 : decode cX4_tick 157 = .ok (.getfield 27, 3) := dk_180 0 27 (dk_at dksX4_tick_6 15 rfl rfl)
theorem dX4_tick_160 : decode cX4_tick 160 = .ok (.iconst 1, 1) := dk_4 (dk_at dksX4_tick_6 18 rfl rfl)
theorem dX4_tick_161 : decode cX4_tick 161 = .ok (.iaload, 1) := dk_46 (dk_at dksX4_tick_6 19 rfl rfl)
theorem dX4_tick_162 : decode cX4_tick 162 = .ok (.bipush (-2), 2) := dk_16 254 (dk_at dksX4_tick_6 20 rfl rfl)
theorem dX4_tick_164 : decode cX4_tick 164 = .ok (.if_icmp .ne 29, 3) := dk_160 0 29 (dk_at dksX4_tick_7 0 rfl rfl)
theorem dX4_tick_167 : decode cX4_tick 167 = .ok (.aload_n 0, 1) := dk_42 (dk_at dksX4_tick_7 3 rfl rfl)
theorem dX4_tick_168 : decode cX4_tick 168 = .ok (.getfield 27, 3) := dk_180 0 27 (dk_at dksX4_tick_7 4 rfl rfl)
theorem dX4_tick_171 : decode cX4_tick 171 = .ok (.iconst 3, 1) := dk_6 (dk_at dksX4_tick_7 7 rfl rfl)
theorem dX4_tick_172 : decode cX4_tick 172 = .ok (.iaload, 1) := dk_46 (dk_at dksX4_tick_7 8 rfl rfl)
theorem dX4_tick_173 : decode cX4_tick 173 = .ok (.bipush (-2), 2) := dk_16 254 (dk_at dksX4_tick_7 9 rfl rfl)
theorem dX4_tick_175 : decode cX4_tick 175 = .ok (.if_icmp .eq 18, 3) := dk_159 0 18 (dk_at dksX4_tick_7 11 rfl rfl)
theorem dX4_tick_178 : decode cX4_tick 178 = .ok (.aload_n 0, 1) := dk_42 (dk_at dksX4_tick_7 14 rfl rfl)
theorem dX4_tick_179 : decode cX4_tick 179 = .ok (.getfield 27, 3) := dk_180 0 27 (dk_at dksX4_tick_7 15 rfl rfl)
theorem dX4_tick_182 : decode cX4_tick 182 = .ok (.iconst 4, 1) := dk_7 (dk_at dksX4_tick_7 18 rfl rfl)
theorem dX4_tick_183 : decode cX4_tick 183 = .ok (.iaload, 1) := dk_46 (dk_at dksX4_tick_7 19 rfl rfl)
theorem dX4_tick_184 : decode cX4_tick 184 = .ok (.bipush (-2), 2) := dk_16 254 (dk_at dksX4_tick_7 20 rfl rfl)
theorem dX4_tick_186 : decode cX4_tick 186 = .ok (.if_icmp .ne 7, 3) := dk_160 0 7 (dk_at dksX4_tick_8 0 rfl rfl)
theorem dX4_tick_189 : decode cX4_tick 189 = .ok (.aload_n 0, 1) := dk_42 (dk_at dksX4_tick_8 3 rfl rfl)
theorem dX4_tick_190 : decode cX4_tick 190 = .ok (.invokevirtual 315, 3) := dk_182 1 59 (dk_at dksX4_tick_8 4 rfl rfl)
theorem dX4_tick_193 : decode cX4_tick 193 = .ok (.aload_n 0, 1) := dk_42 (dk_at dksX4_tick_8 7 rfl rfl)
theorem dX4_tick_194 : decode cX4_tick 194 = .ok (.getfield 27, 3) := dk_180 0 27 (dk_at dksX4_tick_8 8 rfl rfl)
theorem dX4_tick_197 : decode cX4_tick 197 = .ok (.iconst 4, 1) := dk_7 (dk_at dksX4_tick_8 11 rfl rfl)
theorem dX4_tick_198 : decode cX4_tick 198 = .ok (.iaload, 1) := dk_46 (dk_at dksX4_tick_8 12 rfl rfl)
theorem dX4_tick_199 : decode cX4_tick 199 = .ok (.bipush (-2), 2) := dk_16 254 (dk_at dksX4_tick_8 13 rfl rfl)
theorem dX4_tick_201 : decode cX4_tick 201 = .ok (.if_icmp .ne 14, 3) := dk_160 0 14 (dk_at dksX4_tick_8 15 rfl rfl)
theorem dX4_tick_204 : decode cX4_tick 204 = .ok (.aload_n 0, 1) := dk_42 (dk_at dksX4_tick_8 18 rfl rfl)
theorem dX4_tick_205 : decode cX4_tick 205 = .ok (.invokevirtual 318, 3) := dk_182 1 62 (dk_at dksX4_tick_8 19 rfl rfl)
theorem dX4_tick_208 : decode cX4_tick 208 = .ok (.ifCond .eq 7, 3) := dk_153 0 7 (dk_at dksX4_tick_9 0 rfl rfl)
theorem dX4_tick_211 : decode cX4_tick 211 = .ok (.aload_n 0, 1) := dk_42 (dk_at dksX4_tick_9 3 rfl rfl)
theorem dX4_tick_212 : decode cX4_tick 212 = .ok (.invokevirtual 321, 3) := dk_182 1 65 (dk_at dksX4_tick_9 4 rfl rfl)
theorem dX4_tick_215 : decode cX4_tick 215 = .ok (.aload_n 0, 1) := dk_42 (dk_at dksX4_tick_9 7 rfl rfl)
theorem dX4_tick_216 : decode cX4_tick 216 = .ok (.getfield 27, 3) := dk_180 0 27 (dk_at dksX4_tick_9 8 rfl rfl)
theorem dX4_tick_219 : decode cX4_tick 219 = .ok (.iconst 1, 1) := dk_4 (dk_at dksX4_tick_9 11 rfl rfl)
theorem dX4_tick_220 : decode cX4_tick 220 = .ok (.iaload, 1) := dk_46 (dk_at dksX4_tick_9 12 rfl rfl)
theorem dX4_tick_221 : decode cX4_tick 221 = .ok (.bipush (-2), 2) := dk_16 254 (dk_at dksX4_tick_9 13 rfl rfl)
theorem dX4_tick_223 : decode cX4_tick 223 = .ok (.if_icmp .eq 23, 3) := dk_159 0 23 (dk_at dksX4_tick_9 15 rfl rfl)
theorem dX4_tick_226 : decode cX4_tick 226 = .ok (.aload_n 0, 1) := dk_42 (dk_at dksX4_tick_9 18 rfl rfl)
theorem dX4_tick_227 : decode cX4_tick 227 = .ok (.getfield 27, 3) := dk_180 0 27 (dk_at dksX4_tick_9 19 rfl rfl)
theorem dX4_tick_230 : decode cX4_tick 230 = .ok (.aload_n 0, 1) := dk_42 (dk_at dksX4_tick_9 22 rfl rfl)
theorem dX4_tick_231 : decode cX4_tick 231 = .ok (.getfield 27, 3) := dk_180 0 27 (dk_at dksX4_tick_10 0 rfl rfl)
theorem dX4_tick_234 : decode cX4_tick 234 = .ok (.iconst 1, 1) := dk_4 (dk_at dksX4_tick_10 3 rfl rfl)
theorem dX4_tick_235 : decode cX4_tick 235 = .ok (.iaload, 1) := dk_46 (dk_at dksX4_tick_10 4 rfl rfl)
theorem dX4_tick_236 : decode cX4_tick 236 = .ok (.bipush 7, 2) := dk_16 7 (dk_at dksX4_tick_10 5 rfl rfl)
theorem dX4_tick_238 : decode cX4_tick 238 = .ok (.invokestatic 201, 3) := dk_184 0 201 (dk_at dksX4_tick_10 7 rfl rfl)
theorem dX4_tick_241 : decode cX4_tick 241 = .ok (.dup2, 1) := dk_92 (dk_at dksX4_tick_10 10 rfl rfl)
theorem dX4_tick_242 : decode cX4_tick 242 = .ok (.iaload, 1) := dk_46 (dk_at dksX4_tick_10 11 rfl rfl)
theorem dX4_tick_243 : decode cX4_tick 243 = .ok (.iconst 1, 1) := dk_4 (dk_at dksX4_tick_10 12 rfl rfl)
theorem dX4_tick_244 : decode cX4_tick 244 = .ok (.iadd, 1) := dk_96 (dk_at dksX4_tick_10 13 rfl rfl)
theorem dX4_tick_245 : decode cX4_tick 245 = .ok (.iastore, 1) := dk_79 (dk_at dksX4_tick_10 14 rfl rfl)
theorem dX4_tick_246 : decode cX4_tick 246 = .ok (.aload_n 0, 1) := dk_42 (dk_at dksX4_tick_10 15 rfl rfl)
theorem dX4_tick_247 : decode cX4_tick 247 = .ok (.getfield 27, 3) := dk_180 0 27 (dk_at dksX4_tick_10 16 rfl rfl)
theorem dX4_tick_250 : decode cX4_tick 250 = .ok (.sipush 187, 3) := dk_17 0 187 (dk_at dksX4_tick_10 19 rfl rfl)
theorem dX4_tick_253 : decode cX4_tick 253 = .ok (.aload_n 0, 1) := dk_42 (dk_at dksX4_tick_10 22 rfl rfl)
theorem dX4_tick_254 : decode cX4_tick 254 = .ok (.getfield 27, 3) := dk_180 0 27 (dk_at dksX4_tick_11 0 rfl rfl)
theorem dX4_tick_257 : decode cX4_tick 257 = .ok (.iconst 0, 1) := dk_3 (dk_at dksX4_tick_11 3 rfl rfl)
theorem dX4_tick_258 : decode cX4_tick 258 = .ok (.iaload, 1) := dk_46 (dk_at dksX4_tick_11 4 rfl rfl)
theorem dX4_tick_259 : decode cX4_tick 259 = .ok (.bipush 64, 2) := dk_16 64 (dk_at dksX4_tick_11 5 rfl rfl)
theorem dX4_tick_261 : decode cX4_tick 261 = .ok (.irem, 1) := dk_112 (dk_at dksX4_tick_11 7 rfl rfl)
theorem dX4_tick_262 : decode cX4_tick 262 = .ok (.iadd, 1) := dk_96 (dk_at dksX4_tick_11 8 rfl rfl)
theorem dX4_tick_263 : decode cX4_tick 263 = .ok (.aload_n 0, 1) := dk_42 (dk_at dksX4_tick_11 9 rfl rfl)
theorem dX4_tick_264 : decode cX4_tick 264 = .ok (.getfield 27, 3) := dk_180 0 27 (dk_at dksX4_tick_11 10 rfl rfl)
theorem dX4_tick_267 : decode cX4_tick 267 = .ok (.iconst 1, 1) := dk_4 (dk_at dksX4_tick_11 13 rfl rfl)
theorem dX4_tick_268 : decode cX4_tick 268 = .ok (.iaload, 1) := dk_46 (dk_at dksX4_tick_11 14 rfl rfl)
theorem dX4_tick_269 : decode cX4_tick 269 = .ok (.iastore, 1) := dk_79 (dk_at dksX4_tick_11 15 rfl rfl)
theorem dX4_tick_270 : decode cX4_tick 270 = .ok (.return_, 1) := dk_177 (dk_at dksX4_tick_11 16 rfl rfl)
abbrev cX4_asks : ByteArray := prog_19_method_71_code
def yX4_asks : MethodName := ⟨RX4, "asks", "(II)Z"⟩
def dkwX4_asks_2 : List UInt8 := [184, 0, 201, 28, 79, 42, 180, 0, 27, 27, 4, 184, 0, 201, 42, 180, 0, 27, 3, 46, 79, 4, 172]
abbrev dktX4_asks_2 : List UInt8 := dkwX4_asks_2 ++ []
def dkwX4_asks_1 : List UInt8 := [180, 0, 27, 27, 16, 8, 184, 0, 201, 92, 46, 4, 96, 79, 3, 172, 42, 180, 0, 27, 27, 3]
abbrev dktX4_asks_1 : List UInt8 := dkwX4_asks_1 ++ dktX4_asks_2
def dkwX4_asks_0 : List UInt8 := [42, 180, 0, 27, 27, 3, 184, 0, 201, 46, 157, 0, 13, 42, 180, 0, 27, 4, 46, 27, 160, 0, 20, 42]
abbrev dktX4_asks_0 : List UInt8 := dkwX4_asks_0 ++ dktX4_asks_1
theorem dksX4_asks_0 : cX4_asks.data.toList.drop 0 = dktX4_asks_0 := by decide +kernel
theorem dksX4_asks_1 : cX4_asks.data.toList.drop 24 = dktX4_asks_1 := dk_seg dksX4_asks_0 24 rfl rfl
theorem dksX4_asks_2 : cX4_asks.data.toList.drop 46 = dktX4_asks_2 := dk_seg dksX4_asks_1 22 rfl rfl
theorem dX4_asks_0 : decode cX4_asks 0 = .ok (.aload_n 0, 1) := dk_42 (dk_at dksX4_asks_0 0 rfl rfl)
theorem dX4_asks_1 : decode cX4_asks 1 = .ok (.getfield 27, 3) := dk_180 0 27 (dk_at dksX4_asks_0 1 rfl rfl)
theorem dX4_asks_4 : decode cX4_asks 4 = .ok (.iload_n 1, 1) := dk_27 (dk_at dksX4_asks_0 4 rfl rfl)
theorem dX4_asks_5 : decode cX4_asks 5 = .ok (.iconst 0, 1) := dk_3 (dk_at dksX4_asks_0 5 rfl rfl)
theorem dX4_asks_6 : decode cX4_asks 6 = .ok (.invokestatic 201, 3) := dk_184 0 201 (dk_at dksX4_asks_0 6 rfl rfl)
theorem dX4_asks_9 : decode cX4_asks 9 = .ok (.iaload, 1) := dk_46 (dk_at dksX4_asks_0 9 rfl rfl)
theorem dX4_asks_10 : decode cX4_asks 10 = .ok (.ifCond .gt 13, 3) := dk_157 0 13 (dk_at dksX4_asks_0 10 rfl rfl)
theorem dX4_asks_13 : decode cX4_asks 13 = .ok (.aload_n 0, 1) := dk_42 (dk_at dksX4_asks_0 13 rfl rfl)
theorem dX4_asks_14 : decode cX4_asks 14 = .ok (.getfield 27, 3) := dk_180 0 27 (dk_at dksX4_asks_0 14 rfl rfl)
theorem dX4_asks_17 : decode cX4_asks 17 = .ok (.iconst 1, 1) := dk_4 (dk_at dksX4_asks_0 17 rfl rfl)
theorem dX4_asks_18 : decode cX4_asks 18 = .ok (.iaload, 1) := dk_46 (dk_at dksX4_asks_0 18 rfl rfl)
theorem dX4_asks_19 : decode cX4_asks 19 = .ok (.iload_n 1, 1) := dk_27 (dk_at dksX4_asks_0 19 rfl rfl)
theorem dX4_asks_20 : decode cX4_asks 20 = .ok (.if_icmp .ne 20, 3) := dk_160 0 20 (dk_at dksX4_asks_0 20 rfl rfl)
theorem dX4_asks_23 : decode cX4_asks 23 = .ok (.aload_n 0, 1) := dk_42 (dk_at dksX4_asks_0 23 rfl rfl)
theorem dX4_asks_24 : decode cX4_asks 24 = .ok (.getfield 27, 3) := dk_180 0 27 (dk_at dksX4_asks_1 0 rfl rfl)
theorem dX4_asks_27 : decode cX4_asks 27 = .ok (.iload_n 1, 1) := dk_27 (dk_at dksX4_asks_1 3 rfl rfl)
theorem dX4_asks_28 : decode cX4_asks 28 = .ok (.bipush 8, 2) := dk_16 8 (dk_at dksX4_asks_1 4 rfl rfl)
theorem dX4_asks_30 : decode cX4_asks 30 = .ok (.invokestatic 201, 3) := dk_184 0 201 (dk_at dksX4_asks_1 6 rfl rfl)
theorem dX4_asks_33 : decode cX4_asks 33 = .ok (.dup2, 1) := dk_92 (dk_at dksX4_asks_1 9 rfl rfl)
theorem dX4_asks_34 : decode cX4_asks 34 = .ok (.iaload, 1) := dk_46 (dk_at dksX4_asks_1 10 rfl rfl)
theorem dX4_asks_35 : decode cX4_asks 35 = .ok (.iconst 1, 1) := dk_4 (dk_at dksX4_asks_1 11 rfl rfl)
theorem dX4_asks_36 : decode cX4_asks 36 = .ok (.iadd, 1) := dk_96 (dk_at dksX4_asks_1 12 rfl rfl)
theorem dX4_asks_37 : decode cX4_asks 37 = .ok (.iastore, 1) := dk_79 (dk_at dksX4_asks_1 13 rfl rfl)
theorem dX4_asks_38 : decode cX4_asks 38 = .ok (.iconst 0, 1) := dk_3 (dk_at dksX4_asks_1 14 rfl rfl)
theorem dX4_asks_39 : decode cX4_asks 39 = .ok (.ireturn, 1) := dk_172 (dk_at dksX4_asks_1 15 rfl rfl)
theorem dX4_asks_40 : decode cX4_asks 40 = .ok (.aload_n 0, 1) := dk_42 (dk_at dksX4_asks_1 16 rfl rfl)
theorem dX4_asks_41 : decode cX4_asks 41 = .ok (.getfield 27, 3) := dk_180 0 27 (dk_at dksX4_asks_1 17 rfl rfl)
theorem dX4_asks_44 : decode cX4_asks 44 = .ok (.iload_n 1, 1) := dk_27 (dk_at dksX4_asks_1 20 rfl rfl)
theorem dX4_asks_45 : decode cX4_asks 45 = .ok (.iconst 0, 1) := dk_3 (dk_at dksX4_asks_1 21 rfl rfl)
theorem dX4_asks_46 : decode cX4_asks 46 = .ok (.invokestatic 201, 3) := dk_184 0 201 (dk_at dksX4_asks_2 0 rfl rfl)
theorem dX4_asks_49 : decode cX4_asks 49 = .ok (.iload_n 2, 1) := dk_28 (dk_at dksX4_asks_2 3 rfl rfl)
theorem dX4_asks_50 : decode cX4_asks 50 = .ok (.iastore, 1) := dk_79 (dk_at dksX4_asks_2 4 rfl rfl)
theorem dX4_asks_51 : decode cX4_asks 51 = .ok (.aload_n 0, 1) := dk_42 (dk_at dksX4_asks_2 5 rfl rfl)
theorem dX4_asks_52 : decode cX4_asks 52 = .ok (.getfield 27, 3) := dk_180 0 27 (dk_at dksX4_asks_2 6 rfl rfl)
theorem dX4_asks_55 : decode cX4_asks 55 = .ok (.iload_n 1, 1) := dk_27 (dk_at dksX4_asks_2 9 rfl rfl)
theorem dX4_asks_56 : decode cX4_asks 56 = .ok (.iconst 1, 1) := dk_4 (dk_at dksX4_asks_2 10 rfl rfl)
theorem dX4_asks_57 : decode cX4_asks 57 = .ok (.invokestatic 201, 3) := dk_184 0 201 (dk_at dksX4_asks_2 11 rfl rfl)
theorem dX4_asks_60 : decode cX4_asks 60 = .ok (.aload_n 0, 1) := dk_42 (dk_at dksX4_asks_2 14 rfl rfl)
theorem dX4_asks_61 : decode cX4_asks 61 = .ok (.getfield 27, 3) := dk_180 0 27 (dk_at dksX4_asks_2 15 rfl rfl)
theorem dX4_asks_64 : decode cX4_asks 64 = .ok (.iconst 0, 1) := dk_3 (dk_at dksX4_asks_2 18 rfl rfl)
theorem dX4_asks_65 : decode cX4_asks 65 = .ok (.iaload, 1) := dk_46 (dk_at dksX4_asks_2 19 rfl rfl)
theorem dX4_asks_66 : decode cX4_asks 66 = .ok (.iastore, 1) := dk_79 (dk_at dksX4_asks_2 20 rfl rfl)
theorem dX4_asks_67 : decode cX4_asks 67 = .ok (.iconst 1, 1) := dk_4 (dk_at dksX4_asks_2 21 rfl rfl)
theorem dX4_asks_68 : decode cX4_asks 68 = .ok (.ireturn, 1) := dk_172 (dk_at dksX4_asks_2 22 rfl rfl)
abbrev cX4_endsArbitration : ByteArray := prog_19_method_76_code
def yX4_endsArbitration : MethodName := ⟨RX4, "endsArbitration", "()V"⟩
def dkwX4_endsArbitration_5 : List UInt8 := [180, 0, 27, 28, 16, 9, 184, 0, 201, 92, 46, 4, 96, 79, 42, 27, 182, 1, 50, 177]
abbrev dktX4_endsArbitration_5 : List UInt8 := dkwX4_endsArbitration_5 ++ []
def dkwX4_endsArbitration_4 : List UInt8 := [28, 16, 254, 159, 0, 34, 28, 27, 159, 0, 29, 42, 180, 0, 27, 16, 10, 92, 46, 4, 96, 79, 42]
abbrev dktX4_endsArbitration_4 : List UInt8 := dkwX4_endsArbitration_4 ++ dktX4_endsArbitration_5
def dkwX4_endsArbitration_3 : List UInt8 := [180, 0, 27, 6, 27, 79, 27, 16, 254, 160, 0, 15, 42, 180, 0, 27, 16, 8, 92, 46, 4, 96, 79, 177]
abbrev dktX4_endsArbitration_3 : List UInt8 := dkwX4_endsArbitration_3 ++ dktX4_endsArbitration_4
def dkwX4_endsArbitration_2 : List UInt8 := [16, 7, 92, 46, 4, 96, 79, 42, 180, 0, 27, 7, 16, 254, 79, 42, 180, 0, 27, 8, 3, 79, 42]
abbrev dktX4_endsArbitration_2 : List UInt8 := dkwX4_endsArbitration_2 ++ dktX4_endsArbitration_3
def dkwX4_endsArbitration_1 : List UInt8 := [8, 46, 27, 182, 1, 47, 42, 180, 0, 27, 16, 9, 92, 46, 42, 180, 1, 31, 96, 79, 42, 180, 0, 27]
abbrev dktX4_endsArbitration_1 : List UInt8 := dkwX4_endsArbitration_1 ++ dktX4_endsArbitration_2
def dkwX4_endsArbitration_0 : List UInt8 := [42, 42, 180, 0, 27, 8, 46, 4, 182, 1, 40, 60, 42, 180, 0, 27, 6, 46, 61, 42, 42, 180, 0, 27]
abbrev dktX4_endsArbitration_0 : List UInt8 := dkwX4_endsArbitration_0 ++ dktX4_endsArbitration_1
theorem dksX4_endsArbitration_0 : cX4_endsArbitration.data.toList.drop 0 = dktX4_endsArbitration_0 := by decide +kernel
theorem dksX4_endsArbitration_1 : cX4_endsArbitration.data.toList.drop 24 = dktX4_endsArbitration_1 := dk_seg dksX4_endsArbitration_0 24 rfl rfl
theorem dksX4_endsArbitration_2 : cX4_endsArbitration.data.toList.drop 48 = dktX4_endsArbitration_2 := dk_seg dksX4_endsArbitration_1 24 rfl rfl
theorem dksX4_endsArbitration_3 : cX4_endsArbitration.data.toList.drop 71 = dktX4_endsArbitration_3 := dk_seg dksX4_endsArbitration_2 23 rfl rfl
theorem dksX4_endsArbitration_4 : cX4_endsArbitration.data.toList.drop 95 = dktX4_endsArbitration_4 := dk_seg dksX4_endsArbitration_3 24 rfl rfl
theorem dksX4_endsArbitration_5 : cX4_endsArbitration.data.toList.drop 118 = dktX4_endsArbitration_5 := dk_seg dksX4_endsArbitration_4 23 rfl rfl
theorem dX4_endsArbitration_0 : decode cX4_endsArbitration 0 = .ok (.aload_n 0, 1) := dk_42 (dk_at dksX4_endsArbitration_0 0 rfl rfl)
theorem dX4_endsArbitration_1 : decode cX4_endsArbitration 1 = .ok (.aload_n 0, 1) := dk_42 (dk_at dksX4_endsArbitration_0 1 rfl rfl)
theorem dX4_endsArbitration_2 : decode cX4_endsArbitration 2 = .ok (.getfield 27, 3) := dk_180 0 27 (dk_at dksX4_endsArbitration_0 2 rfl rfl)
theorem dX4_endsArbitration_5 : decode cX4_endsArbitration 5 = .ok (.iconst 5, 1) := dk_8 (dk_at dksX4_endsArbitration_0 5 rfl rfl)
theorem dX4_endsArbitration_6 : decode cX4_endsArbitration 6 = .ok (.iaload, 1) := dk_46 (dk_at dksX4_endsArbitration_0 6 rfl rfl)
theorem dX4_endsArbitration_7 : decode cX4_endsArbitration 7 = .ok (.iconst 1, 1) := dk_4 (dk_at dksX4_endsArbitration_0 7 rfl rfl)
theorem dX4_endsArbitration_8 : decode cX4_endsArbitration 8 = .ok (.invokevirtual 296, 3) := dk_182 1 40 (dk_at dksX4_endsArbitration_0 8 rfl rfl)
theorem dX4_endsArbitration_11 : decode cX4_endsArbitration 11 = .ok (.istore_n 1, 1) := dk_60 (dk_at dksX4_endsArbitration_0 11 rfl rfl)
theorem dX4_endsArbitration_12 : decode cX4_endsArbitration 12 = .ok (.aload_n 0, 1) := dk_42 (dk_at dksX4_endsArbitration_0 12 rfl rfl)
theorem dX4_endsArbitration_13 : decode cX4_endsArbitration 13 = .ok (.getfield 27, 3) := dk_180 0 27 (dk_at dksX4_endsArbitration_0 13 rfl rfl)
theorem dX4_endsArbitration_16 : decode cX4_endsArbitration 16 = .ok (.iconst 3, 1) := dk_6 (dk_at dksX4_endsArbitration_0 16 rfl rfl)
theorem dX4_endsArbitration_17 : decode cX4_endsArbitration 17 = .ok (.iaload, 1) := dk_46 (dk_at dksX4_endsArbitration_0 17 rfl rfl)
theorem dX4_endsArbitration_18 : decode cX4_endsArbitration 18 = .ok (.istore_n 2, 1) := dk_61 (dk_at dksX4_endsArbitration_0 18 rfl rfl)
theorem dX4_endsArbitration_19 : decode cX4_endsArbitration 19 = .ok (.aload_n 0, 1) := dk_42 (dk_at dksX4_endsArbitration_0 19 rfl rfl)
theorem dX4_endsArbitration_20 : decode cX4_endsArbitration 20 = .ok (.aload_n 0, 1) := dk_42 (dk_at dksX4_endsArbitration_0 20 rfl rfl)
theorem dX4_endsArbitration_21 : decode cX4_endsArbitration 21 = .ok (.getfield 27, 3) := dk_180 0 27 (dk_at dksX4_endsArbitration_0 21 rfl rfl)
theorem dX4_endsArbitration_24 : decode cX4_endsArbitration 24 = .ok (.iconst 5, 1) := dk_8 (dk_at dksX4_endsArbitration_1 0 rfl rfl)
theorem dX4_endsArbitration_25 : decode cX4_endsArbitration 25 = .ok (.iaload, 1) := dk_46 (dk_at dksX4_endsArbitration_1 1 rfl rfl)
theorem dX4_endsArbitration_26 : decode cX4_endsArbitration 26 = .ok (.iload_n 1, 1) := dk_27 (dk_at dksX4_endsArbitration_1 2 rfl rfl)
theorem dX4_endsArbitration_27 : decode cX4_endsArbitration 27 = .ok (.invokevirtual 303, 3) := dk_182 1 47 (dk_at dksX4_endsArbitration_1 3 rfl rfl)
theorem dX4_endsArbitration_30 : decode cX4_endsArbitration 30 = .ok (.aload_n 0, 1) := dk_42 (dk_at dksX4_endsArbitration_1 6 rfl rfl)
theorem dX4_endsArbitration_31 : decode cX4_endsArbitration 31 = .ok (.getfield 27, 3) := dk_180 0 27 (dk_at dksX4_endsArbitration_1 7 rfl rfl)
theorem dX4_endsArbitration_34 : decode cX4_endsArbitration 34 = .ok (.bipush 9, 2) := dk_16 9 (dk_at dksX4_endsArbitration_1 10 rfl rfl)
theorem dX4_endsArbitration_36 : decode cX4_endsArbitration 36 = .ok (.dup2, 1) := dk_92 (dk_at dksX4_endsArbitration_1 12 rfl rfl)
theorem dX4_endsArbitration_37 : decode cX4_endsArbitration 37 = .ok (.iaload, 1) := dk_46 (dk_at dksX4_endsArbitration_1 13 rfl rfl)
theorem dX4_endsArbitration_38 : decode cX4_endsArbitration 38 = .ok (.aload_n 0, 1) := dk_42 (dk_at dksX4_endsArbitration_1 14 rfl rfl)
theorem dX4_endsArbitration_39 : decode cX4_endsArbitration 39 = .ok (.getfield 287, 3) := dk_180 1 31 (dk_at dksX4_endsArbitration_1 15 rfl rfl)
theorem dX4_endsArbitration_42 : decode cX4_endsArbitration 42 = .ok (.iadd, 1) := dk_96 (dk_at dksX4_endsArbitration_1 18 rfl rfl)
theorem dX4_endsArbitration_43 : decode cX4_endsArbitration 43 = .ok (.iastore, 1) := dk_79 (dk_at dksX4_endsArbitration_1 19 rfl rfl)
theorem dX4_endsArbitration_44 : decode cX4_endsArbitration 44 = .ok (.aload_n 0, 1) := dk_42 (dk_at dksX4_endsArbitration_1 20 rfl rfl)
theorem dX4_endsArbitration_45 : decode cX4_endsArbitration 45 = .ok (.getfield 27, 3) := dk_180 0 27 (dk_at dksX4_endsArbitration_1 21 rfl rfl)
theorem dX4_endsArbitration_48 : decode cX4_endsArbitration 48 = .ok (.bipush 7, 2) := dk_16 7 (dk_at dksX4_endsArbitration_2 0 rfl rfl)
theorem dX4_endsArbitration_50 : decode cX4_endsArbitration 50 = .ok (.dup2, 1) := dk_92 (dk_at dksX4_endsArbitration_2 2 rfl rfl)
theorem dX4_endsArbitration_51 : decode cX4_endsArbitration 51 = .ok (.iaload, 1) := dk_46 (dk_at dksX4_endsArbitration_2 3 rfl rfl)
theorem dX4_endsArbitration_52 : decode cX4_endsArbitration 52 = .ok (.iconst 1, 1) := dk_4 (dk_at dksX4_endsArbitration_2 4 rfl rfl)
theorem dX4_endsArbitration_53 : decode cX4_endsArbitration 53 = .ok (.iadd, 1) := dk_96 (dk_at dksX4_endsArbitration_2 5 rfl rfl)
theorem dX4_endsArbitration_54 : decode cX4_endsArbitration 54 = .ok (.iastore, 1) := dk_79 (dk_at dksX4_endsArbitration_2 6 rfl rfl)
theorem dX4_endsArbitration_55 : decode cX4_endsArbitration 55 = .ok (.aload_n 0, 1) := dk_42 (dk_at dksX4_endsArbitration_2 7 rfl rfl)
theorem dX4_endsArbitration_56 : decode cX4_endsArbitration 56 = .ok (.getfield 27, 3) := dk_180 0 27 (dk_at dksX4_endsArbitration_2 8 rfl rfl)
theorem dX4_endsArbitration_59 : decode cX4_endsArbitration 59 = .ok (.iconst 4, 1) := dk_7 (dk_at dksX4_endsArbitration_2 11 rfl rfl)
theorem dX4_endsArbitration_60 : decode cX4_endsArbitration 60 = .ok (.bipush (-2), 2) := dk_16 254 (dk_at dksX4_endsArbitration_2 12 rfl rfl)
theorem dX4_endsArbitration_62 : decode cX4_endsArbitration 62 = .ok (.iastore, 1) := dk_79 (dk_at dksX4_endsArbitration_2 14 rfl rfl)
theorem dX4_endsArbitration_63 : decode cX4_endsArbitration 63 = .ok (.aload_n 0, 1) := dk_42 (dk_at dksX4_endsArbitration_2 15 rfl rfl)
theorem dX4_endsArbitration_64 : decode cX4_endsArbitration 64 = .ok (.getfield 27, 3) := dk_180 0 27 (dk_at dksX4_endsArbitration_2 16 rfl rfl)
theorem dX4_endsArbitration_67 : decode cX4_endsArbitration 67 = .ok (.iconst 5, 1) := dk_8 (dk_at dksX4_endsArbitration_2 19 rfl rfl)
theorem dX4_endsArbitration_68 : decode cX4_endsArbitration 68 = .ok (.iconst 0, 1) := dk_3 (dk_at dksX4_endsArbitration_2 20 rfl rfl)
theorem dX4_endsArbitration_69 : decode cX4_endsArbitration 69 = .ok (.iastore, 1) := dk_79 (dk_at dksX4_endsArbitration_2 21 rfl rfl)
theorem dX4_endsArbitration_70 : decode cX4_endsArbitration 70 = .ok (.aload_n 0, 1) := dk_42 (dk_at dksX4_endsArbitration_2 22 rfl rfl)
theorem dX4_endsArbitration_71 : decode cX4_endsArbitration 71 = .ok (.getfield 27, 3) := dk_180 0 27 (dk_at dksX4_endsArbitration_3 0 rfl rfl)
theorem dX4_endsArbitration_74 : decode cX4_endsArbitration 74 = .ok (.iconst 3, 1) := dk_6 (dk_at dksX4_endsArbitration_3 3 rfl rfl)
theorem dX4_endsArbitration_75 : decode cX4_endsArbitration 75 = .ok (.iload_n 1, 1) := dk_27 (dk_at dksX4_endsArbitration_3 4 rfl rfl)
theorem dX4_endsArbitration_76 : decode cX4_endsArbitration 76 = .ok (.iastore, 1) := dk_79 (dk_at dksX4_endsArbitration_3 5 rfl rfl)
theorem dX4_endsArbitration_77 : decode cX4_endsArbitration 77 = .ok (.iload_n 1, 1) := dk_27 (dk_at dksX4_endsArbitration_3 6 rfl rfl)
theorem dX4_endsArbitration_78 : decode cX4_endsArbitration 78 = .ok (.bipush (-2), 2) := dk_16 254 (dk_at dksX4_endsArbitration_3 7 rfl rfl)
theorem dX4_endsArbitration_80 : decode cX4_endsArbitration 80 = .ok (.if_icmp .ne 15, 3) := dk_160 0 15 (dk_at dksX4_endsArbitration_3 9 rfl rfl)
theorem dX4_endsArbitration_83 : decode cX4_endsArbitration 83 = .ok (.aload_n 0, 1) := dk_42 (dk_at dksX4_endsArbitration_3 12 rfl rfl)
theorem dX4_endsArbitration_84 : decode cX4_endsArbitration 84 = .ok (.getfield 27, 3) := dk_180 0 27 (dk_at dksX4_endsArbitration_3 13 rfl rfl)
theorem dX4_endsArbitration_87 : decode cX4_endsArbitration 87 = .ok (.bipush 8, 2) := dk_16 8 (dk_at dksX4_endsArbitration_3 16 rfl rfl)
theorem dX4_endsArbitration_89 : decode cX4_endsArbitration 89 = .ok (.dup2, 1) := dk_92 (dk_at dksX4_endsArbitration_3 18 rfl rfl)
theorem dX4_endsArbitration_90 : decode cX4_endsArbitration 90 = .ok (.iaload, 1) := dk_46 (dk_at dksX4_endsArbitration_3 19 rfl rfl)
theorem dX4_endsArbitration_91 : decode cX4_endsArbitration 91 = .ok (.iconst 1, 1) := dk_4 (dk_at dksX4_endsArbitration_3 20 rfl rfl)
theorem dX4_endsArbitration_92 : decode cX4_endsArbitration 92 = .ok (.iadd, 1) := dk_96 (dk_at dksX4_endsArbitration_3 21 rfl rfl)
theorem dX4_endsArbitration_93 : decode cX4_endsArbitration 93 = .ok (.iastore, 1) := dk_79 (dk_at dksX4_endsArbitration_3 22 rfl rfl)
theorem dX4_endsArbitration_94 : decode cX4_endsArbitration 94 = .ok (.return_, 1) := dk_177 (dk_at dksX4_endsArbitration_3 23 rfl rfl)
theorem dX4_endsArbitration_95 : decode cX4_endsArbitration 95 = .ok (.iload_n 2, 1) := dk_28 (dk_at dksX4_endsArbitration_4 0 rfl rfl)
theorem dX4_endsArbitration_96 : decode cX4_endsArbitration 96 = .ok (.bipush (-2), 2) := dk_16 254 (dk_at dksX4_endsArbitration_4 1 rfl rfl)
theorem dX4_endsArbitration_98 : decode cX4_endsArbitration 98 = .ok (.if_icmp .eq 34, 3) := dk_159 0 34 (dk_at dksX4_endsArbitration_4 3 rfl rfl)
theorem dX4_endsArbitration_101 : decode cX4_endsArbitration 101 = .ok (.iload_n 2, 1) := dk_28 (dk_at dksX4_endsArbitration_4 6 rfl rfl)
theorem dX4_endsArbitration_102 : decode cX4_endsArbitration 102 = .ok (.iload_n 1, 1) := dk_27 (dk_at dksX4_endsArbitration_4 7 rfl rfl)
theorem dX4_endsArbitration_103 : decode cX4_endsArbitration 103 = .ok (.if_icmp .eq 29, 3) := dk_159 0 29 (dk_at dksX4_endsArbitration_4 8 rfl rfl)
theorem dX4_endsArbitration_106 : decode cX4_endsArbitration 106 = .ok (.aload_n 0, 1) := dk_42 (dk_at dksX4_endsArbitration_4 11 rfl rfl)
theorem dX4_endsArbitration_107 : decode cX4_endsArbitration 107 = .ok (.getfield 27, 3) := dk_180 0 27 (dk_at dksX4_endsArbitration_4 12 rfl rfl)
theorem dX4_endsArbitration_110 : decode cX4_endsArbitration 110 = .ok (.bipush 10, 2) := dk_16 10 (dk_at dksX4_endsArbitration_4 15 rfl rfl)
theorem dX4_endsArbitration_112 : decode cX4_endsArbitration 112 = .ok (.dup2, 1) := dk_92 (dk_at dksX4_endsArbitration_4 17 rfl rfl)
theorem dX4_endsArbitration_113 : decode cX4_endsArbitration 113 = .ok (.iaload, 1) := dk_46 (dk_at dksX4_endsArbitration_4 18 rfl rfl)
theorem dX4_endsArbitration_114 : decode cX4_endsArbitration 114 = .ok (.iconst 1, 1) := dk_4 (dk_at dksX4_endsArbitration_4 19 rfl rfl)
theorem dX4_endsArbitration_115 : decode cX4_endsArbitration 115 = .ok (.iadd, 1) := dk_96 (dk_at dksX4_endsArbitration_4 20 rfl rfl)
theorem dX4_endsArbitration_116 : decode cX4_endsArbitration 116 = .ok (.iastore, 1) := dk_79 (dk_at dksX4_endsArbitration_4 21 rfl rfl)
theorem dX4_endsArbitration_117 : decode cX4_endsArbitration 117 = .ok (.aload_n 0, 1) := dk_42 (dk_at dksX4_endsArbitration_4 22 rfl rfl)
theorem dX4_endsArbitration_118 : decode cX4_endsArbitration 118 = .ok (.getfield 27, 3) := dk_180 0 27 (dk_at dksX4_endsArbitration_5 0 rfl rfl)
theorem dX4_endsArbitration_121 : decode cX4_endsArbitration 121 = .ok (.iload_n 2, 1) := dk_28 (dk_at dksX4_endsArbitration_5 3 rfl rfl)
theorem dX4_endsArbitration_122 : decode cX4_endsArbitration 122 = .ok (.bipush 9, 2) := dk_16 9 (dk_at dksX4_endsArbitration_5 4 rfl rfl)
theorem dX4_endsArbitration_124 : decode cX4_endsArbitration 124 = .ok (.invokestatic 201, 3) := dk_184 0 201 (dk_at dksX4_endsArbitration_5 6 rfl rfl)
theorem dX4_endsArbitration_127 : decode cX4_endsArbitration 127 = .ok (.dup2, 1) := dk_92 (dk_at dksX4_endsArbitration_5 9 rfl rfl)
theorem dX4_endsArbitration_128 : decode cX4_endsArbitration 128 = .ok (.iaload, 1) := dk_46 (dk_at dksX4_endsArbitration_5 10 rfl rfl)
theorem dX4_endsArbitration_129 : decode cX4_endsArbitration 129 = .ok (.iconst 1, 1) := dk_4 (dk_at dksX4_endsArbitration_5 11 rfl rfl)
theorem dX4_endsArbitration_130 : decode cX4_endsArbitration 130 = .ok (.iadd, 1) := dk_96 (dk_at dksX4_endsArbitration_5 12 rfl rfl)
theorem dX4_endsArbitration_131 : decode cX4_endsArbitration 131 = .ok (.iastore, 1) := dk_79 (dk_at dksX4_endsArbitration_5 13 rfl rfl)
theorem dX4_endsArbitration_132 : decode cX4_endsArbitration 132 = .ok (.aload_n 0, 1) := dk_42 (dk_at dksX4_endsArbitration_5 14 rfl rfl)
theorem dX4_endsArbitration_133 : decode cX4_endsArbitration 133 = .ok (.iload_n 1, 1) := dk_27 (dk_at dksX4_endsArbitration_5 15 rfl rfl)
theorem dX4_endsArbitration_134 : decode cX4_endsArbitration 134 = .ok (.invokevirtual 306, 3) := dk_182 1 50 (dk_at dksX4_endsArbitration_5 16 rfl rfl)
theorem dX4_endsArbitration_137 : decode cX4_endsArbitration 137 = .ok (.return_, 1) := dk_177 (dk_at dksX4_endsArbitration_5 19 rfl rfl)
abbrev cX4_logs : ByteArray := prog_19_method_75_code
def yX4_logs : MethodName := ⟨RX4, "logs", "(II)V"⟩
def dkwX4_logs_5 : List UInt8 := [28, 79, 42, 180, 0, 27, 16, 96, 42, 180, 1, 31, 79, 177]
abbrev dktX4_logs_5 : List UInt8 := dkwX4_logs_5 ++ []
def dkwX4_logs_4 : List UInt8 := [16, 93, 42, 180, 1, 34, 79, 42, 180, 0, 27, 16, 94, 42, 180, 1, 37, 79, 42, 180, 0, 27, 16, 95]
abbrev dktX4_logs_4 : List UInt8 := dkwX4_logs_4 ++ dktX4_logs_5
def dkwX4_logs_3 : List UInt8 := [180, 0, 27, 16, 91, 42, 180, 0, 27, 3, 46, 79, 42, 180, 0, 27, 16, 92, 27, 79, 42, 180, 0, 27]
abbrev dktX4_logs_3 : List UInt8 := dkwX4_logs_3 ++ dktX4_logs_4
def dkwX4_logs_2 : List UInt8 := [46, 16, 16, 160, 0, 8, 16, 16, 167, 0, 12, 42, 180, 0, 27, 16, 90, 46, 4, 96, 79, 42]
abbrev dktX4_logs_2 : List UInt8 := dkwX4_logs_2 ++ dktX4_logs_3
def dkwX4_logs_1 : List UInt8 := [96, 16, 6, 100, 46, 79, 132, 3, 255, 167, 255, 226, 42, 180, 0, 27, 16, 90, 42, 180, 0, 27, 16, 90]
abbrev dktX4_logs_1 : List UInt8 := dkwX4_logs_1 ++ dktX4_logs_2
def dkwX4_logs_0 : List UInt8 := [16, 95, 62, 29, 16, 6, 161, 0, 30, 42, 180, 0, 27, 16, 91, 29, 96, 42, 180, 0, 27, 16, 91, 29]
abbrev dktX4_logs_0 : List UInt8 := dkwX4_logs_0 ++ dktX4_logs_1
theorem dksX4_logs_0 : cX4_logs.data.toList.drop 0 = dktX4_logs_0 := by decide +kernel
theorem dksX4_logs_1 : cX4_logs.data.toList.drop 24 = dktX4_logs_1 := dk_seg dksX4_logs_0 24 rfl rfl
theorem dksX4_logs_2 : cX4_logs.data.toList.drop 48 = dktX4_logs_2 := dk_seg dksX4_logs_1 24 rfl rfl
theorem dksX4_logs_3 : cX4_logs.data.toList.drop 70 = dktX4_logs_3 := dk_seg dksX4_logs_2 22 rfl rfl
theorem dksX4_logs_4 : cX4_logs.data.toList.drop 94 = dktX4_logs_4 := dk_seg dksX4_logs_3 24 rfl rfl
theorem dksX4_logs_5 : cX4_logs.data.toList.drop 118 = dktX4_logs_5 := dk_seg dksX4_logs_4 24 rfl rfl
theorem dX4_logs_0 : decode cX4_logs 0 = .ok (.bipush 95, 2) := dk_16 95 (dk_at dksX4_logs_0 0 rfl rfl)
theorem dX4_logs_2 : decode cX4_logs 2 = .ok (.istore_n 3, 1) := dk_62 (dk_at dksX4_logs_0 2 rfl rfl)
theorem dX4_logs_3 : decode cX4_logs 3 = .ok (.iload_n 3, 1) := dk_29 (dk_at dksX4_logs_0 3 rfl rfl)
theorem dX4_logs_4 : decode cX4_logs 4 = .ok (.bipush 6, 2) := dk_16 6 (dk_at dksX4_logs_0 4 rfl rfl)
theorem dX4_logs_6 : decode cX4_logs 6 = .ok (.if_icmp .lt 30, 3) := dk_161 0 30 (dk_at dksX4_logs_0 6 rfl rfl)
theorem dX4_logs_9 : decode cX4_logs 9 = .ok (.aload_n 0, 1) := dk_42 (dk_at dksX4_logs_0 9 rfl rfl)
theorem dX4_logs_10 : decode cX4_logs 10 = .ok (.getfield 27, 3) := dk_180 0 27 (dk_at dksX4_logs_0 10 rfl rfl)
theorem dX4_logs_13 : decode cX4_logs 13 = .ok (.bipush 91, 2) := dk_16 91 (dk_at dksX4_logs_0 13 rfl rfl)
theorem dX4_logs_15 : decode cX4_logs 15 = .ok (.iload_n 3, 1) := dk_29 (dk_at dksX4_logs_0 15 rfl rfl)
theorem dX4_logs_16 : decode cX4_logs 16 = .ok (.iadd, 1) := dk_96 (dk_at dksX4_logs_0 16 rfl rfl)
theorem dX4_logs_17 : decode cX4_logs 17 = .ok (.aload_n 0, 1) := dk_42 (dk_at dksX4_logs_0 17 rfl rfl)
theorem dX4_logs_18 : decode cX4_logs 18 = .ok (.getfield 27, 3) := dk_180 0 27 (dk_at dksX4_logs_0 18 rfl rfl)
theorem dX4_logs_21 : decode cX4_logs 21 = .ok (.bipush 91, 2) := dk_16 91 (dk_at dksX4_logs_0 21 rfl rfl)
theorem dX4_logs_23 : decode cX4_logs 23 = .ok (.iload_n 3, 1) := dk_29 (dk_at dksX4_logs_0 23 rfl rfl)
theorem dX4_logs_24 : decode cX4_logs 24 = .ok (.iadd, 1) := dk_96 (dk_at dksX4_logs_1 0 rfl rfl)
theorem dX4_logs_25 : decode cX4_logs 25 = .ok (.bipush 6, 2) := dk_16 6 (dk_at dksX4_logs_1 1 rfl rfl)
theorem dX4_logs_27 : decode cX4_logs 27 = .ok (.isub, 1) := dk_100 (dk_at dksX4_logs_1 3 rfl rfl)
theorem dX4_logs_28 : decode cX4_logs 28 = .ok (.iaload, 1) := dk_46 (dk_at dksX4_logs_1 4 rfl rfl)
theorem dX4_logs_29 : decode cX4_logs 29 = .ok (.iastore, 1) := dk_79 (dk_at dksX4_logs_1 5 rfl rfl)
theorem dX4_logs_30 : decode cX4_logs 30 = .ok (.iinc 3 (-1), 3) := dk_132 3 255 (dk_at dksX4_logs_1 6 rfl rfl)
theorem dX4_logs_33 : decode cX4_logs 33 = .ok (.goto (-30), 3) := dk_167 255 226 (dk_at dksX4_logs_1 9 rfl rfl)
theorem dX4_logs_36 : decode cX4_logs 36 = .ok (.aload_n 0, 1) := dk_42 (dk_at dksX4_logs_1 12 rfl rfl)
theorem dX4_logs_37 : decode cX4_logs 37 = .ok (.getfield 27, 3) := dk_180 0 27 (dk_at dksX4_logs_1 13 rfl rfl)
theorem dX4_logs_40 : decode cX4_logs 40 = .ok (.bipush 90, 2) := dk_16 90 (dk_at dksX4_logs_1 16 rfl rfl)
theorem dX4_logs_42 : decode cX4_logs 42 = .ok (.aload_n 0, 1) := dk_42 (dk_at dksX4_logs_1 18 rfl rfl)
theorem dX4_logs_43 : decode cX4_logs 43 = .ok (.getfield 27, 3) := dk_180 0 27 (dk_at dksX4_logs_1 19 rfl rfl)
theorem dX4_logs_46 : decode cX4_logs 46 = .ok (.bipush 90, 2) := dk_16 90 (dk_at dksX4_logs_1 22 rfl rfl)
theorem dX4_logs_48 : decode cX4_logs 48 = .ok (.iaload, 1) := dk_46 (dk_at dksX4_logs_2 0 rfl rfl)
theorem dX4_logs_49 : decode cX4_logs 49 = .ok (.bipush 16, 2) := dk_16 16 (dk_at dksX4_logs_2 1 rfl rfl)
theorem dX4_logs_51 : decode cX4_logs 51 = .ok (.if_icmp .ne 8, 3) := dk_160 0 8 (dk_at dksX4_logs_2 3 rfl rfl)
theorem dX4_logs_54 : decode cX4_logs 54 = .ok (.bipush 16, 2) := dk_16 16 (dk_at dksX4_logs_2 6 rfl rfl)
theorem dX4_logs_56 : decode cX4_logs 56 = .ok (.goto 12, 3) := dk_167 0 12 (dk_at dksX4_logs_2 8 rfl rfl)
theorem dX4_logs_59 : decode cX4_logs 59 = .ok (.aload_n 0, 1) := dk_42 (dk_at dksX4_logs_2 11 rfl rfl)
theorem dX4_logs_60 : decode cX4_logs 60 = .ok (.getfield 27, 3) := dk_180 0 27 (dk_at dksX4_logs_2 12 rfl rfl)
theorem dX4_logs_63 : decode cX4_logs 63 = .ok (.bipush 90, 2) := dk_16 90 (dk_at dksX4_logs_2 15 rfl rfl)
theorem dX4_logs_65 : decode cX4_logs 65 = .ok (.iaload, 1) := dk_46 (dk_at dksX4_logs_2 17 rfl rfl)
theorem dX4_logs_66 : decode cX4_logs 66 = .ok (.iconst 1, 1) := dk_4 (dk_at dksX4_logs_2 18 rfl rfl)
theorem dX4_logs_67 : decode cX4_logs 67 = .ok (.iadd, 1) := dk_96 (dk_at dksX4_logs_2 19 rfl rfl)
theorem dX4_logs_68 : decode cX4_logs 68 = .ok (.iastore, 1) := dk_79 (dk_at dksX4_logs_2 20 rfl rfl)
theorem dX4_logs_69 : decode cX4_logs 69 = .ok (.aload_n 0, 1) := dk_42 (dk_at dksX4_logs_2 21 rfl rfl)
theorem dX4_logs_70 : decode cX4_logs 70 = .ok (.getfield 27, 3) := dk_180 0 27 (dk_at dksX4_logs_3 0 rfl rfl)
theorem dX4_logs_73 : decode cX4_logs 73 = .ok (.bipush 91, 2) := dk_16 91 (dk_at dksX4_logs_3 3 rfl rfl)
theorem dX4_logs_75 : decode cX4_logs 75 = .ok (.aload_n 0, 1) := dk_42 (dk_at dksX4_logs_3 5 rfl rfl)
theorem dX4_logs_76 : decode cX4_logs 76 = .ok (.getfield 27, 3) := dk_180 0 27 (dk_at dksX4_logs_3 6 rfl rfl)
theorem dX4_logs_79 : decode cX4_logs 79 = .ok (.iconst 0, 1) := dk_3 (dk_at dksX4_logs_3 9 rfl rfl)
theorem dX4_logs_80 : decode cX4_logs 80 = .ok (.iaload, 1) := dk_46 (dk_at dksX4_logs_3 10 rfl rfl)
theorem dX4_logs_81 : decode cX4_logs 81 = .ok (.iastore, 1) := dk_79 (dk_at dksX4_logs_3 11 rfl rfl)
theorem dX4_logs_82 : decode cX4_logs 82 = .ok (.aload_n 0, 1) := dk_42 (dk_at dksX4_logs_3 12 rfl rfl)
theorem dX4_logs_83 : decode cX4_logs 83 = .ok (.getfield 27, 3) := dk_180 0 27 (dk_at dksX4_logs_3 13 rfl rfl)
theorem dX4_logs_86 : decode cX4_logs 86 = .ok (.bipush 92, 2) := dk_16 92 (dk_at dksX4_logs_3 16 rfl rfl)
theorem dX4_logs_88 : decode cX4_logs 88 = .ok (.iload_n 1, 1) := dk_27 (dk_at dksX4_logs_3 18 rfl rfl)
theorem dX4_logs_89 : decode cX4_logs 89 = .ok (.iastore, 1) := dk_79 (dk_at dksX4_logs_3 19 rfl rfl)
theorem dX4_logs_90 : decode cX4_logs 90 = .ok (.aload_n 0, 1) := dk_42 (dk_at dksX4_logs_3 20 rfl rfl)
theorem dX4_logs_91 : decode cX4_logs 91 = .ok (.getfield 27, 3) := dk_180 0 27 (dk_at dksX4_logs_3 21 rfl rfl)
theorem dX4_logs_94 : decode cX4_logs 94 = .ok (.bipush 93, 2) := dk_16 93 (dk_at dksX4_logs_4 0 rfl rfl)
theorem dX4_logs_96 : decode cX4_logs 96 = .ok (.aload_n 0, 1) := dk_42 (dk_at dksX4_logs_4 2 rfl rfl)
theorem dX4_logs_97 : decode cX4_logs 97 = .ok (.getfield 290, 3) := dk_180 1 34 (dk_at dksX4_logs_4 3 rfl rfl)
theorem dX4_logs_100 : decode cX4_logs 100 = .ok (.iastore, 1) := dk_79 (dk_at dksX4_logs_4 6 rfl rfl)
theorem dX4_logs_101 : decode cX4_logs 101 = .ok (.aload_n 0, 1) := dk_42 (dk_at dksX4_logs_4 7 rfl rfl)
theorem dX4_logs_102 : decode cX4_logs 102 = .ok (.getfield 27, 3) := dk_180 0 27 (dk_at dksX4_logs_4 8 rfl rfl)
theorem dX4_logs_105 : decode cX4_logs 105 = .ok (.bipush 94, 2) := dk_16 94 (dk_at dksX4_logs_4 11 rfl rfl)
theorem dX4_logs_107 : decode cX4_logs 107 = .ok (.aload_n 0, 1) := dk_42 (dk_at dksX4_logs_4 13 rfl rfl)
theorem dX4_logs_108 : decode cX4_logs 108 = .ok (.getfield 293, 3) := dk_180 1 37 (dk_at dksX4_logs_4 14 rfl rfl)
theorem dX4_logs_111 : decode cX4_logs 111 = .ok (.iastore, 1) := dk_79 (dk_at dksX4_logs_4 17 rfl rfl)
theorem dX4_logs_112 : decode cX4_logs 112 = .ok (.aload_n 0, 1) := dk_42 (dk_at dksX4_logs_4 18 rfl rfl)
theorem dX4_logs_113 : decode cX4_logs 113 = .ok (.getfield 27, 3) := dk_180 0 27 (dk_at dksX4_logs_4 19 rfl rfl)
theorem dX4_logs_116 : decode cX4_logs 116 = .ok (.bipush 95, 2) := dk_16 95 (dk_at dksX4_logs_4 22 rfl rfl)
theorem dX4_logs_118 : decode cX4_logs 118 = .ok (.iload_n 2, 1) := dk_28 (dk_at dksX4_logs_5 0 rfl rfl)
theorem dX4_logs_119 : decode cX4_logs 119 = .ok (.iastore, 1) := dk_79 (dk_at dksX4_logs_5 1 rfl rfl)
theorem dX4_logs_120 : decode cX4_logs 120 = .ok (.aload_n 0, 1) := dk_42 (dk_at dksX4_logs_5 2 rfl rfl)
theorem dX4_logs_121 : decode cX4_logs 121 = .ok (.getfield 27, 3) := dk_180 0 27 (dk_at dksX4_logs_5 3 rfl rfl)
theorem dX4_logs_124 : decode cX4_logs 124 = .ok (.bipush 96, 2) := dk_16 96 (dk_at dksX4_logs_5 6 rfl rfl)
theorem dX4_logs_126 : decode cX4_logs 126 = .ok (.aload_n 0, 1) := dk_42 (dk_at dksX4_logs_5 8 rfl rfl)
theorem dX4_logs_127 : decode cX4_logs 127 = .ok (.getfield 287, 3) := dk_180 1 31 (dk_at dksX4_logs_5 9 rfl rfl)
theorem dX4_logs_130 : decode cX4_logs 130 = .ok (.iastore, 1) := dk_79 (dk_at dksX4_logs_5 12 rfl rfl)
theorem dX4_logs_131 : decode cX4_logs 131 = .ok (.return_, 1) := dk_177 (dk_at dksX4_logs_5 13 rfl rfl)
abbrev cX4_isElected : ByteArray := prog_19_method_74_code
def yX4_isElected : MethodName := ⟨RX4, "isElected", "(I)V"⟩
def dkwX4_isElected_3 : List UInt8 := [184, 0, 201, 3, 79, 177]
abbrev dktX4_isElected_3 : List UInt8 := dkwX4_isElected_3 ++ []
def dkwX4_isElected_2 : List UInt8 := [180, 0, 27, 28, 5, 184, 0, 201, 4, 79, 132, 2, 1, 167, 255, 236, 42, 180, 0, 27, 27, 5]
abbrev dktX4_isElected_2 : List UInt8 := dkwX4_isElected_2 ++ dktX4_isElected_3
def dkwX4_isElected_1 : List UInt8 := [46, 154, 0, 39, 42, 180, 0, 27, 16, 6, 92, 46, 4, 96, 79, 3, 61, 28, 16, 6, 162, 0, 20, 42]
abbrev dktX4_isElected_1 : List UInt8 := dkwX4_isElected_1 ++ dktX4_isElected_2
def dkwX4_isElected_0 : List UInt8 := [42, 180, 0, 27, 27, 16, 11, 184, 0, 201, 92, 46, 4, 96, 79, 42, 180, 0, 27, 27, 5, 184, 0, 201]
abbrev dktX4_isElected_0 : List UInt8 := dkwX4_isElected_0 ++ dktX4_isElected_1
theorem dksX4_isElected_0 : cX4_isElected.data.toList.drop 0 = dktX4_isElected_0 := by decide +kernel
theorem dksX4_isElected_1 : cX4_isElected.data.toList.drop 24 = dktX4_isElected_1 := dk_seg dksX4_isElected_0 24 rfl rfl
theorem dksX4_isElected_2 : cX4_isElected.data.toList.drop 48 = dktX4_isElected_2 := dk_seg dksX4_isElected_1 24 rfl rfl
theorem dksX4_isElected_3 : cX4_isElected.data.toList.drop 70 = dktX4_isElected_3 := dk_seg dksX4_isElected_2 22 rfl rfl
theorem dX4_isElected_0 : decode cX4_isElected 0 = .ok (.aload_n 0, 1) := dk_42 (dk_at dksX4_isElected_0 0 rfl rfl)
theorem dX4_isElected_1 : decode cX4_isElected 1 = .ok (.getfield 27, 3) := dk_180 0 27 (dk_at dksX4_isElected_0 1 rfl rfl)
theorem dX4_isElected_4 : decode cX4_isElected 4 = .ok (.iload_n 1, 1) := dk_27 (dk_at dksX4_isElected_0 4 rfl rfl)
theorem dX4_isElected_5 : decode cX4_isElected 5 = .ok (.bipush 11, 2) := dk_16 11 (dk_at dksX4_isElected_0 5 rfl rfl)
theorem dX4_isElected_7 : decode cX4_isElected 7 = .ok (.invokestatic 201, 3) := dk_184 0 201 (dk_at dksX4_isElected_0 7 rfl rfl)
theorem dX4_isElected_10 : decode cX4_isElected 10 = .ok (.dup2, 1) := dk_92 (dk_at dksX4_isElected_0 10 rfl rfl)
theorem dX4_isElected_11 : decode cX4_isElected 11 = .ok (.iaload, 1) := dk_46 (dk_at dksX4_isElected_0 11 rfl rfl)
theorem dX4_isElected_12 : decode cX4_isElected 12 = .ok (.iconst 1, 1) := dk_4 (dk_at dksX4_isElected_0 12 rfl rfl)
theorem dX4_isElected_13 : decode cX4_isElected 13 = .ok (.iadd, 1) := dk_96 (dk_at dksX4_isElected_0 13 rfl rfl)
theorem dX4_isElected_14 : decode cX4_isElected 14 = .ok (.iastore, 1) := dk_79 (dk_at dksX4_isElected_0 14 rfl rfl)
theorem dX4_isElected_15 : decode cX4_isElected 15 = .ok (.aload_n 0, 1) := dk_42 (dk_at dksX4_isElected_0 15 rfl rfl)
theorem dX4_isElected_16 : decode cX4_isElected 16 = .ok (.getfield 27, 3) := dk_180 0 27 (dk_at dksX4_isElected_0 16 rfl rfl)
theorem dX4_isElected_19 : decode cX4_isElected 19 = .ok (.iload_n 1, 1) := dk_27 (dk_at dksX4_isElected_0 19 rfl rfl)
theorem dX4_isElected_20 : decode cX4_isElected 20 = .ok (.iconst 2, 1) := dk_5 (dk_at dksX4_isElected_0 20 rfl rfl)
theorem dX4_isElected_21 : decode cX4_isElected 21 = .ok (.invokestatic 201, 3) := dk_184 0 201 (dk_at dksX4_isElected_0 21 rfl rfl)
theorem dX4_isElected_24 : decode cX4_isElected 24 = .ok (.iaload, 1) := dk_46 (dk_at dksX4_isElected_1 0 rfl rfl)
theorem dX4_isElected_25 : decode cX4_isElected 25 = .ok (.ifCond .ne 39, 3) := dk_154 0 39 (dk_at dksX4_isElected_1 1 rfl rfl)
theorem dX4_isElected_28 : decode cX4_isElected 28 = .ok (.aload_n 0, 1) := dk_42 (dk_at dksX4_isElected_1 4 rfl rfl)
theorem dX4_isElected_29 : decode cX4_isElected 29 = .ok (.getfield 27, 3) := dk_180 0 27 (dk_at dksX4_isElected_1 5 rfl rfl)
theorem dX4_isElected_32 : decode cX4_isElected 32 = .ok (.bipush 6, 2) := dk_16 6 (dk_at dksX4_isElected_1 8 rfl rfl)
theorem dX4_isElected_34 : decode cX4_isElected 34 = .ok (.dup2, 1) := dk_92 (dk_at dksX4_isElected_1 10 rfl rfl)
theorem dX4_isElected_35 : decode cX4_isElected 35 = .ok (.iaload, 1) := dk_46 (dk_at dksX4_isElected_1 11 rfl rfl)
theorem dX4_isElected_36 : decode cX4_isElected 36 = .ok (.iconst 1, 1) := dk_4 (dk_at dksX4_isElected_1 12 rfl rfl)
theorem dX4_isElected_37 : decode cX4_isElected 37 = .ok (.iadd, 1) := dk_96 (dk_at dksX4_isElected_1 13 rfl rfl)
theorem dX4_isElected_38 : decode cX4_isElected 38 = .ok (.iastore, 1) := dk_79 (dk_at dksX4_isElected_1 14 rfl rfl)
theorem dX4_isElected_39 : decode cX4_isElected 39 = .ok (.iconst 0, 1) := dk_3 (dk_at dksX4_isElected_1 15 rfl rfl)
theorem dX4_isElected_40 : decode cX4_isElected 40 = .ok (.istore_n 2, 1) := dk_61 (dk_at dksX4_isElected_1 16 rfl rfl)
theorem dX4_isElected_41 : decode cX4_isElected 41 = .ok (.iload_n 2, 1) := dk_28 (dk_at dksX4_isElected_1 17 rfl rfl)
theorem dX4_isElected_42 : decode cX4_isElected 42 = .ok (.bipush 6, 2) := dk_16 6 (dk_at dksX4_isElected_1 18 rfl rfl)
theorem dX4_isElected_44 : decode cX4_isElected 44 = .ok (.if_icmp .ge 20, 3) := dk_162 0 20 (dk_at dksX4_isElected_1 20 rfl rfl)
theorem dX4_isElected_47 : decode cX4_isElected 47 = .ok (.aload_n 0, 1) := dk_42 (dk_at dksX4_isElected_1 23 rfl rfl)
theorem dX4_isElected_48 : decode cX4_isElected 48 = .ok (.getfield 27, 3) := dk_180 0 27 (dk_at dksX4_isElected_2 0 rfl rfl)
theorem dX4_isElected_51 : decode cX4_isElected 51 = .ok (.iload_n 2, 1) := dk_28 (dk_at dksX4_isElected_2 3 rfl rfl)
theorem dX4_isElected_52 : decode cX4_isElected 52 = .ok (.iconst 2, 1) := dk_5 (dk_at dksX4_isElected_2 4 rfl rfl)
theorem dX4_isElected_53 : decode cX4_isElected 53 = .ok (.invokestatic 201, 3) := dk_184 0 201 (dk_at dksX4_isElected_2 5 rfl rfl)
theorem dX4_isElected_56 : decode cX4_isElected 56 = .ok (.iconst 1, 1) := dk_4 (dk_at dksX4_isElected_2 8 rfl rfl)
theorem dX4_isElected_57 : decode cX4_isElected 57 = .ok (.iastore, 1) := dk_79 (dk_at dksX4_isElected_2 9 rfl rfl)
theorem dX4_isElected_58 : decode cX4_isElected 58 = .ok (.iinc 2 1, 3) := dk_132 2 1 (dk_at dksX4_isElected_2 10 rfl rfl)
theorem dX4_isElected_61 : decode cX4_isElected 61 = .ok (.goto (-20), 3) := dk_167 255 236 (dk_at dksX4_isElected_2 13 rfl rfl)
theorem dX4_isElected_64 : decode cX4_isElected 64 = .ok (.aload_n 0, 1) := dk_42 (dk_at dksX4_isElected_2 16 rfl rfl)
theorem dX4_isElected_65 : decode cX4_isElected 65 = .ok (.getfield 27, 3) := dk_180 0 27 (dk_at dksX4_isElected_2 17 rfl rfl)
theorem dX4_isElected_68 : decode cX4_isElected 68 = .ok (.iload_n 1, 1) := dk_27 (dk_at dksX4_isElected_2 20 rfl rfl)
theorem dX4_isElected_69 : decode cX4_isElected 69 = .ok (.iconst 2, 1) := dk_5 (dk_at dksX4_isElected_2 21 rfl rfl)
theorem dX4_isElected_70 : decode cX4_isElected 70 = .ok (.invokestatic 201, 3) := dk_184 0 201 (dk_at dksX4_isElected_3 0 rfl rfl)
theorem dX4_isElected_73 : decode cX4_isElected 73 = .ok (.iconst 0, 1) := dk_3 (dk_at dksX4_isElected_3 3 rfl rfl)
theorem dX4_isElected_74 : decode cX4_isElected 74 = .ok (.iastore, 1) := dk_79 (dk_at dksX4_isElected_3 4 rfl rfl)
theorem dX4_isElected_75 : decode cX4_isElected 75 = .ok (.return_, 1) := dk_177 (dk_at dksX4_isElected_3 5 rfl rfl)
abbrev cX4_becomesMaster : ByteArray := prog_19_method_77_code
def yX4_becomesMaster : MethodName := ⟨RX4, "becomesMaster", "()V"⟩
def dkwX4_becomesMaster_5 : List UInt8 := [180, 0, 27, 27, 16, 10, 184, 0, 201, 46, 79, 177]
abbrev dktX4_becomesMaster_5 : List UInt8 := dkwX4_becomesMaster_5 ++ []
def dkwX4_becomesMaster_4 : List UInt8 := [184, 0, 201, 28, 42, 180, 0, 27, 27, 16, 10, 184, 0, 201, 46, 164, 0, 7, 28, 167, 0, 14, 42]
abbrev dktX4_becomesMaster_4 : List UInt8 := dkwX4_becomesMaster_4 ++ dktX4_becomesMaster_5
def dkwX4_becomesMaster_3 : List UInt8 := [3, 79, 42, 180, 0, 27, 27, 16, 6, 184, 0, 201, 92, 46, 4, 96, 79, 42, 180, 0, 27, 27, 16, 10]
abbrev dktX4_becomesMaster_3 : List UInt8 := dkwX4_becomesMaster_3 ++ dktX4_becomesMaster_4
def dkwX4_becomesMaster_2 : List UInt8 := [3, 184, 0, 201, 46, 96, 79, 42, 180, 0, 27, 6, 16, 254, 79, 42, 180, 0, 27, 27, 3, 184, 0, 201]
abbrev dktX4_becomesMaster_2 : List UInt8 := dkwX4_becomesMaster_2 ++ dktX4_becomesMaster_3
def dkwX4_becomesMaster_1 : List UInt8 := [61, 42, 180, 0, 27, 4, 27, 79, 42, 180, 0, 27, 5, 42, 180, 0, 27, 3, 46, 42, 180, 0, 27, 27]
abbrev dktX4_becomesMaster_1 : List UInt8 := dkwX4_becomesMaster_1 ++ dktX4_becomesMaster_2
def dkwX4_becomesMaster_0 : List UInt8 := [42, 180, 0, 27, 6, 46, 60, 42, 180, 0, 27, 3, 46, 42, 180, 0, 27, 27, 4, 184, 0, 201, 46, 100]
abbrev dktX4_becomesMaster_0 : List UInt8 := dkwX4_becomesMaster_0 ++ dktX4_becomesMaster_1
theorem dksX4_becomesMaster_0 : cX4_becomesMaster.data.toList.drop 0 = dktX4_becomesMaster_0 := by decide +kernel
theorem dksX4_becomesMaster_1 : cX4_becomesMaster.data.toList.drop 24 = dktX4_becomesMaster_1 := dk_seg dksX4_becomesMaster_0 24 rfl rfl
theorem dksX4_becomesMaster_2 : cX4_becomesMaster.data.toList.drop 48 = dktX4_becomesMaster_2 := dk_seg dksX4_becomesMaster_1 24 rfl rfl
theorem dksX4_becomesMaster_3 : cX4_becomesMaster.data.toList.drop 72 = dktX4_becomesMaster_3 := dk_seg dksX4_becomesMaster_2 24 rfl rfl
theorem dksX4_becomesMaster_4 : cX4_becomesMaster.data.toList.drop 96 = dktX4_becomesMaster_4 := dk_seg dksX4_becomesMaster_3 24 rfl rfl
theorem dksX4_becomesMaster_5 : cX4_becomesMaster.data.toList.drop 119 = dktX4_becomesMaster_5 := dk_seg dksX4_becomesMaster_4 23 rfl rfl
theorem dX4_becomesMaster_0 : decode cX4_becomesMaster 0 = .ok (.aload_n 0, 1) := dk_42 (dk_at dksX4_becomesMaster_0 0 rfl rfl)
theorem dX4_becomesMaster_1 : decode cX4_becomesMaster 1 = .ok (.getfield 27, 3) := dk_180 0 27 (dk_at dksX4_becomesMaster_0 1 rfl rfl)
theorem dX4_becomesMaster_4 : decode cX4_becomesMaster 4 = .ok (.iconst 3, 1) := dk_6 (dk_at dksX4_becomesMaster_0 4 rfl rfl)
theorem dX4_becomesMaster_5 : decode cX4_becomesMaster 5 = .ok (.iaload, 1) := dk_46 (dk_at dksX4_becomesMaster_0 5 rfl rfl)
theorem dX4_becomesMaster_6 : decode cX4_becomesMaster 6 = .ok (.istore_n 1, 1) := dk_60 (dk_at dksX4_becomesMaster_0 6 rfl rfl)
theorem dX4_becomesMaster_7 : decode cX4_becomesMaster 7 = .ok (.aload_n 0, 1) := dk_42 (dk_at dksX4_becomesMaster_0 7 rfl rfl)
theorem dX4_becomesMaster_8 : decode cX4_becomesMaster 8 = .ok (.getfield 27, 3) := dk_180 0 27 (dk_at dksX4_becomesMaster_0 8 rfl rfl)
theorem dX4_becomesMaster_11 : decode cX4_becomesMaster 11 = .ok (.iconst 0, 1) := dk_3 (dk_at dksX4_becomesMaster_0 11 rfl rfl)
theorem dX4_becomesMaster_12 : decode cX4_becomesMaster 12 = .ok (.iaload, 1) := dk_46 (dk_at dksX4_becomesMaster_0 12 rfl rfl)
theorem dX4_becomesMaster_13 : decode cX4_becomesMaster 13 = .ok (.aload_n 0, 1) := dk_42 (dk_at dksX4_becomesMaster_0 13 rfl rfl)
theorem dX4_becomesMaster_14 : decode cX4_becomesMaster 14 = .ok (.getfield 27, 3) := dk_180 0 27 (dk_at dksX4_becomesMaster_0 14 rfl rfl)
theorem dX4_becomesMaster_17 : decode cX4_becomesMaster 17 = .ok (.iload_n 1, 1) := dk_27 (dk_at dksX4_becomesMaster_0 17 rfl rfl)
theorem dX4_becomesMaster_18 : decode cX4_becomesMaster 18 = .ok (.iconst 1, 1) := dk_4 (dk_at dksX4_becomesMaster_0 18 rfl rfl)
theorem dX4_becomesMaster_19 : decode cX4_becomesMaster 19 = .ok (.invokestatic 201, 3) := dk_184 0 201 (dk_at dksX4_becomesMaster_0 19 rfl rfl)
theorem dX4_becomesMaster_22 : decode cX4_becomesMaster 22 = .ok (.iaload, 1) := dk_46 (dk_at dksX4_becomesMaster_0 22 rfl rfl)
theorem dX4_becomesMaster_23 : decode cX4_becomesMaster 23 = .ok (.isub, 1) := dk_100 (dk_at dksX4_becomesMaster_0 23 rfl rfl)
theorem dX4_becomesMaster_24 : decode cX4_becomesMaster 24 = .ok (.istore_n 2, 1) := dk_61 (dk_at dksX4_becomesMaster_1 0 rfl rfl)
theorem dX4_becomesMaster_25 : decode cX4_becomesMaster 25 = .ok (.aload_n 0, 1) := dk_42 (dk_at dksX4_becomesMaster_1 1 rfl rfl)
theorem dX4_becomesMaster_26 : decode cX4_becomesMaster 26 = .ok (.getfield 27, 3) := dk_180 0 27 (dk_at dksX4_becomesMaster_1 2 rfl rfl)
theorem dX4_becomesMaster_29 : decode cX4_becomesMaster 29 = .ok (.iconst 1, 1) := dk_4 (dk_at dksX4_becomesMaster_1 5 rfl rfl)
theorem dX4_becomesMaster_30 : decode cX4_becomesMaster 30 = .ok (.iload_n 1, 1) := dk_27 (dk_at dksX4_becomesMaster_1 6 rfl rfl)
theorem dX4_becomesMaster_31 : decode cX4_becomesMaster 31 = .ok (.iastore, 1) := dk_79 (dk_at dksX4_becomesMaster_1 7 rfl rfl)
theorem dX4_becomesMaster_32 : decode cX4_becomesMaster 32 = .ok (.aload_n 0, 1) := dk_42 (dk_at dksX4_becomesMaster_1 8 rfl rfl)
theorem dX4_becomesMaster_33 : decode cX4_becomesMaster 33 = .ok (.getfield 27, 3) := dk_180 0 27 (dk_at dksX4_becomesMaster_1 9 rfl rfl)
theorem dX4_becomesMaster_36 : decode cX4_becomesMaster 36 = .ok (.iconst 2, 1) := dk_5 (dk_at dksX4_becomesMaster_1 12 rfl rfl)
theorem dX4_becomesMaster_37 : decode cX4_becomesMaster 37 = .ok (.aload_n 0, 1) := dk_42 (dk_at dksX4_becomesMaster_1 13 rfl rfl)
theorem dX4_becomesMaster_38 : decode cX4_becomesMaster 38 = .ok (.getfield 27, 3) := dk_180 0 27 (dk_at dksX4_becomesMaster_1 14 rfl rfl)
theorem dX4_becomesMaster_41 : decode cX4_becomesMaster 41 = .ok (.iconst 0, 1) := dk_3 (dk_at dksX4_becomesMaster_1 17 rfl rfl)
theorem dX4_becomesMaster_42 : decode cX4_becomesMaster 42 = .ok (.iaload, 1) := dk_46 (dk_at dksX4_becomesMaster_1 18 rfl rfl)
theorem dX4_becomesMaster_43 : decode cX4_becomesMaster 43 = .ok (.aload_n 0, 1) := dk_42 (dk_at dksX4_becomesMaster_1 19 rfl rfl)
theorem dX4_becomesMaster_44 : decode cX4_becomesMaster 44 = .ok (.getfield 27, 3) := dk_180 0 27 (dk_at dksX4_becomesMaster_1 20 rfl rfl)
theorem dX4_becomesMaster_47 : decode cX4_becomesMaster 47 = .ok (.iload_n 1, 1) := dk_27 (dk_at dksX4_becomesMaster_1 23 rfl rfl)
theorem dX4_becomesMaster_48 : decode cX4_becomesMaster 48 = .ok (.iconst 0, 1) := dk_3 (dk_at dksX4_becomesMaster_2 0 rfl rfl)
theorem dX4_becomesMaster_49 : decode cX4_becomesMaster 49 = .ok (.invokestatic 201, 3) := dk_184 0 201 (dk_at dksX4_becomesMaster_2 1 rfl rfl)
theorem dX4_becomesMaster_52 : decode cX4_becomesMaster 52 = .ok (.iaload, 1) := dk_46 (dk_at dksX4_becomesMaster_2 4 rfl rfl)
theorem dX4_becomesMaster_53 : decode cX4_becomesMaster 53 = .ok (.iadd, 1) := dk_96 (dk_at dksX4_becomesMaster_2 5 rfl rfl)
theorem dX4_becomesMaster_54 : decode cX4_becomesMaster 54 = .ok (.iastore, 1) := dk_79 (dk_at dksX4_becomesMaster_2 6 rfl rfl)
theorem dX4_becomesMaster_55 : decode cX4_becomesMaster 55 = .ok (.aload_n 0, 1) := dk_42 (dk_at dksX4_becomesMaster_2 7 rfl rfl)
theorem dX4_becomesMaster_56 : decode cX4_becomesMaster 56 = .ok (.getfield 27, 3) := dk_180 0 27 (dk_at dksX4_becomesMaster_2 8 rfl rfl)
theorem dX4_becomesMaster_59 : decode cX4_becomesMaster 59 = .ok (.iconst 3, 1) := dk_6 (dk_at dksX4_becomesMaster_2 11 rfl rfl)
theorem dX4_becomesMaster_60 : decode cX4_becomesMaster 60 = .ok (.bipush (-2), 2) := dk_16 254 (dk_at dksX4_becomesMaster_2 12 rfl rfl)
theorem dX4_becomesMaster_62 : decode cX4_becomesMaster 62 = .ok (.iastore, 1) := dk_79 (dk_at dksX4_becomesMaster_2 14 rfl rfl)
theorem dX4_becomesMaster_63 : decode cX4_becomesMaster 63 = .ok (.aload_n 0, 1) := dk_42 (dk_at dksX4_becomesMaster_2 15 rfl rfl)
theorem dX4_becomesMaster_64 : decode cX4_becomesMaster 64 = .ok (.getfield 27, 3) := dk_180 0 27 (dk_at dksX4_becomesMaster_2 16 rfl rfl)
theorem dX4_becomesMaster_67 : decode cX4_becomesMaster 67 = .ok (.iload_n 1, 1) := dk_27 (dk_at dksX4_becomesMaster_2 19 rfl rfl)
theorem dX4_becomesMaster_68 : decode cX4_becomesMaster 68 = .ok (.iconst 0, 1) := dk_3 (dk_at dksX4_becomesMaster_2 20 rfl rfl)
theorem dX4_becomesMaster_69 : decode cX4_becomesMaster 69 = .ok (.invokestatic 201, 3) := dk_184 0 201 (dk_at dksX4_becomesMaster_2 21 rfl rfl)
theorem dX4_becomesMaster_72 : decode cX4_becomesMaster 72 = .ok (.iconst 0, 1) := dk_3 (dk_at dksX4_becomesMaster_3 0 rfl rfl)
theorem dX4_becomesMaster_73 : decode cX4_becomesMaster 73 = .ok (.iastore, 1) := dk_79 (dk_at dksX4_becomesMaster_3 1 rfl rfl)
theorem dX4_becomesMaster_74 : decode cX4_becomesMaster 74 = .ok (.aload_n 0, 1) := dk_42 (dk_at dksX4_becomesMaster_3 2 rfl rfl)
theorem dX4_becomesMaster_75 : decode cX4_becomesMaster 75 = .ok (.getfield 27, 3) := dk_180 0 27 (dk_at dksX4_becomesMaster_3 3 rfl rfl)
theorem dX4_becomesMaster_78 : decode cX4_becomesMaster 78 = .ok (.iload_n 1, 1) := dk_27 (dk_at dksX4_becomesMaster_3 6 rfl rfl)
theorem dX4_becomesMaster_79 : decode cX4_becomesMaster 79 = .ok (.bipush 6, 2) := dk_16 6 (dk_at dksX4_becomesMaster_3 7 rfl rfl)
theorem dX4_becomesMaster_81 : decode cX4_becomesMaster 81 = .ok (.invokestatic 201, 3) := dk_184 0 201 (dk_at dksX4_becomesMaster_3 9 rfl rfl)
theorem dX4_becomesMaster_84 : decode cX4_becomesMaster 84 = .ok (.dup2, 1) := dk_92 (dk_at dksX4_becomesMaster_3 12 rfl rfl)
theorem dX4_becomesMaster_85 : decode cX4_becomesMaster 85 = .ok (.iaload, 1) := dk_46 (dk_at dksX4_becomesMaster_3 13 rfl rfl)
theorem dX4_becomesMaster_86 : decode cX4_becomesMaster 86 = .ok (.iconst 1, 1) := dk_4 (dk_at dksX4_becomesMaster_3 14 rfl rfl)
theorem dX4_becomesMaster_87 : decode cX4_becomesMaster 87 = .ok (.iadd, 1) := dk_96 (dk_at dksX4_becomesMaster_3 15 rfl rfl)
theorem dX4_becomesMaster_88 : decode cX4_becomesMaster 88 = .ok (.iastore, 1) := dk_79 (dk_at dksX4_becomesMaster_3 16 rfl rfl)
theorem dX4_becomesMaster_89 : decode cX4_becomesMaster 89 = .ok (.aload_n 0, 1) := dk_42 (dk_at dksX4_becomesMaster_3 17 rfl rfl)
theorem dX4_becomesMaster_90 : decode cX4_becomesMaster 90 = .ok (.getfield 27, 3) := dk_180 0 27 (dk_at dksX4_becomesMaster_3 18 rfl rfl)
theorem dX4_becomesMaster_93 : decode cX4_becomesMaster 93 = .ok (.iload_n 1, 1) := dk_27 (dk_at dksX4_becomesMaster_3 21 rfl rfl)
theorem dX4_becomesMaster_94 : decode cX4_becomesMaster 94 = .ok (.bipush 10, 2) := dk_16 10 (dk_at dksX4_becomesMaster_3 22 rfl rfl)
theorem dX4_becomesMaster_96 : decode cX4_becomesMaster 96 = .ok (.invokestatic 201, 3) := dk_184 0 201 (dk_at dksX4_becomesMaster_4 0 rfl rfl)
theorem dX4_becomesMaster_99 : decode cX4_becomesMaster 99 = .ok (.iload_n 2, 1) := dk_28 (dk_at dksX4_becomesMaster_4 3 rfl rfl)
theorem dX4_becomesMaster_100 : decode cX4_becomesMaster 100 = .ok (.aload_n 0, 1) := dk_42 (dk_at dksX4_becomesMaster_4 4 rfl rfl)
theorem dX4_becomesMaster_101 : decode cX4_becomesMaster 101 = .ok (.getfield 27, 3) := dk_180 0 27 (dk_at dksX4_becomesMaster_4 5 rfl rfl)
theorem dX4_becomesMaster_104 : decode cX4_becomesMaster 104 = .ok (.iload_n 1, 1) := dk_27 (dk_at dksX4_becomesMaster_4 8 rfl rfl)
theorem dX4_becomesMaster_105 : decode cX4_becomesMaster 105 = .ok (.bipush 10, 2) := dk_16 10 (dk_at dksX4_becomesMaster_4 9 rfl rfl)
theorem dX4_becomesMaster_107 : decode cX4_becomesMaster 107 = .ok (.invokestatic 201, 3) := dk_184 0 201 (dk_at dksX4_becomesMaster_4 11 rfl rfl)
theorem dX4_becomesMaster_110 : decode cX4_becomesMaster 110 = .ok (.iaload, 1) := dk_46 (dk_at dksX4_becomesMaster_4 14 rfl rfl)
theorem dX4_becomesMaster_111 : decode cX4_becomesMaster 111 = .ok (.if_icmp .le 7, 3) := dk_164 0 7 (dk_at dksX4_becomesMaster_4 15 rfl rfl)
theorem dX4_becomesMaster_114 : decode cX4_becomesMaster 114 = .ok (.iload_n 2, 1) := dk_28 (dk_at dksX4_becomesMaster_4 18 rfl rfl)
theorem dX4_becomesMaster_115 : decode cX4_becomesMaster 115 = .ok (.goto 14, 3) := dk_167 0 14 (dk_at dksX4_becomesMaster_4 19 rfl rfl)
theorem dX4_becomesMaster_118 : decode cX4_becomesMaster 118 = .ok (.aload_n 0, 1) := dk_42 (dk_at dksX4_becomesMaster_4 22 rfl rfl)
theorem dX4_becomesMaster_119 : decode cX4_becomesMaster 119 = .ok (.getfield 27, 3) := dk_180 0 27 (dk_at dksX4_becomesMaster_5 0 rfl rfl)
theorem dX4_becomesMaster_122 : decode cX4_becomesMaster 122 = .ok (.iload_n 1, 1) := dk_27 (dk_at dksX4_becomesMaster_5 3 rfl rfl)
theorem dX4_becomesMaster_123 : decode cX4_becomesMaster 123 = .ok (.bipush 10, 2) := dk_16 10 (dk_at dksX4_becomesMaster_5 4 rfl rfl)
theorem dX4_becomesMaster_125 : decode cX4_becomesMaster 125 = .ok (.invokestatic 201, 3) := dk_184 0 201 (dk_at dksX4_becomesMaster_5 6 rfl rfl)
theorem dX4_becomesMaster_128 : decode cX4_becomesMaster 128 = .ok (.iaload, 1) := dk_46 (dk_at dksX4_becomesMaster_5 9 rfl rfl)
theorem dX4_becomesMaster_129 : decode cX4_becomesMaster 129 = .ok (.iastore, 1) := dk_79 (dk_at dksX4_becomesMaster_5 10 rfl rfl)
theorem dX4_becomesMaster_130 : decode cX4_becomesMaster 130 = .ok (.return_, 1) := dk_177 (dk_at dksX4_becomesMaster_5 11 rfl rfl)
abbrev cX4_isCalledFor : ByteArray := prog_19_method_78_code
def yX4_isCalledFor : MethodName := ⟨RX4, "isCalledFor", "()Z"⟩
def dkwX4_isCalledFor_3 : List UInt8 := [3, 172]
abbrev dktX4_isCalledFor_3 : List UInt8 := dkwX4_isCalledFor_3 ++ []
def dkwX4_isCalledFor_2 : List UInt8 := [182, 0, 212, 42, 42, 180, 0, 27, 6, 46, 182, 0, 212, 164, 0, 5, 4, 172, 132, 2, 1, 167, 255, 215]
abbrev dktX4_isCalledFor_2 : List UInt8 := dkwX4_isCalledFor_2 ++ dktX4_isCalledFor_3
def dkwX4_isCalledFor_1 : List UInt8 := [3, 172, 3, 61, 28, 42, 180, 0, 17, 6, 46, 162, 0, 37, 27, 28, 184, 0, 221, 153, 0, 23, 42, 28]
abbrev dktX4_isCalledFor_1 : List UInt8 := dkwX4_isCalledFor_1 ++ dktX4_isCalledFor_2
def dkwX4_isCalledFor_0 : List UInt8 := [42, 182, 1, 44, 60, 42, 180, 0, 27, 6, 46, 16, 254, 160, 0, 13, 27, 153, 0, 7, 4, 167, 0, 4]
abbrev dktX4_isCalledFor_0 : List UInt8 := dkwX4_isCalledFor_0 ++ dktX4_isCalledFor_1
theorem dksX4_isCalledFor_0 : cX4_isCalledFor.data.toList.drop 0 = dktX4_isCalledFor_0 := by decide +kernel
theorem dksX4_isCalledFor_1 : cX4_isCalledFor.data.toList.drop 24 = dktX4_isCalledFor_1 := dk_seg dksX4_isCalledFor_0 24 rfl rfl
theorem dksX4_isCalledFor_2 : cX4_isCalledFor.data.toList.drop 48 = dktX4_isCalledFor_2 := dk_seg dksX4_isCalledFor_1 24 rfl rfl
theorem dksX4_isCalledFor_3 : cX4_isCalledFor.data.toList.drop 72 = dktX4_isCalledFor_3 := dk_seg dksX4_isCalledFor_2 24 rfl rfl
theorem dX4_isCalledFor_0 : decode cX4_isCalledFor 0 = .ok (.aload_n 0, 1) := dk_42 (dk_at dksX4_isCalledFor_0 0 rfl rfl)
theorem dX4_isCalledFor_1 : decode cX4_isCalledFor 1 = .ok (.invokevirtual 300, 3) := dk_182 1 44 (dk_at dksX4_isCalledFor_0 1 rfl rfl)
theorem dX4_isCalledFor_4 : decode cX4_isCalledFor 4 = .ok (.istore_n 1, 1) := dk_60 (dk_at dksX4_isCalledFor_0 4 rfl rfl)
theorem dX4_isCalledFor_5 : decode cX4_isCalledFor 5 = .ok (.aload_n 0, 1) := dk_42 (dk_at dksX4_isCalledFor_0 5 rfl rfl)
theorem dX4_isCalledFor_6 : decode cX4_isCalledFor 6 = .ok (.getfield 27, 3) := dk_180 0 27 (dk_at dksX4_isCalledFor_0 6 rfl rfl)
theorem dX4_isCalledFor_9 : decode cX4_isCalledFor 9 = .ok (.iconst 3, 1) := dk_6 (dk_at dksX4_isCalledFor_0 9 rfl rfl)
theorem dX4_isCalledFor_10 : decode cX4_isCalledFor 10 = .ok (.iaload, 1) := dk_46 (dk_at dksX4_isCalledFor_0 10 rfl rfl)
theorem dX4_isCalledFor_11 : decode cX4_isCalledFor 11 = .ok (.bipush (-2), 2) := dk_16 254 (dk_at dksX4_isCalledFor_0 11 rfl rfl)
theorem dX4_isCalledFor_13 : decode cX4_isCalledFor 13 = .ok (.if_icmp .ne 13, 3) := dk_160 0 13 (dk_at dksX4_isCalledFor_0 13 rfl rfl)
theorem dX4_isCalledFor_16 : decode cX4_isCalledFor 16 = .ok (.iload_n 1, 1) := dk_27 (dk_at dksX4_isCalledFor_0 16 rfl rfl)
theorem dX4_isCalledFor_17 : decode cX4_isCalledFor 17 = .ok (.ifCond .eq 7, 3) := dk_153 0 7 (dk_at dksX4_isCalledFor_0 17 rfl rfl)
theorem dX4_isCalledFor_20 : decode cX4_isCalledFor 20 = .ok (.iconst 1, 1) := dk_4 (dk_at dksX4_isCalledFor_0 20 rfl rfl)
theorem dX4_isCalledFor_21 : decode cX4_isCalledFor 21 = .ok (.goto 4, 3) := dk_167 0 4 (dk_at dksX4_isCalledFor_0 21 rfl rfl)
theorem dX4_isCalledFor_24 : decode cX4_isCalledFor 24 = .ok (.iconst 0, 1) := dk_3 (dk_at dksX4_isCalledFor_1 0 rfl rfl)
theorem dX4_isCalledFor_25 : decode cX4_isCalledFor 25 = .ok (.ireturn, 1) := dk_172 (dk_at dksX4_isCalledFor_1 1 rfl rfl)
theorem dX4_isCalledFor_26 : decode cX4_isCalledFor 26 = .ok (.iconst 0, 1) := dk_3 (dk_at dksX4_isCalledFor_1 2 rfl rfl)
theorem dX4_isCalledFor_27 : decode cX4_isCalledFor 27 = .ok (.istore_n 2, 1) := dk_61 (dk_at dksX4_isCalledFor_1 3 rfl rfl)
theorem dX4_isCalledFor_28 : decode cX4_isCalledFor 28 = .ok (.iload_n 2, 1) := dk_28 (dk_at dksX4_isCalledFor_1 4 rfl rfl)
theorem dX4_isCalledFor_29 : decode cX4_isCalledFor 29 = .ok (.aload_n 0, 1) := dk_42 (dk_at dksX4_isCalledFor_1 5 rfl rfl)
theorem dX4_isCalledFor_30 : decode cX4_isCalledFor 30 = .ok (.getfield 17, 3) := dk_180 0 17 (dk_at dksX4_isCalledFor_1 6 rfl rfl)
theorem dX4_isCalledFor_33 : decode cX4_isCalledFor 33 = .ok (.iconst 3, 1) := dk_6 (dk_at dksX4_isCalledFor_1 9 rfl rfl)
theorem dX4_isCalledFor_34 : decode cX4_isCalledFor 34 = .ok (.iaload, 1) := dk_46 (dk_at dksX4_isCalledFor_1 10 rfl rfl)
theorem dX4_isCalledFor_35 : decode cX4_isCalledFor 35 = .ok (.if_icmp .ge 37, 3) := dk_162 0 37 (dk_at dksX4_isCalledFor_1 11 rfl rfl)
theorem dX4_isCalledFor_38 : decode cX4_isCalledFor 38 = .ok (.iload_n 1, 1) := dk_27 (dk_at dksX4_isCalledFor_1 14 rfl rfl)
theorem dX4_isCalledFor_39 : decode cX4_isCalledFor 39 = .ok (.iload_n 2, 1) := dk_28 (dk_at dksX4_isCalledFor_1 15 rfl rfl)
theorem dX4_isCalledFor_40 : decode cX4_isCalledFor 40 = .ok (.invokestatic 221, 3) := dk_184 0 221 (dk_at dksX4_isCalledFor_1 16 rfl rfl)
theorem dX4_isCalledFor_43 : decode cX4_isCalledFor 43 = .ok (.ifCond .eq 23, 3) := dk_153 0 23 (dk_at dksX4_isCalledFor_1 19 rfl rfl)
theorem dX4_isCalledFor_46 : decode cX4_isCalledFor 46 = .ok (.aload_n 0, 1) := dk_42 (dk_at dksX4_isCalledFor_1 22 rfl rfl)
theorem dX4_isCalledFor_47 : decode cX4_isCalledFor 47 = .ok (.iload_n 2, 1) := dk_28 (dk_at dksX4_isCalledFor_1 23 rfl rfl)
theorem dX4_isCalledFor_48 : decode cX4_isCalledFor 48 = .ok (.invokevirtual 212, 3) := dk_182 0 212 (dk_at dksX4_isCalledFor_2 0 rfl rfl)
theorem dX4_isCalledFor_51 : decode cX4_isCalledFor 51 = .ok (.aload_n 0, 1) := dk_42 (dk_at dksX4_isCalledFor_2 3 rfl rfl)
theorem dX4_isCalledFor_52 : decode cX4_isCalledFor 52 = .ok (.aload_n 0, 1) := dk_42 (dk_at dksX4_isCalledFor_2 4 rfl rfl)
theorem dX4_isCalledFor_53 : decode cX4_isCalledFor 53 = .ok (.getfield 27, 3) := dk_180 0 27 (dk_at dksX4_isCalledFor_2 5 rfl rfl)
theorem dX4_isCalledFor_56 : decode cX4_isCalledFor 56 = .ok (.iconst 3, 1) := dk_6 (dk_at dksX4_isCalledFor_2 8 rfl rfl)
theorem dX4_isCalledFor_57 : decode cX4_isCalledFor 57 = .ok (.iaload, 1) := dk_46 (dk_at dksX4_isCalledFor_2 9 rfl rfl)
theorem dX4_isCalledFor_58 : decode cX4_isCalledFor 58 = .ok (.invokevirtual 212, 3) := dk_182 0 212 (dk_at dksX4_isCalledFor_2 10 rfl rfl)
theorem dX4_isCalledFor_61 : decode cX4_isCalledFor 61 = .ok (.if_icmp .le 5, 3) := dk_164 0 5 (dk_at dksX4_isCalledFor_2 13 rfl rfl)
theorem dX4_isCalledFor_64 : decode cX4_isCalledFor 64 = .ok (.iconst 1, 1) := dk_4 (dk_at dksX4_isCalledFor_2 16 rfl rfl)
theorem dX4_isCalledFor_65 : decode cX4_isCalledFor 65 = .ok (.ireturn, 1) := dk_172 (dk_at dksX4_isCalledFor_2 17 rfl rfl)
theorem dX4_isCalledFor_66 : decode cX4_isCalledFor 66 = .ok (.iinc 2 1, 3) := dk_132 2 1 (dk_at dksX4_isCalledFor_2 18 rfl rfl)
theorem dX4_isCalledFor_69 : decode cX4_isCalledFor 69 = .ok (.goto (-41), 3) := dk_167 255 215 (dk_at dksX4_isCalledFor_2 21 rfl rfl)
theorem dX4_isCalledFor_72 : decode cX4_isCalledFor 72 = .ok (.iconst 0, 1) := dk_3 (dk_at dksX4_isCalledFor_3 0 rfl rfl)
theorem dX4_isCalledFor_73 : decode cX4_isCalledFor 73 = .ok (.ireturn, 1) := dk_172 (dk_at dksX4_isCalledFor_3 1 rfl rfl)
abbrev cX4_beginsArbitration : ByteArray := prog_19_method_73_code
def yX4_beginsArbitration : MethodName := ⟨RX4, "beginsArbitration", "()V"⟩
def dkwX4_beginsArbitration_3 : List UInt8 := [42, 27, 5, 182, 0, 250, 79, 132, 1, 1, 167, 255, 211, 177]
abbrev dktX4_beginsArbitration_3 : List UInt8 := dkwX4_beginsArbitration_3 ++ []
def dkwX4_beginsArbitration_2 : List UInt8 := [180, 0, 27, 27, 7, 184, 0, 201, 42, 27, 4, 182, 0, 250, 79, 42, 180, 0, 27, 27, 8, 184, 0, 201]
abbrev dktX4_beginsArbitration_2 : List UInt8 := dkwX4_beginsArbitration_2 ++ dktX4_beginsArbitration_3
def dkwX4_beginsArbitration_1 : List UInt8 := [180, 0, 27, 8, 42, 182, 1, 44, 79, 3, 60, 27, 42, 180, 0, 17, 6, 46, 162, 0, 41, 42]
abbrev dktX4_beginsArbitration_1 : List UInt8 := dkwX4_beginsArbitration_1 ++ dktX4_beginsArbitration_2
def dkwX4_beginsArbitration_0 : List UInt8 := [42, 180, 0, 27, 7, 42, 180, 0, 27, 3, 46, 5, 42, 180, 0, 17, 5, 46, 104, 96, 79, 42]
abbrev dktX4_beginsArbitration_0 : List UInt8 := dkwX4_beginsArbitration_0 ++ dktX4_beginsArbitration_1
theorem dksX4_beginsArbitration_0 : cX4_beginsArbitration.data.toList.drop 0 = dktX4_beginsArbitration_0 := by decide +kernel
theorem dksX4_beginsArbitration_1 : cX4_beginsArbitration.data.toList.drop 22 = dktX4_beginsArbitration_1 := dk_seg dksX4_beginsArbitration_0 22 rfl rfl
theorem dksX4_beginsArbitration_2 : cX4_beginsArbitration.data.toList.drop 44 = dktX4_beginsArbitration_2 := dk_seg dksX4_beginsArbitration_1 22 rfl rfl
theorem dksX4_beginsArbitration_3 : cX4_beginsArbitration.data.toList.drop 68 = dktX4_beginsArbitration_3 := dk_seg dksX4_beginsArbitration_2 24 rfl rfl
theorem dX4_beginsArbitration_0 : decode cX4_beginsArbitration 0 = .ok (.aload_n 0, 1) := dk_42 (dk_at dksX4_beginsArbitration_0 0 rfl rfl)
theorem dX4_beginsArbitration_1 : decode cX4_beginsArbitration 1 = .ok (.getfield 27, 3) := dk_180 0 27 (dk_at dksX4_beginsArbitration_0 1 rfl rfl)
theorem dX4_beginsArbitration_4 : decode cX4_beginsArbitration 4 = .ok (.iconst 4, 1) := dk_7 (dk_at dksX4_beginsArbitration_0 4 rfl rfl)
theorem dX4_beginsArbitration_5 : decode cX4_beginsArbitration 5 = .ok (.aload_n 0, 1) := dk_42 (dk_at dksX4_beginsArbitration_0 5 rfl rfl)
theorem dX4_beginsArbitration_6 : decode cX4_beginsArbitration 6 = .ok (.getfield 27, 3) := dk_180 0 27 (dk_at dksX4_beginsArbitration_0 6 rfl rfl)
theorem dX4_beginsArbitration_9 : decode cX4_beginsArbitration 9 = .ok (.iconst 0, 1) := dk_3 (dk_at dksX4_beginsArbitration_0 9 rfl rfl)
theorem dX4_beginsArbitration_10 : decode cX4_beginsArbitration 10 = .ok (.iaload, 1) := dk_46 (dk_at dksX4_beginsArbitration_0 10 rfl rfl)
theorem dX4_beginsArbitration_11 : decode cX4_beginsArbitration 11 = .ok (.iconst 2, 1) := dk_5 (dk_at dksX4_beginsArbitration_0 11 rfl rfl)
theorem dX4_beginsArbitration_12 : decode cX4_beginsArbitration 12 = .ok (.aload_n 0, 1) := dk_42 (dk_at dksX4_beginsArbitration_0 12 rfl rfl)
theorem dX4_beginsArbitration_13 : decode cX4_beginsArbitration 13 = .ok (.getfield 17, 3) := dk_180 0 17 (dk_at dksX4_beginsArbitration_0 13 rfl rfl)
theorem dX4_beginsArbitration_16 : decode cX4_beginsArbitration 16 = .ok (.iconst 2, 1) := dk_5 (dk_at dksX4_beginsArbitration_0 16 rfl rfl)
theorem dX4_beginsArbitration_17 : decode cX4_beginsArbitration 17 = .ok (.iaload, 1) := dk_46 (dk_at dksX4_beginsArbitration_0 17 rfl rfl)
theorem dX4_beginsArbitration_18 : decode cX4_beginsArbitration 18 = .ok (.imul, 1) := dk_104 (dk_at dksX4_beginsArbitration_0 18 rfl rfl)
theorem dX4_beginsArbitration_19 : decode cX4_beginsArbitration 19 = .ok (.iadd, 1) := dk_96 (dk_at dksX4_beginsArbitration_0 19 rfl rfl)
theorem dX4_beginsArbitration_20 : decode cX4_beginsArbitration 20 = .ok (.iastore, 1) := dk_79 (dk_at dksX4_beginsArbitration_0 20 rfl rfl)
theorem dX4_beginsArbitration_21 : decode cX4_beginsArbitration 21 = .ok (.aload_n 0, 1) := dk_42 (dk_at dksX4_beginsArbitration_0 21 rfl rfl)
theorem dX4_beginsArbitration_22 : decode cX4_beginsArbitration 22 = .ok (.getfield 27, 3) := dk_180 0 27 (dk_at dksX4_beginsArbitration_1 0 rfl rfl)
theorem dX4_beginsArbitration_25 : decode cX4_beginsArbitration 25 = .ok (.iconst 5, 1) := dk_8 (dk_at dksX4_beginsArbitration_1 3 rfl rfl)
theorem dX4_beginsArbitration_26 : decode cX4_beginsArbitration 26 = .ok (.aload_n 0, 1) := dk_42 (dk_at dksX4_beginsArbitration_1 4 rfl rfl)
theorem dX4_beginsArbitration_27 : decode cX4_beginsArbitration 27 = .ok (.invokevirtual 300, 3) := dk_182 1 44 (dk_at dksX4_beginsArbitration_1 5 rfl rfl)
theorem dX4_beginsArbitration_30 : decode cX4_beginsArbitration 30 = .ok (.iastore, 1) := dk_79 (dk_at dksX4_beginsArbitration_1 8 rfl rfl)
theorem dX4_beginsArbitration_31 : decode cX4_beginsArbitration 31 = .ok (.iconst 0, 1) := dk_3 (dk_at dksX4_beginsArbitration_1 9 rfl rfl)
theorem dX4_beginsArbitration_32 : decode cX4_beginsArbitration 32 = .ok (.istore_n 1, 1) := dk_60 (dk_at dksX4_beginsArbitration_1 10 rfl rfl)
theorem dX4_beginsArbitration_33 : decode cX4_beginsArbitration 33 = .ok (.iload_n 1, 1) := dk_27 (dk_at dksX4_beginsArbitration_1 11 rfl rfl)
theorem dX4_beginsArbitration_34 : decode cX4_beginsArbitration 34 = .ok (.aload_n 0, 1) := dk_42 (dk_at dksX4_beginsArbitration_1 12 rfl rfl)
theorem dX4_beginsArbitration_35 : decode cX4_beginsArbitration 35 = .ok (.getfield 17, 3) := dk_180 0 17 (dk_at dksX4_beginsArbitration_1 13 rfl rfl)
theorem dX4_beginsArbitration_38 : decode cX4_beginsArbitration 38 = .ok (.iconst 3, 1) := dk_6 (dk_at dksX4_beginsArbitration_1 16 rfl rfl)
theorem dX4_beginsArbitration_39 : decode cX4_beginsArbitration 39 = .ok (.iaload, 1) := dk_46 (dk_at dksX4_beginsArbitration_1 17 rfl rfl)
theorem dX4_beginsArbitration_40 : decode cX4_beginsArbitration 40 = .ok (.if_icmp .ge 41, 3) := dk_162 0 41 (dk_at dksX4_beginsArbitration_1 18 rfl rfl)
theorem dX4_beginsArbitration_43 : decode cX4_beginsArbitration 43 = .ok (.aload_n 0, 1) := dk_42 (dk_at dksX4_beginsArbitration_1 21 rfl rfl)
theorem dX4_beginsArbitration_44 : decode cX4_beginsArbitration 44 = .ok (.getfield 27, 3) := dk_180 0 27 (dk_at dksX4_beginsArbitration_2 0 rfl rfl)
theorem dX4_beginsArbitration_47 : decode cX4_beginsArbitration 47 = .ok (.iload_n 1, 1) := dk_27 (dk_at dksX4_beginsArbitration_2 3 rfl rfl)
theorem dX4_beginsArbitration_48 : decode cX4_beginsArbitration 48 = .ok (.iconst 4, 1) := dk_7 (dk_at dksX4_beginsArbitration_2 4 rfl rfl)
theorem dX4_beginsArbitration_49 : decode cX4_beginsArbitration 49 = .ok (.invokestatic 201, 3) := dk_184 0 201 (dk_at dksX4_beginsArbitration_2 5 rfl rfl)
theorem dX4_beginsArbitration_52 : decode cX4_beginsArbitration 52 = .ok (.aload_n 0, 1) := dk_42 (dk_at dksX4_beginsArbitration_2 8 rfl rfl)
theorem dX4_beginsArbitration_53 : decode cX4_beginsArbitration 53 = .ok (.iload_n 1, 1) := dk_27 (dk_at dksX4_beginsArbitration_2 9 rfl rfl)
theorem dX4_beginsArbitration_54 : decode cX4_beginsArbitration 54 = .ok (.iconst 1, 1) := dk_4 (dk_at dksX4_beginsArbitration_2 10 rfl rfl)
theorem dX4_beginsArbitration_55 : decode cX4_beginsArbitration 55 = .ok (.invokevirtual 250, 3) := dk_182 0 250 (dk_at dksX4_beginsArbitration_2 11 rfl rfl)
theorem dX4_beginsArbitration_58 : decode cX4_beginsArbitration 58 = .ok (.iastore, 1) := dk_79 (dk_at dksX4_beginsArbitration_2 14 rfl rfl)
theorem dX4_beginsArbitration_59 : decode cX4_beginsArbitration 59 = .ok (.aload_n 0, 1) := dk_42 (dk_at dksX4_beginsArbitration_2 15 rfl rfl)
theorem dX4_beginsArbitration_60 : decode cX4_beginsArbitration 60 = .ok (.getfield 27, 3) := dk_180 0 27 (dk_at dksX4_beginsArbitration_2 16 rfl rfl)
theorem dX4_beginsArbitration_63 : decode cX4_beginsArbitration 63 = .ok (.iload_n 1, 1) := dk_27 (dk_at dksX4_beginsArbitration_2 19 rfl rfl)
theorem dX4_beginsArbitration_64 : decode cX4_beginsArbitration 64 = .ok (.iconst 5, 1) := dk_8 (dk_at dksX4_beginsArbitration_2 20 rfl rfl)
theorem dX4_beginsArbitration_65 : decode cX4_beginsArbitration 65 = .ok (.invokestatic 201, 3) := dk_184 0 201 (dk_at dksX4_beginsArbitration_2 21 rfl rfl)
theorem dX4_beginsArbitration_68 : decode cX4_beginsArbitration 68 = .ok (.aload_n 0, 1) := dk_42 (dk_at dksX4_beginsArbitration_3 0 rfl rfl)
theorem dX4_beginsArbitration_69 : decode cX4_beginsArbitration 69 = .ok (.iload_n 1, 1) := dk_27 (dk_at dksX4_beginsArbitration_3 1 rfl rfl)
theorem dX4_beginsArbitration_70 : decode cX4_beginsArbitration 70 = .ok (.iconst 2, 1) := dk_5 (dk_at dksX4_beginsArbitration_3 2 rfl rfl)
theorem dX4_beginsArbitration_71 : decode cX4_beginsArbitration 71 = .ok (.invokevirtual 250, 3) := dk_182 0 250 (dk_at dksX4_beginsArbitration_3 3 rfl rfl)
theorem dX4_beginsArbitration_74 : decode cX4_beginsArbitration 74 = .ok (.iastore, 1) := dk_79 (dk_at dksX4_beginsArbitration_3 6 rfl rfl)
theorem dX4_beginsArbitration_75 : decode cX4_beginsArbitration 75 = .ok (.iinc 1 1, 3) := dk_132 1 1 (dk_at dksX4_beginsArbitration_3 7 rfl rfl)
theorem dX4_beginsArbitration_78 : decode cX4_beginsArbitration 78 = .ok (.goto (-45), 3) := dk_167 255 211 (dk_at dksX4_beginsArbitration_3 10 rfl rfl)
theorem dX4_beginsArbitration_81 : decode cX4_beginsArbitration 81 = .ok (.return_, 1) := dk_177 (dk_at dksX4_beginsArbitration_3 13 rfl rfl)
abbrev cX4_takesBack : ByteArray := prog_19_method_81_code
def yX4_takesBack : MethodName := ⟨RX4, "takesBack", "()V"⟩
def dkwX4_takesBack_1 : List UInt8 := [167, 255, 234, 177]
abbrev dktX4_takesBack_1 : List UInt8 := dkwX4_takesBack_1 ++ []
def dkwX4_takesBack_0 : List UInt8 := [3, 60, 27, 17, 0, 251, 162, 0, 21, 42, 180, 0, 27, 27, 42, 180, 0, 30, 27, 46, 79, 132, 1, 1]
abbrev dktX4_takesBack_0 : List UInt8 := dkwX4_takesBack_0 ++ dktX4_takesBack_1
theorem dksX4_takesBack_0 : cX4_takesBack.data.toList.drop 0 = dktX4_takesBack_0 := by decide +kernel
theorem dksX4_takesBack_1 : cX4_takesBack.data.toList.drop 24 = dktX4_takesBack_1 := dk_seg dksX4_takesBack_0 24 rfl rfl
theorem dX4_takesBack_0 : decode cX4_takesBack 0 = .ok (.iconst 0, 1) := dk_3 (dk_at dksX4_takesBack_0 0 rfl rfl)
theorem dX4_takesBack_1 : decode cX4_takesBack 1 = .ok (.istore_n 1, 1) := dk_60 (dk_at dksX4_takesBack_0 1 rfl rfl)
theorem dX4_takesBack_2 : decode cX4_takesBack 2 = .ok (.iload_n 1, 1) := dk_27 (dk_at dksX4_takesBack_0 2 rfl rfl)
theorem dX4_takesBack_3 : decode cX4_takesBack 3 = .ok (.sipush 251, 3) := dk_17 0 251 (dk_at dksX4_takesBack_0 3 rfl rfl)
theorem dX4_takesBack_6 : decode cX4_takesBack 6 = .ok (.if_icmp .ge 21, 3) := dk_162 0 21 (dk_at dksX4_takesBack_0 6 rfl rfl)
theorem dX4_takesBack_9 : decode cX4_takesBack 9 = .ok (.aload_n 0, 1) := dk_42 (dk_at dksX4_takesBack_0 9 rfl rfl)
theorem dX4_takesBack_10 : decode cX4_takesBack 10 = .ok (.getfield 27, 3) := dk_180 0 27 (dk_at dksX4_takesBack_0 10 rfl rfl)
theorem dX4_takesBack_13 : decode cX4_takesBack 13 = .ok (.iload_n 1, 1) := dk_27 (dk_at dksX4_takesBack_0 13 rfl rfl)
theorem dX4_takesBack_14 : decode cX4_takesBack 14 = .ok (.aload_n 0, 1) := dk_42 (dk_at dksX4_takesBack_0 14 rfl rfl)
theorem dX4_takesBack_15 : decode cX4_takesBack 15 = .ok (.getfield 30, 3) := dk_180 0 30 (dk_at dksX4_takesBack_0 15 rfl rfl)
theorem dX4_takesBack_18 : decode cX4_takesBack 18 = .ok (.iload_n 1, 1) := dk_27 (dk_at dksX4_takesBack_0 18 rfl rfl)
theorem dX4_takesBack_19 : decode cX4_takesBack 19 = .ok (.iaload, 1) := dk_46 (dk_at dksX4_takesBack_0 19 rfl rfl)
theorem dX4_takesBack_20 : decode cX4_takesBack 20 = .ok (.iastore, 1) := dk_79 (dk_at dksX4_takesBack_0 20 rfl rfl)
theorem dX4_takesBack_21 : decode cX4_takesBack 21 = .ok (.iinc 1 1, 3) := dk_132 1 1 (dk_at dksX4_takesBack_0 21 rfl rfl)
theorem dX4_takesBack_24 : decode cX4_takesBack 24 = .ok (.goto (-22), 3) := dk_167 255 234 (dk_at dksX4_takesBack_1 0 rfl rfl)
theorem dX4_takesBack_27 : decode cX4_takesBack 27 = .ok (.return_, 1) := dk_177 (dk_at dksX4_takesBack_1 3 rfl rfl)
abbrev cX4_till : ByteArray := prog_19_method_91_code
def yX4_till : MethodName := ⟨RX4, "till", "(I)I"⟩
def dkwX4_till_4 : List UInt8 := [182, 1, 81, 21, 4, 153, 0, 7, 29, 167, 0, 5, 16, 254, 172]
abbrev dktX4_till_4 : List UInt8 := dkwX4_till_4 ++ []
def dkwX4_till_3 : List UInt8 := [180, 0, 27, 27, 16, 6, 184, 0, 201, 46, 28, 164, 0, 7, 4, 167, 0, 4, 3, 54, 4, 42]
abbrev dktX4_till_3 : List UInt8 := dkwX4_till_3 ++ dktX4_till_4
def dkwX4_till_2 : List UInt8 := [27, 16, 6, 184, 0, 201, 46, 28, 160, 0, 13, 42, 182, 1, 78, 132, 3, 1, 167, 255, 227, 42]
abbrev dktX4_till_2 : List UInt8 := dkwX4_till_2 ++ dktX4_till_3
def dkwX4_till_1 : List UInt8 := [180, 0, 27, 27, 16, 6, 184, 0, 201, 46, 61, 3, 62, 29, 17, 7, 208, 162, 0, 28, 42, 180, 0, 27]
abbrev dktX4_till_1 : List UInt8 := dkwX4_till_1 ++ dktX4_till_2
def dkwX4_till_0 : List UInt8 := [42, 42, 27, 182, 1, 12, 184, 1, 68, 182, 0, 180, 153, 0, 5, 2, 172, 42, 182, 1, 75, 42]
abbrev dktX4_till_0 : List UInt8 := dkwX4_till_0 ++ dktX4_till_1
theorem dksX4_till_0 : cX4_till.data.toList.drop 0 = dktX4_till_0 := by decide +kernel
theorem dksX4_till_1 : cX4_till.data.toList.drop 22 = dktX4_till_1 := dk_seg dksX4_till_0 22 rfl rfl
theorem dksX4_till_2 : cX4_till.data.toList.drop 46 = dktX4_till_2 := dk_seg dksX4_till_1 24 rfl rfl
theorem dksX4_till_3 : cX4_till.data.toList.drop 68 = dktX4_till_3 := dk_seg dksX4_till_2 22 rfl rfl
theorem dksX4_till_4 : cX4_till.data.toList.drop 90 = dktX4_till_4 := dk_seg dksX4_till_3 22 rfl rfl
theorem dX4_till_0 : decode cX4_till 0 = .ok (.aload_n 0, 1) := dk_42 (dk_at dksX4_till_0 0 rfl rfl)
theorem dX4_till_1 : decode cX4_till 1 = .ok (.aload_n 0, 1) := dk_42 (dk_at dksX4_till_0 1 rfl rfl)
theorem dX4_till_2 : decode cX4_till 2 = .ok (.iload_n 1, 1) := dk_27 (dk_at dksX4_till_0 2 rfl rfl)
theorem dX4_till_3 : decode cX4_till 3 = .ok (.invokevirtual 268, 3) := dk_182 1 12 (dk_at dksX4_till_0 3 rfl rfl)
theorem dX4_till_6 : decode cX4_till 6 = .ok (.invokestatic 324, 3) := dk_184 1 68 (dk_at dksX4_till_0 6 rfl rfl)
theorem dX4_till_9 : decode cX4_till 9 = .ok (.invokevirtual 180, 3) := dk_182 0 180 (dk_at dksX4_till_0 9 rfl rfl)
theorem dX4_till_12 : decode cX4_till 12 = .ok (.ifCond .eq 5, 3) := dk_153 0 5 (dk_at dksX4_till_0 12 rfl rfl)
theorem dX4_till_15 : decode cX4_till 15 = .ok (.iconst (-1), 1) := dk_2 (dk_at dksX4_till_0 15 rfl rfl)
theorem dX4_till_16 : decode cX4_till 16 = .ok (.ireturn, 1) := dk_172 (dk_at dksX4_till_0 16 rfl rfl)
theorem dX4_till_17 : decode cX4_till 17 = .ok (.aload_n 0, 1) := dk_42 (dk_at dksX4_till_0 17 rfl rfl)
theorem dX4_till_18 : decode cX4_till 18 = .ok (.invokevirtual 331, 3) := dk_182 1 75 (dk_at dksX4_till_0 18 rfl rfl)
theorem dX4_till_21 : decode cX4_till 21 = .ok (.aload_n 0, 1) := dk_42 (dk_at dksX4_till_0 21 rfl rfl)
theorem dX4_till_22 : decode cX4_till 22 = .ok (.getfield 27, 3) := dk_180 0 27 (dk_at dksX4_till_1 0 rfl rfl)
theorem dX4_till_25 : decode cX4_till 25 = .ok (.iload_n 1, 1) := dk_27 (dk_at dksX4_till_1 3 rfl rfl)
theorem dX4_till_26 : decode cX4_till 26 = .ok (.bipush 6, 2) := dk_16 6 (dk_at dksX4_till_1 4 rfl rfl)
theorem dX4_till_28 : decode cX4_till 28 = .ok (.invokestatic 201, 3) := dk_184 0 201 (dk_at dksX4_till_1 6 rfl rfl)
theorem dX4_till_31 : decode cX4_till 31 = .ok (.iaload, 1) := dk_46 (dk_at dksX4_till_1 9 rfl rfl)
theorem dX4_till_32 : decode cX4_till 32 = .ok (.istore_n 2, 1) := dk_61 (dk_at dksX4_till_1 10 rfl rfl)
theorem dX4_till_33 : decode cX4_till 33 = .ok (.iconst 0, 1) := dk_3 (dk_at dksX4_till_1 11 rfl rfl)
theorem dX4_till_34 : decode cX4_till 34 = .ok (.istore_n 3, 1) := dk_62 (dk_at dksX4_till_1 12 rfl rfl)
theorem dX4_till_35 : decode cX4_till 35 = .ok (.iload_n 3, 1) := dk_29 (dk_at dksX4_till_1 13 rfl rfl)
theorem dX4_till_36 : decode cX4_till 36 = .ok (.sipush 2000, 3) := dk_17 7 208 (dk_at dksX4_till_1 14 rfl rfl)
theorem dX4_till_39 : decode cX4_till 39 = .ok (.if_icmp .ge 28, 3) := dk_162 0 28 (dk_at dksX4_till_1 17 rfl rfl)
theorem dX4_till_42 : decode cX4_till 42 = .ok (.aload_n 0, 1) := dk_42 (dk_at dksX4_till_1 20 rfl rfl)
theorem dX4_till_43 : decode cX4_till 43 = .ok (.getfield 27, 3) := dk_180 0 27 (dk_at dksX4_till_1 21 rfl rfl)
theorem dX4_till_46 : decode cX4_till 46 = .ok (.iload_n 1, 1) := dk_27 (dk_at dksX4_till_2 0 rfl rfl)
theorem dX4_till_47 : decode cX4_till 47 = .ok (.bipush 6, 2) := dk_16 6 (dk_at dksX4_till_2 1 rfl rfl)
theorem dX4_till_49 : decode cX4_till 49 = .ok (.invokestatic 201, 3) := dk_184 0 201 (dk_at dksX4_till_2 3 rfl rfl)
theorem dX4_till_52 : decode cX4_till 52 = .ok (.iaload, 1) := dk_46 (dk_at dksX4_till_2 6 rfl rfl)
theorem dX4_till_53 : decode cX4_till 53 = .ok (.iload_n 2, 1) := dk_28 (dk_at dksX4_till_2 7 rfl rfl)
theorem dX4_till_54 : decode cX4_till 54 = .ok (.if_icmp .ne 13, 3) := dk_160 0 13 (dk_at dksX4_till_2 8 rfl rfl)
theorem dX4_till_57 : decode cX4_till 57 = .ok (.aload_n 0, 1) := dk_42 (dk_at dksX4_till_2 11 rfl rfl)
theorem dX4_till_58 : decode cX4_till 58 = .ok (.invokevirtual 334, 3) := dk_182 1 78 (dk_at dksX4_till_2 12 rfl rfl)
theorem dX4_till_61 : decode cX4_till 61 = .ok (.iinc 3 1, 3) := dk_132 3 1 (dk_at dksX4_till_2 15 rfl rfl)
theorem dX4_till_64 : decode cX4_till 64 = .ok (.goto (-29), 3) := dk_167 255 227 (dk_at dksX4_till_2 18 rfl rfl)
theorem dX4_till_67 : decode cX4_till 67 = .ok (.aload_n 0, 1) := dk_42 (dk_at dksX4_till_2 21 rfl rfl)
theorem dX4_till_68 : decode cX4_till 68 = .ok (.getfield 27, 3) := dk_180 0 27 (dk_at dksX4_till_3 0 rfl rfl)
theorem dX4_till_71 : decode cX4_till 71 = .ok (.iload_n 1, 1) := dk_27 (dk_at dksX4_till_3 3 rfl rfl)
theorem dX4_till_72 : decode cX4_till 72 = .ok (.bipush 6, 2) := dk_16 6 (dk_at dksX4_till_3 4 rfl rfl)
theorem dX4_till_74 : decode cX4_till 74 = .ok (.invokestatic 201, 3) := dk_184 0 201 (dk_at dksX4_till_3 6 rfl rfl)
theorem dX4_till_77 : decode cX4_till 77 = .ok (.iaload, 1) := dk_46 (dk_at dksX4_till_3 9 rfl rfl)
theorem dX4_till_78 : decode cX4_till 78 = .ok (.iload_n 2, 1) := dk_28 (dk_at dksX4_till_3 10 rfl rfl)
theorem dX4_till_79 : decode cX4_till 79 = .ok (.if_icmp .le 7, 3) := dk_164 0 7 (dk_at dksX4_till_3 11 rfl rfl)
theorem dX4_till_82 : decode cX4_till 82 = .ok (.iconst 1, 1) := dk_4 (dk_at dksX4_till_3 14 rfl rfl)
theorem dX4_till_83 : decode cX4_till 83 = .ok (.goto 4, 3) := dk_167 0 4 (dk_at dksX4_till_3 15 rfl rfl)
theorem dX4_till_86 : decode cX4_till 86 = .ok (.iconst 0, 1) := dk_3 (dk_at dksX4_till_3 18 rfl rfl)
theorem dX4_till_87 : decode cX4_till 87 = .ok (.istore 4, 2) := dk_54 4 (dk_at dksX4_till_3 19 rfl rfl)
theorem dX4_till_89 : decode cX4_till 89 = .ok (.aload_n 0, 1) := dk_42 (dk_at dksX4_till_3 21 rfl rfl)
theorem dX4_till_90 : decode cX4_till 90 = .ok (.invokevirtual 337, 3) := dk_182 1 81 (dk_at dksX4_till_4 0 rfl rfl)
theorem dX4_till_93 : decode cX4_till 93 = .ok (.iload 4, 2) := dk_21 4 (dk_at dksX4_till_4 3 rfl rfl)
theorem dX4_till_95 : decode cX4_till 95 = .ok (.ifCond .eq 7, 3) := dk_153 0 7 (dk_at dksX4_till_4 5 rfl rfl)
theorem dX4_till_98 : decode cX4_till 98 = .ok (.iload_n 3, 1) := dk_29 (dk_at dksX4_till_4 8 rfl rfl)
theorem dX4_till_99 : decode cX4_till 99 = .ok (.goto 5, 3) := dk_167 0 5 (dk_at dksX4_till_4 9 rfl rfl)
theorem dX4_till_102 : decode cX4_till 102 = .ok (.bipush (-2), 2) := dk_16 254 (dk_at dksX4_till_4 12 rfl rfl)
theorem dX4_till_104 : decode cX4_till 104 = .ok (.ireturn, 1) := dk_172 (dk_at dksX4_till_4 14 rfl rfl)
abbrev cX4_about : ByteArray := prog_19_method_92_code
def yX4_about : MethodName := ⟨RX4, "about", "(I)I"⟩
def dkwX4_about_2 : List UInt8 := [167, 0, 9, 42, 180, 0, 17, 27, 46, 172]
abbrev dktX4_about_2 : List UInt8 := dkwX4_about_2 ++ []
def dkwX4_about_1 : List UInt8 := [184, 1, 68, 182, 0, 180, 153, 0, 5, 2, 172, 27, 8, 160, 0, 12, 42, 180, 0, 27, 3, 46]
abbrev dktX4_about_1 : List UInt8 := dkwX4_about_1 ++ dktX4_about_2
def dkwX4_about_0 : List UInt8 := [42, 42, 180, 0, 192, 153, 0, 16, 27, 3, 8, 184, 0, 83, 153, 0, 7, 4, 167, 0, 4, 3]
abbrev dktX4_about_0 : List UInt8 := dkwX4_about_0 ++ dktX4_about_1
theorem dksX4_about_0 : cX4_about.data.toList.drop 0 = dktX4_about_0 := by decide +kernel
theorem dksX4_about_1 : cX4_about.data.toList.drop 22 = dktX4_about_1 := dk_seg dksX4_about_0 22 rfl rfl
theorem dksX4_about_2 : cX4_about.data.toList.drop 44 = dktX4_about_2 := dk_seg dksX4_about_1 22 rfl rfl
theorem dX4_about_0 : decode cX4_about 0 = .ok (.aload_n 0, 1) := dk_42 (dk_at dksX4_about_0 0 rfl rfl)
theorem dX4_about_1 : decode cX4_about 1 = .ok (.aload_n 0, 1) := dk_42 (dk_at dksX4_about_0 1 rfl rfl)
theorem dX4_about_2 : decode cX4_about 2 = .ok (.getfield 192, 3) := dk_180 0 192 (dk_at dksX4_about_0 2 rfl rfl)
theorem dX4_about_5 : decode cX4_about 5 = .ok (.ifCond .eq 16, 3) := dk_153 0 16 (dk_at dksX4_about_0 5 rfl rfl)
theorem dX4_about_8 : decode cX4_about 8 = .ok (.iload_n 1, 1) := dk_27 (dk_at dksX4_about_0 8 rfl rfl)
theorem dX4_about_9 : decode cX4_about 9 = .ok (.iconst 0, 1) := dk_3 (dk_at dksX4_about_0 9 rfl rfl)
theorem dX4_about_10 : decode cX4_about 10 = .ok (.iconst 5, 1) := dk_8 (dk_at dksX4_about_0 10 rfl rfl)
theorem dX4_about_11 : decode cX4_about 11 = .ok (.invokestatic 83, 3) := dk_184 0 83 (dk_at dksX4_about_0 11 rfl rfl)
theorem dX4_about_14 : decode cX4_about 14 = .ok (.ifCond .eq 7, 3) := dk_153 0 7 (dk_at dksX4_about_0 14 rfl rfl)
theorem dX4_about_17 : decode cX4_about 17 = .ok (.iconst 1, 1) := dk_4 (dk_at dksX4_about_0 17 rfl rfl)
theorem dX4_about_18 : decode cX4_about 18 = .ok (.goto 4, 3) := dk_167 0 4 (dk_at dksX4_about_0 18 rfl rfl)
theorem dX4_about_21 : decode cX4_about 21 = .ok (.iconst 0, 1) := dk_3 (dk_at dksX4_about_0 21 rfl rfl)
theorem dX4_about_22 : decode cX4_about 22 = .ok (.invokestatic 324, 3) := dk_184 1 68 (dk_at dksX4_about_1 0 rfl rfl)
theorem dX4_about_25 : decode cX4_about 25 = .ok (.invokevirtual 180, 3) := dk_182 0 180 (dk_at dksX4_about_1 3 rfl rfl)
theorem dX4_about_28 : decode cX4_about 28 = .ok (.ifCond .eq 5, 3) := dk_153 0 5 (dk_at dksX4_about_1 6 rfl rfl)
theorem dX4_about_31 : decode cX4_about 31 = .ok (.iconst (-1), 1) := dk_2 (dk_at dksX4_about_1 9 rfl rfl)
theorem dX4_about_32 : decode cX4_about 32 = .ok (.ireturn, 1) := dk_172 (dk_at dksX4_about_1 10 rfl rfl)
theorem dX4_about_33 : decode cX4_about 33 = .ok (.iload_n 1, 1) := dk_27 (dk_at dksX4_about_1 11 rfl rfl)
theorem dX4_about_34 : decode cX4_about 34 = .ok (.iconst 5, 1) := dk_8 (dk_at dksX4_about_1 12 rfl rfl)
theorem dX4_about_35 : decode cX4_about 35 = .ok (.if_icmp .ne 12, 3) := dk_160 0 12 (dk_at dksX4_about_1 13 rfl rfl)
theorem dX4_about_38 : decode cX4_about 38 = .ok (.aload_n 0, 1) := dk_42 (dk_at dksX4_about_1 16 rfl rfl)
theorem dX4_about_39 : decode cX4_about 39 = .ok (.getfield 27, 3) := dk_180 0 27 (dk_at dksX4_about_1 17 rfl rfl)
theorem dX4_about_42 : decode cX4_about 42 = .ok (.iconst 0, 1) := dk_3 (dk_at dksX4_about_1 20 rfl rfl)
theorem dX4_about_43 : decode cX4_about 43 = .ok (.iaload, 1) := dk_46 (dk_at dksX4_about_1 21 rfl rfl)
theorem dX4_about_44 : decode cX4_about 44 = .ok (.goto 9, 3) := dk_167 0 9 (dk_at dksX4_about_2 0 rfl rfl)
theorem dX4_about_47 : decode cX4_about 47 = .ok (.aload_n 0, 1) := dk_42 (dk_at dksX4_about_2 3 rfl rfl)
theorem dX4_about_48 : decode cX4_about 48 = .ok (.getfield 17, 3) := dk_180 0 17 (dk_at dksX4_about_2 4 rfl rfl)
theorem dX4_about_51 : decode cX4_about 51 = .ok (.iload_n 1, 1) := dk_27 (dk_at dksX4_about_2 7 rfl rfl)
theorem dX4_about_52 : decode cX4_about 52 = .ok (.iaload, 1) := dk_46 (dk_at dksX4_about_2 8 rfl rfl)
theorem dX4_about_53 : decode cX4_about 53 = .ok (.ireturn, 1) := dk_172 (dk_at dksX4_about_2 9 rfl rfl)
abbrev cX4_board : ByteArray := prog_19_method_93_code
def yX4_board : MethodName := ⟨RX4, "board", "(II)I"⟩
def dkwX4_board_5 : List UInt8 := [180, 0, 27, 27, 3, 184, 0, 201, 46, 172, 42, 180, 0, 27, 27, 6, 184, 0, 201, 46, 172]
abbrev dktX4_board_5 : List UInt8 := dkwX4_board_5 ++ []
def dkwX4_board_4 : List UInt8 := [16, 17, 27, 96, 46, 172, 42, 27, 182, 0, 212, 172, 42, 180, 0, 27, 27, 5, 184, 0, 201, 46, 172, 42]
abbrev dktX4_board_4 : List UInt8 := dkwX4_board_4 ++ dktX4_board_5
def dkwX4_board_3 : List UInt8 := [42, 180, 0, 17, 8, 27, 96, 46, 172, 42, 180, 0, 17, 16, 11, 27, 96, 46, 172, 42, 180, 0, 17]
abbrev dktX4_board_3 : List UInt8 := dkwX4_board_3 ++ dktX4_board_4
def dkwX4_board_2 : List UInt8 := [170, 0, 0, 0, 0, 0, 0, 97, 0, 0, 0, 0, 0, 0, 0, 5, 0, 0, 0, 40, 0, 0, 0, 49, 0, 0, 0, 59, 0, 0, 0, 69, 0, 0, 0, 75, 0, 0, 0, 86]
abbrev dktX4_board_2 : List UInt8 := dkwX4_board_2 ++ dktX4_board_3
def dkwX4_board_1 : List UInt8 := [184, 1, 68, 182, 0, 180, 153, 0, 5, 2, 172, 28]
abbrev dktX4_board_1 : List UInt8 := dkwX4_board_1 ++ dktX4_board_2
def dkwX4_board_0 : List UInt8 := [42, 42, 27, 182, 1, 12, 153, 0, 17, 28, 3, 16, 6, 184, 0, 83, 153, 0, 7, 4, 167, 0, 4, 3]
abbrev dktX4_board_0 : List UInt8 := dkwX4_board_0 ++ dktX4_board_1
theorem dksX4_board_0 : cX4_board.data.toList.drop 0 = dktX4_board_0 := by decide +kernel
theorem dksX4_board_1 : cX4_board.data.toList.drop 24 = dktX4_board_1 := dk_seg dksX4_board_0 24 rfl rfl
theorem dksX4_board_2 : cX4_board.data.toList.drop 36 = dktX4_board_2 := dk_seg dksX4_board_1 12 rfl rfl
theorem dksX4_board_3 : cX4_board.data.toList.drop 76 = dktX4_board_3 := dk_seg dksX4_board_2 40 rfl rfl
theorem dksX4_board_4 : cX4_board.data.toList.drop 99 = dktX4_board_4 := dk_seg dksX4_board_3 23 rfl rfl
theorem dksX4_board_5 : cX4_board.data.toList.drop 123 = dktX4_board_5 := dk_seg dksX4_board_4 24 rfl rfl
theorem dX4_board_0 : decode cX4_board 0 = .ok (.aload_n 0, 1) := dk_42 (dk_at dksX4_board_0 0 rfl rfl)
theorem dX4_board_1 : decode cX4_board 1 = .ok (.aload_n 0, 1) := dk_42 (dk_at dksX4_board_0 1 rfl rfl)
theorem dX4_board_2 : decode cX4_board 2 = .ok (.iload_n 1, 1) := dk_27 (dk_at dksX4_board_0 2 rfl rfl)
theorem dX4_board_3 : decode cX4_board 3 = .ok (.invokevirtual 268, 3) := dk_182 1 12 (dk_at dksX4_board_0 3 rfl rfl)
theorem dX4_board_6 : decode cX4_board 6 = .ok (.ifCond .eq 17, 3) := dk_153 0 17 (dk_at dksX4_board_0 6 rfl rfl)
theorem dX4_board_9 : decode cX4_board 9 = .ok (.iload_n 2, 1) := dk_28 (dk_at dksX4_board_0 9 rfl rfl)
theorem dX4_board_10 : decode cX4_board 10 = .ok (.iconst 0, 1) := dk_3 (dk_at dksX4_board_0 10 rfl rfl)
theorem dX4_board_11 : decode cX4_board 11 = .ok (.bipush 6, 2) := dk_16 6 (dk_at dksX4_board_0 11 rfl rfl)
theorem dX4_board_13 : decode cX4_board 13 = .ok (.invokestatic 83, 3) := dk_184 0 83 (dk_at dksX4_board_0 13 rfl rfl)
theorem dX4_board_16 : decode cX4_board 16 = .ok (.ifCond .eq 7, 3) := dk_153 0 7 (dk_at dksX4_board_0 16 rfl rfl)
theorem dX4_board_19 : decode cX4_board 19 = .ok (.iconst 1, 1) := dk_4 (dk_at dksX4_board_0 19 rfl rfl)
theorem dX4_board_20 : decode cX4_board 20 = .ok (.goto 4, 3) := dk_167 0 4 (dk_at dksX4_board_0 20 rfl rfl)
theorem dX4_board_23 : decode cX4_board 23 = .ok (.iconst 0, 1) := dk_3 (dk_at dksX4_board_0 23 rfl rfl)
theorem dX4_board_24 : decode cX4_board 24 = .ok (.invokestatic 324, 3) := dk_184 1 68 (dk_at dksX4_board_1 0 rfl rfl)
theorem dX4_board_27 : decode cX4_board 27 = .ok (.invokevirtual 180, 3) := dk_182 0 180 (dk_at dksX4_board_1 3 rfl rfl)
theorem dX4_board_30 : decode cX4_board 30 = .ok (.ifCond .eq 5, 3) := dk_153 0 5 (dk_at dksX4_board_1 6 rfl rfl)
theorem dX4_board_33 : decode cX4_board 33 = .ok (.iconst (-1), 1) := dk_2 (dk_at dksX4_board_1 9 rfl rfl)
theorem dX4_board_34 : decode cX4_board 34 = .ok (.ireturn, 1) := dk_172 (dk_at dksX4_board_1 10 rfl rfl)
theorem dX4_board_35 : decode cX4_board 35 = .ok (.iload_n 2, 1) := dk_28 (dk_at dksX4_board_1 11 rfl rfl)
theorem dX4_board_36 : decode cX4_board 36 = .ok (.tableswitch 97 0 5 #[40, 49, 59, 69, 75, 86], 40) := by decide +kernel
theorem dX4_board_76 : decode cX4_board 76 = .ok (.aload_n 0, 1) := dk_42 (dk_at dksX4_board_3 0 rfl rfl)
theorem dX4_board_77 : decode cX4_board 77 = .ok (.getfield 17, 3) := dk_180 0 17 (dk_at dksX4_board_3 1 rfl rfl)
theorem dX4_board_80 : decode cX4_board 80 = .ok (.iconst 5, 1) := dk_8 (dk_at dksX4_board_3 4 rfl rfl)
theorem dX4_board_81 : decode cX4_board 81 = .ok (.iload_n 1, 1) := dk_27 (dk_at dksX4_board_3 5 rfl rfl)
theorem dX4_board_82 : decode cX4_board 82 = .ok (.iadd, 1) := dk_96 (dk_at dksX4_board_3 6 rfl rfl)
theorem dX4_board_83 : decode cX4_board 83 = .ok (.iaload, 1) := dk_46 (dk_at dksX4_board_3 7 rfl rfl)
theorem dX4_board_84 : decode cX4_board 84 = .ok (.ireturn, 1) := dk_172 (dk_at dksX4_board_3 8 rfl rfl)
theorem dX4_board_85 : decode cX4_board 85 = .ok (.aload_n 0, 1) := dk_42 (dk_at dksX4_board_3 9 rfl rfl)
theorem dX4_board_86 : decode cX4_board 86 = .ok (.getfield 17, 3) := dk_180 0 17 (dk_at dksX4_board_3 10 rfl rfl)
theorem dX4_board_89 : decode cX4_board 89 = .ok (.bipush 11, 2) := dk_16 11 (dk_at dksX4_board_3 13 rfl rfl)
theorem dX4_board_91 : decode cX4_board 91 = .ok (.iload_n 1, 1) := dk_27 (dk_at dksX4_board_3 15 rfl rfl)
theorem dX4_board_92 : decode cX4_board 92 = .ok (.iadd, 1) := dk_96 (dk_at dksX4_board_3 16 rfl rfl)
theorem dX4_board_93 : decode cX4_board 93 = .ok (.iaload, 1) := dk_46 (dk_at dksX4_board_3 17 rfl rfl)
theorem dX4_board_94 : decode cX4_board 94 = .ok (.ireturn, 1) := dk_172 (dk_at dksX4_board_3 18 rfl rfl)
theorem dX4_board_95 : decode cX4_board 95 = .ok (.aload_n 0, 1) := dk_42 (dk_at dksX4_board_3 19 rfl rfl)
theorem dX4_board_96 : decode cX4_board 96 = .ok (.getfield 17, 3) := dk_180 0 17 (dk_at dksX4_board_3 20 rfl rfl)
theorem dX4_board_99 : decode cX4_board 99 = .ok (.bipush 17, 2) := dk_16 17 (dk_at dksX4_board_4 0 rfl rfl)
theorem dX4_board_101 : decode cX4_board 101 = .ok (.iload_n 1, 1) := dk_27 (dk_at dksX4_board_4 2 rfl rfl)
theorem dX4_board_102 : decode cX4_board 102 = .ok (.iadd, 1) := dk_96 (dk_at dksX4_board_4 3 rfl rfl)
theorem dX4_board_103 : decode cX4_board 103 = .ok (.iaload, 1) := dk_46 (dk_at dksX4_board_4 4 rfl rfl)
theorem dX4_board_104 : decode cX4_board 104 = .ok (.ireturn, 1) := dk_172 (dk_at dksX4_board_4 5 rfl rfl)
theorem dX4_board_105 : decode cX4_board 105 = .ok (.aload_n 0, 1) := dk_42 (dk_at dksX4_board_4 6 rfl rfl)
theorem dX4_board_106 : decode cX4_board 106 = .ok (.iload_n 1, 1) := dk_27 (dk_at dksX4_board_4 7 rfl rfl)
theorem dX4_board_107 : decode cX4_board 107 = .ok (.invokevirtual 212, 3) := dk_182 0 212 (dk_at dksX4_board_4 8 rfl rfl)
theorem dX4_board_110 : decode cX4_board 110 = .ok (.ireturn, 1) := dk_172 (dk_at dksX4_board_4 11 rfl rfl)
theorem dX4_board_111 : decode cX4_board 111 = .ok (.aload_n 0, 1) := dk_42 (dk_at dksX4_board_4 12 rfl rfl)
theorem dX4_board_112 : decode cX4_board 112 = .ok (.getfield 27, 3) := dk_180 0 27 (dk_at dksX4_board_4 13 rfl rfl)
theorem dX4_board_115 : decode cX4_board 115 = .ok (.iload_n 1, 1) := dk_27 (dk_at dksX4_board_4 16 rfl rfl)
theorem dX4_board_116 : decode cX4_board 116 = .ok (.iconst 2, 1) := dk_5 (dk_at dksX4_board_4 17 rfl rfl)
theorem dX4_board_117 : decode cX4_board 117 = .ok (.invokestatic 201, 3) := dk_184 0 201 (dk_at dksX4_board_4 18 rfl rfl)
theorem dX4_board_120 : decode cX4_board 120 = .ok (.iaload, 1) := dk_46 (dk_at dksX4_board_4 21 rfl rfl)
theorem dX4_board_121 : decode cX4_board 121 = .ok (.ireturn, 1) := dk_172 (dk_at dksX4_board_4 22 rfl rfl)
theorem dX4_board_122 : decode cX4_board 122 = .ok (.aload_n 0, 1) := dk_42 (dk_at dksX4_board_4 23 rfl rfl)
theorem dX4_board_123 : decode cX4_board 123 = .ok (.getfield 27, 3) := dk_180 0 27 (dk_at dksX4_board_5 0 rfl rfl)
theorem dX4_board_126 : decode cX4_board 126 = .ok (.iload_n 1, 1) := dk_27 (dk_at dksX4_board_5 3 rfl rfl)
theorem dX4_board_127 : decode cX4_board 127 = .ok (.iconst 0, 1) := dk_3 (dk_at dksX4_board_5 4 rfl rfl)
theorem dX4_board_128 : decode cX4_board 128 = .ok (.invokestatic 201, 3) := dk_184 0 201 (dk_at dksX4_board_5 5 rfl rfl)
theorem dX4_board_131 : decode cX4_board 131 = .ok (.iaload, 1) := dk_46 (dk_at dksX4_board_5 8 rfl rfl)
theorem dX4_board_132 : decode cX4_board 132 = .ok (.ireturn, 1) := dk_172 (dk_at dksX4_board_5 9 rfl rfl)
theorem dX4_board_133 : decode cX4_board 133 = .ok (.aload_n 0, 1) := dk_42 (dk_at dksX4_board_5 10 rfl rfl)
theorem dX4_board_134 : decode cX4_board 134 = .ok (.getfield 27, 3) := dk_180 0 27 (dk_at dksX4_board_5 11 rfl rfl)
theorem dX4_board_137 : decode cX4_board 137 = .ok (.iload_n 1, 1) := dk_27 (dk_at dksX4_board_5 14 rfl rfl)
theorem dX4_board_138 : decode cX4_board 138 = .ok (.iconst 3, 1) := dk_6 (dk_at dksX4_board_5 15 rfl rfl)
theorem dX4_board_139 : decode cX4_board 139 = .ok (.invokestatic 201, 3) := dk_184 0 201 (dk_at dksX4_board_5 16 rfl rfl)
theorem dX4_board_142 : decode cX4_board 142 = .ok (.iaload, 1) := dk_46 (dk_at dksX4_board_5 19 rfl rfl)
theorem dX4_board_143 : decode cX4_board 143 = .ok (.ireturn, 1) := dk_172 (dk_at dksX4_board_5 20 rfl rfl)
abbrev cX4_named : ByteArray := prog_19_method_94_code
def yX4_named : MethodName := ⟨RX4, "named", "(I)I"⟩
def dkwX4_named_2 : List UInt8 := [167, 255, 228, 42, 4, 182, 0, 189, 172]
abbrev dktX4_named_2 : List UInt8 := dkwX4_named_2 ++ []
def dkwX4_named_1 : List UInt8 := [46, 162, 0, 24, 42, 180, 0, 17, 16, 11, 28, 96, 46, 27, 160, 0, 5, 28, 172, 132, 2, 1]
abbrev dktX4_named_1 : List UInt8 := dkwX4_named_1 ++ dktX4_named_2
def dkwX4_named_0 : List UInt8 := [42, 42, 180, 0, 192, 184, 1, 68, 182, 0, 180, 153, 0, 5, 2, 172, 3, 61, 28, 42, 180, 0, 17, 6]
abbrev dktX4_named_0 : List UInt8 := dkwX4_named_0 ++ dktX4_named_1
theorem dksX4_named_0 : cX4_named.data.toList.drop 0 = dktX4_named_0 := by decide +kernel
theorem dksX4_named_1 : cX4_named.data.toList.drop 24 = dktX4_named_1 := dk_seg dksX4_named_0 24 rfl rfl
theorem dksX4_named_2 : cX4_named.data.toList.drop 46 = dktX4_named_2 := dk_seg dksX4_named_1 22 rfl rfl
theorem dX4_named_0 : decode cX4_named 0 = .ok (.aload_n 0, 1) := dk_42 (dk_at dksX4_named_0 0 rfl rfl)
theorem dX4_named_1 : decode cX4_named 1 = .ok (.aload_n 0, 1) := dk_42 (dk_at dksX4_named_0 1 rfl rfl)
theorem dX4_named_2 : decode cX4_named 2 = .ok (.getfield 192, 3) := dk_180 0 192 (dk_at dksX4_named_0 2 rfl rfl)
theorem dX4_named_5 : decode cX4_named 5 = .ok (.invokestatic 324, 3) := dk_184 1 68 (dk_at dksX4_named_0 5 rfl rfl)
theorem dX4_named_8 : decode cX4_named 8 = .ok (.invokevirtual 180, 3) := dk_182 0 180 (dk_at dksX4_named_0 8 rfl rfl)
theorem dX4_named_11 : decode cX4_named 11 = .ok (.ifCond .eq 5, 3) := dk_153 0 5 (dk_at dksX4_named_0 11 rfl rfl)
theorem dX4_named_14 : decode cX4_named 14 = .ok (.iconst (-1), 1) := dk_2 (dk_at dksX4_named_0 14 rfl rfl)
theorem dX4_named_15 : decode cX4_named 15 = .ok (.ireturn, 1) := dk_172 (dk_at dksX4_named_0 15 rfl rfl)
theorem dX4_named_16 : decode cX4_named 16 = .ok (.iconst 0, 1) := dk_3 (dk_at dksX4_named_0 16 rfl rfl)
theorem dX4_named_17 : decode cX4_named 17 = .ok (.istore_n 2, 1) := dk_61 (dk_at dksX4_named_0 17 rfl rfl)
theorem dX4_named_18 : decode cX4_named 18 = .ok (.iload_n 2, 1) := dk_28 (dk_at dksX4_named_0 18 rfl rfl)
theorem dX4_named_19 : decode cX4_named 19 = .ok (.aload_n 0, 1) := dk_42 (dk_at dksX4_named_0 19 rfl rfl)
theorem dX4_named_20 : decode cX4_named 20 = .ok (.getfield 17, 3) := dk_180 0 17 (dk_at dksX4_named_0 20 rfl rfl)
theorem dX4_named_23 : decode cX4_named 23 = .ok (.iconst 3, 1) := dk_6 (dk_at dksX4_named_0 23 rfl rfl)
theorem dX4_named_24 : decode cX4_named 24 = .ok (.iaload, 1) := dk_46 (dk_at dksX4_named_1 0 rfl rfl)
theorem dX4_named_25 : decode cX4_named 25 = .ok (.if_icmp .ge 24, 3) := dk_162 0 24 (dk_at dksX4_named_1 1 rfl rfl)
theorem dX4_named_28 : decode cX4_named 28 = .ok (.aload_n 0, 1) := dk_42 (dk_at dksX4_named_1 4 rfl rfl)
theorem dX4_named_29 : decode cX4_named 29 = .ok (.getfield 17, 3) := dk_180 0 17 (dk_at dksX4_named_1 5 rfl rfl)
theorem dX4_named_32 : decode cX4_named 32 = .ok (.bipush 11, 2) := dk_16 11 (dk_at dksX4_named_1 8 rfl rfl)
theorem dX4_named_34 : decode cX4_named 34 = .ok (.iload_n 2, 1) := dk_28 (dk_at dksX4_named_1 10 rfl rfl)
theorem dX4_named_35 : decode cX4_named 35 = .ok (.iadd, 1) := dk_96 (dk_at dksX4_named_1 11 rfl rfl)
theorem dX4_named_36 : decode cX4_named 36 = .ok (.iaload, 1) := dk_46 (dk_at dksX4_named_1 12 rfl rfl)
theorem dX4_named_37 : decode cX4_named 37 = .ok (.iload_n 1, 1) := dk_27 (dk_at dksX4_named_1 13 rfl rfl)
theorem dX4_named_38 : decode cX4_named 38 = .ok (.if_icmp .ne 5, 3) := dk_160 0 5 (dk_at dksX4_named_1 14 rfl rfl)
theorem dX4_named_41 : decode cX4_named 41 = .ok (.iload_n 2, 1) := dk_28 (dk_at dksX4_named_1 17 rfl rfl)
theorem dX4_named_42 : decode cX4_named 42 = .ok (.ireturn, 1) := dk_172 (dk_at dksX4_named_1 18 rfl rfl)
theorem dX4_named_43 : decode cX4_named 43 = .ok (.iinc 2 1, 3) := dk_132 2 1 (dk_at dksX4_named_1 19 rfl rfl)
theorem dX4_named_46 : decode cX4_named 46 = .ok (.goto (-28), 3) := dk_167 255 228 (dk_at dksX4_named_2 0 rfl rfl)
theorem dX4_named_49 : decode cX4_named 49 = .ok (.aload_n 0, 1) := dk_42 (dk_at dksX4_named_2 3 rfl rfl)
theorem dX4_named_50 : decode cX4_named 50 = .ok (.iconst 1, 1) := dk_4 (dk_at dksX4_named_2 4 rfl rfl)
theorem dX4_named_51 : decode cX4_named 51 = .ok (.invokevirtual 189, 3) := dk_182 0 189 (dk_at dksX4_named_2 5 rfl rfl)
theorem dX4_named_54 : decode cX4_named 54 = .ok (.ireturn, 1) := dk_172 (dk_at dksX4_named_2 8 rfl rfl)
abbrev cX4_word : ByteArray := prog_19_method_95_code
def yX4_word : MethodName := ⟨RX4, "word", "(II)I"⟩
def dkwX4_word_1 : List UInt8 := [167, 0, 4, 5, 182, 0, 180, 153, 0, 7, 2, 167, 0, 9, 42, 27, 28, 182, 0, 250, 172]
abbrev dktX4_word_1 : List UInt8 := dkwX4_word_1 ++ []
def dkwX4_word_0 : List UInt8 := [42, 42, 27, 182, 1, 12, 154, 0, 7, 4, 167, 0, 17, 28, 4, 5, 184, 0, 83, 153, 0, 7, 3]
abbrev dktX4_word_0 : List UInt8 := dkwX4_word_0 ++ dktX4_word_1
theorem dksX4_word_0 : cX4_word.data.toList.drop 0 = dktX4_word_0 := by decide +kernel
theorem dksX4_word_1 : cX4_word.data.toList.drop 23 = dktX4_word_1 := dk_seg dksX4_word_0 23 rfl rfl
theorem dX4_word_0 : decode cX4_word 0 = .ok (.aload_n 0, 1) := dk_42 (dk_at dksX4_word_0 0 rfl rfl)
theorem dX4_word_1 : decode cX4_word 1 = .ok (.aload_n 0, 1) := dk_42 (dk_at dksX4_word_0 1 rfl rfl)
theorem dX4_word_2 : decode cX4_word 2 = .ok (.iload_n 1, 1) := dk_27 (dk_at dksX4_word_0 2 rfl rfl)
theorem dX4_word_3 : decode cX4_word 3 = .ok (.invokevirtual 268, 3) := dk_182 1 12 (dk_at dksX4_word_0 3 rfl rfl)
theorem dX4_word_6 : decode cX4_word 6 = .ok (.ifCond .ne 7, 3) := dk_154 0 7 (dk_at dksX4_word_0 6 rfl rfl)
theorem dX4_word_9 : decode cX4_word 9 = .ok (.iconst 1, 1) := dk_4 (dk_at dksX4_word_0 9 rfl rfl)
theorem dX4_word_10 : decode cX4_word 10 = .ok (.goto 17, 3) := dk_167 0 17 (dk_at dksX4_word_0 10 rfl rfl)
theorem dX4_word_13 : decode cX4_word 13 = .ok (.iload_n 2, 1) := dk_28 (dk_at dksX4_word_0 13 rfl rfl)
theorem dX4_word_14 : decode cX4_word 14 = .ok (.iconst 1, 1) := dk_4 (dk_at dksX4_word_0 14 rfl rfl)
theorem dX4_word_15 : decode cX4_word 15 = .ok (.iconst 2, 1) := dk_5 (dk_at dksX4_word_0 15 rfl rfl)
theorem dX4_word_16 : decode cX4_word 16 = .ok (.invokestatic 83, 3) := dk_184 0 83 (dk_at dksX4_word_0 16 rfl rfl)
theorem dX4_word_19 : decode cX4_word 19 = .ok (.ifCond .eq 7, 3) := dk_153 0 7 (dk_at dksX4_word_0 19 rfl rfl)
theorem dX4_word_22 : decode cX4_word 22 = .ok (.iconst 0, 1) := dk_3 (dk_at dksX4_word_0 22 rfl rfl)
theorem dX4_word_23 : decode cX4_word 23 = .ok (.goto 4, 3) := dk_167 0 4 (dk_at dksX4_word_1 0 rfl rfl)
theorem dX4_word_26 : decode cX4_word 26 = .ok (.iconst 2, 1) := dk_5 (dk_at dksX4_word_1 3 rfl rfl)
theorem dX4_word_27 : decode cX4_word 27 = .ok (.invokevirtual 180, 3) := dk_182 0 180 (dk_at dksX4_word_1 4 rfl rfl)
theorem dX4_word_30 : decode cX4_word 30 = .ok (.ifCond .eq 7, 3) := dk_153 0 7 (dk_at dksX4_word_1 7 rfl rfl)
theorem dX4_word_33 : decode cX4_word 33 = .ok (.iconst (-1), 1) := dk_2 (dk_at dksX4_word_1 10 rfl rfl)
theorem dX4_word_34 : decode cX4_word 34 = .ok (.goto 9, 3) := dk_167 0 9 (dk_at dksX4_word_1 11 rfl rfl)
theorem dX4_word_37 : decode cX4_word 37 = .ok (.aload_n 0, 1) := dk_42 (dk_at dksX4_word_1 14 rfl rfl)
theorem dX4_word_38 : decode cX4_word 38 = .ok (.iload_n 1, 1) := dk_27 (dk_at dksX4_word_1 15 rfl rfl)
theorem dX4_word_39 : decode cX4_word 39 = .ok (.iload_n 2, 1) := dk_28 (dk_at dksX4_word_1 16 rfl rfl)
theorem dX4_word_40 : decode cX4_word 40 = .ok (.invokevirtual 250, 3) := dk_182 0 250 (dk_at dksX4_word_1 17 rfl rfl)
theorem dX4_word_43 : decode cX4_word 43 = .ok (.ireturn, 1) := dk_172 (dk_at dksX4_word_1 20 rfl rfl)
abbrev cX4_ask : ByteArray := prog_19_method_96_code
def yX4_ask : MethodName := ⟨RX4, "ask", "(II)I"⟩
def dkwX4_ask_2 : List UInt8 := [182, 1, 44, 184, 0, 209, 167, 0, 8, 42, 8, 182, 0, 189, 172]
abbrev dktX4_ask_2 : List UInt8 := dkwX4_ask_2 ++ []
def dkwX4_ask_1 : List UInt8 := [167, 0, 4, 5, 182, 0, 180, 153, 0, 5, 2, 172, 42, 27, 28, 182, 1, 53, 153, 0, 13, 42]
abbrev dktX4_ask_1 : List UInt8 := dkwX4_ask_1 ++ dktX4_ask_2
def dkwX4_ask_0 : List UInt8 := [42, 42, 27, 182, 1, 12, 154, 0, 7, 4, 167, 0, 18, 28, 4, 16, 99, 184, 0, 83, 153, 0, 7, 3]
abbrev dktX4_ask_0 : List UInt8 := dkwX4_ask_0 ++ dktX4_ask_1
theorem dksX4_ask_0 : cX4_ask.data.toList.drop 0 = dktX4_ask_0 := by decide +kernel
theorem dksX4_ask_1 : cX4_ask.data.toList.drop 24 = dktX4_ask_1 := dk_seg dksX4_ask_0 24 rfl rfl
theorem dksX4_ask_2 : cX4_ask.data.toList.drop 46 = dktX4_ask_2 := dk_seg dksX4_ask_1 22 rfl rfl
theorem dX4_ask_0 : decode cX4_ask 0 = .ok (.aload_n 0, 1) := dk_42 (dk_at dksX4_ask_0 0 rfl rfl)
theorem dX4_ask_1 : decode cX4_ask 1 = .ok (.aload_n 0, 1) := dk_42 (dk_at dksX4_ask_0 1 rfl rfl)
theorem dX4_ask_2 : decode cX4_ask 2 = .ok (.iload_n 1, 1) := dk_27 (dk_at dksX4_ask_0 2 rfl rfl)
theorem dX4_ask_3 : decode cX4_ask 3 = .ok (.invokevirtual 268, 3) := dk_182 1 12 (dk_at dksX4_ask_0 3 rfl rfl)
theorem dX4_ask_6 : decode cX4_ask 6 = .ok (.ifCond .ne 7, 3) := dk_154 0 7 (dk_at dksX4_ask_0 6 rfl rfl)
theorem dX4_ask_9 : decode cX4_ask 9 = .ok (.iconst 1, 1) := dk_4 (dk_at dksX4_ask_0 9 rfl rfl)
theorem dX4_ask_10 : decode cX4_ask 10 = .ok (.goto 18, 3) := dk_167 0 18 (dk_at dksX4_ask_0 10 rfl rfl)
theorem dX4_ask_13 : decode cX4_ask 13 = .ok (.iload_n 2, 1) := dk_28 (dk_at dksX4_ask_0 13 rfl rfl)
theorem dX4_ask_14 : decode cX4_ask 14 = .ok (.iconst 1, 1) := dk_4 (dk_at dksX4_ask_0 14 rfl rfl)
theorem dX4_ask_15 : decode cX4_ask 15 = .ok (.bipush 99, 2) := dk_16 99 (dk_at dksX4_ask_0 15 rfl rfl)
theorem dX4_ask_17 : decode cX4_ask 17 = .ok (.invokestatic 83, 3) := dk_184 0 83 (dk_at dksX4_ask_0 17 rfl rfl)
theorem dX4_ask_20 : decode cX4_ask 20 = .ok (.ifCond .eq 7, 3) := dk_153 0 7 (dk_at dksX4_ask_0 20 rfl rfl)
theorem dX4_ask_23 : decode cX4_ask 23 = .ok (.iconst 0, 1) := dk_3 (dk_at dksX4_ask_0 23 rfl rfl)
theorem dX4_ask_24 : decode cX4_ask 24 = .ok (.goto 4, 3) := dk_167 0 4 (dk_at dksX4_ask_1 0 rfl rfl)
theorem dX4_ask_27 : decode cX4_ask 27 = .ok (.iconst 2, 1) := dk_5 (dk_at dksX4_ask_1 3 rfl rfl)
theorem dX4_ask_28 : decode cX4_ask 28 = .ok (.invokevirtual 180, 3) := dk_182 0 180 (dk_at dksX4_ask_1 4 rfl rfl)
theorem dX4_ask_31 : decode cX4_ask 31 = .ok (.ifCond .eq 5, 3) := dk_153 0 5 (dk_at dksX4_ask_1 7 rfl rfl)
theorem dX4_ask_34 : decode cX4_ask 34 = .ok (.iconst (-1), 1) := dk_2 (dk_at dksX4_ask_1 10 rfl rfl)
theorem dX4_ask_35 : decode cX4_ask 35 = .ok (.ireturn, 1) := dk_172 (dk_at dksX4_ask_1 11 rfl rfl)
theorem dX4_ask_36 : decode cX4_ask 36 = .ok (.aload_n 0, 1) := dk_42 (dk_at dksX4_ask_1 12 rfl rfl)
theorem dX4_ask_37 : decode cX4_ask 37 = .ok (.iload_n 1, 1) := dk_27 (dk_at dksX4_ask_1 13 rfl rfl)
theorem dX4_ask_38 : decode cX4_ask 38 = .ok (.iload_n 2, 1) := dk_28 (dk_at dksX4_ask_1 14 rfl rfl)
theorem dX4_ask_39 : decode cX4_ask 39 = .ok (.invokevirtual 309, 3) := dk_182 1 53 (dk_at dksX4_ask_1 15 rfl rfl)
theorem dX4_ask_42 : decode cX4_ask 42 = .ok (.ifCond .eq 13, 3) := dk_153 0 13 (dk_at dksX4_ask_1 18 rfl rfl)
theorem dX4_ask_45 : decode cX4_ask 45 = .ok (.aload_n 0, 1) := dk_42 (dk_at dksX4_ask_1 21 rfl rfl)
theorem dX4_ask_46 : decode cX4_ask 46 = .ok (.invokevirtual 300, 3) := dk_182 1 44 (dk_at dksX4_ask_2 0 rfl rfl)
theorem dX4_ask_49 : decode cX4_ask 49 = .ok (.invokestatic 209, 3) := dk_184 0 209 (dk_at dksX4_ask_2 3 rfl rfl)
theorem dX4_ask_52 : decode cX4_ask 52 = .ok (.goto 8, 3) := dk_167 0 8 (dk_at dksX4_ask_2 6 rfl rfl)
theorem dX4_ask_55 : decode cX4_ask 55 = .ok (.aload_n 0, 1) := dk_42 (dk_at dksX4_ask_2 9 rfl rfl)
theorem dX4_ask_56 : decode cX4_ask 56 = .ok (.iconst 5, 1) := dk_8 (dk_at dksX4_ask_2 10 rfl rfl)
theorem dX4_ask_57 : decode cX4_ask 57 = .ok (.invokevirtual 189, 3) := dk_182 0 189 (dk_at dksX4_ask_2 11 rfl rfl)
theorem dX4_ask_60 : decode cX4_ask 60 = .ok (.ireturn, 1) := dk_172 (dk_at dksX4_ask_2 14 rfl rfl)
abbrev cX4_waits : ByteArray := prog_19_method_97_code
def yX4_waits : MethodName := ⟨RX4, "waits", "(II)I"⟩
def dkwX4_waits_4 : List UInt8 := [28, 79, 29, 172]
abbrev dktX4_waits_4 : List UInt8 := dkwX4_waits_4 ++ []
def dkwX4_waits_3 : List UInt8 := [184, 0, 201, 46, 62, 42, 180, 0, 27, 27, 6, 184, 0, 201, 28, 2, 160, 0, 8, 16, 254, 167, 0, 4]
abbrev dktX4_waits_3 : List UInt8 := dkwX4_waits_3 ++ dktX4_waits_4
def dkwX4_waits_2 : List UInt8 := [153, 0, 7, 8, 167, 0, 4, 3, 182, 0, 180, 153, 0, 5, 2, 172, 42, 180, 0, 27, 27, 6]
abbrev dktX4_waits_2 : List UInt8 := dkwX4_waits_2 ++ dktX4_waits_3
def dkwX4_waits_1 : List UInt8 := [153, 0, 8, 28, 27, 160, 0, 7, 5, 167, 0, 22, 28, 2, 159, 0, 16, 42, 28, 27, 182, 0, 205]
abbrev dktX4_waits_1 : List UInt8 := dkwX4_waits_1 ++ dktX4_waits_2
def dkwX4_waits_0 : List UInt8 := [42, 42, 27, 182, 1, 12, 154, 0, 7, 4, 167, 0, 44, 28, 2, 159, 0, 20, 42, 28, 182, 1, 12]
abbrev dktX4_waits_0 : List UInt8 := dkwX4_waits_0 ++ dktX4_waits_1
theorem dksX4_waits_0 : cX4_waits.data.toList.drop 0 = dktX4_waits_0 := by decide +kernel
theorem dksX4_waits_1 : cX4_waits.data.toList.drop 23 = dktX4_waits_1 := dk_seg dksX4_waits_0 23 rfl rfl
theorem dksX4_waits_2 : cX4_waits.data.toList.drop 46 = dktX4_waits_2 := dk_seg dksX4_waits_1 23 rfl rfl
theorem dksX4_waits_3 : cX4_waits.data.toList.drop 68 = dktX4_waits_3 := dk_seg dksX4_waits_2 22 rfl rfl
theorem dksX4_waits_4 : cX4_waits.data.toList.drop 92 = dktX4_waits_4 := dk_seg dksX4_waits_3 24 rfl rfl
theorem dX4_waits_0 : decode cX4_waits 0 = .ok (.aload_n 0, 1) := dk_42 (dk_at dksX4_waits_0 0 rfl rfl)
theorem dX4_waits_1 : decode cX4_waits 1 = .ok (.aload_n 0, 1) := dk_42 (dk_at dksX4_waits_0 1 rfl rfl)
theorem dX4_waits_2 : decode cX4_waits 2 = .ok (.iload_n 1, 1) := dk_27 (dk_at dksX4_waits_0 2 rfl rfl)
theorem dX4_waits_3 : decode cX4_waits 3 = .ok (.invokevirtual 268, 3) := dk_182 1 12 (dk_at dksX4_waits_0 3 rfl rfl)
theorem dX4_waits_6 : decode cX4_waits 6 = .ok (.ifCond .ne 7, 3) := dk_154 0 7 (dk_at dksX4_waits_0 6 rfl rfl)
theorem dX4_waits_9 : decode cX4_waits 9 = .ok (.iconst 1, 1) := dk_4 (dk_at dksX4_waits_0 9 rfl rfl)
theorem dX4_waits_10 : decode cX4_waits 10 = .ok (.goto 44, 3) := dk_167 0 44 (dk_at dksX4_waits_0 10 rfl rfl)
theorem dX4_waits_13 : decode cX4_waits 13 = .ok (.iload_n 2, 1) := dk_28 (dk_at dksX4_waits_0 13 rfl rfl)
theorem dX4_waits_14 : decode cX4_waits 14 = .ok (.iconst (-1), 1) := dk_2 (dk_at dksX4_waits_0 14 rfl rfl)
theorem dX4_waits_15 : decode cX4_waits 15 = .ok (.if_icmp .eq 20, 3) := dk_159 0 20 (dk_at dksX4_waits_0 15 rfl rfl)
theorem dX4_waits_18 : decode cX4_waits 18 = .ok (.aload_n 0, 1) := dk_42 (dk_at dksX4_waits_0 18 rfl rfl)
theorem dX4_waits_19 : decode cX4_waits 19 = .ok (.iload_n 2, 1) := dk_28 (dk_at dksX4_waits_0 19 rfl rfl)
theorem dX4_waits_20 : decode cX4_waits 20 = .ok (.invokevirtual 268, 3) := dk_182 1 12 (dk_at dksX4_waits_0 20 rfl rfl)
theorem dX4_waits_23 : decode cX4_waits 23 = .ok (.ifCond .eq 8, 3) := dk_153 0 8 (dk_at dksX4_waits_1 0 rfl rfl)
theorem dX4_waits_26 : decode cX4_waits 26 = .ok (.iload_n 2, 1) := dk_28 (dk_at dksX4_waits_1 3 rfl rfl)
theorem dX4_waits_27 : decode cX4_waits 27 = .ok (.iload_n 1, 1) := dk_27 (dk_at dksX4_waits_1 4 rfl rfl)
theorem dX4_waits_28 : decode cX4_waits 28 = .ok (.if_icmp .ne 7, 3) := dk_160 0 7 (dk_at dksX4_waits_1 5 rfl rfl)
theorem dX4_waits_31 : decode cX4_waits 31 = .ok (.iconst 2, 1) := dk_5 (dk_at dksX4_waits_1 8 rfl rfl)
theorem dX4_waits_32 : decode cX4_waits 32 = .ok (.goto 22, 3) := dk_167 0 22 (dk_at dksX4_waits_1 9 rfl rfl)
theorem dX4_waits_35 : decode cX4_waits 35 = .ok (.iload_n 2, 1) := dk_28 (dk_at dksX4_waits_1 12 rfl rfl)
theorem dX4_waits_36 : decode cX4_waits 36 = .ok (.iconst (-1), 1) := dk_2 (dk_at dksX4_waits_1 13 rfl rfl)
theorem dX4_waits_37 : decode cX4_waits 37 = .ok (.if_icmp .eq 16, 3) := dk_159 0 16 (dk_at dksX4_waits_1 14 rfl rfl)
theorem dX4_waits_40 : decode cX4_waits 40 = .ok (.aload_n 0, 1) := dk_42 (dk_at dksX4_waits_1 17 rfl rfl)
theorem dX4_waits_41 : decode cX4_waits 41 = .ok (.iload_n 2, 1) := dk_28 (dk_at dksX4_waits_1 18 rfl rfl)
theorem dX4_waits_42 : decode cX4_waits 42 = .ok (.iload_n 1, 1) := dk_27 (dk_at dksX4_waits_1 19 rfl rfl)
theorem dX4_waits_43 : decode cX4_waits 43 = .ok (.invokevirtual 205, 3) := dk_182 0 205 (dk_at dksX4_waits_1 20 rfl rfl)
theorem dX4_waits_46 : decode cX4_waits 46 = .ok (.ifCond .eq 7, 3) := dk_153 0 7 (dk_at dksX4_waits_2 0 rfl rfl)
theorem dX4_waits_49 : decode cX4_waits 49 = .ok (.iconst 5, 1) := dk_8 (dk_at dksX4_waits_2 3 rfl rfl)
theorem dX4_waits_50 : decode cX4_waits 50 = .ok (.goto 4, 3) := dk_167 0 4 (dk_at dksX4_waits_2 4 rfl rfl)
theorem dX4_waits_53 : decode cX4_waits 53 = .ok (.iconst 0, 1) := dk_3 (dk_at dksX4_waits_2 7 rfl rfl)
theorem dX4_waits_54 : decode cX4_waits 54 = .ok (.invokevirtual 180, 3) := dk_182 0 180 (dk_at dksX4_waits_2 8 rfl rfl)
theorem dX4_waits_57 : decode cX4_waits 57 = .ok (.ifCond .eq 5, 3) := dk_153 0 5 (dk_at dksX4_waits_2 11 rfl rfl)
theorem dX4_waits_60 : decode cX4_waits 60 = .ok (.iconst (-1), 1) := dk_2 (dk_at dksX4_waits_2 14 rfl rfl)
theorem dX4_waits_61 : decode cX4_waits 61 = .ok (.ireturn, 1) := dk_172 (dk_at dksX4_waits_2 15 rfl rfl)
theorem dX4_waits_62 : decode cX4_waits 62 = .ok (.aload_n 0, 1) := dk_42 (dk_at dksX4_waits_2 16 rfl rfl)
theorem dX4_waits_63 : decode cX4_waits 63 = .ok (.getfield 27, 3) := dk_180 0 27 (dk_at dksX4_waits_2 17 rfl rfl)
theorem dX4_waits_66 : decode cX4_waits 66 = .ok (.iload_n 1, 1) := dk_27 (dk_at dksX4_waits_2 20 rfl rfl)
theorem dX4_waits_67 : decode cX4_waits 67 = .ok (.iconst 3, 1) := dk_6 (dk_at dksX4_waits_2 21 rfl rfl)
theorem dX4_waits_68 : decode cX4_waits 68 = .ok (.invokestatic 201, 3) := dk_184 0 201 (dk_at dksX4_waits_3 0 rfl rfl)
theorem dX4_waits_71 : decode cX4_waits 71 = .ok (.iaload, 1) := dk_46 (dk_at dksX4_waits_3 3 rfl rfl)
theorem dX4_waits_72 : decode cX4_waits 72 = .ok (.istore_n 3, 1) := dk_62 (dk_at dksX4_waits_3 4 rfl rfl)
theorem dX4_waits_73 : decode cX4_waits 73 = .ok (.aload_n 0, 1) := dk_42 (dk_at dksX4_waits_3 5 rfl rfl)
theorem dX4_waits_74 : decode cX4_waits 74 = .ok (.getfield 27, 3) := dk_180 0 27 (dk_at dksX4_waits_3 6 rfl rfl)
theorem dX4_waits_77 : decode cX4_waits 77 = .ok (.iload_n 1, 1) := dk_27 (dk_at dksX4_waits_3 9 rfl rfl)
theorem dX4_waits_78 : decode cX4_waits 78 = .ok (.iconst 3, 1) := dk_6 (dk_at dksX4_waits_3 10 rfl rfl)
theorem dX4_waits_79 : decode cX4_waits 79 = .ok (.invokestatic 201, 3) := dk_184 0 201 (dk_at dksX4_waits_3 11 rfl rfl)
theorem dX4_waits_82 : decode cX4_waits 82 = .ok (.iload_n 2, 1) := dk_28 (dk_at dksX4_waits_3 14 rfl rfl)
theorem dX4_waits_83 : decode cX4_waits 83 = .ok (.iconst (-1), 1) := dk_2 (dk_at dksX4_waits_3 15 rfl rfl)
theorem dX4_waits_84 : decode cX4_waits 84 = .ok (.if_icmp .ne 8, 3) := dk_160 0 8 (dk_at dksX4_waits_3 16 rfl rfl)
theorem dX4_waits_87 : decode cX4_waits 87 = .ok (.bipush (-2), 2) := dk_16 254 (dk_at dksX4_waits_3 19 rfl rfl)
theorem dX4_waits_89 : decode cX4_waits 89 = .ok (.goto 4, 3) := dk_167 0 4 (dk_at dksX4_waits_3 21 rfl rfl)
theorem dX4_waits_92 : decode cX4_waits 92 = .ok (.iload_n 2, 1) := dk_28 (dk_at dksX4_waits_4 0 rfl rfl)
theorem dX4_waits_93 : decode cX4_waits 93 = .ok (.iastore, 1) := dk_79 (dk_at dksX4_waits_4 1 rfl rfl)
theorem dX4_waits_94 : decode cX4_waits 94 = .ok (.iload_n 3, 1) := dk_29 (dk_at dksX4_waits_4 2 rfl rfl)
theorem dX4_waits_95 : decode cX4_waits 95 = .ok (.ireturn, 1) := dk_172 (dk_at dksX4_waits_4 3 rfl rfl)
abbrev cX4_stick : ByteArray := prog_19_method_98_code
def yX4_stick : MethodName := ⟨RX4, "stick", "(II)I"⟩
def dkwX4_stick_2 : List UInt8 := [16, 12, 27, 96, 46, 62, 42, 180, 0, 27, 16, 12, 27, 96, 28, 79, 29, 172]
abbrev dktX4_stick_2 : List UInt8 := dkwX4_stick_2 ++ []
def dkwX4_stick_1 : List UInt8 := [184, 0, 83, 153, 0, 7, 3, 167, 0, 4, 5, 182, 0, 180, 153, 0, 5, 2, 172, 42, 180, 0, 27]
abbrev dktX4_stick_1 : List UInt8 := dkwX4_stick_1 ++ dktX4_stick_2
def dkwX4_stick_0 : List UInt8 := [42, 42, 180, 0, 192, 153, 0, 12, 27, 3, 8, 184, 0, 83, 154, 0, 7, 4, 167, 0, 17, 28, 3, 5]
abbrev dktX4_stick_0 : List UInt8 := dkwX4_stick_0 ++ dktX4_stick_1
theorem dksX4_stick_0 : cX4_stick.data.toList.drop 0 = dktX4_stick_0 := by decide +kernel
theorem dksX4_stick_1 : cX4_stick.data.toList.drop 24 = dktX4_stick_1 := dk_seg dksX4_stick_0 24 rfl rfl
theorem dksX4_stick_2 : cX4_stick.data.toList.drop 47 = dktX4_stick_2 := dk_seg dksX4_stick_1 23 rfl rfl
theorem dX4_stick_0 : decode cX4_stick 0 = .ok (.aload_n 0, 1) := dk_42 (dk_at dksX4_stick_0 0 rfl rfl)
theorem dX4_stick_1 : decode cX4_stick 1 = .ok (.aload_n 0, 1) := dk_42 (dk_at dksX4_stick_0 1 rfl rfl)
theorem dX4_stick_2 : decode cX4_stick 2 = .ok (.getfield 192, 3) := dk_180 0 192 (dk_at dksX4_stick_0 2 rfl rfl)
theorem dX4_stick_5 : decode cX4_stick 5 = .ok (.ifCond .eq 12, 3) := dk_153 0 12 (dk_at dksX4_stick_0 5 rfl rfl)
theorem dX4_stick_8 : decode cX4_stick 8 = .ok (.iload_n 1, 1) := dk_27 (dk_at dksX4_stick_0 8 rfl rfl)
theorem dX4_stick_9 : decode cX4_stick 9 = .ok (.iconst 0, 1) := dk_3 (dk_at dksX4_stick_0 9 rfl rfl)
theorem dX4_stick_10 : decode cX4_stick 10 = .ok (.iconst 5, 1) := dk_8 (dk_at dksX4_stick_0 10 rfl rfl)
theorem dX4_stick_11 : decode cX4_stick 11 = .ok (.invokestatic 83, 3) := dk_184 0 83 (dk_at dksX4_stick_0 11 rfl rfl)
theorem dX4_stick_14 : decode cX4_stick 14 = .ok (.ifCond .ne 7, 3) := dk_154 0 7 (dk_at dksX4_stick_0 14 rfl rfl)
theorem dX4_stick_17 : decode cX4_stick 17 = .ok (.iconst 1, 1) := dk_4 (dk_at dksX4_stick_0 17 rfl rfl)
theorem dX4_stick_18 : decode cX4_stick 18 = .ok (.goto 17, 3) := dk_167 0 17 (dk_at dksX4_stick_0 18 rfl rfl)
theorem dX4_stick_21 : decode cX4_stick 21 = .ok (.iload_n 2, 1) := dk_28 (dk_at dksX4_stick_0 21 rfl rfl)
theorem dX4_stick_22 : decode cX4_stick 22 = .ok (.iconst 0, 1) := dk_3 (dk_at dksX4_stick_0 22 rfl rfl)
theorem dX4_stick_23 : decode cX4_stick 23 = .ok (.iconst 2, 1) := dk_5 (dk_at dksX4_stick_0 23 rfl rfl)
theorem dX4_stick_24 : decode cX4_stick 24 = .ok (.invokestatic 83, 3) := dk_184 0 83 (dk_at dksX4_stick_1 0 rfl rfl)
theorem dX4_stick_27 : decode cX4_stick 27 = .ok (.ifCond .eq 7, 3) := dk_153 0 7 (dk_at dksX4_stick_1 3 rfl rfl)
theorem dX4_stick_30 : decode cX4_stick 30 = .ok (.iconst 0, 1) := dk_3 (dk_at dksX4_stick_1 6 rfl rfl)
theorem dX4_stick_31 : decode cX4_stick 31 = .ok (.goto 4, 3) := dk_167 0 4 (dk_at dksX4_stick_1 7 rfl rfl)
theorem dX4_stick_34 : decode cX4_stick 34 = .ok (.iconst 2, 1) := dk_5 (dk_at dksX4_stick_1 10 rfl rfl)
theorem dX4_stick_35 : decode cX4_stick 35 = .ok (.invokevirtual 180, 3) := dk_182 0 180 (dk_at dksX4_stick_1 11 rfl rfl)
theorem dX4_stick_38 : decode cX4_stick 38 = .ok (.ifCond .eq 5, 3) := dk_153 0 5 (dk_at dksX4_stick_1 14 rfl rfl)
theorem dX4_stick_41 : decode cX4_stick 41 = .ok (.iconst (-1), 1) := dk_2 (dk_at dksX4_stick_1 17 rfl rfl)
theorem dX4_stick_42 : decode cX4_stick 42 = .ok (.ireturn, 1) := dk_172 (dk_at dksX4_stick_1 18 rfl rfl)
theorem dX4_stick_43 : decode cX4_stick 43 = .ok (.aload_n 0, 1) := dk_42 (dk_at dksX4_stick_1 19 rfl rfl)
theorem dX4_stick_44 : decode cX4_stick 44 = .ok (.getfield 27, 3) := dk_180 0 27 (dk_at dksX4_stick_1 20 rfl rfl)
theorem dX4_stick_47 : decode cX4_stick 47 = .ok (.bipush 12, 2) := dk_16 12 (dk_at dksX4_stick_2 0 rfl rfl)
theorem dX4_stick_49 : decode cX4_stick 49 = .ok (.iload_n 1, 1) := dk_27 (dk_at dksX4_stick_2 2 rfl rfl)
theorem dX4_stick_50 : decode cX4_stick 50 = .ok (.iadd, 1) := dk_96 (dk_at dksX4_stick_2 3 rfl rfl)
theorem dX4_stick_51 : decode cX4_stick 51 = .ok (.iaload, 1) := dk_46 (dk_at dksX4_stick_2 4 rfl rfl)
theorem dX4_stick_52 : decode cX4_stick 52 = .ok (.istore_n 3, 1) := dk_62 (dk_at dksX4_stick_2 5 rfl rfl)
theorem dX4_stick_53 : decode cX4_stick 53 = .ok (.aload_n 0, 1) := dk_42 (dk_at dksX4_stick_2 6 rfl rfl)
theorem dX4_stick_54 : decode cX4_stick 54 = .ok (.getfield 27, 3) := dk_180 0 27 (dk_at dksX4_stick_2 7 rfl rfl)
theorem dX4_stick_57 : decode cX4_stick 57 = .ok (.bipush 12, 2) := dk_16 12 (dk_at dksX4_stick_2 10 rfl rfl)
theorem dX4_stick_59 : decode cX4_stick 59 = .ok (.iload_n 1, 1) := dk_27 (dk_at dksX4_stick_2 12 rfl rfl)
theorem dX4_stick_60 : decode cX4_stick 60 = .ok (.iadd, 1) := dk_96 (dk_at dksX4_stick_2 13 rfl rfl)
theorem dX4_stick_61 : decode cX4_stick 61 = .ok (.iload_n 2, 1) := dk_28 (dk_at dksX4_stick_2 14 rfl rfl)
theorem dX4_stick_62 : decode cX4_stick 62 = .ok (.iastore, 1) := dk_79 (dk_at dksX4_stick_2 15 rfl rfl)
theorem dX4_stick_63 : decode cX4_stick 63 = .ok (.iload_n 3, 1) := dk_29 (dk_at dksX4_stick_2 16 rfl rfl)
theorem dX4_stick_64 : decode cX4_stick 64 = .ok (.ireturn, 1) := dk_172 (dk_at dksX4_stick_2 17 rfl rfl)
abbrev cX4_ticks : ByteArray := prog_19_method_99_code
def yX4_ticks : MethodName := ⟨RX4, "ticks", "(I)I"⟩
def dkwX4_ticks_2 : List UInt8 := [132, 2, 1, 167, 255, 244, 42, 180, 0, 27, 4, 46, 172]
abbrev dktX4_ticks_2 : List UInt8 := dkwX4_ticks_2 ++ []
def dkwX4_ticks_1 : List UInt8 := [167, 0, 4, 5, 182, 0, 180, 153, 0, 5, 2, 172, 3, 61, 28, 27, 162, 0, 13, 42, 182, 1, 78]
abbrev dktX4_ticks_1 : List UInt8 := dkwX4_ticks_1 ++ dktX4_ticks_2
def dkwX4_ticks_0 : List UInt8 := [42, 42, 180, 0, 192, 154, 0, 7, 4, 167, 0, 19, 27, 4, 17, 3, 231, 184, 0, 83, 153, 0, 7, 3]
abbrev dktX4_ticks_0 : List UInt8 := dkwX4_ticks_0 ++ dktX4_ticks_1
theorem dksX4_ticks_0 : cX4_ticks.data.toList.drop 0 = dktX4_ticks_0 := by decide +kernel
theorem dksX4_ticks_1 : cX4_ticks.data.toList.drop 24 = dktX4_ticks_1 := dk_seg dksX4_ticks_0 24 rfl rfl
theorem dksX4_ticks_2 : cX4_ticks.data.toList.drop 47 = dktX4_ticks_2 := dk_seg dksX4_ticks_1 23 rfl rfl
theorem dX4_ticks_0 : decode cX4_ticks 0 = .ok (.aload_n 0, 1) := dk_42 (dk_at dksX4_ticks_0 0 rfl rfl)
theorem dX4_ticks_1 : decode cX4_ticks 1 = .ok (.aload_n 0, 1) := dk_42 (dk_at dksX4_ticks_0 1 rfl rfl)
theorem dX4_ticks_2 : decode cX4_ticks 2 = .ok (.getfield 192, 3) := dk_180 0 192 (dk_at dksX4_ticks_0 2 rfl rfl)
theorem dX4_ticks_5 : decode cX4_ticks 5 = .ok (.ifCond .ne 7, 3) := dk_154 0 7 (dk_at dksX4_ticks_0 5 rfl rfl)
theorem dX4_ticks_8 : decode cX4_ticks 8 = .ok (.iconst 1, 1) := dk_4 (dk_at dksX4_ticks_0 8 rfl rfl)
theorem dX4_ticks_9 : decode cX4_ticks 9 = .ok (.goto 19, 3) := dk_167 0 19 (dk_at dksX4_ticks_0 9 rfl rfl)
theorem dX4_ticks_12 : decode cX4_ticks 12 = .ok (.iload_n 1, 1) := dk_27 (dk_at dksX4_ticks_0 12 rfl rfl)
theorem dX4_ticks_13 : decode cX4_ticks 13 = .ok (.iconst 1, 1) := dk_4 (dk_at dksX4_ticks_0 13 rfl rfl)
theorem dX4_ticks_14 : decode cX4_ticks 14 = .ok (.sipush 999, 3) := dk_17 3 231 (dk_at dksX4_ticks_0 14 rfl rfl)
theorem dX4_ticks_17 : decode cX4_ticks 17 = .ok (.invokestatic 83, 3) := dk_184 0 83 (dk_at dksX4_ticks_0 17 rfl rfl)
theorem dX4_ticks_20 : decode cX4_ticks 20 = .ok (.ifCond .eq 7, 3) := dk_153 0 7 (dk_at dksX4_ticks_0 20 rfl rfl)
theorem dX4_ticks_23 : decode cX4_ticks 23 = .ok (.iconst 0, 1) := dk_3 (dk_at dksX4_ticks_0 23 rfl rfl)
theorem dX4_ticks_24 : decode cX4_ticks 24 = .ok (.goto 4, 3) := dk_167 0 4 (dk_at dksX4_ticks_1 0 rfl rfl)
theorem dX4_ticks_27 : decode cX4_ticks 27 = .ok (.iconst 2, 1) := dk_5 (dk_at dksX4_ticks_1 3 rfl rfl)
theorem dX4_ticks_28 : decode cX4_ticks 28 = .ok (.invokevirtual 180, 3) := dk_182 0 180 (dk_at dksX4_ticks_1 4 rfl rfl)
theorem dX4_ticks_31 : decode cX4_ticks 31 = .ok (.ifCond .eq 5, 3) := dk_153 0 5 (dk_at dksX4_ticks_1 7 rfl rfl)
theorem dX4_ticks_34 : decode cX4_ticks 34 = .ok (.iconst (-1), 1) := dk_2 (dk_at dksX4_ticks_1 10 rfl rfl)
theorem dX4_ticks_35 : decode cX4_ticks 35 = .ok (.ireturn, 1) := dk_172 (dk_at dksX4_ticks_1 11 rfl rfl)
theorem dX4_ticks_36 : decode cX4_ticks 36 = .ok (.iconst 0, 1) := dk_3 (dk_at dksX4_ticks_1 12 rfl rfl)
theorem dX4_ticks_37 : decode cX4_ticks 37 = .ok (.istore_n 2, 1) := dk_61 (dk_at dksX4_ticks_1 13 rfl rfl)
theorem dX4_ticks_38 : decode cX4_ticks 38 = .ok (.iload_n 2, 1) := dk_28 (dk_at dksX4_ticks_1 14 rfl rfl)
theorem dX4_ticks_39 : decode cX4_ticks 39 = .ok (.iload_n 1, 1) := dk_27 (dk_at dksX4_ticks_1 15 rfl rfl)
theorem dX4_ticks_40 : decode cX4_ticks 40 = .ok (.if_icmp .ge 13, 3) := dk_162 0 13 (dk_at dksX4_ticks_1 16 rfl rfl)
theorem dX4_ticks_43 : decode cX4_ticks 43 = .ok (.aload_n 0, 1) := dk_42 (dk_at dksX4_ticks_1 19 rfl rfl)
theorem dX4_ticks_44 : decode cX4_ticks 44 = .ok (.invokevirtual 334, 3) := dk_182 1 78 (dk_at dksX4_ticks_1 20 rfl rfl)
theorem dX4_ticks_47 : decode cX4_ticks 47 = .ok (.iinc 2 1, 3) := dk_132 2 1 (dk_at dksX4_ticks_2 0 rfl rfl)
theorem dX4_ticks_50 : decode cX4_ticks 50 = .ok (.goto (-12), 3) := dk_167 255 244 (dk_at dksX4_ticks_2 3 rfl rfl)
theorem dX4_ticks_53 : decode cX4_ticks 53 = .ok (.aload_n 0, 1) := dk_42 (dk_at dksX4_ticks_2 6 rfl rfl)
theorem dX4_ticks_54 : decode cX4_ticks 54 = .ok (.getfield 27, 3) := dk_180 0 27 (dk_at dksX4_ticks_2 7 rfl rfl)
theorem dX4_ticks_57 : decode cX4_ticks 57 = .ok (.iconst 1, 1) := dk_4 (dk_at dksX4_ticks_2 10 rfl rfl)
theorem dX4_ticks_58 : decode cX4_ticks 58 = .ok (.iaload, 1) := dk_46 (dk_at dksX4_ticks_2 11 rfl rfl)
theorem dX4_ticks_59 : decode cX4_ticks 59 = .ok (.ireturn, 1) := dk_172 (dk_at dksX4_ticks_2 12 rfl rfl)
abbrev cX4_keep : ByteArray := prog_19_method_100_code
def yX4_keep : MethodName := ⟨RX4, "keep", "()Z"⟩
def dkwX4_keep_2 : List UInt8 := [181, 0, 195, 4, 172]
abbrev dktX4_keep_2 : List UInt8 := dkwX4_keep_2 ++ []
def dkwX4_keep_1 : List UInt8 := [162, 0, 21, 42, 180, 0, 33, 27, 42, 180, 0, 27, 27, 46, 79, 132, 1, 1, 167, 255, 234, 42, 4]
abbrev dktX4_keep_1 : List UInt8 := dkwX4_keep_1 ++ dktX4_keep_2
def dkwX4_keep_0 : List UInt8 := [42, 42, 180, 0, 192, 184, 1, 68, 182, 0, 180, 153, 0, 5, 3, 172, 3, 60, 27, 17, 0, 251]
abbrev dktX4_keep_0 : List UInt8 := dkwX4_keep_0 ++ dktX4_keep_1
theorem dksX4_keep_0 : cX4_keep.data.toList.drop 0 = dktX4_keep_0 := by decide +kernel
theorem dksX4_keep_1 : cX4_keep.data.toList.drop 22 = dktX4_keep_1 := dk_seg dksX4_keep_0 22 rfl rfl
theorem dksX4_keep_2 : cX4_keep.data.toList.drop 45 = dktX4_keep_2 := dk_seg dksX4_keep_1 23 rfl rfl
theorem dX4_keep_0 : decode cX4_keep 0 = .ok (.aload_n 0, 1) := dk_42 (dk_at dksX4_keep_0 0 rfl rfl)
theorem dX4_keep_1 : decode cX4_keep 1 = .ok (.aload_n 0, 1) := dk_42 (dk_at dksX4_keep_0 1 rfl rfl)
theorem dX4_keep_2 : decode cX4_keep 2 = .ok (.getfield 192, 3) := dk_180 0 192 (dk_at dksX4_keep_0 2 rfl rfl)
theorem dX4_keep_5 : decode cX4_keep 5 = .ok (.invokestatic 324, 3) := dk_184 1 68 (dk_at dksX4_keep_0 5 rfl rfl)
theorem dX4_keep_8 : decode cX4_keep 8 = .ok (.invokevirtual 180, 3) := dk_182 0 180 (dk_at dksX4_keep_0 8 rfl rfl)
theorem dX4_keep_11 : decode cX4_keep 11 = .ok (.ifCond .eq 5, 3) := dk_153 0 5 (dk_at dksX4_keep_0 11 rfl rfl)
theorem dX4_keep_14 : decode cX4_keep 14 = .ok (.iconst 0, 1) := dk_3 (dk_at dksX4_keep_0 14 rfl rfl)
theorem dX4_keep_15 : decode cX4_keep 15 = .ok (.ireturn, 1) := dk_172 (dk_at dksX4_keep_0 15 rfl rfl)
theorem dX4_keep_16 : decode cX4_keep 16 = .ok (.iconst 0, 1) := dk_3 (dk_at dksX4_keep_0 16 rfl rfl)
theorem dX4_keep_17 : decode cX4_keep 17 = .ok (.istore_n 1, 1) := dk_60 (dk_at dksX4_keep_0 17 rfl rfl)
theorem dX4_keep_18 : decode cX4_keep 18 = .ok (.iload_n 1, 1) := dk_27 (dk_at dksX4_keep_0 18 rfl rfl)
theorem dX4_keep_19 : decode cX4_keep 19 = .ok (.sipush 251, 3) := dk_17 0 251 (dk_at dksX4_keep_0 19 rfl rfl)
theorem dX4_keep_22 : decode cX4_keep 22 = .ok (.if_icmp .ge 21, 3) := dk_162 0 21 (dk_at dksX4_keep_1 0 rfl rfl)
theorem dX4_keep_25 : decode cX4_keep 25 = .ok (.aload_n 0, 1) := dk_42 (dk_at dksX4_keep_1 3 rfl rfl)
theorem dX4_keep_26 : decode cX4_keep 26 = .ok (.getfield 33, 3) := dk_180 0 33 (dk_at dksX4_keep_1 4 rfl rfl)
theorem dX4_keep_29 : decode cX4_keep 29 = .ok (.iload_n 1, 1) := dk_27 (dk_at dksX4_keep_1 7 rfl rfl)
theorem dX4_keep_30 : decode cX4_keep 30 = .ok (.aload_n 0, 1) := dk_42 (dk_at dksX4_keep_1 8 rfl rfl)
theorem dX4_keep_31 : decode cX4_keep 31 = .ok (.getfield 27, 3) := dk_180 0 27 (dk_at dksX4_keep_1 9 rfl rfl)
theorem dX4_keep_34 : decode cX4_keep 34 = .ok (.iload_n 1, 1) := dk_27 (dk_at dksX4_keep_1 12 rfl rfl)
theorem dX4_keep_35 : decode cX4_keep 35 = .ok (.iaload, 1) := dk_46 (dk_at dksX4_keep_1 13 rfl rfl)
theorem dX4_keep_36 : decode cX4_keep 36 = .ok (.iastore, 1) := dk_79 (dk_at dksX4_keep_1 14 rfl rfl)
theorem dX4_keep_37 : decode cX4_keep 37 = .ok (.iinc 1 1, 3) := dk_132 1 1 (dk_at dksX4_keep_1 15 rfl rfl)
theorem dX4_keep_40 : decode cX4_keep 40 = .ok (.goto (-22), 3) := dk_167 255 234 (dk_at dksX4_keep_1 18 rfl rfl)
theorem dX4_keep_43 : decode cX4_keep 43 = .ok (.aload_n 0, 1) := dk_42 (dk_at dksX4_keep_1 21 rfl rfl)
theorem dX4_keep_44 : decode cX4_keep 44 = .ok (.iconst 1, 1) := dk_4 (dk_at dksX4_keep_1 22 rfl rfl)
theorem dX4_keep_45 : decode cX4_keep 45 = .ok (.putfield 195, 3) := dk_181 0 195 (dk_at dksX4_keep_2 0 rfl rfl)
theorem dX4_keep_48 : decode cX4_keep 48 = .ok (.iconst 1, 1) := dk_4 (dk_at dksX4_keep_2 3 rfl rfl)
theorem dX4_keep_49 : decode cX4_keep 49 = .ok (.ireturn, 1) := dk_172 (dk_at dksX4_keep_2 4 rfl rfl)
abbrev cX4_back : ByteArray := prog_19_method_101_code
def yX4_back : MethodName := ⟨RX4, "back", "()Z"⟩
def dkwX4_back_1 : List UInt8 := [162, 0, 21, 42, 180, 0, 27, 27, 42, 180, 0, 33, 27, 46, 79, 132, 1, 1, 167, 255, 234, 4, 172]
abbrev dktX4_back_1 : List UInt8 := dkwX4_back_1 ++ []
def dkwX4_back_0 : List UInt8 := [42, 42, 180, 0, 195, 184, 1, 68, 182, 0, 180, 153, 0, 5, 3, 172, 3, 60, 27, 17, 0, 251]
abbrev dktX4_back_0 : List UInt8 := dkwX4_back_0 ++ dktX4_back_1
theorem dksX4_back_0 : cX4_back.data.toList.drop 0 = dktX4_back_0 := by decide +kernel
theorem dksX4_back_1 : cX4_back.data.toList.drop 22 = dktX4_back_1 := dk_seg dksX4_back_0 22 rfl rfl
theorem dX4_back_0 : decode cX4_back 0 = .ok (.aload_n 0, 1) := dk_42 (dk_at dksX4_back_0 0 rfl rfl)
theorem dX4_back_1 : decode cX4_back 1 = .ok (.aload_n 0, 1) := dk_42 (dk_at dksX4_back_0 1 rfl rfl)
theorem dX4_back_2 : decode cX4_back 2 = .ok (.getfield 195, 3) := dk_180 0 195 (dk_at dksX4_back_0 2 rfl rfl)
theorem dX4_back_5 : decode cX4_back 5 = .ok (.invokestatic 324, 3) := dk_184 1 68 (dk_at dksX4_back_0 5 rfl rfl)
theorem dX4_back_8 : decode cX4_back 8 = .ok (.invokevirtual 180, 3) := dk_182 0 180 (dk_at dksX4_back_0 8 rfl rfl)
theorem dX4_back_11 : decode cX4_back 11 = .ok (.ifCond .eq 5, 3) := dk_153 0 5 (dk_at dksX4_back_0 11 rfl rfl)
theorem dX4_back_14 : decode cX4_back 14 = .ok (.iconst 0, 1) := dk_3 (dk_at dksX4_back_0 14 rfl rfl)
theorem dX4_back_15 : decode cX4_back 15 = .ok (.ireturn, 1) := dk_172 (dk_at dksX4_back_0 15 rfl rfl)
theorem dX4_back_16 : decode cX4_back 16 = .ok (.iconst 0, 1) := dk_3 (dk_at dksX4_back_0 16 rfl rfl)
theorem dX4_back_17 : decode cX4_back 17 = .ok (.istore_n 1, 1) := dk_60 (dk_at dksX4_back_0 17 rfl rfl)
theorem dX4_back_18 : decode cX4_back 18 = .ok (.iload_n 1, 1) := dk_27 (dk_at dksX4_back_0 18 rfl rfl)
theorem dX4_back_19 : decode cX4_back 19 = .ok (.sipush 251, 3) := dk_17 0 251 (dk_at dksX4_back_0 19 rfl rfl)
theorem dX4_back_22 : decode cX4_back 22 = .ok (.if_icmp .ge 21, 3) := dk_162 0 21 (dk_at dksX4_back_1 0 rfl rfl)
theorem dX4_back_25 : decode cX4_back 25 = .ok (.aload_n 0, 1) := dk_42 (dk_at dksX4_back_1 3 rfl rfl)
theorem dX4_back_26 : decode cX4_back 26 = .ok (.getfield 27, 3) := dk_180 0 27 (dk_at dksX4_back_1 4 rfl rfl)
theorem dX4_back_29 : decode cX4_back 29 = .ok (.iload_n 1, 1) := dk_27 (dk_at dksX4_back_1 7 rfl rfl)
theorem dX4_back_30 : decode cX4_back 30 = .ok (.aload_n 0, 1) := dk_42 (dk_at dksX4_back_1 8 rfl rfl)
theorem dX4_back_31 : decode cX4_back 31 = .ok (.getfield 33, 3) := dk_180 0 33 (dk_at dksX4_back_1 9 rfl rfl)
theorem dX4_back_34 : decode cX4_back 34 = .ok (.iload_n 1, 1) := dk_27 (dk_at dksX4_back_1 12 rfl rfl)
theorem dX4_back_35 : decode cX4_back 35 = .ok (.iaload, 1) := dk_46 (dk_at dksX4_back_1 13 rfl rfl)
theorem dX4_back_36 : decode cX4_back 36 = .ok (.iastore, 1) := dk_79 (dk_at dksX4_back_1 14 rfl rfl)
theorem dX4_back_37 : decode cX4_back 37 = .ok (.iinc 1 1, 3) := dk_132 1 1 (dk_at dksX4_back_1 15 rfl rfl)
theorem dX4_back_40 : decode cX4_back 40 = .ok (.goto (-22), 3) := dk_167 255 234 (dk_at dksX4_back_1 18 rfl rfl)
theorem dX4_back_43 : decode cX4_back 43 = .ok (.iconst 1, 1) := dk_4 (dk_at dksX4_back_1 21 rfl rfl)
theorem dX4_back_44 : decode cX4_back 44 = .ok (.ireturn, 1) := dk_172 (dk_at dksX4_back_1 22 rfl rfl)
abbrev cX4_never : ByteArray := prog_19_method_103_code
def yX4_never : MethodName := ⟨RX4, "never", "(I)I"⟩
def dkwX4_never_3 : List UInt8 := [181, 0, 54, 3, 172]
abbrev dktX4_never_3 : List UInt8 := dkwX4_never_3 ++ []
def dkwX4_never_2 : List UInt8 := [154, 0, 14, 28, 27, 160, 0, 6, 21, 4, 172, 132, 2, 1, 132, 3, 1, 167, 255, 203, 42, 4]
abbrev dktX4_never_2 : List UInt8 := dkwX4_never_2 ++ dktX4_never_3
def dkwX4_never_1 : List UInt8 := [162, 0, 42, 42, 29, 182, 1, 84, 54, 4, 42, 180, 0, 27, 21, 4, 16, 6, 184, 0, 201, 46]
abbrev dktX4_never_1 : List UInt8 := dkwX4_never_1 ++ dktX4_never_2
def dkwX4_never_0 : List UInt8 := [42, 3, 181, 0, 54, 3, 61, 3, 62, 42, 180, 0, 192, 153, 0, 52, 29, 42, 180, 0, 17, 6, 46]
abbrev dktX4_never_0 : List UInt8 := dkwX4_never_0 ++ dktX4_never_1
theorem dksX4_never_0 : cX4_never.data.toList.drop 0 = dktX4_never_0 := by decide +kernel
theorem dksX4_never_1 : cX4_never.data.toList.drop 23 = dktX4_never_1 := dk_seg dksX4_never_0 23 rfl rfl
theorem dksX4_never_2 : cX4_never.data.toList.drop 45 = dktX4_never_2 := dk_seg dksX4_never_1 22 rfl rfl
theorem dksX4_never_3 : cX4_never.data.toList.drop 67 = dktX4_never_3 := dk_seg dksX4_never_2 22 rfl rfl
theorem dX4_never_0 : decode cX4_never 0 = .ok (.aload_n 0, 1) := dk_42 (dk_at dksX4_never_0 0 rfl rfl)
theorem dX4_never_1 : decode cX4_never 1 = .ok (.iconst 0, 1) := dk_3 (dk_at dksX4_never_0 1 rfl rfl)
theorem dX4_never_2 : decode cX4_never 2 = .ok (.putfield 54, 3) := dk_181 0 54 (dk_at dksX4_never_0 2 rfl rfl)
theorem dX4_never_5 : decode cX4_never 5 = .ok (.iconst 0, 1) := dk_3 (dk_at dksX4_never_0 5 rfl rfl)
theorem dX4_never_6 : decode cX4_never 6 = .ok (.istore_n 2, 1) := dk_61 (dk_at dksX4_never_0 6 rfl rfl)
theorem dX4_never_7 : decode cX4_never 7 = .ok (.iconst 0, 1) := dk_3 (dk_at dksX4_never_0 7 rfl rfl)
theorem dX4_never_8 : decode cX4_never 8 = .ok (.istore_n 3, 1) := dk_62 (dk_at dksX4_never_0 8 rfl rfl)
theorem dX4_never_9 : decode cX4_never 9 = .ok (.aload_n 0, 1) := dk_42 (dk_at dksX4_never_0 9 rfl rfl)
theorem dX4_never_10 : decode cX4_never 10 = .ok (.getfield 192, 3) := dk_180 0 192 (dk_at dksX4_never_0 10 rfl rfl)
theorem dX4_never_13 : decode cX4_never 13 = .ok (.ifCond .eq 52, 3) := dk_153 0 52 (dk_at dksX4_never_0 13 rfl rfl)
theorem dX4_never_16 : decode cX4_never 16 = .ok (.iload_n 3, 1) := dk_29 (dk_at dksX4_never_0 16 rfl rfl)
theorem dX4_never_17 : decode cX4_never 17 = .ok (.aload_n 0, 1) := dk_42 (dk_at dksX4_never_0 17 rfl rfl)
theorem dX4_never_18 : decode cX4_never 18 = .ok (.getfield 17, 3) := dk_180 0 17 (dk_at dksX4_never_0 18 rfl rfl)
theorem dX4_never_21 : decode cX4_never 21 = .ok (.iconst 3, 1) := dk_6 (dk_at dksX4_never_0 21 rfl rfl)
theorem dX4_never_22 : decode cX4_never 22 = .ok (.iaload, 1) := dk_46 (dk_at dksX4_never_0 22 rfl rfl)
theorem dX4_never_23 : decode cX4_never 23 = .ok (.if_icmp .ge 42, 3) := dk_162 0 42 (dk_at dksX4_never_1 0 rfl rfl)
theorem dX4_never_26 : decode cX4_never 26 = .ok (.aload_n 0, 1) := dk_42 (dk_at dksX4_never_1 3 rfl rfl)
theorem dX4_never_27 : decode cX4_never 27 = .ok (.iload_n 3, 1) := dk_29 (dk_at dksX4_never_1 4 rfl rfl)
theorem dX4_never_28 : decode cX4_never 28 = .ok (.invokevirtual 340, 3) := dk_182 1 84 (dk_at dksX4_never_1 5 rfl rfl)
theorem dX4_never_31 : decode cX4_never 31 = .ok (.istore 4, 2) := dk_54 4 (dk_at dksX4_never_1 8 rfl rfl)
theorem dX4_never_33 : decode cX4_never 33 = .ok (.aload_n 0, 1) := dk_42 (dk_at dksX4_never_1 10 rfl rfl)
theorem dX4_never_34 : decode cX4_never 34 = .ok (.getfield 27, 3) := dk_180 0 27 (dk_at dksX4_never_1 11 rfl rfl)
theorem dX4_never_37 : decode cX4_never 37 = .ok (.iload 4, 2) := dk_21 4 (dk_at dksX4_never_1 14 rfl rfl)
theorem dX4_never_39 : decode cX4_never 39 = .ok (.bipush 6, 2) := dk_16 6 (dk_at dksX4_never_1 16 rfl rfl)
theorem dX4_never_41 : decode cX4_never 41 = .ok (.invokestatic 201, 3) := dk_184 0 201 (dk_at dksX4_never_1 18 rfl rfl)
theorem dX4_never_44 : decode cX4_never 44 = .ok (.iaload, 1) := dk_46 (dk_at dksX4_never_1 21 rfl rfl)
theorem dX4_never_45 : decode cX4_never 45 = .ok (.ifCond .ne 14, 3) := dk_154 0 14 (dk_at dksX4_never_2 0 rfl rfl)
theorem dX4_never_48 : decode cX4_never 48 = .ok (.iload_n 2, 1) := dk_28 (dk_at dksX4_never_2 3 rfl rfl)
theorem dX4_never_49 : decode cX4_never 49 = .ok (.iload_n 1, 1) := dk_27 (dk_at dksX4_never_2 4 rfl rfl)
theorem dX4_never_50 : decode cX4_never 50 = .ok (.if_icmp .ne 6, 3) := dk_160 0 6 (dk_at dksX4_never_2 5 rfl rfl)
theorem dX4_never_53 : decode cX4_never 53 = .ok (.iload 4, 2) := dk_21 4 (dk_at dksX4_never_2 8 rfl rfl)
theorem dX4_never_55 : decode cX4_never 55 = .ok (.ireturn, 1) := dk_172 (dk_at dksX4_never_2 10 rfl rfl)
theorem dX4_never_56 : decode cX4_never 56 = .ok (.iinc 2 1, 3) := dk_132 2 1 (dk_at dksX4_never_2 11 rfl rfl)
theorem dX4_never_59 : decode cX4_never 59 = .ok (.iinc 3 1, 3) := dk_132 3 1 (dk_at dksX4_never_2 14 rfl rfl)
theorem dX4_never_62 : decode cX4_never 62 = .ok (.goto (-53), 3) := dk_167 255 203 (dk_at dksX4_never_2 17 rfl rfl)
theorem dX4_never_65 : decode cX4_never 65 = .ok (.aload_n 0, 1) := dk_42 (dk_at dksX4_never_2 20 rfl rfl)
theorem dX4_never_66 : decode cX4_never 66 = .ok (.iconst 1, 1) := dk_4 (dk_at dksX4_never_2 21 rfl rfl)
theorem dX4_never_67 : decode cX4_never 67 = .ok (.putfield 54, 3) := dk_181 0 54 (dk_at dksX4_never_3 0 rfl rfl)
theorem dX4_never_70 : decode cX4_never 70 = .ok (.iconst 0, 1) := dk_3 (dk_at dksX4_never_3 3 rfl rfl)
theorem dX4_never_71 : decode cX4_never 71 = .ok (.ireturn, 1) := dk_172 (dk_at dksX4_never_3 4 rfl rfl)
abbrev cX4_bySlot : ByteArray := prog_19_method_102_code
def yX4_bySlot : MethodName := ⟨RX4, "bySlot", "(I)I"⟩
def dkwX4_bySlot_3 : List UInt8 := [132, 2, 1, 167, 255, 186, 2, 172]
abbrev dktX4_bySlot_3 : List UInt8 := dkwX4_bySlot_3 ++ []
def dkwX4_bySlot_2 : List UInt8 := [162, 0, 7, 4, 167, 0, 4, 3, 96, 62, 132, 4, 1, 167, 255, 214, 29, 27, 160, 0, 5, 28, 172]
abbrev dktX4_bySlot_2 : List UInt8 := dkwX4_bySlot_2 ++ dktX4_bySlot_3
def dkwX4_bySlot_1 : List UInt8 := [46, 162, 0, 37, 29, 42, 180, 0, 17, 8, 21, 4, 96, 46, 42, 180, 0, 17, 8, 28, 96, 46]
abbrev dktX4_bySlot_1 : List UInt8 := dkwX4_bySlot_1 ++ dktX4_bySlot_2
def dkwX4_bySlot_0 : List UInt8 := [3, 61, 28, 42, 180, 0, 17, 6, 46, 162, 0, 66, 3, 62, 3, 54, 4, 21, 4, 42, 180, 0, 17, 6]
abbrev dktX4_bySlot_0 : List UInt8 := dkwX4_bySlot_0 ++ dktX4_bySlot_1
theorem dksX4_bySlot_0 : cX4_bySlot.data.toList.drop 0 = dktX4_bySlot_0 := by decide +kernel
theorem dksX4_bySlot_1 : cX4_bySlot.data.toList.drop 24 = dktX4_bySlot_1 := dk_seg dksX4_bySlot_0 24 rfl rfl
theorem dksX4_bySlot_2 : cX4_bySlot.data.toList.drop 46 = dktX4_bySlot_2 := dk_seg dksX4_bySlot_1 22 rfl rfl
theorem dksX4_bySlot_3 : cX4_bySlot.data.toList.drop 69 = dktX4_bySlot_3 := dk_seg dksX4_bySlot_2 23 rfl rfl
theorem dX4_bySlot_0 : decode cX4_bySlot 0 = .ok (.iconst 0, 1) := dk_3 (dk_at dksX4_bySlot_0 0 rfl rfl)
theorem dX4_bySlot_1 : decode cX4_bySlot 1 = .ok (.istore_n 2, 1) := dk_61 (dk_at dksX4_bySlot_0 1 rfl rfl)
theorem dX4_bySlot_2 : decode cX4_bySlot 2 = .ok (.iload_n 2, 1) := dk_28 (dk_at dksX4_bySlot_0 2 rfl rfl)
theorem dX4_bySlot_3 : decode cX4_bySlot 3 = .ok (.aload_n 0, 1) := dk_42 (dk_at dksX4_bySlot_0 3 rfl rfl)
theorem dX4_bySlot_4 : decode cX4_bySlot 4 = .ok (.getfield 17, 3) := dk_180 0 17 (dk_at dksX4_bySlot_0 4 rfl rfl)
theorem dX4_bySlot_7 : decode cX4_bySlot 7 = .ok (.iconst 3, 1) := dk_6 (dk_at dksX4_bySlot_0 7 rfl rfl)
theorem dX4_bySlot_8 : decode cX4_bySlot 8 = .ok (.iaload, 1) := dk_46 (dk_at dksX4_bySlot_0 8 rfl rfl)
theorem dX4_bySlot_9 : decode cX4_bySlot 9 = .ok (.if_icmp .ge 66, 3) := dk_162 0 66 (dk_at dksX4_bySlot_0 9 rfl rfl)
theorem dX4_bySlot_12 : decode cX4_bySlot 12 = .ok (.iconst 0, 1) := dk_3 (dk_at dksX4_bySlot_0 12 rfl rfl)
theorem dX4_bySlot_13 : decode cX4_bySlot 13 = .ok (.istore_n 3, 1) := dk_62 (dk_at dksX4_bySlot_0 13 rfl rfl)
theorem dX4_bySlot_14 : decode cX4_bySlot 14 = .ok (.iconst 0, 1) := dk_3 (dk_at dksX4_bySlot_0 14 rfl rfl)
theorem dX4_bySlot_15 : decode cX4_bySlot 15 = .ok (.istore 4, 2) := dk_54 4 (dk_at dksX4_bySlot_0 15 rfl rfl)
theorem dX4_bySlot_17 : decode cX4_bySlot 17 = .ok (.iload 4, 2) := dk_21 4 (dk_at dksX4_bySlot_0 17 rfl rfl)
theorem dX4_bySlot_19 : decode cX4_bySlot 19 = .ok (.aload_n 0, 1) := dk_42 (dk_at dksX4_bySlot_0 19 rfl rfl)
theorem dX4_bySlot_20 : decode cX4_bySlot 20 = .ok (.getfield 17, 3) := dk_180 0 17 (dk_at dksX4_bySlot_0 20 rfl rfl)
theorem dX4_bySlot_23 : decode cX4_bySlot 23 = .ok (.iconst 3, 1) := dk_6 (dk_at dksX4_bySlot_0 23 rfl rfl)
theorem dX4_bySlot_24 : decode cX4_bySlot 24 = .ok (.iaload, 1) := dk_46 (dk_at dksX4_bySlot_1 0 rfl rfl)
theorem dX4_bySlot_25 : decode cX4_bySlot 25 = .ok (.if_icmp .ge 37, 3) := dk_162 0 37 (dk_at dksX4_bySlot_1 1 rfl rfl)
theorem dX4_bySlot_28 : decode cX4_bySlot 28 = .ok (.iload_n 3, 1) := dk_29 (dk_at dksX4_bySlot_1 4 rfl rfl)
theorem dX4_bySlot_29 : decode cX4_bySlot 29 = .ok (.aload_n 0, 1) := dk_42 (dk_at dksX4_bySlot_1 5 rfl rfl)
theorem dX4_bySlot_30 : decode cX4_bySlot 30 = .ok (.getfield 17, 3) := dk_180 0 17 (dk_at dksX4_bySlot_1 6 rfl rfl)
theorem dX4_bySlot_33 : decode cX4_bySlot 33 = .ok (.iconst 5, 1) := dk_8 (dk_at dksX4_bySlot_1 9 rfl rfl)
theorem dX4_bySlot_34 : decode cX4_bySlot 34 = .ok (.iload 4, 2) := dk_21 4 (dk_at dksX4_bySlot_1 10 rfl rfl)
theorem dX4_bySlot_36 : decode cX4_bySlot 36 = .ok (.iadd, 1) := dk_96 (dk_at dksX4_bySlot_1 12 rfl rfl)
theorem dX4_bySlot_37 : decode cX4_bySlot 37 = .ok (.iaload, 1) := dk_46 (dk_at dksX4_bySlot_1 13 rfl rfl)
theorem dX4_bySlot_38 : decode cX4_bySlot 38 = .ok (.aload_n 0, 1) := dk_42 (dk_at dksX4_bySlot_1 14 rfl rfl)
theorem dX4_bySlot_39 : decode cX4_bySlot 39 = .ok (.getfield 17, 3) := dk_180 0 17 (dk_at dksX4_bySlot_1 15 rfl rfl)
theorem dX4_bySlot_42 : decode cX4_bySlot 42 = .ok (.iconst 5, 1) := dk_8 (dk_at dksX4_bySlot_1 18 rfl rfl)
theorem dX4_bySlot_43 : decode cX4_bySlot 43 = .ok (.iload_n 2, 1) := dk_28 (dk_at dksX4_bySlot_1 19 rfl rfl)
theorem dX4_bySlot_44 : decode cX4_bySlot 44 = .ok (.iadd, 1) := dk_96 (dk_at dksX4_bySlot_1 20 rfl rfl)
theorem dX4_bySlot_45 : decode cX4_bySlot 45 = .ok (.iaload, 1) := dk_46 (dk_at dksX4_bySlot_1 21 rfl rfl)
theorem dX4_bySlot_46 : decode cX4_bySlot 46 = .ok (.if_icmp .ge 7, 3) := dk_162 0 7 (dk_at dksX4_bySlot_2 0 rfl rfl)
theorem dX4_bySlot_49 : decode cX4_bySlot 49 = .ok (.iconst 1, 1) := dk_4 (dk_at dksX4_bySlot_2 3 rfl rfl)
theorem dX4_bySlot_50 : decode cX4_bySlot 50 = .ok (.goto 4, 3) := dk_167 0 4 (dk_at dksX4_bySlot_2 4 rfl rfl)
theorem dX4_bySlot_53 : decode cX4_bySlot 53 = .ok (.iconst 0, 1) := dk_3 (dk_at dksX4_bySlot_2 7 rfl rfl)
theorem dX4_bySlot_54 : decode cX4_bySlot 54 = .ok (.iadd, 1) := dk_96 (dk_at dksX4_bySlot_2 8 rfl rfl)
theorem dX4_bySlot_55 : decode cX4_bySlot 55 = .ok (.istore_n 3, 1) := dk_62 (dk_at dksX4_bySlot_2 9 rfl rfl)
theorem dX4_bySlot_56 : decode cX4_bySlot 56 = .ok (.iinc 4 1, 3) := dk_132 4 1 (dk_at dksX4_bySlot_2 10 rfl rfl)
theorem dX4_bySlot_59 : decode cX4_bySlot 59 = .ok (.goto (-42), 3) := dk_167 255 214 (dk_at dksX4_bySlot_2 13 rfl rfl)
theorem dX4_bySlot_62 : decode cX4_bySlot 62 = .ok (.iload_n 3, 1) := dk_29 (dk_at dksX4_bySlot_2 16 rfl rfl)
theorem dX4_bySlot_63 : decode cX4_bySlot 63 = .ok (.iload_n 1, 1) := dk_27 (dk_at dksX4_bySlot_2 17 rfl rfl)
theorem dX4_bySlot_64 : decode cX4_bySlot 64 = .ok (.if_icmp .ne 5, 3) := dk_160 0 5 (dk_at dksX4_bySlot_2 18 rfl rfl)
theorem dX4_bySlot_67 : decode cX4_bySlot 67 = .ok (.iload_n 2, 1) := dk_28 (dk_at dksX4_bySlot_2 21 rfl rfl)
theorem dX4_bySlot_68 : decode cX4_bySlot 68 = .ok (.ireturn, 1) := dk_172 (dk_at dksX4_bySlot_2 22 rfl rfl)
theorem dX4_bySlot_69 : decode cX4_bySlot 69 = .ok (.iinc 2 1, 3) := dk_132 2 1 (dk_at dksX4_bySlot_3 0 rfl rfl)
theorem dX4_bySlot_72 : decode cX4_bySlot 72 = .ok (.goto (-70), 3) := dk_167 255 186 (dk_at dksX4_bySlot_3 3 rfl rfl)
theorem dX4_bySlot_75 : decode cX4_bySlot 75 = .ok (.iconst (-1), 1) := dk_2 (dk_at dksX4_bySlot_3 6 rfl rfl)
theorem dX4_bySlot_76 : decode cX4_bySlot 76 = .ok (.ireturn, 1) := dk_172 (dk_at dksX4_bySlot_3 7 rfl rfl)
abbrev cX4_size : ByteArray := prog_19_method_104_code
def yX4_size : MethodName := ⟨RX4, "size", "(I)I"⟩
def dkwX4_size_4 : List UInt8 := [46, 100, 167, 0, 4, 3, 172, 42, 180, 0, 195, 153, 0, 7, 4, 167, 0, 4, 3, 172, 28, 172, 2, 172]
abbrev dktX4_size_4 : List UInt8 := dkwX4_size_4 ++ []
def dkwX4_size_3 : List UInt8 := [42, 180, 0, 60, 172, 42, 180, 0, 192, 153, 0, 20, 42, 180, 0, 17, 7, 46, 42, 180, 0, 27, 16, 11]
abbrev dktX4_size_3 : List UInt8 := dkwX4_size_3 ++ dktX4_size_4
def dkwX4_size_2 : List UInt8 := [170, 0, 0, 0, 0, 76, 0, 0, 0, 0, 0, 0, 0, 3, 0, 0, 0, 30, 0, 0, 0, 35, 0, 0, 0, 61, 0, 0, 0, 74]
abbrev dktX4_size_2 : List UInt8 := dkwX4_size_2 ++ dktX4_size_3
def dkwX4_size_1 : List UInt8 := [46, 154, 0, 7, 3, 167, 0, 4, 4, 96, 61, 132, 3, 1, 167, 255, 227, 27]
abbrev dktX4_size_1 : List UInt8 := dkwX4_size_1 ++ dktX4_size_2
def dkwX4_size_0 : List UInt8 := [42, 3, 181, 0, 54, 3, 61, 3, 62, 29, 16, 6, 162, 0, 29, 28, 42, 180, 0, 27, 16, 12, 29, 96]
abbrev dktX4_size_0 : List UInt8 := dkwX4_size_0 ++ dktX4_size_1
theorem dksX4_size_0 : cX4_size.data.toList.drop 0 = dktX4_size_0 := by decide +kernel
theorem dksX4_size_1 : cX4_size.data.toList.drop 24 = dktX4_size_1 := dk_seg dksX4_size_0 24 rfl rfl
theorem dksX4_size_2 : cX4_size.data.toList.drop 42 = dktX4_size_2 := dk_seg dksX4_size_1 18 rfl rfl
theorem dksX4_size_3 : cX4_size.data.toList.drop 72 = dktX4_size_3 := dk_seg dksX4_size_2 30 rfl rfl
theorem dksX4_size_4 : cX4_size.data.toList.drop 96 = dktX4_size_4 := dk_seg dksX4_size_3 24 rfl rfl
theorem dX4_size_0 : decode cX4_size 0 = .ok (.aload_n 0, 1) := dk_42 (dk_at dksX4_size_0 0 rfl rfl)
theorem dX4_size_1 : decode cX4_size 1 = .ok (.iconst 0, 1) := dk_3 (dk_at dksX4_size_0 1 rfl rfl)
theorem dX4_size_2 : decode cX4_size 2 = .ok (.putfield 54, 3) := dk_181 0 54 (dk_at dksX4_size_0 2 rfl rfl)
theorem dX4_size_5 : decode cX4_size 5 = .ok (.iconst 0, 1) := dk_3 (dk_at dksX4_size_0 5 rfl rfl)
theorem dX4_size_6 : decode cX4_size 6 = .ok (.istore_n 2, 1) := dk_61 (dk_at dksX4_size_0 6 rfl rfl)
theorem dX4_size_7 : decode cX4_size 7 = .ok (.iconst 0, 1) := dk_3 (dk_at dksX4_size_0 7 rfl rfl)
theorem dX4_size_8 : decode cX4_size 8 = .ok (.istore_n 3, 1) := dk_62 (dk_at dksX4_size_0 8 rfl rfl)
theorem dX4_size_9 : decode cX4_size 9 = .ok (.iload_n 3, 1) := dk_29 (dk_at dksX4_size_0 9 rfl rfl)
theorem dX4_size_10 : decode cX4_size 10 = .ok (.bipush 6, 2) := dk_16 6 (dk_at dksX4_size_0 10 rfl rfl)
theorem dX4_size_12 : decode cX4_size 12 = .ok (.if_icmp .ge 29, 3) := dk_162 0 29 (dk_at dksX4_size_0 12 rfl rfl)
theorem dX4_size_15 : decode cX4_size 15 = .ok (.iload_n 2, 1) := dk_28 (dk_at dksX4_size_0 15 rfl rfl)
theorem dX4_size_16 : decode cX4_size 16 = .ok (.aload_n 0, 1) := dk_42 (dk_at dksX4_size_0 16 rfl rfl)
theorem dX4_size_17 : decode cX4_size 17 = .ok (.getfield 27, 3) := dk_180 0 27 (dk_at dksX4_size_0 17 rfl rfl)
theorem dX4_size_20 : decode cX4_size 20 = .ok (.bipush 12, 2) := dk_16 12 (dk_at dksX4_size_0 20 rfl rfl)
theorem dX4_size_22 : decode cX4_size 22 = .ok (.iload_n 3, 1) := dk_29 (dk_at dksX4_size_0 22 rfl rfl)
theorem dX4_size_23 : decode cX4_size 23 = .ok (.iadd, 1) := dk_96 (dk_at dksX4_size_0 23 rfl rfl)
theorem dX4_size_24 : decode cX4_size 24 = .ok (.iaload, 1) := dk_46 (dk_at dksX4_size_1 0 rfl rfl)
theorem dX4_size_25 : decode cX4_size 25 = .ok (.ifCond .ne 7, 3) := dk_154 0 7 (dk_at dksX4_size_1 1 rfl rfl)
theorem dX4_size_28 : decode cX4_size 28 = .ok (.iconst 0, 1) := dk_3 (dk_at dksX4_size_1 4 rfl rfl)
theorem dX4_size_29 : decode cX4_size 29 = .ok (.goto 4, 3) := dk_167 0 4 (dk_at dksX4_size_1 5 rfl rfl)
theorem dX4_size_32 : decode cX4_size 32 = .ok (.iconst 1, 1) := dk_4 (dk_at dksX4_size_1 8 rfl rfl)
theorem dX4_size_33 : decode cX4_size 33 = .ok (.iadd, 1) := dk_96 (dk_at dksX4_size_1 9 rfl rfl)
theorem dX4_size_34 : decode cX4_size 34 = .ok (.istore_n 2, 1) := dk_61 (dk_at dksX4_size_1 10 rfl rfl)
theorem dX4_size_35 : decode cX4_size 35 = .ok (.iinc 3 1, 3) := dk_132 3 1 (dk_at dksX4_size_1 11 rfl rfl)
theorem dX4_size_38 : decode cX4_size 38 = .ok (.goto (-29), 3) := dk_167 255 227 (dk_at dksX4_size_1 14 rfl rfl)
theorem dX4_size_41 : decode cX4_size 41 = .ok (.iload_n 1, 1) := dk_27 (dk_at dksX4_size_1 17 rfl rfl)
theorem dX4_size_42 : decode cX4_size 42 = .ok (.tableswitch 76 0 3 #[30, 35, 61, 74], 30) := by decide +kernel
theorem dX4_size_72 : decode cX4_size 72 = .ok (.aload_n 0, 1) := dk_42 (dk_at dksX4_size_3 0 rfl rfl)
theorem dX4_size_73 : decode cX4_size 73 = .ok (.getfield 60, 3) := dk_180 0 60 (dk_at dksX4_size_3 1 rfl rfl)
theorem dX4_size_76 : decode cX4_size 76 = .ok (.ireturn, 1) := dk_172 (dk_at dksX4_size_3 4 rfl rfl)
theorem dX4_size_77 : decode cX4_size 77 = .ok (.aload_n 0, 1) := dk_42 (dk_at dksX4_size_3 5 rfl rfl)
theorem dX4_size_78 : decode cX4_size 78 = .ok (.getfield 192, 3) := dk_180 0 192 (dk_at dksX4_size_3 6 rfl rfl)
theorem dX4_size_81 : decode cX4_size 81 = .ok (.ifCond .eq 20, 3) := dk_153 0 20 (dk_at dksX4_size_3 9 rfl rfl)
theorem dX4_size_84 : decode cX4_size 84 = .ok (.aload_n 0, 1) := dk_42 (dk_at dksX4_size_3 12 rfl rfl)
theorem dX4_size_85 : decode cX4_size 85 = .ok (.getfield 17, 3) := dk_180 0 17 (dk_at dksX4_size_3 13 rfl rfl)
theorem dX4_size_88 : decode cX4_size 88 = .ok (.iconst 4, 1) := dk_7 (dk_at dksX4_size_3 16 rfl rfl)
theorem dX4_size_89 : decode cX4_size 89 = .ok (.iaload, 1) := dk_46 (dk_at dksX4_size_3 17 rfl rfl)
theorem dX4_size_90 : decode cX4_size 90 = .ok (.aload_n 0, 1) := dk_42 (dk_at dksX4_size_3 18 rfl rfl)
theorem dX4_size_91 : decode cX4_size 91 = .ok (.getfield 27, 3) := dk_180 0 27 (dk_at dksX4_size_3 19 rfl rfl)
theorem dX4_size_94 : decode cX4_size 94 = .ok (.bipush 11, 2) := dk_16 11 (dk_at dksX4_size_3 22 rfl rfl)
theorem dX4_size_96 : decode cX4_size 96 = .ok (.iaload, 1) := dk_46 (dk_at dksX4_size_4 0 rfl rfl)
theorem dX4_size_97 : decode cX4_size 97 = .ok (.isub, 1) := dk_100 (dk_at dksX4_size_4 1 rfl rfl)
theorem dX4_size_98 : decode cX4_size 98 = .ok (.goto 4, 3) := dk_167 0 4 (dk_at dksX4_size_4 2 rfl rfl)
theorem dX4_size_101 : decode cX4_size 101 = .ok (.iconst 0, 1) := dk_3 (dk_at dksX4_size_4 5 rfl rfl)
theorem dX4_size_102 : decode cX4_size 102 = .ok (.ireturn, 1) := dk_172 (dk_at dksX4_size_4 6 rfl rfl)
theorem dX4_size_103 : decode cX4_size 103 = .ok (.aload_n 0, 1) := dk_42 (dk_at dksX4_size_4 7 rfl rfl)
theorem dX4_size_104 : decode cX4_size 104 = .ok (.getfield 195, 3) := dk_180 0 195 (dk_at dksX4_size_4 8 rfl rfl)
theorem dX4_size_107 : decode cX4_size 107 = .ok (.ifCond .eq 7, 3) := dk_153 0 7 (dk_at dksX4_size_4 11 rfl rfl)
theorem dX4_size_110 : decode cX4_size 110 = .ok (.iconst 1, 1) := dk_4 (dk_at dksX4_size_4 14 rfl rfl)
theorem dX4_size_111 : decode cX4_size 111 = .ok (.goto 4, 3) := dk_167 0 4 (dk_at dksX4_size_4 15 rfl rfl)
theorem dX4_size_114 : decode cX4_size 114 = .ok (.iconst 0, 1) := dk_3 (dk_at dksX4_size_4 18 rfl rfl)
theorem dX4_size_115 : decode cX4_size 115 = .ok (.ireturn, 1) := dk_172 (dk_at dksX4_size_4 19 rfl rfl)
theorem dX4_size_116 : decode cX4_size 116 = .ok (.iload_n 2, 1) := dk_28 (dk_at dksX4_size_4 20 rfl rfl)
theorem dX4_size_117 : decode cX4_size 117 = .ok (.ireturn, 1) := dk_172 (dk_at dksX4_size_4 21 rfl rfl)
theorem dX4_size_118 : decode cX4_size 118 = .ok (.iconst (-1), 1) := dk_2 (dk_at dksX4_size_4 22 rfl rfl)
theorem dX4_size_119 : decode cX4_size 119 = .ok (.ireturn, 1) := dk_172 (dk_at dksX4_size_4 23 rfl rfl)
abbrev cX4_trouble : ByteArray := prog_19_method_105_code
def yX4_trouble : MethodName := ⟨RX4, "trouble", "()I"⟩
def dkwX4_trouble_0 : List UInt8 := [42, 3, 181, 0, 54, 42, 180, 0, 57, 172]
abbrev dktX4_trouble_0 : List UInt8 := dkwX4_trouble_0 ++ []
theorem dksX4_trouble_0 : cX4_trouble.data.toList.drop 0 = dktX4_trouble_0 := by decide +kernel
theorem dX4_trouble_0 : decode cX4_trouble 0 = .ok (.aload_n 0, 1) := dk_42 (dk_at dksX4_trouble_0 0 rfl rfl)
theorem dX4_trouble_1 : decode cX4_trouble 1 = .ok (.iconst 0, 1) := dk_3 (dk_at dksX4_trouble_0 1 rfl rfl)
theorem dX4_trouble_2 : decode cX4_trouble 2 = .ok (.putfield 54, 3) := dk_181 0 54 (dk_at dksX4_trouble_0 2 rfl rfl)
theorem dX4_trouble_5 : decode cX4_trouble 5 = .ok (.aload_n 0, 1) := dk_42 (dk_at dksX4_trouble_0 5 rfl rfl)
theorem dX4_trouble_6 : decode cX4_trouble 6 = .ok (.getfield 57, 3) := dk_180 0 57 (dk_at dksX4_trouble_0 6 rfl rfl)
theorem dX4_trouble_9 : decode cX4_trouble 9 = .ok (.ireturn, 1) := dk_172 (dk_at dksX4_trouble_0 9 rfl rfl)
theorem q108 : (Jvm.Cond.initialized "OpenLinesModel") ∈ lw_all := lw_g (lw_at lw_m1 7 rfl) rfl
theorem q815 : (Jvm.Cond.selects "OpenLinesModel" ({ cls := "java/lang/Object", name := "hashCode", desc := "()I" } : Jvm.MethodName) ({ cls := "java/lang/Object", name := "hashCode", desc := "()I" } : Jvm.MethodName)) ∈ lw_all := lw_g (lw_at lw_m3 234 rfl) rfl
theorem q893 : (Jvm.Cond.selects "OpenLinesModel" ({ cls := "java/lang/Object", name := "equals", desc := "(Ljava/lang/Object;)Z" } : Jvm.MethodName) ({ cls := "java/lang/Object", name := "equals", desc := "(Ljava/lang/Object;)Z" } : Jvm.MethodName)) ∈ lw_all := lw_g (lw_at lw_m4 72 rfl) rfl
theorem q946 : (Jvm.Cond.selects "OpenLinesModel" ({ cls := "java/lang/Object", name := "getClass", desc := "()Ljava/lang/Class;" } : Jvm.MethodName) ({ cls := "java/lang/Object", name := "getClass", desc := "()Ljava/lang/Class;" } : Jvm.MethodName)) ∈ lw_all := lw_g (lw_at lw_m4 125 rfl) rfl
theorem q2126 : (Jvm.Cond.instantiable "OpenLinesModel" (33 : Nat)) ∈ lw_all := lw_g (lw_at lw_m9 105 rfl) rfl
theorem q2128 : (Jvm.Cond.instanceMethod ({ cls := "OpenLinesModel", name := "<init>", desc := "()V" } : Jvm.MethodName)) ∈ lw_all := lw_g (lw_at lw_m9 107 rfl) rfl
theorem q2129 : (Jvm.Cond.code ({ cls := "OpenLinesModel", name := "<init>", desc := "()V" } : Jvm.MethodName) prog_19_method_1_code (1 : Nat) (Option.none : Option Jvm.ClassFile.FieldType)) ∈ lw_all := lw_g (lw_at lw_m9 108 rfl) rfl
theorem q2130 : (Jvm.Cond.methodLink "OpenLinesModel" (3 : Nat) ({ cls := "java/lang/Object", name := "<init>", desc := "()V" } : Jvm.MethodName)) ∈ lw_all := lw_g (lw_at lw_m9 109 rfl) rfl
theorem q2131 : (Jvm.Cond.fieldLink "OpenLinesModel" (54 : Nat) "OpenLinesModel" "thrown" "I") ∈ lw_all := lw_g (lw_at lw_m9 110 rfl) rfl
theorem q2132 : (Jvm.Cond.fieldLink "OpenLinesModel" (57 : Nat) "OpenLinesModel" "trouble" "I") ∈ lw_all := lw_g (lw_at lw_m9 111 rfl) rfl
theorem q2133 : (Jvm.Cond.fieldLink "OpenLinesModel" (183 : Nat) "OpenLinesModel" "fault" "I") ∈ lw_all := lw_g (lw_at lw_m9 112 rfl) rfl
theorem q2134 : (Jvm.Cond.fieldLink "OpenLinesModel" (9 : Nat) "OpenLinesModel" "where" "I") ∈ lw_all := lw_g (lw_at lw_m9 113 rfl) rfl
theorem q2135 : (Jvm.Cond.fieldLink "OpenLinesModel" (13 : Nat) "OpenLinesModel" "tape" "[I") ∈ lw_all := lw_g (lw_at lw_m9 114 rfl) rfl
theorem q2136 : (Jvm.Cond.fieldLink "OpenLinesModel" (60 : Nat) "OpenLinesModel" "taped" "I") ∈ lw_all := lw_g (lw_at lw_m9 115 rfl) rfl
theorem q2137 : (Jvm.Cond.fieldLink "OpenLinesModel" (17 : Nat) "OpenLinesModel" "is" "[I") ∈ lw_all := lw_g (lw_at lw_m9 116 rfl) rfl
theorem q2138 : (Jvm.Cond.fieldLink "OpenLinesModel" (20 : Nat) "OpenLinesModel" "read" "[I") ∈ lw_all := lw_g (lw_at lw_m9 117 rfl) rfl
theorem q2139 : (Jvm.Cond.fieldLink "OpenLinesModel" (23 : Nat) "OpenLinesModel" "names" "[J") ∈ lw_all := lw_g (lw_at lw_m9 118 rfl) rfl
theorem q2140 : (Jvm.Cond.fieldLink "OpenLinesModel" (192 : Nat) "OpenLinesModel" "isTold" "Z") ∈ lw_all := lw_g (lw_at lw_m9 119 rfl) rfl
theorem q2141 : (Jvm.Cond.fieldLink "OpenLinesModel" (67 : Nat) "OpenLinesModel" "textLong" "I") ∈ lw_all := lw_g (lw_at lw_m9 120 rfl) rfl
theorem q2142 : (Jvm.Cond.fieldLink "OpenLinesModel" (77 : Nat) "OpenLinesModel" "place" "I") ∈ lw_all := lw_g (lw_at lw_m9 121 rfl) rfl
theorem q2143 : (Jvm.Cond.fieldLink "OpenLinesModel" (70 : Nat) "OpenLinesModel" "spot" "I") ∈ lw_all := lw_g (lw_at lw_m9 122 rfl) rfl
theorem q2144 : (Jvm.Cond.fieldLink "OpenLinesModel" (80 : Nat) "OpenLinesModel" "token" "I") ∈ lw_all := lw_g (lw_at lw_m9 123 rfl) rfl
theorem q2145 : (Jvm.Cond.fieldLink "OpenLinesModel" (87 : Nat) "OpenLinesModel" "whole" "I") ∈ lw_all := lw_g (lw_at lw_m9 124 rfl) rfl
theorem q2146 : (Jvm.Cond.fieldLink "OpenLinesModel" (100 : Nat) "OpenLinesModel" "readFault" "I") ∈ lw_all := lw_g (lw_at lw_m9 125 rfl) rfl
theorem q2147 : (Jvm.Cond.fieldLink "OpenLinesModel" (103 : Nat) "OpenLinesModel" "readPlace" "I") ∈ lw_all := lw_g (lw_at lw_m9 126 rfl) rfl
theorem q2148 : (Jvm.Cond.fieldLink "OpenLinesModel" (134 : Nat) "OpenLinesModel" "hasBus" "Z") ∈ lw_all := lw_g (lw_at lw_m9 127 rfl) rfl
theorem q2149 : (Jvm.Cond.fieldLink "OpenLinesModel" (27 : Nat) "OpenLinesModel" "row" "[I") ∈ lw_all := lw_g (lw_at lw_m9 128 rfl) rfl
theorem q2150 : (Jvm.Cond.fieldLink "OpenLinesModel" (30 : Nat) "OpenLinesModel" "aside" "[I") ∈ lw_all := lw_g (lw_at lw_m9 129 rfl) rfl
theorem q2151 : (Jvm.Cond.fieldLink "OpenLinesModel" (33 : Nat) "OpenLinesModel" "kept" "[I") ∈ lw_all := lw_g (lw_at lw_m9 130 rfl) rfl
theorem q2152 : (Jvm.Cond.fieldLink "OpenLinesModel" (195 : Nat) "OpenLinesModel" "isKept" "Z") ∈ lw_all := lw_g (lw_at lw_m9 131 rfl) rfl
theorem q2153 : (Jvm.Cond.fieldLink "OpenLinesModel" (36 : Nat) "OpenLinesModel" "words" "[I") ∈ lw_all := lw_g (lw_at lw_m9 132 rfl) rfl
theorem q2154 : (Jvm.Cond.fieldLink "OpenLinesModel" (218 : Nat) "OpenLinesModel" "contenders" "I") ∈ lw_all := lw_g (lw_at lw_m9 133 rfl) rfl
theorem q2155 : (Jvm.Cond.fieldLink "OpenLinesModel" (39 : Nat) "OpenLinesModel" "driven" "[I") ∈ lw_all := lw_g (lw_at lw_m9 134 rfl) rfl
theorem q2156 : (Jvm.Cond.fieldLink "OpenLinesModel" (42 : Nat) "OpenLinesModel" "sees" "[I") ∈ lw_all := lw_g (lw_at lw_m9 135 rfl) rfl
theorem q2157 : (Jvm.Cond.fieldLink "OpenLinesModel" (45 : Nat) "OpenLinesModel" "takes" "[I") ∈ lw_all := lw_g (lw_at lw_m9 136 rfl) rfl
theorem q2158 : (Jvm.Cond.fieldLink "OpenLinesModel" (48 : Nat) "OpenLinesModel" "isOut" "[I") ∈ lw_all := lw_g (lw_at lw_m9 137 rfl) rfl
theorem q2159 : (Jvm.Cond.fieldLink "OpenLinesModel" (51 : Nat) "OpenLinesModel" "dipped" "[I") ∈ lw_all := lw_g (lw_at lw_m9 138 rfl) rfl
theorem q2160 : (Jvm.Cond.fieldLink "OpenLinesModel" (234 : Nat) "OpenLinesModel" "dipMany" "I") ∈ lw_all := lw_g (lw_at lw_m9 139 rfl) rfl
theorem q2161 : (Jvm.Cond.fieldLink "OpenLinesModel" (287 : Nat) "OpenLinesModel" "faultyMany" "I") ∈ lw_all := lw_g (lw_at lw_m9 140 rfl) rfl
theorem q2162 : (Jvm.Cond.fieldLink "OpenLinesModel" (290 : Nat) "OpenLinesModel" "firstWinners" "I") ∈ lw_all := lw_g (lw_at lw_m9 141 rfl) rfl
theorem q2163 : (Jvm.Cond.fieldLink "OpenLinesModel" (293 : Nat) "OpenLinesModel" "secondWinners" "I") ∈ lw_all := lw_g (lw_at lw_m9 142 rfl) rfl
theorem q2164 : (Jvm.Cond.lays "OpenLinesModel" "OpenLinesModel" "thrown" "I") ∈ lw_all := lw_g (lw_at lw_m9 143 rfl) rfl
theorem q2165 : (Jvm.Cond.soleField "OpenLinesModel" "thrown") ∈ lw_all := lw_g (lw_at lw_m9 144 rfl) rfl
theorem q2166 : (Jvm.Cond.lays "OpenLinesModel" "OpenLinesModel" "trouble" "I") ∈ lw_all := lw_g (lw_at lw_m9 145 rfl) rfl
theorem q2167 : (Jvm.Cond.soleField "OpenLinesModel" "trouble") ∈ lw_all := lw_g (lw_at lw_m9 146 rfl) rfl
theorem q2168 : (Jvm.Cond.lays "OpenLinesModel" "OpenLinesModel" "fault" "I") ∈ lw_all := lw_g (lw_at lw_m9 147 rfl) rfl
theorem q2169 : (Jvm.Cond.soleField "OpenLinesModel" "fault") ∈ lw_all := lw_g (lw_at lw_m9 148 rfl) rfl
theorem q2170 : (Jvm.Cond.lays "OpenLinesModel" "OpenLinesModel" "where" "I") ∈ lw_all := lw_g (lw_at lw_m9 149 rfl) rfl
theorem q2171 : (Jvm.Cond.soleField "OpenLinesModel" "where") ∈ lw_all := lw_g (lw_at lw_m9 150 rfl) rfl
theorem q2172 : (Jvm.Cond.laysFinal "OpenLinesModel" "OpenLinesModel" "tape" "[I") ∈ lw_all := lw_g (lw_at lw_m9 151 rfl) rfl
theorem q2173 : (Jvm.Cond.soleField "OpenLinesModel" "tape") ∈ lw_all := lw_g (lw_at lw_m9 152 rfl) rfl
theorem q2174 : (Jvm.Cond.lays "OpenLinesModel" "OpenLinesModel" "taped" "I") ∈ lw_all := lw_g (lw_at lw_m9 153 rfl) rfl
theorem q2175 : (Jvm.Cond.soleField "OpenLinesModel" "taped") ∈ lw_all := lw_g (lw_at lw_m9 154 rfl) rfl
theorem q2176 : (Jvm.Cond.laysFinal "OpenLinesModel" "OpenLinesModel" "is" "[I") ∈ lw_all := lw_g (lw_at lw_m9 155 rfl) rfl
theorem q2177 : (Jvm.Cond.soleField "OpenLinesModel" "is") ∈ lw_all := lw_g (lw_at lw_m9 156 rfl) rfl
theorem q2178 : (Jvm.Cond.laysFinal "OpenLinesModel" "OpenLinesModel" "read" "[I") ∈ lw_all := lw_g (lw_at lw_m9 157 rfl) rfl
theorem q2179 : (Jvm.Cond.soleField "OpenLinesModel" "read") ∈ lw_all := lw_g (lw_at lw_m9 158 rfl) rfl
theorem q2180 : (Jvm.Cond.laysFinal "OpenLinesModel" "OpenLinesModel" "names" "[J") ∈ lw_all := lw_g (lw_at lw_m9 159 rfl) rfl
theorem q2181 : (Jvm.Cond.soleField "OpenLinesModel" "names") ∈ lw_all := lw_g (lw_at lw_m9 160 rfl) rfl
theorem q2182 : (Jvm.Cond.lays "OpenLinesModel" "OpenLinesModel" "isTold" "Z") ∈ lw_all := lw_g (lw_at lw_m9 161 rfl) rfl
theorem q2183 : (Jvm.Cond.soleField "OpenLinesModel" "isTold") ∈ lw_all := lw_g (lw_at lw_m9 162 rfl) rfl
theorem q2184 : (Jvm.Cond.lays "OpenLinesModel" "OpenLinesModel" "textLong" "I") ∈ lw_all := lw_g (lw_at lw_m9 163 rfl) rfl
theorem q2185 : (Jvm.Cond.soleField "OpenLinesModel" "textLong") ∈ lw_all := lw_g (lw_at lw_m9 164 rfl) rfl
theorem q2186 : (Jvm.Cond.lays "OpenLinesModel" "OpenLinesModel" "place" "I") ∈ lw_all := lw_g (lw_at lw_m9 165 rfl) rfl
theorem q2187 : (Jvm.Cond.soleField "OpenLinesModel" "place") ∈ lw_all := lw_g (lw_at lw_m9 166 rfl) rfl
theorem q2188 : (Jvm.Cond.lays "OpenLinesModel" "OpenLinesModel" "spot" "I") ∈ lw_all := lw_g (lw_at lw_m9 167 rfl) rfl
theorem q2189 : (Jvm.Cond.soleField "OpenLinesModel" "spot") ∈ lw_all := lw_g (lw_at lw_m9 168 rfl) rfl
theorem q2190 : (Jvm.Cond.lays "OpenLinesModel" "OpenLinesModel" "token" "I") ∈ lw_all := lw_g (lw_at lw_m9 169 rfl) rfl
theorem q2191 : (Jvm.Cond.soleField "OpenLinesModel" "token") ∈ lw_all := lw_g (lw_at lw_m9 170 rfl) rfl
theorem q2192 : (Jvm.Cond.lays "OpenLinesModel" "OpenLinesModel" "whole" "I") ∈ lw_all := lw_g (lw_at lw_m9 171 rfl) rfl
theorem q2193 : (Jvm.Cond.soleField "OpenLinesModel" "whole") ∈ lw_all := lw_g (lw_at lw_m9 172 rfl) rfl
theorem q2194 : (Jvm.Cond.lays "OpenLinesModel" "OpenLinesModel" "readFault" "I") ∈ lw_all := lw_g (lw_at lw_m9 173 rfl) rfl
theorem q2195 : (Jvm.Cond.soleField "OpenLinesModel" "readFault") ∈ lw_all := lw_g (lw_at lw_m9 174 rfl) rfl
theorem q2196 : (Jvm.Cond.lays "OpenLinesModel" "OpenLinesModel" "readPlace" "I") ∈ lw_all := lw_g (lw_at lw_m9 175 rfl) rfl
theorem q2197 : (Jvm.Cond.soleField "OpenLinesModel" "readPlace") ∈ lw_all := lw_g (lw_at lw_m9 176 rfl) rfl
theorem q2198 : (Jvm.Cond.lays "OpenLinesModel" "OpenLinesModel" "hasBus" "Z") ∈ lw_all := lw_g (lw_at lw_m9 177 rfl) rfl
theorem q2199 : (Jvm.Cond.soleField "OpenLinesModel" "hasBus") ∈ lw_all := lw_g (lw_at lw_m9 178 rfl) rfl
theorem q2200 : (Jvm.Cond.laysFinal "OpenLinesModel" "OpenLinesModel" "row" "[I") ∈ lw_all := lw_g (lw_at lw_m9 179 rfl) rfl
theorem q2201 : (Jvm.Cond.soleField "OpenLinesModel" "row") ∈ lw_all := lw_g (lw_at lw_m9 180 rfl) rfl
theorem q2202 : (Jvm.Cond.laysFinal "OpenLinesModel" "OpenLinesModel" "aside" "[I") ∈ lw_all := lw_g (lw_at lw_m9 181 rfl) rfl
theorem q2203 : (Jvm.Cond.soleField "OpenLinesModel" "aside") ∈ lw_all := lw_g (lw_at lw_m9 182 rfl) rfl
theorem q2204 : (Jvm.Cond.laysFinal "OpenLinesModel" "OpenLinesModel" "kept" "[I") ∈ lw_all := lw_g (lw_at lw_m9 183 rfl) rfl
theorem q2205 : (Jvm.Cond.soleField "OpenLinesModel" "kept") ∈ lw_all := lw_g (lw_at lw_m9 184 rfl) rfl
theorem q2206 : (Jvm.Cond.lays "OpenLinesModel" "OpenLinesModel" "isKept" "Z") ∈ lw_all := lw_g (lw_at lw_m9 185 rfl) rfl
theorem q2207 : (Jvm.Cond.soleField "OpenLinesModel" "isKept") ∈ lw_all := lw_g (lw_at lw_m9 186 rfl) rfl
theorem q2208 : (Jvm.Cond.laysFinal "OpenLinesModel" "OpenLinesModel" "words" "[I") ∈ lw_all := lw_g (lw_at lw_m9 187 rfl) rfl
theorem q2209 : (Jvm.Cond.soleField "OpenLinesModel" "words") ∈ lw_all := lw_g (lw_at lw_m9 188 rfl) rfl
theorem q2210 : (Jvm.Cond.lays "OpenLinesModel" "OpenLinesModel" "contenders" "I") ∈ lw_all := lw_g (lw_at lw_m9 189 rfl) rfl
theorem q2211 : (Jvm.Cond.soleField "OpenLinesModel" "contenders") ∈ lw_all := lw_g (lw_at lw_m9 190 rfl) rfl
theorem q2212 : (Jvm.Cond.laysFinal "OpenLinesModel" "OpenLinesModel" "driven" "[I") ∈ lw_all := lw_g (lw_at lw_m9 191 rfl) rfl
theorem q2213 : (Jvm.Cond.soleField "OpenLinesModel" "driven") ∈ lw_all := lw_g (lw_at lw_m9 192 rfl) rfl
theorem q2214 : (Jvm.Cond.laysFinal "OpenLinesModel" "OpenLinesModel" "sees" "[I") ∈ lw_all := lw_g (lw_at lw_m9 193 rfl) rfl
theorem q2215 : (Jvm.Cond.soleField "OpenLinesModel" "sees") ∈ lw_all := lw_g (lw_at lw_m9 194 rfl) rfl
theorem q2216 : (Jvm.Cond.laysFinal "OpenLinesModel" "OpenLinesModel" "takes" "[I") ∈ lw_all := lw_g (lw_at lw_m9 195 rfl) rfl
theorem q2217 : (Jvm.Cond.soleField "OpenLinesModel" "takes") ∈ lw_all := lw_g (lw_at lw_m9 196 rfl) rfl
theorem q2218 : (Jvm.Cond.laysFinal "OpenLinesModel" "OpenLinesModel" "isOut" "[I") ∈ lw_all := lw_g (lw_at lw_m9 197 rfl) rfl
theorem q2219 : (Jvm.Cond.soleField "OpenLinesModel" "isOut") ∈ lw_all := lw_g (lw_at lw_m9 198 rfl) rfl
theorem q2220 : (Jvm.Cond.laysFinal "OpenLinesModel" "OpenLinesModel" "dipped" "[I") ∈ lw_all := lw_g (lw_at lw_m9 199 rfl) rfl
theorem q2221 : (Jvm.Cond.soleField "OpenLinesModel" "dipped") ∈ lw_all := lw_g (lw_at lw_m9 200 rfl) rfl
theorem q2222 : (Jvm.Cond.lays "OpenLinesModel" "OpenLinesModel" "dipMany" "I") ∈ lw_all := lw_g (lw_at lw_m9 201 rfl) rfl
theorem q2223 : (Jvm.Cond.soleField "OpenLinesModel" "dipMany") ∈ lw_all := lw_g (lw_at lw_m9 202 rfl) rfl
theorem q2224 : (Jvm.Cond.lays "OpenLinesModel" "OpenLinesModel" "faultyMany" "I") ∈ lw_all := lw_g (lw_at lw_m9 203 rfl) rfl
theorem q2225 : (Jvm.Cond.soleField "OpenLinesModel" "faultyMany") ∈ lw_all := lw_g (lw_at lw_m9 204 rfl) rfl
theorem q2226 : (Jvm.Cond.lays "OpenLinesModel" "OpenLinesModel" "firstWinners" "I") ∈ lw_all := lw_g (lw_at lw_m9 205 rfl) rfl
theorem q2227 : (Jvm.Cond.soleField "OpenLinesModel" "firstWinners") ∈ lw_all := lw_g (lw_at lw_m9 206 rfl) rfl
theorem q2228 : (Jvm.Cond.lays "OpenLinesModel" "OpenLinesModel" "secondWinners" "I") ∈ lw_all := lw_g (lw_at lw_m9 207 rfl) rfl
theorem q2229 : (Jvm.Cond.soleField "OpenLinesModel" "secondWinners") ∈ lw_all := lw_g (lw_at lw_m9 208 rfl) rfl
theorem q2230 : (Jvm.Cond.superclass "OpenLinesModel" "java/lang/Object") ∈ lw_all := lw_g (lw_at lw_m9 209 rfl) rfl
theorem q2233 : (Jvm.Cond.instanceMethod ({ cls := "OpenLinesModel", name := "thrown", desc := "()I" } : Jvm.MethodName)) ∈ lw_all := lw_g (lw_at lw_m9 212 rfl) rfl
theorem q2234 : (Jvm.Cond.selects "OpenLinesModel" ({ cls := "OpenLinesModel", name := "thrown", desc := "()I" } : Jvm.MethodName) ({ cls := "OpenLinesModel", name := "thrown", desc := "()I" } : Jvm.MethodName)) ∈ lw_all := lw_g (lw_at lw_m9 213 rfl) rfl
theorem q2235 : (Jvm.Cond.code ({ cls := "OpenLinesModel", name := "thrown", desc := "()I" } : Jvm.MethodName) prog_19_method_2_code (1 : Nat) (Option.some Jvm.ClassFile.FieldType.int)) ∈ lw_all := lw_g (lw_at lw_m9 214 rfl) rfl
theorem q2237 : (Jvm.Cond.instanceMethod ({ cls := "OpenLinesModel", name := "feed", desc := "(IIIII)I" } : Jvm.MethodName)) ∈ lw_all := lw_g (lw_at lw_m9 216 rfl) rfl
theorem q2238 : (Jvm.Cond.selects "OpenLinesModel" ({ cls := "OpenLinesModel", name := "feed", desc := "(IIIII)I" } : Jvm.MethodName) ({ cls := "OpenLinesModel", name := "feed", desc := "(IIIII)I" } : Jvm.MethodName)) ∈ lw_all := lw_g (lw_at lw_m9 217 rfl) rfl
theorem q2239 : (Jvm.Cond.code ({ cls := "OpenLinesModel", name := "feed", desc := "(IIIII)I" } : Jvm.MethodName) prog_19_method_7_code (6 : Nat) (Option.some Jvm.ClassFile.FieldType.int)) ∈ lw_all := lw_g (lw_at lw_m9 218 rfl) rfl
theorem q2240 : (Jvm.Cond.methodLink "OpenLinesModel" (63 : Nat) ({ cls := "OpenLinesModel", name := "laysWord", desc := "(I)V" } : Jvm.MethodName)) ∈ lw_all := lw_g (lw_at lw_m9 219 rfl) rfl
theorem q2241 : (Jvm.Cond.privateMethod ({ cls := "OpenLinesModel", name := "laysWord", desc := "(I)V" } : Jvm.MethodName)) ∈ lw_tbl := lw_at lw_m9 220 rfl
theorem q2242 : (Jvm.Cond.instanceMethod ({ cls := "OpenLinesModel", name := "laysWord", desc := "(I)V" } : Jvm.MethodName)) ∈ lw_all := lw_g (lw_at lw_m9 221 rfl) rfl
theorem q2243 : (Jvm.Cond.code ({ cls := "OpenLinesModel", name := "laysWord", desc := "(I)V" } : Jvm.MethodName) prog_19_method_8_code (3 : Nat) (Option.none : Option Jvm.ClassFile.FieldType)) ∈ lw_all := lw_g (lw_at lw_m9 222 rfl) rfl
theorem q2245 : (Jvm.Cond.instanceMethod ({ cls := "OpenLinesModel", name := "bus", desc := "(I)I" } : Jvm.MethodName)) ∈ lw_all := lw_g (lw_at lw_m9 224 rfl) rfl
theorem q2246 : (Jvm.Cond.selects "OpenLinesModel" ({ cls := "OpenLinesModel", name := "bus", desc := "(I)I" } : Jvm.MethodName) ({ cls := "OpenLinesModel", name := "bus", desc := "(I)I" } : Jvm.MethodName)) ∈ lw_all := lw_g (lw_at lw_m9 225 rfl) rfl
theorem q2247 : (Jvm.Cond.code ({ cls := "OpenLinesModel", name := "bus", desc := "(I)I" } : Jvm.MethodName) prog_19_method_25_code (3 : Nat) (Option.some Jvm.ClassFile.FieldType.int)) ∈ lw_all := lw_g (lw_at lw_m9 226 rfl) rfl
theorem q2248 : (Jvm.Cond.methodLink "OpenLinesModel" (83 : Nat) ({ cls := "OpenLinesModel", name := "in", desc := "(III)Z" } : Jvm.MethodName)) ∈ lw_all := lw_g (lw_at lw_m9 227 rfl) rfl
theorem q2249 : (Jvm.Cond.static ({ cls := "OpenLinesModel", name := "in", desc := "(III)Z" } : Jvm.MethodName)) ∈ lw_all := lw_g (lw_at lw_m9 228 rfl) rfl
theorem q2250 : (Jvm.Cond.code ({ cls := "OpenLinesModel", name := "in", desc := "(III)Z" } : Jvm.MethodName) prog_19_method_3_code (3 : Nat) (Option.some Jvm.ClassFile.FieldType.boolean)) ∈ lw_all := lw_g (lw_at lw_m9 229 rfl) rfl
theorem q2251 : (Jvm.Cond.methodLink "OpenLinesModel" (180 : Nat) ({ cls := "OpenLinesModel", name := "isRefused", desc := "(I)Z" } : Jvm.MethodName)) ∈ lw_all := lw_g (lw_at lw_m9 230 rfl) rfl
theorem q2252 : (Jvm.Cond.privateMethod ({ cls := "OpenLinesModel", name := "isRefused", desc := "(I)Z" } : Jvm.MethodName)) ∈ lw_tbl := lw_at lw_m9 231 rfl
theorem q2253 : (Jvm.Cond.instanceMethod ({ cls := "OpenLinesModel", name := "isRefused", desc := "(I)Z" } : Jvm.MethodName)) ∈ lw_all := lw_g (lw_at lw_m9 232 rfl) rfl
theorem q2254 : (Jvm.Cond.code ({ cls := "OpenLinesModel", name := "isRefused", desc := "(I)Z" } : Jvm.MethodName) prog_19_method_5_code (2 : Nat) (Option.some Jvm.ClassFile.FieldType.boolean)) ∈ lw_all := lw_g (lw_at lw_m9 233 rfl) rfl
theorem q2255 : (Jvm.Cond.methodLink "OpenLinesModel" (186 : Nat) ({ cls := "OpenLinesModel", name := "readAll", desc := "(I)Z" } : Jvm.MethodName)) ∈ lw_all := lw_g (lw_at lw_m9 234 rfl) rfl
theorem q2256 : (Jvm.Cond.privateMethod ({ cls := "OpenLinesModel", name := "readAll", desc := "(I)Z" } : Jvm.MethodName)) ∈ lw_tbl := lw_at lw_m9 235 rfl
theorem q2257 : (Jvm.Cond.instanceMethod ({ cls := "OpenLinesModel", name := "readAll", desc := "(I)Z" } : Jvm.MethodName)) ∈ lw_all := lw_g (lw_at lw_m9 236 rfl) rfl
theorem q2258 : (Jvm.Cond.code ({ cls := "OpenLinesModel", name := "readAll", desc := "(I)Z" } : Jvm.MethodName) prog_19_method_24_code (2 : Nat) (Option.some Jvm.ClassFile.FieldType.boolean)) ∈ lw_all := lw_g (lw_at lw_m9 237 rfl) rfl
theorem q2259 : (Jvm.Cond.methodLink "OpenLinesModel" (110 : Nat) ({ cls := "OpenLinesModel", name := "goesOn", desc := "()V" } : Jvm.MethodName)) ∈ lw_all := lw_g (lw_at lw_m9 238 rfl) rfl
theorem q2260 : (Jvm.Cond.privateMethod ({ cls := "OpenLinesModel", name := "goesOn", desc := "()V" } : Jvm.MethodName)) ∈ lw_tbl := lw_at lw_m9 239 rfl
theorem q2261 : (Jvm.Cond.instanceMethod ({ cls := "OpenLinesModel", name := "goesOn", desc := "()V" } : Jvm.MethodName)) ∈ lw_all := lw_g (lw_at lw_m10 0 rfl) rfl
theorem q2262 : (Jvm.Cond.code ({ cls := "OpenLinesModel", name := "goesOn", desc := "()V" } : Jvm.MethodName) prog_19_method_10_code (2 : Nat) (Option.none : Option Jvm.ClassFile.FieldType)) ∈ lw_all := lw_g (lw_at lw_m10 1 rfl) rfl
theorem q2263 : (Jvm.Cond.methodLink "OpenLinesModel" (73 : Nat) ({ cls := "OpenLinesModel", name := "see", desc := "(I)I" } : Jvm.MethodName)) ∈ lw_all := lw_g (lw_at lw_m10 2 rfl) rfl
theorem q2264 : (Jvm.Cond.privateMethod ({ cls := "OpenLinesModel", name := "see", desc := "(I)I" } : Jvm.MethodName)) ∈ lw_tbl := lw_at lw_m10 3 rfl
theorem q2265 : (Jvm.Cond.instanceMethod ({ cls := "OpenLinesModel", name := "see", desc := "(I)I" } : Jvm.MethodName)) ∈ lw_all := lw_g (lw_at lw_m10 4 rfl) rfl
theorem q2266 : (Jvm.Cond.code ({ cls := "OpenLinesModel", name := "see", desc := "(I)I" } : Jvm.MethodName) prog_19_method_9_code (2 : Nat) (Option.some Jvm.ClassFile.FieldType.int)) ∈ lw_all := lw_g (lw_at lw_m10 5 rfl) rfl
theorem q2267 : (Jvm.Cond.methodLink "OpenLinesModel" (177 : Nat) ({ cls := "OpenLinesModel", name := "readLine", desc := "()Z" } : Jvm.MethodName)) ∈ lw_all := lw_g (lw_at lw_m10 6 rfl) rfl
theorem q2268 : (Jvm.Cond.privateMethod ({ cls := "OpenLinesModel", name := "readLine", desc := "()Z" } : Jvm.MethodName)) ∈ lw_tbl := lw_at lw_m10 7 rfl
theorem q2269 : (Jvm.Cond.instanceMethod ({ cls := "OpenLinesModel", name := "readLine", desc := "()Z" } : Jvm.MethodName)) ∈ lw_all := lw_g (lw_at lw_m10 8 rfl) rfl
theorem q2270 : (Jvm.Cond.code ({ cls := "OpenLinesModel", name := "readLine", desc := "()Z" } : Jvm.MethodName) prog_19_method_23_code (1 : Nat) (Option.some Jvm.ClassFile.FieldType.boolean)) ∈ lw_all := lw_g (lw_at lw_m10 9 rfl) rfl
theorem q2271 : (Jvm.Cond.stringRef "OpenLinesModel" (120 : Nat) "bus") ∈ lw_tbl := lw_at lw_m10 10 rfl
theorem q2272 : (Jvm.Cond.methodLink "OpenLinesModel" (113 : Nat) ({ cls := "OpenLinesModel", name := "isWord", desc := "(Ljava/lang/String;)Z" } : Jvm.MethodName)) ∈ lw_all := lw_g (lw_at lw_m10 11 rfl) rfl
theorem q2273 : (Jvm.Cond.privateMethod ({ cls := "OpenLinesModel", name := "isWord", desc := "(Ljava/lang/String;)Z" } : Jvm.MethodName)) ∈ lw_tbl := lw_at lw_m10 12 rfl
theorem q2274 : (Jvm.Cond.instanceMethod ({ cls := "OpenLinesModel", name := "isWord", desc := "(Ljava/lang/String;)Z" } : Jvm.MethodName)) ∈ lw_all := lw_g (lw_at lw_m10 13 rfl) rfl
theorem q2275 : (Jvm.Cond.code ({ cls := "OpenLinesModel", name := "isWord", desc := "(Ljava/lang/String;)Z" } : Jvm.MethodName) prog_19_method_11_code (3 : Nat) (Option.some Jvm.ClassFile.FieldType.boolean)) ∈ lw_all := lw_g (lw_at lw_m10 14 rfl) rfl
theorem q2276 : (Jvm.Cond.methodLink "OpenLinesModel" (90 : Nat) ({ cls := "java/lang/String", name := "length", desc := "()I" } : Jvm.MethodName)) ∈ lw_all := lw_g (lw_at lw_m10 15 rfl) rfl
theorem q2277 : (Jvm.Cond.methodLink "OpenLinesModel" (96 : Nat) ({ cls := "java/lang/String", name := "charAt", desc := "(I)C" } : Jvm.MethodName)) ∈ lw_all := lw_g (lw_at lw_m10 16 rfl) rfl
theorem q2278 : (Jvm.Cond.methodLink "OpenLinesModel" (168 : Nat) ({ cls := "OpenLinesModel", name := "readBus", desc := "()Z" } : Jvm.MethodName)) ∈ lw_all := lw_g (lw_at lw_m10 17 rfl) rfl
theorem q2279 : (Jvm.Cond.privateMethod ({ cls := "OpenLinesModel", name := "readBus", desc := "()Z" } : Jvm.MethodName)) ∈ lw_tbl := lw_at lw_m10 18 rfl
theorem q2280 : (Jvm.Cond.instanceMethod ({ cls := "OpenLinesModel", name := "readBus", desc := "()Z" } : Jvm.MethodName)) ∈ lw_all := lw_g (lw_at lw_m10 19 rfl) rfl
theorem q2281 : (Jvm.Cond.code ({ cls := "OpenLinesModel", name := "readBus", desc := "()Z" } : Jvm.MethodName) prog_19_method_19_code (1 : Nat) (Option.some Jvm.ClassFile.FieldType.boolean)) ∈ lw_all := lw_g (lw_at lw_m10 20 rfl) rfl
theorem q2282 : (Jvm.Cond.methodLink "OpenLinesModel" (106 : Nat) ({ cls := "OpenLinesModel", name := "errs", desc := "(I)Z" } : Jvm.MethodName)) ∈ lw_all := lw_g (lw_at lw_m10 21 rfl) rfl
theorem q2283 : (Jvm.Cond.privateMethod ({ cls := "OpenLinesModel", name := "errs", desc := "(I)Z" } : Jvm.MethodName)) ∈ lw_tbl := lw_at lw_m10 22 rfl
theorem q2284 : (Jvm.Cond.instanceMethod ({ cls := "OpenLinesModel", name := "errs", desc := "(I)Z" } : Jvm.MethodName)) ∈ lw_all := lw_g (lw_at lw_m10 23 rfl) rfl
theorem q2285 : (Jvm.Cond.code ({ cls := "OpenLinesModel", name := "errs", desc := "(I)Z" } : Jvm.MethodName) prog_19_method_12_code (2 : Nat) (Option.some Jvm.ClassFile.FieldType.boolean)) ∈ lw_all := lw_g (lw_at lw_m10 24 rfl) rfl
theorem q2286 : (Jvm.Cond.stringRef "OpenLinesModel" (138 : Nat) "gate") ∈ lw_tbl := lw_at lw_m10 25 rfl
theorem q2287 : (Jvm.Cond.methodLink "OpenLinesModel" (140 : Nat) ({ cls := "OpenLinesModel", name := "after", desc := "(Ljava/lang/String;III)Z" } : Jvm.MethodName)) ∈ lw_all := lw_g (lw_at lw_m10 26 rfl) rfl
theorem q2288 : (Jvm.Cond.privateMethod ({ cls := "OpenLinesModel", name := "after", desc := "(Ljava/lang/String;III)Z" } : Jvm.MethodName)) ∈ lw_tbl := lw_at lw_m10 27 rfl
theorem q2289 : (Jvm.Cond.instanceMethod ({ cls := "OpenLinesModel", name := "after", desc := "(Ljava/lang/String;III)Z" } : Jvm.MethodName)) ∈ lw_all := lw_g (lw_at lw_m10 28 rfl) rfl
theorem q2290 : (Jvm.Cond.code ({ cls := "OpenLinesModel", name := "after", desc := "(Ljava/lang/String;III)Z" } : Jvm.MethodName) prog_19_method_14_code (5 : Nat) (Option.some Jvm.ClassFile.FieldType.boolean)) ∈ lw_all := lw_g (lw_at lw_m10 29 rfl) rfl
theorem q2291 : (Jvm.Cond.methodLink "OpenLinesModel" (117 : Nat) ({ cls := "OpenLinesModel", name := "lays", desc := "(III)Z" } : Jvm.MethodName)) ∈ lw_all := lw_g (lw_at lw_m10 30 rfl) rfl
theorem q2292 : (Jvm.Cond.privateMethod ({ cls := "OpenLinesModel", name := "lays", desc := "(III)Z" } : Jvm.MethodName)) ∈ lw_tbl := lw_at lw_m10 31 rfl
theorem q2293 : (Jvm.Cond.instanceMethod ({ cls := "OpenLinesModel", name := "lays", desc := "(III)Z" } : Jvm.MethodName)) ∈ lw_all := lw_g (lw_at lw_m10 32 rfl) rfl
theorem q2294 : (Jvm.Cond.code ({ cls := "OpenLinesModel", name := "lays", desc := "(III)Z" } : Jvm.MethodName) prog_19_method_13_code (4 : Nat) (Option.some Jvm.ClassFile.FieldType.boolean)) ∈ lw_all := lw_g (lw_at lw_m10 33 rfl) rfl
theorem q2295 : (Jvm.Cond.stringRef "OpenLinesModel" (144 : Nat) "filter") ∈ lw_tbl := lw_at lw_m10 34 rfl
theorem q2296 : (Jvm.Cond.stringRef "OpenLinesModel" (146 : Nat) "window") ∈ lw_tbl := lw_at lw_m10 35 rfl
theorem q2297 : (Jvm.Cond.stringRef "OpenLinesModel" (122 : Nat) "board") ∈ lw_tbl := lw_at lw_m10 36 rfl
theorem q2298 : (Jvm.Cond.methodLink "OpenLinesModel" (171 : Nat) ({ cls := "OpenLinesModel", name := "readBoard", desc := "()Z" } : Jvm.MethodName)) ∈ lw_all := lw_g (lw_at lw_m10 37 rfl) rfl
theorem q2299 : (Jvm.Cond.privateMethod ({ cls := "OpenLinesModel", name := "readBoard", desc := "()Z" } : Jvm.MethodName)) ∈ lw_tbl := lw_at lw_m10 38 rfl
theorem q2300 : (Jvm.Cond.instanceMethod ({ cls := "OpenLinesModel", name := "readBoard", desc := "()Z" } : Jvm.MethodName)) ∈ lw_all := lw_g (lw_at lw_m10 39 rfl) rfl
theorem q2301 : (Jvm.Cond.code ({ cls := "OpenLinesModel", name := "readBoard", desc := "()Z" } : Jvm.MethodName) prog_19_method_21_code (2 : Nat) (Option.some Jvm.ClassFile.FieldType.boolean)) ∈ lw_all := lw_g (lw_at lw_m10 40 rfl) rfl
theorem q2302 : (Jvm.Cond.methodLink "OpenLinesModel" (148 : Nat) ({ cls := "OpenLinesModel", name := "begins", desc := "(Z)Z" } : Jvm.MethodName)) ∈ lw_all := lw_g (lw_at lw_m10 41 rfl) rfl
theorem q2303 : (Jvm.Cond.privateMethod ({ cls := "OpenLinesModel", name := "begins", desc := "(Z)Z" } : Jvm.MethodName)) ∈ lw_tbl := lw_at lw_m10 42 rfl
theorem q2304 : (Jvm.Cond.instanceMethod ({ cls := "OpenLinesModel", name := "begins", desc := "(Z)Z" } : Jvm.MethodName)) ∈ lw_all := lw_g (lw_at lw_m10 43 rfl) rfl
theorem q2305 : (Jvm.Cond.code ({ cls := "OpenLinesModel", name := "begins", desc := "(Z)Z" } : Jvm.MethodName) prog_19_method_18_code (2 : Nat) (Option.some Jvm.ClassFile.FieldType.boolean)) ∈ lw_all := lw_g (lw_at lw_m10 44 rfl) rfl
theorem q2306 : (Jvm.Cond.methodLink "OpenLinesModel" (152 : Nat) ({ cls := "OpenLinesModel", name := "isName", desc := "()Z" } : Jvm.MethodName)) ∈ lw_all := lw_g (lw_at lw_m10 45 rfl) rfl
theorem q2307 : (Jvm.Cond.privateMethod ({ cls := "OpenLinesModel", name := "isName", desc := "()Z" } : Jvm.MethodName)) ∈ lw_tbl := lw_at lw_m10 46 rfl
theorem q2308 : (Jvm.Cond.instanceMethod ({ cls := "OpenLinesModel", name := "isName", desc := "()Z" } : Jvm.MethodName)) ∈ lw_all := lw_g (lw_at lw_m10 47 rfl) rfl
theorem q2309 : (Jvm.Cond.code ({ cls := "OpenLinesModel", name := "isName", desc := "()Z" } : Jvm.MethodName) prog_19_method_15_code (1 : Nat) (Option.some Jvm.ClassFile.FieldType.boolean)) ∈ lw_all := lw_g (lw_at lw_m10 48 rfl) rfl
theorem q2310 : (Jvm.Cond.stringRef "OpenLinesModel" (124 : Nat) "ask") ∈ lw_tbl := lw_at lw_m10 49 rfl
theorem q2311 : (Jvm.Cond.methodLink "OpenLinesModel" (156 : Nat) ({ cls := "OpenLinesModel", name := "boardHere", desc := "()I" } : Jvm.MethodName)) ∈ lw_all := lw_g (lw_at lw_m10 50 rfl) rfl
theorem q2312 : (Jvm.Cond.privateMethod ({ cls := "OpenLinesModel", name := "boardHere", desc := "()I" } : Jvm.MethodName)) ∈ lw_tbl := lw_at lw_m10 51 rfl
theorem q2313 : (Jvm.Cond.instanceMethod ({ cls := "OpenLinesModel", name := "boardHere", desc := "()I" } : Jvm.MethodName)) ∈ lw_all := lw_g (lw_at lw_m10 52 rfl) rfl
theorem q2314 : (Jvm.Cond.code ({ cls := "OpenLinesModel", name := "boardHere", desc := "()I" } : Jvm.MethodName) prog_19_method_17_code (2 : Nat) (Option.some Jvm.ClassFile.FieldType.int)) ∈ lw_all := lw_g (lw_at lw_m10 53 rfl) rfl
theorem q2315 : (Jvm.Cond.methodLink "OpenLinesModel" (130 : Nat) ({ cls := "OpenLinesModel", name := "spelt", desc := "()J" } : Jvm.MethodName)) ∈ lw_all := lw_g (lw_at lw_m10 54 rfl) rfl
theorem q2316 : (Jvm.Cond.privateMethod ({ cls := "OpenLinesModel", name := "spelt", desc := "()J" } : Jvm.MethodName)) ∈ lw_tbl := lw_at lw_m10 55 rfl
theorem q2317 : (Jvm.Cond.instanceMethod ({ cls := "OpenLinesModel", name := "spelt", desc := "()J" } : Jvm.MethodName)) ∈ lw_all := lw_g (lw_at lw_m10 56 rfl) rfl
theorem q2318 : (Jvm.Cond.code ({ cls := "OpenLinesModel", name := "spelt", desc := "()J" } : Jvm.MethodName) prog_19_method_16_code (4 : Nat) (Option.some Jvm.ClassFile.FieldType.long)) ∈ lw_all := lw_g (lw_at lw_m10 57 rfl) rfl
theorem q2319 : (Jvm.Cond.constantLong "OpenLinesModel" (126 : Nat) (32 : Int64)) ∈ lw_all := lw_g (lw_at lw_m10 58 rfl) rfl
theorem q2320 : (Jvm.Cond.constantLong "OpenLinesModel" (128 : Nat) (96 : Int64)) ∈ lw_all := lw_g (lw_at lw_m10 59 rfl) rfl
theorem q2321 : (Jvm.Cond.stringRef "OpenLinesModel" (159 : Nat) "slot") ∈ lw_tbl := lw_at lw_m10 60 rfl
theorem q2322 : (Jvm.Cond.methodLink "OpenLinesModel" (161 : Nat) ({ cls := "OpenLinesModel", name := "laysOwn", desc := "(Ljava/lang/String;III)Z" } : Jvm.MethodName)) ∈ lw_all := lw_g (lw_at lw_m10 61 rfl) rfl
theorem q2323 : (Jvm.Cond.privateMethod ({ cls := "OpenLinesModel", name := "laysOwn", desc := "(Ljava/lang/String;III)Z" } : Jvm.MethodName)) ∈ lw_tbl := lw_at lw_m10 62 rfl
theorem q2324 : (Jvm.Cond.instanceMethod ({ cls := "OpenLinesModel", name := "laysOwn", desc := "(Ljava/lang/String;III)Z" } : Jvm.MethodName)) ∈ lw_all := lw_g (lw_at lw_m10 63 rfl) rfl
theorem q2325 : (Jvm.Cond.code ({ cls := "OpenLinesModel", name := "laysOwn", desc := "(Ljava/lang/String;III)Z" } : Jvm.MethodName) prog_19_method_20_code (6 : Nat) (Option.some Jvm.ClassFile.FieldType.boolean)) ∈ lw_all := lw_g (lw_at lw_m10 64 rfl) rfl
theorem q2326 : (Jvm.Cond.stringRef "OpenLinesModel" (164 : Nat) "code") ∈ lw_tbl := lw_at lw_m10 65 rfl
theorem q2327 : (Jvm.Cond.stringRef "OpenLinesModel" (166 : Nat) "rank") ∈ lw_tbl := lw_at lw_m10 66 rfl
theorem q2328 : (Jvm.Cond.methodLink "OpenLinesModel" (174 : Nat) ({ cls := "OpenLinesModel", name := "readAsk", desc := "()Z" } : Jvm.MethodName)) ∈ lw_all := lw_g (lw_at lw_m10 67 rfl) rfl
theorem q2329 : (Jvm.Cond.privateMethod ({ cls := "OpenLinesModel", name := "readAsk", desc := "()Z" } : Jvm.MethodName)) ∈ lw_tbl := lw_at lw_m10 68 rfl
theorem q2330 : (Jvm.Cond.instanceMethod ({ cls := "OpenLinesModel", name := "readAsk", desc := "()Z" } : Jvm.MethodName)) ∈ lw_all := lw_g (lw_at lw_m10 69 rfl) rfl
theorem q2331 : (Jvm.Cond.code ({ cls := "OpenLinesModel", name := "readAsk", desc := "()Z" } : Jvm.MethodName) prog_19_method_22_code (2 : Nat) (Option.some Jvm.ClassFile.FieldType.boolean)) ∈ lw_all := lw_g (lw_at lw_m10 70 rfl) rfl
theorem q2332 : (Jvm.Cond.methodLink "OpenLinesModel" (189 : Nat) ({ cls := "OpenLinesModel", name := "no", desc := "(I)I" } : Jvm.MethodName)) ∈ lw_all := lw_g (lw_at lw_m10 71 rfl) rfl
theorem q2333 : (Jvm.Cond.privateMethod ({ cls := "OpenLinesModel", name := "no", desc := "(I)I" } : Jvm.MethodName)) ∈ lw_tbl := lw_at lw_m10 72 rfl
theorem q2334 : (Jvm.Cond.instanceMethod ({ cls := "OpenLinesModel", name := "no", desc := "(I)I" } : Jvm.MethodName)) ∈ lw_all := lw_g (lw_at lw_m10 73 rfl) rfl
theorem q2335 : (Jvm.Cond.code ({ cls := "OpenLinesModel", name := "no", desc := "(I)I" } : Jvm.MethodName) prog_19_method_4_code (2 : Nat) (Option.some Jvm.ClassFile.FieldType.int)) ∈ lw_all := lw_g (lw_at lw_m10 74 rfl) rfl
theorem q2336 : (Jvm.Cond.methodLink "OpenLinesModel" (198 : Nat) ({ cls := "OpenLinesModel", name := "beginsAnew", desc := "()V" } : Jvm.MethodName)) ∈ lw_all := lw_g (lw_at lw_m10 75 rfl) rfl
theorem q2337 : (Jvm.Cond.privateMethod ({ cls := "OpenLinesModel", name := "beginsAnew", desc := "()V" } : Jvm.MethodName)) ∈ lw_tbl := lw_at lw_m10 76 rfl
theorem q2338 : (Jvm.Cond.instanceMethod ({ cls := "OpenLinesModel", name := "beginsAnew", desc := "()V" } : Jvm.MethodName)) ∈ lw_all := lw_g (lw_at lw_m10 77 rfl) rfl
theorem q2339 : (Jvm.Cond.code ({ cls := "OpenLinesModel", name := "beginsAnew", desc := "()V" } : Jvm.MethodName) prog_19_method_29_code (2 : Nat) (Option.none : Option Jvm.ClassFile.FieldType)) ∈ lw_all := lw_g (lw_at lw_m10 78 rfl) rfl
theorem q2340 : (Jvm.Cond.methodLink "OpenLinesModel" (201 : Nat) ({ cls := "OpenLinesModel", name := "at", desc := "(II)I" } : Jvm.MethodName)) ∈ lw_all := lw_g (lw_at lw_m10 79 rfl) rfl
theorem q2341 : (Jvm.Cond.static ({ cls := "OpenLinesModel", name := "at", desc := "(II)I" } : Jvm.MethodName)) ∈ lw_all := lw_g (lw_at lw_m10 80 rfl) rfl
theorem q2342 : (Jvm.Cond.code ({ cls := "OpenLinesModel", name := "at", desc := "(II)I" } : Jvm.MethodName) prog_19_method_28_code (2 : Nat) (Option.some Jvm.ClassFile.FieldType.int)) ∈ lw_all := lw_g (lw_at lw_m10 81 rfl) rfl
theorem q2344 : (Jvm.Cond.instanceMethod ({ cls := "OpenLinesModel", name := "fault", desc := "()I" } : Jvm.MethodName)) ∈ lw_all := lw_g (lw_at lw_m10 83 rfl) rfl
theorem q2345 : (Jvm.Cond.selects "OpenLinesModel" ({ cls := "OpenLinesModel", name := "fault", desc := "()I" } : Jvm.MethodName) ({ cls := "OpenLinesModel", name := "fault", desc := "()I" } : Jvm.MethodName)) ∈ lw_all := lw_g (lw_at lw_m10 84 rfl) rfl
theorem q2346 : (Jvm.Cond.code ({ cls := "OpenLinesModel", name := "fault", desc := "()I" } : Jvm.MethodName) prog_19_method_26_code (1 : Nat) (Option.some Jvm.ClassFile.FieldType.int)) ∈ lw_all := lw_g (lw_at lw_m10 85 rfl) rfl
theorem q2348 : (Jvm.Cond.instanceMethod ({ cls := "OpenLinesModel", name := "where", desc := "()I" } : Jvm.MethodName)) ∈ lw_all := lw_g (lw_at lw_m10 87 rfl) rfl
theorem q2349 : (Jvm.Cond.selects "OpenLinesModel" ({ cls := "OpenLinesModel", name := "where", desc := "()I" } : Jvm.MethodName) ({ cls := "OpenLinesModel", name := "where", desc := "()I" } : Jvm.MethodName)) ∈ lw_all := lw_g (lw_at lw_m10 88 rfl) rfl
theorem q2350 : (Jvm.Cond.code ({ cls := "OpenLinesModel", name := "where", desc := "()I" } : Jvm.MethodName) prog_19_method_27_code (1 : Nat) (Option.some Jvm.ClassFile.FieldType.int)) ∈ lw_all := lw_g (lw_at lw_m10 89 rfl) rfl
theorem q2352 : (Jvm.Cond.instanceMethod ({ cls := "OpenLinesModel", name := "drives", desc := "(IIII)I" } : Jvm.MethodName)) ∈ lw_all := lw_g (lw_at lw_m10 91 rfl) rfl
theorem q2353 : (Jvm.Cond.selects "OpenLinesModel" ({ cls := "OpenLinesModel", name := "drives", desc := "(IIII)I" } : Jvm.MethodName) ({ cls := "OpenLinesModel", name := "drives", desc := "(IIII)I" } : Jvm.MethodName)) ∈ lw_all := lw_g (lw_at lw_m10 92 rfl) rfl
theorem q2354 : (Jvm.Cond.code ({ cls := "OpenLinesModel", name := "drives", desc := "(IIII)I" } : Jvm.MethodName) prog_19_method_54_code (5 : Nat) (Option.some Jvm.ClassFile.FieldType.int)) ∈ lw_all := lw_g (lw_at lw_m10 93 rfl) rfl
theorem q2355 : (Jvm.Cond.methodLink "OpenLinesModel" (268 : Nat) ({ cls := "OpenLinesModel", name := "isBoard", desc := "(I)Z" } : Jvm.MethodName)) ∈ lw_all := lw_g (lw_at lw_m10 94 rfl) rfl
theorem q2356 : (Jvm.Cond.privateMethod ({ cls := "OpenLinesModel", name := "isBoard", desc := "(I)Z" } : Jvm.MethodName)) ∈ lw_tbl := lw_at lw_m10 95 rfl
theorem q2357 : (Jvm.Cond.instanceMethod ({ cls := "OpenLinesModel", name := "isBoard", desc := "(I)Z" } : Jvm.MethodName)) ∈ lw_all := lw_g (lw_at lw_m10 96 rfl) rfl
theorem q2358 : (Jvm.Cond.code ({ cls := "OpenLinesModel", name := "isBoard", desc := "(I)Z" } : Jvm.MethodName) prog_19_method_30_code (2 : Nat) (Option.some Jvm.ClassFile.FieldType.boolean)) ∈ lw_all := lw_g (lw_at lw_m10 97 rfl) rfl
theorem q2359 : (Jvm.Cond.methodLink "OpenLinesModel" (271 : Nat) ({ cls := "OpenLinesModel", name := "passWhy", desc := "(ZIII)I" } : Jvm.MethodName)) ∈ lw_all := lw_g (lw_at lw_m10 98 rfl) rfl
theorem q2360 : (Jvm.Cond.privateMethod ({ cls := "OpenLinesModel", name := "passWhy", desc := "(ZIII)I" } : Jvm.MethodName)) ∈ lw_tbl := lw_at lw_m10 99 rfl
theorem q2361 : (Jvm.Cond.instanceMethod ({ cls := "OpenLinesModel", name := "passWhy", desc := "(ZIII)I" } : Jvm.MethodName)) ∈ lw_all := lw_g (lw_at lw_m10 100 rfl) rfl
theorem q2362 : (Jvm.Cond.code ({ cls := "OpenLinesModel", name := "passWhy", desc := "(ZIII)I" } : Jvm.MethodName) prog_19_method_53_code (5 : Nat) (Option.some Jvm.ClassFile.FieldType.int)) ∈ lw_all := lw_g (lw_at lw_m10 101 rfl) rfl
theorem q2363 : (Jvm.Cond.methodLink "OpenLinesModel" (265 : Nat) ({ cls := "OpenLinesModel", name := "isSet", desc := "(I)Z" } : Jvm.MethodName)) ∈ lw_all := lw_g (lw_at lw_m10 102 rfl) rfl
theorem q2364 : (Jvm.Cond.privateMethod ({ cls := "OpenLinesModel", name := "isSet", desc := "(I)Z" } : Jvm.MethodName)) ∈ lw_tbl := lw_at lw_m10 103 rfl
theorem q2365 : (Jvm.Cond.instanceMethod ({ cls := "OpenLinesModel", name := "isSet", desc := "(I)Z" } : Jvm.MethodName)) ∈ lw_all := lw_g (lw_at lw_m10 104 rfl) rfl
theorem q2366 : (Jvm.Cond.code ({ cls := "OpenLinesModel", name := "isSet", desc := "(I)Z" } : Jvm.MethodName) prog_19_method_52_code (2 : Nat) (Option.some Jvm.ClassFile.FieldType.boolean)) ∈ lw_all := lw_g (lw_at lw_m10 105 rfl) rfl
theorem q2367 : (Jvm.Cond.methodLink "OpenLinesModel" (275 : Nat) ({ cls := "OpenLinesModel", name := "passes", desc := "(II)V" } : Jvm.MethodName)) ∈ lw_all := lw_g (lw_at lw_m10 106 rfl) rfl
theorem q2368 : (Jvm.Cond.privateMethod ({ cls := "OpenLinesModel", name := "passes", desc := "(II)V" } : Jvm.MethodName)) ∈ lw_tbl := lw_at lw_m10 107 rfl
theorem q2369 : (Jvm.Cond.instanceMethod ({ cls := "OpenLinesModel", name := "passes", desc := "(II)V" } : Jvm.MethodName)) ∈ lw_all := lw_g (lw_at lw_m10 108 rfl) rfl
theorem q2370 : (Jvm.Cond.code ({ cls := "OpenLinesModel", name := "passes", desc := "(II)V" } : Jvm.MethodName) prog_19_method_45_code (4 : Nat) (Option.none : Option Jvm.ClassFile.FieldType)) ∈ lw_all := lw_g (lw_at lw_m10 109 rfl) rfl
theorem q2371 : (Jvm.Cond.methodLink "OpenLinesModel" (250 : Nat) ({ cls := "OpenLinesModel", name := "wordOf", desc := "(II)I" } : Jvm.MethodName)) ∈ lw_all := lw_g (lw_at lw_m10 110 rfl) rfl
theorem q2372 : (Jvm.Cond.privateMethod ({ cls := "OpenLinesModel", name := "wordOf", desc := "(II)I" } : Jvm.MethodName)) ∈ lw_tbl := lw_at lw_m10 111 rfl
theorem q2373 : (Jvm.Cond.instanceMethod ({ cls := "OpenLinesModel", name := "wordOf", desc := "(II)I" } : Jvm.MethodName)) ∈ lw_all := lw_g (lw_at lw_m10 112 rfl) rfl
theorem q2374 : (Jvm.Cond.code ({ cls := "OpenLinesModel", name := "wordOf", desc := "(II)I" } : Jvm.MethodName) prog_19_method_36_code (3 : Nat) (Option.some Jvm.ClassFile.FieldType.int)) ∈ lw_all := lw_g (lw_at lw_m10 113 rfl) rfl
theorem q2375 : (Jvm.Cond.methodLink "OpenLinesModel" (212 : Nat) ({ cls := "OpenLinesModel", name := "rankOf", desc := "(I)I" } : Jvm.MethodName)) ∈ lw_all := lw_g (lw_at lw_m10 114 rfl) rfl
theorem q2376 : (Jvm.Cond.privateMethod ({ cls := "OpenLinesModel", name := "rankOf", desc := "(I)I" } : Jvm.MethodName)) ∈ lw_tbl := lw_at lw_m10 115 rfl
theorem q2377 : (Jvm.Cond.instanceMethod ({ cls := "OpenLinesModel", name := "rankOf", desc := "(I)I" } : Jvm.MethodName)) ∈ lw_all := lw_g (lw_at lw_m10 116 rfl) rfl
theorem q2378 : (Jvm.Cond.code ({ cls := "OpenLinesModel", name := "rankOf", desc := "(I)I" } : Jvm.MethodName) prog_19_method_34_code (4 : Nat) (Option.some Jvm.ClassFile.FieldType.int)) ∈ lw_all := lw_g (lw_at lw_m10 117 rfl) rfl
theorem q2379 : (Jvm.Cond.methodLink "OpenLinesModel" (205 : Nat) ({ cls := "OpenLinesModel", name := "doesWait", desc := "(II)Z" } : Jvm.MethodName)) ∈ lw_all := lw_g (lw_at lw_m10 118 rfl) rfl
theorem q2380 : (Jvm.Cond.privateMethod ({ cls := "OpenLinesModel", name := "doesWait", desc := "(II)Z" } : Jvm.MethodName)) ∈ lw_tbl := lw_at lw_m10 119 rfl
theorem q2381 : (Jvm.Cond.instanceMethod ({ cls := "OpenLinesModel", name := "doesWait", desc := "(II)Z" } : Jvm.MethodName)) ∈ lw_all := lw_g (lw_at lw_m10 120 rfl) rfl
theorem q2382 : (Jvm.Cond.code ({ cls := "OpenLinesModel", name := "doesWait", desc := "(II)Z" } : Jvm.MethodName) prog_19_method_33_code (4 : Nat) (Option.some Jvm.ClassFile.FieldType.boolean)) ∈ lw_all := lw_g (lw_at lw_m10 121 rfl) rfl
theorem q2383 : (Jvm.Cond.methodLink "OpenLinesModel" (215 : Nat) ({ cls := "OpenLinesModel", name := "odd", desc := "(I)I" } : Jvm.MethodName)) ∈ lw_all := lw_g (lw_at lw_m10 122 rfl) rfl
theorem q2384 : (Jvm.Cond.static ({ cls := "OpenLinesModel", name := "odd", desc := "(I)I" } : Jvm.MethodName)) ∈ lw_all := lw_g (lw_at lw_m10 123 rfl) rfl
theorem q2385 : (Jvm.Cond.code ({ cls := "OpenLinesModel", name := "odd", desc := "(I)I" } : Jvm.MethodName) prog_19_method_35_code (1 : Nat) (Option.some Jvm.ClassFile.FieldType.int)) ∈ lw_all := lw_g (lw_at lw_m10 124 rfl) rfl
theorem q2386 : (Jvm.Cond.methodLink "OpenLinesModel" (209 : Nat) ({ cls := "OpenLinesModel", name := "bitsOf", desc := "(I)I" } : Jvm.MethodName)) ∈ lw_all := lw_g (lw_at lw_m10 125 rfl) rfl
theorem q2387 : (Jvm.Cond.static ({ cls := "OpenLinesModel", name := "bitsOf", desc := "(I)I" } : Jvm.MethodName)) ∈ lw_all := lw_g (lw_at lw_m10 126 rfl) rfl
theorem q2388 : (Jvm.Cond.code ({ cls := "OpenLinesModel", name := "bitsOf", desc := "(I)I" } : Jvm.MethodName) prog_19_method_32_code (3 : Nat) (Option.some Jvm.ClassFile.FieldType.int)) ∈ lw_all := lw_g (lw_at lw_m10 127 rfl) rfl
theorem q2389 : (Jvm.Cond.methodLink "OpenLinesModel" (253 : Nat) ({ cls := "OpenLinesModel", name := "laysPass", desc := "(I)V" } : Jvm.MethodName)) ∈ lw_all := lw_g (lw_at lw_m10 128 rfl) rfl
theorem q2390 : (Jvm.Cond.privateMethod ({ cls := "OpenLinesModel", name := "laysPass", desc := "(I)V" } : Jvm.MethodName)) ∈ lw_tbl := lw_at lw_m10 129 rfl
theorem q2391 : (Jvm.Cond.instanceMethod ({ cls := "OpenLinesModel", name := "laysPass", desc := "(I)V" } : Jvm.MethodName)) ∈ lw_all := lw_g (lw_at lw_m10 130 rfl) rfl
theorem q2392 : (Jvm.Cond.code ({ cls := "OpenLinesModel", name := "laysPass", desc := "(I)V" } : Jvm.MethodName) prog_19_method_44_code (4 : Nat) (Option.none : Option Jvm.ClassFile.FieldType)) ∈ lw_all := lw_g (lw_at lw_m10 131 rfl) rfl
theorem q2393 : (Jvm.Cond.methodLink "OpenLinesModel" (240 : Nat) ({ cls := "OpenLinesModel", name := "drivesAt", desc := "(II)V" } : Jvm.MethodName)) ∈ lw_all := lw_g (lw_at lw_m10 132 rfl) rfl
theorem q2394 : (Jvm.Cond.privateMethod ({ cls := "OpenLinesModel", name := "drivesAt", desc := "(II)V" } : Jvm.MethodName)) ∈ lw_tbl := lw_at lw_m10 133 rfl
theorem q2395 : (Jvm.Cond.instanceMethod ({ cls := "OpenLinesModel", name := "drivesAt", desc := "(II)V" } : Jvm.MethodName)) ∈ lw_all := lw_g (lw_at lw_m10 134 rfl) rfl
theorem q2396 : (Jvm.Cond.code ({ cls := "OpenLinesModel", name := "drivesAt", desc := "(II)V" } : Jvm.MethodName) prog_19_method_39_code (6 : Nat) (Option.none : Option Jvm.ClassFile.FieldType)) ∈ lw_all := lw_g (lw_at lw_m10 135 rfl) rfl
theorem q2397 : (Jvm.Cond.methodLink "OpenLinesModel" (221 : Nat) ({ cls := "OpenLinesModel", name := "has", desc := "(II)Z" } : Jvm.MethodName)) ∈ lw_all := lw_g (lw_at lw_m10 136 rfl) rfl
theorem q2398 : (Jvm.Cond.static ({ cls := "OpenLinesModel", name := "has", desc := "(II)Z" } : Jvm.MethodName)) ∈ lw_all := lw_g (lw_at lw_m10 137 rfl) rfl
theorem q2399 : (Jvm.Cond.code ({ cls := "OpenLinesModel", name := "has", desc := "(II)Z" } : Jvm.MethodName) prog_19_method_31_code (2 : Nat) (Option.some Jvm.ClassFile.FieldType.boolean)) ∈ lw_all := lw_g (lw_at lw_m10 138 rfl) rfl
theorem q2400 : (Jvm.Cond.methodLink "OpenLinesModel" (224 : Nat) ({ cls := "OpenLinesModel", name := "cell", desc := "(II)I" } : Jvm.MethodName)) ∈ lw_all := lw_g (lw_at lw_m10 139 rfl) rfl
theorem q2401 : (Jvm.Cond.static ({ cls := "OpenLinesModel", name := "cell", desc := "(II)I" } : Jvm.MethodName)) ∈ lw_all := lw_g (lw_at lw_m10 140 rfl) rfl
theorem q2402 : (Jvm.Cond.code ({ cls := "OpenLinesModel", name := "cell", desc := "(II)I" } : Jvm.MethodName) prog_19_method_38_code (2 : Nat) (Option.some Jvm.ClassFile.FieldType.int)) ∈ lw_all := lw_g (lw_at lw_m10 141 rfl) rfl
theorem q2403 : (Jvm.Cond.methodLink "OpenLinesModel" (244 : Nat) ({ cls := "OpenLinesModel", name := "dipsAt", desc := "(II)V" } : Jvm.MethodName)) ∈ lw_all := lw_g (lw_at lw_m10 142 rfl) rfl
theorem q2404 : (Jvm.Cond.privateMethod ({ cls := "OpenLinesModel", name := "dipsAt", desc := "(II)V" } : Jvm.MethodName)) ∈ lw_tbl := lw_at lw_m10 143 rfl
theorem q2405 : (Jvm.Cond.instanceMethod ({ cls := "OpenLinesModel", name := "dipsAt", desc := "(II)V" } : Jvm.MethodName)) ∈ lw_all := lw_g (lw_at lw_m10 144 rfl) rfl
theorem q2406 : (Jvm.Cond.code ({ cls := "OpenLinesModel", name := "dipsAt", desc := "(II)V" } : Jvm.MethodName) prog_19_method_41_code (9 : Nat) (Option.none : Option Jvm.ClassFile.FieldType)) ∈ lw_all := lw_g (lw_at lw_m10 145 rfl) rfl
theorem q2407 : (Jvm.Cond.methodLink "OpenLinesModel" (230 : Nat) ({ cls := "OpenLinesModel", name := "nearest", desc := "(III)I" } : Jvm.MethodName)) ∈ lw_all := lw_g (lw_at lw_m10 146 rfl) rfl
theorem q2408 : (Jvm.Cond.privateMethod ({ cls := "OpenLinesModel", name := "nearest", desc := "(III)I" } : Jvm.MethodName)) ∈ lw_tbl := lw_at lw_m10 147 rfl
theorem q2409 : (Jvm.Cond.instanceMethod ({ cls := "OpenLinesModel", name := "nearest", desc := "(III)I" } : Jvm.MethodName)) ∈ lw_all := lw_g (lw_at lw_m10 148 rfl) rfl
theorem q2410 : (Jvm.Cond.code ({ cls := "OpenLinesModel", name := "nearest", desc := "(III)I" } : Jvm.MethodName) prog_19_method_40_code (7 : Nat) (Option.some Jvm.ClassFile.FieldType.int)) ∈ lw_all := lw_g (lw_at lw_m10 149 rfl) rfl
theorem q2411 : (Jvm.Cond.methodLink "OpenLinesModel" (227 : Nat) ({ cls := "OpenLinesModel", name := "slotsApart", desc := "(II)I" } : Jvm.MethodName)) ∈ lw_all := lw_g (lw_at lw_m10 150 rfl) rfl
theorem q2412 : (Jvm.Cond.privateMethod ({ cls := "OpenLinesModel", name := "slotsApart", desc := "(II)I" } : Jvm.MethodName)) ∈ lw_tbl := lw_at lw_m10 151 rfl
theorem q2413 : (Jvm.Cond.instanceMethod ({ cls := "OpenLinesModel", name := "slotsApart", desc := "(II)I" } : Jvm.MethodName)) ∈ lw_all := lw_g (lw_at lw_m10 152 rfl) rfl
theorem q2414 : (Jvm.Cond.code ({ cls := "OpenLinesModel", name := "slotsApart", desc := "(II)I" } : Jvm.MethodName) prog_19_method_37_code (4 : Nat) (Option.some Jvm.ClassFile.FieldType.int)) ∈ lw_all := lw_g (lw_at lw_m10 153 rfl) rfl
theorem q2415 : (Jvm.Cond.methodLink "OpenLinesModel" (247 : Nat) ({ cls := "OpenLinesModel", name := "looksAt", desc := "(II)V" } : Jvm.MethodName)) ∈ lw_all := lw_g (lw_at lw_m10 154 rfl) rfl
theorem q2416 : (Jvm.Cond.privateMethod ({ cls := "OpenLinesModel", name := "looksAt", desc := "(II)V" } : Jvm.MethodName)) ∈ lw_tbl := lw_at lw_m10 155 rfl
theorem q2417 : (Jvm.Cond.instanceMethod ({ cls := "OpenLinesModel", name := "looksAt", desc := "(II)V" } : Jvm.MethodName)) ∈ lw_all := lw_g (lw_at lw_m10 156 rfl) rfl
theorem q2418 : (Jvm.Cond.code ({ cls := "OpenLinesModel", name := "looksAt", desc := "(II)V" } : Jvm.MethodName) prog_19_method_43_code (7 : Nat) (Option.none : Option Jvm.ClassFile.FieldType)) ∈ lw_all := lw_g (lw_at lw_m10 157 rfl) rfl
theorem q2419 : (Jvm.Cond.methodLink "OpenLinesModel" (237 : Nat) ({ cls := "OpenLinesModel", name := "isSeen", desc := "(III)Z" } : Jvm.MethodName)) ∈ lw_all := lw_g (lw_at lw_m10 158 rfl) rfl
theorem q2420 : (Jvm.Cond.privateMethod ({ cls := "OpenLinesModel", name := "isSeen", desc := "(III)Z" } : Jvm.MethodName)) ∈ lw_tbl := lw_at lw_m10 159 rfl
theorem q2421 : (Jvm.Cond.instanceMethod ({ cls := "OpenLinesModel", name := "isSeen", desc := "(III)Z" } : Jvm.MethodName)) ∈ lw_all := lw_g (lw_at lw_m10 160 rfl) rfl
theorem q2422 : (Jvm.Cond.code ({ cls := "OpenLinesModel", name := "isSeen", desc := "(III)Z" } : Jvm.MethodName) prog_19_method_42_code (6 : Nat) (Option.some Jvm.ClassFile.FieldType.boolean)) ∈ lw_all := lw_g (lw_at lw_m10 161 rfl) rfl
theorem q2424 : (Jvm.Cond.instanceMethod ({ cls := "OpenLinesModel", name := "seen", desc := "(IIII)I" } : Jvm.MethodName)) ∈ lw_all := lw_g (lw_at lw_m10 163 rfl) rfl
theorem q2425 : (Jvm.Cond.selects "OpenLinesModel" ({ cls := "OpenLinesModel", name := "seen", desc := "(IIII)I" } : Jvm.MethodName) ({ cls := "OpenLinesModel", name := "seen", desc := "(IIII)I" } : Jvm.MethodName)) ∈ lw_all := lw_g (lw_at lw_m10 164 rfl) rfl
theorem q2426 : (Jvm.Cond.code ({ cls := "OpenLinesModel", name := "seen", desc := "(IIII)I" } : Jvm.MethodName) prog_19_method_55_code (5 : Nat) (Option.some Jvm.ClassFile.FieldType.int)) ∈ lw_all := lw_g (lw_at lw_m10 165 rfl) rfl
theorem q2428 : (Jvm.Cond.instanceMethod ({ cls := "OpenLinesModel", name := "taken", desc := "(IIII)I" } : Jvm.MethodName)) ∈ lw_all := lw_g (lw_at lw_m10 167 rfl) rfl
theorem q2429 : (Jvm.Cond.selects "OpenLinesModel" ({ cls := "OpenLinesModel", name := "taken", desc := "(IIII)I" } : Jvm.MethodName) ({ cls := "OpenLinesModel", name := "taken", desc := "(IIII)I" } : Jvm.MethodName)) ∈ lw_all := lw_g (lw_at lw_m10 168 rfl) rfl
theorem q2430 : (Jvm.Cond.code ({ cls := "OpenLinesModel", name := "taken", desc := "(IIII)I" } : Jvm.MethodName) prog_19_method_56_code (5 : Nat) (Option.some Jvm.ClassFile.FieldType.int)) ∈ lw_all := lw_g (lw_at lw_m10 169 rfl) rfl
theorem q2432 : (Jvm.Cond.instanceMethod ({ cls := "OpenLinesModel", name := "withdrawn", desc := "(IIII)I" } : Jvm.MethodName)) ∈ lw_all := lw_g (lw_at lw_m10 171 rfl) rfl
theorem q2433 : (Jvm.Cond.selects "OpenLinesModel" ({ cls := "OpenLinesModel", name := "withdrawn", desc := "(IIII)I" } : Jvm.MethodName) ({ cls := "OpenLinesModel", name := "withdrawn", desc := "(IIII)I" } : Jvm.MethodName)) ∈ lw_all := lw_g (lw_at lw_m10 172 rfl) rfl
theorem q2434 : (Jvm.Cond.code ({ cls := "OpenLinesModel", name := "withdrawn", desc := "(IIII)I" } : Jvm.MethodName) prog_19_method_57_code (5 : Nat) (Option.some Jvm.ClassFile.FieldType.int)) ∈ lw_all := lw_g (lw_at lw_m10 173 rfl) rfl
theorem q2436 : (Jvm.Cond.instanceMethod ({ cls := "OpenLinesModel", name := "winners", desc := "(III)I" } : Jvm.MethodName)) ∈ lw_all := lw_g (lw_at lw_m10 175 rfl) rfl
theorem q2437 : (Jvm.Cond.selects "OpenLinesModel" ({ cls := "OpenLinesModel", name := "winners", desc := "(III)I" } : Jvm.MethodName) ({ cls := "OpenLinesModel", name := "winners", desc := "(III)I" } : Jvm.MethodName)) ∈ lw_all := lw_g (lw_at lw_m10 176 rfl) rfl
theorem q2438 : (Jvm.Cond.code ({ cls := "OpenLinesModel", name := "winners", desc := "(III)I" } : Jvm.MethodName) prog_19_method_58_code (4 : Nat) (Option.some Jvm.ClassFile.FieldType.int)) ∈ lw_all := lw_g (lw_at lw_m10 177 rfl) rfl
theorem q2439 : (Jvm.Cond.methodLink "OpenLinesModel" (262 : Nat) ({ cls := "OpenLinesModel", name := "winnersAt", desc := "(I)I" } : Jvm.MethodName)) ∈ lw_all := lw_g (lw_at lw_m10 178 rfl) rfl
theorem q2440 : (Jvm.Cond.privateMethod ({ cls := "OpenLinesModel", name := "winnersAt", desc := "(I)I" } : Jvm.MethodName)) ∈ lw_tbl := lw_at lw_m10 179 rfl
theorem q2441 : (Jvm.Cond.instanceMethod ({ cls := "OpenLinesModel", name := "winnersAt", desc := "(I)I" } : Jvm.MethodName)) ∈ lw_all := lw_g (lw_at lw_m10 180 rfl) rfl
theorem q2442 : (Jvm.Cond.code ({ cls := "OpenLinesModel", name := "winnersAt", desc := "(I)I" } : Jvm.MethodName) prog_19_method_46_code (4 : Nat) (Option.some Jvm.ClassFile.FieldType.int)) ∈ lw_all := lw_g (lw_at lw_m10 181 rfl) rfl
theorem q2444 : (Jvm.Cond.instanceMethod ({ cls := "OpenLinesModel", name := "settles", desc := "(II)I" } : Jvm.MethodName)) ∈ lw_all := lw_g (lw_at lw_m10 183 rfl) rfl
theorem q2445 : (Jvm.Cond.selects "OpenLinesModel" ({ cls := "OpenLinesModel", name := "settles", desc := "(II)I" } : Jvm.MethodName) ({ cls := "OpenLinesModel", name := "settles", desc := "(II)I" } : Jvm.MethodName)) ∈ lw_all := lw_g (lw_at lw_m10 184 rfl) rfl
theorem q2446 : (Jvm.Cond.code ({ cls := "OpenLinesModel", name := "settles", desc := "(II)I" } : Jvm.MethodName) prog_19_method_59_code (3 : Nat) (Option.some Jvm.ClassFile.FieldType.int)) ∈ lw_all := lw_g (lw_at lw_m10 185 rfl) rfl
theorem q2447 : (Jvm.Cond.methodLink "OpenLinesModel" (278 : Nat) ({ cls := "OpenLinesModel", name := "settledAt", desc := "()I" } : Jvm.MethodName)) ∈ lw_all := lw_g (lw_at lw_m10 186 rfl) rfl
theorem q2448 : (Jvm.Cond.privateMethod ({ cls := "OpenLinesModel", name := "settledAt", desc := "()I" } : Jvm.MethodName)) ∈ lw_tbl := lw_at lw_m10 187 rfl
theorem q2449 : (Jvm.Cond.instanceMethod ({ cls := "OpenLinesModel", name := "settledAt", desc := "()I" } : Jvm.MethodName)) ∈ lw_all := lw_g (lw_at lw_m10 188 rfl) rfl
theorem q2450 : (Jvm.Cond.code ({ cls := "OpenLinesModel", name := "settledAt", desc := "()I" } : Jvm.MethodName) prog_19_method_49_code (2 : Nat) (Option.some Jvm.ClassFile.FieldType.int)) ∈ lw_all := lw_g (lw_at lw_m10 189 rfl) rfl
theorem q2451 : (Jvm.Cond.methodLink "OpenLinesModel" (256 : Nat) ({ cls := "OpenLinesModel", name := "areSettled", desc := "(I)Z" } : Jvm.MethodName)) ∈ lw_all := lw_g (lw_at lw_m10 190 rfl) rfl
theorem q2452 : (Jvm.Cond.privateMethod ({ cls := "OpenLinesModel", name := "areSettled", desc := "(I)Z" } : Jvm.MethodName)) ∈ lw_tbl := lw_at lw_m10 191 rfl
theorem q2453 : (Jvm.Cond.instanceMethod ({ cls := "OpenLinesModel", name := "areSettled", desc := "(I)Z" } : Jvm.MethodName)) ∈ lw_all := lw_g (lw_at lw_m10 192 rfl) rfl
theorem q2454 : (Jvm.Cond.code ({ cls := "OpenLinesModel", name := "areSettled", desc := "(I)Z" } : Jvm.MethodName) prog_19_method_48_code (3 : Nat) (Option.some Jvm.ClassFile.FieldType.boolean)) ∈ lw_all := lw_g (lw_at lw_m10 193 rfl) rfl
theorem q2456 : (Jvm.Cond.instanceMethod ({ cls := "OpenLinesModel", name := "sure", desc := "(II)I" } : Jvm.MethodName)) ∈ lw_all := lw_g (lw_at lw_m10 195 rfl) rfl
theorem q2457 : (Jvm.Cond.selects "OpenLinesModel" ({ cls := "OpenLinesModel", name := "sure", desc := "(II)I" } : Jvm.MethodName) ({ cls := "OpenLinesModel", name := "sure", desc := "(II)I" } : Jvm.MethodName)) ∈ lw_all := lw_g (lw_at lw_m10 196 rfl) rfl
theorem q2458 : (Jvm.Cond.code ({ cls := "OpenLinesModel", name := "sure", desc := "(II)I" } : Jvm.MethodName) prog_19_method_60_code (3 : Nat) (Option.some Jvm.ClassFile.FieldType.int)) ∈ lw_all := lw_g (lw_at lw_m10 197 rfl) rfl
theorem q2459 : (Jvm.Cond.methodLink "OpenLinesModel" (281 : Nat) ({ cls := "OpenLinesModel", name := "sureAt", desc := "()I" } : Jvm.MethodName)) ∈ lw_all := lw_g (lw_at lw_m10 198 rfl) rfl
theorem q2460 : (Jvm.Cond.privateMethod ({ cls := "OpenLinesModel", name := "sureAt", desc := "()I" } : Jvm.MethodName)) ∈ lw_tbl := lw_at lw_m10 199 rfl
theorem q2461 : (Jvm.Cond.instanceMethod ({ cls := "OpenLinesModel", name := "sureAt", desc := "()I" } : Jvm.MethodName)) ∈ lw_all := lw_g (lw_at lw_m10 200 rfl) rfl
theorem q2462 : (Jvm.Cond.code ({ cls := "OpenLinesModel", name := "sureAt", desc := "()I" } : Jvm.MethodName) prog_19_method_50_code (3 : Nat) (Option.some Jvm.ClassFile.FieldType.int)) ∈ lw_all := lw_g (lw_at lw_m10 201 rfl) rfl
theorem q2463 : (Jvm.Cond.methodLink "OpenLinesModel" (259 : Nat) ({ cls := "OpenLinesModel", name := "rightOnes", desc := "()I" } : Jvm.MethodName)) ∈ lw_all := lw_g (lw_at lw_m10 202 rfl) rfl
theorem q2464 : (Jvm.Cond.privateMethod ({ cls := "OpenLinesModel", name := "rightOnes", desc := "()I" } : Jvm.MethodName)) ∈ lw_tbl := lw_at lw_m10 203 rfl
theorem q2465 : (Jvm.Cond.instanceMethod ({ cls := "OpenLinesModel", name := "rightOnes", desc := "()I" } : Jvm.MethodName)) ∈ lw_all := lw_g (lw_at lw_m10 204 rfl) rfl
theorem q2466 : (Jvm.Cond.code ({ cls := "OpenLinesModel", name := "rightOnes", desc := "()I" } : Jvm.MethodName) prog_19_method_47_code (4 : Nat) (Option.some Jvm.ClassFile.FieldType.int)) ∈ lw_all := lw_g (lw_at lw_m10 205 rfl) rfl
theorem q2468 : (Jvm.Cond.instanceMethod ({ cls := "OpenLinesModel", name := "right", desc := "(II)I" } : Jvm.MethodName)) ∈ lw_all := lw_g (lw_at lw_m10 207 rfl) rfl
theorem q2469 : (Jvm.Cond.selects "OpenLinesModel" ({ cls := "OpenLinesModel", name := "right", desc := "(II)I" } : Jvm.MethodName) ({ cls := "OpenLinesModel", name := "right", desc := "(II)I" } : Jvm.MethodName)) ∈ lw_all := lw_g (lw_at lw_m10 208 rfl) rfl
theorem q2470 : (Jvm.Cond.code ({ cls := "OpenLinesModel", name := "right", desc := "(II)I" } : Jvm.MethodName) prog_19_method_61_code (3 : Nat) (Option.some Jvm.ClassFile.FieldType.int)) ∈ lw_all := lw_g (lw_at lw_m10 209 rfl) rfl
theorem q2472 : (Jvm.Cond.instanceMethod ({ cls := "OpenLinesModel", name := "dips", desc := "(II)I" } : Jvm.MethodName)) ∈ lw_all := lw_g (lw_at lw_m10 211 rfl) rfl
theorem q2473 : (Jvm.Cond.selects "OpenLinesModel" ({ cls := "OpenLinesModel", name := "dips", desc := "(II)I" } : Jvm.MethodName) ({ cls := "OpenLinesModel", name := "dips", desc := "(II)I" } : Jvm.MethodName)) ∈ lw_all := lw_g (lw_at lw_m10 212 rfl) rfl
theorem q2474 : (Jvm.Cond.code ({ cls := "OpenLinesModel", name := "dips", desc := "(II)I" } : Jvm.MethodName) prog_19_method_62_code (3 : Nat) (Option.some Jvm.ClassFile.FieldType.int)) ∈ lw_all := lw_g (lw_at lw_m10 213 rfl) rfl
theorem q2476 : (Jvm.Cond.instanceMethod ({ cls := "OpenLinesModel", name := "faulty", desc := "(III)I" } : Jvm.MethodName)) ∈ lw_all := lw_g (lw_at lw_m10 215 rfl) rfl
theorem q2477 : (Jvm.Cond.selects "OpenLinesModel" ({ cls := "OpenLinesModel", name := "faulty", desc := "(III)I" } : Jvm.MethodName) ({ cls := "OpenLinesModel", name := "faulty", desc := "(III)I" } : Jvm.MethodName)) ∈ lw_all := lw_g (lw_at lw_m10 216 rfl) rfl
theorem q2478 : (Jvm.Cond.code ({ cls := "OpenLinesModel", name := "faulty", desc := "(III)I" } : Jvm.MethodName) prog_19_method_63_code (4 : Nat) (Option.some Jvm.ClassFile.FieldType.int)) ∈ lw_all := lw_g (lw_at lw_m10 217 rfl) rfl
theorem q2479 : (Jvm.Cond.methodLink "OpenLinesModel" (284 : Nat) ({ cls := "OpenLinesModel", name := "isFaultyAt", desc := "(I)Z" } : Jvm.MethodName)) ∈ lw_all := lw_g (lw_at lw_m10 218 rfl) rfl
theorem q2480 : (Jvm.Cond.privateMethod ({ cls := "OpenLinesModel", name := "isFaultyAt", desc := "(I)Z" } : Jvm.MethodName)) ∈ lw_tbl := lw_at lw_m10 219 rfl
theorem q2481 : (Jvm.Cond.instanceMethod ({ cls := "OpenLinesModel", name := "isFaultyAt", desc := "(I)Z" } : Jvm.MethodName)) ∈ lw_all := lw_g (lw_at lw_m10 220 rfl) rfl
theorem q2482 : (Jvm.Cond.code ({ cls := "OpenLinesModel", name := "isFaultyAt", desc := "(I)Z" } : Jvm.MethodName) prog_19_method_51_code (3 : Nat) (Option.some Jvm.ClassFile.FieldType.boolean)) ∈ lw_all := lw_g (lw_at lw_m10 221 rfl) rfl
theorem q2484 : (Jvm.Cond.instanceMethod ({ cls := "OpenLinesModel", name := "edges", desc := "(IIII)I" } : Jvm.MethodName)) ∈ lw_all := lw_g (lw_at lw_m10 223 rfl) rfl
theorem q2485 : (Jvm.Cond.selects "OpenLinesModel" ({ cls := "OpenLinesModel", name := "edges", desc := "(IIII)I" } : Jvm.MethodName) ({ cls := "OpenLinesModel", name := "edges", desc := "(IIII)I" } : Jvm.MethodName)) ∈ lw_all := lw_g (lw_at lw_m10 224 rfl) rfl
theorem q2486 : (Jvm.Cond.code ({ cls := "OpenLinesModel", name := "edges", desc := "(IIII)I" } : Jvm.MethodName) prog_19_method_64_code (7 : Nat) (Option.some Jvm.ClassFile.FieldType.int)) ∈ lw_all := lw_g (lw_at lw_m10 225 rfl) rfl
theorem q2488 : (Jvm.Cond.instanceMethod ({ cls := "OpenLinesModel", name := "filters", desc := "(II)I" } : Jvm.MethodName)) ∈ lw_all := lw_g (lw_at lw_m10 227 rfl) rfl
theorem q2489 : (Jvm.Cond.selects "OpenLinesModel" ({ cls := "OpenLinesModel", name := "filters", desc := "(II)I" } : Jvm.MethodName) ({ cls := "OpenLinesModel", name := "filters", desc := "(II)I" } : Jvm.MethodName)) ∈ lw_all := lw_g (lw_at lw_m10 228 rfl) rfl
theorem q2490 : (Jvm.Cond.code ({ cls := "OpenLinesModel", name := "filters", desc := "(II)I" } : Jvm.MethodName) prog_19_method_65_code (7 : Nat) (Option.some Jvm.ClassFile.FieldType.int)) ∈ lw_all := lw_g (lw_at lw_m10 229 rfl) rfl
theorem q2492 : (Jvm.Cond.instanceMethod ({ cls := "OpenLinesModel", name := "settled", desc := "(II)I" } : Jvm.MethodName)) ∈ lw_all := lw_g (lw_at lw_m10 231 rfl) rfl
theorem q2493 : (Jvm.Cond.selects "OpenLinesModel" ({ cls := "OpenLinesModel", name := "settled", desc := "(II)I" } : Jvm.MethodName) ({ cls := "OpenLinesModel", name := "settled", desc := "(II)I" } : Jvm.MethodName)) ∈ lw_all := lw_g (lw_at lw_m10 232 rfl) rfl
theorem q2494 : (Jvm.Cond.code ({ cls := "OpenLinesModel", name := "settled", desc := "(II)I" } : Jvm.MethodName) prog_19_method_66_code (5 : Nat) (Option.some Jvm.ClassFile.FieldType.int)) ∈ lw_all := lw_g (lw_at lw_m10 233 rfl) rfl
theorem q2496 : (Jvm.Cond.instanceMethod ({ cls := "OpenLinesModel", name := "slowest", desc := "(I)I" } : Jvm.MethodName)) ∈ lw_all := lw_g (lw_at lw_m10 235 rfl) rfl
theorem q2497 : (Jvm.Cond.selects "OpenLinesModel" ({ cls := "OpenLinesModel", name := "slowest", desc := "(I)I" } : Jvm.MethodName) ({ cls := "OpenLinesModel", name := "slowest", desc := "(I)I" } : Jvm.MethodName)) ∈ lw_all := lw_g (lw_at lw_m10 236 rfl) rfl
theorem q2498 : (Jvm.Cond.code ({ cls := "OpenLinesModel", name := "slowest", desc := "(I)I" } : Jvm.MethodName) prog_19_method_67_code (5 : Nat) (Option.some Jvm.ClassFile.FieldType.int)) ∈ lw_all := lw_g (lw_at lw_m10 237 rfl) rfl
theorem q2500 : (Jvm.Cond.instanceMethod ({ cls := "OpenLinesModel", name := "enough", desc := "(I)I" } : Jvm.MethodName)) ∈ lw_all := lw_g (lw_at lw_m10 239 rfl) rfl
theorem q2501 : (Jvm.Cond.selects "OpenLinesModel" ({ cls := "OpenLinesModel", name := "enough", desc := "(I)I" } : Jvm.MethodName) ({ cls := "OpenLinesModel", name := "enough", desc := "(I)I" } : Jvm.MethodName)) ∈ lw_all := lw_g (lw_at lw_m11 0 rfl) rfl
theorem q2502 : (Jvm.Cond.code ({ cls := "OpenLinesModel", name := "enough", desc := "(I)I" } : Jvm.MethodName) prog_19_method_68_code (5 : Nat) (Option.some Jvm.ClassFile.FieldType.int)) ∈ lw_all := lw_g (lw_at lw_m11 1 rfl) rfl
theorem q2504 : (Jvm.Cond.instanceMethod ({ cls := "OpenLinesModel", name := "would", desc := "(I)I" } : Jvm.MethodName)) ∈ lw_all := lw_g (lw_at lw_m11 3 rfl) rfl
theorem q2505 : (Jvm.Cond.selects "OpenLinesModel" ({ cls := "OpenLinesModel", name := "would", desc := "(I)I" } : Jvm.MethodName) ({ cls := "OpenLinesModel", name := "would", desc := "(I)I" } : Jvm.MethodName)) ∈ lw_all := lw_g (lw_at lw_m11 4 rfl) rfl
theorem q2506 : (Jvm.Cond.code ({ cls := "OpenLinesModel", name := "would", desc := "(I)I" } : Jvm.MethodName) prog_19_method_70_code (2 : Nat) (Option.some Jvm.ClassFile.FieldType.int)) ∈ lw_all := lw_g (lw_at lw_m11 5 rfl) rfl
theorem q2507 : (Jvm.Cond.methodLink "OpenLinesModel" (296 : Nat) ({ cls := "OpenLinesModel", name := "elects", desc := "(IZ)I" } : Jvm.MethodName)) ∈ lw_all := lw_g (lw_at lw_m11 6 rfl) rfl
theorem q2508 : (Jvm.Cond.privateMethod ({ cls := "OpenLinesModel", name := "elects", desc := "(IZ)I" } : Jvm.MethodName)) ∈ lw_tbl := lw_at lw_m11 7 rfl
theorem q2509 : (Jvm.Cond.instanceMethod ({ cls := "OpenLinesModel", name := "elects", desc := "(IZ)I" } : Jvm.MethodName)) ∈ lw_all := lw_g (lw_at lw_m11 8 rfl) rfl
theorem q2510 : (Jvm.Cond.code ({ cls := "OpenLinesModel", name := "elects", desc := "(IZ)I" } : Jvm.MethodName) prog_19_method_69_code (6 : Nat) (Option.some Jvm.ClassFile.FieldType.int)) ∈ lw_all := lw_g (lw_at lw_m11 9 rfl) rfl
theorem q2512 : (Jvm.Cond.instanceMethod ({ cls := "OpenLinesModel", name := "now", desc := "(I)I" } : Jvm.MethodName)) ∈ lw_all := lw_g (lw_at lw_m11 11 rfl) rfl
theorem q2513 : (Jvm.Cond.selects "OpenLinesModel" ({ cls := "OpenLinesModel", name := "now", desc := "(I)I" } : Jvm.MethodName) ({ cls := "OpenLinesModel", name := "now", desc := "(I)I" } : Jvm.MethodName)) ∈ lw_all := lw_g (lw_at lw_m11 12 rfl) rfl
theorem q2514 : (Jvm.Cond.code ({ cls := "OpenLinesModel", name := "now", desc := "(I)I" } : Jvm.MethodName) prog_19_method_83_code (2 : Nat) (Option.some Jvm.ClassFile.FieldType.int)) ∈ lw_all := lw_g (lw_at lw_m11 13 rfl) rfl
theorem q2515 : (Jvm.Cond.methodLink "OpenLinesModel" (324 : Nat) ({ cls := "OpenLinesModel", name := "unless", desc := "(Z)I" } : Jvm.MethodName)) ∈ lw_all := lw_g (lw_at lw_m11 14 rfl) rfl
theorem q2516 : (Jvm.Cond.static ({ cls := "OpenLinesModel", name := "unless", desc := "(Z)I" } : Jvm.MethodName)) ∈ lw_all := lw_g (lw_at lw_m11 15 rfl) rfl
theorem q2517 : (Jvm.Cond.code ({ cls := "OpenLinesModel", name := "unless", desc := "(Z)I" } : Jvm.MethodName) prog_19_method_6_code (1 : Nat) (Option.some Jvm.ClassFile.FieldType.int)) ∈ lw_all := lw_g (lw_at lw_m11 16 rfl) rfl
theorem q2518 : (Jvm.Cond.methodLink "OpenLinesModel" (328 : Nat) ({ cls := "OpenLinesModel", name := "told", desc := "(I)I" } : Jvm.MethodName)) ∈ lw_all := lw_g (lw_at lw_m11 17 rfl) rfl
theorem q2519 : (Jvm.Cond.privateMethod ({ cls := "OpenLinesModel", name := "told", desc := "(I)I" } : Jvm.MethodName)) ∈ lw_tbl := lw_at lw_m11 18 rfl
theorem q2520 : (Jvm.Cond.instanceMethod ({ cls := "OpenLinesModel", name := "told", desc := "(I)I" } : Jvm.MethodName)) ∈ lw_all := lw_g (lw_at lw_m11 19 rfl) rfl
theorem q2521 : (Jvm.Cond.code ({ cls := "OpenLinesModel", name := "told", desc := "(I)I" } : Jvm.MethodName) prog_19_method_82_code (2 : Nat) (Option.some Jvm.ClassFile.FieldType.int)) ∈ lw_all := lw_g (lw_at lw_m11 20 rfl) rfl
theorem q2522 : (Jvm.Cond.methodLink "OpenLinesModel" (300 : Nat) ({ cls := "OpenLinesModel", name := "askingOnes", desc := "()I" } : Jvm.MethodName)) ∈ lw_all := lw_g (lw_at lw_m11 21 rfl) rfl
theorem q2523 : (Jvm.Cond.privateMethod ({ cls := "OpenLinesModel", name := "askingOnes", desc := "()I" } : Jvm.MethodName)) ∈ lw_tbl := lw_at lw_m11 22 rfl
theorem q2524 : (Jvm.Cond.instanceMethod ({ cls := "OpenLinesModel", name := "askingOnes", desc := "()I" } : Jvm.MethodName)) ∈ lw_all := lw_g (lw_at lw_m11 23 rfl) rfl
theorem q2525 : (Jvm.Cond.code ({ cls := "OpenLinesModel", name := "askingOnes", desc := "()I" } : Jvm.MethodName) prog_19_method_72_code (3 : Nat) (Option.some Jvm.ClassFile.FieldType.int)) ∈ lw_all := lw_g (lw_at lw_m11 24 rfl) rfl
theorem q2527 : (Jvm.Cond.instanceMethod ({ cls := "OpenLinesModel", name := "ledger", desc := "(II)I" } : Jvm.MethodName)) ∈ lw_all := lw_g (lw_at lw_m11 26 rfl) rfl
theorem q2528 : (Jvm.Cond.selects "OpenLinesModel" ({ cls := "OpenLinesModel", name := "ledger", desc := "(II)I" } : Jvm.MethodName) ({ cls := "OpenLinesModel", name := "ledger", desc := "(II)I" } : Jvm.MethodName)) ∈ lw_all := lw_g (lw_at lw_m11 27 rfl) rfl
theorem q2529 : (Jvm.Cond.code ({ cls := "OpenLinesModel", name := "ledger", desc := "(II)I" } : Jvm.MethodName) prog_19_method_84_code (3 : Nat) (Option.some Jvm.ClassFile.FieldType.int)) ∈ lw_all := lw_g (lw_at lw_m11 28 rfl) rfl
theorem q2531 : (Jvm.Cond.instanceMethod ({ cls := "OpenLinesModel", name := "past", desc := "(I)I" } : Jvm.MethodName)) ∈ lw_all := lw_g (lw_at lw_m11 30 rfl) rfl
theorem q2532 : (Jvm.Cond.selects "OpenLinesModel" ({ cls := "OpenLinesModel", name := "past", desc := "(I)I" } : Jvm.MethodName) ({ cls := "OpenLinesModel", name := "past", desc := "(I)I" } : Jvm.MethodName)) ∈ lw_all := lw_g (lw_at lw_m11 31 rfl) rfl
theorem q2533 : (Jvm.Cond.code ({ cls := "OpenLinesModel", name := "past", desc := "(I)I" } : Jvm.MethodName) prog_19_method_85_code (2 : Nat) (Option.some Jvm.ClassFile.FieldType.int)) ∈ lw_all := lw_g (lw_at lw_m11 32 rfl) rfl
theorem q2535 : (Jvm.Cond.instanceMethod ({ cls := "OpenLinesModel", name := "idle", desc := "()I" } : Jvm.MethodName)) ∈ lw_all := lw_g (lw_at lw_m11 34 rfl) rfl
theorem q2536 : (Jvm.Cond.selects "OpenLinesModel" ({ cls := "OpenLinesModel", name := "idle", desc := "()I" } : Jvm.MethodName) ({ cls := "OpenLinesModel", name := "idle", desc := "()I" } : Jvm.MethodName)) ∈ lw_all := lw_g (lw_at lw_m11 35 rfl) rfl
theorem q2537 : (Jvm.Cond.code ({ cls := "OpenLinesModel", name := "idle", desc := "()I" } : Jvm.MethodName) prog_19_method_86_code (3 : Nat) (Option.some Jvm.ClassFile.FieldType.int)) ∈ lw_all := lw_g (lw_at lw_m11 36 rfl) rfl
theorem q2539 : (Jvm.Cond.instanceMethod ({ cls := "OpenLinesModel", name := "log", desc := "(II)I" } : Jvm.MethodName)) ∈ lw_all := lw_g (lw_at lw_m11 38 rfl) rfl
theorem q2540 : (Jvm.Cond.selects "OpenLinesModel" ({ cls := "OpenLinesModel", name := "log", desc := "(II)I" } : Jvm.MethodName) ({ cls := "OpenLinesModel", name := "log", desc := "(II)I" } : Jvm.MethodName)) ∈ lw_all := lw_g (lw_at lw_m11 39 rfl) rfl
theorem q2541 : (Jvm.Cond.code ({ cls := "OpenLinesModel", name := "log", desc := "(II)I" } : Jvm.MethodName) prog_19_method_87_code (3 : Nat) (Option.some Jvm.ClassFile.FieldType.int)) ∈ lw_all := lw_g (lw_at lw_m11 40 rfl) rfl
theorem q2543 : (Jvm.Cond.instanceMethod ({ cls := "OpenLinesModel", name := "waiting", desc := "(I)I" } : Jvm.MethodName)) ∈ lw_all := lw_g (lw_at lw_m11 42 rfl) rfl
theorem q2544 : (Jvm.Cond.selects "OpenLinesModel" ({ cls := "OpenLinesModel", name := "waiting", desc := "(I)I" } : Jvm.MethodName) ({ cls := "OpenLinesModel", name := "waiting", desc := "(I)I" } : Jvm.MethodName)) ∈ lw_all := lw_g (lw_at lw_m11 43 rfl) rfl
theorem q2545 : (Jvm.Cond.code ({ cls := "OpenLinesModel", name := "waiting", desc := "(I)I" } : Jvm.MethodName) prog_19_method_88_code (4 : Nat) (Option.some Jvm.ClassFile.FieldType.int)) ∈ lw_all := lw_g (lw_at lw_m11 44 rfl) rfl
theorem q2547 : (Jvm.Cond.instanceMethod ({ cls := "OpenLinesModel", name := "longest", desc := "()I" } : Jvm.MethodName)) ∈ lw_all := lw_g (lw_at lw_m11 46 rfl) rfl
theorem q2548 : (Jvm.Cond.selects "OpenLinesModel" ({ cls := "OpenLinesModel", name := "longest", desc := "()I" } : Jvm.MethodName) ({ cls := "OpenLinesModel", name := "longest", desc := "()I" } : Jvm.MethodName)) ∈ lw_all := lw_g (lw_at lw_m11 47 rfl) rfl
theorem q2549 : (Jvm.Cond.code ({ cls := "OpenLinesModel", name := "longest", desc := "()I" } : Jvm.MethodName) prog_19_method_89_code (4 : Nat) (Option.some Jvm.ClassFile.FieldType.int)) ∈ lw_all := lw_g (lw_at lw_m11 48 rfl) rfl
theorem q2551 : (Jvm.Cond.instanceMethod ({ cls := "OpenLinesModel", name := "will", desc := "(II)I" } : Jvm.MethodName)) ∈ lw_all := lw_g (lw_at lw_m11 50 rfl) rfl
theorem q2552 : (Jvm.Cond.selects "OpenLinesModel" ({ cls := "OpenLinesModel", name := "will", desc := "(II)I" } : Jvm.MethodName) ({ cls := "OpenLinesModel", name := "will", desc := "(II)I" } : Jvm.MethodName)) ∈ lw_all := lw_g (lw_at lw_m11 51 rfl) rfl
theorem q2553 : (Jvm.Cond.code ({ cls := "OpenLinesModel", name := "will", desc := "(II)I" } : Jvm.MethodName) prog_19_method_90_code (4 : Nat) (Option.some Jvm.ClassFile.FieldType.int)) ∈ lw_all := lw_g (lw_at lw_m11 52 rfl) rfl
theorem q2554 : (Jvm.Cond.methodLink "OpenLinesModel" (331 : Nat) ({ cls := "OpenLinesModel", name := "laysAside", desc := "()V" } : Jvm.MethodName)) ∈ lw_all := lw_g (lw_at lw_m11 53 rfl) rfl
theorem q2555 : (Jvm.Cond.privateMethod ({ cls := "OpenLinesModel", name := "laysAside", desc := "()V" } : Jvm.MethodName)) ∈ lw_tbl := lw_at lw_m11 54 rfl
theorem q2556 : (Jvm.Cond.instanceMethod ({ cls := "OpenLinesModel", name := "laysAside", desc := "()V" } : Jvm.MethodName)) ∈ lw_all := lw_g (lw_at lw_m11 55 rfl) rfl
theorem q2557 : (Jvm.Cond.code ({ cls := "OpenLinesModel", name := "laysAside", desc := "()V" } : Jvm.MethodName) prog_19_method_80_code (2 : Nat) (Option.none : Option Jvm.ClassFile.FieldType)) ∈ lw_all := lw_g (lw_at lw_m11 56 rfl) rfl
theorem q2558 : (Jvm.Cond.methodLink "OpenLinesModel" (334 : Nat) ({ cls := "OpenLinesModel", name := "tick", desc := "()V" } : Jvm.MethodName)) ∈ lw_all := lw_g (lw_at lw_m11 57 rfl) rfl
theorem q2559 : (Jvm.Cond.privateMethod ({ cls := "OpenLinesModel", name := "tick", desc := "()V" } : Jvm.MethodName)) ∈ lw_tbl := lw_at lw_m11 58 rfl
theorem q2560 : (Jvm.Cond.instanceMethod ({ cls := "OpenLinesModel", name := "tick", desc := "()V" } : Jvm.MethodName)) ∈ lw_all := lw_g (lw_at lw_m11 59 rfl) rfl
theorem q2561 : (Jvm.Cond.code ({ cls := "OpenLinesModel", name := "tick", desc := "()V" } : Jvm.MethodName) prog_19_method_79_code (3 : Nat) (Option.none : Option Jvm.ClassFile.FieldType)) ∈ lw_all := lw_g (lw_at lw_m11 60 rfl) rfl
theorem q2562 : (Jvm.Cond.methodLink "OpenLinesModel" (309 : Nat) ({ cls := "OpenLinesModel", name := "asks", desc := "(II)Z" } : Jvm.MethodName)) ∈ lw_all := lw_g (lw_at lw_m11 61 rfl) rfl
theorem q2563 : (Jvm.Cond.privateMethod ({ cls := "OpenLinesModel", name := "asks", desc := "(II)Z" } : Jvm.MethodName)) ∈ lw_tbl := lw_at lw_m11 62 rfl
theorem q2564 : (Jvm.Cond.instanceMethod ({ cls := "OpenLinesModel", name := "asks", desc := "(II)Z" } : Jvm.MethodName)) ∈ lw_all := lw_g (lw_at lw_m11 63 rfl) rfl
theorem q2565 : (Jvm.Cond.code ({ cls := "OpenLinesModel", name := "asks", desc := "(II)Z" } : Jvm.MethodName) prog_19_method_71_code (3 : Nat) (Option.some Jvm.ClassFile.FieldType.boolean)) ∈ lw_all := lw_g (lw_at lw_m11 64 rfl) rfl
theorem q2566 : (Jvm.Cond.methodLink "OpenLinesModel" (312 : Nat) ({ cls := "OpenLinesModel", name := "endsArbitration", desc := "()V" } : Jvm.MethodName)) ∈ lw_all := lw_g (lw_at lw_m11 65 rfl) rfl
theorem q2567 : (Jvm.Cond.privateMethod ({ cls := "OpenLinesModel", name := "endsArbitration", desc := "()V" } : Jvm.MethodName)) ∈ lw_tbl := lw_at lw_m11 66 rfl
theorem q2568 : (Jvm.Cond.instanceMethod ({ cls := "OpenLinesModel", name := "endsArbitration", desc := "()V" } : Jvm.MethodName)) ∈ lw_all := lw_g (lw_at lw_m11 67 rfl) rfl
theorem q2569 : (Jvm.Cond.code ({ cls := "OpenLinesModel", name := "endsArbitration", desc := "()V" } : Jvm.MethodName) prog_19_method_76_code (3 : Nat) (Option.none : Option Jvm.ClassFile.FieldType)) ∈ lw_all := lw_g (lw_at lw_m11 68 rfl) rfl
theorem q2570 : (Jvm.Cond.methodLink "OpenLinesModel" (303 : Nat) ({ cls := "OpenLinesModel", name := "logs", desc := "(II)V" } : Jvm.MethodName)) ∈ lw_all := lw_g (lw_at lw_m11 69 rfl) rfl
theorem q2571 : (Jvm.Cond.privateMethod ({ cls := "OpenLinesModel", name := "logs", desc := "(II)V" } : Jvm.MethodName)) ∈ lw_tbl := lw_at lw_m11 70 rfl
theorem q2572 : (Jvm.Cond.instanceMethod ({ cls := "OpenLinesModel", name := "logs", desc := "(II)V" } : Jvm.MethodName)) ∈ lw_all := lw_g (lw_at lw_m11 71 rfl) rfl
theorem q2573 : (Jvm.Cond.code ({ cls := "OpenLinesModel", name := "logs", desc := "(II)V" } : Jvm.MethodName) prog_19_method_75_code (4 : Nat) (Option.none : Option Jvm.ClassFile.FieldType)) ∈ lw_all := lw_g (lw_at lw_m11 72 rfl) rfl
theorem q2574 : (Jvm.Cond.methodLink "OpenLinesModel" (306 : Nat) ({ cls := "OpenLinesModel", name := "isElected", desc := "(I)V" } : Jvm.MethodName)) ∈ lw_all := lw_g (lw_at lw_m11 73 rfl) rfl
theorem q2575 : (Jvm.Cond.privateMethod ({ cls := "OpenLinesModel", name := "isElected", desc := "(I)V" } : Jvm.MethodName)) ∈ lw_tbl := lw_at lw_m11 74 rfl
theorem q2576 : (Jvm.Cond.instanceMethod ({ cls := "OpenLinesModel", name := "isElected", desc := "(I)V" } : Jvm.MethodName)) ∈ lw_all := lw_g (lw_at lw_m11 75 rfl) rfl
theorem q2577 : (Jvm.Cond.code ({ cls := "OpenLinesModel", name := "isElected", desc := "(I)V" } : Jvm.MethodName) prog_19_method_74_code (3 : Nat) (Option.none : Option Jvm.ClassFile.FieldType)) ∈ lw_all := lw_g (lw_at lw_m11 76 rfl) rfl
theorem q2578 : (Jvm.Cond.methodLink "OpenLinesModel" (315 : Nat) ({ cls := "OpenLinesModel", name := "becomesMaster", desc := "()V" } : Jvm.MethodName)) ∈ lw_all := lw_g (lw_at lw_m11 77 rfl) rfl
theorem q2579 : (Jvm.Cond.privateMethod ({ cls := "OpenLinesModel", name := "becomesMaster", desc := "()V" } : Jvm.MethodName)) ∈ lw_tbl := lw_at lw_m11 78 rfl
theorem q2580 : (Jvm.Cond.instanceMethod ({ cls := "OpenLinesModel", name := "becomesMaster", desc := "()V" } : Jvm.MethodName)) ∈ lw_all := lw_g (lw_at lw_m11 79 rfl) rfl
theorem q2581 : (Jvm.Cond.code ({ cls := "OpenLinesModel", name := "becomesMaster", desc := "()V" } : Jvm.MethodName) prog_19_method_77_code (3 : Nat) (Option.none : Option Jvm.ClassFile.FieldType)) ∈ lw_all := lw_g (lw_at lw_m11 80 rfl) rfl
theorem q2582 : (Jvm.Cond.methodLink "OpenLinesModel" (318 : Nat) ({ cls := "OpenLinesModel", name := "isCalledFor", desc := "()Z" } : Jvm.MethodName)) ∈ lw_all := lw_g (lw_at lw_m11 81 rfl) rfl
theorem q2583 : (Jvm.Cond.privateMethod ({ cls := "OpenLinesModel", name := "isCalledFor", desc := "()Z" } : Jvm.MethodName)) ∈ lw_tbl := lw_at lw_m11 82 rfl
theorem q2584 : (Jvm.Cond.instanceMethod ({ cls := "OpenLinesModel", name := "isCalledFor", desc := "()Z" } : Jvm.MethodName)) ∈ lw_all := lw_g (lw_at lw_m11 83 rfl) rfl
theorem q2585 : (Jvm.Cond.code ({ cls := "OpenLinesModel", name := "isCalledFor", desc := "()Z" } : Jvm.MethodName) prog_19_method_78_code (3 : Nat) (Option.some Jvm.ClassFile.FieldType.boolean)) ∈ lw_all := lw_g (lw_at lw_m11 84 rfl) rfl
theorem q2586 : (Jvm.Cond.methodLink "OpenLinesModel" (321 : Nat) ({ cls := "OpenLinesModel", name := "beginsArbitration", desc := "()V" } : Jvm.MethodName)) ∈ lw_all := lw_g (lw_at lw_m11 85 rfl) rfl
theorem q2587 : (Jvm.Cond.privateMethod ({ cls := "OpenLinesModel", name := "beginsArbitration", desc := "()V" } : Jvm.MethodName)) ∈ lw_tbl := lw_at lw_m11 86 rfl
theorem q2588 : (Jvm.Cond.instanceMethod ({ cls := "OpenLinesModel", name := "beginsArbitration", desc := "()V" } : Jvm.MethodName)) ∈ lw_all := lw_g (lw_at lw_m11 87 rfl) rfl
theorem q2589 : (Jvm.Cond.code ({ cls := "OpenLinesModel", name := "beginsArbitration", desc := "()V" } : Jvm.MethodName) prog_19_method_73_code (2 : Nat) (Option.none : Option Jvm.ClassFile.FieldType)) ∈ lw_all := lw_g (lw_at lw_m11 88 rfl) rfl
theorem q2590 : (Jvm.Cond.methodLink "OpenLinesModel" (337 : Nat) ({ cls := "OpenLinesModel", name := "takesBack", desc := "()V" } : Jvm.MethodName)) ∈ lw_all := lw_g (lw_at lw_m11 89 rfl) rfl
theorem q2591 : (Jvm.Cond.privateMethod ({ cls := "OpenLinesModel", name := "takesBack", desc := "()V" } : Jvm.MethodName)) ∈ lw_tbl := lw_at lw_m11 90 rfl
theorem q2592 : (Jvm.Cond.instanceMethod ({ cls := "OpenLinesModel", name := "takesBack", desc := "()V" } : Jvm.MethodName)) ∈ lw_all := lw_g (lw_at lw_m11 91 rfl) rfl
theorem q2593 : (Jvm.Cond.code ({ cls := "OpenLinesModel", name := "takesBack", desc := "()V" } : Jvm.MethodName) prog_19_method_81_code (2 : Nat) (Option.none : Option Jvm.ClassFile.FieldType)) ∈ lw_all := lw_g (lw_at lw_m11 92 rfl) rfl
theorem q2595 : (Jvm.Cond.instanceMethod ({ cls := "OpenLinesModel", name := "till", desc := "(I)I" } : Jvm.MethodName)) ∈ lw_all := lw_g (lw_at lw_m11 94 rfl) rfl
theorem q2596 : (Jvm.Cond.selects "OpenLinesModel" ({ cls := "OpenLinesModel", name := "till", desc := "(I)I" } : Jvm.MethodName) ({ cls := "OpenLinesModel", name := "till", desc := "(I)I" } : Jvm.MethodName)) ∈ lw_all := lw_g (lw_at lw_m11 95 rfl) rfl
theorem q2597 : (Jvm.Cond.code ({ cls := "OpenLinesModel", name := "till", desc := "(I)I" } : Jvm.MethodName) prog_19_method_91_code (5 : Nat) (Option.some Jvm.ClassFile.FieldType.int)) ∈ lw_all := lw_g (lw_at lw_m11 96 rfl) rfl
theorem q2599 : (Jvm.Cond.instanceMethod ({ cls := "OpenLinesModel", name := "about", desc := "(I)I" } : Jvm.MethodName)) ∈ lw_all := lw_g (lw_at lw_m11 98 rfl) rfl
theorem q2600 : (Jvm.Cond.selects "OpenLinesModel" ({ cls := "OpenLinesModel", name := "about", desc := "(I)I" } : Jvm.MethodName) ({ cls := "OpenLinesModel", name := "about", desc := "(I)I" } : Jvm.MethodName)) ∈ lw_all := lw_g (lw_at lw_m11 99 rfl) rfl
theorem q2601 : (Jvm.Cond.code ({ cls := "OpenLinesModel", name := "about", desc := "(I)I" } : Jvm.MethodName) prog_19_method_92_code (2 : Nat) (Option.some Jvm.ClassFile.FieldType.int)) ∈ lw_all := lw_g (lw_at lw_m11 100 rfl) rfl
theorem q2603 : (Jvm.Cond.instanceMethod ({ cls := "OpenLinesModel", name := "board", desc := "(II)I" } : Jvm.MethodName)) ∈ lw_all := lw_g (lw_at lw_m11 102 rfl) rfl
theorem q2604 : (Jvm.Cond.selects "OpenLinesModel" ({ cls := "OpenLinesModel", name := "board", desc := "(II)I" } : Jvm.MethodName) ({ cls := "OpenLinesModel", name := "board", desc := "(II)I" } : Jvm.MethodName)) ∈ lw_all := lw_g (lw_at lw_m11 103 rfl) rfl
theorem q2605 : (Jvm.Cond.code ({ cls := "OpenLinesModel", name := "board", desc := "(II)I" } : Jvm.MethodName) prog_19_method_93_code (3 : Nat) (Option.some Jvm.ClassFile.FieldType.int)) ∈ lw_all := lw_g (lw_at lw_m11 104 rfl) rfl
theorem q2607 : (Jvm.Cond.instanceMethod ({ cls := "OpenLinesModel", name := "named", desc := "(I)I" } : Jvm.MethodName)) ∈ lw_all := lw_g (lw_at lw_m11 106 rfl) rfl
theorem q2608 : (Jvm.Cond.selects "OpenLinesModel" ({ cls := "OpenLinesModel", name := "named", desc := "(I)I" } : Jvm.MethodName) ({ cls := "OpenLinesModel", name := "named", desc := "(I)I" } : Jvm.MethodName)) ∈ lw_all := lw_g (lw_at lw_m11 107 rfl) rfl
theorem q2609 : (Jvm.Cond.code ({ cls := "OpenLinesModel", name := "named", desc := "(I)I" } : Jvm.MethodName) prog_19_method_94_code (3 : Nat) (Option.some Jvm.ClassFile.FieldType.int)) ∈ lw_all := lw_g (lw_at lw_m11 108 rfl) rfl
theorem q2611 : (Jvm.Cond.instanceMethod ({ cls := "OpenLinesModel", name := "word", desc := "(II)I" } : Jvm.MethodName)) ∈ lw_all := lw_g (lw_at lw_m11 110 rfl) rfl
theorem q2612 : (Jvm.Cond.selects "OpenLinesModel" ({ cls := "OpenLinesModel", name := "word", desc := "(II)I" } : Jvm.MethodName) ({ cls := "OpenLinesModel", name := "word", desc := "(II)I" } : Jvm.MethodName)) ∈ lw_all := lw_g (lw_at lw_m11 111 rfl) rfl
theorem q2613 : (Jvm.Cond.code ({ cls := "OpenLinesModel", name := "word", desc := "(II)I" } : Jvm.MethodName) prog_19_method_95_code (3 : Nat) (Option.some Jvm.ClassFile.FieldType.int)) ∈ lw_all := lw_g (lw_at lw_m11 112 rfl) rfl
theorem q2615 : (Jvm.Cond.instanceMethod ({ cls := "OpenLinesModel", name := "ask", desc := "(II)I" } : Jvm.MethodName)) ∈ lw_all := lw_g (lw_at lw_m11 114 rfl) rfl
theorem q2616 : (Jvm.Cond.selects "OpenLinesModel" ({ cls := "OpenLinesModel", name := "ask", desc := "(II)I" } : Jvm.MethodName) ({ cls := "OpenLinesModel", name := "ask", desc := "(II)I" } : Jvm.MethodName)) ∈ lw_all := lw_g (lw_at lw_m11 115 rfl) rfl
theorem q2617 : (Jvm.Cond.code ({ cls := "OpenLinesModel", name := "ask", desc := "(II)I" } : Jvm.MethodName) prog_19_method_96_code (3 : Nat) (Option.some Jvm.ClassFile.FieldType.int)) ∈ lw_all := lw_g (lw_at lw_m11 116 rfl) rfl
theorem q2619 : (Jvm.Cond.instanceMethod ({ cls := "OpenLinesModel", name := "waits", desc := "(II)I" } : Jvm.MethodName)) ∈ lw_all := lw_g (lw_at lw_m11 118 rfl) rfl
theorem q2620 : (Jvm.Cond.selects "OpenLinesModel" ({ cls := "OpenLinesModel", name := "waits", desc := "(II)I" } : Jvm.MethodName) ({ cls := "OpenLinesModel", name := "waits", desc := "(II)I" } : Jvm.MethodName)) ∈ lw_all := lw_g (lw_at lw_m11 119 rfl) rfl
theorem q2621 : (Jvm.Cond.code ({ cls := "OpenLinesModel", name := "waits", desc := "(II)I" } : Jvm.MethodName) prog_19_method_97_code (4 : Nat) (Option.some Jvm.ClassFile.FieldType.int)) ∈ lw_all := lw_g (lw_at lw_m11 120 rfl) rfl
theorem q2623 : (Jvm.Cond.instanceMethod ({ cls := "OpenLinesModel", name := "stick", desc := "(II)I" } : Jvm.MethodName)) ∈ lw_all := lw_g (lw_at lw_m11 122 rfl) rfl
theorem q2624 : (Jvm.Cond.selects "OpenLinesModel" ({ cls := "OpenLinesModel", name := "stick", desc := "(II)I" } : Jvm.MethodName) ({ cls := "OpenLinesModel", name := "stick", desc := "(II)I" } : Jvm.MethodName)) ∈ lw_all := lw_g (lw_at lw_m11 123 rfl) rfl
theorem q2625 : (Jvm.Cond.code ({ cls := "OpenLinesModel", name := "stick", desc := "(II)I" } : Jvm.MethodName) prog_19_method_98_code (4 : Nat) (Option.some Jvm.ClassFile.FieldType.int)) ∈ lw_all := lw_g (lw_at lw_m11 124 rfl) rfl
theorem q2627 : (Jvm.Cond.instanceMethod ({ cls := "OpenLinesModel", name := "ticks", desc := "(I)I" } : Jvm.MethodName)) ∈ lw_all := lw_g (lw_at lw_m11 126 rfl) rfl
theorem q2628 : (Jvm.Cond.selects "OpenLinesModel" ({ cls := "OpenLinesModel", name := "ticks", desc := "(I)I" } : Jvm.MethodName) ({ cls := "OpenLinesModel", name := "ticks", desc := "(I)I" } : Jvm.MethodName)) ∈ lw_all := lw_g (lw_at lw_m11 127 rfl) rfl
theorem q2629 : (Jvm.Cond.code ({ cls := "OpenLinesModel", name := "ticks", desc := "(I)I" } : Jvm.MethodName) prog_19_method_99_code (3 : Nat) (Option.some Jvm.ClassFile.FieldType.int)) ∈ lw_all := lw_g (lw_at lw_m11 128 rfl) rfl
theorem q2631 : (Jvm.Cond.instanceMethod ({ cls := "OpenLinesModel", name := "keep", desc := "()Z" } : Jvm.MethodName)) ∈ lw_all := lw_g (lw_at lw_m11 130 rfl) rfl
theorem q2632 : (Jvm.Cond.selects "OpenLinesModel" ({ cls := "OpenLinesModel", name := "keep", desc := "()Z" } : Jvm.MethodName) ({ cls := "OpenLinesModel", name := "keep", desc := "()Z" } : Jvm.MethodName)) ∈ lw_all := lw_g (lw_at lw_m11 131 rfl) rfl
theorem q2633 : (Jvm.Cond.code ({ cls := "OpenLinesModel", name := "keep", desc := "()Z" } : Jvm.MethodName) prog_19_method_100_code (2 : Nat) (Option.some Jvm.ClassFile.FieldType.boolean)) ∈ lw_all := lw_g (lw_at lw_m11 132 rfl) rfl
theorem q2635 : (Jvm.Cond.instanceMethod ({ cls := "OpenLinesModel", name := "back", desc := "()Z" } : Jvm.MethodName)) ∈ lw_all := lw_g (lw_at lw_m11 134 rfl) rfl
theorem q2636 : (Jvm.Cond.selects "OpenLinesModel" ({ cls := "OpenLinesModel", name := "back", desc := "()Z" } : Jvm.MethodName) ({ cls := "OpenLinesModel", name := "back", desc := "()Z" } : Jvm.MethodName)) ∈ lw_all := lw_g (lw_at lw_m11 135 rfl) rfl
theorem q2637 : (Jvm.Cond.code ({ cls := "OpenLinesModel", name := "back", desc := "()Z" } : Jvm.MethodName) prog_19_method_101_code (2 : Nat) (Option.some Jvm.ClassFile.FieldType.boolean)) ∈ lw_all := lw_g (lw_at lw_m11 136 rfl) rfl
theorem q2639 : (Jvm.Cond.instanceMethod ({ cls := "OpenLinesModel", name := "never", desc := "(I)I" } : Jvm.MethodName)) ∈ lw_all := lw_g (lw_at lw_m11 138 rfl) rfl
theorem q2640 : (Jvm.Cond.selects "OpenLinesModel" ({ cls := "OpenLinesModel", name := "never", desc := "(I)I" } : Jvm.MethodName) ({ cls := "OpenLinesModel", name := "never", desc := "(I)I" } : Jvm.MethodName)) ∈ lw_all := lw_g (lw_at lw_m11 139 rfl) rfl
theorem q2641 : (Jvm.Cond.code ({ cls := "OpenLinesModel", name := "never", desc := "(I)I" } : Jvm.MethodName) prog_19_method_103_code (5 : Nat) (Option.some Jvm.ClassFile.FieldType.int)) ∈ lw_all := lw_g (lw_at lw_m11 140 rfl) rfl
theorem q2642 : (Jvm.Cond.methodLink "OpenLinesModel" (340 : Nat) ({ cls := "OpenLinesModel", name := "bySlot", desc := "(I)I" } : Jvm.MethodName)) ∈ lw_all := lw_g (lw_at lw_m11 141 rfl) rfl
theorem q2643 : (Jvm.Cond.privateMethod ({ cls := "OpenLinesModel", name := "bySlot", desc := "(I)I" } : Jvm.MethodName)) ∈ lw_tbl := lw_at lw_m11 142 rfl
theorem q2644 : (Jvm.Cond.instanceMethod ({ cls := "OpenLinesModel", name := "bySlot", desc := "(I)I" } : Jvm.MethodName)) ∈ lw_all := lw_g (lw_at lw_m11 143 rfl) rfl
theorem q2645 : (Jvm.Cond.code ({ cls := "OpenLinesModel", name := "bySlot", desc := "(I)I" } : Jvm.MethodName) prog_19_method_102_code (5 : Nat) (Option.some Jvm.ClassFile.FieldType.int)) ∈ lw_all := lw_g (lw_at lw_m11 144 rfl) rfl
theorem q2647 : (Jvm.Cond.instanceMethod ({ cls := "OpenLinesModel", name := "size", desc := "(I)I" } : Jvm.MethodName)) ∈ lw_all := lw_g (lw_at lw_m11 146 rfl) rfl
theorem q2648 : (Jvm.Cond.selects "OpenLinesModel" ({ cls := "OpenLinesModel", name := "size", desc := "(I)I" } : Jvm.MethodName) ({ cls := "OpenLinesModel", name := "size", desc := "(I)I" } : Jvm.MethodName)) ∈ lw_all := lw_g (lw_at lw_m11 147 rfl) rfl
theorem q2649 : (Jvm.Cond.code ({ cls := "OpenLinesModel", name := "size", desc := "(I)I" } : Jvm.MethodName) prog_19_method_104_code (4 : Nat) (Option.some Jvm.ClassFile.FieldType.int)) ∈ lw_all := lw_g (lw_at lw_m11 148 rfl) rfl
theorem q2651 : (Jvm.Cond.instanceMethod ({ cls := "OpenLinesModel", name := "trouble", desc := "()I" } : Jvm.MethodName)) ∈ lw_all := lw_g (lw_at lw_m11 150 rfl) rfl
theorem q2652 : (Jvm.Cond.selects "OpenLinesModel" ({ cls := "OpenLinesModel", name := "trouble", desc := "()I" } : Jvm.MethodName) ({ cls := "OpenLinesModel", name := "trouble", desc := "()I" } : Jvm.MethodName)) ∈ lw_all := lw_g (lw_at lw_m11 151 rfl) rfl
theorem q2653 : (Jvm.Cond.code ({ cls := "OpenLinesModel", name := "trouble", desc := "()I" } : Jvm.MethodName) prog_19_method_105_code (1 : Nat) (Option.some Jvm.ClassFile.FieldType.int)) ∈ lw_all := lw_g (lw_at lw_m11 152 rfl) rfl
theorem q2664 : (Jvm.Cond.castable "OpenLinesModel" "java/lang/Object") ∈ lw_tbl := lw_at lw_m11 163 rfl
theorem in_X4 : ∀ w ∈ wsX40, w ∈ lw_all := lw_in wsX40 [2164, 2166, 2168, 2170, 2172, 2174, 2176, 2178, 2180, 2182, 2184, 2186, 2188, 2190, 2192, 2194, 2196, 2198, 2200, 2202, 2204, 2206, 2208, 2210, 2212, 2214, 2216, 2218, 2220, 2222, 2224, 2226, 2228] (by decide +kernel) (by decide +kernel)
