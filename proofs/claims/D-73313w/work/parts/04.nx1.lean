/-! OpenLines -/
set_option maxRecDepth 100000
def RX1 : String := "OpenLines"
def TX1 : u_T := fun k => match k with
  | 0 => ("OpenLines", "pass", "LOpenLines$Pass;", true)
  | 1 => ("OpenLines", "trouble", "I", false)
  | 2 => ("OpenLines", "where", "I", false)
  | 3 => ("OpenLines", "tape", "[B", true)
  | 4 => ("OpenLines", "taped", "I", false)
  | 5 => ("OpenLines", "fault", "I", false)
  | 6 => ("OpenLines", "bus", "LOpenLines$Bus;", false)
  | 7 => ("OpenLines", "now", "LOpenLines$Run;", true)
  | 8 => ("OpenLines", "kept", "LOpenLines$Run;", true)
  | 9 => ("OpenLines", "trial", "LOpenLines$Run;", true)
  | 10 => ("OpenLines", "isKept", "Z", false)
  | 11 => ("OpenLines", "laidWhich", "I", false)
  | _ => ("OpenLines", "laidSet", "I", false)
def tyX1 : Nat → FieldType := fun k => match k with
  | 0 => .object "OpenLines$Pass"
  | 1 => .int
  | 2 => .int
  | 3 => .array .byte
  | 4 => .int
  | 5 => .int
  | 6 => .object "OpenLines$Bus"
  | 7 => .object "OpenLines$Run"
  | 8 => .object "OpenLines$Run"
  | 9 => .object "OpenLines$Run"
  | 10 => .boolean
  | 11 => .int
  | _ => .int
abbrev wsX10 : List Cond := u_ws RX1 TX1 13
set_option maxRecDepth 100000 in
theorem nmX1 : ∀ a, a < 13 → ∀ b, b < 13 → a ≠ b → (TX1 a).2.1 ≠ (TX1 b).2.1 := by decide +kernel
set_option maxRecDepth 100000 in
theorem tyX1_ok : ∀ k, k < 13 → parseFieldDescriptor (TX1 k).2.2.1 = some (tyX1 k) := by decide +kernel
abbrev cX1_init : ByteArray := prog_1_method_9_code
def yX1_init : MethodName := ⟨RX1, "<init>", "()V"⟩
def dkwX1_init_3 : List UInt8 := [181, 0, 67, 177]
abbrev dktX1_init_3 : List UInt8 := dkwX1_init_3 ++ []
def dkwX1_init_2 : List UInt8 := [89, 42, 183, 0, 56, 181, 0, 61, 42, 187, 0, 16, 89, 42, 183, 0, 56, 181, 0, 64, 42, 2]
abbrev dktX1_init_2 : List UInt8 := dkwX1_init_2 ++ dktX1_init_3
def dkwX1_init_1 : List UInt8 := [17, 2, 188, 188, 8, 181, 0, 52, 42, 187, 0, 16, 89, 42, 183, 0, 56, 181, 0, 57, 42, 187, 0, 16]
abbrev dktX1_init_1 : List UInt8 := dkwX1_init_1 ++ dktX1_init_2
def dkwX1_init_0 : List UInt8 := [42, 183, 0, 37, 42, 187, 0, 43, 89, 42, 183, 0, 45, 181, 0, 48, 42, 2, 181, 0, 34, 42]
abbrev dktX1_init_0 : List UInt8 := dkwX1_init_0 ++ dktX1_init_1
theorem dksX1_init_0 : cX1_init.data.toList.drop 0 = dktX1_init_0 := by decide +kernel
theorem dksX1_init_1 : cX1_init.data.toList.drop 22 = dktX1_init_1 := dk_seg dksX1_init_0 22 rfl rfl
theorem dksX1_init_2 : cX1_init.data.toList.drop 46 = dktX1_init_2 := dk_seg dksX1_init_1 24 rfl rfl
theorem dksX1_init_3 : cX1_init.data.toList.drop 68 = dktX1_init_3 := dk_seg dksX1_init_2 22 rfl rfl
theorem dX1_init_0 : decode cX1_init 0 = .ok (.aload_n 0, 1) := dk_42 (dk_at dksX1_init_0 0 rfl rfl)
theorem dX1_init_1 : decode cX1_init 1 = .ok (.invokespecial 37, 3) := dk_183 0 37 (dk_at dksX1_init_0 1 rfl rfl)
theorem dX1_init_4 : decode cX1_init 4 = .ok (.aload_n 0, 1) := dk_42 (dk_at dksX1_init_0 4 rfl rfl)
theorem dX1_init_5 : decode cX1_init 5 = .ok (.new 43, 3) := dk_187 0 43 (dk_at dksX1_init_0 5 rfl rfl)
theorem dX1_init_8 : decode cX1_init 8 = .ok (.dup, 1) := dk_89 (dk_at dksX1_init_0 8 rfl rfl)
theorem dX1_init_9 : decode cX1_init 9 = .ok (.aload_n 0, 1) := dk_42 (dk_at dksX1_init_0 9 rfl rfl)
theorem dX1_init_10 : decode cX1_init 10 = .ok (.invokespecial 45, 3) := dk_183 0 45 (dk_at dksX1_init_0 10 rfl rfl)
theorem dX1_init_13 : decode cX1_init 13 = .ok (.putfield 48, 3) := dk_181 0 48 (dk_at dksX1_init_0 13 rfl rfl)
theorem dX1_init_16 : decode cX1_init 16 = .ok (.aload_n 0, 1) := dk_42 (dk_at dksX1_init_0 16 rfl rfl)
theorem dX1_init_17 : decode cX1_init 17 = .ok (.iconst (-1), 1) := dk_2 (dk_at dksX1_init_0 17 rfl rfl)
theorem dX1_init_18 : decode cX1_init 18 = .ok (.putfield 34, 3) := dk_181 0 34 (dk_at dksX1_init_0 18 rfl rfl)
theorem dX1_init_21 : decode cX1_init 21 = .ok (.aload_n 0, 1) := dk_42 (dk_at dksX1_init_0 21 rfl rfl)
theorem dX1_init_22 : decode cX1_init 22 = .ok (.sipush 700, 3) := dk_17 2 188 (dk_at dksX1_init_1 0 rfl rfl)
theorem dX1_init_25 : decode cX1_init 25 = .ok (.newarray .byte, 2) := dk_188_8 (dk_at dksX1_init_1 3 rfl rfl)
theorem dX1_init_27 : decode cX1_init 27 = .ok (.putfield 52, 3) := dk_181 0 52 (dk_at dksX1_init_1 5 rfl rfl)
theorem dX1_init_30 : decode cX1_init 30 = .ok (.aload_n 0, 1) := dk_42 (dk_at dksX1_init_1 8 rfl rfl)
theorem dX1_init_31 : decode cX1_init 31 = .ok (.new 16, 3) := dk_187 0 16 (dk_at dksX1_init_1 9 rfl rfl)
theorem dX1_init_34 : decode cX1_init 34 = .ok (.dup, 1) := dk_89 (dk_at dksX1_init_1 12 rfl rfl)
theorem dX1_init_35 : decode cX1_init 35 = .ok (.aload_n 0, 1) := dk_42 (dk_at dksX1_init_1 13 rfl rfl)
theorem dX1_init_36 : decode cX1_init 36 = .ok (.invokespecial 56, 3) := dk_183 0 56 (dk_at dksX1_init_1 14 rfl rfl)
theorem dX1_init_39 : decode cX1_init 39 = .ok (.putfield 57, 3) := dk_181 0 57 (dk_at dksX1_init_1 17 rfl rfl)
theorem dX1_init_42 : decode cX1_init 42 = .ok (.aload_n 0, 1) := dk_42 (dk_at dksX1_init_1 20 rfl rfl)
theorem dX1_init_43 : decode cX1_init 43 = .ok (.new 16, 3) := dk_187 0 16 (dk_at dksX1_init_1 21 rfl rfl)
theorem dX1_init_46 : decode cX1_init 46 = .ok (.dup, 1) := dk_89 (dk_at dksX1_init_2 0 rfl rfl)
theorem dX1_init_47 : decode cX1_init 47 = .ok (.aload_n 0, 1) := dk_42 (dk_at dksX1_init_2 1 rfl rfl)
theorem dX1_init_48 : decode cX1_init 48 = .ok (.invokespecial 56, 3) := dk_183 0 56 (dk_at dksX1_init_2 2 rfl rfl)
theorem dX1_init_51 : decode cX1_init 51 = .ok (.putfield 61, 3) := dk_181 0 61 (dk_at dksX1_init_2 5 rfl rfl)
theorem dX1_init_54 : decode cX1_init 54 = .ok (.aload_n 0, 1) := dk_42 (dk_at dksX1_init_2 8 rfl rfl)
theorem dX1_init_55 : decode cX1_init 55 = .ok (.new 16, 3) := dk_187 0 16 (dk_at dksX1_init_2 9 rfl rfl)
theorem dX1_init_58 : decode cX1_init 58 = .ok (.dup, 1) := dk_89 (dk_at dksX1_init_2 12 rfl rfl)
theorem dX1_init_59 : decode cX1_init 59 = .ok (.aload_n 0, 1) := dk_42 (dk_at dksX1_init_2 13 rfl rfl)
theorem dX1_init_60 : decode cX1_init 60 = .ok (.invokespecial 56, 3) := dk_183 0 56 (dk_at dksX1_init_2 14 rfl rfl)
theorem dX1_init_63 : decode cX1_init 63 = .ok (.putfield 64, 3) := dk_181 0 64 (dk_at dksX1_init_2 17 rfl rfl)
theorem dX1_init_66 : decode cX1_init 66 = .ok (.aload_n 0, 1) := dk_42 (dk_at dksX1_init_2 20 rfl rfl)
theorem dX1_init_67 : decode cX1_init 67 = .ok (.iconst (-1), 1) := dk_2 (dk_at dksX1_init_2 21 rfl rfl)
theorem dX1_init_68 : decode cX1_init 68 = .ok (.putfield 67, 3) := dk_181 0 67 (dk_at dksX1_init_3 0 rfl rfl)
theorem dX1_init_71 : decode cX1_init 71 = .ok (.return_, 1) := dk_177 (dk_at dksX1_init_3 3 rfl rfl)
abbrev cX1_feed : ByteArray := prog_1_method_11_code
def yX1_feed : MethodName := ⟨RX1, "feed", "(IIIII)I"⟩
def dkwX1_feed_2 : List UInt8 := [172]
abbrev dktX1_feed_2 : List UInt8 := dkwX1_feed_2 ++ []
def dkwX1_feed_1 : List UInt8 := [182, 0, 73, 42, 29, 182, 0, 73, 42, 21, 4, 182, 0, 73, 42, 21, 5, 182, 0, 73, 42, 180, 0, 70]
abbrev dktX1_feed_1 : List UInt8 := dkwX1_feed_1 ++ dktX1_feed_2
def dkwX1_feed_0 : List UInt8 := [42, 180, 0, 70, 16, 20, 96, 17, 2, 188, 164, 0, 5, 2, 172, 42, 27, 182, 0, 73, 42, 28]
abbrev dktX1_feed_0 : List UInt8 := dkwX1_feed_0 ++ dktX1_feed_1
theorem dksX1_feed_0 : cX1_feed.data.toList.drop 0 = dktX1_feed_0 := by decide +kernel
theorem dksX1_feed_1 : cX1_feed.data.toList.drop 22 = dktX1_feed_1 := dk_seg dksX1_feed_0 22 rfl rfl
theorem dksX1_feed_2 : cX1_feed.data.toList.drop 46 = dktX1_feed_2 := dk_seg dksX1_feed_1 24 rfl rfl
theorem dX1_feed_0 : decode cX1_feed 0 = .ok (.aload_n 0, 1) := dk_42 (dk_at dksX1_feed_0 0 rfl rfl)
theorem dX1_feed_1 : decode cX1_feed 1 = .ok (.getfield 70, 3) := dk_180 0 70 (dk_at dksX1_feed_0 1 rfl rfl)
theorem dX1_feed_4 : decode cX1_feed 4 = .ok (.bipush 20, 2) := dk_16 20 (dk_at dksX1_feed_0 4 rfl rfl)
theorem dX1_feed_6 : decode cX1_feed 6 = .ok (.iadd, 1) := dk_96 (dk_at dksX1_feed_0 6 rfl rfl)
theorem dX1_feed_7 : decode cX1_feed 7 = .ok (.sipush 700, 3) := dk_17 2 188 (dk_at dksX1_feed_0 7 rfl rfl)
theorem dX1_feed_10 : decode cX1_feed 10 = .ok (.if_icmp .le 5, 3) := dk_164 0 5 (dk_at dksX1_feed_0 10 rfl rfl)
theorem dX1_feed_13 : decode cX1_feed 13 = .ok (.iconst (-1), 1) := dk_2 (dk_at dksX1_feed_0 13 rfl rfl)
theorem dX1_feed_14 : decode cX1_feed 14 = .ok (.ireturn, 1) := dk_172 (dk_at dksX1_feed_0 14 rfl rfl)
theorem dX1_feed_15 : decode cX1_feed 15 = .ok (.aload_n 0, 1) := dk_42 (dk_at dksX1_feed_0 15 rfl rfl)
theorem dX1_feed_16 : decode cX1_feed 16 = .ok (.iload_n 1, 1) := dk_27 (dk_at dksX1_feed_0 16 rfl rfl)
theorem dX1_feed_17 : decode cX1_feed 17 = .ok (.invokevirtual 73, 3) := dk_182 0 73 (dk_at dksX1_feed_0 17 rfl rfl)
theorem dX1_feed_20 : decode cX1_feed 20 = .ok (.aload_n 0, 1) := dk_42 (dk_at dksX1_feed_0 20 rfl rfl)
theorem dX1_feed_21 : decode cX1_feed 21 = .ok (.iload_n 2, 1) := dk_28 (dk_at dksX1_feed_0 21 rfl rfl)
theorem dX1_feed_22 : decode cX1_feed 22 = .ok (.invokevirtual 73, 3) := dk_182 0 73 (dk_at dksX1_feed_1 0 rfl rfl)
theorem dX1_feed_25 : decode cX1_feed 25 = .ok (.aload_n 0, 1) := dk_42 (dk_at dksX1_feed_1 3 rfl rfl)
theorem dX1_feed_26 : decode cX1_feed 26 = .ok (.iload_n 3, 1) := dk_29 (dk_at dksX1_feed_1 4 rfl rfl)
theorem dX1_feed_27 : decode cX1_feed 27 = .ok (.invokevirtual 73, 3) := dk_182 0 73 (dk_at dksX1_feed_1 5 rfl rfl)
theorem dX1_feed_30 : decode cX1_feed 30 = .ok (.aload_n 0, 1) := dk_42 (dk_at dksX1_feed_1 8 rfl rfl)
theorem dX1_feed_31 : decode cX1_feed 31 = .ok (.iload 4, 2) := dk_21 4 (dk_at dksX1_feed_1 9 rfl rfl)
theorem dX1_feed_33 : decode cX1_feed 33 = .ok (.invokevirtual 73, 3) := dk_182 0 73 (dk_at dksX1_feed_1 11 rfl rfl)
theorem dX1_feed_36 : decode cX1_feed 36 = .ok (.aload_n 0, 1) := dk_42 (dk_at dksX1_feed_1 14 rfl rfl)
theorem dX1_feed_37 : decode cX1_feed 37 = .ok (.iload 5, 2) := dk_21 5 (dk_at dksX1_feed_1 15 rfl rfl)
theorem dX1_feed_39 : decode cX1_feed 39 = .ok (.invokevirtual 73, 3) := dk_182 0 73 (dk_at dksX1_feed_1 17 rfl rfl)
theorem dX1_feed_42 : decode cX1_feed 42 = .ok (.aload_n 0, 1) := dk_42 (dk_at dksX1_feed_1 20 rfl rfl)
theorem dX1_feed_43 : decode cX1_feed 43 = .ok (.getfield 70, 3) := dk_180 0 70 (dk_at dksX1_feed_1 21 rfl rfl)
theorem dX1_feed_46 : decode cX1_feed 46 = .ok (.ireturn, 1) := dk_172 (dk_at dksX1_feed_2 0 rfl rfl)
abbrev cX1_feedOne : ByteArray := prog_1_method_10_code
def yX1_feedOne : MethodName := ⟨RX1, "feedOne", "(I)V"⟩
def dkwX1_feedOne_1 : List UInt8 := [180, 0, 70, 4, 96, 181, 0, 70, 132, 2, 248, 167, 255, 226, 177]
abbrev dktX1_feedOne_1 : List UInt8 := dkwX1_feedOne_1 ++ []
def dkwX1_feedOne_0 : List UInt8 := [16, 24, 61, 28, 155, 0, 32, 42, 180, 0, 52, 42, 180, 0, 70, 27, 28, 122, 145, 84, 42, 89]
abbrev dktX1_feedOne_0 : List UInt8 := dkwX1_feedOne_0 ++ dktX1_feedOne_1
theorem dksX1_feedOne_0 : cX1_feedOne.data.toList.drop 0 = dktX1_feedOne_0 := by decide +kernel
theorem dksX1_feedOne_1 : cX1_feedOne.data.toList.drop 22 = dktX1_feedOne_1 := dk_seg dksX1_feedOne_0 22 rfl rfl
theorem dX1_feedOne_0 : decode cX1_feedOne 0 = .ok (.bipush 24, 2) := dk_16 24 (dk_at dksX1_feedOne_0 0 rfl rfl)
theorem dX1_feedOne_2 : decode cX1_feedOne 2 = .ok (.istore_n 2, 1) := dk_61 (dk_at dksX1_feedOne_0 2 rfl rfl)
theorem dX1_feedOne_3 : decode cX1_feedOne 3 = .ok (.iload_n 2, 1) := dk_28 (dk_at dksX1_feedOne_0 3 rfl rfl)
theorem dX1_feedOne_4 : decode cX1_feedOne 4 = .ok (.ifCond .lt 32, 3) := dk_155 0 32 (dk_at dksX1_feedOne_0 4 rfl rfl)
theorem dX1_feedOne_7 : decode cX1_feedOne 7 = .ok (.aload_n 0, 1) := dk_42 (dk_at dksX1_feedOne_0 7 rfl rfl)
theorem dX1_feedOne_8 : decode cX1_feedOne 8 = .ok (.getfield 52, 3) := dk_180 0 52 (dk_at dksX1_feedOne_0 8 rfl rfl)
theorem dX1_feedOne_11 : decode cX1_feedOne 11 = .ok (.aload_n 0, 1) := dk_42 (dk_at dksX1_feedOne_0 11 rfl rfl)
theorem dX1_feedOne_12 : decode cX1_feedOne 12 = .ok (.getfield 70, 3) := dk_180 0 70 (dk_at dksX1_feedOne_0 12 rfl rfl)
theorem dX1_feedOne_15 : decode cX1_feedOne 15 = .ok (.iload_n 1, 1) := dk_27 (dk_at dksX1_feedOne_0 15 rfl rfl)
theorem dX1_feedOne_16 : decode cX1_feedOne 16 = .ok (.iload_n 2, 1) := dk_28 (dk_at dksX1_feedOne_0 16 rfl rfl)
theorem dX1_feedOne_17 : decode cX1_feedOne 17 = .ok (.ishr, 1) := dk_122 (dk_at dksX1_feedOne_0 17 rfl rfl)
theorem dX1_feedOne_18 : decode cX1_feedOne 18 = .ok (.i2b, 1) := dk_145 (dk_at dksX1_feedOne_0 18 rfl rfl)
theorem dX1_feedOne_19 : decode cX1_feedOne 19 = .ok (.bastore, 1) := dk_84 (dk_at dksX1_feedOne_0 19 rfl rfl)
theorem dX1_feedOne_20 : decode cX1_feedOne 20 = .ok (.aload_n 0, 1) := dk_42 (dk_at dksX1_feedOne_0 20 rfl rfl)
theorem dX1_feedOne_21 : decode cX1_feedOne 21 = .ok (.dup, 1) := dk_89 (dk_at dksX1_feedOne_0 21 rfl rfl)
theorem dX1_feedOne_22 : decode cX1_feedOne 22 = .ok (.getfield 70, 3) := dk_180 0 70 (dk_at dksX1_feedOne_1 0 rfl rfl)
theorem dX1_feedOne_25 : decode cX1_feedOne 25 = .ok (.iconst 1, 1) := dk_4 (dk_at dksX1_feedOne_1 3 rfl rfl)
theorem dX1_feedOne_26 : decode cX1_feedOne 26 = .ok (.iadd, 1) := dk_96 (dk_at dksX1_feedOne_1 4 rfl rfl)
theorem dX1_feedOne_27 : decode cX1_feedOne 27 = .ok (.putfield 70, 3) := dk_181 0 70 (dk_at dksX1_feedOne_1 5 rfl rfl)
theorem dX1_feedOne_30 : decode cX1_feedOne 30 = .ok (.iinc 2 (-8), 3) := dk_132 2 248 (dk_at dksX1_feedOne_1 8 rfl rfl)
theorem dX1_feedOne_33 : decode cX1_feedOne 33 = .ok (.goto (-30), 3) := dk_167 255 226 (dk_at dksX1_feedOne_1 11 rfl rfl)
theorem dX1_feedOne_36 : decode cX1_feedOne 36 = .ok (.return_, 1) := dk_177 (dk_at dksX1_feedOne_1 14 rfl rfl)
abbrev cX1_bus : ByteArray := prog_1_method_12_code
def yX1_bus : MethodName := ⟨RX1, "bus", "(I)I"⟩
def dkwX1_bus_4 : List UInt8 := [180, 0, 96, 182, 0, 119, 182, 0, 125, 172]
abbrev dktX1_bus_4 : List UInt8 := dkwX1_bus_4 ++ []
def dkwX1_bus_3 : List UInt8 := [42, 180, 0, 57, 42, 180, 0, 96, 182, 0, 108, 42, 182, 0, 112, 42, 3, 181, 0, 115, 42, 42]
abbrev dktX1_bus_3 : List UInt8 := dkwX1_bus_3 ++ dktX1_bus_4
def dkwX1_bus_2 : List UInt8 := [42, 44, 180, 0, 102, 181, 0, 84, 42, 7, 182, 0, 81, 87, 42, 44, 180, 0, 105, 181, 0, 34, 2, 172]
abbrev dktX1_bus_2 : List UInt8 := dkwX1_bus_2 ++ dktX1_bus_3
def dkwX1_bus_1 : List UInt8 := [3, 181, 0, 70, 42, 187, 0, 87, 89, 42, 27, 183, 0, 89, 182, 0, 92, 181, 0, 96, 167, 0, 28, 77]
abbrev dktX1_bus_1 : List UInt8 := dkwX1_bus_1 ++ dktX1_bus_2
def dkwX1_bus_0 : List UInt8 := [27, 3, 42, 180, 0, 70, 184, 0, 77, 154, 0, 9, 42, 5, 182, 0, 81, 172, 42, 3, 181, 0, 84, 42]
abbrev dktX1_bus_0 : List UInt8 := dkwX1_bus_0 ++ dktX1_bus_1
theorem dksX1_bus_0 : cX1_bus.data.toList.drop 0 = dktX1_bus_0 := by decide +kernel
theorem dksX1_bus_1 : cX1_bus.data.toList.drop 24 = dktX1_bus_1 := dk_seg dksX1_bus_0 24 rfl rfl
theorem dksX1_bus_2 : cX1_bus.data.toList.drop 48 = dktX1_bus_2 := dk_seg dksX1_bus_1 24 rfl rfl
theorem dksX1_bus_3 : cX1_bus.data.toList.drop 72 = dktX1_bus_3 := dk_seg dksX1_bus_2 24 rfl rfl
theorem dksX1_bus_4 : cX1_bus.data.toList.drop 94 = dktX1_bus_4 := dk_seg dksX1_bus_3 22 rfl rfl
theorem dX1_bus_0 : decode cX1_bus 0 = .ok (.iload_n 1, 1) := dk_27 (dk_at dksX1_bus_0 0 rfl rfl)
theorem dX1_bus_1 : decode cX1_bus 1 = .ok (.iconst 0, 1) := dk_3 (dk_at dksX1_bus_0 1 rfl rfl)
theorem dX1_bus_2 : decode cX1_bus 2 = .ok (.aload_n 0, 1) := dk_42 (dk_at dksX1_bus_0 2 rfl rfl)
theorem dX1_bus_3 : decode cX1_bus 3 = .ok (.getfield 70, 3) := dk_180 0 70 (dk_at dksX1_bus_0 3 rfl rfl)
theorem dX1_bus_6 : decode cX1_bus 6 = .ok (.invokestatic 77, 3) := dk_184 0 77 (dk_at dksX1_bus_0 6 rfl rfl)
theorem dX1_bus_9 : decode cX1_bus 9 = .ok (.ifCond .ne 9, 3) := dk_154 0 9 (dk_at dksX1_bus_0 9 rfl rfl)
theorem dX1_bus_12 : decode cX1_bus 12 = .ok (.aload_n 0, 1) := dk_42 (dk_at dksX1_bus_0 12 rfl rfl)
theorem dX1_bus_13 : decode cX1_bus 13 = .ok (.iconst 2, 1) := dk_5 (dk_at dksX1_bus_0 13 rfl rfl)
theorem dX1_bus_14 : decode cX1_bus 14 = .ok (.invokevirtual 81, 3) := dk_182 0 81 (dk_at dksX1_bus_0 14 rfl rfl)
theorem dX1_bus_17 : decode cX1_bus 17 = .ok (.ireturn, 1) := dk_172 (dk_at dksX1_bus_0 17 rfl rfl)
theorem dX1_bus_18 : decode cX1_bus 18 = .ok (.aload_n 0, 1) := dk_42 (dk_at dksX1_bus_0 18 rfl rfl)
theorem dX1_bus_19 : decode cX1_bus 19 = .ok (.iconst 0, 1) := dk_3 (dk_at dksX1_bus_0 19 rfl rfl)
theorem dX1_bus_20 : decode cX1_bus 20 = .ok (.putfield 84, 3) := dk_181 0 84 (dk_at dksX1_bus_0 20 rfl rfl)
theorem dX1_bus_23 : decode cX1_bus 23 = .ok (.aload_n 0, 1) := dk_42 (dk_at dksX1_bus_0 23 rfl rfl)
theorem dX1_bus_24 : decode cX1_bus 24 = .ok (.iconst 0, 1) := dk_3 (dk_at dksX1_bus_1 0 rfl rfl)
theorem dX1_bus_25 : decode cX1_bus 25 = .ok (.putfield 70, 3) := dk_181 0 70 (dk_at dksX1_bus_1 1 rfl rfl)
theorem dX1_bus_28 : decode cX1_bus 28 = .ok (.aload_n 0, 1) := dk_42 (dk_at dksX1_bus_1 4 rfl rfl)
theorem dX1_bus_29 : decode cX1_bus 29 = .ok (.new 87, 3) := dk_187 0 87 (dk_at dksX1_bus_1 5 rfl rfl)
theorem dX1_bus_32 : decode cX1_bus 32 = .ok (.dup, 1) := dk_89 (dk_at dksX1_bus_1 8 rfl rfl)
theorem dX1_bus_33 : decode cX1_bus 33 = .ok (.aload_n 0, 1) := dk_42 (dk_at dksX1_bus_1 9 rfl rfl)
theorem dX1_bus_34 : decode cX1_bus 34 = .ok (.iload_n 1, 1) := dk_27 (dk_at dksX1_bus_1 10 rfl rfl)
theorem dX1_bus_35 : decode cX1_bus 35 = .ok (.invokespecial 89, 3) := dk_183 0 89 (dk_at dksX1_bus_1 11 rfl rfl)
theorem dX1_bus_38 : decode cX1_bus 38 = .ok (.invokevirtual 92, 3) := dk_182 0 92 (dk_at dksX1_bus_1 14 rfl rfl)
theorem dX1_bus_41 : decode cX1_bus 41 = .ok (.putfield 96, 3) := dk_181 0 96 (dk_at dksX1_bus_1 17 rfl rfl)
theorem dX1_bus_44 : decode cX1_bus 44 = .ok (.goto 28, 3) := dk_167 0 28 (dk_at dksX1_bus_1 20 rfl rfl)
theorem dX1_bus_47 : decode cX1_bus 47 = .ok (.astore_n 2, 1) := dk_77 (dk_at dksX1_bus_1 23 rfl rfl)
theorem dX1_bus_48 : decode cX1_bus 48 = .ok (.aload_n 0, 1) := dk_42 (dk_at dksX1_bus_2 0 rfl rfl)
theorem dX1_bus_49 : decode cX1_bus 49 = .ok (.aload_n 2, 1) := dk_44 (dk_at dksX1_bus_2 1 rfl rfl)
theorem dX1_bus_50 : decode cX1_bus 50 = .ok (.getfield 102, 3) := dk_180 0 102 (dk_at dksX1_bus_2 2 rfl rfl)
theorem dX1_bus_53 : decode cX1_bus 53 = .ok (.putfield 84, 3) := dk_181 0 84 (dk_at dksX1_bus_2 5 rfl rfl)
theorem dX1_bus_56 : decode cX1_bus 56 = .ok (.aload_n 0, 1) := dk_42 (dk_at dksX1_bus_2 8 rfl rfl)
theorem dX1_bus_57 : decode cX1_bus 57 = .ok (.iconst 4, 1) := dk_7 (dk_at dksX1_bus_2 9 rfl rfl)
theorem dX1_bus_58 : decode cX1_bus 58 = .ok (.invokevirtual 81, 3) := dk_182 0 81 (dk_at dksX1_bus_2 10 rfl rfl)
theorem dX1_bus_61 : decode cX1_bus 61 = .ok (.pop, 1) := dk_87 (dk_at dksX1_bus_2 13 rfl rfl)
theorem dX1_bus_62 : decode cX1_bus 62 = .ok (.aload_n 0, 1) := dk_42 (dk_at dksX1_bus_2 14 rfl rfl)
theorem dX1_bus_63 : decode cX1_bus 63 = .ok (.aload_n 2, 1) := dk_44 (dk_at dksX1_bus_2 15 rfl rfl)
theorem dX1_bus_64 : decode cX1_bus 64 = .ok (.getfield 105, 3) := dk_180 0 105 (dk_at dksX1_bus_2 16 rfl rfl)
theorem dX1_bus_67 : decode cX1_bus 67 = .ok (.putfield 34, 3) := dk_181 0 34 (dk_at dksX1_bus_2 19 rfl rfl)
theorem dX1_bus_70 : decode cX1_bus 70 = .ok (.iconst (-1), 1) := dk_2 (dk_at dksX1_bus_2 22 rfl rfl)
theorem dX1_bus_71 : decode cX1_bus 71 = .ok (.ireturn, 1) := dk_172 (dk_at dksX1_bus_2 23 rfl rfl)
theorem dX1_bus_72 : decode cX1_bus 72 = .ok (.aload_n 0, 1) := dk_42 (dk_at dksX1_bus_3 0 rfl rfl)
theorem dX1_bus_73 : decode cX1_bus 73 = .ok (.getfield 57, 3) := dk_180 0 57 (dk_at dksX1_bus_3 1 rfl rfl)
theorem dX1_bus_76 : decode cX1_bus 76 = .ok (.aload_n 0, 1) := dk_42 (dk_at dksX1_bus_3 4 rfl rfl)
theorem dX1_bus_77 : decode cX1_bus 77 = .ok (.getfield 96, 3) := dk_180 0 96 (dk_at dksX1_bus_3 5 rfl rfl)
theorem dX1_bus_80 : decode cX1_bus 80 = .ok (.invokevirtual 108, 3) := dk_182 0 108 (dk_at dksX1_bus_3 8 rfl rfl)
theorem dX1_bus_83 : decode cX1_bus 83 = .ok (.aload_n 0, 1) := dk_42 (dk_at dksX1_bus_3 11 rfl rfl)
theorem dX1_bus_84 : decode cX1_bus 84 = .ok (.invokevirtual 112, 3) := dk_182 0 112 (dk_at dksX1_bus_3 12 rfl rfl)
theorem dX1_bus_87 : decode cX1_bus 87 = .ok (.aload_n 0, 1) := dk_42 (dk_at dksX1_bus_3 15 rfl rfl)
theorem dX1_bus_88 : decode cX1_bus 88 = .ok (.iconst 0, 1) := dk_3 (dk_at dksX1_bus_3 16 rfl rfl)
theorem dX1_bus_89 : decode cX1_bus 89 = .ok (.putfield 115, 3) := dk_181 0 115 (dk_at dksX1_bus_3 17 rfl rfl)
theorem dX1_bus_92 : decode cX1_bus 92 = .ok (.aload_n 0, 1) := dk_42 (dk_at dksX1_bus_3 20 rfl rfl)
theorem dX1_bus_93 : decode cX1_bus 93 = .ok (.aload_n 0, 1) := dk_42 (dk_at dksX1_bus_3 21 rfl rfl)
theorem dX1_bus_94 : decode cX1_bus 94 = .ok (.getfield 96, 3) := dk_180 0 96 (dk_at dksX1_bus_4 0 rfl rfl)
theorem dX1_bus_97 : decode cX1_bus 97 = .ok (.invokevirtual 119, 3) := dk_182 0 119 (dk_at dksX1_bus_4 3 rfl rfl)
theorem dX1_bus_100 : decode cX1_bus 100 = .ok (.invokevirtual 125, 3) := dk_182 0 125 (dk_at dksX1_bus_4 6 rfl rfl)
theorem dX1_bus_103 : decode cX1_bus 103 = .ok (.ireturn, 1) := dk_172 (dk_at dksX1_bus_4 9 rfl rfl)
abbrev cX1_isIn : ByteArray := prog_1_method_1_code
def yX1_isIn : MethodName := ⟨RX1, "isIn", "(III)Z"⟩
def dkwX1_isIn_0 : List UInt8 := [26, 27, 161, 0, 12, 26, 28, 163, 0, 7, 4, 167, 0, 4, 3, 172]
abbrev dktX1_isIn_0 : List UInt8 := dkwX1_isIn_0 ++ []
theorem dksX1_isIn_0 : cX1_isIn.data.toList.drop 0 = dktX1_isIn_0 := by decide +kernel
theorem dX1_isIn_0 : decode cX1_isIn 0 = .ok (.iload_n 0, 1) := dk_26 (dk_at dksX1_isIn_0 0 rfl rfl)
theorem dX1_isIn_1 : decode cX1_isIn 1 = .ok (.iload_n 1, 1) := dk_27 (dk_at dksX1_isIn_0 1 rfl rfl)
theorem dX1_isIn_2 : decode cX1_isIn 2 = .ok (.if_icmp .lt 12, 3) := dk_161 0 12 (dk_at dksX1_isIn_0 2 rfl rfl)
theorem dX1_isIn_5 : decode cX1_isIn 5 = .ok (.iload_n 0, 1) := dk_26 (dk_at dksX1_isIn_0 5 rfl rfl)
theorem dX1_isIn_6 : decode cX1_isIn 6 = .ok (.iload_n 2, 1) := dk_28 (dk_at dksX1_isIn_0 6 rfl rfl)
theorem dX1_isIn_7 : decode cX1_isIn 7 = .ok (.if_icmp .gt 7, 3) := dk_163 0 7 (dk_at dksX1_isIn_0 7 rfl rfl)
theorem dX1_isIn_10 : decode cX1_isIn 10 = .ok (.iconst 1, 1) := dk_4 (dk_at dksX1_isIn_0 10 rfl rfl)
theorem dX1_isIn_11 : decode cX1_isIn 11 = .ok (.goto 4, 3) := dk_167 0 4 (dk_at dksX1_isIn_0 11 rfl rfl)
theorem dX1_isIn_14 : decode cX1_isIn 14 = .ok (.iconst 0, 1) := dk_3 (dk_at dksX1_isIn_0 14 rfl rfl)
theorem dX1_isIn_15 : decode cX1_isIn 15 = .ok (.ireturn, 1) := dk_172 (dk_at dksX1_isIn_0 15 rfl rfl)
abbrev cX1_refused : ByteArray := prog_1_method_6_code
def yX1_refused : MethodName := ⟨RX1, "refused", "(I)I"⟩
def dkwX1_refused_0 : List UInt8 := [42, 27, 181, 0, 31, 42, 2, 181, 0, 34, 2, 172]
abbrev dktX1_refused_0 : List UInt8 := dkwX1_refused_0 ++ []
theorem dksX1_refused_0 : cX1_refused.data.toList.drop 0 = dktX1_refused_0 := by decide +kernel
theorem dX1_refused_0 : decode cX1_refused 0 = .ok (.aload_n 0, 1) := dk_42 (dk_at dksX1_refused_0 0 rfl rfl)
theorem dX1_refused_1 : decode cX1_refused 1 = .ok (.iload_n 1, 1) := dk_27 (dk_at dksX1_refused_0 1 rfl rfl)
theorem dX1_refused_2 : decode cX1_refused 2 = .ok (.putfield 31, 3) := dk_181 0 31 (dk_at dksX1_refused_0 2 rfl rfl)
theorem dX1_refused_5 : decode cX1_refused 5 = .ok (.aload_n 0, 1) := dk_42 (dk_at dksX1_refused_0 5 rfl rfl)
theorem dX1_refused_6 : decode cX1_refused 6 = .ok (.iconst (-1), 1) := dk_2 (dk_at dksX1_refused_0 6 rfl rfl)
theorem dX1_refused_7 : decode cX1_refused 7 = .ok (.putfield 34, 3) := dk_181 0 34 (dk_at dksX1_refused_0 7 rfl rfl)
theorem dX1_refused_10 : decode cX1_refused 10 = .ok (.iconst (-1), 1) := dk_2 (dk_at dksX1_refused_0 10 rfl rfl)
theorem dX1_refused_11 : decode cX1_refused 11 = .ok (.ireturn, 1) := dk_172 (dk_at dksX1_refused_0 11 rfl rfl)
abbrev cX1_forgets : ByteArray := prog_1_method_24_code
def yX1_forgets : MethodName := ⟨RX1, "forgets", "()V"⟩
def dkwX1_forgets_0 : List UInt8 := [42, 2, 181, 0, 67, 177]
abbrev dktX1_forgets_0 : List UInt8 := dkwX1_forgets_0 ++ []
theorem dksX1_forgets_0 : cX1_forgets.data.toList.drop 0 = dktX1_forgets_0 := by decide +kernel
theorem dX1_forgets_0 : decode cX1_forgets 0 = .ok (.aload_n 0, 1) := dk_42 (dk_at dksX1_forgets_0 0 rfl rfl)
theorem dX1_forgets_1 : decode cX1_forgets 1 = .ok (.iconst (-1), 1) := dk_2 (dk_at dksX1_forgets_0 1 rfl rfl)
theorem dX1_forgets_2 : decode cX1_forgets 2 = .ok (.putfield 67, 3) := dk_181 0 67 (dk_at dksX1_forgets_0 2 rfl rfl)
theorem dX1_forgets_5 : decode cX1_forgets 5 = .ok (.return_, 1) := dk_177 (dk_at dksX1_forgets_0 5 rfl rfl)
abbrev cX1_fine : ByteArray := prog_1_method_7_code
def yX1_fine : MethodName := ⟨RX1, "fine", "(I)I"⟩
def dkwX1_fine_0 : List UInt8 := [42, 3, 181, 0, 31, 42, 2, 181, 0, 34, 27, 172]
abbrev dktX1_fine_0 : List UInt8 := dkwX1_fine_0 ++ []
theorem dksX1_fine_0 : cX1_fine.data.toList.drop 0 = dktX1_fine_0 := by decide +kernel
theorem dX1_fine_0 : decode cX1_fine 0 = .ok (.aload_n 0, 1) := dk_42 (dk_at dksX1_fine_0 0 rfl rfl)
theorem dX1_fine_1 : decode cX1_fine 1 = .ok (.iconst 0, 1) := dk_3 (dk_at dksX1_fine_0 1 rfl rfl)
theorem dX1_fine_2 : decode cX1_fine 2 = .ok (.putfield 31, 3) := dk_181 0 31 (dk_at dksX1_fine_0 2 rfl rfl)
theorem dX1_fine_5 : decode cX1_fine 5 = .ok (.aload_n 0, 1) := dk_42 (dk_at dksX1_fine_0 5 rfl rfl)
theorem dX1_fine_6 : decode cX1_fine 6 = .ok (.iconst (-1), 1) := dk_2 (dk_at dksX1_fine_0 6 rfl rfl)
theorem dX1_fine_7 : decode cX1_fine 7 = .ok (.putfield 34, 3) := dk_181 0 34 (dk_at dksX1_fine_0 7 rfl rfl)
theorem dX1_fine_10 : decode cX1_fine 10 = .ok (.iload_n 1, 1) := dk_27 (dk_at dksX1_fine_0 10 rfl rfl)
theorem dX1_fine_11 : decode cX1_fine 11 = .ok (.ireturn, 1) := dk_172 (dk_at dksX1_fine_0 11 rfl rfl)
abbrev cX1_fault : ByteArray := prog_1_method_13_code
def yX1_fault : MethodName := ⟨RX1, "fault", "()I"⟩
theorem dX1_fault_0 : decode cX1_fault 0 = .ok (.aload_n 0, 1) := by decide +kernel
theorem dX1_fault_1 : decode cX1_fault 1 = .ok (.getfield 84, 3) := by decide +kernel
theorem dX1_fault_4 : decode cX1_fault 4 = .ok (.ireturn, 1) := by decide +kernel
abbrev cX1_where : ByteArray := prog_1_method_14_code
def yX1_where : MethodName := ⟨RX1, "where", "()I"⟩
theorem dX1_where_0 : decode cX1_where 0 = .ok (.aload_n 0, 1) := by decide +kernel
theorem dX1_where_1 : decode cX1_where 1 = .ok (.getfield 34, 3) := by decide +kernel
theorem dX1_where_4 : decode cX1_where 4 = .ok (.ireturn, 1) := by decide +kernel
abbrev cX1_about : ByteArray := prog_1_method_15_code
def yX1_about : MethodName := ⟨RX1, "about", "(I)I"⟩
def dkwX1_about_5 : List UInt8 := [182, 0, 125, 172, 42, 4, 182, 0, 81, 172]
abbrev dktX1_about_5 : List UInt8 := dkwX1_about_5 ++ []
def dkwX1_about_4 : List UInt8 := [42, 42, 180, 0, 96, 180, 0, 137, 182, 0, 141, 182, 0, 125, 172, 42, 42, 180, 0, 57, 180, 0, 146]
abbrev dktX1_about_4 : List UInt8 := dkwX1_about_4 ++ dktX1_about_5
def dkwX1_about_3 : List UInt8 := [42, 42, 180, 0, 96, 180, 0, 134, 182, 0, 125, 172, 42, 42, 180, 0, 96, 182, 0, 119, 182, 0, 125, 172]
abbrev dktX1_about_3 : List UInt8 := dkwX1_about_3 ++ dktX1_about_4
def dkwX1_about_2 : List UInt8 := [42, 42, 180, 0, 96, 180, 0, 128, 182, 0, 125, 172, 42, 42, 180, 0, 96, 180, 0, 131, 182, 0, 125, 172]
abbrev dktX1_about_2 : List UInt8 := dkwX1_about_2 ++ dktX1_about_3
def dkwX1_about_1 : List UInt8 := [170, 0, 0, 0, 0, 113, 0, 0, 0, 0, 0, 0, 0, 5, 0, 0, 0, 38, 0, 0, 0, 50, 0, 0, 0, 62, 0, 0, 0, 74, 0, 0, 0, 86, 0, 0, 0, 101]
abbrev dktX1_about_1 : List UInt8 := dkwX1_about_1 ++ dktX1_about_2
def dkwX1_about_0 : List UInt8 := [42, 180, 0, 96, 199, 0, 9, 42, 4, 182, 0, 81, 172, 27]
abbrev dktX1_about_0 : List UInt8 := dkwX1_about_0 ++ dktX1_about_1
theorem dksX1_about_0 : cX1_about.data.toList.drop 0 = dktX1_about_0 := by decide +kernel
theorem dksX1_about_1 : cX1_about.data.toList.drop 14 = dktX1_about_1 := dk_seg dksX1_about_0 14 rfl rfl
theorem dksX1_about_2 : cX1_about.data.toList.drop 52 = dktX1_about_2 := dk_seg dksX1_about_1 38 rfl rfl
theorem dksX1_about_3 : cX1_about.data.toList.drop 76 = dktX1_about_3 := dk_seg dksX1_about_2 24 rfl rfl
theorem dksX1_about_4 : cX1_about.data.toList.drop 100 = dktX1_about_4 := dk_seg dksX1_about_3 24 rfl rfl
theorem dksX1_about_5 : cX1_about.data.toList.drop 123 = dktX1_about_5 := dk_seg dksX1_about_4 23 rfl rfl
theorem dX1_about_0 : decode cX1_about 0 = .ok (.aload_n 0, 1) := dk_42 (dk_at dksX1_about_0 0 rfl rfl)
theorem dX1_about_1 : decode cX1_about 1 = .ok (.getfield 96, 3) := dk_180 0 96 (dk_at dksX1_about_0 1 rfl rfl)
theorem dX1_about_4 : decode cX1_about 4 = .ok (.ifnonnull 9, 3) := dk_199 0 9 (dk_at dksX1_about_0 4 rfl rfl)
theorem dX1_about_7 : decode cX1_about 7 = .ok (.aload_n 0, 1) := dk_42 (dk_at dksX1_about_0 7 rfl rfl)
theorem dX1_about_8 : decode cX1_about 8 = .ok (.iconst 1, 1) := dk_4 (dk_at dksX1_about_0 8 rfl rfl)
theorem dX1_about_9 : decode cX1_about 9 = .ok (.invokevirtual 81, 3) := dk_182 0 81 (dk_at dksX1_about_0 9 rfl rfl)
theorem dX1_about_12 : decode cX1_about 12 = .ok (.ireturn, 1) := dk_172 (dk_at dksX1_about_0 12 rfl rfl)
theorem dX1_about_13 : decode cX1_about 13 = .ok (.iload_n 1, 1) := dk_27 (dk_at dksX1_about_0 13 rfl rfl)
theorem dX1_about_14 : decode cX1_about 14 = .ok (.tableswitch 113 0 5 #[38, 50, 62, 74, 86, 101], 38) := by decide +kernel
theorem dX1_about_52 : decode cX1_about 52 = .ok (.aload_n 0, 1) := dk_42 (dk_at dksX1_about_2 0 rfl rfl)
theorem dX1_about_53 : decode cX1_about 53 = .ok (.aload_n 0, 1) := dk_42 (dk_at dksX1_about_2 1 rfl rfl)
theorem dX1_about_54 : decode cX1_about 54 = .ok (.getfield 96, 3) := dk_180 0 96 (dk_at dksX1_about_2 2 rfl rfl)
theorem dX1_about_57 : decode cX1_about 57 = .ok (.getfield 128, 3) := dk_180 0 128 (dk_at dksX1_about_2 5 rfl rfl)
theorem dX1_about_60 : decode cX1_about 60 = .ok (.invokevirtual 125, 3) := dk_182 0 125 (dk_at dksX1_about_2 8 rfl rfl)
theorem dX1_about_63 : decode cX1_about 63 = .ok (.ireturn, 1) := dk_172 (dk_at dksX1_about_2 11 rfl rfl)
theorem dX1_about_64 : decode cX1_about 64 = .ok (.aload_n 0, 1) := dk_42 (dk_at dksX1_about_2 12 rfl rfl)
theorem dX1_about_65 : decode cX1_about 65 = .ok (.aload_n 0, 1) := dk_42 (dk_at dksX1_about_2 13 rfl rfl)
theorem dX1_about_66 : decode cX1_about 66 = .ok (.getfield 96, 3) := dk_180 0 96 (dk_at dksX1_about_2 14 rfl rfl)
theorem dX1_about_69 : decode cX1_about 69 = .ok (.getfield 131, 3) := dk_180 0 131 (dk_at dksX1_about_2 17 rfl rfl)
theorem dX1_about_72 : decode cX1_about 72 = .ok (.invokevirtual 125, 3) := dk_182 0 125 (dk_at dksX1_about_2 20 rfl rfl)
theorem dX1_about_75 : decode cX1_about 75 = .ok (.ireturn, 1) := dk_172 (dk_at dksX1_about_2 23 rfl rfl)
theorem dX1_about_76 : decode cX1_about 76 = .ok (.aload_n 0, 1) := dk_42 (dk_at dksX1_about_3 0 rfl rfl)
theorem dX1_about_77 : decode cX1_about 77 = .ok (.aload_n 0, 1) := dk_42 (dk_at dksX1_about_3 1 rfl rfl)
theorem dX1_about_78 : decode cX1_about 78 = .ok (.getfield 96, 3) := dk_180 0 96 (dk_at dksX1_about_3 2 rfl rfl)
theorem dX1_about_81 : decode cX1_about 81 = .ok (.getfield 134, 3) := dk_180 0 134 (dk_at dksX1_about_3 5 rfl rfl)
theorem dX1_about_84 : decode cX1_about 84 = .ok (.invokevirtual 125, 3) := dk_182 0 125 (dk_at dksX1_about_3 8 rfl rfl)
theorem dX1_about_87 : decode cX1_about 87 = .ok (.ireturn, 1) := dk_172 (dk_at dksX1_about_3 11 rfl rfl)
theorem dX1_about_88 : decode cX1_about 88 = .ok (.aload_n 0, 1) := dk_42 (dk_at dksX1_about_3 12 rfl rfl)
theorem dX1_about_89 : decode cX1_about 89 = .ok (.aload_n 0, 1) := dk_42 (dk_at dksX1_about_3 13 rfl rfl)
theorem dX1_about_90 : decode cX1_about 90 = .ok (.getfield 96, 3) := dk_180 0 96 (dk_at dksX1_about_3 14 rfl rfl)
theorem dX1_about_93 : decode cX1_about 93 = .ok (.invokevirtual 119, 3) := dk_182 0 119 (dk_at dksX1_about_3 17 rfl rfl)
theorem dX1_about_96 : decode cX1_about 96 = .ok (.invokevirtual 125, 3) := dk_182 0 125 (dk_at dksX1_about_3 20 rfl rfl)
theorem dX1_about_99 : decode cX1_about 99 = .ok (.ireturn, 1) := dk_172 (dk_at dksX1_about_3 23 rfl rfl)
theorem dX1_about_100 : decode cX1_about 100 = .ok (.aload_n 0, 1) := dk_42 (dk_at dksX1_about_4 0 rfl rfl)
theorem dX1_about_101 : decode cX1_about 101 = .ok (.aload_n 0, 1) := dk_42 (dk_at dksX1_about_4 1 rfl rfl)
theorem dX1_about_102 : decode cX1_about 102 = .ok (.getfield 96, 3) := dk_180 0 96 (dk_at dksX1_about_4 2 rfl rfl)
theorem dX1_about_105 : decode cX1_about 105 = .ok (.getfield 137, 3) := dk_180 0 137 (dk_at dksX1_about_4 5 rfl rfl)
theorem dX1_about_108 : decode cX1_about 108 = .ok (.invokevirtual 141, 3) := dk_182 0 141 (dk_at dksX1_about_4 8 rfl rfl)
theorem dX1_about_111 : decode cX1_about 111 = .ok (.invokevirtual 125, 3) := dk_182 0 125 (dk_at dksX1_about_4 11 rfl rfl)
theorem dX1_about_114 : decode cX1_about 114 = .ok (.ireturn, 1) := dk_172 (dk_at dksX1_about_4 14 rfl rfl)
theorem dX1_about_115 : decode cX1_about 115 = .ok (.aload_n 0, 1) := dk_42 (dk_at dksX1_about_4 15 rfl rfl)
theorem dX1_about_116 : decode cX1_about 116 = .ok (.aload_n 0, 1) := dk_42 (dk_at dksX1_about_4 16 rfl rfl)
theorem dX1_about_117 : decode cX1_about 117 = .ok (.getfield 57, 3) := dk_180 0 57 (dk_at dksX1_about_4 17 rfl rfl)
theorem dX1_about_120 : decode cX1_about 120 = .ok (.getfield 146, 3) := dk_180 0 146 (dk_at dksX1_about_4 20 rfl rfl)
theorem dX1_about_123 : decode cX1_about 123 = .ok (.invokevirtual 125, 3) := dk_182 0 125 (dk_at dksX1_about_5 0 rfl rfl)
theorem dX1_about_126 : decode cX1_about 126 = .ok (.ireturn, 1) := dk_172 (dk_at dksX1_about_5 3 rfl rfl)
theorem dX1_about_127 : decode cX1_about 127 = .ok (.aload_n 0, 1) := dk_42 (dk_at dksX1_about_5 4 rfl rfl)
theorem dX1_about_128 : decode cX1_about 128 = .ok (.iconst 1, 1) := dk_4 (dk_at dksX1_about_5 5 rfl rfl)
theorem dX1_about_129 : decode cX1_about 129 = .ok (.invokevirtual 81, 3) := dk_182 0 81 (dk_at dksX1_about_5 6 rfl rfl)
theorem dX1_about_132 : decode cX1_about 132 = .ok (.ireturn, 1) := dk_172 (dk_at dksX1_about_5 9 rfl rfl)
abbrev cX1_board : ByteArray := prog_1_method_17_code
def yX1_board : MethodName := ⟨RX1, "board", "(II)I"⟩
def dkwX1_board_6 : List UInt8 := [4, 182, 0, 81, 172]
abbrev dktX1_board_6 : List UInt8 := dkwX1_board_6 ++ []
def dkwX1_board_5 : List UInt8 := [180, 0, 163, 27, 46, 182, 0, 125, 172, 42, 42, 180, 0, 57, 180, 0, 166, 27, 46, 182, 0, 125, 172, 42]
abbrev dktX1_board_5 : List UInt8 := dkwX1_board_5 ++ dktX1_board_6
def dkwX1_board_4 : List UInt8 := [180, 0, 15, 27, 51, 153, 0, 7, 4, 167, 0, 4, 3, 182, 0, 125, 172, 42, 42, 180, 0, 57]
abbrev dktX1_board_4 : List UInt8 := dkwX1_board_4 ++ dktX1_board_5
def dkwX1_board_3 : List UInt8 := [182, 0, 125, 172, 42, 45, 42, 180, 0, 57, 182, 0, 9, 182, 0, 125, 172, 42, 42, 180, 0, 57]
abbrev dktX1_board_3 : List UInt8 := dkwX1_board_3 ++ dktX1_board_4
def dkwX1_board_2 : List UInt8 := [42, 45, 180, 0, 157, 182, 0, 125, 172, 42, 45, 180, 0, 28, 182, 0, 125, 172, 42, 45, 182, 0, 160]
abbrev dktX1_board_2 : List UInt8 := dkwX1_board_2 ++ dktX1_board_3
def dkwX1_board_1 : List UInt8 := [170, 0, 0, 0, 0, 0, 0, 134, 0, 0, 0, 0, 0, 0, 0, 6, 0, 0, 0, 44, 0, 0, 0, 53, 0, 0, 0, 62, 0, 0, 0, 71, 0, 0, 0, 84, 0, 0, 0, 106, 0, 0, 0, 120]
abbrev dktX1_board_1 : List UInt8 := dkwX1_board_1 ++ dktX1_board_2
def dkwX1_board_0 : List UInt8 := [42, 27, 182, 0, 149, 154, 0, 9, 42, 4, 182, 0, 81, 172, 42, 180, 0, 96, 27, 182, 0, 153, 78, 28]
abbrev dktX1_board_0 : List UInt8 := dkwX1_board_0 ++ dktX1_board_1
theorem dksX1_board_0 : cX1_board.data.toList.drop 0 = dktX1_board_0 := by decide +kernel
theorem dksX1_board_1 : cX1_board.data.toList.drop 24 = dktX1_board_1 := dk_seg dksX1_board_0 24 rfl rfl
theorem dksX1_board_2 : cX1_board.data.toList.drop 68 = dktX1_board_2 := dk_seg dksX1_board_1 44 rfl rfl
theorem dksX1_board_3 : cX1_board.data.toList.drop 91 = dktX1_board_3 := dk_seg dksX1_board_2 23 rfl rfl
theorem dksX1_board_4 : cX1_board.data.toList.drop 113 = dktX1_board_4 := dk_seg dksX1_board_3 22 rfl rfl
theorem dksX1_board_5 : cX1_board.data.toList.drop 135 = dktX1_board_5 := dk_seg dksX1_board_4 22 rfl rfl
theorem dksX1_board_6 : cX1_board.data.toList.drop 159 = dktX1_board_6 := dk_seg dksX1_board_5 24 rfl rfl
theorem dX1_board_0 : decode cX1_board 0 = .ok (.aload_n 0, 1) := dk_42 (dk_at dksX1_board_0 0 rfl rfl)
theorem dX1_board_1 : decode cX1_board 1 = .ok (.iload_n 1, 1) := dk_27 (dk_at dksX1_board_0 1 rfl rfl)
theorem dX1_board_2 : decode cX1_board 2 = .ok (.invokevirtual 149, 3) := dk_182 0 149 (dk_at dksX1_board_0 2 rfl rfl)
theorem dX1_board_5 : decode cX1_board 5 = .ok (.ifCond .ne 9, 3) := dk_154 0 9 (dk_at dksX1_board_0 5 rfl rfl)
theorem dX1_board_8 : decode cX1_board 8 = .ok (.aload_n 0, 1) := dk_42 (dk_at dksX1_board_0 8 rfl rfl)
theorem dX1_board_9 : decode cX1_board 9 = .ok (.iconst 1, 1) := dk_4 (dk_at dksX1_board_0 9 rfl rfl)
theorem dX1_board_10 : decode cX1_board 10 = .ok (.invokevirtual 81, 3) := dk_182 0 81 (dk_at dksX1_board_0 10 rfl rfl)
theorem dX1_board_13 : decode cX1_board 13 = .ok (.ireturn, 1) := dk_172 (dk_at dksX1_board_0 13 rfl rfl)
theorem dX1_board_14 : decode cX1_board 14 = .ok (.aload_n 0, 1) := dk_42 (dk_at dksX1_board_0 14 rfl rfl)
theorem dX1_board_15 : decode cX1_board 15 = .ok (.getfield 96, 3) := dk_180 0 96 (dk_at dksX1_board_0 15 rfl rfl)
theorem dX1_board_18 : decode cX1_board 18 = .ok (.iload_n 1, 1) := dk_27 (dk_at dksX1_board_0 18 rfl rfl)
theorem dX1_board_19 : decode cX1_board 19 = .ok (.invokevirtual 153, 3) := dk_182 0 153 (dk_at dksX1_board_0 19 rfl rfl)
theorem dX1_board_22 : decode cX1_board 22 = .ok (.astore_n 3, 1) := dk_78 (dk_at dksX1_board_0 22 rfl rfl)
theorem dX1_board_23 : decode cX1_board 23 = .ok (.iload_n 2, 1) := dk_28 (dk_at dksX1_board_0 23 rfl rfl)
theorem dX1_board_24 : decode cX1_board 24 = .ok (.tableswitch 134 0 6 #[44, 53, 62, 71, 84, 106, 120], 44) := by decide +kernel
theorem dX1_board_68 : decode cX1_board 68 = .ok (.aload_n 0, 1) := dk_42 (dk_at dksX1_board_2 0 rfl rfl)
theorem dX1_board_69 : decode cX1_board 69 = .ok (.aload_n 3, 1) := dk_45 (dk_at dksX1_board_2 1 rfl rfl)
theorem dX1_board_70 : decode cX1_board 70 = .ok (.getfield 157, 3) := dk_180 0 157 (dk_at dksX1_board_2 2 rfl rfl)
theorem dX1_board_73 : decode cX1_board 73 = .ok (.invokevirtual 125, 3) := dk_182 0 125 (dk_at dksX1_board_2 5 rfl rfl)
theorem dX1_board_76 : decode cX1_board 76 = .ok (.ireturn, 1) := dk_172 (dk_at dksX1_board_2 8 rfl rfl)
theorem dX1_board_77 : decode cX1_board 77 = .ok (.aload_n 0, 1) := dk_42 (dk_at dksX1_board_2 9 rfl rfl)
theorem dX1_board_78 : decode cX1_board 78 = .ok (.aload_n 3, 1) := dk_45 (dk_at dksX1_board_2 10 rfl rfl)
theorem dX1_board_79 : decode cX1_board 79 = .ok (.getfield 28, 3) := dk_180 0 28 (dk_at dksX1_board_2 11 rfl rfl)
theorem dX1_board_82 : decode cX1_board 82 = .ok (.invokevirtual 125, 3) := dk_182 0 125 (dk_at dksX1_board_2 14 rfl rfl)
theorem dX1_board_85 : decode cX1_board 85 = .ok (.ireturn, 1) := dk_172 (dk_at dksX1_board_2 17 rfl rfl)
theorem dX1_board_86 : decode cX1_board 86 = .ok (.aload_n 0, 1) := dk_42 (dk_at dksX1_board_2 18 rfl rfl)
theorem dX1_board_87 : decode cX1_board 87 = .ok (.aload_n 3, 1) := dk_45 (dk_at dksX1_board_2 19 rfl rfl)
theorem dX1_board_88 : decode cX1_board 88 = .ok (.invokevirtual 160, 3) := dk_182 0 160 (dk_at dksX1_board_2 20 rfl rfl)
theorem dX1_board_91 : decode cX1_board 91 = .ok (.invokevirtual 125, 3) := dk_182 0 125 (dk_at dksX1_board_3 0 rfl rfl)
theorem dX1_board_94 : decode cX1_board 94 = .ok (.ireturn, 1) := dk_172 (dk_at dksX1_board_3 3 rfl rfl)
theorem dX1_board_95 : decode cX1_board 95 = .ok (.aload_n 0, 1) := dk_42 (dk_at dksX1_board_3 4 rfl rfl)
theorem dX1_board_96 : decode cX1_board 96 = .ok (.aload_n 3, 1) := dk_45 (dk_at dksX1_board_3 5 rfl rfl)
theorem dX1_board_97 : decode cX1_board 97 = .ok (.aload_n 0, 1) := dk_42 (dk_at dksX1_board_3 6 rfl rfl)
theorem dX1_board_98 : decode cX1_board 98 = .ok (.getfield 57, 3) := dk_180 0 57 (dk_at dksX1_board_3 7 rfl rfl)
theorem dX1_board_101 : decode cX1_board 101 = .ok (.invokevirtual 9, 3) := dk_182 0 9 (dk_at dksX1_board_3 10 rfl rfl)
theorem dX1_board_104 : decode cX1_board 104 = .ok (.invokevirtual 125, 3) := dk_182 0 125 (dk_at dksX1_board_3 13 rfl rfl)
theorem dX1_board_107 : decode cX1_board 107 = .ok (.ireturn, 1) := dk_172 (dk_at dksX1_board_3 16 rfl rfl)
theorem dX1_board_108 : decode cX1_board 108 = .ok (.aload_n 0, 1) := dk_42 (dk_at dksX1_board_3 17 rfl rfl)
theorem dX1_board_109 : decode cX1_board 109 = .ok (.aload_n 0, 1) := dk_42 (dk_at dksX1_board_3 18 rfl rfl)
theorem dX1_board_110 : decode cX1_board 110 = .ok (.getfield 57, 3) := dk_180 0 57 (dk_at dksX1_board_3 19 rfl rfl)
theorem dX1_board_113 : decode cX1_board 113 = .ok (.getfield 15, 3) := dk_180 0 15 (dk_at dksX1_board_4 0 rfl rfl)
theorem dX1_board_116 : decode cX1_board 116 = .ok (.iload_n 1, 1) := dk_27 (dk_at dksX1_board_4 3 rfl rfl)
theorem dX1_board_117 : decode cX1_board 117 = .ok (.baload, 1) := dk_51 (dk_at dksX1_board_4 4 rfl rfl)
theorem dX1_board_118 : decode cX1_board 118 = .ok (.ifCond .eq 7, 3) := dk_153 0 7 (dk_at dksX1_board_4 5 rfl rfl)
theorem dX1_board_121 : decode cX1_board 121 = .ok (.iconst 1, 1) := dk_4 (dk_at dksX1_board_4 8 rfl rfl)
theorem dX1_board_122 : decode cX1_board 122 = .ok (.goto 4, 3) := dk_167 0 4 (dk_at dksX1_board_4 9 rfl rfl)
theorem dX1_board_125 : decode cX1_board 125 = .ok (.iconst 0, 1) := dk_3 (dk_at dksX1_board_4 12 rfl rfl)
theorem dX1_board_126 : decode cX1_board 126 = .ok (.invokevirtual 125, 3) := dk_182 0 125 (dk_at dksX1_board_4 13 rfl rfl)
theorem dX1_board_129 : decode cX1_board 129 = .ok (.ireturn, 1) := dk_172 (dk_at dksX1_board_4 16 rfl rfl)
theorem dX1_board_130 : decode cX1_board 130 = .ok (.aload_n 0, 1) := dk_42 (dk_at dksX1_board_4 17 rfl rfl)
theorem dX1_board_131 : decode cX1_board 131 = .ok (.aload_n 0, 1) := dk_42 (dk_at dksX1_board_4 18 rfl rfl)
theorem dX1_board_132 : decode cX1_board 132 = .ok (.getfield 57, 3) := dk_180 0 57 (dk_at dksX1_board_4 19 rfl rfl)
theorem dX1_board_135 : decode cX1_board 135 = .ok (.getfield 163, 3) := dk_180 0 163 (dk_at dksX1_board_5 0 rfl rfl)
theorem dX1_board_138 : decode cX1_board 138 = .ok (.iload_n 1, 1) := dk_27 (dk_at dksX1_board_5 3 rfl rfl)
theorem dX1_board_139 : decode cX1_board 139 = .ok (.iaload, 1) := dk_46 (dk_at dksX1_board_5 4 rfl rfl)
theorem dX1_board_140 : decode cX1_board 140 = .ok (.invokevirtual 125, 3) := dk_182 0 125 (dk_at dksX1_board_5 5 rfl rfl)
theorem dX1_board_143 : decode cX1_board 143 = .ok (.ireturn, 1) := dk_172 (dk_at dksX1_board_5 8 rfl rfl)
theorem dX1_board_144 : decode cX1_board 144 = .ok (.aload_n 0, 1) := dk_42 (dk_at dksX1_board_5 9 rfl rfl)
theorem dX1_board_145 : decode cX1_board 145 = .ok (.aload_n 0, 1) := dk_42 (dk_at dksX1_board_5 10 rfl rfl)
theorem dX1_board_146 : decode cX1_board 146 = .ok (.getfield 57, 3) := dk_180 0 57 (dk_at dksX1_board_5 11 rfl rfl)
theorem dX1_board_149 : decode cX1_board 149 = .ok (.getfield 166, 3) := dk_180 0 166 (dk_at dksX1_board_5 14 rfl rfl)
theorem dX1_board_152 : decode cX1_board 152 = .ok (.iload_n 1, 1) := dk_27 (dk_at dksX1_board_5 17 rfl rfl)
theorem dX1_board_153 : decode cX1_board 153 = .ok (.iaload, 1) := dk_46 (dk_at dksX1_board_5 18 rfl rfl)
theorem dX1_board_154 : decode cX1_board 154 = .ok (.invokevirtual 125, 3) := dk_182 0 125 (dk_at dksX1_board_5 19 rfl rfl)
theorem dX1_board_157 : decode cX1_board 157 = .ok (.ireturn, 1) := dk_172 (dk_at dksX1_board_5 22 rfl rfl)
theorem dX1_board_158 : decode cX1_board 158 = .ok (.aload_n 0, 1) := dk_42 (dk_at dksX1_board_5 23 rfl rfl)
theorem dX1_board_159 : decode cX1_board 159 = .ok (.iconst 1, 1) := dk_4 (dk_at dksX1_board_6 0 rfl rfl)
theorem dX1_board_160 : decode cX1_board 160 = .ok (.invokevirtual 81, 3) := dk_182 0 81 (dk_at dksX1_board_6 1 rfl rfl)
theorem dX1_board_163 : decode cX1_board 163 = .ok (.ireturn, 1) := dk_172 (dk_at dksX1_board_6 4 rfl rfl)
abbrev cX1_isBoard : ByteArray := prog_1_method_16_code
def yX1_isBoard : MethodName := ⟨RX1, "isBoard", "(I)Z"⟩
def dkwX1_isBoard_1 : List UInt8 := [4, 167, 0, 4, 3, 172]
abbrev dktX1_isBoard_1 : List UInt8 := dkwX1_isBoard_1 ++ []
def dkwX1_isBoard_0 : List UInt8 := [42, 180, 0, 96, 198, 0, 24, 27, 3, 42, 180, 0, 96, 182, 0, 119, 4, 100, 184, 0, 77, 153, 0, 7]
abbrev dktX1_isBoard_0 : List UInt8 := dkwX1_isBoard_0 ++ dktX1_isBoard_1
theorem dksX1_isBoard_0 : cX1_isBoard.data.toList.drop 0 = dktX1_isBoard_0 := by decide +kernel
theorem dksX1_isBoard_1 : cX1_isBoard.data.toList.drop 24 = dktX1_isBoard_1 := dk_seg dksX1_isBoard_0 24 rfl rfl
theorem dX1_isBoard_0 : decode cX1_isBoard 0 = .ok (.aload_n 0, 1) := dk_42 (dk_at dksX1_isBoard_0 0 rfl rfl)
theorem dX1_isBoard_1 : decode cX1_isBoard 1 = .ok (.getfield 96, 3) := dk_180 0 96 (dk_at dksX1_isBoard_0 1 rfl rfl)
theorem dX1_isBoard_4 : decode cX1_isBoard 4 = .ok (.ifnull 24, 3) := dk_198 0 24 (dk_at dksX1_isBoard_0 4 rfl rfl)
theorem dX1_isBoard_7 : decode cX1_isBoard 7 = .ok (.iload_n 1, 1) := dk_27 (dk_at dksX1_isBoard_0 7 rfl rfl)
theorem dX1_isBoard_8 : decode cX1_isBoard 8 = .ok (.iconst 0, 1) := dk_3 (dk_at dksX1_isBoard_0 8 rfl rfl)
theorem dX1_isBoard_9 : decode cX1_isBoard 9 = .ok (.aload_n 0, 1) := dk_42 (dk_at dksX1_isBoard_0 9 rfl rfl)
theorem dX1_isBoard_10 : decode cX1_isBoard 10 = .ok (.getfield 96, 3) := dk_180 0 96 (dk_at dksX1_isBoard_0 10 rfl rfl)
theorem dX1_isBoard_13 : decode cX1_isBoard 13 = .ok (.invokevirtual 119, 3) := dk_182 0 119 (dk_at dksX1_isBoard_0 13 rfl rfl)
theorem dX1_isBoard_16 : decode cX1_isBoard 16 = .ok (.iconst 1, 1) := dk_4 (dk_at dksX1_isBoard_0 16 rfl rfl)
theorem dX1_isBoard_17 : decode cX1_isBoard 17 = .ok (.isub, 1) := dk_100 (dk_at dksX1_isBoard_0 17 rfl rfl)
theorem dX1_isBoard_18 : decode cX1_isBoard 18 = .ok (.invokestatic 77, 3) := dk_184 0 77 (dk_at dksX1_isBoard_0 18 rfl rfl)
theorem dX1_isBoard_21 : decode cX1_isBoard 21 = .ok (.ifCond .eq 7, 3) := dk_153 0 7 (dk_at dksX1_isBoard_0 21 rfl rfl)
theorem dX1_isBoard_24 : decode cX1_isBoard 24 = .ok (.iconst 1, 1) := dk_4 (dk_at dksX1_isBoard_1 0 rfl rfl)
theorem dX1_isBoard_25 : decode cX1_isBoard 25 = .ok (.goto 4, 3) := dk_167 0 4 (dk_at dksX1_isBoard_1 1 rfl rfl)
theorem dX1_isBoard_28 : decode cX1_isBoard 28 = .ok (.iconst 0, 1) := dk_3 (dk_at dksX1_isBoard_1 4 rfl rfl)
theorem dX1_isBoard_29 : decode cX1_isBoard 29 = .ok (.ireturn, 1) := dk_172 (dk_at dksX1_isBoard_1 5 rfl rfl)
abbrev cX1_named : ByteArray := prog_1_method_18_code
def yX1_named : MethodName := ⟨RX1, "named", "(I)I"⟩
def dkwX1_named_2 : List UInt8 := [167, 0, 8, 42, 4, 182, 0, 81, 172]
abbrev dktX1_named_2 : List UInt8 := dkwX1_named_2 ++ []
def dkwX1_named_1 : List UInt8 := [42, 42, 180, 0, 96, 180, 0, 169, 27, 184, 0, 173, 182, 0, 183, 192, 0, 10, 180, 0, 21, 182, 0, 125]
abbrev dktX1_named_1 : List UInt8 := dkwX1_named_1 ++ dktX1_named_2
def dkwX1_named_0 : List UInt8 := [42, 180, 0, 96, 198, 0, 47, 42, 180, 0, 96, 180, 0, 169, 27, 184, 0, 173, 182, 0, 177, 153, 0, 30]
abbrev dktX1_named_0 : List UInt8 := dkwX1_named_0 ++ dktX1_named_1
theorem dksX1_named_0 : cX1_named.data.toList.drop 0 = dktX1_named_0 := by decide +kernel
theorem dksX1_named_1 : cX1_named.data.toList.drop 24 = dktX1_named_1 := dk_seg dksX1_named_0 24 rfl rfl
theorem dksX1_named_2 : cX1_named.data.toList.drop 48 = dktX1_named_2 := dk_seg dksX1_named_1 24 rfl rfl
theorem dX1_named_0 : decode cX1_named 0 = .ok (.aload_n 0, 1) := dk_42 (dk_at dksX1_named_0 0 rfl rfl)
theorem dX1_named_1 : decode cX1_named 1 = .ok (.getfield 96, 3) := dk_180 0 96 (dk_at dksX1_named_0 1 rfl rfl)
theorem dX1_named_4 : decode cX1_named 4 = .ok (.ifnull 47, 3) := dk_198 0 47 (dk_at dksX1_named_0 4 rfl rfl)
theorem dX1_named_7 : decode cX1_named 7 = .ok (.aload_n 0, 1) := dk_42 (dk_at dksX1_named_0 7 rfl rfl)
theorem dX1_named_8 : decode cX1_named 8 = .ok (.getfield 96, 3) := dk_180 0 96 (dk_at dksX1_named_0 8 rfl rfl)
theorem dX1_named_11 : decode cX1_named 11 = .ok (.getfield 169, 3) := dk_180 0 169 (dk_at dksX1_named_0 11 rfl rfl)
theorem dX1_named_14 : decode cX1_named 14 = .ok (.iload_n 1, 1) := dk_27 (dk_at dksX1_named_0 14 rfl rfl)
theorem dX1_named_15 : decode cX1_named 15 = .ok (.invokestatic 173, 3) := dk_184 0 173 (dk_at dksX1_named_0 15 rfl rfl)
theorem dX1_named_18 : decode cX1_named 18 = .ok (.invokevirtual 177, 3) := dk_182 0 177 (dk_at dksX1_named_0 18 rfl rfl)
theorem dX1_named_21 : decode cX1_named 21 = .ok (.ifCond .eq 30, 3) := dk_153 0 30 (dk_at dksX1_named_0 21 rfl rfl)
theorem dX1_named_24 : decode cX1_named 24 = .ok (.aload_n 0, 1) := dk_42 (dk_at dksX1_named_1 0 rfl rfl)
theorem dX1_named_25 : decode cX1_named 25 = .ok (.aload_n 0, 1) := dk_42 (dk_at dksX1_named_1 1 rfl rfl)
theorem dX1_named_26 : decode cX1_named 26 = .ok (.getfield 96, 3) := dk_180 0 96 (dk_at dksX1_named_1 2 rfl rfl)
theorem dX1_named_29 : decode cX1_named 29 = .ok (.getfield 169, 3) := dk_180 0 169 (dk_at dksX1_named_1 5 rfl rfl)
theorem dX1_named_32 : decode cX1_named 32 = .ok (.iload_n 1, 1) := dk_27 (dk_at dksX1_named_1 8 rfl rfl)
theorem dX1_named_33 : decode cX1_named 33 = .ok (.invokestatic 173, 3) := dk_184 0 173 (dk_at dksX1_named_1 9 rfl rfl)
theorem dX1_named_36 : decode cX1_named 36 = .ok (.invokevirtual 183, 3) := dk_182 0 183 (dk_at dksX1_named_1 12 rfl rfl)
theorem dX1_named_39 : decode cX1_named 39 = .ok (.checkcast 10, 3) := dk_192 0 10 (dk_at dksX1_named_1 15 rfl rfl)
theorem dX1_named_42 : decode cX1_named 42 = .ok (.getfield 21, 3) := dk_180 0 21 (dk_at dksX1_named_1 18 rfl rfl)
theorem dX1_named_45 : decode cX1_named 45 = .ok (.invokevirtual 125, 3) := dk_182 0 125 (dk_at dksX1_named_1 21 rfl rfl)
theorem dX1_named_48 : decode cX1_named 48 = .ok (.goto 8, 3) := dk_167 0 8 (dk_at dksX1_named_2 0 rfl rfl)
theorem dX1_named_51 : decode cX1_named 51 = .ok (.aload_n 0, 1) := dk_42 (dk_at dksX1_named_2 3 rfl rfl)
theorem dX1_named_52 : decode cX1_named 52 = .ok (.iconst 1, 1) := dk_4 (dk_at dksX1_named_2 4 rfl rfl)
theorem dX1_named_53 : decode cX1_named 53 = .ok (.invokevirtual 81, 3) := dk_182 0 81 (dk_at dksX1_named_2 5 rfl rfl)
theorem dX1_named_56 : decode cX1_named 56 = .ok (.ireturn, 1) := dk_172 (dk_at dksX1_named_2 8 rfl rfl)
abbrev cX1_word : ByteArray := prog_1_method_21_code
def yX1_word : MethodName := ⟨RX1, "word", "(II)I"⟩
def dkwX1_word_2 : List UInt8 := [182, 0, 81, 172]
abbrev dktX1_word_2 : List UInt8 := dkwX1_word_2 ++ []
def dkwX1_word_1 : List UInt8 := [182, 0, 193, 42, 180, 0, 96, 27, 182, 0, 153, 185, 0, 197, 2, 0, 182, 0, 125, 167, 0, 8, 42, 5]
abbrev dktX1_word_1 : List UInt8 := dkwX1_word_1 ++ dktX1_word_2
def dkwX1_word_0 : List UInt8 := [42, 27, 182, 0, 149, 154, 0, 9, 42, 4, 182, 0, 81, 172, 28, 184, 0, 190, 153, 0, 28, 42, 42, 28]
abbrev dktX1_word_0 : List UInt8 := dkwX1_word_0 ++ dktX1_word_1
theorem dksX1_word_0 : cX1_word.data.toList.drop 0 = dktX1_word_0 := by decide +kernel
theorem dksX1_word_1 : cX1_word.data.toList.drop 24 = dktX1_word_1 := dk_seg dksX1_word_0 24 rfl rfl
theorem dksX1_word_2 : cX1_word.data.toList.drop 48 = dktX1_word_2 := dk_seg dksX1_word_1 24 rfl rfl
theorem dX1_word_0 : decode cX1_word 0 = .ok (.aload_n 0, 1) := dk_42 (dk_at dksX1_word_0 0 rfl rfl)
theorem dX1_word_1 : decode cX1_word 1 = .ok (.iload_n 1, 1) := dk_27 (dk_at dksX1_word_0 1 rfl rfl)
theorem dX1_word_2 : decode cX1_word 2 = .ok (.invokevirtual 149, 3) := dk_182 0 149 (dk_at dksX1_word_0 2 rfl rfl)
theorem dX1_word_5 : decode cX1_word 5 = .ok (.ifCond .ne 9, 3) := dk_154 0 9 (dk_at dksX1_word_0 5 rfl rfl)
theorem dX1_word_8 : decode cX1_word 8 = .ok (.aload_n 0, 1) := dk_42 (dk_at dksX1_word_0 8 rfl rfl)
theorem dX1_word_9 : decode cX1_word 9 = .ok (.iconst 1, 1) := dk_4 (dk_at dksX1_word_0 9 rfl rfl)
theorem dX1_word_10 : decode cX1_word 10 = .ok (.invokevirtual 81, 3) := dk_182 0 81 (dk_at dksX1_word_0 10 rfl rfl)
theorem dX1_word_13 : decode cX1_word 13 = .ok (.ireturn, 1) := dk_172 (dk_at dksX1_word_0 13 rfl rfl)
theorem dX1_word_14 : decode cX1_word 14 = .ok (.iload_n 2, 1) := dk_28 (dk_at dksX1_word_0 14 rfl rfl)
theorem dX1_word_15 : decode cX1_word 15 = .ok (.invokestatic 190, 3) := dk_184 0 190 (dk_at dksX1_word_0 15 rfl rfl)
theorem dX1_word_18 : decode cX1_word 18 = .ok (.ifCond .eq 28, 3) := dk_153 0 28 (dk_at dksX1_word_0 18 rfl rfl)
theorem dX1_word_21 : decode cX1_word 21 = .ok (.aload_n 0, 1) := dk_42 (dk_at dksX1_word_0 21 rfl rfl)
theorem dX1_word_22 : decode cX1_word 22 = .ok (.aload_n 0, 1) := dk_42 (dk_at dksX1_word_0 22 rfl rfl)
theorem dX1_word_23 : decode cX1_word 23 = .ok (.iload_n 2, 1) := dk_28 (dk_at dksX1_word_0 23 rfl rfl)
theorem dX1_word_24 : decode cX1_word 24 = .ok (.invokevirtual 193, 3) := dk_182 0 193 (dk_at dksX1_word_1 0 rfl rfl)
theorem dX1_word_27 : decode cX1_word 27 = .ok (.aload_n 0, 1) := dk_42 (dk_at dksX1_word_1 3 rfl rfl)
theorem dX1_word_28 : decode cX1_word 28 = .ok (.getfield 96, 3) := dk_180 0 96 (dk_at dksX1_word_1 4 rfl rfl)
theorem dX1_word_31 : decode cX1_word 31 = .ok (.iload_n 1, 1) := dk_27 (dk_at dksX1_word_1 7 rfl rfl)
theorem dX1_word_32 : decode cX1_word 32 = .ok (.invokevirtual 153, 3) := dk_182 0 153 (dk_at dksX1_word_1 8 rfl rfl)
theorem dX1_word_35 : decode cX1_word 35 = .ok (.invokeinterface 197 2, 5) := by decide +kernel
theorem dX1_word_40 : decode cX1_word 40 = .ok (.invokevirtual 125, 3) := dk_182 0 125 (dk_at dksX1_word_1 16 rfl rfl)
theorem dX1_word_43 : decode cX1_word 43 = .ok (.goto 8, 3) := dk_167 0 8 (dk_at dksX1_word_1 19 rfl rfl)
theorem dX1_word_46 : decode cX1_word 46 = .ok (.aload_n 0, 1) := dk_42 (dk_at dksX1_word_1 22 rfl rfl)
theorem dX1_word_47 : decode cX1_word 47 = .ok (.iconst 2, 1) := dk_5 (dk_at dksX1_word_1 23 rfl rfl)
theorem dX1_word_48 : decode cX1_word 48 = .ok (.invokevirtual 81, 3) := dk_182 0 81 (dk_at dksX1_word_2 0 rfl rfl)
theorem dX1_word_51 : decode cX1_word 51 = .ok (.ireturn, 1) := dk_172 (dk_at dksX1_word_2 3 rfl rfl)
abbrev cX1_isPass : ByteArray := prog_1_method_20_code
def yX1_isPass : MethodName := ⟨RX1, "isPass", "(I)Z"⟩
def dkwX1_isPass_0 : List UInt8 := [26, 4, 5, 184, 0, 77, 172]
abbrev dktX1_isPass_0 : List UInt8 := dkwX1_isPass_0 ++ []
theorem dksX1_isPass_0 : cX1_isPass.data.toList.drop 0 = dktX1_isPass_0 := by decide +kernel
theorem dX1_isPass_0 : decode cX1_isPass 0 = .ok (.iload_n 0, 1) := dk_26 (dk_at dksX1_isPass_0 0 rfl rfl)
theorem dX1_isPass_1 : decode cX1_isPass 1 = .ok (.iconst 1, 1) := dk_4 (dk_at dksX1_isPass_0 1 rfl rfl)
theorem dX1_isPass_2 : decode cX1_isPass 2 = .ok (.iconst 2, 1) := dk_5 (dk_at dksX1_isPass_0 2 rfl rfl)
theorem dX1_isPass_3 : decode cX1_isPass 3 = .ok (.invokestatic 77, 3) := dk_184 0 77 (dk_at dksX1_isPass_0 3 rfl rfl)
theorem dX1_isPass_6 : decode cX1_isPass 6 = .ok (.ireturn, 1) := dk_172 (dk_at dksX1_isPass_0 6 rfl rfl)
abbrev cX1_wordsOf : ByteArray := prog_1_method_19_code
def yX1_wordsOf : MethodName := ⟨RX1, "wordsOf", "(I)LOpenLines$Word;"⟩
def dkwX1_wordsOf_0 : List UInt8 := [187, 0, 187, 89, 42, 27, 183, 0, 189, 176]
abbrev dktX1_wordsOf_0 : List UInt8 := dkwX1_wordsOf_0 ++ []
theorem dksX1_wordsOf_0 : cX1_wordsOf.data.toList.drop 0 = dktX1_wordsOf_0 := by decide +kernel
theorem dX1_wordsOf_0 : decode cX1_wordsOf 0 = .ok (.new 187, 3) := dk_187 0 187 (dk_at dksX1_wordsOf_0 0 rfl rfl)
theorem dX1_wordsOf_3 : decode cX1_wordsOf 3 = .ok (.dup, 1) := dk_89 (dk_at dksX1_wordsOf_0 3 rfl rfl)
theorem dX1_wordsOf_4 : decode cX1_wordsOf 4 = .ok (.aload_n 0, 1) := dk_42 (dk_at dksX1_wordsOf_0 4 rfl rfl)
theorem dX1_wordsOf_5 : decode cX1_wordsOf 5 = .ok (.iload_n 1, 1) := dk_27 (dk_at dksX1_wordsOf_0 5 rfl rfl)
theorem dX1_wordsOf_6 : decode cX1_wordsOf 6 = .ok (.invokespecial 189, 3) := dk_183 0 189 (dk_at dksX1_wordsOf_0 6 rfl rfl)
theorem dX1_wordsOf_9 : decode cX1_wordsOf 9 = .ok (.areturn, 1) := dk_176 (dk_at dksX1_wordsOf_0 9 rfl rfl)
abbrev cX1_firstWord : ByteArray := prog_1_method_4_code
def yX1_firstWord : MethodName := ⟨RX1, "firstWord", "(LOpenLines$Run;LOpenLines$Board;)I"⟩
def dkwX1_firstWord_1 : List UInt8 := [128, 184, 0, 25, 172]
abbrev dktX1_firstWord_1 : List UInt8 := dkwX1_firstWord_1 ++ []
def dkwX1_firstWord_0 : List UInt8 := [43, 42, 182, 0, 9, 6, 120, 42, 180, 0, 15, 43, 180, 0, 21, 51, 153, 0, 7, 7, 167, 0, 4, 3]
abbrev dktX1_firstWord_0 : List UInt8 := dkwX1_firstWord_0 ++ dktX1_firstWord_1
theorem dksX1_firstWord_0 : cX1_firstWord.data.toList.drop 0 = dktX1_firstWord_0 := by decide +kernel
theorem dksX1_firstWord_1 : cX1_firstWord.data.toList.drop 24 = dktX1_firstWord_1 := dk_seg dksX1_firstWord_0 24 rfl rfl
theorem dX1_firstWord_0 : decode cX1_firstWord 0 = .ok (.aload_n 1, 1) := dk_43 (dk_at dksX1_firstWord_0 0 rfl rfl)
theorem dX1_firstWord_1 : decode cX1_firstWord 1 = .ok (.aload_n 0, 1) := dk_42 (dk_at dksX1_firstWord_0 1 rfl rfl)
theorem dX1_firstWord_2 : decode cX1_firstWord 2 = .ok (.invokevirtual 9, 3) := dk_182 0 9 (dk_at dksX1_firstWord_0 2 rfl rfl)
theorem dX1_firstWord_5 : decode cX1_firstWord 5 = .ok (.iconst 3, 1) := dk_6 (dk_at dksX1_firstWord_0 5 rfl rfl)
theorem dX1_firstWord_6 : decode cX1_firstWord 6 = .ok (.ishl, 1) := dk_120 (dk_at dksX1_firstWord_0 6 rfl rfl)
theorem dX1_firstWord_7 : decode cX1_firstWord 7 = .ok (.aload_n 0, 1) := dk_42 (dk_at dksX1_firstWord_0 7 rfl rfl)
theorem dX1_firstWord_8 : decode cX1_firstWord 8 = .ok (.getfield 15, 3) := dk_180 0 15 (dk_at dksX1_firstWord_0 8 rfl rfl)
theorem dX1_firstWord_11 : decode cX1_firstWord 11 = .ok (.aload_n 1, 1) := dk_43 (dk_at dksX1_firstWord_0 11 rfl rfl)
theorem dX1_firstWord_12 : decode cX1_firstWord 12 = .ok (.getfield 21, 3) := dk_180 0 21 (dk_at dksX1_firstWord_0 12 rfl rfl)
theorem dX1_firstWord_15 : decode cX1_firstWord 15 = .ok (.baload, 1) := dk_51 (dk_at dksX1_firstWord_0 15 rfl rfl)
theorem dX1_firstWord_16 : decode cX1_firstWord 16 = .ok (.ifCond .eq 7, 3) := dk_153 0 7 (dk_at dksX1_firstWord_0 16 rfl rfl)
theorem dX1_firstWord_19 : decode cX1_firstWord 19 = .ok (.iconst 4, 1) := dk_7 (dk_at dksX1_firstWord_0 19 rfl rfl)
theorem dX1_firstWord_20 : decode cX1_firstWord 20 = .ok (.goto 4, 3) := dk_167 0 4 (dk_at dksX1_firstWord_0 20 rfl rfl)
theorem dX1_firstWord_23 : decode cX1_firstWord 23 = .ok (.iconst 0, 1) := dk_3 (dk_at dksX1_firstWord_0 23 rfl rfl)
theorem dX1_firstWord_24 : decode cX1_firstWord 24 = .ok (.ior, 1) := dk_128 (dk_at dksX1_firstWord_1 0 rfl rfl)
theorem dX1_firstWord_25 : decode cX1_firstWord 25 = .ok (.invokestatic 25, 3) := dk_184 0 25 (dk_at dksX1_firstWord_1 1 rfl rfl)
theorem dX1_firstWord_28 : decode cX1_firstWord 28 = .ok (.ireturn, 1) := dk_172 (dk_at dksX1_firstWord_1 4 rfl rfl)
abbrev cX1_withParity : ByteArray := prog_1_method_3_code
def yX1_withParity : MethodName := ⟨RX1, "withParity", "(I)I"⟩
def dkwX1_withParity_0 : List UInt8 := [26, 184, 0, 3, 5, 112, 154, 0, 9, 26, 4, 128, 167, 0, 4, 26, 172]
abbrev dktX1_withParity_0 : List UInt8 := dkwX1_withParity_0 ++ []
theorem dksX1_withParity_0 : cX1_withParity.data.toList.drop 0 = dktX1_withParity_0 := by decide +kernel
theorem dX1_withParity_0 : decode cX1_withParity 0 = .ok (.iload_n 0, 1) := dk_26 (dk_at dksX1_withParity_0 0 rfl rfl)
theorem dX1_withParity_1 : decode cX1_withParity 1 = .ok (.invokestatic 3, 3) := dk_184 0 3 (dk_at dksX1_withParity_0 1 rfl rfl)
theorem dX1_withParity_4 : decode cX1_withParity 4 = .ok (.iconst 2, 1) := dk_5 (dk_at dksX1_withParity_0 4 rfl rfl)
theorem dX1_withParity_5 : decode cX1_withParity 5 = .ok (.irem, 1) := dk_112 (dk_at dksX1_withParity_0 5 rfl rfl)
theorem dX1_withParity_6 : decode cX1_withParity 6 = .ok (.ifCond .ne 9, 3) := dk_154 0 9 (dk_at dksX1_withParity_0 6 rfl rfl)
theorem dX1_withParity_9 : decode cX1_withParity 9 = .ok (.iload_n 0, 1) := dk_26 (dk_at dksX1_withParity_0 9 rfl rfl)
theorem dX1_withParity_10 : decode cX1_withParity 10 = .ok (.iconst 1, 1) := dk_4 (dk_at dksX1_withParity_0 10 rfl rfl)
theorem dX1_withParity_11 : decode cX1_withParity 11 = .ok (.ior, 1) := dk_128 (dk_at dksX1_withParity_0 11 rfl rfl)
theorem dX1_withParity_12 : decode cX1_withParity 12 = .ok (.goto 4, 3) := dk_167 0 4 (dk_at dksX1_withParity_0 12 rfl rfl)
theorem dX1_withParity_15 : decode cX1_withParity 15 = .ok (.iload_n 0, 1) := dk_26 (dk_at dksX1_withParity_0 15 rfl rfl)
theorem dX1_withParity_16 : decode cX1_withParity 16 = .ok (.ireturn, 1) := dk_172 (dk_at dksX1_withParity_0 16 rfl rfl)
abbrev cX1_secondWord : ByteArray := prog_1_method_5_code
def yX1_secondWord : MethodName := ⟨RX1, "secondWord", "(LOpenLines$Board;)I"⟩
def dkwX1_secondWord_0 : List UInt8 := [42, 180, 0, 28, 4, 120, 184, 0, 25, 172]
abbrev dktX1_secondWord_0 : List UInt8 := dkwX1_secondWord_0 ++ []
theorem dksX1_secondWord_0 : cX1_secondWord.data.toList.drop 0 = dktX1_secondWord_0 := by decide +kernel
theorem dX1_secondWord_0 : decode cX1_secondWord 0 = .ok (.aload_n 0, 1) := dk_42 (dk_at dksX1_secondWord_0 0 rfl rfl)
theorem dX1_secondWord_1 : decode cX1_secondWord 1 = .ok (.getfield 28, 3) := dk_180 0 28 (dk_at dksX1_secondWord_0 1 rfl rfl)
theorem dX1_secondWord_4 : decode cX1_secondWord 4 = .ok (.iconst 1, 1) := dk_4 (dk_at dksX1_secondWord_0 4 rfl rfl)
theorem dX1_secondWord_5 : decode cX1_secondWord 5 = .ok (.ishl, 1) := dk_120 (dk_at dksX1_secondWord_0 5 rfl rfl)
theorem dX1_secondWord_6 : decode cX1_secondWord 6 = .ok (.invokestatic 25, 3) := dk_184 0 25 (dk_at dksX1_secondWord_0 6 rfl rfl)
theorem dX1_secondWord_9 : decode cX1_secondWord 9 = .ok (.ireturn, 1) := dk_172 (dk_at dksX1_secondWord_0 9 rfl rfl)
abbrev cX1_drives : ByteArray := prog_1_method_26_code
def yX1_drives : MethodName := ⟨RX1, "drives", "(IIII)I"⟩
def dkwX1_drives_2 : List UInt8 := [21, 4, 96, 46, 182, 0, 125, 172]
abbrev dktX1_drives_2 : List UInt8 := dkwX1_drives_2 ++ []
def dkwX1_drives_1 : List UInt8 := [182, 0, 81, 167, 0, 27, 42, 42, 27, 28, 21, 4, 182, 0, 223, 180, 0, 227, 17, 1, 145, 29, 104]
abbrev dktX1_drives_1 : List UInt8 := dkwX1_drives_1 ++ dktX1_drives_2
def dkwX1_drives_0 : List UInt8 := [42, 42, 29, 182, 0, 149, 27, 28, 21, 4, 182, 0, 219, 54, 5, 21, 5, 158, 0, 12, 42, 21, 5]
abbrev dktX1_drives_0 : List UInt8 := dkwX1_drives_0 ++ dktX1_drives_1
theorem dksX1_drives_0 : cX1_drives.data.toList.drop 0 = dktX1_drives_0 := by decide +kernel
theorem dksX1_drives_1 : cX1_drives.data.toList.drop 23 = dktX1_drives_1 := dk_seg dksX1_drives_0 23 rfl rfl
theorem dksX1_drives_2 : cX1_drives.data.toList.drop 46 = dktX1_drives_2 := dk_seg dksX1_drives_1 23 rfl rfl
theorem dX1_drives_0 : decode cX1_drives 0 = .ok (.aload_n 0, 1) := dk_42 (dk_at dksX1_drives_0 0 rfl rfl)
theorem dX1_drives_1 : decode cX1_drives 1 = .ok (.aload_n 0, 1) := dk_42 (dk_at dksX1_drives_0 1 rfl rfl)
theorem dX1_drives_2 : decode cX1_drives 2 = .ok (.iload_n 3, 1) := dk_29 (dk_at dksX1_drives_0 2 rfl rfl)
theorem dX1_drives_3 : decode cX1_drives 3 = .ok (.invokevirtual 149, 3) := dk_182 0 149 (dk_at dksX1_drives_0 3 rfl rfl)
theorem dX1_drives_6 : decode cX1_drives 6 = .ok (.iload_n 1, 1) := dk_27 (dk_at dksX1_drives_0 6 rfl rfl)
theorem dX1_drives_7 : decode cX1_drives 7 = .ok (.iload_n 2, 1) := dk_28 (dk_at dksX1_drives_0 7 rfl rfl)
theorem dX1_drives_8 : decode cX1_drives 8 = .ok (.iload 4, 2) := dk_21 4 (dk_at dksX1_drives_0 8 rfl rfl)
theorem dX1_drives_10 : decode cX1_drives 10 = .ok (.invokevirtual 219, 3) := dk_182 0 219 (dk_at dksX1_drives_0 10 rfl rfl)
theorem dX1_drives_13 : decode cX1_drives 13 = .ok (.istore 5, 2) := dk_54 5 (dk_at dksX1_drives_0 13 rfl rfl)
theorem dX1_drives_15 : decode cX1_drives 15 = .ok (.iload 5, 2) := dk_21 5 (dk_at dksX1_drives_0 15 rfl rfl)
theorem dX1_drives_17 : decode cX1_drives 17 = .ok (.ifCond .le 12, 3) := dk_158 0 12 (dk_at dksX1_drives_0 17 rfl rfl)
theorem dX1_drives_20 : decode cX1_drives 20 = .ok (.aload_n 0, 1) := dk_42 (dk_at dksX1_drives_0 20 rfl rfl)
theorem dX1_drives_21 : decode cX1_drives 21 = .ok (.iload 5, 2) := dk_21 5 (dk_at dksX1_drives_0 21 rfl rfl)
theorem dX1_drives_23 : decode cX1_drives 23 = .ok (.invokevirtual 81, 3) := dk_182 0 81 (dk_at dksX1_drives_1 0 rfl rfl)
theorem dX1_drives_26 : decode cX1_drives 26 = .ok (.goto 27, 3) := dk_167 0 27 (dk_at dksX1_drives_1 3 rfl rfl)
theorem dX1_drives_29 : decode cX1_drives 29 = .ok (.aload_n 0, 1) := dk_42 (dk_at dksX1_drives_1 6 rfl rfl)
theorem dX1_drives_30 : decode cX1_drives 30 = .ok (.aload_n 0, 1) := dk_42 (dk_at dksX1_drives_1 7 rfl rfl)
theorem dX1_drives_31 : decode cX1_drives 31 = .ok (.iload_n 1, 1) := dk_27 (dk_at dksX1_drives_1 8 rfl rfl)
theorem dX1_drives_32 : decode cX1_drives 32 = .ok (.iload_n 2, 1) := dk_28 (dk_at dksX1_drives_1 9 rfl rfl)
theorem dX1_drives_33 : decode cX1_drives 33 = .ok (.iload 4, 2) := dk_21 4 (dk_at dksX1_drives_1 10 rfl rfl)
theorem dX1_drives_35 : decode cX1_drives 35 = .ok (.invokevirtual 223, 3) := dk_182 0 223 (dk_at dksX1_drives_1 12 rfl rfl)
theorem dX1_drives_38 : decode cX1_drives 38 = .ok (.getfield 227, 3) := dk_180 0 227 (dk_at dksX1_drives_1 15 rfl rfl)
theorem dX1_drives_41 : decode cX1_drives 41 = .ok (.sipush 401, 3) := dk_17 1 145 (dk_at dksX1_drives_1 18 rfl rfl)
theorem dX1_drives_44 : decode cX1_drives 44 = .ok (.iload_n 3, 1) := dk_29 (dk_at dksX1_drives_1 21 rfl rfl)
theorem dX1_drives_45 : decode cX1_drives 45 = .ok (.imul, 1) := dk_104 (dk_at dksX1_drives_1 22 rfl rfl)
theorem dX1_drives_46 : decode cX1_drives 46 = .ok (.iload 4, 2) := dk_21 4 (dk_at dksX1_drives_2 0 rfl rfl)
theorem dX1_drives_48 : decode cX1_drives 48 = .ok (.iadd, 1) := dk_96 (dk_at dksX1_drives_2 2 rfl rfl)
theorem dX1_drives_49 : decode cX1_drives 49 = .ok (.iaload, 1) := dk_46 (dk_at dksX1_drives_2 3 rfl rfl)
theorem dX1_drives_50 : decode cX1_drives 50 = .ok (.invokevirtual 125, 3) := dk_182 0 125 (dk_at dksX1_drives_2 4 rfl rfl)
theorem dX1_drives_53 : decode cX1_drives 53 = .ok (.ireturn, 1) := dk_172 (dk_at dksX1_drives_2 7 rfl rfl)
abbrev cX1_refuses : ByteArray := prog_1_method_23_code
def yX1_refuses : MethodName := ⟨RX1, "refuses", "(ZIII)I"⟩
def dkwX1_refuses_1 : List UInt8 := [182, 0, 203, 153, 0, 19, 21, 4, 3, 17, 1, 144, 184, 0, 77, 153, 0, 7, 3, 167, 0, 4, 5, 172]
abbrev dktX1_refuses_1 : List UInt8 := dkwX1_refuses_1 ++ []
def dkwX1_refuses_0 : List UInt8 := [42, 180, 0, 96, 198, 0, 7, 27, 154, 0, 5, 4, 172, 28, 184, 0, 190, 153, 0, 27, 42, 29]
abbrev dktX1_refuses_0 : List UInt8 := dkwX1_refuses_0 ++ dktX1_refuses_1
theorem dksX1_refuses_0 : cX1_refuses.data.toList.drop 0 = dktX1_refuses_0 := by decide +kernel
theorem dksX1_refuses_1 : cX1_refuses.data.toList.drop 22 = dktX1_refuses_1 := dk_seg dksX1_refuses_0 22 rfl rfl
theorem dX1_refuses_0 : decode cX1_refuses 0 = .ok (.aload_n 0, 1) := dk_42 (dk_at dksX1_refuses_0 0 rfl rfl)
theorem dX1_refuses_1 : decode cX1_refuses 1 = .ok (.getfield 96, 3) := dk_180 0 96 (dk_at dksX1_refuses_0 1 rfl rfl)
theorem dX1_refuses_4 : decode cX1_refuses 4 = .ok (.ifnull 7, 3) := dk_198 0 7 (dk_at dksX1_refuses_0 4 rfl rfl)
theorem dX1_refuses_7 : decode cX1_refuses 7 = .ok (.iload_n 1, 1) := dk_27 (dk_at dksX1_refuses_0 7 rfl rfl)
theorem dX1_refuses_8 : decode cX1_refuses 8 = .ok (.ifCond .ne 5, 3) := dk_154 0 5 (dk_at dksX1_refuses_0 8 rfl rfl)
theorem dX1_refuses_11 : decode cX1_refuses 11 = .ok (.iconst 1, 1) := dk_4 (dk_at dksX1_refuses_0 11 rfl rfl)
theorem dX1_refuses_12 : decode cX1_refuses 12 = .ok (.ireturn, 1) := dk_172 (dk_at dksX1_refuses_0 12 rfl rfl)
theorem dX1_refuses_13 : decode cX1_refuses 13 = .ok (.iload_n 2, 1) := dk_28 (dk_at dksX1_refuses_0 13 rfl rfl)
theorem dX1_refuses_14 : decode cX1_refuses 14 = .ok (.invokestatic 190, 3) := dk_184 0 190 (dk_at dksX1_refuses_0 14 rfl rfl)
theorem dX1_refuses_17 : decode cX1_refuses 17 = .ok (.ifCond .eq 27, 3) := dk_153 0 27 (dk_at dksX1_refuses_0 17 rfl rfl)
theorem dX1_refuses_20 : decode cX1_refuses 20 = .ok (.aload_n 0, 1) := dk_42 (dk_at dksX1_refuses_0 20 rfl rfl)
theorem dX1_refuses_21 : decode cX1_refuses 21 = .ok (.iload_n 3, 1) := dk_29 (dk_at dksX1_refuses_0 21 rfl rfl)
theorem dX1_refuses_22 : decode cX1_refuses 22 = .ok (.invokevirtual 203, 3) := dk_182 0 203 (dk_at dksX1_refuses_1 0 rfl rfl)
theorem dX1_refuses_25 : decode cX1_refuses 25 = .ok (.ifCond .eq 19, 3) := dk_153 0 19 (dk_at dksX1_refuses_1 3 rfl rfl)
theorem dX1_refuses_28 : decode cX1_refuses 28 = .ok (.iload 4, 2) := dk_21 4 (dk_at dksX1_refuses_1 6 rfl rfl)
theorem dX1_refuses_30 : decode cX1_refuses 30 = .ok (.iconst 0, 1) := dk_3 (dk_at dksX1_refuses_1 8 rfl rfl)
theorem dX1_refuses_31 : decode cX1_refuses 31 = .ok (.sipush 400, 3) := dk_17 1 144 (dk_at dksX1_refuses_1 9 rfl rfl)
theorem dX1_refuses_34 : decode cX1_refuses 34 = .ok (.invokestatic 77, 3) := dk_184 0 77 (dk_at dksX1_refuses_1 12 rfl rfl)
theorem dX1_refuses_37 : decode cX1_refuses 37 = .ok (.ifCond .eq 7, 3) := dk_153 0 7 (dk_at dksX1_refuses_1 15 rfl rfl)
theorem dX1_refuses_40 : decode cX1_refuses 40 = .ok (.iconst 0, 1) := dk_3 (dk_at dksX1_refuses_1 18 rfl rfl)
theorem dX1_refuses_41 : decode cX1_refuses 41 = .ok (.goto 4, 3) := dk_167 0 4 (dk_at dksX1_refuses_1 19 rfl rfl)
theorem dX1_refuses_44 : decode cX1_refuses 44 = .ok (.iconst 2, 1) := dk_5 (dk_at dksX1_refuses_1 22 rfl rfl)
theorem dX1_refuses_45 : decode cX1_refuses 45 = .ok (.ireturn, 1) := dk_172 (dk_at dksX1_refuses_1 23 rfl rfl)
abbrev cX1_isSet : ByteArray := prog_1_method_22_code
def yX1_isSet : MethodName := ⟨RX1, "isSet", "(I)Z"⟩
def dkwX1_isSet_0 : List UInt8 := [27, 4, 4, 42, 180, 0, 96, 182, 0, 119, 120, 4, 100, 184, 0, 77, 172]
abbrev dktX1_isSet_0 : List UInt8 := dkwX1_isSet_0 ++ []
theorem dksX1_isSet_0 : cX1_isSet.data.toList.drop 0 = dktX1_isSet_0 := by decide +kernel
theorem dX1_isSet_0 : decode cX1_isSet 0 = .ok (.iload_n 1, 1) := dk_27 (dk_at dksX1_isSet_0 0 rfl rfl)
theorem dX1_isSet_1 : decode cX1_isSet 1 = .ok (.iconst 1, 1) := dk_4 (dk_at dksX1_isSet_0 1 rfl rfl)
theorem dX1_isSet_2 : decode cX1_isSet 2 = .ok (.iconst 1, 1) := dk_4 (dk_at dksX1_isSet_0 2 rfl rfl)
theorem dX1_isSet_3 : decode cX1_isSet 3 = .ok (.aload_n 0, 1) := dk_42 (dk_at dksX1_isSet_0 3 rfl rfl)
theorem dX1_isSet_4 : decode cX1_isSet 4 = .ok (.getfield 96, 3) := dk_180 0 96 (dk_at dksX1_isSet_0 4 rfl rfl)
theorem dX1_isSet_7 : decode cX1_isSet 7 = .ok (.invokevirtual 119, 3) := dk_182 0 119 (dk_at dksX1_isSet_0 7 rfl rfl)
theorem dX1_isSet_10 : decode cX1_isSet 10 = .ok (.ishl, 1) := dk_120 (dk_at dksX1_isSet_0 10 rfl rfl)
theorem dX1_isSet_11 : decode cX1_isSet 11 = .ok (.iconst 1, 1) := dk_4 (dk_at dksX1_isSet_0 11 rfl rfl)
theorem dX1_isSet_12 : decode cX1_isSet 12 = .ok (.isub, 1) := dk_100 (dk_at dksX1_isSet_0 12 rfl rfl)
theorem dX1_isSet_13 : decode cX1_isSet 13 = .ok (.invokestatic 77, 3) := dk_184 0 77 (dk_at dksX1_isSet_0 13 rfl rfl)
theorem dX1_isSet_16 : decode cX1_isSet 16 = .ok (.ireturn, 1) := dk_172 (dk_at dksX1_isSet_0 16 rfl rfl)
abbrev cX1_passOf : ByteArray := prog_1_method_25_code
def yX1_passOf : MethodName := ⟨RX1, "passOf", "(III)LOpenLines$Pass;"⟩
def dkwX1_passOf_3 : List UInt8 := [180, 0, 48, 176]
abbrev dktX1_passOf_3 : List UInt8 := dkwX1_passOf_3 ++ []
def dkwX1_passOf_2 : List UInt8 := [180, 0, 57, 180, 0, 212, 17, 1, 144, 182, 0, 215, 87, 42, 27, 181, 0, 67, 42, 28, 181, 0, 206, 42]
abbrev dktX1_passOf_2 : List UInt8 := dkwX1_passOf_2 ++ dktX1_passOf_3
def dkwX1_passOf_1 : List UInt8 := [163, 0, 8, 42, 180, 0, 48, 176, 42, 180, 0, 48, 42, 180, 0, 96, 28, 42, 27, 182, 0, 193, 42]
abbrev dktX1_passOf_1 : List UInt8 := dkwX1_passOf_1 ++ dktX1_passOf_2
def dkwX1_passOf_0 : List UInt8 := [27, 42, 180, 0, 67, 160, 0, 27, 28, 42, 180, 0, 206, 160, 0, 19, 29, 42, 180, 0, 48, 180, 0, 209]
abbrev dktX1_passOf_0 : List UInt8 := dkwX1_passOf_0 ++ dktX1_passOf_1
theorem dksX1_passOf_0 : cX1_passOf.data.toList.drop 0 = dktX1_passOf_0 := by decide +kernel
theorem dksX1_passOf_1 : cX1_passOf.data.toList.drop 24 = dktX1_passOf_1 := dk_seg dksX1_passOf_0 24 rfl rfl
theorem dksX1_passOf_2 : cX1_passOf.data.toList.drop 47 = dktX1_passOf_2 := dk_seg dksX1_passOf_1 23 rfl rfl
theorem dksX1_passOf_3 : cX1_passOf.data.toList.drop 71 = dktX1_passOf_3 := dk_seg dksX1_passOf_2 24 rfl rfl
theorem dX1_passOf_0 : decode cX1_passOf 0 = .ok (.iload_n 1, 1) := dk_27 (dk_at dksX1_passOf_0 0 rfl rfl)
theorem dX1_passOf_1 : decode cX1_passOf 1 = .ok (.aload_n 0, 1) := dk_42 (dk_at dksX1_passOf_0 1 rfl rfl)
theorem dX1_passOf_2 : decode cX1_passOf 2 = .ok (.getfield 67, 3) := dk_180 0 67 (dk_at dksX1_passOf_0 2 rfl rfl)
theorem dX1_passOf_5 : decode cX1_passOf 5 = .ok (.if_icmp .ne 27, 3) := dk_160 0 27 (dk_at dksX1_passOf_0 5 rfl rfl)
theorem dX1_passOf_8 : decode cX1_passOf 8 = .ok (.iload_n 2, 1) := dk_28 (dk_at dksX1_passOf_0 8 rfl rfl)
theorem dX1_passOf_9 : decode cX1_passOf 9 = .ok (.aload_n 0, 1) := dk_42 (dk_at dksX1_passOf_0 9 rfl rfl)
theorem dX1_passOf_10 : decode cX1_passOf 10 = .ok (.getfield 206, 3) := dk_180 0 206 (dk_at dksX1_passOf_0 10 rfl rfl)
theorem dX1_passOf_13 : decode cX1_passOf 13 = .ok (.if_icmp .ne 19, 3) := dk_160 0 19 (dk_at dksX1_passOf_0 13 rfl rfl)
theorem dX1_passOf_16 : decode cX1_passOf 16 = .ok (.iload_n 3, 1) := dk_29 (dk_at dksX1_passOf_0 16 rfl rfl)
theorem dX1_passOf_17 : decode cX1_passOf 17 = .ok (.aload_n 0, 1) := dk_42 (dk_at dksX1_passOf_0 17 rfl rfl)
theorem dX1_passOf_18 : decode cX1_passOf 18 = .ok (.getfield 48, 3) := dk_180 0 48 (dk_at dksX1_passOf_0 18 rfl rfl)
theorem dX1_passOf_21 : decode cX1_passOf 21 = .ok (.getfield 209, 3) := dk_180 0 209 (dk_at dksX1_passOf_0 21 rfl rfl)
theorem dX1_passOf_24 : decode cX1_passOf 24 = .ok (.if_icmp .gt 8, 3) := dk_163 0 8 (dk_at dksX1_passOf_1 0 rfl rfl)
theorem dX1_passOf_27 : decode cX1_passOf 27 = .ok (.aload_n 0, 1) := dk_42 (dk_at dksX1_passOf_1 3 rfl rfl)
theorem dX1_passOf_28 : decode cX1_passOf 28 = .ok (.getfield 48, 3) := dk_180 0 48 (dk_at dksX1_passOf_1 4 rfl rfl)
theorem dX1_passOf_31 : decode cX1_passOf 31 = .ok (.areturn, 1) := dk_176 (dk_at dksX1_passOf_1 7 rfl rfl)
theorem dX1_passOf_32 : decode cX1_passOf 32 = .ok (.aload_n 0, 1) := dk_42 (dk_at dksX1_passOf_1 8 rfl rfl)
theorem dX1_passOf_33 : decode cX1_passOf 33 = .ok (.getfield 48, 3) := dk_180 0 48 (dk_at dksX1_passOf_1 9 rfl rfl)
theorem dX1_passOf_36 : decode cX1_passOf 36 = .ok (.aload_n 0, 1) := dk_42 (dk_at dksX1_passOf_1 12 rfl rfl)
theorem dX1_passOf_37 : decode cX1_passOf 37 = .ok (.getfield 96, 3) := dk_180 0 96 (dk_at dksX1_passOf_1 13 rfl rfl)
theorem dX1_passOf_40 : decode cX1_passOf 40 = .ok (.iload_n 2, 1) := dk_28 (dk_at dksX1_passOf_1 16 rfl rfl)
theorem dX1_passOf_41 : decode cX1_passOf 41 = .ok (.aload_n 0, 1) := dk_42 (dk_at dksX1_passOf_1 17 rfl rfl)
theorem dX1_passOf_42 : decode cX1_passOf 42 = .ok (.iload_n 1, 1) := dk_27 (dk_at dksX1_passOf_1 18 rfl rfl)
theorem dX1_passOf_43 : decode cX1_passOf 43 = .ok (.invokevirtual 193, 3) := dk_182 0 193 (dk_at dksX1_passOf_1 19 rfl rfl)
theorem dX1_passOf_46 : decode cX1_passOf 46 = .ok (.aload_n 0, 1) := dk_42 (dk_at dksX1_passOf_1 22 rfl rfl)
theorem dX1_passOf_47 : decode cX1_passOf 47 = .ok (.getfield 57, 3) := dk_180 0 57 (dk_at dksX1_passOf_2 0 rfl rfl)
theorem dX1_passOf_50 : decode cX1_passOf 50 = .ok (.getfield 212, 3) := dk_180 0 212 (dk_at dksX1_passOf_2 3 rfl rfl)
theorem dX1_passOf_53 : decode cX1_passOf 53 = .ok (.sipush 400, 3) := dk_17 1 144 (dk_at dksX1_passOf_2 6 rfl rfl)
theorem dX1_passOf_56 : decode cX1_passOf 56 = .ok (.invokevirtual 215, 3) := dk_182 0 215 (dk_at dksX1_passOf_2 9 rfl rfl)
theorem dX1_passOf_59 : decode cX1_passOf 59 = .ok (.pop, 1) := dk_87 (dk_at dksX1_passOf_2 12 rfl rfl)
theorem dX1_passOf_60 : decode cX1_passOf 60 = .ok (.aload_n 0, 1) := dk_42 (dk_at dksX1_passOf_2 13 rfl rfl)
theorem dX1_passOf_61 : decode cX1_passOf 61 = .ok (.iload_n 1, 1) := dk_27 (dk_at dksX1_passOf_2 14 rfl rfl)
theorem dX1_passOf_62 : decode cX1_passOf 62 = .ok (.putfield 67, 3) := dk_181 0 67 (dk_at dksX1_passOf_2 15 rfl rfl)
theorem dX1_passOf_65 : decode cX1_passOf 65 = .ok (.aload_n 0, 1) := dk_42 (dk_at dksX1_passOf_2 18 rfl rfl)
theorem dX1_passOf_66 : decode cX1_passOf 66 = .ok (.iload_n 2, 1) := dk_28 (dk_at dksX1_passOf_2 19 rfl rfl)
theorem dX1_passOf_67 : decode cX1_passOf 67 = .ok (.putfield 206, 3) := dk_181 0 206 (dk_at dksX1_passOf_2 20 rfl rfl)
theorem dX1_passOf_70 : decode cX1_passOf 70 = .ok (.aload_n 0, 1) := dk_42 (dk_at dksX1_passOf_2 23 rfl rfl)
theorem dX1_passOf_71 : decode cX1_passOf 71 = .ok (.getfield 48, 3) := dk_180 0 48 (dk_at dksX1_passOf_3 0 rfl rfl)
theorem dX1_passOf_74 : decode cX1_passOf 74 = .ok (.areturn, 1) := dk_176 (dk_at dksX1_passOf_3 3 rfl rfl)
abbrev cX1_has : ByteArray := prog_1_method_2_code
def yX1_has : MethodName := ⟨RX1, "has", "(II)Z"⟩
def dkwX1_has_0 : List UInt8 := [26, 27, 122, 4, 126, 4, 160, 0, 7, 4, 167, 0, 4, 3, 172]
abbrev dktX1_has_0 : List UInt8 := dkwX1_has_0 ++ []
theorem dksX1_has_0 : cX1_has.data.toList.drop 0 = dktX1_has_0 := by decide +kernel
theorem dX1_has_0 : decode cX1_has 0 = .ok (.iload_n 0, 1) := dk_26 (dk_at dksX1_has_0 0 rfl rfl)
theorem dX1_has_1 : decode cX1_has 1 = .ok (.iload_n 1, 1) := dk_27 (dk_at dksX1_has_0 1 rfl rfl)
theorem dX1_has_2 : decode cX1_has 2 = .ok (.ishr, 1) := dk_122 (dk_at dksX1_has_0 2 rfl rfl)
theorem dX1_has_3 : decode cX1_has 3 = .ok (.iconst 1, 1) := dk_4 (dk_at dksX1_has_0 3 rfl rfl)
theorem dX1_has_4 : decode cX1_has 4 = .ok (.iand, 1) := dk_126 (dk_at dksX1_has_0 4 rfl rfl)
theorem dX1_has_5 : decode cX1_has 5 = .ok (.iconst 1, 1) := dk_4 (dk_at dksX1_has_0 5 rfl rfl)
theorem dX1_has_6 : decode cX1_has 6 = .ok (.if_icmp .ne 7, 3) := dk_160 0 7 (dk_at dksX1_has_0 6 rfl rfl)
theorem dX1_has_9 : decode cX1_has 9 = .ok (.iconst 1, 1) := dk_4 (dk_at dksX1_has_0 9 rfl rfl)
theorem dX1_has_10 : decode cX1_has 10 = .ok (.goto 4, 3) := dk_167 0 4 (dk_at dksX1_has_0 10 rfl rfl)
theorem dX1_has_13 : decode cX1_has 13 = .ok (.iconst 0, 1) := dk_3 (dk_at dksX1_has_0 13 rfl rfl)
theorem dX1_has_14 : decode cX1_has 14 = .ok (.ireturn, 1) := dk_172 (dk_at dksX1_has_0 14 rfl rfl)
abbrev cX1_seen : ByteArray := prog_1_method_27_code
def yX1_seen : MethodName := ⟨RX1, "seen", "(IIII)I"⟩
def dkwX1_seen_2 : List UInt8 := [21, 4, 96, 46, 182, 0, 125, 172]
abbrev dktX1_seen_2 : List UInt8 := dkwX1_seen_2 ++ []
def dkwX1_seen_1 : List UInt8 := [182, 0, 81, 167, 0, 27, 42, 42, 27, 28, 21, 4, 182, 0, 223, 180, 0, 230, 17, 1, 145, 29, 104]
abbrev dktX1_seen_1 : List UInt8 := dkwX1_seen_1 ++ dktX1_seen_2
def dkwX1_seen_0 : List UInt8 := [42, 42, 29, 182, 0, 149, 27, 28, 21, 4, 182, 0, 219, 54, 5, 21, 5, 158, 0, 12, 42, 21, 5]
abbrev dktX1_seen_0 : List UInt8 := dkwX1_seen_0 ++ dktX1_seen_1
theorem dksX1_seen_0 : cX1_seen.data.toList.drop 0 = dktX1_seen_0 := by decide +kernel
theorem dksX1_seen_1 : cX1_seen.data.toList.drop 23 = dktX1_seen_1 := dk_seg dksX1_seen_0 23 rfl rfl
theorem dksX1_seen_2 : cX1_seen.data.toList.drop 46 = dktX1_seen_2 := dk_seg dksX1_seen_1 23 rfl rfl
theorem dX1_seen_0 : decode cX1_seen 0 = .ok (.aload_n 0, 1) := dk_42 (dk_at dksX1_seen_0 0 rfl rfl)
theorem dX1_seen_1 : decode cX1_seen 1 = .ok (.aload_n 0, 1) := dk_42 (dk_at dksX1_seen_0 1 rfl rfl)
theorem dX1_seen_2 : decode cX1_seen 2 = .ok (.iload_n 3, 1) := dk_29 (dk_at dksX1_seen_0 2 rfl rfl)
theorem dX1_seen_3 : decode cX1_seen 3 = .ok (.invokevirtual 149, 3) := dk_182 0 149 (dk_at dksX1_seen_0 3 rfl rfl)
theorem dX1_seen_6 : decode cX1_seen 6 = .ok (.iload_n 1, 1) := dk_27 (dk_at dksX1_seen_0 6 rfl rfl)
theorem dX1_seen_7 : decode cX1_seen 7 = .ok (.iload_n 2, 1) := dk_28 (dk_at dksX1_seen_0 7 rfl rfl)
theorem dX1_seen_8 : decode cX1_seen 8 = .ok (.iload 4, 2) := dk_21 4 (dk_at dksX1_seen_0 8 rfl rfl)
theorem dX1_seen_10 : decode cX1_seen 10 = .ok (.invokevirtual 219, 3) := dk_182 0 219 (dk_at dksX1_seen_0 10 rfl rfl)
theorem dX1_seen_13 : decode cX1_seen 13 = .ok (.istore 5, 2) := dk_54 5 (dk_at dksX1_seen_0 13 rfl rfl)
theorem dX1_seen_15 : decode cX1_seen 15 = .ok (.iload 5, 2) := dk_21 5 (dk_at dksX1_seen_0 15 rfl rfl)
theorem dX1_seen_17 : decode cX1_seen 17 = .ok (.ifCond .le 12, 3) := dk_158 0 12 (dk_at dksX1_seen_0 17 rfl rfl)
theorem dX1_seen_20 : decode cX1_seen 20 = .ok (.aload_n 0, 1) := dk_42 (dk_at dksX1_seen_0 20 rfl rfl)
theorem dX1_seen_21 : decode cX1_seen 21 = .ok (.iload 5, 2) := dk_21 5 (dk_at dksX1_seen_0 21 rfl rfl)
theorem dX1_seen_23 : decode cX1_seen 23 = .ok (.invokevirtual 81, 3) := dk_182 0 81 (dk_at dksX1_seen_1 0 rfl rfl)
theorem dX1_seen_26 : decode cX1_seen 26 = .ok (.goto 27, 3) := dk_167 0 27 (dk_at dksX1_seen_1 3 rfl rfl)
theorem dX1_seen_29 : decode cX1_seen 29 = .ok (.aload_n 0, 1) := dk_42 (dk_at dksX1_seen_1 6 rfl rfl)
theorem dX1_seen_30 : decode cX1_seen 30 = .ok (.aload_n 0, 1) := dk_42 (dk_at dksX1_seen_1 7 rfl rfl)
theorem dX1_seen_31 : decode cX1_seen 31 = .ok (.iload_n 1, 1) := dk_27 (dk_at dksX1_seen_1 8 rfl rfl)
theorem dX1_seen_32 : decode cX1_seen 32 = .ok (.iload_n 2, 1) := dk_28 (dk_at dksX1_seen_1 9 rfl rfl)
theorem dX1_seen_33 : decode cX1_seen 33 = .ok (.iload 4, 2) := dk_21 4 (dk_at dksX1_seen_1 10 rfl rfl)
theorem dX1_seen_35 : decode cX1_seen 35 = .ok (.invokevirtual 223, 3) := dk_182 0 223 (dk_at dksX1_seen_1 12 rfl rfl)
theorem dX1_seen_38 : decode cX1_seen 38 = .ok (.getfield 230, 3) := dk_180 0 230 (dk_at dksX1_seen_1 15 rfl rfl)
theorem dX1_seen_41 : decode cX1_seen 41 = .ok (.sipush 401, 3) := dk_17 1 145 (dk_at dksX1_seen_1 18 rfl rfl)
theorem dX1_seen_44 : decode cX1_seen 44 = .ok (.iload_n 3, 1) := dk_29 (dk_at dksX1_seen_1 21 rfl rfl)
theorem dX1_seen_45 : decode cX1_seen 45 = .ok (.imul, 1) := dk_104 (dk_at dksX1_seen_1 22 rfl rfl)
theorem dX1_seen_46 : decode cX1_seen 46 = .ok (.iload 4, 2) := dk_21 4 (dk_at dksX1_seen_2 0 rfl rfl)
theorem dX1_seen_48 : decode cX1_seen 48 = .ok (.iadd, 1) := dk_96 (dk_at dksX1_seen_2 2 rfl rfl)
theorem dX1_seen_49 : decode cX1_seen 49 = .ok (.iaload, 1) := dk_46 (dk_at dksX1_seen_2 3 rfl rfl)
theorem dX1_seen_50 : decode cX1_seen 50 = .ok (.invokevirtual 125, 3) := dk_182 0 125 (dk_at dksX1_seen_2 4 rfl rfl)
theorem dX1_seen_53 : decode cX1_seen 53 = .ok (.ireturn, 1) := dk_172 (dk_at dksX1_seen_2 7 rfl rfl)
abbrev cX1_taken : ByteArray := prog_1_method_28_code
def yX1_taken : MethodName := ⟨RX1, "taken", "(IIII)I"⟩
def dkwX1_taken_2 : List UInt8 := [21, 4, 96, 46, 182, 0, 125, 172]
abbrev dktX1_taken_2 : List UInt8 := dkwX1_taken_2 ++ []
def dkwX1_taken_1 : List UInt8 := [182, 0, 81, 167, 0, 27, 42, 42, 27, 28, 21, 4, 182, 0, 223, 180, 0, 233, 17, 1, 145, 29, 104]
abbrev dktX1_taken_1 : List UInt8 := dkwX1_taken_1 ++ dktX1_taken_2
def dkwX1_taken_0 : List UInt8 := [42, 42, 29, 182, 0, 149, 27, 28, 21, 4, 182, 0, 219, 54, 5, 21, 5, 158, 0, 12, 42, 21, 5]
abbrev dktX1_taken_0 : List UInt8 := dkwX1_taken_0 ++ dktX1_taken_1
theorem dksX1_taken_0 : cX1_taken.data.toList.drop 0 = dktX1_taken_0 := by decide +kernel
theorem dksX1_taken_1 : cX1_taken.data.toList.drop 23 = dktX1_taken_1 := dk_seg dksX1_taken_0 23 rfl rfl
theorem dksX1_taken_2 : cX1_taken.data.toList.drop 46 = dktX1_taken_2 := dk_seg dksX1_taken_1 23 rfl rfl
theorem dX1_taken_0 : decode cX1_taken 0 = .ok (.aload_n 0, 1) := dk_42 (dk_at dksX1_taken_0 0 rfl rfl)
theorem dX1_taken_1 : decode cX1_taken 1 = .ok (.aload_n 0, 1) := dk_42 (dk_at dksX1_taken_0 1 rfl rfl)
theorem dX1_taken_2 : decode cX1_taken 2 = .ok (.iload_n 3, 1) := dk_29 (dk_at dksX1_taken_0 2 rfl rfl)
theorem dX1_taken_3 : decode cX1_taken 3 = .ok (.invokevirtual 149, 3) := dk_182 0 149 (dk_at dksX1_taken_0 3 rfl rfl)
theorem dX1_taken_6 : decode cX1_taken 6 = .ok (.iload_n 1, 1) := dk_27 (dk_at dksX1_taken_0 6 rfl rfl)
theorem dX1_taken_7 : decode cX1_taken 7 = .ok (.iload_n 2, 1) := dk_28 (dk_at dksX1_taken_0 7 rfl rfl)
theorem dX1_taken_8 : decode cX1_taken 8 = .ok (.iload 4, 2) := dk_21 4 (dk_at dksX1_taken_0 8 rfl rfl)
theorem dX1_taken_10 : decode cX1_taken 10 = .ok (.invokevirtual 219, 3) := dk_182 0 219 (dk_at dksX1_taken_0 10 rfl rfl)
theorem dX1_taken_13 : decode cX1_taken 13 = .ok (.istore 5, 2) := dk_54 5 (dk_at dksX1_taken_0 13 rfl rfl)
theorem dX1_taken_15 : decode cX1_taken 15 = .ok (.iload 5, 2) := dk_21 5 (dk_at dksX1_taken_0 15 rfl rfl)
theorem dX1_taken_17 : decode cX1_taken 17 = .ok (.ifCond .le 12, 3) := dk_158 0 12 (dk_at dksX1_taken_0 17 rfl rfl)
theorem dX1_taken_20 : decode cX1_taken 20 = .ok (.aload_n 0, 1) := dk_42 (dk_at dksX1_taken_0 20 rfl rfl)
theorem dX1_taken_21 : decode cX1_taken 21 = .ok (.iload 5, 2) := dk_21 5 (dk_at dksX1_taken_0 21 rfl rfl)
theorem dX1_taken_23 : decode cX1_taken 23 = .ok (.invokevirtual 81, 3) := dk_182 0 81 (dk_at dksX1_taken_1 0 rfl rfl)
theorem dX1_taken_26 : decode cX1_taken 26 = .ok (.goto 27, 3) := dk_167 0 27 (dk_at dksX1_taken_1 3 rfl rfl)
theorem dX1_taken_29 : decode cX1_taken 29 = .ok (.aload_n 0, 1) := dk_42 (dk_at dksX1_taken_1 6 rfl rfl)
theorem dX1_taken_30 : decode cX1_taken 30 = .ok (.aload_n 0, 1) := dk_42 (dk_at dksX1_taken_1 7 rfl rfl)
theorem dX1_taken_31 : decode cX1_taken 31 = .ok (.iload_n 1, 1) := dk_27 (dk_at dksX1_taken_1 8 rfl rfl)
theorem dX1_taken_32 : decode cX1_taken 32 = .ok (.iload_n 2, 1) := dk_28 (dk_at dksX1_taken_1 9 rfl rfl)
theorem dX1_taken_33 : decode cX1_taken 33 = .ok (.iload 4, 2) := dk_21 4 (dk_at dksX1_taken_1 10 rfl rfl)
theorem dX1_taken_35 : decode cX1_taken 35 = .ok (.invokevirtual 223, 3) := dk_182 0 223 (dk_at dksX1_taken_1 12 rfl rfl)
theorem dX1_taken_38 : decode cX1_taken 38 = .ok (.getfield 233, 3) := dk_180 0 233 (dk_at dksX1_taken_1 15 rfl rfl)
theorem dX1_taken_41 : decode cX1_taken 41 = .ok (.sipush 401, 3) := dk_17 1 145 (dk_at dksX1_taken_1 18 rfl rfl)
theorem dX1_taken_44 : decode cX1_taken 44 = .ok (.iload_n 3, 1) := dk_29 (dk_at dksX1_taken_1 21 rfl rfl)
theorem dX1_taken_45 : decode cX1_taken 45 = .ok (.imul, 1) := dk_104 (dk_at dksX1_taken_1 22 rfl rfl)
theorem dX1_taken_46 : decode cX1_taken 46 = .ok (.iload 4, 2) := dk_21 4 (dk_at dksX1_taken_2 0 rfl rfl)
theorem dX1_taken_48 : decode cX1_taken 48 = .ok (.iadd, 1) := dk_96 (dk_at dksX1_taken_2 2 rfl rfl)
theorem dX1_taken_49 : decode cX1_taken 49 = .ok (.iaload, 1) := dk_46 (dk_at dksX1_taken_2 3 rfl rfl)
theorem dX1_taken_50 : decode cX1_taken 50 = .ok (.invokevirtual 125, 3) := dk_182 0 125 (dk_at dksX1_taken_2 4 rfl rfl)
theorem dX1_taken_53 : decode cX1_taken 53 = .ok (.ireturn, 1) := dk_172 (dk_at dksX1_taken_2 7 rfl rfl)
abbrev cX1_withdrawn : ByteArray := prog_1_method_29_code
def yX1_withdrawn : MethodName := ⟨RX1, "withdrawn", "(IIII)I"⟩
def dkwX1_withdrawn_2 : List UInt8 := [21, 4, 96, 46, 182, 0, 125, 172]
abbrev dktX1_withdrawn_2 : List UInt8 := dkwX1_withdrawn_2 ++ []
def dkwX1_withdrawn_1 : List UInt8 := [182, 0, 81, 167, 0, 27, 42, 42, 27, 28, 21, 4, 182, 0, 223, 180, 0, 236, 17, 1, 145, 29, 104]
abbrev dktX1_withdrawn_1 : List UInt8 := dkwX1_withdrawn_1 ++ dktX1_withdrawn_2
def dkwX1_withdrawn_0 : List UInt8 := [42, 42, 29, 182, 0, 149, 27, 28, 21, 4, 182, 0, 219, 54, 5, 21, 5, 158, 0, 12, 42, 21, 5]
abbrev dktX1_withdrawn_0 : List UInt8 := dkwX1_withdrawn_0 ++ dktX1_withdrawn_1
theorem dksX1_withdrawn_0 : cX1_withdrawn.data.toList.drop 0 = dktX1_withdrawn_0 := by decide +kernel
theorem dksX1_withdrawn_1 : cX1_withdrawn.data.toList.drop 23 = dktX1_withdrawn_1 := dk_seg dksX1_withdrawn_0 23 rfl rfl
theorem dksX1_withdrawn_2 : cX1_withdrawn.data.toList.drop 46 = dktX1_withdrawn_2 := dk_seg dksX1_withdrawn_1 23 rfl rfl
theorem dX1_withdrawn_0 : decode cX1_withdrawn 0 = .ok (.aload_n 0, 1) := dk_42 (dk_at dksX1_withdrawn_0 0 rfl rfl)
theorem dX1_withdrawn_1 : decode cX1_withdrawn 1 = .ok (.aload_n 0, 1) := dk_42 (dk_at dksX1_withdrawn_0 1 rfl rfl)
theorem dX1_withdrawn_2 : decode cX1_withdrawn 2 = .ok (.iload_n 3, 1) := dk_29 (dk_at dksX1_withdrawn_0 2 rfl rfl)
theorem dX1_withdrawn_3 : decode cX1_withdrawn 3 = .ok (.invokevirtual 149, 3) := dk_182 0 149 (dk_at dksX1_withdrawn_0 3 rfl rfl)
theorem dX1_withdrawn_6 : decode cX1_withdrawn 6 = .ok (.iload_n 1, 1) := dk_27 (dk_at dksX1_withdrawn_0 6 rfl rfl)
theorem dX1_withdrawn_7 : decode cX1_withdrawn 7 = .ok (.iload_n 2, 1) := dk_28 (dk_at dksX1_withdrawn_0 7 rfl rfl)
theorem dX1_withdrawn_8 : decode cX1_withdrawn 8 = .ok (.iload 4, 2) := dk_21 4 (dk_at dksX1_withdrawn_0 8 rfl rfl)
theorem dX1_withdrawn_10 : decode cX1_withdrawn 10 = .ok (.invokevirtual 219, 3) := dk_182 0 219 (dk_at dksX1_withdrawn_0 10 rfl rfl)
theorem dX1_withdrawn_13 : decode cX1_withdrawn 13 = .ok (.istore 5, 2) := dk_54 5 (dk_at dksX1_withdrawn_0 13 rfl rfl)
theorem dX1_withdrawn_15 : decode cX1_withdrawn 15 = .ok (.iload 5, 2) := dk_21 5 (dk_at dksX1_withdrawn_0 15 rfl rfl)
theorem dX1_withdrawn_17 : decode cX1_withdrawn 17 = .ok (.ifCond .le 12, 3) := dk_158 0 12 (dk_at dksX1_withdrawn_0 17 rfl rfl)
theorem dX1_withdrawn_20 : decode cX1_withdrawn 20 = .ok (.aload_n 0, 1) := dk_42 (dk_at dksX1_withdrawn_0 20 rfl rfl)
theorem dX1_withdrawn_21 : decode cX1_withdrawn 21 = .ok (.iload 5, 2) := dk_21 5 (dk_at dksX1_withdrawn_0 21 rfl rfl)
theorem dX1_withdrawn_23 : decode cX1_withdrawn 23 = .ok (.invokevirtual 81, 3) := dk_182 0 81 (dk_at dksX1_withdrawn_1 0 rfl rfl)
theorem dX1_withdrawn_26 : decode cX1_withdrawn 26 = .ok (.goto 27, 3) := dk_167 0 27 (dk_at dksX1_withdrawn_1 3 rfl rfl)
theorem dX1_withdrawn_29 : decode cX1_withdrawn 29 = .ok (.aload_n 0, 1) := dk_42 (dk_at dksX1_withdrawn_1 6 rfl rfl)
theorem dX1_withdrawn_30 : decode cX1_withdrawn 30 = .ok (.aload_n 0, 1) := dk_42 (dk_at dksX1_withdrawn_1 7 rfl rfl)
theorem dX1_withdrawn_31 : decode cX1_withdrawn 31 = .ok (.iload_n 1, 1) := dk_27 (dk_at dksX1_withdrawn_1 8 rfl rfl)
theorem dX1_withdrawn_32 : decode cX1_withdrawn 32 = .ok (.iload_n 2, 1) := dk_28 (dk_at dksX1_withdrawn_1 9 rfl rfl)
theorem dX1_withdrawn_33 : decode cX1_withdrawn 33 = .ok (.iload 4, 2) := dk_21 4 (dk_at dksX1_withdrawn_1 10 rfl rfl)
theorem dX1_withdrawn_35 : decode cX1_withdrawn 35 = .ok (.invokevirtual 223, 3) := dk_182 0 223 (dk_at dksX1_withdrawn_1 12 rfl rfl)
theorem dX1_withdrawn_38 : decode cX1_withdrawn 38 = .ok (.getfield 236, 3) := dk_180 0 236 (dk_at dksX1_withdrawn_1 15 rfl rfl)
theorem dX1_withdrawn_41 : decode cX1_withdrawn 41 = .ok (.sipush 401, 3) := dk_17 1 145 (dk_at dksX1_withdrawn_1 18 rfl rfl)
theorem dX1_withdrawn_44 : decode cX1_withdrawn 44 = .ok (.iload_n 3, 1) := dk_29 (dk_at dksX1_withdrawn_1 21 rfl rfl)
theorem dX1_withdrawn_45 : decode cX1_withdrawn 45 = .ok (.imul, 1) := dk_104 (dk_at dksX1_withdrawn_1 22 rfl rfl)
theorem dX1_withdrawn_46 : decode cX1_withdrawn 46 = .ok (.iload 4, 2) := dk_21 4 (dk_at dksX1_withdrawn_2 0 rfl rfl)
theorem dX1_withdrawn_48 : decode cX1_withdrawn 48 = .ok (.iadd, 1) := dk_96 (dk_at dksX1_withdrawn_2 2 rfl rfl)
theorem dX1_withdrawn_49 : decode cX1_withdrawn 49 = .ok (.iaload, 1) := dk_46 (dk_at dksX1_withdrawn_2 3 rfl rfl)
theorem dX1_withdrawn_50 : decode cX1_withdrawn 50 = .ok (.invokevirtual 125, 3) := dk_182 0 125 (dk_at dksX1_withdrawn_2 4 rfl rfl)
theorem dX1_withdrawn_53 : decode cX1_withdrawn 53 = .ok (.ireturn, 1) := dk_172 (dk_at dksX1_withdrawn_2 7 rfl rfl)
abbrev cX1_winners : ByteArray := prog_1_method_30_code
def yX1_winners : MethodName := ⟨RX1, "winners", "(III)I"⟩
def dkwX1_winners_1 : List UInt8 := [42, 42, 27, 28, 29, 182, 0, 223, 29, 182, 0, 239, 182, 0, 125, 172]
abbrev dktX1_winners_1 : List UInt8 := dkwX1_winners_1 ++ []
def dkwX1_winners_0 : List UInt8 := [42, 4, 27, 28, 29, 182, 0, 219, 54, 4, 21, 4, 158, 0, 12, 42, 21, 4, 182, 0, 81, 167, 0, 18]
abbrev dktX1_winners_0 : List UInt8 := dkwX1_winners_0 ++ dktX1_winners_1
theorem dksX1_winners_0 : cX1_winners.data.toList.drop 0 = dktX1_winners_0 := by decide +kernel
theorem dksX1_winners_1 : cX1_winners.data.toList.drop 24 = dktX1_winners_1 := dk_seg dksX1_winners_0 24 rfl rfl
theorem dX1_winners_0 : decode cX1_winners 0 = .ok (.aload_n 0, 1) := dk_42 (dk_at dksX1_winners_0 0 rfl rfl)
theorem dX1_winners_1 : decode cX1_winners 1 = .ok (.iconst 1, 1) := dk_4 (dk_at dksX1_winners_0 1 rfl rfl)
theorem dX1_winners_2 : decode cX1_winners 2 = .ok (.iload_n 1, 1) := dk_27 (dk_at dksX1_winners_0 2 rfl rfl)
theorem dX1_winners_3 : decode cX1_winners 3 = .ok (.iload_n 2, 1) := dk_28 (dk_at dksX1_winners_0 3 rfl rfl)
theorem dX1_winners_4 : decode cX1_winners 4 = .ok (.iload_n 3, 1) := dk_29 (dk_at dksX1_winners_0 4 rfl rfl)
theorem dX1_winners_5 : decode cX1_winners 5 = .ok (.invokevirtual 219, 3) := dk_182 0 219 (dk_at dksX1_winners_0 5 rfl rfl)
theorem dX1_winners_8 : decode cX1_winners 8 = .ok (.istore 4, 2) := dk_54 4 (dk_at dksX1_winners_0 8 rfl rfl)
theorem dX1_winners_10 : decode cX1_winners 10 = .ok (.iload 4, 2) := dk_21 4 (dk_at dksX1_winners_0 10 rfl rfl)
theorem dX1_winners_12 : decode cX1_winners 12 = .ok (.ifCond .le 12, 3) := dk_158 0 12 (dk_at dksX1_winners_0 12 rfl rfl)
theorem dX1_winners_15 : decode cX1_winners 15 = .ok (.aload_n 0, 1) := dk_42 (dk_at dksX1_winners_0 15 rfl rfl)
theorem dX1_winners_16 : decode cX1_winners 16 = .ok (.iload 4, 2) := dk_21 4 (dk_at dksX1_winners_0 16 rfl rfl)
theorem dX1_winners_18 : decode cX1_winners 18 = .ok (.invokevirtual 81, 3) := dk_182 0 81 (dk_at dksX1_winners_0 18 rfl rfl)
theorem dX1_winners_21 : decode cX1_winners 21 = .ok (.goto 18, 3) := dk_167 0 18 (dk_at dksX1_winners_0 21 rfl rfl)
theorem dX1_winners_24 : decode cX1_winners 24 = .ok (.aload_n 0, 1) := dk_42 (dk_at dksX1_winners_1 0 rfl rfl)
theorem dX1_winners_25 : decode cX1_winners 25 = .ok (.aload_n 0, 1) := dk_42 (dk_at dksX1_winners_1 1 rfl rfl)
theorem dX1_winners_26 : decode cX1_winners 26 = .ok (.iload_n 1, 1) := dk_27 (dk_at dksX1_winners_1 2 rfl rfl)
theorem dX1_winners_27 : decode cX1_winners 27 = .ok (.iload_n 2, 1) := dk_28 (dk_at dksX1_winners_1 3 rfl rfl)
theorem dX1_winners_28 : decode cX1_winners 28 = .ok (.iload_n 3, 1) := dk_29 (dk_at dksX1_winners_1 4 rfl rfl)
theorem dX1_winners_29 : decode cX1_winners 29 = .ok (.invokevirtual 223, 3) := dk_182 0 223 (dk_at dksX1_winners_1 5 rfl rfl)
theorem dX1_winners_32 : decode cX1_winners 32 = .ok (.iload_n 3, 1) := dk_29 (dk_at dksX1_winners_1 8 rfl rfl)
theorem dX1_winners_33 : decode cX1_winners 33 = .ok (.invokevirtual 239, 3) := dk_182 0 239 (dk_at dksX1_winners_1 9 rfl rfl)
theorem dX1_winners_36 : decode cX1_winners 36 = .ok (.invokevirtual 125, 3) := dk_182 0 125 (dk_at dksX1_winners_1 12 rfl rfl)
theorem dX1_winners_39 : decode cX1_winners 39 = .ok (.ireturn, 1) := dk_172 (dk_at dksX1_winners_1 15 rfl rfl)
abbrev cX1_settles : ByteArray := prog_1_method_31_code
def yX1_settles : MethodName := ⟨RX1, "settles", "(II)I"⟩
def dkwX1_settles_1 : List UInt8 := [28, 17, 1, 144, 182, 0, 223, 182, 0, 242, 182, 0, 125, 172]
abbrev dktX1_settles_1 : List UInt8 := dkwX1_settles_1 ++ []
def dkwX1_settles_0 : List UInt8 := [42, 4, 27, 28, 3, 182, 0, 219, 62, 29, 158, 0, 11, 42, 29, 182, 0, 81, 167, 0, 19, 42, 42, 27]
abbrev dktX1_settles_0 : List UInt8 := dkwX1_settles_0 ++ dktX1_settles_1
theorem dksX1_settles_0 : cX1_settles.data.toList.drop 0 = dktX1_settles_0 := by decide +kernel
theorem dksX1_settles_1 : cX1_settles.data.toList.drop 24 = dktX1_settles_1 := dk_seg dksX1_settles_0 24 rfl rfl
theorem dX1_settles_0 : decode cX1_settles 0 = .ok (.aload_n 0, 1) := dk_42 (dk_at dksX1_settles_0 0 rfl rfl)
theorem dX1_settles_1 : decode cX1_settles 1 = .ok (.iconst 1, 1) := dk_4 (dk_at dksX1_settles_0 1 rfl rfl)
theorem dX1_settles_2 : decode cX1_settles 2 = .ok (.iload_n 1, 1) := dk_27 (dk_at dksX1_settles_0 2 rfl rfl)
theorem dX1_settles_3 : decode cX1_settles 3 = .ok (.iload_n 2, 1) := dk_28 (dk_at dksX1_settles_0 3 rfl rfl)
theorem dX1_settles_4 : decode cX1_settles 4 = .ok (.iconst 0, 1) := dk_3 (dk_at dksX1_settles_0 4 rfl rfl)
theorem dX1_settles_5 : decode cX1_settles 5 = .ok (.invokevirtual 219, 3) := dk_182 0 219 (dk_at dksX1_settles_0 5 rfl rfl)
theorem dX1_settles_8 : decode cX1_settles 8 = .ok (.istore_n 3, 1) := dk_62 (dk_at dksX1_settles_0 8 rfl rfl)
theorem dX1_settles_9 : decode cX1_settles 9 = .ok (.iload_n 3, 1) := dk_29 (dk_at dksX1_settles_0 9 rfl rfl)
theorem dX1_settles_10 : decode cX1_settles 10 = .ok (.ifCond .le 11, 3) := dk_158 0 11 (dk_at dksX1_settles_0 10 rfl rfl)
theorem dX1_settles_13 : decode cX1_settles 13 = .ok (.aload_n 0, 1) := dk_42 (dk_at dksX1_settles_0 13 rfl rfl)
theorem dX1_settles_14 : decode cX1_settles 14 = .ok (.iload_n 3, 1) := dk_29 (dk_at dksX1_settles_0 14 rfl rfl)
theorem dX1_settles_15 : decode cX1_settles 15 = .ok (.invokevirtual 81, 3) := dk_182 0 81 (dk_at dksX1_settles_0 15 rfl rfl)
theorem dX1_settles_18 : decode cX1_settles 18 = .ok (.goto 19, 3) := dk_167 0 19 (dk_at dksX1_settles_0 18 rfl rfl)
theorem dX1_settles_21 : decode cX1_settles 21 = .ok (.aload_n 0, 1) := dk_42 (dk_at dksX1_settles_0 21 rfl rfl)
theorem dX1_settles_22 : decode cX1_settles 22 = .ok (.aload_n 0, 1) := dk_42 (dk_at dksX1_settles_0 22 rfl rfl)
theorem dX1_settles_23 : decode cX1_settles 23 = .ok (.iload_n 1, 1) := dk_27 (dk_at dksX1_settles_0 23 rfl rfl)
theorem dX1_settles_24 : decode cX1_settles 24 = .ok (.iload_n 2, 1) := dk_28 (dk_at dksX1_settles_1 0 rfl rfl)
theorem dX1_settles_25 : decode cX1_settles 25 = .ok (.sipush 400, 3) := dk_17 1 144 (dk_at dksX1_settles_1 1 rfl rfl)
theorem dX1_settles_28 : decode cX1_settles 28 = .ok (.invokevirtual 223, 3) := dk_182 0 223 (dk_at dksX1_settles_1 4 rfl rfl)
theorem dX1_settles_31 : decode cX1_settles 31 = .ok (.invokevirtual 242, 3) := dk_182 0 242 (dk_at dksX1_settles_1 7 rfl rfl)
theorem dX1_settles_34 : decode cX1_settles 34 = .ok (.invokevirtual 125, 3) := dk_182 0 125 (dk_at dksX1_settles_1 10 rfl rfl)
theorem dX1_settles_37 : decode cX1_settles 37 = .ok (.ireturn, 1) := dk_172 (dk_at dksX1_settles_1 13 rfl rfl)
abbrev cX1_sure : ByteArray := prog_1_method_32_code
def yX1_sure : MethodName := ⟨RX1, "sure", "(II)I"⟩
def dkwX1_sure_1 : List UInt8 := [28, 17, 1, 144, 182, 0, 223, 182, 0, 245, 182, 0, 125, 172]
abbrev dktX1_sure_1 : List UInt8 := dkwX1_sure_1 ++ []
def dkwX1_sure_0 : List UInt8 := [42, 4, 27, 28, 3, 182, 0, 219, 62, 29, 158, 0, 11, 42, 29, 182, 0, 81, 167, 0, 19, 42, 42, 27]
abbrev dktX1_sure_0 : List UInt8 := dkwX1_sure_0 ++ dktX1_sure_1
theorem dksX1_sure_0 : cX1_sure.data.toList.drop 0 = dktX1_sure_0 := by decide +kernel
theorem dksX1_sure_1 : cX1_sure.data.toList.drop 24 = dktX1_sure_1 := dk_seg dksX1_sure_0 24 rfl rfl
theorem dX1_sure_0 : decode cX1_sure 0 = .ok (.aload_n 0, 1) := dk_42 (dk_at dksX1_sure_0 0 rfl rfl)
theorem dX1_sure_1 : decode cX1_sure 1 = .ok (.iconst 1, 1) := dk_4 (dk_at dksX1_sure_0 1 rfl rfl)
theorem dX1_sure_2 : decode cX1_sure 2 = .ok (.iload_n 1, 1) := dk_27 (dk_at dksX1_sure_0 2 rfl rfl)
theorem dX1_sure_3 : decode cX1_sure 3 = .ok (.iload_n 2, 1) := dk_28 (dk_at dksX1_sure_0 3 rfl rfl)
theorem dX1_sure_4 : decode cX1_sure 4 = .ok (.iconst 0, 1) := dk_3 (dk_at dksX1_sure_0 4 rfl rfl)
theorem dX1_sure_5 : decode cX1_sure 5 = .ok (.invokevirtual 219, 3) := dk_182 0 219 (dk_at dksX1_sure_0 5 rfl rfl)
theorem dX1_sure_8 : decode cX1_sure 8 = .ok (.istore_n 3, 1) := dk_62 (dk_at dksX1_sure_0 8 rfl rfl)
theorem dX1_sure_9 : decode cX1_sure 9 = .ok (.iload_n 3, 1) := dk_29 (dk_at dksX1_sure_0 9 rfl rfl)
theorem dX1_sure_10 : decode cX1_sure 10 = .ok (.ifCond .le 11, 3) := dk_158 0 11 (dk_at dksX1_sure_0 10 rfl rfl)
theorem dX1_sure_13 : decode cX1_sure 13 = .ok (.aload_n 0, 1) := dk_42 (dk_at dksX1_sure_0 13 rfl rfl)
theorem dX1_sure_14 : decode cX1_sure 14 = .ok (.iload_n 3, 1) := dk_29 (dk_at dksX1_sure_0 14 rfl rfl)
theorem dX1_sure_15 : decode cX1_sure 15 = .ok (.invokevirtual 81, 3) := dk_182 0 81 (dk_at dksX1_sure_0 15 rfl rfl)
theorem dX1_sure_18 : decode cX1_sure 18 = .ok (.goto 19, 3) := dk_167 0 19 (dk_at dksX1_sure_0 18 rfl rfl)
theorem dX1_sure_21 : decode cX1_sure 21 = .ok (.aload_n 0, 1) := dk_42 (dk_at dksX1_sure_0 21 rfl rfl)
theorem dX1_sure_22 : decode cX1_sure 22 = .ok (.aload_n 0, 1) := dk_42 (dk_at dksX1_sure_0 22 rfl rfl)
theorem dX1_sure_23 : decode cX1_sure 23 = .ok (.iload_n 1, 1) := dk_27 (dk_at dksX1_sure_0 23 rfl rfl)
theorem dX1_sure_24 : decode cX1_sure 24 = .ok (.iload_n 2, 1) := dk_28 (dk_at dksX1_sure_1 0 rfl rfl)
theorem dX1_sure_25 : decode cX1_sure 25 = .ok (.sipush 400, 3) := dk_17 1 144 (dk_at dksX1_sure_1 1 rfl rfl)
theorem dX1_sure_28 : decode cX1_sure 28 = .ok (.invokevirtual 223, 3) := dk_182 0 223 (dk_at dksX1_sure_1 4 rfl rfl)
theorem dX1_sure_31 : decode cX1_sure 31 = .ok (.invokevirtual 245, 3) := dk_182 0 245 (dk_at dksX1_sure_1 7 rfl rfl)
theorem dX1_sure_34 : decode cX1_sure 34 = .ok (.invokevirtual 125, 3) := dk_182 0 125 (dk_at dksX1_sure_1 10 rfl rfl)
theorem dX1_sure_37 : decode cX1_sure 37 = .ok (.ireturn, 1) := dk_172 (dk_at dksX1_sure_1 13 rfl rfl)
abbrev cX1_right : ByteArray := prog_1_method_33_code
def yX1_right : MethodName := ⟨RX1, "right", "(II)I"⟩
def dkwX1_right_1 : List UInt8 := [28, 3, 182, 0, 223, 182, 0, 248, 182, 0, 125, 172]
abbrev dktX1_right_1 : List UInt8 := dkwX1_right_1 ++ []
def dkwX1_right_0 : List UInt8 := [42, 4, 27, 28, 3, 182, 0, 219, 62, 29, 158, 0, 11, 42, 29, 182, 0, 81, 167, 0, 17, 42, 42, 27]
abbrev dktX1_right_0 : List UInt8 := dkwX1_right_0 ++ dktX1_right_1
theorem dksX1_right_0 : cX1_right.data.toList.drop 0 = dktX1_right_0 := by decide +kernel
theorem dksX1_right_1 : cX1_right.data.toList.drop 24 = dktX1_right_1 := dk_seg dksX1_right_0 24 rfl rfl
theorem dX1_right_0 : decode cX1_right 0 = .ok (.aload_n 0, 1) := dk_42 (dk_at dksX1_right_0 0 rfl rfl)
theorem dX1_right_1 : decode cX1_right 1 = .ok (.iconst 1, 1) := dk_4 (dk_at dksX1_right_0 1 rfl rfl)
theorem dX1_right_2 : decode cX1_right 2 = .ok (.iload_n 1, 1) := dk_27 (dk_at dksX1_right_0 2 rfl rfl)
theorem dX1_right_3 : decode cX1_right 3 = .ok (.iload_n 2, 1) := dk_28 (dk_at dksX1_right_0 3 rfl rfl)
theorem dX1_right_4 : decode cX1_right 4 = .ok (.iconst 0, 1) := dk_3 (dk_at dksX1_right_0 4 rfl rfl)
theorem dX1_right_5 : decode cX1_right 5 = .ok (.invokevirtual 219, 3) := dk_182 0 219 (dk_at dksX1_right_0 5 rfl rfl)
theorem dX1_right_8 : decode cX1_right 8 = .ok (.istore_n 3, 1) := dk_62 (dk_at dksX1_right_0 8 rfl rfl)
theorem dX1_right_9 : decode cX1_right 9 = .ok (.iload_n 3, 1) := dk_29 (dk_at dksX1_right_0 9 rfl rfl)
theorem dX1_right_10 : decode cX1_right 10 = .ok (.ifCond .le 11, 3) := dk_158 0 11 (dk_at dksX1_right_0 10 rfl rfl)
theorem dX1_right_13 : decode cX1_right 13 = .ok (.aload_n 0, 1) := dk_42 (dk_at dksX1_right_0 13 rfl rfl)
theorem dX1_right_14 : decode cX1_right 14 = .ok (.iload_n 3, 1) := dk_29 (dk_at dksX1_right_0 14 rfl rfl)
theorem dX1_right_15 : decode cX1_right 15 = .ok (.invokevirtual 81, 3) := dk_182 0 81 (dk_at dksX1_right_0 15 rfl rfl)
theorem dX1_right_18 : decode cX1_right 18 = .ok (.goto 17, 3) := dk_167 0 17 (dk_at dksX1_right_0 18 rfl rfl)
theorem dX1_right_21 : decode cX1_right 21 = .ok (.aload_n 0, 1) := dk_42 (dk_at dksX1_right_0 21 rfl rfl)
theorem dX1_right_22 : decode cX1_right 22 = .ok (.aload_n 0, 1) := dk_42 (dk_at dksX1_right_0 22 rfl rfl)
theorem dX1_right_23 : decode cX1_right 23 = .ok (.iload_n 1, 1) := dk_27 (dk_at dksX1_right_0 23 rfl rfl)
theorem dX1_right_24 : decode cX1_right 24 = .ok (.iload_n 2, 1) := dk_28 (dk_at dksX1_right_1 0 rfl rfl)
theorem dX1_right_25 : decode cX1_right 25 = .ok (.iconst 0, 1) := dk_3 (dk_at dksX1_right_1 1 rfl rfl)
theorem dX1_right_26 : decode cX1_right 26 = .ok (.invokevirtual 223, 3) := dk_182 0 223 (dk_at dksX1_right_1 2 rfl rfl)
theorem dX1_right_29 : decode cX1_right 29 = .ok (.invokevirtual 248, 3) := dk_182 0 248 (dk_at dksX1_right_1 5 rfl rfl)
theorem dX1_right_32 : decode cX1_right 32 = .ok (.invokevirtual 125, 3) := dk_182 0 125 (dk_at dksX1_right_1 8 rfl rfl)
theorem dX1_right_35 : decode cX1_right 35 = .ok (.ireturn, 1) := dk_172 (dk_at dksX1_right_1 11 rfl rfl)
abbrev cX1_dips : ByteArray := prog_1_method_34_code
def yX1_dips : MethodName := ⟨RX1, "dips", "(II)I"⟩
def dkwX1_dips_1 : List UInt8 := [28, 17, 1, 144, 182, 0, 223, 180, 0, 251, 182, 0, 125, 172]
abbrev dktX1_dips_1 : List UInt8 := dkwX1_dips_1 ++ []
def dkwX1_dips_0 : List UInt8 := [42, 4, 27, 28, 3, 182, 0, 219, 62, 29, 158, 0, 11, 42, 29, 182, 0, 81, 167, 0, 19, 42, 42, 27]
abbrev dktX1_dips_0 : List UInt8 := dkwX1_dips_0 ++ dktX1_dips_1
theorem dksX1_dips_0 : cX1_dips.data.toList.drop 0 = dktX1_dips_0 := by decide +kernel
theorem dksX1_dips_1 : cX1_dips.data.toList.drop 24 = dktX1_dips_1 := dk_seg dksX1_dips_0 24 rfl rfl
theorem dX1_dips_0 : decode cX1_dips 0 = .ok (.aload_n 0, 1) := dk_42 (dk_at dksX1_dips_0 0 rfl rfl)
theorem dX1_dips_1 : decode cX1_dips 1 = .ok (.iconst 1, 1) := dk_4 (dk_at dksX1_dips_0 1 rfl rfl)
theorem dX1_dips_2 : decode cX1_dips 2 = .ok (.iload_n 1, 1) := dk_27 (dk_at dksX1_dips_0 2 rfl rfl)
theorem dX1_dips_3 : decode cX1_dips 3 = .ok (.iload_n 2, 1) := dk_28 (dk_at dksX1_dips_0 3 rfl rfl)
theorem dX1_dips_4 : decode cX1_dips 4 = .ok (.iconst 0, 1) := dk_3 (dk_at dksX1_dips_0 4 rfl rfl)
theorem dX1_dips_5 : decode cX1_dips 5 = .ok (.invokevirtual 219, 3) := dk_182 0 219 (dk_at dksX1_dips_0 5 rfl rfl)
theorem dX1_dips_8 : decode cX1_dips 8 = .ok (.istore_n 3, 1) := dk_62 (dk_at dksX1_dips_0 8 rfl rfl)
theorem dX1_dips_9 : decode cX1_dips 9 = .ok (.iload_n 3, 1) := dk_29 (dk_at dksX1_dips_0 9 rfl rfl)
theorem dX1_dips_10 : decode cX1_dips 10 = .ok (.ifCond .le 11, 3) := dk_158 0 11 (dk_at dksX1_dips_0 10 rfl rfl)
theorem dX1_dips_13 : decode cX1_dips 13 = .ok (.aload_n 0, 1) := dk_42 (dk_at dksX1_dips_0 13 rfl rfl)
theorem dX1_dips_14 : decode cX1_dips 14 = .ok (.iload_n 3, 1) := dk_29 (dk_at dksX1_dips_0 14 rfl rfl)
theorem dX1_dips_15 : decode cX1_dips 15 = .ok (.invokevirtual 81, 3) := dk_182 0 81 (dk_at dksX1_dips_0 15 rfl rfl)
theorem dX1_dips_18 : decode cX1_dips 18 = .ok (.goto 19, 3) := dk_167 0 19 (dk_at dksX1_dips_0 18 rfl rfl)
theorem dX1_dips_21 : decode cX1_dips 21 = .ok (.aload_n 0, 1) := dk_42 (dk_at dksX1_dips_0 21 rfl rfl)
theorem dX1_dips_22 : decode cX1_dips 22 = .ok (.aload_n 0, 1) := dk_42 (dk_at dksX1_dips_0 22 rfl rfl)
theorem dX1_dips_23 : decode cX1_dips 23 = .ok (.iload_n 1, 1) := dk_27 (dk_at dksX1_dips_0 23 rfl rfl)
theorem dX1_dips_24 : decode cX1_dips 24 = .ok (.iload_n 2, 1) := dk_28 (dk_at dksX1_dips_1 0 rfl rfl)
theorem dX1_dips_25 : decode cX1_dips 25 = .ok (.sipush 400, 3) := dk_17 1 144 (dk_at dksX1_dips_1 1 rfl rfl)
theorem dX1_dips_28 : decode cX1_dips 28 = .ok (.invokevirtual 223, 3) := dk_182 0 223 (dk_at dksX1_dips_1 4 rfl rfl)
theorem dX1_dips_31 : decode cX1_dips 31 = .ok (.getfield 251, 3) := dk_180 0 251 (dk_at dksX1_dips_1 7 rfl rfl)
theorem dX1_dips_34 : decode cX1_dips 34 = .ok (.invokevirtual 125, 3) := dk_182 0 125 (dk_at dksX1_dips_1 10 rfl rfl)
theorem dX1_dips_37 : decode cX1_dips 37 = .ok (.ireturn, 1) := dk_172 (dk_at dksX1_dips_1 13 rfl rfl)
abbrev cX1_faulty : ByteArray := prog_1_method_35_code
def yX1_faulty : MethodName := ⟨RX1, "faulty", "(III)I"⟩
def dkwX1_faulty_1 : List UInt8 := [42, 42, 27, 28, 29, 182, 0, 223, 29, 182, 0, 254, 153, 0, 7, 4, 167, 0, 4, 3, 182, 0, 125, 172]
abbrev dktX1_faulty_1 : List UInt8 := dkwX1_faulty_1 ++ []
def dkwX1_faulty_0 : List UInt8 := [42, 4, 27, 28, 29, 182, 0, 219, 54, 4, 21, 4, 158, 0, 12, 42, 21, 4, 182, 0, 81, 167, 0, 26]
abbrev dktX1_faulty_0 : List UInt8 := dkwX1_faulty_0 ++ dktX1_faulty_1
theorem dksX1_faulty_0 : cX1_faulty.data.toList.drop 0 = dktX1_faulty_0 := by decide +kernel
theorem dksX1_faulty_1 : cX1_faulty.data.toList.drop 24 = dktX1_faulty_1 := dk_seg dksX1_faulty_0 24 rfl rfl
theorem dX1_faulty_0 : decode cX1_faulty 0 = .ok (.aload_n 0, 1) := dk_42 (dk_at dksX1_faulty_0 0 rfl rfl)
theorem dX1_faulty_1 : decode cX1_faulty 1 = .ok (.iconst 1, 1) := dk_4 (dk_at dksX1_faulty_0 1 rfl rfl)
theorem dX1_faulty_2 : decode cX1_faulty 2 = .ok (.iload_n 1, 1) := dk_27 (dk_at dksX1_faulty_0 2 rfl rfl)
theorem dX1_faulty_3 : decode cX1_faulty 3 = .ok (.iload_n 2, 1) := dk_28 (dk_at dksX1_faulty_0 3 rfl rfl)
theorem dX1_faulty_4 : decode cX1_faulty 4 = .ok (.iload_n 3, 1) := dk_29 (dk_at dksX1_faulty_0 4 rfl rfl)
theorem dX1_faulty_5 : decode cX1_faulty 5 = .ok (.invokevirtual 219, 3) := dk_182 0 219 (dk_at dksX1_faulty_0 5 rfl rfl)
theorem dX1_faulty_8 : decode cX1_faulty 8 = .ok (.istore 4, 2) := dk_54 4 (dk_at dksX1_faulty_0 8 rfl rfl)
theorem dX1_faulty_10 : decode cX1_faulty 10 = .ok (.iload 4, 2) := dk_21 4 (dk_at dksX1_faulty_0 10 rfl rfl)
theorem dX1_faulty_12 : decode cX1_faulty 12 = .ok (.ifCond .le 12, 3) := dk_158 0 12 (dk_at dksX1_faulty_0 12 rfl rfl)
theorem dX1_faulty_15 : decode cX1_faulty 15 = .ok (.aload_n 0, 1) := dk_42 (dk_at dksX1_faulty_0 15 rfl rfl)
theorem dX1_faulty_16 : decode cX1_faulty 16 = .ok (.iload 4, 2) := dk_21 4 (dk_at dksX1_faulty_0 16 rfl rfl)
theorem dX1_faulty_18 : decode cX1_faulty 18 = .ok (.invokevirtual 81, 3) := dk_182 0 81 (dk_at dksX1_faulty_0 18 rfl rfl)
theorem dX1_faulty_21 : decode cX1_faulty 21 = .ok (.goto 26, 3) := dk_167 0 26 (dk_at dksX1_faulty_0 21 rfl rfl)
theorem dX1_faulty_24 : decode cX1_faulty 24 = .ok (.aload_n 0, 1) := dk_42 (dk_at dksX1_faulty_1 0 rfl rfl)
theorem dX1_faulty_25 : decode cX1_faulty 25 = .ok (.aload_n 0, 1) := dk_42 (dk_at dksX1_faulty_1 1 rfl rfl)
theorem dX1_faulty_26 : decode cX1_faulty 26 = .ok (.iload_n 1, 1) := dk_27 (dk_at dksX1_faulty_1 2 rfl rfl)
theorem dX1_faulty_27 : decode cX1_faulty 27 = .ok (.iload_n 2, 1) := dk_28 (dk_at dksX1_faulty_1 3 rfl rfl)
theorem dX1_faulty_28 : decode cX1_faulty 28 = .ok (.iload_n 3, 1) := dk_29 (dk_at dksX1_faulty_1 4 rfl rfl)
theorem dX1_faulty_29 : decode cX1_faulty 29 = .ok (.invokevirtual 223, 3) := dk_182 0 223 (dk_at dksX1_faulty_1 5 rfl rfl)
theorem dX1_faulty_32 : decode cX1_faulty 32 = .ok (.iload_n 3, 1) := dk_29 (dk_at dksX1_faulty_1 8 rfl rfl)
theorem dX1_faulty_33 : decode cX1_faulty 33 = .ok (.invokevirtual 254, 3) := dk_182 0 254 (dk_at dksX1_faulty_1 9 rfl rfl)
theorem dX1_faulty_36 : decode cX1_faulty 36 = .ok (.ifCond .eq 7, 3) := dk_153 0 7 (dk_at dksX1_faulty_1 12 rfl rfl)
theorem dX1_faulty_39 : decode cX1_faulty 39 = .ok (.iconst 1, 1) := dk_4 (dk_at dksX1_faulty_1 15 rfl rfl)
theorem dX1_faulty_40 : decode cX1_faulty 40 = .ok (.goto 4, 3) := dk_167 0 4 (dk_at dksX1_faulty_1 16 rfl rfl)
theorem dX1_faulty_43 : decode cX1_faulty 43 = .ok (.iconst 0, 1) := dk_3 (dk_at dksX1_faulty_1 19 rfl rfl)
theorem dX1_faulty_44 : decode cX1_faulty 44 = .ok (.invokevirtual 125, 3) := dk_182 0 125 (dk_at dksX1_faulty_1 20 rfl rfl)
theorem dX1_faulty_47 : decode cX1_faulty 47 = .ok (.ireturn, 1) := dk_172 (dk_at dksX1_faulty_1 23 rfl rfl)
abbrev cX1_edges : ByteArray := prog_1_method_36_code
def yX1_edges : MethodName := ⟨RX1, "edges", "(IIII)I"⟩
def dkwX1_edges_2 : List UInt8 := [27, 28, 17, 1, 144, 182, 0, 223, 29, 21, 4, 182, 1, 1, 182, 0, 125, 172]
abbrev dktX1_edges_2 : List UInt8 := dkwX1_edges_2 ++ []
def dkwX1_edges_1 : List UInt8 := [27, 28, 3, 182, 0, 219, 54, 5, 21, 5, 158, 0, 12, 42, 21, 5, 182, 0, 81, 167, 0, 22, 42, 42]
abbrev dktX1_edges_1 : List UInt8 := dkwX1_edges_1 ++ dktX1_edges_2
def dkwX1_edges_0 : List UInt8 := [42, 42, 29, 182, 0, 149, 153, 0, 17, 21, 4, 3, 8, 184, 0, 77, 153, 0, 7, 4, 167, 0, 4, 3]
abbrev dktX1_edges_0 : List UInt8 := dkwX1_edges_0 ++ dktX1_edges_1
theorem dksX1_edges_0 : cX1_edges.data.toList.drop 0 = dktX1_edges_0 := by decide +kernel
theorem dksX1_edges_1 : cX1_edges.data.toList.drop 24 = dktX1_edges_1 := dk_seg dksX1_edges_0 24 rfl rfl
theorem dksX1_edges_2 : cX1_edges.data.toList.drop 48 = dktX1_edges_2 := dk_seg dksX1_edges_1 24 rfl rfl
theorem dX1_edges_0 : decode cX1_edges 0 = .ok (.aload_n 0, 1) := dk_42 (dk_at dksX1_edges_0 0 rfl rfl)
theorem dX1_edges_1 : decode cX1_edges 1 = .ok (.aload_n 0, 1) := dk_42 (dk_at dksX1_edges_0 1 rfl rfl)
theorem dX1_edges_2 : decode cX1_edges 2 = .ok (.iload_n 3, 1) := dk_29 (dk_at dksX1_edges_0 2 rfl rfl)
theorem dX1_edges_3 : decode cX1_edges 3 = .ok (.invokevirtual 149, 3) := dk_182 0 149 (dk_at dksX1_edges_0 3 rfl rfl)
theorem dX1_edges_6 : decode cX1_edges 6 = .ok (.ifCond .eq 17, 3) := dk_153 0 17 (dk_at dksX1_edges_0 6 rfl rfl)
theorem dX1_edges_9 : decode cX1_edges 9 = .ok (.iload 4, 2) := dk_21 4 (dk_at dksX1_edges_0 9 rfl rfl)
theorem dX1_edges_11 : decode cX1_edges 11 = .ok (.iconst 0, 1) := dk_3 (dk_at dksX1_edges_0 11 rfl rfl)
theorem dX1_edges_12 : decode cX1_edges 12 = .ok (.iconst 5, 1) := dk_8 (dk_at dksX1_edges_0 12 rfl rfl)
theorem dX1_edges_13 : decode cX1_edges 13 = .ok (.invokestatic 77, 3) := dk_184 0 77 (dk_at dksX1_edges_0 13 rfl rfl)
theorem dX1_edges_16 : decode cX1_edges 16 = .ok (.ifCond .eq 7, 3) := dk_153 0 7 (dk_at dksX1_edges_0 16 rfl rfl)
theorem dX1_edges_19 : decode cX1_edges 19 = .ok (.iconst 1, 1) := dk_4 (dk_at dksX1_edges_0 19 rfl rfl)
theorem dX1_edges_20 : decode cX1_edges 20 = .ok (.goto 4, 3) := dk_167 0 4 (dk_at dksX1_edges_0 20 rfl rfl)
theorem dX1_edges_23 : decode cX1_edges 23 = .ok (.iconst 0, 1) := dk_3 (dk_at dksX1_edges_0 23 rfl rfl)
theorem dX1_edges_24 : decode cX1_edges 24 = .ok (.iload_n 1, 1) := dk_27 (dk_at dksX1_edges_1 0 rfl rfl)
theorem dX1_edges_25 : decode cX1_edges 25 = .ok (.iload_n 2, 1) := dk_28 (dk_at dksX1_edges_1 1 rfl rfl)
theorem dX1_edges_26 : decode cX1_edges 26 = .ok (.iconst 0, 1) := dk_3 (dk_at dksX1_edges_1 2 rfl rfl)
theorem dX1_edges_27 : decode cX1_edges 27 = .ok (.invokevirtual 219, 3) := dk_182 0 219 (dk_at dksX1_edges_1 3 rfl rfl)
theorem dX1_edges_30 : decode cX1_edges 30 = .ok (.istore 5, 2) := dk_54 5 (dk_at dksX1_edges_1 6 rfl rfl)
theorem dX1_edges_32 : decode cX1_edges 32 = .ok (.iload 5, 2) := dk_21 5 (dk_at dksX1_edges_1 8 rfl rfl)
theorem dX1_edges_34 : decode cX1_edges 34 = .ok (.ifCond .le 12, 3) := dk_158 0 12 (dk_at dksX1_edges_1 10 rfl rfl)
theorem dX1_edges_37 : decode cX1_edges 37 = .ok (.aload_n 0, 1) := dk_42 (dk_at dksX1_edges_1 13 rfl rfl)
theorem dX1_edges_38 : decode cX1_edges 38 = .ok (.iload 5, 2) := dk_21 5 (dk_at dksX1_edges_1 14 rfl rfl)
theorem dX1_edges_40 : decode cX1_edges 40 = .ok (.invokevirtual 81, 3) := dk_182 0 81 (dk_at dksX1_edges_1 16 rfl rfl)
theorem dX1_edges_43 : decode cX1_edges 43 = .ok (.goto 22, 3) := dk_167 0 22 (dk_at dksX1_edges_1 19 rfl rfl)
theorem dX1_edges_46 : decode cX1_edges 46 = .ok (.aload_n 0, 1) := dk_42 (dk_at dksX1_edges_1 22 rfl rfl)
theorem dX1_edges_47 : decode cX1_edges 47 = .ok (.aload_n 0, 1) := dk_42 (dk_at dksX1_edges_1 23 rfl rfl)
theorem dX1_edges_48 : decode cX1_edges 48 = .ok (.iload_n 1, 1) := dk_27 (dk_at dksX1_edges_2 0 rfl rfl)
theorem dX1_edges_49 : decode cX1_edges 49 = .ok (.iload_n 2, 1) := dk_28 (dk_at dksX1_edges_2 1 rfl rfl)
theorem dX1_edges_50 : decode cX1_edges 50 = .ok (.sipush 400, 3) := dk_17 1 144 (dk_at dksX1_edges_2 2 rfl rfl)
theorem dX1_edges_53 : decode cX1_edges 53 = .ok (.invokevirtual 223, 3) := dk_182 0 223 (dk_at dksX1_edges_2 5 rfl rfl)
theorem dX1_edges_56 : decode cX1_edges 56 = .ok (.iload_n 3, 1) := dk_29 (dk_at dksX1_edges_2 8 rfl rfl)
theorem dX1_edges_57 : decode cX1_edges 57 = .ok (.iload 4, 2) := dk_21 4 (dk_at dksX1_edges_2 9 rfl rfl)
theorem dX1_edges_59 : decode cX1_edges 59 = .ok (.invokevirtual 257, 3) := dk_182 1 1 (dk_at dksX1_edges_2 11 rfl rfl)
theorem dX1_edges_62 : decode cX1_edges 62 = .ok (.invokevirtual 125, 3) := dk_182 0 125 (dk_at dksX1_edges_2 14 rfl rfl)
theorem dX1_edges_65 : decode cX1_edges 65 = .ok (.ireturn, 1) := dk_172 (dk_at dksX1_edges_2 17 rfl rfl)
abbrev cX1_filters : ByteArray := prog_1_method_37_code
def yX1_filters : MethodName := ⟨RX1, "filters", "(II)I"⟩
def dkwX1_filters_4 : List UInt8 := [132, 4, 1, 167, 255, 186, 42, 16, 254, 182, 0, 125, 172]
abbrev dktX1_filters_4 : List UInt8 := dkwX1_filters_4 ++ []
def dkwX1_filters_3 : List UInt8 := [159, 0, 22, 21, 5, 42, 180, 0, 96, 180, 0, 134, 163, 0, 10, 42, 21, 4, 182, 0, 125, 172]
abbrev dktX1_filters_3 : List UInt8 := dkwX1_filters_3 ++ dktX1_filters_4
def dkwX1_filters_2 : List UInt8 := [180, 0, 57, 180, 0, 212, 17, 1, 144, 21, 4, 182, 1, 5, 182, 0, 245, 54, 5, 21, 5, 16, 254]
abbrev dktX1_filters_2 : List UInt8 := dkwX1_filters_2 ++ dktX1_filters_3
def dkwX1_filters_1 : List UInt8 := [54, 4, 21, 4, 16, 20, 163, 0, 69, 42, 180, 0, 48, 42, 180, 0, 96, 28, 42, 27, 182, 0, 193, 42]
abbrev dktX1_filters_1 : List UInt8 := dkwX1_filters_1 ++ dktX1_filters_2
def dkwX1_filters_0 : List UInt8 := [42, 4, 27, 28, 3, 182, 0, 219, 62, 29, 158, 0, 9, 42, 29, 182, 0, 81, 172, 42, 182, 0, 112, 3]
abbrev dktX1_filters_0 : List UInt8 := dkwX1_filters_0 ++ dktX1_filters_1
theorem dksX1_filters_0 : cX1_filters.data.toList.drop 0 = dktX1_filters_0 := by decide +kernel
theorem dksX1_filters_1 : cX1_filters.data.toList.drop 24 = dktX1_filters_1 := dk_seg dksX1_filters_0 24 rfl rfl
theorem dksX1_filters_2 : cX1_filters.data.toList.drop 48 = dktX1_filters_2 := dk_seg dksX1_filters_1 24 rfl rfl
theorem dksX1_filters_3 : cX1_filters.data.toList.drop 71 = dktX1_filters_3 := dk_seg dksX1_filters_2 23 rfl rfl
theorem dksX1_filters_4 : cX1_filters.data.toList.drop 93 = dktX1_filters_4 := dk_seg dksX1_filters_3 22 rfl rfl
theorem dX1_filters_0 : decode cX1_filters 0 = .ok (.aload_n 0, 1) := dk_42 (dk_at dksX1_filters_0 0 rfl rfl)
theorem dX1_filters_1 : decode cX1_filters 1 = .ok (.iconst 1, 1) := dk_4 (dk_at dksX1_filters_0 1 rfl rfl)
theorem dX1_filters_2 : decode cX1_filters 2 = .ok (.iload_n 1, 1) := dk_27 (dk_at dksX1_filters_0 2 rfl rfl)
theorem dX1_filters_3 : decode cX1_filters 3 = .ok (.iload_n 2, 1) := dk_28 (dk_at dksX1_filters_0 3 rfl rfl)
theorem dX1_filters_4 : decode cX1_filters 4 = .ok (.iconst 0, 1) := dk_3 (dk_at dksX1_filters_0 4 rfl rfl)
theorem dX1_filters_5 : decode cX1_filters 5 = .ok (.invokevirtual 219, 3) := dk_182 0 219 (dk_at dksX1_filters_0 5 rfl rfl)
theorem dX1_filters_8 : decode cX1_filters 8 = .ok (.istore_n 3, 1) := dk_62 (dk_at dksX1_filters_0 8 rfl rfl)
theorem dX1_filters_9 : decode cX1_filters 9 = .ok (.iload_n 3, 1) := dk_29 (dk_at dksX1_filters_0 9 rfl rfl)
theorem dX1_filters_10 : decode cX1_filters 10 = .ok (.ifCond .le 9, 3) := dk_158 0 9 (dk_at dksX1_filters_0 10 rfl rfl)
theorem dX1_filters_13 : decode cX1_filters 13 = .ok (.aload_n 0, 1) := dk_42 (dk_at dksX1_filters_0 13 rfl rfl)
theorem dX1_filters_14 : decode cX1_filters 14 = .ok (.iload_n 3, 1) := dk_29 (dk_at dksX1_filters_0 14 rfl rfl)
theorem dX1_filters_15 : decode cX1_filters 15 = .ok (.invokevirtual 81, 3) := dk_182 0 81 (dk_at dksX1_filters_0 15 rfl rfl)
theorem dX1_filters_18 : decode cX1_filters 18 = .ok (.ireturn, 1) := dk_172 (dk_at dksX1_filters_0 18 rfl rfl)
theorem dX1_filters_19 : decode cX1_filters 19 = .ok (.aload_n 0, 1) := dk_42 (dk_at dksX1_filters_0 19 rfl rfl)
theorem dX1_filters_20 : decode cX1_filters 20 = .ok (.invokevirtual 112, 3) := dk_182 0 112 (dk_at dksX1_filters_0 20 rfl rfl)
theorem dX1_filters_23 : decode cX1_filters 23 = .ok (.iconst 0, 1) := dk_3 (dk_at dksX1_filters_0 23 rfl rfl)
theorem dX1_filters_24 : decode cX1_filters 24 = .ok (.istore 4, 2) := dk_54 4 (dk_at dksX1_filters_1 0 rfl rfl)
theorem dX1_filters_26 : decode cX1_filters 26 = .ok (.iload 4, 2) := dk_21 4 (dk_at dksX1_filters_1 2 rfl rfl)
theorem dX1_filters_28 : decode cX1_filters 28 = .ok (.bipush 20, 2) := dk_16 20 (dk_at dksX1_filters_1 4 rfl rfl)
theorem dX1_filters_30 : decode cX1_filters 30 = .ok (.if_icmp .gt 69, 3) := dk_163 0 69 (dk_at dksX1_filters_1 6 rfl rfl)
theorem dX1_filters_33 : decode cX1_filters 33 = .ok (.aload_n 0, 1) := dk_42 (dk_at dksX1_filters_1 9 rfl rfl)
theorem dX1_filters_34 : decode cX1_filters 34 = .ok (.getfield 48, 3) := dk_180 0 48 (dk_at dksX1_filters_1 10 rfl rfl)
theorem dX1_filters_37 : decode cX1_filters 37 = .ok (.aload_n 0, 1) := dk_42 (dk_at dksX1_filters_1 13 rfl rfl)
theorem dX1_filters_38 : decode cX1_filters 38 = .ok (.getfield 96, 3) := dk_180 0 96 (dk_at dksX1_filters_1 14 rfl rfl)
theorem dX1_filters_41 : decode cX1_filters 41 = .ok (.iload_n 2, 1) := dk_28 (dk_at dksX1_filters_1 17 rfl rfl)
theorem dX1_filters_42 : decode cX1_filters 42 = .ok (.aload_n 0, 1) := dk_42 (dk_at dksX1_filters_1 18 rfl rfl)
theorem dX1_filters_43 : decode cX1_filters 43 = .ok (.iload_n 1, 1) := dk_27 (dk_at dksX1_filters_1 19 rfl rfl)
theorem dX1_filters_44 : decode cX1_filters 44 = .ok (.invokevirtual 193, 3) := dk_182 0 193 (dk_at dksX1_filters_1 20 rfl rfl)
theorem dX1_filters_47 : decode cX1_filters 47 = .ok (.aload_n 0, 1) := dk_42 (dk_at dksX1_filters_1 23 rfl rfl)
theorem dX1_filters_48 : decode cX1_filters 48 = .ok (.getfield 57, 3) := dk_180 0 57 (dk_at dksX1_filters_2 0 rfl rfl)
theorem dX1_filters_51 : decode cX1_filters 51 = .ok (.getfield 212, 3) := dk_180 0 212 (dk_at dksX1_filters_2 3 rfl rfl)
theorem dX1_filters_54 : decode cX1_filters 54 = .ok (.sipush 400, 3) := dk_17 1 144 (dk_at dksX1_filters_2 6 rfl rfl)
theorem dX1_filters_57 : decode cX1_filters 57 = .ok (.iload 4, 2) := dk_21 4 (dk_at dksX1_filters_2 9 rfl rfl)
theorem dX1_filters_59 : decode cX1_filters 59 = .ok (.invokevirtual 261, 3) := dk_182 1 5 (dk_at dksX1_filters_2 11 rfl rfl)
theorem dX1_filters_62 : decode cX1_filters 62 = .ok (.invokevirtual 245, 3) := dk_182 0 245 (dk_at dksX1_filters_2 14 rfl rfl)
theorem dX1_filters_65 : decode cX1_filters 65 = .ok (.istore 5, 2) := dk_54 5 (dk_at dksX1_filters_2 17 rfl rfl)
theorem dX1_filters_67 : decode cX1_filters 67 = .ok (.iload 5, 2) := dk_21 5 (dk_at dksX1_filters_2 19 rfl rfl)
theorem dX1_filters_69 : decode cX1_filters 69 = .ok (.bipush (-2), 2) := dk_16 254 (dk_at dksX1_filters_2 21 rfl rfl)
theorem dX1_filters_71 : decode cX1_filters 71 = .ok (.if_icmp .eq 22, 3) := dk_159 0 22 (dk_at dksX1_filters_3 0 rfl rfl)
theorem dX1_filters_74 : decode cX1_filters 74 = .ok (.iload 5, 2) := dk_21 5 (dk_at dksX1_filters_3 3 rfl rfl)
theorem dX1_filters_76 : decode cX1_filters 76 = .ok (.aload_n 0, 1) := dk_42 (dk_at dksX1_filters_3 5 rfl rfl)
theorem dX1_filters_77 : decode cX1_filters 77 = .ok (.getfield 96, 3) := dk_180 0 96 (dk_at dksX1_filters_3 6 rfl rfl)
theorem dX1_filters_80 : decode cX1_filters 80 = .ok (.getfield 134, 3) := dk_180 0 134 (dk_at dksX1_filters_3 9 rfl rfl)
theorem dX1_filters_83 : decode cX1_filters 83 = .ok (.if_icmp .gt 10, 3) := dk_163 0 10 (dk_at dksX1_filters_3 12 rfl rfl)
theorem dX1_filters_86 : decode cX1_filters 86 = .ok (.aload_n 0, 1) := dk_42 (dk_at dksX1_filters_3 15 rfl rfl)
theorem dX1_filters_87 : decode cX1_filters 87 = .ok (.iload 4, 2) := dk_21 4 (dk_at dksX1_filters_3 16 rfl rfl)
theorem dX1_filters_89 : decode cX1_filters 89 = .ok (.invokevirtual 125, 3) := dk_182 0 125 (dk_at dksX1_filters_3 18 rfl rfl)
theorem dX1_filters_92 : decode cX1_filters 92 = .ok (.ireturn, 1) := dk_172 (dk_at dksX1_filters_3 21 rfl rfl)
theorem dX1_filters_93 : decode cX1_filters 93 = .ok (.iinc 4 1, 3) := dk_132 4 1 (dk_at dksX1_filters_4 0 rfl rfl)
theorem dX1_filters_96 : decode cX1_filters 96 = .ok (.goto (-70), 3) := dk_167 255 186 (dk_at dksX1_filters_4 3 rfl rfl)
theorem dX1_filters_99 : decode cX1_filters 99 = .ok (.aload_n 0, 1) := dk_42 (dk_at dksX1_filters_4 6 rfl rfl)
theorem dX1_filters_100 : decode cX1_filters 100 = .ok (.bipush (-2), 2) := dk_16 254 (dk_at dksX1_filters_4 7 rfl rfl)
theorem dX1_filters_102 : decode cX1_filters 102 = .ok (.invokevirtual 125, 3) := dk_182 0 125 (dk_at dksX1_filters_4 9 rfl rfl)
theorem dX1_filters_105 : decode cX1_filters 105 = .ok (.ireturn, 1) := dk_172 (dk_at dksX1_filters_4 12 rfl rfl)
abbrev cX1_slowest : ByteArray := prog_1_method_38_code
def yX1_slowest : MethodName := ⟨RX1, "slowest", "(I)I"⟩
def dkwX1_slowest_3 : List UInt8 := [62, 132, 5, 1, 167, 255, 207, 42, 29, 182, 0, 125, 172]
abbrev dktX1_slowest_3 : List UInt8 := dkwX1_slowest_3 ++ []
def dkwX1_slowest_2 : List UInt8 := [182, 0, 223, 182, 0, 242, 54, 6, 21, 6, 21, 4, 163, 0, 6, 167, 0, 10, 21, 6, 54, 4, 21, 5]
abbrev dktX1_slowest_2 : List UInt8 := dkwX1_slowest_2 ++ dktX1_slowest_3
def dkwX1_slowest_1 : List UInt8 := [4, 54, 5, 21, 5, 4, 42, 180, 0, 96, 182, 0, 119, 120, 162, 0, 41, 42, 27, 21, 5, 17, 1, 144]
abbrev dktX1_slowest_1 : List UInt8 := dkwX1_slowest_1 ++ dktX1_slowest_2
def dkwX1_slowest_0 : List UInt8 := [42, 4, 27, 4, 3, 182, 0, 219, 61, 28, 158, 0, 9, 42, 28, 182, 0, 81, 172, 3, 62, 2, 54, 4]
abbrev dktX1_slowest_0 : List UInt8 := dkwX1_slowest_0 ++ dktX1_slowest_1
theorem dksX1_slowest_0 : cX1_slowest.data.toList.drop 0 = dktX1_slowest_0 := by decide +kernel
theorem dksX1_slowest_1 : cX1_slowest.data.toList.drop 24 = dktX1_slowest_1 := dk_seg dksX1_slowest_0 24 rfl rfl
theorem dksX1_slowest_2 : cX1_slowest.data.toList.drop 48 = dktX1_slowest_2 := dk_seg dksX1_slowest_1 24 rfl rfl
theorem dksX1_slowest_3 : cX1_slowest.data.toList.drop 72 = dktX1_slowest_3 := dk_seg dksX1_slowest_2 24 rfl rfl
theorem dX1_slowest_0 : decode cX1_slowest 0 = .ok (.aload_n 0, 1) := dk_42 (dk_at dksX1_slowest_0 0 rfl rfl)
theorem dX1_slowest_1 : decode cX1_slowest 1 = .ok (.iconst 1, 1) := dk_4 (dk_at dksX1_slowest_0 1 rfl rfl)
theorem dX1_slowest_2 : decode cX1_slowest 2 = .ok (.iload_n 1, 1) := dk_27 (dk_at dksX1_slowest_0 2 rfl rfl)
theorem dX1_slowest_3 : decode cX1_slowest 3 = .ok (.iconst 1, 1) := dk_4 (dk_at dksX1_slowest_0 3 rfl rfl)
theorem dX1_slowest_4 : decode cX1_slowest 4 = .ok (.iconst 0, 1) := dk_3 (dk_at dksX1_slowest_0 4 rfl rfl)
theorem dX1_slowest_5 : decode cX1_slowest 5 = .ok (.invokevirtual 219, 3) := dk_182 0 219 (dk_at dksX1_slowest_0 5 rfl rfl)
theorem dX1_slowest_8 : decode cX1_slowest 8 = .ok (.istore_n 2, 1) := dk_61 (dk_at dksX1_slowest_0 8 rfl rfl)
theorem dX1_slowest_9 : decode cX1_slowest 9 = .ok (.iload_n 2, 1) := dk_28 (dk_at dksX1_slowest_0 9 rfl rfl)
theorem dX1_slowest_10 : decode cX1_slowest 10 = .ok (.ifCond .le 9, 3) := dk_158 0 9 (dk_at dksX1_slowest_0 10 rfl rfl)
theorem dX1_slowest_13 : decode cX1_slowest 13 = .ok (.aload_n 0, 1) := dk_42 (dk_at dksX1_slowest_0 13 rfl rfl)
theorem dX1_slowest_14 : decode cX1_slowest 14 = .ok (.iload_n 2, 1) := dk_28 (dk_at dksX1_slowest_0 14 rfl rfl)
theorem dX1_slowest_15 : decode cX1_slowest 15 = .ok (.invokevirtual 81, 3) := dk_182 0 81 (dk_at dksX1_slowest_0 15 rfl rfl)
theorem dX1_slowest_18 : decode cX1_slowest 18 = .ok (.ireturn, 1) := dk_172 (dk_at dksX1_slowest_0 18 rfl rfl)
theorem dX1_slowest_19 : decode cX1_slowest 19 = .ok (.iconst 0, 1) := dk_3 (dk_at dksX1_slowest_0 19 rfl rfl)
theorem dX1_slowest_20 : decode cX1_slowest 20 = .ok (.istore_n 3, 1) := dk_62 (dk_at dksX1_slowest_0 20 rfl rfl)
theorem dX1_slowest_21 : decode cX1_slowest 21 = .ok (.iconst (-1), 1) := dk_2 (dk_at dksX1_slowest_0 21 rfl rfl)
theorem dX1_slowest_22 : decode cX1_slowest 22 = .ok (.istore 4, 2) := dk_54 4 (dk_at dksX1_slowest_0 22 rfl rfl)
theorem dX1_slowest_24 : decode cX1_slowest 24 = .ok (.iconst 1, 1) := dk_4 (dk_at dksX1_slowest_1 0 rfl rfl)
theorem dX1_slowest_25 : decode cX1_slowest 25 = .ok (.istore 5, 2) := dk_54 5 (dk_at dksX1_slowest_1 1 rfl rfl)
theorem dX1_slowest_27 : decode cX1_slowest 27 = .ok (.iload 5, 2) := dk_21 5 (dk_at dksX1_slowest_1 3 rfl rfl)
theorem dX1_slowest_29 : decode cX1_slowest 29 = .ok (.iconst 1, 1) := dk_4 (dk_at dksX1_slowest_1 5 rfl rfl)
theorem dX1_slowest_30 : decode cX1_slowest 30 = .ok (.aload_n 0, 1) := dk_42 (dk_at dksX1_slowest_1 6 rfl rfl)
theorem dX1_slowest_31 : decode cX1_slowest 31 = .ok (.getfield 96, 3) := dk_180 0 96 (dk_at dksX1_slowest_1 7 rfl rfl)
theorem dX1_slowest_34 : decode cX1_slowest 34 = .ok (.invokevirtual 119, 3) := dk_182 0 119 (dk_at dksX1_slowest_1 10 rfl rfl)
theorem dX1_slowest_37 : decode cX1_slowest 37 = .ok (.ishl, 1) := dk_120 (dk_at dksX1_slowest_1 13 rfl rfl)
theorem dX1_slowest_38 : decode cX1_slowest 38 = .ok (.if_icmp .ge 41, 3) := dk_162 0 41 (dk_at dksX1_slowest_1 14 rfl rfl)
theorem dX1_slowest_41 : decode cX1_slowest 41 = .ok (.aload_n 0, 1) := dk_42 (dk_at dksX1_slowest_1 17 rfl rfl)
theorem dX1_slowest_42 : decode cX1_slowest 42 = .ok (.iload_n 1, 1) := dk_27 (dk_at dksX1_slowest_1 18 rfl rfl)
theorem dX1_slowest_43 : decode cX1_slowest 43 = .ok (.iload 5, 2) := dk_21 5 (dk_at dksX1_slowest_1 19 rfl rfl)
theorem dX1_slowest_45 : decode cX1_slowest 45 = .ok (.sipush 400, 3) := dk_17 1 144 (dk_at dksX1_slowest_1 21 rfl rfl)
theorem dX1_slowest_48 : decode cX1_slowest 48 = .ok (.invokevirtual 223, 3) := dk_182 0 223 (dk_at dksX1_slowest_2 0 rfl rfl)
theorem dX1_slowest_51 : decode cX1_slowest 51 = .ok (.invokevirtual 242, 3) := dk_182 0 242 (dk_at dksX1_slowest_2 3 rfl rfl)
theorem dX1_slowest_54 : decode cX1_slowest 54 = .ok (.istore 6, 2) := dk_54 6 (dk_at dksX1_slowest_2 6 rfl rfl)
theorem dX1_slowest_56 : decode cX1_slowest 56 = .ok (.iload 6, 2) := dk_21 6 (dk_at dksX1_slowest_2 8 rfl rfl)
theorem dX1_slowest_58 : decode cX1_slowest 58 = .ok (.iload 4, 2) := dk_21 4 (dk_at dksX1_slowest_2 10 rfl rfl)
theorem dX1_slowest_60 : decode cX1_slowest 60 = .ok (.if_icmp .gt 6, 3) := dk_163 0 6 (dk_at dksX1_slowest_2 12 rfl rfl)
theorem dX1_slowest_63 : decode cX1_slowest 63 = .ok (.goto 10, 3) := dk_167 0 10 (dk_at dksX1_slowest_2 15 rfl rfl)
theorem dX1_slowest_66 : decode cX1_slowest 66 = .ok (.iload 6, 2) := dk_21 6 (dk_at dksX1_slowest_2 18 rfl rfl)
theorem dX1_slowest_68 : decode cX1_slowest 68 = .ok (.istore 4, 2) := dk_54 4 (dk_at dksX1_slowest_2 20 rfl rfl)
theorem dX1_slowest_70 : decode cX1_slowest 70 = .ok (.iload 5, 2) := dk_21 5 (dk_at dksX1_slowest_2 22 rfl rfl)
theorem dX1_slowest_72 : decode cX1_slowest 72 = .ok (.istore_n 3, 1) := dk_62 (dk_at dksX1_slowest_3 0 rfl rfl)
theorem dX1_slowest_73 : decode cX1_slowest 73 = .ok (.iinc 5 1, 3) := dk_132 5 1 (dk_at dksX1_slowest_3 1 rfl rfl)
theorem dX1_slowest_76 : decode cX1_slowest 76 = .ok (.goto (-49), 3) := dk_167 255 207 (dk_at dksX1_slowest_3 4 rfl rfl)
theorem dX1_slowest_79 : decode cX1_slowest 79 = .ok (.aload_n 0, 1) := dk_42 (dk_at dksX1_slowest_3 7 rfl rfl)
theorem dX1_slowest_80 : decode cX1_slowest 80 = .ok (.iload_n 3, 1) := dk_29 (dk_at dksX1_slowest_3 8 rfl rfl)
theorem dX1_slowest_81 : decode cX1_slowest 81 = .ok (.invokevirtual 125, 3) := dk_182 0 125 (dk_at dksX1_slowest_3 9 rfl rfl)
theorem dX1_slowest_84 : decode cX1_slowest 84 = .ok (.ireturn, 1) := dk_172 (dk_at dksX1_slowest_3 12 rfl rfl)
abbrev cX1_settled : ByteArray := prog_1_method_39_code
def yX1_settled : MethodName := ⟨RX1, "settled", "(II)I"⟩
def dkwX1_settled_3 : List UInt8 := [182, 0, 125, 172]
abbrev dktX1_settled_3 : List UInt8 := dkwX1_settled_3 ++ []
def dkwX1_settled_2 : List UInt8 := [182, 0, 223, 182, 0, 242, 28, 163, 0, 6, 132, 4, 1, 132, 5, 1, 167, 255, 219, 42, 21, 4]
abbrev dktX1_settled_2 : List UInt8 := dkwX1_settled_2 ++ dktX1_settled_3
def dkwX1_settled_1 : List UInt8 := [54, 5, 21, 5, 4, 42, 180, 0, 96, 182, 0, 119, 120, 162, 0, 29, 42, 27, 21, 5, 17, 1, 144]
abbrev dktX1_settled_1 : List UInt8 := dkwX1_settled_1 ++ dktX1_settled_2
def dkwX1_settled_0 : List UInt8 := [42, 4, 27, 4, 28, 182, 0, 219, 62, 29, 158, 0, 9, 42, 29, 182, 0, 81, 172, 3, 54, 4, 4]
abbrev dktX1_settled_0 : List UInt8 := dkwX1_settled_0 ++ dktX1_settled_1
theorem dksX1_settled_0 : cX1_settled.data.toList.drop 0 = dktX1_settled_0 := by decide +kernel
theorem dksX1_settled_1 : cX1_settled.data.toList.drop 23 = dktX1_settled_1 := dk_seg dksX1_settled_0 23 rfl rfl
theorem dksX1_settled_2 : cX1_settled.data.toList.drop 46 = dktX1_settled_2 := dk_seg dksX1_settled_1 23 rfl rfl
theorem dksX1_settled_3 : cX1_settled.data.toList.drop 68 = dktX1_settled_3 := dk_seg dksX1_settled_2 22 rfl rfl
theorem dX1_settled_0 : decode cX1_settled 0 = .ok (.aload_n 0, 1) := dk_42 (dk_at dksX1_settled_0 0 rfl rfl)
theorem dX1_settled_1 : decode cX1_settled 1 = .ok (.iconst 1, 1) := dk_4 (dk_at dksX1_settled_0 1 rfl rfl)
theorem dX1_settled_2 : decode cX1_settled 2 = .ok (.iload_n 1, 1) := dk_27 (dk_at dksX1_settled_0 2 rfl rfl)
theorem dX1_settled_3 : decode cX1_settled 3 = .ok (.iconst 1, 1) := dk_4 (dk_at dksX1_settled_0 3 rfl rfl)
theorem dX1_settled_4 : decode cX1_settled 4 = .ok (.iload_n 2, 1) := dk_28 (dk_at dksX1_settled_0 4 rfl rfl)
theorem dX1_settled_5 : decode cX1_settled 5 = .ok (.invokevirtual 219, 3) := dk_182 0 219 (dk_at dksX1_settled_0 5 rfl rfl)
theorem dX1_settled_8 : decode cX1_settled 8 = .ok (.istore_n 3, 1) := dk_62 (dk_at dksX1_settled_0 8 rfl rfl)
theorem dX1_settled_9 : decode cX1_settled 9 = .ok (.iload_n 3, 1) := dk_29 (dk_at dksX1_settled_0 9 rfl rfl)
theorem dX1_settled_10 : decode cX1_settled 10 = .ok (.ifCond .le 9, 3) := dk_158 0 9 (dk_at dksX1_settled_0 10 rfl rfl)
theorem dX1_settled_13 : decode cX1_settled 13 = .ok (.aload_n 0, 1) := dk_42 (dk_at dksX1_settled_0 13 rfl rfl)
theorem dX1_settled_14 : decode cX1_settled 14 = .ok (.iload_n 3, 1) := dk_29 (dk_at dksX1_settled_0 14 rfl rfl)
theorem dX1_settled_15 : decode cX1_settled 15 = .ok (.invokevirtual 81, 3) := dk_182 0 81 (dk_at dksX1_settled_0 15 rfl rfl)
theorem dX1_settled_18 : decode cX1_settled 18 = .ok (.ireturn, 1) := dk_172 (dk_at dksX1_settled_0 18 rfl rfl)
theorem dX1_settled_19 : decode cX1_settled 19 = .ok (.iconst 0, 1) := dk_3 (dk_at dksX1_settled_0 19 rfl rfl)
theorem dX1_settled_20 : decode cX1_settled 20 = .ok (.istore 4, 2) := dk_54 4 (dk_at dksX1_settled_0 20 rfl rfl)
theorem dX1_settled_22 : decode cX1_settled 22 = .ok (.iconst 1, 1) := dk_4 (dk_at dksX1_settled_0 22 rfl rfl)
theorem dX1_settled_23 : decode cX1_settled 23 = .ok (.istore 5, 2) := dk_54 5 (dk_at dksX1_settled_1 0 rfl rfl)
theorem dX1_settled_25 : decode cX1_settled 25 = .ok (.iload 5, 2) := dk_21 5 (dk_at dksX1_settled_1 2 rfl rfl)
theorem dX1_settled_27 : decode cX1_settled 27 = .ok (.iconst 1, 1) := dk_4 (dk_at dksX1_settled_1 4 rfl rfl)
theorem dX1_settled_28 : decode cX1_settled 28 = .ok (.aload_n 0, 1) := dk_42 (dk_at dksX1_settled_1 5 rfl rfl)
theorem dX1_settled_29 : decode cX1_settled 29 = .ok (.getfield 96, 3) := dk_180 0 96 (dk_at dksX1_settled_1 6 rfl rfl)
theorem dX1_settled_32 : decode cX1_settled 32 = .ok (.invokevirtual 119, 3) := dk_182 0 119 (dk_at dksX1_settled_1 9 rfl rfl)
theorem dX1_settled_35 : decode cX1_settled 35 = .ok (.ishl, 1) := dk_120 (dk_at dksX1_settled_1 12 rfl rfl)
theorem dX1_settled_36 : decode cX1_settled 36 = .ok (.if_icmp .ge 29, 3) := dk_162 0 29 (dk_at dksX1_settled_1 13 rfl rfl)
theorem dX1_settled_39 : decode cX1_settled 39 = .ok (.aload_n 0, 1) := dk_42 (dk_at dksX1_settled_1 16 rfl rfl)
theorem dX1_settled_40 : decode cX1_settled 40 = .ok (.iload_n 1, 1) := dk_27 (dk_at dksX1_settled_1 17 rfl rfl)
theorem dX1_settled_41 : decode cX1_settled 41 = .ok (.iload 5, 2) := dk_21 5 (dk_at dksX1_settled_1 18 rfl rfl)
theorem dX1_settled_43 : decode cX1_settled 43 = .ok (.sipush 400, 3) := dk_17 1 144 (dk_at dksX1_settled_1 20 rfl rfl)
theorem dX1_settled_46 : decode cX1_settled 46 = .ok (.invokevirtual 223, 3) := dk_182 0 223 (dk_at dksX1_settled_2 0 rfl rfl)
theorem dX1_settled_49 : decode cX1_settled 49 = .ok (.invokevirtual 242, 3) := dk_182 0 242 (dk_at dksX1_settled_2 3 rfl rfl)
theorem dX1_settled_52 : decode cX1_settled 52 = .ok (.iload_n 2, 1) := dk_28 (dk_at dksX1_settled_2 6 rfl rfl)
theorem dX1_settled_53 : decode cX1_settled 53 = .ok (.if_icmp .gt 6, 3) := dk_163 0 6 (dk_at dksX1_settled_2 7 rfl rfl)
theorem dX1_settled_56 : decode cX1_settled 56 = .ok (.iinc 4 1, 3) := dk_132 4 1 (dk_at dksX1_settled_2 10 rfl rfl)
theorem dX1_settled_59 : decode cX1_settled 59 = .ok (.iinc 5 1, 3) := dk_132 5 1 (dk_at dksX1_settled_2 13 rfl rfl)
theorem dX1_settled_62 : decode cX1_settled 62 = .ok (.goto (-37), 3) := dk_167 255 219 (dk_at dksX1_settled_2 16 rfl rfl)
theorem dX1_settled_65 : decode cX1_settled 65 = .ok (.aload_n 0, 1) := dk_42 (dk_at dksX1_settled_2 19 rfl rfl)
theorem dX1_settled_66 : decode cX1_settled 66 = .ok (.iload 4, 2) := dk_21 4 (dk_at dksX1_settled_2 20 rfl rfl)
theorem dX1_settled_68 : decode cX1_settled 68 = .ok (.invokevirtual 125, 3) := dk_182 0 125 (dk_at dksX1_settled_3 0 rfl rfl)
theorem dX1_settled_71 : decode cX1_settled 71 = .ok (.ireturn, 1) := dk_172 (dk_at dksX1_settled_3 3 rfl rfl)
abbrev cX1_enough : ByteArray := prog_1_method_40_code
def yX1_enough : MethodName := ⟨RX1, "enough", "(I)I"⟩
def dkwX1_enough_3 : List UInt8 := [184, 1, 8, 62, 132, 4, 1, 167, 255, 203, 42, 29, 182, 0, 125, 172]
abbrev dktX1_enough_3 : List UInt8 := dkwX1_enough_3 ++ []
def dkwX1_enough_2 : List UInt8 := [182, 0, 245, 54, 5, 21, 5, 16, 254, 160, 0, 10, 42, 16, 254, 182, 0, 125, 172, 29, 21, 5]
abbrev dktX1_enough_2 : List UInt8 := dkwX1_enough_2 ++ dktX1_enough_3
def dkwX1_enough_1 : List UInt8 := [21, 4, 4, 42, 180, 0, 96, 182, 0, 119, 120, 162, 0, 45, 42, 27, 21, 4, 17, 1, 144, 182, 0, 223]
abbrev dktX1_enough_1 : List UInt8 := dkwX1_enough_1 ++ dktX1_enough_2
def dkwX1_enough_0 : List UInt8 := [42, 4, 27, 4, 3, 182, 0, 219, 61, 28, 158, 0, 9, 42, 28, 182, 0, 81, 172, 3, 62, 4, 54, 4]
abbrev dktX1_enough_0 : List UInt8 := dkwX1_enough_0 ++ dktX1_enough_1
theorem dksX1_enough_0 : cX1_enough.data.toList.drop 0 = dktX1_enough_0 := by decide +kernel
theorem dksX1_enough_1 : cX1_enough.data.toList.drop 24 = dktX1_enough_1 := dk_seg dksX1_enough_0 24 rfl rfl
theorem dksX1_enough_2 : cX1_enough.data.toList.drop 48 = dktX1_enough_2 := dk_seg dksX1_enough_1 24 rfl rfl
theorem dksX1_enough_3 : cX1_enough.data.toList.drop 70 = dktX1_enough_3 := dk_seg dksX1_enough_2 22 rfl rfl
theorem dX1_enough_0 : decode cX1_enough 0 = .ok (.aload_n 0, 1) := dk_42 (dk_at dksX1_enough_0 0 rfl rfl)
theorem dX1_enough_1 : decode cX1_enough 1 = .ok (.iconst 1, 1) := dk_4 (dk_at dksX1_enough_0 1 rfl rfl)
theorem dX1_enough_2 : decode cX1_enough 2 = .ok (.iload_n 1, 1) := dk_27 (dk_at dksX1_enough_0 2 rfl rfl)
theorem dX1_enough_3 : decode cX1_enough 3 = .ok (.iconst 1, 1) := dk_4 (dk_at dksX1_enough_0 3 rfl rfl)
theorem dX1_enough_4 : decode cX1_enough 4 = .ok (.iconst 0, 1) := dk_3 (dk_at dksX1_enough_0 4 rfl rfl)
theorem dX1_enough_5 : decode cX1_enough 5 = .ok (.invokevirtual 219, 3) := dk_182 0 219 (dk_at dksX1_enough_0 5 rfl rfl)
theorem dX1_enough_8 : decode cX1_enough 8 = .ok (.istore_n 2, 1) := dk_61 (dk_at dksX1_enough_0 8 rfl rfl)
theorem dX1_enough_9 : decode cX1_enough 9 = .ok (.iload_n 2, 1) := dk_28 (dk_at dksX1_enough_0 9 rfl rfl)
theorem dX1_enough_10 : decode cX1_enough 10 = .ok (.ifCond .le 9, 3) := dk_158 0 9 (dk_at dksX1_enough_0 10 rfl rfl)
theorem dX1_enough_13 : decode cX1_enough 13 = .ok (.aload_n 0, 1) := dk_42 (dk_at dksX1_enough_0 13 rfl rfl)
theorem dX1_enough_14 : decode cX1_enough 14 = .ok (.iload_n 2, 1) := dk_28 (dk_at dksX1_enough_0 14 rfl rfl)
theorem dX1_enough_15 : decode cX1_enough 15 = .ok (.invokevirtual 81, 3) := dk_182 0 81 (dk_at dksX1_enough_0 15 rfl rfl)
theorem dX1_enough_18 : decode cX1_enough 18 = .ok (.ireturn, 1) := dk_172 (dk_at dksX1_enough_0 18 rfl rfl)
theorem dX1_enough_19 : decode cX1_enough 19 = .ok (.iconst 0, 1) := dk_3 (dk_at dksX1_enough_0 19 rfl rfl)
theorem dX1_enough_20 : decode cX1_enough 20 = .ok (.istore_n 3, 1) := dk_62 (dk_at dksX1_enough_0 20 rfl rfl)
theorem dX1_enough_21 : decode cX1_enough 21 = .ok (.iconst 1, 1) := dk_4 (dk_at dksX1_enough_0 21 rfl rfl)
theorem dX1_enough_22 : decode cX1_enough 22 = .ok (.istore 4, 2) := dk_54 4 (dk_at dksX1_enough_0 22 rfl rfl)
theorem dX1_enough_24 : decode cX1_enough 24 = .ok (.iload 4, 2) := dk_21 4 (dk_at dksX1_enough_1 0 rfl rfl)
theorem dX1_enough_26 : decode cX1_enough 26 = .ok (.iconst 1, 1) := dk_4 (dk_at dksX1_enough_1 2 rfl rfl)
theorem dX1_enough_27 : decode cX1_enough 27 = .ok (.aload_n 0, 1) := dk_42 (dk_at dksX1_enough_1 3 rfl rfl)
theorem dX1_enough_28 : decode cX1_enough 28 = .ok (.getfield 96, 3) := dk_180 0 96 (dk_at dksX1_enough_1 4 rfl rfl)
theorem dX1_enough_31 : decode cX1_enough 31 = .ok (.invokevirtual 119, 3) := dk_182 0 119 (dk_at dksX1_enough_1 7 rfl rfl)
theorem dX1_enough_34 : decode cX1_enough 34 = .ok (.ishl, 1) := dk_120 (dk_at dksX1_enough_1 10 rfl rfl)
theorem dX1_enough_35 : decode cX1_enough 35 = .ok (.if_icmp .ge 45, 3) := dk_162 0 45 (dk_at dksX1_enough_1 11 rfl rfl)
theorem dX1_enough_38 : decode cX1_enough 38 = .ok (.aload_n 0, 1) := dk_42 (dk_at dksX1_enough_1 14 rfl rfl)
theorem dX1_enough_39 : decode cX1_enough 39 = .ok (.iload_n 1, 1) := dk_27 (dk_at dksX1_enough_1 15 rfl rfl)
theorem dX1_enough_40 : decode cX1_enough 40 = .ok (.iload 4, 2) := dk_21 4 (dk_at dksX1_enough_1 16 rfl rfl)
theorem dX1_enough_42 : decode cX1_enough 42 = .ok (.sipush 400, 3) := dk_17 1 144 (dk_at dksX1_enough_1 18 rfl rfl)
theorem dX1_enough_45 : decode cX1_enough 45 = .ok (.invokevirtual 223, 3) := dk_182 0 223 (dk_at dksX1_enough_1 21 rfl rfl)
theorem dX1_enough_48 : decode cX1_enough 48 = .ok (.invokevirtual 245, 3) := dk_182 0 245 (dk_at dksX1_enough_2 0 rfl rfl)
theorem dX1_enough_51 : decode cX1_enough 51 = .ok (.istore 5, 2) := dk_54 5 (dk_at dksX1_enough_2 3 rfl rfl)
theorem dX1_enough_53 : decode cX1_enough 53 = .ok (.iload 5, 2) := dk_21 5 (dk_at dksX1_enough_2 5 rfl rfl)
theorem dX1_enough_55 : decode cX1_enough 55 = .ok (.bipush (-2), 2) := dk_16 254 (dk_at dksX1_enough_2 7 rfl rfl)
theorem dX1_enough_57 : decode cX1_enough 57 = .ok (.if_icmp .ne 10, 3) := dk_160 0 10 (dk_at dksX1_enough_2 9 rfl rfl)
theorem dX1_enough_60 : decode cX1_enough 60 = .ok (.aload_n 0, 1) := dk_42 (dk_at dksX1_enough_2 12 rfl rfl)
theorem dX1_enough_61 : decode cX1_enough 61 = .ok (.bipush (-2), 2) := dk_16 254 (dk_at dksX1_enough_2 13 rfl rfl)
theorem dX1_enough_63 : decode cX1_enough 63 = .ok (.invokevirtual 125, 3) := dk_182 0 125 (dk_at dksX1_enough_2 15 rfl rfl)
theorem dX1_enough_66 : decode cX1_enough 66 = .ok (.ireturn, 1) := dk_172 (dk_at dksX1_enough_2 18 rfl rfl)
theorem dX1_enough_67 : decode cX1_enough 67 = .ok (.iload_n 3, 1) := dk_29 (dk_at dksX1_enough_2 19 rfl rfl)
theorem dX1_enough_68 : decode cX1_enough 68 = .ok (.iload 5, 2) := dk_21 5 (dk_at dksX1_enough_2 20 rfl rfl)
theorem dX1_enough_70 : decode cX1_enough 70 = .ok (.invokestatic 264, 3) := dk_184 1 8 (dk_at dksX1_enough_3 0 rfl rfl)
theorem dX1_enough_73 : decode cX1_enough 73 = .ok (.istore_n 3, 1) := dk_62 (dk_at dksX1_enough_3 3 rfl rfl)
theorem dX1_enough_74 : decode cX1_enough 74 = .ok (.iinc 4 1, 3) := dk_132 4 1 (dk_at dksX1_enough_3 4 rfl rfl)
theorem dX1_enough_77 : decode cX1_enough 77 = .ok (.goto (-53), 3) := dk_167 255 203 (dk_at dksX1_enough_3 7 rfl rfl)
theorem dX1_enough_80 : decode cX1_enough 80 = .ok (.aload_n 0, 1) := dk_42 (dk_at dksX1_enough_3 10 rfl rfl)
theorem dX1_enough_81 : decode cX1_enough 81 = .ok (.iload_n 3, 1) := dk_29 (dk_at dksX1_enough_3 11 rfl rfl)
theorem dX1_enough_82 : decode cX1_enough 82 = .ok (.invokevirtual 125, 3) := dk_182 0 125 (dk_at dksX1_enough_3 12 rfl rfl)
theorem dX1_enough_85 : decode cX1_enough 85 = .ok (.ireturn, 1) := dk_172 (dk_at dksX1_enough_3 15 rfl rfl)
abbrev cX1_would : ByteArray := prog_1_method_41_code
def yX1_would : MethodName := ⟨RX1, "would", "(I)I"⟩
def dkwX1_would_1 : List UInt8 := [180, 0, 57, 27, 42, 4, 182, 0, 193, 182, 1, 13, 182, 0, 125, 167, 0, 8, 42, 5, 182, 0, 81, 172]
abbrev dktX1_would_1 : List UInt8 := dkwX1_would_1 ++ []
def dkwX1_would_0 : List UInt8 := [42, 180, 0, 96, 199, 0, 9, 42, 4, 182, 0, 81, 172, 42, 27, 182, 0, 203, 153, 0, 23, 42, 42]
abbrev dktX1_would_0 : List UInt8 := dkwX1_would_0 ++ dktX1_would_1
theorem dksX1_would_0 : cX1_would.data.toList.drop 0 = dktX1_would_0 := by decide +kernel
theorem dksX1_would_1 : cX1_would.data.toList.drop 23 = dktX1_would_1 := dk_seg dksX1_would_0 23 rfl rfl
theorem dX1_would_0 : decode cX1_would 0 = .ok (.aload_n 0, 1) := dk_42 (dk_at dksX1_would_0 0 rfl rfl)
theorem dX1_would_1 : decode cX1_would 1 = .ok (.getfield 96, 3) := dk_180 0 96 (dk_at dksX1_would_0 1 rfl rfl)
theorem dX1_would_4 : decode cX1_would 4 = .ok (.ifnonnull 9, 3) := dk_199 0 9 (dk_at dksX1_would_0 4 rfl rfl)
theorem dX1_would_7 : decode cX1_would 7 = .ok (.aload_n 0, 1) := dk_42 (dk_at dksX1_would_0 7 rfl rfl)
theorem dX1_would_8 : decode cX1_would 8 = .ok (.iconst 1, 1) := dk_4 (dk_at dksX1_would_0 8 rfl rfl)
theorem dX1_would_9 : decode cX1_would 9 = .ok (.invokevirtual 81, 3) := dk_182 0 81 (dk_at dksX1_would_0 9 rfl rfl)
theorem dX1_would_12 : decode cX1_would 12 = .ok (.ireturn, 1) := dk_172 (dk_at dksX1_would_0 12 rfl rfl)
theorem dX1_would_13 : decode cX1_would 13 = .ok (.aload_n 0, 1) := dk_42 (dk_at dksX1_would_0 13 rfl rfl)
theorem dX1_would_14 : decode cX1_would 14 = .ok (.iload_n 1, 1) := dk_27 (dk_at dksX1_would_0 14 rfl rfl)
theorem dX1_would_15 : decode cX1_would 15 = .ok (.invokevirtual 203, 3) := dk_182 0 203 (dk_at dksX1_would_0 15 rfl rfl)
theorem dX1_would_18 : decode cX1_would 18 = .ok (.ifCond .eq 23, 3) := dk_153 0 23 (dk_at dksX1_would_0 18 rfl rfl)
theorem dX1_would_21 : decode cX1_would 21 = .ok (.aload_n 0, 1) := dk_42 (dk_at dksX1_would_0 21 rfl rfl)
theorem dX1_would_22 : decode cX1_would 22 = .ok (.aload_n 0, 1) := dk_42 (dk_at dksX1_would_0 22 rfl rfl)
theorem dX1_would_23 : decode cX1_would 23 = .ok (.getfield 57, 3) := dk_180 0 57 (dk_at dksX1_would_1 0 rfl rfl)
theorem dX1_would_26 : decode cX1_would 26 = .ok (.iload_n 1, 1) := dk_27 (dk_at dksX1_would_1 3 rfl rfl)
theorem dX1_would_27 : decode cX1_would 27 = .ok (.aload_n 0, 1) := dk_42 (dk_at dksX1_would_1 4 rfl rfl)
theorem dX1_would_28 : decode cX1_would 28 = .ok (.iconst 1, 1) := dk_4 (dk_at dksX1_would_1 5 rfl rfl)
theorem dX1_would_29 : decode cX1_would 29 = .ok (.invokevirtual 193, 3) := dk_182 0 193 (dk_at dksX1_would_1 6 rfl rfl)
theorem dX1_would_32 : decode cX1_would 32 = .ok (.invokevirtual 269, 3) := dk_182 1 13 (dk_at dksX1_would_1 9 rfl rfl)
theorem dX1_would_35 : decode cX1_would 35 = .ok (.invokevirtual 125, 3) := dk_182 0 125 (dk_at dksX1_would_1 12 rfl rfl)
theorem dX1_would_38 : decode cX1_would 38 = .ok (.goto 8, 3) := dk_167 0 8 (dk_at dksX1_would_1 15 rfl rfl)
theorem dX1_would_41 : decode cX1_would 41 = .ok (.aload_n 0, 1) := dk_42 (dk_at dksX1_would_1 18 rfl rfl)
theorem dX1_would_42 : decode cX1_would 42 = .ok (.iconst 2, 1) := dk_5 (dk_at dksX1_would_1 19 rfl rfl)
theorem dX1_would_43 : decode cX1_would 43 = .ok (.invokevirtual 81, 3) := dk_182 0 81 (dk_at dksX1_would_1 20 rfl rfl)
theorem dX1_would_46 : decode cX1_would 46 = .ok (.ireturn, 1) := dk_172 (dk_at dksX1_would_1 23 rfl rfl)
abbrev cX1_now : ByteArray := prog_1_method_43_code
def yX1_now : MethodName := ⟨RX1, "now", "(I)I"⟩
def dkwX1_now_1 : List UInt8 := [182, 0, 125, 167, 0, 8, 42, 4, 182, 0, 81, 172]
abbrev dktX1_now_1 : List UInt8 := dkwX1_now_1 ++ []
def dkwX1_now_0 : List UInt8 := [42, 180, 0, 96, 198, 0, 25, 27, 184, 1, 17, 153, 0, 18, 42, 42, 180, 0, 57, 27, 182, 1, 20]
abbrev dktX1_now_0 : List UInt8 := dkwX1_now_0 ++ dktX1_now_1
theorem dksX1_now_0 : cX1_now.data.toList.drop 0 = dktX1_now_0 := by decide +kernel
theorem dksX1_now_1 : cX1_now.data.toList.drop 23 = dktX1_now_1 := dk_seg dksX1_now_0 23 rfl rfl
theorem dX1_now_0 : decode cX1_now 0 = .ok (.aload_n 0, 1) := dk_42 (dk_at dksX1_now_0 0 rfl rfl)
theorem dX1_now_1 : decode cX1_now 1 = .ok (.getfield 96, 3) := dk_180 0 96 (dk_at dksX1_now_0 1 rfl rfl)
theorem dX1_now_4 : decode cX1_now 4 = .ok (.ifnull 25, 3) := dk_198 0 25 (dk_at dksX1_now_0 4 rfl rfl)
theorem dX1_now_7 : decode cX1_now 7 = .ok (.iload_n 1, 1) := dk_27 (dk_at dksX1_now_0 7 rfl rfl)
theorem dX1_now_8 : decode cX1_now 8 = .ok (.invokestatic 273, 3) := dk_184 1 17 (dk_at dksX1_now_0 8 rfl rfl)
theorem dX1_now_11 : decode cX1_now 11 = .ok (.ifCond .eq 18, 3) := dk_153 0 18 (dk_at dksX1_now_0 11 rfl rfl)
theorem dX1_now_14 : decode cX1_now 14 = .ok (.aload_n 0, 1) := dk_42 (dk_at dksX1_now_0 14 rfl rfl)
theorem dX1_now_15 : decode cX1_now 15 = .ok (.aload_n 0, 1) := dk_42 (dk_at dksX1_now_0 15 rfl rfl)
theorem dX1_now_16 : decode cX1_now 16 = .ok (.getfield 57, 3) := dk_180 0 57 (dk_at dksX1_now_0 16 rfl rfl)
theorem dX1_now_19 : decode cX1_now 19 = .ok (.iload_n 1, 1) := dk_27 (dk_at dksX1_now_0 19 rfl rfl)
theorem dX1_now_20 : decode cX1_now 20 = .ok (.invokevirtual 276, 3) := dk_182 1 20 (dk_at dksX1_now_0 20 rfl rfl)
theorem dX1_now_23 : decode cX1_now 23 = .ok (.invokevirtual 125, 3) := dk_182 0 125 (dk_at dksX1_now_1 0 rfl rfl)
theorem dX1_now_26 : decode cX1_now 26 = .ok (.goto 8, 3) := dk_167 0 8 (dk_at dksX1_now_1 3 rfl rfl)
theorem dX1_now_29 : decode cX1_now 29 = .ok (.aload_n 0, 1) := dk_42 (dk_at dksX1_now_1 6 rfl rfl)
theorem dX1_now_30 : decode cX1_now 30 = .ok (.iconst 1, 1) := dk_4 (dk_at dksX1_now_1 7 rfl rfl)
theorem dX1_now_31 : decode cX1_now 31 = .ok (.invokevirtual 81, 3) := dk_182 0 81 (dk_at dksX1_now_1 8 rfl rfl)
theorem dX1_now_34 : decode cX1_now 34 = .ok (.ireturn, 1) := dk_172 (dk_at dksX1_now_1 11 rfl rfl)
abbrev cX1_isWhat : ByteArray := prog_1_method_42_code
def yX1_isWhat : MethodName := ⟨RX1, "isWhat", "(I)Z"⟩
def dkwX1_isWhat_0 : List UInt8 := [26, 3, 16, 10, 184, 0, 77, 172]
abbrev dktX1_isWhat_0 : List UInt8 := dkwX1_isWhat_0 ++ []
theorem dksX1_isWhat_0 : cX1_isWhat.data.toList.drop 0 = dktX1_isWhat_0 := by decide +kernel
theorem dX1_isWhat_0 : decode cX1_isWhat 0 = .ok (.iload_n 0, 1) := dk_26 (dk_at dksX1_isWhat_0 0 rfl rfl)
theorem dX1_isWhat_1 : decode cX1_isWhat 1 = .ok (.iconst 0, 1) := dk_3 (dk_at dksX1_isWhat_0 1 rfl rfl)
theorem dX1_isWhat_2 : decode cX1_isWhat 2 = .ok (.bipush 10, 2) := dk_16 10 (dk_at dksX1_isWhat_0 2 rfl rfl)
theorem dX1_isWhat_4 : decode cX1_isWhat 4 = .ok (.invokestatic 77, 3) := dk_184 0 77 (dk_at dksX1_isWhat_0 4 rfl rfl)
theorem dX1_isWhat_7 : decode cX1_isWhat 7 = .ok (.ireturn, 1) := dk_172 (dk_at dksX1_isWhat_0 7 rfl rfl)
abbrev cX1_ledger : ByteArray := prog_1_method_44_code
def yX1_ledger : MethodName := ⟨RX1, "ledger", "(II)I"⟩
def dkwX1_ledger_1 : List UInt8 := [180, 1, 23, 16, 6, 27, 104, 28, 96, 46, 182, 0, 125, 167, 0, 8, 42, 4, 182, 0, 81, 172]
abbrev dktX1_ledger_1 : List UInt8 := dkwX1_ledger_1 ++ []
def dkwX1_ledger_0 : List UInt8 := [42, 27, 182, 0, 149, 153, 0, 33, 28, 3, 8, 184, 0, 77, 153, 0, 24, 42, 42, 180, 0, 57]
abbrev dktX1_ledger_0 : List UInt8 := dkwX1_ledger_0 ++ dktX1_ledger_1
theorem dksX1_ledger_0 : cX1_ledger.data.toList.drop 0 = dktX1_ledger_0 := by decide +kernel
theorem dksX1_ledger_1 : cX1_ledger.data.toList.drop 22 = dktX1_ledger_1 := dk_seg dksX1_ledger_0 22 rfl rfl
theorem dX1_ledger_0 : decode cX1_ledger 0 = .ok (.aload_n 0, 1) := dk_42 (dk_at dksX1_ledger_0 0 rfl rfl)
theorem dX1_ledger_1 : decode cX1_ledger 1 = .ok (.iload_n 1, 1) := dk_27 (dk_at dksX1_ledger_0 1 rfl rfl)
theorem dX1_ledger_2 : decode cX1_ledger 2 = .ok (.invokevirtual 149, 3) := dk_182 0 149 (dk_at dksX1_ledger_0 2 rfl rfl)
theorem dX1_ledger_5 : decode cX1_ledger 5 = .ok (.ifCond .eq 33, 3) := dk_153 0 33 (dk_at dksX1_ledger_0 5 rfl rfl)
theorem dX1_ledger_8 : decode cX1_ledger 8 = .ok (.iload_n 2, 1) := dk_28 (dk_at dksX1_ledger_0 8 rfl rfl)
theorem dX1_ledger_9 : decode cX1_ledger 9 = .ok (.iconst 0, 1) := dk_3 (dk_at dksX1_ledger_0 9 rfl rfl)
theorem dX1_ledger_10 : decode cX1_ledger 10 = .ok (.iconst 5, 1) := dk_8 (dk_at dksX1_ledger_0 10 rfl rfl)
theorem dX1_ledger_11 : decode cX1_ledger 11 = .ok (.invokestatic 77, 3) := dk_184 0 77 (dk_at dksX1_ledger_0 11 rfl rfl)
theorem dX1_ledger_14 : decode cX1_ledger 14 = .ok (.ifCond .eq 24, 3) := dk_153 0 24 (dk_at dksX1_ledger_0 14 rfl rfl)
theorem dX1_ledger_17 : decode cX1_ledger 17 = .ok (.aload_n 0, 1) := dk_42 (dk_at dksX1_ledger_0 17 rfl rfl)
theorem dX1_ledger_18 : decode cX1_ledger 18 = .ok (.aload_n 0, 1) := dk_42 (dk_at dksX1_ledger_0 18 rfl rfl)
theorem dX1_ledger_19 : decode cX1_ledger 19 = .ok (.getfield 57, 3) := dk_180 0 57 (dk_at dksX1_ledger_0 19 rfl rfl)
theorem dX1_ledger_22 : decode cX1_ledger 22 = .ok (.getfield 279, 3) := dk_180 1 23 (dk_at dksX1_ledger_1 0 rfl rfl)
theorem dX1_ledger_25 : decode cX1_ledger 25 = .ok (.bipush 6, 2) := dk_16 6 (dk_at dksX1_ledger_1 3 rfl rfl)
theorem dX1_ledger_27 : decode cX1_ledger 27 = .ok (.iload_n 1, 1) := dk_27 (dk_at dksX1_ledger_1 5 rfl rfl)
theorem dX1_ledger_28 : decode cX1_ledger 28 = .ok (.imul, 1) := dk_104 (dk_at dksX1_ledger_1 6 rfl rfl)
theorem dX1_ledger_29 : decode cX1_ledger 29 = .ok (.iload_n 2, 1) := dk_28 (dk_at dksX1_ledger_1 7 rfl rfl)
theorem dX1_ledger_30 : decode cX1_ledger 30 = .ok (.iadd, 1) := dk_96 (dk_at dksX1_ledger_1 8 rfl rfl)
theorem dX1_ledger_31 : decode cX1_ledger 31 = .ok (.iaload, 1) := dk_46 (dk_at dksX1_ledger_1 9 rfl rfl)
theorem dX1_ledger_32 : decode cX1_ledger 32 = .ok (.invokevirtual 125, 3) := dk_182 0 125 (dk_at dksX1_ledger_1 10 rfl rfl)
theorem dX1_ledger_35 : decode cX1_ledger 35 = .ok (.goto 8, 3) := dk_167 0 8 (dk_at dksX1_ledger_1 13 rfl rfl)
theorem dX1_ledger_38 : decode cX1_ledger 38 = .ok (.aload_n 0, 1) := dk_42 (dk_at dksX1_ledger_1 16 rfl rfl)
theorem dX1_ledger_39 : decode cX1_ledger 39 = .ok (.iconst 1, 1) := dk_4 (dk_at dksX1_ledger_1 17 rfl rfl)
theorem dX1_ledger_40 : decode cX1_ledger 40 = .ok (.invokevirtual 81, 3) := dk_182 0 81 (dk_at dksX1_ledger_1 18 rfl rfl)
theorem dX1_ledger_43 : decode cX1_ledger 43 = .ok (.ireturn, 1) := dk_172 (dk_at dksX1_ledger_1 21 rfl rfl)
abbrev cX1_log : ByteArray := prog_1_method_45_code
def yX1_log : MethodName := ⟨RX1, "log", "(II)I"⟩
def dkwX1_log_6 : List UInt8 := [182, 1, 48, 182, 0, 125, 172, 42, 4, 182, 0, 81, 172]
abbrev dktX1_log_6 : List UInt8 := dkwX1_log_6 ++ []
def dkwX1_log_5 : List UInt8 := [182, 0, 125, 172, 42, 45, 182, 1, 42, 182, 0, 125, 172, 42, 45, 182, 1, 45, 182, 0, 125, 172, 42, 45]
abbrev dktX1_log_5 : List UInt8 := dkwX1_log_5 ++ dktX1_log_6
def dkwX1_log_4 : List UInt8 := [42, 45, 182, 1, 34, 182, 0, 125, 172, 42, 45, 182, 1, 36, 182, 0, 125, 172, 42, 45, 182, 1, 39]
abbrev dktX1_log_4 : List UInt8 := dkwX1_log_4 ++ dktX1_log_5
def dkwX1_log_3 : List UInt8 := [170, 0, 0, 0, 0, 92, 0, 0, 0, 0, 0, 0, 0, 5, 0, 0, 0, 38, 0, 0, 0, 47, 0, 0, 0, 56, 0, 0, 0, 65, 0, 0, 0, 74, 0, 0, 0, 83]
abbrev dktX1_log_3 : List UInt8 := dkwX1_log_3 ++ dktX1_log_4
def dkwX1_log_2 : List UInt8 := [182, 0, 141, 4, 100, 27, 100, 182, 1, 29, 192, 1, 32, 78, 28]
abbrev dktX1_log_2 : List UInt8 := dkwX1_log_2 ++ dktX1_log_3
def dkwX1_log_1 : List UInt8 := [154, 0, 9, 42, 4, 182, 0, 81, 172, 42, 180, 0, 57, 180, 1, 26, 42, 180, 0, 57, 180, 1, 26]
abbrev dktX1_log_1 : List UInt8 := dkwX1_log_1 ++ dktX1_log_2
def dkwX1_log_0 : List UInt8 := [42, 180, 0, 96, 198, 0, 23, 27, 3, 42, 180, 0, 57, 180, 1, 26, 182, 0, 141, 4, 100, 184, 0, 77]
abbrev dktX1_log_0 : List UInt8 := dkwX1_log_0 ++ dktX1_log_1
theorem dksX1_log_0 : cX1_log.data.toList.drop 0 = dktX1_log_0 := by decide +kernel
theorem dksX1_log_1 : cX1_log.data.toList.drop 24 = dktX1_log_1 := dk_seg dksX1_log_0 24 rfl rfl
theorem dksX1_log_2 : cX1_log.data.toList.drop 47 = dktX1_log_2 := dk_seg dksX1_log_1 23 rfl rfl
theorem dksX1_log_3 : cX1_log.data.toList.drop 62 = dktX1_log_3 := dk_seg dksX1_log_2 15 rfl rfl
theorem dksX1_log_4 : cX1_log.data.toList.drop 100 = dktX1_log_4 := dk_seg dksX1_log_3 38 rfl rfl
theorem dksX1_log_5 : cX1_log.data.toList.drop 123 = dktX1_log_5 := dk_seg dksX1_log_4 23 rfl rfl
theorem dksX1_log_6 : cX1_log.data.toList.drop 147 = dktX1_log_6 := dk_seg dksX1_log_5 24 rfl rfl
theorem dX1_log_0 : decode cX1_log 0 = .ok (.aload_n 0, 1) := dk_42 (dk_at dksX1_log_0 0 rfl rfl)
theorem dX1_log_1 : decode cX1_log 1 = .ok (.getfield 96, 3) := dk_180 0 96 (dk_at dksX1_log_0 1 rfl rfl)
theorem dX1_log_4 : decode cX1_log 4 = .ok (.ifnull 23, 3) := dk_198 0 23 (dk_at dksX1_log_0 4 rfl rfl)
theorem dX1_log_7 : decode cX1_log 7 = .ok (.iload_n 1, 1) := dk_27 (dk_at dksX1_log_0 7 rfl rfl)
theorem dX1_log_8 : decode cX1_log 8 = .ok (.iconst 0, 1) := dk_3 (dk_at dksX1_log_0 8 rfl rfl)
theorem dX1_log_9 : decode cX1_log 9 = .ok (.aload_n 0, 1) := dk_42 (dk_at dksX1_log_0 9 rfl rfl)
theorem dX1_log_10 : decode cX1_log 10 = .ok (.getfield 57, 3) := dk_180 0 57 (dk_at dksX1_log_0 10 rfl rfl)
theorem dX1_log_13 : decode cX1_log 13 = .ok (.getfield 282, 3) := dk_180 1 26 (dk_at dksX1_log_0 13 rfl rfl)
theorem dX1_log_16 : decode cX1_log 16 = .ok (.invokevirtual 141, 3) := dk_182 0 141 (dk_at dksX1_log_0 16 rfl rfl)
theorem dX1_log_19 : decode cX1_log 19 = .ok (.iconst 1, 1) := dk_4 (dk_at dksX1_log_0 19 rfl rfl)
theorem dX1_log_20 : decode cX1_log 20 = .ok (.isub, 1) := dk_100 (dk_at dksX1_log_0 20 rfl rfl)
theorem dX1_log_21 : decode cX1_log 21 = .ok (.invokestatic 77, 3) := dk_184 0 77 (dk_at dksX1_log_0 21 rfl rfl)
theorem dX1_log_24 : decode cX1_log 24 = .ok (.ifCond .ne 9, 3) := dk_154 0 9 (dk_at dksX1_log_1 0 rfl rfl)
theorem dX1_log_27 : decode cX1_log 27 = .ok (.aload_n 0, 1) := dk_42 (dk_at dksX1_log_1 3 rfl rfl)
theorem dX1_log_28 : decode cX1_log 28 = .ok (.iconst 1, 1) := dk_4 (dk_at dksX1_log_1 4 rfl rfl)
theorem dX1_log_29 : decode cX1_log 29 = .ok (.invokevirtual 81, 3) := dk_182 0 81 (dk_at dksX1_log_1 5 rfl rfl)
theorem dX1_log_32 : decode cX1_log 32 = .ok (.ireturn, 1) := dk_172 (dk_at dksX1_log_1 8 rfl rfl)
theorem dX1_log_33 : decode cX1_log 33 = .ok (.aload_n 0, 1) := dk_42 (dk_at dksX1_log_1 9 rfl rfl)
theorem dX1_log_34 : decode cX1_log 34 = .ok (.getfield 57, 3) := dk_180 0 57 (dk_at dksX1_log_1 10 rfl rfl)
theorem dX1_log_37 : decode cX1_log 37 = .ok (.getfield 282, 3) := dk_180 1 26 (dk_at dksX1_log_1 13 rfl rfl)
theorem dX1_log_40 : decode cX1_log 40 = .ok (.aload_n 0, 1) := dk_42 (dk_at dksX1_log_1 16 rfl rfl)
theorem dX1_log_41 : decode cX1_log 41 = .ok (.getfield 57, 3) := dk_180 0 57 (dk_at dksX1_log_1 17 rfl rfl)
theorem dX1_log_44 : decode cX1_log 44 = .ok (.getfield 282, 3) := dk_180 1 26 (dk_at dksX1_log_1 20 rfl rfl)
theorem dX1_log_47 : decode cX1_log 47 = .ok (.invokevirtual 141, 3) := dk_182 0 141 (dk_at dksX1_log_2 0 rfl rfl)
theorem dX1_log_50 : decode cX1_log 50 = .ok (.iconst 1, 1) := dk_4 (dk_at dksX1_log_2 3 rfl rfl)
theorem dX1_log_51 : decode cX1_log 51 = .ok (.isub, 1) := dk_100 (dk_at dksX1_log_2 4 rfl rfl)
theorem dX1_log_52 : decode cX1_log 52 = .ok (.iload_n 1, 1) := dk_27 (dk_at dksX1_log_2 5 rfl rfl)
theorem dX1_log_53 : decode cX1_log 53 = .ok (.isub, 1) := dk_100 (dk_at dksX1_log_2 6 rfl rfl)
theorem dX1_log_54 : decode cX1_log 54 = .ok (.invokevirtual 285, 3) := dk_182 1 29 (dk_at dksX1_log_2 7 rfl rfl)
theorem dX1_log_57 : decode cX1_log 57 = .ok (.checkcast 288, 3) := dk_192 1 32 (dk_at dksX1_log_2 10 rfl rfl)
theorem dX1_log_60 : decode cX1_log 60 = .ok (.astore_n 3, 1) := dk_78 (dk_at dksX1_log_2 13 rfl rfl)
theorem dX1_log_61 : decode cX1_log 61 = .ok (.iload_n 2, 1) := dk_28 (dk_at dksX1_log_2 14 rfl rfl)
theorem dX1_log_62 : decode cX1_log 62 = .ok (.tableswitch 92 0 5 #[38, 47, 56, 65, 74, 83], 38) := by decide +kernel
theorem dX1_log_100 : decode cX1_log 100 = .ok (.aload_n 0, 1) := dk_42 (dk_at dksX1_log_4 0 rfl rfl)
theorem dX1_log_101 : decode cX1_log 101 = .ok (.aload_n 3, 1) := dk_45 (dk_at dksX1_log_4 1 rfl rfl)
theorem dX1_log_102 : decode cX1_log 102 = .ok (.invokevirtual 290, 3) := dk_182 1 34 (dk_at dksX1_log_4 2 rfl rfl)
theorem dX1_log_105 : decode cX1_log 105 = .ok (.invokevirtual 125, 3) := dk_182 0 125 (dk_at dksX1_log_4 5 rfl rfl)
theorem dX1_log_108 : decode cX1_log 108 = .ok (.ireturn, 1) := dk_172 (dk_at dksX1_log_4 8 rfl rfl)
theorem dX1_log_109 : decode cX1_log 109 = .ok (.aload_n 0, 1) := dk_42 (dk_at dksX1_log_4 9 rfl rfl)
theorem dX1_log_110 : decode cX1_log 110 = .ok (.aload_n 3, 1) := dk_45 (dk_at dksX1_log_4 10 rfl rfl)
theorem dX1_log_111 : decode cX1_log 111 = .ok (.invokevirtual 292, 3) := dk_182 1 36 (dk_at dksX1_log_4 11 rfl rfl)
theorem dX1_log_114 : decode cX1_log 114 = .ok (.invokevirtual 125, 3) := dk_182 0 125 (dk_at dksX1_log_4 14 rfl rfl)
theorem dX1_log_117 : decode cX1_log 117 = .ok (.ireturn, 1) := dk_172 (dk_at dksX1_log_4 17 rfl rfl)
theorem dX1_log_118 : decode cX1_log 118 = .ok (.aload_n 0, 1) := dk_42 (dk_at dksX1_log_4 18 rfl rfl)
theorem dX1_log_119 : decode cX1_log 119 = .ok (.aload_n 3, 1) := dk_45 (dk_at dksX1_log_4 19 rfl rfl)
theorem dX1_log_120 : decode cX1_log 120 = .ok (.invokevirtual 295, 3) := dk_182 1 39 (dk_at dksX1_log_4 20 rfl rfl)
theorem dX1_log_123 : decode cX1_log 123 = .ok (.invokevirtual 125, 3) := dk_182 0 125 (dk_at dksX1_log_5 0 rfl rfl)
theorem dX1_log_126 : decode cX1_log 126 = .ok (.ireturn, 1) := dk_172 (dk_at dksX1_log_5 3 rfl rfl)
theorem dX1_log_127 : decode cX1_log 127 = .ok (.aload_n 0, 1) := dk_42 (dk_at dksX1_log_5 4 rfl rfl)
theorem dX1_log_128 : decode cX1_log 128 = .ok (.aload_n 3, 1) := dk_45 (dk_at dksX1_log_5 5 rfl rfl)
theorem dX1_log_129 : decode cX1_log 129 = .ok (.invokevirtual 298, 3) := dk_182 1 42 (dk_at dksX1_log_5 6 rfl rfl)
theorem dX1_log_132 : decode cX1_log 132 = .ok (.invokevirtual 125, 3) := dk_182 0 125 (dk_at dksX1_log_5 9 rfl rfl)
theorem dX1_log_135 : decode cX1_log 135 = .ok (.ireturn, 1) := dk_172 (dk_at dksX1_log_5 12 rfl rfl)
theorem dX1_log_136 : decode cX1_log 136 = .ok (.aload_n 0, 1) := dk_42 (dk_at dksX1_log_5 13 rfl rfl)
theorem dX1_log_137 : decode cX1_log 137 = .ok (.aload_n 3, 1) := dk_45 (dk_at dksX1_log_5 14 rfl rfl)
theorem dX1_log_138 : decode cX1_log 138 = .ok (.invokevirtual 301, 3) := dk_182 1 45 (dk_at dksX1_log_5 15 rfl rfl)
theorem dX1_log_141 : decode cX1_log 141 = .ok (.invokevirtual 125, 3) := dk_182 0 125 (dk_at dksX1_log_5 18 rfl rfl)
theorem dX1_log_144 : decode cX1_log 144 = .ok (.ireturn, 1) := dk_172 (dk_at dksX1_log_5 21 rfl rfl)
theorem dX1_log_145 : decode cX1_log 145 = .ok (.aload_n 0, 1) := dk_42 (dk_at dksX1_log_5 22 rfl rfl)
theorem dX1_log_146 : decode cX1_log 146 = .ok (.aload_n 3, 1) := dk_45 (dk_at dksX1_log_5 23 rfl rfl)
theorem dX1_log_147 : decode cX1_log 147 = .ok (.invokevirtual 304, 3) := dk_182 1 48 (dk_at dksX1_log_6 0 rfl rfl)
theorem dX1_log_150 : decode cX1_log 150 = .ok (.invokevirtual 125, 3) := dk_182 0 125 (dk_at dksX1_log_6 3 rfl rfl)
theorem dX1_log_153 : decode cX1_log 153 = .ok (.ireturn, 1) := dk_172 (dk_at dksX1_log_6 6 rfl rfl)
theorem dX1_log_154 : decode cX1_log 154 = .ok (.aload_n 0, 1) := dk_42 (dk_at dksX1_log_6 7 rfl rfl)
theorem dX1_log_155 : decode cX1_log 155 = .ok (.iconst 1, 1) := dk_4 (dk_at dksX1_log_6 8 rfl rfl)
theorem dX1_log_156 : decode cX1_log 156 = .ok (.invokevirtual 81, 3) := dk_182 0 81 (dk_at dksX1_log_6 9 rfl rfl)
theorem dX1_log_159 : decode cX1_log 159 = .ok (.ireturn, 1) := dk_172 (dk_at dksX1_log_6 12 rfl rfl)
abbrev cX1_past : ByteArray := prog_1_method_46_code
def yX1_past : MethodName := ⟨RX1, "past", "(I)I"⟩
def dkwX1_past_1 : List UInt8 := [42, 180, 0, 57, 27, 182, 1, 51, 182, 0, 125, 167, 0, 8, 42, 5, 182, 0, 81, 172]
abbrev dktX1_past_1 : List UInt8 := dkwX1_past_1 ++ []
def dkwX1_past_0 : List UInt8 := [42, 180, 0, 96, 199, 0, 9, 42, 4, 182, 0, 81, 172, 27, 3, 16, 63, 184, 0, 77, 153, 0, 18, 42]
abbrev dktX1_past_0 : List UInt8 := dkwX1_past_0 ++ dktX1_past_1
theorem dksX1_past_0 : cX1_past.data.toList.drop 0 = dktX1_past_0 := by decide +kernel
theorem dksX1_past_1 : cX1_past.data.toList.drop 24 = dktX1_past_1 := dk_seg dksX1_past_0 24 rfl rfl
theorem dX1_past_0 : decode cX1_past 0 = .ok (.aload_n 0, 1) := dk_42 (dk_at dksX1_past_0 0 rfl rfl)
theorem dX1_past_1 : decode cX1_past 1 = .ok (.getfield 96, 3) := dk_180 0 96 (dk_at dksX1_past_0 1 rfl rfl)
theorem dX1_past_4 : decode cX1_past 4 = .ok (.ifnonnull 9, 3) := dk_199 0 9 (dk_at dksX1_past_0 4 rfl rfl)
theorem dX1_past_7 : decode cX1_past 7 = .ok (.aload_n 0, 1) := dk_42 (dk_at dksX1_past_0 7 rfl rfl)
theorem dX1_past_8 : decode cX1_past 8 = .ok (.iconst 1, 1) := dk_4 (dk_at dksX1_past_0 8 rfl rfl)
theorem dX1_past_9 : decode cX1_past 9 = .ok (.invokevirtual 81, 3) := dk_182 0 81 (dk_at dksX1_past_0 9 rfl rfl)
theorem dX1_past_12 : decode cX1_past 12 = .ok (.ireturn, 1) := dk_172 (dk_at dksX1_past_0 12 rfl rfl)
theorem dX1_past_13 : decode cX1_past 13 = .ok (.iload_n 1, 1) := dk_27 (dk_at dksX1_past_0 13 rfl rfl)
theorem dX1_past_14 : decode cX1_past 14 = .ok (.iconst 0, 1) := dk_3 (dk_at dksX1_past_0 14 rfl rfl)
theorem dX1_past_15 : decode cX1_past 15 = .ok (.bipush 63, 2) := dk_16 63 (dk_at dksX1_past_0 15 rfl rfl)
theorem dX1_past_17 : decode cX1_past 17 = .ok (.invokestatic 77, 3) := dk_184 0 77 (dk_at dksX1_past_0 17 rfl rfl)
theorem dX1_past_20 : decode cX1_past 20 = .ok (.ifCond .eq 18, 3) := dk_153 0 18 (dk_at dksX1_past_0 20 rfl rfl)
theorem dX1_past_23 : decode cX1_past 23 = .ok (.aload_n 0, 1) := dk_42 (dk_at dksX1_past_0 23 rfl rfl)
theorem dX1_past_24 : decode cX1_past 24 = .ok (.aload_n 0, 1) := dk_42 (dk_at dksX1_past_1 0 rfl rfl)
theorem dX1_past_25 : decode cX1_past 25 = .ok (.getfield 57, 3) := dk_180 0 57 (dk_at dksX1_past_1 1 rfl rfl)
theorem dX1_past_28 : decode cX1_past 28 = .ok (.iload_n 1, 1) := dk_27 (dk_at dksX1_past_1 4 rfl rfl)
theorem dX1_past_29 : decode cX1_past 29 = .ok (.invokevirtual 307, 3) := dk_182 1 51 (dk_at dksX1_past_1 5 rfl rfl)
theorem dX1_past_32 : decode cX1_past 32 = .ok (.invokevirtual 125, 3) := dk_182 0 125 (dk_at dksX1_past_1 8 rfl rfl)
theorem dX1_past_35 : decode cX1_past 35 = .ok (.goto 8, 3) := dk_167 0 8 (dk_at dksX1_past_1 11 rfl rfl)
theorem dX1_past_38 : decode cX1_past 38 = .ok (.aload_n 0, 1) := dk_42 (dk_at dksX1_past_1 14 rfl rfl)
theorem dX1_past_39 : decode cX1_past 39 = .ok (.iconst 2, 1) := dk_5 (dk_at dksX1_past_1 15 rfl rfl)
theorem dX1_past_40 : decode cX1_past 40 = .ok (.invokevirtual 81, 3) := dk_182 0 81 (dk_at dksX1_past_1 16 rfl rfl)
theorem dX1_past_43 : decode cX1_past 43 = .ok (.ireturn, 1) := dk_172 (dk_at dksX1_past_1 19 rfl rfl)
abbrev cX1_idle : ByteArray := prog_1_method_47_code
def yX1_idle : MethodName := ⟨RX1, "idle", "()I"⟩
def dkwX1_idle_1 : List UInt8 := [182, 0, 125, 172]
abbrev dktX1_idle_1 : List UInt8 := dkwX1_idle_1 ++ []
def dkwX1_idle_0 : List UInt8 := [42, 180, 0, 96, 199, 0, 11, 42, 4, 182, 0, 81, 167, 0, 14, 42, 42, 180, 0, 57, 182, 1, 54]
abbrev dktX1_idle_0 : List UInt8 := dkwX1_idle_0 ++ dktX1_idle_1
theorem dksX1_idle_0 : cX1_idle.data.toList.drop 0 = dktX1_idle_0 := by decide +kernel
theorem dksX1_idle_1 : cX1_idle.data.toList.drop 23 = dktX1_idle_1 := dk_seg dksX1_idle_0 23 rfl rfl
theorem dX1_idle_0 : decode cX1_idle 0 = .ok (.aload_n 0, 1) := dk_42 (dk_at dksX1_idle_0 0 rfl rfl)
theorem dX1_idle_1 : decode cX1_idle 1 = .ok (.getfield 96, 3) := dk_180 0 96 (dk_at dksX1_idle_0 1 rfl rfl)
theorem dX1_idle_4 : decode cX1_idle 4 = .ok (.ifnonnull 11, 3) := dk_199 0 11 (dk_at dksX1_idle_0 4 rfl rfl)
theorem dX1_idle_7 : decode cX1_idle 7 = .ok (.aload_n 0, 1) := dk_42 (dk_at dksX1_idle_0 7 rfl rfl)
theorem dX1_idle_8 : decode cX1_idle 8 = .ok (.iconst 1, 1) := dk_4 (dk_at dksX1_idle_0 8 rfl rfl)
theorem dX1_idle_9 : decode cX1_idle 9 = .ok (.invokevirtual 81, 3) := dk_182 0 81 (dk_at dksX1_idle_0 9 rfl rfl)
theorem dX1_idle_12 : decode cX1_idle 12 = .ok (.goto 14, 3) := dk_167 0 14 (dk_at dksX1_idle_0 12 rfl rfl)
theorem dX1_idle_15 : decode cX1_idle 15 = .ok (.aload_n 0, 1) := dk_42 (dk_at dksX1_idle_0 15 rfl rfl)
theorem dX1_idle_16 : decode cX1_idle 16 = .ok (.aload_n 0, 1) := dk_42 (dk_at dksX1_idle_0 16 rfl rfl)
theorem dX1_idle_17 : decode cX1_idle 17 = .ok (.getfield 57, 3) := dk_180 0 57 (dk_at dksX1_idle_0 17 rfl rfl)
theorem dX1_idle_20 : decode cX1_idle 20 = .ok (.invokevirtual 310, 3) := dk_182 1 54 (dk_at dksX1_idle_0 20 rfl rfl)
theorem dX1_idle_23 : decode cX1_idle 23 = .ok (.invokevirtual 125, 3) := dk_182 0 125 (dk_at dksX1_idle_1 0 rfl rfl)
theorem dX1_idle_26 : decode cX1_idle 26 = .ok (.ireturn, 1) := dk_172 (dk_at dksX1_idle_1 3 rfl rfl)
abbrev cX1_waiting : ByteArray := prog_1_method_48_code
def yX1_waiting : MethodName := ⟨RX1, "waiting", "(I)I"⟩
def dkwX1_waiting_1 : List UInt8 := [4, 182, 0, 81, 172]
abbrev dktX1_waiting_1 : List UInt8 := dkwX1_waiting_1 ++ []
def dkwX1_waiting_0 : List UInt8 := [42, 27, 182, 0, 149, 153, 0, 18, 42, 42, 180, 0, 57, 27, 182, 1, 57, 182, 0, 125, 167, 0, 8, 42]
abbrev dktX1_waiting_0 : List UInt8 := dkwX1_waiting_0 ++ dktX1_waiting_1
theorem dksX1_waiting_0 : cX1_waiting.data.toList.drop 0 = dktX1_waiting_0 := by decide +kernel
theorem dksX1_waiting_1 : cX1_waiting.data.toList.drop 24 = dktX1_waiting_1 := dk_seg dksX1_waiting_0 24 rfl rfl
theorem dX1_waiting_0 : decode cX1_waiting 0 = .ok (.aload_n 0, 1) := dk_42 (dk_at dksX1_waiting_0 0 rfl rfl)
theorem dX1_waiting_1 : decode cX1_waiting 1 = .ok (.iload_n 1, 1) := dk_27 (dk_at dksX1_waiting_0 1 rfl rfl)
theorem dX1_waiting_2 : decode cX1_waiting 2 = .ok (.invokevirtual 149, 3) := dk_182 0 149 (dk_at dksX1_waiting_0 2 rfl rfl)
theorem dX1_waiting_5 : decode cX1_waiting 5 = .ok (.ifCond .eq 18, 3) := dk_153 0 18 (dk_at dksX1_waiting_0 5 rfl rfl)
theorem dX1_waiting_8 : decode cX1_waiting 8 = .ok (.aload_n 0, 1) := dk_42 (dk_at dksX1_waiting_0 8 rfl rfl)
theorem dX1_waiting_9 : decode cX1_waiting 9 = .ok (.aload_n 0, 1) := dk_42 (dk_at dksX1_waiting_0 9 rfl rfl)
theorem dX1_waiting_10 : decode cX1_waiting 10 = .ok (.getfield 57, 3) := dk_180 0 57 (dk_at dksX1_waiting_0 10 rfl rfl)
theorem dX1_waiting_13 : decode cX1_waiting 13 = .ok (.iload_n 1, 1) := dk_27 (dk_at dksX1_waiting_0 13 rfl rfl)
theorem dX1_waiting_14 : decode cX1_waiting 14 = .ok (.invokevirtual 313, 3) := dk_182 1 57 (dk_at dksX1_waiting_0 14 rfl rfl)
theorem dX1_waiting_17 : decode cX1_waiting 17 = .ok (.invokevirtual 125, 3) := dk_182 0 125 (dk_at dksX1_waiting_0 17 rfl rfl)
theorem dX1_waiting_20 : decode cX1_waiting 20 = .ok (.goto 8, 3) := dk_167 0 8 (dk_at dksX1_waiting_0 20 rfl rfl)
theorem dX1_waiting_23 : decode cX1_waiting 23 = .ok (.aload_n 0, 1) := dk_42 (dk_at dksX1_waiting_0 23 rfl rfl)
theorem dX1_waiting_24 : decode cX1_waiting 24 = .ok (.iconst 1, 1) := dk_4 (dk_at dksX1_waiting_1 0 rfl rfl)
theorem dX1_waiting_25 : decode cX1_waiting 25 = .ok (.invokevirtual 81, 3) := dk_182 0 81 (dk_at dksX1_waiting_1 1 rfl rfl)
theorem dX1_waiting_28 : decode cX1_waiting 28 = .ok (.ireturn, 1) := dk_172 (dk_at dksX1_waiting_1 4 rfl rfl)
abbrev cX1_longest : ByteArray := prog_1_method_49_code
def yX1_longest : MethodName := ⟨RX1, "longest", "()I"⟩
def dkwX1_longest_1 : List UInt8 := [182, 0, 125, 172]
abbrev dktX1_longest_1 : List UInt8 := dkwX1_longest_1 ++ []
def dkwX1_longest_0 : List UInt8 := [42, 180, 0, 96, 199, 0, 11, 42, 4, 182, 0, 81, 167, 0, 14, 42, 42, 180, 0, 57, 182, 1, 60]
abbrev dktX1_longest_0 : List UInt8 := dkwX1_longest_0 ++ dktX1_longest_1
theorem dksX1_longest_0 : cX1_longest.data.toList.drop 0 = dktX1_longest_0 := by decide +kernel
theorem dksX1_longest_1 : cX1_longest.data.toList.drop 23 = dktX1_longest_1 := dk_seg dksX1_longest_0 23 rfl rfl
theorem dX1_longest_0 : decode cX1_longest 0 = .ok (.aload_n 0, 1) := dk_42 (dk_at dksX1_longest_0 0 rfl rfl)
theorem dX1_longest_1 : decode cX1_longest 1 = .ok (.getfield 96, 3) := dk_180 0 96 (dk_at dksX1_longest_0 1 rfl rfl)
theorem dX1_longest_4 : decode cX1_longest 4 = .ok (.ifnonnull 11, 3) := dk_199 0 11 (dk_at dksX1_longest_0 4 rfl rfl)
theorem dX1_longest_7 : decode cX1_longest 7 = .ok (.aload_n 0, 1) := dk_42 (dk_at dksX1_longest_0 7 rfl rfl)
theorem dX1_longest_8 : decode cX1_longest 8 = .ok (.iconst 1, 1) := dk_4 (dk_at dksX1_longest_0 8 rfl rfl)
theorem dX1_longest_9 : decode cX1_longest 9 = .ok (.invokevirtual 81, 3) := dk_182 0 81 (dk_at dksX1_longest_0 9 rfl rfl)
theorem dX1_longest_12 : decode cX1_longest 12 = .ok (.goto 14, 3) := dk_167 0 14 (dk_at dksX1_longest_0 12 rfl rfl)
theorem dX1_longest_15 : decode cX1_longest 15 = .ok (.aload_n 0, 1) := dk_42 (dk_at dksX1_longest_0 15 rfl rfl)
theorem dX1_longest_16 : decode cX1_longest 16 = .ok (.aload_n 0, 1) := dk_42 (dk_at dksX1_longest_0 16 rfl rfl)
theorem dX1_longest_17 : decode cX1_longest 17 = .ok (.getfield 57, 3) := dk_180 0 57 (dk_at dksX1_longest_0 17 rfl rfl)
theorem dX1_longest_20 : decode cX1_longest 20 = .ok (.invokevirtual 316, 3) := dk_182 1 60 (dk_at dksX1_longest_0 20 rfl rfl)
theorem dX1_longest_23 : decode cX1_longest 23 = .ok (.invokevirtual 125, 3) := dk_182 0 125 (dk_at dksX1_longest_1 0 rfl rfl)
theorem dX1_longest_26 : decode cX1_longest 26 = .ok (.ireturn, 1) := dk_172 (dk_at dksX1_longest_1 3 rfl rfl)
abbrev cX1_will : ByteArray := prog_1_method_50_code
def yX1_will : MethodName := ⟨RX1, "will", "(II)I"⟩
def dkwX1_will_2 : List UInt8 := [182, 1, 63, 42, 180, 0, 64, 27, 182, 1, 67, 42, 42, 180, 0, 64, 28, 182, 1, 20, 182, 0, 125, 172]
abbrev dktX1_will_2 : List UInt8 := dkwX1_will_2 ++ []
def dkwX1_will_1 : List UInt8 := [17, 3, 231, 184, 0, 77, 154, 0, 9, 42, 5, 182, 0, 81, 172, 42, 180, 0, 64, 42, 180, 0, 57]
abbrev dktX1_will_1 : List UInt8 := dkwX1_will_1 ++ dktX1_will_2
def dkwX1_will_0 : List UInt8 := [42, 180, 0, 96, 198, 0, 10, 28, 184, 1, 17, 154, 0, 9, 42, 4, 182, 0, 81, 172, 27, 4]
abbrev dktX1_will_0 : List UInt8 := dkwX1_will_0 ++ dktX1_will_1
theorem dksX1_will_0 : cX1_will.data.toList.drop 0 = dktX1_will_0 := by decide +kernel
theorem dksX1_will_1 : cX1_will.data.toList.drop 22 = dktX1_will_1 := dk_seg dksX1_will_0 22 rfl rfl
theorem dksX1_will_2 : cX1_will.data.toList.drop 45 = dktX1_will_2 := dk_seg dksX1_will_1 23 rfl rfl
theorem dX1_will_0 : decode cX1_will 0 = .ok (.aload_n 0, 1) := dk_42 (dk_at dksX1_will_0 0 rfl rfl)
theorem dX1_will_1 : decode cX1_will 1 = .ok (.getfield 96, 3) := dk_180 0 96 (dk_at dksX1_will_0 1 rfl rfl)
theorem dX1_will_4 : decode cX1_will 4 = .ok (.ifnull 10, 3) := dk_198 0 10 (dk_at dksX1_will_0 4 rfl rfl)
theorem dX1_will_7 : decode cX1_will 7 = .ok (.iload_n 2, 1) := dk_28 (dk_at dksX1_will_0 7 rfl rfl)
theorem dX1_will_8 : decode cX1_will 8 = .ok (.invokestatic 273, 3) := dk_184 1 17 (dk_at dksX1_will_0 8 rfl rfl)
theorem dX1_will_11 : decode cX1_will 11 = .ok (.ifCond .ne 9, 3) := dk_154 0 9 (dk_at dksX1_will_0 11 rfl rfl)
theorem dX1_will_14 : decode cX1_will 14 = .ok (.aload_n 0, 1) := dk_42 (dk_at dksX1_will_0 14 rfl rfl)
theorem dX1_will_15 : decode cX1_will 15 = .ok (.iconst 1, 1) := dk_4 (dk_at dksX1_will_0 15 rfl rfl)
theorem dX1_will_16 : decode cX1_will 16 = .ok (.invokevirtual 81, 3) := dk_182 0 81 (dk_at dksX1_will_0 16 rfl rfl)
theorem dX1_will_19 : decode cX1_will 19 = .ok (.ireturn, 1) := dk_172 (dk_at dksX1_will_0 19 rfl rfl)
theorem dX1_will_20 : decode cX1_will 20 = .ok (.iload_n 1, 1) := dk_27 (dk_at dksX1_will_0 20 rfl rfl)
theorem dX1_will_21 : decode cX1_will 21 = .ok (.iconst 1, 1) := dk_4 (dk_at dksX1_will_0 21 rfl rfl)
theorem dX1_will_22 : decode cX1_will 22 = .ok (.sipush 999, 3) := dk_17 3 231 (dk_at dksX1_will_1 0 rfl rfl)
theorem dX1_will_25 : decode cX1_will 25 = .ok (.invokestatic 77, 3) := dk_184 0 77 (dk_at dksX1_will_1 3 rfl rfl)
theorem dX1_will_28 : decode cX1_will 28 = .ok (.ifCond .ne 9, 3) := dk_154 0 9 (dk_at dksX1_will_1 6 rfl rfl)
theorem dX1_will_31 : decode cX1_will 31 = .ok (.aload_n 0, 1) := dk_42 (dk_at dksX1_will_1 9 rfl rfl)
theorem dX1_will_32 : decode cX1_will 32 = .ok (.iconst 2, 1) := dk_5 (dk_at dksX1_will_1 10 rfl rfl)
theorem dX1_will_33 : decode cX1_will 33 = .ok (.invokevirtual 81, 3) := dk_182 0 81 (dk_at dksX1_will_1 11 rfl rfl)
theorem dX1_will_36 : decode cX1_will 36 = .ok (.ireturn, 1) := dk_172 (dk_at dksX1_will_1 14 rfl rfl)
theorem dX1_will_37 : decode cX1_will 37 = .ok (.aload_n 0, 1) := dk_42 (dk_at dksX1_will_1 15 rfl rfl)
theorem dX1_will_38 : decode cX1_will 38 = .ok (.getfield 64, 3) := dk_180 0 64 (dk_at dksX1_will_1 16 rfl rfl)
theorem dX1_will_41 : decode cX1_will 41 = .ok (.aload_n 0, 1) := dk_42 (dk_at dksX1_will_1 19 rfl rfl)
theorem dX1_will_42 : decode cX1_will 42 = .ok (.getfield 57, 3) := dk_180 0 57 (dk_at dksX1_will_1 20 rfl rfl)
theorem dX1_will_45 : decode cX1_will 45 = .ok (.invokevirtual 319, 3) := dk_182 1 63 (dk_at dksX1_will_2 0 rfl rfl)
theorem dX1_will_48 : decode cX1_will 48 = .ok (.aload_n 0, 1) := dk_42 (dk_at dksX1_will_2 3 rfl rfl)
theorem dX1_will_49 : decode cX1_will 49 = .ok (.getfield 64, 3) := dk_180 0 64 (dk_at dksX1_will_2 4 rfl rfl)
theorem dX1_will_52 : decode cX1_will 52 = .ok (.iload_n 1, 1) := dk_27 (dk_at dksX1_will_2 7 rfl rfl)
theorem dX1_will_53 : decode cX1_will 53 = .ok (.invokevirtual 323, 3) := dk_182 1 67 (dk_at dksX1_will_2 8 rfl rfl)
theorem dX1_will_56 : decode cX1_will 56 = .ok (.aload_n 0, 1) := dk_42 (dk_at dksX1_will_2 11 rfl rfl)
theorem dX1_will_57 : decode cX1_will 57 = .ok (.aload_n 0, 1) := dk_42 (dk_at dksX1_will_2 12 rfl rfl)
theorem dX1_will_58 : decode cX1_will 58 = .ok (.getfield 64, 3) := dk_180 0 64 (dk_at dksX1_will_2 13 rfl rfl)
theorem dX1_will_61 : decode cX1_will 61 = .ok (.iload_n 2, 1) := dk_28 (dk_at dksX1_will_2 16 rfl rfl)
theorem dX1_will_62 : decode cX1_will 62 = .ok (.invokevirtual 276, 3) := dk_182 1 20 (dk_at dksX1_will_2 17 rfl rfl)
theorem dX1_will_65 : decode cX1_will 65 = .ok (.invokevirtual 125, 3) := dk_182 0 125 (dk_at dksX1_will_2 20 rfl rfl)
theorem dX1_will_68 : decode cX1_will 68 = .ok (.ireturn, 1) := dk_172 (dk_at dksX1_will_2 23 rfl rfl)
abbrev cX1_till : ByteArray := prog_1_method_51_code
def yX1_till : MethodName := ⟨RX1, "till", "(I)I"⟩
def dkwX1_till_3 : List UInt8 := [46, 28, 164, 0, 9, 42, 29, 182, 0, 125, 172, 132, 3, 1, 167, 255, 214, 42, 16, 254, 182, 0, 125, 172]
abbrev dktX1_till_3 : List UInt8 := dkwX1_till_3 ++ []
def dkwX1_till_2 : List UInt8 := [163, 0, 41, 42, 180, 0, 64, 4, 182, 1, 67, 42, 180, 0, 64, 180, 1, 23, 16, 6, 27, 104, 3, 96]
abbrev dktX1_till_2 : List UInt8 := dkwX1_till_2 ++ dktX1_till_3
def dkwX1_till_1 : List UInt8 := [182, 1, 63, 42, 180, 0, 57, 180, 1, 23, 16, 6, 27, 104, 3, 96, 46, 61, 4, 62, 29, 17, 7, 208]
abbrev dktX1_till_1 : List UInt8 := dkwX1_till_1 ++ dktX1_till_2
def dkwX1_till_0 : List UInt8 := [42, 27, 182, 0, 149, 154, 0, 9, 42, 4, 182, 0, 81, 172, 42, 180, 0, 64, 42, 180, 0, 57]
abbrev dktX1_till_0 : List UInt8 := dkwX1_till_0 ++ dktX1_till_1
theorem dksX1_till_0 : cX1_till.data.toList.drop 0 = dktX1_till_0 := by decide +kernel
theorem dksX1_till_1 : cX1_till.data.toList.drop 22 = dktX1_till_1 := dk_seg dksX1_till_0 22 rfl rfl
theorem dksX1_till_2 : cX1_till.data.toList.drop 46 = dktX1_till_2 := dk_seg dksX1_till_1 24 rfl rfl
theorem dksX1_till_3 : cX1_till.data.toList.drop 70 = dktX1_till_3 := dk_seg dksX1_till_2 24 rfl rfl
theorem dX1_till_0 : decode cX1_till 0 = .ok (.aload_n 0, 1) := dk_42 (dk_at dksX1_till_0 0 rfl rfl)
theorem dX1_till_1 : decode cX1_till 1 = .ok (.iload_n 1, 1) := dk_27 (dk_at dksX1_till_0 1 rfl rfl)
theorem dX1_till_2 : decode cX1_till 2 = .ok (.invokevirtual 149, 3) := dk_182 0 149 (dk_at dksX1_till_0 2 rfl rfl)
theorem dX1_till_5 : decode cX1_till 5 = .ok (.ifCond .ne 9, 3) := dk_154 0 9 (dk_at dksX1_till_0 5 rfl rfl)
theorem dX1_till_8 : decode cX1_till 8 = .ok (.aload_n 0, 1) := dk_42 (dk_at dksX1_till_0 8 rfl rfl)
theorem dX1_till_9 : decode cX1_till 9 = .ok (.iconst 1, 1) := dk_4 (dk_at dksX1_till_0 9 rfl rfl)
theorem dX1_till_10 : decode cX1_till 10 = .ok (.invokevirtual 81, 3) := dk_182 0 81 (dk_at dksX1_till_0 10 rfl rfl)
theorem dX1_till_13 : decode cX1_till 13 = .ok (.ireturn, 1) := dk_172 (dk_at dksX1_till_0 13 rfl rfl)
theorem dX1_till_14 : decode cX1_till 14 = .ok (.aload_n 0, 1) := dk_42 (dk_at dksX1_till_0 14 rfl rfl)
theorem dX1_till_15 : decode cX1_till 15 = .ok (.getfield 64, 3) := dk_180 0 64 (dk_at dksX1_till_0 15 rfl rfl)
theorem dX1_till_18 : decode cX1_till 18 = .ok (.aload_n 0, 1) := dk_42 (dk_at dksX1_till_0 18 rfl rfl)
theorem dX1_till_19 : decode cX1_till 19 = .ok (.getfield 57, 3) := dk_180 0 57 (dk_at dksX1_till_0 19 rfl rfl)
theorem dX1_till_22 : decode cX1_till 22 = .ok (.invokevirtual 319, 3) := dk_182 1 63 (dk_at dksX1_till_1 0 rfl rfl)
theorem dX1_till_25 : decode cX1_till 25 = .ok (.aload_n 0, 1) := dk_42 (dk_at dksX1_till_1 3 rfl rfl)
theorem dX1_till_26 : decode cX1_till 26 = .ok (.getfield 57, 3) := dk_180 0 57 (dk_at dksX1_till_1 4 rfl rfl)
theorem dX1_till_29 : decode cX1_till 29 = .ok (.getfield 279, 3) := dk_180 1 23 (dk_at dksX1_till_1 7 rfl rfl)
theorem dX1_till_32 : decode cX1_till 32 = .ok (.bipush 6, 2) := dk_16 6 (dk_at dksX1_till_1 10 rfl rfl)
theorem dX1_till_34 : decode cX1_till 34 = .ok (.iload_n 1, 1) := dk_27 (dk_at dksX1_till_1 12 rfl rfl)
theorem dX1_till_35 : decode cX1_till 35 = .ok (.imul, 1) := dk_104 (dk_at dksX1_till_1 13 rfl rfl)
theorem dX1_till_36 : decode cX1_till 36 = .ok (.iconst 0, 1) := dk_3 (dk_at dksX1_till_1 14 rfl rfl)
theorem dX1_till_37 : decode cX1_till 37 = .ok (.iadd, 1) := dk_96 (dk_at dksX1_till_1 15 rfl rfl)
theorem dX1_till_38 : decode cX1_till 38 = .ok (.iaload, 1) := dk_46 (dk_at dksX1_till_1 16 rfl rfl)
theorem dX1_till_39 : decode cX1_till 39 = .ok (.istore_n 2, 1) := dk_61 (dk_at dksX1_till_1 17 rfl rfl)
theorem dX1_till_40 : decode cX1_till 40 = .ok (.iconst 1, 1) := dk_4 (dk_at dksX1_till_1 18 rfl rfl)
theorem dX1_till_41 : decode cX1_till 41 = .ok (.istore_n 3, 1) := dk_62 (dk_at dksX1_till_1 19 rfl rfl)
theorem dX1_till_42 : decode cX1_till 42 = .ok (.iload_n 3, 1) := dk_29 (dk_at dksX1_till_1 20 rfl rfl)
theorem dX1_till_43 : decode cX1_till 43 = .ok (.sipush 2000, 3) := dk_17 7 208 (dk_at dksX1_till_1 21 rfl rfl)
theorem dX1_till_46 : decode cX1_till 46 = .ok (.if_icmp .gt 41, 3) := dk_163 0 41 (dk_at dksX1_till_2 0 rfl rfl)
theorem dX1_till_49 : decode cX1_till 49 = .ok (.aload_n 0, 1) := dk_42 (dk_at dksX1_till_2 3 rfl rfl)
theorem dX1_till_50 : decode cX1_till 50 = .ok (.getfield 64, 3) := dk_180 0 64 (dk_at dksX1_till_2 4 rfl rfl)
theorem dX1_till_53 : decode cX1_till 53 = .ok (.iconst 1, 1) := dk_4 (dk_at dksX1_till_2 7 rfl rfl)
theorem dX1_till_54 : decode cX1_till 54 = .ok (.invokevirtual 323, 3) := dk_182 1 67 (dk_at dksX1_till_2 8 rfl rfl)
theorem dX1_till_57 : decode cX1_till 57 = .ok (.aload_n 0, 1) := dk_42 (dk_at dksX1_till_2 11 rfl rfl)
theorem dX1_till_58 : decode cX1_till 58 = .ok (.getfield 64, 3) := dk_180 0 64 (dk_at dksX1_till_2 12 rfl rfl)
theorem dX1_till_61 : decode cX1_till 61 = .ok (.getfield 279, 3) := dk_180 1 23 (dk_at dksX1_till_2 15 rfl rfl)
theorem dX1_till_64 : decode cX1_till 64 = .ok (.bipush 6, 2) := dk_16 6 (dk_at dksX1_till_2 18 rfl rfl)
theorem dX1_till_66 : decode cX1_till 66 = .ok (.iload_n 1, 1) := dk_27 (dk_at dksX1_till_2 20 rfl rfl)
theorem dX1_till_67 : decode cX1_till 67 = .ok (.imul, 1) := dk_104 (dk_at dksX1_till_2 21 rfl rfl)
theorem dX1_till_68 : decode cX1_till 68 = .ok (.iconst 0, 1) := dk_3 (dk_at dksX1_till_2 22 rfl rfl)
theorem dX1_till_69 : decode cX1_till 69 = .ok (.iadd, 1) := dk_96 (dk_at dksX1_till_2 23 rfl rfl)
theorem dX1_till_70 : decode cX1_till 70 = .ok (.iaload, 1) := dk_46 (dk_at dksX1_till_3 0 rfl rfl)
theorem dX1_till_71 : decode cX1_till 71 = .ok (.iload_n 2, 1) := dk_28 (dk_at dksX1_till_3 1 rfl rfl)
theorem dX1_till_72 : decode cX1_till 72 = .ok (.if_icmp .le 9, 3) := dk_164 0 9 (dk_at dksX1_till_3 2 rfl rfl)
theorem dX1_till_75 : decode cX1_till 75 = .ok (.aload_n 0, 1) := dk_42 (dk_at dksX1_till_3 5 rfl rfl)
theorem dX1_till_76 : decode cX1_till 76 = .ok (.iload_n 3, 1) := dk_29 (dk_at dksX1_till_3 6 rfl rfl)
theorem dX1_till_77 : decode cX1_till 77 = .ok (.invokevirtual 125, 3) := dk_182 0 125 (dk_at dksX1_till_3 7 rfl rfl)
theorem dX1_till_80 : decode cX1_till 80 = .ok (.ireturn, 1) := dk_172 (dk_at dksX1_till_3 10 rfl rfl)
theorem dX1_till_81 : decode cX1_till 81 = .ok (.iinc 3 1, 3) := dk_132 3 1 (dk_at dksX1_till_3 11 rfl rfl)
theorem dX1_till_84 : decode cX1_till 84 = .ok (.goto (-42), 3) := dk_167 255 214 (dk_at dksX1_till_3 14 rfl rfl)
theorem dX1_till_87 : decode cX1_till 87 = .ok (.aload_n 0, 1) := dk_42 (dk_at dksX1_till_3 17 rfl rfl)
theorem dX1_till_88 : decode cX1_till 88 = .ok (.bipush (-2), 2) := dk_16 254 (dk_at dksX1_till_3 18 rfl rfl)
theorem dX1_till_90 : decode cX1_till 90 = .ok (.invokevirtual 125, 3) := dk_182 0 125 (dk_at dksX1_till_3 20 rfl rfl)
theorem dX1_till_93 : decode cX1_till 93 = .ok (.ireturn, 1) := dk_172 (dk_at dksX1_till_3 23 rfl rfl)
abbrev cX1_ask : ByteArray := prog_1_method_52_code
def yX1_ask : MethodName := ⟨RX1, "ask", "(II)I"⟩
def dkwX1_ask_2 : List UInt8 := [182, 1, 73, 184, 0, 3, 182, 0, 125, 167, 0, 8, 42, 8, 182, 0, 81, 172]
abbrev dktX1_ask_2 : List UInt8 := dkwX1_ask_2 ++ []
def dkwX1_ask_1 : List UInt8 := [42, 5, 182, 0, 81, 172, 42, 180, 0, 57, 27, 28, 182, 1, 69, 153, 0, 20, 42, 42, 180, 0, 57]
abbrev dktX1_ask_1 : List UInt8 := dkwX1_ask_1 ++ dktX1_ask_2
def dkwX1_ask_0 : List UInt8 := [42, 27, 182, 0, 149, 154, 0, 9, 42, 4, 182, 0, 81, 172, 28, 4, 16, 99, 184, 0, 77, 154, 0, 9]
abbrev dktX1_ask_0 : List UInt8 := dkwX1_ask_0 ++ dktX1_ask_1
theorem dksX1_ask_0 : cX1_ask.data.toList.drop 0 = dktX1_ask_0 := by decide +kernel
theorem dksX1_ask_1 : cX1_ask.data.toList.drop 24 = dktX1_ask_1 := dk_seg dksX1_ask_0 24 rfl rfl
theorem dksX1_ask_2 : cX1_ask.data.toList.drop 47 = dktX1_ask_2 := dk_seg dksX1_ask_1 23 rfl rfl
theorem dX1_ask_0 : decode cX1_ask 0 = .ok (.aload_n 0, 1) := dk_42 (dk_at dksX1_ask_0 0 rfl rfl)
theorem dX1_ask_1 : decode cX1_ask 1 = .ok (.iload_n 1, 1) := dk_27 (dk_at dksX1_ask_0 1 rfl rfl)
theorem dX1_ask_2 : decode cX1_ask 2 = .ok (.invokevirtual 149, 3) := dk_182 0 149 (dk_at dksX1_ask_0 2 rfl rfl)
theorem dX1_ask_5 : decode cX1_ask 5 = .ok (.ifCond .ne 9, 3) := dk_154 0 9 (dk_at dksX1_ask_0 5 rfl rfl)
theorem dX1_ask_8 : decode cX1_ask 8 = .ok (.aload_n 0, 1) := dk_42 (dk_at dksX1_ask_0 8 rfl rfl)
theorem dX1_ask_9 : decode cX1_ask 9 = .ok (.iconst 1, 1) := dk_4 (dk_at dksX1_ask_0 9 rfl rfl)
theorem dX1_ask_10 : decode cX1_ask 10 = .ok (.invokevirtual 81, 3) := dk_182 0 81 (dk_at dksX1_ask_0 10 rfl rfl)
theorem dX1_ask_13 : decode cX1_ask 13 = .ok (.ireturn, 1) := dk_172 (dk_at dksX1_ask_0 13 rfl rfl)
theorem dX1_ask_14 : decode cX1_ask 14 = .ok (.iload_n 2, 1) := dk_28 (dk_at dksX1_ask_0 14 rfl rfl)
theorem dX1_ask_15 : decode cX1_ask 15 = .ok (.iconst 1, 1) := dk_4 (dk_at dksX1_ask_0 15 rfl rfl)
theorem dX1_ask_16 : decode cX1_ask 16 = .ok (.bipush 99, 2) := dk_16 99 (dk_at dksX1_ask_0 16 rfl rfl)
theorem dX1_ask_18 : decode cX1_ask 18 = .ok (.invokestatic 77, 3) := dk_184 0 77 (dk_at dksX1_ask_0 18 rfl rfl)
theorem dX1_ask_21 : decode cX1_ask 21 = .ok (.ifCond .ne 9, 3) := dk_154 0 9 (dk_at dksX1_ask_0 21 rfl rfl)
theorem dX1_ask_24 : decode cX1_ask 24 = .ok (.aload_n 0, 1) := dk_42 (dk_at dksX1_ask_1 0 rfl rfl)
theorem dX1_ask_25 : decode cX1_ask 25 = .ok (.iconst 2, 1) := dk_5 (dk_at dksX1_ask_1 1 rfl rfl)
theorem dX1_ask_26 : decode cX1_ask 26 = .ok (.invokevirtual 81, 3) := dk_182 0 81 (dk_at dksX1_ask_1 2 rfl rfl)
theorem dX1_ask_29 : decode cX1_ask 29 = .ok (.ireturn, 1) := dk_172 (dk_at dksX1_ask_1 5 rfl rfl)
theorem dX1_ask_30 : decode cX1_ask 30 = .ok (.aload_n 0, 1) := dk_42 (dk_at dksX1_ask_1 6 rfl rfl)
theorem dX1_ask_31 : decode cX1_ask 31 = .ok (.getfield 57, 3) := dk_180 0 57 (dk_at dksX1_ask_1 7 rfl rfl)
theorem dX1_ask_34 : decode cX1_ask 34 = .ok (.iload_n 1, 1) := dk_27 (dk_at dksX1_ask_1 10 rfl rfl)
theorem dX1_ask_35 : decode cX1_ask 35 = .ok (.iload_n 2, 1) := dk_28 (dk_at dksX1_ask_1 11 rfl rfl)
theorem dX1_ask_36 : decode cX1_ask 36 = .ok (.invokevirtual 325, 3) := dk_182 1 69 (dk_at dksX1_ask_1 12 rfl rfl)
theorem dX1_ask_39 : decode cX1_ask 39 = .ok (.ifCond .eq 20, 3) := dk_153 0 20 (dk_at dksX1_ask_1 15 rfl rfl)
theorem dX1_ask_42 : decode cX1_ask 42 = .ok (.aload_n 0, 1) := dk_42 (dk_at dksX1_ask_1 18 rfl rfl)
theorem dX1_ask_43 : decode cX1_ask 43 = .ok (.aload_n 0, 1) := dk_42 (dk_at dksX1_ask_1 19 rfl rfl)
theorem dX1_ask_44 : decode cX1_ask 44 = .ok (.getfield 57, 3) := dk_180 0 57 (dk_at dksX1_ask_1 20 rfl rfl)
theorem dX1_ask_47 : decode cX1_ask 47 = .ok (.invokevirtual 329, 3) := dk_182 1 73 (dk_at dksX1_ask_2 0 rfl rfl)
theorem dX1_ask_50 : decode cX1_ask 50 = .ok (.invokestatic 3, 3) := dk_184 0 3 (dk_at dksX1_ask_2 3 rfl rfl)
theorem dX1_ask_53 : decode cX1_ask 53 = .ok (.invokevirtual 125, 3) := dk_182 0 125 (dk_at dksX1_ask_2 6 rfl rfl)
theorem dX1_ask_56 : decode cX1_ask 56 = .ok (.goto 8, 3) := dk_167 0 8 (dk_at dksX1_ask_2 9 rfl rfl)
theorem dX1_ask_59 : decode cX1_ask 59 = .ok (.aload_n 0, 1) := dk_42 (dk_at dksX1_ask_2 12 rfl rfl)
theorem dX1_ask_60 : decode cX1_ask 60 = .ok (.iconst 5, 1) := dk_8 (dk_at dksX1_ask_2 13 rfl rfl)
theorem dX1_ask_61 : decode cX1_ask 61 = .ok (.invokevirtual 81, 3) := dk_182 0 81 (dk_at dksX1_ask_2 14 rfl rfl)
theorem dX1_ask_64 : decode cX1_ask 64 = .ok (.ireturn, 1) := dk_172 (dk_at dksX1_ask_2 17 rfl rfl)
abbrev cX1_waits : ByteArray := prog_1_method_53_code
def yX1_waits : MethodName := ⟨RX1, "waits", "(II)I"⟩
def dkwX1_waits_4 : List UInt8 := [29, 182, 0, 125, 172]
abbrev dktX1_waits_4 : List UInt8 := dkwX1_waits_4 ++ []
def dkwX1_waits_3 : List UInt8 := [182, 0, 112, 42, 180, 0, 57, 180, 0, 166, 27, 28, 2, 160, 0, 8, 16, 254, 167, 0, 4, 28, 79, 42]
abbrev dktX1_waits_3 : List UInt8 := dkwX1_waits_3 ++ dktX1_waits_4
def dkwX1_waits_2 : List UInt8 := [27, 182, 1, 76, 153, 0, 9, 42, 8, 182, 0, 81, 172, 42, 180, 0, 57, 180, 0, 166, 27, 46, 62, 42]
abbrev dktX1_waits_2 : List UInt8 := dkwX1_waits_2 ++ dktX1_waits_3
def dkwX1_waits_1 : List UInt8 := [153, 0, 8, 28, 27, 160, 0, 9, 42, 5, 182, 0, 81, 172, 28, 2, 159, 0, 21, 42, 180, 0, 57, 28]
abbrev dktX1_waits_1 : List UInt8 := dkwX1_waits_1 ++ dktX1_waits_2
def dkwX1_waits_0 : List UInt8 := [42, 27, 182, 0, 149, 154, 0, 9, 42, 4, 182, 0, 81, 172, 28, 2, 159, 0, 11, 42, 28, 182, 0, 149]
abbrev dktX1_waits_0 : List UInt8 := dkwX1_waits_0 ++ dktX1_waits_1
theorem dksX1_waits_0 : cX1_waits.data.toList.drop 0 = dktX1_waits_0 := by decide +kernel
theorem dksX1_waits_1 : cX1_waits.data.toList.drop 24 = dktX1_waits_1 := dk_seg dksX1_waits_0 24 rfl rfl
theorem dksX1_waits_2 : cX1_waits.data.toList.drop 48 = dktX1_waits_2 := dk_seg dksX1_waits_1 24 rfl rfl
theorem dksX1_waits_3 : cX1_waits.data.toList.drop 72 = dktX1_waits_3 := dk_seg dksX1_waits_2 24 rfl rfl
theorem dksX1_waits_4 : cX1_waits.data.toList.drop 96 = dktX1_waits_4 := dk_seg dksX1_waits_3 24 rfl rfl
theorem dX1_waits_0 : decode cX1_waits 0 = .ok (.aload_n 0, 1) := dk_42 (dk_at dksX1_waits_0 0 rfl rfl)
theorem dX1_waits_1 : decode cX1_waits 1 = .ok (.iload_n 1, 1) := dk_27 (dk_at dksX1_waits_0 1 rfl rfl)
theorem dX1_waits_2 : decode cX1_waits 2 = .ok (.invokevirtual 149, 3) := dk_182 0 149 (dk_at dksX1_waits_0 2 rfl rfl)
theorem dX1_waits_5 : decode cX1_waits 5 = .ok (.ifCond .ne 9, 3) := dk_154 0 9 (dk_at dksX1_waits_0 5 rfl rfl)
theorem dX1_waits_8 : decode cX1_waits 8 = .ok (.aload_n 0, 1) := dk_42 (dk_at dksX1_waits_0 8 rfl rfl)
theorem dX1_waits_9 : decode cX1_waits 9 = .ok (.iconst 1, 1) := dk_4 (dk_at dksX1_waits_0 9 rfl rfl)
theorem dX1_waits_10 : decode cX1_waits 10 = .ok (.invokevirtual 81, 3) := dk_182 0 81 (dk_at dksX1_waits_0 10 rfl rfl)
theorem dX1_waits_13 : decode cX1_waits 13 = .ok (.ireturn, 1) := dk_172 (dk_at dksX1_waits_0 13 rfl rfl)
theorem dX1_waits_14 : decode cX1_waits 14 = .ok (.iload_n 2, 1) := dk_28 (dk_at dksX1_waits_0 14 rfl rfl)
theorem dX1_waits_15 : decode cX1_waits 15 = .ok (.iconst (-1), 1) := dk_2 (dk_at dksX1_waits_0 15 rfl rfl)
theorem dX1_waits_16 : decode cX1_waits 16 = .ok (.if_icmp .eq 11, 3) := dk_159 0 11 (dk_at dksX1_waits_0 16 rfl rfl)
theorem dX1_waits_19 : decode cX1_waits 19 = .ok (.aload_n 0, 1) := dk_42 (dk_at dksX1_waits_0 19 rfl rfl)
theorem dX1_waits_20 : decode cX1_waits 20 = .ok (.iload_n 2, 1) := dk_28 (dk_at dksX1_waits_0 20 rfl rfl)
theorem dX1_waits_21 : decode cX1_waits 21 = .ok (.invokevirtual 149, 3) := dk_182 0 149 (dk_at dksX1_waits_0 21 rfl rfl)
theorem dX1_waits_24 : decode cX1_waits 24 = .ok (.ifCond .eq 8, 3) := dk_153 0 8 (dk_at dksX1_waits_1 0 rfl rfl)
theorem dX1_waits_27 : decode cX1_waits 27 = .ok (.iload_n 2, 1) := dk_28 (dk_at dksX1_waits_1 3 rfl rfl)
theorem dX1_waits_28 : decode cX1_waits 28 = .ok (.iload_n 1, 1) := dk_27 (dk_at dksX1_waits_1 4 rfl rfl)
theorem dX1_waits_29 : decode cX1_waits 29 = .ok (.if_icmp .ne 9, 3) := dk_160 0 9 (dk_at dksX1_waits_1 5 rfl rfl)
theorem dX1_waits_32 : decode cX1_waits 32 = .ok (.aload_n 0, 1) := dk_42 (dk_at dksX1_waits_1 8 rfl rfl)
theorem dX1_waits_33 : decode cX1_waits 33 = .ok (.iconst 2, 1) := dk_5 (dk_at dksX1_waits_1 9 rfl rfl)
theorem dX1_waits_34 : decode cX1_waits 34 = .ok (.invokevirtual 81, 3) := dk_182 0 81 (dk_at dksX1_waits_1 10 rfl rfl)
theorem dX1_waits_37 : decode cX1_waits 37 = .ok (.ireturn, 1) := dk_172 (dk_at dksX1_waits_1 13 rfl rfl)
theorem dX1_waits_38 : decode cX1_waits 38 = .ok (.iload_n 2, 1) := dk_28 (dk_at dksX1_waits_1 14 rfl rfl)
theorem dX1_waits_39 : decode cX1_waits 39 = .ok (.iconst (-1), 1) := dk_2 (dk_at dksX1_waits_1 15 rfl rfl)
theorem dX1_waits_40 : decode cX1_waits 40 = .ok (.if_icmp .eq 21, 3) := dk_159 0 21 (dk_at dksX1_waits_1 16 rfl rfl)
theorem dX1_waits_43 : decode cX1_waits 43 = .ok (.aload_n 0, 1) := dk_42 (dk_at dksX1_waits_1 19 rfl rfl)
theorem dX1_waits_44 : decode cX1_waits 44 = .ok (.getfield 57, 3) := dk_180 0 57 (dk_at dksX1_waits_1 20 rfl rfl)
theorem dX1_waits_47 : decode cX1_waits 47 = .ok (.iload_n 2, 1) := dk_28 (dk_at dksX1_waits_1 23 rfl rfl)
theorem dX1_waits_48 : decode cX1_waits 48 = .ok (.iload_n 1, 1) := dk_27 (dk_at dksX1_waits_2 0 rfl rfl)
theorem dX1_waits_49 : decode cX1_waits 49 = .ok (.invokevirtual 332, 3) := dk_182 1 76 (dk_at dksX1_waits_2 1 rfl rfl)
theorem dX1_waits_52 : decode cX1_waits 52 = .ok (.ifCond .eq 9, 3) := dk_153 0 9 (dk_at dksX1_waits_2 4 rfl rfl)
theorem dX1_waits_55 : decode cX1_waits 55 = .ok (.aload_n 0, 1) := dk_42 (dk_at dksX1_waits_2 7 rfl rfl)
theorem dX1_waits_56 : decode cX1_waits 56 = .ok (.iconst 5, 1) := dk_8 (dk_at dksX1_waits_2 8 rfl rfl)
theorem dX1_waits_57 : decode cX1_waits 57 = .ok (.invokevirtual 81, 3) := dk_182 0 81 (dk_at dksX1_waits_2 9 rfl rfl)
theorem dX1_waits_60 : decode cX1_waits 60 = .ok (.ireturn, 1) := dk_172 (dk_at dksX1_waits_2 12 rfl rfl)
theorem dX1_waits_61 : decode cX1_waits 61 = .ok (.aload_n 0, 1) := dk_42 (dk_at dksX1_waits_2 13 rfl rfl)
theorem dX1_waits_62 : decode cX1_waits 62 = .ok (.getfield 57, 3) := dk_180 0 57 (dk_at dksX1_waits_2 14 rfl rfl)
theorem dX1_waits_65 : decode cX1_waits 65 = .ok (.getfield 166, 3) := dk_180 0 166 (dk_at dksX1_waits_2 17 rfl rfl)
theorem dX1_waits_68 : decode cX1_waits 68 = .ok (.iload_n 1, 1) := dk_27 (dk_at dksX1_waits_2 20 rfl rfl)
theorem dX1_waits_69 : decode cX1_waits 69 = .ok (.iaload, 1) := dk_46 (dk_at dksX1_waits_2 21 rfl rfl)
theorem dX1_waits_70 : decode cX1_waits 70 = .ok (.istore_n 3, 1) := dk_62 (dk_at dksX1_waits_2 22 rfl rfl)
theorem dX1_waits_71 : decode cX1_waits 71 = .ok (.aload_n 0, 1) := dk_42 (dk_at dksX1_waits_2 23 rfl rfl)
theorem dX1_waits_72 : decode cX1_waits 72 = .ok (.invokevirtual 112, 3) := dk_182 0 112 (dk_at dksX1_waits_3 0 rfl rfl)
theorem dX1_waits_75 : decode cX1_waits 75 = .ok (.aload_n 0, 1) := dk_42 (dk_at dksX1_waits_3 3 rfl rfl)
theorem dX1_waits_76 : decode cX1_waits 76 = .ok (.getfield 57, 3) := dk_180 0 57 (dk_at dksX1_waits_3 4 rfl rfl)
theorem dX1_waits_79 : decode cX1_waits 79 = .ok (.getfield 166, 3) := dk_180 0 166 (dk_at dksX1_waits_3 7 rfl rfl)
theorem dX1_waits_82 : decode cX1_waits 82 = .ok (.iload_n 1, 1) := dk_27 (dk_at dksX1_waits_3 10 rfl rfl)
theorem dX1_waits_83 : decode cX1_waits 83 = .ok (.iload_n 2, 1) := dk_28 (dk_at dksX1_waits_3 11 rfl rfl)
theorem dX1_waits_84 : decode cX1_waits 84 = .ok (.iconst (-1), 1) := dk_2 (dk_at dksX1_waits_3 12 rfl rfl)
theorem dX1_waits_85 : decode cX1_waits 85 = .ok (.if_icmp .ne 8, 3) := dk_160 0 8 (dk_at dksX1_waits_3 13 rfl rfl)
theorem dX1_waits_88 : decode cX1_waits 88 = .ok (.bipush (-2), 2) := dk_16 254 (dk_at dksX1_waits_3 16 rfl rfl)
theorem dX1_waits_90 : decode cX1_waits 90 = .ok (.goto 4, 3) := dk_167 0 4 (dk_at dksX1_waits_3 18 rfl rfl)
theorem dX1_waits_93 : decode cX1_waits 93 = .ok (.iload_n 2, 1) := dk_28 (dk_at dksX1_waits_3 21 rfl rfl)
theorem dX1_waits_94 : decode cX1_waits 94 = .ok (.iastore, 1) := dk_79 (dk_at dksX1_waits_3 22 rfl rfl)
theorem dX1_waits_95 : decode cX1_waits 95 = .ok (.aload_n 0, 1) := dk_42 (dk_at dksX1_waits_3 23 rfl rfl)
theorem dX1_waits_96 : decode cX1_waits 96 = .ok (.iload_n 3, 1) := dk_29 (dk_at dksX1_waits_4 0 rfl rfl)
theorem dX1_waits_97 : decode cX1_waits 97 = .ok (.invokevirtual 125, 3) := dk_182 0 125 (dk_at dksX1_waits_4 1 rfl rfl)
theorem dX1_waits_100 : decode cX1_waits 100 = .ok (.ireturn, 1) := dk_172 (dk_at dksX1_waits_4 4 rfl rfl)
abbrev cX1_stick : ByteArray := prog_1_method_54_code
def yX1_stick : MethodName := ⟨RX1, "stick", "(II)I"⟩
def dkwX1_stick_2 : List UInt8 := [182, 0, 112, 42, 180, 0, 57, 180, 0, 212, 27, 28, 79, 42, 29, 182, 0, 125, 172]
abbrev dktX1_stick_2 : List UInt8 := dkwX1_stick_2 ++ []
def dkwX1_stick_1 : List UInt8 := [5, 184, 0, 77, 154, 0, 9, 42, 5, 182, 0, 81, 172, 42, 180, 0, 57, 180, 0, 212, 27, 46, 62, 42]
abbrev dktX1_stick_1 : List UInt8 := dkwX1_stick_1 ++ dktX1_stick_2
def dkwX1_stick_0 : List UInt8 := [42, 180, 0, 96, 198, 0, 12, 27, 3, 8, 184, 0, 77, 154, 0, 9, 42, 4, 182, 0, 81, 172, 28, 3]
abbrev dktX1_stick_0 : List UInt8 := dkwX1_stick_0 ++ dktX1_stick_1
theorem dksX1_stick_0 : cX1_stick.data.toList.drop 0 = dktX1_stick_0 := by decide +kernel
theorem dksX1_stick_1 : cX1_stick.data.toList.drop 24 = dktX1_stick_1 := dk_seg dksX1_stick_0 24 rfl rfl
theorem dksX1_stick_2 : cX1_stick.data.toList.drop 48 = dktX1_stick_2 := dk_seg dksX1_stick_1 24 rfl rfl
theorem dX1_stick_0 : decode cX1_stick 0 = .ok (.aload_n 0, 1) := dk_42 (dk_at dksX1_stick_0 0 rfl rfl)
theorem dX1_stick_1 : decode cX1_stick 1 = .ok (.getfield 96, 3) := dk_180 0 96 (dk_at dksX1_stick_0 1 rfl rfl)
theorem dX1_stick_4 : decode cX1_stick 4 = .ok (.ifnull 12, 3) := dk_198 0 12 (dk_at dksX1_stick_0 4 rfl rfl)
theorem dX1_stick_7 : decode cX1_stick 7 = .ok (.iload_n 1, 1) := dk_27 (dk_at dksX1_stick_0 7 rfl rfl)
theorem dX1_stick_8 : decode cX1_stick 8 = .ok (.iconst 0, 1) := dk_3 (dk_at dksX1_stick_0 8 rfl rfl)
theorem dX1_stick_9 : decode cX1_stick 9 = .ok (.iconst 5, 1) := dk_8 (dk_at dksX1_stick_0 9 rfl rfl)
theorem dX1_stick_10 : decode cX1_stick 10 = .ok (.invokestatic 77, 3) := dk_184 0 77 (dk_at dksX1_stick_0 10 rfl rfl)
theorem dX1_stick_13 : decode cX1_stick 13 = .ok (.ifCond .ne 9, 3) := dk_154 0 9 (dk_at dksX1_stick_0 13 rfl rfl)
theorem dX1_stick_16 : decode cX1_stick 16 = .ok (.aload_n 0, 1) := dk_42 (dk_at dksX1_stick_0 16 rfl rfl)
theorem dX1_stick_17 : decode cX1_stick 17 = .ok (.iconst 1, 1) := dk_4 (dk_at dksX1_stick_0 17 rfl rfl)
theorem dX1_stick_18 : decode cX1_stick 18 = .ok (.invokevirtual 81, 3) := dk_182 0 81 (dk_at dksX1_stick_0 18 rfl rfl)
theorem dX1_stick_21 : decode cX1_stick 21 = .ok (.ireturn, 1) := dk_172 (dk_at dksX1_stick_0 21 rfl rfl)
theorem dX1_stick_22 : decode cX1_stick 22 = .ok (.iload_n 2, 1) := dk_28 (dk_at dksX1_stick_0 22 rfl rfl)
theorem dX1_stick_23 : decode cX1_stick 23 = .ok (.iconst 0, 1) := dk_3 (dk_at dksX1_stick_0 23 rfl rfl)
theorem dX1_stick_24 : decode cX1_stick 24 = .ok (.iconst 2, 1) := dk_5 (dk_at dksX1_stick_1 0 rfl rfl)
theorem dX1_stick_25 : decode cX1_stick 25 = .ok (.invokestatic 77, 3) := dk_184 0 77 (dk_at dksX1_stick_1 1 rfl rfl)
theorem dX1_stick_28 : decode cX1_stick 28 = .ok (.ifCond .ne 9, 3) := dk_154 0 9 (dk_at dksX1_stick_1 4 rfl rfl)
theorem dX1_stick_31 : decode cX1_stick 31 = .ok (.aload_n 0, 1) := dk_42 (dk_at dksX1_stick_1 7 rfl rfl)
theorem dX1_stick_32 : decode cX1_stick 32 = .ok (.iconst 2, 1) := dk_5 (dk_at dksX1_stick_1 8 rfl rfl)
theorem dX1_stick_33 : decode cX1_stick 33 = .ok (.invokevirtual 81, 3) := dk_182 0 81 (dk_at dksX1_stick_1 9 rfl rfl)
theorem dX1_stick_36 : decode cX1_stick 36 = .ok (.ireturn, 1) := dk_172 (dk_at dksX1_stick_1 12 rfl rfl)
theorem dX1_stick_37 : decode cX1_stick 37 = .ok (.aload_n 0, 1) := dk_42 (dk_at dksX1_stick_1 13 rfl rfl)
theorem dX1_stick_38 : decode cX1_stick 38 = .ok (.getfield 57, 3) := dk_180 0 57 (dk_at dksX1_stick_1 14 rfl rfl)
theorem dX1_stick_41 : decode cX1_stick 41 = .ok (.getfield 212, 3) := dk_180 0 212 (dk_at dksX1_stick_1 17 rfl rfl)
theorem dX1_stick_44 : decode cX1_stick 44 = .ok (.iload_n 1, 1) := dk_27 (dk_at dksX1_stick_1 20 rfl rfl)
theorem dX1_stick_45 : decode cX1_stick 45 = .ok (.iaload, 1) := dk_46 (dk_at dksX1_stick_1 21 rfl rfl)
theorem dX1_stick_46 : decode cX1_stick 46 = .ok (.istore_n 3, 1) := dk_62 (dk_at dksX1_stick_1 22 rfl rfl)
theorem dX1_stick_47 : decode cX1_stick 47 = .ok (.aload_n 0, 1) := dk_42 (dk_at dksX1_stick_1 23 rfl rfl)
theorem dX1_stick_48 : decode cX1_stick 48 = .ok (.invokevirtual 112, 3) := dk_182 0 112 (dk_at dksX1_stick_2 0 rfl rfl)
theorem dX1_stick_51 : decode cX1_stick 51 = .ok (.aload_n 0, 1) := dk_42 (dk_at dksX1_stick_2 3 rfl rfl)
theorem dX1_stick_52 : decode cX1_stick 52 = .ok (.getfield 57, 3) := dk_180 0 57 (dk_at dksX1_stick_2 4 rfl rfl)
theorem dX1_stick_55 : decode cX1_stick 55 = .ok (.getfield 212, 3) := dk_180 0 212 (dk_at dksX1_stick_2 7 rfl rfl)
theorem dX1_stick_58 : decode cX1_stick 58 = .ok (.iload_n 1, 1) := dk_27 (dk_at dksX1_stick_2 10 rfl rfl)
theorem dX1_stick_59 : decode cX1_stick 59 = .ok (.iload_n 2, 1) := dk_28 (dk_at dksX1_stick_2 11 rfl rfl)
theorem dX1_stick_60 : decode cX1_stick 60 = .ok (.iastore, 1) := dk_79 (dk_at dksX1_stick_2 12 rfl rfl)
theorem dX1_stick_61 : decode cX1_stick 61 = .ok (.aload_n 0, 1) := dk_42 (dk_at dksX1_stick_2 13 rfl rfl)
theorem dX1_stick_62 : decode cX1_stick 62 = .ok (.iload_n 3, 1) := dk_29 (dk_at dksX1_stick_2 14 rfl rfl)
theorem dX1_stick_63 : decode cX1_stick 63 = .ok (.invokevirtual 125, 3) := dk_182 0 125 (dk_at dksX1_stick_2 15 rfl rfl)
theorem dX1_stick_66 : decode cX1_stick 66 = .ok (.ireturn, 1) := dk_172 (dk_at dksX1_stick_2 18 rfl rfl)
abbrev cX1_ticks : ByteArray := prog_1_method_55_code
def yX1_ticks : MethodName := ⟨RX1, "ticks", "(I)I"⟩
def dkwX1_ticks_2 : List UInt8 := [180, 1, 79, 182, 0, 125, 172]
abbrev dktX1_ticks_2 : List UInt8 := dkwX1_ticks_2 ++ []
def dkwX1_ticks_1 : List UInt8 := [42, 5, 182, 0, 81, 172, 42, 182, 0, 112, 42, 180, 0, 57, 27, 182, 1, 67, 42, 42, 180, 0, 57]
abbrev dktX1_ticks_1 : List UInt8 := dkwX1_ticks_1 ++ dktX1_ticks_2
def dkwX1_ticks_0 : List UInt8 := [42, 180, 0, 96, 199, 0, 9, 42, 4, 182, 0, 81, 172, 27, 4, 17, 3, 231, 184, 0, 77, 154, 0, 9]
abbrev dktX1_ticks_0 : List UInt8 := dkwX1_ticks_0 ++ dktX1_ticks_1
theorem dksX1_ticks_0 : cX1_ticks.data.toList.drop 0 = dktX1_ticks_0 := by decide +kernel
theorem dksX1_ticks_1 : cX1_ticks.data.toList.drop 24 = dktX1_ticks_1 := dk_seg dksX1_ticks_0 24 rfl rfl
theorem dksX1_ticks_2 : cX1_ticks.data.toList.drop 47 = dktX1_ticks_2 := dk_seg dksX1_ticks_1 23 rfl rfl
theorem dX1_ticks_0 : decode cX1_ticks 0 = .ok (.aload_n 0, 1) := dk_42 (dk_at dksX1_ticks_0 0 rfl rfl)
theorem dX1_ticks_1 : decode cX1_ticks 1 = .ok (.getfield 96, 3) := dk_180 0 96 (dk_at dksX1_ticks_0 1 rfl rfl)
theorem dX1_ticks_4 : decode cX1_ticks 4 = .ok (.ifnonnull 9, 3) := dk_199 0 9 (dk_at dksX1_ticks_0 4 rfl rfl)
theorem dX1_ticks_7 : decode cX1_ticks 7 = .ok (.aload_n 0, 1) := dk_42 (dk_at dksX1_ticks_0 7 rfl rfl)
theorem dX1_ticks_8 : decode cX1_ticks 8 = .ok (.iconst 1, 1) := dk_4 (dk_at dksX1_ticks_0 8 rfl rfl)
theorem dX1_ticks_9 : decode cX1_ticks 9 = .ok (.invokevirtual 81, 3) := dk_182 0 81 (dk_at dksX1_ticks_0 9 rfl rfl)
theorem dX1_ticks_12 : decode cX1_ticks 12 = .ok (.ireturn, 1) := dk_172 (dk_at dksX1_ticks_0 12 rfl rfl)
theorem dX1_ticks_13 : decode cX1_ticks 13 = .ok (.iload_n 1, 1) := dk_27 (dk_at dksX1_ticks_0 13 rfl rfl)
theorem dX1_ticks_14 : decode cX1_ticks 14 = .ok (.iconst 1, 1) := dk_4 (dk_at dksX1_ticks_0 14 rfl rfl)
theorem dX1_ticks_15 : decode cX1_ticks 15 = .ok (.sipush 999, 3) := dk_17 3 231 (dk_at dksX1_ticks_0 15 rfl rfl)
theorem dX1_ticks_18 : decode cX1_ticks 18 = .ok (.invokestatic 77, 3) := dk_184 0 77 (dk_at dksX1_ticks_0 18 rfl rfl)
theorem dX1_ticks_21 : decode cX1_ticks 21 = .ok (.ifCond .ne 9, 3) := dk_154 0 9 (dk_at dksX1_ticks_0 21 rfl rfl)
theorem dX1_ticks_24 : decode cX1_ticks 24 = .ok (.aload_n 0, 1) := dk_42 (dk_at dksX1_ticks_1 0 rfl rfl)
theorem dX1_ticks_25 : decode cX1_ticks 25 = .ok (.iconst 2, 1) := dk_5 (dk_at dksX1_ticks_1 1 rfl rfl)
theorem dX1_ticks_26 : decode cX1_ticks 26 = .ok (.invokevirtual 81, 3) := dk_182 0 81 (dk_at dksX1_ticks_1 2 rfl rfl)
theorem dX1_ticks_29 : decode cX1_ticks 29 = .ok (.ireturn, 1) := dk_172 (dk_at dksX1_ticks_1 5 rfl rfl)
theorem dX1_ticks_30 : decode cX1_ticks 30 = .ok (.aload_n 0, 1) := dk_42 (dk_at dksX1_ticks_1 6 rfl rfl)
theorem dX1_ticks_31 : decode cX1_ticks 31 = .ok (.invokevirtual 112, 3) := dk_182 0 112 (dk_at dksX1_ticks_1 7 rfl rfl)
theorem dX1_ticks_34 : decode cX1_ticks 34 = .ok (.aload_n 0, 1) := dk_42 (dk_at dksX1_ticks_1 10 rfl rfl)
theorem dX1_ticks_35 : decode cX1_ticks 35 = .ok (.getfield 57, 3) := dk_180 0 57 (dk_at dksX1_ticks_1 11 rfl rfl)
theorem dX1_ticks_38 : decode cX1_ticks 38 = .ok (.iload_n 1, 1) := dk_27 (dk_at dksX1_ticks_1 14 rfl rfl)
theorem dX1_ticks_39 : decode cX1_ticks 39 = .ok (.invokevirtual 323, 3) := dk_182 1 67 (dk_at dksX1_ticks_1 15 rfl rfl)
theorem dX1_ticks_42 : decode cX1_ticks 42 = .ok (.aload_n 0, 1) := dk_42 (dk_at dksX1_ticks_1 18 rfl rfl)
theorem dX1_ticks_43 : decode cX1_ticks 43 = .ok (.aload_n 0, 1) := dk_42 (dk_at dksX1_ticks_1 19 rfl rfl)
theorem dX1_ticks_44 : decode cX1_ticks 44 = .ok (.getfield 57, 3) := dk_180 0 57 (dk_at dksX1_ticks_1 20 rfl rfl)
theorem dX1_ticks_47 : decode cX1_ticks 47 = .ok (.getfield 335, 3) := dk_180 1 79 (dk_at dksX1_ticks_2 0 rfl rfl)
theorem dX1_ticks_50 : decode cX1_ticks 50 = .ok (.invokevirtual 125, 3) := dk_182 0 125 (dk_at dksX1_ticks_2 3 rfl rfl)
theorem dX1_ticks_53 : decode cX1_ticks 53 = .ok (.ireturn, 1) := dk_172 (dk_at dksX1_ticks_2 6 rfl rfl)
abbrev cX1_keep : ByteArray := prog_1_method_56_code
def yX1_keep : MethodName := ⟨RX1, "keep", "()Z"⟩
def dkwX1_keep_1 : List UInt8 := [42, 180, 0, 96, 198, 0, 7, 4, 167, 0, 4, 3, 182, 1, 82, 172]
abbrev dktX1_keep_1 : List UInt8 := dkwX1_keep_1 ++ []
def dkwX1_keep_0 : List UInt8 := [42, 180, 0, 96, 198, 0, 19, 42, 180, 0, 61, 42, 180, 0, 57, 182, 1, 63, 42, 4, 181, 0, 115, 42]
abbrev dktX1_keep_0 : List UInt8 := dkwX1_keep_0 ++ dktX1_keep_1
theorem dksX1_keep_0 : cX1_keep.data.toList.drop 0 = dktX1_keep_0 := by decide +kernel
theorem dksX1_keep_1 : cX1_keep.data.toList.drop 24 = dktX1_keep_1 := dk_seg dksX1_keep_0 24 rfl rfl
theorem dX1_keep_0 : decode cX1_keep 0 = .ok (.aload_n 0, 1) := dk_42 (dk_at dksX1_keep_0 0 rfl rfl)
theorem dX1_keep_1 : decode cX1_keep 1 = .ok (.getfield 96, 3) := dk_180 0 96 (dk_at dksX1_keep_0 1 rfl rfl)
theorem dX1_keep_4 : decode cX1_keep 4 = .ok (.ifnull 19, 3) := dk_198 0 19 (dk_at dksX1_keep_0 4 rfl rfl)
theorem dX1_keep_7 : decode cX1_keep 7 = .ok (.aload_n 0, 1) := dk_42 (dk_at dksX1_keep_0 7 rfl rfl)
theorem dX1_keep_8 : decode cX1_keep 8 = .ok (.getfield 61, 3) := dk_180 0 61 (dk_at dksX1_keep_0 8 rfl rfl)
theorem dX1_keep_11 : decode cX1_keep 11 = .ok (.aload_n 0, 1) := dk_42 (dk_at dksX1_keep_0 11 rfl rfl)
theorem dX1_keep_12 : decode cX1_keep 12 = .ok (.getfield 57, 3) := dk_180 0 57 (dk_at dksX1_keep_0 12 rfl rfl)
theorem dX1_keep_15 : decode cX1_keep 15 = .ok (.invokevirtual 319, 3) := dk_182 1 63 (dk_at dksX1_keep_0 15 rfl rfl)
theorem dX1_keep_18 : decode cX1_keep 18 = .ok (.aload_n 0, 1) := dk_42 (dk_at dksX1_keep_0 18 rfl rfl)
theorem dX1_keep_19 : decode cX1_keep 19 = .ok (.iconst 1, 1) := dk_4 (dk_at dksX1_keep_0 19 rfl rfl)
theorem dX1_keep_20 : decode cX1_keep 20 = .ok (.putfield 115, 3) := dk_181 0 115 (dk_at dksX1_keep_0 20 rfl rfl)
theorem dX1_keep_23 : decode cX1_keep 23 = .ok (.aload_n 0, 1) := dk_42 (dk_at dksX1_keep_0 23 rfl rfl)
theorem dX1_keep_24 : decode cX1_keep 24 = .ok (.aload_n 0, 1) := dk_42 (dk_at dksX1_keep_1 0 rfl rfl)
theorem dX1_keep_25 : decode cX1_keep 25 = .ok (.getfield 96, 3) := dk_180 0 96 (dk_at dksX1_keep_1 1 rfl rfl)
theorem dX1_keep_28 : decode cX1_keep 28 = .ok (.ifnull 7, 3) := dk_198 0 7 (dk_at dksX1_keep_1 4 rfl rfl)
theorem dX1_keep_31 : decode cX1_keep 31 = .ok (.iconst 1, 1) := dk_4 (dk_at dksX1_keep_1 7 rfl rfl)
theorem dX1_keep_32 : decode cX1_keep 32 = .ok (.goto 4, 3) := dk_167 0 4 (dk_at dksX1_keep_1 8 rfl rfl)
theorem dX1_keep_35 : decode cX1_keep 35 = .ok (.iconst 0, 1) := dk_3 (dk_at dksX1_keep_1 11 rfl rfl)
theorem dX1_keep_36 : decode cX1_keep 36 = .ok (.invokevirtual 338, 3) := dk_182 1 82 (dk_at dksX1_keep_1 12 rfl rfl)
theorem dX1_keep_39 : decode cX1_keep 39 = .ok (.ireturn, 1) := dk_172 (dk_at dksX1_keep_1 15 rfl rfl)
abbrev cX1_granted : ByteArray := prog_1_method_8_code
def yX1_granted : MethodName := ⟨RX1, "granted", "(Z)Z"⟩
def dkwX1_granted_0 : List UInt8 := [42, 27, 153, 0, 7, 3, 167, 0, 4, 4, 181, 0, 31, 42, 2, 181, 0, 34, 27, 172]
abbrev dktX1_granted_0 : List UInt8 := dkwX1_granted_0 ++ []
theorem dksX1_granted_0 : cX1_granted.data.toList.drop 0 = dktX1_granted_0 := by decide +kernel
theorem dX1_granted_0 : decode cX1_granted 0 = .ok (.aload_n 0, 1) := dk_42 (dk_at dksX1_granted_0 0 rfl rfl)
theorem dX1_granted_1 : decode cX1_granted 1 = .ok (.iload_n 1, 1) := dk_27 (dk_at dksX1_granted_0 1 rfl rfl)
theorem dX1_granted_2 : decode cX1_granted 2 = .ok (.ifCond .eq 7, 3) := dk_153 0 7 (dk_at dksX1_granted_0 2 rfl rfl)
theorem dX1_granted_5 : decode cX1_granted 5 = .ok (.iconst 0, 1) := dk_3 (dk_at dksX1_granted_0 5 rfl rfl)
theorem dX1_granted_6 : decode cX1_granted 6 = .ok (.goto 4, 3) := dk_167 0 4 (dk_at dksX1_granted_0 6 rfl rfl)
theorem dX1_granted_9 : decode cX1_granted 9 = .ok (.iconst 1, 1) := dk_4 (dk_at dksX1_granted_0 9 rfl rfl)
theorem dX1_granted_10 : decode cX1_granted 10 = .ok (.putfield 31, 3) := dk_181 0 31 (dk_at dksX1_granted_0 10 rfl rfl)
theorem dX1_granted_13 : decode cX1_granted 13 = .ok (.aload_n 0, 1) := dk_42 (dk_at dksX1_granted_0 13 rfl rfl)
theorem dX1_granted_14 : decode cX1_granted 14 = .ok (.iconst (-1), 1) := dk_2 (dk_at dksX1_granted_0 14 rfl rfl)
theorem dX1_granted_15 : decode cX1_granted 15 = .ok (.putfield 34, 3) := dk_181 0 34 (dk_at dksX1_granted_0 15 rfl rfl)
theorem dX1_granted_18 : decode cX1_granted 18 = .ok (.iload_n 1, 1) := dk_27 (dk_at dksX1_granted_0 18 rfl rfl)
theorem dX1_granted_19 : decode cX1_granted 19 = .ok (.ireturn, 1) := dk_172 (dk_at dksX1_granted_0 19 rfl rfl)
abbrev cX1_back : ByteArray := prog_1_method_57_code
def yX1_back : MethodName := ⟨RX1, "back", "()Z"⟩
def dkwX1_back_1 : List UInt8 := [180, 0, 115, 182, 1, 82, 172]
abbrev dktX1_back_1 : List UInt8 := dkwX1_back_1 ++ []
def dkwX1_back_0 : List UInt8 := [42, 180, 0, 115, 153, 0, 14, 42, 180, 0, 57, 42, 180, 0, 61, 182, 1, 63, 42, 182, 0, 112, 42, 42]
abbrev dktX1_back_0 : List UInt8 := dkwX1_back_0 ++ dktX1_back_1
theorem dksX1_back_0 : cX1_back.data.toList.drop 0 = dktX1_back_0 := by decide +kernel
theorem dksX1_back_1 : cX1_back.data.toList.drop 24 = dktX1_back_1 := dk_seg dksX1_back_0 24 rfl rfl
theorem dX1_back_0 : decode cX1_back 0 = .ok (.aload_n 0, 1) := dk_42 (dk_at dksX1_back_0 0 rfl rfl)
theorem dX1_back_1 : decode cX1_back 1 = .ok (.getfield 115, 3) := dk_180 0 115 (dk_at dksX1_back_0 1 rfl rfl)
theorem dX1_back_4 : decode cX1_back 4 = .ok (.ifCond .eq 14, 3) := dk_153 0 14 (dk_at dksX1_back_0 4 rfl rfl)
theorem dX1_back_7 : decode cX1_back 7 = .ok (.aload_n 0, 1) := dk_42 (dk_at dksX1_back_0 7 rfl rfl)
theorem dX1_back_8 : decode cX1_back 8 = .ok (.getfield 57, 3) := dk_180 0 57 (dk_at dksX1_back_0 8 rfl rfl)
theorem dX1_back_11 : decode cX1_back 11 = .ok (.aload_n 0, 1) := dk_42 (dk_at dksX1_back_0 11 rfl rfl)
theorem dX1_back_12 : decode cX1_back 12 = .ok (.getfield 61, 3) := dk_180 0 61 (dk_at dksX1_back_0 12 rfl rfl)
theorem dX1_back_15 : decode cX1_back 15 = .ok (.invokevirtual 319, 3) := dk_182 1 63 (dk_at dksX1_back_0 15 rfl rfl)
theorem dX1_back_18 : decode cX1_back 18 = .ok (.aload_n 0, 1) := dk_42 (dk_at dksX1_back_0 18 rfl rfl)
theorem dX1_back_19 : decode cX1_back 19 = .ok (.invokevirtual 112, 3) := dk_182 0 112 (dk_at dksX1_back_0 19 rfl rfl)
theorem dX1_back_22 : decode cX1_back 22 = .ok (.aload_n 0, 1) := dk_42 (dk_at dksX1_back_0 22 rfl rfl)
theorem dX1_back_23 : decode cX1_back 23 = .ok (.aload_n 0, 1) := dk_42 (dk_at dksX1_back_0 23 rfl rfl)
theorem dX1_back_24 : decode cX1_back 24 = .ok (.getfield 115, 3) := dk_180 0 115 (dk_at dksX1_back_1 0 rfl rfl)
theorem dX1_back_27 : decode cX1_back 27 = .ok (.invokevirtual 338, 3) := dk_182 1 82 (dk_at dksX1_back_1 3 rfl rfl)
theorem dX1_back_30 : decode cX1_back 30 = .ok (.ireturn, 1) := dk_172 (dk_at dksX1_back_1 6 rfl rfl)
abbrev cX1_size : ByteArray := prog_1_method_60_code
def yX1_size : MethodName := ⟨RX1, "size", "(I)I"⟩
def dkwX1_size_4 : List UInt8 := [42, 182, 1, 92, 172, 2, 172]
abbrev dktX1_size_4 : List UInt8 := dkwX1_size_4 ++ []
def dkwX1_size_3 : List UInt8 := [42, 180, 0, 115, 153, 0, 7, 4, 167, 0, 4, 3, 172, 42, 180, 0, 96, 199, 0, 7, 3, 167, 0, 7]
abbrev dktX1_size_3 : List UInt8 := dkwX1_size_3 ++ dktX1_size_4
def dkwX1_size_2 : List UInt8 := [42, 180, 0, 70, 172, 42, 180, 0, 96, 199, 0, 7, 3, 167, 0, 10, 42, 180, 0, 57, 182, 1, 89, 172]
abbrev dktX1_size_2 : List UInt8 := dkwX1_size_2 ++ dktX1_size_3
def dkwX1_size_1 : List UInt8 := [170, 0, 0, 0, 0, 0, 84, 0, 0, 0, 0, 0, 0, 0, 3, 0, 0, 0, 31, 0, 0, 0, 36, 0, 0, 0, 55, 0, 0, 0, 68]
abbrev dktX1_size_1 : List UInt8 := dkwX1_size_1 ++ dktX1_size_2
def dkwX1_size_0 : List UInt8 := [27]
abbrev dktX1_size_0 : List UInt8 := dkwX1_size_0 ++ dktX1_size_1
theorem dksX1_size_0 : cX1_size.data.toList.drop 0 = dktX1_size_0 := by decide +kernel
theorem dksX1_size_1 : cX1_size.data.toList.drop 1 = dktX1_size_1 := dk_seg dksX1_size_0 1 rfl rfl
theorem dksX1_size_2 : cX1_size.data.toList.drop 32 = dktX1_size_2 := dk_seg dksX1_size_1 31 rfl rfl
theorem dksX1_size_3 : cX1_size.data.toList.drop 56 = dktX1_size_3 := dk_seg dksX1_size_2 24 rfl rfl
theorem dksX1_size_4 : cX1_size.data.toList.drop 80 = dktX1_size_4 := dk_seg dksX1_size_3 24 rfl rfl
theorem dX1_size_0 : decode cX1_size 0 = .ok (.iload_n 1, 1) := dk_27 (dk_at dksX1_size_0 0 rfl rfl)
theorem dX1_size_1 : decode cX1_size 1 = .ok (.tableswitch 84 0 3 #[31, 36, 55, 68], 31) := by decide +kernel
theorem dX1_size_32 : decode cX1_size 32 = .ok (.aload_n 0, 1) := dk_42 (dk_at dksX1_size_2 0 rfl rfl)
theorem dX1_size_33 : decode cX1_size 33 = .ok (.getfield 70, 3) := dk_180 0 70 (dk_at dksX1_size_2 1 rfl rfl)
theorem dX1_size_36 : decode cX1_size 36 = .ok (.ireturn, 1) := dk_172 (dk_at dksX1_size_2 4 rfl rfl)
theorem dX1_size_37 : decode cX1_size 37 = .ok (.aload_n 0, 1) := dk_42 (dk_at dksX1_size_2 5 rfl rfl)
theorem dX1_size_38 : decode cX1_size 38 = .ok (.getfield 96, 3) := dk_180 0 96 (dk_at dksX1_size_2 6 rfl rfl)
theorem dX1_size_41 : decode cX1_size 41 = .ok (.ifnonnull 7, 3) := dk_199 0 7 (dk_at dksX1_size_2 9 rfl rfl)
theorem dX1_size_44 : decode cX1_size 44 = .ok (.iconst 0, 1) := dk_3 (dk_at dksX1_size_2 12 rfl rfl)
theorem dX1_size_45 : decode cX1_size 45 = .ok (.goto 10, 3) := dk_167 0 10 (dk_at dksX1_size_2 13 rfl rfl)
theorem dX1_size_48 : decode cX1_size 48 = .ok (.aload_n 0, 1) := dk_42 (dk_at dksX1_size_2 16 rfl rfl)
theorem dX1_size_49 : decode cX1_size 49 = .ok (.getfield 57, 3) := dk_180 0 57 (dk_at dksX1_size_2 17 rfl rfl)
theorem dX1_size_52 : decode cX1_size 52 = .ok (.invokevirtual 345, 3) := dk_182 1 89 (dk_at dksX1_size_2 20 rfl rfl)
theorem dX1_size_55 : decode cX1_size 55 = .ok (.ireturn, 1) := dk_172 (dk_at dksX1_size_2 23 rfl rfl)
theorem dX1_size_56 : decode cX1_size 56 = .ok (.aload_n 0, 1) := dk_42 (dk_at dksX1_size_3 0 rfl rfl)
theorem dX1_size_57 : decode cX1_size 57 = .ok (.getfield 115, 3) := dk_180 0 115 (dk_at dksX1_size_3 1 rfl rfl)
theorem dX1_size_60 : decode cX1_size 60 = .ok (.ifCond .eq 7, 3) := dk_153 0 7 (dk_at dksX1_size_3 4 rfl rfl)
theorem dX1_size_63 : decode cX1_size 63 = .ok (.iconst 1, 1) := dk_4 (dk_at dksX1_size_3 7 rfl rfl)
theorem dX1_size_64 : decode cX1_size 64 = .ok (.goto 4, 3) := dk_167 0 4 (dk_at dksX1_size_3 8 rfl rfl)
theorem dX1_size_67 : decode cX1_size 67 = .ok (.iconst 0, 1) := dk_3 (dk_at dksX1_size_3 11 rfl rfl)
theorem dX1_size_68 : decode cX1_size 68 = .ok (.ireturn, 1) := dk_172 (dk_at dksX1_size_3 12 rfl rfl)
theorem dX1_size_69 : decode cX1_size 69 = .ok (.aload_n 0, 1) := dk_42 (dk_at dksX1_size_3 13 rfl rfl)
theorem dX1_size_70 : decode cX1_size 70 = .ok (.getfield 96, 3) := dk_180 0 96 (dk_at dksX1_size_3 14 rfl rfl)
theorem dX1_size_73 : decode cX1_size 73 = .ok (.ifnonnull 7, 3) := dk_199 0 7 (dk_at dksX1_size_3 17 rfl rfl)
theorem dX1_size_76 : decode cX1_size 76 = .ok (.iconst 0, 1) := dk_3 (dk_at dksX1_size_3 20 rfl rfl)
theorem dX1_size_77 : decode cX1_size 77 = .ok (.goto 7, 3) := dk_167 0 7 (dk_at dksX1_size_3 21 rfl rfl)
theorem dX1_size_80 : decode cX1_size 80 = .ok (.aload_n 0, 1) := dk_42 (dk_at dksX1_size_4 0 rfl rfl)
theorem dX1_size_81 : decode cX1_size 81 = .ok (.invokevirtual 348, 3) := dk_182 1 92 (dk_at dksX1_size_4 1 rfl rfl)
theorem dX1_size_84 : decode cX1_size 84 = .ok (.ireturn, 1) := dk_172 (dk_at dksX1_size_4 4 rfl rfl)
theorem dX1_size_85 : decode cX1_size 85 = .ok (.iconst (-1), 1) := dk_2 (dk_at dksX1_size_4 5 rfl rfl)
theorem dX1_size_86 : decode cX1_size 86 = .ok (.ireturn, 1) := dk_172 (dk_at dksX1_size_4 6 rfl rfl)
abbrev cX1_unwhole : ByteArray := prog_1_method_59_code
def yX1_unwhole : MethodName := ⟨RX1, "unwhole", "()I"⟩
def dkwX1_unwhole_1 : List UInt8 := [132, 1, 1, 132, 2, 1, 167, 255, 232, 27, 172]
abbrev dktX1_unwhole_1 : List UInt8 := dkwX1_unwhole_1 ++ []
def dkwX1_unwhole_0 : List UInt8 := [3, 60, 3, 61, 28, 16, 6, 162, 0, 24, 42, 180, 0, 57, 180, 0, 212, 28, 46, 153, 0, 6]
abbrev dktX1_unwhole_0 : List UInt8 := dkwX1_unwhole_0 ++ dktX1_unwhole_1
theorem dksX1_unwhole_0 : cX1_unwhole.data.toList.drop 0 = dktX1_unwhole_0 := by decide +kernel
theorem dksX1_unwhole_1 : cX1_unwhole.data.toList.drop 22 = dktX1_unwhole_1 := dk_seg dksX1_unwhole_0 22 rfl rfl
theorem dX1_unwhole_0 : decode cX1_unwhole 0 = .ok (.iconst 0, 1) := dk_3 (dk_at dksX1_unwhole_0 0 rfl rfl)
theorem dX1_unwhole_1 : decode cX1_unwhole 1 = .ok (.istore_n 1, 1) := dk_60 (dk_at dksX1_unwhole_0 1 rfl rfl)
theorem dX1_unwhole_2 : decode cX1_unwhole 2 = .ok (.iconst 0, 1) := dk_3 (dk_at dksX1_unwhole_0 2 rfl rfl)
theorem dX1_unwhole_3 : decode cX1_unwhole 3 = .ok (.istore_n 2, 1) := dk_61 (dk_at dksX1_unwhole_0 3 rfl rfl)
theorem dX1_unwhole_4 : decode cX1_unwhole 4 = .ok (.iload_n 2, 1) := dk_28 (dk_at dksX1_unwhole_0 4 rfl rfl)
theorem dX1_unwhole_5 : decode cX1_unwhole 5 = .ok (.bipush 6, 2) := dk_16 6 (dk_at dksX1_unwhole_0 5 rfl rfl)
theorem dX1_unwhole_7 : decode cX1_unwhole 7 = .ok (.if_icmp .ge 24, 3) := dk_162 0 24 (dk_at dksX1_unwhole_0 7 rfl rfl)
theorem dX1_unwhole_10 : decode cX1_unwhole 10 = .ok (.aload_n 0, 1) := dk_42 (dk_at dksX1_unwhole_0 10 rfl rfl)
theorem dX1_unwhole_11 : decode cX1_unwhole 11 = .ok (.getfield 57, 3) := dk_180 0 57 (dk_at dksX1_unwhole_0 11 rfl rfl)
theorem dX1_unwhole_14 : decode cX1_unwhole 14 = .ok (.getfield 212, 3) := dk_180 0 212 (dk_at dksX1_unwhole_0 14 rfl rfl)
theorem dX1_unwhole_17 : decode cX1_unwhole 17 = .ok (.iload_n 2, 1) := dk_28 (dk_at dksX1_unwhole_0 17 rfl rfl)
theorem dX1_unwhole_18 : decode cX1_unwhole 18 = .ok (.iaload, 1) := dk_46 (dk_at dksX1_unwhole_0 18 rfl rfl)
theorem dX1_unwhole_19 : decode cX1_unwhole 19 = .ok (.ifCond .eq 6, 3) := dk_153 0 6 (dk_at dksX1_unwhole_0 19 rfl rfl)
theorem dX1_unwhole_22 : decode cX1_unwhole 22 = .ok (.iinc 1 1, 3) := dk_132 1 1 (dk_at dksX1_unwhole_1 0 rfl rfl)
theorem dX1_unwhole_25 : decode cX1_unwhole 25 = .ok (.iinc 2 1, 3) := dk_132 2 1 (dk_at dksX1_unwhole_1 3 rfl rfl)
theorem dX1_unwhole_28 : decode cX1_unwhole 28 = .ok (.goto (-24), 3) := dk_167 255 232 (dk_at dksX1_unwhole_1 6 rfl rfl)
theorem dX1_unwhole_31 : decode cX1_unwhole 31 = .ok (.iload_n 1, 1) := dk_27 (dk_at dksX1_unwhole_1 9 rfl rfl)
theorem dX1_unwhole_32 : decode cX1_unwhole 32 = .ok (.ireturn, 1) := dk_172 (dk_at dksX1_unwhole_1 10 rfl rfl)
abbrev cX1_trouble : ByteArray := prog_1_method_61_code
def yX1_trouble : MethodName := ⟨RX1, "trouble", "()I"⟩
theorem dX1_trouble_0 : decode cX1_trouble 0 = .ok (.aload_n 0, 1) := by decide +kernel
theorem dX1_trouble_1 : decode cX1_trouble 1 = .ok (.getfield 31, 3) := by decide +kernel
theorem dX1_trouble_4 : decode cX1_trouble 4 = .ok (.ireturn, 1) := by decide +kernel
abbrev cX1_never : ByteArray := prog_1_method_58_code
def yX1_never : MethodName := ⟨RX1, "never", "(I)I"⟩
def dkwX1_never_4 : List UInt8 := [187, 1, 86, 89, 183, 1, 88, 191]
abbrev dktX1_never_4 : List UInt8 := dkwX1_never_4 ++ []
def dkwX1_never_3 : List UInt8 := [28, 27, 160, 0, 6, 21, 4, 172, 132, 2, 1, 132, 4, 1, 167, 255, 193, 132, 3, 1, 167, 255, 171]
abbrev dktX1_never_3 : List UInt8 := dkwX1_never_3 ++ dktX1_never_4
def dkwX1_never_2 : List UInt8 := [160, 0, 35, 42, 180, 0, 57, 180, 1, 23, 16, 6, 21, 4, 104, 3, 96, 46, 158, 0, 6, 167, 0, 14]
abbrev dktX1_never_2 : List UInt8 := dkwX1_never_2 ++ dktX1_never_3
def dkwX1_never_1 : List UInt8 := [180, 0, 96, 182, 0, 119, 162, 0, 57, 42, 180, 0, 96, 21, 4, 182, 0, 153, 180, 0, 157, 29]
abbrev dktX1_never_1 : List UInt8 := dkwX1_never_1 ++ dktX1_never_2
def dkwX1_never_0 : List UInt8 := [3, 61, 3, 62, 42, 180, 0, 96, 198, 0, 84, 29, 16, 10, 162, 0, 78, 3, 54, 4, 21, 4, 42]
abbrev dktX1_never_0 : List UInt8 := dkwX1_never_0 ++ dktX1_never_1
theorem dksX1_never_0 : cX1_never.data.toList.drop 0 = dktX1_never_0 := by decide +kernel
theorem dksX1_never_1 : cX1_never.data.toList.drop 23 = dktX1_never_1 := dk_seg dksX1_never_0 23 rfl rfl
theorem dksX1_never_2 : cX1_never.data.toList.drop 45 = dktX1_never_2 := dk_seg dksX1_never_1 22 rfl rfl
theorem dksX1_never_3 : cX1_never.data.toList.drop 69 = dktX1_never_3 := dk_seg dksX1_never_2 24 rfl rfl
theorem dksX1_never_4 : cX1_never.data.toList.drop 92 = dktX1_never_4 := dk_seg dksX1_never_3 23 rfl rfl
theorem dX1_never_0 : decode cX1_never 0 = .ok (.iconst 0, 1) := dk_3 (dk_at dksX1_never_0 0 rfl rfl)
theorem dX1_never_1 : decode cX1_never 1 = .ok (.istore_n 2, 1) := dk_61 (dk_at dksX1_never_0 1 rfl rfl)
theorem dX1_never_2 : decode cX1_never 2 = .ok (.iconst 0, 1) := dk_3 (dk_at dksX1_never_0 2 rfl rfl)
theorem dX1_never_3 : decode cX1_never 3 = .ok (.istore_n 3, 1) := dk_62 (dk_at dksX1_never_0 3 rfl rfl)
theorem dX1_never_4 : decode cX1_never 4 = .ok (.aload_n 0, 1) := dk_42 (dk_at dksX1_never_0 4 rfl rfl)
theorem dX1_never_5 : decode cX1_never 5 = .ok (.getfield 96, 3) := dk_180 0 96 (dk_at dksX1_never_0 5 rfl rfl)
theorem dX1_never_8 : decode cX1_never 8 = .ok (.ifnull 84, 3) := dk_198 0 84 (dk_at dksX1_never_0 8 rfl rfl)
theorem dX1_never_11 : decode cX1_never 11 = .ok (.iload_n 3, 1) := dk_29 (dk_at dksX1_never_0 11 rfl rfl)
theorem dX1_never_12 : decode cX1_never 12 = .ok (.bipush 10, 2) := dk_16 10 (dk_at dksX1_never_0 12 rfl rfl)
theorem dX1_never_14 : decode cX1_never 14 = .ok (.if_icmp .ge 78, 3) := dk_162 0 78 (dk_at dksX1_never_0 14 rfl rfl)
theorem dX1_never_17 : decode cX1_never 17 = .ok (.iconst 0, 1) := dk_3 (dk_at dksX1_never_0 17 rfl rfl)
theorem dX1_never_18 : decode cX1_never 18 = .ok (.istore 4, 2) := dk_54 4 (dk_at dksX1_never_0 18 rfl rfl)
theorem dX1_never_20 : decode cX1_never 20 = .ok (.iload 4, 2) := dk_21 4 (dk_at dksX1_never_0 20 rfl rfl)
theorem dX1_never_22 : decode cX1_never 22 = .ok (.aload_n 0, 1) := dk_42 (dk_at dksX1_never_0 22 rfl rfl)
theorem dX1_never_23 : decode cX1_never 23 = .ok (.getfield 96, 3) := dk_180 0 96 (dk_at dksX1_never_1 0 rfl rfl)
theorem dX1_never_26 : decode cX1_never 26 = .ok (.invokevirtual 119, 3) := dk_182 0 119 (dk_at dksX1_never_1 3 rfl rfl)
theorem dX1_never_29 : decode cX1_never 29 = .ok (.if_icmp .ge 57, 3) := dk_162 0 57 (dk_at dksX1_never_1 6 rfl rfl)
theorem dX1_never_32 : decode cX1_never 32 = .ok (.aload_n 0, 1) := dk_42 (dk_at dksX1_never_1 9 rfl rfl)
theorem dX1_never_33 : decode cX1_never 33 = .ok (.getfield 96, 3) := dk_180 0 96 (dk_at dksX1_never_1 10 rfl rfl)
theorem dX1_never_36 : decode cX1_never 36 = .ok (.iload 4, 2) := dk_21 4 (dk_at dksX1_never_1 13 rfl rfl)
theorem dX1_never_38 : decode cX1_never 38 = .ok (.invokevirtual 153, 3) := dk_182 0 153 (dk_at dksX1_never_1 15 rfl rfl)
theorem dX1_never_41 : decode cX1_never 41 = .ok (.getfield 157, 3) := dk_180 0 157 (dk_at dksX1_never_1 18 rfl rfl)
theorem dX1_never_44 : decode cX1_never 44 = .ok (.iload_n 3, 1) := dk_29 (dk_at dksX1_never_1 21 rfl rfl)
theorem dX1_never_45 : decode cX1_never 45 = .ok (.if_icmp .ne 35, 3) := dk_160 0 35 (dk_at dksX1_never_2 0 rfl rfl)
theorem dX1_never_48 : decode cX1_never 48 = .ok (.aload_n 0, 1) := dk_42 (dk_at dksX1_never_2 3 rfl rfl)
theorem dX1_never_49 : decode cX1_never 49 = .ok (.getfield 57, 3) := dk_180 0 57 (dk_at dksX1_never_2 4 rfl rfl)
theorem dX1_never_52 : decode cX1_never 52 = .ok (.getfield 279, 3) := dk_180 1 23 (dk_at dksX1_never_2 7 rfl rfl)
theorem dX1_never_55 : decode cX1_never 55 = .ok (.bipush 6, 2) := dk_16 6 (dk_at dksX1_never_2 10 rfl rfl)
theorem dX1_never_57 : decode cX1_never 57 = .ok (.iload 4, 2) := dk_21 4 (dk_at dksX1_never_2 12 rfl rfl)
theorem dX1_never_59 : decode cX1_never 59 = .ok (.imul, 1) := dk_104 (dk_at dksX1_never_2 14 rfl rfl)
theorem dX1_never_60 : decode cX1_never 60 = .ok (.iconst 0, 1) := dk_3 (dk_at dksX1_never_2 15 rfl rfl)
theorem dX1_never_61 : decode cX1_never 61 = .ok (.iadd, 1) := dk_96 (dk_at dksX1_never_2 16 rfl rfl)
theorem dX1_never_62 : decode cX1_never 62 = .ok (.iaload, 1) := dk_46 (dk_at dksX1_never_2 17 rfl rfl)
theorem dX1_never_63 : decode cX1_never 63 = .ok (.ifCond .le 6, 3) := dk_158 0 6 (dk_at dksX1_never_2 18 rfl rfl)
theorem dX1_never_66 : decode cX1_never 66 = .ok (.goto 14, 3) := dk_167 0 14 (dk_at dksX1_never_2 21 rfl rfl)
theorem dX1_never_69 : decode cX1_never 69 = .ok (.iload_n 2, 1) := dk_28 (dk_at dksX1_never_3 0 rfl rfl)
theorem dX1_never_70 : decode cX1_never 70 = .ok (.iload_n 1, 1) := dk_27 (dk_at dksX1_never_3 1 rfl rfl)
theorem dX1_never_71 : decode cX1_never 71 = .ok (.if_icmp .ne 6, 3) := dk_160 0 6 (dk_at dksX1_never_3 2 rfl rfl)
theorem dX1_never_74 : decode cX1_never 74 = .ok (.iload 4, 2) := dk_21 4 (dk_at dksX1_never_3 5 rfl rfl)
theorem dX1_never_76 : decode cX1_never 76 = .ok (.ireturn, 1) := dk_172 (dk_at dksX1_never_3 7 rfl rfl)
theorem dX1_never_77 : decode cX1_never 77 = .ok (.iinc 2 1, 3) := dk_132 2 1 (dk_at dksX1_never_3 8 rfl rfl)
theorem dX1_never_80 : decode cX1_never 80 = .ok (.iinc 4 1, 3) := dk_132 4 1 (dk_at dksX1_never_3 11 rfl rfl)
theorem dX1_never_83 : decode cX1_never 83 = .ok (.goto (-63), 3) := dk_167 255 193 (dk_at dksX1_never_3 14 rfl rfl)
theorem dX1_never_86 : decode cX1_never 86 = .ok (.iinc 3 1, 3) := dk_132 3 1 (dk_at dksX1_never_3 17 rfl rfl)
theorem dX1_never_89 : decode cX1_never 89 = .ok (.goto (-85), 3) := dk_167 255 171 (dk_at dksX1_never_3 20 rfl rfl)
theorem dX1_never_92 : decode cX1_never 92 = .ok (.new 342, 3) := dk_187 1 86 (dk_at dksX1_never_4 0 rfl rfl)
theorem dX1_never_95 : decode cX1_never 95 = .ok (.dup, 1) := dk_89 (dk_at dksX1_never_4 3 rfl rfl)
theorem dX1_never_96 : decode cX1_never 96 = .ok (.invokespecial 344, 3) := dk_183 1 88 (dk_at dksX1_never_4 4 rfl rfl)
theorem dX1_never_99 : decode cX1_never 99 = .ok (.athrow, 1) := dk_191 (dk_at dksX1_never_4 7 rfl rfl)
theorem q102 : (Jvm.Cond.initialized "OpenLines") ∈ lw_all := lw_g (lw_at lw_m1 1 rfl) rfl
theorem q149 : (Jvm.Cond.instantiable "OpenLines" (13 : Nat)) ∈ lw_all := lw_g (lw_at lw_m1 48 rfl) rfl
theorem q151 : (Jvm.Cond.instanceMethod ({ cls := "OpenLines", name := "<init>", desc := "()V" } : Jvm.MethodName)) ∈ lw_all := lw_g (lw_at lw_m1 50 rfl) rfl
theorem q152 : (Jvm.Cond.code ({ cls := "OpenLines", name := "<init>", desc := "()V" } : Jvm.MethodName) prog_1_method_9_code (1 : Nat) (Option.none : Option Jvm.ClassFile.FieldType)) ∈ lw_all := lw_g (lw_at lw_m1 51 rfl) rfl
theorem q153 : (Jvm.Cond.methodLink "OpenLines" (37 : Nat) ({ cls := "java/lang/Object", name := "<init>", desc := "()V" } : Jvm.MethodName)) ∈ lw_all := lw_g (lw_at lw_m1 52 rfl) rfl
theorem q156 : (Jvm.Cond.classLink "OpenLines" (43 : Nat) "OpenLines$Pass") ∈ lw_all := lw_g (lw_at lw_m1 55 rfl) rfl
theorem q158 : (Jvm.Cond.methodLinkNest "OpenLines" (45 : Nat) ({ cls := "OpenLines$Pass", name := "<init>", desc := "(LOpenLines;)V" } : Jvm.MethodName) "OpenLines") ∈ lw_tbl := lw_at lw_m1 57 rfl
theorem q164 : (Jvm.Cond.fieldLinkNest "OpenLines" (227 : Nat) "OpenLines$Pass" "drives" "[I" "OpenLines") ∈ lw_tbl := lw_at lw_m1 63 rfl
theorem q166 : (Jvm.Cond.fieldLinkNest "OpenLines" (230 : Nat) "OpenLines$Pass" "seen" "[I" "OpenLines") ∈ lw_tbl := lw_at lw_m1 65 rfl
theorem q168 : (Jvm.Cond.fieldLinkNest "OpenLines" (233 : Nat) "OpenLines$Pass" "taken" "[I" "OpenLines") ∈ lw_tbl := lw_at lw_m1 67 rfl
theorem q170 : (Jvm.Cond.fieldLinkNest "OpenLines" (236 : Nat) "OpenLines$Pass" "withdrawn" "[I" "OpenLines") ∈ lw_tbl := lw_at lw_m1 69 rfl
theorem q178 : (Jvm.Cond.fieldLinkNest "OpenLines" (251 : Nat) "OpenLines$Pass" "dips" "I" "OpenLines") ∈ lw_tbl := lw_at lw_m1 77 rfl
theorem q180 : (Jvm.Cond.fieldLinkNest "OpenLines" (209 : Nat) "OpenLines$Pass" "till" "I" "OpenLines") ∈ lw_tbl := lw_at lw_m1 79 rfl
theorem q215 : (Jvm.Cond.classLink "OpenLines" (16 : Nat) "OpenLines$Run") ∈ lw_all := lw_g (lw_at lw_m1 114 rfl) rfl
theorem q217 : (Jvm.Cond.methodLinkNest "OpenLines" (56 : Nat) ({ cls := "OpenLines$Run", name := "<init>", desc := "(LOpenLines;)V" } : Jvm.MethodName) "OpenLines") ∈ lw_tbl := lw_at lw_m1 116 rfl
theorem q257 : (Jvm.Cond.fieldLinkNest "OpenLines" (15 : Nat) "OpenLines$Run" "isFresh" "[Z" "OpenLines") ∈ lw_tbl := lw_at lw_m1 156 rfl
theorem q259 : (Jvm.Cond.fieldLinkNest "OpenLines" (163 : Nat) "OpenLines$Run" "asks" "[I" "OpenLines") ∈ lw_tbl := lw_at lw_m1 158 rfl
theorem q262 : (Jvm.Cond.fieldLinkNest "OpenLines" (166 : Nat) "OpenLines$Run" "waits" "[I" "OpenLines") ∈ lw_tbl := lw_at lw_m1 161 rfl
theorem q264 : (Jvm.Cond.fieldLinkNest "OpenLines" (212 : Nat) "OpenLines$Run" "lines" "[I" "OpenLines") ∈ lw_tbl := lw_at lw_m1 163 rfl
theorem q268 : (Jvm.Cond.fieldLinkNest "OpenLines" (279 : Nat) "OpenLines$Run" "ledger" "[I" "OpenLines") ∈ lw_tbl := lw_at lw_m1 167 rfl
theorem q270 : (Jvm.Cond.fieldLinkNest "OpenLines" (146 : Nat) "OpenLines$Run" "time" "I" "OpenLines") ∈ lw_tbl := lw_at lw_m1 169 rfl
theorem q272 : (Jvm.Cond.fieldLinkNest "OpenLines" (335 : Nat) "OpenLines$Run" "master" "I" "OpenLines") ∈ lw_tbl := lw_at lw_m1 171 rfl
theorem q283 : (Jvm.Cond.fieldLinkNest "OpenLines" (282 : Nat) "OpenLines$Run" "log" "Ljava/util/ArrayList;" "OpenLines") ∈ lw_tbl := lw_at lw_m1 182 rfl
theorem q340 : (Jvm.Cond.fieldLink "OpenLines" (48 : Nat) "OpenLines" "pass" "LOpenLines$Pass;") ∈ lw_all := lw_g (lw_at lw_m1 239 rfl) rfl
theorem q342 : (Jvm.Cond.fieldLink "OpenLines" (31 : Nat) "OpenLines" "trouble" "I") ∈ lw_all := lw_g (lw_at lw_m2 1 rfl) rfl
theorem q343 : (Jvm.Cond.fieldLink "OpenLines" (34 : Nat) "OpenLines" "where" "I") ∈ lw_all := lw_g (lw_at lw_m2 2 rfl) rfl
theorem q345 : (Jvm.Cond.fieldLink "OpenLines" (52 : Nat) "OpenLines" "tape" "[B") ∈ lw_all := lw_g (lw_at lw_m2 4 rfl) rfl
theorem q346 : (Jvm.Cond.fieldLink "OpenLines" (70 : Nat) "OpenLines" "taped" "I") ∈ lw_all := lw_g (lw_at lw_m2 5 rfl) rfl
theorem q347 : (Jvm.Cond.fieldLink "OpenLines" (84 : Nat) "OpenLines" "fault" "I") ∈ lw_all := lw_g (lw_at lw_m2 6 rfl) rfl
theorem q348 : (Jvm.Cond.fieldLink "OpenLines" (96 : Nat) "OpenLines" "bus" "LOpenLines$Bus;") ∈ lw_all := lw_g (lw_at lw_m2 7 rfl) rfl
theorem q350 : (Jvm.Cond.fieldLink "OpenLines" (57 : Nat) "OpenLines" "now" "LOpenLines$Run;") ∈ lw_all := lw_g (lw_at lw_m2 9 rfl) rfl
theorem q351 : (Jvm.Cond.fieldLink "OpenLines" (61 : Nat) "OpenLines" "kept" "LOpenLines$Run;") ∈ lw_all := lw_g (lw_at lw_m2 10 rfl) rfl
theorem q352 : (Jvm.Cond.fieldLink "OpenLines" (64 : Nat) "OpenLines" "trial" "LOpenLines$Run;") ∈ lw_all := lw_g (lw_at lw_m2 11 rfl) rfl
theorem q353 : (Jvm.Cond.fieldLink "OpenLines" (115 : Nat) "OpenLines" "isKept" "Z") ∈ lw_all := lw_g (lw_at lw_m2 12 rfl) rfl
theorem q354 : (Jvm.Cond.fieldLink "OpenLines" (67 : Nat) "OpenLines" "laidWhich" "I") ∈ lw_all := lw_g (lw_at lw_m2 13 rfl) rfl
theorem q355 : (Jvm.Cond.fieldLink "OpenLines" (206 : Nat) "OpenLines" "laidSet" "I") ∈ lw_all := lw_g (lw_at lw_m2 14 rfl) rfl
theorem q356 : (Jvm.Cond.laysFinal "OpenLines" "OpenLines" "pass" "LOpenLines$Pass;") ∈ lw_all := lw_g (lw_at lw_m2 15 rfl) rfl
theorem q357 : (Jvm.Cond.soleField "OpenLines" "pass") ∈ lw_all := lw_g (lw_at lw_m2 16 rfl) rfl
theorem q358 : (Jvm.Cond.lays "OpenLines" "OpenLines" "trouble" "I") ∈ lw_all := lw_g (lw_at lw_m2 17 rfl) rfl
theorem q359 : (Jvm.Cond.soleField "OpenLines" "trouble") ∈ lw_all := lw_g (lw_at lw_m2 18 rfl) rfl
theorem q360 : (Jvm.Cond.lays "OpenLines" "OpenLines" "where" "I") ∈ lw_all := lw_g (lw_at lw_m2 19 rfl) rfl
theorem q361 : (Jvm.Cond.soleField "OpenLines" "where") ∈ lw_all := lw_g (lw_at lw_m2 20 rfl) rfl
theorem q362 : (Jvm.Cond.laysFinal "OpenLines" "OpenLines" "tape" "[B") ∈ lw_all := lw_g (lw_at lw_m2 21 rfl) rfl
theorem q363 : (Jvm.Cond.soleField "OpenLines" "tape") ∈ lw_all := lw_g (lw_at lw_m2 22 rfl) rfl
theorem q364 : (Jvm.Cond.lays "OpenLines" "OpenLines" "taped" "I") ∈ lw_all := lw_g (lw_at lw_m2 23 rfl) rfl
theorem q365 : (Jvm.Cond.soleField "OpenLines" "taped") ∈ lw_all := lw_g (lw_at lw_m2 24 rfl) rfl
theorem q366 : (Jvm.Cond.lays "OpenLines" "OpenLines" "fault" "I") ∈ lw_all := lw_g (lw_at lw_m2 25 rfl) rfl
theorem q367 : (Jvm.Cond.soleField "OpenLines" "fault") ∈ lw_all := lw_g (lw_at lw_m2 26 rfl) rfl
theorem q368 : (Jvm.Cond.lays "OpenLines" "OpenLines" "bus" "LOpenLines$Bus;") ∈ lw_all := lw_g (lw_at lw_m2 27 rfl) rfl
theorem q369 : (Jvm.Cond.soleField "OpenLines" "bus") ∈ lw_all := lw_g (lw_at lw_m2 28 rfl) rfl
theorem q370 : (Jvm.Cond.laysFinal "OpenLines" "OpenLines" "now" "LOpenLines$Run;") ∈ lw_all := lw_g (lw_at lw_m2 29 rfl) rfl
theorem q371 : (Jvm.Cond.soleField "OpenLines" "now") ∈ lw_all := lw_g (lw_at lw_m2 30 rfl) rfl
theorem q372 : (Jvm.Cond.laysFinal "OpenLines" "OpenLines" "kept" "LOpenLines$Run;") ∈ lw_all := lw_g (lw_at lw_m2 31 rfl) rfl
theorem q373 : (Jvm.Cond.soleField "OpenLines" "kept") ∈ lw_all := lw_g (lw_at lw_m2 32 rfl) rfl
theorem q374 : (Jvm.Cond.laysFinal "OpenLines" "OpenLines" "trial" "LOpenLines$Run;") ∈ lw_all := lw_g (lw_at lw_m2 33 rfl) rfl
theorem q375 : (Jvm.Cond.soleField "OpenLines" "trial") ∈ lw_all := lw_g (lw_at lw_m2 34 rfl) rfl
theorem q376 : (Jvm.Cond.lays "OpenLines" "OpenLines" "isKept" "Z") ∈ lw_all := lw_g (lw_at lw_m2 35 rfl) rfl
theorem q377 : (Jvm.Cond.soleField "OpenLines" "isKept") ∈ lw_all := lw_g (lw_at lw_m2 36 rfl) rfl
theorem q378 : (Jvm.Cond.lays "OpenLines" "OpenLines" "laidWhich" "I") ∈ lw_all := lw_g (lw_at lw_m2 37 rfl) rfl
theorem q379 : (Jvm.Cond.soleField "OpenLines" "laidWhich") ∈ lw_all := lw_g (lw_at lw_m2 38 rfl) rfl
theorem q380 : (Jvm.Cond.lays "OpenLines" "OpenLines" "laidSet" "I") ∈ lw_all := lw_g (lw_at lw_m2 39 rfl) rfl
theorem q381 : (Jvm.Cond.soleField "OpenLines" "laidSet") ∈ lw_all := lw_g (lw_at lw_m2 40 rfl) rfl
theorem q382 : (Jvm.Cond.superclass "OpenLines" "java/lang/Object") ∈ lw_all := lw_g (lw_at lw_m2 41 rfl) rfl
theorem q384 : (Jvm.Cond.instanceMethod ({ cls := "OpenLines", name := "feed", desc := "(IIIII)I" } : Jvm.MethodName)) ∈ lw_all := lw_g (lw_at lw_m2 43 rfl) rfl
theorem q385 : (Jvm.Cond.selects "OpenLines" ({ cls := "OpenLines", name := "feed", desc := "(IIIII)I" } : Jvm.MethodName) ({ cls := "OpenLines", name := "feed", desc := "(IIIII)I" } : Jvm.MethodName)) ∈ lw_all := lw_g (lw_at lw_m2 44 rfl) rfl
theorem q386 : (Jvm.Cond.code ({ cls := "OpenLines", name := "feed", desc := "(IIIII)I" } : Jvm.MethodName) prog_1_method_11_code (6 : Nat) (Option.some Jvm.ClassFile.FieldType.int)) ∈ lw_all := lw_g (lw_at lw_m2 45 rfl) rfl
theorem q387 : (Jvm.Cond.methodLink "OpenLines" (73 : Nat) ({ cls := "OpenLines", name := "feedOne", desc := "(I)V" } : Jvm.MethodName)) ∈ lw_all := lw_g (lw_at lw_m2 46 rfl) rfl
theorem q388 : (Jvm.Cond.privateMethod ({ cls := "OpenLines", name := "feedOne", desc := "(I)V" } : Jvm.MethodName)) ∈ lw_tbl := lw_at lw_m2 47 rfl
theorem q389 : (Jvm.Cond.instanceMethod ({ cls := "OpenLines", name := "feedOne", desc := "(I)V" } : Jvm.MethodName)) ∈ lw_all := lw_g (lw_at lw_m2 48 rfl) rfl
theorem q390 : (Jvm.Cond.code ({ cls := "OpenLines", name := "feedOne", desc := "(I)V" } : Jvm.MethodName) prog_1_method_10_code (3 : Nat) (Option.none : Option Jvm.ClassFile.FieldType)) ∈ lw_all := lw_g (lw_at lw_m2 49 rfl) rfl
theorem q392 : (Jvm.Cond.instanceMethod ({ cls := "OpenLines", name := "bus", desc := "(I)I" } : Jvm.MethodName)) ∈ lw_all := lw_g (lw_at lw_m2 51 rfl) rfl
theorem q393 : (Jvm.Cond.selects "OpenLines" ({ cls := "OpenLines", name := "bus", desc := "(I)I" } : Jvm.MethodName) ({ cls := "OpenLines", name := "bus", desc := "(I)I" } : Jvm.MethodName)) ∈ lw_all := lw_g (lw_at lw_m2 52 rfl) rfl
theorem q394 : (Jvm.Cond.codeWith ({ cls := "OpenLines", name := "bus", desc := "(I)I" } : Jvm.MethodName) prog_1_method_12_code (3 : Nat) (Option.some Jvm.ClassFile.FieldType.int) [((28 : Nat), (44 : Nat), (47 : Nat), (100 : Nat))]) ∈ lw_all := lw_g (lw_at lw_m2 53 rfl) rfl
theorem q395 : (Jvm.Cond.classLink "OpenLines" (100 : Nat) "OpenLines$Fault") ∈ lw_all := lw_g (lw_at lw_m2 54 rfl) rfl
theorem q396 : (Jvm.Cond.methodLink "OpenLines" (77 : Nat) ({ cls := "OpenLines", name := "isIn", desc := "(III)Z" } : Jvm.MethodName)) ∈ lw_all := lw_g (lw_at lw_m2 55 rfl) rfl
theorem q397 : (Jvm.Cond.static ({ cls := "OpenLines", name := "isIn", desc := "(III)Z" } : Jvm.MethodName)) ∈ lw_all := lw_g (lw_at lw_m2 56 rfl) rfl
theorem q398 : (Jvm.Cond.code ({ cls := "OpenLines", name := "isIn", desc := "(III)Z" } : Jvm.MethodName) prog_1_method_1_code (3 : Nat) (Option.some Jvm.ClassFile.FieldType.boolean)) ∈ lw_all := lw_g (lw_at lw_m2 57 rfl) rfl
theorem q399 : (Jvm.Cond.methodLink "OpenLines" (81 : Nat) ({ cls := "OpenLines", name := "refused", desc := "(I)I" } : Jvm.MethodName)) ∈ lw_all := lw_g (lw_at lw_m2 58 rfl) rfl
theorem q400 : (Jvm.Cond.privateMethod ({ cls := "OpenLines", name := "refused", desc := "(I)I" } : Jvm.MethodName)) ∈ lw_tbl := lw_at lw_m2 59 rfl
theorem q401 : (Jvm.Cond.instanceMethod ({ cls := "OpenLines", name := "refused", desc := "(I)I" } : Jvm.MethodName)) ∈ lw_all := lw_g (lw_at lw_m2 60 rfl) rfl
theorem q402 : (Jvm.Cond.code ({ cls := "OpenLines", name := "refused", desc := "(I)I" } : Jvm.MethodName) prog_1_method_6_code (2 : Nat) (Option.some Jvm.ClassFile.FieldType.int)) ∈ lw_all := lw_g (lw_at lw_m2 61 rfl) rfl
theorem q403 : (Jvm.Cond.classLink "OpenLines" (87 : Nat) "OpenLines$Reader") ∈ lw_all := lw_g (lw_at lw_m2 62 rfl) rfl
theorem q405 : (Jvm.Cond.methodLink "OpenLines" (89 : Nat) ({ cls := "OpenLines$Reader", name := "<init>", desc := "(LOpenLines;I)V" } : Jvm.MethodName)) ∈ lw_all := lw_g (lw_at lw_m2 64 rfl) rfl
theorem q471 : (Jvm.Cond.fieldLinkNest "OpenLines" (128 : Nat) "OpenLines$Bus" "gate" "I" "OpenLines") ∈ lw_tbl := lw_at lw_m2 130 rfl
theorem q474 : (Jvm.Cond.fieldLinkNest "OpenLines" (131 : Nat) "OpenLines$Bus" "filter" "I" "OpenLines") ∈ lw_tbl := lw_at lw_m2 133 rfl
theorem q477 : (Jvm.Cond.fieldLinkNest "OpenLines" (134 : Nat) "OpenLines$Bus" "window" "I" "OpenLines") ∈ lw_tbl := lw_at lw_m2 136 rfl
theorem q483 : (Jvm.Cond.fieldLinkNest "OpenLines" (137 : Nat) "OpenLines$Bus" "asks" "Ljava/util/ArrayList;" "OpenLines") ∈ lw_tbl := lw_at lw_m2 142 rfl
theorem q486 : (Jvm.Cond.fieldLinkNest "OpenLines" (169 : Nat) "OpenLines$Bus" "byCode" "Ljava/util/LinkedHashMap;" "OpenLines") ∈ lw_tbl := lw_at lw_m2 145 rfl
theorem q526 : (Jvm.Cond.methodLink "OpenLines" (92 : Nat) ({ cls := "OpenLines$Reader", name := "read", desc := "()LOpenLines$Bus;" } : Jvm.MethodName)) ∈ lw_all := lw_g (lw_at lw_m2 185 rfl) rfl
theorem q668 : (Jvm.Cond.fieldLinkNest "OpenLines" (102 : Nat) "OpenLines$Fault" "kind" "I" "OpenLines") ∈ lw_tbl := lw_at lw_m3 87 rfl
theorem q670 : (Jvm.Cond.fieldLinkNest "OpenLines" (105 : Nat) "OpenLines$Fault" "place" "I" "OpenLines") ∈ lw_tbl := lw_at lw_m3 89 rfl
theorem q795 : (Jvm.Cond.selects "OpenLines" ({ cls := "java/lang/Object", name := "hashCode", desc := "()I" } : Jvm.MethodName) ({ cls := "java/lang/Object", name := "hashCode", desc := "()I" } : Jvm.MethodName)) ∈ lw_all := lw_g (lw_at lw_m3 214 rfl) rfl
theorem q875 : (Jvm.Cond.selects "OpenLines" ({ cls := "java/lang/Object", name := "equals", desc := "(Ljava/lang/Object;)Z" } : Jvm.MethodName) ({ cls := "java/lang/Object", name := "equals", desc := "(Ljava/lang/Object;)Z" } : Jvm.MethodName)) ∈ lw_all := lw_g (lw_at lw_m4 54 rfl) rfl
theorem q932 : (Jvm.Cond.selects "OpenLines" ({ cls := "java/lang/Object", name := "getClass", desc := "()Ljava/lang/Class;" } : Jvm.MethodName) ({ cls := "java/lang/Object", name := "getClass", desc := "()Ljava/lang/Class;" } : Jvm.MethodName)) ∈ lw_all := lw_g (lw_at lw_m4 111 rfl) rfl
theorem q1141 : (Jvm.Cond.fieldLinkNest "OpenLines" (21 : Nat) "OpenLines$Board" "number" "I" "OpenLines") ∈ lw_tbl := lw_at lw_m5 80 rfl
theorem q1147 : (Jvm.Cond.fieldLinkNest "OpenLines" (157 : Nat) "OpenLines$Board" "slot" "I" "OpenLines") ∈ lw_tbl := lw_at lw_m5 86 rfl
theorem q1149 : (Jvm.Cond.fieldLinkNest "OpenLines" (28 : Nat) "OpenLines$Board" "code" "I" "OpenLines") ∈ lw_tbl := lw_at lw_m5 88 rfl
theorem q1423 : (Jvm.Cond.methodLink "OpenLines" (108 : Nat) ({ cls := "OpenLines$Run", name := "begins", desc := "(LOpenLines$Bus;)V" } : Jvm.MethodName)) ∈ lw_all := lw_g (lw_at lw_m6 122 rfl) rfl
theorem q1431 : (Jvm.Cond.methodLink "OpenLines" (112 : Nat) ({ cls := "OpenLines", name := "forgets", desc := "()V" } : Jvm.MethodName)) ∈ lw_all := lw_g (lw_at lw_m6 130 rfl) rfl
theorem q1432 : (Jvm.Cond.privateMethod ({ cls := "OpenLines", name := "forgets", desc := "()V" } : Jvm.MethodName)) ∈ lw_tbl := lw_at lw_m6 131 rfl
theorem q1433 : (Jvm.Cond.instanceMethod ({ cls := "OpenLines", name := "forgets", desc := "()V" } : Jvm.MethodName)) ∈ lw_all := lw_g (lw_at lw_m6 132 rfl) rfl
theorem q1434 : (Jvm.Cond.code ({ cls := "OpenLines", name := "forgets", desc := "()V" } : Jvm.MethodName) prog_1_method_24_code (1 : Nat) (Option.none : Option Jvm.ClassFile.FieldType)) ∈ lw_all := lw_g (lw_at lw_m6 133 rfl) rfl
theorem q1435 : (Jvm.Cond.methodLink "OpenLines" (119 : Nat) ({ cls := "OpenLines$Bus", name := "many", desc := "()I" } : Jvm.MethodName)) ∈ lw_all := lw_g (lw_at lw_m6 134 rfl) rfl
theorem q1436 : (Jvm.Cond.methodLink "OpenLines" (125 : Nat) ({ cls := "OpenLines", name := "fine", desc := "(I)I" } : Jvm.MethodName)) ∈ lw_all := lw_g (lw_at lw_m6 135 rfl) rfl
theorem q1437 : (Jvm.Cond.privateMethod ({ cls := "OpenLines", name := "fine", desc := "(I)I" } : Jvm.MethodName)) ∈ lw_tbl := lw_at lw_m6 136 rfl
theorem q1438 : (Jvm.Cond.instanceMethod ({ cls := "OpenLines", name := "fine", desc := "(I)I" } : Jvm.MethodName)) ∈ lw_all := lw_g (lw_at lw_m6 137 rfl) rfl
theorem q1439 : (Jvm.Cond.code ({ cls := "OpenLines", name := "fine", desc := "(I)I" } : Jvm.MethodName) prog_1_method_7_code (2 : Nat) (Option.some Jvm.ClassFile.FieldType.int)) ∈ lw_all := lw_g (lw_at lw_m6 138 rfl) rfl
theorem q1441 : (Jvm.Cond.instanceMethod ({ cls := "OpenLines", name := "fault", desc := "()I" } : Jvm.MethodName)) ∈ lw_all := lw_g (lw_at lw_m6 140 rfl) rfl
theorem q1442 : (Jvm.Cond.selects "OpenLines" ({ cls := "OpenLines", name := "fault", desc := "()I" } : Jvm.MethodName) ({ cls := "OpenLines", name := "fault", desc := "()I" } : Jvm.MethodName)) ∈ lw_all := lw_g (lw_at lw_m6 141 rfl) rfl
theorem q1443 : (Jvm.Cond.code ({ cls := "OpenLines", name := "fault", desc := "()I" } : Jvm.MethodName) prog_1_method_13_code (1 : Nat) (Option.some Jvm.ClassFile.FieldType.int)) ∈ lw_all := lw_g (lw_at lw_m6 142 rfl) rfl
theorem q1445 : (Jvm.Cond.instanceMethod ({ cls := "OpenLines", name := "where", desc := "()I" } : Jvm.MethodName)) ∈ lw_all := lw_g (lw_at lw_m6 144 rfl) rfl
theorem q1446 : (Jvm.Cond.selects "OpenLines" ({ cls := "OpenLines", name := "where", desc := "()I" } : Jvm.MethodName) ({ cls := "OpenLines", name := "where", desc := "()I" } : Jvm.MethodName)) ∈ lw_all := lw_g (lw_at lw_m6 145 rfl) rfl
theorem q1447 : (Jvm.Cond.code ({ cls := "OpenLines", name := "where", desc := "()I" } : Jvm.MethodName) prog_1_method_14_code (1 : Nat) (Option.some Jvm.ClassFile.FieldType.int)) ∈ lw_all := lw_g (lw_at lw_m6 146 rfl) rfl
theorem q1449 : (Jvm.Cond.instanceMethod ({ cls := "OpenLines", name := "about", desc := "(I)I" } : Jvm.MethodName)) ∈ lw_all := lw_g (lw_at lw_m6 148 rfl) rfl
theorem q1450 : (Jvm.Cond.selects "OpenLines" ({ cls := "OpenLines", name := "about", desc := "(I)I" } : Jvm.MethodName) ({ cls := "OpenLines", name := "about", desc := "(I)I" } : Jvm.MethodName)) ∈ lw_all := lw_g (lw_at lw_m6 149 rfl) rfl
theorem q1451 : (Jvm.Cond.code ({ cls := "OpenLines", name := "about", desc := "(I)I" } : Jvm.MethodName) prog_1_method_15_code (2 : Nat) (Option.some Jvm.ClassFile.FieldType.int)) ∈ lw_all := lw_g (lw_at lw_m6 150 rfl) rfl
theorem q1452 : (Jvm.Cond.methodLink "OpenLines" (141 : Nat) ({ cls := "java/util/ArrayList", name := "size", desc := "()I" } : Jvm.MethodName)) ∈ lw_all := lw_g (lw_at lw_m6 151 rfl) rfl
theorem q1454 : (Jvm.Cond.instanceMethod ({ cls := "OpenLines", name := "board", desc := "(II)I" } : Jvm.MethodName)) ∈ lw_all := lw_g (lw_at lw_m6 153 rfl) rfl
theorem q1455 : (Jvm.Cond.selects "OpenLines" ({ cls := "OpenLines", name := "board", desc := "(II)I" } : Jvm.MethodName) ({ cls := "OpenLines", name := "board", desc := "(II)I" } : Jvm.MethodName)) ∈ lw_all := lw_g (lw_at lw_m6 154 rfl) rfl
theorem q1456 : (Jvm.Cond.code ({ cls := "OpenLines", name := "board", desc := "(II)I" } : Jvm.MethodName) prog_1_method_17_code (4 : Nat) (Option.some Jvm.ClassFile.FieldType.int)) ∈ lw_all := lw_g (lw_at lw_m6 155 rfl) rfl
theorem q1457 : (Jvm.Cond.methodLink "OpenLines" (149 : Nat) ({ cls := "OpenLines", name := "isBoard", desc := "(I)Z" } : Jvm.MethodName)) ∈ lw_all := lw_g (lw_at lw_m6 156 rfl) rfl
theorem q1458 : (Jvm.Cond.privateMethod ({ cls := "OpenLines", name := "isBoard", desc := "(I)Z" } : Jvm.MethodName)) ∈ lw_tbl := lw_at lw_m6 157 rfl
theorem q1459 : (Jvm.Cond.instanceMethod ({ cls := "OpenLines", name := "isBoard", desc := "(I)Z" } : Jvm.MethodName)) ∈ lw_all := lw_g (lw_at lw_m6 158 rfl) rfl
theorem q1460 : (Jvm.Cond.code ({ cls := "OpenLines", name := "isBoard", desc := "(I)Z" } : Jvm.MethodName) prog_1_method_16_code (2 : Nat) (Option.some Jvm.ClassFile.FieldType.boolean)) ∈ lw_all := lw_g (lw_at lw_m6 159 rfl) rfl
theorem q1461 : (Jvm.Cond.methodLink "OpenLines" (153 : Nat) ({ cls := "OpenLines$Bus", name := "board", desc := "(I)LOpenLines$Board;" } : Jvm.MethodName)) ∈ lw_all := lw_g (lw_at lw_m6 160 rfl) rfl
theorem q1462 : (Jvm.Cond.methodLink "OpenLines" (160 : Nat) ({ cls := "OpenLines$Board", name := "own", desc := "()I" } : Jvm.MethodName)) ∈ lw_all := lw_g (lw_at lw_m6 161 rfl) rfl
theorem q1468 : (Jvm.Cond.methodLink "OpenLines" (9 : Nat) ({ cls := "OpenLines$Board", name := "ofTheDay", desc := "(LOpenLines$Run;)I" } : Jvm.MethodName)) ∈ lw_all := lw_g (lw_at lw_m6 167 rfl) rfl
theorem q1493 : (Jvm.Cond.instanceMethod ({ cls := "OpenLines", name := "named", desc := "(I)I" } : Jvm.MethodName)) ∈ lw_all := lw_g (lw_at lw_m6 192 rfl) rfl
theorem q1494 : (Jvm.Cond.selects "OpenLines" ({ cls := "OpenLines", name := "named", desc := "(I)I" } : Jvm.MethodName) ({ cls := "OpenLines", name := "named", desc := "(I)I" } : Jvm.MethodName)) ∈ lw_all := lw_g (lw_at lw_m6 193 rfl) rfl
theorem q1495 : (Jvm.Cond.code ({ cls := "OpenLines", name := "named", desc := "(I)I" } : Jvm.MethodName) prog_1_method_18_code (2 : Nat) (Option.some Jvm.ClassFile.FieldType.int)) ∈ lw_all := lw_g (lw_at lw_m6 194 rfl) rfl
theorem q1496 : (Jvm.Cond.methodLink "OpenLines" (173 : Nat) ({ cls := "java/lang/Integer", name := "valueOf", desc := "(I)Ljava/lang/Integer;" } : Jvm.MethodName)) ∈ lw_all := lw_g (lw_at lw_m6 195 rfl) rfl
theorem q1497 : (Jvm.Cond.methodLink "OpenLines" (177 : Nat) ({ cls := "java/util/LinkedHashMap", name := "containsKey", desc := "(Ljava/lang/Object;)Z" } : Jvm.MethodName)) ∈ lw_all := lw_g (lw_at lw_m6 196 rfl) rfl
theorem q1498 : (Jvm.Cond.methodLink "OpenLines" (183 : Nat) ({ cls := "java/util/LinkedHashMap", name := "get", desc := "(Ljava/lang/Object;)Ljava/lang/Object;" } : Jvm.MethodName)) ∈ lw_all := lw_g (lw_at lw_m6 197 rfl) rfl
theorem q1507 : (Jvm.Cond.classLink "OpenLines" (10 : Nat) "OpenLines$Board") ∈ lw_all := lw_g (lw_at lw_m6 206 rfl) rfl
theorem q1509 : (Jvm.Cond.instanceMethod ({ cls := "OpenLines", name := "word", desc := "(II)I" } : Jvm.MethodName)) ∈ lw_all := lw_g (lw_at lw_m6 208 rfl) rfl
theorem q1510 : (Jvm.Cond.selects "OpenLines" ({ cls := "OpenLines", name := "word", desc := "(II)I" } : Jvm.MethodName) ({ cls := "OpenLines", name := "word", desc := "(II)I" } : Jvm.MethodName)) ∈ lw_all := lw_g (lw_at lw_m6 209 rfl) rfl
theorem q1511 : (Jvm.Cond.code ({ cls := "OpenLines", name := "word", desc := "(II)I" } : Jvm.MethodName) prog_1_method_21_code (3 : Nat) (Option.some Jvm.ClassFile.FieldType.int)) ∈ lw_all := lw_g (lw_at lw_m6 210 rfl) rfl
theorem q1512 : (Jvm.Cond.methodLink "OpenLines" (190 : Nat) ({ cls := "OpenLines", name := "isPass", desc := "(I)Z" } : Jvm.MethodName)) ∈ lw_all := lw_g (lw_at lw_m6 211 rfl) rfl
theorem q1513 : (Jvm.Cond.static ({ cls := "OpenLines", name := "isPass", desc := "(I)Z" } : Jvm.MethodName)) ∈ lw_all := lw_g (lw_at lw_m6 212 rfl) rfl
theorem q1514 : (Jvm.Cond.code ({ cls := "OpenLines", name := "isPass", desc := "(I)Z" } : Jvm.MethodName) prog_1_method_20_code (1 : Nat) (Option.some Jvm.ClassFile.FieldType.boolean)) ∈ lw_all := lw_g (lw_at lw_m6 213 rfl) rfl
theorem q1515 : (Jvm.Cond.methodLink "OpenLines" (193 : Nat) ({ cls := "OpenLines", name := "wordsOf", desc := "(I)LOpenLines$Word;" } : Jvm.MethodName)) ∈ lw_all := lw_g (lw_at lw_m6 214 rfl) rfl
theorem q1516 : (Jvm.Cond.privateMethod ({ cls := "OpenLines", name := "wordsOf", desc := "(I)LOpenLines$Word;" } : Jvm.MethodName)) ∈ lw_tbl := lw_at lw_m6 215 rfl
theorem q1517 : (Jvm.Cond.instanceMethod ({ cls := "OpenLines", name := "wordsOf", desc := "(I)LOpenLines$Word;" } : Jvm.MethodName)) ∈ lw_all := lw_g (lw_at lw_m6 216 rfl) rfl
theorem q1518 : (Jvm.Cond.code ({ cls := "OpenLines", name := "wordsOf", desc := "(I)LOpenLines$Word;" } : Jvm.MethodName) prog_1_method_19_code (2 : Nat) (Option.some (Jvm.ClassFile.FieldType.object "OpenLines$Word"))) ∈ lw_all := lw_g (lw_at lw_m6 217 rfl) rfl
theorem q1519 : (Jvm.Cond.classLink "OpenLines" (187 : Nat) "OpenLines$1") ∈ lw_all := lw_g (lw_at lw_m6 218 rfl) rfl
theorem q1521 : (Jvm.Cond.methodLink "OpenLines" (189 : Nat) ({ cls := "OpenLines$1", name := "<init>", desc := "(LOpenLines;I)V" } : Jvm.MethodName)) ∈ lw_all := lw_g (lw_at lw_m6 220 rfl) rfl
theorem q1532 : (Jvm.Cond.interfaceEntry "OpenLines" (197 : Nat)) ∈ lw_tbl := lw_at lw_m6 231 rfl
theorem q1533 : (Jvm.Cond.methodLink "OpenLines" (197 : Nat) ({ cls := "OpenLines$Word", name := "of", desc := "(LOpenLines$Board;)I" } : Jvm.MethodName)) ∈ lw_all := lw_g (lw_at lw_m6 232 rfl) rfl
theorem q1543 : (Jvm.Cond.static ({ cls := "OpenLines", name := "firstWord", desc := "(LOpenLines$Run;LOpenLines$Board;)I" } : Jvm.MethodName)) ∈ lw_all := lw_g (lw_at lw_m7 2 rfl) rfl
theorem q1544 : (Jvm.Cond.code ({ cls := "OpenLines", name := "firstWord", desc := "(LOpenLines$Run;LOpenLines$Board;)I" } : Jvm.MethodName) prog_1_method_4_code (2 : Nat) (Option.some Jvm.ClassFile.FieldType.int)) ∈ lw_all := lw_g (lw_at lw_m7 3 rfl) rfl
theorem q1545 : (Jvm.Cond.methodLink "OpenLines" (25 : Nat) ({ cls := "OpenLines", name := "withParity", desc := "(I)I" } : Jvm.MethodName)) ∈ lw_all := lw_g (lw_at lw_m7 4 rfl) rfl
theorem q1546 : (Jvm.Cond.static ({ cls := "OpenLines", name := "withParity", desc := "(I)I" } : Jvm.MethodName)) ∈ lw_all := lw_g (lw_at lw_m7 5 rfl) rfl
theorem q1547 : (Jvm.Cond.code ({ cls := "OpenLines", name := "withParity", desc := "(I)I" } : Jvm.MethodName) prog_1_method_3_code (1 : Nat) (Option.some Jvm.ClassFile.FieldType.int)) ∈ lw_all := lw_g (lw_at lw_m7 6 rfl) rfl
theorem q1548 : (Jvm.Cond.methodLink "OpenLines" (3 : Nat) ({ cls := "java/lang/Integer", name := "bitCount", desc := "(I)I" } : Jvm.MethodName)) ∈ lw_all := lw_g (lw_at lw_m7 7 rfl) rfl
theorem q1555 : (Jvm.Cond.static ({ cls := "OpenLines", name := "secondWord", desc := "(LOpenLines$Board;)I" } : Jvm.MethodName)) ∈ lw_all := lw_g (lw_at lw_m7 14 rfl) rfl
theorem q1556 : (Jvm.Cond.code ({ cls := "OpenLines", name := "secondWord", desc := "(LOpenLines$Board;)I" } : Jvm.MethodName) prog_1_method_5_code (1 : Nat) (Option.some Jvm.ClassFile.FieldType.int)) ∈ lw_all := lw_g (lw_at lw_m7 15 rfl) rfl
theorem q1571 : (Jvm.Cond.instanceMethod ({ cls := "OpenLines", name := "drives", desc := "(IIII)I" } : Jvm.MethodName)) ∈ lw_all := lw_g (lw_at lw_m7 30 rfl) rfl
theorem q1572 : (Jvm.Cond.selects "OpenLines" ({ cls := "OpenLines", name := "drives", desc := "(IIII)I" } : Jvm.MethodName) ({ cls := "OpenLines", name := "drives", desc := "(IIII)I" } : Jvm.MethodName)) ∈ lw_all := lw_g (lw_at lw_m7 31 rfl) rfl
theorem q1573 : (Jvm.Cond.code ({ cls := "OpenLines", name := "drives", desc := "(IIII)I" } : Jvm.MethodName) prog_1_method_26_code (6 : Nat) (Option.some Jvm.ClassFile.FieldType.int)) ∈ lw_all := lw_g (lw_at lw_m7 32 rfl) rfl
theorem q1574 : (Jvm.Cond.methodLink "OpenLines" (219 : Nat) ({ cls := "OpenLines", name := "refuses", desc := "(ZIII)I" } : Jvm.MethodName)) ∈ lw_all := lw_g (lw_at lw_m7 33 rfl) rfl
theorem q1575 : (Jvm.Cond.privateMethod ({ cls := "OpenLines", name := "refuses", desc := "(ZIII)I" } : Jvm.MethodName)) ∈ lw_tbl := lw_at lw_m7 34 rfl
theorem q1576 : (Jvm.Cond.instanceMethod ({ cls := "OpenLines", name := "refuses", desc := "(ZIII)I" } : Jvm.MethodName)) ∈ lw_all := lw_g (lw_at lw_m7 35 rfl) rfl
theorem q1577 : (Jvm.Cond.code ({ cls := "OpenLines", name := "refuses", desc := "(ZIII)I" } : Jvm.MethodName) prog_1_method_23_code (5 : Nat) (Option.some Jvm.ClassFile.FieldType.int)) ∈ lw_all := lw_g (lw_at lw_m7 36 rfl) rfl
theorem q1578 : (Jvm.Cond.methodLink "OpenLines" (203 : Nat) ({ cls := "OpenLines", name := "isSet", desc := "(I)Z" } : Jvm.MethodName)) ∈ lw_all := lw_g (lw_at lw_m7 37 rfl) rfl
theorem q1579 : (Jvm.Cond.privateMethod ({ cls := "OpenLines", name := "isSet", desc := "(I)Z" } : Jvm.MethodName)) ∈ lw_tbl := lw_at lw_m7 38 rfl
theorem q1580 : (Jvm.Cond.instanceMethod ({ cls := "OpenLines", name := "isSet", desc := "(I)Z" } : Jvm.MethodName)) ∈ lw_all := lw_g (lw_at lw_m7 39 rfl) rfl
theorem q1581 : (Jvm.Cond.code ({ cls := "OpenLines", name := "isSet", desc := "(I)Z" } : Jvm.MethodName) prog_1_method_22_code (2 : Nat) (Option.some Jvm.ClassFile.FieldType.boolean)) ∈ lw_all := lw_g (lw_at lw_m7 40 rfl) rfl
theorem q1582 : (Jvm.Cond.methodLink "OpenLines" (223 : Nat) ({ cls := "OpenLines", name := "passOf", desc := "(III)LOpenLines$Pass;" } : Jvm.MethodName)) ∈ lw_all := lw_g (lw_at lw_m7 41 rfl) rfl
theorem q1583 : (Jvm.Cond.privateMethod ({ cls := "OpenLines", name := "passOf", desc := "(III)LOpenLines$Pass;" } : Jvm.MethodName)) ∈ lw_tbl := lw_at lw_m7 42 rfl
theorem q1584 : (Jvm.Cond.instanceMethod ({ cls := "OpenLines", name := "passOf", desc := "(III)LOpenLines$Pass;" } : Jvm.MethodName)) ∈ lw_all := lw_g (lw_at lw_m7 43 rfl) rfl
theorem q1585 : (Jvm.Cond.code ({ cls := "OpenLines", name := "passOf", desc := "(III)LOpenLines$Pass;" } : Jvm.MethodName) prog_1_method_25_code (4 : Nat) (Option.some (Jvm.ClassFile.FieldType.object "OpenLines$Pass"))) ∈ lw_all := lw_g (lw_at lw_m7 44 rfl) rfl
theorem q1586 : (Jvm.Cond.methodLink "OpenLines" (215 : Nat) ({ cls := "OpenLines$Pass", name := "goes", desc := "(LOpenLines$Bus;ILOpenLines$Word;[II)LOpenLines$Pass;" } : Jvm.MethodName)) ∈ lw_all := lw_g (lw_at lw_m7 45 rfl) rfl
theorem q1596 : (Jvm.Cond.static ({ cls := "OpenLines", name := "has", desc := "(II)Z" } : Jvm.MethodName)) ∈ lw_all := lw_g (lw_at lw_m7 55 rfl) rfl
theorem q1597 : (Jvm.Cond.code ({ cls := "OpenLines", name := "has", desc := "(II)Z" } : Jvm.MethodName) prog_1_method_2_code (2 : Nat) (Option.some Jvm.ClassFile.FieldType.boolean)) ∈ lw_all := lw_g (lw_at lw_m7 56 rfl) rfl
theorem q1631 : (Jvm.Cond.instanceMethod ({ cls := "OpenLines", name := "seen", desc := "(IIII)I" } : Jvm.MethodName)) ∈ lw_all := lw_g (lw_at lw_m7 90 rfl) rfl
theorem q1632 : (Jvm.Cond.selects "OpenLines" ({ cls := "OpenLines", name := "seen", desc := "(IIII)I" } : Jvm.MethodName) ({ cls := "OpenLines", name := "seen", desc := "(IIII)I" } : Jvm.MethodName)) ∈ lw_all := lw_g (lw_at lw_m7 91 rfl) rfl
theorem q1633 : (Jvm.Cond.code ({ cls := "OpenLines", name := "seen", desc := "(IIII)I" } : Jvm.MethodName) prog_1_method_27_code (6 : Nat) (Option.some Jvm.ClassFile.FieldType.int)) ∈ lw_all := lw_g (lw_at lw_m7 92 rfl) rfl
theorem q1635 : (Jvm.Cond.instanceMethod ({ cls := "OpenLines", name := "taken", desc := "(IIII)I" } : Jvm.MethodName)) ∈ lw_all := lw_g (lw_at lw_m7 94 rfl) rfl
theorem q1636 : (Jvm.Cond.selects "OpenLines" ({ cls := "OpenLines", name := "taken", desc := "(IIII)I" } : Jvm.MethodName) ({ cls := "OpenLines", name := "taken", desc := "(IIII)I" } : Jvm.MethodName)) ∈ lw_all := lw_g (lw_at lw_m7 95 rfl) rfl
theorem q1637 : (Jvm.Cond.code ({ cls := "OpenLines", name := "taken", desc := "(IIII)I" } : Jvm.MethodName) prog_1_method_28_code (6 : Nat) (Option.some Jvm.ClassFile.FieldType.int)) ∈ lw_all := lw_g (lw_at lw_m7 96 rfl) rfl
theorem q1639 : (Jvm.Cond.instanceMethod ({ cls := "OpenLines", name := "withdrawn", desc := "(IIII)I" } : Jvm.MethodName)) ∈ lw_all := lw_g (lw_at lw_m7 98 rfl) rfl
theorem q1640 : (Jvm.Cond.selects "OpenLines" ({ cls := "OpenLines", name := "withdrawn", desc := "(IIII)I" } : Jvm.MethodName) ({ cls := "OpenLines", name := "withdrawn", desc := "(IIII)I" } : Jvm.MethodName)) ∈ lw_all := lw_g (lw_at lw_m7 99 rfl) rfl
theorem q1641 : (Jvm.Cond.code ({ cls := "OpenLines", name := "withdrawn", desc := "(IIII)I" } : Jvm.MethodName) prog_1_method_29_code (6 : Nat) (Option.some Jvm.ClassFile.FieldType.int)) ∈ lw_all := lw_g (lw_at lw_m7 100 rfl) rfl
theorem q1643 : (Jvm.Cond.instanceMethod ({ cls := "OpenLines", name := "winners", desc := "(III)I" } : Jvm.MethodName)) ∈ lw_all := lw_g (lw_at lw_m7 102 rfl) rfl
theorem q1644 : (Jvm.Cond.selects "OpenLines" ({ cls := "OpenLines", name := "winners", desc := "(III)I" } : Jvm.MethodName) ({ cls := "OpenLines", name := "winners", desc := "(III)I" } : Jvm.MethodName)) ∈ lw_all := lw_g (lw_at lw_m7 103 rfl) rfl
theorem q1645 : (Jvm.Cond.code ({ cls := "OpenLines", name := "winners", desc := "(III)I" } : Jvm.MethodName) prog_1_method_30_code (5 : Nat) (Option.some Jvm.ClassFile.FieldType.int)) ∈ lw_all := lw_g (lw_at lw_m7 104 rfl) rfl
theorem q1646 : (Jvm.Cond.methodLink "OpenLines" (239 : Nat) ({ cls := "OpenLines$Pass", name := "winners", desc := "(I)I" } : Jvm.MethodName)) ∈ lw_all := lw_g (lw_at lw_m7 105 rfl) rfl
theorem q1651 : (Jvm.Cond.instanceMethod ({ cls := "OpenLines", name := "settles", desc := "(II)I" } : Jvm.MethodName)) ∈ lw_all := lw_g (lw_at lw_m7 110 rfl) rfl
theorem q1652 : (Jvm.Cond.selects "OpenLines" ({ cls := "OpenLines", name := "settles", desc := "(II)I" } : Jvm.MethodName) ({ cls := "OpenLines", name := "settles", desc := "(II)I" } : Jvm.MethodName)) ∈ lw_all := lw_g (lw_at lw_m7 111 rfl) rfl
theorem q1653 : (Jvm.Cond.code ({ cls := "OpenLines", name := "settles", desc := "(II)I" } : Jvm.MethodName) prog_1_method_31_code (4 : Nat) (Option.some Jvm.ClassFile.FieldType.int)) ∈ lw_all := lw_g (lw_at lw_m7 112 rfl) rfl
theorem q1654 : (Jvm.Cond.methodLink "OpenLines" (242 : Nat) ({ cls := "OpenLines$Pass", name := "settles", desc := "()I" } : Jvm.MethodName)) ∈ lw_all := lw_g (lw_at lw_m7 113 rfl) rfl
theorem q1659 : (Jvm.Cond.instanceMethod ({ cls := "OpenLines", name := "sure", desc := "(II)I" } : Jvm.MethodName)) ∈ lw_all := lw_g (lw_at lw_m7 118 rfl) rfl
theorem q1660 : (Jvm.Cond.selects "OpenLines" ({ cls := "OpenLines", name := "sure", desc := "(II)I" } : Jvm.MethodName) ({ cls := "OpenLines", name := "sure", desc := "(II)I" } : Jvm.MethodName)) ∈ lw_all := lw_g (lw_at lw_m7 119 rfl) rfl
theorem q1661 : (Jvm.Cond.code ({ cls := "OpenLines", name := "sure", desc := "(II)I" } : Jvm.MethodName) prog_1_method_32_code (4 : Nat) (Option.some Jvm.ClassFile.FieldType.int)) ∈ lw_all := lw_g (lw_at lw_m7 120 rfl) rfl
theorem q1662 : (Jvm.Cond.methodLink "OpenLines" (245 : Nat) ({ cls := "OpenLines$Pass", name := "sure", desc := "()I" } : Jvm.MethodName)) ∈ lw_all := lw_g (lw_at lw_m7 121 rfl) rfl
theorem q1672 : (Jvm.Cond.instanceMethod ({ cls := "OpenLines", name := "right", desc := "(II)I" } : Jvm.MethodName)) ∈ lw_all := lw_g (lw_at lw_m7 131 rfl) rfl
theorem q1673 : (Jvm.Cond.selects "OpenLines" ({ cls := "OpenLines", name := "right", desc := "(II)I" } : Jvm.MethodName) ({ cls := "OpenLines", name := "right", desc := "(II)I" } : Jvm.MethodName)) ∈ lw_all := lw_g (lw_at lw_m7 132 rfl) rfl
theorem q1674 : (Jvm.Cond.code ({ cls := "OpenLines", name := "right", desc := "(II)I" } : Jvm.MethodName) prog_1_method_33_code (4 : Nat) (Option.some Jvm.ClassFile.FieldType.int)) ∈ lw_all := lw_g (lw_at lw_m7 133 rfl) rfl
theorem q1675 : (Jvm.Cond.methodLink "OpenLines" (248 : Nat) ({ cls := "OpenLines$Pass", name := "right", desc := "()I" } : Jvm.MethodName)) ∈ lw_all := lw_g (lw_at lw_m7 134 rfl) rfl
theorem q1677 : (Jvm.Cond.instanceMethod ({ cls := "OpenLines", name := "dips", desc := "(II)I" } : Jvm.MethodName)) ∈ lw_all := lw_g (lw_at lw_m7 136 rfl) rfl
theorem q1678 : (Jvm.Cond.selects "OpenLines" ({ cls := "OpenLines", name := "dips", desc := "(II)I" } : Jvm.MethodName) ({ cls := "OpenLines", name := "dips", desc := "(II)I" } : Jvm.MethodName)) ∈ lw_all := lw_g (lw_at lw_m7 137 rfl) rfl
theorem q1679 : (Jvm.Cond.code ({ cls := "OpenLines", name := "dips", desc := "(II)I" } : Jvm.MethodName) prog_1_method_34_code (4 : Nat) (Option.some Jvm.ClassFile.FieldType.int)) ∈ lw_all := lw_g (lw_at lw_m7 138 rfl) rfl
theorem q1681 : (Jvm.Cond.instanceMethod ({ cls := "OpenLines", name := "faulty", desc := "(III)I" } : Jvm.MethodName)) ∈ lw_all := lw_g (lw_at lw_m7 140 rfl) rfl
theorem q1682 : (Jvm.Cond.selects "OpenLines" ({ cls := "OpenLines", name := "faulty", desc := "(III)I" } : Jvm.MethodName) ({ cls := "OpenLines", name := "faulty", desc := "(III)I" } : Jvm.MethodName)) ∈ lw_all := lw_g (lw_at lw_m7 141 rfl) rfl
theorem q1683 : (Jvm.Cond.code ({ cls := "OpenLines", name := "faulty", desc := "(III)I" } : Jvm.MethodName) prog_1_method_35_code (5 : Nat) (Option.some Jvm.ClassFile.FieldType.int)) ∈ lw_all := lw_g (lw_at lw_m7 142 rfl) rfl
theorem q1684 : (Jvm.Cond.methodLink "OpenLines" (254 : Nat) ({ cls := "OpenLines$Pass", name := "isFaulty", desc := "(I)Z" } : Jvm.MethodName)) ∈ lw_all := lw_g (lw_at lw_m7 143 rfl) rfl
theorem q1690 : (Jvm.Cond.instanceMethod ({ cls := "OpenLines", name := "edges", desc := "(IIII)I" } : Jvm.MethodName)) ∈ lw_all := lw_g (lw_at lw_m7 149 rfl) rfl
theorem q1691 : (Jvm.Cond.selects "OpenLines" ({ cls := "OpenLines", name := "edges", desc := "(IIII)I" } : Jvm.MethodName) ({ cls := "OpenLines", name := "edges", desc := "(IIII)I" } : Jvm.MethodName)) ∈ lw_all := lw_g (lw_at lw_m7 150 rfl) rfl
theorem q1692 : (Jvm.Cond.code ({ cls := "OpenLines", name := "edges", desc := "(IIII)I" } : Jvm.MethodName) prog_1_method_36_code (6 : Nat) (Option.some Jvm.ClassFile.FieldType.int)) ∈ lw_all := lw_g (lw_at lw_m7 151 rfl) rfl
theorem q1693 : (Jvm.Cond.methodLink "OpenLines" (257 : Nat) ({ cls := "OpenLines$Pass", name := "edges", desc := "(II)I" } : Jvm.MethodName)) ∈ lw_all := lw_g (lw_at lw_m7 152 rfl) rfl
theorem q1698 : (Jvm.Cond.instanceMethod ({ cls := "OpenLines", name := "filters", desc := "(II)I" } : Jvm.MethodName)) ∈ lw_all := lw_g (lw_at lw_m7 157 rfl) rfl
theorem q1699 : (Jvm.Cond.selects "OpenLines" ({ cls := "OpenLines", name := "filters", desc := "(II)I" } : Jvm.MethodName) ({ cls := "OpenLines", name := "filters", desc := "(II)I" } : Jvm.MethodName)) ∈ lw_all := lw_g (lw_at lw_m7 158 rfl) rfl
theorem q1700 : (Jvm.Cond.code ({ cls := "OpenLines", name := "filters", desc := "(II)I" } : Jvm.MethodName) prog_1_method_37_code (6 : Nat) (Option.some Jvm.ClassFile.FieldType.int)) ∈ lw_all := lw_g (lw_at lw_m7 159 rfl) rfl
theorem q1701 : (Jvm.Cond.methodLink "OpenLines" (261 : Nat) ({ cls := "OpenLines$Pass", name := "goes", desc := "(LOpenLines$Bus;ILOpenLines$Word;[III)LOpenLines$Pass;" } : Jvm.MethodName)) ∈ lw_all := lw_g (lw_at lw_m7 160 rfl) rfl
theorem q1703 : (Jvm.Cond.instanceMethod ({ cls := "OpenLines", name := "slowest", desc := "(I)I" } : Jvm.MethodName)) ∈ lw_all := lw_g (lw_at lw_m7 162 rfl) rfl
theorem q1704 : (Jvm.Cond.selects "OpenLines" ({ cls := "OpenLines", name := "slowest", desc := "(I)I" } : Jvm.MethodName) ({ cls := "OpenLines", name := "slowest", desc := "(I)I" } : Jvm.MethodName)) ∈ lw_all := lw_g (lw_at lw_m7 163 rfl) rfl
theorem q1705 : (Jvm.Cond.code ({ cls := "OpenLines", name := "slowest", desc := "(I)I" } : Jvm.MethodName) prog_1_method_38_code (7 : Nat) (Option.some Jvm.ClassFile.FieldType.int)) ∈ lw_all := lw_g (lw_at lw_m7 164 rfl) rfl
theorem q1707 : (Jvm.Cond.instanceMethod ({ cls := "OpenLines", name := "settled", desc := "(II)I" } : Jvm.MethodName)) ∈ lw_all := lw_g (lw_at lw_m7 166 rfl) rfl
theorem q1708 : (Jvm.Cond.selects "OpenLines" ({ cls := "OpenLines", name := "settled", desc := "(II)I" } : Jvm.MethodName) ({ cls := "OpenLines", name := "settled", desc := "(II)I" } : Jvm.MethodName)) ∈ lw_all := lw_g (lw_at lw_m7 167 rfl) rfl
theorem q1709 : (Jvm.Cond.code ({ cls := "OpenLines", name := "settled", desc := "(II)I" } : Jvm.MethodName) prog_1_method_39_code (6 : Nat) (Option.some Jvm.ClassFile.FieldType.int)) ∈ lw_all := lw_g (lw_at lw_m7 168 rfl) rfl
theorem q1711 : (Jvm.Cond.instanceMethod ({ cls := "OpenLines", name := "enough", desc := "(I)I" } : Jvm.MethodName)) ∈ lw_all := lw_g (lw_at lw_m7 170 rfl) rfl
theorem q1712 : (Jvm.Cond.selects "OpenLines" ({ cls := "OpenLines", name := "enough", desc := "(I)I" } : Jvm.MethodName) ({ cls := "OpenLines", name := "enough", desc := "(I)I" } : Jvm.MethodName)) ∈ lw_all := lw_g (lw_at lw_m7 171 rfl) rfl
theorem q1713 : (Jvm.Cond.code ({ cls := "OpenLines", name := "enough", desc := "(I)I" } : Jvm.MethodName) prog_1_method_40_code (6 : Nat) (Option.some Jvm.ClassFile.FieldType.int)) ∈ lw_all := lw_g (lw_at lw_m7 172 rfl) rfl
theorem q1714 : (Jvm.Cond.methodLink "OpenLines" (264 : Nat) ({ cls := "java/lang/Math", name := "max", desc := "(II)I" } : Jvm.MethodName)) ∈ lw_all := lw_g (lw_at lw_m7 173 rfl) rfl
theorem q1716 : (Jvm.Cond.instanceMethod ({ cls := "OpenLines", name := "would", desc := "(I)I" } : Jvm.MethodName)) ∈ lw_all := lw_g (lw_at lw_m7 175 rfl) rfl
theorem q1717 : (Jvm.Cond.selects "OpenLines" ({ cls := "OpenLines", name := "would", desc := "(I)I" } : Jvm.MethodName) ({ cls := "OpenLines", name := "would", desc := "(I)I" } : Jvm.MethodName)) ∈ lw_all := lw_g (lw_at lw_m7 176 rfl) rfl
theorem q1718 : (Jvm.Cond.code ({ cls := "OpenLines", name := "would", desc := "(I)I" } : Jvm.MethodName) prog_1_method_41_code (2 : Nat) (Option.some Jvm.ClassFile.FieldType.int)) ∈ lw_all := lw_g (lw_at lw_m7 177 rfl) rfl
theorem q1719 : (Jvm.Cond.methodLink "OpenLines" (269 : Nat) ({ cls := "OpenLines$Run", name := "passes", desc := "(ILOpenLines$Word;)I" } : Jvm.MethodName)) ∈ lw_all := lw_g (lw_at lw_m7 178 rfl) rfl
theorem q1740 : (Jvm.Cond.instanceMethod ({ cls := "OpenLines", name := "now", desc := "(I)I" } : Jvm.MethodName)) ∈ lw_all := lw_g (lw_at lw_m7 199 rfl) rfl
theorem q1741 : (Jvm.Cond.selects "OpenLines" ({ cls := "OpenLines", name := "now", desc := "(I)I" } : Jvm.MethodName) ({ cls := "OpenLines", name := "now", desc := "(I)I" } : Jvm.MethodName)) ∈ lw_all := lw_g (lw_at lw_m7 200 rfl) rfl
theorem q1742 : (Jvm.Cond.code ({ cls := "OpenLines", name := "now", desc := "(I)I" } : Jvm.MethodName) prog_1_method_43_code (2 : Nat) (Option.some Jvm.ClassFile.FieldType.int)) ∈ lw_all := lw_g (lw_at lw_m7 201 rfl) rfl
theorem q1743 : (Jvm.Cond.methodLink "OpenLines" (273 : Nat) ({ cls := "OpenLines", name := "isWhat", desc := "(I)Z" } : Jvm.MethodName)) ∈ lw_all := lw_g (lw_at lw_m7 202 rfl) rfl
theorem q1744 : (Jvm.Cond.static ({ cls := "OpenLines", name := "isWhat", desc := "(I)Z" } : Jvm.MethodName)) ∈ lw_all := lw_g (lw_at lw_m7 203 rfl) rfl
theorem q1745 : (Jvm.Cond.code ({ cls := "OpenLines", name := "isWhat", desc := "(I)Z" } : Jvm.MethodName) prog_1_method_42_code (1 : Nat) (Option.some Jvm.ClassFile.FieldType.boolean)) ∈ lw_all := lw_g (lw_at lw_m7 204 rfl) rfl
theorem q1746 : (Jvm.Cond.methodLink "OpenLines" (276 : Nat) ({ cls := "OpenLines$Run", name := "is", desc := "(I)I" } : Jvm.MethodName)) ∈ lw_all := lw_g (lw_at lw_m7 205 rfl) rfl
theorem q1756 : (Jvm.Cond.instanceMethod ({ cls := "OpenLines", name := "ledger", desc := "(II)I" } : Jvm.MethodName)) ∈ lw_all := lw_g (lw_at lw_m7 215 rfl) rfl
theorem q1757 : (Jvm.Cond.selects "OpenLines" ({ cls := "OpenLines", name := "ledger", desc := "(II)I" } : Jvm.MethodName) ({ cls := "OpenLines", name := "ledger", desc := "(II)I" } : Jvm.MethodName)) ∈ lw_all := lw_g (lw_at lw_m7 216 rfl) rfl
theorem q1758 : (Jvm.Cond.code ({ cls := "OpenLines", name := "ledger", desc := "(II)I" } : Jvm.MethodName) prog_1_method_44_code (3 : Nat) (Option.some Jvm.ClassFile.FieldType.int)) ∈ lw_all := lw_g (lw_at lw_m7 217 rfl) rfl
theorem q1760 : (Jvm.Cond.instanceMethod ({ cls := "OpenLines", name := "log", desc := "(II)I" } : Jvm.MethodName)) ∈ lw_all := lw_g (lw_at lw_m7 219 rfl) rfl
theorem q1761 : (Jvm.Cond.selects "OpenLines" ({ cls := "OpenLines", name := "log", desc := "(II)I" } : Jvm.MethodName) ({ cls := "OpenLines", name := "log", desc := "(II)I" } : Jvm.MethodName)) ∈ lw_all := lw_g (lw_at lw_m7 220 rfl) rfl
theorem q1762 : (Jvm.Cond.code ({ cls := "OpenLines", name := "log", desc := "(II)I" } : Jvm.MethodName) prog_1_method_45_code (4 : Nat) (Option.some Jvm.ClassFile.FieldType.int)) ∈ lw_all := lw_g (lw_at lw_m7 221 rfl) rfl
theorem q1763 : (Jvm.Cond.methodLink "OpenLines" (285 : Nat) ({ cls := "java/util/ArrayList", name := "get", desc := "(I)Ljava/lang/Object;" } : Jvm.MethodName)) ∈ lw_all := lw_g (lw_at lw_m7 222 rfl) rfl
theorem q1764 : (Jvm.Cond.classLink "OpenLines" (288 : Nat) "OpenLines$Entry") ∈ lw_all := lw_g (lw_at lw_m7 223 rfl) rfl
theorem q1765 : (Jvm.Cond.methodLink "OpenLines" (290 : Nat) ({ cls := "OpenLines$Entry", name := "time", desc := "()I" } : Jvm.MethodName)) ∈ lw_all := lw_g (lw_at lw_m7 224 rfl) rfl
theorem q1769 : (Jvm.Cond.methodLink "OpenLines" (292 : Nat) ({ cls := "OpenLines$Entry", name := "set", desc := "()I" } : Jvm.MethodName)) ∈ lw_all := lw_g (lw_at lw_m7 228 rfl) rfl
theorem q1773 : (Jvm.Cond.methodLink "OpenLines" (295 : Nat) ({ cls := "OpenLines$Entry", name := "first", desc := "()I" } : Jvm.MethodName)) ∈ lw_all := lw_g (lw_at lw_m7 232 rfl) rfl
theorem q1777 : (Jvm.Cond.methodLink "OpenLines" (298 : Nat) ({ cls := "OpenLines$Entry", name := "second", desc := "()I" } : Jvm.MethodName)) ∈ lw_all := lw_g (lw_at lw_m7 236 rfl) rfl
theorem q1781 : (Jvm.Cond.methodLink "OpenLines" (301 : Nat) ({ cls := "OpenLines$Entry", name := "elect", desc := "()I" } : Jvm.MethodName)) ∈ lw_all := lw_g (lw_at lw_m8 0 rfl) rfl
theorem q1785 : (Jvm.Cond.methodLink "OpenLines" (304 : Nat) ({ cls := "OpenLines$Entry", name := "faulty", desc := "()I" } : Jvm.MethodName)) ∈ lw_all := lw_g (lw_at lw_m8 4 rfl) rfl
theorem q1790 : (Jvm.Cond.instanceMethod ({ cls := "OpenLines", name := "past", desc := "(I)I" } : Jvm.MethodName)) ∈ lw_all := lw_g (lw_at lw_m8 9 rfl) rfl
theorem q1791 : (Jvm.Cond.selects "OpenLines" ({ cls := "OpenLines", name := "past", desc := "(I)I" } : Jvm.MethodName) ({ cls := "OpenLines", name := "past", desc := "(I)I" } : Jvm.MethodName)) ∈ lw_all := lw_g (lw_at lw_m8 10 rfl) rfl
theorem q1792 : (Jvm.Cond.code ({ cls := "OpenLines", name := "past", desc := "(I)I" } : Jvm.MethodName) prog_1_method_46_code (2 : Nat) (Option.some Jvm.ClassFile.FieldType.int)) ∈ lw_all := lw_g (lw_at lw_m8 11 rfl) rfl
theorem q1793 : (Jvm.Cond.methodLink "OpenLines" (307 : Nat) ({ cls := "OpenLines$Run", name := "past", desc := "(I)I" } : Jvm.MethodName)) ∈ lw_all := lw_g (lw_at lw_m8 12 rfl) rfl
theorem q1798 : (Jvm.Cond.instanceMethod ({ cls := "OpenLines", name := "idle", desc := "()I" } : Jvm.MethodName)) ∈ lw_all := lw_g (lw_at lw_m8 17 rfl) rfl
theorem q1799 : (Jvm.Cond.selects "OpenLines" ({ cls := "OpenLines", name := "idle", desc := "()I" } : Jvm.MethodName) ({ cls := "OpenLines", name := "idle", desc := "()I" } : Jvm.MethodName)) ∈ lw_all := lw_g (lw_at lw_m8 18 rfl) rfl
theorem q1800 : (Jvm.Cond.code ({ cls := "OpenLines", name := "idle", desc := "()I" } : Jvm.MethodName) prog_1_method_47_code (1 : Nat) (Option.some Jvm.ClassFile.FieldType.int)) ∈ lw_all := lw_g (lw_at lw_m8 19 rfl) rfl
theorem q1801 : (Jvm.Cond.methodLink "OpenLines" (310 : Nat) ({ cls := "OpenLines$Run", name := "idle", desc := "()I" } : Jvm.MethodName)) ∈ lw_all := lw_g (lw_at lw_m8 20 rfl) rfl
theorem q1808 : (Jvm.Cond.instanceMethod ({ cls := "OpenLines", name := "waiting", desc := "(I)I" } : Jvm.MethodName)) ∈ lw_all := lw_g (lw_at lw_m8 27 rfl) rfl
theorem q1809 : (Jvm.Cond.selects "OpenLines" ({ cls := "OpenLines", name := "waiting", desc := "(I)I" } : Jvm.MethodName) ({ cls := "OpenLines", name := "waiting", desc := "(I)I" } : Jvm.MethodName)) ∈ lw_all := lw_g (lw_at lw_m8 28 rfl) rfl
theorem q1810 : (Jvm.Cond.code ({ cls := "OpenLines", name := "waiting", desc := "(I)I" } : Jvm.MethodName) prog_1_method_48_code (2 : Nat) (Option.some Jvm.ClassFile.FieldType.int)) ∈ lw_all := lw_g (lw_at lw_m8 29 rfl) rfl
theorem q1811 : (Jvm.Cond.methodLink "OpenLines" (313 : Nat) ({ cls := "OpenLines$Run", name := "waiting", desc := "(I)I" } : Jvm.MethodName)) ∈ lw_all := lw_g (lw_at lw_m8 30 rfl) rfl
theorem q1817 : (Jvm.Cond.instanceMethod ({ cls := "OpenLines", name := "longest", desc := "()I" } : Jvm.MethodName)) ∈ lw_all := lw_g (lw_at lw_m8 36 rfl) rfl
theorem q1818 : (Jvm.Cond.selects "OpenLines" ({ cls := "OpenLines", name := "longest", desc := "()I" } : Jvm.MethodName) ({ cls := "OpenLines", name := "longest", desc := "()I" } : Jvm.MethodName)) ∈ lw_all := lw_g (lw_at lw_m8 37 rfl) rfl
theorem q1819 : (Jvm.Cond.code ({ cls := "OpenLines", name := "longest", desc := "()I" } : Jvm.MethodName) prog_1_method_49_code (1 : Nat) (Option.some Jvm.ClassFile.FieldType.int)) ∈ lw_all := lw_g (lw_at lw_m8 38 rfl) rfl
theorem q1820 : (Jvm.Cond.methodLink "OpenLines" (316 : Nat) ({ cls := "OpenLines$Run", name := "longest", desc := "()I" } : Jvm.MethodName)) ∈ lw_all := lw_g (lw_at lw_m8 39 rfl) rfl
theorem q1826 : (Jvm.Cond.instanceMethod ({ cls := "OpenLines", name := "will", desc := "(II)I" } : Jvm.MethodName)) ∈ lw_all := lw_g (lw_at lw_m8 45 rfl) rfl
theorem q1827 : (Jvm.Cond.selects "OpenLines" ({ cls := "OpenLines", name := "will", desc := "(II)I" } : Jvm.MethodName) ({ cls := "OpenLines", name := "will", desc := "(II)I" } : Jvm.MethodName)) ∈ lw_all := lw_g (lw_at lw_m8 46 rfl) rfl
theorem q1828 : (Jvm.Cond.code ({ cls := "OpenLines", name := "will", desc := "(II)I" } : Jvm.MethodName) prog_1_method_50_code (3 : Nat) (Option.some Jvm.ClassFile.FieldType.int)) ∈ lw_all := lw_g (lw_at lw_m8 47 rfl) rfl
theorem q1829 : (Jvm.Cond.methodLink "OpenLines" (319 : Nat) ({ cls := "OpenLines$Run", name := "be", desc := "(LOpenLines$Run;)V" } : Jvm.MethodName)) ∈ lw_all := lw_g (lw_at lw_m8 48 rfl) rfl
theorem q1838 : (Jvm.Cond.methodLink "OpenLines" (323 : Nat) ({ cls := "OpenLines$Run", name := "goes", desc := "(I)V" } : Jvm.MethodName)) ∈ lw_all := lw_g (lw_at lw_m8 57 rfl) rfl
theorem q2065 : (Jvm.Cond.instanceMethod ({ cls := "OpenLines", name := "till", desc := "(I)I" } : Jvm.MethodName)) ∈ lw_all := lw_g (lw_at lw_m9 44 rfl) rfl
theorem q2066 : (Jvm.Cond.selects "OpenLines" ({ cls := "OpenLines", name := "till", desc := "(I)I" } : Jvm.MethodName) ({ cls := "OpenLines", name := "till", desc := "(I)I" } : Jvm.MethodName)) ∈ lw_all := lw_g (lw_at lw_m9 45 rfl) rfl
theorem q2067 : (Jvm.Cond.code ({ cls := "OpenLines", name := "till", desc := "(I)I" } : Jvm.MethodName) prog_1_method_51_code (4 : Nat) (Option.some Jvm.ClassFile.FieldType.int)) ∈ lw_all := lw_g (lw_at lw_m9 46 rfl) rfl
theorem q2069 : (Jvm.Cond.instanceMethod ({ cls := "OpenLines", name := "ask", desc := "(II)I" } : Jvm.MethodName)) ∈ lw_all := lw_g (lw_at lw_m9 48 rfl) rfl
theorem q2070 : (Jvm.Cond.selects "OpenLines" ({ cls := "OpenLines", name := "ask", desc := "(II)I" } : Jvm.MethodName) ({ cls := "OpenLines", name := "ask", desc := "(II)I" } : Jvm.MethodName)) ∈ lw_all := lw_g (lw_at lw_m9 49 rfl) rfl
theorem q2071 : (Jvm.Cond.code ({ cls := "OpenLines", name := "ask", desc := "(II)I" } : Jvm.MethodName) prog_1_method_52_code (3 : Nat) (Option.some Jvm.ClassFile.FieldType.int)) ∈ lw_all := lw_g (lw_at lw_m9 50 rfl) rfl
theorem q2072 : (Jvm.Cond.methodLink "OpenLines" (325 : Nat) ({ cls := "OpenLines$Run", name := "hears", desc := "(II)Z" } : Jvm.MethodName)) ∈ lw_all := lw_g (lw_at lw_m9 51 rfl) rfl
theorem q2073 : (Jvm.Cond.methodLink "OpenLines" (329 : Nat) ({ cls := "OpenLines$Run", name := "asking", desc := "()I" } : Jvm.MethodName)) ∈ lw_all := lw_g (lw_at lw_m9 52 rfl) rfl
theorem q2075 : (Jvm.Cond.instanceMethod ({ cls := "OpenLines", name := "waits", desc := "(II)I" } : Jvm.MethodName)) ∈ lw_all := lw_g (lw_at lw_m9 54 rfl) rfl
theorem q2076 : (Jvm.Cond.selects "OpenLines" ({ cls := "OpenLines", name := "waits", desc := "(II)I" } : Jvm.MethodName) ({ cls := "OpenLines", name := "waits", desc := "(II)I" } : Jvm.MethodName)) ∈ lw_all := lw_g (lw_at lw_m9 55 rfl) rfl
theorem q2077 : (Jvm.Cond.code ({ cls := "OpenLines", name := "waits", desc := "(II)I" } : Jvm.MethodName) prog_1_method_53_code (4 : Nat) (Option.some Jvm.ClassFile.FieldType.int)) ∈ lw_all := lw_g (lw_at lw_m9 56 rfl) rfl
theorem q2078 : (Jvm.Cond.methodLink "OpenLines" (332 : Nat) ({ cls := "OpenLines$Run", name := "waitsFor", desc := "(II)Z" } : Jvm.MethodName)) ∈ lw_all := lw_g (lw_at lw_m9 57 rfl) rfl
theorem q2080 : (Jvm.Cond.instanceMethod ({ cls := "OpenLines", name := "stick", desc := "(II)I" } : Jvm.MethodName)) ∈ lw_all := lw_g (lw_at lw_m9 59 rfl) rfl
theorem q2081 : (Jvm.Cond.selects "OpenLines" ({ cls := "OpenLines", name := "stick", desc := "(II)I" } : Jvm.MethodName) ({ cls := "OpenLines", name := "stick", desc := "(II)I" } : Jvm.MethodName)) ∈ lw_all := lw_g (lw_at lw_m9 60 rfl) rfl
theorem q2082 : (Jvm.Cond.code ({ cls := "OpenLines", name := "stick", desc := "(II)I" } : Jvm.MethodName) prog_1_method_54_code (4 : Nat) (Option.some Jvm.ClassFile.FieldType.int)) ∈ lw_all := lw_g (lw_at lw_m9 61 rfl) rfl
theorem q2084 : (Jvm.Cond.instanceMethod ({ cls := "OpenLines", name := "ticks", desc := "(I)I" } : Jvm.MethodName)) ∈ lw_all := lw_g (lw_at lw_m9 63 rfl) rfl
theorem q2085 : (Jvm.Cond.selects "OpenLines" ({ cls := "OpenLines", name := "ticks", desc := "(I)I" } : Jvm.MethodName) ({ cls := "OpenLines", name := "ticks", desc := "(I)I" } : Jvm.MethodName)) ∈ lw_all := lw_g (lw_at lw_m9 64 rfl) rfl
theorem q2086 : (Jvm.Cond.code ({ cls := "OpenLines", name := "ticks", desc := "(I)I" } : Jvm.MethodName) prog_1_method_55_code (2 : Nat) (Option.some Jvm.ClassFile.FieldType.int)) ∈ lw_all := lw_g (lw_at lw_m9 65 rfl) rfl
theorem q2088 : (Jvm.Cond.instanceMethod ({ cls := "OpenLines", name := "keep", desc := "()Z" } : Jvm.MethodName)) ∈ lw_all := lw_g (lw_at lw_m9 67 rfl) rfl
theorem q2089 : (Jvm.Cond.selects "OpenLines" ({ cls := "OpenLines", name := "keep", desc := "()Z" } : Jvm.MethodName) ({ cls := "OpenLines", name := "keep", desc := "()Z" } : Jvm.MethodName)) ∈ lw_all := lw_g (lw_at lw_m9 68 rfl) rfl
theorem q2090 : (Jvm.Cond.code ({ cls := "OpenLines", name := "keep", desc := "()Z" } : Jvm.MethodName) prog_1_method_56_code (1 : Nat) (Option.some Jvm.ClassFile.FieldType.boolean)) ∈ lw_all := lw_g (lw_at lw_m9 69 rfl) rfl
theorem q2091 : (Jvm.Cond.methodLink "OpenLines" (338 : Nat) ({ cls := "OpenLines", name := "granted", desc := "(Z)Z" } : Jvm.MethodName)) ∈ lw_all := lw_g (lw_at lw_m9 70 rfl) rfl
theorem q2092 : (Jvm.Cond.privateMethod ({ cls := "OpenLines", name := "granted", desc := "(Z)Z" } : Jvm.MethodName)) ∈ lw_tbl := lw_at lw_m9 71 rfl
theorem q2093 : (Jvm.Cond.instanceMethod ({ cls := "OpenLines", name := "granted", desc := "(Z)Z" } : Jvm.MethodName)) ∈ lw_all := lw_g (lw_at lw_m9 72 rfl) rfl
theorem q2094 : (Jvm.Cond.code ({ cls := "OpenLines", name := "granted", desc := "(Z)Z" } : Jvm.MethodName) prog_1_method_8_code (2 : Nat) (Option.some Jvm.ClassFile.FieldType.boolean)) ∈ lw_all := lw_g (lw_at lw_m9 73 rfl) rfl
theorem q2096 : (Jvm.Cond.instanceMethod ({ cls := "OpenLines", name := "back", desc := "()Z" } : Jvm.MethodName)) ∈ lw_all := lw_g (lw_at lw_m9 75 rfl) rfl
theorem q2097 : (Jvm.Cond.selects "OpenLines" ({ cls := "OpenLines", name := "back", desc := "()Z" } : Jvm.MethodName) ({ cls := "OpenLines", name := "back", desc := "()Z" } : Jvm.MethodName)) ∈ lw_all := lw_g (lw_at lw_m9 76 rfl) rfl
theorem q2098 : (Jvm.Cond.code ({ cls := "OpenLines", name := "back", desc := "()Z" } : Jvm.MethodName) prog_1_method_57_code (1 : Nat) (Option.some Jvm.ClassFile.FieldType.boolean)) ∈ lw_all := lw_g (lw_at lw_m9 77 rfl) rfl
theorem q2100 : (Jvm.Cond.instanceMethod ({ cls := "OpenLines", name := "size", desc := "(I)I" } : Jvm.MethodName)) ∈ lw_all := lw_g (lw_at lw_m9 79 rfl) rfl
theorem q2101 : (Jvm.Cond.selects "OpenLines" ({ cls := "OpenLines", name := "size", desc := "(I)I" } : Jvm.MethodName) ({ cls := "OpenLines", name := "size", desc := "(I)I" } : Jvm.MethodName)) ∈ lw_all := lw_g (lw_at lw_m9 80 rfl) rfl
theorem q2102 : (Jvm.Cond.code ({ cls := "OpenLines", name := "size", desc := "(I)I" } : Jvm.MethodName) prog_1_method_60_code (2 : Nat) (Option.some Jvm.ClassFile.FieldType.int)) ∈ lw_all := lw_g (lw_at lw_m9 81 rfl) rfl
theorem q2103 : (Jvm.Cond.methodLink "OpenLines" (345 : Nat) ({ cls := "OpenLines$Run", name := "toCome", desc := "()I" } : Jvm.MethodName)) ∈ lw_all := lw_g (lw_at lw_m9 82 rfl) rfl
theorem q2107 : (Jvm.Cond.methodLink "OpenLines" (348 : Nat) ({ cls := "OpenLines", name := "unwhole", desc := "()I" } : Jvm.MethodName)) ∈ lw_all := lw_g (lw_at lw_m9 86 rfl) rfl
theorem q2108 : (Jvm.Cond.privateMethod ({ cls := "OpenLines", name := "unwhole", desc := "()I" } : Jvm.MethodName)) ∈ lw_tbl := lw_at lw_m9 87 rfl
theorem q2109 : (Jvm.Cond.instanceMethod ({ cls := "OpenLines", name := "unwhole", desc := "()I" } : Jvm.MethodName)) ∈ lw_all := lw_g (lw_at lw_m9 88 rfl) rfl
theorem q2110 : (Jvm.Cond.code ({ cls := "OpenLines", name := "unwhole", desc := "()I" } : Jvm.MethodName) prog_1_method_59_code (3 : Nat) (Option.some Jvm.ClassFile.FieldType.int)) ∈ lw_all := lw_g (lw_at lw_m9 89 rfl) rfl
theorem q2112 : (Jvm.Cond.instanceMethod ({ cls := "OpenLines", name := "trouble", desc := "()I" } : Jvm.MethodName)) ∈ lw_all := lw_g (lw_at lw_m9 91 rfl) rfl
theorem q2113 : (Jvm.Cond.selects "OpenLines" ({ cls := "OpenLines", name := "trouble", desc := "()I" } : Jvm.MethodName) ({ cls := "OpenLines", name := "trouble", desc := "()I" } : Jvm.MethodName)) ∈ lw_all := lw_g (lw_at lw_m9 92 rfl) rfl
theorem q2114 : (Jvm.Cond.code ({ cls := "OpenLines", name := "trouble", desc := "()I" } : Jvm.MethodName) prog_1_method_61_code (1 : Nat) (Option.some Jvm.ClassFile.FieldType.int)) ∈ lw_all := lw_g (lw_at lw_m9 93 rfl) rfl
theorem q2120 : (Jvm.Cond.instanceMethod ({ cls := "OpenLines", name := "never", desc := "(I)I" } : Jvm.MethodName)) ∈ lw_all := lw_g (lw_at lw_m9 99 rfl) rfl
theorem q2121 : (Jvm.Cond.selects "OpenLines" ({ cls := "OpenLines", name := "never", desc := "(I)I" } : Jvm.MethodName) ({ cls := "OpenLines", name := "never", desc := "(I)I" } : Jvm.MethodName)) ∈ lw_all := lw_g (lw_at lw_m9 100 rfl) rfl
theorem q2122 : (Jvm.Cond.code ({ cls := "OpenLines", name := "never", desc := "(I)I" } : Jvm.MethodName) prog_1_method_58_code (5 : Nat) (Option.some Jvm.ClassFile.FieldType.int)) ∈ lw_all := lw_g (lw_at lw_m9 101 rfl) rfl
theorem q2123 : (Jvm.Cond.classLink "OpenLines" (342 : Nat) "java/util/NoSuchElementException") ∈ lw_all := lw_g (lw_at lw_m9 102 rfl) rfl
theorem q2124 : (Jvm.Cond.methodLink "OpenLines" (344 : Nat) ({ cls := "java/util/NoSuchElementException", name := "<init>", desc := "()V" } : Jvm.MethodName)) ∈ lw_all := lw_g (lw_at lw_m9 103 rfl) rfl
theorem q2660 : (Jvm.Cond.castable "OpenLines" "java/lang/Object") ∈ lw_tbl := lw_at lw_m11 159 rfl
theorem in_X1 : ∀ w ∈ wsX10, w ∈ lw_all := lw_in wsX10 [356, 358, 360, 362, 364, 366, 368, 370, 372, 374, 376, 378, 380] (by decide +kernel) (by decide +kernel)
/-! OpenLines$Pass -/
set_option maxRecDepth 100000
def RX2 : String := "OpenLines$Pass"
def TX2 : u_T := fun k => match k with
  | 0 => ("OpenLines$Pass", "words", "[I", true)
  | 1 => ("OpenLines$Pass", "drives", "[I", true)
  | 2 => ("OpenLines$Pass", "seen", "[I", true)
  | 3 => ("OpenLines$Pass", "taken", "[I", true)
  | 4 => ("OpenLines$Pass", "withdrawn", "[I", true)
  | 5 => ("OpenLines$Pass", "dipped", "[I", true)
  | 6 => ("OpenLines$Pass", "latest", "[I", true)
  | 7 => ("OpenLines$Pass", "bus", "LOpenLines$Bus;", false)
  | 8 => ("OpenLines$Pass", "set", "I", false)
  | 9 => ("OpenLines$Pass", "stuck", "I", false)
  | 10 => ("OpenLines$Pass", "broken", "I", false)
  | 11 => ("OpenLines$Pass", "dips", "I", false)
  | 12 => ("OpenLines$Pass", "till", "I", false)
  | 13 => ("OpenLines$Pass", "filter", "I", false)
  | _ => ("OpenLines$Pass", "this$0", "LOpenLines;", true)
def tyX2 : Nat → FieldType := fun k => match k with
  | 0 => .array .int
  | 1 => .array .int
  | 2 => .array .int
  | 3 => .array .int
  | 4 => .array .int
  | 5 => .array .int
  | 6 => .array .int
  | 7 => .object "OpenLines$Bus"
  | 8 => .int
  | 9 => .int
  | 10 => .int
  | 11 => .int
  | 12 => .int
  | 13 => .int
  | _ => .object "OpenLines"
abbrev wsX20 : List Cond := u_ws RX2 TX2 15
set_option maxRecDepth 100000 in
theorem nmX2 : ∀ a, a < 15 → ∀ b, b < 15 → a ≠ b → (TX2 a).2.1 ≠ (TX2 b).2.1 := by decide +kernel
set_option maxRecDepth 100000 in
theorem tyX2_ok : ∀ k, k < 15 → parseFieldDescriptor (TX2 k).2.2.1 = some (tyX2 k) := by decide +kernel
abbrev cX2_init : ByteArray := prog_10_method_1_code
def yX2_init : MethodName := ⟨RX2, "<init>", "(LOpenLines;)V"⟩
def dkwX2_init_3 : List UInt8 := [181, 0, 34, 177]
abbrev dktX2_init_3 : List UInt8 := dkwX2_init_3 ++ []
def dkwX2_init_2 : List UInt8 := [17, 9, 102, 188, 10, 181, 0, 28, 42, 17, 9, 102, 188, 10, 181, 0, 31, 42, 16, 36, 188, 10]
abbrev dktX2_init_2 : List UInt8 := dkwX2_init_2 ++ dktX2_init_3
def dkwX2_init_1 : List UInt8 := [181, 0, 19, 42, 17, 9, 102, 188, 10, 181, 0, 22, 42, 17, 9, 102, 188, 10, 181, 0, 25, 42]
abbrev dktX2_init_1 : List UInt8 := dkwX2_init_1 ++ dktX2_init_2
def dkwX2_init_0 : List UInt8 := [42, 43, 181, 0, 3, 42, 183, 0, 9, 42, 16, 6, 188, 10, 181, 0, 15, 42, 17, 9, 102, 188, 10]
abbrev dktX2_init_0 : List UInt8 := dkwX2_init_0 ++ dktX2_init_1
theorem dksX2_init_0 : cX2_init.data.toList.drop 0 = dktX2_init_0 := by decide +kernel
theorem dksX2_init_1 : cX2_init.data.toList.drop 23 = dktX2_init_1 := dk_seg dksX2_init_0 23 rfl rfl
theorem dksX2_init_2 : cX2_init.data.toList.drop 45 = dktX2_init_2 := dk_seg dksX2_init_1 22 rfl rfl
theorem dksX2_init_3 : cX2_init.data.toList.drop 67 = dktX2_init_3 := dk_seg dksX2_init_2 22 rfl rfl
theorem dX2_init_0 : decode cX2_init 0 = .ok (.aload_n 0, 1) := dk_42 (dk_at dksX2_init_0 0 rfl rfl)
theorem dX2_init_1 : decode cX2_init 1 = .ok (.aload_n 1, 1) := dk_43 (dk_at dksX2_init_0 1 rfl rfl)
theorem dX2_init_2 : decode cX2_init 2 = .ok (.putfield 3, 3) := dk_181 0 3 (dk_at dksX2_init_0 2 rfl rfl)
theorem dX2_init_5 : decode cX2_init 5 = .ok (.aload_n 0, 1) := dk_42 (dk_at dksX2_init_0 5 rfl rfl)
theorem dX2_init_6 : decode cX2_init 6 = .ok (.invokespecial 9, 3) := dk_183 0 9 (dk_at dksX2_init_0 6 rfl rfl)
theorem dX2_init_9 : decode cX2_init 9 = .ok (.aload_n 0, 1) := dk_42 (dk_at dksX2_init_0 9 rfl rfl)
theorem dX2_init_10 : decode cX2_init 10 = .ok (.bipush 6, 2) := dk_16 6 (dk_at dksX2_init_0 10 rfl rfl)
theorem dX2_init_12 : decode cX2_init 12 = .ok (.newarray .int, 2) := dk_188_10 (dk_at dksX2_init_0 12 rfl rfl)
theorem dX2_init_14 : decode cX2_init 14 = .ok (.putfield 15, 3) := dk_181 0 15 (dk_at dksX2_init_0 14 rfl rfl)
theorem dX2_init_17 : decode cX2_init 17 = .ok (.aload_n 0, 1) := dk_42 (dk_at dksX2_init_0 17 rfl rfl)
theorem dX2_init_18 : decode cX2_init 18 = .ok (.sipush 2406, 3) := dk_17 9 102 (dk_at dksX2_init_0 18 rfl rfl)
theorem dX2_init_21 : decode cX2_init 21 = .ok (.newarray .int, 2) := dk_188_10 (dk_at dksX2_init_0 21 rfl rfl)
theorem dX2_init_23 : decode cX2_init 23 = .ok (.putfield 19, 3) := dk_181 0 19 (dk_at dksX2_init_1 0 rfl rfl)
theorem dX2_init_26 : decode cX2_init 26 = .ok (.aload_n 0, 1) := dk_42 (dk_at dksX2_init_1 3 rfl rfl)
theorem dX2_init_27 : decode cX2_init 27 = .ok (.sipush 2406, 3) := dk_17 9 102 (dk_at dksX2_init_1 4 rfl rfl)
theorem dX2_init_30 : decode cX2_init 30 = .ok (.newarray .int, 2) := dk_188_10 (dk_at dksX2_init_1 7 rfl rfl)
theorem dX2_init_32 : decode cX2_init 32 = .ok (.putfield 22, 3) := dk_181 0 22 (dk_at dksX2_init_1 9 rfl rfl)
theorem dX2_init_35 : decode cX2_init 35 = .ok (.aload_n 0, 1) := dk_42 (dk_at dksX2_init_1 12 rfl rfl)
theorem dX2_init_36 : decode cX2_init 36 = .ok (.sipush 2406, 3) := dk_17 9 102 (dk_at dksX2_init_1 13 rfl rfl)
theorem dX2_init_39 : decode cX2_init 39 = .ok (.newarray .int, 2) := dk_188_10 (dk_at dksX2_init_1 16 rfl rfl)
theorem dX2_init_41 : decode cX2_init 41 = .ok (.putfield 25, 3) := dk_181 0 25 (dk_at dksX2_init_1 18 rfl rfl)
theorem dX2_init_44 : decode cX2_init 44 = .ok (.aload_n 0, 1) := dk_42 (dk_at dksX2_init_1 21 rfl rfl)
theorem dX2_init_45 : decode cX2_init 45 = .ok (.sipush 2406, 3) := dk_17 9 102 (dk_at dksX2_init_2 0 rfl rfl)
theorem dX2_init_48 : decode cX2_init 48 = .ok (.newarray .int, 2) := dk_188_10 (dk_at dksX2_init_2 3 rfl rfl)
theorem dX2_init_50 : decode cX2_init 50 = .ok (.putfield 28, 3) := dk_181 0 28 (dk_at dksX2_init_2 5 rfl rfl)
theorem dX2_init_53 : decode cX2_init 53 = .ok (.aload_n 0, 1) := dk_42 (dk_at dksX2_init_2 8 rfl rfl)
theorem dX2_init_54 : decode cX2_init 54 = .ok (.sipush 2406, 3) := dk_17 9 102 (dk_at dksX2_init_2 9 rfl rfl)
theorem dX2_init_57 : decode cX2_init 57 = .ok (.newarray .int, 2) := dk_188_10 (dk_at dksX2_init_2 12 rfl rfl)
theorem dX2_init_59 : decode cX2_init 59 = .ok (.putfield 31, 3) := dk_181 0 31 (dk_at dksX2_init_2 14 rfl rfl)
theorem dX2_init_62 : decode cX2_init 62 = .ok (.aload_n 0, 1) := dk_42 (dk_at dksX2_init_2 17 rfl rfl)
theorem dX2_init_63 : decode cX2_init 63 = .ok (.bipush 36, 2) := dk_16 36 (dk_at dksX2_init_2 18 rfl rfl)
theorem dX2_init_65 : decode cX2_init 65 = .ok (.newarray .int, 2) := dk_188_10 (dk_at dksX2_init_2 20 rfl rfl)
theorem dX2_init_67 : decode cX2_init 67 = .ok (.putfield 34, 3) := dk_181 0 34 (dk_at dksX2_init_3 0 rfl rfl)
theorem dX2_init_70 : decode cX2_init 70 = .ok (.return_, 1) := dk_177 (dk_at dksX2_init_3 3 rfl rfl)
abbrev cX2_goes : ByteArray := prog_10_method_2_code
def yX2_goes : MethodName := ⟨RX2, "goes", "(LOpenLines$Bus;ILOpenLines$Word;[II)LOpenLines$Pass;"⟩
def dkwX2_goes_0 : List UInt8 := [42, 43, 28, 45, 25, 4, 21, 5, 43, 180, 0, 37, 182, 0, 43, 176]
abbrev dktX2_goes_0 : List UInt8 := dkwX2_goes_0 ++ []
theorem dksX2_goes_0 : cX2_goes.data.toList.drop 0 = dktX2_goes_0 := by decide +kernel
theorem dX2_goes_0 : decode cX2_goes 0 = .ok (.aload_n 0, 1) := dk_42 (dk_at dksX2_goes_0 0 rfl rfl)
theorem dX2_goes_1 : decode cX2_goes 1 = .ok (.aload_n 1, 1) := dk_43 (dk_at dksX2_goes_0 1 rfl rfl)
theorem dX2_goes_2 : decode cX2_goes 2 = .ok (.iload_n 2, 1) := dk_28 (dk_at dksX2_goes_0 2 rfl rfl)
theorem dX2_goes_3 : decode cX2_goes 3 = .ok (.aload_n 3, 1) := dk_45 (dk_at dksX2_goes_0 3 rfl rfl)
theorem dX2_goes_4 : decode cX2_goes 4 = .ok (.aload 4, 2) := dk_25 4 (dk_at dksX2_goes_0 4 rfl rfl)
theorem dX2_goes_6 : decode cX2_goes 6 = .ok (.iload 5, 2) := dk_21 5 (dk_at dksX2_goes_0 6 rfl rfl)
theorem dX2_goes_8 : decode cX2_goes 8 = .ok (.aload_n 1, 1) := dk_43 (dk_at dksX2_goes_0 8 rfl rfl)
theorem dX2_goes_9 : decode cX2_goes 9 = .ok (.getfield 37, 3) := dk_180 0 37 (dk_at dksX2_goes_0 9 rfl rfl)
theorem dX2_goes_12 : decode cX2_goes 12 = .ok (.invokevirtual 43, 3) := dk_182 0 43 (dk_at dksX2_goes_0 12 rfl rfl)
theorem dX2_goes_15 : decode cX2_goes 15 = .ok (.areturn, 1) := dk_176 (dk_at dksX2_goes_0 15 rfl rfl)
abbrev cX2_goes_2 : ByteArray := prog_10_method_3_code
def yX2_goes_2 : MethodName := ⟨RX2, "goes", "(LOpenLines$Bus;ILOpenLines$Word;[III)LOpenLines$Pass;"⟩
def dkwX2_goes_2_13 : List UInt8 := [21, 8, 21, 7, 182, 0, 93, 132, 8, 1, 167, 255, 236, 132, 7, 1, 167, 255, 149, 42, 176]
abbrev dktX2_goes_2_13 : List UInt8 := dkwX2_goes_2_13 ++ []
def dkwX2_goes_2_12 : List UInt8 := [21, 7, 182, 0, 89, 132, 8, 1, 167, 255, 231, 3, 54, 8, 21, 8, 43, 182, 0, 67, 162, 0, 17, 42]
abbrev dktX2_goes_2_12 : List UInt8 := dkwX2_goes_2_12 ++ dktX2_goes_2_13
def dkwX2_goes_2_11 : List UInt8 := [167, 255, 222, 3, 54, 8, 21, 8, 43, 182, 0, 67, 162, 0, 22, 21, 7, 158, 0, 17, 42, 21, 8]
abbrev dktX2_goes_2_11 : List UInt8 := dkwX2_goes_2_11 ++ dktX2_goes_2_12
def dkwX2_goes_2_10 : List UInt8 := [180, 0, 19, 17, 1, 145, 21, 8, 104, 21, 7, 96, 42, 21, 8, 21, 7, 182, 0, 85, 79, 132, 8, 1]
abbrev dktX2_goes_2_10 : List UInt8 := dkwX2_goes_2_10 ++ dktX2_goes_2_11
def dkwX2_goes_2_9 : List UInt8 := [54, 7, 21, 7, 21, 5, 163, 0, 106, 3, 54, 8, 21, 8, 43, 182, 0, 67, 162, 0, 31, 42]
abbrev dktX2_goes_2_9 : List UInt8 := dkwX2_goes_2_9 ++ dktX2_goes_2_10
def dkwX2_goes_2_8 : List UInt8 := [17, 1, 145, 21, 7, 104, 21, 8, 96, 3, 79, 132, 8, 1, 167, 255, 230, 132, 7, 1, 167, 255, 148, 3]
abbrev dktX2_goes_2_8 : List UInt8 := dkwX2_goes_2_8 ++ dktX2_goes_2_9
def dkwX2_goes_2_7 : List UInt8 := [79, 132, 8, 1, 167, 255, 230, 3, 54, 8, 21, 8, 17, 1, 145, 162, 0, 24, 42, 180, 0, 31]
abbrev dktX2_goes_2_7 : List UInt8 := dkwX2_goes_2_7 ++ dktX2_goes_2_8
def dkwX2_goes_2_6 : List UInt8 := [54, 8, 21, 8, 16, 6, 162, 0, 25, 42, 180, 0, 34, 16, 6, 21, 7, 104, 21, 8, 96, 17, 254, 111]
abbrev dktX2_goes_2_6 : List UInt8 := dkwX2_goes_2_6 ++ dktX2_goes_2_7
def dkwX2_goes_2_5 : List UInt8 := [184, 0, 71, 153, 0, 18, 45, 43, 21, 7, 182, 0, 75, 185, 0, 79, 2, 0, 167, 0, 4, 3, 79, 3]
abbrev dktX2_goes_2_5 : List UInt8 := dkwX2_goes_2_5 ++ dktX2_goes_2_6
def dkwX2_goes_2_4 : List UInt8 := [167, 255, 202, 3, 54, 7, 21, 7, 43, 182, 0, 67, 162, 0, 105, 42, 180, 0, 15, 21, 7, 28, 21, 7]
abbrev dktX2_goes_2_4 : List UInt8 := dkwX2_goes_2_4 ++ dktX2_goes_2_5
def dkwX2_goes_2_3 : List UInt8 := [21, 7, 46, 5, 160, 0, 16, 42, 89, 180, 0, 64, 4, 21, 7, 120, 128, 181, 0, 64, 132, 7, 1]
abbrev dktX2_goes_2_3 : List UInt8 := dkwX2_goes_2_3 ++ dktX2_goes_2_4
def dkwX2_goes_2_2 : List UInt8 := [25, 4, 21, 7, 46, 4, 160, 0, 16, 42, 89, 180, 0, 61, 4, 21, 7, 120, 128, 181, 0, 61, 25, 4]
abbrev dktX2_goes_2_2 : List UInt8 := dkwX2_goes_2_2 ++ dktX2_goes_2_3
def dkwX2_goes_2_1 : List UInt8 := [181, 0, 58, 42, 3, 181, 0, 61, 42, 3, 181, 0, 64, 3, 54, 7, 21, 7, 16, 6, 162, 0, 53]
abbrev dktX2_goes_2_1 : List UInt8 := dkwX2_goes_2_1 ++ dktX2_goes_2_2
def dkwX2_goes_2_0 : List UInt8 := [42, 43, 181, 0, 47, 42, 28, 181, 0, 51, 42, 21, 5, 181, 0, 54, 42, 21, 6, 181, 0, 57, 42, 3]
abbrev dktX2_goes_2_0 : List UInt8 := dkwX2_goes_2_0 ++ dktX2_goes_2_1
theorem dksX2_goes_2_0 : cX2_goes_2.data.toList.drop 0 = dktX2_goes_2_0 := by decide +kernel
theorem dksX2_goes_2_1 : cX2_goes_2.data.toList.drop 24 = dktX2_goes_2_1 := dk_seg dksX2_goes_2_0 24 rfl rfl
theorem dksX2_goes_2_2 : cX2_goes_2.data.toList.drop 47 = dktX2_goes_2_2 := dk_seg dksX2_goes_2_1 23 rfl rfl
theorem dksX2_goes_2_3 : cX2_goes_2.data.toList.drop 71 = dktX2_goes_2_3 := dk_seg dksX2_goes_2_2 24 rfl rfl
theorem dksX2_goes_2_4 : cX2_goes_2.data.toList.drop 94 = dktX2_goes_2_4 := dk_seg dksX2_goes_2_3 23 rfl rfl
theorem dksX2_goes_2_5 : cX2_goes_2.data.toList.drop 118 = dktX2_goes_2_5 := dk_seg dksX2_goes_2_4 24 rfl rfl
theorem dksX2_goes_2_6 : cX2_goes_2.data.toList.drop 142 = dktX2_goes_2_6 := dk_seg dksX2_goes_2_5 24 rfl rfl
theorem dksX2_goes_2_7 : cX2_goes_2.data.toList.drop 166 = dktX2_goes_2_7 := dk_seg dksX2_goes_2_6 24 rfl rfl
theorem dksX2_goes_2_8 : cX2_goes_2.data.toList.drop 188 = dktX2_goes_2_8 := dk_seg dksX2_goes_2_7 22 rfl rfl
theorem dksX2_goes_2_9 : cX2_goes_2.data.toList.drop 212 = dktX2_goes_2_9 := dk_seg dksX2_goes_2_8 24 rfl rfl
theorem dksX2_goes_2_10 : cX2_goes_2.data.toList.drop 234 = dktX2_goes_2_10 := dk_seg dksX2_goes_2_9 22 rfl rfl
theorem dksX2_goes_2_11 : cX2_goes_2.data.toList.drop 258 = dktX2_goes_2_11 := dk_seg dksX2_goes_2_10 24 rfl rfl
theorem dksX2_goes_2_12 : cX2_goes_2.data.toList.drop 281 = dktX2_goes_2_12 := dk_seg dksX2_goes_2_11 23 rfl rfl
theorem dksX2_goes_2_13 : cX2_goes_2.data.toList.drop 305 = dktX2_goes_2_13 := dk_seg dksX2_goes_2_12 24 rfl rfl
theorem dX2_goes_2_0 : decode cX2_goes_2 0 = .ok (.aload_n 0, 1) := dk_42 (dk_at dksX2_goes_2_0 0 rfl rfl)
theorem dX2_goes_2_1 : decode cX2_goes_2 1 = .ok (.aload_n 1, 1) := dk_43 (dk_at dksX2_goes_2_0 1 rfl rfl)
theorem dX2_goes_2_2 : decode cX2_goes_2 2 = .ok (.putfield 47, 3) := dk_181 0 47 (dk_at dksX2_goes_2_0 2 rfl rfl)
theorem dX2_goes_2_5 : decode cX2_goes_2 5 = .ok (.aload_n 0, 1) := dk_42 (dk_at dksX2_goes_2_0 5 rfl rfl)
theorem dX2_goes_2_6 : decode cX2_goes_2 6 = .ok (.iload_n 2, 1) := dk_28 (dk_at dksX2_goes_2_0 6 rfl rfl)
theorem dX2_goes_2_7 : decode cX2_goes_2 7 = .ok (.putfield 51, 3) := dk_181 0 51 (dk_at dksX2_goes_2_0 7 rfl rfl)
theorem dX2_goes_2_10 : decode cX2_goes_2 10 = .ok (.aload_n 0, 1) := dk_42 (dk_at dksX2_goes_2_0 10 rfl rfl)
theorem dX2_goes_2_11 : decode cX2_goes_2 11 = .ok (.iload 5, 2) := dk_21 5 (dk_at dksX2_goes_2_0 11 rfl rfl)
theorem dX2_goes_2_13 : decode cX2_goes_2 13 = .ok (.putfield 54, 3) := dk_181 0 54 (dk_at dksX2_goes_2_0 13 rfl rfl)
theorem dX2_goes_2_16 : decode cX2_goes_2 16 = .ok (.aload_n 0, 1) := dk_42 (dk_at dksX2_goes_2_0 16 rfl rfl)
theorem dX2_goes_2_17 : decode cX2_goes_2 17 = .ok (.iload 6, 2) := dk_21 6 (dk_at dksX2_goes_2_0 17 rfl rfl)
theorem dX2_goes_2_19 : decode cX2_goes_2 19 = .ok (.putfield 57, 3) := dk_181 0 57 (dk_at dksX2_goes_2_0 19 rfl rfl)
theorem dX2_goes_2_22 : decode cX2_goes_2 22 = .ok (.aload_n 0, 1) := dk_42 (dk_at dksX2_goes_2_0 22 rfl rfl)
theorem dX2_goes_2_23 : decode cX2_goes_2 23 = .ok (.iconst 0, 1) := dk_3 (dk_at dksX2_goes_2_0 23 rfl rfl)
theorem dX2_goes_2_24 : decode cX2_goes_2 24 = .ok (.putfield 58, 3) := dk_181 0 58 (dk_at dksX2_goes_2_1 0 rfl rfl)
theorem dX2_goes_2_27 : decode cX2_goes_2 27 = .ok (.aload_n 0, 1) := dk_42 (dk_at dksX2_goes_2_1 3 rfl rfl)
theorem dX2_goes_2_28 : decode cX2_goes_2 28 = .ok (.iconst 0, 1) := dk_3 (dk_at dksX2_goes_2_1 4 rfl rfl)
theorem dX2_goes_2_29 : decode cX2_goes_2 29 = .ok (.putfield 61, 3) := dk_181 0 61 (dk_at dksX2_goes_2_1 5 rfl rfl)
theorem dX2_goes_2_32 : decode cX2_goes_2 32 = .ok (.aload_n 0, 1) := dk_42 (dk_at dksX2_goes_2_1 8 rfl rfl)
theorem dX2_goes_2_33 : decode cX2_goes_2 33 = .ok (.iconst 0, 1) := dk_3 (dk_at dksX2_goes_2_1 9 rfl rfl)
theorem dX2_goes_2_34 : decode cX2_goes_2 34 = .ok (.putfield 64, 3) := dk_181 0 64 (dk_at dksX2_goes_2_1 10 rfl rfl)
theorem dX2_goes_2_37 : decode cX2_goes_2 37 = .ok (.iconst 0, 1) := dk_3 (dk_at dksX2_goes_2_1 13 rfl rfl)
theorem dX2_goes_2_38 : decode cX2_goes_2 38 = .ok (.istore 7, 2) := dk_54 7 (dk_at dksX2_goes_2_1 14 rfl rfl)
theorem dX2_goes_2_40 : decode cX2_goes_2 40 = .ok (.iload 7, 2) := dk_21 7 (dk_at dksX2_goes_2_1 16 rfl rfl)
theorem dX2_goes_2_42 : decode cX2_goes_2 42 = .ok (.bipush 6, 2) := dk_16 6 (dk_at dksX2_goes_2_1 18 rfl rfl)
theorem dX2_goes_2_44 : decode cX2_goes_2 44 = .ok (.if_icmp .ge 53, 3) := dk_162 0 53 (dk_at dksX2_goes_2_1 20 rfl rfl)
theorem dX2_goes_2_47 : decode cX2_goes_2 47 = .ok (.aload 4, 2) := dk_25 4 (dk_at dksX2_goes_2_2 0 rfl rfl)
theorem dX2_goes_2_49 : decode cX2_goes_2 49 = .ok (.iload 7, 2) := dk_21 7 (dk_at dksX2_goes_2_2 2 rfl rfl)
theorem dX2_goes_2_51 : decode cX2_goes_2 51 = .ok (.iaload, 1) := dk_46 (dk_at dksX2_goes_2_2 4 rfl rfl)
theorem dX2_goes_2_52 : decode cX2_goes_2 52 = .ok (.iconst 1, 1) := dk_4 (dk_at dksX2_goes_2_2 5 rfl rfl)
theorem dX2_goes_2_53 : decode cX2_goes_2 53 = .ok (.if_icmp .ne 16, 3) := dk_160 0 16 (dk_at dksX2_goes_2_2 6 rfl rfl)
theorem dX2_goes_2_56 : decode cX2_goes_2 56 = .ok (.aload_n 0, 1) := dk_42 (dk_at dksX2_goes_2_2 9 rfl rfl)
theorem dX2_goes_2_57 : decode cX2_goes_2 57 = .ok (.dup, 1) := dk_89 (dk_at dksX2_goes_2_2 10 rfl rfl)
theorem dX2_goes_2_58 : decode cX2_goes_2 58 = .ok (.getfield 61, 3) := dk_180 0 61 (dk_at dksX2_goes_2_2 11 rfl rfl)
theorem dX2_goes_2_61 : decode cX2_goes_2 61 = .ok (.iconst 1, 1) := dk_4 (dk_at dksX2_goes_2_2 14 rfl rfl)
theorem dX2_goes_2_62 : decode cX2_goes_2 62 = .ok (.iload 7, 2) := dk_21 7 (dk_at dksX2_goes_2_2 15 rfl rfl)
theorem dX2_goes_2_64 : decode cX2_goes_2 64 = .ok (.ishl, 1) := dk_120 (dk_at dksX2_goes_2_2 17 rfl rfl)
theorem dX2_goes_2_65 : decode cX2_goes_2 65 = .ok (.ior, 1) := dk_128 (dk_at dksX2_goes_2_2 18 rfl rfl)
theorem dX2_goes_2_66 : decode cX2_goes_2 66 = .ok (.putfield 61, 3) := dk_181 0 61 (dk_at dksX2_goes_2_2 19 rfl rfl)
theorem dX2_goes_2_69 : decode cX2_goes_2 69 = .ok (.aload 4, 2) := dk_25 4 (dk_at dksX2_goes_2_2 22 rfl rfl)
theorem dX2_goes_2_71 : decode cX2_goes_2 71 = .ok (.iload 7, 2) := dk_21 7 (dk_at dksX2_goes_2_3 0 rfl rfl)
theorem dX2_goes_2_73 : decode cX2_goes_2 73 = .ok (.iaload, 1) := dk_46 (dk_at dksX2_goes_2_3 2 rfl rfl)
theorem dX2_goes_2_74 : decode cX2_goes_2 74 = .ok (.iconst 2, 1) := dk_5 (dk_at dksX2_goes_2_3 3 rfl rfl)
theorem dX2_goes_2_75 : decode cX2_goes_2 75 = .ok (.if_icmp .ne 16, 3) := dk_160 0 16 (dk_at dksX2_goes_2_3 4 rfl rfl)
theorem dX2_goes_2_78 : decode cX2_goes_2 78 = .ok (.aload_n 0, 1) := dk_42 (dk_at dksX2_goes_2_3 7 rfl rfl)
theorem dX2_goes_2_79 : decode cX2_goes_2 79 = .ok (.dup, 1) := dk_89 (dk_at dksX2_goes_2_3 8 rfl rfl)
theorem dX2_goes_2_80 : decode cX2_goes_2 80 = .ok (.getfield 64, 3) := dk_180 0 64 (dk_at dksX2_goes_2_3 9 rfl rfl)
theorem dX2_goes_2_83 : decode cX2_goes_2 83 = .ok (.iconst 1, 1) := dk_4 (dk_at dksX2_goes_2_3 12 rfl rfl)
theorem dX2_goes_2_84 : decode cX2_goes_2 84 = .ok (.iload 7, 2) := dk_21 7 (dk_at dksX2_goes_2_3 13 rfl rfl)
theorem dX2_goes_2_86 : decode cX2_goes_2 86 = .ok (.ishl, 1) := dk_120 (dk_at dksX2_goes_2_3 15 rfl rfl)
theorem dX2_goes_2_87 : decode cX2_goes_2 87 = .ok (.ior, 1) := dk_128 (dk_at dksX2_goes_2_3 16 rfl rfl)
theorem dX2_goes_2_88 : decode cX2_goes_2 88 = .ok (.putfield 64, 3) := dk_181 0 64 (dk_at dksX2_goes_2_3 17 rfl rfl)
theorem dX2_goes_2_91 : decode cX2_goes_2 91 = .ok (.iinc 7 1, 3) := dk_132 7 1 (dk_at dksX2_goes_2_3 20 rfl rfl)
theorem dX2_goes_2_94 : decode cX2_goes_2 94 = .ok (.goto (-54), 3) := dk_167 255 202 (dk_at dksX2_goes_2_4 0 rfl rfl)
theorem dX2_goes_2_97 : decode cX2_goes_2 97 = .ok (.iconst 0, 1) := dk_3 (dk_at dksX2_goes_2_4 3 rfl rfl)
theorem dX2_goes_2_98 : decode cX2_goes_2 98 = .ok (.istore 7, 2) := dk_54 7 (dk_at dksX2_goes_2_4 4 rfl rfl)
theorem dX2_goes_2_100 : decode cX2_goes_2 100 = .ok (.iload 7, 2) := dk_21 7 (dk_at dksX2_goes_2_4 6 rfl rfl)
theorem dX2_goes_2_102 : decode cX2_goes_2 102 = .ok (.aload_n 1, 1) := dk_43 (dk_at dksX2_goes_2_4 8 rfl rfl)
theorem dX2_goes_2_103 : decode cX2_goes_2 103 = .ok (.invokevirtual 67, 3) := dk_182 0 67 (dk_at dksX2_goes_2_4 9 rfl rfl)
theorem dX2_goes_2_106 : decode cX2_goes_2 106 = .ok (.if_icmp .ge 105, 3) := dk_162 0 105 (dk_at dksX2_goes_2_4 12 rfl rfl)
theorem dX2_goes_2_109 : decode cX2_goes_2 109 = .ok (.aload_n 0, 1) := dk_42 (dk_at dksX2_goes_2_4 15 rfl rfl)
theorem dX2_goes_2_110 : decode cX2_goes_2 110 = .ok (.getfield 15, 3) := dk_180 0 15 (dk_at dksX2_goes_2_4 16 rfl rfl)
theorem dX2_goes_2_113 : decode cX2_goes_2 113 = .ok (.iload 7, 2) := dk_21 7 (dk_at dksX2_goes_2_4 19 rfl rfl)
theorem dX2_goes_2_115 : decode cX2_goes_2 115 = .ok (.iload_n 2, 1) := dk_28 (dk_at dksX2_goes_2_4 21 rfl rfl)
theorem dX2_goes_2_116 : decode cX2_goes_2 116 = .ok (.iload 7, 2) := dk_21 7 (dk_at dksX2_goes_2_4 22 rfl rfl)
theorem dX2_goes_2_118 : decode cX2_goes_2 118 = .ok (.invokestatic 71, 3) := dk_184 0 71 (dk_at dksX2_goes_2_5 0 rfl rfl)
theorem dX2_goes_2_121 : decode cX2_goes_2 121 = .ok (.ifCond .eq 18, 3) := dk_153 0 18 (dk_at dksX2_goes_2_5 3 rfl rfl)
theorem dX2_goes_2_124 : decode cX2_goes_2 124 = .ok (.aload_n 3, 1) := dk_45 (dk_at dksX2_goes_2_5 6 rfl rfl)
theorem dX2_goes_2_125 : decode cX2_goes_2 125 = .ok (.aload_n 1, 1) := dk_43 (dk_at dksX2_goes_2_5 7 rfl rfl)
theorem dX2_goes_2_126 : decode cX2_goes_2 126 = .ok (.iload 7, 2) := dk_21 7 (dk_at dksX2_goes_2_5 8 rfl rfl)
theorem dX2_goes_2_128 : decode cX2_goes_2 128 = .ok (.invokevirtual 75, 3) := dk_182 0 75 (dk_at dksX2_goes_2_5 10 rfl rfl)
theorem dX2_goes_2_131 : decode cX2_goes_2 131 = .ok (.invokeinterface 79 2, 5) := by decide +kernel
theorem dX2_goes_2_136 : decode cX2_goes_2 136 = .ok (.goto 4, 3) := dk_167 0 4 (dk_at dksX2_goes_2_5 18 rfl rfl)
theorem dX2_goes_2_139 : decode cX2_goes_2 139 = .ok (.iconst 0, 1) := dk_3 (dk_at dksX2_goes_2_5 21 rfl rfl)
theorem dX2_goes_2_140 : decode cX2_goes_2 140 = .ok (.iastore, 1) := dk_79 (dk_at dksX2_goes_2_5 22 rfl rfl)
theorem dX2_goes_2_141 : decode cX2_goes_2 141 = .ok (.iconst 0, 1) := dk_3 (dk_at dksX2_goes_2_5 23 rfl rfl)
theorem dX2_goes_2_142 : decode cX2_goes_2 142 = .ok (.istore 8, 2) := dk_54 8 (dk_at dksX2_goes_2_6 0 rfl rfl)
theorem dX2_goes_2_144 : decode cX2_goes_2 144 = .ok (.iload 8, 2) := dk_21 8 (dk_at dksX2_goes_2_6 2 rfl rfl)
theorem dX2_goes_2_146 : decode cX2_goes_2 146 = .ok (.bipush 6, 2) := dk_16 6 (dk_at dksX2_goes_2_6 4 rfl rfl)
theorem dX2_goes_2_148 : decode cX2_goes_2 148 = .ok (.if_icmp .ge 25, 3) := dk_162 0 25 (dk_at dksX2_goes_2_6 6 rfl rfl)
theorem dX2_goes_2_151 : decode cX2_goes_2 151 = .ok (.aload_n 0, 1) := dk_42 (dk_at dksX2_goes_2_6 9 rfl rfl)
theorem dX2_goes_2_152 : decode cX2_goes_2 152 = .ok (.getfield 34, 3) := dk_180 0 34 (dk_at dksX2_goes_2_6 10 rfl rfl)
theorem dX2_goes_2_155 : decode cX2_goes_2 155 = .ok (.bipush 6, 2) := dk_16 6 (dk_at dksX2_goes_2_6 13 rfl rfl)
theorem dX2_goes_2_157 : decode cX2_goes_2 157 = .ok (.iload 7, 2) := dk_21 7 (dk_at dksX2_goes_2_6 15 rfl rfl)
theorem dX2_goes_2_159 : decode cX2_goes_2 159 = .ok (.imul, 1) := dk_104 (dk_at dksX2_goes_2_6 17 rfl rfl)
theorem dX2_goes_2_160 : decode cX2_goes_2 160 = .ok (.iload 8, 2) := dk_21 8 (dk_at dksX2_goes_2_6 18 rfl rfl)
theorem dX2_goes_2_162 : decode cX2_goes_2 162 = .ok (.iadd, 1) := dk_96 (dk_at dksX2_goes_2_6 20 rfl rfl)
theorem dX2_goes_2_163 : decode cX2_goes_2 163 = .ok (.sipush (-401), 3) := dk_17 254 111 (dk_at dksX2_goes_2_6 21 rfl rfl)
theorem dX2_goes_2_166 : decode cX2_goes_2 166 = .ok (.iastore, 1) := dk_79 (dk_at dksX2_goes_2_7 0 rfl rfl)
theorem dX2_goes_2_167 : decode cX2_goes_2 167 = .ok (.iinc 8 1, 3) := dk_132 8 1 (dk_at dksX2_goes_2_7 1 rfl rfl)
theorem dX2_goes_2_170 : decode cX2_goes_2 170 = .ok (.goto (-26), 3) := dk_167 255 230 (dk_at dksX2_goes_2_7 4 rfl rfl)
theorem dX2_goes_2_173 : decode cX2_goes_2 173 = .ok (.iconst 0, 1) := dk_3 (dk_at dksX2_goes_2_7 7 rfl rfl)
theorem dX2_goes_2_174 : decode cX2_goes_2 174 = .ok (.istore 8, 2) := dk_54 8 (dk_at dksX2_goes_2_7 8 rfl rfl)
theorem dX2_goes_2_176 : decode cX2_goes_2 176 = .ok (.iload 8, 2) := dk_21 8 (dk_at dksX2_goes_2_7 10 rfl rfl)
theorem dX2_goes_2_178 : decode cX2_goes_2 178 = .ok (.sipush 401, 3) := dk_17 1 145 (dk_at dksX2_goes_2_7 12 rfl rfl)
theorem dX2_goes_2_181 : decode cX2_goes_2 181 = .ok (.if_icmp .ge 24, 3) := dk_162 0 24 (dk_at dksX2_goes_2_7 15 rfl rfl)
theorem dX2_goes_2_184 : decode cX2_goes_2 184 = .ok (.aload_n 0, 1) := dk_42 (dk_at dksX2_goes_2_7 18 rfl rfl)
theorem dX2_goes_2_185 : decode cX2_goes_2 185 = .ok (.getfield 31, 3) := dk_180 0 31 (dk_at dksX2_goes_2_7 19 rfl rfl)
theorem dX2_goes_2_188 : decode cX2_goes_2 188 = .ok (.sipush 401, 3) := dk_17 1 145 (dk_at dksX2_goes_2_8 0 rfl rfl)
theorem dX2_goes_2_191 : decode cX2_goes_2 191 = .ok (.iload 7, 2) := dk_21 7 (dk_at dksX2_goes_2_8 3 rfl rfl)
theorem dX2_goes_2_193 : decode cX2_goes_2 193 = .ok (.imul, 1) := dk_104 (dk_at dksX2_goes_2_8 5 rfl rfl)
theorem dX2_goes_2_194 : decode cX2_goes_2 194 = .ok (.iload 8, 2) := dk_21 8 (dk_at dksX2_goes_2_8 6 rfl rfl)
theorem dX2_goes_2_196 : decode cX2_goes_2 196 = .ok (.iadd, 1) := dk_96 (dk_at dksX2_goes_2_8 8 rfl rfl)
theorem dX2_goes_2_197 : decode cX2_goes_2 197 = .ok (.iconst 0, 1) := dk_3 (dk_at dksX2_goes_2_8 9 rfl rfl)
theorem dX2_goes_2_198 : decode cX2_goes_2 198 = .ok (.iastore, 1) := dk_79 (dk_at dksX2_goes_2_8 10 rfl rfl)
theorem dX2_goes_2_199 : decode cX2_goes_2 199 = .ok (.iinc 8 1, 3) := dk_132 8 1 (dk_at dksX2_goes_2_8 11 rfl rfl)
theorem dX2_goes_2_202 : decode cX2_goes_2 202 = .ok (.goto (-26), 3) := dk_167 255 230 (dk_at dksX2_goes_2_8 14 rfl rfl)
theorem dX2_goes_2_205 : decode cX2_goes_2 205 = .ok (.iinc 7 1, 3) := dk_132 7 1 (dk_at dksX2_goes_2_8 17 rfl rfl)
theorem dX2_goes_2_208 : decode cX2_goes_2 208 = .ok (.goto (-108), 3) := dk_167 255 148 (dk_at dksX2_goes_2_8 20 rfl rfl)
theorem dX2_goes_2_211 : decode cX2_goes_2 211 = .ok (.iconst 0, 1) := dk_3 (dk_at dksX2_goes_2_8 23 rfl rfl)
theorem dX2_goes_2_212 : decode cX2_goes_2 212 = .ok (.istore 7, 2) := dk_54 7 (dk_at dksX2_goes_2_9 0 rfl rfl)
theorem dX2_goes_2_214 : decode cX2_goes_2 214 = .ok (.iload 7, 2) := dk_21 7 (dk_at dksX2_goes_2_9 2 rfl rfl)
theorem dX2_goes_2_216 : decode cX2_goes_2 216 = .ok (.iload 5, 2) := dk_21 5 (dk_at dksX2_goes_2_9 4 rfl rfl)
theorem dX2_goes_2_218 : decode cX2_goes_2 218 = .ok (.if_icmp .gt 106, 3) := dk_163 0 106 (dk_at dksX2_goes_2_9 6 rfl rfl)
theorem dX2_goes_2_221 : decode cX2_goes_2 221 = .ok (.iconst 0, 1) := dk_3 (dk_at dksX2_goes_2_9 9 rfl rfl)
theorem dX2_goes_2_222 : decode cX2_goes_2 222 = .ok (.istore 8, 2) := dk_54 8 (dk_at dksX2_goes_2_9 10 rfl rfl)
theorem dX2_goes_2_224 : decode cX2_goes_2 224 = .ok (.iload 8, 2) := dk_21 8 (dk_at dksX2_goes_2_9 12 rfl rfl)
theorem dX2_goes_2_226 : decode cX2_goes_2 226 = .ok (.aload_n 1, 1) := dk_43 (dk_at dksX2_goes_2_9 14 rfl rfl)
theorem dX2_goes_2_227 : decode cX2_goes_2 227 = .ok (.invokevirtual 67, 3) := dk_182 0 67 (dk_at dksX2_goes_2_9 15 rfl rfl)
theorem dX2_goes_2_230 : decode cX2_goes_2 230 = .ok (.if_icmp .ge 31, 3) := dk_162 0 31 (dk_at dksX2_goes_2_9 18 rfl rfl)
theorem dX2_goes_2_233 : decode cX2_goes_2 233 = .ok (.aload_n 0, 1) := dk_42 (dk_at dksX2_goes_2_9 21 rfl rfl)
theorem dX2_goes_2_234 : decode cX2_goes_2 234 = .ok (.getfield 19, 3) := dk_180 0 19 (dk_at dksX2_goes_2_10 0 rfl rfl)
theorem dX2_goes_2_237 : decode cX2_goes_2 237 = .ok (.sipush 401, 3) := dk_17 1 145 (dk_at dksX2_goes_2_10 3 rfl rfl)
theorem dX2_goes_2_240 : decode cX2_goes_2 240 = .ok (.iload 8, 2) := dk_21 8 (dk_at dksX2_goes_2_10 6 rfl rfl)
theorem dX2_goes_2_242 : decode cX2_goes_2 242 = .ok (.imul, 1) := dk_104 (dk_at dksX2_goes_2_10 8 rfl rfl)
theorem dX2_goes_2_243 : decode cX2_goes_2 243 = .ok (.iload 7, 2) := dk_21 7 (dk_at dksX2_goes_2_10 9 rfl rfl)
theorem dX2_goes_2_245 : decode cX2_goes_2 245 = .ok (.iadd, 1) := dk_96 (dk_at dksX2_goes_2_10 11 rfl rfl)
theorem dX2_goes_2_246 : decode cX2_goes_2 246 = .ok (.aload_n 0, 1) := dk_42 (dk_at dksX2_goes_2_10 12 rfl rfl)
theorem dX2_goes_2_247 : decode cX2_goes_2 247 = .ok (.iload 8, 2) := dk_21 8 (dk_at dksX2_goes_2_10 13 rfl rfl)
theorem dX2_goes_2_249 : decode cX2_goes_2 249 = .ok (.iload 7, 2) := dk_21 7 (dk_at dksX2_goes_2_10 15 rfl rfl)
theorem dX2_goes_2_251 : decode cX2_goes_2 251 = .ok (.invokevirtual 85, 3) := dk_182 0 85 (dk_at dksX2_goes_2_10 17 rfl rfl)
theorem dX2_goes_2_254 : decode cX2_goes_2 254 = .ok (.iastore, 1) := dk_79 (dk_at dksX2_goes_2_10 20 rfl rfl)
theorem dX2_goes_2_255 : decode cX2_goes_2 255 = .ok (.iinc 8 1, 3) := dk_132 8 1 (dk_at dksX2_goes_2_10 21 rfl rfl)
theorem dX2_goes_2_258 : decode cX2_goes_2 258 = .ok (.goto (-34), 3) := dk_167 255 222 (dk_at dksX2_goes_2_11 0 rfl rfl)
theorem dX2_goes_2_261 : decode cX2_goes_2 261 = .ok (.iconst 0, 1) := dk_3 (dk_at dksX2_goes_2_11 3 rfl rfl)
theorem dX2_goes_2_262 : decode cX2_goes_2 262 = .ok (.istore 8, 2) := dk_54 8 (dk_at dksX2_goes_2_11 4 rfl rfl)
theorem dX2_goes_2_264 : decode cX2_goes_2 264 = .ok (.iload 8, 2) := dk_21 8 (dk_at dksX2_goes_2_11 6 rfl rfl)
theorem dX2_goes_2_266 : decode cX2_goes_2 266 = .ok (.aload_n 1, 1) := dk_43 (dk_at dksX2_goes_2_11 8 rfl rfl)
theorem dX2_goes_2_267 : decode cX2_goes_2 267 = .ok (.invokevirtual 67, 3) := dk_182 0 67 (dk_at dksX2_goes_2_11 9 rfl rfl)
theorem dX2_goes_2_270 : decode cX2_goes_2 270 = .ok (.if_icmp .ge 22, 3) := dk_162 0 22 (dk_at dksX2_goes_2_11 12 rfl rfl)
theorem dX2_goes_2_273 : decode cX2_goes_2 273 = .ok (.iload 7, 2) := dk_21 7 (dk_at dksX2_goes_2_11 15 rfl rfl)
theorem dX2_goes_2_275 : decode cX2_goes_2 275 = .ok (.ifCond .le 17, 3) := dk_158 0 17 (dk_at dksX2_goes_2_11 17 rfl rfl)
theorem dX2_goes_2_278 : decode cX2_goes_2 278 = .ok (.aload_n 0, 1) := dk_42 (dk_at dksX2_goes_2_11 20 rfl rfl)
theorem dX2_goes_2_279 : decode cX2_goes_2 279 = .ok (.iload 8, 2) := dk_21 8 (dk_at dksX2_goes_2_11 21 rfl rfl)
theorem dX2_goes_2_281 : decode cX2_goes_2 281 = .ok (.iload 7, 2) := dk_21 7 (dk_at dksX2_goes_2_12 0 rfl rfl)
theorem dX2_goes_2_283 : decode cX2_goes_2 283 = .ok (.invokevirtual 89, 3) := dk_182 0 89 (dk_at dksX2_goes_2_12 2 rfl rfl)
theorem dX2_goes_2_286 : decode cX2_goes_2 286 = .ok (.iinc 8 1, 3) := dk_132 8 1 (dk_at dksX2_goes_2_12 5 rfl rfl)
theorem dX2_goes_2_289 : decode cX2_goes_2 289 = .ok (.goto (-25), 3) := dk_167 255 231 (dk_at dksX2_goes_2_12 8 rfl rfl)
theorem dX2_goes_2_292 : decode cX2_goes_2 292 = .ok (.iconst 0, 1) := dk_3 (dk_at dksX2_goes_2_12 11 rfl rfl)
theorem dX2_goes_2_293 : decode cX2_goes_2 293 = .ok (.istore 8, 2) := dk_54 8 (dk_at dksX2_goes_2_12 12 rfl rfl)
theorem dX2_goes_2_295 : decode cX2_goes_2 295 = .ok (.iload 8, 2) := dk_21 8 (dk_at dksX2_goes_2_12 14 rfl rfl)
theorem dX2_goes_2_297 : decode cX2_goes_2 297 = .ok (.aload_n 1, 1) := dk_43 (dk_at dksX2_goes_2_12 16 rfl rfl)
theorem dX2_goes_2_298 : decode cX2_goes_2 298 = .ok (.invokevirtual 67, 3) := dk_182 0 67 (dk_at dksX2_goes_2_12 17 rfl rfl)
theorem dX2_goes_2_301 : decode cX2_goes_2 301 = .ok (.if_icmp .ge 17, 3) := dk_162 0 17 (dk_at dksX2_goes_2_12 20 rfl rfl)
theorem dX2_goes_2_304 : decode cX2_goes_2 304 = .ok (.aload_n 0, 1) := dk_42 (dk_at dksX2_goes_2_12 23 rfl rfl)
theorem dX2_goes_2_305 : decode cX2_goes_2 305 = .ok (.iload 8, 2) := dk_21 8 (dk_at dksX2_goes_2_13 0 rfl rfl)
theorem dX2_goes_2_307 : decode cX2_goes_2 307 = .ok (.iload 7, 2) := dk_21 7 (dk_at dksX2_goes_2_13 2 rfl rfl)
theorem dX2_goes_2_309 : decode cX2_goes_2 309 = .ok (.invokevirtual 93, 3) := dk_182 0 93 (dk_at dksX2_goes_2_13 4 rfl rfl)
theorem dX2_goes_2_312 : decode cX2_goes_2 312 = .ok (.iinc 8 1, 3) := dk_132 8 1 (dk_at dksX2_goes_2_13 7 rfl rfl)
theorem dX2_goes_2_315 : decode cX2_goes_2 315 = .ok (.goto (-20), 3) := dk_167 255 236 (dk_at dksX2_goes_2_13 10 rfl rfl)
theorem dX2_goes_2_318 : decode cX2_goes_2 318 = .ok (.iinc 7 1, 3) := dk_132 7 1 (dk_at dksX2_goes_2_13 13 rfl rfl)
theorem dX2_goes_2_321 : decode cX2_goes_2 321 = .ok (.goto (-107), 3) := dk_167 255 149 (dk_at dksX2_goes_2_13 16 rfl rfl)
theorem dX2_goes_2_324 : decode cX2_goes_2 324 = .ok (.aload_n 0, 1) := dk_42 (dk_at dksX2_goes_2_13 19 rfl rfl)
theorem dX2_goes_2_325 : decode cX2_goes_2 325 = .ok (.areturn, 1) := dk_176 (dk_at dksX2_goes_2_13 20 rfl rfl)
abbrev cX2_drivenBy : ByteArray := prog_10_method_4_code
def yX2_drivenBy : MethodName := ⟨RX2, "drivenBy", "(II)I"⟩
def dkwX2_drivenBy_3 : List UInt8 := [29, 120, 4, 100, 2, 130, 126, 172]
abbrev dktX2_drivenBy_3 : List UInt8 := dkwX2_drivenBy_3 ++ []
def dkwX2_drivenBy_2 : List UInt8 := [46, 62, 29, 16, 254, 160, 0, 12, 42, 180, 0, 15, 27, 46, 167, 0, 17, 42, 180, 0, 15, 27, 46, 5]
abbrev dktX2_drivenBy_2 : List UInt8 := dkwX2_drivenBy_2 ++ dktX2_drivenBy_3
def dkwX2_drivenBy_1 : List UInt8 := [16, 254, 167, 0, 23, 42, 180, 0, 28, 17, 1, 145, 27, 104, 28, 96, 42, 180, 0, 47, 180, 0, 96, 100]
abbrev dktX2_drivenBy_1 : List UInt8 := dkwX2_drivenBy_1 ++ dktX2_drivenBy_2
def dkwX2_drivenBy_0 : List UInt8 := [42, 180, 0, 51, 27, 184, 0, 71, 154, 0, 5, 3, 172, 28, 42, 180, 0, 47, 180, 0, 96, 162, 0, 8]
abbrev dktX2_drivenBy_0 : List UInt8 := dkwX2_drivenBy_0 ++ dktX2_drivenBy_1
theorem dksX2_drivenBy_0 : cX2_drivenBy.data.toList.drop 0 = dktX2_drivenBy_0 := by decide +kernel
theorem dksX2_drivenBy_1 : cX2_drivenBy.data.toList.drop 24 = dktX2_drivenBy_1 := dk_seg dksX2_drivenBy_0 24 rfl rfl
theorem dksX2_drivenBy_2 : cX2_drivenBy.data.toList.drop 48 = dktX2_drivenBy_2 := dk_seg dksX2_drivenBy_1 24 rfl rfl
theorem dksX2_drivenBy_3 : cX2_drivenBy.data.toList.drop 72 = dktX2_drivenBy_3 := dk_seg dksX2_drivenBy_2 24 rfl rfl
theorem dX2_drivenBy_0 : decode cX2_drivenBy 0 = .ok (.aload_n 0, 1) := dk_42 (dk_at dksX2_drivenBy_0 0 rfl rfl)
theorem dX2_drivenBy_1 : decode cX2_drivenBy 1 = .ok (.getfield 51, 3) := dk_180 0 51 (dk_at dksX2_drivenBy_0 1 rfl rfl)
theorem dX2_drivenBy_4 : decode cX2_drivenBy 4 = .ok (.iload_n 1, 1) := dk_27 (dk_at dksX2_drivenBy_0 4 rfl rfl)
theorem dX2_drivenBy_5 : decode cX2_drivenBy 5 = .ok (.invokestatic 71, 3) := dk_184 0 71 (dk_at dksX2_drivenBy_0 5 rfl rfl)
theorem dX2_drivenBy_8 : decode cX2_drivenBy 8 = .ok (.ifCond .ne 5, 3) := dk_154 0 5 (dk_at dksX2_drivenBy_0 8 rfl rfl)
theorem dX2_drivenBy_11 : decode cX2_drivenBy 11 = .ok (.iconst 0, 1) := dk_3 (dk_at dksX2_drivenBy_0 11 rfl rfl)
theorem dX2_drivenBy_12 : decode cX2_drivenBy 12 = .ok (.ireturn, 1) := dk_172 (dk_at dksX2_drivenBy_0 12 rfl rfl)
theorem dX2_drivenBy_13 : decode cX2_drivenBy 13 = .ok (.iload_n 2, 1) := dk_28 (dk_at dksX2_drivenBy_0 13 rfl rfl)
theorem dX2_drivenBy_14 : decode cX2_drivenBy 14 = .ok (.aload_n 0, 1) := dk_42 (dk_at dksX2_drivenBy_0 14 rfl rfl)
theorem dX2_drivenBy_15 : decode cX2_drivenBy 15 = .ok (.getfield 47, 3) := dk_180 0 47 (dk_at dksX2_drivenBy_0 15 rfl rfl)
theorem dX2_drivenBy_18 : decode cX2_drivenBy 18 = .ok (.getfield 96, 3) := dk_180 0 96 (dk_at dksX2_drivenBy_0 18 rfl rfl)
theorem dX2_drivenBy_21 : decode cX2_drivenBy 21 = .ok (.if_icmp .ge 8, 3) := dk_162 0 8 (dk_at dksX2_drivenBy_0 21 rfl rfl)
theorem dX2_drivenBy_24 : decode cX2_drivenBy 24 = .ok (.bipush (-2), 2) := dk_16 254 (dk_at dksX2_drivenBy_1 0 rfl rfl)
theorem dX2_drivenBy_26 : decode cX2_drivenBy 26 = .ok (.goto 23, 3) := dk_167 0 23 (dk_at dksX2_drivenBy_1 2 rfl rfl)
theorem dX2_drivenBy_29 : decode cX2_drivenBy 29 = .ok (.aload_n 0, 1) := dk_42 (dk_at dksX2_drivenBy_1 5 rfl rfl)
theorem dX2_drivenBy_30 : decode cX2_drivenBy 30 = .ok (.getfield 28, 3) := dk_180 0 28 (dk_at dksX2_drivenBy_1 6 rfl rfl)
theorem dX2_drivenBy_33 : decode cX2_drivenBy 33 = .ok (.sipush 401, 3) := dk_17 1 145 (dk_at dksX2_drivenBy_1 9 rfl rfl)
theorem dX2_drivenBy_36 : decode cX2_drivenBy 36 = .ok (.iload_n 1, 1) := dk_27 (dk_at dksX2_drivenBy_1 12 rfl rfl)
theorem dX2_drivenBy_37 : decode cX2_drivenBy 37 = .ok (.imul, 1) := dk_104 (dk_at dksX2_drivenBy_1 13 rfl rfl)
theorem dX2_drivenBy_38 : decode cX2_drivenBy 38 = .ok (.iload_n 2, 1) := dk_28 (dk_at dksX2_drivenBy_1 14 rfl rfl)
theorem dX2_drivenBy_39 : decode cX2_drivenBy 39 = .ok (.iadd, 1) := dk_96 (dk_at dksX2_drivenBy_1 15 rfl rfl)
theorem dX2_drivenBy_40 : decode cX2_drivenBy 40 = .ok (.aload_n 0, 1) := dk_42 (dk_at dksX2_drivenBy_1 16 rfl rfl)
theorem dX2_drivenBy_41 : decode cX2_drivenBy 41 = .ok (.getfield 47, 3) := dk_180 0 47 (dk_at dksX2_drivenBy_1 17 rfl rfl)
theorem dX2_drivenBy_44 : decode cX2_drivenBy 44 = .ok (.getfield 96, 3) := dk_180 0 96 (dk_at dksX2_drivenBy_1 20 rfl rfl)
theorem dX2_drivenBy_47 : decode cX2_drivenBy 47 = .ok (.isub, 1) := dk_100 (dk_at dksX2_drivenBy_1 23 rfl rfl)
theorem dX2_drivenBy_48 : decode cX2_drivenBy 48 = .ok (.iaload, 1) := dk_46 (dk_at dksX2_drivenBy_2 0 rfl rfl)
theorem dX2_drivenBy_49 : decode cX2_drivenBy 49 = .ok (.istore_n 3, 1) := dk_62 (dk_at dksX2_drivenBy_2 1 rfl rfl)
theorem dX2_drivenBy_50 : decode cX2_drivenBy 50 = .ok (.iload_n 3, 1) := dk_29 (dk_at dksX2_drivenBy_2 2 rfl rfl)
theorem dX2_drivenBy_51 : decode cX2_drivenBy 51 = .ok (.bipush (-2), 2) := dk_16 254 (dk_at dksX2_drivenBy_2 3 rfl rfl)
theorem dX2_drivenBy_53 : decode cX2_drivenBy 53 = .ok (.if_icmp .ne 12, 3) := dk_160 0 12 (dk_at dksX2_drivenBy_2 5 rfl rfl)
theorem dX2_drivenBy_56 : decode cX2_drivenBy 56 = .ok (.aload_n 0, 1) := dk_42 (dk_at dksX2_drivenBy_2 8 rfl rfl)
theorem dX2_drivenBy_57 : decode cX2_drivenBy 57 = .ok (.getfield 15, 3) := dk_180 0 15 (dk_at dksX2_drivenBy_2 9 rfl rfl)
theorem dX2_drivenBy_60 : decode cX2_drivenBy 60 = .ok (.iload_n 1, 1) := dk_27 (dk_at dksX2_drivenBy_2 12 rfl rfl)
theorem dX2_drivenBy_61 : decode cX2_drivenBy 61 = .ok (.iaload, 1) := dk_46 (dk_at dksX2_drivenBy_2 13 rfl rfl)
theorem dX2_drivenBy_62 : decode cX2_drivenBy 62 = .ok (.goto 17, 3) := dk_167 0 17 (dk_at dksX2_drivenBy_2 14 rfl rfl)
theorem dX2_drivenBy_65 : decode cX2_drivenBy 65 = .ok (.aload_n 0, 1) := dk_42 (dk_at dksX2_drivenBy_2 17 rfl rfl)
theorem dX2_drivenBy_66 : decode cX2_drivenBy 66 = .ok (.getfield 15, 3) := dk_180 0 15 (dk_at dksX2_drivenBy_2 18 rfl rfl)
theorem dX2_drivenBy_69 : decode cX2_drivenBy 69 = .ok (.iload_n 1, 1) := dk_27 (dk_at dksX2_drivenBy_2 21 rfl rfl)
theorem dX2_drivenBy_70 : decode cX2_drivenBy 70 = .ok (.iaload, 1) := dk_46 (dk_at dksX2_drivenBy_2 22 rfl rfl)
theorem dX2_drivenBy_71 : decode cX2_drivenBy 71 = .ok (.iconst 2, 1) := dk_5 (dk_at dksX2_drivenBy_2 23 rfl rfl)
theorem dX2_drivenBy_72 : decode cX2_drivenBy 72 = .ok (.iload_n 3, 1) := dk_29 (dk_at dksX2_drivenBy_3 0 rfl rfl)
theorem dX2_drivenBy_73 : decode cX2_drivenBy 73 = .ok (.ishl, 1) := dk_120 (dk_at dksX2_drivenBy_3 1 rfl rfl)
theorem dX2_drivenBy_74 : decode cX2_drivenBy 74 = .ok (.iconst 1, 1) := dk_4 (dk_at dksX2_drivenBy_3 2 rfl rfl)
theorem dX2_drivenBy_75 : decode cX2_drivenBy 75 = .ok (.isub, 1) := dk_100 (dk_at dksX2_drivenBy_3 3 rfl rfl)
theorem dX2_drivenBy_76 : decode cX2_drivenBy 76 = .ok (.iconst (-1), 1) := dk_2 (dk_at dksX2_drivenBy_3 4 rfl rfl)
theorem dX2_drivenBy_77 : decode cX2_drivenBy 77 = .ok (.ixor, 1) := dk_130 (dk_at dksX2_drivenBy_3 5 rfl rfl)
theorem dX2_drivenBy_78 : decode cX2_drivenBy 78 = .ok (.iand, 1) := dk_126 (dk_at dksX2_drivenBy_3 6 rfl rfl)
theorem dX2_drivenBy_79 : decode cX2_drivenBy 79 = .ok (.ireturn, 1) := dk_172 (dk_at dksX2_drivenBy_3 7 rfl rfl)
abbrev cX2_letsGo : ByteArray := prog_10_method_5_code
def yX2_letsGo : MethodName := ⟨RX2, "letsGo", "(II)V"⟩
def dkwX2_letsGo_2 : List UInt8 := [153, 0, 11, 42, 27, 21, 4, 28, 182, 0, 99, 132, 4, 1, 167, 255, 229, 177]
abbrev dktX2_letsGo_2 : List UInt8 := dkwX2_letsGo_2 ++ []
def dkwX2_letsGo_1 : List UInt8 := [96, 46, 2, 130, 126, 62, 3, 54, 4, 21, 4, 16, 6, 162, 0, 26, 29, 21, 4, 184, 0, 71]
abbrev dktX2_letsGo_1 : List UInt8 := dkwX2_letsGo_1 ++ dktX2_letsGo_2
def dkwX2_letsGo_0 : List UInt8 := [42, 180, 0, 19, 17, 1, 145, 27, 104, 28, 96, 4, 100, 46, 42, 180, 0, 19, 17, 1, 145, 27, 104, 28]
abbrev dktX2_letsGo_0 : List UInt8 := dkwX2_letsGo_0 ++ dktX2_letsGo_1
theorem dksX2_letsGo_0 : cX2_letsGo.data.toList.drop 0 = dktX2_letsGo_0 := by decide +kernel
theorem dksX2_letsGo_1 : cX2_letsGo.data.toList.drop 24 = dktX2_letsGo_1 := dk_seg dksX2_letsGo_0 24 rfl rfl
theorem dksX2_letsGo_2 : cX2_letsGo.data.toList.drop 46 = dktX2_letsGo_2 := dk_seg dksX2_letsGo_1 22 rfl rfl
theorem dX2_letsGo_0 : decode cX2_letsGo 0 = .ok (.aload_n 0, 1) := dk_42 (dk_at dksX2_letsGo_0 0 rfl rfl)
theorem dX2_letsGo_1 : decode cX2_letsGo 1 = .ok (.getfield 19, 3) := dk_180 0 19 (dk_at dksX2_letsGo_0 1 rfl rfl)
theorem dX2_letsGo_4 : decode cX2_letsGo 4 = .ok (.sipush 401, 3) := dk_17 1 145 (dk_at dksX2_letsGo_0 4 rfl rfl)
theorem dX2_letsGo_7 : decode cX2_letsGo 7 = .ok (.iload_n 1, 1) := dk_27 (dk_at dksX2_letsGo_0 7 rfl rfl)
theorem dX2_letsGo_8 : decode cX2_letsGo 8 = .ok (.imul, 1) := dk_104 (dk_at dksX2_letsGo_0 8 rfl rfl)
theorem dX2_letsGo_9 : decode cX2_letsGo 9 = .ok (.iload_n 2, 1) := dk_28 (dk_at dksX2_letsGo_0 9 rfl rfl)
theorem dX2_letsGo_10 : decode cX2_letsGo 10 = .ok (.iadd, 1) := dk_96 (dk_at dksX2_letsGo_0 10 rfl rfl)
theorem dX2_letsGo_11 : decode cX2_letsGo 11 = .ok (.iconst 1, 1) := dk_4 (dk_at dksX2_letsGo_0 11 rfl rfl)
theorem dX2_letsGo_12 : decode cX2_letsGo 12 = .ok (.isub, 1) := dk_100 (dk_at dksX2_letsGo_0 12 rfl rfl)
theorem dX2_letsGo_13 : decode cX2_letsGo 13 = .ok (.iaload, 1) := dk_46 (dk_at dksX2_letsGo_0 13 rfl rfl)
theorem dX2_letsGo_14 : decode cX2_letsGo 14 = .ok (.aload_n 0, 1) := dk_42 (dk_at dksX2_letsGo_0 14 rfl rfl)
theorem dX2_letsGo_15 : decode cX2_letsGo 15 = .ok (.getfield 19, 3) := dk_180 0 19 (dk_at dksX2_letsGo_0 15 rfl rfl)
theorem dX2_letsGo_18 : decode cX2_letsGo 18 = .ok (.sipush 401, 3) := dk_17 1 145 (dk_at dksX2_letsGo_0 18 rfl rfl)
theorem dX2_letsGo_21 : decode cX2_letsGo 21 = .ok (.iload_n 1, 1) := dk_27 (dk_at dksX2_letsGo_0 21 rfl rfl)
theorem dX2_letsGo_22 : decode cX2_letsGo 22 = .ok (.imul, 1) := dk_104 (dk_at dksX2_letsGo_0 22 rfl rfl)
theorem dX2_letsGo_23 : decode cX2_letsGo 23 = .ok (.iload_n 2, 1) := dk_28 (dk_at dksX2_letsGo_0 23 rfl rfl)
theorem dX2_letsGo_24 : decode cX2_letsGo 24 = .ok (.iadd, 1) := dk_96 (dk_at dksX2_letsGo_1 0 rfl rfl)
theorem dX2_letsGo_25 : decode cX2_letsGo 25 = .ok (.iaload, 1) := dk_46 (dk_at dksX2_letsGo_1 1 rfl rfl)
theorem dX2_letsGo_26 : decode cX2_letsGo 26 = .ok (.iconst (-1), 1) := dk_2 (dk_at dksX2_letsGo_1 2 rfl rfl)
theorem dX2_letsGo_27 : decode cX2_letsGo 27 = .ok (.ixor, 1) := dk_130 (dk_at dksX2_letsGo_1 3 rfl rfl)
theorem dX2_letsGo_28 : decode cX2_letsGo 28 = .ok (.iand, 1) := dk_126 (dk_at dksX2_letsGo_1 4 rfl rfl)
theorem dX2_letsGo_29 : decode cX2_letsGo 29 = .ok (.istore_n 3, 1) := dk_62 (dk_at dksX2_letsGo_1 5 rfl rfl)
theorem dX2_letsGo_30 : decode cX2_letsGo 30 = .ok (.iconst 0, 1) := dk_3 (dk_at dksX2_letsGo_1 6 rfl rfl)
theorem dX2_letsGo_31 : decode cX2_letsGo 31 = .ok (.istore 4, 2) := dk_54 4 (dk_at dksX2_letsGo_1 7 rfl rfl)
theorem dX2_letsGo_33 : decode cX2_letsGo 33 = .ok (.iload 4, 2) := dk_21 4 (dk_at dksX2_letsGo_1 9 rfl rfl)
theorem dX2_letsGo_35 : decode cX2_letsGo 35 = .ok (.bipush 6, 2) := dk_16 6 (dk_at dksX2_letsGo_1 11 rfl rfl)
theorem dX2_letsGo_37 : decode cX2_letsGo 37 = .ok (.if_icmp .ge 26, 3) := dk_162 0 26 (dk_at dksX2_letsGo_1 13 rfl rfl)
theorem dX2_letsGo_40 : decode cX2_letsGo 40 = .ok (.iload_n 3, 1) := dk_29 (dk_at dksX2_letsGo_1 16 rfl rfl)
theorem dX2_letsGo_41 : decode cX2_letsGo 41 = .ok (.iload 4, 2) := dk_21 4 (dk_at dksX2_letsGo_1 17 rfl rfl)
theorem dX2_letsGo_43 : decode cX2_letsGo 43 = .ok (.invokestatic 71, 3) := dk_184 0 71 (dk_at dksX2_letsGo_1 19 rfl rfl)
theorem dX2_letsGo_46 : decode cX2_letsGo 46 = .ok (.ifCond .eq 11, 3) := dk_153 0 11 (dk_at dksX2_letsGo_2 0 rfl rfl)
theorem dX2_letsGo_49 : decode cX2_letsGo 49 = .ok (.aload_n 0, 1) := dk_42 (dk_at dksX2_letsGo_2 3 rfl rfl)
theorem dX2_letsGo_50 : decode cX2_letsGo 50 = .ok (.iload_n 1, 1) := dk_27 (dk_at dksX2_letsGo_2 4 rfl rfl)
theorem dX2_letsGo_51 : decode cX2_letsGo 51 = .ok (.iload 4, 2) := dk_21 4 (dk_at dksX2_letsGo_2 5 rfl rfl)
theorem dX2_letsGo_53 : decode cX2_letsGo 53 = .ok (.iload_n 2, 1) := dk_28 (dk_at dksX2_letsGo_2 7 rfl rfl)
theorem dX2_letsGo_54 : decode cX2_letsGo 54 = .ok (.invokevirtual 99, 3) := dk_182 0 99 (dk_at dksX2_letsGo_2 8 rfl rfl)
theorem dX2_letsGo_57 : decode cX2_letsGo 57 = .ok (.iinc 4 1, 3) := dk_132 4 1 (dk_at dksX2_letsGo_2 11 rfl rfl)
theorem dX2_letsGo_60 : decode cX2_letsGo 60 = .ok (.goto (-27), 3) := dk_167 255 229 (dk_at dksX2_letsGo_2 14 rfl rfl)
theorem dX2_letsGo_63 : decode cX2_letsGo 63 = .ok (.return_, 1) := dk_177 (dk_at dksX2_letsGo_2 17 rfl rfl)
abbrev cX2_dips : ByteArray := prog_10_method_6_code
def yX2_dips : MethodName := ⟨RX2, "dips", "(III)V"⟩
def dkwX2_dips_7 : List UInt8 := [21, 7, 96, 92, 46, 4, 28, 120, 128, 79, 132, 7, 1, 167, 255, 213, 132, 5, 1, 167, 255, 177, 177]
abbrev dktX2_dips_7 : List UInt8 := dkwX2_dips_7 ++ []
def dkwX2_dips_6 : List UInt8 := [104, 96, 162, 0, 37, 21, 7, 17, 1, 145, 162, 0, 29, 42, 180, 0, 31, 17, 1, 145, 21, 5, 104]
abbrev dktX2_dips_6 : List UInt8 := dkwX2_dips_6 ++ dktX2_dips_7
def dkwX2_dips_5 : List UInt8 := [42, 180, 0, 47, 27, 21, 5, 182, 0, 102, 96, 54, 6, 21, 6, 54, 7, 21, 7, 21, 6, 5, 21, 4]
abbrev dktX2_dips_5 : List UInt8 := dkwX2_dips_5 ++ dktX2_dips_6
def dkwX2_dips_4 : List UInt8 := [180, 0, 58, 4, 96, 181, 0, 58, 3, 54, 5, 21, 5, 42, 180, 0, 47, 182, 0, 67, 162, 0, 73, 29]
abbrev dktX2_dips_4 : List UInt8 := dkwX2_dips_4 ++ dktX2_dips_5
def dkwX2_dips_3 : List UInt8 := [21, 5, 182, 0, 102, 54, 4, 132, 5, 1, 167, 255, 182, 21, 4, 2, 160, 0, 4, 177, 42, 89]
abbrev dktX2_dips_3 : List UInt8 := dkwX2_dips_3 ++ dktX2_dips_4
def dkwX2_dips_2 : List UInt8 := [159, 0, 18, 42, 180, 0, 47, 27, 21, 5, 182, 0, 102, 21, 4, 162, 0, 15, 42, 180, 0, 47, 27]
abbrev dktX2_dips_2 : List UInt8 := dkwX2_dips_2 ++ dktX2_dips_3
def dkwX2_dips_1 : List UInt8 := [42, 180, 0, 19, 17, 1, 145, 21, 5, 104, 29, 96, 46, 28, 184, 0, 71, 153, 0, 36, 21, 4, 2]
abbrev dktX2_dips_1 : List UInt8 := dkwX2_dips_1 ++ dktX2_dips_2
def dkwX2_dips_0 : List UInt8 := [2, 54, 4, 3, 54, 5, 21, 5, 42, 180, 0, 47, 182, 0, 67, 162, 0, 68, 21, 5, 27, 159, 0, 56]
abbrev dktX2_dips_0 : List UInt8 := dkwX2_dips_0 ++ dktX2_dips_1
theorem dksX2_dips_0 : cX2_dips.data.toList.drop 0 = dktX2_dips_0 := by decide +kernel
theorem dksX2_dips_1 : cX2_dips.data.toList.drop 24 = dktX2_dips_1 := dk_seg dksX2_dips_0 24 rfl rfl
theorem dksX2_dips_2 : cX2_dips.data.toList.drop 47 = dktX2_dips_2 := dk_seg dksX2_dips_1 23 rfl rfl
theorem dksX2_dips_3 : cX2_dips.data.toList.drop 70 = dktX2_dips_3 := dk_seg dksX2_dips_2 23 rfl rfl
theorem dksX2_dips_4 : cX2_dips.data.toList.drop 92 = dktX2_dips_4 := dk_seg dksX2_dips_3 22 rfl rfl
theorem dksX2_dips_5 : cX2_dips.data.toList.drop 116 = dktX2_dips_5 := dk_seg dksX2_dips_4 24 rfl rfl
theorem dksX2_dips_6 : cX2_dips.data.toList.drop 140 = dktX2_dips_6 := dk_seg dksX2_dips_5 24 rfl rfl
theorem dksX2_dips_7 : cX2_dips.data.toList.drop 163 = dktX2_dips_7 := dk_seg dksX2_dips_6 23 rfl rfl
theorem dX2_dips_0 : decode cX2_dips 0 = .ok (.iconst (-1), 1) := dk_2 (dk_at dksX2_dips_0 0 rfl rfl)
theorem dX2_dips_1 : decode cX2_dips 1 = .ok (.istore 4, 2) := dk_54 4 (dk_at dksX2_dips_0 1 rfl rfl)
theorem dX2_dips_3 : decode cX2_dips 3 = .ok (.iconst 0, 1) := dk_3 (dk_at dksX2_dips_0 3 rfl rfl)
theorem dX2_dips_4 : decode cX2_dips 4 = .ok (.istore 5, 2) := dk_54 5 (dk_at dksX2_dips_0 4 rfl rfl)
theorem dX2_dips_6 : decode cX2_dips 6 = .ok (.iload 5, 2) := dk_21 5 (dk_at dksX2_dips_0 6 rfl rfl)
theorem dX2_dips_8 : decode cX2_dips 8 = .ok (.aload_n 0, 1) := dk_42 (dk_at dksX2_dips_0 8 rfl rfl)
theorem dX2_dips_9 : decode cX2_dips 9 = .ok (.getfield 47, 3) := dk_180 0 47 (dk_at dksX2_dips_0 9 rfl rfl)
theorem dX2_dips_12 : decode cX2_dips 12 = .ok (.invokevirtual 67, 3) := dk_182 0 67 (dk_at dksX2_dips_0 12 rfl rfl)
theorem dX2_dips_15 : decode cX2_dips 15 = .ok (.if_icmp .ge 68, 3) := dk_162 0 68 (dk_at dksX2_dips_0 15 rfl rfl)
theorem dX2_dips_18 : decode cX2_dips 18 = .ok (.iload 5, 2) := dk_21 5 (dk_at dksX2_dips_0 18 rfl rfl)
theorem dX2_dips_20 : decode cX2_dips 20 = .ok (.iload_n 1, 1) := dk_27 (dk_at dksX2_dips_0 20 rfl rfl)
theorem dX2_dips_21 : decode cX2_dips 21 = .ok (.if_icmp .eq 56, 3) := dk_159 0 56 (dk_at dksX2_dips_0 21 rfl rfl)
theorem dX2_dips_24 : decode cX2_dips 24 = .ok (.aload_n 0, 1) := dk_42 (dk_at dksX2_dips_1 0 rfl rfl)
theorem dX2_dips_25 : decode cX2_dips 25 = .ok (.getfield 19, 3) := dk_180 0 19 (dk_at dksX2_dips_1 1 rfl rfl)
theorem dX2_dips_28 : decode cX2_dips 28 = .ok (.sipush 401, 3) := dk_17 1 145 (dk_at dksX2_dips_1 4 rfl rfl)
theorem dX2_dips_31 : decode cX2_dips 31 = .ok (.iload 5, 2) := dk_21 5 (dk_at dksX2_dips_1 7 rfl rfl)
theorem dX2_dips_33 : decode cX2_dips 33 = .ok (.imul, 1) := dk_104 (dk_at dksX2_dips_1 9 rfl rfl)
theorem dX2_dips_34 : decode cX2_dips 34 = .ok (.iload_n 3, 1) := dk_29 (dk_at dksX2_dips_1 10 rfl rfl)
theorem dX2_dips_35 : decode cX2_dips 35 = .ok (.iadd, 1) := dk_96 (dk_at dksX2_dips_1 11 rfl rfl)
theorem dX2_dips_36 : decode cX2_dips 36 = .ok (.iaload, 1) := dk_46 (dk_at dksX2_dips_1 12 rfl rfl)
theorem dX2_dips_37 : decode cX2_dips 37 = .ok (.iload_n 2, 1) := dk_28 (dk_at dksX2_dips_1 13 rfl rfl)
theorem dX2_dips_38 : decode cX2_dips 38 = .ok (.invokestatic 71, 3) := dk_184 0 71 (dk_at dksX2_dips_1 14 rfl rfl)
theorem dX2_dips_41 : decode cX2_dips 41 = .ok (.ifCond .eq 36, 3) := dk_153 0 36 (dk_at dksX2_dips_1 17 rfl rfl)
theorem dX2_dips_44 : decode cX2_dips 44 = .ok (.iload 4, 2) := dk_21 4 (dk_at dksX2_dips_1 20 rfl rfl)
theorem dX2_dips_46 : decode cX2_dips 46 = .ok (.iconst (-1), 1) := dk_2 (dk_at dksX2_dips_1 22 rfl rfl)
theorem dX2_dips_47 : decode cX2_dips 47 = .ok (.if_icmp .eq 18, 3) := dk_159 0 18 (dk_at dksX2_dips_2 0 rfl rfl)
theorem dX2_dips_50 : decode cX2_dips 50 = .ok (.aload_n 0, 1) := dk_42 (dk_at dksX2_dips_2 3 rfl rfl)
theorem dX2_dips_51 : decode cX2_dips 51 = .ok (.getfield 47, 3) := dk_180 0 47 (dk_at dksX2_dips_2 4 rfl rfl)
theorem dX2_dips_54 : decode cX2_dips 54 = .ok (.iload_n 1, 1) := dk_27 (dk_at dksX2_dips_2 7 rfl rfl)
theorem dX2_dips_55 : decode cX2_dips 55 = .ok (.iload 5, 2) := dk_21 5 (dk_at dksX2_dips_2 8 rfl rfl)
theorem dX2_dips_57 : decode cX2_dips 57 = .ok (.invokevirtual 102, 3) := dk_182 0 102 (dk_at dksX2_dips_2 10 rfl rfl)
theorem dX2_dips_60 : decode cX2_dips 60 = .ok (.iload 4, 2) := dk_21 4 (dk_at dksX2_dips_2 13 rfl rfl)
theorem dX2_dips_62 : decode cX2_dips 62 = .ok (.if_icmp .ge 15, 3) := dk_162 0 15 (dk_at dksX2_dips_2 15 rfl rfl)
theorem dX2_dips_65 : decode cX2_dips 65 = .ok (.aload_n 0, 1) := dk_42 (dk_at dksX2_dips_2 18 rfl rfl)
theorem dX2_dips_66 : decode cX2_dips 66 = .ok (.getfield 47, 3) := dk_180 0 47 (dk_at dksX2_dips_2 19 rfl rfl)
theorem dX2_dips_69 : decode cX2_dips 69 = .ok (.iload_n 1, 1) := dk_27 (dk_at dksX2_dips_2 22 rfl rfl)
theorem dX2_dips_70 : decode cX2_dips 70 = .ok (.iload 5, 2) := dk_21 5 (dk_at dksX2_dips_3 0 rfl rfl)
theorem dX2_dips_72 : decode cX2_dips 72 = .ok (.invokevirtual 102, 3) := dk_182 0 102 (dk_at dksX2_dips_3 2 rfl rfl)
theorem dX2_dips_75 : decode cX2_dips 75 = .ok (.istore 4, 2) := dk_54 4 (dk_at dksX2_dips_3 5 rfl rfl)
theorem dX2_dips_77 : decode cX2_dips 77 = .ok (.iinc 5 1, 3) := dk_132 5 1 (dk_at dksX2_dips_3 7 rfl rfl)
theorem dX2_dips_80 : decode cX2_dips 80 = .ok (.goto (-74), 3) := dk_167 255 182 (dk_at dksX2_dips_3 10 rfl rfl)
theorem dX2_dips_83 : decode cX2_dips 83 = .ok (.iload 4, 2) := dk_21 4 (dk_at dksX2_dips_3 13 rfl rfl)
theorem dX2_dips_85 : decode cX2_dips 85 = .ok (.iconst (-1), 1) := dk_2 (dk_at dksX2_dips_3 15 rfl rfl)
theorem dX2_dips_86 : decode cX2_dips 86 = .ok (.if_icmp .ne 4, 3) := dk_160 0 4 (dk_at dksX2_dips_3 16 rfl rfl)
theorem dX2_dips_89 : decode cX2_dips 89 = .ok (.return_, 1) := dk_177 (dk_at dksX2_dips_3 19 rfl rfl)
theorem dX2_dips_90 : decode cX2_dips 90 = .ok (.aload_n 0, 1) := dk_42 (dk_at dksX2_dips_3 20 rfl rfl)
theorem dX2_dips_91 : decode cX2_dips 91 = .ok (.dup, 1) := dk_89 (dk_at dksX2_dips_3 21 rfl rfl)
theorem dX2_dips_92 : decode cX2_dips 92 = .ok (.getfield 58, 3) := dk_180 0 58 (dk_at dksX2_dips_4 0 rfl rfl)
theorem dX2_dips_95 : decode cX2_dips 95 = .ok (.iconst 1, 1) := dk_4 (dk_at dksX2_dips_4 3 rfl rfl)
theorem dX2_dips_96 : decode cX2_dips 96 = .ok (.iadd, 1) := dk_96 (dk_at dksX2_dips_4 4 rfl rfl)
theorem dX2_dips_97 : decode cX2_dips 97 = .ok (.putfield 58, 3) := dk_181 0 58 (dk_at dksX2_dips_4 5 rfl rfl)
theorem dX2_dips_100 : decode cX2_dips 100 = .ok (.iconst 0, 1) := dk_3 (dk_at dksX2_dips_4 8 rfl rfl)
theorem dX2_dips_101 : decode cX2_dips 101 = .ok (.istore 5, 2) := dk_54 5 (dk_at dksX2_dips_4 9 rfl rfl)
theorem dX2_dips_103 : decode cX2_dips 103 = .ok (.iload 5, 2) := dk_21 5 (dk_at dksX2_dips_4 11 rfl rfl)
theorem dX2_dips_105 : decode cX2_dips 105 = .ok (.aload_n 0, 1) := dk_42 (dk_at dksX2_dips_4 13 rfl rfl)
theorem dX2_dips_106 : decode cX2_dips 106 = .ok (.getfield 47, 3) := dk_180 0 47 (dk_at dksX2_dips_4 14 rfl rfl)
theorem dX2_dips_109 : decode cX2_dips 109 = .ok (.invokevirtual 67, 3) := dk_182 0 67 (dk_at dksX2_dips_4 17 rfl rfl)
theorem dX2_dips_112 : decode cX2_dips 112 = .ok (.if_icmp .ge 73, 3) := dk_162 0 73 (dk_at dksX2_dips_4 20 rfl rfl)
theorem dX2_dips_115 : decode cX2_dips 115 = .ok (.iload_n 3, 1) := dk_29 (dk_at dksX2_dips_4 23 rfl rfl)
theorem dX2_dips_116 : decode cX2_dips 116 = .ok (.aload_n 0, 1) := dk_42 (dk_at dksX2_dips_5 0 rfl rfl)
theorem dX2_dips_117 : decode cX2_dips 117 = .ok (.getfield 47, 3) := dk_180 0 47 (dk_at dksX2_dips_5 1 rfl rfl)
theorem dX2_dips_120 : decode cX2_dips 120 = .ok (.iload_n 1, 1) := dk_27 (dk_at dksX2_dips_5 4 rfl rfl)
theorem dX2_dips_121 : decode cX2_dips 121 = .ok (.iload 5, 2) := dk_21 5 (dk_at dksX2_dips_5 5 rfl rfl)
theorem dX2_dips_123 : decode cX2_dips 123 = .ok (.invokevirtual 102, 3) := dk_182 0 102 (dk_at dksX2_dips_5 7 rfl rfl)
theorem dX2_dips_126 : decode cX2_dips 126 = .ok (.iadd, 1) := dk_96 (dk_at dksX2_dips_5 10 rfl rfl)
theorem dX2_dips_127 : decode cX2_dips 127 = .ok (.istore 6, 2) := dk_54 6 (dk_at dksX2_dips_5 11 rfl rfl)
theorem dX2_dips_129 : decode cX2_dips 129 = .ok (.iload 6, 2) := dk_21 6 (dk_at dksX2_dips_5 13 rfl rfl)
theorem dX2_dips_131 : decode cX2_dips 131 = .ok (.istore 7, 2) := dk_54 7 (dk_at dksX2_dips_5 15 rfl rfl)
theorem dX2_dips_133 : decode cX2_dips 133 = .ok (.iload 7, 2) := dk_21 7 (dk_at dksX2_dips_5 17 rfl rfl)
theorem dX2_dips_135 : decode cX2_dips 135 = .ok (.iload 6, 2) := dk_21 6 (dk_at dksX2_dips_5 19 rfl rfl)
theorem dX2_dips_137 : decode cX2_dips 137 = .ok (.iconst 2, 1) := dk_5 (dk_at dksX2_dips_5 21 rfl rfl)
theorem dX2_dips_138 : decode cX2_dips 138 = .ok (.iload 4, 2) := dk_21 4 (dk_at dksX2_dips_5 22 rfl rfl)
theorem dX2_dips_140 : decode cX2_dips 140 = .ok (.imul, 1) := dk_104 (dk_at dksX2_dips_6 0 rfl rfl)
theorem dX2_dips_141 : decode cX2_dips 141 = .ok (.iadd, 1) := dk_96 (dk_at dksX2_dips_6 1 rfl rfl)
theorem dX2_dips_142 : decode cX2_dips 142 = .ok (.if_icmp .ge 37, 3) := dk_162 0 37 (dk_at dksX2_dips_6 2 rfl rfl)
theorem dX2_dips_145 : decode cX2_dips 145 = .ok (.iload 7, 2) := dk_21 7 (dk_at dksX2_dips_6 5 rfl rfl)
theorem dX2_dips_147 : decode cX2_dips 147 = .ok (.sipush 401, 3) := dk_17 1 145 (dk_at dksX2_dips_6 7 rfl rfl)
theorem dX2_dips_150 : decode cX2_dips 150 = .ok (.if_icmp .ge 29, 3) := dk_162 0 29 (dk_at dksX2_dips_6 10 rfl rfl)
theorem dX2_dips_153 : decode cX2_dips 153 = .ok (.aload_n 0, 1) := dk_42 (dk_at dksX2_dips_6 13 rfl rfl)
theorem dX2_dips_154 : decode cX2_dips 154 = .ok (.getfield 31, 3) := dk_180 0 31 (dk_at dksX2_dips_6 14 rfl rfl)
theorem dX2_dips_157 : decode cX2_dips 157 = .ok (.sipush 401, 3) := dk_17 1 145 (dk_at dksX2_dips_6 17 rfl rfl)
theorem dX2_dips_160 : decode cX2_dips 160 = .ok (.iload 5, 2) := dk_21 5 (dk_at dksX2_dips_6 20 rfl rfl)
theorem dX2_dips_162 : decode cX2_dips 162 = .ok (.imul, 1) := dk_104 (dk_at dksX2_dips_6 22 rfl rfl)
theorem dX2_dips_163 : decode cX2_dips 163 = .ok (.iload 7, 2) := dk_21 7 (dk_at dksX2_dips_7 0 rfl rfl)
theorem dX2_dips_165 : decode cX2_dips 165 = .ok (.iadd, 1) := dk_96 (dk_at dksX2_dips_7 2 rfl rfl)
theorem dX2_dips_166 : decode cX2_dips 166 = .ok (.dup2, 1) := dk_92 (dk_at dksX2_dips_7 3 rfl rfl)
theorem dX2_dips_167 : decode cX2_dips 167 = .ok (.iaload, 1) := dk_46 (dk_at dksX2_dips_7 4 rfl rfl)
theorem dX2_dips_168 : decode cX2_dips 168 = .ok (.iconst 1, 1) := dk_4 (dk_at dksX2_dips_7 5 rfl rfl)
theorem dX2_dips_169 : decode cX2_dips 169 = .ok (.iload_n 2, 1) := dk_28 (dk_at dksX2_dips_7 6 rfl rfl)
theorem dX2_dips_170 : decode cX2_dips 170 = .ok (.ishl, 1) := dk_120 (dk_at dksX2_dips_7 7 rfl rfl)
theorem dX2_dips_171 : decode cX2_dips 171 = .ok (.ior, 1) := dk_128 (dk_at dksX2_dips_7 8 rfl rfl)
theorem dX2_dips_172 : decode cX2_dips 172 = .ok (.iastore, 1) := dk_79 (dk_at dksX2_dips_7 9 rfl rfl)
theorem dX2_dips_173 : decode cX2_dips 173 = .ok (.iinc 7 1, 3) := dk_132 7 1 (dk_at dksX2_dips_7 10 rfl rfl)
theorem dX2_dips_176 : decode cX2_dips 176 = .ok (.goto (-43), 3) := dk_167 255 213 (dk_at dksX2_dips_7 13 rfl rfl)
theorem dX2_dips_179 : decode cX2_dips 179 = .ok (.iinc 5 1, 3) := dk_132 5 1 (dk_at dksX2_dips_7 16 rfl rfl)
theorem dX2_dips_182 : decode cX2_dips 182 = .ok (.goto (-79), 3) := dk_167 255 177 (dk_at dksX2_dips_7 19 rfl rfl)
theorem dX2_dips_185 : decode cX2_dips 185 = .ok (.return_, 1) := dk_177 (dk_at dksX2_dips_7 22 rfl rfl)
abbrev cX2_sees : ByteArray := prog_10_method_7_code
def yX2_sees : MethodName := ⟨RX2, "sees", "(II)V"⟩
def dkwX2_sees_10 : List UInt8 := [167, 0, 11, 21, 5, 184, 0, 105, 184, 0, 111, 79, 177]
abbrev dktX2_sees_10 : List UInt8 := dkwX2_sees_10 ++ []
def dkwX2_sees_9 : List UInt8 := [27, 46, 2, 130, 126, 167, 0, 4, 3, 54, 5, 42, 180, 0, 28, 29, 21, 5, 154, 0, 8, 16, 254]
abbrev dktX2_sees_9 : List UInt8 := dkwX2_sees_9 ++ dktX2_sees_10
def dkwX2_sees_8 : List UInt8 := [167, 255, 185, 42, 180, 0, 51, 27, 184, 0, 71, 153, 0, 21, 42, 180, 0, 25, 29, 46, 42, 180, 0, 15]
abbrev dktX2_sees_8 : List UInt8 := dkwX2_sees_8 ++ dktX2_sees_9
def dkwX2_sees_7 : List UInt8 := [180, 0, 57, 163, 0, 16, 42, 180, 0, 25, 29, 92, 46, 4, 21, 5, 120, 128, 79, 132, 5, 1]
abbrev dktX2_sees_7 : List UInt8 := dkwX2_sees_7 ++ dktX2_sees_8
def dkwX2_sees_6 : List UInt8 := [16, 6, 27, 104, 21, 5, 96, 28, 79, 28, 42, 180, 0, 34, 16, 6, 27, 104, 21, 5, 96, 46, 100, 42]
abbrev dktX2_sees_6 : List UInt8 := dkwX2_sees_6 ++ dktX2_sees_7
def dkwX2_sees_5 : List UInt8 := [16, 6, 162, 0, 70, 42, 180, 0, 22, 29, 46, 21, 5, 184, 0, 71, 153, 0, 16, 42, 180, 0, 34]
abbrev dktX2_sees_5 : List UInt8 := dkwX2_sees_5 ++ dktX2_sees_6
def dkwX2_sees_4 : List UInt8 := [2, 130, 126, 42, 180, 0, 19, 29, 46, 128, 79, 42, 180, 0, 25, 29, 3, 79, 3, 54, 5, 21, 5]
abbrev dktX2_sees_4 : List UInt8 := dkwX2_sees_4 ++ dktX2_sees_5
def dkwX2_sees_3 : List UInt8 := [180, 0, 22, 29, 21, 4, 42, 180, 0, 31, 29, 46, 2, 130, 126, 42, 180, 0, 61, 128, 42, 180, 0, 64]
abbrev dktX2_sees_3 : List UInt8 := dkwX2_sees_3 ++ dktX2_sees_4
def dkwX2_sees_2 : List UInt8 := [42, 180, 0, 19, 17, 1, 145, 21, 5, 104, 21, 6, 96, 46, 128, 54, 4, 132, 5, 1, 167, 255, 203, 42]
abbrev dktX2_sees_2 : List UInt8 := dkwX2_sees_2 ++ dktX2_sees_3
def dkwX2_sees_1 : List UInt8 := [162, 0, 47, 28, 42, 180, 0, 47, 27, 21, 5, 182, 0, 102, 100, 54, 6, 21, 6, 155, 0, 22, 21, 4]
abbrev dktX2_sees_1 : List UInt8 := dkwX2_sees_1 ++ dktX2_sees_2
def dkwX2_sees_0 : List UInt8 := [17, 1, 145, 27, 104, 28, 96, 62, 3, 54, 4, 3, 54, 5, 21, 5, 42, 180, 0, 47, 182, 0, 67]
abbrev dktX2_sees_0 : List UInt8 := dkwX2_sees_0 ++ dktX2_sees_1
theorem dksX2_sees_0 : cX2_sees.data.toList.drop 0 = dktX2_sees_0 := by decide +kernel
theorem dksX2_sees_1 : cX2_sees.data.toList.drop 23 = dktX2_sees_1 := dk_seg dksX2_sees_0 23 rfl rfl
theorem dksX2_sees_2 : cX2_sees.data.toList.drop 47 = dktX2_sees_2 := dk_seg dksX2_sees_1 24 rfl rfl
theorem dksX2_sees_3 : cX2_sees.data.toList.drop 71 = dktX2_sees_3 := dk_seg dksX2_sees_2 24 rfl rfl
theorem dksX2_sees_4 : cX2_sees.data.toList.drop 95 = dktX2_sees_4 := dk_seg dksX2_sees_3 24 rfl rfl
theorem dksX2_sees_5 : cX2_sees.data.toList.drop 118 = dktX2_sees_5 := dk_seg dksX2_sees_4 23 rfl rfl
theorem dksX2_sees_6 : cX2_sees.data.toList.drop 141 = dktX2_sees_6 := dk_seg dksX2_sees_5 23 rfl rfl
theorem dksX2_sees_7 : cX2_sees.data.toList.drop 165 = dktX2_sees_7 := dk_seg dksX2_sees_6 24 rfl rfl
theorem dksX2_sees_8 : cX2_sees.data.toList.drop 187 = dktX2_sees_8 := dk_seg dksX2_sees_7 22 rfl rfl
theorem dksX2_sees_9 : cX2_sees.data.toList.drop 211 = dktX2_sees_9 := dk_seg dksX2_sees_8 24 rfl rfl
theorem dksX2_sees_10 : cX2_sees.data.toList.drop 234 = dktX2_sees_10 := dk_seg dksX2_sees_9 23 rfl rfl
theorem dX2_sees_0 : decode cX2_sees 0 = .ok (.sipush 401, 3) := dk_17 1 145 (dk_at dksX2_sees_0 0 rfl rfl)
theorem dX2_sees_3 : decode cX2_sees 3 = .ok (.iload_n 1, 1) := dk_27 (dk_at dksX2_sees_0 3 rfl rfl)
theorem dX2_sees_4 : decode cX2_sees 4 = .ok (.imul, 1) := dk_104 (dk_at dksX2_sees_0 4 rfl rfl)
theorem dX2_sees_5 : decode cX2_sees 5 = .ok (.iload_n 2, 1) := dk_28 (dk_at dksX2_sees_0 5 rfl rfl)
theorem dX2_sees_6 : decode cX2_sees 6 = .ok (.iadd, 1) := dk_96 (dk_at dksX2_sees_0 6 rfl rfl)
theorem dX2_sees_7 : decode cX2_sees 7 = .ok (.istore_n 3, 1) := dk_62 (dk_at dksX2_sees_0 7 rfl rfl)
theorem dX2_sees_8 : decode cX2_sees 8 = .ok (.iconst 0, 1) := dk_3 (dk_at dksX2_sees_0 8 rfl rfl)
theorem dX2_sees_9 : decode cX2_sees 9 = .ok (.istore 4, 2) := dk_54 4 (dk_at dksX2_sees_0 9 rfl rfl)
theorem dX2_sees_11 : decode cX2_sees 11 = .ok (.iconst 0, 1) := dk_3 (dk_at dksX2_sees_0 11 rfl rfl)
theorem dX2_sees_12 : decode cX2_sees 12 = .ok (.istore 5, 2) := dk_54 5 (dk_at dksX2_sees_0 12 rfl rfl)
theorem dX2_sees_14 : decode cX2_sees 14 = .ok (.iload 5, 2) := dk_21 5 (dk_at dksX2_sees_0 14 rfl rfl)
theorem dX2_sees_16 : decode cX2_sees 16 = .ok (.aload_n 0, 1) := dk_42 (dk_at dksX2_sees_0 16 rfl rfl)
theorem dX2_sees_17 : decode cX2_sees 17 = .ok (.getfield 47, 3) := dk_180 0 47 (dk_at dksX2_sees_0 17 rfl rfl)
theorem dX2_sees_20 : decode cX2_sees 20 = .ok (.invokevirtual 67, 3) := dk_182 0 67 (dk_at dksX2_sees_0 20 rfl rfl)
theorem dX2_sees_23 : decode cX2_sees 23 = .ok (.if_icmp .ge 47, 3) := dk_162 0 47 (dk_at dksX2_sees_1 0 rfl rfl)
theorem dX2_sees_26 : decode cX2_sees 26 = .ok (.iload_n 2, 1) := dk_28 (dk_at dksX2_sees_1 3 rfl rfl)
theorem dX2_sees_27 : decode cX2_sees 27 = .ok (.aload_n 0, 1) := dk_42 (dk_at dksX2_sees_1 4 rfl rfl)
theorem dX2_sees_28 : decode cX2_sees 28 = .ok (.getfield 47, 3) := dk_180 0 47 (dk_at dksX2_sees_1 5 rfl rfl)
theorem dX2_sees_31 : decode cX2_sees 31 = .ok (.iload_n 1, 1) := dk_27 (dk_at dksX2_sees_1 8 rfl rfl)
theorem dX2_sees_32 : decode cX2_sees 32 = .ok (.iload 5, 2) := dk_21 5 (dk_at dksX2_sees_1 9 rfl rfl)
theorem dX2_sees_34 : decode cX2_sees 34 = .ok (.invokevirtual 102, 3) := dk_182 0 102 (dk_at dksX2_sees_1 11 rfl rfl)
theorem dX2_sees_37 : decode cX2_sees 37 = .ok (.isub, 1) := dk_100 (dk_at dksX2_sees_1 14 rfl rfl)
theorem dX2_sees_38 : decode cX2_sees 38 = .ok (.istore 6, 2) := dk_54 6 (dk_at dksX2_sees_1 15 rfl rfl)
theorem dX2_sees_40 : decode cX2_sees 40 = .ok (.iload 6, 2) := dk_21 6 (dk_at dksX2_sees_1 17 rfl rfl)
theorem dX2_sees_42 : decode cX2_sees 42 = .ok (.ifCond .lt 22, 3) := dk_155 0 22 (dk_at dksX2_sees_1 19 rfl rfl)
theorem dX2_sees_45 : decode cX2_sees 45 = .ok (.iload 4, 2) := dk_21 4 (dk_at dksX2_sees_1 22 rfl rfl)
theorem dX2_sees_47 : decode cX2_sees 47 = .ok (.aload_n 0, 1) := dk_42 (dk_at dksX2_sees_2 0 rfl rfl)
theorem dX2_sees_48 : decode cX2_sees 48 = .ok (.getfield 19, 3) := dk_180 0 19 (dk_at dksX2_sees_2 1 rfl rfl)
theorem dX2_sees_51 : decode cX2_sees 51 = .ok (.sipush 401, 3) := dk_17 1 145 (dk_at dksX2_sees_2 4 rfl rfl)
theorem dX2_sees_54 : decode cX2_sees 54 = .ok (.iload 5, 2) := dk_21 5 (dk_at dksX2_sees_2 7 rfl rfl)
theorem dX2_sees_56 : decode cX2_sees 56 = .ok (.imul, 1) := dk_104 (dk_at dksX2_sees_2 9 rfl rfl)
theorem dX2_sees_57 : decode cX2_sees 57 = .ok (.iload 6, 2) := dk_21 6 (dk_at dksX2_sees_2 10 rfl rfl)
theorem dX2_sees_59 : decode cX2_sees 59 = .ok (.iadd, 1) := dk_96 (dk_at dksX2_sees_2 12 rfl rfl)
theorem dX2_sees_60 : decode cX2_sees 60 = .ok (.iaload, 1) := dk_46 (dk_at dksX2_sees_2 13 rfl rfl)
theorem dX2_sees_61 : decode cX2_sees 61 = .ok (.ior, 1) := dk_128 (dk_at dksX2_sees_2 14 rfl rfl)
theorem dX2_sees_62 : decode cX2_sees 62 = .ok (.istore 4, 2) := dk_54 4 (dk_at dksX2_sees_2 15 rfl rfl)
theorem dX2_sees_64 : decode cX2_sees 64 = .ok (.iinc 5 1, 3) := dk_132 5 1 (dk_at dksX2_sees_2 17 rfl rfl)
theorem dX2_sees_67 : decode cX2_sees 67 = .ok (.goto (-53), 3) := dk_167 255 203 (dk_at dksX2_sees_2 20 rfl rfl)
theorem dX2_sees_70 : decode cX2_sees 70 = .ok (.aload_n 0, 1) := dk_42 (dk_at dksX2_sees_2 23 rfl rfl)
theorem dX2_sees_71 : decode cX2_sees 71 = .ok (.getfield 22, 3) := dk_180 0 22 (dk_at dksX2_sees_3 0 rfl rfl)
theorem dX2_sees_74 : decode cX2_sees 74 = .ok (.iload_n 3, 1) := dk_29 (dk_at dksX2_sees_3 3 rfl rfl)
theorem dX2_sees_75 : decode cX2_sees 75 = .ok (.iload 4, 2) := dk_21 4 (dk_at dksX2_sees_3 4 rfl rfl)
theorem dX2_sees_77 : decode cX2_sees 77 = .ok (.aload_n 0, 1) := dk_42 (dk_at dksX2_sees_3 6 rfl rfl)
theorem dX2_sees_78 : decode cX2_sees 78 = .ok (.getfield 31, 3) := dk_180 0 31 (dk_at dksX2_sees_3 7 rfl rfl)
theorem dX2_sees_81 : decode cX2_sees 81 = .ok (.iload_n 3, 1) := dk_29 (dk_at dksX2_sees_3 10 rfl rfl)
theorem dX2_sees_82 : decode cX2_sees 82 = .ok (.iaload, 1) := dk_46 (dk_at dksX2_sees_3 11 rfl rfl)
theorem dX2_sees_83 : decode cX2_sees 83 = .ok (.iconst (-1), 1) := dk_2 (dk_at dksX2_sees_3 12 rfl rfl)
theorem dX2_sees_84 : decode cX2_sees 84 = .ok (.ixor, 1) := dk_130 (dk_at dksX2_sees_3 13 rfl rfl)
theorem dX2_sees_85 : decode cX2_sees 85 = .ok (.iand, 1) := dk_126 (dk_at dksX2_sees_3 14 rfl rfl)
theorem dX2_sees_86 : decode cX2_sees 86 = .ok (.aload_n 0, 1) := dk_42 (dk_at dksX2_sees_3 15 rfl rfl)
theorem dX2_sees_87 : decode cX2_sees 87 = .ok (.getfield 61, 3) := dk_180 0 61 (dk_at dksX2_sees_3 16 rfl rfl)
theorem dX2_sees_90 : decode cX2_sees 90 = .ok (.ior, 1) := dk_128 (dk_at dksX2_sees_3 19 rfl rfl)
theorem dX2_sees_91 : decode cX2_sees 91 = .ok (.aload_n 0, 1) := dk_42 (dk_at dksX2_sees_3 20 rfl rfl)
theorem dX2_sees_92 : decode cX2_sees 92 = .ok (.getfield 64, 3) := dk_180 0 64 (dk_at dksX2_sees_3 21 rfl rfl)
theorem dX2_sees_95 : decode cX2_sees 95 = .ok (.iconst (-1), 1) := dk_2 (dk_at dksX2_sees_4 0 rfl rfl)
theorem dX2_sees_96 : decode cX2_sees 96 = .ok (.ixor, 1) := dk_130 (dk_at dksX2_sees_4 1 rfl rfl)
theorem dX2_sees_97 : decode cX2_sees 97 = .ok (.iand, 1) := dk_126 (dk_at dksX2_sees_4 2 rfl rfl)
theorem dX2_sees_98 : decode cX2_sees 98 = .ok (.aload_n 0, 1) := dk_42 (dk_at dksX2_sees_4 3 rfl rfl)
theorem dX2_sees_99 : decode cX2_sees 99 = .ok (.getfield 19, 3) := dk_180 0 19 (dk_at dksX2_sees_4 4 rfl rfl)
theorem dX2_sees_102 : decode cX2_sees 102 = .ok (.iload_n 3, 1) := dk_29 (dk_at dksX2_sees_4 7 rfl rfl)
theorem dX2_sees_103 : decode cX2_sees 103 = .ok (.iaload, 1) := dk_46 (dk_at dksX2_sees_4 8 rfl rfl)
theorem dX2_sees_104 : decode cX2_sees 104 = .ok (.ior, 1) := dk_128 (dk_at dksX2_sees_4 9 rfl rfl)
theorem dX2_sees_105 : decode cX2_sees 105 = .ok (.iastore, 1) := dk_79 (dk_at dksX2_sees_4 10 rfl rfl)
theorem dX2_sees_106 : decode cX2_sees 106 = .ok (.aload_n 0, 1) := dk_42 (dk_at dksX2_sees_4 11 rfl rfl)
theorem dX2_sees_107 : decode cX2_sees 107 = .ok (.getfield 25, 3) := dk_180 0 25 (dk_at dksX2_sees_4 12 rfl rfl)
theorem dX2_sees_110 : decode cX2_sees 110 = .ok (.iload_n 3, 1) := dk_29 (dk_at dksX2_sees_4 15 rfl rfl)
theorem dX2_sees_111 : decode cX2_sees 111 = .ok (.iconst 0, 1) := dk_3 (dk_at dksX2_sees_4 16 rfl rfl)
theorem dX2_sees_112 : decode cX2_sees 112 = .ok (.iastore, 1) := dk_79 (dk_at dksX2_sees_4 17 rfl rfl)
theorem dX2_sees_113 : decode cX2_sees 113 = .ok (.iconst 0, 1) := dk_3 (dk_at dksX2_sees_4 18 rfl rfl)
theorem dX2_sees_114 : decode cX2_sees 114 = .ok (.istore 5, 2) := dk_54 5 (dk_at dksX2_sees_4 19 rfl rfl)
theorem dX2_sees_116 : decode cX2_sees 116 = .ok (.iload 5, 2) := dk_21 5 (dk_at dksX2_sees_4 21 rfl rfl)
theorem dX2_sees_118 : decode cX2_sees 118 = .ok (.bipush 6, 2) := dk_16 6 (dk_at dksX2_sees_5 0 rfl rfl)
theorem dX2_sees_120 : decode cX2_sees 120 = .ok (.if_icmp .ge 70, 3) := dk_162 0 70 (dk_at dksX2_sees_5 2 rfl rfl)
theorem dX2_sees_123 : decode cX2_sees 123 = .ok (.aload_n 0, 1) := dk_42 (dk_at dksX2_sees_5 5 rfl rfl)
theorem dX2_sees_124 : decode cX2_sees 124 = .ok (.getfield 22, 3) := dk_180 0 22 (dk_at dksX2_sees_5 6 rfl rfl)
theorem dX2_sees_127 : decode cX2_sees 127 = .ok (.iload_n 3, 1) := dk_29 (dk_at dksX2_sees_5 9 rfl rfl)
theorem dX2_sees_128 : decode cX2_sees 128 = .ok (.iaload, 1) := dk_46 (dk_at dksX2_sees_5 10 rfl rfl)
theorem dX2_sees_129 : decode cX2_sees 129 = .ok (.iload 5, 2) := dk_21 5 (dk_at dksX2_sees_5 11 rfl rfl)
theorem dX2_sees_131 : decode cX2_sees 131 = .ok (.invokestatic 71, 3) := dk_184 0 71 (dk_at dksX2_sees_5 13 rfl rfl)
theorem dX2_sees_134 : decode cX2_sees 134 = .ok (.ifCond .eq 16, 3) := dk_153 0 16 (dk_at dksX2_sees_5 16 rfl rfl)
theorem dX2_sees_137 : decode cX2_sees 137 = .ok (.aload_n 0, 1) := dk_42 (dk_at dksX2_sees_5 19 rfl rfl)
theorem dX2_sees_138 : decode cX2_sees 138 = .ok (.getfield 34, 3) := dk_180 0 34 (dk_at dksX2_sees_5 20 rfl rfl)
theorem dX2_sees_141 : decode cX2_sees 141 = .ok (.bipush 6, 2) := dk_16 6 (dk_at dksX2_sees_6 0 rfl rfl)
theorem dX2_sees_143 : decode cX2_sees 143 = .ok (.iload_n 1, 1) := dk_27 (dk_at dksX2_sees_6 2 rfl rfl)
theorem dX2_sees_144 : decode cX2_sees 144 = .ok (.imul, 1) := dk_104 (dk_at dksX2_sees_6 3 rfl rfl)
theorem dX2_sees_145 : decode cX2_sees 145 = .ok (.iload 5, 2) := dk_21 5 (dk_at dksX2_sees_6 4 rfl rfl)
theorem dX2_sees_147 : decode cX2_sees 147 = .ok (.iadd, 1) := dk_96 (dk_at dksX2_sees_6 6 rfl rfl)
theorem dX2_sees_148 : decode cX2_sees 148 = .ok (.iload_n 2, 1) := dk_28 (dk_at dksX2_sees_6 7 rfl rfl)
theorem dX2_sees_149 : decode cX2_sees 149 = .ok (.iastore, 1) := dk_79 (dk_at dksX2_sees_6 8 rfl rfl)
theorem dX2_sees_150 : decode cX2_sees 150 = .ok (.iload_n 2, 1) := dk_28 (dk_at dksX2_sees_6 9 rfl rfl)
theorem dX2_sees_151 : decode cX2_sees 151 = .ok (.aload_n 0, 1) := dk_42 (dk_at dksX2_sees_6 10 rfl rfl)
theorem dX2_sees_152 : decode cX2_sees 152 = .ok (.getfield 34, 3) := dk_180 0 34 (dk_at dksX2_sees_6 11 rfl rfl)
theorem dX2_sees_155 : decode cX2_sees 155 = .ok (.bipush 6, 2) := dk_16 6 (dk_at dksX2_sees_6 14 rfl rfl)
theorem dX2_sees_157 : decode cX2_sees 157 = .ok (.iload_n 1, 1) := dk_27 (dk_at dksX2_sees_6 16 rfl rfl)
theorem dX2_sees_158 : decode cX2_sees 158 = .ok (.imul, 1) := dk_104 (dk_at dksX2_sees_6 17 rfl rfl)
theorem dX2_sees_159 : decode cX2_sees 159 = .ok (.iload 5, 2) := dk_21 5 (dk_at dksX2_sees_6 18 rfl rfl)
theorem dX2_sees_161 : decode cX2_sees 161 = .ok (.iadd, 1) := dk_96 (dk_at dksX2_sees_6 20 rfl rfl)
theorem dX2_sees_162 : decode cX2_sees 162 = .ok (.iaload, 1) := dk_46 (dk_at dksX2_sees_6 21 rfl rfl)
theorem dX2_sees_163 : decode cX2_sees 163 = .ok (.isub, 1) := dk_100 (dk_at dksX2_sees_6 22 rfl rfl)
theorem dX2_sees_164 : decode cX2_sees 164 = .ok (.aload_n 0, 1) := dk_42 (dk_at dksX2_sees_6 23 rfl rfl)
theorem dX2_sees_165 : decode cX2_sees 165 = .ok (.getfield 57, 3) := dk_180 0 57 (dk_at dksX2_sees_7 0 rfl rfl)
theorem dX2_sees_168 : decode cX2_sees 168 = .ok (.if_icmp .gt 16, 3) := dk_163 0 16 (dk_at dksX2_sees_7 3 rfl rfl)
theorem dX2_sees_171 : decode cX2_sees 171 = .ok (.aload_n 0, 1) := dk_42 (dk_at dksX2_sees_7 6 rfl rfl)
theorem dX2_sees_172 : decode cX2_sees 172 = .ok (.getfield 25, 3) := dk_180 0 25 (dk_at dksX2_sees_7 7 rfl rfl)
theorem dX2_sees_175 : decode cX2_sees 175 = .ok (.iload_n 3, 1) := dk_29 (dk_at dksX2_sees_7 10 rfl rfl)
theorem dX2_sees_176 : decode cX2_sees 176 = .ok (.dup2, 1) := dk_92 (dk_at dksX2_sees_7 11 rfl rfl)
theorem dX2_sees_177 : decode cX2_sees 177 = .ok (.iaload, 1) := dk_46 (dk_at dksX2_sees_7 12 rfl rfl)
theorem dX2_sees_178 : decode cX2_sees 178 = .ok (.iconst 1, 1) := dk_4 (dk_at dksX2_sees_7 13 rfl rfl)
theorem dX2_sees_179 : decode cX2_sees 179 = .ok (.iload 5, 2) := dk_21 5 (dk_at dksX2_sees_7 14 rfl rfl)
theorem dX2_sees_181 : decode cX2_sees 181 = .ok (.ishl, 1) := dk_120 (dk_at dksX2_sees_7 16 rfl rfl)
theorem dX2_sees_182 : decode cX2_sees 182 = .ok (.ior, 1) := dk_128 (dk_at dksX2_sees_7 17 rfl rfl)
theorem dX2_sees_183 : decode cX2_sees 183 = .ok (.iastore, 1) := dk_79 (dk_at dksX2_sees_7 18 rfl rfl)
theorem dX2_sees_184 : decode cX2_sees 184 = .ok (.iinc 5 1, 3) := dk_132 5 1 (dk_at dksX2_sees_7 19 rfl rfl)
theorem dX2_sees_187 : decode cX2_sees 187 = .ok (.goto (-71), 3) := dk_167 255 185 (dk_at dksX2_sees_8 0 rfl rfl)
theorem dX2_sees_190 : decode cX2_sees 190 = .ok (.aload_n 0, 1) := dk_42 (dk_at dksX2_sees_8 3 rfl rfl)
theorem dX2_sees_191 : decode cX2_sees 191 = .ok (.getfield 51, 3) := dk_180 0 51 (dk_at dksX2_sees_8 4 rfl rfl)
theorem dX2_sees_194 : decode cX2_sees 194 = .ok (.iload_n 1, 1) := dk_27 (dk_at dksX2_sees_8 7 rfl rfl)
theorem dX2_sees_195 : decode cX2_sees 195 = .ok (.invokestatic 71, 3) := dk_184 0 71 (dk_at dksX2_sees_8 8 rfl rfl)
theorem dX2_sees_198 : decode cX2_sees 198 = .ok (.ifCond .eq 21, 3) := dk_153 0 21 (dk_at dksX2_sees_8 11 rfl rfl)
theorem dX2_sees_201 : decode cX2_sees 201 = .ok (.aload_n 0, 1) := dk_42 (dk_at dksX2_sees_8 14 rfl rfl)
theorem dX2_sees_202 : decode cX2_sees 202 = .ok (.getfield 25, 3) := dk_180 0 25 (dk_at dksX2_sees_8 15 rfl rfl)
theorem dX2_sees_205 : decode cX2_sees 205 = .ok (.iload_n 3, 1) := dk_29 (dk_at dksX2_sees_8 18 rfl rfl)
theorem dX2_sees_206 : decode cX2_sees 206 = .ok (.iaload, 1) := dk_46 (dk_at dksX2_sees_8 19 rfl rfl)
theorem dX2_sees_207 : decode cX2_sees 207 = .ok (.aload_n 0, 1) := dk_42 (dk_at dksX2_sees_8 20 rfl rfl)
theorem dX2_sees_208 : decode cX2_sees 208 = .ok (.getfield 15, 3) := dk_180 0 15 (dk_at dksX2_sees_8 21 rfl rfl)
theorem dX2_sees_211 : decode cX2_sees 211 = .ok (.iload_n 1, 1) := dk_27 (dk_at dksX2_sees_9 0 rfl rfl)
theorem dX2_sees_212 : decode cX2_sees 212 = .ok (.iaload, 1) := dk_46 (dk_at dksX2_sees_9 1 rfl rfl)
theorem dX2_sees_213 : decode cX2_sees 213 = .ok (.iconst (-1), 1) := dk_2 (dk_at dksX2_sees_9 2 rfl rfl)
theorem dX2_sees_214 : decode cX2_sees 214 = .ok (.ixor, 1) := dk_130 (dk_at dksX2_sees_9 3 rfl rfl)
theorem dX2_sees_215 : decode cX2_sees 215 = .ok (.iand, 1) := dk_126 (dk_at dksX2_sees_9 4 rfl rfl)
theorem dX2_sees_216 : decode cX2_sees 216 = .ok (.goto 4, 3) := dk_167 0 4 (dk_at dksX2_sees_9 5 rfl rfl)
theorem dX2_sees_219 : decode cX2_sees 219 = .ok (.iconst 0, 1) := dk_3 (dk_at dksX2_sees_9 8 rfl rfl)
theorem dX2_sees_220 : decode cX2_sees 220 = .ok (.istore 5, 2) := dk_54 5 (dk_at dksX2_sees_9 9 rfl rfl)
theorem dX2_sees_222 : decode cX2_sees 222 = .ok (.aload_n 0, 1) := dk_42 (dk_at dksX2_sees_9 11 rfl rfl)
theorem dX2_sees_223 : decode cX2_sees 223 = .ok (.getfield 28, 3) := dk_180 0 28 (dk_at dksX2_sees_9 12 rfl rfl)
theorem dX2_sees_226 : decode cX2_sees 226 = .ok (.iload_n 3, 1) := dk_29 (dk_at dksX2_sees_9 15 rfl rfl)
theorem dX2_sees_227 : decode cX2_sees 227 = .ok (.iload 5, 2) := dk_21 5 (dk_at dksX2_sees_9 16 rfl rfl)
theorem dX2_sees_229 : decode cX2_sees 229 = .ok (.ifCond .ne 8, 3) := dk_154 0 8 (dk_at dksX2_sees_9 18 rfl rfl)
theorem dX2_sees_232 : decode cX2_sees 232 = .ok (.bipush (-2), 2) := dk_16 254 (dk_at dksX2_sees_9 21 rfl rfl)
theorem dX2_sees_234 : decode cX2_sees 234 = .ok (.goto 11, 3) := dk_167 0 11 (dk_at dksX2_sees_10 0 rfl rfl)
theorem dX2_sees_237 : decode cX2_sees 237 = .ok (.iload 5, 2) := dk_21 5 (dk_at dksX2_sees_10 3 rfl rfl)
theorem dX2_sees_239 : decode cX2_sees 239 = .ok (.invokestatic 105, 3) := dk_184 0 105 (dk_at dksX2_sees_10 5 rfl rfl)
theorem dX2_sees_242 : decode cX2_sees 242 = .ok (.invokestatic 111, 3) := dk_184 0 111 (dk_at dksX2_sees_10 8 rfl rfl)
theorem dX2_sees_245 : decode cX2_sees 245 = .ok (.iastore, 1) := dk_79 (dk_at dksX2_sees_10 11 rfl rfl)
theorem dX2_sees_246 : decode cX2_sees 246 = .ok (.return_, 1) := dk_177 (dk_at dksX2_sees_10 12 rfl rfl)
abbrev cX2_winners : ByteArray := prog_10_method_8_code
def yX2_winners : MethodName := ⟨RX2, "winners", "(I)I"⟩
def dkwX2_winners_2 : List UInt8 := [128, 61, 132, 3, 1, 167, 255, 208, 28, 172]
abbrev dktX2_winners_2 : List UInt8 := dkwX2_winners_2 ++ []
def dkwX2_winners_1 : List UInt8 := [153, 0, 26, 42, 180, 0, 28, 17, 1, 145, 29, 104, 27, 96, 46, 16, 254, 160, 0, 9, 28, 4, 29, 120]
abbrev dktX2_winners_1 : List UInt8 := dkwX2_winners_1 ++ dktX2_winners_2
def dkwX2_winners_0 : List UInt8 := [3, 61, 3, 62, 29, 42, 180, 0, 47, 182, 0, 67, 162, 0, 43, 42, 180, 0, 51, 29, 184, 0, 71]
abbrev dktX2_winners_0 : List UInt8 := dkwX2_winners_0 ++ dktX2_winners_1
theorem dksX2_winners_0 : cX2_winners.data.toList.drop 0 = dktX2_winners_0 := by decide +kernel
theorem dksX2_winners_1 : cX2_winners.data.toList.drop 23 = dktX2_winners_1 := dk_seg dksX2_winners_0 23 rfl rfl
theorem dksX2_winners_2 : cX2_winners.data.toList.drop 47 = dktX2_winners_2 := dk_seg dksX2_winners_1 24 rfl rfl
theorem dX2_winners_0 : decode cX2_winners 0 = .ok (.iconst 0, 1) := dk_3 (dk_at dksX2_winners_0 0 rfl rfl)
theorem dX2_winners_1 : decode cX2_winners 1 = .ok (.istore_n 2, 1) := dk_61 (dk_at dksX2_winners_0 1 rfl rfl)
theorem dX2_winners_2 : decode cX2_winners 2 = .ok (.iconst 0, 1) := dk_3 (dk_at dksX2_winners_0 2 rfl rfl)
theorem dX2_winners_3 : decode cX2_winners 3 = .ok (.istore_n 3, 1) := dk_62 (dk_at dksX2_winners_0 3 rfl rfl)
theorem dX2_winners_4 : decode cX2_winners 4 = .ok (.iload_n 3, 1) := dk_29 (dk_at dksX2_winners_0 4 rfl rfl)
theorem dX2_winners_5 : decode cX2_winners 5 = .ok (.aload_n 0, 1) := dk_42 (dk_at dksX2_winners_0 5 rfl rfl)
theorem dX2_winners_6 : decode cX2_winners 6 = .ok (.getfield 47, 3) := dk_180 0 47 (dk_at dksX2_winners_0 6 rfl rfl)
theorem dX2_winners_9 : decode cX2_winners 9 = .ok (.invokevirtual 67, 3) := dk_182 0 67 (dk_at dksX2_winners_0 9 rfl rfl)
theorem dX2_winners_12 : decode cX2_winners 12 = .ok (.if_icmp .ge 43, 3) := dk_162 0 43 (dk_at dksX2_winners_0 12 rfl rfl)
theorem dX2_winners_15 : decode cX2_winners 15 = .ok (.aload_n 0, 1) := dk_42 (dk_at dksX2_winners_0 15 rfl rfl)
theorem dX2_winners_16 : decode cX2_winners 16 = .ok (.getfield 51, 3) := dk_180 0 51 (dk_at dksX2_winners_0 16 rfl rfl)
theorem dX2_winners_19 : decode cX2_winners 19 = .ok (.iload_n 3, 1) := dk_29 (dk_at dksX2_winners_0 19 rfl rfl)
theorem dX2_winners_20 : decode cX2_winners 20 = .ok (.invokestatic 71, 3) := dk_184 0 71 (dk_at dksX2_winners_0 20 rfl rfl)
theorem dX2_winners_23 : decode cX2_winners 23 = .ok (.ifCond .eq 26, 3) := dk_153 0 26 (dk_at dksX2_winners_1 0 rfl rfl)
theorem dX2_winners_26 : decode cX2_winners 26 = .ok (.aload_n 0, 1) := dk_42 (dk_at dksX2_winners_1 3 rfl rfl)
theorem dX2_winners_27 : decode cX2_winners 27 = .ok (.getfield 28, 3) := dk_180 0 28 (dk_at dksX2_winners_1 4 rfl rfl)
theorem dX2_winners_30 : decode cX2_winners 30 = .ok (.sipush 401, 3) := dk_17 1 145 (dk_at dksX2_winners_1 7 rfl rfl)
theorem dX2_winners_33 : decode cX2_winners 33 = .ok (.iload_n 3, 1) := dk_29 (dk_at dksX2_winners_1 10 rfl rfl)
theorem dX2_winners_34 : decode cX2_winners 34 = .ok (.imul, 1) := dk_104 (dk_at dksX2_winners_1 11 rfl rfl)
theorem dX2_winners_35 : decode cX2_winners 35 = .ok (.iload_n 1, 1) := dk_27 (dk_at dksX2_winners_1 12 rfl rfl)
theorem dX2_winners_36 : decode cX2_winners 36 = .ok (.iadd, 1) := dk_96 (dk_at dksX2_winners_1 13 rfl rfl)
theorem dX2_winners_37 : decode cX2_winners 37 = .ok (.iaload, 1) := dk_46 (dk_at dksX2_winners_1 14 rfl rfl)
theorem dX2_winners_38 : decode cX2_winners 38 = .ok (.bipush (-2), 2) := dk_16 254 (dk_at dksX2_winners_1 15 rfl rfl)
theorem dX2_winners_40 : decode cX2_winners 40 = .ok (.if_icmp .ne 9, 3) := dk_160 0 9 (dk_at dksX2_winners_1 17 rfl rfl)
theorem dX2_winners_43 : decode cX2_winners 43 = .ok (.iload_n 2, 1) := dk_28 (dk_at dksX2_winners_1 20 rfl rfl)
theorem dX2_winners_44 : decode cX2_winners 44 = .ok (.iconst 1, 1) := dk_4 (dk_at dksX2_winners_1 21 rfl rfl)
theorem dX2_winners_45 : decode cX2_winners 45 = .ok (.iload_n 3, 1) := dk_29 (dk_at dksX2_winners_1 22 rfl rfl)
theorem dX2_winners_46 : decode cX2_winners 46 = .ok (.ishl, 1) := dk_120 (dk_at dksX2_winners_1 23 rfl rfl)
theorem dX2_winners_47 : decode cX2_winners 47 = .ok (.ior, 1) := dk_128 (dk_at dksX2_winners_2 0 rfl rfl)
theorem dX2_winners_48 : decode cX2_winners 48 = .ok (.istore_n 2, 1) := dk_61 (dk_at dksX2_winners_2 1 rfl rfl)
theorem dX2_winners_49 : decode cX2_winners 49 = .ok (.iinc 3 1, 3) := dk_132 3 1 (dk_at dksX2_winners_2 2 rfl rfl)
theorem dX2_winners_52 : decode cX2_winners 52 = .ok (.goto (-48), 3) := dk_167 255 208 (dk_at dksX2_winners_2 5 rfl rfl)
theorem dX2_winners_55 : decode cX2_winners 55 = .ok (.iload_n 2, 1) := dk_28 (dk_at dksX2_winners_2 8 rfl rfl)
theorem dX2_winners_56 : decode cX2_winners 56 = .ok (.ireturn, 1) := dk_172 (dk_at dksX2_winners_2 9 rfl rfl)
abbrev cX2_settles : ByteArray := prog_10_method_10_code
def yX2_settles : MethodName := ⟨RX2, "settles", "()I"⟩
def dkwX2_settles_2 : List UInt8 := [46, 159, 0, 5, 27, 172, 132, 2, 1, 167, 255, 211, 132, 1, 255, 167, 255, 199, 3, 172]
abbrev dktX2_settles_2 : List UInt8 := dkwX2_settles_2 ++ []
def dkwX2_settles_1 : List UInt8 := [180, 0, 19, 17, 1, 145, 28, 104, 27, 96, 46, 42, 180, 0, 19, 17, 1, 145, 28, 104, 27, 96, 4, 100]
abbrev dktX2_settles_1 : List UInt8 := dkwX2_settles_1 ++ dktX2_settles_2
def dkwX2_settles_0 : List UInt8 := [42, 180, 0, 54, 60, 27, 158, 0, 59, 3, 61, 28, 42, 180, 0, 47, 182, 0, 67, 162, 0, 40, 42]
abbrev dktX2_settles_0 : List UInt8 := dkwX2_settles_0 ++ dktX2_settles_1
theorem dksX2_settles_0 : cX2_settles.data.toList.drop 0 = dktX2_settles_0 := by decide +kernel
theorem dksX2_settles_1 : cX2_settles.data.toList.drop 23 = dktX2_settles_1 := dk_seg dksX2_settles_0 23 rfl rfl
theorem dksX2_settles_2 : cX2_settles.data.toList.drop 47 = dktX2_settles_2 := dk_seg dksX2_settles_1 24 rfl rfl
theorem dX2_settles_0 : decode cX2_settles 0 = .ok (.aload_n 0, 1) := dk_42 (dk_at dksX2_settles_0 0 rfl rfl)
theorem dX2_settles_1 : decode cX2_settles 1 = .ok (.getfield 54, 3) := dk_180 0 54 (dk_at dksX2_settles_0 1 rfl rfl)
theorem dX2_settles_4 : decode cX2_settles 4 = .ok (.istore_n 1, 1) := dk_60 (dk_at dksX2_settles_0 4 rfl rfl)
theorem dX2_settles_5 : decode cX2_settles 5 = .ok (.iload_n 1, 1) := dk_27 (dk_at dksX2_settles_0 5 rfl rfl)
theorem dX2_settles_6 : decode cX2_settles 6 = .ok (.ifCond .le 59, 3) := dk_158 0 59 (dk_at dksX2_settles_0 6 rfl rfl)
theorem dX2_settles_9 : decode cX2_settles 9 = .ok (.iconst 0, 1) := dk_3 (dk_at dksX2_settles_0 9 rfl rfl)
theorem dX2_settles_10 : decode cX2_settles 10 = .ok (.istore_n 2, 1) := dk_61 (dk_at dksX2_settles_0 10 rfl rfl)
theorem dX2_settles_11 : decode cX2_settles 11 = .ok (.iload_n 2, 1) := dk_28 (dk_at dksX2_settles_0 11 rfl rfl)
theorem dX2_settles_12 : decode cX2_settles 12 = .ok (.aload_n 0, 1) := dk_42 (dk_at dksX2_settles_0 12 rfl rfl)
theorem dX2_settles_13 : decode cX2_settles 13 = .ok (.getfield 47, 3) := dk_180 0 47 (dk_at dksX2_settles_0 13 rfl rfl)
theorem dX2_settles_16 : decode cX2_settles 16 = .ok (.invokevirtual 67, 3) := dk_182 0 67 (dk_at dksX2_settles_0 16 rfl rfl)
theorem dX2_settles_19 : decode cX2_settles 19 = .ok (.if_icmp .ge 40, 3) := dk_162 0 40 (dk_at dksX2_settles_0 19 rfl rfl)
theorem dX2_settles_22 : decode cX2_settles 22 = .ok (.aload_n 0, 1) := dk_42 (dk_at dksX2_settles_0 22 rfl rfl)
theorem dX2_settles_23 : decode cX2_settles 23 = .ok (.getfield 19, 3) := dk_180 0 19 (dk_at dksX2_settles_1 0 rfl rfl)
theorem dX2_settles_26 : decode cX2_settles 26 = .ok (.sipush 401, 3) := dk_17 1 145 (dk_at dksX2_settles_1 3 rfl rfl)
theorem dX2_settles_29 : decode cX2_settles 29 = .ok (.iload_n 2, 1) := dk_28 (dk_at dksX2_settles_1 6 rfl rfl)
theorem dX2_settles_30 : decode cX2_settles 30 = .ok (.imul, 1) := dk_104 (dk_at dksX2_settles_1 7 rfl rfl)
theorem dX2_settles_31 : decode cX2_settles 31 = .ok (.iload_n 1, 1) := dk_27 (dk_at dksX2_settles_1 8 rfl rfl)
theorem dX2_settles_32 : decode cX2_settles 32 = .ok (.iadd, 1) := dk_96 (dk_at dksX2_settles_1 9 rfl rfl)
theorem dX2_settles_33 : decode cX2_settles 33 = .ok (.iaload, 1) := dk_46 (dk_at dksX2_settles_1 10 rfl rfl)
theorem dX2_settles_34 : decode cX2_settles 34 = .ok (.aload_n 0, 1) := dk_42 (dk_at dksX2_settles_1 11 rfl rfl)
theorem dX2_settles_35 : decode cX2_settles 35 = .ok (.getfield 19, 3) := dk_180 0 19 (dk_at dksX2_settles_1 12 rfl rfl)
theorem dX2_settles_38 : decode cX2_settles 38 = .ok (.sipush 401, 3) := dk_17 1 145 (dk_at dksX2_settles_1 15 rfl rfl)
theorem dX2_settles_41 : decode cX2_settles 41 = .ok (.iload_n 2, 1) := dk_28 (dk_at dksX2_settles_1 18 rfl rfl)
theorem dX2_settles_42 : decode cX2_settles 42 = .ok (.imul, 1) := dk_104 (dk_at dksX2_settles_1 19 rfl rfl)
theorem dX2_settles_43 : decode cX2_settles 43 = .ok (.iload_n 1, 1) := dk_27 (dk_at dksX2_settles_1 20 rfl rfl)
theorem dX2_settles_44 : decode cX2_settles 44 = .ok (.iadd, 1) := dk_96 (dk_at dksX2_settles_1 21 rfl rfl)
theorem dX2_settles_45 : decode cX2_settles 45 = .ok (.iconst 1, 1) := dk_4 (dk_at dksX2_settles_1 22 rfl rfl)
theorem dX2_settles_46 : decode cX2_settles 46 = .ok (.isub, 1) := dk_100 (dk_at dksX2_settles_1 23 rfl rfl)
theorem dX2_settles_47 : decode cX2_settles 47 = .ok (.iaload, 1) := dk_46 (dk_at dksX2_settles_2 0 rfl rfl)
theorem dX2_settles_48 : decode cX2_settles 48 = .ok (.if_icmp .eq 5, 3) := dk_159 0 5 (dk_at dksX2_settles_2 1 rfl rfl)
theorem dX2_settles_51 : decode cX2_settles 51 = .ok (.iload_n 1, 1) := dk_27 (dk_at dksX2_settles_2 4 rfl rfl)
theorem dX2_settles_52 : decode cX2_settles 52 = .ok (.ireturn, 1) := dk_172 (dk_at dksX2_settles_2 5 rfl rfl)
theorem dX2_settles_53 : decode cX2_settles 53 = .ok (.iinc 2 1, 3) := dk_132 2 1 (dk_at dksX2_settles_2 6 rfl rfl)
theorem dX2_settles_56 : decode cX2_settles 56 = .ok (.goto (-45), 3) := dk_167 255 211 (dk_at dksX2_settles_2 9 rfl rfl)
theorem dX2_settles_59 : decode cX2_settles 59 = .ok (.iinc 1 (-1), 3) := dk_132 1 255 (dk_at dksX2_settles_2 12 rfl rfl)
theorem dX2_settles_62 : decode cX2_settles 62 = .ok (.goto (-57), 3) := dk_167 255 199 (dk_at dksX2_settles_2 15 rfl rfl)
theorem dX2_settles_65 : decode cX2_settles 65 = .ok (.iconst 0, 1) := dk_3 (dk_at dksX2_settles_2 18 rfl rfl)
theorem dX2_settles_66 : decode cX2_settles 66 = .ok (.ireturn, 1) := dk_172 (dk_at dksX2_settles_2 19 rfl rfl)
abbrev cX2_sure : ByteArray := prog_10_method_11_code
def yX2_sure : MethodName := ⟨RX2, "sure", "()I"⟩
def dkwX2_sure_1 : List UInt8 := [61, 28, 158, 0, 20, 42, 28, 4, 100, 182, 0, 117, 27, 160, 0, 9, 132, 2, 255, 167, 255, 238, 28, 172]
abbrev dktX2_sure_1 : List UInt8 := dkwX2_sure_1 ++ []
def dkwX2_sure_0 : List UInt8 := [42, 182, 0, 114, 60, 42, 42, 180, 0, 54, 182, 0, 117, 27, 159, 0, 6, 16, 254, 172, 42, 180, 0, 54]
abbrev dktX2_sure_0 : List UInt8 := dkwX2_sure_0 ++ dktX2_sure_1
theorem dksX2_sure_0 : cX2_sure.data.toList.drop 0 = dktX2_sure_0 := by decide +kernel
theorem dksX2_sure_1 : cX2_sure.data.toList.drop 24 = dktX2_sure_1 := dk_seg dksX2_sure_0 24 rfl rfl
theorem dX2_sure_0 : decode cX2_sure 0 = .ok (.aload_n 0, 1) := dk_42 (dk_at dksX2_sure_0 0 rfl rfl)
theorem dX2_sure_1 : decode cX2_sure 1 = .ok (.invokevirtual 114, 3) := dk_182 0 114 (dk_at dksX2_sure_0 1 rfl rfl)
theorem dX2_sure_4 : decode cX2_sure 4 = .ok (.istore_n 1, 1) := dk_60 (dk_at dksX2_sure_0 4 rfl rfl)
theorem dX2_sure_5 : decode cX2_sure 5 = .ok (.aload_n 0, 1) := dk_42 (dk_at dksX2_sure_0 5 rfl rfl)
theorem dX2_sure_6 : decode cX2_sure 6 = .ok (.aload_n 0, 1) := dk_42 (dk_at dksX2_sure_0 6 rfl rfl)
theorem dX2_sure_7 : decode cX2_sure 7 = .ok (.getfield 54, 3) := dk_180 0 54 (dk_at dksX2_sure_0 7 rfl rfl)
theorem dX2_sure_10 : decode cX2_sure 10 = .ok (.invokevirtual 117, 3) := dk_182 0 117 (dk_at dksX2_sure_0 10 rfl rfl)
theorem dX2_sure_13 : decode cX2_sure 13 = .ok (.iload_n 1, 1) := dk_27 (dk_at dksX2_sure_0 13 rfl rfl)
theorem dX2_sure_14 : decode cX2_sure 14 = .ok (.if_icmp .eq 6, 3) := dk_159 0 6 (dk_at dksX2_sure_0 14 rfl rfl)
theorem dX2_sure_17 : decode cX2_sure 17 = .ok (.bipush (-2), 2) := dk_16 254 (dk_at dksX2_sure_0 17 rfl rfl)
theorem dX2_sure_19 : decode cX2_sure 19 = .ok (.ireturn, 1) := dk_172 (dk_at dksX2_sure_0 19 rfl rfl)
theorem dX2_sure_20 : decode cX2_sure 20 = .ok (.aload_n 0, 1) := dk_42 (dk_at dksX2_sure_0 20 rfl rfl)
theorem dX2_sure_21 : decode cX2_sure 21 = .ok (.getfield 54, 3) := dk_180 0 54 (dk_at dksX2_sure_0 21 rfl rfl)
theorem dX2_sure_24 : decode cX2_sure 24 = .ok (.istore_n 2, 1) := dk_61 (dk_at dksX2_sure_1 0 rfl rfl)
theorem dX2_sure_25 : decode cX2_sure 25 = .ok (.iload_n 2, 1) := dk_28 (dk_at dksX2_sure_1 1 rfl rfl)
theorem dX2_sure_26 : decode cX2_sure 26 = .ok (.ifCond .le 20, 3) := dk_158 0 20 (dk_at dksX2_sure_1 2 rfl rfl)
theorem dX2_sure_29 : decode cX2_sure 29 = .ok (.aload_n 0, 1) := dk_42 (dk_at dksX2_sure_1 5 rfl rfl)
theorem dX2_sure_30 : decode cX2_sure 30 = .ok (.iload_n 2, 1) := dk_28 (dk_at dksX2_sure_1 6 rfl rfl)
theorem dX2_sure_31 : decode cX2_sure 31 = .ok (.iconst 1, 1) := dk_4 (dk_at dksX2_sure_1 7 rfl rfl)
theorem dX2_sure_32 : decode cX2_sure 32 = .ok (.isub, 1) := dk_100 (dk_at dksX2_sure_1 8 rfl rfl)
theorem dX2_sure_33 : decode cX2_sure 33 = .ok (.invokevirtual 117, 3) := dk_182 0 117 (dk_at dksX2_sure_1 9 rfl rfl)
theorem dX2_sure_36 : decode cX2_sure 36 = .ok (.iload_n 1, 1) := dk_27 (dk_at dksX2_sure_1 12 rfl rfl)
theorem dX2_sure_37 : decode cX2_sure 37 = .ok (.if_icmp .ne 9, 3) := dk_160 0 9 (dk_at dksX2_sure_1 13 rfl rfl)
theorem dX2_sure_40 : decode cX2_sure 40 = .ok (.iinc 2 (-1), 3) := dk_132 2 255 (dk_at dksX2_sure_1 16 rfl rfl)
theorem dX2_sure_43 : decode cX2_sure 43 = .ok (.goto (-18), 3) := dk_167 255 238 (dk_at dksX2_sure_1 19 rfl rfl)
theorem dX2_sure_46 : decode cX2_sure 46 = .ok (.iload_n 2, 1) := dk_28 (dk_at dksX2_sure_1 22 rfl rfl)
theorem dX2_sure_47 : decode cX2_sure 47 = .ok (.ireturn, 1) := dk_172 (dk_at dksX2_sure_1 23 rfl rfl)
abbrev cX2_right : ByteArray := prog_10_method_9_code
def yX2_right : MethodName := ⟨RX2, "right", "()I"⟩
def dkwX2_right_3 : List UInt8 := [167, 255, 193, 28, 172]
abbrev dktX2_right_3 : List UInt8 := dkwX2_right_3 ++ []
def dkwX2_right_2 : List UInt8 := [46, 27, 164, 0, 5, 3, 61, 28, 4, 29, 120, 128, 61, 42, 180, 0, 15, 29, 46, 60, 132, 3, 1]
abbrev dktX2_right_2 : List UInt8 := dkwX2_right_2 ++ dktX2_right_3
def dkwX2_right_1 : List UInt8 := [184, 0, 71, 153, 0, 41, 42, 180, 0, 15, 29, 46, 27, 162, 0, 6, 167, 0, 28, 42, 180, 0, 15, 29]
abbrev dktX2_right_1 : List UInt8 := dkwX2_right_1 ++ dktX2_right_2
def dkwX2_right_0 : List UInt8 := [3, 60, 3, 61, 3, 62, 29, 42, 180, 0, 47, 182, 0, 67, 162, 0, 58, 42, 180, 0, 51, 29]
abbrev dktX2_right_0 : List UInt8 := dkwX2_right_0 ++ dktX2_right_1
theorem dksX2_right_0 : cX2_right.data.toList.drop 0 = dktX2_right_0 := by decide +kernel
theorem dksX2_right_1 : cX2_right.data.toList.drop 22 = dktX2_right_1 := dk_seg dksX2_right_0 22 rfl rfl
theorem dksX2_right_2 : cX2_right.data.toList.drop 46 = dktX2_right_2 := dk_seg dksX2_right_1 24 rfl rfl
theorem dksX2_right_3 : cX2_right.data.toList.drop 69 = dktX2_right_3 := dk_seg dksX2_right_2 23 rfl rfl
theorem dX2_right_0 : decode cX2_right 0 = .ok (.iconst 0, 1) := dk_3 (dk_at dksX2_right_0 0 rfl rfl)
theorem dX2_right_1 : decode cX2_right 1 = .ok (.istore_n 1, 1) := dk_60 (dk_at dksX2_right_0 1 rfl rfl)
theorem dX2_right_2 : decode cX2_right 2 = .ok (.iconst 0, 1) := dk_3 (dk_at dksX2_right_0 2 rfl rfl)
theorem dX2_right_3 : decode cX2_right 3 = .ok (.istore_n 2, 1) := dk_61 (dk_at dksX2_right_0 3 rfl rfl)
theorem dX2_right_4 : decode cX2_right 4 = .ok (.iconst 0, 1) := dk_3 (dk_at dksX2_right_0 4 rfl rfl)
theorem dX2_right_5 : decode cX2_right 5 = .ok (.istore_n 3, 1) := dk_62 (dk_at dksX2_right_0 5 rfl rfl)
theorem dX2_right_6 : decode cX2_right 6 = .ok (.iload_n 3, 1) := dk_29 (dk_at dksX2_right_0 6 rfl rfl)
theorem dX2_right_7 : decode cX2_right 7 = .ok (.aload_n 0, 1) := dk_42 (dk_at dksX2_right_0 7 rfl rfl)
theorem dX2_right_8 : decode cX2_right 8 = .ok (.getfield 47, 3) := dk_180 0 47 (dk_at dksX2_right_0 8 rfl rfl)
theorem dX2_right_11 : decode cX2_right 11 = .ok (.invokevirtual 67, 3) := dk_182 0 67 (dk_at dksX2_right_0 11 rfl rfl)
theorem dX2_right_14 : decode cX2_right 14 = .ok (.if_icmp .ge 58, 3) := dk_162 0 58 (dk_at dksX2_right_0 14 rfl rfl)
theorem dX2_right_17 : decode cX2_right 17 = .ok (.aload_n 0, 1) := dk_42 (dk_at dksX2_right_0 17 rfl rfl)
theorem dX2_right_18 : decode cX2_right 18 = .ok (.getfield 51, 3) := dk_180 0 51 (dk_at dksX2_right_0 18 rfl rfl)
theorem dX2_right_21 : decode cX2_right 21 = .ok (.iload_n 3, 1) := dk_29 (dk_at dksX2_right_0 21 rfl rfl)
theorem dX2_right_22 : decode cX2_right 22 = .ok (.invokestatic 71, 3) := dk_184 0 71 (dk_at dksX2_right_1 0 rfl rfl)
theorem dX2_right_25 : decode cX2_right 25 = .ok (.ifCond .eq 41, 3) := dk_153 0 41 (dk_at dksX2_right_1 3 rfl rfl)
theorem dX2_right_28 : decode cX2_right 28 = .ok (.aload_n 0, 1) := dk_42 (dk_at dksX2_right_1 6 rfl rfl)
theorem dX2_right_29 : decode cX2_right 29 = .ok (.getfield 15, 3) := dk_180 0 15 (dk_at dksX2_right_1 7 rfl rfl)
theorem dX2_right_32 : decode cX2_right 32 = .ok (.iload_n 3, 1) := dk_29 (dk_at dksX2_right_1 10 rfl rfl)
theorem dX2_right_33 : decode cX2_right 33 = .ok (.iaload, 1) := dk_46 (dk_at dksX2_right_1 11 rfl rfl)
theorem dX2_right_34 : decode cX2_right 34 = .ok (.iload_n 1, 1) := dk_27 (dk_at dksX2_right_1 12 rfl rfl)
theorem dX2_right_35 : decode cX2_right 35 = .ok (.if_icmp .ge 6, 3) := dk_162 0 6 (dk_at dksX2_right_1 13 rfl rfl)
theorem dX2_right_38 : decode cX2_right 38 = .ok (.goto 28, 3) := dk_167 0 28 (dk_at dksX2_right_1 16 rfl rfl)
theorem dX2_right_41 : decode cX2_right 41 = .ok (.aload_n 0, 1) := dk_42 (dk_at dksX2_right_1 19 rfl rfl)
theorem dX2_right_42 : decode cX2_right 42 = .ok (.getfield 15, 3) := dk_180 0 15 (dk_at dksX2_right_1 20 rfl rfl)
theorem dX2_right_45 : decode cX2_right 45 = .ok (.iload_n 3, 1) := dk_29 (dk_at dksX2_right_1 23 rfl rfl)
theorem dX2_right_46 : decode cX2_right 46 = .ok (.iaload, 1) := dk_46 (dk_at dksX2_right_2 0 rfl rfl)
theorem dX2_right_47 : decode cX2_right 47 = .ok (.iload_n 1, 1) := dk_27 (dk_at dksX2_right_2 1 rfl rfl)
theorem dX2_right_48 : decode cX2_right 48 = .ok (.if_icmp .le 5, 3) := dk_164 0 5 (dk_at dksX2_right_2 2 rfl rfl)
theorem dX2_right_51 : decode cX2_right 51 = .ok (.iconst 0, 1) := dk_3 (dk_at dksX2_right_2 5 rfl rfl)
theorem dX2_right_52 : decode cX2_right 52 = .ok (.istore_n 2, 1) := dk_61 (dk_at dksX2_right_2 6 rfl rfl)
theorem dX2_right_53 : decode cX2_right 53 = .ok (.iload_n 2, 1) := dk_28 (dk_at dksX2_right_2 7 rfl rfl)
theorem dX2_right_54 : decode cX2_right 54 = .ok (.iconst 1, 1) := dk_4 (dk_at dksX2_right_2 8 rfl rfl)
theorem dX2_right_55 : decode cX2_right 55 = .ok (.iload_n 3, 1) := dk_29 (dk_at dksX2_right_2 9 rfl rfl)
theorem dX2_right_56 : decode cX2_right 56 = .ok (.ishl, 1) := dk_120 (dk_at dksX2_right_2 10 rfl rfl)
theorem dX2_right_57 : decode cX2_right 57 = .ok (.ior, 1) := dk_128 (dk_at dksX2_right_2 11 rfl rfl)
theorem dX2_right_58 : decode cX2_right 58 = .ok (.istore_n 2, 1) := dk_61 (dk_at dksX2_right_2 12 rfl rfl)
theorem dX2_right_59 : decode cX2_right 59 = .ok (.aload_n 0, 1) := dk_42 (dk_at dksX2_right_2 13 rfl rfl)
theorem dX2_right_60 : decode cX2_right 60 = .ok (.getfield 15, 3) := dk_180 0 15 (dk_at dksX2_right_2 14 rfl rfl)
theorem dX2_right_63 : decode cX2_right 63 = .ok (.iload_n 3, 1) := dk_29 (dk_at dksX2_right_2 17 rfl rfl)
theorem dX2_right_64 : decode cX2_right 64 = .ok (.iaload, 1) := dk_46 (dk_at dksX2_right_2 18 rfl rfl)
theorem dX2_right_65 : decode cX2_right 65 = .ok (.istore_n 1, 1) := dk_60 (dk_at dksX2_right_2 19 rfl rfl)
theorem dX2_right_66 : decode cX2_right 66 = .ok (.iinc 3 1, 3) := dk_132 3 1 (dk_at dksX2_right_2 20 rfl rfl)
theorem dX2_right_69 : decode cX2_right 69 = .ok (.goto (-63), 3) := dk_167 255 193 (dk_at dksX2_right_3 0 rfl rfl)
theorem dX2_right_72 : decode cX2_right 72 = .ok (.iload_n 2, 1) := dk_28 (dk_at dksX2_right_3 3 rfl rfl)
theorem dX2_right_73 : decode cX2_right 73 = .ok (.ireturn, 1) := dk_172 (dk_at dksX2_right_3 4 rfl rfl)
abbrev cX2_isFaulty : ByteArray := prog_10_method_13_code
def yX2_isFaulty : MethodName := ⟨RX2, "isFaulty", "(I)Z"⟩
def dkwX2_isFaulty_1 : List UInt8 := [46, 184, 0, 120, 5, 112, 154, 0, 5, 4, 172, 132, 2, 1, 167, 255, 220, 3, 172]
abbrev dktX2_isFaulty_1 : List UInt8 := dkwX2_isFaulty_1 ++ []
def dkwX2_isFaulty_0 : List UInt8 := [3, 61, 28, 42, 180, 0, 47, 182, 0, 67, 162, 0, 31, 42, 180, 0, 25, 17, 1, 145, 28, 104, 27, 96]
abbrev dktX2_isFaulty_0 : List UInt8 := dkwX2_isFaulty_0 ++ dktX2_isFaulty_1
theorem dksX2_isFaulty_0 : cX2_isFaulty.data.toList.drop 0 = dktX2_isFaulty_0 := by decide +kernel
theorem dksX2_isFaulty_1 : cX2_isFaulty.data.toList.drop 24 = dktX2_isFaulty_1 := dk_seg dksX2_isFaulty_0 24 rfl rfl
theorem dX2_isFaulty_0 : decode cX2_isFaulty 0 = .ok (.iconst 0, 1) := dk_3 (dk_at dksX2_isFaulty_0 0 rfl rfl)
theorem dX2_isFaulty_1 : decode cX2_isFaulty 1 = .ok (.istore_n 2, 1) := dk_61 (dk_at dksX2_isFaulty_0 1 rfl rfl)
theorem dX2_isFaulty_2 : decode cX2_isFaulty 2 = .ok (.iload_n 2, 1) := dk_28 (dk_at dksX2_isFaulty_0 2 rfl rfl)
theorem dX2_isFaulty_3 : decode cX2_isFaulty 3 = .ok (.aload_n 0, 1) := dk_42 (dk_at dksX2_isFaulty_0 3 rfl rfl)
theorem dX2_isFaulty_4 : decode cX2_isFaulty 4 = .ok (.getfield 47, 3) := dk_180 0 47 (dk_at dksX2_isFaulty_0 4 rfl rfl)
theorem dX2_isFaulty_7 : decode cX2_isFaulty 7 = .ok (.invokevirtual 67, 3) := dk_182 0 67 (dk_at dksX2_isFaulty_0 7 rfl rfl)
theorem dX2_isFaulty_10 : decode cX2_isFaulty 10 = .ok (.if_icmp .ge 31, 3) := dk_162 0 31 (dk_at dksX2_isFaulty_0 10 rfl rfl)
theorem dX2_isFaulty_13 : decode cX2_isFaulty 13 = .ok (.aload_n 0, 1) := dk_42 (dk_at dksX2_isFaulty_0 13 rfl rfl)
theorem dX2_isFaulty_14 : decode cX2_isFaulty 14 = .ok (.getfield 25, 3) := dk_180 0 25 (dk_at dksX2_isFaulty_0 14 rfl rfl)
theorem dX2_isFaulty_17 : decode cX2_isFaulty 17 = .ok (.sipush 401, 3) := dk_17 1 145 (dk_at dksX2_isFaulty_0 17 rfl rfl)
theorem dX2_isFaulty_20 : decode cX2_isFaulty 20 = .ok (.iload_n 2, 1) := dk_28 (dk_at dksX2_isFaulty_0 20 rfl rfl)
theorem dX2_isFaulty_21 : decode cX2_isFaulty 21 = .ok (.imul, 1) := dk_104 (dk_at dksX2_isFaulty_0 21 rfl rfl)
theorem dX2_isFaulty_22 : decode cX2_isFaulty 22 = .ok (.iload_n 1, 1) := dk_27 (dk_at dksX2_isFaulty_0 22 rfl rfl)
theorem dX2_isFaulty_23 : decode cX2_isFaulty 23 = .ok (.iadd, 1) := dk_96 (dk_at dksX2_isFaulty_0 23 rfl rfl)
theorem dX2_isFaulty_24 : decode cX2_isFaulty 24 = .ok (.iaload, 1) := dk_46 (dk_at dksX2_isFaulty_1 0 rfl rfl)
theorem dX2_isFaulty_25 : decode cX2_isFaulty 25 = .ok (.invokestatic 120, 3) := dk_184 0 120 (dk_at dksX2_isFaulty_1 1 rfl rfl)
theorem dX2_isFaulty_28 : decode cX2_isFaulty 28 = .ok (.iconst 2, 1) := dk_5 (dk_at dksX2_isFaulty_1 4 rfl rfl)
theorem dX2_isFaulty_29 : decode cX2_isFaulty 29 = .ok (.irem, 1) := dk_112 (dk_at dksX2_isFaulty_1 5 rfl rfl)
theorem dX2_isFaulty_30 : decode cX2_isFaulty 30 = .ok (.ifCond .ne 5, 3) := dk_154 0 5 (dk_at dksX2_isFaulty_1 6 rfl rfl)
theorem dX2_isFaulty_33 : decode cX2_isFaulty 33 = .ok (.iconst 1, 1) := dk_4 (dk_at dksX2_isFaulty_1 9 rfl rfl)
theorem dX2_isFaulty_34 : decode cX2_isFaulty 34 = .ok (.ireturn, 1) := dk_172 (dk_at dksX2_isFaulty_1 10 rfl rfl)
theorem dX2_isFaulty_35 : decode cX2_isFaulty 35 = .ok (.iinc 2 1, 3) := dk_132 2 1 (dk_at dksX2_isFaulty_1 11 rfl rfl)
theorem dX2_isFaulty_38 : decode cX2_isFaulty 38 = .ok (.goto (-36), 3) := dk_167 255 220 (dk_at dksX2_isFaulty_1 14 rfl rfl)
theorem dX2_isFaulty_41 : decode cX2_isFaulty 41 = .ok (.iconst 0, 1) := dk_3 (dk_at dksX2_isFaulty_1 17 rfl rfl)
theorem dX2_isFaulty_42 : decode cX2_isFaulty 42 = .ok (.ireturn, 1) := dk_172 (dk_at dksX2_isFaulty_1 18 rfl rfl)
abbrev cX2_edges : ByteArray := prog_10_method_12_code
def yX2_edges : MethodName := ⟨RX2, "edges", "(II)I"⟩
def dkwX2_edges_2 : List UInt8 := [184, 0, 71, 159, 0, 6, 132, 3, 1, 132, 4, 1, 167, 255, 202, 29, 172]
abbrev dktX2_edges_2 : List UInt8 := dkwX2_edges_2 ++ []
def dkwX2_edges_1 : List UInt8 := [21, 4, 96, 46, 28, 184, 0, 71, 42, 180, 0, 22, 17, 1, 145, 27, 104, 21, 4, 96, 4, 100, 46, 28]
abbrev dktX2_edges_1 : List UInt8 := dkwX2_edges_1 ++ dktX2_edges_2
def dkwX2_edges_0 : List UInt8 := [3, 62, 4, 54, 4, 21, 4, 42, 180, 0, 54, 163, 0, 51, 42, 180, 0, 22, 17, 1, 145, 27, 104]
abbrev dktX2_edges_0 : List UInt8 := dkwX2_edges_0 ++ dktX2_edges_1
theorem dksX2_edges_0 : cX2_edges.data.toList.drop 0 = dktX2_edges_0 := by decide +kernel
theorem dksX2_edges_1 : cX2_edges.data.toList.drop 23 = dktX2_edges_1 := dk_seg dksX2_edges_0 23 rfl rfl
theorem dksX2_edges_2 : cX2_edges.data.toList.drop 47 = dktX2_edges_2 := dk_seg dksX2_edges_1 24 rfl rfl
theorem dX2_edges_0 : decode cX2_edges 0 = .ok (.iconst 0, 1) := dk_3 (dk_at dksX2_edges_0 0 rfl rfl)
theorem dX2_edges_1 : decode cX2_edges 1 = .ok (.istore_n 3, 1) := dk_62 (dk_at dksX2_edges_0 1 rfl rfl)
theorem dX2_edges_2 : decode cX2_edges 2 = .ok (.iconst 1, 1) := dk_4 (dk_at dksX2_edges_0 2 rfl rfl)
theorem dX2_edges_3 : decode cX2_edges 3 = .ok (.istore 4, 2) := dk_54 4 (dk_at dksX2_edges_0 3 rfl rfl)
theorem dX2_edges_5 : decode cX2_edges 5 = .ok (.iload 4, 2) := dk_21 4 (dk_at dksX2_edges_0 5 rfl rfl)
theorem dX2_edges_7 : decode cX2_edges 7 = .ok (.aload_n 0, 1) := dk_42 (dk_at dksX2_edges_0 7 rfl rfl)
theorem dX2_edges_8 : decode cX2_edges 8 = .ok (.getfield 54, 3) := dk_180 0 54 (dk_at dksX2_edges_0 8 rfl rfl)
theorem dX2_edges_11 : decode cX2_edges 11 = .ok (.if_icmp .gt 51, 3) := dk_163 0 51 (dk_at dksX2_edges_0 11 rfl rfl)
theorem dX2_edges_14 : decode cX2_edges 14 = .ok (.aload_n 0, 1) := dk_42 (dk_at dksX2_edges_0 14 rfl rfl)
theorem dX2_edges_15 : decode cX2_edges 15 = .ok (.getfield 22, 3) := dk_180 0 22 (dk_at dksX2_edges_0 15 rfl rfl)
theorem dX2_edges_18 : decode cX2_edges 18 = .ok (.sipush 401, 3) := dk_17 1 145 (dk_at dksX2_edges_0 18 rfl rfl)
theorem dX2_edges_21 : decode cX2_edges 21 = .ok (.iload_n 1, 1) := dk_27 (dk_at dksX2_edges_0 21 rfl rfl)
theorem dX2_edges_22 : decode cX2_edges 22 = .ok (.imul, 1) := dk_104 (dk_at dksX2_edges_0 22 rfl rfl)
theorem dX2_edges_23 : decode cX2_edges 23 = .ok (.iload 4, 2) := dk_21 4 (dk_at dksX2_edges_1 0 rfl rfl)
theorem dX2_edges_25 : decode cX2_edges 25 = .ok (.iadd, 1) := dk_96 (dk_at dksX2_edges_1 2 rfl rfl)
theorem dX2_edges_26 : decode cX2_edges 26 = .ok (.iaload, 1) := dk_46 (dk_at dksX2_edges_1 3 rfl rfl)
theorem dX2_edges_27 : decode cX2_edges 27 = .ok (.iload_n 2, 1) := dk_28 (dk_at dksX2_edges_1 4 rfl rfl)
theorem dX2_edges_28 : decode cX2_edges 28 = .ok (.invokestatic 71, 3) := dk_184 0 71 (dk_at dksX2_edges_1 5 rfl rfl)
theorem dX2_edges_31 : decode cX2_edges 31 = .ok (.aload_n 0, 1) := dk_42 (dk_at dksX2_edges_1 8 rfl rfl)
theorem dX2_edges_32 : decode cX2_edges 32 = .ok (.getfield 22, 3) := dk_180 0 22 (dk_at dksX2_edges_1 9 rfl rfl)
theorem dX2_edges_35 : decode cX2_edges 35 = .ok (.sipush 401, 3) := dk_17 1 145 (dk_at dksX2_edges_1 12 rfl rfl)
theorem dX2_edges_38 : decode cX2_edges 38 = .ok (.iload_n 1, 1) := dk_27 (dk_at dksX2_edges_1 15 rfl rfl)
theorem dX2_edges_39 : decode cX2_edges 39 = .ok (.imul, 1) := dk_104 (dk_at dksX2_edges_1 16 rfl rfl)
theorem dX2_edges_40 : decode cX2_edges 40 = .ok (.iload 4, 2) := dk_21 4 (dk_at dksX2_edges_1 17 rfl rfl)
theorem dX2_edges_42 : decode cX2_edges 42 = .ok (.iadd, 1) := dk_96 (dk_at dksX2_edges_1 19 rfl rfl)
theorem dX2_edges_43 : decode cX2_edges 43 = .ok (.iconst 1, 1) := dk_4 (dk_at dksX2_edges_1 20 rfl rfl)
theorem dX2_edges_44 : decode cX2_edges 44 = .ok (.isub, 1) := dk_100 (dk_at dksX2_edges_1 21 rfl rfl)
theorem dX2_edges_45 : decode cX2_edges 45 = .ok (.iaload, 1) := dk_46 (dk_at dksX2_edges_1 22 rfl rfl)
theorem dX2_edges_46 : decode cX2_edges 46 = .ok (.iload_n 2, 1) := dk_28 (dk_at dksX2_edges_1 23 rfl rfl)
theorem dX2_edges_47 : decode cX2_edges 47 = .ok (.invokestatic 71, 3) := dk_184 0 71 (dk_at dksX2_edges_2 0 rfl rfl)
theorem dX2_edges_50 : decode cX2_edges 50 = .ok (.if_icmp .eq 6, 3) := dk_159 0 6 (dk_at dksX2_edges_2 3 rfl rfl)
theorem dX2_edges_53 : decode cX2_edges 53 = .ok (.iinc 3 1, 3) := dk_132 3 1 (dk_at dksX2_edges_2 6 rfl rfl)
theorem dX2_edges_56 : decode cX2_edges 56 = .ok (.iinc 4 1, 3) := dk_132 4 1 (dk_at dksX2_edges_2 9 rfl rfl)
theorem dX2_edges_59 : decode cX2_edges 59 = .ok (.goto (-54), 3) := dk_167 255 202 (dk_at dksX2_edges_2 12 rfl rfl)
theorem dX2_edges_62 : decode cX2_edges 62 = .ok (.iload_n 3, 1) := dk_29 (dk_at dksX2_edges_2 15 rfl rfl)
theorem dX2_edges_63 : decode cX2_edges 63 = .ok (.ireturn, 1) := dk_172 (dk_at dksX2_edges_2 16 rfl rfl)
theorem q103 : (Jvm.Cond.initialized "OpenLines$Pass") ∈ lw_all := lw_g (lw_at lw_m1 2 rfl) rfl
theorem q157 : (Jvm.Cond.instantiable "OpenLines$Pass" (15 : Nat)) ∈ lw_all := lw_g (lw_at lw_m1 56 rfl) rfl
theorem q159 : (Jvm.Cond.instanceMethod ({ cls := "OpenLines$Pass", name := "<init>", desc := "(LOpenLines;)V" } : Jvm.MethodName)) ∈ lw_all := lw_g (lw_at lw_m1 58 rfl) rfl
theorem q160 : (Jvm.Cond.code ({ cls := "OpenLines$Pass", name := "<init>", desc := "(LOpenLines;)V" } : Jvm.MethodName) prog_10_method_1_code (2 : Nat) (Option.none : Option Jvm.ClassFile.FieldType)) ∈ lw_all := lw_g (lw_at lw_m1 59 rfl) rfl
theorem q161 : (Jvm.Cond.methodLink "OpenLines$Pass" (9 : Nat) ({ cls := "java/lang/Object", name := "<init>", desc := "()V" } : Jvm.MethodName)) ∈ lw_all := lw_g (lw_at lw_m1 60 rfl) rfl
theorem q162 : (Jvm.Cond.fieldLink "OpenLines$Pass" (15 : Nat) "OpenLines$Pass" "words" "[I") ∈ lw_all := lw_g (lw_at lw_m1 61 rfl) rfl
theorem q163 : (Jvm.Cond.fieldLink "OpenLines$Pass" (19 : Nat) "OpenLines$Pass" "drives" "[I") ∈ lw_all := lw_g (lw_at lw_m1 62 rfl) rfl
theorem q165 : (Jvm.Cond.fieldLink "OpenLines$Pass" (22 : Nat) "OpenLines$Pass" "seen" "[I") ∈ lw_all := lw_g (lw_at lw_m1 64 rfl) rfl
theorem q167 : (Jvm.Cond.fieldLink "OpenLines$Pass" (25 : Nat) "OpenLines$Pass" "taken" "[I") ∈ lw_all := lw_g (lw_at lw_m1 66 rfl) rfl
theorem q169 : (Jvm.Cond.fieldLink "OpenLines$Pass" (28 : Nat) "OpenLines$Pass" "withdrawn" "[I") ∈ lw_all := lw_g (lw_at lw_m1 68 rfl) rfl
theorem q171 : (Jvm.Cond.fieldLink "OpenLines$Pass" (31 : Nat) "OpenLines$Pass" "dipped" "[I") ∈ lw_all := lw_g (lw_at lw_m1 70 rfl) rfl
theorem q172 : (Jvm.Cond.fieldLink "OpenLines$Pass" (34 : Nat) "OpenLines$Pass" "latest" "[I") ∈ lw_all := lw_g (lw_at lw_m1 71 rfl) rfl
theorem q173 : (Jvm.Cond.fieldLink "OpenLines$Pass" (47 : Nat) "OpenLines$Pass" "bus" "LOpenLines$Bus;") ∈ lw_all := lw_g (lw_at lw_m1 72 rfl) rfl
theorem q174 : (Jvm.Cond.fieldLink "OpenLines$Pass" (51 : Nat) "OpenLines$Pass" "set" "I") ∈ lw_all := lw_g (lw_at lw_m1 73 rfl) rfl
theorem q175 : (Jvm.Cond.fieldLink "OpenLines$Pass" (61 : Nat) "OpenLines$Pass" "stuck" "I") ∈ lw_all := lw_g (lw_at lw_m1 74 rfl) rfl
theorem q176 : (Jvm.Cond.fieldLink "OpenLines$Pass" (64 : Nat) "OpenLines$Pass" "broken" "I") ∈ lw_all := lw_g (lw_at lw_m1 75 rfl) rfl
theorem q177 : (Jvm.Cond.fieldLink "OpenLines$Pass" (58 : Nat) "OpenLines$Pass" "dips" "I") ∈ lw_all := lw_g (lw_at lw_m1 76 rfl) rfl
theorem q179 : (Jvm.Cond.fieldLink "OpenLines$Pass" (54 : Nat) "OpenLines$Pass" "till" "I") ∈ lw_all := lw_g (lw_at lw_m1 78 rfl) rfl
theorem q181 : (Jvm.Cond.fieldLink "OpenLines$Pass" (57 : Nat) "OpenLines$Pass" "filter" "I") ∈ lw_all := lw_g (lw_at lw_m1 80 rfl) rfl
theorem q182 : (Jvm.Cond.fieldLink "OpenLines$Pass" (3 : Nat) "OpenLines$Pass" "this$0" "LOpenLines;") ∈ lw_all := lw_g (lw_at lw_m1 81 rfl) rfl
theorem q183 : (Jvm.Cond.laysFinal "OpenLines$Pass" "OpenLines$Pass" "words" "[I") ∈ lw_all := lw_g (lw_at lw_m1 82 rfl) rfl
theorem q184 : (Jvm.Cond.soleField "OpenLines$Pass" "words") ∈ lw_all := lw_g (lw_at lw_m1 83 rfl) rfl
theorem q185 : (Jvm.Cond.laysFinal "OpenLines$Pass" "OpenLines$Pass" "drives" "[I") ∈ lw_all := lw_g (lw_at lw_m1 84 rfl) rfl
theorem q186 : (Jvm.Cond.soleField "OpenLines$Pass" "drives") ∈ lw_all := lw_g (lw_at lw_m1 85 rfl) rfl
theorem q187 : (Jvm.Cond.laysFinal "OpenLines$Pass" "OpenLines$Pass" "seen" "[I") ∈ lw_all := lw_g (lw_at lw_m1 86 rfl) rfl
theorem q188 : (Jvm.Cond.soleField "OpenLines$Pass" "seen") ∈ lw_all := lw_g (lw_at lw_m1 87 rfl) rfl
theorem q189 : (Jvm.Cond.laysFinal "OpenLines$Pass" "OpenLines$Pass" "taken" "[I") ∈ lw_all := lw_g (lw_at lw_m1 88 rfl) rfl
theorem q190 : (Jvm.Cond.soleField "OpenLines$Pass" "taken") ∈ lw_all := lw_g (lw_at lw_m1 89 rfl) rfl
theorem q191 : (Jvm.Cond.laysFinal "OpenLines$Pass" "OpenLines$Pass" "withdrawn" "[I") ∈ lw_all := lw_g (lw_at lw_m1 90 rfl) rfl
theorem q192 : (Jvm.Cond.soleField "OpenLines$Pass" "withdrawn") ∈ lw_all := lw_g (lw_at lw_m1 91 rfl) rfl
theorem q193 : (Jvm.Cond.laysFinal "OpenLines$Pass" "OpenLines$Pass" "dipped" "[I") ∈ lw_all := lw_g (lw_at lw_m1 92 rfl) rfl
theorem q194 : (Jvm.Cond.soleField "OpenLines$Pass" "dipped") ∈ lw_all := lw_g (lw_at lw_m1 93 rfl) rfl
theorem q195 : (Jvm.Cond.laysFinal "OpenLines$Pass" "OpenLines$Pass" "latest" "[I") ∈ lw_all := lw_g (lw_at lw_m1 94 rfl) rfl
theorem q196 : (Jvm.Cond.soleField "OpenLines$Pass" "latest") ∈ lw_all := lw_g (lw_at lw_m1 95 rfl) rfl
theorem q197 : (Jvm.Cond.lays "OpenLines$Pass" "OpenLines$Pass" "bus" "LOpenLines$Bus;") ∈ lw_all := lw_g (lw_at lw_m1 96 rfl) rfl
theorem q198 : (Jvm.Cond.soleField "OpenLines$Pass" "bus") ∈ lw_all := lw_g (lw_at lw_m1 97 rfl) rfl
theorem q199 : (Jvm.Cond.lays "OpenLines$Pass" "OpenLines$Pass" "set" "I") ∈ lw_all := lw_g (lw_at lw_m1 98 rfl) rfl
theorem q200 : (Jvm.Cond.soleField "OpenLines$Pass" "set") ∈ lw_all := lw_g (lw_at lw_m1 99 rfl) rfl
theorem q201 : (Jvm.Cond.lays "OpenLines$Pass" "OpenLines$Pass" "stuck" "I") ∈ lw_all := lw_g (lw_at lw_m1 100 rfl) rfl
theorem q202 : (Jvm.Cond.soleField "OpenLines$Pass" "stuck") ∈ lw_all := lw_g (lw_at lw_m1 101 rfl) rfl
theorem q203 : (Jvm.Cond.lays "OpenLines$Pass" "OpenLines$Pass" "broken" "I") ∈ lw_all := lw_g (lw_at lw_m1 102 rfl) rfl
theorem q204 : (Jvm.Cond.soleField "OpenLines$Pass" "broken") ∈ lw_all := lw_g (lw_at lw_m1 103 rfl) rfl
theorem q205 : (Jvm.Cond.lays "OpenLines$Pass" "OpenLines$Pass" "dips" "I") ∈ lw_all := lw_g (lw_at lw_m1 104 rfl) rfl
theorem q206 : (Jvm.Cond.soleField "OpenLines$Pass" "dips") ∈ lw_all := lw_g (lw_at lw_m1 105 rfl) rfl
theorem q207 : (Jvm.Cond.lays "OpenLines$Pass" "OpenLines$Pass" "till" "I") ∈ lw_all := lw_g (lw_at lw_m1 106 rfl) rfl
theorem q208 : (Jvm.Cond.soleField "OpenLines$Pass" "till") ∈ lw_all := lw_g (lw_at lw_m1 107 rfl) rfl
theorem q209 : (Jvm.Cond.lays "OpenLines$Pass" "OpenLines$Pass" "filter" "I") ∈ lw_all := lw_g (lw_at lw_m1 108 rfl) rfl
theorem q210 : (Jvm.Cond.soleField "OpenLines$Pass" "filter") ∈ lw_all := lw_g (lw_at lw_m1 109 rfl) rfl
theorem q211 : (Jvm.Cond.laysFinal "OpenLines$Pass" "OpenLines$Pass" "this$0" "LOpenLines;") ∈ lw_all := lw_g (lw_at lw_m1 110 rfl) rfl
theorem q212 : (Jvm.Cond.soleField "OpenLines$Pass" "this$0") ∈ lw_all := lw_g (lw_at lw_m1 111 rfl) rfl
theorem q213 : (Jvm.Cond.superclass "OpenLines$Pass" "java/lang/Object") ∈ lw_all := lw_g (lw_at lw_m1 112 rfl) rfl
theorem q470 : (Jvm.Cond.fieldLinkNest "OpenLines$Pass" (96 : Nat) "OpenLines$Bus" "gate" "I" "OpenLines") ∈ lw_tbl := lw_at lw_m2 129 rfl
theorem q473 : (Jvm.Cond.fieldLinkNest "OpenLines$Pass" (37 : Nat) "OpenLines$Bus" "filter" "I" "OpenLines") ∈ lw_tbl := lw_at lw_m2 132 rfl
theorem q810 : (Jvm.Cond.selects "OpenLines$Pass" ({ cls := "java/lang/Object", name := "hashCode", desc := "()I" } : Jvm.MethodName) ({ cls := "java/lang/Object", name := "hashCode", desc := "()I" } : Jvm.MethodName)) ∈ lw_all := lw_g (lw_at lw_m3 229 rfl) rfl
theorem q888 : (Jvm.Cond.selects "OpenLines$Pass" ({ cls := "java/lang/Object", name := "equals", desc := "(Ljava/lang/Object;)Z" } : Jvm.MethodName) ({ cls := "java/lang/Object", name := "equals", desc := "(Ljava/lang/Object;)Z" } : Jvm.MethodName)) ∈ lw_all := lw_g (lw_at lw_m4 67 rfl) rfl
theorem q941 : (Jvm.Cond.selects "OpenLines$Pass" ({ cls := "java/lang/Object", name := "getClass", desc := "()Ljava/lang/Class;" } : Jvm.MethodName) ({ cls := "java/lang/Object", name := "getClass", desc := "()Ljava/lang/Class;" } : Jvm.MethodName)) ∈ lw_all := lw_g (lw_at lw_m4 120 rfl) rfl
theorem q1587 : (Jvm.Cond.instanceMethod ({ cls := "OpenLines$Pass", name := "goes", desc := "(LOpenLines$Bus;ILOpenLines$Word;[II)LOpenLines$Pass;" } : Jvm.MethodName)) ∈ lw_all := lw_g (lw_at lw_m7 46 rfl) rfl
theorem q1588 : (Jvm.Cond.selects "OpenLines$Pass" ({ cls := "OpenLines$Pass", name := "goes", desc := "(LOpenLines$Bus;ILOpenLines$Word;[II)LOpenLines$Pass;" } : Jvm.MethodName) ({ cls := "OpenLines$Pass", name := "goes", desc := "(LOpenLines$Bus;ILOpenLines$Word;[II)LOpenLines$Pass;" } : Jvm.MethodName)) ∈ lw_all := lw_g (lw_at lw_m7 47 rfl) rfl
theorem q1589 : (Jvm.Cond.code ({ cls := "OpenLines$Pass", name := "goes", desc := "(LOpenLines$Bus;ILOpenLines$Word;[II)LOpenLines$Pass;" } : Jvm.MethodName) prog_10_method_2_code (6 : Nat) (Option.some (Jvm.ClassFile.FieldType.object "OpenLines$Pass"))) ∈ lw_all := lw_g (lw_at lw_m7 48 rfl) rfl
theorem q1590 : (Jvm.Cond.methodLink "OpenLines$Pass" (43 : Nat) ({ cls := "OpenLines$Pass", name := "goes", desc := "(LOpenLines$Bus;ILOpenLines$Word;[III)LOpenLines$Pass;" } : Jvm.MethodName)) ∈ lw_all := lw_g (lw_at lw_m7 49 rfl) rfl
theorem q1591 : (Jvm.Cond.instanceMethod ({ cls := "OpenLines$Pass", name := "goes", desc := "(LOpenLines$Bus;ILOpenLines$Word;[III)LOpenLines$Pass;" } : Jvm.MethodName)) ∈ lw_all := lw_g (lw_at lw_m7 50 rfl) rfl
theorem q1592 : (Jvm.Cond.selects "OpenLines$Pass" ({ cls := "OpenLines$Pass", name := "goes", desc := "(LOpenLines$Bus;ILOpenLines$Word;[III)LOpenLines$Pass;" } : Jvm.MethodName) ({ cls := "OpenLines$Pass", name := "goes", desc := "(LOpenLines$Bus;ILOpenLines$Word;[III)LOpenLines$Pass;" } : Jvm.MethodName)) ∈ lw_all := lw_g (lw_at lw_m7 51 rfl) rfl
theorem q1593 : (Jvm.Cond.code ({ cls := "OpenLines$Pass", name := "goes", desc := "(LOpenLines$Bus;ILOpenLines$Word;[III)LOpenLines$Pass;" } : Jvm.MethodName) prog_10_method_3_code (9 : Nat) (Option.some (Jvm.ClassFile.FieldType.object "OpenLines$Pass"))) ∈ lw_all := lw_g (lw_at lw_m7 52 rfl) rfl
theorem q1594 : (Jvm.Cond.methodLink "OpenLines$Pass" (67 : Nat) ({ cls := "OpenLines$Bus", name := "many", desc := "()I" } : Jvm.MethodName)) ∈ lw_all := lw_g (lw_at lw_m7 53 rfl) rfl
theorem q1595 : (Jvm.Cond.methodLinkNest "OpenLines$Pass" (71 : Nat) ({ cls := "OpenLines", name := "has", desc := "(II)Z" } : Jvm.MethodName) "OpenLines") ∈ lw_tbl := lw_at lw_m7 54 rfl
theorem q1598 : (Jvm.Cond.methodLink "OpenLines$Pass" (75 : Nat) ({ cls := "OpenLines$Bus", name := "board", desc := "(I)LOpenLines$Board;" } : Jvm.MethodName)) ∈ lw_all := lw_g (lw_at lw_m7 57 rfl) rfl
theorem q1599 : (Jvm.Cond.interfaceEntry "OpenLines$Pass" (79 : Nat)) ∈ lw_tbl := lw_at lw_m7 58 rfl
theorem q1600 : (Jvm.Cond.methodLink "OpenLines$Pass" (79 : Nat) ({ cls := "OpenLines$Word", name := "of", desc := "(LOpenLines$Board;)I" } : Jvm.MethodName)) ∈ lw_all := lw_g (lw_at lw_m7 59 rfl) rfl
theorem q1601 : (Jvm.Cond.methodLink "OpenLines$Pass" (85 : Nat) ({ cls := "OpenLines$Pass", name := "drivenBy", desc := "(II)I" } : Jvm.MethodName)) ∈ lw_all := lw_g (lw_at lw_m7 60 rfl) rfl
theorem q1602 : (Jvm.Cond.privateMethod ({ cls := "OpenLines$Pass", name := "drivenBy", desc := "(II)I" } : Jvm.MethodName)) ∈ lw_tbl := lw_at lw_m7 61 rfl
theorem q1603 : (Jvm.Cond.instanceMethod ({ cls := "OpenLines$Pass", name := "drivenBy", desc := "(II)I" } : Jvm.MethodName)) ∈ lw_all := lw_g (lw_at lw_m7 62 rfl) rfl
theorem q1604 : (Jvm.Cond.code ({ cls := "OpenLines$Pass", name := "drivenBy", desc := "(II)I" } : Jvm.MethodName) prog_10_method_4_code (4 : Nat) (Option.some Jvm.ClassFile.FieldType.int)) ∈ lw_all := lw_g (lw_at lw_m7 63 rfl) rfl
theorem q1605 : (Jvm.Cond.methodLink "OpenLines$Pass" (89 : Nat) ({ cls := "OpenLines$Pass", name := "letsGo", desc := "(II)V" } : Jvm.MethodName)) ∈ lw_all := lw_g (lw_at lw_m7 64 rfl) rfl
theorem q1606 : (Jvm.Cond.privateMethod ({ cls := "OpenLines$Pass", name := "letsGo", desc := "(II)V" } : Jvm.MethodName)) ∈ lw_tbl := lw_at lw_m7 65 rfl
theorem q1607 : (Jvm.Cond.instanceMethod ({ cls := "OpenLines$Pass", name := "letsGo", desc := "(II)V" } : Jvm.MethodName)) ∈ lw_all := lw_g (lw_at lw_m7 66 rfl) rfl
theorem q1608 : (Jvm.Cond.code ({ cls := "OpenLines$Pass", name := "letsGo", desc := "(II)V" } : Jvm.MethodName) prog_10_method_5_code (5 : Nat) (Option.none : Option Jvm.ClassFile.FieldType)) ∈ lw_all := lw_g (lw_at lw_m7 67 rfl) rfl
theorem q1609 : (Jvm.Cond.methodLink "OpenLines$Pass" (99 : Nat) ({ cls := "OpenLines$Pass", name := "dips", desc := "(III)V" } : Jvm.MethodName)) ∈ lw_all := lw_g (lw_at lw_m7 68 rfl) rfl
theorem q1610 : (Jvm.Cond.privateMethod ({ cls := "OpenLines$Pass", name := "dips", desc := "(III)V" } : Jvm.MethodName)) ∈ lw_tbl := lw_at lw_m7 69 rfl
theorem q1611 : (Jvm.Cond.instanceMethod ({ cls := "OpenLines$Pass", name := "dips", desc := "(III)V" } : Jvm.MethodName)) ∈ lw_all := lw_g (lw_at lw_m7 70 rfl) rfl
theorem q1612 : (Jvm.Cond.code ({ cls := "OpenLines$Pass", name := "dips", desc := "(III)V" } : Jvm.MethodName) prog_10_method_6_code (8 : Nat) (Option.none : Option Jvm.ClassFile.FieldType)) ∈ lw_all := lw_g (lw_at lw_m7 71 rfl) rfl
theorem q1613 : (Jvm.Cond.methodLink "OpenLines$Pass" (102 : Nat) ({ cls := "OpenLines$Bus", name := "apart", desc := "(II)I" } : Jvm.MethodName)) ∈ lw_all := lw_g (lw_at lw_m7 72 rfl) rfl
theorem q1620 : (Jvm.Cond.methodLink "OpenLines$Pass" (93 : Nat) ({ cls := "OpenLines$Pass", name := "sees", desc := "(II)V" } : Jvm.MethodName)) ∈ lw_all := lw_g (lw_at lw_m7 79 rfl) rfl
theorem q1621 : (Jvm.Cond.privateMethod ({ cls := "OpenLines$Pass", name := "sees", desc := "(II)V" } : Jvm.MethodName)) ∈ lw_tbl := lw_at lw_m7 80 rfl
theorem q1622 : (Jvm.Cond.instanceMethod ({ cls := "OpenLines$Pass", name := "sees", desc := "(II)V" } : Jvm.MethodName)) ∈ lw_all := lw_g (lw_at lw_m7 81 rfl) rfl
theorem q1623 : (Jvm.Cond.code ({ cls := "OpenLines$Pass", name := "sees", desc := "(II)V" } : Jvm.MethodName) prog_10_method_7_code (7 : Nat) (Option.none : Option Jvm.ClassFile.FieldType)) ∈ lw_all := lw_g (lw_at lw_m7 82 rfl) rfl
theorem q1624 : (Jvm.Cond.methodLink "OpenLines$Pass" (105 : Nat) ({ cls := "java/lang/Integer", name := "highestOneBit", desc := "(I)I" } : Jvm.MethodName)) ∈ lw_all := lw_g (lw_at lw_m7 83 rfl) rfl
theorem q1629 : (Jvm.Cond.methodLink "OpenLines$Pass" (111 : Nat) ({ cls := "java/lang/Integer", name := "numberOfTrailingZeros", desc := "(I)I" } : Jvm.MethodName)) ∈ lw_all := lw_g (lw_at lw_m7 88 rfl) rfl
theorem q1647 : (Jvm.Cond.instanceMethod ({ cls := "OpenLines$Pass", name := "winners", desc := "(I)I" } : Jvm.MethodName)) ∈ lw_all := lw_g (lw_at lw_m7 106 rfl) rfl
theorem q1648 : (Jvm.Cond.selects "OpenLines$Pass" ({ cls := "OpenLines$Pass", name := "winners", desc := "(I)I" } : Jvm.MethodName) ({ cls := "OpenLines$Pass", name := "winners", desc := "(I)I" } : Jvm.MethodName)) ∈ lw_all := lw_g (lw_at lw_m7 107 rfl) rfl
theorem q1649 : (Jvm.Cond.code ({ cls := "OpenLines$Pass", name := "winners", desc := "(I)I" } : Jvm.MethodName) prog_10_method_8_code (4 : Nat) (Option.some Jvm.ClassFile.FieldType.int)) ∈ lw_all := lw_g (lw_at lw_m7 108 rfl) rfl
theorem q1655 : (Jvm.Cond.instanceMethod ({ cls := "OpenLines$Pass", name := "settles", desc := "()I" } : Jvm.MethodName)) ∈ lw_all := lw_g (lw_at lw_m7 114 rfl) rfl
theorem q1656 : (Jvm.Cond.selects "OpenLines$Pass" ({ cls := "OpenLines$Pass", name := "settles", desc := "()I" } : Jvm.MethodName) ({ cls := "OpenLines$Pass", name := "settles", desc := "()I" } : Jvm.MethodName)) ∈ lw_all := lw_g (lw_at lw_m7 115 rfl) rfl
theorem q1657 : (Jvm.Cond.code ({ cls := "OpenLines$Pass", name := "settles", desc := "()I" } : Jvm.MethodName) prog_10_method_10_code (3 : Nat) (Option.some Jvm.ClassFile.FieldType.int)) ∈ lw_all := lw_g (lw_at lw_m7 116 rfl) rfl
theorem q1663 : (Jvm.Cond.instanceMethod ({ cls := "OpenLines$Pass", name := "sure", desc := "()I" } : Jvm.MethodName)) ∈ lw_all := lw_g (lw_at lw_m7 122 rfl) rfl
theorem q1664 : (Jvm.Cond.selects "OpenLines$Pass" ({ cls := "OpenLines$Pass", name := "sure", desc := "()I" } : Jvm.MethodName) ({ cls := "OpenLines$Pass", name := "sure", desc := "()I" } : Jvm.MethodName)) ∈ lw_all := lw_g (lw_at lw_m7 123 rfl) rfl
theorem q1665 : (Jvm.Cond.code ({ cls := "OpenLines$Pass", name := "sure", desc := "()I" } : Jvm.MethodName) prog_10_method_11_code (3 : Nat) (Option.some Jvm.ClassFile.FieldType.int)) ∈ lw_all := lw_g (lw_at lw_m7 124 rfl) rfl
theorem q1666 : (Jvm.Cond.methodLink "OpenLines$Pass" (114 : Nat) ({ cls := "OpenLines$Pass", name := "right", desc := "()I" } : Jvm.MethodName)) ∈ lw_all := lw_g (lw_at lw_m7 125 rfl) rfl
theorem q1667 : (Jvm.Cond.instanceMethod ({ cls := "OpenLines$Pass", name := "right", desc := "()I" } : Jvm.MethodName)) ∈ lw_all := lw_g (lw_at lw_m7 126 rfl) rfl
theorem q1668 : (Jvm.Cond.selects "OpenLines$Pass" ({ cls := "OpenLines$Pass", name := "right", desc := "()I" } : Jvm.MethodName) ({ cls := "OpenLines$Pass", name := "right", desc := "()I" } : Jvm.MethodName)) ∈ lw_all := lw_g (lw_at lw_m7 127 rfl) rfl
theorem q1669 : (Jvm.Cond.code ({ cls := "OpenLines$Pass", name := "right", desc := "()I" } : Jvm.MethodName) prog_10_method_9_code (4 : Nat) (Option.some Jvm.ClassFile.FieldType.int)) ∈ lw_all := lw_g (lw_at lw_m7 128 rfl) rfl
theorem q1670 : (Jvm.Cond.methodLink "OpenLines$Pass" (117 : Nat) ({ cls := "OpenLines$Pass", name := "winners", desc := "(I)I" } : Jvm.MethodName)) ∈ lw_all := lw_g (lw_at lw_m7 129 rfl) rfl
theorem q1685 : (Jvm.Cond.instanceMethod ({ cls := "OpenLines$Pass", name := "isFaulty", desc := "(I)Z" } : Jvm.MethodName)) ∈ lw_all := lw_g (lw_at lw_m7 144 rfl) rfl
theorem q1686 : (Jvm.Cond.selects "OpenLines$Pass" ({ cls := "OpenLines$Pass", name := "isFaulty", desc := "(I)Z" } : Jvm.MethodName) ({ cls := "OpenLines$Pass", name := "isFaulty", desc := "(I)Z" } : Jvm.MethodName)) ∈ lw_all := lw_g (lw_at lw_m7 145 rfl) rfl
theorem q1687 : (Jvm.Cond.code ({ cls := "OpenLines$Pass", name := "isFaulty", desc := "(I)Z" } : Jvm.MethodName) prog_10_method_13_code (3 : Nat) (Option.some Jvm.ClassFile.FieldType.boolean)) ∈ lw_all := lw_g (lw_at lw_m7 146 rfl) rfl
theorem q1688 : (Jvm.Cond.methodLink "OpenLines$Pass" (120 : Nat) ({ cls := "java/lang/Integer", name := "bitCount", desc := "(I)I" } : Jvm.MethodName)) ∈ lw_all := lw_g (lw_at lw_m7 147 rfl) rfl
theorem q1694 : (Jvm.Cond.instanceMethod ({ cls := "OpenLines$Pass", name := "edges", desc := "(II)I" } : Jvm.MethodName)) ∈ lw_all := lw_g (lw_at lw_m7 153 rfl) rfl
theorem q1695 : (Jvm.Cond.selects "OpenLines$Pass" ({ cls := "OpenLines$Pass", name := "edges", desc := "(II)I" } : Jvm.MethodName) ({ cls := "OpenLines$Pass", name := "edges", desc := "(II)I" } : Jvm.MethodName)) ∈ lw_all := lw_g (lw_at lw_m7 154 rfl) rfl
theorem q1696 : (Jvm.Cond.code ({ cls := "OpenLines$Pass", name := "edges", desc := "(II)I" } : Jvm.MethodName) prog_10_method_12_code (5 : Nat) (Option.some Jvm.ClassFile.FieldType.int)) ∈ lw_all := lw_g (lw_at lw_m7 155 rfl) rfl
theorem q2661 : (Jvm.Cond.castable "OpenLines$Pass" "java/lang/Object") ∈ lw_tbl := lw_at lw_m11 160 rfl
theorem in_X2 : ∀ w ∈ wsX20, w ∈ lw_all := lw_in wsX20 [183, 185, 187, 189, 191, 193, 195, 197, 199, 201, 203, 205, 207, 209, 211] (by decide +kernel) (by decide +kernel)
