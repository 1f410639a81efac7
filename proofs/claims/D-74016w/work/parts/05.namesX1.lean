/-! MaskedEars -/
set_option maxRecDepth 100000
def RX1 : String := "MaskedEars"
def TX1 : u_T := fun k => match k with
  | 0 => ("MaskedEars", "trouble", "I", false)
  | 1 => ("MaskedEars", "where", "I", false)
  | 2 => ("MaskedEars", "tape", "[B", true)
  | 3 => ("MaskedEars", "taped", "I", false)
  | 4 => ("MaskedEars", "fault", "I", false)
  | 5 => ("MaskedEars", "told", "LMaskedEars$Told;", false)
  | 6 => ("MaskedEars", "test", "LMaskedEars$Test;", false)
  | 7 => ("MaskedEars", "log", "LMaskedEars$Latest;", false)
  | 8 => ("MaskedEars", "earlier", "[I", true)
  | _ => ("MaskedEars", "hasEarlier", "Z", false)
def tyX1 : Nat → FieldType := fun k => match k with
  | 0 => .int
  | 1 => .int
  | 2 => .array .byte
  | 3 => .int
  | 4 => .int
  | 5 => .object "MaskedEars$Told"
  | 6 => .object "MaskedEars$Test"
  | 7 => .object "MaskedEars$Latest"
  | 8 => .array .int
  | _ => .boolean
abbrev wsX10 : List Cond := u_ws RX1 TX1 10
theorem nmX1 : ∀ a, a < 10 → ∀ b, b < 10 → a ≠ b → (TX1 a).2.1 ≠ (TX1 b).2.1 := by decide +kernel
theorem tyX1_ok : ∀ k, k < 10 → parseFieldDescriptor (TX1 k).2.2.1 = some (tyX1 k) := by decide +kernel
abbrev cX1_init : ByteArray := prog_1_method_4_code
def yX1_init : MethodName := ⟨RX1, "<init>", "()V"⟩
def dkwX1_init_1 : List UInt8 := [17, 0, 200, 183, 0, 22, 181, 0, 25, 42, 16, 24, 188, 10, 181, 0, 29, 177]
abbrev dktX1_init_1 : List UInt8 := dkwX1_init_1 ++ []
def dkwX1_init_0 : List UInt8 := [42, 183, 0, 10, 42, 2, 181, 0, 7, 42, 17, 2, 188, 188, 8, 181, 0, 16, 42, 187, 0, 20, 89]
abbrev dktX1_init_0 : List UInt8 := dkwX1_init_0 ++ dktX1_init_1
theorem dksX1_init_0 : cX1_init.data.toList.drop 0 = dktX1_init_0 := by decide +kernel
theorem dksX1_init_1 : cX1_init.data.toList.drop 23 = dktX1_init_1 := dk_seg dksX1_init_0 23 rfl rfl
theorem dX1_init_0 : decode cX1_init 0 = .ok (.aload_n 0, 1) := dk_42 (dk_at dksX1_init_0 0 rfl rfl)
theorem dX1_init_1 : decode cX1_init 1 = .ok (.invokespecial 10, 3) := dk_183 0 10 (dk_at dksX1_init_0 1 rfl rfl)
theorem dX1_init_4 : decode cX1_init 4 = .ok (.aload_n 0, 1) := dk_42 (dk_at dksX1_init_0 4 rfl rfl)
theorem dX1_init_5 : decode cX1_init 5 = .ok (.iconst (-1), 1) := dk_2 (dk_at dksX1_init_0 5 rfl rfl)
theorem dX1_init_6 : decode cX1_init 6 = .ok (.putfield 7, 3) := dk_181 0 7 (dk_at dksX1_init_0 6 rfl rfl)
theorem dX1_init_9 : decode cX1_init 9 = .ok (.aload_n 0, 1) := dk_42 (dk_at dksX1_init_0 9 rfl rfl)
theorem dX1_init_10 : decode cX1_init 10 = .ok (.sipush 700, 3) := dk_17 2 188 (dk_at dksX1_init_0 10 rfl rfl)
theorem dX1_init_13 : decode cX1_init 13 = .ok (.newarray .byte, 2) := dk_188_8 (dk_at dksX1_init_0 13 rfl rfl)
theorem dX1_init_15 : decode cX1_init 15 = .ok (.putfield 16, 3) := dk_181 0 16 (dk_at dksX1_init_0 15 rfl rfl)
theorem dX1_init_18 : decode cX1_init 18 = .ok (.aload_n 0, 1) := dk_42 (dk_at dksX1_init_0 18 rfl rfl)
theorem dX1_init_19 : decode cX1_init 19 = .ok (.new 20, 3) := dk_187 0 20 (dk_at dksX1_init_0 19 rfl rfl)
theorem dX1_init_22 : decode cX1_init 22 = .ok (.dup, 1) := dk_89 (dk_at dksX1_init_0 22 rfl rfl)
theorem dX1_init_23 : decode cX1_init 23 = .ok (.sipush 200, 3) := dk_17 0 200 (dk_at dksX1_init_1 0 rfl rfl)
theorem dX1_init_26 : decode cX1_init 26 = .ok (.invokespecial 22, 3) := dk_183 0 22 (dk_at dksX1_init_1 3 rfl rfl)
theorem dX1_init_29 : decode cX1_init 29 = .ok (.putfield 25, 3) := dk_181 0 25 (dk_at dksX1_init_1 6 rfl rfl)
theorem dX1_init_32 : decode cX1_init 32 = .ok (.aload_n 0, 1) := dk_42 (dk_at dksX1_init_1 9 rfl rfl)
theorem dX1_init_33 : decode cX1_init 33 = .ok (.bipush 24, 2) := dk_16 24 (dk_at dksX1_init_1 10 rfl rfl)
theorem dX1_init_35 : decode cX1_init 35 = .ok (.newarray .int, 2) := dk_188_10 (dk_at dksX1_init_1 12 rfl rfl)
theorem dX1_init_37 : decode cX1_init 37 = .ok (.putfield 29, 3) := dk_181 0 29 (dk_at dksX1_init_1 14 rfl rfl)
theorem dX1_init_40 : decode cX1_init 40 = .ok (.return_, 1) := dk_177 (dk_at dksX1_init_1 17 rfl rfl)
abbrev cX1_feed : ByteArray := prog_1_method_6_code
def yX1_feed : MethodName := ⟨RX1, "feed", "(IIIII)I"⟩
def dkwX1_feed_2 : List UInt8 := [172]
abbrev dktX1_feed_2 : List UInt8 := dkwX1_feed_2 ++ []
def dkwX1_feed_1 : List UInt8 := [182, 0, 36, 42, 29, 182, 0, 36, 42, 21, 4, 182, 0, 36, 42, 21, 5, 182, 0, 36, 42, 180, 0, 33]
abbrev dktX1_feed_1 : List UInt8 := dkwX1_feed_1 ++ dktX1_feed_2
def dkwX1_feed_0 : List UInt8 := [42, 180, 0, 33, 16, 20, 96, 17, 2, 188, 164, 0, 5, 2, 172, 42, 27, 182, 0, 36, 42, 28]
abbrev dktX1_feed_0 : List UInt8 := dkwX1_feed_0 ++ dktX1_feed_1
theorem dksX1_feed_0 : cX1_feed.data.toList.drop 0 = dktX1_feed_0 := by decide +kernel
theorem dksX1_feed_1 : cX1_feed.data.toList.drop 22 = dktX1_feed_1 := dk_seg dksX1_feed_0 22 rfl rfl
theorem dksX1_feed_2 : cX1_feed.data.toList.drop 46 = dktX1_feed_2 := dk_seg dksX1_feed_1 24 rfl rfl
theorem dX1_feed_0 : decode cX1_feed 0 = .ok (.aload_n 0, 1) := dk_42 (dk_at dksX1_feed_0 0 rfl rfl)
theorem dX1_feed_1 : decode cX1_feed 1 = .ok (.getfield 33, 3) := dk_180 0 33 (dk_at dksX1_feed_0 1 rfl rfl)
theorem dX1_feed_4 : decode cX1_feed 4 = .ok (.bipush 20, 2) := dk_16 20 (dk_at dksX1_feed_0 4 rfl rfl)
theorem dX1_feed_6 : decode cX1_feed 6 = .ok (.iadd, 1) := dk_96 (dk_at dksX1_feed_0 6 rfl rfl)
theorem dX1_feed_7 : decode cX1_feed 7 = .ok (.sipush 700, 3) := dk_17 2 188 (dk_at dksX1_feed_0 7 rfl rfl)
theorem dX1_feed_10 : decode cX1_feed 10 = .ok (.if_icmp .le 5, 3) := dk_164 0 5 (dk_at dksX1_feed_0 10 rfl rfl)
theorem dX1_feed_13 : decode cX1_feed 13 = .ok (.iconst (-1), 1) := dk_2 (dk_at dksX1_feed_0 13 rfl rfl)
theorem dX1_feed_14 : decode cX1_feed 14 = .ok (.ireturn, 1) := dk_172 (dk_at dksX1_feed_0 14 rfl rfl)
theorem dX1_feed_15 : decode cX1_feed 15 = .ok (.aload_n 0, 1) := dk_42 (dk_at dksX1_feed_0 15 rfl rfl)
theorem dX1_feed_16 : decode cX1_feed 16 = .ok (.iload_n 1, 1) := dk_27 (dk_at dksX1_feed_0 16 rfl rfl)
theorem dX1_feed_17 : decode cX1_feed 17 = .ok (.invokevirtual 36, 3) := dk_182 0 36 (dk_at dksX1_feed_0 17 rfl rfl)
theorem dX1_feed_20 : decode cX1_feed 20 = .ok (.aload_n 0, 1) := dk_42 (dk_at dksX1_feed_0 20 rfl rfl)
theorem dX1_feed_21 : decode cX1_feed 21 = .ok (.iload_n 2, 1) := dk_28 (dk_at dksX1_feed_0 21 rfl rfl)
theorem dX1_feed_22 : decode cX1_feed 22 = .ok (.invokevirtual 36, 3) := dk_182 0 36 (dk_at dksX1_feed_1 0 rfl rfl)
theorem dX1_feed_25 : decode cX1_feed 25 = .ok (.aload_n 0, 1) := dk_42 (dk_at dksX1_feed_1 3 rfl rfl)
theorem dX1_feed_26 : decode cX1_feed 26 = .ok (.iload_n 3, 1) := dk_29 (dk_at dksX1_feed_1 4 rfl rfl)
theorem dX1_feed_27 : decode cX1_feed 27 = .ok (.invokevirtual 36, 3) := dk_182 0 36 (dk_at dksX1_feed_1 5 rfl rfl)
theorem dX1_feed_30 : decode cX1_feed 30 = .ok (.aload_n 0, 1) := dk_42 (dk_at dksX1_feed_1 8 rfl rfl)
theorem dX1_feed_31 : decode cX1_feed 31 = .ok (.iload 4, 2) := dk_21 4 (dk_at dksX1_feed_1 9 rfl rfl)
theorem dX1_feed_33 : decode cX1_feed 33 = .ok (.invokevirtual 36, 3) := dk_182 0 36 (dk_at dksX1_feed_1 11 rfl rfl)
theorem dX1_feed_36 : decode cX1_feed 36 = .ok (.aload_n 0, 1) := dk_42 (dk_at dksX1_feed_1 14 rfl rfl)
theorem dX1_feed_37 : decode cX1_feed 37 = .ok (.iload 5, 2) := dk_21 5 (dk_at dksX1_feed_1 15 rfl rfl)
theorem dX1_feed_39 : decode cX1_feed 39 = .ok (.invokevirtual 36, 3) := dk_182 0 36 (dk_at dksX1_feed_1 17 rfl rfl)
theorem dX1_feed_42 : decode cX1_feed 42 = .ok (.aload_n 0, 1) := dk_42 (dk_at dksX1_feed_1 20 rfl rfl)
theorem dX1_feed_43 : decode cX1_feed 43 = .ok (.getfield 33, 3) := dk_180 0 33 (dk_at dksX1_feed_1 21 rfl rfl)
theorem dX1_feed_46 : decode cX1_feed 46 = .ok (.ireturn, 1) := dk_172 (dk_at dksX1_feed_2 0 rfl rfl)
abbrev cX1_feedOne : ByteArray := prog_1_method_5_code
def yX1_feedOne : MethodName := ⟨RX1, "feedOne", "(I)V"⟩
def dkwX1_feedOne_1 : List UInt8 := [180, 0, 33, 4, 96, 181, 0, 33, 132, 2, 248, 167, 255, 226, 177]
abbrev dktX1_feedOne_1 : List UInt8 := dkwX1_feedOne_1 ++ []
def dkwX1_feedOne_0 : List UInt8 := [16, 24, 61, 28, 155, 0, 32, 42, 180, 0, 16, 42, 180, 0, 33, 27, 28, 122, 145, 84, 42, 89]
abbrev dktX1_feedOne_0 : List UInt8 := dkwX1_feedOne_0 ++ dktX1_feedOne_1
theorem dksX1_feedOne_0 : cX1_feedOne.data.toList.drop 0 = dktX1_feedOne_0 := by decide +kernel
theorem dksX1_feedOne_1 : cX1_feedOne.data.toList.drop 22 = dktX1_feedOne_1 := dk_seg dksX1_feedOne_0 22 rfl rfl
theorem dX1_feedOne_0 : decode cX1_feedOne 0 = .ok (.bipush 24, 2) := dk_16 24 (dk_at dksX1_feedOne_0 0 rfl rfl)
theorem dX1_feedOne_2 : decode cX1_feedOne 2 = .ok (.istore_n 2, 1) := dk_61 (dk_at dksX1_feedOne_0 2 rfl rfl)
theorem dX1_feedOne_3 : decode cX1_feedOne 3 = .ok (.iload_n 2, 1) := dk_28 (dk_at dksX1_feedOne_0 3 rfl rfl)
theorem dX1_feedOne_4 : decode cX1_feedOne 4 = .ok (.ifCond .lt 32, 3) := dk_155 0 32 (dk_at dksX1_feedOne_0 4 rfl rfl)
theorem dX1_feedOne_7 : decode cX1_feedOne 7 = .ok (.aload_n 0, 1) := dk_42 (dk_at dksX1_feedOne_0 7 rfl rfl)
theorem dX1_feedOne_8 : decode cX1_feedOne 8 = .ok (.getfield 16, 3) := dk_180 0 16 (dk_at dksX1_feedOne_0 8 rfl rfl)
theorem dX1_feedOne_11 : decode cX1_feedOne 11 = .ok (.aload_n 0, 1) := dk_42 (dk_at dksX1_feedOne_0 11 rfl rfl)
theorem dX1_feedOne_12 : decode cX1_feedOne 12 = .ok (.getfield 33, 3) := dk_180 0 33 (dk_at dksX1_feedOne_0 12 rfl rfl)
theorem dX1_feedOne_15 : decode cX1_feedOne 15 = .ok (.iload_n 1, 1) := dk_27 (dk_at dksX1_feedOne_0 15 rfl rfl)
theorem dX1_feedOne_16 : decode cX1_feedOne 16 = .ok (.iload_n 2, 1) := dk_28 (dk_at dksX1_feedOne_0 16 rfl rfl)
theorem dX1_feedOne_17 : decode cX1_feedOne 17 = .ok (.ishr, 1) := dk_122 (dk_at dksX1_feedOne_0 17 rfl rfl)
theorem dX1_feedOne_18 : decode cX1_feedOne 18 = .ok (.i2b, 1) := dk_145 (dk_at dksX1_feedOne_0 18 rfl rfl)
theorem dX1_feedOne_19 : decode cX1_feedOne 19 = .ok (.bastore, 1) := dk_84 (dk_at dksX1_feedOne_0 19 rfl rfl)
theorem dX1_feedOne_20 : decode cX1_feedOne 20 = .ok (.aload_n 0, 1) := dk_42 (dk_at dksX1_feedOne_0 20 rfl rfl)
theorem dX1_feedOne_21 : decode cX1_feedOne 21 = .ok (.dup, 1) := dk_89 (dk_at dksX1_feedOne_0 21 rfl rfl)
theorem dX1_feedOne_22 : decode cX1_feedOne 22 = .ok (.getfield 33, 3) := dk_180 0 33 (dk_at dksX1_feedOne_1 0 rfl rfl)
theorem dX1_feedOne_25 : decode cX1_feedOne 25 = .ok (.iconst 1, 1) := dk_4 (dk_at dksX1_feedOne_1 3 rfl rfl)
theorem dX1_feedOne_26 : decode cX1_feedOne 26 = .ok (.iadd, 1) := dk_96 (dk_at dksX1_feedOne_1 4 rfl rfl)
theorem dX1_feedOne_27 : decode cX1_feedOne 27 = .ok (.putfield 33, 3) := dk_181 0 33 (dk_at dksX1_feedOne_1 5 rfl rfl)
theorem dX1_feedOne_30 : decode cX1_feedOne 30 = .ok (.iinc 2 (-8), 3) := dk_132 2 248 (dk_at dksX1_feedOne_1 8 rfl rfl)
theorem dX1_feedOne_33 : decode cX1_feedOne 33 = .ok (.goto (-30), 3) := dk_167 255 226 (dk_at dksX1_feedOne_1 11 rfl rfl)
theorem dX1_feedOne_36 : decode cX1_feedOne 36 = .ok (.return_, 1) := dk_177 (dk_at dksX1_feedOne_1 14 rfl rfl)
abbrev cX1_tester : ByteArray := prog_1_method_7_code
def yX1_tester : MethodName := ⟨RX1, "tester", "(I)I"⟩
def dkwX1_tester_5 : List UInt8 := [182, 0, 94, 172]
abbrev dktX1_tester_5 : List UInt8 := dkwX1_tester_5 ++ []
def dkwX1_tester_4 : List UInt8 := [183, 0, 22, 181, 0, 25, 42, 3, 181, 0, 80, 42, 42, 180, 0, 76, 180, 0, 84, 182, 0, 88]
abbrev dktX1_tester_4 : List UInt8 := dkwX1_tester_4 ++ dktX1_tester_5
def dkwX1_tester_3 : List UInt8 := [42, 187, 0, 71, 89, 42, 180, 0, 59, 183, 0, 73, 181, 0, 76, 42, 187, 0, 20, 89, 17, 0, 200]
abbrev dktX1_tester_3 : List UInt8 := dkwX1_tester_3 ++ dktX1_tester_4
def dkwX1_tester_2 : List UInt8 := [42, 44, 180, 0, 65, 181, 0, 47, 42, 7, 182, 0, 43, 87, 42, 44, 180, 0, 68, 181, 0, 7, 2, 172]
abbrev dktX1_tester_2 : List UInt8 := dkwX1_tester_2 ++ dktX1_tester_3
def dkwX1_tester_1 : List UInt8 := [3, 181, 0, 33, 42, 187, 0, 50, 89, 42, 27, 183, 0, 52, 182, 0, 55, 181, 0, 59, 167, 0, 28, 77]
abbrev dktX1_tester_1 : List UInt8 := dkwX1_tester_1 ++ dktX1_tester_2
def dkwX1_tester_0 : List UInt8 := [27, 3, 42, 180, 0, 33, 184, 0, 39, 154, 0, 9, 42, 5, 182, 0, 43, 172, 42, 3, 181, 0, 47, 42]
abbrev dktX1_tester_0 : List UInt8 := dkwX1_tester_0 ++ dktX1_tester_1
theorem dksX1_tester_0 : cX1_tester.data.toList.drop 0 = dktX1_tester_0 := by decide +kernel
theorem dksX1_tester_1 : cX1_tester.data.toList.drop 24 = dktX1_tester_1 := dk_seg dksX1_tester_0 24 rfl rfl
theorem dksX1_tester_2 : cX1_tester.data.toList.drop 48 = dktX1_tester_2 := dk_seg dksX1_tester_1 24 rfl rfl
theorem dksX1_tester_3 : cX1_tester.data.toList.drop 72 = dktX1_tester_3 := dk_seg dksX1_tester_2 24 rfl rfl
theorem dksX1_tester_4 : cX1_tester.data.toList.drop 95 = dktX1_tester_4 := dk_seg dksX1_tester_3 23 rfl rfl
theorem dksX1_tester_5 : cX1_tester.data.toList.drop 117 = dktX1_tester_5 := dk_seg dksX1_tester_4 22 rfl rfl
theorem dX1_tester_0 : decode cX1_tester 0 = .ok (.iload_n 1, 1) := dk_27 (dk_at dksX1_tester_0 0 rfl rfl)
theorem dX1_tester_1 : decode cX1_tester 1 = .ok (.iconst 0, 1) := dk_3 (dk_at dksX1_tester_0 1 rfl rfl)
theorem dX1_tester_2 : decode cX1_tester 2 = .ok (.aload_n 0, 1) := dk_42 (dk_at dksX1_tester_0 2 rfl rfl)
theorem dX1_tester_3 : decode cX1_tester 3 = .ok (.getfield 33, 3) := dk_180 0 33 (dk_at dksX1_tester_0 3 rfl rfl)
theorem dX1_tester_6 : decode cX1_tester 6 = .ok (.invokestatic 39, 3) := dk_184 0 39 (dk_at dksX1_tester_0 6 rfl rfl)
theorem dX1_tester_9 : decode cX1_tester 9 = .ok (.ifCond .ne 9, 3) := dk_154 0 9 (dk_at dksX1_tester_0 9 rfl rfl)
theorem dX1_tester_12 : decode cX1_tester 12 = .ok (.aload_n 0, 1) := dk_42 (dk_at dksX1_tester_0 12 rfl rfl)
theorem dX1_tester_13 : decode cX1_tester 13 = .ok (.iconst 2, 1) := dk_5 (dk_at dksX1_tester_0 13 rfl rfl)
theorem dX1_tester_14 : decode cX1_tester 14 = .ok (.invokevirtual 43, 3) := dk_182 0 43 (dk_at dksX1_tester_0 14 rfl rfl)
theorem dX1_tester_17 : decode cX1_tester 17 = .ok (.ireturn, 1) := dk_172 (dk_at dksX1_tester_0 17 rfl rfl)
theorem dX1_tester_18 : decode cX1_tester 18 = .ok (.aload_n 0, 1) := dk_42 (dk_at dksX1_tester_0 18 rfl rfl)
theorem dX1_tester_19 : decode cX1_tester 19 = .ok (.iconst 0, 1) := dk_3 (dk_at dksX1_tester_0 19 rfl rfl)
theorem dX1_tester_20 : decode cX1_tester 20 = .ok (.putfield 47, 3) := dk_181 0 47 (dk_at dksX1_tester_0 20 rfl rfl)
theorem dX1_tester_23 : decode cX1_tester 23 = .ok (.aload_n 0, 1) := dk_42 (dk_at dksX1_tester_0 23 rfl rfl)
theorem dX1_tester_24 : decode cX1_tester 24 = .ok (.iconst 0, 1) := dk_3 (dk_at dksX1_tester_1 0 rfl rfl)
theorem dX1_tester_25 : decode cX1_tester 25 = .ok (.putfield 33, 3) := dk_181 0 33 (dk_at dksX1_tester_1 1 rfl rfl)
theorem dX1_tester_28 : decode cX1_tester 28 = .ok (.aload_n 0, 1) := dk_42 (dk_at dksX1_tester_1 4 rfl rfl)
theorem dX1_tester_29 : decode cX1_tester 29 = .ok (.new 50, 3) := dk_187 0 50 (dk_at dksX1_tester_1 5 rfl rfl)
theorem dX1_tester_32 : decode cX1_tester 32 = .ok (.dup, 1) := dk_89 (dk_at dksX1_tester_1 8 rfl rfl)
theorem dX1_tester_33 : decode cX1_tester 33 = .ok (.aload_n 0, 1) := dk_42 (dk_at dksX1_tester_1 9 rfl rfl)
theorem dX1_tester_34 : decode cX1_tester 34 = .ok (.iload_n 1, 1) := dk_27 (dk_at dksX1_tester_1 10 rfl rfl)
theorem dX1_tester_35 : decode cX1_tester 35 = .ok (.invokespecial 52, 3) := dk_183 0 52 (dk_at dksX1_tester_1 11 rfl rfl)
theorem dX1_tester_38 : decode cX1_tester 38 = .ok (.invokevirtual 55, 3) := dk_182 0 55 (dk_at dksX1_tester_1 14 rfl rfl)
theorem dX1_tester_41 : decode cX1_tester 41 = .ok (.putfield 59, 3) := dk_181 0 59 (dk_at dksX1_tester_1 17 rfl rfl)
theorem dX1_tester_44 : decode cX1_tester 44 = .ok (.goto 28, 3) := dk_167 0 28 (dk_at dksX1_tester_1 20 rfl rfl)
theorem dX1_tester_47 : decode cX1_tester 47 = .ok (.astore_n 2, 1) := dk_77 (dk_at dksX1_tester_1 23 rfl rfl)
theorem dX1_tester_48 : decode cX1_tester 48 = .ok (.aload_n 0, 1) := dk_42 (dk_at dksX1_tester_2 0 rfl rfl)
theorem dX1_tester_49 : decode cX1_tester 49 = .ok (.aload_n 2, 1) := dk_44 (dk_at dksX1_tester_2 1 rfl rfl)
theorem dX1_tester_50 : decode cX1_tester 50 = .ok (.getfield 65, 3) := dk_180 0 65 (dk_at dksX1_tester_2 2 rfl rfl)
theorem dX1_tester_53 : decode cX1_tester 53 = .ok (.putfield 47, 3) := dk_181 0 47 (dk_at dksX1_tester_2 5 rfl rfl)
theorem dX1_tester_56 : decode cX1_tester 56 = .ok (.aload_n 0, 1) := dk_42 (dk_at dksX1_tester_2 8 rfl rfl)
theorem dX1_tester_57 : decode cX1_tester 57 = .ok (.iconst 4, 1) := dk_7 (dk_at dksX1_tester_2 9 rfl rfl)
theorem dX1_tester_58 : decode cX1_tester 58 = .ok (.invokevirtual 43, 3) := dk_182 0 43 (dk_at dksX1_tester_2 10 rfl rfl)
theorem dX1_tester_61 : decode cX1_tester 61 = .ok (.pop, 1) := dk_87 (dk_at dksX1_tester_2 13 rfl rfl)
theorem dX1_tester_62 : decode cX1_tester 62 = .ok (.aload_n 0, 1) := dk_42 (dk_at dksX1_tester_2 14 rfl rfl)
theorem dX1_tester_63 : decode cX1_tester 63 = .ok (.aload_n 2, 1) := dk_44 (dk_at dksX1_tester_2 15 rfl rfl)
theorem dX1_tester_64 : decode cX1_tester 64 = .ok (.getfield 68, 3) := dk_180 0 68 (dk_at dksX1_tester_2 16 rfl rfl)
theorem dX1_tester_67 : decode cX1_tester 67 = .ok (.putfield 7, 3) := dk_181 0 7 (dk_at dksX1_tester_2 19 rfl rfl)
theorem dX1_tester_70 : decode cX1_tester 70 = .ok (.iconst (-1), 1) := dk_2 (dk_at dksX1_tester_2 22 rfl rfl)
theorem dX1_tester_71 : decode cX1_tester 71 = .ok (.ireturn, 1) := dk_172 (dk_at dksX1_tester_2 23 rfl rfl)
theorem dX1_tester_72 : decode cX1_tester 72 = .ok (.aload_n 0, 1) := dk_42 (dk_at dksX1_tester_3 0 rfl rfl)
theorem dX1_tester_73 : decode cX1_tester 73 = .ok (.new 71, 3) := dk_187 0 71 (dk_at dksX1_tester_3 1 rfl rfl)
theorem dX1_tester_76 : decode cX1_tester 76 = .ok (.dup, 1) := dk_89 (dk_at dksX1_tester_3 4 rfl rfl)
theorem dX1_tester_77 : decode cX1_tester 77 = .ok (.aload_n 0, 1) := dk_42 (dk_at dksX1_tester_3 5 rfl rfl)
theorem dX1_tester_78 : decode cX1_tester 78 = .ok (.getfield 59, 3) := dk_180 0 59 (dk_at dksX1_tester_3 6 rfl rfl)
theorem dX1_tester_81 : decode cX1_tester 81 = .ok (.invokespecial 73, 3) := dk_183 0 73 (dk_at dksX1_tester_3 9 rfl rfl)
theorem dX1_tester_84 : decode cX1_tester 84 = .ok (.putfield 76, 3) := dk_181 0 76 (dk_at dksX1_tester_3 12 rfl rfl)
theorem dX1_tester_87 : decode cX1_tester 87 = .ok (.aload_n 0, 1) := dk_42 (dk_at dksX1_tester_3 15 rfl rfl)
theorem dX1_tester_88 : decode cX1_tester 88 = .ok (.new 20, 3) := dk_187 0 20 (dk_at dksX1_tester_3 16 rfl rfl)
theorem dX1_tester_91 : decode cX1_tester 91 = .ok (.dup, 1) := dk_89 (dk_at dksX1_tester_3 19 rfl rfl)
theorem dX1_tester_92 : decode cX1_tester 92 = .ok (.sipush 200, 3) := dk_17 0 200 (dk_at dksX1_tester_3 20 rfl rfl)
theorem dX1_tester_95 : decode cX1_tester 95 = .ok (.invokespecial 22, 3) := dk_183 0 22 (dk_at dksX1_tester_4 0 rfl rfl)
theorem dX1_tester_98 : decode cX1_tester 98 = .ok (.putfield 25, 3) := dk_181 0 25 (dk_at dksX1_tester_4 3 rfl rfl)
theorem dX1_tester_101 : decode cX1_tester 101 = .ok (.aload_n 0, 1) := dk_42 (dk_at dksX1_tester_4 6 rfl rfl)
theorem dX1_tester_102 : decode cX1_tester 102 = .ok (.iconst 0, 1) := dk_3 (dk_at dksX1_tester_4 7 rfl rfl)
theorem dX1_tester_103 : decode cX1_tester 103 = .ok (.putfield 80, 3) := dk_181 0 80 (dk_at dksX1_tester_4 8 rfl rfl)
theorem dX1_tester_106 : decode cX1_tester 106 = .ok (.aload_n 0, 1) := dk_42 (dk_at dksX1_tester_4 11 rfl rfl)
theorem dX1_tester_107 : decode cX1_tester 107 = .ok (.aload_n 0, 1) := dk_42 (dk_at dksX1_tester_4 12 rfl rfl)
theorem dX1_tester_108 : decode cX1_tester 108 = .ok (.getfield 76, 3) := dk_180 0 76 (dk_at dksX1_tester_4 13 rfl rfl)
theorem dX1_tester_111 : decode cX1_tester 111 = .ok (.getfield 84, 3) := dk_180 0 84 (dk_at dksX1_tester_4 16 rfl rfl)
theorem dX1_tester_114 : decode cX1_tester 114 = .ok (.invokevirtual 88, 3) := dk_182 0 88 (dk_at dksX1_tester_4 19 rfl rfl)
theorem dX1_tester_117 : decode cX1_tester 117 = .ok (.invokevirtual 94, 3) := dk_182 0 94 (dk_at dksX1_tester_5 0 rfl rfl)
theorem dX1_tester_120 : decode cX1_tester 120 = .ok (.ireturn, 1) := dk_172 (dk_at dksX1_tester_5 3 rfl rfl)
abbrev cX1_isIn : ByteArray := prog_1_method_1_code
def yX1_isIn : MethodName := ⟨RX1, "isIn", "(III)Z"⟩
def dkwX1_isIn_0 : List UInt8 := [26, 27, 161, 0, 12, 26, 28, 163, 0, 7, 4, 167, 0, 4, 3, 172]
abbrev dktX1_isIn_0 : List UInt8 := dkwX1_isIn_0 ++ []
theorem dksX1_isIn_0 : cX1_isIn.data.toList.drop 0 = dktX1_isIn_0 := by decide +kernel
theorem dX1_isIn_0 : decode cX1_isIn 0 = .ok (.iload_n 0, 1) := dk_26 (dk_at dksX1_isIn_0 0 rfl rfl)
theorem dX1_isIn_1 : decode cX1_isIn 1 = .ok (.iload_n 1, 1) := dk_27 (dk_at dksX1_isIn_0 1 rfl rfl)
theorem dX1_isIn_2 : decode cX1_isIn 2 = .ok (.if_icmp .lt 12, 3) := dk_161 0 12 (dk_at dksX1_isIn_0 2 rfl rfl)
theorem dX1_isIn_5 : decode cX1_isIn 5 = .ok (.iload_n 0, 1) := dk_26 (dk_at dksX1_isIn_0 5 rfl rfl)
theorem dX1_isIn_6 : decode cX1_isIn 6 = .ok (.iload_n 2, 1) := dk_28 (dk_at dksX1_isIn_0 6 rfl rfl)
theorem dX1_isIn_7 : decode cX1_isIn 7 = .ok (.if_icmp .gt 7, 3) := dk_163 0 7 (dk_at dksX1_isIn_0 7 rfl rfl)
theorem dX1_isIn_10 : decode cX1_isIn 10 = .ok (.iconst 1, 1) := dk_4 (dk_at dksX1_isIn_0 10 rfl rfl)
theorem dX1_isIn_11 : decode cX1_isIn 11 = .ok (.goto 4, 3) := dk_167 0 4 (dk_at dksX1_isIn_0 11 rfl rfl)
theorem dX1_isIn_14 : decode cX1_isIn 14 = .ok (.iconst 0, 1) := dk_3 (dk_at dksX1_isIn_0 14 rfl rfl)
theorem dX1_isIn_15 : decode cX1_isIn 15 = .ok (.ireturn, 1) := dk_172 (dk_at dksX1_isIn_0 15 rfl rfl)
abbrev cX1_refused : ByteArray := prog_1_method_2_code
def yX1_refused : MethodName := ⟨RX1, "refused", "(I)I"⟩
def dkwX1_refused_0 : List UInt8 := [42, 27, 181, 0, 3, 42, 2, 181, 0, 7, 2, 172]
abbrev dktX1_refused_0 : List UInt8 := dkwX1_refused_0 ++ []
theorem dksX1_refused_0 : cX1_refused.data.toList.drop 0 = dktX1_refused_0 := by decide +kernel
theorem dX1_refused_0 : decode cX1_refused 0 = .ok (.aload_n 0, 1) := dk_42 (dk_at dksX1_refused_0 0 rfl rfl)
theorem dX1_refused_1 : decode cX1_refused 1 = .ok (.iload_n 1, 1) := dk_27 (dk_at dksX1_refused_0 1 rfl rfl)
theorem dX1_refused_2 : decode cX1_refused 2 = .ok (.putfield 3, 3) := dk_181 0 3 (dk_at dksX1_refused_0 2 rfl rfl)
theorem dX1_refused_5 : decode cX1_refused 5 = .ok (.aload_n 0, 1) := dk_42 (dk_at dksX1_refused_0 5 rfl rfl)
theorem dX1_refused_6 : decode cX1_refused 6 = .ok (.iconst (-1), 1) := dk_2 (dk_at dksX1_refused_0 6 rfl rfl)
theorem dX1_refused_7 : decode cX1_refused 7 = .ok (.putfield 7, 3) := dk_181 0 7 (dk_at dksX1_refused_0 7 rfl rfl)
theorem dX1_refused_10 : decode cX1_refused 10 = .ok (.iconst (-1), 1) := dk_2 (dk_at dksX1_refused_0 10 rfl rfl)
theorem dX1_refused_11 : decode cX1_refused 11 = .ok (.ireturn, 1) := dk_172 (dk_at dksX1_refused_0 11 rfl rfl)
abbrev cX1_fine : ByteArray := prog_1_method_3_code
def yX1_fine : MethodName := ⟨RX1, "fine", "(I)I"⟩
def dkwX1_fine_0 : List UInt8 := [42, 3, 181, 0, 3, 42, 2, 181, 0, 7, 27, 172]
abbrev dktX1_fine_0 : List UInt8 := dkwX1_fine_0 ++ []
theorem dksX1_fine_0 : cX1_fine.data.toList.drop 0 = dktX1_fine_0 := by decide +kernel
theorem dX1_fine_0 : decode cX1_fine 0 = .ok (.aload_n 0, 1) := dk_42 (dk_at dksX1_fine_0 0 rfl rfl)
theorem dX1_fine_1 : decode cX1_fine 1 = .ok (.iconst 0, 1) := dk_3 (dk_at dksX1_fine_0 1 rfl rfl)
theorem dX1_fine_2 : decode cX1_fine 2 = .ok (.putfield 3, 3) := dk_181 0 3 (dk_at dksX1_fine_0 2 rfl rfl)
theorem dX1_fine_5 : decode cX1_fine 5 = .ok (.aload_n 0, 1) := dk_42 (dk_at dksX1_fine_0 5 rfl rfl)
theorem dX1_fine_6 : decode cX1_fine 6 = .ok (.iconst (-1), 1) := dk_2 (dk_at dksX1_fine_0 6 rfl rfl)
theorem dX1_fine_7 : decode cX1_fine 7 = .ok (.putfield 7, 3) := dk_181 0 7 (dk_at dksX1_fine_0 7 rfl rfl)
theorem dX1_fine_10 : decode cX1_fine 10 = .ok (.iload_n 1, 1) := dk_27 (dk_at dksX1_fine_0 10 rfl rfl)
theorem dX1_fine_11 : decode cX1_fine 11 = .ok (.ireturn, 1) := dk_172 (dk_at dksX1_fine_0 11 rfl rfl)
abbrev cX1_fault : ByteArray := prog_1_method_8_code
def yX1_fault : MethodName := ⟨RX1, "fault", "()I"⟩
theorem dX1_fault_0 : decode cX1_fault 0 = .ok (.aload_n 0, 1) := by decide +kernel
theorem dX1_fault_1 : decode cX1_fault 1 = .ok (.getfield 47, 3) := by decide +kernel
theorem dX1_fault_4 : decode cX1_fault 4 = .ok (.ireturn, 1) := by decide +kernel
abbrev cX1_where : ByteArray := prog_1_method_9_code
def yX1_where : MethodName := ⟨RX1, "where", "()I"⟩
theorem dX1_where_0 : decode cX1_where 0 = .ok (.aload_n 0, 1) := by decide +kernel
theorem dX1_where_1 : decode cX1_where 1 = .ok (.getfield 7, 3) := by decide +kernel
theorem dX1_where_4 : decode cX1_where 4 = .ok (.ireturn, 1) := by decide +kernel
abbrev cX1_about : ByteArray := prog_1_method_10_code
def yX1_about : MethodName := ⟨RX1, "about", "(I)I"⟩
def dkwX1_about_7 : List UInt8 := [172]
abbrev dktX1_about_7 : List UInt8 := dkwX1_about_7 ++ []
def dkwX1_about_6 : List UInt8 := [182, 0, 94, 172, 42, 42, 180, 0, 59, 180, 0, 120, 182, 0, 88, 182, 0, 94, 172, 42, 4, 182, 0, 43]
abbrev dktX1_about_6 : List UInt8 := dkwX1_about_6 ++ dktX1_about_7
def dkwX1_about_5 : List UInt8 := [42, 42, 180, 0, 76, 180, 0, 84, 182, 0, 88, 182, 0, 94, 172, 42, 42, 180, 0, 76, 182, 0, 117]
abbrev dktX1_about_5 : List UInt8 := dkwX1_about_5 ++ dktX1_about_6
def dkwX1_about_4 : List UInt8 := [42, 42, 180, 0, 59, 180, 0, 111, 182, 0, 94, 172, 42, 42, 180, 0, 76, 180, 0, 114, 182, 0, 94, 172]
abbrev dktX1_about_4 : List UInt8 := dkwX1_about_4 ++ dktX1_about_5
def dkwX1_about_3 : List UInt8 := [42, 42, 180, 0, 59, 180, 0, 105, 182, 0, 94, 172, 42, 42, 180, 0, 59, 180, 0, 108, 182, 0, 94, 172]
abbrev dktX1_about_3 : List UInt8 := dkwX1_about_3 ++ dktX1_about_4
def dkwX1_about_2 : List UInt8 := [42, 42, 180, 0, 59, 180, 0, 97, 182, 0, 94, 172, 42, 42, 180, 0, 59, 180, 0, 102, 182, 0, 94, 172]
abbrev dktX1_about_2 : List UInt8 := dkwX1_about_2 ++ dktX1_about_3
def dkwX1_about_1 : List UInt8 := [170, 0, 0, 0, 0, 164, 0, 0, 0, 0, 0, 0, 0, 8, 0, 0, 0, 50, 0, 0, 0, 62, 0, 0, 0, 74, 0, 0, 0, 86, 0, 0, 0, 98, 0, 0, 0, 110, 0, 0, 0, 122, 0, 0, 0, 137, 0, 0, 0, 149]
abbrev dktX1_about_1 : List UInt8 := dkwX1_about_1 ++ dktX1_about_2
def dkwX1_about_0 : List UInt8 := [42, 180, 0, 76, 199, 0, 9, 42, 4, 182, 0, 43, 172, 27]
abbrev dktX1_about_0 : List UInt8 := dkwX1_about_0 ++ dktX1_about_1
theorem dksX1_about_0 : cX1_about.data.toList.drop 0 = dktX1_about_0 := by decide +kernel
theorem dksX1_about_1 : cX1_about.data.toList.drop 14 = dktX1_about_1 := dk_seg dksX1_about_0 14 rfl rfl
theorem dksX1_about_2 : cX1_about.data.toList.drop 64 = dktX1_about_2 := dk_seg dksX1_about_1 50 rfl rfl
theorem dksX1_about_3 : cX1_about.data.toList.drop 88 = dktX1_about_3 := dk_seg dksX1_about_2 24 rfl rfl
theorem dksX1_about_4 : cX1_about.data.toList.drop 112 = dktX1_about_4 := dk_seg dksX1_about_3 24 rfl rfl
theorem dksX1_about_5 : cX1_about.data.toList.drop 136 = dktX1_about_5 := dk_seg dksX1_about_4 24 rfl rfl
theorem dksX1_about_6 : cX1_about.data.toList.drop 159 = dktX1_about_6 := dk_seg dksX1_about_5 23 rfl rfl
theorem dksX1_about_7 : cX1_about.data.toList.drop 183 = dktX1_about_7 := dk_seg dksX1_about_6 24 rfl rfl
theorem dX1_about_0 : decode cX1_about 0 = .ok (.aload_n 0, 1) := dk_42 (dk_at dksX1_about_0 0 rfl rfl)
theorem dX1_about_1 : decode cX1_about 1 = .ok (.getfield 76, 3) := dk_180 0 76 (dk_at dksX1_about_0 1 rfl rfl)
theorem dX1_about_4 : decode cX1_about 4 = .ok (.ifnonnull 9, 3) := dk_199 0 9 (dk_at dksX1_about_0 4 rfl rfl)
theorem dX1_about_7 : decode cX1_about 7 = .ok (.aload_n 0, 1) := dk_42 (dk_at dksX1_about_0 7 rfl rfl)
theorem dX1_about_8 : decode cX1_about 8 = .ok (.iconst 1, 1) := dk_4 (dk_at dksX1_about_0 8 rfl rfl)
theorem dX1_about_9 : decode cX1_about 9 = .ok (.invokevirtual 43, 3) := dk_182 0 43 (dk_at dksX1_about_0 9 rfl rfl)
theorem dX1_about_12 : decode cX1_about 12 = .ok (.ireturn, 1) := dk_172 (dk_at dksX1_about_0 12 rfl rfl)
theorem dX1_about_13 : decode cX1_about 13 = .ok (.iload_n 1, 1) := dk_27 (dk_at dksX1_about_0 13 rfl rfl)
theorem dX1_about_14 : decode cX1_about 14 = .ok (.tableswitch 164 0 8 #[50, 62, 74, 86, 98, 110, 122, 137, 149], 50) := by decide +kernel
theorem dX1_about_64 : decode cX1_about 64 = .ok (.aload_n 0, 1) := dk_42 (dk_at dksX1_about_2 0 rfl rfl)
theorem dX1_about_65 : decode cX1_about 65 = .ok (.aload_n 0, 1) := dk_42 (dk_at dksX1_about_2 1 rfl rfl)
theorem dX1_about_66 : decode cX1_about 66 = .ok (.getfield 59, 3) := dk_180 0 59 (dk_at dksX1_about_2 2 rfl rfl)
theorem dX1_about_69 : decode cX1_about 69 = .ok (.getfield 97, 3) := dk_180 0 97 (dk_at dksX1_about_2 5 rfl rfl)
theorem dX1_about_72 : decode cX1_about 72 = .ok (.invokevirtual 94, 3) := dk_182 0 94 (dk_at dksX1_about_2 8 rfl rfl)
theorem dX1_about_75 : decode cX1_about 75 = .ok (.ireturn, 1) := dk_172 (dk_at dksX1_about_2 11 rfl rfl)
theorem dX1_about_76 : decode cX1_about 76 = .ok (.aload_n 0, 1) := dk_42 (dk_at dksX1_about_2 12 rfl rfl)
theorem dX1_about_77 : decode cX1_about 77 = .ok (.aload_n 0, 1) := dk_42 (dk_at dksX1_about_2 13 rfl rfl)
theorem dX1_about_78 : decode cX1_about 78 = .ok (.getfield 59, 3) := dk_180 0 59 (dk_at dksX1_about_2 14 rfl rfl)
theorem dX1_about_81 : decode cX1_about 81 = .ok (.getfield 102, 3) := dk_180 0 102 (dk_at dksX1_about_2 17 rfl rfl)
theorem dX1_about_84 : decode cX1_about 84 = .ok (.invokevirtual 94, 3) := dk_182 0 94 (dk_at dksX1_about_2 20 rfl rfl)
theorem dX1_about_87 : decode cX1_about 87 = .ok (.ireturn, 1) := dk_172 (dk_at dksX1_about_2 23 rfl rfl)
theorem dX1_about_88 : decode cX1_about 88 = .ok (.aload_n 0, 1) := dk_42 (dk_at dksX1_about_3 0 rfl rfl)
theorem dX1_about_89 : decode cX1_about 89 = .ok (.aload_n 0, 1) := dk_42 (dk_at dksX1_about_3 1 rfl rfl)
theorem dX1_about_90 : decode cX1_about 90 = .ok (.getfield 59, 3) := dk_180 0 59 (dk_at dksX1_about_3 2 rfl rfl)
theorem dX1_about_93 : decode cX1_about 93 = .ok (.getfield 105, 3) := dk_180 0 105 (dk_at dksX1_about_3 5 rfl rfl)
theorem dX1_about_96 : decode cX1_about 96 = .ok (.invokevirtual 94, 3) := dk_182 0 94 (dk_at dksX1_about_3 8 rfl rfl)
theorem dX1_about_99 : decode cX1_about 99 = .ok (.ireturn, 1) := dk_172 (dk_at dksX1_about_3 11 rfl rfl)
theorem dX1_about_100 : decode cX1_about 100 = .ok (.aload_n 0, 1) := dk_42 (dk_at dksX1_about_3 12 rfl rfl)
theorem dX1_about_101 : decode cX1_about 101 = .ok (.aload_n 0, 1) := dk_42 (dk_at dksX1_about_3 13 rfl rfl)
theorem dX1_about_102 : decode cX1_about 102 = .ok (.getfield 59, 3) := dk_180 0 59 (dk_at dksX1_about_3 14 rfl rfl)
theorem dX1_about_105 : decode cX1_about 105 = .ok (.getfield 108, 3) := dk_180 0 108 (dk_at dksX1_about_3 17 rfl rfl)
theorem dX1_about_108 : decode cX1_about 108 = .ok (.invokevirtual 94, 3) := dk_182 0 94 (dk_at dksX1_about_3 20 rfl rfl)
theorem dX1_about_111 : decode cX1_about 111 = .ok (.ireturn, 1) := dk_172 (dk_at dksX1_about_3 23 rfl rfl)
theorem dX1_about_112 : decode cX1_about 112 = .ok (.aload_n 0, 1) := dk_42 (dk_at dksX1_about_4 0 rfl rfl)
theorem dX1_about_113 : decode cX1_about 113 = .ok (.aload_n 0, 1) := dk_42 (dk_at dksX1_about_4 1 rfl rfl)
theorem dX1_about_114 : decode cX1_about 114 = .ok (.getfield 59, 3) := dk_180 0 59 (dk_at dksX1_about_4 2 rfl rfl)
theorem dX1_about_117 : decode cX1_about 117 = .ok (.getfield 111, 3) := dk_180 0 111 (dk_at dksX1_about_4 5 rfl rfl)
theorem dX1_about_120 : decode cX1_about 120 = .ok (.invokevirtual 94, 3) := dk_182 0 94 (dk_at dksX1_about_4 8 rfl rfl)
theorem dX1_about_123 : decode cX1_about 123 = .ok (.ireturn, 1) := dk_172 (dk_at dksX1_about_4 11 rfl rfl)
theorem dX1_about_124 : decode cX1_about 124 = .ok (.aload_n 0, 1) := dk_42 (dk_at dksX1_about_4 12 rfl rfl)
theorem dX1_about_125 : decode cX1_about 125 = .ok (.aload_n 0, 1) := dk_42 (dk_at dksX1_about_4 13 rfl rfl)
theorem dX1_about_126 : decode cX1_about 126 = .ok (.getfield 76, 3) := dk_180 0 76 (dk_at dksX1_about_4 14 rfl rfl)
theorem dX1_about_129 : decode cX1_about 129 = .ok (.getfield 114, 3) := dk_180 0 114 (dk_at dksX1_about_4 17 rfl rfl)
theorem dX1_about_132 : decode cX1_about 132 = .ok (.invokevirtual 94, 3) := dk_182 0 94 (dk_at dksX1_about_4 20 rfl rfl)
theorem dX1_about_135 : decode cX1_about 135 = .ok (.ireturn, 1) := dk_172 (dk_at dksX1_about_4 23 rfl rfl)
theorem dX1_about_136 : decode cX1_about 136 = .ok (.aload_n 0, 1) := dk_42 (dk_at dksX1_about_5 0 rfl rfl)
theorem dX1_about_137 : decode cX1_about 137 = .ok (.aload_n 0, 1) := dk_42 (dk_at dksX1_about_5 1 rfl rfl)
theorem dX1_about_138 : decode cX1_about 138 = .ok (.getfield 76, 3) := dk_180 0 76 (dk_at dksX1_about_5 2 rfl rfl)
theorem dX1_about_141 : decode cX1_about 141 = .ok (.getfield 84, 3) := dk_180 0 84 (dk_at dksX1_about_5 5 rfl rfl)
theorem dX1_about_144 : decode cX1_about 144 = .ok (.invokevirtual 88, 3) := dk_182 0 88 (dk_at dksX1_about_5 8 rfl rfl)
theorem dX1_about_147 : decode cX1_about 147 = .ok (.invokevirtual 94, 3) := dk_182 0 94 (dk_at dksX1_about_5 11 rfl rfl)
theorem dX1_about_150 : decode cX1_about 150 = .ok (.ireturn, 1) := dk_172 (dk_at dksX1_about_5 14 rfl rfl)
theorem dX1_about_151 : decode cX1_about 151 = .ok (.aload_n 0, 1) := dk_42 (dk_at dksX1_about_5 15 rfl rfl)
theorem dX1_about_152 : decode cX1_about 152 = .ok (.aload_n 0, 1) := dk_42 (dk_at dksX1_about_5 16 rfl rfl)
theorem dX1_about_153 : decode cX1_about 153 = .ok (.getfield 76, 3) := dk_180 0 76 (dk_at dksX1_about_5 17 rfl rfl)
theorem dX1_about_156 : decode cX1_about 156 = .ok (.invokevirtual 117, 3) := dk_182 0 117 (dk_at dksX1_about_5 20 rfl rfl)
theorem dX1_about_159 : decode cX1_about 159 = .ok (.invokevirtual 94, 3) := dk_182 0 94 (dk_at dksX1_about_6 0 rfl rfl)
theorem dX1_about_162 : decode cX1_about 162 = .ok (.ireturn, 1) := dk_172 (dk_at dksX1_about_6 3 rfl rfl)
theorem dX1_about_163 : decode cX1_about 163 = .ok (.aload_n 0, 1) := dk_42 (dk_at dksX1_about_6 4 rfl rfl)
theorem dX1_about_164 : decode cX1_about 164 = .ok (.aload_n 0, 1) := dk_42 (dk_at dksX1_about_6 5 rfl rfl)
theorem dX1_about_165 : decode cX1_about 165 = .ok (.getfield 59, 3) := dk_180 0 59 (dk_at dksX1_about_6 6 rfl rfl)
theorem dX1_about_168 : decode cX1_about 168 = .ok (.getfield 120, 3) := dk_180 0 120 (dk_at dksX1_about_6 9 rfl rfl)
theorem dX1_about_171 : decode cX1_about 171 = .ok (.invokevirtual 88, 3) := dk_182 0 88 (dk_at dksX1_about_6 12 rfl rfl)
theorem dX1_about_174 : decode cX1_about 174 = .ok (.invokevirtual 94, 3) := dk_182 0 94 (dk_at dksX1_about_6 15 rfl rfl)
theorem dX1_about_177 : decode cX1_about 177 = .ok (.ireturn, 1) := dk_172 (dk_at dksX1_about_6 18 rfl rfl)
theorem dX1_about_178 : decode cX1_about 178 = .ok (.aload_n 0, 1) := dk_42 (dk_at dksX1_about_6 19 rfl rfl)
theorem dX1_about_179 : decode cX1_about 179 = .ok (.iconst 1, 1) := dk_4 (dk_at dksX1_about_6 20 rfl rfl)
theorem dX1_about_180 : decode cX1_about 180 = .ok (.invokevirtual 43, 3) := dk_182 0 43 (dk_at dksX1_about_6 21 rfl rfl)
theorem dX1_about_183 : decode cX1_about 183 = .ok (.ireturn, 1) := dk_172 (dk_at dksX1_about_7 0 rfl rfl)
abbrev cX1_listener : ByteArray := prog_1_method_12_code
def yX1_listener : MethodName := ⟨RX1, "listener", "(III)I"⟩
def dkwX1_listener_1 : List UInt8 := [167, 0, 8, 42, 4, 182, 0, 43, 172]
abbrev dktX1_listener_1 : List UInt8 := dkwX1_listener_1 ++ []
def dkwX1_listener_0 : List UInt8 := [42, 27, 28, 29, 182, 0, 123, 153, 0, 20, 42, 42, 180, 0, 59, 27, 28, 29, 182, 0, 126, 182, 0, 94]
abbrev dktX1_listener_0 : List UInt8 := dkwX1_listener_0 ++ dktX1_listener_1
theorem dksX1_listener_0 : cX1_listener.data.toList.drop 0 = dktX1_listener_0 := by decide +kernel
theorem dksX1_listener_1 : cX1_listener.data.toList.drop 24 = dktX1_listener_1 := dk_seg dksX1_listener_0 24 rfl rfl
theorem dX1_listener_0 : decode cX1_listener 0 = .ok (.aload_n 0, 1) := dk_42 (dk_at dksX1_listener_0 0 rfl rfl)
theorem dX1_listener_1 : decode cX1_listener 1 = .ok (.iload_n 1, 1) := dk_27 (dk_at dksX1_listener_0 1 rfl rfl)
theorem dX1_listener_2 : decode cX1_listener 2 = .ok (.iload_n 2, 1) := dk_28 (dk_at dksX1_listener_0 2 rfl rfl)
theorem dX1_listener_3 : decode cX1_listener 3 = .ok (.iload_n 3, 1) := dk_29 (dk_at dksX1_listener_0 3 rfl rfl)
theorem dX1_listener_4 : decode cX1_listener 4 = .ok (.invokevirtual 123, 3) := dk_182 0 123 (dk_at dksX1_listener_0 4 rfl rfl)
theorem dX1_listener_7 : decode cX1_listener 7 = .ok (.ifCond .eq 20, 3) := dk_153 0 20 (dk_at dksX1_listener_0 7 rfl rfl)
theorem dX1_listener_10 : decode cX1_listener 10 = .ok (.aload_n 0, 1) := dk_42 (dk_at dksX1_listener_0 10 rfl rfl)
theorem dX1_listener_11 : decode cX1_listener 11 = .ok (.aload_n 0, 1) := dk_42 (dk_at dksX1_listener_0 11 rfl rfl)
theorem dX1_listener_12 : decode cX1_listener 12 = .ok (.getfield 59, 3) := dk_180 0 59 (dk_at dksX1_listener_0 12 rfl rfl)
theorem dX1_listener_15 : decode cX1_listener 15 = .ok (.iload_n 1, 1) := dk_27 (dk_at dksX1_listener_0 15 rfl rfl)
theorem dX1_listener_16 : decode cX1_listener 16 = .ok (.iload_n 2, 1) := dk_28 (dk_at dksX1_listener_0 16 rfl rfl)
theorem dX1_listener_17 : decode cX1_listener 17 = .ok (.iload_n 3, 1) := dk_29 (dk_at dksX1_listener_0 17 rfl rfl)
theorem dX1_listener_18 : decode cX1_listener 18 = .ok (.invokevirtual 126, 3) := dk_182 0 126 (dk_at dksX1_listener_0 18 rfl rfl)
theorem dX1_listener_21 : decode cX1_listener 21 = .ok (.invokevirtual 94, 3) := dk_182 0 94 (dk_at dksX1_listener_0 21 rfl rfl)
theorem dX1_listener_24 : decode cX1_listener 24 = .ok (.goto 8, 3) := dk_167 0 8 (dk_at dksX1_listener_1 0 rfl rfl)
theorem dX1_listener_27 : decode cX1_listener 27 = .ok (.aload_n 0, 1) := dk_42 (dk_at dksX1_listener_1 3 rfl rfl)
theorem dX1_listener_28 : decode cX1_listener 28 = .ok (.iconst 1, 1) := dk_4 (dk_at dksX1_listener_1 4 rfl rfl)
theorem dX1_listener_29 : decode cX1_listener 29 = .ok (.invokevirtual 43, 3) := dk_182 0 43 (dk_at dksX1_listener_1 5 rfl rfl)
theorem dX1_listener_32 : decode cX1_listener 32 = .ok (.ireturn, 1) := dk_172 (dk_at dksX1_listener_1 8 rfl rfl)
abbrev cX1_isOf : ByteArray := prog_1_method_11_code
def yX1_isOf : MethodName := ⟨RX1, "isOf", "(III)Z"⟩
def dkwX1_isOf_2 : List UInt8 := [3, 172]
abbrev dktX1_isOf_2 : List UInt8 := dkwX1_isOf_2 ++ []
def dkwX1_isOf_1 : List UInt8 := [153, 0, 24, 29, 3, 42, 180, 0, 59, 180, 0, 97, 4, 100, 184, 0, 39, 153, 0, 7, 4, 167, 0, 4]
abbrev dktX1_isOf_1 : List UInt8 := dkwX1_isOf_1 ++ dktX1_isOf_2
def dkwX1_isOf_0 : List UInt8 := [42, 180, 0, 76, 198, 0, 42, 27, 3, 4, 184, 0, 39, 153, 0, 33, 28, 3, 4, 184, 0, 39]
abbrev dktX1_isOf_0 : List UInt8 := dkwX1_isOf_0 ++ dktX1_isOf_1
theorem dksX1_isOf_0 : cX1_isOf.data.toList.drop 0 = dktX1_isOf_0 := by decide +kernel
theorem dksX1_isOf_1 : cX1_isOf.data.toList.drop 22 = dktX1_isOf_1 := dk_seg dksX1_isOf_0 22 rfl rfl
theorem dksX1_isOf_2 : cX1_isOf.data.toList.drop 46 = dktX1_isOf_2 := dk_seg dksX1_isOf_1 24 rfl rfl
theorem dX1_isOf_0 : decode cX1_isOf 0 = .ok (.aload_n 0, 1) := dk_42 (dk_at dksX1_isOf_0 0 rfl rfl)
theorem dX1_isOf_1 : decode cX1_isOf 1 = .ok (.getfield 76, 3) := dk_180 0 76 (dk_at dksX1_isOf_0 1 rfl rfl)
theorem dX1_isOf_4 : decode cX1_isOf 4 = .ok (.ifnull 42, 3) := dk_198 0 42 (dk_at dksX1_isOf_0 4 rfl rfl)
theorem dX1_isOf_7 : decode cX1_isOf 7 = .ok (.iload_n 1, 1) := dk_27 (dk_at dksX1_isOf_0 7 rfl rfl)
theorem dX1_isOf_8 : decode cX1_isOf 8 = .ok (.iconst 0, 1) := dk_3 (dk_at dksX1_isOf_0 8 rfl rfl)
theorem dX1_isOf_9 : decode cX1_isOf 9 = .ok (.iconst 1, 1) := dk_4 (dk_at dksX1_isOf_0 9 rfl rfl)
theorem dX1_isOf_10 : decode cX1_isOf 10 = .ok (.invokestatic 39, 3) := dk_184 0 39 (dk_at dksX1_isOf_0 10 rfl rfl)
theorem dX1_isOf_13 : decode cX1_isOf 13 = .ok (.ifCond .eq 33, 3) := dk_153 0 33 (dk_at dksX1_isOf_0 13 rfl rfl)
theorem dX1_isOf_16 : decode cX1_isOf 16 = .ok (.iload_n 2, 1) := dk_28 (dk_at dksX1_isOf_0 16 rfl rfl)
theorem dX1_isOf_17 : decode cX1_isOf 17 = .ok (.iconst 0, 1) := dk_3 (dk_at dksX1_isOf_0 17 rfl rfl)
theorem dX1_isOf_18 : decode cX1_isOf 18 = .ok (.iconst 1, 1) := dk_4 (dk_at dksX1_isOf_0 18 rfl rfl)
theorem dX1_isOf_19 : decode cX1_isOf 19 = .ok (.invokestatic 39, 3) := dk_184 0 39 (dk_at dksX1_isOf_0 19 rfl rfl)
theorem dX1_isOf_22 : decode cX1_isOf 22 = .ok (.ifCond .eq 24, 3) := dk_153 0 24 (dk_at dksX1_isOf_1 0 rfl rfl)
theorem dX1_isOf_25 : decode cX1_isOf 25 = .ok (.iload_n 3, 1) := dk_29 (dk_at dksX1_isOf_1 3 rfl rfl)
theorem dX1_isOf_26 : decode cX1_isOf 26 = .ok (.iconst 0, 1) := dk_3 (dk_at dksX1_isOf_1 4 rfl rfl)
theorem dX1_isOf_27 : decode cX1_isOf 27 = .ok (.aload_n 0, 1) := dk_42 (dk_at dksX1_isOf_1 5 rfl rfl)
theorem dX1_isOf_28 : decode cX1_isOf 28 = .ok (.getfield 59, 3) := dk_180 0 59 (dk_at dksX1_isOf_1 6 rfl rfl)
theorem dX1_isOf_31 : decode cX1_isOf 31 = .ok (.getfield 97, 3) := dk_180 0 97 (dk_at dksX1_isOf_1 9 rfl rfl)
theorem dX1_isOf_34 : decode cX1_isOf 34 = .ok (.iconst 1, 1) := dk_4 (dk_at dksX1_isOf_1 12 rfl rfl)
theorem dX1_isOf_35 : decode cX1_isOf 35 = .ok (.isub, 1) := dk_100 (dk_at dksX1_isOf_1 13 rfl rfl)
theorem dX1_isOf_36 : decode cX1_isOf 36 = .ok (.invokestatic 39, 3) := dk_184 0 39 (dk_at dksX1_isOf_1 14 rfl rfl)
theorem dX1_isOf_39 : decode cX1_isOf 39 = .ok (.ifCond .eq 7, 3) := dk_153 0 7 (dk_at dksX1_isOf_1 17 rfl rfl)
theorem dX1_isOf_42 : decode cX1_isOf 42 = .ok (.iconst 1, 1) := dk_4 (dk_at dksX1_isOf_1 20 rfl rfl)
theorem dX1_isOf_43 : decode cX1_isOf 43 = .ok (.goto 4, 3) := dk_167 0 4 (dk_at dksX1_isOf_1 21 rfl rfl)
theorem dX1_isOf_46 : decode cX1_isOf 46 = .ok (.iconst 0, 1) := dk_3 (dk_at dksX1_isOf_2 0 rfl rfl)
theorem dX1_isOf_47 : decode cX1_isOf 47 = .ok (.ireturn, 1) := dk_172 (dk_at dksX1_isOf_2 1 rfl rfl)
abbrev cX1_hears : ByteArray := prog_1_method_14_code
def yX1_hears : MethodName := ⟨RX1, "hears", "(IIIII)I"⟩
def dkwX1_hears_3 : List UInt8 := [128, 182, 0, 94, 172]
abbrev dktX1_hears_3 : List UInt8 := dkwX1_hears_3 ++ []
def dkwX1_hears_2 : List UInt8 := [3, 42, 180, 0, 59, 27, 28, 29, 21, 4, 21, 5, 4, 182, 0, 134, 153, 0, 7, 5, 167, 0, 4, 3]
abbrev dktX1_hears_2 : List UInt8 := dkwX1_hears_2 ++ dktX1_hears_3
def dkwX1_hears_1 : List UInt8 := [172, 42, 42, 180, 0, 59, 27, 28, 29, 21, 4, 21, 5, 3, 182, 0, 134, 153, 0, 7, 4, 167, 0, 4]
abbrev dktX1_hears_1 : List UInt8 := dkwX1_hears_1 ++ dktX1_hears_2
def dkwX1_hears_0 : List UInt8 := [42, 27, 28, 29, 21, 4, 21, 5, 182, 0, 130, 54, 6, 21, 6, 158, 0, 10, 42, 21, 6, 182, 0, 43]
abbrev dktX1_hears_0 : List UInt8 := dkwX1_hears_0 ++ dktX1_hears_1
theorem dksX1_hears_0 : cX1_hears.data.toList.drop 0 = dktX1_hears_0 := by decide +kernel
theorem dksX1_hears_1 : cX1_hears.data.toList.drop 24 = dktX1_hears_1 := dk_seg dksX1_hears_0 24 rfl rfl
theorem dksX1_hears_2 : cX1_hears.data.toList.drop 48 = dktX1_hears_2 := dk_seg dksX1_hears_1 24 rfl rfl
theorem dksX1_hears_3 : cX1_hears.data.toList.drop 72 = dktX1_hears_3 := dk_seg dksX1_hears_2 24 rfl rfl
theorem dX1_hears_0 : decode cX1_hears 0 = .ok (.aload_n 0, 1) := dk_42 (dk_at dksX1_hears_0 0 rfl rfl)
theorem dX1_hears_1 : decode cX1_hears 1 = .ok (.iload_n 1, 1) := dk_27 (dk_at dksX1_hears_0 1 rfl rfl)
theorem dX1_hears_2 : decode cX1_hears 2 = .ok (.iload_n 2, 1) := dk_28 (dk_at dksX1_hears_0 2 rfl rfl)
theorem dX1_hears_3 : decode cX1_hears 3 = .ok (.iload_n 3, 1) := dk_29 (dk_at dksX1_hears_0 3 rfl rfl)
theorem dX1_hears_4 : decode cX1_hears 4 = .ok (.iload 4, 2) := dk_21 4 (dk_at dksX1_hears_0 4 rfl rfl)
theorem dX1_hears_6 : decode cX1_hears 6 = .ok (.iload 5, 2) := dk_21 5 (dk_at dksX1_hears_0 6 rfl rfl)
theorem dX1_hears_8 : decode cX1_hears 8 = .ok (.invokevirtual 130, 3) := dk_182 0 130 (dk_at dksX1_hears_0 8 rfl rfl)
theorem dX1_hears_11 : decode cX1_hears 11 = .ok (.istore 6, 2) := dk_54 6 (dk_at dksX1_hears_0 11 rfl rfl)
theorem dX1_hears_13 : decode cX1_hears 13 = .ok (.iload 6, 2) := dk_21 6 (dk_at dksX1_hears_0 13 rfl rfl)
theorem dX1_hears_15 : decode cX1_hears 15 = .ok (.ifCond .le 10, 3) := dk_158 0 10 (dk_at dksX1_hears_0 15 rfl rfl)
theorem dX1_hears_18 : decode cX1_hears 18 = .ok (.aload_n 0, 1) := dk_42 (dk_at dksX1_hears_0 18 rfl rfl)
theorem dX1_hears_19 : decode cX1_hears 19 = .ok (.iload 6, 2) := dk_21 6 (dk_at dksX1_hears_0 19 rfl rfl)
theorem dX1_hears_21 : decode cX1_hears 21 = .ok (.invokevirtual 43, 3) := dk_182 0 43 (dk_at dksX1_hears_0 21 rfl rfl)
theorem dX1_hears_24 : decode cX1_hears 24 = .ok (.ireturn, 1) := dk_172 (dk_at dksX1_hears_1 0 rfl rfl)
theorem dX1_hears_25 : decode cX1_hears 25 = .ok (.aload_n 0, 1) := dk_42 (dk_at dksX1_hears_1 1 rfl rfl)
theorem dX1_hears_26 : decode cX1_hears 26 = .ok (.aload_n 0, 1) := dk_42 (dk_at dksX1_hears_1 2 rfl rfl)
theorem dX1_hears_27 : decode cX1_hears 27 = .ok (.getfield 59, 3) := dk_180 0 59 (dk_at dksX1_hears_1 3 rfl rfl)
theorem dX1_hears_30 : decode cX1_hears 30 = .ok (.iload_n 1, 1) := dk_27 (dk_at dksX1_hears_1 6 rfl rfl)
theorem dX1_hears_31 : decode cX1_hears 31 = .ok (.iload_n 2, 1) := dk_28 (dk_at dksX1_hears_1 7 rfl rfl)
theorem dX1_hears_32 : decode cX1_hears 32 = .ok (.iload_n 3, 1) := dk_29 (dk_at dksX1_hears_1 8 rfl rfl)
theorem dX1_hears_33 : decode cX1_hears 33 = .ok (.iload 4, 2) := dk_21 4 (dk_at dksX1_hears_1 9 rfl rfl)
theorem dX1_hears_35 : decode cX1_hears 35 = .ok (.iload 5, 2) := dk_21 5 (dk_at dksX1_hears_1 11 rfl rfl)
theorem dX1_hears_37 : decode cX1_hears 37 = .ok (.iconst 0, 1) := dk_3 (dk_at dksX1_hears_1 13 rfl rfl)
theorem dX1_hears_38 : decode cX1_hears 38 = .ok (.invokevirtual 134, 3) := dk_182 0 134 (dk_at dksX1_hears_1 14 rfl rfl)
theorem dX1_hears_41 : decode cX1_hears 41 = .ok (.ifCond .eq 7, 3) := dk_153 0 7 (dk_at dksX1_hears_1 17 rfl rfl)
theorem dX1_hears_44 : decode cX1_hears 44 = .ok (.iconst 1, 1) := dk_4 (dk_at dksX1_hears_1 20 rfl rfl)
theorem dX1_hears_45 : decode cX1_hears 45 = .ok (.goto 4, 3) := dk_167 0 4 (dk_at dksX1_hears_1 21 rfl rfl)
theorem dX1_hears_48 : decode cX1_hears 48 = .ok (.iconst 0, 1) := dk_3 (dk_at dksX1_hears_2 0 rfl rfl)
theorem dX1_hears_49 : decode cX1_hears 49 = .ok (.aload_n 0, 1) := dk_42 (dk_at dksX1_hears_2 1 rfl rfl)
theorem dX1_hears_50 : decode cX1_hears 50 = .ok (.getfield 59, 3) := dk_180 0 59 (dk_at dksX1_hears_2 2 rfl rfl)
theorem dX1_hears_53 : decode cX1_hears 53 = .ok (.iload_n 1, 1) := dk_27 (dk_at dksX1_hears_2 5 rfl rfl)
theorem dX1_hears_54 : decode cX1_hears 54 = .ok (.iload_n 2, 1) := dk_28 (dk_at dksX1_hears_2 6 rfl rfl)
theorem dX1_hears_55 : decode cX1_hears 55 = .ok (.iload_n 3, 1) := dk_29 (dk_at dksX1_hears_2 7 rfl rfl)
theorem dX1_hears_56 : decode cX1_hears 56 = .ok (.iload 4, 2) := dk_21 4 (dk_at dksX1_hears_2 8 rfl rfl)
theorem dX1_hears_58 : decode cX1_hears 58 = .ok (.iload 5, 2) := dk_21 5 (dk_at dksX1_hears_2 10 rfl rfl)
theorem dX1_hears_60 : decode cX1_hears 60 = .ok (.iconst 1, 1) := dk_4 (dk_at dksX1_hears_2 12 rfl rfl)
theorem dX1_hears_61 : decode cX1_hears 61 = .ok (.invokevirtual 134, 3) := dk_182 0 134 (dk_at dksX1_hears_2 13 rfl rfl)
theorem dX1_hears_64 : decode cX1_hears 64 = .ok (.ifCond .eq 7, 3) := dk_153 0 7 (dk_at dksX1_hears_2 16 rfl rfl)
theorem dX1_hears_67 : decode cX1_hears 67 = .ok (.iconst 2, 1) := dk_5 (dk_at dksX1_hears_2 19 rfl rfl)
theorem dX1_hears_68 : decode cX1_hears 68 = .ok (.goto 4, 3) := dk_167 0 4 (dk_at dksX1_hears_2 20 rfl rfl)
theorem dX1_hears_71 : decode cX1_hears 71 = .ok (.iconst 0, 1) := dk_3 (dk_at dksX1_hears_2 23 rfl rfl)
theorem dX1_hears_72 : decode cX1_hears 72 = .ok (.ior, 1) := dk_128 (dk_at dksX1_hears_3 0 rfl rfl)
theorem dX1_hears_73 : decode cX1_hears 73 = .ok (.invokevirtual 94, 3) := dk_182 0 94 (dk_at dksX1_hears_3 1 rfl rfl)
theorem dX1_hears_76 : decode cX1_hears 76 = .ok (.ireturn, 1) := dk_172 (dk_at dksX1_hears_3 4 rfl rfl)
abbrev cX1_refuses : ByteArray := prog_1_method_13_code
def yX1_refuses : MethodName := ⟨RX1, "refuses", "(IIIII)I"⟩
def dkwX1_refuses_1 : List UInt8 := [21, 5, 2, 16, 24, 184, 0, 39, 153, 0, 7, 3, 167, 0, 4, 5, 172]
abbrev dktX1_refuses_1 : List UInt8 := dkwX1_refuses_1 ++ []
def dkwX1_refuses_0 : List UInt8 := [42, 27, 28, 29, 182, 0, 123, 154, 0, 5, 4, 172, 21, 4, 3, 16, 24, 184, 0, 39, 153, 0, 18]
abbrev dktX1_refuses_0 : List UInt8 := dkwX1_refuses_0 ++ dktX1_refuses_1
theorem dksX1_refuses_0 : cX1_refuses.data.toList.drop 0 = dktX1_refuses_0 := by decide +kernel
theorem dksX1_refuses_1 : cX1_refuses.data.toList.drop 23 = dktX1_refuses_1 := dk_seg dksX1_refuses_0 23 rfl rfl
theorem dX1_refuses_0 : decode cX1_refuses 0 = .ok (.aload_n 0, 1) := dk_42 (dk_at dksX1_refuses_0 0 rfl rfl)
theorem dX1_refuses_1 : decode cX1_refuses 1 = .ok (.iload_n 1, 1) := dk_27 (dk_at dksX1_refuses_0 1 rfl rfl)
theorem dX1_refuses_2 : decode cX1_refuses 2 = .ok (.iload_n 2, 1) := dk_28 (dk_at dksX1_refuses_0 2 rfl rfl)
theorem dX1_refuses_3 : decode cX1_refuses 3 = .ok (.iload_n 3, 1) := dk_29 (dk_at dksX1_refuses_0 3 rfl rfl)
theorem dX1_refuses_4 : decode cX1_refuses 4 = .ok (.invokevirtual 123, 3) := dk_182 0 123 (dk_at dksX1_refuses_0 4 rfl rfl)
theorem dX1_refuses_7 : decode cX1_refuses 7 = .ok (.ifCond .ne 5, 3) := dk_154 0 5 (dk_at dksX1_refuses_0 7 rfl rfl)
theorem dX1_refuses_10 : decode cX1_refuses 10 = .ok (.iconst 1, 1) := dk_4 (dk_at dksX1_refuses_0 10 rfl rfl)
theorem dX1_refuses_11 : decode cX1_refuses 11 = .ok (.ireturn, 1) := dk_172 (dk_at dksX1_refuses_0 11 rfl rfl)
theorem dX1_refuses_12 : decode cX1_refuses 12 = .ok (.iload 4, 2) := dk_21 4 (dk_at dksX1_refuses_0 12 rfl rfl)
theorem dX1_refuses_14 : decode cX1_refuses 14 = .ok (.iconst 0, 1) := dk_3 (dk_at dksX1_refuses_0 14 rfl rfl)
theorem dX1_refuses_15 : decode cX1_refuses 15 = .ok (.bipush 24, 2) := dk_16 24 (dk_at dksX1_refuses_0 15 rfl rfl)
theorem dX1_refuses_17 : decode cX1_refuses 17 = .ok (.invokestatic 39, 3) := dk_184 0 39 (dk_at dksX1_refuses_0 17 rfl rfl)
theorem dX1_refuses_20 : decode cX1_refuses 20 = .ok (.ifCond .eq 18, 3) := dk_153 0 18 (dk_at dksX1_refuses_0 20 rfl rfl)
theorem dX1_refuses_23 : decode cX1_refuses 23 = .ok (.iload 5, 2) := dk_21 5 (dk_at dksX1_refuses_1 0 rfl rfl)
theorem dX1_refuses_25 : decode cX1_refuses 25 = .ok (.iconst (-1), 1) := dk_2 (dk_at dksX1_refuses_1 2 rfl rfl)
theorem dX1_refuses_26 : decode cX1_refuses 26 = .ok (.bipush 24, 2) := dk_16 24 (dk_at dksX1_refuses_1 3 rfl rfl)
theorem dX1_refuses_28 : decode cX1_refuses 28 = .ok (.invokestatic 39, 3) := dk_184 0 39 (dk_at dksX1_refuses_1 5 rfl rfl)
theorem dX1_refuses_31 : decode cX1_refuses 31 = .ok (.ifCond .eq 7, 3) := dk_153 0 7 (dk_at dksX1_refuses_1 8 rfl rfl)
theorem dX1_refuses_34 : decode cX1_refuses 34 = .ok (.iconst 0, 1) := dk_3 (dk_at dksX1_refuses_1 11 rfl rfl)
theorem dX1_refuses_35 : decode cX1_refuses 35 = .ok (.goto 4, 3) := dk_167 0 4 (dk_at dksX1_refuses_1 12 rfl rfl)
theorem dX1_refuses_38 : decode cX1_refuses 38 = .ok (.iconst 2, 1) := dk_5 (dk_at dksX1_refuses_1 15 rfl rfl)
theorem dX1_refuses_39 : decode cX1_refuses 39 = .ok (.ireturn, 1) := dk_172 (dk_at dksX1_refuses_1 16 rfl rfl)
abbrev cX1_least : ByteArray := prog_1_method_15_code
def yX1_least : MethodName := ⟨RX1, "least", "(IIII)I"⟩
def dkwX1_least_1 : List UInt8 := [42, 42, 27, 28, 29, 21, 4, 182, 0, 138, 182, 0, 94, 172]
abbrev dktX1_least_1 : List UInt8 := dkwX1_least_1 ++ []
def dkwX1_least_0 : List UInt8 := [42, 27, 28, 29, 3, 21, 4, 182, 0, 130, 54, 5, 21, 5, 158, 0, 10, 42, 21, 5, 182, 0, 43, 172]
abbrev dktX1_least_0 : List UInt8 := dkwX1_least_0 ++ dktX1_least_1
theorem dksX1_least_0 : cX1_least.data.toList.drop 0 = dktX1_least_0 := by decide +kernel
theorem dksX1_least_1 : cX1_least.data.toList.drop 24 = dktX1_least_1 := dk_seg dksX1_least_0 24 rfl rfl
theorem dX1_least_0 : decode cX1_least 0 = .ok (.aload_n 0, 1) := dk_42 (dk_at dksX1_least_0 0 rfl rfl)
theorem dX1_least_1 : decode cX1_least 1 = .ok (.iload_n 1, 1) := dk_27 (dk_at dksX1_least_0 1 rfl rfl)
theorem dX1_least_2 : decode cX1_least 2 = .ok (.iload_n 2, 1) := dk_28 (dk_at dksX1_least_0 2 rfl rfl)
theorem dX1_least_3 : decode cX1_least 3 = .ok (.iload_n 3, 1) := dk_29 (dk_at dksX1_least_0 3 rfl rfl)
theorem dX1_least_4 : decode cX1_least 4 = .ok (.iconst 0, 1) := dk_3 (dk_at dksX1_least_0 4 rfl rfl)
theorem dX1_least_5 : decode cX1_least 5 = .ok (.iload 4, 2) := dk_21 4 (dk_at dksX1_least_0 5 rfl rfl)
theorem dX1_least_7 : decode cX1_least 7 = .ok (.invokevirtual 130, 3) := dk_182 0 130 (dk_at dksX1_least_0 7 rfl rfl)
theorem dX1_least_10 : decode cX1_least 10 = .ok (.istore 5, 2) := dk_54 5 (dk_at dksX1_least_0 10 rfl rfl)
theorem dX1_least_12 : decode cX1_least 12 = .ok (.iload 5, 2) := dk_21 5 (dk_at dksX1_least_0 12 rfl rfl)
theorem dX1_least_14 : decode cX1_least 14 = .ok (.ifCond .le 10, 3) := dk_158 0 10 (dk_at dksX1_least_0 14 rfl rfl)
theorem dX1_least_17 : decode cX1_least 17 = .ok (.aload_n 0, 1) := dk_42 (dk_at dksX1_least_0 17 rfl rfl)
theorem dX1_least_18 : decode cX1_least 18 = .ok (.iload 5, 2) := dk_21 5 (dk_at dksX1_least_0 18 rfl rfl)
theorem dX1_least_20 : decode cX1_least 20 = .ok (.invokevirtual 43, 3) := dk_182 0 43 (dk_at dksX1_least_0 20 rfl rfl)
theorem dX1_least_23 : decode cX1_least 23 = .ok (.ireturn, 1) := dk_172 (dk_at dksX1_least_0 23 rfl rfl)
theorem dX1_least_24 : decode cX1_least 24 = .ok (.aload_n 0, 1) := dk_42 (dk_at dksX1_least_1 0 rfl rfl)
theorem dX1_least_25 : decode cX1_least 25 = .ok (.aload_n 0, 1) := dk_42 (dk_at dksX1_least_1 1 rfl rfl)
theorem dX1_least_26 : decode cX1_least 26 = .ok (.iload_n 1, 1) := dk_27 (dk_at dksX1_least_1 2 rfl rfl)
theorem dX1_least_27 : decode cX1_least 27 = .ok (.iload_n 2, 1) := dk_28 (dk_at dksX1_least_1 3 rfl rfl)
theorem dX1_least_28 : decode cX1_least 28 = .ok (.iload_n 3, 1) := dk_29 (dk_at dksX1_least_1 4 rfl rfl)
theorem dX1_least_29 : decode cX1_least 29 = .ok (.iload 4, 2) := dk_21 4 (dk_at dksX1_least_1 5 rfl rfl)
theorem dX1_least_31 : decode cX1_least 31 = .ok (.invokevirtual 138, 3) := dk_182 0 138 (dk_at dksX1_least_1 7 rfl rfl)
theorem dX1_least_34 : decode cX1_least 34 = .ok (.invokevirtual 94, 3) := dk_182 0 94 (dk_at dksX1_least_1 10 rfl rfl)
theorem dX1_least_37 : decode cX1_least 37 = .ok (.ireturn, 1) := dk_172 (dk_at dksX1_least_1 13 rfl rfl)
abbrev cX1_leastOf : ByteArray := prog_1_method_21_code
def yX1_leastOf : MethodName := ⟨RX1, "leastOf", "(IIII)I"⟩
def dkwX1_leastOf_1 : List UInt8 := [154, 0, 9, 132, 5, 1, 167, 255, 229, 21, 5, 172]
abbrev dktX1_leastOf_1 : List UInt8 := dkwX1_leastOf_1 ++ []
def dkwX1_leastOf_0 : List UInt8 := [3, 54, 5, 21, 5, 16, 24, 163, 0, 26, 42, 180, 0, 59, 27, 28, 29, 21, 5, 21, 4, 182, 0, 156]
abbrev dktX1_leastOf_0 : List UInt8 := dkwX1_leastOf_0 ++ dktX1_leastOf_1
theorem dksX1_leastOf_0 : cX1_leastOf.data.toList.drop 0 = dktX1_leastOf_0 := by decide +kernel
theorem dksX1_leastOf_1 : cX1_leastOf.data.toList.drop 24 = dktX1_leastOf_1 := dk_seg dksX1_leastOf_0 24 rfl rfl
theorem dX1_leastOf_0 : decode cX1_leastOf 0 = .ok (.iconst 0, 1) := dk_3 (dk_at dksX1_leastOf_0 0 rfl rfl)
theorem dX1_leastOf_1 : decode cX1_leastOf 1 = .ok (.istore 5, 2) := dk_54 5 (dk_at dksX1_leastOf_0 1 rfl rfl)
theorem dX1_leastOf_3 : decode cX1_leastOf 3 = .ok (.iload 5, 2) := dk_21 5 (dk_at dksX1_leastOf_0 3 rfl rfl)
theorem dX1_leastOf_5 : decode cX1_leastOf 5 = .ok (.bipush 24, 2) := dk_16 24 (dk_at dksX1_leastOf_0 5 rfl rfl)
theorem dX1_leastOf_7 : decode cX1_leastOf 7 = .ok (.if_icmp .gt 26, 3) := dk_163 0 26 (dk_at dksX1_leastOf_0 7 rfl rfl)
theorem dX1_leastOf_10 : decode cX1_leastOf 10 = .ok (.aload_n 0, 1) := dk_42 (dk_at dksX1_leastOf_0 10 rfl rfl)
theorem dX1_leastOf_11 : decode cX1_leastOf 11 = .ok (.getfield 59, 3) := dk_180 0 59 (dk_at dksX1_leastOf_0 11 rfl rfl)
theorem dX1_leastOf_14 : decode cX1_leastOf 14 = .ok (.iload_n 1, 1) := dk_27 (dk_at dksX1_leastOf_0 14 rfl rfl)
theorem dX1_leastOf_15 : decode cX1_leastOf 15 = .ok (.iload_n 2, 1) := dk_28 (dk_at dksX1_leastOf_0 15 rfl rfl)
theorem dX1_leastOf_16 : decode cX1_leastOf 16 = .ok (.iload_n 3, 1) := dk_29 (dk_at dksX1_leastOf_0 16 rfl rfl)
theorem dX1_leastOf_17 : decode cX1_leastOf 17 = .ok (.iload 5, 2) := dk_21 5 (dk_at dksX1_leastOf_0 17 rfl rfl)
theorem dX1_leastOf_19 : decode cX1_leastOf 19 = .ok (.iload 4, 2) := dk_21 4 (dk_at dksX1_leastOf_0 19 rfl rfl)
theorem dX1_leastOf_21 : decode cX1_leastOf 21 = .ok (.invokevirtual 156, 3) := dk_182 0 156 (dk_at dksX1_leastOf_0 21 rfl rfl)
theorem dX1_leastOf_24 : decode cX1_leastOf 24 = .ok (.ifCond .ne 9, 3) := dk_154 0 9 (dk_at dksX1_leastOf_1 0 rfl rfl)
theorem dX1_leastOf_27 : decode cX1_leastOf 27 = .ok (.iinc 5 1, 3) := dk_132 5 1 (dk_at dksX1_leastOf_1 3 rfl rfl)
theorem dX1_leastOf_30 : decode cX1_leastOf 30 = .ok (.goto (-27), 3) := dk_167 255 229 (dk_at dksX1_leastOf_1 6 rfl rfl)
theorem dX1_leastOf_33 : decode cX1_leastOf 33 = .ok (.iload 5, 2) := dk_21 5 (dk_at dksX1_leastOf_1 9 rfl rfl)
theorem dX1_leastOf_35 : decode cX1_leastOf 35 = .ok (.ireturn, 1) := dk_172 (dk_at dksX1_leastOf_1 11 rfl rfl)
abbrev cX1_quiets : ByteArray := prog_1_method_17_code
def yX1_quiets : MethodName := ⟨RX1, "quiets", "(IIII)I"⟩
def dkwX1_quiets_1 : List UInt8 := [167, 0, 19, 42, 42, 27, 28, 29, 21, 4, 4, 28, 100, 182, 0, 142, 182, 0, 94, 172]
abbrev dktX1_quiets_1 : List UInt8 := dkwX1_quiets_1 ++ []
def dkwX1_quiets_0 : List UInt8 := [42, 27, 28, 29, 21, 4, 2, 182, 0, 130, 54, 5, 21, 5, 158, 0, 12, 42, 21, 5, 182, 0, 43]
abbrev dktX1_quiets_0 : List UInt8 := dkwX1_quiets_0 ++ dktX1_quiets_1
theorem dksX1_quiets_0 : cX1_quiets.data.toList.drop 0 = dktX1_quiets_0 := by decide +kernel
theorem dksX1_quiets_1 : cX1_quiets.data.toList.drop 23 = dktX1_quiets_1 := dk_seg dksX1_quiets_0 23 rfl rfl
theorem dX1_quiets_0 : decode cX1_quiets 0 = .ok (.aload_n 0, 1) := dk_42 (dk_at dksX1_quiets_0 0 rfl rfl)
theorem dX1_quiets_1 : decode cX1_quiets 1 = .ok (.iload_n 1, 1) := dk_27 (dk_at dksX1_quiets_0 1 rfl rfl)
theorem dX1_quiets_2 : decode cX1_quiets 2 = .ok (.iload_n 2, 1) := dk_28 (dk_at dksX1_quiets_0 2 rfl rfl)
theorem dX1_quiets_3 : decode cX1_quiets 3 = .ok (.iload_n 3, 1) := dk_29 (dk_at dksX1_quiets_0 3 rfl rfl)
theorem dX1_quiets_4 : decode cX1_quiets 4 = .ok (.iload 4, 2) := dk_21 4 (dk_at dksX1_quiets_0 4 rfl rfl)
theorem dX1_quiets_6 : decode cX1_quiets 6 = .ok (.iconst (-1), 1) := dk_2 (dk_at dksX1_quiets_0 6 rfl rfl)
theorem dX1_quiets_7 : decode cX1_quiets 7 = .ok (.invokevirtual 130, 3) := dk_182 0 130 (dk_at dksX1_quiets_0 7 rfl rfl)
theorem dX1_quiets_10 : decode cX1_quiets 10 = .ok (.istore 5, 2) := dk_54 5 (dk_at dksX1_quiets_0 10 rfl rfl)
theorem dX1_quiets_12 : decode cX1_quiets 12 = .ok (.iload 5, 2) := dk_21 5 (dk_at dksX1_quiets_0 12 rfl rfl)
theorem dX1_quiets_14 : decode cX1_quiets 14 = .ok (.ifCond .le 12, 3) := dk_158 0 12 (dk_at dksX1_quiets_0 14 rfl rfl)
theorem dX1_quiets_17 : decode cX1_quiets 17 = .ok (.aload_n 0, 1) := dk_42 (dk_at dksX1_quiets_0 17 rfl rfl)
theorem dX1_quiets_18 : decode cX1_quiets 18 = .ok (.iload 5, 2) := dk_21 5 (dk_at dksX1_quiets_0 18 rfl rfl)
theorem dX1_quiets_20 : decode cX1_quiets 20 = .ok (.invokevirtual 43, 3) := dk_182 0 43 (dk_at dksX1_quiets_0 20 rfl rfl)
theorem dX1_quiets_23 : decode cX1_quiets 23 = .ok (.goto 19, 3) := dk_167 0 19 (dk_at dksX1_quiets_1 0 rfl rfl)
theorem dX1_quiets_26 : decode cX1_quiets 26 = .ok (.aload_n 0, 1) := dk_42 (dk_at dksX1_quiets_1 3 rfl rfl)
theorem dX1_quiets_27 : decode cX1_quiets 27 = .ok (.aload_n 0, 1) := dk_42 (dk_at dksX1_quiets_1 4 rfl rfl)
theorem dX1_quiets_28 : decode cX1_quiets 28 = .ok (.iload_n 1, 1) := dk_27 (dk_at dksX1_quiets_1 5 rfl rfl)
theorem dX1_quiets_29 : decode cX1_quiets 29 = .ok (.iload_n 2, 1) := dk_28 (dk_at dksX1_quiets_1 6 rfl rfl)
theorem dX1_quiets_30 : decode cX1_quiets 30 = .ok (.iload_n 3, 1) := dk_29 (dk_at dksX1_quiets_1 7 rfl rfl)
theorem dX1_quiets_31 : decode cX1_quiets 31 = .ok (.iload 4, 2) := dk_21 4 (dk_at dksX1_quiets_1 8 rfl rfl)
theorem dX1_quiets_33 : decode cX1_quiets 33 = .ok (.iconst 1, 1) := dk_4 (dk_at dksX1_quiets_1 10 rfl rfl)
theorem dX1_quiets_34 : decode cX1_quiets 34 = .ok (.iload_n 2, 1) := dk_28 (dk_at dksX1_quiets_1 11 rfl rfl)
theorem dX1_quiets_35 : decode cX1_quiets 35 = .ok (.isub, 1) := dk_100 (dk_at dksX1_quiets_1 12 rfl rfl)
theorem dX1_quiets_36 : decode cX1_quiets 36 = .ok (.invokevirtual 142, 3) := dk_182 0 142 (dk_at dksX1_quiets_1 13 rfl rfl)
theorem dX1_quiets_39 : decode cX1_quiets 39 = .ok (.invokevirtual 94, 3) := dk_182 0 94 (dk_at dksX1_quiets_1 16 rfl rfl)
theorem dX1_quiets_42 : decode cX1_quiets 42 = .ok (.ireturn, 1) := dk_172 (dk_at dksX1_quiets_1 19 rfl rfl)
abbrev cX1_noiseFor : ByteArray := prog_1_method_16_code
def yX1_noiseFor : MethodName := ⟨RX1, "noiseFor", "(IIIII)I"⟩
def dkwX1_noiseFor_1 : List UInt8 := [182, 0, 134, 154, 0, 6, 21, 6, 172, 132, 6, 1, 167, 255, 224, 16, 254, 172]
abbrev dktX1_noiseFor_1 : List UInt8 := dkwX1_noiseFor_1 ++ []
def dkwX1_noiseFor_0 : List UInt8 := [3, 54, 6, 21, 6, 16, 24, 163, 0, 31, 42, 180, 0, 59, 27, 28, 29, 21, 4, 21, 6, 21, 5]
abbrev dktX1_noiseFor_0 : List UInt8 := dkwX1_noiseFor_0 ++ dktX1_noiseFor_1
theorem dksX1_noiseFor_0 : cX1_noiseFor.data.toList.drop 0 = dktX1_noiseFor_0 := by decide +kernel
theorem dksX1_noiseFor_1 : cX1_noiseFor.data.toList.drop 23 = dktX1_noiseFor_1 := dk_seg dksX1_noiseFor_0 23 rfl rfl
theorem dX1_noiseFor_0 : decode cX1_noiseFor 0 = .ok (.iconst 0, 1) := dk_3 (dk_at dksX1_noiseFor_0 0 rfl rfl)
theorem dX1_noiseFor_1 : decode cX1_noiseFor 1 = .ok (.istore 6, 2) := dk_54 6 (dk_at dksX1_noiseFor_0 1 rfl rfl)
theorem dX1_noiseFor_3 : decode cX1_noiseFor 3 = .ok (.iload 6, 2) := dk_21 6 (dk_at dksX1_noiseFor_0 3 rfl rfl)
theorem dX1_noiseFor_5 : decode cX1_noiseFor 5 = .ok (.bipush 24, 2) := dk_16 24 (dk_at dksX1_noiseFor_0 5 rfl rfl)
theorem dX1_noiseFor_7 : decode cX1_noiseFor 7 = .ok (.if_icmp .gt 31, 3) := dk_163 0 31 (dk_at dksX1_noiseFor_0 7 rfl rfl)
theorem dX1_noiseFor_10 : decode cX1_noiseFor 10 = .ok (.aload_n 0, 1) := dk_42 (dk_at dksX1_noiseFor_0 10 rfl rfl)
theorem dX1_noiseFor_11 : decode cX1_noiseFor 11 = .ok (.getfield 59, 3) := dk_180 0 59 (dk_at dksX1_noiseFor_0 11 rfl rfl)
theorem dX1_noiseFor_14 : decode cX1_noiseFor 14 = .ok (.iload_n 1, 1) := dk_27 (dk_at dksX1_noiseFor_0 14 rfl rfl)
theorem dX1_noiseFor_15 : decode cX1_noiseFor 15 = .ok (.iload_n 2, 1) := dk_28 (dk_at dksX1_noiseFor_0 15 rfl rfl)
theorem dX1_noiseFor_16 : decode cX1_noiseFor 16 = .ok (.iload_n 3, 1) := dk_29 (dk_at dksX1_noiseFor_0 16 rfl rfl)
theorem dX1_noiseFor_17 : decode cX1_noiseFor 17 = .ok (.iload 4, 2) := dk_21 4 (dk_at dksX1_noiseFor_0 17 rfl rfl)
theorem dX1_noiseFor_19 : decode cX1_noiseFor 19 = .ok (.iload 6, 2) := dk_21 6 (dk_at dksX1_noiseFor_0 19 rfl rfl)
theorem dX1_noiseFor_21 : decode cX1_noiseFor 21 = .ok (.iload 5, 2) := dk_21 5 (dk_at dksX1_noiseFor_0 21 rfl rfl)
theorem dX1_noiseFor_23 : decode cX1_noiseFor 23 = .ok (.invokevirtual 134, 3) := dk_182 0 134 (dk_at dksX1_noiseFor_1 0 rfl rfl)
theorem dX1_noiseFor_26 : decode cX1_noiseFor 26 = .ok (.ifCond .ne 6, 3) := dk_154 0 6 (dk_at dksX1_noiseFor_1 3 rfl rfl)
theorem dX1_noiseFor_29 : decode cX1_noiseFor 29 = .ok (.iload 6, 2) := dk_21 6 (dk_at dksX1_noiseFor_1 6 rfl rfl)
theorem dX1_noiseFor_31 : decode cX1_noiseFor 31 = .ok (.ireturn, 1) := dk_172 (dk_at dksX1_noiseFor_1 8 rfl rfl)
theorem dX1_noiseFor_32 : decode cX1_noiseFor 32 = .ok (.iinc 6 1, 3) := dk_132 6 1 (dk_at dksX1_noiseFor_1 9 rfl rfl)
theorem dX1_noiseFor_35 : decode cX1_noiseFor 35 = .ok (.goto (-32), 3) := dk_167 255 224 (dk_at dksX1_noiseFor_1 12 rfl rfl)
theorem dX1_noiseFor_38 : decode cX1_noiseFor 38 = .ok (.bipush (-2), 2) := dk_16 254 (dk_at dksX1_noiseFor_1 15 rfl rfl)
theorem dX1_noiseFor_40 : decode cX1_noiseFor 40 = .ok (.ireturn, 1) := dk_172 (dk_at dksX1_noiseFor_1 17 rfl rfl)
abbrev cX1_spoils : ByteArray := prog_1_method_18_code
def yX1_spoils : MethodName := ⟨RX1, "spoils", "(IIII)I"⟩
def dkwX1_spoils_2 : List UInt8 := [28, 182, 0, 142, 167, 0, 5, 16, 254, 182, 0, 94, 172]
abbrev dktX1_spoils_2 : List UInt8 := dkwX1_spoils_2 ++ []
def dkwX1_spoils_1 : List UInt8 := [42, 42, 180, 0, 59, 27, 28, 29, 21, 4, 2, 28, 182, 0, 134, 153, 0, 16, 42, 27, 28, 29, 21, 4]
abbrev dktX1_spoils_1 : List UInt8 := dkwX1_spoils_1 ++ dktX1_spoils_2
def dkwX1_spoils_0 : List UInt8 := [42, 27, 28, 29, 21, 4, 2, 182, 0, 130, 54, 5, 21, 5, 158, 0, 10, 42, 21, 5, 182, 0, 43, 172]
abbrev dktX1_spoils_0 : List UInt8 := dkwX1_spoils_0 ++ dktX1_spoils_1
theorem dksX1_spoils_0 : cX1_spoils.data.toList.drop 0 = dktX1_spoils_0 := by decide +kernel
theorem dksX1_spoils_1 : cX1_spoils.data.toList.drop 24 = dktX1_spoils_1 := dk_seg dksX1_spoils_0 24 rfl rfl
theorem dksX1_spoils_2 : cX1_spoils.data.toList.drop 48 = dktX1_spoils_2 := dk_seg dksX1_spoils_1 24 rfl rfl
theorem dX1_spoils_0 : decode cX1_spoils 0 = .ok (.aload_n 0, 1) := dk_42 (dk_at dksX1_spoils_0 0 rfl rfl)
theorem dX1_spoils_1 : decode cX1_spoils 1 = .ok (.iload_n 1, 1) := dk_27 (dk_at dksX1_spoils_0 1 rfl rfl)
theorem dX1_spoils_2 : decode cX1_spoils 2 = .ok (.iload_n 2, 1) := dk_28 (dk_at dksX1_spoils_0 2 rfl rfl)
theorem dX1_spoils_3 : decode cX1_spoils 3 = .ok (.iload_n 3, 1) := dk_29 (dk_at dksX1_spoils_0 3 rfl rfl)
theorem dX1_spoils_4 : decode cX1_spoils 4 = .ok (.iload 4, 2) := dk_21 4 (dk_at dksX1_spoils_0 4 rfl rfl)
theorem dX1_spoils_6 : decode cX1_spoils 6 = .ok (.iconst (-1), 1) := dk_2 (dk_at dksX1_spoils_0 6 rfl rfl)
theorem dX1_spoils_7 : decode cX1_spoils 7 = .ok (.invokevirtual 130, 3) := dk_182 0 130 (dk_at dksX1_spoils_0 7 rfl rfl)
theorem dX1_spoils_10 : decode cX1_spoils 10 = .ok (.istore 5, 2) := dk_54 5 (dk_at dksX1_spoils_0 10 rfl rfl)
theorem dX1_spoils_12 : decode cX1_spoils 12 = .ok (.iload 5, 2) := dk_21 5 (dk_at dksX1_spoils_0 12 rfl rfl)
theorem dX1_spoils_14 : decode cX1_spoils 14 = .ok (.ifCond .le 10, 3) := dk_158 0 10 (dk_at dksX1_spoils_0 14 rfl rfl)
theorem dX1_spoils_17 : decode cX1_spoils 17 = .ok (.aload_n 0, 1) := dk_42 (dk_at dksX1_spoils_0 17 rfl rfl)
theorem dX1_spoils_18 : decode cX1_spoils 18 = .ok (.iload 5, 2) := dk_21 5 (dk_at dksX1_spoils_0 18 rfl rfl)
theorem dX1_spoils_20 : decode cX1_spoils 20 = .ok (.invokevirtual 43, 3) := dk_182 0 43 (dk_at dksX1_spoils_0 20 rfl rfl)
theorem dX1_spoils_23 : decode cX1_spoils 23 = .ok (.ireturn, 1) := dk_172 (dk_at dksX1_spoils_0 23 rfl rfl)
theorem dX1_spoils_24 : decode cX1_spoils 24 = .ok (.aload_n 0, 1) := dk_42 (dk_at dksX1_spoils_1 0 rfl rfl)
theorem dX1_spoils_25 : decode cX1_spoils 25 = .ok (.aload_n 0, 1) := dk_42 (dk_at dksX1_spoils_1 1 rfl rfl)
theorem dX1_spoils_26 : decode cX1_spoils 26 = .ok (.getfield 59, 3) := dk_180 0 59 (dk_at dksX1_spoils_1 2 rfl rfl)
theorem dX1_spoils_29 : decode cX1_spoils 29 = .ok (.iload_n 1, 1) := dk_27 (dk_at dksX1_spoils_1 5 rfl rfl)
theorem dX1_spoils_30 : decode cX1_spoils 30 = .ok (.iload_n 2, 1) := dk_28 (dk_at dksX1_spoils_1 6 rfl rfl)
theorem dX1_spoils_31 : decode cX1_spoils 31 = .ok (.iload_n 3, 1) := dk_29 (dk_at dksX1_spoils_1 7 rfl rfl)
theorem dX1_spoils_32 : decode cX1_spoils 32 = .ok (.iload 4, 2) := dk_21 4 (dk_at dksX1_spoils_1 8 rfl rfl)
theorem dX1_spoils_34 : decode cX1_spoils 34 = .ok (.iconst (-1), 1) := dk_2 (dk_at dksX1_spoils_1 10 rfl rfl)
theorem dX1_spoils_35 : decode cX1_spoils 35 = .ok (.iload_n 2, 1) := dk_28 (dk_at dksX1_spoils_1 11 rfl rfl)
theorem dX1_spoils_36 : decode cX1_spoils 36 = .ok (.invokevirtual 134, 3) := dk_182 0 134 (dk_at dksX1_spoils_1 12 rfl rfl)
theorem dX1_spoils_39 : decode cX1_spoils 39 = .ok (.ifCond .eq 16, 3) := dk_153 0 16 (dk_at dksX1_spoils_1 15 rfl rfl)
theorem dX1_spoils_42 : decode cX1_spoils 42 = .ok (.aload_n 0, 1) := dk_42 (dk_at dksX1_spoils_1 18 rfl rfl)
theorem dX1_spoils_43 : decode cX1_spoils 43 = .ok (.iload_n 1, 1) := dk_27 (dk_at dksX1_spoils_1 19 rfl rfl)
theorem dX1_spoils_44 : decode cX1_spoils 44 = .ok (.iload_n 2, 1) := dk_28 (dk_at dksX1_spoils_1 20 rfl rfl)
theorem dX1_spoils_45 : decode cX1_spoils 45 = .ok (.iload_n 3, 1) := dk_29 (dk_at dksX1_spoils_1 21 rfl rfl)
theorem dX1_spoils_46 : decode cX1_spoils 46 = .ok (.iload 4, 2) := dk_21 4 (dk_at dksX1_spoils_1 22 rfl rfl)
theorem dX1_spoils_48 : decode cX1_spoils 48 = .ok (.iload_n 2, 1) := dk_28 (dk_at dksX1_spoils_2 0 rfl rfl)
theorem dX1_spoils_49 : decode cX1_spoils 49 = .ok (.invokevirtual 142, 3) := dk_182 0 142 (dk_at dksX1_spoils_2 1 rfl rfl)
theorem dX1_spoils_52 : decode cX1_spoils 52 = .ok (.goto 5, 3) := dk_167 0 5 (dk_at dksX1_spoils_2 4 rfl rfl)
theorem dX1_spoils_55 : decode cX1_spoils 55 = .ok (.bipush (-2), 2) := dk_16 254 (dk_at dksX1_spoils_2 7 rfl rfl)
theorem dX1_spoils_57 : decode cX1_spoils 57 = .ok (.invokevirtual 94, 3) := dk_182 0 94 (dk_at dksX1_spoils_2 9 rfl rfl)
theorem dX1_spoils_60 : decode cX1_spoils 60 = .ok (.ireturn, 1) := dk_172 (dk_at dksX1_spoils_2 12 rfl rfl)
abbrev cX1_search : ByteArray := prog_1_method_19_code
def yX1_search : MethodName := ⟨RX1, "search", "(IIIIII)I"⟩
def dkwX1_search_4 : List UInt8 := [182, 0, 94, 172]
abbrev dktX1_search_4 : List UInt8 := dkwX1_search_4 ++ []
def dkwX1_search_3 : List UInt8 := [21, 4, 182, 0, 148, 54, 9, 42, 21, 6, 154, 0, 8, 21, 9, 167, 0, 8, 25, 8, 180, 0, 152]
abbrev dktX1_search_3 : List UInt8 := dkwX1_search_3 ++ dktX1_search_4
def dkwX1_search_2 : List UInt8 := [21, 7, 182, 0, 43, 172, 187, 0, 145, 89, 21, 5, 183, 0, 147, 58, 8, 42, 25, 8, 27, 28, 29]
abbrev dktX1_search_2 : List UInt8 := dkwX1_search_2 ++ dktX1_search_3
def dkwX1_search_1 : List UInt8 := [182, 0, 43, 172, 42, 27, 28, 29, 21, 5, 21, 4, 182, 0, 130, 54, 7, 21, 7, 158, 0, 10, 42]
abbrev dktX1_search_1 : List UInt8 := dkwX1_search_1 ++ dktX1_search_2
def dkwX1_search_0 : List UInt8 := [42, 27, 28, 29, 182, 0, 123, 153, 0, 13, 21, 6, 3, 4, 184, 0, 39, 154, 0, 9, 42, 4]
abbrev dktX1_search_0 : List UInt8 := dkwX1_search_0 ++ dktX1_search_1
theorem dksX1_search_0 : cX1_search.data.toList.drop 0 = dktX1_search_0 := by decide +kernel
theorem dksX1_search_1 : cX1_search.data.toList.drop 22 = dktX1_search_1 := dk_seg dksX1_search_0 22 rfl rfl
theorem dksX1_search_2 : cX1_search.data.toList.drop 45 = dktX1_search_2 := dk_seg dksX1_search_1 23 rfl rfl
theorem dksX1_search_3 : cX1_search.data.toList.drop 68 = dktX1_search_3 := dk_seg dksX1_search_2 23 rfl rfl
theorem dksX1_search_4 : cX1_search.data.toList.drop 91 = dktX1_search_4 := dk_seg dksX1_search_3 23 rfl rfl
theorem dX1_search_0 : decode cX1_search 0 = .ok (.aload_n 0, 1) := dk_42 (dk_at dksX1_search_0 0 rfl rfl)
theorem dX1_search_1 : decode cX1_search 1 = .ok (.iload_n 1, 1) := dk_27 (dk_at dksX1_search_0 1 rfl rfl)
theorem dX1_search_2 : decode cX1_search 2 = .ok (.iload_n 2, 1) := dk_28 (dk_at dksX1_search_0 2 rfl rfl)
theorem dX1_search_3 : decode cX1_search 3 = .ok (.iload_n 3, 1) := dk_29 (dk_at dksX1_search_0 3 rfl rfl)
theorem dX1_search_4 : decode cX1_search 4 = .ok (.invokevirtual 123, 3) := dk_182 0 123 (dk_at dksX1_search_0 4 rfl rfl)
theorem dX1_search_7 : decode cX1_search 7 = .ok (.ifCond .eq 13, 3) := dk_153 0 13 (dk_at dksX1_search_0 7 rfl rfl)
theorem dX1_search_10 : decode cX1_search 10 = .ok (.iload 6, 2) := dk_21 6 (dk_at dksX1_search_0 10 rfl rfl)
theorem dX1_search_12 : decode cX1_search 12 = .ok (.iconst 0, 1) := dk_3 (dk_at dksX1_search_0 12 rfl rfl)
theorem dX1_search_13 : decode cX1_search 13 = .ok (.iconst 1, 1) := dk_4 (dk_at dksX1_search_0 13 rfl rfl)
theorem dX1_search_14 : decode cX1_search 14 = .ok (.invokestatic 39, 3) := dk_184 0 39 (dk_at dksX1_search_0 14 rfl rfl)
theorem dX1_search_17 : decode cX1_search 17 = .ok (.ifCond .ne 9, 3) := dk_154 0 9 (dk_at dksX1_search_0 17 rfl rfl)
theorem dX1_search_20 : decode cX1_search 20 = .ok (.aload_n 0, 1) := dk_42 (dk_at dksX1_search_0 20 rfl rfl)
theorem dX1_search_21 : decode cX1_search 21 = .ok (.iconst 1, 1) := dk_4 (dk_at dksX1_search_0 21 rfl rfl)
theorem dX1_search_22 : decode cX1_search 22 = .ok (.invokevirtual 43, 3) := dk_182 0 43 (dk_at dksX1_search_1 0 rfl rfl)
theorem dX1_search_25 : decode cX1_search 25 = .ok (.ireturn, 1) := dk_172 (dk_at dksX1_search_1 3 rfl rfl)
theorem dX1_search_26 : decode cX1_search 26 = .ok (.aload_n 0, 1) := dk_42 (dk_at dksX1_search_1 4 rfl rfl)
theorem dX1_search_27 : decode cX1_search 27 = .ok (.iload_n 1, 1) := dk_27 (dk_at dksX1_search_1 5 rfl rfl)
theorem dX1_search_28 : decode cX1_search 28 = .ok (.iload_n 2, 1) := dk_28 (dk_at dksX1_search_1 6 rfl rfl)
theorem dX1_search_29 : decode cX1_search 29 = .ok (.iload_n 3, 1) := dk_29 (dk_at dksX1_search_1 7 rfl rfl)
theorem dX1_search_30 : decode cX1_search 30 = .ok (.iload 5, 2) := dk_21 5 (dk_at dksX1_search_1 8 rfl rfl)
theorem dX1_search_32 : decode cX1_search 32 = .ok (.iload 4, 2) := dk_21 4 (dk_at dksX1_search_1 10 rfl rfl)
theorem dX1_search_34 : decode cX1_search 34 = .ok (.invokevirtual 130, 3) := dk_182 0 130 (dk_at dksX1_search_1 12 rfl rfl)
theorem dX1_search_37 : decode cX1_search 37 = .ok (.istore 7, 2) := dk_54 7 (dk_at dksX1_search_1 15 rfl rfl)
theorem dX1_search_39 : decode cX1_search 39 = .ok (.iload 7, 2) := dk_21 7 (dk_at dksX1_search_1 17 rfl rfl)
theorem dX1_search_41 : decode cX1_search 41 = .ok (.ifCond .le 10, 3) := dk_158 0 10 (dk_at dksX1_search_1 19 rfl rfl)
theorem dX1_search_44 : decode cX1_search 44 = .ok (.aload_n 0, 1) := dk_42 (dk_at dksX1_search_1 22 rfl rfl)
theorem dX1_search_45 : decode cX1_search 45 = .ok (.iload 7, 2) := dk_21 7 (dk_at dksX1_search_2 0 rfl rfl)
theorem dX1_search_47 : decode cX1_search 47 = .ok (.invokevirtual 43, 3) := dk_182 0 43 (dk_at dksX1_search_2 2 rfl rfl)
theorem dX1_search_50 : decode cX1_search 50 = .ok (.ireturn, 1) := dk_172 (dk_at dksX1_search_2 5 rfl rfl)
theorem dX1_search_51 : decode cX1_search 51 = .ok (.new 145, 3) := dk_187 0 145 (dk_at dksX1_search_2 6 rfl rfl)
theorem dX1_search_54 : decode cX1_search 54 = .ok (.dup, 1) := dk_89 (dk_at dksX1_search_2 9 rfl rfl)
theorem dX1_search_55 : decode cX1_search 55 = .ok (.iload 5, 2) := dk_21 5 (dk_at dksX1_search_2 10 rfl rfl)
theorem dX1_search_57 : decode cX1_search 57 = .ok (.invokespecial 147, 3) := dk_183 0 147 (dk_at dksX1_search_2 12 rfl rfl)
theorem dX1_search_60 : decode cX1_search 60 = .ok (.astore 8, 2) := dk_58 8 (dk_at dksX1_search_2 15 rfl rfl)
theorem dX1_search_62 : decode cX1_search 62 = .ok (.aload_n 0, 1) := dk_42 (dk_at dksX1_search_2 17 rfl rfl)
theorem dX1_search_63 : decode cX1_search 63 = .ok (.aload 8, 2) := dk_25 8 (dk_at dksX1_search_2 18 rfl rfl)
theorem dX1_search_65 : decode cX1_search 65 = .ok (.iload_n 1, 1) := dk_27 (dk_at dksX1_search_2 20 rfl rfl)
theorem dX1_search_66 : decode cX1_search 66 = .ok (.iload_n 2, 1) := dk_28 (dk_at dksX1_search_2 21 rfl rfl)
theorem dX1_search_67 : decode cX1_search 67 = .ok (.iload_n 3, 1) := dk_29 (dk_at dksX1_search_2 22 rfl rfl)
theorem dX1_search_68 : decode cX1_search 68 = .ok (.iload 4, 2) := dk_21 4 (dk_at dksX1_search_3 0 rfl rfl)
theorem dX1_search_70 : decode cX1_search 70 = .ok (.invokevirtual 148, 3) := dk_182 0 148 (dk_at dksX1_search_3 2 rfl rfl)
theorem dX1_search_73 : decode cX1_search 73 = .ok (.istore 9, 2) := dk_54 9 (dk_at dksX1_search_3 5 rfl rfl)
theorem dX1_search_75 : decode cX1_search 75 = .ok (.aload_n 0, 1) := dk_42 (dk_at dksX1_search_3 7 rfl rfl)
theorem dX1_search_76 : decode cX1_search 76 = .ok (.iload 6, 2) := dk_21 6 (dk_at dksX1_search_3 8 rfl rfl)
theorem dX1_search_78 : decode cX1_search 78 = .ok (.ifCond .ne 8, 3) := dk_154 0 8 (dk_at dksX1_search_3 10 rfl rfl)
theorem dX1_search_81 : decode cX1_search 81 = .ok (.iload 9, 2) := dk_21 9 (dk_at dksX1_search_3 13 rfl rfl)
theorem dX1_search_83 : decode cX1_search 83 = .ok (.goto 8, 3) := dk_167 0 8 (dk_at dksX1_search_3 15 rfl rfl)
theorem dX1_search_86 : decode cX1_search 86 = .ok (.aload 8, 2) := dk_25 8 (dk_at dksX1_search_3 18 rfl rfl)
theorem dX1_search_88 : decode cX1_search 88 = .ok (.getfield 152, 3) := dk_180 0 152 (dk_at dksX1_search_3 20 rfl rfl)
theorem dX1_search_91 : decode cX1_search 91 = .ok (.invokevirtual 94, 3) := dk_182 0 94 (dk_at dksX1_search_4 0 rfl rfl)
theorem dX1_search_94 : decode cX1_search 94 = .ok (.ireturn, 1) := dk_172 (dk_at dksX1_search_4 3 rfl rfl)
abbrev cX1_searches : ByteArray := prog_1_method_20_code
def yX1_searches : MethodName := ⟨RX1, "searches", "(LMaskedEars$Search;IIII)I"⟩
def dkwX1_searches_1 : List UInt8 := [182, 0, 156, 182, 0, 159, 54, 6, 167, 255, 227, 21, 6, 172, 58, 6, 16, 253, 172]
abbrev dktX1_searches_1 : List UInt8 := dkwX1_searches_1 ++ []
def dkwX1_searches_0 : List UInt8 := [2, 54, 6, 21, 6, 2, 160, 0, 29, 43, 42, 180, 0, 59, 28, 29, 21, 4, 43, 180, 0, 153, 21, 5]
abbrev dktX1_searches_0 : List UInt8 := dkwX1_searches_0 ++ dktX1_searches_1
theorem dksX1_searches_0 : cX1_searches.data.toList.drop 0 = dktX1_searches_0 := by decide +kernel
theorem dksX1_searches_1 : cX1_searches.data.toList.drop 24 = dktX1_searches_1 := dk_seg dksX1_searches_0 24 rfl rfl
theorem dX1_searches_0 : decode cX1_searches 0 = .ok (.iconst (-1), 1) := dk_2 (dk_at dksX1_searches_0 0 rfl rfl)
theorem dX1_searches_1 : decode cX1_searches 1 = .ok (.istore 6, 2) := dk_54 6 (dk_at dksX1_searches_0 1 rfl rfl)
theorem dX1_searches_3 : decode cX1_searches 3 = .ok (.iload 6, 2) := dk_21 6 (dk_at dksX1_searches_0 3 rfl rfl)
theorem dX1_searches_5 : decode cX1_searches 5 = .ok (.iconst (-1), 1) := dk_2 (dk_at dksX1_searches_0 5 rfl rfl)
theorem dX1_searches_6 : decode cX1_searches 6 = .ok (.if_icmp .ne 29, 3) := dk_160 0 29 (dk_at dksX1_searches_0 6 rfl rfl)
theorem dX1_searches_9 : decode cX1_searches 9 = .ok (.aload_n 1, 1) := dk_43 (dk_at dksX1_searches_0 9 rfl rfl)
theorem dX1_searches_10 : decode cX1_searches 10 = .ok (.aload_n 0, 1) := dk_42 (dk_at dksX1_searches_0 10 rfl rfl)
theorem dX1_searches_11 : decode cX1_searches 11 = .ok (.getfield 59, 3) := dk_180 0 59 (dk_at dksX1_searches_0 11 rfl rfl)
theorem dX1_searches_14 : decode cX1_searches 14 = .ok (.iload_n 2, 1) := dk_28 (dk_at dksX1_searches_0 14 rfl rfl)
theorem dX1_searches_15 : decode cX1_searches 15 = .ok (.iload_n 3, 1) := dk_29 (dk_at dksX1_searches_0 15 rfl rfl)
theorem dX1_searches_16 : decode cX1_searches 16 = .ok (.iload 4, 2) := dk_21 4 (dk_at dksX1_searches_0 16 rfl rfl)
theorem dX1_searches_18 : decode cX1_searches 18 = .ok (.aload_n 1, 1) := dk_43 (dk_at dksX1_searches_0 18 rfl rfl)
theorem dX1_searches_19 : decode cX1_searches 19 = .ok (.getfield 153, 3) := dk_180 0 153 (dk_at dksX1_searches_0 19 rfl rfl)
theorem dX1_searches_22 : decode cX1_searches 22 = .ok (.iload 5, 2) := dk_21 5 (dk_at dksX1_searches_0 22 rfl rfl)
theorem dX1_searches_24 : decode cX1_searches 24 = .ok (.invokevirtual 156, 3) := dk_182 0 156 (dk_at dksX1_searches_1 0 rfl rfl)
theorem dX1_searches_27 : decode cX1_searches 27 = .ok (.invokevirtual 159, 3) := dk_182 0 159 (dk_at dksX1_searches_1 3 rfl rfl)
theorem dX1_searches_30 : decode cX1_searches 30 = .ok (.istore 6, 2) := dk_54 6 (dk_at dksX1_searches_1 6 rfl rfl)
theorem dX1_searches_32 : decode cX1_searches 32 = .ok (.goto (-29), 3) := dk_167 255 227 (dk_at dksX1_searches_1 8 rfl rfl)
theorem dX1_searches_35 : decode cX1_searches 35 = .ok (.iload 6, 2) := dk_21 6 (dk_at dksX1_searches_1 11 rfl rfl)
theorem dX1_searches_37 : decode cX1_searches 37 = .ok (.ireturn, 1) := dk_172 (dk_at dksX1_searches_1 13 rfl rfl)
theorem dX1_searches_38 : decode cX1_searches 38 = .ok (.astore 6, 2) := dk_58 6 (dk_at dksX1_searches_1 14 rfl rfl)
theorem dX1_searches_40 : decode cX1_searches 40 = .ok (.bipush (-3), 2) := dk_16 253 (dk_at dksX1_searches_1 16 rfl rfl)
theorem dX1_searches_42 : decode cX1_searches 42 = .ok (.ireturn, 1) := dk_172 (dk_at dksX1_searches_1 18 rfl rfl)
abbrev cX1_plateau : ByteArray := prog_1_method_22_code
def yX1_plateau : MethodName := ⟨RX1, "plateau", "(IIII)I"⟩
def dkwX1_plateau_5 : List UInt8 := [21, 6, 167, 0, 5, 21, 7, 182, 0, 94, 172]
abbrev dktX1_plateau_5 : List UInt8 := dkwX1_plateau_5 ++ []
def dkwX1_plateau_4 : List UInt8 := [132, 8, 1, 167, 255, 203, 42, 21, 4, 154, 0, 8, 21, 5, 167, 0, 16, 21, 4, 4, 160, 0, 8]
abbrev dktX1_plateau_4 : List UInt8 := dkwX1_plateau_4 ++ dktX1_plateau_5
def dkwX1_plateau_3 : List UInt8 := [159, 0, 6, 167, 0, 21, 21, 5, 16, 254, 160, 0, 7, 21, 8, 54, 5, 21, 8, 54, 6, 132, 7, 1]
abbrev dktX1_plateau_3 : List UInt8 := dkwX1_plateau_3 ++ dktX1_plateau_4
def dkwX1_plateau_2 : List UInt8 := [163, 0, 52, 42, 27, 28, 29, 21, 8, 182, 0, 138, 42, 180, 0, 59, 27, 28, 29, 182, 0, 126]
abbrev dktX1_plateau_2 : List UInt8 := dkwX1_plateau_2 ++ dktX1_plateau_3
def dkwX1_plateau_1 : List UInt8 := [182, 0, 43, 172, 16, 254, 54, 5, 16, 254, 54, 6, 3, 54, 7, 3, 54, 8, 21, 8, 16, 24]
abbrev dktX1_plateau_1 : List UInt8 := dkwX1_plateau_1 ++ dktX1_plateau_2
def dkwX1_plateau_0 : List UInt8 := [42, 27, 28, 29, 182, 0, 123, 153, 0, 13, 21, 4, 3, 5, 184, 0, 39, 154, 0, 9, 42, 4]
abbrev dktX1_plateau_0 : List UInt8 := dkwX1_plateau_0 ++ dktX1_plateau_1
theorem dksX1_plateau_0 : cX1_plateau.data.toList.drop 0 = dktX1_plateau_0 := by decide +kernel
theorem dksX1_plateau_1 : cX1_plateau.data.toList.drop 22 = dktX1_plateau_1 := dk_seg dksX1_plateau_0 22 rfl rfl
theorem dksX1_plateau_2 : cX1_plateau.data.toList.drop 44 = dktX1_plateau_2 := dk_seg dksX1_plateau_1 22 rfl rfl
theorem dksX1_plateau_3 : cX1_plateau.data.toList.drop 66 = dktX1_plateau_3 := dk_seg dksX1_plateau_2 22 rfl rfl
theorem dksX1_plateau_4 : cX1_plateau.data.toList.drop 90 = dktX1_plateau_4 := dk_seg dksX1_plateau_3 24 rfl rfl
theorem dksX1_plateau_5 : cX1_plateau.data.toList.drop 113 = dktX1_plateau_5 := dk_seg dksX1_plateau_4 23 rfl rfl
theorem dX1_plateau_0 : decode cX1_plateau 0 = .ok (.aload_n 0, 1) := dk_42 (dk_at dksX1_plateau_0 0 rfl rfl)
theorem dX1_plateau_1 : decode cX1_plateau 1 = .ok (.iload_n 1, 1) := dk_27 (dk_at dksX1_plateau_0 1 rfl rfl)
theorem dX1_plateau_2 : decode cX1_plateau 2 = .ok (.iload_n 2, 1) := dk_28 (dk_at dksX1_plateau_0 2 rfl rfl)
theorem dX1_plateau_3 : decode cX1_plateau 3 = .ok (.iload_n 3, 1) := dk_29 (dk_at dksX1_plateau_0 3 rfl rfl)
theorem dX1_plateau_4 : decode cX1_plateau 4 = .ok (.invokevirtual 123, 3) := dk_182 0 123 (dk_at dksX1_plateau_0 4 rfl rfl)
theorem dX1_plateau_7 : decode cX1_plateau 7 = .ok (.ifCond .eq 13, 3) := dk_153 0 13 (dk_at dksX1_plateau_0 7 rfl rfl)
theorem dX1_plateau_10 : decode cX1_plateau 10 = .ok (.iload 4, 2) := dk_21 4 (dk_at dksX1_plateau_0 10 rfl rfl)
theorem dX1_plateau_12 : decode cX1_plateau 12 = .ok (.iconst 0, 1) := dk_3 (dk_at dksX1_plateau_0 12 rfl rfl)
theorem dX1_plateau_13 : decode cX1_plateau 13 = .ok (.iconst 2, 1) := dk_5 (dk_at dksX1_plateau_0 13 rfl rfl)
theorem dX1_plateau_14 : decode cX1_plateau 14 = .ok (.invokestatic 39, 3) := dk_184 0 39 (dk_at dksX1_plateau_0 14 rfl rfl)
theorem dX1_plateau_17 : decode cX1_plateau 17 = .ok (.ifCond .ne 9, 3) := dk_154 0 9 (dk_at dksX1_plateau_0 17 rfl rfl)
theorem dX1_plateau_20 : decode cX1_plateau 20 = .ok (.aload_n 0, 1) := dk_42 (dk_at dksX1_plateau_0 20 rfl rfl)
theorem dX1_plateau_21 : decode cX1_plateau 21 = .ok (.iconst 1, 1) := dk_4 (dk_at dksX1_plateau_0 21 rfl rfl)
theorem dX1_plateau_22 : decode cX1_plateau 22 = .ok (.invokevirtual 43, 3) := dk_182 0 43 (dk_at dksX1_plateau_1 0 rfl rfl)
theorem dX1_plateau_25 : decode cX1_plateau 25 = .ok (.ireturn, 1) := dk_172 (dk_at dksX1_plateau_1 3 rfl rfl)
theorem dX1_plateau_26 : decode cX1_plateau 26 = .ok (.bipush (-2), 2) := dk_16 254 (dk_at dksX1_plateau_1 4 rfl rfl)
theorem dX1_plateau_28 : decode cX1_plateau 28 = .ok (.istore 5, 2) := dk_54 5 (dk_at dksX1_plateau_1 6 rfl rfl)
theorem dX1_plateau_30 : decode cX1_plateau 30 = .ok (.bipush (-2), 2) := dk_16 254 (dk_at dksX1_plateau_1 8 rfl rfl)
theorem dX1_plateau_32 : decode cX1_plateau 32 = .ok (.istore 6, 2) := dk_54 6 (dk_at dksX1_plateau_1 10 rfl rfl)
theorem dX1_plateau_34 : decode cX1_plateau 34 = .ok (.iconst 0, 1) := dk_3 (dk_at dksX1_plateau_1 12 rfl rfl)
theorem dX1_plateau_35 : decode cX1_plateau 35 = .ok (.istore 7, 2) := dk_54 7 (dk_at dksX1_plateau_1 13 rfl rfl)
theorem dX1_plateau_37 : decode cX1_plateau 37 = .ok (.iconst 0, 1) := dk_3 (dk_at dksX1_plateau_1 15 rfl rfl)
theorem dX1_plateau_38 : decode cX1_plateau 38 = .ok (.istore 8, 2) := dk_54 8 (dk_at dksX1_plateau_1 16 rfl rfl)
theorem dX1_plateau_40 : decode cX1_plateau 40 = .ok (.iload 8, 2) := dk_21 8 (dk_at dksX1_plateau_1 18 rfl rfl)
theorem dX1_plateau_42 : decode cX1_plateau 42 = .ok (.bipush 24, 2) := dk_16 24 (dk_at dksX1_plateau_1 20 rfl rfl)
theorem dX1_plateau_44 : decode cX1_plateau 44 = .ok (.if_icmp .gt 52, 3) := dk_163 0 52 (dk_at dksX1_plateau_2 0 rfl rfl)
theorem dX1_plateau_47 : decode cX1_plateau 47 = .ok (.aload_n 0, 1) := dk_42 (dk_at dksX1_plateau_2 3 rfl rfl)
theorem dX1_plateau_48 : decode cX1_plateau 48 = .ok (.iload_n 1, 1) := dk_27 (dk_at dksX1_plateau_2 4 rfl rfl)
theorem dX1_plateau_49 : decode cX1_plateau 49 = .ok (.iload_n 2, 1) := dk_28 (dk_at dksX1_plateau_2 5 rfl rfl)
theorem dX1_plateau_50 : decode cX1_plateau 50 = .ok (.iload_n 3, 1) := dk_29 (dk_at dksX1_plateau_2 6 rfl rfl)
theorem dX1_plateau_51 : decode cX1_plateau 51 = .ok (.iload 8, 2) := dk_21 8 (dk_at dksX1_plateau_2 7 rfl rfl)
theorem dX1_plateau_53 : decode cX1_plateau 53 = .ok (.invokevirtual 138, 3) := dk_182 0 138 (dk_at dksX1_plateau_2 9 rfl rfl)
theorem dX1_plateau_56 : decode cX1_plateau 56 = .ok (.aload_n 0, 1) := dk_42 (dk_at dksX1_plateau_2 12 rfl rfl)
theorem dX1_plateau_57 : decode cX1_plateau 57 = .ok (.getfield 59, 3) := dk_180 0 59 (dk_at dksX1_plateau_2 13 rfl rfl)
theorem dX1_plateau_60 : decode cX1_plateau 60 = .ok (.iload_n 1, 1) := dk_27 (dk_at dksX1_plateau_2 16 rfl rfl)
theorem dX1_plateau_61 : decode cX1_plateau 61 = .ok (.iload_n 2, 1) := dk_28 (dk_at dksX1_plateau_2 17 rfl rfl)
theorem dX1_plateau_62 : decode cX1_plateau 62 = .ok (.iload_n 3, 1) := dk_29 (dk_at dksX1_plateau_2 18 rfl rfl)
theorem dX1_plateau_63 : decode cX1_plateau 63 = .ok (.invokevirtual 126, 3) := dk_182 0 126 (dk_at dksX1_plateau_2 19 rfl rfl)
theorem dX1_plateau_66 : decode cX1_plateau 66 = .ok (.if_icmp .eq 6, 3) := dk_159 0 6 (dk_at dksX1_plateau_3 0 rfl rfl)
theorem dX1_plateau_69 : decode cX1_plateau 69 = .ok (.goto 21, 3) := dk_167 0 21 (dk_at dksX1_plateau_3 3 rfl rfl)
theorem dX1_plateau_72 : decode cX1_plateau 72 = .ok (.iload 5, 2) := dk_21 5 (dk_at dksX1_plateau_3 6 rfl rfl)
theorem dX1_plateau_74 : decode cX1_plateau 74 = .ok (.bipush (-2), 2) := dk_16 254 (dk_at dksX1_plateau_3 8 rfl rfl)
theorem dX1_plateau_76 : decode cX1_plateau 76 = .ok (.if_icmp .ne 7, 3) := dk_160 0 7 (dk_at dksX1_plateau_3 10 rfl rfl)
theorem dX1_plateau_79 : decode cX1_plateau 79 = .ok (.iload 8, 2) := dk_21 8 (dk_at dksX1_plateau_3 13 rfl rfl)
theorem dX1_plateau_81 : decode cX1_plateau 81 = .ok (.istore 5, 2) := dk_54 5 (dk_at dksX1_plateau_3 15 rfl rfl)
theorem dX1_plateau_83 : decode cX1_plateau 83 = .ok (.iload 8, 2) := dk_21 8 (dk_at dksX1_plateau_3 17 rfl rfl)
theorem dX1_plateau_85 : decode cX1_plateau 85 = .ok (.istore 6, 2) := dk_54 6 (dk_at dksX1_plateau_3 19 rfl rfl)
theorem dX1_plateau_87 : decode cX1_plateau 87 = .ok (.iinc 7 1, 3) := dk_132 7 1 (dk_at dksX1_plateau_3 21 rfl rfl)
theorem dX1_plateau_90 : decode cX1_plateau 90 = .ok (.iinc 8 1, 3) := dk_132 8 1 (dk_at dksX1_plateau_4 0 rfl rfl)
theorem dX1_plateau_93 : decode cX1_plateau 93 = .ok (.goto (-53), 3) := dk_167 255 203 (dk_at dksX1_plateau_4 3 rfl rfl)
theorem dX1_plateau_96 : decode cX1_plateau 96 = .ok (.aload_n 0, 1) := dk_42 (dk_at dksX1_plateau_4 6 rfl rfl)
theorem dX1_plateau_97 : decode cX1_plateau 97 = .ok (.iload 4, 2) := dk_21 4 (dk_at dksX1_plateau_4 7 rfl rfl)
theorem dX1_plateau_99 : decode cX1_plateau 99 = .ok (.ifCond .ne 8, 3) := dk_154 0 8 (dk_at dksX1_plateau_4 9 rfl rfl)
theorem dX1_plateau_102 : decode cX1_plateau 102 = .ok (.iload 5, 2) := dk_21 5 (dk_at dksX1_plateau_4 12 rfl rfl)
theorem dX1_plateau_104 : decode cX1_plateau 104 = .ok (.goto 16, 3) := dk_167 0 16 (dk_at dksX1_plateau_4 14 rfl rfl)
theorem dX1_plateau_107 : decode cX1_plateau 107 = .ok (.iload 4, 2) := dk_21 4 (dk_at dksX1_plateau_4 17 rfl rfl)
theorem dX1_plateau_109 : decode cX1_plateau 109 = .ok (.iconst 1, 1) := dk_4 (dk_at dksX1_plateau_4 19 rfl rfl)
theorem dX1_plateau_110 : decode cX1_plateau 110 = .ok (.if_icmp .ne 8, 3) := dk_160 0 8 (dk_at dksX1_plateau_4 20 rfl rfl)
theorem dX1_plateau_113 : decode cX1_plateau 113 = .ok (.iload 6, 2) := dk_21 6 (dk_at dksX1_plateau_5 0 rfl rfl)
theorem dX1_plateau_115 : decode cX1_plateau 115 = .ok (.goto 5, 3) := dk_167 0 5 (dk_at dksX1_plateau_5 2 rfl rfl)
theorem dX1_plateau_118 : decode cX1_plateau 118 = .ok (.iload 7, 2) := dk_21 7 (dk_at dksX1_plateau_5 5 rfl rfl)
theorem dX1_plateau_120 : decode cX1_plateau 120 = .ok (.invokevirtual 94, 3) := dk_182 0 94 (dk_at dksX1_plateau_5 7 rfl rfl)
theorem dX1_plateau_123 : decode cX1_plateau 123 = .ok (.ireturn, 1) := dk_172 (dk_at dksX1_plateau_5 10 rfl rfl)
abbrev cX1_zone : ByteArray := prog_1_method_23_code
def yX1_zone : MethodName := ⟨RX1, "zone", "(IIIII)I"⟩
def dkwX1_zone_4 : List UInt8 := [28, 182, 0, 134, 153, 0, 10, 21, 8, 7, 96, 167, 0, 5, 21, 8, 182, 0, 94, 172]
abbrev dktX1_zone_4 : List UInt8 := dkwX1_zone_4 ++ []
def dkwX1_zone_3 : List UInt8 := [5, 167, 0, 4, 3, 96, 54, 8, 42, 21, 7, 154, 0, 27, 42, 180, 0, 59, 27, 28, 29, 21, 4, 2]
abbrev dktX1_zone_3 : List UInt8 := dkwX1_zone_3 ++ dktX1_zone_4
def dkwX1_zone_2 : List UInt8 := [167, 0, 4, 3, 42, 180, 0, 59, 27, 28, 29, 21, 4, 21, 5, 4, 28, 100, 182, 0, 134, 153, 0, 7]
abbrev dktX1_zone_2 : List UInt8 := dkwX1_zone_2 ++ dktX1_zone_3
def dkwX1_zone_1 : List UInt8 := [172, 42, 180, 0, 59, 27, 28, 29, 21, 4, 21, 5, 28, 182, 0, 134, 54, 7, 21, 7, 153, 0, 7, 4]
abbrev dktX1_zone_1 : List UInt8 := dkwX1_zone_1 ++ dktX1_zone_2
def dkwX1_zone_0 : List UInt8 := [42, 27, 28, 29, 21, 4, 21, 5, 182, 0, 130, 54, 6, 21, 6, 158, 0, 10, 42, 21, 6, 182, 0, 43]
abbrev dktX1_zone_0 : List UInt8 := dkwX1_zone_0 ++ dktX1_zone_1
theorem dksX1_zone_0 : cX1_zone.data.toList.drop 0 = dktX1_zone_0 := by decide +kernel
theorem dksX1_zone_1 : cX1_zone.data.toList.drop 24 = dktX1_zone_1 := dk_seg dksX1_zone_0 24 rfl rfl
theorem dksX1_zone_2 : cX1_zone.data.toList.drop 48 = dktX1_zone_2 := dk_seg dksX1_zone_1 24 rfl rfl
theorem dksX1_zone_3 : cX1_zone.data.toList.drop 72 = dktX1_zone_3 := dk_seg dksX1_zone_2 24 rfl rfl
theorem dksX1_zone_4 : cX1_zone.data.toList.drop 96 = dktX1_zone_4 := dk_seg dksX1_zone_3 24 rfl rfl
theorem dX1_zone_0 : decode cX1_zone 0 = .ok (.aload_n 0, 1) := dk_42 (dk_at dksX1_zone_0 0 rfl rfl)
theorem dX1_zone_1 : decode cX1_zone 1 = .ok (.iload_n 1, 1) := dk_27 (dk_at dksX1_zone_0 1 rfl rfl)
theorem dX1_zone_2 : decode cX1_zone 2 = .ok (.iload_n 2, 1) := dk_28 (dk_at dksX1_zone_0 2 rfl rfl)
theorem dX1_zone_3 : decode cX1_zone 3 = .ok (.iload_n 3, 1) := dk_29 (dk_at dksX1_zone_0 3 rfl rfl)
theorem dX1_zone_4 : decode cX1_zone 4 = .ok (.iload 4, 2) := dk_21 4 (dk_at dksX1_zone_0 4 rfl rfl)
theorem dX1_zone_6 : decode cX1_zone 6 = .ok (.iload 5, 2) := dk_21 5 (dk_at dksX1_zone_0 6 rfl rfl)
theorem dX1_zone_8 : decode cX1_zone 8 = .ok (.invokevirtual 130, 3) := dk_182 0 130 (dk_at dksX1_zone_0 8 rfl rfl)
theorem dX1_zone_11 : decode cX1_zone 11 = .ok (.istore 6, 2) := dk_54 6 (dk_at dksX1_zone_0 11 rfl rfl)
theorem dX1_zone_13 : decode cX1_zone 13 = .ok (.iload 6, 2) := dk_21 6 (dk_at dksX1_zone_0 13 rfl rfl)
theorem dX1_zone_15 : decode cX1_zone 15 = .ok (.ifCond .le 10, 3) := dk_158 0 10 (dk_at dksX1_zone_0 15 rfl rfl)
theorem dX1_zone_18 : decode cX1_zone 18 = .ok (.aload_n 0, 1) := dk_42 (dk_at dksX1_zone_0 18 rfl rfl)
theorem dX1_zone_19 : decode cX1_zone 19 = .ok (.iload 6, 2) := dk_21 6 (dk_at dksX1_zone_0 19 rfl rfl)
theorem dX1_zone_21 : decode cX1_zone 21 = .ok (.invokevirtual 43, 3) := dk_182 0 43 (dk_at dksX1_zone_0 21 rfl rfl)
theorem dX1_zone_24 : decode cX1_zone 24 = .ok (.ireturn, 1) := dk_172 (dk_at dksX1_zone_1 0 rfl rfl)
theorem dX1_zone_25 : decode cX1_zone 25 = .ok (.aload_n 0, 1) := dk_42 (dk_at dksX1_zone_1 1 rfl rfl)
theorem dX1_zone_26 : decode cX1_zone 26 = .ok (.getfield 59, 3) := dk_180 0 59 (dk_at dksX1_zone_1 2 rfl rfl)
theorem dX1_zone_29 : decode cX1_zone 29 = .ok (.iload_n 1, 1) := dk_27 (dk_at dksX1_zone_1 5 rfl rfl)
theorem dX1_zone_30 : decode cX1_zone 30 = .ok (.iload_n 2, 1) := dk_28 (dk_at dksX1_zone_1 6 rfl rfl)
theorem dX1_zone_31 : decode cX1_zone 31 = .ok (.iload_n 3, 1) := dk_29 (dk_at dksX1_zone_1 7 rfl rfl)
theorem dX1_zone_32 : decode cX1_zone 32 = .ok (.iload 4, 2) := dk_21 4 (dk_at dksX1_zone_1 8 rfl rfl)
theorem dX1_zone_34 : decode cX1_zone 34 = .ok (.iload 5, 2) := dk_21 5 (dk_at dksX1_zone_1 10 rfl rfl)
theorem dX1_zone_36 : decode cX1_zone 36 = .ok (.iload_n 2, 1) := dk_28 (dk_at dksX1_zone_1 12 rfl rfl)
theorem dX1_zone_37 : decode cX1_zone 37 = .ok (.invokevirtual 134, 3) := dk_182 0 134 (dk_at dksX1_zone_1 13 rfl rfl)
theorem dX1_zone_40 : decode cX1_zone 40 = .ok (.istore 7, 2) := dk_54 7 (dk_at dksX1_zone_1 16 rfl rfl)
theorem dX1_zone_42 : decode cX1_zone 42 = .ok (.iload 7, 2) := dk_21 7 (dk_at dksX1_zone_1 18 rfl rfl)
theorem dX1_zone_44 : decode cX1_zone 44 = .ok (.ifCond .eq 7, 3) := dk_153 0 7 (dk_at dksX1_zone_1 20 rfl rfl)
theorem dX1_zone_47 : decode cX1_zone 47 = .ok (.iconst 1, 1) := dk_4 (dk_at dksX1_zone_1 23 rfl rfl)
theorem dX1_zone_48 : decode cX1_zone 48 = .ok (.goto 4, 3) := dk_167 0 4 (dk_at dksX1_zone_2 0 rfl rfl)
theorem dX1_zone_51 : decode cX1_zone 51 = .ok (.iconst 0, 1) := dk_3 (dk_at dksX1_zone_2 3 rfl rfl)
theorem dX1_zone_52 : decode cX1_zone 52 = .ok (.aload_n 0, 1) := dk_42 (dk_at dksX1_zone_2 4 rfl rfl)
theorem dX1_zone_53 : decode cX1_zone 53 = .ok (.getfield 59, 3) := dk_180 0 59 (dk_at dksX1_zone_2 5 rfl rfl)
theorem dX1_zone_56 : decode cX1_zone 56 = .ok (.iload_n 1, 1) := dk_27 (dk_at dksX1_zone_2 8 rfl rfl)
theorem dX1_zone_57 : decode cX1_zone 57 = .ok (.iload_n 2, 1) := dk_28 (dk_at dksX1_zone_2 9 rfl rfl)
theorem dX1_zone_58 : decode cX1_zone 58 = .ok (.iload_n 3, 1) := dk_29 (dk_at dksX1_zone_2 10 rfl rfl)
theorem dX1_zone_59 : decode cX1_zone 59 = .ok (.iload 4, 2) := dk_21 4 (dk_at dksX1_zone_2 11 rfl rfl)
theorem dX1_zone_61 : decode cX1_zone 61 = .ok (.iload 5, 2) := dk_21 5 (dk_at dksX1_zone_2 13 rfl rfl)
theorem dX1_zone_63 : decode cX1_zone 63 = .ok (.iconst 1, 1) := dk_4 (dk_at dksX1_zone_2 15 rfl rfl)
theorem dX1_zone_64 : decode cX1_zone 64 = .ok (.iload_n 2, 1) := dk_28 (dk_at dksX1_zone_2 16 rfl rfl)
theorem dX1_zone_65 : decode cX1_zone 65 = .ok (.isub, 1) := dk_100 (dk_at dksX1_zone_2 17 rfl rfl)
theorem dX1_zone_66 : decode cX1_zone 66 = .ok (.invokevirtual 134, 3) := dk_182 0 134 (dk_at dksX1_zone_2 18 rfl rfl)
theorem dX1_zone_69 : decode cX1_zone 69 = .ok (.ifCond .eq 7, 3) := dk_153 0 7 (dk_at dksX1_zone_2 21 rfl rfl)
theorem dX1_zone_72 : decode cX1_zone 72 = .ok (.iconst 2, 1) := dk_5 (dk_at dksX1_zone_3 0 rfl rfl)
theorem dX1_zone_73 : decode cX1_zone 73 = .ok (.goto 4, 3) := dk_167 0 4 (dk_at dksX1_zone_3 1 rfl rfl)
theorem dX1_zone_76 : decode cX1_zone 76 = .ok (.iconst 0, 1) := dk_3 (dk_at dksX1_zone_3 4 rfl rfl)
theorem dX1_zone_77 : decode cX1_zone 77 = .ok (.iadd, 1) := dk_96 (dk_at dksX1_zone_3 5 rfl rfl)
theorem dX1_zone_78 : decode cX1_zone 78 = .ok (.istore 8, 2) := dk_54 8 (dk_at dksX1_zone_3 6 rfl rfl)
theorem dX1_zone_80 : decode cX1_zone 80 = .ok (.aload_n 0, 1) := dk_42 (dk_at dksX1_zone_3 8 rfl rfl)
theorem dX1_zone_81 : decode cX1_zone 81 = .ok (.iload 7, 2) := dk_21 7 (dk_at dksX1_zone_3 9 rfl rfl)
theorem dX1_zone_83 : decode cX1_zone 83 = .ok (.ifCond .ne 27, 3) := dk_154 0 27 (dk_at dksX1_zone_3 11 rfl rfl)
theorem dX1_zone_86 : decode cX1_zone 86 = .ok (.aload_n 0, 1) := dk_42 (dk_at dksX1_zone_3 14 rfl rfl)
theorem dX1_zone_87 : decode cX1_zone 87 = .ok (.getfield 59, 3) := dk_180 0 59 (dk_at dksX1_zone_3 15 rfl rfl)
theorem dX1_zone_90 : decode cX1_zone 90 = .ok (.iload_n 1, 1) := dk_27 (dk_at dksX1_zone_3 18 rfl rfl)
theorem dX1_zone_91 : decode cX1_zone 91 = .ok (.iload_n 2, 1) := dk_28 (dk_at dksX1_zone_3 19 rfl rfl)
theorem dX1_zone_92 : decode cX1_zone 92 = .ok (.iload_n 3, 1) := dk_29 (dk_at dksX1_zone_3 20 rfl rfl)
theorem dX1_zone_93 : decode cX1_zone 93 = .ok (.iload 4, 2) := dk_21 4 (dk_at dksX1_zone_3 21 rfl rfl)
theorem dX1_zone_95 : decode cX1_zone 95 = .ok (.iconst (-1), 1) := dk_2 (dk_at dksX1_zone_3 23 rfl rfl)
theorem dX1_zone_96 : decode cX1_zone 96 = .ok (.iload_n 2, 1) := dk_28 (dk_at dksX1_zone_4 0 rfl rfl)
theorem dX1_zone_97 : decode cX1_zone 97 = .ok (.invokevirtual 134, 3) := dk_182 0 134 (dk_at dksX1_zone_4 1 rfl rfl)
theorem dX1_zone_100 : decode cX1_zone 100 = .ok (.ifCond .eq 10, 3) := dk_153 0 10 (dk_at dksX1_zone_4 4 rfl rfl)
theorem dX1_zone_103 : decode cX1_zone 103 = .ok (.iload 8, 2) := dk_21 8 (dk_at dksX1_zone_4 7 rfl rfl)
theorem dX1_zone_105 : decode cX1_zone 105 = .ok (.iconst 4, 1) := dk_7 (dk_at dksX1_zone_4 9 rfl rfl)
theorem dX1_zone_106 : decode cX1_zone 106 = .ok (.iadd, 1) := dk_96 (dk_at dksX1_zone_4 10 rfl rfl)
theorem dX1_zone_107 : decode cX1_zone 107 = .ok (.goto 5, 3) := dk_167 0 5 (dk_at dksX1_zone_4 11 rfl rfl)
theorem dX1_zone_110 : decode cX1_zone 110 = .ok (.iload 8, 2) := dk_21 8 (dk_at dksX1_zone_4 14 rfl rfl)
theorem dX1_zone_112 : decode cX1_zone 112 = .ok (.invokevirtual 94, 3) := dk_182 0 94 (dk_at dksX1_zone_4 16 rfl rfl)
theorem dX1_zone_115 : decode cX1_zone 115 = .ok (.ireturn, 1) := dk_172 (dk_at dksX1_zone_4 19 rfl rfl)
abbrev cX1_provable : ByteArray := prog_1_method_24_code
def yX1_provable : MethodName := ⟨RX1, "provable", "(IIII)I"⟩
def dkwX1_provable_8 : List UInt8 := [21, 9, 153, 0, 8, 21, 6, 167, 0, 10, 16, 254, 167, 0, 5, 21, 8, 182, 0, 94, 172]
abbrev dktX1_provable_8 : List UInt8 := dkwX1_provable_8 ++ []
def dkwX1_provable_7 : List UInt8 := [21, 4, 154, 0, 16, 21, 9, 153, 0, 7, 5, 167, 0, 30, 6, 167, 0, 26, 21, 4, 4, 160, 0, 18]
abbrev dktX1_provable_7 : List UInt8 := dkwX1_provable_7 ++ dktX1_provable_8
def dkwX1_provable_6 : List UInt8 := [167, 255, 190, 21, 7, 42, 180, 0, 59, 180, 0, 111, 160, 0, 7, 4, 167, 0, 4, 3, 54, 9, 42]
abbrev dktX1_provable_6 : List UInt8 := dkwX1_provable_6 ++ dktX1_provable_7
def dkwX1_provable_5 : List UInt8 := [4, 54, 7, 21, 10, 54, 6, 132, 8, 1, 21, 9, 42, 180, 0, 59, 180, 0, 108, 96, 54, 9]
abbrev dktX1_provable_5 : List UInt8 := dkwX1_provable_5 ++ dktX1_provable_6
def dkwX1_provable_4 : List UInt8 := [27, 28, 29, 21, 9, 182, 0, 138, 54, 10, 21, 10, 21, 6, 160, 0, 10, 21, 7, 4, 96, 167, 0, 4]
abbrev dktX1_provable_4 : List UInt8 := dkwX1_provable_4 ++ dktX1_provable_5
def dkwX1_provable_3 : List UInt8 := [5, 96, 54, 9, 21, 9, 21, 5, 163, 0, 65, 21, 7, 42, 180, 0, 59, 180, 0, 111, 162, 0, 53, 42]
abbrev dktX1_provable_3 : List UInt8 := dkwX1_provable_3 ++ dktX1_provable_4
def dkwX1_provable_2 : List UInt8 := [184, 0, 165, 54, 5, 2, 54, 6, 3, 54, 7, 3, 54, 8, 42, 3, 4, 28, 100, 29, 2, 182, 0, 138]
abbrev dktX1_provable_2 : List UInt8 := dkwX1_provable_2 ++ dktX1_provable_3
def dkwX1_provable_1 : List UInt8 := [182, 0, 43, 172, 16, 24, 42, 4, 28, 29, 2, 182, 0, 138, 42, 180, 0, 59, 180, 0, 102, 96, 4, 100]
abbrev dktX1_provable_1 : List UInt8 := dkwX1_provable_1 ++ dktX1_provable_2
def dkwX1_provable_0 : List UInt8 := [42, 27, 28, 29, 182, 0, 123, 153, 0, 13, 21, 4, 3, 5, 184, 0, 39, 154, 0, 9, 42, 4]
abbrev dktX1_provable_0 : List UInt8 := dkwX1_provable_0 ++ dktX1_provable_1
theorem dksX1_provable_0 : cX1_provable.data.toList.drop 0 = dktX1_provable_0 := by decide +kernel
theorem dksX1_provable_1 : cX1_provable.data.toList.drop 22 = dktX1_provable_1 := dk_seg dksX1_provable_0 22 rfl rfl
theorem dksX1_provable_2 : cX1_provable.data.toList.drop 46 = dktX1_provable_2 := dk_seg dksX1_provable_1 24 rfl rfl
theorem dksX1_provable_3 : cX1_provable.data.toList.drop 70 = dktX1_provable_3 := dk_seg dksX1_provable_2 24 rfl rfl
theorem dksX1_provable_4 : cX1_provable.data.toList.drop 94 = dktX1_provable_4 := dk_seg dksX1_provable_3 24 rfl rfl
theorem dksX1_provable_5 : cX1_provable.data.toList.drop 118 = dktX1_provable_5 := dk_seg dksX1_provable_4 24 rfl rfl
theorem dksX1_provable_6 : cX1_provable.data.toList.drop 140 = dktX1_provable_6 := dk_seg dksX1_provable_5 22 rfl rfl
theorem dksX1_provable_7 : cX1_provable.data.toList.drop 163 = dktX1_provable_7 := dk_seg dksX1_provable_6 23 rfl rfl
theorem dksX1_provable_8 : cX1_provable.data.toList.drop 187 = dktX1_provable_8 := dk_seg dksX1_provable_7 24 rfl rfl
theorem dX1_provable_0 : decode cX1_provable 0 = .ok (.aload_n 0, 1) := dk_42 (dk_at dksX1_provable_0 0 rfl rfl)
theorem dX1_provable_1 : decode cX1_provable 1 = .ok (.iload_n 1, 1) := dk_27 (dk_at dksX1_provable_0 1 rfl rfl)
theorem dX1_provable_2 : decode cX1_provable 2 = .ok (.iload_n 2, 1) := dk_28 (dk_at dksX1_provable_0 2 rfl rfl)
theorem dX1_provable_3 : decode cX1_provable 3 = .ok (.iload_n 3, 1) := dk_29 (dk_at dksX1_provable_0 3 rfl rfl)
theorem dX1_provable_4 : decode cX1_provable 4 = .ok (.invokevirtual 123, 3) := dk_182 0 123 (dk_at dksX1_provable_0 4 rfl rfl)
theorem dX1_provable_7 : decode cX1_provable 7 = .ok (.ifCond .eq 13, 3) := dk_153 0 13 (dk_at dksX1_provable_0 7 rfl rfl)
theorem dX1_provable_10 : decode cX1_provable 10 = .ok (.iload 4, 2) := dk_21 4 (dk_at dksX1_provable_0 10 rfl rfl)
theorem dX1_provable_12 : decode cX1_provable 12 = .ok (.iconst 0, 1) := dk_3 (dk_at dksX1_provable_0 12 rfl rfl)
theorem dX1_provable_13 : decode cX1_provable 13 = .ok (.iconst 2, 1) := dk_5 (dk_at dksX1_provable_0 13 rfl rfl)
theorem dX1_provable_14 : decode cX1_provable 14 = .ok (.invokestatic 39, 3) := dk_184 0 39 (dk_at dksX1_provable_0 14 rfl rfl)
theorem dX1_provable_17 : decode cX1_provable 17 = .ok (.ifCond .ne 9, 3) := dk_154 0 9 (dk_at dksX1_provable_0 17 rfl rfl)
theorem dX1_provable_20 : decode cX1_provable 20 = .ok (.aload_n 0, 1) := dk_42 (dk_at dksX1_provable_0 20 rfl rfl)
theorem dX1_provable_21 : decode cX1_provable 21 = .ok (.iconst 1, 1) := dk_4 (dk_at dksX1_provable_0 21 rfl rfl)
theorem dX1_provable_22 : decode cX1_provable 22 = .ok (.invokevirtual 43, 3) := dk_182 0 43 (dk_at dksX1_provable_1 0 rfl rfl)
theorem dX1_provable_25 : decode cX1_provable 25 = .ok (.ireturn, 1) := dk_172 (dk_at dksX1_provable_1 3 rfl rfl)
theorem dX1_provable_26 : decode cX1_provable 26 = .ok (.bipush 24, 2) := dk_16 24 (dk_at dksX1_provable_1 4 rfl rfl)
theorem dX1_provable_28 : decode cX1_provable 28 = .ok (.aload_n 0, 1) := dk_42 (dk_at dksX1_provable_1 6 rfl rfl)
theorem dX1_provable_29 : decode cX1_provable 29 = .ok (.iconst 1, 1) := dk_4 (dk_at dksX1_provable_1 7 rfl rfl)
theorem dX1_provable_30 : decode cX1_provable 30 = .ok (.iload_n 2, 1) := dk_28 (dk_at dksX1_provable_1 8 rfl rfl)
theorem dX1_provable_31 : decode cX1_provable 31 = .ok (.iload_n 3, 1) := dk_29 (dk_at dksX1_provable_1 9 rfl rfl)
theorem dX1_provable_32 : decode cX1_provable 32 = .ok (.iconst (-1), 1) := dk_2 (dk_at dksX1_provable_1 10 rfl rfl)
theorem dX1_provable_33 : decode cX1_provable 33 = .ok (.invokevirtual 138, 3) := dk_182 0 138 (dk_at dksX1_provable_1 11 rfl rfl)
theorem dX1_provable_36 : decode cX1_provable 36 = .ok (.aload_n 0, 1) := dk_42 (dk_at dksX1_provable_1 14 rfl rfl)
theorem dX1_provable_37 : decode cX1_provable 37 = .ok (.getfield 59, 3) := dk_180 0 59 (dk_at dksX1_provable_1 15 rfl rfl)
theorem dX1_provable_40 : decode cX1_provable 40 = .ok (.getfield 102, 3) := dk_180 0 102 (dk_at dksX1_provable_1 18 rfl rfl)
theorem dX1_provable_43 : decode cX1_provable 43 = .ok (.iadd, 1) := dk_96 (dk_at dksX1_provable_1 21 rfl rfl)
theorem dX1_provable_44 : decode cX1_provable 44 = .ok (.iconst 1, 1) := dk_4 (dk_at dksX1_provable_1 22 rfl rfl)
theorem dX1_provable_45 : decode cX1_provable 45 = .ok (.isub, 1) := dk_100 (dk_at dksX1_provable_1 23 rfl rfl)
theorem dX1_provable_46 : decode cX1_provable 46 = .ok (.invokestatic 165, 3) := dk_184 0 165 (dk_at dksX1_provable_2 0 rfl rfl)
theorem dX1_provable_49 : decode cX1_provable 49 = .ok (.istore 5, 2) := dk_54 5 (dk_at dksX1_provable_2 3 rfl rfl)
theorem dX1_provable_51 : decode cX1_provable 51 = .ok (.iconst (-1), 1) := dk_2 (dk_at dksX1_provable_2 5 rfl rfl)
theorem dX1_provable_52 : decode cX1_provable 52 = .ok (.istore 6, 2) := dk_54 6 (dk_at dksX1_provable_2 6 rfl rfl)
theorem dX1_provable_54 : decode cX1_provable 54 = .ok (.iconst 0, 1) := dk_3 (dk_at dksX1_provable_2 8 rfl rfl)
theorem dX1_provable_55 : decode cX1_provable 55 = .ok (.istore 7, 2) := dk_54 7 (dk_at dksX1_provable_2 9 rfl rfl)
theorem dX1_provable_57 : decode cX1_provable 57 = .ok (.iconst 0, 1) := dk_3 (dk_at dksX1_provable_2 11 rfl rfl)
theorem dX1_provable_58 : decode cX1_provable 58 = .ok (.istore 8, 2) := dk_54 8 (dk_at dksX1_provable_2 12 rfl rfl)
theorem dX1_provable_60 : decode cX1_provable 60 = .ok (.aload_n 0, 1) := dk_42 (dk_at dksX1_provable_2 14 rfl rfl)
theorem dX1_provable_61 : decode cX1_provable 61 = .ok (.iconst 0, 1) := dk_3 (dk_at dksX1_provable_2 15 rfl rfl)
theorem dX1_provable_62 : decode cX1_provable 62 = .ok (.iconst 1, 1) := dk_4 (dk_at dksX1_provable_2 16 rfl rfl)
theorem dX1_provable_63 : decode cX1_provable 63 = .ok (.iload_n 2, 1) := dk_28 (dk_at dksX1_provable_2 17 rfl rfl)
theorem dX1_provable_64 : decode cX1_provable 64 = .ok (.isub, 1) := dk_100 (dk_at dksX1_provable_2 18 rfl rfl)
theorem dX1_provable_65 : decode cX1_provable 65 = .ok (.iload_n 3, 1) := dk_29 (dk_at dksX1_provable_2 19 rfl rfl)
theorem dX1_provable_66 : decode cX1_provable 66 = .ok (.iconst (-1), 1) := dk_2 (dk_at dksX1_provable_2 20 rfl rfl)
theorem dX1_provable_67 : decode cX1_provable 67 = .ok (.invokevirtual 138, 3) := dk_182 0 138 (dk_at dksX1_provable_2 21 rfl rfl)
theorem dX1_provable_70 : decode cX1_provable 70 = .ok (.iconst 2, 1) := dk_5 (dk_at dksX1_provable_3 0 rfl rfl)
theorem dX1_provable_71 : decode cX1_provable 71 = .ok (.iadd, 1) := dk_96 (dk_at dksX1_provable_3 1 rfl rfl)
theorem dX1_provable_72 : decode cX1_provable 72 = .ok (.istore 9, 2) := dk_54 9 (dk_at dksX1_provable_3 2 rfl rfl)
theorem dX1_provable_74 : decode cX1_provable 74 = .ok (.iload 9, 2) := dk_21 9 (dk_at dksX1_provable_3 4 rfl rfl)
theorem dX1_provable_76 : decode cX1_provable 76 = .ok (.iload 5, 2) := dk_21 5 (dk_at dksX1_provable_3 6 rfl rfl)
theorem dX1_provable_78 : decode cX1_provable 78 = .ok (.if_icmp .gt 65, 3) := dk_163 0 65 (dk_at dksX1_provable_3 8 rfl rfl)
theorem dX1_provable_81 : decode cX1_provable 81 = .ok (.iload 7, 2) := dk_21 7 (dk_at dksX1_provable_3 11 rfl rfl)
theorem dX1_provable_83 : decode cX1_provable 83 = .ok (.aload_n 0, 1) := dk_42 (dk_at dksX1_provable_3 13 rfl rfl)
theorem dX1_provable_84 : decode cX1_provable 84 = .ok (.getfield 59, 3) := dk_180 0 59 (dk_at dksX1_provable_3 14 rfl rfl)
theorem dX1_provable_87 : decode cX1_provable 87 = .ok (.getfield 111, 3) := dk_180 0 111 (dk_at dksX1_provable_3 17 rfl rfl)
theorem dX1_provable_90 : decode cX1_provable 90 = .ok (.if_icmp .ge 53, 3) := dk_162 0 53 (dk_at dksX1_provable_3 20 rfl rfl)
theorem dX1_provable_93 : decode cX1_provable 93 = .ok (.aload_n 0, 1) := dk_42 (dk_at dksX1_provable_3 23 rfl rfl)
theorem dX1_provable_94 : decode cX1_provable 94 = .ok (.iload_n 1, 1) := dk_27 (dk_at dksX1_provable_4 0 rfl rfl)
theorem dX1_provable_95 : decode cX1_provable 95 = .ok (.iload_n 2, 1) := dk_28 (dk_at dksX1_provable_4 1 rfl rfl)
theorem dX1_provable_96 : decode cX1_provable 96 = .ok (.iload_n 3, 1) := dk_29 (dk_at dksX1_provable_4 2 rfl rfl)
theorem dX1_provable_97 : decode cX1_provable 97 = .ok (.iload 9, 2) := dk_21 9 (dk_at dksX1_provable_4 3 rfl rfl)
theorem dX1_provable_99 : decode cX1_provable 99 = .ok (.invokevirtual 138, 3) := dk_182 0 138 (dk_at dksX1_provable_4 5 rfl rfl)
theorem dX1_provable_102 : decode cX1_provable 102 = .ok (.istore 10, 2) := dk_54 10 (dk_at dksX1_provable_4 8 rfl rfl)
theorem dX1_provable_104 : decode cX1_provable 104 = .ok (.iload 10, 2) := dk_21 10 (dk_at dksX1_provable_4 10 rfl rfl)
theorem dX1_provable_106 : decode cX1_provable 106 = .ok (.iload 6, 2) := dk_21 6 (dk_at dksX1_provable_4 12 rfl rfl)
theorem dX1_provable_108 : decode cX1_provable 108 = .ok (.if_icmp .ne 10, 3) := dk_160 0 10 (dk_at dksX1_provable_4 14 rfl rfl)
theorem dX1_provable_111 : decode cX1_provable 111 = .ok (.iload 7, 2) := dk_21 7 (dk_at dksX1_provable_4 17 rfl rfl)
theorem dX1_provable_113 : decode cX1_provable 113 = .ok (.iconst 1, 1) := dk_4 (dk_at dksX1_provable_4 19 rfl rfl)
theorem dX1_provable_114 : decode cX1_provable 114 = .ok (.iadd, 1) := dk_96 (dk_at dksX1_provable_4 20 rfl rfl)
theorem dX1_provable_115 : decode cX1_provable 115 = .ok (.goto 4, 3) := dk_167 0 4 (dk_at dksX1_provable_4 21 rfl rfl)
theorem dX1_provable_118 : decode cX1_provable 118 = .ok (.iconst 1, 1) := dk_4 (dk_at dksX1_provable_5 0 rfl rfl)
theorem dX1_provable_119 : decode cX1_provable 119 = .ok (.istore 7, 2) := dk_54 7 (dk_at dksX1_provable_5 1 rfl rfl)
theorem dX1_provable_121 : decode cX1_provable 121 = .ok (.iload 10, 2) := dk_21 10 (dk_at dksX1_provable_5 3 rfl rfl)
theorem dX1_provable_123 : decode cX1_provable 123 = .ok (.istore 6, 2) := dk_54 6 (dk_at dksX1_provable_5 5 rfl rfl)
theorem dX1_provable_125 : decode cX1_provable 125 = .ok (.iinc 8 1, 3) := dk_132 8 1 (dk_at dksX1_provable_5 7 rfl rfl)
theorem dX1_provable_128 : decode cX1_provable 128 = .ok (.iload 9, 2) := dk_21 9 (dk_at dksX1_provable_5 10 rfl rfl)
theorem dX1_provable_130 : decode cX1_provable 130 = .ok (.aload_n 0, 1) := dk_42 (dk_at dksX1_provable_5 12 rfl rfl)
theorem dX1_provable_131 : decode cX1_provable 131 = .ok (.getfield 59, 3) := dk_180 0 59 (dk_at dksX1_provable_5 13 rfl rfl)
theorem dX1_provable_134 : decode cX1_provable 134 = .ok (.getfield 108, 3) := dk_180 0 108 (dk_at dksX1_provable_5 16 rfl rfl)
theorem dX1_provable_137 : decode cX1_provable 137 = .ok (.iadd, 1) := dk_96 (dk_at dksX1_provable_5 19 rfl rfl)
theorem dX1_provable_138 : decode cX1_provable 138 = .ok (.istore 9, 2) := dk_54 9 (dk_at dksX1_provable_5 20 rfl rfl)
theorem dX1_provable_140 : decode cX1_provable 140 = .ok (.goto (-66), 3) := dk_167 255 190 (dk_at dksX1_provable_6 0 rfl rfl)
theorem dX1_provable_143 : decode cX1_provable 143 = .ok (.iload 7, 2) := dk_21 7 (dk_at dksX1_provable_6 3 rfl rfl)
theorem dX1_provable_145 : decode cX1_provable 145 = .ok (.aload_n 0, 1) := dk_42 (dk_at dksX1_provable_6 5 rfl rfl)
theorem dX1_provable_146 : decode cX1_provable 146 = .ok (.getfield 59, 3) := dk_180 0 59 (dk_at dksX1_provable_6 6 rfl rfl)
theorem dX1_provable_149 : decode cX1_provable 149 = .ok (.getfield 111, 3) := dk_180 0 111 (dk_at dksX1_provable_6 9 rfl rfl)
theorem dX1_provable_152 : decode cX1_provable 152 = .ok (.if_icmp .ne 7, 3) := dk_160 0 7 (dk_at dksX1_provable_6 12 rfl rfl)
theorem dX1_provable_155 : decode cX1_provable 155 = .ok (.iconst 1, 1) := dk_4 (dk_at dksX1_provable_6 15 rfl rfl)
theorem dX1_provable_156 : decode cX1_provable 156 = .ok (.goto 4, 3) := dk_167 0 4 (dk_at dksX1_provable_6 16 rfl rfl)
theorem dX1_provable_159 : decode cX1_provable 159 = .ok (.iconst 0, 1) := dk_3 (dk_at dksX1_provable_6 19 rfl rfl)
theorem dX1_provable_160 : decode cX1_provable 160 = .ok (.istore 9, 2) := dk_54 9 (dk_at dksX1_provable_6 20 rfl rfl)
theorem dX1_provable_162 : decode cX1_provable 162 = .ok (.aload_n 0, 1) := dk_42 (dk_at dksX1_provable_6 22 rfl rfl)
theorem dX1_provable_163 : decode cX1_provable 163 = .ok (.iload 4, 2) := dk_21 4 (dk_at dksX1_provable_7 0 rfl rfl)
theorem dX1_provable_165 : decode cX1_provable 165 = .ok (.ifCond .ne 16, 3) := dk_154 0 16 (dk_at dksX1_provable_7 2 rfl rfl)
theorem dX1_provable_168 : decode cX1_provable 168 = .ok (.iload 9, 2) := dk_21 9 (dk_at dksX1_provable_7 5 rfl rfl)
theorem dX1_provable_170 : decode cX1_provable 170 = .ok (.ifCond .eq 7, 3) := dk_153 0 7 (dk_at dksX1_provable_7 7 rfl rfl)
theorem dX1_provable_173 : decode cX1_provable 173 = .ok (.iconst 2, 1) := dk_5 (dk_at dksX1_provable_7 10 rfl rfl)
theorem dX1_provable_174 : decode cX1_provable 174 = .ok (.goto 30, 3) := dk_167 0 30 (dk_at dksX1_provable_7 11 rfl rfl)
theorem dX1_provable_177 : decode cX1_provable 177 = .ok (.iconst 3, 1) := dk_6 (dk_at dksX1_provable_7 14 rfl rfl)
theorem dX1_provable_178 : decode cX1_provable 178 = .ok (.goto 26, 3) := dk_167 0 26 (dk_at dksX1_provable_7 15 rfl rfl)
theorem dX1_provable_181 : decode cX1_provable 181 = .ok (.iload 4, 2) := dk_21 4 (dk_at dksX1_provable_7 18 rfl rfl)
theorem dX1_provable_183 : decode cX1_provable 183 = .ok (.iconst 1, 1) := dk_4 (dk_at dksX1_provable_7 20 rfl rfl)
theorem dX1_provable_184 : decode cX1_provable 184 = .ok (.if_icmp .ne 18, 3) := dk_160 0 18 (dk_at dksX1_provable_7 21 rfl rfl)
theorem dX1_provable_187 : decode cX1_provable 187 = .ok (.iload 9, 2) := dk_21 9 (dk_at dksX1_provable_8 0 rfl rfl)
theorem dX1_provable_189 : decode cX1_provable 189 = .ok (.ifCond .eq 8, 3) := dk_153 0 8 (dk_at dksX1_provable_8 2 rfl rfl)
theorem dX1_provable_192 : decode cX1_provable 192 = .ok (.iload 6, 2) := dk_21 6 (dk_at dksX1_provable_8 5 rfl rfl)
theorem dX1_provable_194 : decode cX1_provable 194 = .ok (.goto 10, 3) := dk_167 0 10 (dk_at dksX1_provable_8 7 rfl rfl)
theorem dX1_provable_197 : decode cX1_provable 197 = .ok (.bipush (-2), 2) := dk_16 254 (dk_at dksX1_provable_8 10 rfl rfl)
theorem dX1_provable_199 : decode cX1_provable 199 = .ok (.goto 5, 3) := dk_167 0 5 (dk_at dksX1_provable_8 12 rfl rfl)
theorem dX1_provable_202 : decode cX1_provable 202 = .ok (.iload 8, 2) := dk_21 8 (dk_at dksX1_provable_8 15 rfl rfl)
theorem dX1_provable_204 : decode cX1_provable 204 = .ok (.invokevirtual 94, 3) := dk_182 0 94 (dk_at dksX1_provable_8 17 rfl rfl)
theorem dX1_provable_207 : decode cX1_provable 207 = .ok (.ireturn, 1) := dk_172 (dk_at dksX1_provable_8 20 rfl rfl)
abbrev cX1_now : ByteArray := prog_1_method_25_code
def yX1_now : MethodName := ⟨RX1, "now", "(I)I"⟩
def dkwX1_now_8 : List UInt8 := [182, 0, 94, 172, 42, 44, 180, 0, 201, 182, 0, 94, 172]
abbrev dktX1_now_8 : List UInt8 := dkwX1_now_8 ++ []
def dkwX1_now_7 : List UInt8 := [180, 0, 196, 182, 0, 94, 172, 42, 44, 180, 0, 192, 180, 0, 152, 182, 0, 94, 172, 42, 44, 180, 0, 199]
abbrev dktX1_now_7 : List UInt8 := dkwX1_now_7 ++ dktX1_now_8
def dkwX1_now_6 : List UInt8 := [4, 167, 0, 4, 3, 182, 0, 94, 172, 42, 44, 180, 0, 192, 180, 0, 153, 182, 0, 94, 172, 42, 44]
abbrev dktX1_now_6 : List UInt8 := dkwX1_now_6 ++ dktX1_now_7
def dkwX1_now_5 : List UInt8 := [180, 0, 183, 182, 0, 94, 172, 42, 44, 180, 0, 186, 182, 0, 94, 172, 42, 44, 180, 0, 189, 153, 0, 7]
abbrev dktX1_now_5 : List UInt8 := dkwX1_now_5 ++ dktX1_now_6
def dkwX1_now_4 : List UInt8 := [42, 42, 180, 0, 76, 180, 0, 171, 182, 0, 94, 172, 42, 44, 180, 0, 180, 182, 0, 94, 172, 42, 44]
abbrev dktX1_now_4 : List UInt8 := dkwX1_now_4 ++ dktX1_now_5
def dkwX1_now_3 : List UInt8 := [170, 0, 0, 0, 147, 0, 0, 0, 0, 0, 0, 0, 8, 0, 0, 0, 49, 0, 0, 0, 61, 0, 0, 0, 70, 0, 0, 0, 79, 0, 0, 0, 88, 0, 0, 0, 105, 0, 0, 0, 117, 0, 0, 0, 126, 0, 0, 0, 138]
abbrev dktX1_now_3 : List UInt8 := dkwX1_now_3 ++ dktX1_now_4
def dkwX1_now_2 : List UInt8 := [42, 180, 0, 76, 180, 0, 171, 182, 0, 174, 192, 0, 178, 77, 27]
abbrev dktX1_now_2 : List UInt8 := dkwX1_now_2 ++ dktX1_now_3
def dkwX1_now_1 : List UInt8 := [180, 0, 76, 180, 0, 171, 2, 160, 0, 10, 42, 16, 254, 182, 0, 94, 172, 42, 180, 0, 76, 180, 0, 84]
abbrev dktX1_now_1 : List UInt8 := dkwX1_now_1 ++ dktX1_now_2
def dkwX1_now_0 : List UInt8 := [42, 180, 0, 76, 198, 0, 13, 27, 3, 16, 9, 184, 0, 39, 154, 0, 9, 42, 4, 182, 0, 43, 172, 42]
abbrev dktX1_now_0 : List UInt8 := dkwX1_now_0 ++ dktX1_now_1
theorem dksX1_now_0 : cX1_now.data.toList.drop 0 = dktX1_now_0 := by decide +kernel
theorem dksX1_now_1 : cX1_now.data.toList.drop 24 = dktX1_now_1 := dk_seg dksX1_now_0 24 rfl rfl
theorem dksX1_now_2 : cX1_now.data.toList.drop 48 = dktX1_now_2 := dk_seg dksX1_now_1 24 rfl rfl
theorem dksX1_now_3 : cX1_now.data.toList.drop 63 = dktX1_now_3 := dk_seg dksX1_now_2 15 rfl rfl
theorem dksX1_now_4 : cX1_now.data.toList.drop 112 = dktX1_now_4 := dk_seg dksX1_now_3 49 rfl rfl
theorem dksX1_now_5 : cX1_now.data.toList.drop 135 = dktX1_now_5 := dk_seg dksX1_now_4 23 rfl rfl
theorem dksX1_now_6 : cX1_now.data.toList.drop 159 = dktX1_now_6 := dk_seg dksX1_now_5 24 rfl rfl
theorem dksX1_now_7 : cX1_now.data.toList.drop 182 = dktX1_now_7 := dk_seg dksX1_now_6 23 rfl rfl
theorem dksX1_now_8 : cX1_now.data.toList.drop 206 = dktX1_now_8 := dk_seg dksX1_now_7 24 rfl rfl
theorem dX1_now_0 : decode cX1_now 0 = .ok (.aload_n 0, 1) := dk_42 (dk_at dksX1_now_0 0 rfl rfl)
theorem dX1_now_1 : decode cX1_now 1 = .ok (.getfield 76, 3) := dk_180 0 76 (dk_at dksX1_now_0 1 rfl rfl)
theorem dX1_now_4 : decode cX1_now 4 = .ok (.ifnull 13, 3) := dk_198 0 13 (dk_at dksX1_now_0 4 rfl rfl)
theorem dX1_now_7 : decode cX1_now 7 = .ok (.iload_n 1, 1) := dk_27 (dk_at dksX1_now_0 7 rfl rfl)
theorem dX1_now_8 : decode cX1_now 8 = .ok (.iconst 0, 1) := dk_3 (dk_at dksX1_now_0 8 rfl rfl)
theorem dX1_now_9 : decode cX1_now 9 = .ok (.bipush 9, 2) := dk_16 9 (dk_at dksX1_now_0 9 rfl rfl)
theorem dX1_now_11 : decode cX1_now 11 = .ok (.invokestatic 39, 3) := dk_184 0 39 (dk_at dksX1_now_0 11 rfl rfl)
theorem dX1_now_14 : decode cX1_now 14 = .ok (.ifCond .ne 9, 3) := dk_154 0 9 (dk_at dksX1_now_0 14 rfl rfl)
theorem dX1_now_17 : decode cX1_now 17 = .ok (.aload_n 0, 1) := dk_42 (dk_at dksX1_now_0 17 rfl rfl)
theorem dX1_now_18 : decode cX1_now 18 = .ok (.iconst 1, 1) := dk_4 (dk_at dksX1_now_0 18 rfl rfl)
theorem dX1_now_19 : decode cX1_now 19 = .ok (.invokevirtual 43, 3) := dk_182 0 43 (dk_at dksX1_now_0 19 rfl rfl)
theorem dX1_now_22 : decode cX1_now 22 = .ok (.ireturn, 1) := dk_172 (dk_at dksX1_now_0 22 rfl rfl)
theorem dX1_now_23 : decode cX1_now 23 = .ok (.aload_n 0, 1) := dk_42 (dk_at dksX1_now_0 23 rfl rfl)
theorem dX1_now_24 : decode cX1_now 24 = .ok (.getfield 76, 3) := dk_180 0 76 (dk_at dksX1_now_1 0 rfl rfl)
theorem dX1_now_27 : decode cX1_now 27 = .ok (.getfield 171, 3) := dk_180 0 171 (dk_at dksX1_now_1 3 rfl rfl)
theorem dX1_now_30 : decode cX1_now 30 = .ok (.iconst (-1), 1) := dk_2 (dk_at dksX1_now_1 6 rfl rfl)
theorem dX1_now_31 : decode cX1_now 31 = .ok (.if_icmp .ne 10, 3) := dk_160 0 10 (dk_at dksX1_now_1 7 rfl rfl)
theorem dX1_now_34 : decode cX1_now 34 = .ok (.aload_n 0, 1) := dk_42 (dk_at dksX1_now_1 10 rfl rfl)
theorem dX1_now_35 : decode cX1_now 35 = .ok (.bipush (-2), 2) := dk_16 254 (dk_at dksX1_now_1 11 rfl rfl)
theorem dX1_now_37 : decode cX1_now 37 = .ok (.invokevirtual 94, 3) := dk_182 0 94 (dk_at dksX1_now_1 13 rfl rfl)
theorem dX1_now_40 : decode cX1_now 40 = .ok (.ireturn, 1) := dk_172 (dk_at dksX1_now_1 16 rfl rfl)
theorem dX1_now_41 : decode cX1_now 41 = .ok (.aload_n 0, 1) := dk_42 (dk_at dksX1_now_1 17 rfl rfl)
theorem dX1_now_42 : decode cX1_now 42 = .ok (.getfield 76, 3) := dk_180 0 76 (dk_at dksX1_now_1 18 rfl rfl)
theorem dX1_now_45 : decode cX1_now 45 = .ok (.getfield 84, 3) := dk_180 0 84 (dk_at dksX1_now_1 21 rfl rfl)
theorem dX1_now_48 : decode cX1_now 48 = .ok (.aload_n 0, 1) := dk_42 (dk_at dksX1_now_2 0 rfl rfl)
theorem dX1_now_49 : decode cX1_now 49 = .ok (.getfield 76, 3) := dk_180 0 76 (dk_at dksX1_now_2 1 rfl rfl)
theorem dX1_now_52 : decode cX1_now 52 = .ok (.getfield 171, 3) := dk_180 0 171 (dk_at dksX1_now_2 4 rfl rfl)
theorem dX1_now_55 : decode cX1_now 55 = .ok (.invokevirtual 174, 3) := dk_182 0 174 (dk_at dksX1_now_2 7 rfl rfl)
theorem dX1_now_58 : decode cX1_now 58 = .ok (.checkcast 178, 3) := dk_192 0 178 (dk_at dksX1_now_2 10 rfl rfl)
theorem dX1_now_61 : decode cX1_now 61 = .ok (.astore_n 2, 1) := dk_77 (dk_at dksX1_now_2 13 rfl rfl)
theorem dX1_now_62 : decode cX1_now 62 = .ok (.iload_n 1, 1) := dk_27 (dk_at dksX1_now_2 14 rfl rfl)
theorem dX1_now_63 : decode cX1_now 63 = .ok (.tableswitch 147 0 8 #[49, 61, 70, 79, 88, 105, 117, 126, 138], 49) := by decide +kernel
theorem dX1_now_112 : decode cX1_now 112 = .ok (.aload_n 0, 1) := dk_42 (dk_at dksX1_now_4 0 rfl rfl)
theorem dX1_now_113 : decode cX1_now 113 = .ok (.aload_n 0, 1) := dk_42 (dk_at dksX1_now_4 1 rfl rfl)
theorem dX1_now_114 : decode cX1_now 114 = .ok (.getfield 76, 3) := dk_180 0 76 (dk_at dksX1_now_4 2 rfl rfl)
theorem dX1_now_117 : decode cX1_now 117 = .ok (.getfield 171, 3) := dk_180 0 171 (dk_at dksX1_now_4 5 rfl rfl)
theorem dX1_now_120 : decode cX1_now 120 = .ok (.invokevirtual 94, 3) := dk_182 0 94 (dk_at dksX1_now_4 8 rfl rfl)
theorem dX1_now_123 : decode cX1_now 123 = .ok (.ireturn, 1) := dk_172 (dk_at dksX1_now_4 11 rfl rfl)
theorem dX1_now_124 : decode cX1_now 124 = .ok (.aload_n 0, 1) := dk_42 (dk_at dksX1_now_4 12 rfl rfl)
theorem dX1_now_125 : decode cX1_now 125 = .ok (.aload_n 2, 1) := dk_44 (dk_at dksX1_now_4 13 rfl rfl)
theorem dX1_now_126 : decode cX1_now 126 = .ok (.getfield 180, 3) := dk_180 0 180 (dk_at dksX1_now_4 14 rfl rfl)
theorem dX1_now_129 : decode cX1_now 129 = .ok (.invokevirtual 94, 3) := dk_182 0 94 (dk_at dksX1_now_4 17 rfl rfl)
theorem dX1_now_132 : decode cX1_now 132 = .ok (.ireturn, 1) := dk_172 (dk_at dksX1_now_4 20 rfl rfl)
theorem dX1_now_133 : decode cX1_now 133 = .ok (.aload_n 0, 1) := dk_42 (dk_at dksX1_now_4 21 rfl rfl)
theorem dX1_now_134 : decode cX1_now 134 = .ok (.aload_n 2, 1) := dk_44 (dk_at dksX1_now_4 22 rfl rfl)
theorem dX1_now_135 : decode cX1_now 135 = .ok (.getfield 183, 3) := dk_180 0 183 (dk_at dksX1_now_5 0 rfl rfl)
theorem dX1_now_138 : decode cX1_now 138 = .ok (.invokevirtual 94, 3) := dk_182 0 94 (dk_at dksX1_now_5 3 rfl rfl)
theorem dX1_now_141 : decode cX1_now 141 = .ok (.ireturn, 1) := dk_172 (dk_at dksX1_now_5 6 rfl rfl)
theorem dX1_now_142 : decode cX1_now 142 = .ok (.aload_n 0, 1) := dk_42 (dk_at dksX1_now_5 7 rfl rfl)
theorem dX1_now_143 : decode cX1_now 143 = .ok (.aload_n 2, 1) := dk_44 (dk_at dksX1_now_5 8 rfl rfl)
theorem dX1_now_144 : decode cX1_now 144 = .ok (.getfield 186, 3) := dk_180 0 186 (dk_at dksX1_now_5 9 rfl rfl)
theorem dX1_now_147 : decode cX1_now 147 = .ok (.invokevirtual 94, 3) := dk_182 0 94 (dk_at dksX1_now_5 12 rfl rfl)
theorem dX1_now_150 : decode cX1_now 150 = .ok (.ireturn, 1) := dk_172 (dk_at dksX1_now_5 15 rfl rfl)
theorem dX1_now_151 : decode cX1_now 151 = .ok (.aload_n 0, 1) := dk_42 (dk_at dksX1_now_5 16 rfl rfl)
theorem dX1_now_152 : decode cX1_now 152 = .ok (.aload_n 2, 1) := dk_44 (dk_at dksX1_now_5 17 rfl rfl)
theorem dX1_now_153 : decode cX1_now 153 = .ok (.getfield 189, 3) := dk_180 0 189 (dk_at dksX1_now_5 18 rfl rfl)
theorem dX1_now_156 : decode cX1_now 156 = .ok (.ifCond .eq 7, 3) := dk_153 0 7 (dk_at dksX1_now_5 21 rfl rfl)
theorem dX1_now_159 : decode cX1_now 159 = .ok (.iconst 1, 1) := dk_4 (dk_at dksX1_now_6 0 rfl rfl)
theorem dX1_now_160 : decode cX1_now 160 = .ok (.goto 4, 3) := dk_167 0 4 (dk_at dksX1_now_6 1 rfl rfl)
theorem dX1_now_163 : decode cX1_now 163 = .ok (.iconst 0, 1) := dk_3 (dk_at dksX1_now_6 4 rfl rfl)
theorem dX1_now_164 : decode cX1_now 164 = .ok (.invokevirtual 94, 3) := dk_182 0 94 (dk_at dksX1_now_6 5 rfl rfl)
theorem dX1_now_167 : decode cX1_now 167 = .ok (.ireturn, 1) := dk_172 (dk_at dksX1_now_6 8 rfl rfl)
theorem dX1_now_168 : decode cX1_now 168 = .ok (.aload_n 0, 1) := dk_42 (dk_at dksX1_now_6 9 rfl rfl)
theorem dX1_now_169 : decode cX1_now 169 = .ok (.aload_n 2, 1) := dk_44 (dk_at dksX1_now_6 10 rfl rfl)
theorem dX1_now_170 : decode cX1_now 170 = .ok (.getfield 192, 3) := dk_180 0 192 (dk_at dksX1_now_6 11 rfl rfl)
theorem dX1_now_173 : decode cX1_now 173 = .ok (.getfield 153, 3) := dk_180 0 153 (dk_at dksX1_now_6 14 rfl rfl)
theorem dX1_now_176 : decode cX1_now 176 = .ok (.invokevirtual 94, 3) := dk_182 0 94 (dk_at dksX1_now_6 17 rfl rfl)
theorem dX1_now_179 : decode cX1_now 179 = .ok (.ireturn, 1) := dk_172 (dk_at dksX1_now_6 20 rfl rfl)
theorem dX1_now_180 : decode cX1_now 180 = .ok (.aload_n 0, 1) := dk_42 (dk_at dksX1_now_6 21 rfl rfl)
theorem dX1_now_181 : decode cX1_now 181 = .ok (.aload_n 2, 1) := dk_44 (dk_at dksX1_now_6 22 rfl rfl)
theorem dX1_now_182 : decode cX1_now 182 = .ok (.getfield 196, 3) := dk_180 0 196 (dk_at dksX1_now_7 0 rfl rfl)
theorem dX1_now_185 : decode cX1_now 185 = .ok (.invokevirtual 94, 3) := dk_182 0 94 (dk_at dksX1_now_7 3 rfl rfl)
theorem dX1_now_188 : decode cX1_now 188 = .ok (.ireturn, 1) := dk_172 (dk_at dksX1_now_7 6 rfl rfl)
theorem dX1_now_189 : decode cX1_now 189 = .ok (.aload_n 0, 1) := dk_42 (dk_at dksX1_now_7 7 rfl rfl)
theorem dX1_now_190 : decode cX1_now 190 = .ok (.aload_n 2, 1) := dk_44 (dk_at dksX1_now_7 8 rfl rfl)
theorem dX1_now_191 : decode cX1_now 191 = .ok (.getfield 192, 3) := dk_180 0 192 (dk_at dksX1_now_7 9 rfl rfl)
theorem dX1_now_194 : decode cX1_now 194 = .ok (.getfield 152, 3) := dk_180 0 152 (dk_at dksX1_now_7 12 rfl rfl)
theorem dX1_now_197 : decode cX1_now 197 = .ok (.invokevirtual 94, 3) := dk_182 0 94 (dk_at dksX1_now_7 15 rfl rfl)
theorem dX1_now_200 : decode cX1_now 200 = .ok (.ireturn, 1) := dk_172 (dk_at dksX1_now_7 18 rfl rfl)
theorem dX1_now_201 : decode cX1_now 201 = .ok (.aload_n 0, 1) := dk_42 (dk_at dksX1_now_7 19 rfl rfl)
theorem dX1_now_202 : decode cX1_now 202 = .ok (.aload_n 2, 1) := dk_44 (dk_at dksX1_now_7 20 rfl rfl)
theorem dX1_now_203 : decode cX1_now 203 = .ok (.getfield 199, 3) := dk_180 0 199 (dk_at dksX1_now_7 21 rfl rfl)
theorem dX1_now_206 : decode cX1_now 206 = .ok (.invokevirtual 94, 3) := dk_182 0 94 (dk_at dksX1_now_8 0 rfl rfl)
theorem dX1_now_209 : decode cX1_now 209 = .ok (.ireturn, 1) := dk_172 (dk_at dksX1_now_8 3 rfl rfl)
theorem dX1_now_210 : decode cX1_now 210 = .ok (.aload_n 0, 1) := dk_42 (dk_at dksX1_now_8 4 rfl rfl)
theorem dX1_now_211 : decode cX1_now 211 = .ok (.aload_n 2, 1) := dk_44 (dk_at dksX1_now_8 5 rfl rfl)
theorem dX1_now_212 : decode cX1_now 212 = .ok (.getfield 201, 3) := dk_180 0 201 (dk_at dksX1_now_8 6 rfl rfl)
theorem dX1_now_215 : decode cX1_now 215 = .ok (.invokevirtual 94, 3) := dk_182 0 94 (dk_at dksX1_now_8 9 rfl rfl)
theorem dX1_now_218 : decode cX1_now 218 = .ok (.ireturn, 1) := dk_172 (dk_at dksX1_now_8 12 rfl rfl)
abbrev cX1_tried : ByteArray := prog_1_method_26_code
def yX1_tried : MethodName := ⟨RX1, "tried", "(II)I"⟩
def dkwX1_tried_5 : List UInt8 := [167, 0, 9, 45, 180, 0, 211, 27, 46, 182, 0, 94, 172]
abbrev dktX1_tried_5 : List UInt8 := dkwX1_tried_5 ++ []
def dkwX1_tried_4 : List UInt8 := [28, 4, 160, 0, 11, 45, 27, 182, 0, 205, 167, 0, 23, 28, 5, 160, 0, 12, 45, 180, 0, 208, 27, 46]
abbrev dktX1_tried_4 : List UInt8 := dkwX1_tried_4 ++ dktX1_tried_5
def dkwX1_tried_3 : List UInt8 := [182, 0, 174, 192, 0, 178, 180, 0, 192, 78, 42, 28, 154, 0, 12, 45, 180, 0, 202, 27, 46, 167, 0, 36]
abbrev dktX1_tried_3 : List UInt8 := dkwX1_tried_3 ++ dktX1_tried_4
def dkwX1_tried_2 : List UInt8 := [160, 0, 10, 42, 16, 254, 182, 0, 94, 172, 42, 180, 0, 76, 180, 0, 84, 42, 180, 0, 76, 180, 0, 171]
abbrev dktX1_tried_2 : List UInt8 := dkwX1_tried_2 ++ dktX1_tried_3
def dkwX1_tried_1 : List UInt8 := [16, 24, 184, 0, 39, 154, 0, 9, 42, 5, 182, 0, 43, 172, 42, 180, 0, 76, 180, 0, 171, 2]
abbrev dktX1_tried_1 : List UInt8 := dkwX1_tried_1 ++ dktX1_tried_2
def dkwX1_tried_0 : List UInt8 := [42, 180, 0, 76, 198, 0, 12, 28, 3, 6, 184, 0, 39, 154, 0, 9, 42, 4, 182, 0, 43, 172, 27, 3]
abbrev dktX1_tried_0 : List UInt8 := dkwX1_tried_0 ++ dktX1_tried_1
theorem dksX1_tried_0 : cX1_tried.data.toList.drop 0 = dktX1_tried_0 := by decide +kernel
theorem dksX1_tried_1 : cX1_tried.data.toList.drop 24 = dktX1_tried_1 := dk_seg dksX1_tried_0 24 rfl rfl
theorem dksX1_tried_2 : cX1_tried.data.toList.drop 46 = dktX1_tried_2 := dk_seg dksX1_tried_1 22 rfl rfl
theorem dksX1_tried_3 : cX1_tried.data.toList.drop 70 = dktX1_tried_3 := dk_seg dksX1_tried_2 24 rfl rfl
theorem dksX1_tried_4 : cX1_tried.data.toList.drop 94 = dktX1_tried_4 := dk_seg dksX1_tried_3 24 rfl rfl
theorem dksX1_tried_5 : cX1_tried.data.toList.drop 118 = dktX1_tried_5 := dk_seg dksX1_tried_4 24 rfl rfl
theorem dX1_tried_0 : decode cX1_tried 0 = .ok (.aload_n 0, 1) := dk_42 (dk_at dksX1_tried_0 0 rfl rfl)
theorem dX1_tried_1 : decode cX1_tried 1 = .ok (.getfield 76, 3) := dk_180 0 76 (dk_at dksX1_tried_0 1 rfl rfl)
theorem dX1_tried_4 : decode cX1_tried 4 = .ok (.ifnull 12, 3) := dk_198 0 12 (dk_at dksX1_tried_0 4 rfl rfl)
theorem dX1_tried_7 : decode cX1_tried 7 = .ok (.iload_n 2, 1) := dk_28 (dk_at dksX1_tried_0 7 rfl rfl)
theorem dX1_tried_8 : decode cX1_tried 8 = .ok (.iconst 0, 1) := dk_3 (dk_at dksX1_tried_0 8 rfl rfl)
theorem dX1_tried_9 : decode cX1_tried 9 = .ok (.iconst 3, 1) := dk_6 (dk_at dksX1_tried_0 9 rfl rfl)
theorem dX1_tried_10 : decode cX1_tried 10 = .ok (.invokestatic 39, 3) := dk_184 0 39 (dk_at dksX1_tried_0 10 rfl rfl)
theorem dX1_tried_13 : decode cX1_tried 13 = .ok (.ifCond .ne 9, 3) := dk_154 0 9 (dk_at dksX1_tried_0 13 rfl rfl)
theorem dX1_tried_16 : decode cX1_tried 16 = .ok (.aload_n 0, 1) := dk_42 (dk_at dksX1_tried_0 16 rfl rfl)
theorem dX1_tried_17 : decode cX1_tried 17 = .ok (.iconst 1, 1) := dk_4 (dk_at dksX1_tried_0 17 rfl rfl)
theorem dX1_tried_18 : decode cX1_tried 18 = .ok (.invokevirtual 43, 3) := dk_182 0 43 (dk_at dksX1_tried_0 18 rfl rfl)
theorem dX1_tried_21 : decode cX1_tried 21 = .ok (.ireturn, 1) := dk_172 (dk_at dksX1_tried_0 21 rfl rfl)
theorem dX1_tried_22 : decode cX1_tried 22 = .ok (.iload_n 1, 1) := dk_27 (dk_at dksX1_tried_0 22 rfl rfl)
theorem dX1_tried_23 : decode cX1_tried 23 = .ok (.iconst 0, 1) := dk_3 (dk_at dksX1_tried_0 23 rfl rfl)
theorem dX1_tried_24 : decode cX1_tried 24 = .ok (.bipush 24, 2) := dk_16 24 (dk_at dksX1_tried_1 0 rfl rfl)
theorem dX1_tried_26 : decode cX1_tried 26 = .ok (.invokestatic 39, 3) := dk_184 0 39 (dk_at dksX1_tried_1 2 rfl rfl)
theorem dX1_tried_29 : decode cX1_tried 29 = .ok (.ifCond .ne 9, 3) := dk_154 0 9 (dk_at dksX1_tried_1 5 rfl rfl)
theorem dX1_tried_32 : decode cX1_tried 32 = .ok (.aload_n 0, 1) := dk_42 (dk_at dksX1_tried_1 8 rfl rfl)
theorem dX1_tried_33 : decode cX1_tried 33 = .ok (.iconst 2, 1) := dk_5 (dk_at dksX1_tried_1 9 rfl rfl)
theorem dX1_tried_34 : decode cX1_tried 34 = .ok (.invokevirtual 43, 3) := dk_182 0 43 (dk_at dksX1_tried_1 10 rfl rfl)
theorem dX1_tried_37 : decode cX1_tried 37 = .ok (.ireturn, 1) := dk_172 (dk_at dksX1_tried_1 13 rfl rfl)
theorem dX1_tried_38 : decode cX1_tried 38 = .ok (.aload_n 0, 1) := dk_42 (dk_at dksX1_tried_1 14 rfl rfl)
theorem dX1_tried_39 : decode cX1_tried 39 = .ok (.getfield 76, 3) := dk_180 0 76 (dk_at dksX1_tried_1 15 rfl rfl)
theorem dX1_tried_42 : decode cX1_tried 42 = .ok (.getfield 171, 3) := dk_180 0 171 (dk_at dksX1_tried_1 18 rfl rfl)
theorem dX1_tried_45 : decode cX1_tried 45 = .ok (.iconst (-1), 1) := dk_2 (dk_at dksX1_tried_1 21 rfl rfl)
theorem dX1_tried_46 : decode cX1_tried 46 = .ok (.if_icmp .ne 10, 3) := dk_160 0 10 (dk_at dksX1_tried_2 0 rfl rfl)
theorem dX1_tried_49 : decode cX1_tried 49 = .ok (.aload_n 0, 1) := dk_42 (dk_at dksX1_tried_2 3 rfl rfl)
theorem dX1_tried_50 : decode cX1_tried 50 = .ok (.bipush (-2), 2) := dk_16 254 (dk_at dksX1_tried_2 4 rfl rfl)
theorem dX1_tried_52 : decode cX1_tried 52 = .ok (.invokevirtual 94, 3) := dk_182 0 94 (dk_at dksX1_tried_2 6 rfl rfl)
theorem dX1_tried_55 : decode cX1_tried 55 = .ok (.ireturn, 1) := dk_172 (dk_at dksX1_tried_2 9 rfl rfl)
theorem dX1_tried_56 : decode cX1_tried 56 = .ok (.aload_n 0, 1) := dk_42 (dk_at dksX1_tried_2 10 rfl rfl)
theorem dX1_tried_57 : decode cX1_tried 57 = .ok (.getfield 76, 3) := dk_180 0 76 (dk_at dksX1_tried_2 11 rfl rfl)
theorem dX1_tried_60 : decode cX1_tried 60 = .ok (.getfield 84, 3) := dk_180 0 84 (dk_at dksX1_tried_2 14 rfl rfl)
theorem dX1_tried_63 : decode cX1_tried 63 = .ok (.aload_n 0, 1) := dk_42 (dk_at dksX1_tried_2 17 rfl rfl)
theorem dX1_tried_64 : decode cX1_tried 64 = .ok (.getfield 76, 3) := dk_180 0 76 (dk_at dksX1_tried_2 18 rfl rfl)
theorem dX1_tried_67 : decode cX1_tried 67 = .ok (.getfield 171, 3) := dk_180 0 171 (dk_at dksX1_tried_2 21 rfl rfl)
theorem dX1_tried_70 : decode cX1_tried 70 = .ok (.invokevirtual 174, 3) := dk_182 0 174 (dk_at dksX1_tried_3 0 rfl rfl)
theorem dX1_tried_73 : decode cX1_tried 73 = .ok (.checkcast 178, 3) := dk_192 0 178 (dk_at dksX1_tried_3 3 rfl rfl)
theorem dX1_tried_76 : decode cX1_tried 76 = .ok (.getfield 192, 3) := dk_180 0 192 (dk_at dksX1_tried_3 6 rfl rfl)
theorem dX1_tried_79 : decode cX1_tried 79 = .ok (.astore_n 3, 1) := dk_78 (dk_at dksX1_tried_3 9 rfl rfl)
theorem dX1_tried_80 : decode cX1_tried 80 = .ok (.aload_n 0, 1) := dk_42 (dk_at dksX1_tried_3 10 rfl rfl)
theorem dX1_tried_81 : decode cX1_tried 81 = .ok (.iload_n 2, 1) := dk_28 (dk_at dksX1_tried_3 11 rfl rfl)
theorem dX1_tried_82 : decode cX1_tried 82 = .ok (.ifCond .ne 12, 3) := dk_154 0 12 (dk_at dksX1_tried_3 12 rfl rfl)
theorem dX1_tried_85 : decode cX1_tried 85 = .ok (.aload_n 3, 1) := dk_45 (dk_at dksX1_tried_3 15 rfl rfl)
theorem dX1_tried_86 : decode cX1_tried 86 = .ok (.getfield 202, 3) := dk_180 0 202 (dk_at dksX1_tried_3 16 rfl rfl)
theorem dX1_tried_89 : decode cX1_tried 89 = .ok (.iload_n 1, 1) := dk_27 (dk_at dksX1_tried_3 19 rfl rfl)
theorem dX1_tried_90 : decode cX1_tried 90 = .ok (.iaload, 1) := dk_46 (dk_at dksX1_tried_3 20 rfl rfl)
theorem dX1_tried_91 : decode cX1_tried 91 = .ok (.goto 36, 3) := dk_167 0 36 (dk_at dksX1_tried_3 21 rfl rfl)
theorem dX1_tried_94 : decode cX1_tried 94 = .ok (.iload_n 2, 1) := dk_28 (dk_at dksX1_tried_4 0 rfl rfl)
theorem dX1_tried_95 : decode cX1_tried 95 = .ok (.iconst 1, 1) := dk_4 (dk_at dksX1_tried_4 1 rfl rfl)
theorem dX1_tried_96 : decode cX1_tried 96 = .ok (.if_icmp .ne 11, 3) := dk_160 0 11 (dk_at dksX1_tried_4 2 rfl rfl)
theorem dX1_tried_99 : decode cX1_tried 99 = .ok (.aload_n 3, 1) := dk_45 (dk_at dksX1_tried_4 5 rfl rfl)
theorem dX1_tried_100 : decode cX1_tried 100 = .ok (.iload_n 1, 1) := dk_27 (dk_at dksX1_tried_4 6 rfl rfl)
theorem dX1_tried_101 : decode cX1_tried 101 = .ok (.invokevirtual 205, 3) := dk_182 0 205 (dk_at dksX1_tried_4 7 rfl rfl)
theorem dX1_tried_104 : decode cX1_tried 104 = .ok (.goto 23, 3) := dk_167 0 23 (dk_at dksX1_tried_4 10 rfl rfl)
theorem dX1_tried_107 : decode cX1_tried 107 = .ok (.iload_n 2, 1) := dk_28 (dk_at dksX1_tried_4 13 rfl rfl)
theorem dX1_tried_108 : decode cX1_tried 108 = .ok (.iconst 2, 1) := dk_5 (dk_at dksX1_tried_4 14 rfl rfl)
theorem dX1_tried_109 : decode cX1_tried 109 = .ok (.if_icmp .ne 12, 3) := dk_160 0 12 (dk_at dksX1_tried_4 15 rfl rfl)
theorem dX1_tried_112 : decode cX1_tried 112 = .ok (.aload_n 3, 1) := dk_45 (dk_at dksX1_tried_4 18 rfl rfl)
theorem dX1_tried_113 : decode cX1_tried 113 = .ok (.getfield 208, 3) := dk_180 0 208 (dk_at dksX1_tried_4 19 rfl rfl)
theorem dX1_tried_116 : decode cX1_tried 116 = .ok (.iload_n 1, 1) := dk_27 (dk_at dksX1_tried_4 22 rfl rfl)
theorem dX1_tried_117 : decode cX1_tried 117 = .ok (.iaload, 1) := dk_46 (dk_at dksX1_tried_4 23 rfl rfl)
theorem dX1_tried_118 : decode cX1_tried 118 = .ok (.goto 9, 3) := dk_167 0 9 (dk_at dksX1_tried_5 0 rfl rfl)
theorem dX1_tried_121 : decode cX1_tried 121 = .ok (.aload_n 3, 1) := dk_45 (dk_at dksX1_tried_5 3 rfl rfl)
theorem dX1_tried_122 : decode cX1_tried 122 = .ok (.getfield 211, 3) := dk_180 0 211 (dk_at dksX1_tried_5 4 rfl rfl)
theorem dX1_tried_125 : decode cX1_tried 125 = .ok (.iload_n 1, 1) := dk_27 (dk_at dksX1_tried_5 7 rfl rfl)
theorem dX1_tried_126 : decode cX1_tried 126 = .ok (.iaload, 1) := dk_46 (dk_at dksX1_tried_5 8 rfl rfl)
theorem dX1_tried_127 : decode cX1_tried 127 = .ok (.invokevirtual 94, 3) := dk_182 0 94 (dk_at dksX1_tried_5 9 rfl rfl)
theorem dX1_tried_130 : decode cX1_tried 130 = .ok (.ireturn, 1) := dk_172 (dk_at dksX1_tried_5 12 rfl rfl)
abbrev cX1_answer : ByteArray := prog_1_method_30_code
def yX1_answer : MethodName := ⟨RX1, "answer", "(Z)I"⟩
def dkwX1_answer_1 : List UInt8 := [182, 0, 94, 172]
abbrev dktX1_answer_1 : List UInt8 := dkwX1_answer_1 ++ []
def dkwX1_answer_0 : List UInt8 := [42, 182, 0, 240, 61, 28, 158, 0, 11, 42, 28, 182, 0, 43, 167, 0, 12, 42, 42, 27, 182, 0, 243]
abbrev dktX1_answer_0 : List UInt8 := dkwX1_answer_0 ++ dktX1_answer_1
theorem dksX1_answer_0 : cX1_answer.data.toList.drop 0 = dktX1_answer_0 := by decide +kernel
theorem dksX1_answer_1 : cX1_answer.data.toList.drop 23 = dktX1_answer_1 := dk_seg dksX1_answer_0 23 rfl rfl
theorem dX1_answer_0 : decode cX1_answer 0 = .ok (.aload_n 0, 1) := dk_42 (dk_at dksX1_answer_0 0 rfl rfl)
theorem dX1_answer_1 : decode cX1_answer 1 = .ok (.invokevirtual 240, 3) := dk_182 0 240 (dk_at dksX1_answer_0 1 rfl rfl)
theorem dX1_answer_4 : decode cX1_answer 4 = .ok (.istore_n 2, 1) := dk_61 (dk_at dksX1_answer_0 4 rfl rfl)
theorem dX1_answer_5 : decode cX1_answer 5 = .ok (.iload_n 2, 1) := dk_28 (dk_at dksX1_answer_0 5 rfl rfl)
theorem dX1_answer_6 : decode cX1_answer 6 = .ok (.ifCond .le 11, 3) := dk_158 0 11 (dk_at dksX1_answer_0 6 rfl rfl)
theorem dX1_answer_9 : decode cX1_answer 9 = .ok (.aload_n 0, 1) := dk_42 (dk_at dksX1_answer_0 9 rfl rfl)
theorem dX1_answer_10 : decode cX1_answer 10 = .ok (.iload_n 2, 1) := dk_28 (dk_at dksX1_answer_0 10 rfl rfl)
theorem dX1_answer_11 : decode cX1_answer 11 = .ok (.invokevirtual 43, 3) := dk_182 0 43 (dk_at dksX1_answer_0 11 rfl rfl)
theorem dX1_answer_14 : decode cX1_answer 14 = .ok (.goto 12, 3) := dk_167 0 12 (dk_at dksX1_answer_0 14 rfl rfl)
theorem dX1_answer_17 : decode cX1_answer 17 = .ok (.aload_n 0, 1) := dk_42 (dk_at dksX1_answer_0 17 rfl rfl)
theorem dX1_answer_18 : decode cX1_answer 18 = .ok (.aload_n 0, 1) := dk_42 (dk_at dksX1_answer_0 18 rfl rfl)
theorem dX1_answer_19 : decode cX1_answer 19 = .ok (.iload_n 1, 1) := dk_27 (dk_at dksX1_answer_0 19 rfl rfl)
theorem dX1_answer_20 : decode cX1_answer 20 = .ok (.invokevirtual 243, 3) := dk_182 0 243 (dk_at dksX1_answer_0 20 rfl rfl)
theorem dX1_answer_23 : decode cX1_answer 23 = .ok (.invokevirtual 94, 3) := dk_182 0 94 (dk_at dksX1_answer_1 0 rfl rfl)
theorem dX1_answer_26 : decode cX1_answer 26 = .ok (.ireturn, 1) := dk_172 (dk_at dksX1_answer_1 3 rfl rfl)
abbrev cX1_refusesNow : ByteArray := prog_1_method_29_code
def yX1_refusesNow : MethodName := ⟨RX1, "refusesNow", "()I"⟩
def dkwX1_refusesNow_1 : List UInt8 := [167, 0, 4, 3, 172]
abbrev dktX1_refusesNow_1 : List UInt8 := dkwX1_refusesNow_1 ++ []
def dkwX1_refusesNow_0 : List UInt8 := [42, 180, 0, 76, 199, 0, 7, 4, 167, 0, 19, 42, 180, 0, 76, 180, 0, 171, 2, 160, 0, 7, 8]
abbrev dktX1_refusesNow_0 : List UInt8 := dkwX1_refusesNow_0 ++ dktX1_refusesNow_1
theorem dksX1_refusesNow_0 : cX1_refusesNow.data.toList.drop 0 = dktX1_refusesNow_0 := by decide +kernel
theorem dksX1_refusesNow_1 : cX1_refusesNow.data.toList.drop 23 = dktX1_refusesNow_1 := dk_seg dksX1_refusesNow_0 23 rfl rfl
theorem dX1_refusesNow_0 : decode cX1_refusesNow 0 = .ok (.aload_n 0, 1) := dk_42 (dk_at dksX1_refusesNow_0 0 rfl rfl)
theorem dX1_refusesNow_1 : decode cX1_refusesNow 1 = .ok (.getfield 76, 3) := dk_180 0 76 (dk_at dksX1_refusesNow_0 1 rfl rfl)
theorem dX1_refusesNow_4 : decode cX1_refusesNow 4 = .ok (.ifnonnull 7, 3) := dk_199 0 7 (dk_at dksX1_refusesNow_0 4 rfl rfl)
theorem dX1_refusesNow_7 : decode cX1_refusesNow 7 = .ok (.iconst 1, 1) := dk_4 (dk_at dksX1_refusesNow_0 7 rfl rfl)
theorem dX1_refusesNow_8 : decode cX1_refusesNow 8 = .ok (.goto 19, 3) := dk_167 0 19 (dk_at dksX1_refusesNow_0 8 rfl rfl)
theorem dX1_refusesNow_11 : decode cX1_refusesNow 11 = .ok (.aload_n 0, 1) := dk_42 (dk_at dksX1_refusesNow_0 11 rfl rfl)
theorem dX1_refusesNow_12 : decode cX1_refusesNow 12 = .ok (.getfield 76, 3) := dk_180 0 76 (dk_at dksX1_refusesNow_0 12 rfl rfl)
theorem dX1_refusesNow_15 : decode cX1_refusesNow 15 = .ok (.getfield 171, 3) := dk_180 0 171 (dk_at dksX1_refusesNow_0 15 rfl rfl)
theorem dX1_refusesNow_18 : decode cX1_refusesNow 18 = .ok (.iconst (-1), 1) := dk_2 (dk_at dksX1_refusesNow_0 18 rfl rfl)
theorem dX1_refusesNow_19 : decode cX1_refusesNow 19 = .ok (.if_icmp .ne 7, 3) := dk_160 0 7 (dk_at dksX1_refusesNow_0 19 rfl rfl)
theorem dX1_refusesNow_22 : decode cX1_refusesNow 22 = .ok (.iconst 5, 1) := dk_8 (dk_at dksX1_refusesNow_0 22 rfl rfl)
theorem dX1_refusesNow_23 : decode cX1_refusesNow 23 = .ok (.goto 4, 3) := dk_167 0 4 (dk_at dksX1_refusesNow_1 0 rfl rfl)
theorem dX1_refusesNow_26 : decode cX1_refusesNow 26 = .ok (.iconst 0, 1) := dk_3 (dk_at dksX1_refusesNow_1 3 rfl rfl)
theorem dX1_refusesNow_27 : decode cX1_refusesNow 27 = .ok (.ireturn, 1) := dk_172 (dk_at dksX1_refusesNow_1 4 rfl rfl)
abbrev cX1_answers : ByteArray := prog_1_method_27_code
def yX1_answers : MethodName := ⟨RX1, "answers", "(Z)I"⟩
def dkwX1_answers_3 : List UInt8 := [182, 0, 223, 42, 180, 0, 76, 27, 182, 0, 227, 172]
abbrev dktX1_answers_3 : List UInt8 := dkwX1_answers_3 ++ []
def dkwX1_answers_2 : List UInt8 := [180, 0, 196, 27, 42, 180, 0, 76, 180, 0, 114, 4, 96, 44, 180, 0, 192, 182, 0, 216, 183, 0, 220]
abbrev dktX1_answers_2 : List UInt8 := dkwX1_answers_2 ++ dktX1_answers_3
def dkwX1_answers_1 : List UInt8 := [180, 0, 25, 187, 0, 214, 89, 42, 180, 0, 76, 180, 0, 171, 44, 180, 0, 192, 180, 0, 153, 44]
abbrev dktX1_answers_1 : List UInt8 := dkwX1_answers_1 ++ dktX1_answers_2
def dkwX1_answers_0 : List UInt8 := [42, 180, 0, 76, 180, 0, 84, 42, 180, 0, 76, 180, 0, 171, 182, 0, 174, 192, 0, 178, 77, 42]
abbrev dktX1_answers_0 : List UInt8 := dkwX1_answers_0 ++ dktX1_answers_1
theorem dksX1_answers_0 : cX1_answers.data.toList.drop 0 = dktX1_answers_0 := by decide +kernel
theorem dksX1_answers_1 : cX1_answers.data.toList.drop 22 = dktX1_answers_1 := dk_seg dksX1_answers_0 22 rfl rfl
theorem dksX1_answers_2 : cX1_answers.data.toList.drop 44 = dktX1_answers_2 := dk_seg dksX1_answers_1 22 rfl rfl
theorem dksX1_answers_3 : cX1_answers.data.toList.drop 67 = dktX1_answers_3 := dk_seg dksX1_answers_2 23 rfl rfl
theorem dX1_answers_0 : decode cX1_answers 0 = .ok (.aload_n 0, 1) := dk_42 (dk_at dksX1_answers_0 0 rfl rfl)
theorem dX1_answers_1 : decode cX1_answers 1 = .ok (.getfield 76, 3) := dk_180 0 76 (dk_at dksX1_answers_0 1 rfl rfl)
theorem dX1_answers_4 : decode cX1_answers 4 = .ok (.getfield 84, 3) := dk_180 0 84 (dk_at dksX1_answers_0 4 rfl rfl)
theorem dX1_answers_7 : decode cX1_answers 7 = .ok (.aload_n 0, 1) := dk_42 (dk_at dksX1_answers_0 7 rfl rfl)
theorem dX1_answers_8 : decode cX1_answers 8 = .ok (.getfield 76, 3) := dk_180 0 76 (dk_at dksX1_answers_0 8 rfl rfl)
theorem dX1_answers_11 : decode cX1_answers 11 = .ok (.getfield 171, 3) := dk_180 0 171 (dk_at dksX1_answers_0 11 rfl rfl)
theorem dX1_answers_14 : decode cX1_answers 14 = .ok (.invokevirtual 174, 3) := dk_182 0 174 (dk_at dksX1_answers_0 14 rfl rfl)
theorem dX1_answers_17 : decode cX1_answers 17 = .ok (.checkcast 178, 3) := dk_192 0 178 (dk_at dksX1_answers_0 17 rfl rfl)
theorem dX1_answers_20 : decode cX1_answers 20 = .ok (.astore_n 2, 1) := dk_77 (dk_at dksX1_answers_0 20 rfl rfl)
theorem dX1_answers_21 : decode cX1_answers 21 = .ok (.aload_n 0, 1) := dk_42 (dk_at dksX1_answers_0 21 rfl rfl)
theorem dX1_answers_22 : decode cX1_answers 22 = .ok (.getfield 25, 3) := dk_180 0 25 (dk_at dksX1_answers_1 0 rfl rfl)
theorem dX1_answers_25 : decode cX1_answers 25 = .ok (.new 214, 3) := dk_187 0 214 (dk_at dksX1_answers_1 3 rfl rfl)
theorem dX1_answers_28 : decode cX1_answers 28 = .ok (.dup, 1) := dk_89 (dk_at dksX1_answers_1 6 rfl rfl)
theorem dX1_answers_29 : decode cX1_answers 29 = .ok (.aload_n 0, 1) := dk_42 (dk_at dksX1_answers_1 7 rfl rfl)
theorem dX1_answers_30 : decode cX1_answers 30 = .ok (.getfield 76, 3) := dk_180 0 76 (dk_at dksX1_answers_1 8 rfl rfl)
theorem dX1_answers_33 : decode cX1_answers 33 = .ok (.getfield 171, 3) := dk_180 0 171 (dk_at dksX1_answers_1 11 rfl rfl)
theorem dX1_answers_36 : decode cX1_answers 36 = .ok (.aload_n 2, 1) := dk_44 (dk_at dksX1_answers_1 14 rfl rfl)
theorem dX1_answers_37 : decode cX1_answers 37 = .ok (.getfield 192, 3) := dk_180 0 192 (dk_at dksX1_answers_1 15 rfl rfl)
theorem dX1_answers_40 : decode cX1_answers 40 = .ok (.getfield 153, 3) := dk_180 0 153 (dk_at dksX1_answers_1 18 rfl rfl)
theorem dX1_answers_43 : decode cX1_answers 43 = .ok (.aload_n 2, 1) := dk_44 (dk_at dksX1_answers_1 21 rfl rfl)
theorem dX1_answers_44 : decode cX1_answers 44 = .ok (.getfield 196, 3) := dk_180 0 196 (dk_at dksX1_answers_2 0 rfl rfl)
theorem dX1_answers_47 : decode cX1_answers 47 = .ok (.iload_n 1, 1) := dk_27 (dk_at dksX1_answers_2 3 rfl rfl)
theorem dX1_answers_48 : decode cX1_answers 48 = .ok (.aload_n 0, 1) := dk_42 (dk_at dksX1_answers_2 4 rfl rfl)
theorem dX1_answers_49 : decode cX1_answers 49 = .ok (.getfield 76, 3) := dk_180 0 76 (dk_at dksX1_answers_2 5 rfl rfl)
theorem dX1_answers_52 : decode cX1_answers 52 = .ok (.getfield 114, 3) := dk_180 0 114 (dk_at dksX1_answers_2 8 rfl rfl)
theorem dX1_answers_55 : decode cX1_answers 55 = .ok (.iconst 1, 1) := dk_4 (dk_at dksX1_answers_2 11 rfl rfl)
theorem dX1_answers_56 : decode cX1_answers 56 = .ok (.iadd, 1) := dk_96 (dk_at dksX1_answers_2 12 rfl rfl)
theorem dX1_answers_57 : decode cX1_answers 57 = .ok (.aload_n 2, 1) := dk_44 (dk_at dksX1_answers_2 13 rfl rfl)
theorem dX1_answers_58 : decode cX1_answers 58 = .ok (.getfield 192, 3) := dk_180 0 192 (dk_at dksX1_answers_2 14 rfl rfl)
theorem dX1_answers_61 : decode cX1_answers 61 = .ok (.invokevirtual 216, 3) := dk_182 0 216 (dk_at dksX1_answers_2 17 rfl rfl)
theorem dX1_answers_64 : decode cX1_answers 64 = .ok (.invokespecial 220, 3) := dk_183 0 220 (dk_at dksX1_answers_2 20 rfl rfl)
theorem dX1_answers_67 : decode cX1_answers 67 = .ok (.invokevirtual 223, 3) := dk_182 0 223 (dk_at dksX1_answers_3 0 rfl rfl)
theorem dX1_answers_70 : decode cX1_answers 70 = .ok (.aload_n 0, 1) := dk_42 (dk_at dksX1_answers_3 3 rfl rfl)
theorem dX1_answers_71 : decode cX1_answers 71 = .ok (.getfield 76, 3) := dk_180 0 76 (dk_at dksX1_answers_3 4 rfl rfl)
theorem dX1_answers_74 : decode cX1_answers 74 = .ok (.iload_n 1, 1) := dk_27 (dk_at dksX1_answers_3 7 rfl rfl)
theorem dX1_answers_75 : decode cX1_answers 75 = .ok (.invokevirtual 227, 3) := dk_182 0 227 (dk_at dksX1_answers_3 8 rfl rfl)
theorem dX1_answers_78 : decode cX1_answers 78 = .ok (.ireturn, 1) := dk_172 (dk_at dksX1_answers_3 11 rfl rfl)
abbrev cX1_listen : ByteArray := prog_1_method_31_code
def yX1_listen : MethodName := ⟨RX1, "listen", "()I"⟩
def dkwX1_listen_1 : List UInt8 := [182, 0, 243, 182, 0, 94, 172]
abbrev dktX1_listen_1 : List UInt8 := dkwX1_listen_1 ++ []
def dkwX1_listen_0 : List UInt8 := [42, 182, 0, 240, 60, 27, 158, 0, 11, 42, 27, 182, 0, 43, 167, 0, 15, 42, 42, 42, 182, 0, 246]
abbrev dktX1_listen_0 : List UInt8 := dkwX1_listen_0 ++ dktX1_listen_1
theorem dksX1_listen_0 : cX1_listen.data.toList.drop 0 = dktX1_listen_0 := by decide +kernel
theorem dksX1_listen_1 : cX1_listen.data.toList.drop 23 = dktX1_listen_1 := dk_seg dksX1_listen_0 23 rfl rfl
theorem dX1_listen_0 : decode cX1_listen 0 = .ok (.aload_n 0, 1) := dk_42 (dk_at dksX1_listen_0 0 rfl rfl)
theorem dX1_listen_1 : decode cX1_listen 1 = .ok (.invokevirtual 240, 3) := dk_182 0 240 (dk_at dksX1_listen_0 1 rfl rfl)
theorem dX1_listen_4 : decode cX1_listen 4 = .ok (.istore_n 1, 1) := dk_60 (dk_at dksX1_listen_0 4 rfl rfl)
theorem dX1_listen_5 : decode cX1_listen 5 = .ok (.iload_n 1, 1) := dk_27 (dk_at dksX1_listen_0 5 rfl rfl)
theorem dX1_listen_6 : decode cX1_listen 6 = .ok (.ifCond .le 11, 3) := dk_158 0 11 (dk_at dksX1_listen_0 6 rfl rfl)
theorem dX1_listen_9 : decode cX1_listen 9 = .ok (.aload_n 0, 1) := dk_42 (dk_at dksX1_listen_0 9 rfl rfl)
theorem dX1_listen_10 : decode cX1_listen 10 = .ok (.iload_n 1, 1) := dk_27 (dk_at dksX1_listen_0 10 rfl rfl)
theorem dX1_listen_11 : decode cX1_listen 11 = .ok (.invokevirtual 43, 3) := dk_182 0 43 (dk_at dksX1_listen_0 11 rfl rfl)
theorem dX1_listen_14 : decode cX1_listen 14 = .ok (.goto 15, 3) := dk_167 0 15 (dk_at dksX1_listen_0 14 rfl rfl)
theorem dX1_listen_17 : decode cX1_listen 17 = .ok (.aload_n 0, 1) := dk_42 (dk_at dksX1_listen_0 17 rfl rfl)
theorem dX1_listen_18 : decode cX1_listen 18 = .ok (.aload_n 0, 1) := dk_42 (dk_at dksX1_listen_0 18 rfl rfl)
theorem dX1_listen_19 : decode cX1_listen 19 = .ok (.aload_n 0, 1) := dk_42 (dk_at dksX1_listen_0 19 rfl rfl)
theorem dX1_listen_20 : decode cX1_listen 20 = .ok (.invokevirtual 246, 3) := dk_182 0 246 (dk_at dksX1_listen_0 20 rfl rfl)
theorem dX1_listen_23 : decode cX1_listen 23 = .ok (.invokevirtual 243, 3) := dk_182 0 243 (dk_at dksX1_listen_1 0 rfl rfl)
theorem dX1_listen_26 : decode cX1_listen 26 = .ok (.invokevirtual 94, 3) := dk_182 0 94 (dk_at dksX1_listen_1 3 rfl rfl)
theorem dX1_listen_29 : decode cX1_listen 29 = .ok (.ireturn, 1) := dk_172 (dk_at dksX1_listen_1 6 rfl rfl)
abbrev cX1_hearsNow : ByteArray := prog_1_method_28_code
def yX1_hearsNow : MethodName := ⟨RX1, "hearsNow", "()Z"⟩
def dkwX1_hearsNow_1 : List UInt8 := [184, 0, 230, 182, 0, 236, 159, 0, 7, 4, 167, 0, 4, 3, 172]
abbrev dktX1_hearsNow_1 : List UInt8 := dkwX1_hearsNow_1 ++ []
def dkwX1_hearsNow_0 : List UInt8 := [42, 180, 0, 76, 182, 0, 228, 42, 180, 0, 59, 180, 0, 120, 42, 180, 0, 76, 180, 0, 114, 4, 96]
abbrev dktX1_hearsNow_0 : List UInt8 := dkwX1_hearsNow_0 ++ dktX1_hearsNow_1
theorem dksX1_hearsNow_0 : cX1_hearsNow.data.toList.drop 0 = dktX1_hearsNow_0 := by decide +kernel
theorem dksX1_hearsNow_1 : cX1_hearsNow.data.toList.drop 23 = dktX1_hearsNow_1 := dk_seg dksX1_hearsNow_0 23 rfl rfl
theorem dX1_hearsNow_0 : decode cX1_hearsNow 0 = .ok (.aload_n 0, 1) := dk_42 (dk_at dksX1_hearsNow_0 0 rfl rfl)
theorem dX1_hearsNow_1 : decode cX1_hearsNow 1 = .ok (.getfield 76, 3) := dk_180 0 76 (dk_at dksX1_hearsNow_0 1 rfl rfl)
theorem dX1_hearsNow_4 : decode cX1_hearsNow 4 = .ok (.invokevirtual 228, 3) := dk_182 0 228 (dk_at dksX1_hearsNow_0 4 rfl rfl)
theorem dX1_hearsNow_7 : decode cX1_hearsNow 7 = .ok (.aload_n 0, 1) := dk_42 (dk_at dksX1_hearsNow_0 7 rfl rfl)
theorem dX1_hearsNow_8 : decode cX1_hearsNow 8 = .ok (.getfield 59, 3) := dk_180 0 59 (dk_at dksX1_hearsNow_0 8 rfl rfl)
theorem dX1_hearsNow_11 : decode cX1_hearsNow 11 = .ok (.getfield 120, 3) := dk_180 0 120 (dk_at dksX1_hearsNow_0 11 rfl rfl)
theorem dX1_hearsNow_14 : decode cX1_hearsNow 14 = .ok (.aload_n 0, 1) := dk_42 (dk_at dksX1_hearsNow_0 14 rfl rfl)
theorem dX1_hearsNow_15 : decode cX1_hearsNow 15 = .ok (.getfield 76, 3) := dk_180 0 76 (dk_at dksX1_hearsNow_0 15 rfl rfl)
theorem dX1_hearsNow_18 : decode cX1_hearsNow 18 = .ok (.getfield 114, 3) := dk_180 0 114 (dk_at dksX1_hearsNow_0 18 rfl rfl)
theorem dX1_hearsNow_21 : decode cX1_hearsNow 21 = .ok (.iconst 1, 1) := dk_4 (dk_at dksX1_hearsNow_0 21 rfl rfl)
theorem dX1_hearsNow_22 : decode cX1_hearsNow 22 = .ok (.iadd, 1) := dk_96 (dk_at dksX1_hearsNow_0 22 rfl rfl)
theorem dX1_hearsNow_23 : decode cX1_hearsNow 23 = .ok (.invokestatic 230, 3) := dk_184 0 230 (dk_at dksX1_hearsNow_1 0 rfl rfl)
theorem dX1_hearsNow_26 : decode cX1_hearsNow 26 = .ok (.invokevirtual 236, 3) := dk_182 0 236 (dk_at dksX1_hearsNow_1 3 rfl rfl)
theorem dX1_hearsNow_29 : decode cX1_hearsNow 29 = .ok (.if_icmp .eq 7, 3) := dk_159 0 7 (dk_at dksX1_hearsNow_1 6 rfl rfl)
theorem dX1_hearsNow_32 : decode cX1_hearsNow 32 = .ok (.iconst 1, 1) := dk_4 (dk_at dksX1_hearsNow_1 9 rfl rfl)
theorem dX1_hearsNow_33 : decode cX1_hearsNow 33 = .ok (.goto 4, 3) := dk_167 0 4 (dk_at dksX1_hearsNow_1 10 rfl rfl)
theorem dX1_hearsNow_36 : decode cX1_hearsNow 36 = .ok (.iconst 0, 1) := dk_3 (dk_at dksX1_hearsNow_1 13 rfl rfl)
theorem dX1_hearsNow_37 : decode cX1_hearsNow 37 = .ok (.ireturn, 1) := dk_172 (dk_at dksX1_hearsNow_1 14 rfl rfl)
abbrev cX1_run : ByteArray := prog_1_method_32_code
def yX1_run : MethodName := ⟨RX1, "run", "(I)I"⟩
def dkwX1_run_3 : List UInt8 := [182, 0, 243, 87, 132, 2, 1, 167, 255, 228, 42, 28, 182, 0, 94, 172]
abbrev dktX1_run_3 : List UInt8 := dkwX1_run_3 ++ []
def dkwX1_run_2 : List UInt8 := [61, 28, 27, 162, 0, 29, 42, 180, 0, 76, 180, 0, 171, 2, 159, 0, 18, 42, 42, 182, 0, 246]
abbrev dktX1_run_2 : List UInt8 := dkwX1_run_2 ++ dktX1_run_3
def dkwX1_run_1 : List UInt8 := [42, 5, 182, 0, 43, 172, 42, 180, 0, 76, 180, 0, 171, 2, 160, 0, 9, 42, 8, 182, 0, 43, 172, 3]
abbrev dktX1_run_1 : List UInt8 := dkwX1_run_1 ++ dktX1_run_2
def dkwX1_run_0 : List UInt8 := [42, 180, 0, 76, 199, 0, 9, 42, 4, 182, 0, 43, 172, 27, 4, 17, 39, 15, 184, 0, 39, 154, 0, 9]
abbrev dktX1_run_0 : List UInt8 := dkwX1_run_0 ++ dktX1_run_1
theorem dksX1_run_0 : cX1_run.data.toList.drop 0 = dktX1_run_0 := by decide +kernel
theorem dksX1_run_1 : cX1_run.data.toList.drop 24 = dktX1_run_1 := dk_seg dksX1_run_0 24 rfl rfl
theorem dksX1_run_2 : cX1_run.data.toList.drop 48 = dktX1_run_2 := dk_seg dksX1_run_1 24 rfl rfl
theorem dksX1_run_3 : cX1_run.data.toList.drop 70 = dktX1_run_3 := dk_seg dksX1_run_2 22 rfl rfl
theorem dX1_run_0 : decode cX1_run 0 = .ok (.aload_n 0, 1) := dk_42 (dk_at dksX1_run_0 0 rfl rfl)
theorem dX1_run_1 : decode cX1_run 1 = .ok (.getfield 76, 3) := dk_180 0 76 (dk_at dksX1_run_0 1 rfl rfl)
theorem dX1_run_4 : decode cX1_run 4 = .ok (.ifnonnull 9, 3) := dk_199 0 9 (dk_at dksX1_run_0 4 rfl rfl)
theorem dX1_run_7 : decode cX1_run 7 = .ok (.aload_n 0, 1) := dk_42 (dk_at dksX1_run_0 7 rfl rfl)
theorem dX1_run_8 : decode cX1_run 8 = .ok (.iconst 1, 1) := dk_4 (dk_at dksX1_run_0 8 rfl rfl)
theorem dX1_run_9 : decode cX1_run 9 = .ok (.invokevirtual 43, 3) := dk_182 0 43 (dk_at dksX1_run_0 9 rfl rfl)
theorem dX1_run_12 : decode cX1_run 12 = .ok (.ireturn, 1) := dk_172 (dk_at dksX1_run_0 12 rfl rfl)
theorem dX1_run_13 : decode cX1_run 13 = .ok (.iload_n 1, 1) := dk_27 (dk_at dksX1_run_0 13 rfl rfl)
theorem dX1_run_14 : decode cX1_run 14 = .ok (.iconst 1, 1) := dk_4 (dk_at dksX1_run_0 14 rfl rfl)
theorem dX1_run_15 : decode cX1_run 15 = .ok (.sipush 9999, 3) := dk_17 39 15 (dk_at dksX1_run_0 15 rfl rfl)
theorem dX1_run_18 : decode cX1_run 18 = .ok (.invokestatic 39, 3) := dk_184 0 39 (dk_at dksX1_run_0 18 rfl rfl)
theorem dX1_run_21 : decode cX1_run 21 = .ok (.ifCond .ne 9, 3) := dk_154 0 9 (dk_at dksX1_run_0 21 rfl rfl)
theorem dX1_run_24 : decode cX1_run 24 = .ok (.aload_n 0, 1) := dk_42 (dk_at dksX1_run_1 0 rfl rfl)
theorem dX1_run_25 : decode cX1_run 25 = .ok (.iconst 2, 1) := dk_5 (dk_at dksX1_run_1 1 rfl rfl)
theorem dX1_run_26 : decode cX1_run 26 = .ok (.invokevirtual 43, 3) := dk_182 0 43 (dk_at dksX1_run_1 2 rfl rfl)
theorem dX1_run_29 : decode cX1_run 29 = .ok (.ireturn, 1) := dk_172 (dk_at dksX1_run_1 5 rfl rfl)
theorem dX1_run_30 : decode cX1_run 30 = .ok (.aload_n 0, 1) := dk_42 (dk_at dksX1_run_1 6 rfl rfl)
theorem dX1_run_31 : decode cX1_run 31 = .ok (.getfield 76, 3) := dk_180 0 76 (dk_at dksX1_run_1 7 rfl rfl)
theorem dX1_run_34 : decode cX1_run 34 = .ok (.getfield 171, 3) := dk_180 0 171 (dk_at dksX1_run_1 10 rfl rfl)
theorem dX1_run_37 : decode cX1_run 37 = .ok (.iconst (-1), 1) := dk_2 (dk_at dksX1_run_1 13 rfl rfl)
theorem dX1_run_38 : decode cX1_run 38 = .ok (.if_icmp .ne 9, 3) := dk_160 0 9 (dk_at dksX1_run_1 14 rfl rfl)
theorem dX1_run_41 : decode cX1_run 41 = .ok (.aload_n 0, 1) := dk_42 (dk_at dksX1_run_1 17 rfl rfl)
theorem dX1_run_42 : decode cX1_run 42 = .ok (.iconst 5, 1) := dk_8 (dk_at dksX1_run_1 18 rfl rfl)
theorem dX1_run_43 : decode cX1_run 43 = .ok (.invokevirtual 43, 3) := dk_182 0 43 (dk_at dksX1_run_1 19 rfl rfl)
theorem dX1_run_46 : decode cX1_run 46 = .ok (.ireturn, 1) := dk_172 (dk_at dksX1_run_1 22 rfl rfl)
theorem dX1_run_47 : decode cX1_run 47 = .ok (.iconst 0, 1) := dk_3 (dk_at dksX1_run_1 23 rfl rfl)
theorem dX1_run_48 : decode cX1_run 48 = .ok (.istore_n 2, 1) := dk_61 (dk_at dksX1_run_2 0 rfl rfl)
theorem dX1_run_49 : decode cX1_run 49 = .ok (.iload_n 2, 1) := dk_28 (dk_at dksX1_run_2 1 rfl rfl)
theorem dX1_run_50 : decode cX1_run 50 = .ok (.iload_n 1, 1) := dk_27 (dk_at dksX1_run_2 2 rfl rfl)
theorem dX1_run_51 : decode cX1_run 51 = .ok (.if_icmp .ge 29, 3) := dk_162 0 29 (dk_at dksX1_run_2 3 rfl rfl)
theorem dX1_run_54 : decode cX1_run 54 = .ok (.aload_n 0, 1) := dk_42 (dk_at dksX1_run_2 6 rfl rfl)
theorem dX1_run_55 : decode cX1_run 55 = .ok (.getfield 76, 3) := dk_180 0 76 (dk_at dksX1_run_2 7 rfl rfl)
theorem dX1_run_58 : decode cX1_run 58 = .ok (.getfield 171, 3) := dk_180 0 171 (dk_at dksX1_run_2 10 rfl rfl)
theorem dX1_run_61 : decode cX1_run 61 = .ok (.iconst (-1), 1) := dk_2 (dk_at dksX1_run_2 13 rfl rfl)
theorem dX1_run_62 : decode cX1_run 62 = .ok (.if_icmp .eq 18, 3) := dk_159 0 18 (dk_at dksX1_run_2 14 rfl rfl)
theorem dX1_run_65 : decode cX1_run 65 = .ok (.aload_n 0, 1) := dk_42 (dk_at dksX1_run_2 17 rfl rfl)
theorem dX1_run_66 : decode cX1_run 66 = .ok (.aload_n 0, 1) := dk_42 (dk_at dksX1_run_2 18 rfl rfl)
theorem dX1_run_67 : decode cX1_run 67 = .ok (.invokevirtual 246, 3) := dk_182 0 246 (dk_at dksX1_run_2 19 rfl rfl)
theorem dX1_run_70 : decode cX1_run 70 = .ok (.invokevirtual 243, 3) := dk_182 0 243 (dk_at dksX1_run_3 0 rfl rfl)
theorem dX1_run_73 : decode cX1_run 73 = .ok (.pop, 1) := dk_87 (dk_at dksX1_run_3 3 rfl rfl)
theorem dX1_run_74 : decode cX1_run 74 = .ok (.iinc 2 1, 3) := dk_132 2 1 (dk_at dksX1_run_3 4 rfl rfl)
theorem dX1_run_77 : decode cX1_run 77 = .ok (.goto (-28), 3) := dk_167 255 228 (dk_at dksX1_run_3 7 rfl rfl)
theorem dX1_run_80 : decode cX1_run 80 = .ok (.aload_n 0, 1) := dk_42 (dk_at dksX1_run_3 10 rfl rfl)
theorem dX1_run_81 : decode cX1_run 81 = .ok (.iload_n 2, 1) := dk_28 (dk_at dksX1_run_3 11 rfl rfl)
theorem dX1_run_82 : decode cX1_run 82 = .ok (.invokevirtual 94, 3) := dk_182 0 94 (dk_at dksX1_run_3 12 rfl rfl)
theorem dX1_run_85 : decode cX1_run 85 = .ok (.ireturn, 1) := dk_172 (dk_at dksX1_run_3 15 rfl rfl)
abbrev cX1_give : ByteArray := prog_1_method_33_code
def yX1_give : MethodName := ⟨RX1, "give", "()I"⟩
def dkwX1_give_1 : List UInt8 := [182, 0, 249, 182, 0, 94, 172]
abbrev dktX1_give_1 : List UInt8 := dkwX1_give_1 ++ []
def dkwX1_give_0 : List UInt8 := [42, 182, 0, 240, 60, 27, 158, 0, 11, 42, 27, 182, 0, 43, 167, 0, 14, 42, 42, 180, 0, 76]
abbrev dktX1_give_0 : List UInt8 := dkwX1_give_0 ++ dktX1_give_1
theorem dksX1_give_0 : cX1_give.data.toList.drop 0 = dktX1_give_0 := by decide +kernel
theorem dksX1_give_1 : cX1_give.data.toList.drop 22 = dktX1_give_1 := dk_seg dksX1_give_0 22 rfl rfl
theorem dX1_give_0 : decode cX1_give 0 = .ok (.aload_n 0, 1) := dk_42 (dk_at dksX1_give_0 0 rfl rfl)
theorem dX1_give_1 : decode cX1_give 1 = .ok (.invokevirtual 240, 3) := dk_182 0 240 (dk_at dksX1_give_0 1 rfl rfl)
theorem dX1_give_4 : decode cX1_give 4 = .ok (.istore_n 1, 1) := dk_60 (dk_at dksX1_give_0 4 rfl rfl)
theorem dX1_give_5 : decode cX1_give 5 = .ok (.iload_n 1, 1) := dk_27 (dk_at dksX1_give_0 5 rfl rfl)
theorem dX1_give_6 : decode cX1_give 6 = .ok (.ifCond .le 11, 3) := dk_158 0 11 (dk_at dksX1_give_0 6 rfl rfl)
theorem dX1_give_9 : decode cX1_give 9 = .ok (.aload_n 0, 1) := dk_42 (dk_at dksX1_give_0 9 rfl rfl)
theorem dX1_give_10 : decode cX1_give 10 = .ok (.iload_n 1, 1) := dk_27 (dk_at dksX1_give_0 10 rfl rfl)
theorem dX1_give_11 : decode cX1_give 11 = .ok (.invokevirtual 43, 3) := dk_182 0 43 (dk_at dksX1_give_0 11 rfl rfl)
theorem dX1_give_14 : decode cX1_give 14 = .ok (.goto 14, 3) := dk_167 0 14 (dk_at dksX1_give_0 14 rfl rfl)
theorem dX1_give_17 : decode cX1_give 17 = .ok (.aload_n 0, 1) := dk_42 (dk_at dksX1_give_0 17 rfl rfl)
theorem dX1_give_18 : decode cX1_give 18 = .ok (.aload_n 0, 1) := dk_42 (dk_at dksX1_give_0 18 rfl rfl)
theorem dX1_give_19 : decode cX1_give 19 = .ok (.getfield 76, 3) := dk_180 0 76 (dk_at dksX1_give_0 19 rfl rfl)
theorem dX1_give_22 : decode cX1_give 22 = .ok (.invokevirtual 249, 3) := dk_182 0 249 (dk_at dksX1_give_1 0 rfl rfl)
theorem dX1_give_25 : decode cX1_give 25 = .ok (.invokevirtual 94, 3) := dk_182 0 94 (dk_at dksX1_give_1 3 rfl rfl)
theorem dX1_give_28 : decode cX1_give 28 = .ok (.ireturn, 1) := dk_172 (dk_at dksX1_give_1 6 rfl rfl)
abbrev cX1_again : ByteArray := prog_1_method_35_code
def yX1_again : MethodName := ⟨RX1, "again", "(I)I"⟩
def dkwX1_again_2 : List UInt8 := [42, 180, 0, 76, 27, 182, 1, 0, 87, 42, 44, 180, 0, 180, 182, 0, 94, 172]
abbrev dktX1_again_2 : List UInt8 := dkwX1_again_2 ++ []
def dkwX1_again_1 : List UInt8 := [182, 0, 174, 192, 0, 178, 77, 42, 180, 0, 76, 180, 0, 171, 2, 159, 0, 9, 42, 8, 182, 0, 43, 172]
abbrev dktX1_again_1 : List UInt8 := dkwX1_again_1 ++ dktX1_again_2
def dkwX1_again_0 : List UInt8 := [42, 27, 182, 0, 252, 154, 0, 9, 42, 4, 182, 0, 43, 172, 42, 180, 0, 76, 180, 0, 84, 27]
abbrev dktX1_again_0 : List UInt8 := dkwX1_again_0 ++ dktX1_again_1
theorem dksX1_again_0 : cX1_again.data.toList.drop 0 = dktX1_again_0 := by decide +kernel
theorem dksX1_again_1 : cX1_again.data.toList.drop 22 = dktX1_again_1 := dk_seg dksX1_again_0 22 rfl rfl
theorem dksX1_again_2 : cX1_again.data.toList.drop 46 = dktX1_again_2 := dk_seg dksX1_again_1 24 rfl rfl
theorem dX1_again_0 : decode cX1_again 0 = .ok (.aload_n 0, 1) := dk_42 (dk_at dksX1_again_0 0 rfl rfl)
theorem dX1_again_1 : decode cX1_again 1 = .ok (.iload_n 1, 1) := dk_27 (dk_at dksX1_again_0 1 rfl rfl)
theorem dX1_again_2 : decode cX1_again 2 = .ok (.invokevirtual 252, 3) := dk_182 0 252 (dk_at dksX1_again_0 2 rfl rfl)
theorem dX1_again_5 : decode cX1_again 5 = .ok (.ifCond .ne 9, 3) := dk_154 0 9 (dk_at dksX1_again_0 5 rfl rfl)
theorem dX1_again_8 : decode cX1_again 8 = .ok (.aload_n 0, 1) := dk_42 (dk_at dksX1_again_0 8 rfl rfl)
theorem dX1_again_9 : decode cX1_again 9 = .ok (.iconst 1, 1) := dk_4 (dk_at dksX1_again_0 9 rfl rfl)
theorem dX1_again_10 : decode cX1_again 10 = .ok (.invokevirtual 43, 3) := dk_182 0 43 (dk_at dksX1_again_0 10 rfl rfl)
theorem dX1_again_13 : decode cX1_again 13 = .ok (.ireturn, 1) := dk_172 (dk_at dksX1_again_0 13 rfl rfl)
theorem dX1_again_14 : decode cX1_again 14 = .ok (.aload_n 0, 1) := dk_42 (dk_at dksX1_again_0 14 rfl rfl)
theorem dX1_again_15 : decode cX1_again 15 = .ok (.getfield 76, 3) := dk_180 0 76 (dk_at dksX1_again_0 15 rfl rfl)
theorem dX1_again_18 : decode cX1_again 18 = .ok (.getfield 84, 3) := dk_180 0 84 (dk_at dksX1_again_0 18 rfl rfl)
theorem dX1_again_21 : decode cX1_again 21 = .ok (.iload_n 1, 1) := dk_27 (dk_at dksX1_again_0 21 rfl rfl)
theorem dX1_again_22 : decode cX1_again 22 = .ok (.invokevirtual 174, 3) := dk_182 0 174 (dk_at dksX1_again_1 0 rfl rfl)
theorem dX1_again_25 : decode cX1_again 25 = .ok (.checkcast 178, 3) := dk_192 0 178 (dk_at dksX1_again_1 3 rfl rfl)
theorem dX1_again_28 : decode cX1_again 28 = .ok (.astore_n 2, 1) := dk_77 (dk_at dksX1_again_1 6 rfl rfl)
theorem dX1_again_29 : decode cX1_again 29 = .ok (.aload_n 0, 1) := dk_42 (dk_at dksX1_again_1 7 rfl rfl)
theorem dX1_again_30 : decode cX1_again 30 = .ok (.getfield 76, 3) := dk_180 0 76 (dk_at dksX1_again_1 8 rfl rfl)
theorem dX1_again_33 : decode cX1_again 33 = .ok (.getfield 171, 3) := dk_180 0 171 (dk_at dksX1_again_1 11 rfl rfl)
theorem dX1_again_36 : decode cX1_again 36 = .ok (.iconst (-1), 1) := dk_2 (dk_at dksX1_again_1 14 rfl rfl)
theorem dX1_again_37 : decode cX1_again 37 = .ok (.if_icmp .eq 9, 3) := dk_159 0 9 (dk_at dksX1_again_1 15 rfl rfl)
theorem dX1_again_40 : decode cX1_again 40 = .ok (.aload_n 0, 1) := dk_42 (dk_at dksX1_again_1 18 rfl rfl)
theorem dX1_again_41 : decode cX1_again 41 = .ok (.iconst 5, 1) := dk_8 (dk_at dksX1_again_1 19 rfl rfl)
theorem dX1_again_42 : decode cX1_again 42 = .ok (.invokevirtual 43, 3) := dk_182 0 43 (dk_at dksX1_again_1 20 rfl rfl)
theorem dX1_again_45 : decode cX1_again 45 = .ok (.ireturn, 1) := dk_172 (dk_at dksX1_again_1 23 rfl rfl)
theorem dX1_again_46 : decode cX1_again 46 = .ok (.aload_n 0, 1) := dk_42 (dk_at dksX1_again_2 0 rfl rfl)
theorem dX1_again_47 : decode cX1_again 47 = .ok (.getfield 76, 3) := dk_180 0 76 (dk_at dksX1_again_2 1 rfl rfl)
theorem dX1_again_50 : decode cX1_again 50 = .ok (.iload_n 1, 1) := dk_27 (dk_at dksX1_again_2 4 rfl rfl)
theorem dX1_again_51 : decode cX1_again 51 = .ok (.invokevirtual 256, 3) := dk_182 1 0 (dk_at dksX1_again_2 5 rfl rfl)
theorem dX1_again_54 : decode cX1_again 54 = .ok (.pop, 1) := dk_87 (dk_at dksX1_again_2 8 rfl rfl)
theorem dX1_again_55 : decode cX1_again 55 = .ok (.aload_n 0, 1) := dk_42 (dk_at dksX1_again_2 9 rfl rfl)
theorem dX1_again_56 : decode cX1_again 56 = .ok (.aload_n 2, 1) := dk_44 (dk_at dksX1_again_2 10 rfl rfl)
theorem dX1_again_57 : decode cX1_again 57 = .ok (.getfield 180, 3) := dk_180 0 180 (dk_at dksX1_again_2 11 rfl rfl)
theorem dX1_again_60 : decode cX1_again 60 = .ok (.invokevirtual 94, 3) := dk_182 0 94 (dk_at dksX1_again_2 14 rfl rfl)
theorem dX1_again_63 : decode cX1_again 63 = .ok (.ireturn, 1) := dk_172 (dk_at dksX1_again_2 17 rfl rfl)
abbrev cX1_isTask : ByteArray := prog_1_method_34_code
def yX1_isTask : MethodName := ⟨RX1, "isTask", "(I)Z"⟩
def dkwX1_isTask_1 : List UInt8 := [153, 0, 7, 4, 167, 0, 4, 3, 172]
abbrev dktX1_isTask_1 : List UInt8 := dkwX1_isTask_1 ++ []
def dkwX1_isTask_0 : List UInt8 := [42, 180, 0, 76, 198, 0, 27, 27, 3, 42, 180, 0, 76, 180, 0, 84, 182, 0, 88, 4, 100, 184, 0, 39]
abbrev dktX1_isTask_0 : List UInt8 := dkwX1_isTask_0 ++ dktX1_isTask_1
theorem dksX1_isTask_0 : cX1_isTask.data.toList.drop 0 = dktX1_isTask_0 := by decide +kernel
theorem dksX1_isTask_1 : cX1_isTask.data.toList.drop 24 = dktX1_isTask_1 := dk_seg dksX1_isTask_0 24 rfl rfl
theorem dX1_isTask_0 : decode cX1_isTask 0 = .ok (.aload_n 0, 1) := dk_42 (dk_at dksX1_isTask_0 0 rfl rfl)
theorem dX1_isTask_1 : decode cX1_isTask 1 = .ok (.getfield 76, 3) := dk_180 0 76 (dk_at dksX1_isTask_0 1 rfl rfl)
theorem dX1_isTask_4 : decode cX1_isTask 4 = .ok (.ifnull 27, 3) := dk_198 0 27 (dk_at dksX1_isTask_0 4 rfl rfl)
theorem dX1_isTask_7 : decode cX1_isTask 7 = .ok (.iload_n 1, 1) := dk_27 (dk_at dksX1_isTask_0 7 rfl rfl)
theorem dX1_isTask_8 : decode cX1_isTask 8 = .ok (.iconst 0, 1) := dk_3 (dk_at dksX1_isTask_0 8 rfl rfl)
theorem dX1_isTask_9 : decode cX1_isTask 9 = .ok (.aload_n 0, 1) := dk_42 (dk_at dksX1_isTask_0 9 rfl rfl)
theorem dX1_isTask_10 : decode cX1_isTask 10 = .ok (.getfield 76, 3) := dk_180 0 76 (dk_at dksX1_isTask_0 10 rfl rfl)
theorem dX1_isTask_13 : decode cX1_isTask 13 = .ok (.getfield 84, 3) := dk_180 0 84 (dk_at dksX1_isTask_0 13 rfl rfl)
theorem dX1_isTask_16 : decode cX1_isTask 16 = .ok (.invokevirtual 88, 3) := dk_182 0 88 (dk_at dksX1_isTask_0 16 rfl rfl)
theorem dX1_isTask_19 : decode cX1_isTask 19 = .ok (.iconst 1, 1) := dk_4 (dk_at dksX1_isTask_0 19 rfl rfl)
theorem dX1_isTask_20 : decode cX1_isTask 20 = .ok (.isub, 1) := dk_100 (dk_at dksX1_isTask_0 20 rfl rfl)
theorem dX1_isTask_21 : decode cX1_isTask 21 = .ok (.invokestatic 39, 3) := dk_184 0 39 (dk_at dksX1_isTask_0 21 rfl rfl)
theorem dX1_isTask_24 : decode cX1_isTask 24 = .ok (.ifCond .eq 7, 3) := dk_153 0 7 (dk_at dksX1_isTask_1 0 rfl rfl)
theorem dX1_isTask_27 : decode cX1_isTask 27 = .ok (.iconst 1, 1) := dk_4 (dk_at dksX1_isTask_1 3 rfl rfl)
theorem dX1_isTask_28 : decode cX1_isTask 28 = .ok (.goto 4, 3) := dk_167 0 4 (dk_at dksX1_isTask_1 4 rfl rfl)
theorem dX1_isTask_31 : decode cX1_isTask 31 = .ok (.iconst 0, 1) := dk_3 (dk_at dksX1_isTask_1 7 rfl rfl)
theorem dX1_isTask_32 : decode cX1_isTask 32 = .ok (.ireturn, 1) := dk_172 (dk_at dksX1_isTask_1 8 rfl rfl)
abbrev cX1_task : ByteArray := prog_1_method_36_code
def yX1_task : MethodName := ⟨RX1, "task", "(II)I"⟩
def dkwX1_task_7 : List UInt8 := [182, 0, 94, 172, 42, 45, 180, 1, 17, 182, 0, 94, 172, 42, 4, 182, 0, 43, 172]
abbrev dktX1_task_7 : List UInt8 := dkwX1_task_7 ++ []
def dkwX1_task_6 : List UInt8 := [172, 42, 45, 180, 0, 199, 182, 0, 94, 172, 42, 45, 180, 1, 11, 182, 0, 94, 172, 42, 45, 180, 1, 14]
abbrev dktX1_task_6 : List UInt8 := dkwX1_task_6 ++ dktX1_task_7
def dkwX1_task_5 : List UInt8 := [180, 1, 3, 182, 0, 94, 172, 42, 45, 180, 1, 6, 182, 0, 94, 172, 42, 45, 180, 1, 9, 182, 0, 94]
abbrev dktX1_task_5 : List UInt8 := dkwX1_task_5 ++ dktX1_task_6
def dkwX1_task_4 : List UInt8 := [182, 0, 94, 172, 42, 45, 180, 0, 189, 153, 0, 7, 4, 167, 0, 4, 3, 182, 0, 94, 172, 42, 45]
abbrev dktX1_task_4 : List UInt8 := dkwX1_task_4 ++ dktX1_task_5
def dkwX1_task_3 : List UInt8 := [42, 45, 180, 0, 180, 182, 0, 94, 172, 42, 45, 180, 0, 183, 182, 0, 94, 172, 42, 45, 180, 0, 186]
abbrev dktX1_task_3 : List UInt8 := dkwX1_task_3 ++ dktX1_task_4
def dkwX1_task_2 : List UInt8 := [170, 0, 0, 0, 0, 165, 0, 0, 0, 0, 0, 0, 0, 10, 0, 0, 0, 58, 0, 0, 0, 67, 0, 0, 0, 76, 0, 0, 0, 85, 0, 0, 0, 102, 0, 0, 0, 111, 0, 0, 0, 120, 0, 0, 0, 129, 0, 0, 0, 138, 0, 0, 0, 147, 0, 0, 0, 156]
abbrev dktX1_task_2 : List UInt8 := dkwX1_task_2 ++ dktX1_task_3
def dkwX1_task_1 : List UInt8 := [182, 0, 174, 192, 0, 178, 78, 28]
abbrev dktX1_task_1 : List UInt8 := dkwX1_task_1 ++ dktX1_task_2
def dkwX1_task_0 : List UInt8 := [42, 27, 182, 0, 252, 154, 0, 9, 42, 4, 182, 0, 43, 172, 42, 180, 0, 76, 180, 0, 84, 27]
abbrev dktX1_task_0 : List UInt8 := dkwX1_task_0 ++ dktX1_task_1
theorem dksX1_task_0 : cX1_task.data.toList.drop 0 = dktX1_task_0 := by decide +kernel
theorem dksX1_task_1 : cX1_task.data.toList.drop 22 = dktX1_task_1 := dk_seg dksX1_task_0 22 rfl rfl
theorem dksX1_task_2 : cX1_task.data.toList.drop 30 = dktX1_task_2 := dk_seg dksX1_task_1 8 rfl rfl
theorem dksX1_task_3 : cX1_task.data.toList.drop 88 = dktX1_task_3 := dk_seg dksX1_task_2 58 rfl rfl
theorem dksX1_task_4 : cX1_task.data.toList.drop 111 = dktX1_task_4 := dk_seg dksX1_task_3 23 rfl rfl
theorem dksX1_task_5 : cX1_task.data.toList.drop 134 = dktX1_task_5 := dk_seg dksX1_task_4 23 rfl rfl
theorem dksX1_task_6 : cX1_task.data.toList.drop 158 = dktX1_task_6 := dk_seg dksX1_task_5 24 rfl rfl
theorem dksX1_task_7 : cX1_task.data.toList.drop 182 = dktX1_task_7 := dk_seg dksX1_task_6 24 rfl rfl
theorem dX1_task_0 : decode cX1_task 0 = .ok (.aload_n 0, 1) := dk_42 (dk_at dksX1_task_0 0 rfl rfl)
theorem dX1_task_1 : decode cX1_task 1 = .ok (.iload_n 1, 1) := dk_27 (dk_at dksX1_task_0 1 rfl rfl)
theorem dX1_task_2 : decode cX1_task 2 = .ok (.invokevirtual 252, 3) := dk_182 0 252 (dk_at dksX1_task_0 2 rfl rfl)
theorem dX1_task_5 : decode cX1_task 5 = .ok (.ifCond .ne 9, 3) := dk_154 0 9 (dk_at dksX1_task_0 5 rfl rfl)
theorem dX1_task_8 : decode cX1_task 8 = .ok (.aload_n 0, 1) := dk_42 (dk_at dksX1_task_0 8 rfl rfl)
theorem dX1_task_9 : decode cX1_task 9 = .ok (.iconst 1, 1) := dk_4 (dk_at dksX1_task_0 9 rfl rfl)
theorem dX1_task_10 : decode cX1_task 10 = .ok (.invokevirtual 43, 3) := dk_182 0 43 (dk_at dksX1_task_0 10 rfl rfl)
theorem dX1_task_13 : decode cX1_task 13 = .ok (.ireturn, 1) := dk_172 (dk_at dksX1_task_0 13 rfl rfl)
theorem dX1_task_14 : decode cX1_task 14 = .ok (.aload_n 0, 1) := dk_42 (dk_at dksX1_task_0 14 rfl rfl)
theorem dX1_task_15 : decode cX1_task 15 = .ok (.getfield 76, 3) := dk_180 0 76 (dk_at dksX1_task_0 15 rfl rfl)
theorem dX1_task_18 : decode cX1_task 18 = .ok (.getfield 84, 3) := dk_180 0 84 (dk_at dksX1_task_0 18 rfl rfl)
theorem dX1_task_21 : decode cX1_task 21 = .ok (.iload_n 1, 1) := dk_27 (dk_at dksX1_task_0 21 rfl rfl)
theorem dX1_task_22 : decode cX1_task 22 = .ok (.invokevirtual 174, 3) := dk_182 0 174 (dk_at dksX1_task_1 0 rfl rfl)
theorem dX1_task_25 : decode cX1_task 25 = .ok (.checkcast 178, 3) := dk_192 0 178 (dk_at dksX1_task_1 3 rfl rfl)
theorem dX1_task_28 : decode cX1_task 28 = .ok (.astore_n 3, 1) := dk_78 (dk_at dksX1_task_1 6 rfl rfl)
theorem dX1_task_29 : decode cX1_task 29 = .ok (.iload_n 2, 1) := dk_28 (dk_at dksX1_task_1 7 rfl rfl)
theorem dX1_task_30 : decode cX1_task 30 = .ok (.tableswitch 165 0 10 #[58, 67, 76, 85, 102, 111, 120, 129, 138, 147, 156], 58) := by decide +kernel
theorem dX1_task_88 : decode cX1_task 88 = .ok (.aload_n 0, 1) := dk_42 (dk_at dksX1_task_3 0 rfl rfl)
theorem dX1_task_89 : decode cX1_task 89 = .ok (.aload_n 3, 1) := dk_45 (dk_at dksX1_task_3 1 rfl rfl)
theorem dX1_task_90 : decode cX1_task 90 = .ok (.getfield 180, 3) := dk_180 0 180 (dk_at dksX1_task_3 2 rfl rfl)
theorem dX1_task_93 : decode cX1_task 93 = .ok (.invokevirtual 94, 3) := dk_182 0 94 (dk_at dksX1_task_3 5 rfl rfl)
theorem dX1_task_96 : decode cX1_task 96 = .ok (.ireturn, 1) := dk_172 (dk_at dksX1_task_3 8 rfl rfl)
theorem dX1_task_97 : decode cX1_task 97 = .ok (.aload_n 0, 1) := dk_42 (dk_at dksX1_task_3 9 rfl rfl)
theorem dX1_task_98 : decode cX1_task 98 = .ok (.aload_n 3, 1) := dk_45 (dk_at dksX1_task_3 10 rfl rfl)
theorem dX1_task_99 : decode cX1_task 99 = .ok (.getfield 183, 3) := dk_180 0 183 (dk_at dksX1_task_3 11 rfl rfl)
theorem dX1_task_102 : decode cX1_task 102 = .ok (.invokevirtual 94, 3) := dk_182 0 94 (dk_at dksX1_task_3 14 rfl rfl)
theorem dX1_task_105 : decode cX1_task 105 = .ok (.ireturn, 1) := dk_172 (dk_at dksX1_task_3 17 rfl rfl)
theorem dX1_task_106 : decode cX1_task 106 = .ok (.aload_n 0, 1) := dk_42 (dk_at dksX1_task_3 18 rfl rfl)
theorem dX1_task_107 : decode cX1_task 107 = .ok (.aload_n 3, 1) := dk_45 (dk_at dksX1_task_3 19 rfl rfl)
theorem dX1_task_108 : decode cX1_task 108 = .ok (.getfield 186, 3) := dk_180 0 186 (dk_at dksX1_task_3 20 rfl rfl)
theorem dX1_task_111 : decode cX1_task 111 = .ok (.invokevirtual 94, 3) := dk_182 0 94 (dk_at dksX1_task_4 0 rfl rfl)
theorem dX1_task_114 : decode cX1_task 114 = .ok (.ireturn, 1) := dk_172 (dk_at dksX1_task_4 3 rfl rfl)
theorem dX1_task_115 : decode cX1_task 115 = .ok (.aload_n 0, 1) := dk_42 (dk_at dksX1_task_4 4 rfl rfl)
theorem dX1_task_116 : decode cX1_task 116 = .ok (.aload_n 3, 1) := dk_45 (dk_at dksX1_task_4 5 rfl rfl)
theorem dX1_task_117 : decode cX1_task 117 = .ok (.getfield 189, 3) := dk_180 0 189 (dk_at dksX1_task_4 6 rfl rfl)
theorem dX1_task_120 : decode cX1_task 120 = .ok (.ifCond .eq 7, 3) := dk_153 0 7 (dk_at dksX1_task_4 9 rfl rfl)
theorem dX1_task_123 : decode cX1_task 123 = .ok (.iconst 1, 1) := dk_4 (dk_at dksX1_task_4 12 rfl rfl)
theorem dX1_task_124 : decode cX1_task 124 = .ok (.goto 4, 3) := dk_167 0 4 (dk_at dksX1_task_4 13 rfl rfl)
theorem dX1_task_127 : decode cX1_task 127 = .ok (.iconst 0, 1) := dk_3 (dk_at dksX1_task_4 16 rfl rfl)
theorem dX1_task_128 : decode cX1_task 128 = .ok (.invokevirtual 94, 3) := dk_182 0 94 (dk_at dksX1_task_4 17 rfl rfl)
theorem dX1_task_131 : decode cX1_task 131 = .ok (.ireturn, 1) := dk_172 (dk_at dksX1_task_4 20 rfl rfl)
theorem dX1_task_132 : decode cX1_task 132 = .ok (.aload_n 0, 1) := dk_42 (dk_at dksX1_task_4 21 rfl rfl)
theorem dX1_task_133 : decode cX1_task 133 = .ok (.aload_n 3, 1) := dk_45 (dk_at dksX1_task_4 22 rfl rfl)
theorem dX1_task_134 : decode cX1_task 134 = .ok (.getfield 259, 3) := dk_180 1 3 (dk_at dksX1_task_5 0 rfl rfl)
theorem dX1_task_137 : decode cX1_task 137 = .ok (.invokevirtual 94, 3) := dk_182 0 94 (dk_at dksX1_task_5 3 rfl rfl)
theorem dX1_task_140 : decode cX1_task 140 = .ok (.ireturn, 1) := dk_172 (dk_at dksX1_task_5 6 rfl rfl)
theorem dX1_task_141 : decode cX1_task 141 = .ok (.aload_n 0, 1) := dk_42 (dk_at dksX1_task_5 7 rfl rfl)
theorem dX1_task_142 : decode cX1_task 142 = .ok (.aload_n 3, 1) := dk_45 (dk_at dksX1_task_5 8 rfl rfl)
theorem dX1_task_143 : decode cX1_task 143 = .ok (.getfield 262, 3) := dk_180 1 6 (dk_at dksX1_task_5 9 rfl rfl)
theorem dX1_task_146 : decode cX1_task 146 = .ok (.invokevirtual 94, 3) := dk_182 0 94 (dk_at dksX1_task_5 12 rfl rfl)
theorem dX1_task_149 : decode cX1_task 149 = .ok (.ireturn, 1) := dk_172 (dk_at dksX1_task_5 15 rfl rfl)
theorem dX1_task_150 : decode cX1_task 150 = .ok (.aload_n 0, 1) := dk_42 (dk_at dksX1_task_5 16 rfl rfl)
theorem dX1_task_151 : decode cX1_task 151 = .ok (.aload_n 3, 1) := dk_45 (dk_at dksX1_task_5 17 rfl rfl)
theorem dX1_task_152 : decode cX1_task 152 = .ok (.getfield 265, 3) := dk_180 1 9 (dk_at dksX1_task_5 18 rfl rfl)
theorem dX1_task_155 : decode cX1_task 155 = .ok (.invokevirtual 94, 3) := dk_182 0 94 (dk_at dksX1_task_5 21 rfl rfl)
theorem dX1_task_158 : decode cX1_task 158 = .ok (.ireturn, 1) := dk_172 (dk_at dksX1_task_6 0 rfl rfl)
theorem dX1_task_159 : decode cX1_task 159 = .ok (.aload_n 0, 1) := dk_42 (dk_at dksX1_task_6 1 rfl rfl)
theorem dX1_task_160 : decode cX1_task 160 = .ok (.aload_n 3, 1) := dk_45 (dk_at dksX1_task_6 2 rfl rfl)
theorem dX1_task_161 : decode cX1_task 161 = .ok (.getfield 199, 3) := dk_180 0 199 (dk_at dksX1_task_6 3 rfl rfl)
theorem dX1_task_164 : decode cX1_task 164 = .ok (.invokevirtual 94, 3) := dk_182 0 94 (dk_at dksX1_task_6 6 rfl rfl)
theorem dX1_task_167 : decode cX1_task 167 = .ok (.ireturn, 1) := dk_172 (dk_at dksX1_task_6 9 rfl rfl)
theorem dX1_task_168 : decode cX1_task 168 = .ok (.aload_n 0, 1) := dk_42 (dk_at dksX1_task_6 10 rfl rfl)
theorem dX1_task_169 : decode cX1_task 169 = .ok (.aload_n 3, 1) := dk_45 (dk_at dksX1_task_6 11 rfl rfl)
theorem dX1_task_170 : decode cX1_task 170 = .ok (.getfield 267, 3) := dk_180 1 11 (dk_at dksX1_task_6 12 rfl rfl)
theorem dX1_task_173 : decode cX1_task 173 = .ok (.invokevirtual 94, 3) := dk_182 0 94 (dk_at dksX1_task_6 15 rfl rfl)
theorem dX1_task_176 : decode cX1_task 176 = .ok (.ireturn, 1) := dk_172 (dk_at dksX1_task_6 18 rfl rfl)
theorem dX1_task_177 : decode cX1_task 177 = .ok (.aload_n 0, 1) := dk_42 (dk_at dksX1_task_6 19 rfl rfl)
theorem dX1_task_178 : decode cX1_task 178 = .ok (.aload_n 3, 1) := dk_45 (dk_at dksX1_task_6 20 rfl rfl)
theorem dX1_task_179 : decode cX1_task 179 = .ok (.getfield 270, 3) := dk_180 1 14 (dk_at dksX1_task_6 21 rfl rfl)
theorem dX1_task_182 : decode cX1_task 182 = .ok (.invokevirtual 94, 3) := dk_182 0 94 (dk_at dksX1_task_7 0 rfl rfl)
theorem dX1_task_185 : decode cX1_task 185 = .ok (.ireturn, 1) := dk_172 (dk_at dksX1_task_7 3 rfl rfl)
theorem dX1_task_186 : decode cX1_task 186 = .ok (.aload_n 0, 1) := dk_42 (dk_at dksX1_task_7 4 rfl rfl)
theorem dX1_task_187 : decode cX1_task 187 = .ok (.aload_n 3, 1) := dk_45 (dk_at dksX1_task_7 5 rfl rfl)
theorem dX1_task_188 : decode cX1_task 188 = .ok (.getfield 273, 3) := dk_180 1 17 (dk_at dksX1_task_7 6 rfl rfl)
theorem dX1_task_191 : decode cX1_task 191 = .ok (.invokevirtual 94, 3) := dk_182 0 94 (dk_at dksX1_task_7 9 rfl rfl)
theorem dX1_task_194 : decode cX1_task 194 = .ok (.ireturn, 1) := dk_172 (dk_at dksX1_task_7 12 rfl rfl)
theorem dX1_task_195 : decode cX1_task 195 = .ok (.aload_n 0, 1) := dk_42 (dk_at dksX1_task_7 13 rfl rfl)
theorem dX1_task_196 : decode cX1_task 196 = .ok (.iconst 1, 1) := dk_4 (dk_at dksX1_task_7 14 rfl rfl)
theorem dX1_task_197 : decode cX1_task 197 = .ok (.invokevirtual 43, 3) := dk_182 0 43 (dk_at dksX1_task_7 15 rfl rfl)
theorem dX1_task_200 : decode cX1_task 200 = .ok (.ireturn, 1) := dk_172 (dk_at dksX1_task_7 18 rfl rfl)
abbrev cX1_find : ByteArray := prog_1_method_37_code
def yX1_find : MethodName := ⟨RX1, "find", "(IIIZ)I"⟩
def dkwX1_find_2 : List UInt8 := [180, 0, 84, 25, 5, 182, 1, 24, 182, 0, 94, 172]
abbrev dktX1_find_2 : List UInt8 := dkwX1_find_2 ++ []
def dkwX1_find_1 : List UInt8 := [21, 4, 182, 1, 20, 58, 5, 42, 25, 5, 199, 0, 8, 16, 254, 167, 0, 15, 42, 180, 0, 76]
abbrev dktX1_find_1 : List UInt8 := dkwX1_find_1 ++ dktX1_find_2
def dkwX1_find_0 : List UInt8 := [42, 27, 28, 29, 182, 0, 123, 154, 0, 9, 42, 4, 182, 0, 43, 172, 42, 180, 0, 76, 27, 28, 29]
abbrev dktX1_find_0 : List UInt8 := dkwX1_find_0 ++ dktX1_find_1
theorem dksX1_find_0 : cX1_find.data.toList.drop 0 = dktX1_find_0 := by decide +kernel
theorem dksX1_find_1 : cX1_find.data.toList.drop 23 = dktX1_find_1 := dk_seg dksX1_find_0 23 rfl rfl
theorem dksX1_find_2 : cX1_find.data.toList.drop 45 = dktX1_find_2 := dk_seg dksX1_find_1 22 rfl rfl
theorem dX1_find_0 : decode cX1_find 0 = .ok (.aload_n 0, 1) := dk_42 (dk_at dksX1_find_0 0 rfl rfl)
theorem dX1_find_1 : decode cX1_find 1 = .ok (.iload_n 1, 1) := dk_27 (dk_at dksX1_find_0 1 rfl rfl)
theorem dX1_find_2 : decode cX1_find 2 = .ok (.iload_n 2, 1) := dk_28 (dk_at dksX1_find_0 2 rfl rfl)
theorem dX1_find_3 : decode cX1_find 3 = .ok (.iload_n 3, 1) := dk_29 (dk_at dksX1_find_0 3 rfl rfl)
theorem dX1_find_4 : decode cX1_find 4 = .ok (.invokevirtual 123, 3) := dk_182 0 123 (dk_at dksX1_find_0 4 rfl rfl)
theorem dX1_find_7 : decode cX1_find 7 = .ok (.ifCond .ne 9, 3) := dk_154 0 9 (dk_at dksX1_find_0 7 rfl rfl)
theorem dX1_find_10 : decode cX1_find 10 = .ok (.aload_n 0, 1) := dk_42 (dk_at dksX1_find_0 10 rfl rfl)
theorem dX1_find_11 : decode cX1_find 11 = .ok (.iconst 1, 1) := dk_4 (dk_at dksX1_find_0 11 rfl rfl)
theorem dX1_find_12 : decode cX1_find 12 = .ok (.invokevirtual 43, 3) := dk_182 0 43 (dk_at dksX1_find_0 12 rfl rfl)
theorem dX1_find_15 : decode cX1_find 15 = .ok (.ireturn, 1) := dk_172 (dk_at dksX1_find_0 15 rfl rfl)
theorem dX1_find_16 : decode cX1_find 16 = .ok (.aload_n 0, 1) := dk_42 (dk_at dksX1_find_0 16 rfl rfl)
theorem dX1_find_17 : decode cX1_find 17 = .ok (.getfield 76, 3) := dk_180 0 76 (dk_at dksX1_find_0 17 rfl rfl)
theorem dX1_find_20 : decode cX1_find 20 = .ok (.iload_n 1, 1) := dk_27 (dk_at dksX1_find_0 20 rfl rfl)
theorem dX1_find_21 : decode cX1_find 21 = .ok (.iload_n 2, 1) := dk_28 (dk_at dksX1_find_0 21 rfl rfl)
theorem dX1_find_22 : decode cX1_find 22 = .ok (.iload_n 3, 1) := dk_29 (dk_at dksX1_find_0 22 rfl rfl)
theorem dX1_find_23 : decode cX1_find 23 = .ok (.iload 4, 2) := dk_21 4 (dk_at dksX1_find_1 0 rfl rfl)
theorem dX1_find_25 : decode cX1_find 25 = .ok (.invokevirtual 276, 3) := dk_182 1 20 (dk_at dksX1_find_1 2 rfl rfl)
theorem dX1_find_28 : decode cX1_find 28 = .ok (.astore 5, 2) := dk_58 5 (dk_at dksX1_find_1 5 rfl rfl)
theorem dX1_find_30 : decode cX1_find 30 = .ok (.aload_n 0, 1) := dk_42 (dk_at dksX1_find_1 7 rfl rfl)
theorem dX1_find_31 : decode cX1_find 31 = .ok (.aload 5, 2) := dk_25 5 (dk_at dksX1_find_1 8 rfl rfl)
theorem dX1_find_33 : decode cX1_find 33 = .ok (.ifnonnull 8, 3) := dk_199 0 8 (dk_at dksX1_find_1 10 rfl rfl)
theorem dX1_find_36 : decode cX1_find 36 = .ok (.bipush (-2), 2) := dk_16 254 (dk_at dksX1_find_1 13 rfl rfl)
theorem dX1_find_38 : decode cX1_find 38 = .ok (.goto 15, 3) := dk_167 0 15 (dk_at dksX1_find_1 15 rfl rfl)
theorem dX1_find_41 : decode cX1_find 41 = .ok (.aload_n 0, 1) := dk_42 (dk_at dksX1_find_1 18 rfl rfl)
theorem dX1_find_42 : decode cX1_find 42 = .ok (.getfield 76, 3) := dk_180 0 76 (dk_at dksX1_find_1 19 rfl rfl)
theorem dX1_find_45 : decode cX1_find 45 = .ok (.getfield 84, 3) := dk_180 0 84 (dk_at dksX1_find_2 0 rfl rfl)
theorem dX1_find_48 : decode cX1_find 48 = .ok (.aload 5, 2) := dk_25 5 (dk_at dksX1_find_2 3 rfl rfl)
theorem dX1_find_50 : decode cX1_find 50 = .ok (.invokevirtual 280, 3) := dk_182 1 24 (dk_at dksX1_find_2 5 rfl rfl)
theorem dX1_find_53 : decode cX1_find 53 = .ok (.invokevirtual 94, 3) := dk_182 0 94 (dk_at dksX1_find_2 8 rfl rfl)
theorem dX1_find_56 : decode cX1_find 56 = .ok (.ireturn, 1) := dk_172 (dk_at dksX1_find_2 11 rfl rfl)
abbrev cX1_doubts : ByteArray := prog_1_method_38_code
def yX1_doubts : MethodName := ⟨RX1, "doubts", "(II)I"⟩
def dkwX1_doubts_1 : List UInt8 := [167, 0, 8, 42, 4, 182, 0, 43, 172]
abbrev dktX1_doubts_1 : List UInt8 := dkwX1_doubts_1 ++ []
def dkwX1_doubts_0 : List UInt8 := [42, 3, 27, 28, 182, 0, 123, 153, 0, 19, 42, 42, 180, 0, 76, 27, 28, 182, 1, 28, 182, 0, 94]
abbrev dktX1_doubts_0 : List UInt8 := dkwX1_doubts_0 ++ dktX1_doubts_1
theorem dksX1_doubts_0 : cX1_doubts.data.toList.drop 0 = dktX1_doubts_0 := by decide +kernel
theorem dksX1_doubts_1 : cX1_doubts.data.toList.drop 23 = dktX1_doubts_1 := dk_seg dksX1_doubts_0 23 rfl rfl
theorem dX1_doubts_0 : decode cX1_doubts 0 = .ok (.aload_n 0, 1) := dk_42 (dk_at dksX1_doubts_0 0 rfl rfl)
theorem dX1_doubts_1 : decode cX1_doubts 1 = .ok (.iconst 0, 1) := dk_3 (dk_at dksX1_doubts_0 1 rfl rfl)
theorem dX1_doubts_2 : decode cX1_doubts 2 = .ok (.iload_n 1, 1) := dk_27 (dk_at dksX1_doubts_0 2 rfl rfl)
theorem dX1_doubts_3 : decode cX1_doubts 3 = .ok (.iload_n 2, 1) := dk_28 (dk_at dksX1_doubts_0 3 rfl rfl)
theorem dX1_doubts_4 : decode cX1_doubts 4 = .ok (.invokevirtual 123, 3) := dk_182 0 123 (dk_at dksX1_doubts_0 4 rfl rfl)
theorem dX1_doubts_7 : decode cX1_doubts 7 = .ok (.ifCond .eq 19, 3) := dk_153 0 19 (dk_at dksX1_doubts_0 7 rfl rfl)
theorem dX1_doubts_10 : decode cX1_doubts 10 = .ok (.aload_n 0, 1) := dk_42 (dk_at dksX1_doubts_0 10 rfl rfl)
theorem dX1_doubts_11 : decode cX1_doubts 11 = .ok (.aload_n 0, 1) := dk_42 (dk_at dksX1_doubts_0 11 rfl rfl)
theorem dX1_doubts_12 : decode cX1_doubts 12 = .ok (.getfield 76, 3) := dk_180 0 76 (dk_at dksX1_doubts_0 12 rfl rfl)
theorem dX1_doubts_15 : decode cX1_doubts 15 = .ok (.iload_n 1, 1) := dk_27 (dk_at dksX1_doubts_0 15 rfl rfl)
theorem dX1_doubts_16 : decode cX1_doubts 16 = .ok (.iload_n 2, 1) := dk_28 (dk_at dksX1_doubts_0 16 rfl rfl)
theorem dX1_doubts_17 : decode cX1_doubts 17 = .ok (.invokevirtual 284, 3) := dk_182 1 28 (dk_at dksX1_doubts_0 17 rfl rfl)
theorem dX1_doubts_20 : decode cX1_doubts 20 = .ok (.invokevirtual 94, 3) := dk_182 0 94 (dk_at dksX1_doubts_0 20 rfl rfl)
theorem dX1_doubts_23 : decode cX1_doubts 23 = .ok (.goto 8, 3) := dk_167 0 8 (dk_at dksX1_doubts_1 0 rfl rfl)
theorem dX1_doubts_26 : decode cX1_doubts 26 = .ok (.aload_n 0, 1) := dk_42 (dk_at dksX1_doubts_1 3 rfl rfl)
theorem dX1_doubts_27 : decode cX1_doubts 27 = .ok (.iconst 1, 1) := dk_4 (dk_at dksX1_doubts_1 4 rfl rfl)
theorem dX1_doubts_28 : decode cX1_doubts 28 = .ok (.invokevirtual 43, 3) := dk_182 0 43 (dk_at dksX1_doubts_1 5 rfl rfl)
theorem dX1_doubts_31 : decode cX1_doubts 31 = .ok (.ireturn, 1) := dk_172 (dk_at dksX1_doubts_1 8 rfl rfl)
abbrev cX1_doubtful : ByteArray := prog_1_method_39_code
def yX1_doubtful : MethodName := ⟨RX1, "doubtful", "()I"⟩
def dkwX1_doubtful_2 : List UInt8 := [167, 255, 228, 42, 27, 182, 0, 94, 172]
abbrev dktX1_doubtful_2 : List UInt8 := dkwX1_doubtful_2 ++ []
def dkwX1_doubtful_1 : List UInt8 := [180, 0, 97, 162, 0, 23, 42, 180, 0, 76, 28, 182, 1, 31, 153, 0, 6, 132, 1, 1, 132, 2, 1]
abbrev dktX1_doubtful_1 : List UInt8 := dkwX1_doubtful_1 ++ dktX1_doubtful_2
def dkwX1_doubtful_0 : List UInt8 := [42, 180, 0, 76, 199, 0, 9, 42, 4, 182, 0, 43, 172, 3, 60, 3, 61, 28, 42, 180, 0, 59]
abbrev dktX1_doubtful_0 : List UInt8 := dkwX1_doubtful_0 ++ dktX1_doubtful_1
theorem dksX1_doubtful_0 : cX1_doubtful.data.toList.drop 0 = dktX1_doubtful_0 := by decide +kernel
theorem dksX1_doubtful_1 : cX1_doubtful.data.toList.drop 22 = dktX1_doubtful_1 := dk_seg dksX1_doubtful_0 22 rfl rfl
theorem dksX1_doubtful_2 : cX1_doubtful.data.toList.drop 45 = dktX1_doubtful_2 := dk_seg dksX1_doubtful_1 23 rfl rfl
theorem dX1_doubtful_0 : decode cX1_doubtful 0 = .ok (.aload_n 0, 1) := dk_42 (dk_at dksX1_doubtful_0 0 rfl rfl)
theorem dX1_doubtful_1 : decode cX1_doubtful 1 = .ok (.getfield 76, 3) := dk_180 0 76 (dk_at dksX1_doubtful_0 1 rfl rfl)
theorem dX1_doubtful_4 : decode cX1_doubtful 4 = .ok (.ifnonnull 9, 3) := dk_199 0 9 (dk_at dksX1_doubtful_0 4 rfl rfl)
theorem dX1_doubtful_7 : decode cX1_doubtful 7 = .ok (.aload_n 0, 1) := dk_42 (dk_at dksX1_doubtful_0 7 rfl rfl)
theorem dX1_doubtful_8 : decode cX1_doubtful 8 = .ok (.iconst 1, 1) := dk_4 (dk_at dksX1_doubtful_0 8 rfl rfl)
theorem dX1_doubtful_9 : decode cX1_doubtful 9 = .ok (.invokevirtual 43, 3) := dk_182 0 43 (dk_at dksX1_doubtful_0 9 rfl rfl)
theorem dX1_doubtful_12 : decode cX1_doubtful 12 = .ok (.ireturn, 1) := dk_172 (dk_at dksX1_doubtful_0 12 rfl rfl)
theorem dX1_doubtful_13 : decode cX1_doubtful 13 = .ok (.iconst 0, 1) := dk_3 (dk_at dksX1_doubtful_0 13 rfl rfl)
theorem dX1_doubtful_14 : decode cX1_doubtful 14 = .ok (.istore_n 1, 1) := dk_60 (dk_at dksX1_doubtful_0 14 rfl rfl)
theorem dX1_doubtful_15 : decode cX1_doubtful 15 = .ok (.iconst 0, 1) := dk_3 (dk_at dksX1_doubtful_0 15 rfl rfl)
theorem dX1_doubtful_16 : decode cX1_doubtful 16 = .ok (.istore_n 2, 1) := dk_61 (dk_at dksX1_doubtful_0 16 rfl rfl)
theorem dX1_doubtful_17 : decode cX1_doubtful 17 = .ok (.iload_n 2, 1) := dk_28 (dk_at dksX1_doubtful_0 17 rfl rfl)
theorem dX1_doubtful_18 : decode cX1_doubtful 18 = .ok (.aload_n 0, 1) := dk_42 (dk_at dksX1_doubtful_0 18 rfl rfl)
theorem dX1_doubtful_19 : decode cX1_doubtful 19 = .ok (.getfield 59, 3) := dk_180 0 59 (dk_at dksX1_doubtful_0 19 rfl rfl)
theorem dX1_doubtful_22 : decode cX1_doubtful 22 = .ok (.getfield 97, 3) := dk_180 0 97 (dk_at dksX1_doubtful_1 0 rfl rfl)
theorem dX1_doubtful_25 : decode cX1_doubtful 25 = .ok (.if_icmp .ge 23, 3) := dk_162 0 23 (dk_at dksX1_doubtful_1 3 rfl rfl)
theorem dX1_doubtful_28 : decode cX1_doubtful 28 = .ok (.aload_n 0, 1) := dk_42 (dk_at dksX1_doubtful_1 6 rfl rfl)
theorem dX1_doubtful_29 : decode cX1_doubtful 29 = .ok (.getfield 76, 3) := dk_180 0 76 (dk_at dksX1_doubtful_1 7 rfl rfl)
theorem dX1_doubtful_32 : decode cX1_doubtful 32 = .ok (.iload_n 2, 1) := dk_28 (dk_at dksX1_doubtful_1 10 rfl rfl)
theorem dX1_doubtful_33 : decode cX1_doubtful 33 = .ok (.invokevirtual 287, 3) := dk_182 1 31 (dk_at dksX1_doubtful_1 11 rfl rfl)
theorem dX1_doubtful_36 : decode cX1_doubtful 36 = .ok (.ifCond .eq 6, 3) := dk_153 0 6 (dk_at dksX1_doubtful_1 14 rfl rfl)
theorem dX1_doubtful_39 : decode cX1_doubtful 39 = .ok (.iinc 1 1, 3) := dk_132 1 1 (dk_at dksX1_doubtful_1 17 rfl rfl)
theorem dX1_doubtful_42 : decode cX1_doubtful 42 = .ok (.iinc 2 1, 3) := dk_132 2 1 (dk_at dksX1_doubtful_1 20 rfl rfl)
theorem dX1_doubtful_45 : decode cX1_doubtful 45 = .ok (.goto (-28), 3) := dk_167 255 228 (dk_at dksX1_doubtful_2 0 rfl rfl)
theorem dX1_doubtful_48 : decode cX1_doubtful 48 = .ok (.aload_n 0, 1) := dk_42 (dk_at dksX1_doubtful_2 3 rfl rfl)
theorem dX1_doubtful_49 : decode cX1_doubtful 49 = .ok (.iload_n 1, 1) := dk_27 (dk_at dksX1_doubtful_2 4 rfl rfl)
theorem dX1_doubtful_50 : decode cX1_doubtful 50 = .ok (.invokevirtual 94, 3) := dk_182 0 94 (dk_at dksX1_doubtful_2 5 rfl rfl)
theorem dX1_doubtful_53 : decode cX1_doubtful 53 = .ok (.ireturn, 1) := dk_172 (dk_at dksX1_doubtful_2 8 rfl rfl)
abbrev cX1_redo : ByteArray := prog_1_method_40_code
def yX1_redo : MethodName := ⟨RX1, "redo", "()I"⟩
def dkwX1_redo_2 : List UInt8 := [154, 0, 11, 42, 8, 182, 0, 43, 167, 0, 8, 42, 28, 182, 0, 94, 172]
abbrev dktX1_redo_2 : List UInt8 := dkwX1_redo_2 ++ []
def dkwX1_redo_1 : List UInt8 := [167, 0, 4, 3, 60, 27, 158, 0, 9, 42, 27, 182, 0, 43, 172, 42, 180, 0, 76, 182, 1, 34, 61, 28]
abbrev dktX1_redo_1 : List UInt8 := dkwX1_redo_1 ++ dktX1_redo_2
def dkwX1_redo_0 : List UInt8 := [42, 180, 0, 76, 199, 0, 7, 4, 167, 0, 19, 42, 180, 0, 76, 180, 0, 171, 2, 159, 0, 7, 8]
abbrev dktX1_redo_0 : List UInt8 := dkwX1_redo_0 ++ dktX1_redo_1
theorem dksX1_redo_0 : cX1_redo.data.toList.drop 0 = dktX1_redo_0 := by decide +kernel
theorem dksX1_redo_1 : cX1_redo.data.toList.drop 23 = dktX1_redo_1 := dk_seg dksX1_redo_0 23 rfl rfl
theorem dksX1_redo_2 : cX1_redo.data.toList.drop 47 = dktX1_redo_2 := dk_seg dksX1_redo_1 24 rfl rfl
theorem dX1_redo_0 : decode cX1_redo 0 = .ok (.aload_n 0, 1) := dk_42 (dk_at dksX1_redo_0 0 rfl rfl)
theorem dX1_redo_1 : decode cX1_redo 1 = .ok (.getfield 76, 3) := dk_180 0 76 (dk_at dksX1_redo_0 1 rfl rfl)
theorem dX1_redo_4 : decode cX1_redo 4 = .ok (.ifnonnull 7, 3) := dk_199 0 7 (dk_at dksX1_redo_0 4 rfl rfl)
theorem dX1_redo_7 : decode cX1_redo 7 = .ok (.iconst 1, 1) := dk_4 (dk_at dksX1_redo_0 7 rfl rfl)
theorem dX1_redo_8 : decode cX1_redo 8 = .ok (.goto 19, 3) := dk_167 0 19 (dk_at dksX1_redo_0 8 rfl rfl)
theorem dX1_redo_11 : decode cX1_redo 11 = .ok (.aload_n 0, 1) := dk_42 (dk_at dksX1_redo_0 11 rfl rfl)
theorem dX1_redo_12 : decode cX1_redo 12 = .ok (.getfield 76, 3) := dk_180 0 76 (dk_at dksX1_redo_0 12 rfl rfl)
theorem dX1_redo_15 : decode cX1_redo 15 = .ok (.getfield 171, 3) := dk_180 0 171 (dk_at dksX1_redo_0 15 rfl rfl)
theorem dX1_redo_18 : decode cX1_redo 18 = .ok (.iconst (-1), 1) := dk_2 (dk_at dksX1_redo_0 18 rfl rfl)
theorem dX1_redo_19 : decode cX1_redo 19 = .ok (.if_icmp .eq 7, 3) := dk_159 0 7 (dk_at dksX1_redo_0 19 rfl rfl)
theorem dX1_redo_22 : decode cX1_redo 22 = .ok (.iconst 5, 1) := dk_8 (dk_at dksX1_redo_0 22 rfl rfl)
theorem dX1_redo_23 : decode cX1_redo 23 = .ok (.goto 4, 3) := dk_167 0 4 (dk_at dksX1_redo_1 0 rfl rfl)
theorem dX1_redo_26 : decode cX1_redo 26 = .ok (.iconst 0, 1) := dk_3 (dk_at dksX1_redo_1 3 rfl rfl)
theorem dX1_redo_27 : decode cX1_redo 27 = .ok (.istore_n 1, 1) := dk_60 (dk_at dksX1_redo_1 4 rfl rfl)
theorem dX1_redo_28 : decode cX1_redo 28 = .ok (.iload_n 1, 1) := dk_27 (dk_at dksX1_redo_1 5 rfl rfl)
theorem dX1_redo_29 : decode cX1_redo 29 = .ok (.ifCond .le 9, 3) := dk_158 0 9 (dk_at dksX1_redo_1 6 rfl rfl)
theorem dX1_redo_32 : decode cX1_redo 32 = .ok (.aload_n 0, 1) := dk_42 (dk_at dksX1_redo_1 9 rfl rfl)
theorem dX1_redo_33 : decode cX1_redo 33 = .ok (.iload_n 1, 1) := dk_27 (dk_at dksX1_redo_1 10 rfl rfl)
theorem dX1_redo_34 : decode cX1_redo 34 = .ok (.invokevirtual 43, 3) := dk_182 0 43 (dk_at dksX1_redo_1 11 rfl rfl)
theorem dX1_redo_37 : decode cX1_redo 37 = .ok (.ireturn, 1) := dk_172 (dk_at dksX1_redo_1 14 rfl rfl)
theorem dX1_redo_38 : decode cX1_redo 38 = .ok (.aload_n 0, 1) := dk_42 (dk_at dksX1_redo_1 15 rfl rfl)
theorem dX1_redo_39 : decode cX1_redo 39 = .ok (.getfield 76, 3) := dk_180 0 76 (dk_at dksX1_redo_1 16 rfl rfl)
theorem dX1_redo_42 : decode cX1_redo 42 = .ok (.invokevirtual 290, 3) := dk_182 1 34 (dk_at dksX1_redo_1 19 rfl rfl)
theorem dX1_redo_45 : decode cX1_redo 45 = .ok (.istore_n 2, 1) := dk_61 (dk_at dksX1_redo_1 22 rfl rfl)
theorem dX1_redo_46 : decode cX1_redo 46 = .ok (.iload_n 2, 1) := dk_28 (dk_at dksX1_redo_1 23 rfl rfl)
theorem dX1_redo_47 : decode cX1_redo 47 = .ok (.ifCond .ne 11, 3) := dk_154 0 11 (dk_at dksX1_redo_2 0 rfl rfl)
theorem dX1_redo_50 : decode cX1_redo 50 = .ok (.aload_n 0, 1) := dk_42 (dk_at dksX1_redo_2 3 rfl rfl)
theorem dX1_redo_51 : decode cX1_redo 51 = .ok (.iconst 5, 1) := dk_8 (dk_at dksX1_redo_2 4 rfl rfl)
theorem dX1_redo_52 : decode cX1_redo 52 = .ok (.invokevirtual 43, 3) := dk_182 0 43 (dk_at dksX1_redo_2 5 rfl rfl)
theorem dX1_redo_55 : decode cX1_redo 55 = .ok (.goto 8, 3) := dk_167 0 8 (dk_at dksX1_redo_2 8 rfl rfl)
theorem dX1_redo_58 : decode cX1_redo 58 = .ok (.aload_n 0, 1) := dk_42 (dk_at dksX1_redo_2 11 rfl rfl)
theorem dX1_redo_59 : decode cX1_redo 59 = .ok (.iload_n 2, 1) := dk_28 (dk_at dksX1_redo_2 12 rfl rfl)
theorem dX1_redo_60 : decode cX1_redo 60 = .ok (.invokevirtual 94, 3) := dk_182 0 94 (dk_at dksX1_redo_2 13 rfl rfl)
theorem dX1_redo_63 : decode cX1_redo 63 = .ok (.ireturn, 1) := dk_172 (dk_at dksX1_redo_2 16 rfl rfl)
abbrev cX1_told : ByteArray := prog_1_method_41_code
def yX1_told : MethodName := ⟨RX1, "told", "(III)I"⟩
def dkwX1_told_1 : List UInt8 := [167, 0, 8, 42, 4, 182, 0, 43, 172]
abbrev dktX1_told_1 : List UInt8 := dkwX1_told_1 ++ []
def dkwX1_told_0 : List UInt8 := [42, 27, 28, 29, 182, 0, 123, 153, 0, 20, 42, 42, 180, 0, 76, 27, 28, 29, 182, 1, 37, 182, 0, 94]
abbrev dktX1_told_0 : List UInt8 := dkwX1_told_0 ++ dktX1_told_1
theorem dksX1_told_0 : cX1_told.data.toList.drop 0 = dktX1_told_0 := by decide +kernel
theorem dksX1_told_1 : cX1_told.data.toList.drop 24 = dktX1_told_1 := dk_seg dksX1_told_0 24 rfl rfl
theorem dX1_told_0 : decode cX1_told 0 = .ok (.aload_n 0, 1) := dk_42 (dk_at dksX1_told_0 0 rfl rfl)
theorem dX1_told_1 : decode cX1_told 1 = .ok (.iload_n 1, 1) := dk_27 (dk_at dksX1_told_0 1 rfl rfl)
theorem dX1_told_2 : decode cX1_told 2 = .ok (.iload_n 2, 1) := dk_28 (dk_at dksX1_told_0 2 rfl rfl)
theorem dX1_told_3 : decode cX1_told 3 = .ok (.iload_n 3, 1) := dk_29 (dk_at dksX1_told_0 3 rfl rfl)
theorem dX1_told_4 : decode cX1_told 4 = .ok (.invokevirtual 123, 3) := dk_182 0 123 (dk_at dksX1_told_0 4 rfl rfl)
theorem dX1_told_7 : decode cX1_told 7 = .ok (.ifCond .eq 20, 3) := dk_153 0 20 (dk_at dksX1_told_0 7 rfl rfl)
theorem dX1_told_10 : decode cX1_told 10 = .ok (.aload_n 0, 1) := dk_42 (dk_at dksX1_told_0 10 rfl rfl)
theorem dX1_told_11 : decode cX1_told 11 = .ok (.aload_n 0, 1) := dk_42 (dk_at dksX1_told_0 11 rfl rfl)
theorem dX1_told_12 : decode cX1_told 12 = .ok (.getfield 76, 3) := dk_180 0 76 (dk_at dksX1_told_0 12 rfl rfl)
theorem dX1_told_15 : decode cX1_told 15 = .ok (.iload_n 1, 1) := dk_27 (dk_at dksX1_told_0 15 rfl rfl)
theorem dX1_told_16 : decode cX1_told 16 = .ok (.iload_n 2, 1) := dk_28 (dk_at dksX1_told_0 16 rfl rfl)
theorem dX1_told_17 : decode cX1_told 17 = .ok (.iload_n 3, 1) := dk_29 (dk_at dksX1_told_0 17 rfl rfl)
theorem dX1_told_18 : decode cX1_told 18 = .ok (.invokevirtual 293, 3) := dk_182 1 37 (dk_at dksX1_told_0 18 rfl rfl)
theorem dX1_told_21 : decode cX1_told 21 = .ok (.invokevirtual 94, 3) := dk_182 0 94 (dk_at dksX1_told_0 21 rfl rfl)
theorem dX1_told_24 : decode cX1_told 24 = .ok (.goto 8, 3) := dk_167 0 8 (dk_at dksX1_told_1 0 rfl rfl)
theorem dX1_told_27 : decode cX1_told 27 = .ok (.aload_n 0, 1) := dk_42 (dk_at dksX1_told_1 3 rfl rfl)
theorem dX1_told_28 : decode cX1_told 28 = .ok (.iconst 1, 1) := dk_4 (dk_at dksX1_told_1 4 rfl rfl)
theorem dX1_told_29 : decode cX1_told 29 = .ok (.invokevirtual 43, 3) := dk_182 0 43 (dk_at dksX1_told_1 5 rfl rfl)
theorem dX1_told_32 : decode cX1_told 32 = .ok (.ireturn, 1) := dk_172 (dk_at dksX1_told_1 8 rfl rfl)
abbrev cX1_needs : ByteArray := prog_1_method_42_code
def yX1_needs : MethodName := ⟨RX1, "needs", "(III)I"⟩
def dkwX1_needs_2 : List UInt8 := [153, 0, 7, 4, 167, 0, 4, 3, 182, 0, 94, 172]
abbrev dktX1_needs_2 : List UInt8 := dkwX1_needs_2 ++ []
def dkwX1_needs_1 : List UInt8 := [182, 1, 39, 154, 0, 10, 42, 16, 254, 182, 0, 94, 172, 42, 42, 180, 0, 76, 27, 28, 29, 182, 1, 43]
abbrev dktX1_needs_1 : List UInt8 := dkwX1_needs_1 ++ dktX1_needs_2
def dkwX1_needs_0 : List UInt8 := [42, 27, 28, 29, 182, 0, 123, 154, 0, 9, 42, 4, 182, 0, 43, 172, 42, 180, 0, 76, 29, 3]
abbrev dktX1_needs_0 : List UInt8 := dkwX1_needs_0 ++ dktX1_needs_1
theorem dksX1_needs_0 : cX1_needs.data.toList.drop 0 = dktX1_needs_0 := by decide +kernel
theorem dksX1_needs_1 : cX1_needs.data.toList.drop 22 = dktX1_needs_1 := dk_seg dksX1_needs_0 22 rfl rfl
theorem dksX1_needs_2 : cX1_needs.data.toList.drop 46 = dktX1_needs_2 := dk_seg dksX1_needs_1 24 rfl rfl
theorem dX1_needs_0 : decode cX1_needs 0 = .ok (.aload_n 0, 1) := dk_42 (dk_at dksX1_needs_0 0 rfl rfl)
theorem dX1_needs_1 : decode cX1_needs 1 = .ok (.iload_n 1, 1) := dk_27 (dk_at dksX1_needs_0 1 rfl rfl)
theorem dX1_needs_2 : decode cX1_needs 2 = .ok (.iload_n 2, 1) := dk_28 (dk_at dksX1_needs_0 2 rfl rfl)
theorem dX1_needs_3 : decode cX1_needs 3 = .ok (.iload_n 3, 1) := dk_29 (dk_at dksX1_needs_0 3 rfl rfl)
theorem dX1_needs_4 : decode cX1_needs 4 = .ok (.invokevirtual 123, 3) := dk_182 0 123 (dk_at dksX1_needs_0 4 rfl rfl)
theorem dX1_needs_7 : decode cX1_needs 7 = .ok (.ifCond .ne 9, 3) := dk_154 0 9 (dk_at dksX1_needs_0 7 rfl rfl)
theorem dX1_needs_10 : decode cX1_needs 10 = .ok (.aload_n 0, 1) := dk_42 (dk_at dksX1_needs_0 10 rfl rfl)
theorem dX1_needs_11 : decode cX1_needs 11 = .ok (.iconst 1, 1) := dk_4 (dk_at dksX1_needs_0 11 rfl rfl)
theorem dX1_needs_12 : decode cX1_needs 12 = .ok (.invokevirtual 43, 3) := dk_182 0 43 (dk_at dksX1_needs_0 12 rfl rfl)
theorem dX1_needs_15 : decode cX1_needs 15 = .ok (.ireturn, 1) := dk_172 (dk_at dksX1_needs_0 15 rfl rfl)
theorem dX1_needs_16 : decode cX1_needs 16 = .ok (.aload_n 0, 1) := dk_42 (dk_at dksX1_needs_0 16 rfl rfl)
theorem dX1_needs_17 : decode cX1_needs 17 = .ok (.getfield 76, 3) := dk_180 0 76 (dk_at dksX1_needs_0 17 rfl rfl)
theorem dX1_needs_20 : decode cX1_needs 20 = .ok (.iload_n 3, 1) := dk_29 (dk_at dksX1_needs_0 20 rfl rfl)
theorem dX1_needs_21 : decode cX1_needs 21 = .ok (.iconst 0, 1) := dk_3 (dk_at dksX1_needs_0 21 rfl rfl)
theorem dX1_needs_22 : decode cX1_needs 22 = .ok (.invokevirtual 295, 3) := dk_182 1 39 (dk_at dksX1_needs_1 0 rfl rfl)
theorem dX1_needs_25 : decode cX1_needs 25 = .ok (.ifCond .ne 10, 3) := dk_154 0 10 (dk_at dksX1_needs_1 3 rfl rfl)
theorem dX1_needs_28 : decode cX1_needs 28 = .ok (.aload_n 0, 1) := dk_42 (dk_at dksX1_needs_1 6 rfl rfl)
theorem dX1_needs_29 : decode cX1_needs 29 = .ok (.bipush (-2), 2) := dk_16 254 (dk_at dksX1_needs_1 7 rfl rfl)
theorem dX1_needs_31 : decode cX1_needs 31 = .ok (.invokevirtual 94, 3) := dk_182 0 94 (dk_at dksX1_needs_1 9 rfl rfl)
theorem dX1_needs_34 : decode cX1_needs 34 = .ok (.ireturn, 1) := dk_172 (dk_at dksX1_needs_1 12 rfl rfl)
theorem dX1_needs_35 : decode cX1_needs 35 = .ok (.aload_n 0, 1) := dk_42 (dk_at dksX1_needs_1 13 rfl rfl)
theorem dX1_needs_36 : decode cX1_needs 36 = .ok (.aload_n 0, 1) := dk_42 (dk_at dksX1_needs_1 14 rfl rfl)
theorem dX1_needs_37 : decode cX1_needs 37 = .ok (.getfield 76, 3) := dk_180 0 76 (dk_at dksX1_needs_1 15 rfl rfl)
theorem dX1_needs_40 : decode cX1_needs 40 = .ok (.iload_n 1, 1) := dk_27 (dk_at dksX1_needs_1 18 rfl rfl)
theorem dX1_needs_41 : decode cX1_needs 41 = .ok (.iload_n 2, 1) := dk_28 (dk_at dksX1_needs_1 19 rfl rfl)
theorem dX1_needs_42 : decode cX1_needs 42 = .ok (.iload_n 3, 1) := dk_29 (dk_at dksX1_needs_1 20 rfl rfl)
theorem dX1_needs_43 : decode cX1_needs 43 = .ok (.invokevirtual 299, 3) := dk_182 1 43 (dk_at dksX1_needs_1 21 rfl rfl)
theorem dX1_needs_46 : decode cX1_needs 46 = .ok (.ifCond .eq 7, 3) := dk_153 0 7 (dk_at dksX1_needs_2 0 rfl rfl)
theorem dX1_needs_49 : decode cX1_needs 49 = .ok (.iconst 1, 1) := dk_4 (dk_at dksX1_needs_2 3 rfl rfl)
theorem dX1_needs_50 : decode cX1_needs 50 = .ok (.goto 4, 3) := dk_167 0 4 (dk_at dksX1_needs_2 4 rfl rfl)
theorem dX1_needs_53 : decode cX1_needs 53 = .ok (.iconst 0, 1) := dk_3 (dk_at dksX1_needs_2 7 rfl rfl)
theorem dX1_needs_54 : decode cX1_needs 54 = .ok (.invokevirtual 94, 3) := dk_182 0 94 (dk_at dksX1_needs_2 8 rfl rfl)
theorem dX1_needs_57 : decode cX1_needs 57 = .ok (.ireturn, 1) := dk_172 (dk_at dksX1_needs_2 11 rfl rfl)
abbrev cX1_noise : ByteArray := prog_1_method_43_code
def yX1_noise : MethodName := ⟨RX1, "noise", "(III)I"⟩
def dkwX1_noise_4 : List UInt8 := [182, 1, 53, 182, 0, 94, 172]
abbrev dktX1_noise_4 : List UInt8 := dkwX1_noise_4 ++ []
def dkwX1_noise_3 : List UInt8 := [42, 29, 154, 0, 15, 42, 180, 0, 76, 27, 28, 182, 1, 50, 167, 0, 12, 42, 180, 0, 76, 27, 28]
abbrev dktX1_noise_3 : List UInt8 := dkwX1_noise_3 ++ dktX1_noise_4
def dkwX1_noise_2 : List UInt8 := [4, 27, 28, 182, 1, 46, 58, 4, 25, 4, 180, 1, 3, 5, 159, 0, 10, 42, 16, 254, 182, 0, 94, 172]
abbrev dktX1_noise_2 : List UInt8 := dkwX1_noise_2 ++ dktX1_noise_3
def dkwX1_noise_1 : List UInt8 := [172, 29, 154, 0, 18, 42, 180, 0, 76, 3, 4, 27, 100, 28, 182, 1, 46, 167, 0, 13, 42, 180, 0, 76]
abbrev dktX1_noise_1 : List UInt8 := dkwX1_noise_1 ++ dktX1_noise_2
def dkwX1_noise_0 : List UInt8 := [42, 3, 27, 28, 182, 0, 123, 153, 0, 12, 29, 3, 4, 184, 0, 39, 154, 0, 9, 42, 4, 182, 0, 43]
abbrev dktX1_noise_0 : List UInt8 := dkwX1_noise_0 ++ dktX1_noise_1
theorem dksX1_noise_0 : cX1_noise.data.toList.drop 0 = dktX1_noise_0 := by decide +kernel
theorem dksX1_noise_1 : cX1_noise.data.toList.drop 24 = dktX1_noise_1 := dk_seg dksX1_noise_0 24 rfl rfl
theorem dksX1_noise_2 : cX1_noise.data.toList.drop 48 = dktX1_noise_2 := dk_seg dksX1_noise_1 24 rfl rfl
theorem dksX1_noise_3 : cX1_noise.data.toList.drop 72 = dktX1_noise_3 := dk_seg dksX1_noise_2 24 rfl rfl
theorem dksX1_noise_4 : cX1_noise.data.toList.drop 95 = dktX1_noise_4 := dk_seg dksX1_noise_3 23 rfl rfl
theorem dX1_noise_0 : decode cX1_noise 0 = .ok (.aload_n 0, 1) := dk_42 (dk_at dksX1_noise_0 0 rfl rfl)
theorem dX1_noise_1 : decode cX1_noise 1 = .ok (.iconst 0, 1) := dk_3 (dk_at dksX1_noise_0 1 rfl rfl)
theorem dX1_noise_2 : decode cX1_noise 2 = .ok (.iload_n 1, 1) := dk_27 (dk_at dksX1_noise_0 2 rfl rfl)
theorem dX1_noise_3 : decode cX1_noise 3 = .ok (.iload_n 2, 1) := dk_28 (dk_at dksX1_noise_0 3 rfl rfl)
theorem dX1_noise_4 : decode cX1_noise 4 = .ok (.invokevirtual 123, 3) := dk_182 0 123 (dk_at dksX1_noise_0 4 rfl rfl)
theorem dX1_noise_7 : decode cX1_noise 7 = .ok (.ifCond .eq 12, 3) := dk_153 0 12 (dk_at dksX1_noise_0 7 rfl rfl)
theorem dX1_noise_10 : decode cX1_noise 10 = .ok (.iload_n 3, 1) := dk_29 (dk_at dksX1_noise_0 10 rfl rfl)
theorem dX1_noise_11 : decode cX1_noise 11 = .ok (.iconst 0, 1) := dk_3 (dk_at dksX1_noise_0 11 rfl rfl)
theorem dX1_noise_12 : decode cX1_noise 12 = .ok (.iconst 1, 1) := dk_4 (dk_at dksX1_noise_0 12 rfl rfl)
theorem dX1_noise_13 : decode cX1_noise 13 = .ok (.invokestatic 39, 3) := dk_184 0 39 (dk_at dksX1_noise_0 13 rfl rfl)
theorem dX1_noise_16 : decode cX1_noise 16 = .ok (.ifCond .ne 9, 3) := dk_154 0 9 (dk_at dksX1_noise_0 16 rfl rfl)
theorem dX1_noise_19 : decode cX1_noise 19 = .ok (.aload_n 0, 1) := dk_42 (dk_at dksX1_noise_0 19 rfl rfl)
theorem dX1_noise_20 : decode cX1_noise 20 = .ok (.iconst 1, 1) := dk_4 (dk_at dksX1_noise_0 20 rfl rfl)
theorem dX1_noise_21 : decode cX1_noise 21 = .ok (.invokevirtual 43, 3) := dk_182 0 43 (dk_at dksX1_noise_0 21 rfl rfl)
theorem dX1_noise_24 : decode cX1_noise 24 = .ok (.ireturn, 1) := dk_172 (dk_at dksX1_noise_1 0 rfl rfl)
theorem dX1_noise_25 : decode cX1_noise 25 = .ok (.iload_n 3, 1) := dk_29 (dk_at dksX1_noise_1 1 rfl rfl)
theorem dX1_noise_26 : decode cX1_noise 26 = .ok (.ifCond .ne 18, 3) := dk_154 0 18 (dk_at dksX1_noise_1 2 rfl rfl)
theorem dX1_noise_29 : decode cX1_noise 29 = .ok (.aload_n 0, 1) := dk_42 (dk_at dksX1_noise_1 5 rfl rfl)
theorem dX1_noise_30 : decode cX1_noise 30 = .ok (.getfield 76, 3) := dk_180 0 76 (dk_at dksX1_noise_1 6 rfl rfl)
theorem dX1_noise_33 : decode cX1_noise 33 = .ok (.iconst 0, 1) := dk_3 (dk_at dksX1_noise_1 9 rfl rfl)
theorem dX1_noise_34 : decode cX1_noise 34 = .ok (.iconst 1, 1) := dk_4 (dk_at dksX1_noise_1 10 rfl rfl)
theorem dX1_noise_35 : decode cX1_noise 35 = .ok (.iload_n 1, 1) := dk_27 (dk_at dksX1_noise_1 11 rfl rfl)
theorem dX1_noise_36 : decode cX1_noise 36 = .ok (.isub, 1) := dk_100 (dk_at dksX1_noise_1 12 rfl rfl)
theorem dX1_noise_37 : decode cX1_noise 37 = .ok (.iload_n 2, 1) := dk_28 (dk_at dksX1_noise_1 13 rfl rfl)
theorem dX1_noise_38 : decode cX1_noise 38 = .ok (.invokevirtual 302, 3) := dk_182 1 46 (dk_at dksX1_noise_1 14 rfl rfl)
theorem dX1_noise_41 : decode cX1_noise 41 = .ok (.goto 13, 3) := dk_167 0 13 (dk_at dksX1_noise_1 17 rfl rfl)
theorem dX1_noise_44 : decode cX1_noise 44 = .ok (.aload_n 0, 1) := dk_42 (dk_at dksX1_noise_1 20 rfl rfl)
theorem dX1_noise_45 : decode cX1_noise 45 = .ok (.getfield 76, 3) := dk_180 0 76 (dk_at dksX1_noise_1 21 rfl rfl)
theorem dX1_noise_48 : decode cX1_noise 48 = .ok (.iconst 1, 1) := dk_4 (dk_at dksX1_noise_2 0 rfl rfl)
theorem dX1_noise_49 : decode cX1_noise 49 = .ok (.iload_n 1, 1) := dk_27 (dk_at dksX1_noise_2 1 rfl rfl)
theorem dX1_noise_50 : decode cX1_noise 50 = .ok (.iload_n 2, 1) := dk_28 (dk_at dksX1_noise_2 2 rfl rfl)
theorem dX1_noise_51 : decode cX1_noise 51 = .ok (.invokevirtual 302, 3) := dk_182 1 46 (dk_at dksX1_noise_2 3 rfl rfl)
theorem dX1_noise_54 : decode cX1_noise 54 = .ok (.astore 4, 2) := dk_58 4 (dk_at dksX1_noise_2 6 rfl rfl)
theorem dX1_noise_56 : decode cX1_noise 56 = .ok (.aload 4, 2) := dk_25 4 (dk_at dksX1_noise_2 8 rfl rfl)
theorem dX1_noise_58 : decode cX1_noise 58 = .ok (.getfield 259, 3) := dk_180 1 3 (dk_at dksX1_noise_2 10 rfl rfl)
theorem dX1_noise_61 : decode cX1_noise 61 = .ok (.iconst 2, 1) := dk_5 (dk_at dksX1_noise_2 13 rfl rfl)
theorem dX1_noise_62 : decode cX1_noise 62 = .ok (.if_icmp .eq 10, 3) := dk_159 0 10 (dk_at dksX1_noise_2 14 rfl rfl)
theorem dX1_noise_65 : decode cX1_noise 65 = .ok (.aload_n 0, 1) := dk_42 (dk_at dksX1_noise_2 17 rfl rfl)
theorem dX1_noise_66 : decode cX1_noise 66 = .ok (.bipush (-2), 2) := dk_16 254 (dk_at dksX1_noise_2 18 rfl rfl)
theorem dX1_noise_68 : decode cX1_noise 68 = .ok (.invokevirtual 94, 3) := dk_182 0 94 (dk_at dksX1_noise_2 20 rfl rfl)
theorem dX1_noise_71 : decode cX1_noise 71 = .ok (.ireturn, 1) := dk_172 (dk_at dksX1_noise_2 23 rfl rfl)
theorem dX1_noise_72 : decode cX1_noise 72 = .ok (.aload_n 0, 1) := dk_42 (dk_at dksX1_noise_3 0 rfl rfl)
theorem dX1_noise_73 : decode cX1_noise 73 = .ok (.iload_n 3, 1) := dk_29 (dk_at dksX1_noise_3 1 rfl rfl)
theorem dX1_noise_74 : decode cX1_noise 74 = .ok (.ifCond .ne 15, 3) := dk_154 0 15 (dk_at dksX1_noise_3 2 rfl rfl)
theorem dX1_noise_77 : decode cX1_noise 77 = .ok (.aload_n 0, 1) := dk_42 (dk_at dksX1_noise_3 5 rfl rfl)
theorem dX1_noise_78 : decode cX1_noise 78 = .ok (.getfield 76, 3) := dk_180 0 76 (dk_at dksX1_noise_3 6 rfl rfl)
theorem dX1_noise_81 : decode cX1_noise 81 = .ok (.iload_n 1, 1) := dk_27 (dk_at dksX1_noise_3 9 rfl rfl)
theorem dX1_noise_82 : decode cX1_noise 82 = .ok (.iload_n 2, 1) := dk_28 (dk_at dksX1_noise_3 10 rfl rfl)
theorem dX1_noise_83 : decode cX1_noise 83 = .ok (.invokevirtual 306, 3) := dk_182 1 50 (dk_at dksX1_noise_3 11 rfl rfl)
theorem dX1_noise_86 : decode cX1_noise 86 = .ok (.goto 12, 3) := dk_167 0 12 (dk_at dksX1_noise_3 14 rfl rfl)
theorem dX1_noise_89 : decode cX1_noise 89 = .ok (.aload_n 0, 1) := dk_42 (dk_at dksX1_noise_3 17 rfl rfl)
theorem dX1_noise_90 : decode cX1_noise 90 = .ok (.getfield 76, 3) := dk_180 0 76 (dk_at dksX1_noise_3 18 rfl rfl)
theorem dX1_noise_93 : decode cX1_noise 93 = .ok (.iload_n 1, 1) := dk_27 (dk_at dksX1_noise_3 21 rfl rfl)
theorem dX1_noise_94 : decode cX1_noise 94 = .ok (.iload_n 2, 1) := dk_28 (dk_at dksX1_noise_3 22 rfl rfl)
theorem dX1_noise_95 : decode cX1_noise 95 = .ok (.invokevirtual 309, 3) := dk_182 1 53 (dk_at dksX1_noise_4 0 rfl rfl)
theorem dX1_noise_98 : decode cX1_noise 98 = .ok (.invokevirtual 94, 3) := dk_182 0 94 (dk_at dksX1_noise_4 3 rfl rfl)
theorem dX1_noise_101 : decode cX1_noise 101 = .ok (.ireturn, 1) := dk_172 (dk_at dksX1_noise_4 6 rfl rfl)
abbrev cX1_apart : ByteArray := prog_1_method_45_code
def yX1_apart : MethodName := ⟨RX1, "apart", "(II)I"⟩
def dkwX1_apart_2 : List UInt8 := [42, 21, 5, 156, 0, 8, 21, 5, 167, 0, 10, 16, 100, 29, 96, 21, 4, 100, 182, 0, 94, 172]
abbrev dktX1_apart_2 : List UInt8 := dkwX1_apart_2 ++ []
def dkwX1_apart_1 : List UInt8 := [182, 1, 37, 62, 42, 180, 0, 76, 4, 27, 28, 182, 1, 37, 54, 4, 29, 21, 4, 184, 1, 56, 54, 5]
abbrev dktX1_apart_1 : List UInt8 := dkwX1_apart_1 ++ dktX1_apart_2
def dkwX1_apart_0 : List UInt8 := [42, 3, 27, 28, 182, 0, 123, 154, 0, 9, 42, 4, 182, 0, 43, 172, 42, 180, 0, 76, 3, 27, 28]
abbrev dktX1_apart_0 : List UInt8 := dkwX1_apart_0 ++ dktX1_apart_1
theorem dksX1_apart_0 : cX1_apart.data.toList.drop 0 = dktX1_apart_0 := by decide +kernel
theorem dksX1_apart_1 : cX1_apart.data.toList.drop 23 = dktX1_apart_1 := dk_seg dksX1_apart_0 23 rfl rfl
theorem dksX1_apart_2 : cX1_apart.data.toList.drop 47 = dktX1_apart_2 := dk_seg dksX1_apart_1 24 rfl rfl
theorem dX1_apart_0 : decode cX1_apart 0 = .ok (.aload_n 0, 1) := dk_42 (dk_at dksX1_apart_0 0 rfl rfl)
theorem dX1_apart_1 : decode cX1_apart 1 = .ok (.iconst 0, 1) := dk_3 (dk_at dksX1_apart_0 1 rfl rfl)
theorem dX1_apart_2 : decode cX1_apart 2 = .ok (.iload_n 1, 1) := dk_27 (dk_at dksX1_apart_0 2 rfl rfl)
theorem dX1_apart_3 : decode cX1_apart 3 = .ok (.iload_n 2, 1) := dk_28 (dk_at dksX1_apart_0 3 rfl rfl)
theorem dX1_apart_4 : decode cX1_apart 4 = .ok (.invokevirtual 123, 3) := dk_182 0 123 (dk_at dksX1_apart_0 4 rfl rfl)
theorem dX1_apart_7 : decode cX1_apart 7 = .ok (.ifCond .ne 9, 3) := dk_154 0 9 (dk_at dksX1_apart_0 7 rfl rfl)
theorem dX1_apart_10 : decode cX1_apart 10 = .ok (.aload_n 0, 1) := dk_42 (dk_at dksX1_apart_0 10 rfl rfl)
theorem dX1_apart_11 : decode cX1_apart 11 = .ok (.iconst 1, 1) := dk_4 (dk_at dksX1_apart_0 11 rfl rfl)
theorem dX1_apart_12 : decode cX1_apart 12 = .ok (.invokevirtual 43, 3) := dk_182 0 43 (dk_at dksX1_apart_0 12 rfl rfl)
theorem dX1_apart_15 : decode cX1_apart 15 = .ok (.ireturn, 1) := dk_172 (dk_at dksX1_apart_0 15 rfl rfl)
theorem dX1_apart_16 : decode cX1_apart 16 = .ok (.aload_n 0, 1) := dk_42 (dk_at dksX1_apart_0 16 rfl rfl)
theorem dX1_apart_17 : decode cX1_apart 17 = .ok (.getfield 76, 3) := dk_180 0 76 (dk_at dksX1_apart_0 17 rfl rfl)
theorem dX1_apart_20 : decode cX1_apart 20 = .ok (.iconst 0, 1) := dk_3 (dk_at dksX1_apart_0 20 rfl rfl)
theorem dX1_apart_21 : decode cX1_apart 21 = .ok (.iload_n 1, 1) := dk_27 (dk_at dksX1_apart_0 21 rfl rfl)
theorem dX1_apart_22 : decode cX1_apart 22 = .ok (.iload_n 2, 1) := dk_28 (dk_at dksX1_apart_0 22 rfl rfl)
theorem dX1_apart_23 : decode cX1_apart 23 = .ok (.invokevirtual 293, 3) := dk_182 1 37 (dk_at dksX1_apart_1 0 rfl rfl)
theorem dX1_apart_26 : decode cX1_apart 26 = .ok (.istore_n 3, 1) := dk_62 (dk_at dksX1_apart_1 3 rfl rfl)
theorem dX1_apart_27 : decode cX1_apart 27 = .ok (.aload_n 0, 1) := dk_42 (dk_at dksX1_apart_1 4 rfl rfl)
theorem dX1_apart_28 : decode cX1_apart 28 = .ok (.getfield 76, 3) := dk_180 0 76 (dk_at dksX1_apart_1 5 rfl rfl)
theorem dX1_apart_31 : decode cX1_apart 31 = .ok (.iconst 1, 1) := dk_4 (dk_at dksX1_apart_1 8 rfl rfl)
theorem dX1_apart_32 : decode cX1_apart 32 = .ok (.iload_n 1, 1) := dk_27 (dk_at dksX1_apart_1 9 rfl rfl)
theorem dX1_apart_33 : decode cX1_apart 33 = .ok (.iload_n 2, 1) := dk_28 (dk_at dksX1_apart_1 10 rfl rfl)
theorem dX1_apart_34 : decode cX1_apart 34 = .ok (.invokevirtual 293, 3) := dk_182 1 37 (dk_at dksX1_apart_1 11 rfl rfl)
theorem dX1_apart_37 : decode cX1_apart 37 = .ok (.istore 4, 2) := dk_54 4 (dk_at dksX1_apart_1 14 rfl rfl)
theorem dX1_apart_39 : decode cX1_apart 39 = .ok (.iload_n 3, 1) := dk_29 (dk_at dksX1_apart_1 16 rfl rfl)
theorem dX1_apart_40 : decode cX1_apart 40 = .ok (.iload 4, 2) := dk_21 4 (dk_at dksX1_apart_1 17 rfl rfl)
theorem dX1_apart_42 : decode cX1_apart 42 = .ok (.invokestatic 312, 3) := dk_184 1 56 (dk_at dksX1_apart_1 19 rfl rfl)
theorem dX1_apart_45 : decode cX1_apart 45 = .ok (.istore 5, 2) := dk_54 5 (dk_at dksX1_apart_1 22 rfl rfl)
theorem dX1_apart_47 : decode cX1_apart 47 = .ok (.aload_n 0, 1) := dk_42 (dk_at dksX1_apart_2 0 rfl rfl)
theorem dX1_apart_48 : decode cX1_apart 48 = .ok (.iload 5, 2) := dk_21 5 (dk_at dksX1_apart_2 1 rfl rfl)
theorem dX1_apart_50 : decode cX1_apart 50 = .ok (.ifCond .ge 8, 3) := dk_156 0 8 (dk_at dksX1_apart_2 3 rfl rfl)
theorem dX1_apart_53 : decode cX1_apart 53 = .ok (.iload 5, 2) := dk_21 5 (dk_at dksX1_apart_2 6 rfl rfl)
theorem dX1_apart_55 : decode cX1_apart 55 = .ok (.goto 10, 3) := dk_167 0 10 (dk_at dksX1_apart_2 8 rfl rfl)
theorem dX1_apart_58 : decode cX1_apart 58 = .ok (.bipush 100, 2) := dk_16 100 (dk_at dksX1_apart_2 11 rfl rfl)
theorem dX1_apart_60 : decode cX1_apart 60 = .ok (.iload_n 3, 1) := dk_29 (dk_at dksX1_apart_2 13 rfl rfl)
theorem dX1_apart_61 : decode cX1_apart 61 = .ok (.iadd, 1) := dk_96 (dk_at dksX1_apart_2 14 rfl rfl)
theorem dX1_apart_62 : decode cX1_apart 62 = .ok (.iload 4, 2) := dk_21 4 (dk_at dksX1_apart_2 15 rfl rfl)
theorem dX1_apart_64 : decode cX1_apart 64 = .ok (.isub, 1) := dk_100 (dk_at dksX1_apart_2 17 rfl rfl)
theorem dX1_apart_65 : decode cX1_apart 65 = .ok (.invokevirtual 94, 3) := dk_182 0 94 (dk_at dksX1_apart_2 18 rfl rfl)
theorem dX1_apart_68 : decode cX1_apart 68 = .ok (.ireturn, 1) := dk_172 (dk_at dksX1_apart_2 21 rfl rfl)
abbrev cX1_lacks : ByteArray := prog_1_method_44_code
def yX1_lacks : MethodName := ⟨RX1, "lacks", "(II)I"⟩
def dkwX1_lacks_1 : List UInt8 := [160, 0, 8, 16, 253, 167, 0, 4, 3, 172]
abbrev dktX1_lacks_1 : List UInt8 := dkwX1_lacks_1 ++ []
def dkwX1_lacks_0 : List UInt8 := [26, 16, 254, 159, 0, 9, 27, 16, 254, 160, 0, 6, 16, 254, 172, 26, 16, 253, 159, 0, 9, 27, 16, 253]
abbrev dktX1_lacks_0 : List UInt8 := dkwX1_lacks_0 ++ dktX1_lacks_1
theorem dksX1_lacks_0 : cX1_lacks.data.toList.drop 0 = dktX1_lacks_0 := by decide +kernel
theorem dksX1_lacks_1 : cX1_lacks.data.toList.drop 24 = dktX1_lacks_1 := dk_seg dksX1_lacks_0 24 rfl rfl
theorem dX1_lacks_0 : decode cX1_lacks 0 = .ok (.iload_n 0, 1) := dk_26 (dk_at dksX1_lacks_0 0 rfl rfl)
theorem dX1_lacks_1 : decode cX1_lacks 1 = .ok (.bipush (-2), 2) := dk_16 254 (dk_at dksX1_lacks_0 1 rfl rfl)
theorem dX1_lacks_3 : decode cX1_lacks 3 = .ok (.if_icmp .eq 9, 3) := dk_159 0 9 (dk_at dksX1_lacks_0 3 rfl rfl)
theorem dX1_lacks_6 : decode cX1_lacks 6 = .ok (.iload_n 1, 1) := dk_27 (dk_at dksX1_lacks_0 6 rfl rfl)
theorem dX1_lacks_7 : decode cX1_lacks 7 = .ok (.bipush (-2), 2) := dk_16 254 (dk_at dksX1_lacks_0 7 rfl rfl)
theorem dX1_lacks_9 : decode cX1_lacks 9 = .ok (.if_icmp .ne 6, 3) := dk_160 0 6 (dk_at dksX1_lacks_0 9 rfl rfl)
theorem dX1_lacks_12 : decode cX1_lacks 12 = .ok (.bipush (-2), 2) := dk_16 254 (dk_at dksX1_lacks_0 12 rfl rfl)
theorem dX1_lacks_14 : decode cX1_lacks 14 = .ok (.ireturn, 1) := dk_172 (dk_at dksX1_lacks_0 14 rfl rfl)
theorem dX1_lacks_15 : decode cX1_lacks 15 = .ok (.iload_n 0, 1) := dk_26 (dk_at dksX1_lacks_0 15 rfl rfl)
theorem dX1_lacks_16 : decode cX1_lacks 16 = .ok (.bipush (-3), 2) := dk_16 253 (dk_at dksX1_lacks_0 16 rfl rfl)
theorem dX1_lacks_18 : decode cX1_lacks 18 = .ok (.if_icmp .eq 9, 3) := dk_159 0 9 (dk_at dksX1_lacks_0 18 rfl rfl)
theorem dX1_lacks_21 : decode cX1_lacks 21 = .ok (.iload_n 1, 1) := dk_27 (dk_at dksX1_lacks_0 21 rfl rfl)
theorem dX1_lacks_22 : decode cX1_lacks 22 = .ok (.bipush (-3), 2) := dk_16 253 (dk_at dksX1_lacks_0 22 rfl rfl)
theorem dX1_lacks_24 : decode cX1_lacks 24 = .ok (.if_icmp .ne 8, 3) := dk_160 0 8 (dk_at dksX1_lacks_1 0 rfl rfl)
theorem dX1_lacks_27 : decode cX1_lacks 27 = .ok (.bipush (-3), 2) := dk_16 253 (dk_at dksX1_lacks_1 3 rfl rfl)
theorem dX1_lacks_29 : decode cX1_lacks 29 = .ok (.goto 4, 3) := dk_167 0 4 (dk_at dksX1_lacks_1 5 rfl rfl)
theorem dX1_lacks_32 : decode cX1_lacks 32 = .ok (.iconst 0, 1) := dk_3 (dk_at dksX1_lacks_1 8 rfl rfl)
theorem dX1_lacks_33 : decode cX1_lacks 33 = .ok (.ireturn, 1) := dk_172 (dk_at dksX1_lacks_1 9 rfl rfl)
abbrev cX1_loss : ByteArray := prog_1_method_46_code
def yX1_loss : MethodName := ⟨RX1, "loss", "(II)I"⟩
def dkwX1_loss_4 : List UInt8 := [163, 0, 7, 4, 167, 0, 4, 6, 182, 0, 94, 172]
abbrev dktX1_loss_4 : List UInt8 := dkwX1_loss_4 ++ []
def dkwX1_loss_3 : List UInt8 := [21, 4, 100, 42, 180, 0, 59, 180, 0, 105, 162, 0, 9, 42, 5, 182, 0, 94, 172, 42, 21, 4, 8]
abbrev dktX1_loss_3 : List UInt8 := dkwX1_loss_3 ++ dktX1_loss_4
def dkwX1_loss_2 : List UInt8 := [21, 5, 156, 0, 10, 42, 21, 5, 182, 0, 94, 172, 29, 8, 163, 0, 9, 42, 3, 182, 0, 94, 172, 29]
abbrev dktX1_loss_2 : List UInt8 := dkwX1_loss_2 ++ dktX1_loss_3
def dkwX1_loss_1 : List UInt8 := [182, 1, 37, 62, 42, 180, 0, 76, 4, 27, 28, 182, 1, 37, 54, 4, 29, 21, 4, 184, 1, 56, 54, 5]
abbrev dktX1_loss_1 : List UInt8 := dkwX1_loss_1 ++ dktX1_loss_2
def dkwX1_loss_0 : List UInt8 := [42, 3, 27, 28, 182, 0, 123, 154, 0, 9, 42, 4, 182, 0, 43, 172, 42, 180, 0, 76, 3, 27, 28]
abbrev dktX1_loss_0 : List UInt8 := dkwX1_loss_0 ++ dktX1_loss_1
theorem dksX1_loss_0 : cX1_loss.data.toList.drop 0 = dktX1_loss_0 := by decide +kernel
theorem dksX1_loss_1 : cX1_loss.data.toList.drop 23 = dktX1_loss_1 := dk_seg dksX1_loss_0 23 rfl rfl
theorem dksX1_loss_2 : cX1_loss.data.toList.drop 47 = dktX1_loss_2 := dk_seg dksX1_loss_1 24 rfl rfl
theorem dksX1_loss_3 : cX1_loss.data.toList.drop 71 = dktX1_loss_3 := dk_seg dksX1_loss_2 24 rfl rfl
theorem dksX1_loss_4 : cX1_loss.data.toList.drop 94 = dktX1_loss_4 := dk_seg dksX1_loss_3 23 rfl rfl
theorem dX1_loss_0 : decode cX1_loss 0 = .ok (.aload_n 0, 1) := dk_42 (dk_at dksX1_loss_0 0 rfl rfl)
theorem dX1_loss_1 : decode cX1_loss 1 = .ok (.iconst 0, 1) := dk_3 (dk_at dksX1_loss_0 1 rfl rfl)
theorem dX1_loss_2 : decode cX1_loss 2 = .ok (.iload_n 1, 1) := dk_27 (dk_at dksX1_loss_0 2 rfl rfl)
theorem dX1_loss_3 : decode cX1_loss 3 = .ok (.iload_n 2, 1) := dk_28 (dk_at dksX1_loss_0 3 rfl rfl)
theorem dX1_loss_4 : decode cX1_loss 4 = .ok (.invokevirtual 123, 3) := dk_182 0 123 (dk_at dksX1_loss_0 4 rfl rfl)
theorem dX1_loss_7 : decode cX1_loss 7 = .ok (.ifCond .ne 9, 3) := dk_154 0 9 (dk_at dksX1_loss_0 7 rfl rfl)
theorem dX1_loss_10 : decode cX1_loss 10 = .ok (.aload_n 0, 1) := dk_42 (dk_at dksX1_loss_0 10 rfl rfl)
theorem dX1_loss_11 : decode cX1_loss 11 = .ok (.iconst 1, 1) := dk_4 (dk_at dksX1_loss_0 11 rfl rfl)
theorem dX1_loss_12 : decode cX1_loss 12 = .ok (.invokevirtual 43, 3) := dk_182 0 43 (dk_at dksX1_loss_0 12 rfl rfl)
theorem dX1_loss_15 : decode cX1_loss 15 = .ok (.ireturn, 1) := dk_172 (dk_at dksX1_loss_0 15 rfl rfl)
theorem dX1_loss_16 : decode cX1_loss 16 = .ok (.aload_n 0, 1) := dk_42 (dk_at dksX1_loss_0 16 rfl rfl)
theorem dX1_loss_17 : decode cX1_loss 17 = .ok (.getfield 76, 3) := dk_180 0 76 (dk_at dksX1_loss_0 17 rfl rfl)
theorem dX1_loss_20 : decode cX1_loss 20 = .ok (.iconst 0, 1) := dk_3 (dk_at dksX1_loss_0 20 rfl rfl)
theorem dX1_loss_21 : decode cX1_loss 21 = .ok (.iload_n 1, 1) := dk_27 (dk_at dksX1_loss_0 21 rfl rfl)
theorem dX1_loss_22 : decode cX1_loss 22 = .ok (.iload_n 2, 1) := dk_28 (dk_at dksX1_loss_0 22 rfl rfl)
theorem dX1_loss_23 : decode cX1_loss 23 = .ok (.invokevirtual 293, 3) := dk_182 1 37 (dk_at dksX1_loss_1 0 rfl rfl)
theorem dX1_loss_26 : decode cX1_loss 26 = .ok (.istore_n 3, 1) := dk_62 (dk_at dksX1_loss_1 3 rfl rfl)
theorem dX1_loss_27 : decode cX1_loss 27 = .ok (.aload_n 0, 1) := dk_42 (dk_at dksX1_loss_1 4 rfl rfl)
theorem dX1_loss_28 : decode cX1_loss 28 = .ok (.getfield 76, 3) := dk_180 0 76 (dk_at dksX1_loss_1 5 rfl rfl)
theorem dX1_loss_31 : decode cX1_loss 31 = .ok (.iconst 1, 1) := dk_4 (dk_at dksX1_loss_1 8 rfl rfl)
theorem dX1_loss_32 : decode cX1_loss 32 = .ok (.iload_n 1, 1) := dk_27 (dk_at dksX1_loss_1 9 rfl rfl)
theorem dX1_loss_33 : decode cX1_loss 33 = .ok (.iload_n 2, 1) := dk_28 (dk_at dksX1_loss_1 10 rfl rfl)
theorem dX1_loss_34 : decode cX1_loss 34 = .ok (.invokevirtual 293, 3) := dk_182 1 37 (dk_at dksX1_loss_1 11 rfl rfl)
theorem dX1_loss_37 : decode cX1_loss 37 = .ok (.istore 4, 2) := dk_54 4 (dk_at dksX1_loss_1 14 rfl rfl)
theorem dX1_loss_39 : decode cX1_loss 39 = .ok (.iload_n 3, 1) := dk_29 (dk_at dksX1_loss_1 16 rfl rfl)
theorem dX1_loss_40 : decode cX1_loss 40 = .ok (.iload 4, 2) := dk_21 4 (dk_at dksX1_loss_1 17 rfl rfl)
theorem dX1_loss_42 : decode cX1_loss 42 = .ok (.invokestatic 312, 3) := dk_184 1 56 (dk_at dksX1_loss_1 19 rfl rfl)
theorem dX1_loss_45 : decode cX1_loss 45 = .ok (.istore 5, 2) := dk_54 5 (dk_at dksX1_loss_1 22 rfl rfl)
theorem dX1_loss_47 : decode cX1_loss 47 = .ok (.iload 5, 2) := dk_21 5 (dk_at dksX1_loss_2 0 rfl rfl)
theorem dX1_loss_49 : decode cX1_loss 49 = .ok (.ifCond .ge 10, 3) := dk_156 0 10 (dk_at dksX1_loss_2 2 rfl rfl)
theorem dX1_loss_52 : decode cX1_loss 52 = .ok (.aload_n 0, 1) := dk_42 (dk_at dksX1_loss_2 5 rfl rfl)
theorem dX1_loss_53 : decode cX1_loss 53 = .ok (.iload 5, 2) := dk_21 5 (dk_at dksX1_loss_2 6 rfl rfl)
theorem dX1_loss_55 : decode cX1_loss 55 = .ok (.invokevirtual 94, 3) := dk_182 0 94 (dk_at dksX1_loss_2 8 rfl rfl)
theorem dX1_loss_58 : decode cX1_loss 58 = .ok (.ireturn, 1) := dk_172 (dk_at dksX1_loss_2 11 rfl rfl)
theorem dX1_loss_59 : decode cX1_loss 59 = .ok (.iload_n 3, 1) := dk_29 (dk_at dksX1_loss_2 12 rfl rfl)
theorem dX1_loss_60 : decode cX1_loss 60 = .ok (.iconst 5, 1) := dk_8 (dk_at dksX1_loss_2 13 rfl rfl)
theorem dX1_loss_61 : decode cX1_loss 61 = .ok (.if_icmp .gt 9, 3) := dk_163 0 9 (dk_at dksX1_loss_2 14 rfl rfl)
theorem dX1_loss_64 : decode cX1_loss 64 = .ok (.aload_n 0, 1) := dk_42 (dk_at dksX1_loss_2 17 rfl rfl)
theorem dX1_loss_65 : decode cX1_loss 65 = .ok (.iconst 0, 1) := dk_3 (dk_at dksX1_loss_2 18 rfl rfl)
theorem dX1_loss_66 : decode cX1_loss 66 = .ok (.invokevirtual 94, 3) := dk_182 0 94 (dk_at dksX1_loss_2 19 rfl rfl)
theorem dX1_loss_69 : decode cX1_loss 69 = .ok (.ireturn, 1) := dk_172 (dk_at dksX1_loss_2 22 rfl rfl)
theorem dX1_loss_70 : decode cX1_loss 70 = .ok (.iload_n 3, 1) := dk_29 (dk_at dksX1_loss_2 23 rfl rfl)
theorem dX1_loss_71 : decode cX1_loss 71 = .ok (.iload 4, 2) := dk_21 4 (dk_at dksX1_loss_3 0 rfl rfl)
theorem dX1_loss_73 : decode cX1_loss 73 = .ok (.isub, 1) := dk_100 (dk_at dksX1_loss_3 2 rfl rfl)
theorem dX1_loss_74 : decode cX1_loss 74 = .ok (.aload_n 0, 1) := dk_42 (dk_at dksX1_loss_3 3 rfl rfl)
theorem dX1_loss_75 : decode cX1_loss 75 = .ok (.getfield 59, 3) := dk_180 0 59 (dk_at dksX1_loss_3 4 rfl rfl)
theorem dX1_loss_78 : decode cX1_loss 78 = .ok (.getfield 105, 3) := dk_180 0 105 (dk_at dksX1_loss_3 7 rfl rfl)
theorem dX1_loss_81 : decode cX1_loss 81 = .ok (.if_icmp .ge 9, 3) := dk_162 0 9 (dk_at dksX1_loss_3 10 rfl rfl)
theorem dX1_loss_84 : decode cX1_loss 84 = .ok (.aload_n 0, 1) := dk_42 (dk_at dksX1_loss_3 13 rfl rfl)
theorem dX1_loss_85 : decode cX1_loss 85 = .ok (.iconst 2, 1) := dk_5 (dk_at dksX1_loss_3 14 rfl rfl)
theorem dX1_loss_86 : decode cX1_loss 86 = .ok (.invokevirtual 94, 3) := dk_182 0 94 (dk_at dksX1_loss_3 15 rfl rfl)
theorem dX1_loss_89 : decode cX1_loss 89 = .ok (.ireturn, 1) := dk_172 (dk_at dksX1_loss_3 18 rfl rfl)
theorem dX1_loss_90 : decode cX1_loss 90 = .ok (.aload_n 0, 1) := dk_42 (dk_at dksX1_loss_3 19 rfl rfl)
theorem dX1_loss_91 : decode cX1_loss 91 = .ok (.iload 4, 2) := dk_21 4 (dk_at dksX1_loss_3 20 rfl rfl)
theorem dX1_loss_93 : decode cX1_loss 93 = .ok (.iconst 5, 1) := dk_8 (dk_at dksX1_loss_3 22 rfl rfl)
theorem dX1_loss_94 : decode cX1_loss 94 = .ok (.if_icmp .gt 7, 3) := dk_163 0 7 (dk_at dksX1_loss_4 0 rfl rfl)
theorem dX1_loss_97 : decode cX1_loss 97 = .ok (.iconst 1, 1) := dk_4 (dk_at dksX1_loss_4 3 rfl rfl)
theorem dX1_loss_98 : decode cX1_loss 98 = .ok (.goto 4, 3) := dk_167 0 4 (dk_at dksX1_loss_4 4 rfl rfl)
theorem dX1_loss_101 : decode cX1_loss 101 = .ok (.iconst 3, 1) := dk_6 (dk_at dksX1_loss_4 7 rfl rfl)
theorem dX1_loss_102 : decode cX1_loss 102 = .ok (.invokevirtual 94, 3) := dk_182 0 94 (dk_at dksX1_loss_4 8 rfl rfl)
theorem dX1_loss_105 : decode cX1_loss 105 = .ok (.ireturn, 1) := dk_172 (dk_at dksX1_loss_4 11 rfl rfl)
abbrev cX1_mean : ByteArray := prog_1_method_48_code
def yX1_mean : MethodName := ⟨RX1, "mean", "(II)I"⟩
def dkwX1_mean_1 : List UInt8 := [4, 182, 0, 43, 172]
abbrev dktX1_mean_1 : List UInt8 := dkwX1_mean_1 ++ []
def dkwX1_mean_0 : List UInt8 := [42, 27, 28, 3, 182, 0, 123, 153, 0, 16, 42, 42, 27, 28, 182, 1, 59, 182, 0, 94, 167, 0, 8, 42]
abbrev dktX1_mean_0 : List UInt8 := dkwX1_mean_0 ++ dktX1_mean_1
theorem dksX1_mean_0 : cX1_mean.data.toList.drop 0 = dktX1_mean_0 := by decide +kernel
theorem dksX1_mean_1 : cX1_mean.data.toList.drop 24 = dktX1_mean_1 := dk_seg dksX1_mean_0 24 rfl rfl
theorem dX1_mean_0 : decode cX1_mean 0 = .ok (.aload_n 0, 1) := dk_42 (dk_at dksX1_mean_0 0 rfl rfl)
theorem dX1_mean_1 : decode cX1_mean 1 = .ok (.iload_n 1, 1) := dk_27 (dk_at dksX1_mean_0 1 rfl rfl)
theorem dX1_mean_2 : decode cX1_mean 2 = .ok (.iload_n 2, 1) := dk_28 (dk_at dksX1_mean_0 2 rfl rfl)
theorem dX1_mean_3 : decode cX1_mean 3 = .ok (.iconst 0, 1) := dk_3 (dk_at dksX1_mean_0 3 rfl rfl)
theorem dX1_mean_4 : decode cX1_mean 4 = .ok (.invokevirtual 123, 3) := dk_182 0 123 (dk_at dksX1_mean_0 4 rfl rfl)
theorem dX1_mean_7 : decode cX1_mean 7 = .ok (.ifCond .eq 16, 3) := dk_153 0 16 (dk_at dksX1_mean_0 7 rfl rfl)
theorem dX1_mean_10 : decode cX1_mean 10 = .ok (.aload_n 0, 1) := dk_42 (dk_at dksX1_mean_0 10 rfl rfl)
theorem dX1_mean_11 : decode cX1_mean 11 = .ok (.aload_n 0, 1) := dk_42 (dk_at dksX1_mean_0 11 rfl rfl)
theorem dX1_mean_12 : decode cX1_mean 12 = .ok (.iload_n 1, 1) := dk_27 (dk_at dksX1_mean_0 12 rfl rfl)
theorem dX1_mean_13 : decode cX1_mean 13 = .ok (.iload_n 2, 1) := dk_28 (dk_at dksX1_mean_0 13 rfl rfl)
theorem dX1_mean_14 : decode cX1_mean 14 = .ok (.invokevirtual 315, 3) := dk_182 1 59 (dk_at dksX1_mean_0 14 rfl rfl)
theorem dX1_mean_17 : decode cX1_mean 17 = .ok (.invokevirtual 94, 3) := dk_182 0 94 (dk_at dksX1_mean_0 17 rfl rfl)
theorem dX1_mean_20 : decode cX1_mean 20 = .ok (.goto 8, 3) := dk_167 0 8 (dk_at dksX1_mean_0 20 rfl rfl)
theorem dX1_mean_23 : decode cX1_mean 23 = .ok (.aload_n 0, 1) := dk_42 (dk_at dksX1_mean_0 23 rfl rfl)
theorem dX1_mean_24 : decode cX1_mean 24 = .ok (.iconst 1, 1) := dk_4 (dk_at dksX1_mean_1 0 rfl rfl)
theorem dX1_mean_25 : decode cX1_mean 25 = .ok (.invokevirtual 43, 3) := dk_182 0 43 (dk_at dksX1_mean_1 1 rfl rfl)
theorem dX1_mean_28 : decode cX1_mean 28 = .ok (.ireturn, 1) := dk_172 (dk_at dksX1_mean_1 4 rfl rfl)
abbrev cX1_meanOf : ByteArray := prog_1_method_47_code
def yX1_meanOf : MethodName := ⟨RX1, "meanOf", "(II)I"⟩
def dkwX1_meanOf_3 : List UInt8 := [21, 4, 167, 0, 12, 29, 42, 180, 0, 59, 180, 0, 97, 108, 172]
abbrev dktX1_meanOf_3 : List UInt8 := dkwX1_meanOf_3 ++ []
def dkwX1_meanOf_2 : List UInt8 := [160, 0, 7, 21, 6, 54, 4, 29, 21, 6, 96, 62, 132, 5, 1, 167, 255, 202, 21, 4, 156, 0, 8]
abbrev dktX1_meanOf_2 : List UInt8 := dkwX1_meanOf_2 ++ dktX1_meanOf_3
def dkwX1_meanOf_1 : List UInt8 := [27, 28, 21, 5, 182, 1, 37, 54, 6, 21, 6, 156, 0, 19, 21, 4, 153, 0, 10, 21, 6, 16, 254]
abbrev dktX1_meanOf_1 : List UInt8 := dkwX1_meanOf_1 ++ dktX1_meanOf_2
def dkwX1_meanOf_0 : List UInt8 := [3, 62, 3, 54, 4, 3, 54, 5, 21, 5, 42, 180, 0, 59, 180, 0, 97, 162, 0, 48, 42, 180, 0, 76]
abbrev dktX1_meanOf_0 : List UInt8 := dkwX1_meanOf_0 ++ dktX1_meanOf_1
theorem dksX1_meanOf_0 : cX1_meanOf.data.toList.drop 0 = dktX1_meanOf_0 := by decide +kernel
theorem dksX1_meanOf_1 : cX1_meanOf.data.toList.drop 24 = dktX1_meanOf_1 := dk_seg dksX1_meanOf_0 24 rfl rfl
theorem dksX1_meanOf_2 : cX1_meanOf.data.toList.drop 47 = dktX1_meanOf_2 := dk_seg dksX1_meanOf_1 23 rfl rfl
theorem dksX1_meanOf_3 : cX1_meanOf.data.toList.drop 70 = dktX1_meanOf_3 := dk_seg dksX1_meanOf_2 23 rfl rfl
theorem dX1_meanOf_0 : decode cX1_meanOf 0 = .ok (.iconst 0, 1) := dk_3 (dk_at dksX1_meanOf_0 0 rfl rfl)
theorem dX1_meanOf_1 : decode cX1_meanOf 1 = .ok (.istore_n 3, 1) := dk_62 (dk_at dksX1_meanOf_0 1 rfl rfl)
theorem dX1_meanOf_2 : decode cX1_meanOf 2 = .ok (.iconst 0, 1) := dk_3 (dk_at dksX1_meanOf_0 2 rfl rfl)
theorem dX1_meanOf_3 : decode cX1_meanOf 3 = .ok (.istore 4, 2) := dk_54 4 (dk_at dksX1_meanOf_0 3 rfl rfl)
theorem dX1_meanOf_5 : decode cX1_meanOf 5 = .ok (.iconst 0, 1) := dk_3 (dk_at dksX1_meanOf_0 5 rfl rfl)
theorem dX1_meanOf_6 : decode cX1_meanOf 6 = .ok (.istore 5, 2) := dk_54 5 (dk_at dksX1_meanOf_0 6 rfl rfl)
theorem dX1_meanOf_8 : decode cX1_meanOf 8 = .ok (.iload 5, 2) := dk_21 5 (dk_at dksX1_meanOf_0 8 rfl rfl)
theorem dX1_meanOf_10 : decode cX1_meanOf 10 = .ok (.aload_n 0, 1) := dk_42 (dk_at dksX1_meanOf_0 10 rfl rfl)
theorem dX1_meanOf_11 : decode cX1_meanOf 11 = .ok (.getfield 59, 3) := dk_180 0 59 (dk_at dksX1_meanOf_0 11 rfl rfl)
theorem dX1_meanOf_14 : decode cX1_meanOf 14 = .ok (.getfield 97, 3) := dk_180 0 97 (dk_at dksX1_meanOf_0 14 rfl rfl)
theorem dX1_meanOf_17 : decode cX1_meanOf 17 = .ok (.if_icmp .ge 48, 3) := dk_162 0 48 (dk_at dksX1_meanOf_0 17 rfl rfl)
theorem dX1_meanOf_20 : decode cX1_meanOf 20 = .ok (.aload_n 0, 1) := dk_42 (dk_at dksX1_meanOf_0 20 rfl rfl)
theorem dX1_meanOf_21 : decode cX1_meanOf 21 = .ok (.getfield 76, 3) := dk_180 0 76 (dk_at dksX1_meanOf_0 21 rfl rfl)
theorem dX1_meanOf_24 : decode cX1_meanOf 24 = .ok (.iload_n 1, 1) := dk_27 (dk_at dksX1_meanOf_1 0 rfl rfl)
theorem dX1_meanOf_25 : decode cX1_meanOf 25 = .ok (.iload_n 2, 1) := dk_28 (dk_at dksX1_meanOf_1 1 rfl rfl)
theorem dX1_meanOf_26 : decode cX1_meanOf 26 = .ok (.iload 5, 2) := dk_21 5 (dk_at dksX1_meanOf_1 2 rfl rfl)
theorem dX1_meanOf_28 : decode cX1_meanOf 28 = .ok (.invokevirtual 293, 3) := dk_182 1 37 (dk_at dksX1_meanOf_1 4 rfl rfl)
theorem dX1_meanOf_31 : decode cX1_meanOf 31 = .ok (.istore 6, 2) := dk_54 6 (dk_at dksX1_meanOf_1 7 rfl rfl)
theorem dX1_meanOf_33 : decode cX1_meanOf 33 = .ok (.iload 6, 2) := dk_21 6 (dk_at dksX1_meanOf_1 9 rfl rfl)
theorem dX1_meanOf_35 : decode cX1_meanOf 35 = .ok (.ifCond .ge 19, 3) := dk_156 0 19 (dk_at dksX1_meanOf_1 11 rfl rfl)
theorem dX1_meanOf_38 : decode cX1_meanOf 38 = .ok (.iload 4, 2) := dk_21 4 (dk_at dksX1_meanOf_1 14 rfl rfl)
theorem dX1_meanOf_40 : decode cX1_meanOf 40 = .ok (.ifCond .eq 10, 3) := dk_153 0 10 (dk_at dksX1_meanOf_1 16 rfl rfl)
theorem dX1_meanOf_43 : decode cX1_meanOf 43 = .ok (.iload 6, 2) := dk_21 6 (dk_at dksX1_meanOf_1 19 rfl rfl)
theorem dX1_meanOf_45 : decode cX1_meanOf 45 = .ok (.bipush (-2), 2) := dk_16 254 (dk_at dksX1_meanOf_1 21 rfl rfl)
theorem dX1_meanOf_47 : decode cX1_meanOf 47 = .ok (.if_icmp .ne 7, 3) := dk_160 0 7 (dk_at dksX1_meanOf_2 0 rfl rfl)
theorem dX1_meanOf_50 : decode cX1_meanOf 50 = .ok (.iload 6, 2) := dk_21 6 (dk_at dksX1_meanOf_2 3 rfl rfl)
theorem dX1_meanOf_52 : decode cX1_meanOf 52 = .ok (.istore 4, 2) := dk_54 4 (dk_at dksX1_meanOf_2 5 rfl rfl)
theorem dX1_meanOf_54 : decode cX1_meanOf 54 = .ok (.iload_n 3, 1) := dk_29 (dk_at dksX1_meanOf_2 7 rfl rfl)
theorem dX1_meanOf_55 : decode cX1_meanOf 55 = .ok (.iload 6, 2) := dk_21 6 (dk_at dksX1_meanOf_2 8 rfl rfl)
theorem dX1_meanOf_57 : decode cX1_meanOf 57 = .ok (.iadd, 1) := dk_96 (dk_at dksX1_meanOf_2 10 rfl rfl)
theorem dX1_meanOf_58 : decode cX1_meanOf 58 = .ok (.istore_n 3, 1) := dk_62 (dk_at dksX1_meanOf_2 11 rfl rfl)
theorem dX1_meanOf_59 : decode cX1_meanOf 59 = .ok (.iinc 5 1, 3) := dk_132 5 1 (dk_at dksX1_meanOf_2 12 rfl rfl)
theorem dX1_meanOf_62 : decode cX1_meanOf 62 = .ok (.goto (-54), 3) := dk_167 255 202 (dk_at dksX1_meanOf_2 15 rfl rfl)
theorem dX1_meanOf_65 : decode cX1_meanOf 65 = .ok (.iload 4, 2) := dk_21 4 (dk_at dksX1_meanOf_2 18 rfl rfl)
theorem dX1_meanOf_67 : decode cX1_meanOf 67 = .ok (.ifCond .ge 8, 3) := dk_156 0 8 (dk_at dksX1_meanOf_2 20 rfl rfl)
theorem dX1_meanOf_70 : decode cX1_meanOf 70 = .ok (.iload 4, 2) := dk_21 4 (dk_at dksX1_meanOf_3 0 rfl rfl)
theorem dX1_meanOf_72 : decode cX1_meanOf 72 = .ok (.goto 12, 3) := dk_167 0 12 (dk_at dksX1_meanOf_3 2 rfl rfl)
theorem dX1_meanOf_75 : decode cX1_meanOf 75 = .ok (.iload_n 3, 1) := dk_29 (dk_at dksX1_meanOf_3 5 rfl rfl)
theorem dX1_meanOf_76 : decode cX1_meanOf 76 = .ok (.aload_n 0, 1) := dk_42 (dk_at dksX1_meanOf_3 6 rfl rfl)
theorem dX1_meanOf_77 : decode cX1_meanOf 77 = .ok (.getfield 59, 3) := dk_180 0 59 (dk_at dksX1_meanOf_3 7 rfl rfl)
theorem dX1_meanOf_80 : decode cX1_meanOf 80 = .ok (.getfield 97, 3) := dk_180 0 97 (dk_at dksX1_meanOf_3 10 rfl rfl)
theorem dX1_meanOf_83 : decode cX1_meanOf 83 = .ok (.idiv, 1) := dk_108 (dk_at dksX1_meanOf_3 13 rfl rfl)
theorem dX1_meanOf_84 : decode cX1_meanOf 84 = .ok (.ireturn, 1) := dk_172 (dk_at dksX1_meanOf_3 14 rfl rfl)
abbrev cX1_grade : ByteArray := prog_1_method_49_code
def yX1_grade : MethodName := ⟨RX1, "grade", "(I)I"⟩
def dkwX1_grade_2 : List UInt8 := [164, 0, 9, 132, 3, 1, 167, 255, 239, 42, 29, 182, 0, 94, 172]
abbrev dktX1_grade_2 : List UInt8 := dkwX1_grade_2 ++ []
def dkwX1_grade_1 : List UInt8 := [156, 0, 9, 42, 28, 182, 0, 94, 172, 3, 62, 29, 7, 162, 0, 18, 28, 8, 7, 29, 104, 96]
abbrev dktX1_grade_1 : List UInt8 := dkwX1_grade_1 ++ dktX1_grade_2
def dkwX1_grade_0 : List UInt8 := [42, 3, 27, 3, 182, 0, 123, 154, 0, 9, 42, 4, 182, 0, 43, 172, 42, 3, 27, 182, 1, 59, 61, 28]
abbrev dktX1_grade_0 : List UInt8 := dkwX1_grade_0 ++ dktX1_grade_1
theorem dksX1_grade_0 : cX1_grade.data.toList.drop 0 = dktX1_grade_0 := by decide +kernel
theorem dksX1_grade_1 : cX1_grade.data.toList.drop 24 = dktX1_grade_1 := dk_seg dksX1_grade_0 24 rfl rfl
theorem dksX1_grade_2 : cX1_grade.data.toList.drop 46 = dktX1_grade_2 := dk_seg dksX1_grade_1 22 rfl rfl
theorem dX1_grade_0 : decode cX1_grade 0 = .ok (.aload_n 0, 1) := dk_42 (dk_at dksX1_grade_0 0 rfl rfl)
theorem dX1_grade_1 : decode cX1_grade 1 = .ok (.iconst 0, 1) := dk_3 (dk_at dksX1_grade_0 1 rfl rfl)
theorem dX1_grade_2 : decode cX1_grade 2 = .ok (.iload_n 1, 1) := dk_27 (dk_at dksX1_grade_0 2 rfl rfl)
theorem dX1_grade_3 : decode cX1_grade 3 = .ok (.iconst 0, 1) := dk_3 (dk_at dksX1_grade_0 3 rfl rfl)
theorem dX1_grade_4 : decode cX1_grade 4 = .ok (.invokevirtual 123, 3) := dk_182 0 123 (dk_at dksX1_grade_0 4 rfl rfl)
theorem dX1_grade_7 : decode cX1_grade 7 = .ok (.ifCond .ne 9, 3) := dk_154 0 9 (dk_at dksX1_grade_0 7 rfl rfl)
theorem dX1_grade_10 : decode cX1_grade 10 = .ok (.aload_n 0, 1) := dk_42 (dk_at dksX1_grade_0 10 rfl rfl)
theorem dX1_grade_11 : decode cX1_grade 11 = .ok (.iconst 1, 1) := dk_4 (dk_at dksX1_grade_0 11 rfl rfl)
theorem dX1_grade_12 : decode cX1_grade 12 = .ok (.invokevirtual 43, 3) := dk_182 0 43 (dk_at dksX1_grade_0 12 rfl rfl)
theorem dX1_grade_15 : decode cX1_grade 15 = .ok (.ireturn, 1) := dk_172 (dk_at dksX1_grade_0 15 rfl rfl)
theorem dX1_grade_16 : decode cX1_grade 16 = .ok (.aload_n 0, 1) := dk_42 (dk_at dksX1_grade_0 16 rfl rfl)
theorem dX1_grade_17 : decode cX1_grade 17 = .ok (.iconst 0, 1) := dk_3 (dk_at dksX1_grade_0 17 rfl rfl)
theorem dX1_grade_18 : decode cX1_grade 18 = .ok (.iload_n 1, 1) := dk_27 (dk_at dksX1_grade_0 18 rfl rfl)
theorem dX1_grade_19 : decode cX1_grade 19 = .ok (.invokevirtual 315, 3) := dk_182 1 59 (dk_at dksX1_grade_0 19 rfl rfl)
theorem dX1_grade_22 : decode cX1_grade 22 = .ok (.istore_n 2, 1) := dk_61 (dk_at dksX1_grade_0 22 rfl rfl)
theorem dX1_grade_23 : decode cX1_grade 23 = .ok (.iload_n 2, 1) := dk_28 (dk_at dksX1_grade_0 23 rfl rfl)
theorem dX1_grade_24 : decode cX1_grade 24 = .ok (.ifCond .ge 9, 3) := dk_156 0 9 (dk_at dksX1_grade_1 0 rfl rfl)
theorem dX1_grade_27 : decode cX1_grade 27 = .ok (.aload_n 0, 1) := dk_42 (dk_at dksX1_grade_1 3 rfl rfl)
theorem dX1_grade_28 : decode cX1_grade 28 = .ok (.iload_n 2, 1) := dk_28 (dk_at dksX1_grade_1 4 rfl rfl)
theorem dX1_grade_29 : decode cX1_grade 29 = .ok (.invokevirtual 94, 3) := dk_182 0 94 (dk_at dksX1_grade_1 5 rfl rfl)
theorem dX1_grade_32 : decode cX1_grade 32 = .ok (.ireturn, 1) := dk_172 (dk_at dksX1_grade_1 8 rfl rfl)
theorem dX1_grade_33 : decode cX1_grade 33 = .ok (.iconst 0, 1) := dk_3 (dk_at dksX1_grade_1 9 rfl rfl)
theorem dX1_grade_34 : decode cX1_grade 34 = .ok (.istore_n 3, 1) := dk_62 (dk_at dksX1_grade_1 10 rfl rfl)
theorem dX1_grade_35 : decode cX1_grade 35 = .ok (.iload_n 3, 1) := dk_29 (dk_at dksX1_grade_1 11 rfl rfl)
theorem dX1_grade_36 : decode cX1_grade 36 = .ok (.iconst 4, 1) := dk_7 (dk_at dksX1_grade_1 12 rfl rfl)
theorem dX1_grade_37 : decode cX1_grade 37 = .ok (.if_icmp .ge 18, 3) := dk_162 0 18 (dk_at dksX1_grade_1 13 rfl rfl)
theorem dX1_grade_40 : decode cX1_grade 40 = .ok (.iload_n 2, 1) := dk_28 (dk_at dksX1_grade_1 16 rfl rfl)
theorem dX1_grade_41 : decode cX1_grade 41 = .ok (.iconst 5, 1) := dk_8 (dk_at dksX1_grade_1 17 rfl rfl)
theorem dX1_grade_42 : decode cX1_grade 42 = .ok (.iconst 4, 1) := dk_7 (dk_at dksX1_grade_1 18 rfl rfl)
theorem dX1_grade_43 : decode cX1_grade 43 = .ok (.iload_n 3, 1) := dk_29 (dk_at dksX1_grade_1 19 rfl rfl)
theorem dX1_grade_44 : decode cX1_grade 44 = .ok (.imul, 1) := dk_104 (dk_at dksX1_grade_1 20 rfl rfl)
theorem dX1_grade_45 : decode cX1_grade 45 = .ok (.iadd, 1) := dk_96 (dk_at dksX1_grade_1 21 rfl rfl)
theorem dX1_grade_46 : decode cX1_grade 46 = .ok (.if_icmp .le 9, 3) := dk_164 0 9 (dk_at dksX1_grade_2 0 rfl rfl)
theorem dX1_grade_49 : decode cX1_grade 49 = .ok (.iinc 3 1, 3) := dk_132 3 1 (dk_at dksX1_grade_2 3 rfl rfl)
theorem dX1_grade_52 : decode cX1_grade 52 = .ok (.goto (-17), 3) := dk_167 255 239 (dk_at dksX1_grade_2 6 rfl rfl)
theorem dX1_grade_55 : decode cX1_grade 55 = .ok (.aload_n 0, 1) := dk_42 (dk_at dksX1_grade_2 9 rfl rfl)
theorem dX1_grade_56 : decode cX1_grade 56 = .ok (.iload_n 3, 1) := dk_29 (dk_at dksX1_grade_2 10 rfl rfl)
theorem dX1_grade_57 : decode cX1_grade 57 = .ok (.invokevirtual 94, 3) := dk_182 0 94 (dk_at dksX1_grade_2 11 rfl rfl)
theorem dX1_grade_60 : decode cX1_grade 60 = .ok (.ireturn, 1) := dk_172 (dk_at dksX1_grade_2 14 rfl rfl)
abbrev cX1_worse : ByteArray := prog_1_method_50_code
def yX1_worse : MethodName := ⟨RX1, "worse", "()I"⟩
def dkwX1_worse_2 : List UInt8 := [4, 167, 0, 4, 3, 182, 0, 94, 172]
abbrev dktX1_worse_2 : List UInt8 := dkwX1_worse_2 ++ []
def dkwX1_worse_1 : List UInt8 := [182, 1, 59, 61, 27, 28, 184, 1, 56, 62, 42, 29, 156, 0, 7, 29, 167, 0, 13, 28, 27, 164, 0, 7]
abbrev dktX1_worse_1 : List UInt8 := dkwX1_worse_1 ++ dktX1_worse_2
def dkwX1_worse_0 : List UInt8 := [42, 180, 0, 76, 199, 0, 9, 42, 4, 182, 0, 43, 172, 42, 3, 3, 182, 1, 59, 60, 42, 3, 4]
abbrev dktX1_worse_0 : List UInt8 := dkwX1_worse_0 ++ dktX1_worse_1
theorem dksX1_worse_0 : cX1_worse.data.toList.drop 0 = dktX1_worse_0 := by decide +kernel
theorem dksX1_worse_1 : cX1_worse.data.toList.drop 23 = dktX1_worse_1 := dk_seg dksX1_worse_0 23 rfl rfl
theorem dksX1_worse_2 : cX1_worse.data.toList.drop 47 = dktX1_worse_2 := dk_seg dksX1_worse_1 24 rfl rfl
theorem dX1_worse_0 : decode cX1_worse 0 = .ok (.aload_n 0, 1) := dk_42 (dk_at dksX1_worse_0 0 rfl rfl)
theorem dX1_worse_1 : decode cX1_worse 1 = .ok (.getfield 76, 3) := dk_180 0 76 (dk_at dksX1_worse_0 1 rfl rfl)
theorem dX1_worse_4 : decode cX1_worse 4 = .ok (.ifnonnull 9, 3) := dk_199 0 9 (dk_at dksX1_worse_0 4 rfl rfl)
theorem dX1_worse_7 : decode cX1_worse 7 = .ok (.aload_n 0, 1) := dk_42 (dk_at dksX1_worse_0 7 rfl rfl)
theorem dX1_worse_8 : decode cX1_worse 8 = .ok (.iconst 1, 1) := dk_4 (dk_at dksX1_worse_0 8 rfl rfl)
theorem dX1_worse_9 : decode cX1_worse 9 = .ok (.invokevirtual 43, 3) := dk_182 0 43 (dk_at dksX1_worse_0 9 rfl rfl)
theorem dX1_worse_12 : decode cX1_worse 12 = .ok (.ireturn, 1) := dk_172 (dk_at dksX1_worse_0 12 rfl rfl)
theorem dX1_worse_13 : decode cX1_worse 13 = .ok (.aload_n 0, 1) := dk_42 (dk_at dksX1_worse_0 13 rfl rfl)
theorem dX1_worse_14 : decode cX1_worse 14 = .ok (.iconst 0, 1) := dk_3 (dk_at dksX1_worse_0 14 rfl rfl)
theorem dX1_worse_15 : decode cX1_worse 15 = .ok (.iconst 0, 1) := dk_3 (dk_at dksX1_worse_0 15 rfl rfl)
theorem dX1_worse_16 : decode cX1_worse 16 = .ok (.invokevirtual 315, 3) := dk_182 1 59 (dk_at dksX1_worse_0 16 rfl rfl)
theorem dX1_worse_19 : decode cX1_worse 19 = .ok (.istore_n 1, 1) := dk_60 (dk_at dksX1_worse_0 19 rfl rfl)
theorem dX1_worse_20 : decode cX1_worse 20 = .ok (.aload_n 0, 1) := dk_42 (dk_at dksX1_worse_0 20 rfl rfl)
theorem dX1_worse_21 : decode cX1_worse 21 = .ok (.iconst 0, 1) := dk_3 (dk_at dksX1_worse_0 21 rfl rfl)
theorem dX1_worse_22 : decode cX1_worse 22 = .ok (.iconst 1, 1) := dk_4 (dk_at dksX1_worse_0 22 rfl rfl)
theorem dX1_worse_23 : decode cX1_worse 23 = .ok (.invokevirtual 315, 3) := dk_182 1 59 (dk_at dksX1_worse_1 0 rfl rfl)
theorem dX1_worse_26 : decode cX1_worse 26 = .ok (.istore_n 2, 1) := dk_61 (dk_at dksX1_worse_1 3 rfl rfl)
theorem dX1_worse_27 : decode cX1_worse 27 = .ok (.iload_n 1, 1) := dk_27 (dk_at dksX1_worse_1 4 rfl rfl)
theorem dX1_worse_28 : decode cX1_worse 28 = .ok (.iload_n 2, 1) := dk_28 (dk_at dksX1_worse_1 5 rfl rfl)
theorem dX1_worse_29 : decode cX1_worse 29 = .ok (.invokestatic 312, 3) := dk_184 1 56 (dk_at dksX1_worse_1 6 rfl rfl)
theorem dX1_worse_32 : decode cX1_worse 32 = .ok (.istore_n 3, 1) := dk_62 (dk_at dksX1_worse_1 9 rfl rfl)
theorem dX1_worse_33 : decode cX1_worse 33 = .ok (.aload_n 0, 1) := dk_42 (dk_at dksX1_worse_1 10 rfl rfl)
theorem dX1_worse_34 : decode cX1_worse 34 = .ok (.iload_n 3, 1) := dk_29 (dk_at dksX1_worse_1 11 rfl rfl)
theorem dX1_worse_35 : decode cX1_worse 35 = .ok (.ifCond .ge 7, 3) := dk_156 0 7 (dk_at dksX1_worse_1 12 rfl rfl)
theorem dX1_worse_38 : decode cX1_worse 38 = .ok (.iload_n 3, 1) := dk_29 (dk_at dksX1_worse_1 15 rfl rfl)
theorem dX1_worse_39 : decode cX1_worse 39 = .ok (.goto 13, 3) := dk_167 0 13 (dk_at dksX1_worse_1 16 rfl rfl)
theorem dX1_worse_42 : decode cX1_worse 42 = .ok (.iload_n 2, 1) := dk_28 (dk_at dksX1_worse_1 19 rfl rfl)
theorem dX1_worse_43 : decode cX1_worse 43 = .ok (.iload_n 1, 1) := dk_27 (dk_at dksX1_worse_1 20 rfl rfl)
theorem dX1_worse_44 : decode cX1_worse 44 = .ok (.if_icmp .le 7, 3) := dk_164 0 7 (dk_at dksX1_worse_1 21 rfl rfl)
theorem dX1_worse_47 : decode cX1_worse 47 = .ok (.iconst 1, 1) := dk_4 (dk_at dksX1_worse_2 0 rfl rfl)
theorem dX1_worse_48 : decode cX1_worse 48 = .ok (.goto 4, 3) := dk_167 0 4 (dk_at dksX1_worse_2 1 rfl rfl)
theorem dX1_worse_51 : decode cX1_worse 51 = .ok (.iconst 0, 1) := dk_3 (dk_at dksX1_worse_2 4 rfl rfl)
theorem dX1_worse_52 : decode cX1_worse 52 = .ok (.invokevirtual 94, 3) := dk_182 0 94 (dk_at dksX1_worse_2 5 rfl rfl)
theorem dX1_worse_55 : decode cX1_worse 55 = .ok (.ireturn, 1) := dk_172 (dk_at dksX1_worse_2 8 rfl rfl)
abbrev cX1_right : ByteArray := prog_1_method_51_code
def yX1_right : MethodName := ⟨RX1, "right", "(I)I"⟩
def dkwX1_right_6 : List UInt8 := [27, 160, 0, 6, 132, 2, 1, 132, 3, 1, 167, 255, 132, 42, 28, 182, 0, 94, 172]
abbrev dktX1_right_6 : List UInt8 := dkwX1_right_6 ++ []
def dkwX1_right_5 : List UInt8 := [180, 0, 59, 21, 4, 21, 5, 21, 6, 182, 0, 126, 160, 0, 7, 3, 167, 0, 4, 4, 54, 8, 21, 8]
abbrev dktX1_right_5 : List UInt8 := dkwX1_right_5 ++ dktX1_right_6
def dkwX1_right_4 : List UInt8 := [16, 254, 160, 0, 7, 6, 167, 0, 37, 21, 7, 16, 253, 160, 0, 7, 5, 167, 0, 26, 21, 7, 42]
abbrev dktX1_right_4 : List UInt8 := dkwX1_right_4 ++ dktX1_right_5
def dkwX1_right_3 : List UInt8 := [180, 0, 97, 112, 54, 6, 42, 180, 0, 76, 21, 4, 21, 5, 21, 6, 182, 1, 37, 54, 7, 21, 7]
abbrev dktX1_right_3 : List UInt8 := dkwX1_right_3 ++ dktX1_right_4
def dkwX1_right_2 : List UInt8 := [104, 108, 54, 4, 29, 42, 180, 0, 59, 180, 0, 97, 108, 5, 112, 54, 5, 29, 42, 180, 0, 59]
abbrev dktX1_right_2 : List UInt8 := dkwX1_right_2 ++ dktX1_right_3
def dkwX1_right_1 : List UInt8 := [3, 62, 29, 7, 42, 180, 0, 59, 180, 0, 97, 104, 162, 0, 117, 29, 5, 42, 180, 0, 59, 180, 0, 97]
abbrev dktX1_right_1 : List UInt8 := dkwX1_right_1 ++ dktX1_right_2
def dkwX1_right_0 : List UInt8 := [42, 180, 0, 76, 198, 0, 12, 27, 3, 6, 184, 0, 39, 154, 0, 9, 42, 4, 182, 0, 43, 172, 3, 61]
abbrev dktX1_right_0 : List UInt8 := dkwX1_right_0 ++ dktX1_right_1
theorem dksX1_right_0 : cX1_right.data.toList.drop 0 = dktX1_right_0 := by decide +kernel
theorem dksX1_right_1 : cX1_right.data.toList.drop 24 = dktX1_right_1 := dk_seg dksX1_right_0 24 rfl rfl
theorem dksX1_right_2 : cX1_right.data.toList.drop 48 = dktX1_right_2 := dk_seg dksX1_right_1 24 rfl rfl
theorem dksX1_right_3 : cX1_right.data.toList.drop 70 = dktX1_right_3 := dk_seg dksX1_right_2 22 rfl rfl
theorem dksX1_right_4 : cX1_right.data.toList.drop 93 = dktX1_right_4 := dk_seg dksX1_right_3 23 rfl rfl
theorem dksX1_right_5 : cX1_right.data.toList.drop 116 = dktX1_right_5 := dk_seg dksX1_right_4 23 rfl rfl
theorem dksX1_right_6 : cX1_right.data.toList.drop 140 = dktX1_right_6 := dk_seg dksX1_right_5 24 rfl rfl
theorem dX1_right_0 : decode cX1_right 0 = .ok (.aload_n 0, 1) := dk_42 (dk_at dksX1_right_0 0 rfl rfl)
theorem dX1_right_1 : decode cX1_right 1 = .ok (.getfield 76, 3) := dk_180 0 76 (dk_at dksX1_right_0 1 rfl rfl)
theorem dX1_right_4 : decode cX1_right 4 = .ok (.ifnull 12, 3) := dk_198 0 12 (dk_at dksX1_right_0 4 rfl rfl)
theorem dX1_right_7 : decode cX1_right 7 = .ok (.iload_n 1, 1) := dk_27 (dk_at dksX1_right_0 7 rfl rfl)
theorem dX1_right_8 : decode cX1_right 8 = .ok (.iconst 0, 1) := dk_3 (dk_at dksX1_right_0 8 rfl rfl)
theorem dX1_right_9 : decode cX1_right 9 = .ok (.iconst 3, 1) := dk_6 (dk_at dksX1_right_0 9 rfl rfl)
theorem dX1_right_10 : decode cX1_right 10 = .ok (.invokestatic 39, 3) := dk_184 0 39 (dk_at dksX1_right_0 10 rfl rfl)
theorem dX1_right_13 : decode cX1_right 13 = .ok (.ifCond .ne 9, 3) := dk_154 0 9 (dk_at dksX1_right_0 13 rfl rfl)
theorem dX1_right_16 : decode cX1_right 16 = .ok (.aload_n 0, 1) := dk_42 (dk_at dksX1_right_0 16 rfl rfl)
theorem dX1_right_17 : decode cX1_right 17 = .ok (.iconst 1, 1) := dk_4 (dk_at dksX1_right_0 17 rfl rfl)
theorem dX1_right_18 : decode cX1_right 18 = .ok (.invokevirtual 43, 3) := dk_182 0 43 (dk_at dksX1_right_0 18 rfl rfl)
theorem dX1_right_21 : decode cX1_right 21 = .ok (.ireturn, 1) := dk_172 (dk_at dksX1_right_0 21 rfl rfl)
theorem dX1_right_22 : decode cX1_right 22 = .ok (.iconst 0, 1) := dk_3 (dk_at dksX1_right_0 22 rfl rfl)
theorem dX1_right_23 : decode cX1_right 23 = .ok (.istore_n 2, 1) := dk_61 (dk_at dksX1_right_0 23 rfl rfl)
theorem dX1_right_24 : decode cX1_right 24 = .ok (.iconst 0, 1) := dk_3 (dk_at dksX1_right_1 0 rfl rfl)
theorem dX1_right_25 : decode cX1_right 25 = .ok (.istore_n 3, 1) := dk_62 (dk_at dksX1_right_1 1 rfl rfl)
theorem dX1_right_26 : decode cX1_right 26 = .ok (.iload_n 3, 1) := dk_29 (dk_at dksX1_right_1 2 rfl rfl)
theorem dX1_right_27 : decode cX1_right 27 = .ok (.iconst 4, 1) := dk_7 (dk_at dksX1_right_1 3 rfl rfl)
theorem dX1_right_28 : decode cX1_right 28 = .ok (.aload_n 0, 1) := dk_42 (dk_at dksX1_right_1 4 rfl rfl)
theorem dX1_right_29 : decode cX1_right 29 = .ok (.getfield 59, 3) := dk_180 0 59 (dk_at dksX1_right_1 5 rfl rfl)
theorem dX1_right_32 : decode cX1_right 32 = .ok (.getfield 97, 3) := dk_180 0 97 (dk_at dksX1_right_1 8 rfl rfl)
theorem dX1_right_35 : decode cX1_right 35 = .ok (.imul, 1) := dk_104 (dk_at dksX1_right_1 11 rfl rfl)
theorem dX1_right_36 : decode cX1_right 36 = .ok (.if_icmp .ge 117, 3) := dk_162 0 117 (dk_at dksX1_right_1 12 rfl rfl)
theorem dX1_right_39 : decode cX1_right 39 = .ok (.iload_n 3, 1) := dk_29 (dk_at dksX1_right_1 15 rfl rfl)
theorem dX1_right_40 : decode cX1_right 40 = .ok (.iconst 2, 1) := dk_5 (dk_at dksX1_right_1 16 rfl rfl)
theorem dX1_right_41 : decode cX1_right 41 = .ok (.aload_n 0, 1) := dk_42 (dk_at dksX1_right_1 17 rfl rfl)
theorem dX1_right_42 : decode cX1_right 42 = .ok (.getfield 59, 3) := dk_180 0 59 (dk_at dksX1_right_1 18 rfl rfl)
theorem dX1_right_45 : decode cX1_right 45 = .ok (.getfield 97, 3) := dk_180 0 97 (dk_at dksX1_right_1 21 rfl rfl)
theorem dX1_right_48 : decode cX1_right 48 = .ok (.imul, 1) := dk_104 (dk_at dksX1_right_2 0 rfl rfl)
theorem dX1_right_49 : decode cX1_right 49 = .ok (.idiv, 1) := dk_108 (dk_at dksX1_right_2 1 rfl rfl)
theorem dX1_right_50 : decode cX1_right 50 = .ok (.istore 4, 2) := dk_54 4 (dk_at dksX1_right_2 2 rfl rfl)
theorem dX1_right_52 : decode cX1_right 52 = .ok (.iload_n 3, 1) := dk_29 (dk_at dksX1_right_2 4 rfl rfl)
theorem dX1_right_53 : decode cX1_right 53 = .ok (.aload_n 0, 1) := dk_42 (dk_at dksX1_right_2 5 rfl rfl)
theorem dX1_right_54 : decode cX1_right 54 = .ok (.getfield 59, 3) := dk_180 0 59 (dk_at dksX1_right_2 6 rfl rfl)
theorem dX1_right_57 : decode cX1_right 57 = .ok (.getfield 97, 3) := dk_180 0 97 (dk_at dksX1_right_2 9 rfl rfl)
theorem dX1_right_60 : decode cX1_right 60 = .ok (.idiv, 1) := dk_108 (dk_at dksX1_right_2 12 rfl rfl)
theorem dX1_right_61 : decode cX1_right 61 = .ok (.iconst 2, 1) := dk_5 (dk_at dksX1_right_2 13 rfl rfl)
theorem dX1_right_62 : decode cX1_right 62 = .ok (.irem, 1) := dk_112 (dk_at dksX1_right_2 14 rfl rfl)
theorem dX1_right_63 : decode cX1_right 63 = .ok (.istore 5, 2) := dk_54 5 (dk_at dksX1_right_2 15 rfl rfl)
theorem dX1_right_65 : decode cX1_right 65 = .ok (.iload_n 3, 1) := dk_29 (dk_at dksX1_right_2 17 rfl rfl)
theorem dX1_right_66 : decode cX1_right 66 = .ok (.aload_n 0, 1) := dk_42 (dk_at dksX1_right_2 18 rfl rfl)
theorem dX1_right_67 : decode cX1_right 67 = .ok (.getfield 59, 3) := dk_180 0 59 (dk_at dksX1_right_2 19 rfl rfl)
theorem dX1_right_70 : decode cX1_right 70 = .ok (.getfield 97, 3) := dk_180 0 97 (dk_at dksX1_right_3 0 rfl rfl)
theorem dX1_right_73 : decode cX1_right 73 = .ok (.irem, 1) := dk_112 (dk_at dksX1_right_3 3 rfl rfl)
theorem dX1_right_74 : decode cX1_right 74 = .ok (.istore 6, 2) := dk_54 6 (dk_at dksX1_right_3 4 rfl rfl)
theorem dX1_right_76 : decode cX1_right 76 = .ok (.aload_n 0, 1) := dk_42 (dk_at dksX1_right_3 6 rfl rfl)
theorem dX1_right_77 : decode cX1_right 77 = .ok (.getfield 76, 3) := dk_180 0 76 (dk_at dksX1_right_3 7 rfl rfl)
theorem dX1_right_80 : decode cX1_right 80 = .ok (.iload 4, 2) := dk_21 4 (dk_at dksX1_right_3 10 rfl rfl)
theorem dX1_right_82 : decode cX1_right 82 = .ok (.iload 5, 2) := dk_21 5 (dk_at dksX1_right_3 12 rfl rfl)
theorem dX1_right_84 : decode cX1_right 84 = .ok (.iload 6, 2) := dk_21 6 (dk_at dksX1_right_3 14 rfl rfl)
theorem dX1_right_86 : decode cX1_right 86 = .ok (.invokevirtual 293, 3) := dk_182 1 37 (dk_at dksX1_right_3 16 rfl rfl)
theorem dX1_right_89 : decode cX1_right 89 = .ok (.istore 7, 2) := dk_54 7 (dk_at dksX1_right_3 19 rfl rfl)
theorem dX1_right_91 : decode cX1_right 91 = .ok (.iload 7, 2) := dk_21 7 (dk_at dksX1_right_3 21 rfl rfl)
theorem dX1_right_93 : decode cX1_right 93 = .ok (.bipush (-2), 2) := dk_16 254 (dk_at dksX1_right_4 0 rfl rfl)
theorem dX1_right_95 : decode cX1_right 95 = .ok (.if_icmp .ne 7, 3) := dk_160 0 7 (dk_at dksX1_right_4 2 rfl rfl)
theorem dX1_right_98 : decode cX1_right 98 = .ok (.iconst 3, 1) := dk_6 (dk_at dksX1_right_4 5 rfl rfl)
theorem dX1_right_99 : decode cX1_right 99 = .ok (.goto 37, 3) := dk_167 0 37 (dk_at dksX1_right_4 6 rfl rfl)
theorem dX1_right_102 : decode cX1_right 102 = .ok (.iload 7, 2) := dk_21 7 (dk_at dksX1_right_4 9 rfl rfl)
theorem dX1_right_104 : decode cX1_right 104 = .ok (.bipush (-3), 2) := dk_16 253 (dk_at dksX1_right_4 11 rfl rfl)
theorem dX1_right_106 : decode cX1_right 106 = .ok (.if_icmp .ne 7, 3) := dk_160 0 7 (dk_at dksX1_right_4 13 rfl rfl)
theorem dX1_right_109 : decode cX1_right 109 = .ok (.iconst 2, 1) := dk_5 (dk_at dksX1_right_4 16 rfl rfl)
theorem dX1_right_110 : decode cX1_right 110 = .ok (.goto 26, 3) := dk_167 0 26 (dk_at dksX1_right_4 17 rfl rfl)
theorem dX1_right_113 : decode cX1_right 113 = .ok (.iload 7, 2) := dk_21 7 (dk_at dksX1_right_4 20 rfl rfl)
theorem dX1_right_115 : decode cX1_right 115 = .ok (.aload_n 0, 1) := dk_42 (dk_at dksX1_right_4 22 rfl rfl)
theorem dX1_right_116 : decode cX1_right 116 = .ok (.getfield 59, 3) := dk_180 0 59 (dk_at dksX1_right_5 0 rfl rfl)
theorem dX1_right_119 : decode cX1_right 119 = .ok (.iload 4, 2) := dk_21 4 (dk_at dksX1_right_5 3 rfl rfl)
theorem dX1_right_121 : decode cX1_right 121 = .ok (.iload 5, 2) := dk_21 5 (dk_at dksX1_right_5 5 rfl rfl)
theorem dX1_right_123 : decode cX1_right 123 = .ok (.iload 6, 2) := dk_21 6 (dk_at dksX1_right_5 7 rfl rfl)
theorem dX1_right_125 : decode cX1_right 125 = .ok (.invokevirtual 126, 3) := dk_182 0 126 (dk_at dksX1_right_5 9 rfl rfl)
theorem dX1_right_128 : decode cX1_right 128 = .ok (.if_icmp .ne 7, 3) := dk_160 0 7 (dk_at dksX1_right_5 12 rfl rfl)
theorem dX1_right_131 : decode cX1_right 131 = .ok (.iconst 0, 1) := dk_3 (dk_at dksX1_right_5 15 rfl rfl)
theorem dX1_right_132 : decode cX1_right 132 = .ok (.goto 4, 3) := dk_167 0 4 (dk_at dksX1_right_5 16 rfl rfl)
theorem dX1_right_135 : decode cX1_right 135 = .ok (.iconst 1, 1) := dk_4 (dk_at dksX1_right_5 19 rfl rfl)
theorem dX1_right_136 : decode cX1_right 136 = .ok (.istore 8, 2) := dk_54 8 (dk_at dksX1_right_5 20 rfl rfl)
theorem dX1_right_138 : decode cX1_right 138 = .ok (.iload 8, 2) := dk_21 8 (dk_at dksX1_right_5 22 rfl rfl)
theorem dX1_right_140 : decode cX1_right 140 = .ok (.iload_n 1, 1) := dk_27 (dk_at dksX1_right_6 0 rfl rfl)
theorem dX1_right_141 : decode cX1_right 141 = .ok (.if_icmp .ne 6, 3) := dk_160 0 6 (dk_at dksX1_right_6 1 rfl rfl)
theorem dX1_right_144 : decode cX1_right 144 = .ok (.iinc 2 1, 3) := dk_132 2 1 (dk_at dksX1_right_6 4 rfl rfl)
theorem dX1_right_147 : decode cX1_right 147 = .ok (.iinc 3 1, 3) := dk_132 3 1 (dk_at dksX1_right_6 7 rfl rfl)
theorem dX1_right_150 : decode cX1_right 150 = .ok (.goto (-124), 3) := dk_167 255 132 (dk_at dksX1_right_6 10 rfl rfl)
theorem dX1_right_153 : decode cX1_right 153 = .ok (.aload_n 0, 1) := dk_42 (dk_at dksX1_right_6 13 rfl rfl)
theorem dX1_right_154 : decode cX1_right 154 = .ok (.iload_n 2, 1) := dk_28 (dk_at dksX1_right_6 14 rfl rfl)
theorem dX1_right_155 : decode cX1_right 155 = .ok (.invokevirtual 94, 3) := dk_182 0 94 (dk_at dksX1_right_6 15 rfl rfl)
theorem dX1_right_158 : decode cX1_right 158 = .ok (.ireturn, 1) := dk_172 (dk_at dksX1_right_6 18 rfl rfl)
abbrev cX1_left : ByteArray := prog_1_method_52_code
def yX1_left : MethodName := ⟨RX1, "left", "()I"⟩
def dkwX1_left_2 : List UInt8 := [180, 0, 114, 42, 180, 0, 76, 180, 0, 114, 100, 182, 0, 94, 172]
abbrev dktX1_left_2 : List UInt8 := dkwX1_left_2 ++ []
def dkwX1_left_1 : List UInt8 := [76, 43, 180, 0, 171, 2, 159, 0, 15, 43, 43, 182, 0, 228, 182, 0, 227, 87, 167, 255, 239, 42, 43]
abbrev dktX1_left_1 : List UInt8 := dkwX1_left_1 ++ dktX1_left_2
def dkwX1_left_0 : List UInt8 := [42, 180, 0, 76, 199, 0, 9, 42, 4, 182, 0, 43, 172, 187, 0, 71, 89, 42, 180, 0, 76, 183, 1, 62]
abbrev dktX1_left_0 : List UInt8 := dkwX1_left_0 ++ dktX1_left_1
theorem dksX1_left_0 : cX1_left.data.toList.drop 0 = dktX1_left_0 := by decide +kernel
theorem dksX1_left_1 : cX1_left.data.toList.drop 24 = dktX1_left_1 := dk_seg dksX1_left_0 24 rfl rfl
theorem dksX1_left_2 : cX1_left.data.toList.drop 47 = dktX1_left_2 := dk_seg dksX1_left_1 23 rfl rfl
theorem dX1_left_0 : decode cX1_left 0 = .ok (.aload_n 0, 1) := dk_42 (dk_at dksX1_left_0 0 rfl rfl)
theorem dX1_left_1 : decode cX1_left 1 = .ok (.getfield 76, 3) := dk_180 0 76 (dk_at dksX1_left_0 1 rfl rfl)
theorem dX1_left_4 : decode cX1_left 4 = .ok (.ifnonnull 9, 3) := dk_199 0 9 (dk_at dksX1_left_0 4 rfl rfl)
theorem dX1_left_7 : decode cX1_left 7 = .ok (.aload_n 0, 1) := dk_42 (dk_at dksX1_left_0 7 rfl rfl)
theorem dX1_left_8 : decode cX1_left 8 = .ok (.iconst 1, 1) := dk_4 (dk_at dksX1_left_0 8 rfl rfl)
theorem dX1_left_9 : decode cX1_left 9 = .ok (.invokevirtual 43, 3) := dk_182 0 43 (dk_at dksX1_left_0 9 rfl rfl)
theorem dX1_left_12 : decode cX1_left 12 = .ok (.ireturn, 1) := dk_172 (dk_at dksX1_left_0 12 rfl rfl)
theorem dX1_left_13 : decode cX1_left 13 = .ok (.new 71, 3) := dk_187 0 71 (dk_at dksX1_left_0 13 rfl rfl)
theorem dX1_left_16 : decode cX1_left 16 = .ok (.dup, 1) := dk_89 (dk_at dksX1_left_0 16 rfl rfl)
theorem dX1_left_17 : decode cX1_left 17 = .ok (.aload_n 0, 1) := dk_42 (dk_at dksX1_left_0 17 rfl rfl)
theorem dX1_left_18 : decode cX1_left 18 = .ok (.getfield 76, 3) := dk_180 0 76 (dk_at dksX1_left_0 18 rfl rfl)
theorem dX1_left_21 : decode cX1_left 21 = .ok (.invokespecial 318, 3) := dk_183 1 62 (dk_at dksX1_left_0 21 rfl rfl)
theorem dX1_left_24 : decode cX1_left 24 = .ok (.astore_n 1, 1) := dk_76 (dk_at dksX1_left_1 0 rfl rfl)
theorem dX1_left_25 : decode cX1_left 25 = .ok (.aload_n 1, 1) := dk_43 (dk_at dksX1_left_1 1 rfl rfl)
theorem dX1_left_26 : decode cX1_left 26 = .ok (.getfield 171, 3) := dk_180 0 171 (dk_at dksX1_left_1 2 rfl rfl)
theorem dX1_left_29 : decode cX1_left 29 = .ok (.iconst (-1), 1) := dk_2 (dk_at dksX1_left_1 5 rfl rfl)
theorem dX1_left_30 : decode cX1_left 30 = .ok (.if_icmp .eq 15, 3) := dk_159 0 15 (dk_at dksX1_left_1 6 rfl rfl)
theorem dX1_left_33 : decode cX1_left 33 = .ok (.aload_n 1, 1) := dk_43 (dk_at dksX1_left_1 9 rfl rfl)
theorem dX1_left_34 : decode cX1_left 34 = .ok (.aload_n 1, 1) := dk_43 (dk_at dksX1_left_1 10 rfl rfl)
theorem dX1_left_35 : decode cX1_left 35 = .ok (.invokevirtual 228, 3) := dk_182 0 228 (dk_at dksX1_left_1 11 rfl rfl)
theorem dX1_left_38 : decode cX1_left 38 = .ok (.invokevirtual 227, 3) := dk_182 0 227 (dk_at dksX1_left_1 14 rfl rfl)
theorem dX1_left_41 : decode cX1_left 41 = .ok (.pop, 1) := dk_87 (dk_at dksX1_left_1 17 rfl rfl)
theorem dX1_left_42 : decode cX1_left 42 = .ok (.goto (-17), 3) := dk_167 255 239 (dk_at dksX1_left_1 18 rfl rfl)
theorem dX1_left_45 : decode cX1_left 45 = .ok (.aload_n 0, 1) := dk_42 (dk_at dksX1_left_1 21 rfl rfl)
theorem dX1_left_46 : decode cX1_left 46 = .ok (.aload_n 1, 1) := dk_43 (dk_at dksX1_left_1 22 rfl rfl)
theorem dX1_left_47 : decode cX1_left 47 = .ok (.getfield 114, 3) := dk_180 0 114 (dk_at dksX1_left_2 0 rfl rfl)
theorem dX1_left_50 : decode cX1_left 50 = .ok (.aload_n 0, 1) := dk_42 (dk_at dksX1_left_2 3 rfl rfl)
theorem dX1_left_51 : decode cX1_left 51 = .ok (.getfield 76, 3) := dk_180 0 76 (dk_at dksX1_left_2 4 rfl rfl)
theorem dX1_left_54 : decode cX1_left 54 = .ok (.getfield 114, 3) := dk_180 0 114 (dk_at dksX1_left_2 7 rfl rfl)
theorem dX1_left_57 : decode cX1_left 57 = .ok (.isub, 1) := dk_100 (dk_at dksX1_left_2 10 rfl rfl)
theorem dX1_left_58 : decode cX1_left 58 = .ok (.invokevirtual 94, 3) := dk_182 0 94 (dk_at dksX1_left_2 11 rfl rfl)
theorem dX1_left_61 : decode cX1_left 61 = .ok (.ireturn, 1) := dk_172 (dk_at dksX1_left_2 14 rfl rfl)
abbrev cX1_chart : ByteArray := prog_1_method_54_code
def yX1_chart : MethodName := ⟨RX1, "chart", "(II)I"⟩
def dkwX1_chart_3 : List UInt8 := [182, 1, 65, 182, 0, 94, 172]
abbrev dktX1_chart_3 : List UInt8 := dkwX1_chart_3 ++ []
def dkwX1_chart_2 : List UInt8 := [42, 180, 0, 59, 180, 0, 97, 160, 0, 8, 16, 10, 167, 0, 14, 42, 27, 28, 29, 108, 28, 29, 112]
abbrev dktX1_chart_2 : List UInt8 := dkwX1_chart_2 ++ dktX1_chart_3
def dkwX1_chart_1 : List UInt8 := [180, 0, 97, 4, 96, 62, 28, 29, 16, 26, 104, 161, 0, 9, 42, 2, 182, 0, 94, 172, 42, 28, 29, 112]
abbrev dktX1_chart_1 : List UInt8 := dkwX1_chart_1 ++ dktX1_chart_2
def dkwX1_chart_0 : List UInt8 := [42, 3, 27, 3, 182, 0, 123, 153, 0, 7, 28, 156, 0, 9, 42, 4, 182, 0, 43, 172, 42, 180, 0, 59]
abbrev dktX1_chart_0 : List UInt8 := dkwX1_chart_0 ++ dktX1_chart_1
theorem dksX1_chart_0 : cX1_chart.data.toList.drop 0 = dktX1_chart_0 := by decide +kernel
theorem dksX1_chart_1 : cX1_chart.data.toList.drop 24 = dktX1_chart_1 := dk_seg dksX1_chart_0 24 rfl rfl
theorem dksX1_chart_2 : cX1_chart.data.toList.drop 48 = dktX1_chart_2 := dk_seg dksX1_chart_1 24 rfl rfl
theorem dksX1_chart_3 : cX1_chart.data.toList.drop 71 = dktX1_chart_3 := dk_seg dksX1_chart_2 23 rfl rfl
theorem dX1_chart_0 : decode cX1_chart 0 = .ok (.aload_n 0, 1) := dk_42 (dk_at dksX1_chart_0 0 rfl rfl)
theorem dX1_chart_1 : decode cX1_chart 1 = .ok (.iconst 0, 1) := dk_3 (dk_at dksX1_chart_0 1 rfl rfl)
theorem dX1_chart_2 : decode cX1_chart 2 = .ok (.iload_n 1, 1) := dk_27 (dk_at dksX1_chart_0 2 rfl rfl)
theorem dX1_chart_3 : decode cX1_chart 3 = .ok (.iconst 0, 1) := dk_3 (dk_at dksX1_chart_0 3 rfl rfl)
theorem dX1_chart_4 : decode cX1_chart 4 = .ok (.invokevirtual 123, 3) := dk_182 0 123 (dk_at dksX1_chart_0 4 rfl rfl)
theorem dX1_chart_7 : decode cX1_chart 7 = .ok (.ifCond .eq 7, 3) := dk_153 0 7 (dk_at dksX1_chart_0 7 rfl rfl)
theorem dX1_chart_10 : decode cX1_chart 10 = .ok (.iload_n 2, 1) := dk_28 (dk_at dksX1_chart_0 10 rfl rfl)
theorem dX1_chart_11 : decode cX1_chart 11 = .ok (.ifCond .ge 9, 3) := dk_156 0 9 (dk_at dksX1_chart_0 11 rfl rfl)
theorem dX1_chart_14 : decode cX1_chart 14 = .ok (.aload_n 0, 1) := dk_42 (dk_at dksX1_chart_0 14 rfl rfl)
theorem dX1_chart_15 : decode cX1_chart 15 = .ok (.iconst 1, 1) := dk_4 (dk_at dksX1_chart_0 15 rfl rfl)
theorem dX1_chart_16 : decode cX1_chart 16 = .ok (.invokevirtual 43, 3) := dk_182 0 43 (dk_at dksX1_chart_0 16 rfl rfl)
theorem dX1_chart_19 : decode cX1_chart 19 = .ok (.ireturn, 1) := dk_172 (dk_at dksX1_chart_0 19 rfl rfl)
theorem dX1_chart_20 : decode cX1_chart 20 = .ok (.aload_n 0, 1) := dk_42 (dk_at dksX1_chart_0 20 rfl rfl)
theorem dX1_chart_21 : decode cX1_chart 21 = .ok (.getfield 59, 3) := dk_180 0 59 (dk_at dksX1_chart_0 21 rfl rfl)
theorem dX1_chart_24 : decode cX1_chart 24 = .ok (.getfield 97, 3) := dk_180 0 97 (dk_at dksX1_chart_1 0 rfl rfl)
theorem dX1_chart_27 : decode cX1_chart 27 = .ok (.iconst 1, 1) := dk_4 (dk_at dksX1_chart_1 3 rfl rfl)
theorem dX1_chart_28 : decode cX1_chart 28 = .ok (.iadd, 1) := dk_96 (dk_at dksX1_chart_1 4 rfl rfl)
theorem dX1_chart_29 : decode cX1_chart 29 = .ok (.istore_n 3, 1) := dk_62 (dk_at dksX1_chart_1 5 rfl rfl)
theorem dX1_chart_30 : decode cX1_chart 30 = .ok (.iload_n 2, 1) := dk_28 (dk_at dksX1_chart_1 6 rfl rfl)
theorem dX1_chart_31 : decode cX1_chart 31 = .ok (.iload_n 3, 1) := dk_29 (dk_at dksX1_chart_1 7 rfl rfl)
theorem dX1_chart_32 : decode cX1_chart 32 = .ok (.bipush 26, 2) := dk_16 26 (dk_at dksX1_chart_1 8 rfl rfl)
theorem dX1_chart_34 : decode cX1_chart 34 = .ok (.imul, 1) := dk_104 (dk_at dksX1_chart_1 10 rfl rfl)
theorem dX1_chart_35 : decode cX1_chart 35 = .ok (.if_icmp .lt 9, 3) := dk_161 0 9 (dk_at dksX1_chart_1 11 rfl rfl)
theorem dX1_chart_38 : decode cX1_chart 38 = .ok (.aload_n 0, 1) := dk_42 (dk_at dksX1_chart_1 14 rfl rfl)
theorem dX1_chart_39 : decode cX1_chart 39 = .ok (.iconst (-1), 1) := dk_2 (dk_at dksX1_chart_1 15 rfl rfl)
theorem dX1_chart_40 : decode cX1_chart 40 = .ok (.invokevirtual 94, 3) := dk_182 0 94 (dk_at dksX1_chart_1 16 rfl rfl)
theorem dX1_chart_43 : decode cX1_chart 43 = .ok (.ireturn, 1) := dk_172 (dk_at dksX1_chart_1 19 rfl rfl)
theorem dX1_chart_44 : decode cX1_chart 44 = .ok (.aload_n 0, 1) := dk_42 (dk_at dksX1_chart_1 20 rfl rfl)
theorem dX1_chart_45 : decode cX1_chart 45 = .ok (.iload_n 2, 1) := dk_28 (dk_at dksX1_chart_1 21 rfl rfl)
theorem dX1_chart_46 : decode cX1_chart 46 = .ok (.iload_n 3, 1) := dk_29 (dk_at dksX1_chart_1 22 rfl rfl)
theorem dX1_chart_47 : decode cX1_chart 47 = .ok (.irem, 1) := dk_112 (dk_at dksX1_chart_1 23 rfl rfl)
theorem dX1_chart_48 : decode cX1_chart 48 = .ok (.aload_n 0, 1) := dk_42 (dk_at dksX1_chart_2 0 rfl rfl)
theorem dX1_chart_49 : decode cX1_chart 49 = .ok (.getfield 59, 3) := dk_180 0 59 (dk_at dksX1_chart_2 1 rfl rfl)
theorem dX1_chart_52 : decode cX1_chart 52 = .ok (.getfield 97, 3) := dk_180 0 97 (dk_at dksX1_chart_2 4 rfl rfl)
theorem dX1_chart_55 : decode cX1_chart 55 = .ok (.if_icmp .ne 8, 3) := dk_160 0 8 (dk_at dksX1_chart_2 7 rfl rfl)
theorem dX1_chart_58 : decode cX1_chart 58 = .ok (.bipush 10, 2) := dk_16 10 (dk_at dksX1_chart_2 10 rfl rfl)
theorem dX1_chart_60 : decode cX1_chart 60 = .ok (.goto 14, 3) := dk_167 0 14 (dk_at dksX1_chart_2 12 rfl rfl)
theorem dX1_chart_63 : decode cX1_chart 63 = .ok (.aload_n 0, 1) := dk_42 (dk_at dksX1_chart_2 15 rfl rfl)
theorem dX1_chart_64 : decode cX1_chart 64 = .ok (.iload_n 1, 1) := dk_27 (dk_at dksX1_chart_2 16 rfl rfl)
theorem dX1_chart_65 : decode cX1_chart 65 = .ok (.iload_n 2, 1) := dk_28 (dk_at dksX1_chart_2 17 rfl rfl)
theorem dX1_chart_66 : decode cX1_chart 66 = .ok (.iload_n 3, 1) := dk_29 (dk_at dksX1_chart_2 18 rfl rfl)
theorem dX1_chart_67 : decode cX1_chart 67 = .ok (.idiv, 1) := dk_108 (dk_at dksX1_chart_2 19 rfl rfl)
theorem dX1_chart_68 : decode cX1_chart 68 = .ok (.iload_n 2, 1) := dk_28 (dk_at dksX1_chart_2 20 rfl rfl)
theorem dX1_chart_69 : decode cX1_chart 69 = .ok (.iload_n 3, 1) := dk_29 (dk_at dksX1_chart_2 21 rfl rfl)
theorem dX1_chart_70 : decode cX1_chart 70 = .ok (.irem, 1) := dk_112 (dk_at dksX1_chart_2 22 rfl rfl)
theorem dX1_chart_71 : decode cX1_chart 71 = .ok (.invokevirtual 321, 3) := dk_182 1 65 (dk_at dksX1_chart_3 0 rfl rfl)
theorem dX1_chart_74 : decode cX1_chart 74 = .ok (.invokevirtual 94, 3) := dk_182 0 94 (dk_at dksX1_chart_3 3 rfl rfl)
theorem dX1_chart_77 : decode cX1_chart 77 = .ok (.ireturn, 1) := dk_172 (dk_at dksX1_chart_3 6 rfl rfl)
abbrev cX1_signOf : ByteArray := prog_1_method_53_code
def yX1_signOf : MethodName := ⟨RX1, "signOf", "(III)I"⟩
def dkwX1_signOf_5 : List UInt8 := [167, 0, 5, 16, 46, 172]
abbrev dktX1_signOf_5 : List UInt8 := dkwX1_signOf_5 ++ []
def dkwX1_signOf_4 : List UInt8 := [172, 28, 16, 25, 160, 0, 22, 21, 4, 16, 253, 159, 0, 10, 21, 5, 16, 253, 160, 0, 8, 16, 63]
abbrev dktX1_signOf_4 : List UInt8 := dkwX1_signOf_4 ++ dktX1_signOf_5
def dkwX1_signOf_3 : List UInt8 := [160, 0, 25, 42, 180, 0, 76, 4, 27, 29, 4, 182, 1, 20, 199, 0, 8, 16, 99, 167, 0, 5, 16, 67]
abbrev dktX1_signOf_3 : List UInt8 := dkwX1_signOf_3 ++ dktX1_signOf_4
def dkwX1_signOf_2 : List UInt8 := [180, 0, 76, 3, 27, 29, 4, 182, 1, 20, 199, 0, 8, 16, 111, 167, 0, 5, 16, 79, 172, 21, 5, 28]
abbrev dktX1_signOf_2 : List UInt8 := dkwX1_signOf_2 ++ dktX1_signOf_3
def dkwX1_signOf_1 : List UInt8 := [21, 4, 28, 160, 0, 12, 21, 5, 28, 160, 0, 6, 16, 42, 172, 21, 4, 28, 160, 0, 25, 42]
abbrev dktX1_signOf_1 : List UInt8 := dkwX1_signOf_1 ++ dktX1_signOf_2
def dkwX1_signOf_0 : List UInt8 := [42, 180, 0, 76, 3, 27, 29, 182, 1, 37, 54, 4, 42, 180, 0, 76, 4, 27, 29, 182, 1, 37, 54, 5]
abbrev dktX1_signOf_0 : List UInt8 := dkwX1_signOf_0 ++ dktX1_signOf_1
theorem dksX1_signOf_0 : cX1_signOf.data.toList.drop 0 = dktX1_signOf_0 := by decide +kernel
theorem dksX1_signOf_1 : cX1_signOf.data.toList.drop 24 = dktX1_signOf_1 := dk_seg dksX1_signOf_0 24 rfl rfl
theorem dksX1_signOf_2 : cX1_signOf.data.toList.drop 46 = dktX1_signOf_2 := dk_seg dksX1_signOf_1 22 rfl rfl
theorem dksX1_signOf_3 : cX1_signOf.data.toList.drop 70 = dktX1_signOf_3 := dk_seg dksX1_signOf_2 24 rfl rfl
theorem dksX1_signOf_4 : cX1_signOf.data.toList.drop 94 = dktX1_signOf_4 := dk_seg dksX1_signOf_3 24 rfl rfl
theorem dksX1_signOf_5 : cX1_signOf.data.toList.drop 117 = dktX1_signOf_5 := dk_seg dksX1_signOf_4 23 rfl rfl
theorem dX1_signOf_0 : decode cX1_signOf 0 = .ok (.aload_n 0, 1) := dk_42 (dk_at dksX1_signOf_0 0 rfl rfl)
theorem dX1_signOf_1 : decode cX1_signOf 1 = .ok (.getfield 76, 3) := dk_180 0 76 (dk_at dksX1_signOf_0 1 rfl rfl)
theorem dX1_signOf_4 : decode cX1_signOf 4 = .ok (.iconst 0, 1) := dk_3 (dk_at dksX1_signOf_0 4 rfl rfl)
theorem dX1_signOf_5 : decode cX1_signOf 5 = .ok (.iload_n 1, 1) := dk_27 (dk_at dksX1_signOf_0 5 rfl rfl)
theorem dX1_signOf_6 : decode cX1_signOf 6 = .ok (.iload_n 3, 1) := dk_29 (dk_at dksX1_signOf_0 6 rfl rfl)
theorem dX1_signOf_7 : decode cX1_signOf 7 = .ok (.invokevirtual 293, 3) := dk_182 1 37 (dk_at dksX1_signOf_0 7 rfl rfl)
theorem dX1_signOf_10 : decode cX1_signOf 10 = .ok (.istore 4, 2) := dk_54 4 (dk_at dksX1_signOf_0 10 rfl rfl)
theorem dX1_signOf_12 : decode cX1_signOf 12 = .ok (.aload_n 0, 1) := dk_42 (dk_at dksX1_signOf_0 12 rfl rfl)
theorem dX1_signOf_13 : decode cX1_signOf 13 = .ok (.getfield 76, 3) := dk_180 0 76 (dk_at dksX1_signOf_0 13 rfl rfl)
theorem dX1_signOf_16 : decode cX1_signOf 16 = .ok (.iconst 1, 1) := dk_4 (dk_at dksX1_signOf_0 16 rfl rfl)
theorem dX1_signOf_17 : decode cX1_signOf 17 = .ok (.iload_n 1, 1) := dk_27 (dk_at dksX1_signOf_0 17 rfl rfl)
theorem dX1_signOf_18 : decode cX1_signOf 18 = .ok (.iload_n 3, 1) := dk_29 (dk_at dksX1_signOf_0 18 rfl rfl)
theorem dX1_signOf_19 : decode cX1_signOf 19 = .ok (.invokevirtual 293, 3) := dk_182 1 37 (dk_at dksX1_signOf_0 19 rfl rfl)
theorem dX1_signOf_22 : decode cX1_signOf 22 = .ok (.istore 5, 2) := dk_54 5 (dk_at dksX1_signOf_0 22 rfl rfl)
theorem dX1_signOf_24 : decode cX1_signOf 24 = .ok (.iload 4, 2) := dk_21 4 (dk_at dksX1_signOf_1 0 rfl rfl)
theorem dX1_signOf_26 : decode cX1_signOf 26 = .ok (.iload_n 2, 1) := dk_28 (dk_at dksX1_signOf_1 2 rfl rfl)
theorem dX1_signOf_27 : decode cX1_signOf 27 = .ok (.if_icmp .ne 12, 3) := dk_160 0 12 (dk_at dksX1_signOf_1 3 rfl rfl)
theorem dX1_signOf_30 : decode cX1_signOf 30 = .ok (.iload 5, 2) := dk_21 5 (dk_at dksX1_signOf_1 6 rfl rfl)
theorem dX1_signOf_32 : decode cX1_signOf 32 = .ok (.iload_n 2, 1) := dk_28 (dk_at dksX1_signOf_1 8 rfl rfl)
theorem dX1_signOf_33 : decode cX1_signOf 33 = .ok (.if_icmp .ne 6, 3) := dk_160 0 6 (dk_at dksX1_signOf_1 9 rfl rfl)
theorem dX1_signOf_36 : decode cX1_signOf 36 = .ok (.bipush 42, 2) := dk_16 42 (dk_at dksX1_signOf_1 12 rfl rfl)
theorem dX1_signOf_38 : decode cX1_signOf 38 = .ok (.ireturn, 1) := dk_172 (dk_at dksX1_signOf_1 14 rfl rfl)
theorem dX1_signOf_39 : decode cX1_signOf 39 = .ok (.iload 4, 2) := dk_21 4 (dk_at dksX1_signOf_1 15 rfl rfl)
theorem dX1_signOf_41 : decode cX1_signOf 41 = .ok (.iload_n 2, 1) := dk_28 (dk_at dksX1_signOf_1 17 rfl rfl)
theorem dX1_signOf_42 : decode cX1_signOf 42 = .ok (.if_icmp .ne 25, 3) := dk_160 0 25 (dk_at dksX1_signOf_1 18 rfl rfl)
theorem dX1_signOf_45 : decode cX1_signOf 45 = .ok (.aload_n 0, 1) := dk_42 (dk_at dksX1_signOf_1 21 rfl rfl)
theorem dX1_signOf_46 : decode cX1_signOf 46 = .ok (.getfield 76, 3) := dk_180 0 76 (dk_at dksX1_signOf_2 0 rfl rfl)
theorem dX1_signOf_49 : decode cX1_signOf 49 = .ok (.iconst 0, 1) := dk_3 (dk_at dksX1_signOf_2 3 rfl rfl)
theorem dX1_signOf_50 : decode cX1_signOf 50 = .ok (.iload_n 1, 1) := dk_27 (dk_at dksX1_signOf_2 4 rfl rfl)
theorem dX1_signOf_51 : decode cX1_signOf 51 = .ok (.iload_n 3, 1) := dk_29 (dk_at dksX1_signOf_2 5 rfl rfl)
theorem dX1_signOf_52 : decode cX1_signOf 52 = .ok (.iconst 1, 1) := dk_4 (dk_at dksX1_signOf_2 6 rfl rfl)
theorem dX1_signOf_53 : decode cX1_signOf 53 = .ok (.invokevirtual 276, 3) := dk_182 1 20 (dk_at dksX1_signOf_2 7 rfl rfl)
theorem dX1_signOf_56 : decode cX1_signOf 56 = .ok (.ifnonnull 8, 3) := dk_199 0 8 (dk_at dksX1_signOf_2 10 rfl rfl)
theorem dX1_signOf_59 : decode cX1_signOf 59 = .ok (.bipush 111, 2) := dk_16 111 (dk_at dksX1_signOf_2 13 rfl rfl)
theorem dX1_signOf_61 : decode cX1_signOf 61 = .ok (.goto 5, 3) := dk_167 0 5 (dk_at dksX1_signOf_2 15 rfl rfl)
theorem dX1_signOf_64 : decode cX1_signOf 64 = .ok (.bipush 79, 2) := dk_16 79 (dk_at dksX1_signOf_2 18 rfl rfl)
theorem dX1_signOf_66 : decode cX1_signOf 66 = .ok (.ireturn, 1) := dk_172 (dk_at dksX1_signOf_2 20 rfl rfl)
theorem dX1_signOf_67 : decode cX1_signOf 67 = .ok (.iload 5, 2) := dk_21 5 (dk_at dksX1_signOf_2 21 rfl rfl)
theorem dX1_signOf_69 : decode cX1_signOf 69 = .ok (.iload_n 2, 1) := dk_28 (dk_at dksX1_signOf_2 23 rfl rfl)
theorem dX1_signOf_70 : decode cX1_signOf 70 = .ok (.if_icmp .ne 25, 3) := dk_160 0 25 (dk_at dksX1_signOf_3 0 rfl rfl)
theorem dX1_signOf_73 : decode cX1_signOf 73 = .ok (.aload_n 0, 1) := dk_42 (dk_at dksX1_signOf_3 3 rfl rfl)
theorem dX1_signOf_74 : decode cX1_signOf 74 = .ok (.getfield 76, 3) := dk_180 0 76 (dk_at dksX1_signOf_3 4 rfl rfl)
theorem dX1_signOf_77 : decode cX1_signOf 77 = .ok (.iconst 1, 1) := dk_4 (dk_at dksX1_signOf_3 7 rfl rfl)
theorem dX1_signOf_78 : decode cX1_signOf 78 = .ok (.iload_n 1, 1) := dk_27 (dk_at dksX1_signOf_3 8 rfl rfl)
theorem dX1_signOf_79 : decode cX1_signOf 79 = .ok (.iload_n 3, 1) := dk_29 (dk_at dksX1_signOf_3 9 rfl rfl)
theorem dX1_signOf_80 : decode cX1_signOf 80 = .ok (.iconst 1, 1) := dk_4 (dk_at dksX1_signOf_3 10 rfl rfl)
theorem dX1_signOf_81 : decode cX1_signOf 81 = .ok (.invokevirtual 276, 3) := dk_182 1 20 (dk_at dksX1_signOf_3 11 rfl rfl)
theorem dX1_signOf_84 : decode cX1_signOf 84 = .ok (.ifnonnull 8, 3) := dk_199 0 8 (dk_at dksX1_signOf_3 14 rfl rfl)
theorem dX1_signOf_87 : decode cX1_signOf 87 = .ok (.bipush 99, 2) := dk_16 99 (dk_at dksX1_signOf_3 17 rfl rfl)
theorem dX1_signOf_89 : decode cX1_signOf 89 = .ok (.goto 5, 3) := dk_167 0 5 (dk_at dksX1_signOf_3 19 rfl rfl)
theorem dX1_signOf_92 : decode cX1_signOf 92 = .ok (.bipush 67, 2) := dk_16 67 (dk_at dksX1_signOf_3 22 rfl rfl)
theorem dX1_signOf_94 : decode cX1_signOf 94 = .ok (.ireturn, 1) := dk_172 (dk_at dksX1_signOf_4 0 rfl rfl)
theorem dX1_signOf_95 : decode cX1_signOf 95 = .ok (.iload_n 2, 1) := dk_28 (dk_at dksX1_signOf_4 1 rfl rfl)
theorem dX1_signOf_96 : decode cX1_signOf 96 = .ok (.bipush 25, 2) := dk_16 25 (dk_at dksX1_signOf_4 2 rfl rfl)
theorem dX1_signOf_98 : decode cX1_signOf 98 = .ok (.if_icmp .ne 22, 3) := dk_160 0 22 (dk_at dksX1_signOf_4 4 rfl rfl)
theorem dX1_signOf_101 : decode cX1_signOf 101 = .ok (.iload 4, 2) := dk_21 4 (dk_at dksX1_signOf_4 7 rfl rfl)
theorem dX1_signOf_103 : decode cX1_signOf 103 = .ok (.bipush (-3), 2) := dk_16 253 (dk_at dksX1_signOf_4 9 rfl rfl)
theorem dX1_signOf_105 : decode cX1_signOf 105 = .ok (.if_icmp .eq 10, 3) := dk_159 0 10 (dk_at dksX1_signOf_4 11 rfl rfl)
theorem dX1_signOf_108 : decode cX1_signOf 108 = .ok (.iload 5, 2) := dk_21 5 (dk_at dksX1_signOf_4 14 rfl rfl)
theorem dX1_signOf_110 : decode cX1_signOf 110 = .ok (.bipush (-3), 2) := dk_16 253 (dk_at dksX1_signOf_4 16 rfl rfl)
theorem dX1_signOf_112 : decode cX1_signOf 112 = .ok (.if_icmp .ne 8, 3) := dk_160 0 8 (dk_at dksX1_signOf_4 18 rfl rfl)
theorem dX1_signOf_115 : decode cX1_signOf 115 = .ok (.bipush 63, 2) := dk_16 63 (dk_at dksX1_signOf_4 21 rfl rfl)
theorem dX1_signOf_117 : decode cX1_signOf 117 = .ok (.goto 5, 3) := dk_167 0 5 (dk_at dksX1_signOf_5 0 rfl rfl)
theorem dX1_signOf_120 : decode cX1_signOf 120 = .ok (.bipush 46, 2) := dk_16 46 (dk_at dksX1_signOf_5 3 rfl rfl)
theorem dX1_signOf_122 : decode cX1_signOf 122 = .ok (.ireturn, 1) := dk_172 (dk_at dksX1_signOf_5 5 rfl rfl)
abbrev cX1_mark : ByteArray := prog_1_method_56_code
def yX1_mark : MethodName := ⟨RX1, "mark", "()I"⟩
def dkwX1_mark_5 : List UInt8 := [182, 0, 94, 172]
abbrev dktX1_mark_5 : List UInt8 := dkwX1_mark_5 ++ []
def dkwX1_mark_4 : List UInt8 := [79, 21, 6, 155, 0, 6, 132, 1, 1, 132, 2, 1, 167, 255, 166, 42, 4, 181, 0, 80, 42, 27]
abbrev dktX1_mark_4 : List UInt8 := dkwX1_mark_4 ++ dktX1_mark_5
def dkwX1_mark_3 : List UInt8 := [21, 4, 21, 5, 182, 1, 37, 54, 6, 42, 180, 0, 29, 42, 29, 21, 4, 21, 5, 182, 1, 68, 21, 6]
abbrev dktX1_mark_3 : List UInt8 := dkwX1_mark_3 ++ dktX1_mark_4
def dkwX1_mark_2 : List UInt8 := [180, 0, 97, 108, 5, 112, 54, 4, 28, 42, 180, 0, 59, 180, 0, 97, 112, 54, 5, 42, 180, 0, 76, 29]
abbrev dktX1_mark_2 : List UInt8 := dkwX1_mark_2 ++ dktX1_mark_3
def dkwX1_mark_1 : List UInt8 := [180, 0, 97, 104, 162, 0, 83, 28, 5, 42, 180, 0, 59, 180, 0, 97, 104, 108, 62, 28, 42, 180, 0, 59]
abbrev dktX1_mark_1 : List UInt8 := dkwX1_mark_1 ++ dktX1_mark_2
def dkwX1_mark_0 : List UInt8 := [42, 180, 0, 76, 199, 0, 9, 42, 4, 182, 0, 43, 172, 3, 60, 3, 61, 28, 7, 42, 180, 0, 59]
abbrev dktX1_mark_0 : List UInt8 := dkwX1_mark_0 ++ dktX1_mark_1
theorem dksX1_mark_0 : cX1_mark.data.toList.drop 0 = dktX1_mark_0 := by decide +kernel
theorem dksX1_mark_1 : cX1_mark.data.toList.drop 23 = dktX1_mark_1 := dk_seg dksX1_mark_0 23 rfl rfl
theorem dksX1_mark_2 : cX1_mark.data.toList.drop 47 = dktX1_mark_2 := dk_seg dksX1_mark_1 24 rfl rfl
theorem dksX1_mark_3 : cX1_mark.data.toList.drop 71 = dktX1_mark_3 := dk_seg dksX1_mark_2 24 rfl rfl
theorem dksX1_mark_4 : cX1_mark.data.toList.drop 95 = dktX1_mark_4 := dk_seg dksX1_mark_3 24 rfl rfl
theorem dksX1_mark_5 : cX1_mark.data.toList.drop 117 = dktX1_mark_5 := dk_seg dksX1_mark_4 22 rfl rfl
theorem dX1_mark_0 : decode cX1_mark 0 = .ok (.aload_n 0, 1) := dk_42 (dk_at dksX1_mark_0 0 rfl rfl)
theorem dX1_mark_1 : decode cX1_mark 1 = .ok (.getfield 76, 3) := dk_180 0 76 (dk_at dksX1_mark_0 1 rfl rfl)
theorem dX1_mark_4 : decode cX1_mark 4 = .ok (.ifnonnull 9, 3) := dk_199 0 9 (dk_at dksX1_mark_0 4 rfl rfl)
theorem dX1_mark_7 : decode cX1_mark 7 = .ok (.aload_n 0, 1) := dk_42 (dk_at dksX1_mark_0 7 rfl rfl)
theorem dX1_mark_8 : decode cX1_mark 8 = .ok (.iconst 1, 1) := dk_4 (dk_at dksX1_mark_0 8 rfl rfl)
theorem dX1_mark_9 : decode cX1_mark 9 = .ok (.invokevirtual 43, 3) := dk_182 0 43 (dk_at dksX1_mark_0 9 rfl rfl)
theorem dX1_mark_12 : decode cX1_mark 12 = .ok (.ireturn, 1) := dk_172 (dk_at dksX1_mark_0 12 rfl rfl)
theorem dX1_mark_13 : decode cX1_mark 13 = .ok (.iconst 0, 1) := dk_3 (dk_at dksX1_mark_0 13 rfl rfl)
theorem dX1_mark_14 : decode cX1_mark 14 = .ok (.istore_n 1, 1) := dk_60 (dk_at dksX1_mark_0 14 rfl rfl)
theorem dX1_mark_15 : decode cX1_mark 15 = .ok (.iconst 0, 1) := dk_3 (dk_at dksX1_mark_0 15 rfl rfl)
theorem dX1_mark_16 : decode cX1_mark 16 = .ok (.istore_n 2, 1) := dk_61 (dk_at dksX1_mark_0 16 rfl rfl)
theorem dX1_mark_17 : decode cX1_mark 17 = .ok (.iload_n 2, 1) := dk_28 (dk_at dksX1_mark_0 17 rfl rfl)
theorem dX1_mark_18 : decode cX1_mark 18 = .ok (.iconst 4, 1) := dk_7 (dk_at dksX1_mark_0 18 rfl rfl)
theorem dX1_mark_19 : decode cX1_mark 19 = .ok (.aload_n 0, 1) := dk_42 (dk_at dksX1_mark_0 19 rfl rfl)
theorem dX1_mark_20 : decode cX1_mark 20 = .ok (.getfield 59, 3) := dk_180 0 59 (dk_at dksX1_mark_0 20 rfl rfl)
theorem dX1_mark_23 : decode cX1_mark 23 = .ok (.getfield 97, 3) := dk_180 0 97 (dk_at dksX1_mark_1 0 rfl rfl)
theorem dX1_mark_26 : decode cX1_mark 26 = .ok (.imul, 1) := dk_104 (dk_at dksX1_mark_1 3 rfl rfl)
theorem dX1_mark_27 : decode cX1_mark 27 = .ok (.if_icmp .ge 83, 3) := dk_162 0 83 (dk_at dksX1_mark_1 4 rfl rfl)
theorem dX1_mark_30 : decode cX1_mark 30 = .ok (.iload_n 2, 1) := dk_28 (dk_at dksX1_mark_1 7 rfl rfl)
theorem dX1_mark_31 : decode cX1_mark 31 = .ok (.iconst 2, 1) := dk_5 (dk_at dksX1_mark_1 8 rfl rfl)
theorem dX1_mark_32 : decode cX1_mark 32 = .ok (.aload_n 0, 1) := dk_42 (dk_at dksX1_mark_1 9 rfl rfl)
theorem dX1_mark_33 : decode cX1_mark 33 = .ok (.getfield 59, 3) := dk_180 0 59 (dk_at dksX1_mark_1 10 rfl rfl)
theorem dX1_mark_36 : decode cX1_mark 36 = .ok (.getfield 97, 3) := dk_180 0 97 (dk_at dksX1_mark_1 13 rfl rfl)
theorem dX1_mark_39 : decode cX1_mark 39 = .ok (.imul, 1) := dk_104 (dk_at dksX1_mark_1 16 rfl rfl)
theorem dX1_mark_40 : decode cX1_mark 40 = .ok (.idiv, 1) := dk_108 (dk_at dksX1_mark_1 17 rfl rfl)
theorem dX1_mark_41 : decode cX1_mark 41 = .ok (.istore_n 3, 1) := dk_62 (dk_at dksX1_mark_1 18 rfl rfl)
theorem dX1_mark_42 : decode cX1_mark 42 = .ok (.iload_n 2, 1) := dk_28 (dk_at dksX1_mark_1 19 rfl rfl)
theorem dX1_mark_43 : decode cX1_mark 43 = .ok (.aload_n 0, 1) := dk_42 (dk_at dksX1_mark_1 20 rfl rfl)
theorem dX1_mark_44 : decode cX1_mark 44 = .ok (.getfield 59, 3) := dk_180 0 59 (dk_at dksX1_mark_1 21 rfl rfl)
theorem dX1_mark_47 : decode cX1_mark 47 = .ok (.getfield 97, 3) := dk_180 0 97 (dk_at dksX1_mark_2 0 rfl rfl)
theorem dX1_mark_50 : decode cX1_mark 50 = .ok (.idiv, 1) := dk_108 (dk_at dksX1_mark_2 3 rfl rfl)
theorem dX1_mark_51 : decode cX1_mark 51 = .ok (.iconst 2, 1) := dk_5 (dk_at dksX1_mark_2 4 rfl rfl)
theorem dX1_mark_52 : decode cX1_mark 52 = .ok (.irem, 1) := dk_112 (dk_at dksX1_mark_2 5 rfl rfl)
theorem dX1_mark_53 : decode cX1_mark 53 = .ok (.istore 4, 2) := dk_54 4 (dk_at dksX1_mark_2 6 rfl rfl)
theorem dX1_mark_55 : decode cX1_mark 55 = .ok (.iload_n 2, 1) := dk_28 (dk_at dksX1_mark_2 8 rfl rfl)
theorem dX1_mark_56 : decode cX1_mark 56 = .ok (.aload_n 0, 1) := dk_42 (dk_at dksX1_mark_2 9 rfl rfl)
theorem dX1_mark_57 : decode cX1_mark 57 = .ok (.getfield 59, 3) := dk_180 0 59 (dk_at dksX1_mark_2 10 rfl rfl)
theorem dX1_mark_60 : decode cX1_mark 60 = .ok (.getfield 97, 3) := dk_180 0 97 (dk_at dksX1_mark_2 13 rfl rfl)
theorem dX1_mark_63 : decode cX1_mark 63 = .ok (.irem, 1) := dk_112 (dk_at dksX1_mark_2 16 rfl rfl)
theorem dX1_mark_64 : decode cX1_mark 64 = .ok (.istore 5, 2) := dk_54 5 (dk_at dksX1_mark_2 17 rfl rfl)
theorem dX1_mark_66 : decode cX1_mark 66 = .ok (.aload_n 0, 1) := dk_42 (dk_at dksX1_mark_2 19 rfl rfl)
theorem dX1_mark_67 : decode cX1_mark 67 = .ok (.getfield 76, 3) := dk_180 0 76 (dk_at dksX1_mark_2 20 rfl rfl)
theorem dX1_mark_70 : decode cX1_mark 70 = .ok (.iload_n 3, 1) := dk_29 (dk_at dksX1_mark_2 23 rfl rfl)
theorem dX1_mark_71 : decode cX1_mark 71 = .ok (.iload 4, 2) := dk_21 4 (dk_at dksX1_mark_3 0 rfl rfl)
theorem dX1_mark_73 : decode cX1_mark 73 = .ok (.iload 5, 2) := dk_21 5 (dk_at dksX1_mark_3 2 rfl rfl)
theorem dX1_mark_75 : decode cX1_mark 75 = .ok (.invokevirtual 293, 3) := dk_182 1 37 (dk_at dksX1_mark_3 4 rfl rfl)
theorem dX1_mark_78 : decode cX1_mark 78 = .ok (.istore 6, 2) := dk_54 6 (dk_at dksX1_mark_3 7 rfl rfl)
theorem dX1_mark_80 : decode cX1_mark 80 = .ok (.aload_n 0, 1) := dk_42 (dk_at dksX1_mark_3 9 rfl rfl)
theorem dX1_mark_81 : decode cX1_mark 81 = .ok (.getfield 29, 3) := dk_180 0 29 (dk_at dksX1_mark_3 10 rfl rfl)
theorem dX1_mark_84 : decode cX1_mark 84 = .ok (.aload_n 0, 1) := dk_42 (dk_at dksX1_mark_3 13 rfl rfl)
theorem dX1_mark_85 : decode cX1_mark 85 = .ok (.iload_n 3, 1) := dk_29 (dk_at dksX1_mark_3 14 rfl rfl)
theorem dX1_mark_86 : decode cX1_mark 86 = .ok (.iload 4, 2) := dk_21 4 (dk_at dksX1_mark_3 15 rfl rfl)
theorem dX1_mark_88 : decode cX1_mark 88 = .ok (.iload 5, 2) := dk_21 5 (dk_at dksX1_mark_3 17 rfl rfl)
theorem dX1_mark_90 : decode cX1_mark 90 = .ok (.invokevirtual 324, 3) := dk_182 1 68 (dk_at dksX1_mark_3 19 rfl rfl)
theorem dX1_mark_93 : decode cX1_mark 93 = .ok (.iload 6, 2) := dk_21 6 (dk_at dksX1_mark_3 22 rfl rfl)
theorem dX1_mark_95 : decode cX1_mark 95 = .ok (.iastore, 1) := dk_79 (dk_at dksX1_mark_4 0 rfl rfl)
theorem dX1_mark_96 : decode cX1_mark 96 = .ok (.iload 6, 2) := dk_21 6 (dk_at dksX1_mark_4 1 rfl rfl)
theorem dX1_mark_98 : decode cX1_mark 98 = .ok (.ifCond .lt 6, 3) := dk_155 0 6 (dk_at dksX1_mark_4 3 rfl rfl)
theorem dX1_mark_101 : decode cX1_mark 101 = .ok (.iinc 1 1, 3) := dk_132 1 1 (dk_at dksX1_mark_4 6 rfl rfl)
theorem dX1_mark_104 : decode cX1_mark 104 = .ok (.iinc 2 1, 3) := dk_132 2 1 (dk_at dksX1_mark_4 9 rfl rfl)
theorem dX1_mark_107 : decode cX1_mark 107 = .ok (.goto (-90), 3) := dk_167 255 166 (dk_at dksX1_mark_4 12 rfl rfl)
theorem dX1_mark_110 : decode cX1_mark 110 = .ok (.aload_n 0, 1) := dk_42 (dk_at dksX1_mark_4 15 rfl rfl)
theorem dX1_mark_111 : decode cX1_mark 111 = .ok (.iconst 1, 1) := dk_4 (dk_at dksX1_mark_4 16 rfl rfl)
theorem dX1_mark_112 : decode cX1_mark 112 = .ok (.putfield 80, 3) := dk_181 0 80 (dk_at dksX1_mark_4 17 rfl rfl)
theorem dX1_mark_115 : decode cX1_mark 115 = .ok (.aload_n 0, 1) := dk_42 (dk_at dksX1_mark_4 20 rfl rfl)
theorem dX1_mark_116 : decode cX1_mark 116 = .ok (.iload_n 1, 1) := dk_27 (dk_at dksX1_mark_4 21 rfl rfl)
theorem dX1_mark_117 : decode cX1_mark 117 = .ok (.invokevirtual 94, 3) := dk_182 0 94 (dk_at dksX1_mark_5 0 rfl rfl)
theorem dX1_mark_120 : decode cX1_mark 120 = .ok (.ireturn, 1) := dk_172 (dk_at dksX1_mark_5 3 rfl rfl)
abbrev cX1_place : ByteArray := prog_1_method_55_code
def yX1_place : MethodName := ⟨RX1, "place", "(III)I"⟩
def dkwX1_place_0 : List UInt8 := [5, 27, 104, 28, 96, 16, 6, 104, 29, 96, 172]
abbrev dktX1_place_0 : List UInt8 := dkwX1_place_0 ++ []
theorem dksX1_place_0 : cX1_place.data.toList.drop 0 = dktX1_place_0 := by decide +kernel
theorem dX1_place_0 : decode cX1_place 0 = .ok (.iconst 2, 1) := dk_5 (dk_at dksX1_place_0 0 rfl rfl)
theorem dX1_place_1 : decode cX1_place 1 = .ok (.iload_n 1, 1) := dk_27 (dk_at dksX1_place_0 1 rfl rfl)
theorem dX1_place_2 : decode cX1_place 2 = .ok (.imul, 1) := dk_104 (dk_at dksX1_place_0 2 rfl rfl)
theorem dX1_place_3 : decode cX1_place 3 = .ok (.iload_n 2, 1) := dk_28 (dk_at dksX1_place_0 3 rfl rfl)
theorem dX1_place_4 : decode cX1_place 4 = .ok (.iadd, 1) := dk_96 (dk_at dksX1_place_0 4 rfl rfl)
theorem dX1_place_5 : decode cX1_place 5 = .ok (.bipush 6, 2) := dk_16 6 (dk_at dksX1_place_0 5 rfl rfl)
theorem dX1_place_7 : decode cX1_place 7 = .ok (.imul, 1) := dk_104 (dk_at dksX1_place_0 7 rfl rfl)
theorem dX1_place_8 : decode cX1_place 8 = .ok (.iload_n 3, 1) := dk_29 (dk_at dksX1_place_0 8 rfl rfl)
theorem dX1_place_9 : decode cX1_place 9 = .ok (.iadd, 1) := dk_96 (dk_at dksX1_place_0 9 rfl rfl)
theorem dX1_place_10 : decode cX1_place 10 = .ok (.ireturn, 1) := dk_172 (dk_at dksX1_place_0 10 rfl rfl)
abbrev cX1_shift : ByteArray := prog_1_method_58_code
def yX1_shift : MethodName := ⟨RX1, "shift", "(III)I"⟩
def dkwX1_shift_1 : List UInt8 := [42, 4, 182, 0, 43, 172]
abbrev dktX1_shift_1 : List UInt8 := dkwX1_shift_1 ++ []
def dkwX1_shift_0 : List UInt8 := [42, 27, 28, 29, 182, 0, 123, 153, 0, 17, 42, 42, 27, 28, 29, 182, 1, 70, 182, 0, 94, 167, 0, 8]
abbrev dktX1_shift_0 : List UInt8 := dkwX1_shift_0 ++ dktX1_shift_1
theorem dksX1_shift_0 : cX1_shift.data.toList.drop 0 = dktX1_shift_0 := by decide +kernel
theorem dksX1_shift_1 : cX1_shift.data.toList.drop 24 = dktX1_shift_1 := dk_seg dksX1_shift_0 24 rfl rfl
theorem dX1_shift_0 : decode cX1_shift 0 = .ok (.aload_n 0, 1) := dk_42 (dk_at dksX1_shift_0 0 rfl rfl)
theorem dX1_shift_1 : decode cX1_shift 1 = .ok (.iload_n 1, 1) := dk_27 (dk_at dksX1_shift_0 1 rfl rfl)
theorem dX1_shift_2 : decode cX1_shift 2 = .ok (.iload_n 2, 1) := dk_28 (dk_at dksX1_shift_0 2 rfl rfl)
theorem dX1_shift_3 : decode cX1_shift 3 = .ok (.iload_n 3, 1) := dk_29 (dk_at dksX1_shift_0 3 rfl rfl)
theorem dX1_shift_4 : decode cX1_shift 4 = .ok (.invokevirtual 123, 3) := dk_182 0 123 (dk_at dksX1_shift_0 4 rfl rfl)
theorem dX1_shift_7 : decode cX1_shift 7 = .ok (.ifCond .eq 17, 3) := dk_153 0 17 (dk_at dksX1_shift_0 7 rfl rfl)
theorem dX1_shift_10 : decode cX1_shift 10 = .ok (.aload_n 0, 1) := dk_42 (dk_at dksX1_shift_0 10 rfl rfl)
theorem dX1_shift_11 : decode cX1_shift 11 = .ok (.aload_n 0, 1) := dk_42 (dk_at dksX1_shift_0 11 rfl rfl)
theorem dX1_shift_12 : decode cX1_shift 12 = .ok (.iload_n 1, 1) := dk_27 (dk_at dksX1_shift_0 12 rfl rfl)
theorem dX1_shift_13 : decode cX1_shift 13 = .ok (.iload_n 2, 1) := dk_28 (dk_at dksX1_shift_0 13 rfl rfl)
theorem dX1_shift_14 : decode cX1_shift 14 = .ok (.iload_n 3, 1) := dk_29 (dk_at dksX1_shift_0 14 rfl rfl)
theorem dX1_shift_15 : decode cX1_shift 15 = .ok (.invokevirtual 326, 3) := dk_182 1 70 (dk_at dksX1_shift_0 15 rfl rfl)
theorem dX1_shift_18 : decode cX1_shift 18 = .ok (.invokevirtual 94, 3) := dk_182 0 94 (dk_at dksX1_shift_0 18 rfl rfl)
theorem dX1_shift_21 : decode cX1_shift 21 = .ok (.goto 8, 3) := dk_167 0 8 (dk_at dksX1_shift_0 21 rfl rfl)
theorem dX1_shift_24 : decode cX1_shift 24 = .ok (.aload_n 0, 1) := dk_42 (dk_at dksX1_shift_1 0 rfl rfl)
theorem dX1_shift_25 : decode cX1_shift 25 = .ok (.iconst 1, 1) := dk_4 (dk_at dksX1_shift_1 1 rfl rfl)
theorem dX1_shift_26 : decode cX1_shift 26 = .ok (.invokevirtual 43, 3) := dk_182 0 43 (dk_at dksX1_shift_1 2 rfl rfl)
theorem dX1_shift_29 : decode cX1_shift 29 = .ok (.ireturn, 1) := dk_172 (dk_at dksX1_shift_1 5 rfl rfl)
abbrev cX1_shiftOf : ByteArray := prog_1_method_57_code
def yX1_shiftOf : MethodName := ⟨RX1, "shiftOf", "(III)I"⟩
def dkwX1_shiftOf_2 : List UInt8 := [16, 254, 167, 0, 11, 16, 100, 21, 4, 96, 21, 5, 100, 172]
abbrev dktX1_shiftOf_2 : List UInt8 := dkwX1_shiftOf_2 ++ []
def dkwX1_shiftOf_1 : List UInt8 := [27, 28, 29, 182, 1, 68, 46, 167, 0, 5, 16, 254, 54, 5, 21, 4, 155, 0, 8, 21, 5, 156, 0, 8]
abbrev dktX1_shiftOf_1 : List UInt8 := dkwX1_shiftOf_1 ++ dktX1_shiftOf_2
def dkwX1_shiftOf_0 : List UInt8 := [42, 180, 0, 76, 27, 28, 29, 182, 1, 37, 54, 4, 42, 180, 0, 80, 153, 0, 18, 42, 180, 0, 29, 42]
abbrev dktX1_shiftOf_0 : List UInt8 := dkwX1_shiftOf_0 ++ dktX1_shiftOf_1
theorem dksX1_shiftOf_0 : cX1_shiftOf.data.toList.drop 0 = dktX1_shiftOf_0 := by decide +kernel
theorem dksX1_shiftOf_1 : cX1_shiftOf.data.toList.drop 24 = dktX1_shiftOf_1 := dk_seg dksX1_shiftOf_0 24 rfl rfl
theorem dksX1_shiftOf_2 : cX1_shiftOf.data.toList.drop 48 = dktX1_shiftOf_2 := dk_seg dksX1_shiftOf_1 24 rfl rfl
theorem dX1_shiftOf_0 : decode cX1_shiftOf 0 = .ok (.aload_n 0, 1) := dk_42 (dk_at dksX1_shiftOf_0 0 rfl rfl)
theorem dX1_shiftOf_1 : decode cX1_shiftOf 1 = .ok (.getfield 76, 3) := dk_180 0 76 (dk_at dksX1_shiftOf_0 1 rfl rfl)
theorem dX1_shiftOf_4 : decode cX1_shiftOf 4 = .ok (.iload_n 1, 1) := dk_27 (dk_at dksX1_shiftOf_0 4 rfl rfl)
theorem dX1_shiftOf_5 : decode cX1_shiftOf 5 = .ok (.iload_n 2, 1) := dk_28 (dk_at dksX1_shiftOf_0 5 rfl rfl)
theorem dX1_shiftOf_6 : decode cX1_shiftOf 6 = .ok (.iload_n 3, 1) := dk_29 (dk_at dksX1_shiftOf_0 6 rfl rfl)
theorem dX1_shiftOf_7 : decode cX1_shiftOf 7 = .ok (.invokevirtual 293, 3) := dk_182 1 37 (dk_at dksX1_shiftOf_0 7 rfl rfl)
theorem dX1_shiftOf_10 : decode cX1_shiftOf 10 = .ok (.istore 4, 2) := dk_54 4 (dk_at dksX1_shiftOf_0 10 rfl rfl)
theorem dX1_shiftOf_12 : decode cX1_shiftOf 12 = .ok (.aload_n 0, 1) := dk_42 (dk_at dksX1_shiftOf_0 12 rfl rfl)
theorem dX1_shiftOf_13 : decode cX1_shiftOf 13 = .ok (.getfield 80, 3) := dk_180 0 80 (dk_at dksX1_shiftOf_0 13 rfl rfl)
theorem dX1_shiftOf_16 : decode cX1_shiftOf 16 = .ok (.ifCond .eq 18, 3) := dk_153 0 18 (dk_at dksX1_shiftOf_0 16 rfl rfl)
theorem dX1_shiftOf_19 : decode cX1_shiftOf 19 = .ok (.aload_n 0, 1) := dk_42 (dk_at dksX1_shiftOf_0 19 rfl rfl)
theorem dX1_shiftOf_20 : decode cX1_shiftOf 20 = .ok (.getfield 29, 3) := dk_180 0 29 (dk_at dksX1_shiftOf_0 20 rfl rfl)
theorem dX1_shiftOf_23 : decode cX1_shiftOf 23 = .ok (.aload_n 0, 1) := dk_42 (dk_at dksX1_shiftOf_0 23 rfl rfl)
theorem dX1_shiftOf_24 : decode cX1_shiftOf 24 = .ok (.iload_n 1, 1) := dk_27 (dk_at dksX1_shiftOf_1 0 rfl rfl)
theorem dX1_shiftOf_25 : decode cX1_shiftOf 25 = .ok (.iload_n 2, 1) := dk_28 (dk_at dksX1_shiftOf_1 1 rfl rfl)
theorem dX1_shiftOf_26 : decode cX1_shiftOf 26 = .ok (.iload_n 3, 1) := dk_29 (dk_at dksX1_shiftOf_1 2 rfl rfl)
theorem dX1_shiftOf_27 : decode cX1_shiftOf 27 = .ok (.invokevirtual 324, 3) := dk_182 1 68 (dk_at dksX1_shiftOf_1 3 rfl rfl)
theorem dX1_shiftOf_30 : decode cX1_shiftOf 30 = .ok (.iaload, 1) := dk_46 (dk_at dksX1_shiftOf_1 6 rfl rfl)
theorem dX1_shiftOf_31 : decode cX1_shiftOf 31 = .ok (.goto 5, 3) := dk_167 0 5 (dk_at dksX1_shiftOf_1 7 rfl rfl)
theorem dX1_shiftOf_34 : decode cX1_shiftOf 34 = .ok (.bipush (-2), 2) := dk_16 254 (dk_at dksX1_shiftOf_1 10 rfl rfl)
theorem dX1_shiftOf_36 : decode cX1_shiftOf 36 = .ok (.istore 5, 2) := dk_54 5 (dk_at dksX1_shiftOf_1 12 rfl rfl)
theorem dX1_shiftOf_38 : decode cX1_shiftOf 38 = .ok (.iload 4, 2) := dk_21 4 (dk_at dksX1_shiftOf_1 14 rfl rfl)
theorem dX1_shiftOf_40 : decode cX1_shiftOf 40 = .ok (.ifCond .lt 8, 3) := dk_155 0 8 (dk_at dksX1_shiftOf_1 16 rfl rfl)
theorem dX1_shiftOf_43 : decode cX1_shiftOf 43 = .ok (.iload 5, 2) := dk_21 5 (dk_at dksX1_shiftOf_1 19 rfl rfl)
theorem dX1_shiftOf_45 : decode cX1_shiftOf 45 = .ok (.ifCond .ge 8, 3) := dk_156 0 8 (dk_at dksX1_shiftOf_1 21 rfl rfl)
theorem dX1_shiftOf_48 : decode cX1_shiftOf 48 = .ok (.bipush (-2), 2) := dk_16 254 (dk_at dksX1_shiftOf_2 0 rfl rfl)
theorem dX1_shiftOf_50 : decode cX1_shiftOf 50 = .ok (.goto 11, 3) := dk_167 0 11 (dk_at dksX1_shiftOf_2 2 rfl rfl)
theorem dX1_shiftOf_53 : decode cX1_shiftOf 53 = .ok (.bipush 100, 2) := dk_16 100 (dk_at dksX1_shiftOf_2 5 rfl rfl)
theorem dX1_shiftOf_55 : decode cX1_shiftOf 55 = .ok (.iload 4, 2) := dk_21 4 (dk_at dksX1_shiftOf_2 7 rfl rfl)
theorem dX1_shiftOf_57 : decode cX1_shiftOf 57 = .ok (.iadd, 1) := dk_96 (dk_at dksX1_shiftOf_2 9 rfl rfl)
theorem dX1_shiftOf_58 : decode cX1_shiftOf 58 = .ok (.iload 5, 2) := dk_21 5 (dk_at dksX1_shiftOf_2 10 rfl rfl)
theorem dX1_shiftOf_60 : decode cX1_shiftOf 60 = .ok (.isub, 1) := dk_100 (dk_at dksX1_shiftOf_2 12 rfl rfl)
theorem dX1_shiftOf_61 : decode cX1_shiftOf 61 = .ok (.ireturn, 1) := dk_172 (dk_at dksX1_shiftOf_2 13 rfl rfl)
abbrev cX1_worsened : ByteArray := prog_1_method_59_code
def yX1_worsened : MethodName := ⟨RX1, "worsened", "(II)I"⟩
def dkwX1_worsened_3 : List UInt8 := [62, 132, 4, 1, 167, 255, 219, 42, 29, 182, 0, 94, 172]
abbrev dktX1_worsened_3 : List UInt8 := dkwX1_worsened_3 ++ []
def dkwX1_worsened_2 : List UInt8 := [162, 0, 31, 42, 3, 27, 21, 4, 182, 1, 70, 16, 100, 28, 96, 161, 0, 10, 29, 4, 21, 4, 120, 128]
abbrev dktX1_worsened_2 : List UInt8 := dkwX1_worsened_2 ++ dktX1_worsened_3
def dkwX1_worsened_1 : List UInt8 := [154, 0, 9, 42, 5, 182, 0, 43, 172, 3, 62, 3, 54, 4, 21, 4, 42, 180, 0, 59, 180, 0, 97]
abbrev dktX1_worsened_1 : List UInt8 := dkwX1_worsened_1 ++ dktX1_worsened_2
def dkwX1_worsened_0 : List UInt8 := [42, 3, 27, 3, 182, 0, 123, 154, 0, 9, 42, 4, 182, 0, 43, 172, 28, 4, 16, 25, 184, 0, 39]
abbrev dktX1_worsened_0 : List UInt8 := dkwX1_worsened_0 ++ dktX1_worsened_1
theorem dksX1_worsened_0 : cX1_worsened.data.toList.drop 0 = dktX1_worsened_0 := by decide +kernel
theorem dksX1_worsened_1 : cX1_worsened.data.toList.drop 23 = dktX1_worsened_1 := dk_seg dksX1_worsened_0 23 rfl rfl
theorem dksX1_worsened_2 : cX1_worsened.data.toList.drop 46 = dktX1_worsened_2 := dk_seg dksX1_worsened_1 23 rfl rfl
theorem dksX1_worsened_3 : cX1_worsened.data.toList.drop 70 = dktX1_worsened_3 := dk_seg dksX1_worsened_2 24 rfl rfl
theorem dX1_worsened_0 : decode cX1_worsened 0 = .ok (.aload_n 0, 1) := dk_42 (dk_at dksX1_worsened_0 0 rfl rfl)
theorem dX1_worsened_1 : decode cX1_worsened 1 = .ok (.iconst 0, 1) := dk_3 (dk_at dksX1_worsened_0 1 rfl rfl)
theorem dX1_worsened_2 : decode cX1_worsened 2 = .ok (.iload_n 1, 1) := dk_27 (dk_at dksX1_worsened_0 2 rfl rfl)
theorem dX1_worsened_3 : decode cX1_worsened 3 = .ok (.iconst 0, 1) := dk_3 (dk_at dksX1_worsened_0 3 rfl rfl)
theorem dX1_worsened_4 : decode cX1_worsened 4 = .ok (.invokevirtual 123, 3) := dk_182 0 123 (dk_at dksX1_worsened_0 4 rfl rfl)
theorem dX1_worsened_7 : decode cX1_worsened 7 = .ok (.ifCond .ne 9, 3) := dk_154 0 9 (dk_at dksX1_worsened_0 7 rfl rfl)
theorem dX1_worsened_10 : decode cX1_worsened 10 = .ok (.aload_n 0, 1) := dk_42 (dk_at dksX1_worsened_0 10 rfl rfl)
theorem dX1_worsened_11 : decode cX1_worsened 11 = .ok (.iconst 1, 1) := dk_4 (dk_at dksX1_worsened_0 11 rfl rfl)
theorem dX1_worsened_12 : decode cX1_worsened 12 = .ok (.invokevirtual 43, 3) := dk_182 0 43 (dk_at dksX1_worsened_0 12 rfl rfl)
theorem dX1_worsened_15 : decode cX1_worsened 15 = .ok (.ireturn, 1) := dk_172 (dk_at dksX1_worsened_0 15 rfl rfl)
theorem dX1_worsened_16 : decode cX1_worsened 16 = .ok (.iload_n 2, 1) := dk_28 (dk_at dksX1_worsened_0 16 rfl rfl)
theorem dX1_worsened_17 : decode cX1_worsened 17 = .ok (.iconst 1, 1) := dk_4 (dk_at dksX1_worsened_0 17 rfl rfl)
theorem dX1_worsened_18 : decode cX1_worsened 18 = .ok (.bipush 25, 2) := dk_16 25 (dk_at dksX1_worsened_0 18 rfl rfl)
theorem dX1_worsened_20 : decode cX1_worsened 20 = .ok (.invokestatic 39, 3) := dk_184 0 39 (dk_at dksX1_worsened_0 20 rfl rfl)
theorem dX1_worsened_23 : decode cX1_worsened 23 = .ok (.ifCond .ne 9, 3) := dk_154 0 9 (dk_at dksX1_worsened_1 0 rfl rfl)
theorem dX1_worsened_26 : decode cX1_worsened 26 = .ok (.aload_n 0, 1) := dk_42 (dk_at dksX1_worsened_1 3 rfl rfl)
theorem dX1_worsened_27 : decode cX1_worsened 27 = .ok (.iconst 2, 1) := dk_5 (dk_at dksX1_worsened_1 4 rfl rfl)
theorem dX1_worsened_28 : decode cX1_worsened 28 = .ok (.invokevirtual 43, 3) := dk_182 0 43 (dk_at dksX1_worsened_1 5 rfl rfl)
theorem dX1_worsened_31 : decode cX1_worsened 31 = .ok (.ireturn, 1) := dk_172 (dk_at dksX1_worsened_1 8 rfl rfl)
theorem dX1_worsened_32 : decode cX1_worsened 32 = .ok (.iconst 0, 1) := dk_3 (dk_at dksX1_worsened_1 9 rfl rfl)
theorem dX1_worsened_33 : decode cX1_worsened 33 = .ok (.istore_n 3, 1) := dk_62 (dk_at dksX1_worsened_1 10 rfl rfl)
theorem dX1_worsened_34 : decode cX1_worsened 34 = .ok (.iconst 0, 1) := dk_3 (dk_at dksX1_worsened_1 11 rfl rfl)
theorem dX1_worsened_35 : decode cX1_worsened 35 = .ok (.istore 4, 2) := dk_54 4 (dk_at dksX1_worsened_1 12 rfl rfl)
theorem dX1_worsened_37 : decode cX1_worsened 37 = .ok (.iload 4, 2) := dk_21 4 (dk_at dksX1_worsened_1 14 rfl rfl)
theorem dX1_worsened_39 : decode cX1_worsened 39 = .ok (.aload_n 0, 1) := dk_42 (dk_at dksX1_worsened_1 16 rfl rfl)
theorem dX1_worsened_40 : decode cX1_worsened 40 = .ok (.getfield 59, 3) := dk_180 0 59 (dk_at dksX1_worsened_1 17 rfl rfl)
theorem dX1_worsened_43 : decode cX1_worsened 43 = .ok (.getfield 97, 3) := dk_180 0 97 (dk_at dksX1_worsened_1 20 rfl rfl)
theorem dX1_worsened_46 : decode cX1_worsened 46 = .ok (.if_icmp .ge 31, 3) := dk_162 0 31 (dk_at dksX1_worsened_2 0 rfl rfl)
theorem dX1_worsened_49 : decode cX1_worsened 49 = .ok (.aload_n 0, 1) := dk_42 (dk_at dksX1_worsened_2 3 rfl rfl)
theorem dX1_worsened_50 : decode cX1_worsened 50 = .ok (.iconst 0, 1) := dk_3 (dk_at dksX1_worsened_2 4 rfl rfl)
theorem dX1_worsened_51 : decode cX1_worsened 51 = .ok (.iload_n 1, 1) := dk_27 (dk_at dksX1_worsened_2 5 rfl rfl)
theorem dX1_worsened_52 : decode cX1_worsened 52 = .ok (.iload 4, 2) := dk_21 4 (dk_at dksX1_worsened_2 6 rfl rfl)
theorem dX1_worsened_54 : decode cX1_worsened 54 = .ok (.invokevirtual 326, 3) := dk_182 1 70 (dk_at dksX1_worsened_2 8 rfl rfl)
theorem dX1_worsened_57 : decode cX1_worsened 57 = .ok (.bipush 100, 2) := dk_16 100 (dk_at dksX1_worsened_2 11 rfl rfl)
theorem dX1_worsened_59 : decode cX1_worsened 59 = .ok (.iload_n 2, 1) := dk_28 (dk_at dksX1_worsened_2 13 rfl rfl)
theorem dX1_worsened_60 : decode cX1_worsened 60 = .ok (.iadd, 1) := dk_96 (dk_at dksX1_worsened_2 14 rfl rfl)
theorem dX1_worsened_61 : decode cX1_worsened 61 = .ok (.if_icmp .lt 10, 3) := dk_161 0 10 (dk_at dksX1_worsened_2 15 rfl rfl)
theorem dX1_worsened_64 : decode cX1_worsened 64 = .ok (.iload_n 3, 1) := dk_29 (dk_at dksX1_worsened_2 18 rfl rfl)
theorem dX1_worsened_65 : decode cX1_worsened 65 = .ok (.iconst 1, 1) := dk_4 (dk_at dksX1_worsened_2 19 rfl rfl)
theorem dX1_worsened_66 : decode cX1_worsened 66 = .ok (.iload 4, 2) := dk_21 4 (dk_at dksX1_worsened_2 20 rfl rfl)
theorem dX1_worsened_68 : decode cX1_worsened 68 = .ok (.ishl, 1) := dk_120 (dk_at dksX1_worsened_2 22 rfl rfl)
theorem dX1_worsened_69 : decode cX1_worsened 69 = .ok (.ior, 1) := dk_128 (dk_at dksX1_worsened_2 23 rfl rfl)
theorem dX1_worsened_70 : decode cX1_worsened 70 = .ok (.istore_n 3, 1) := dk_62 (dk_at dksX1_worsened_3 0 rfl rfl)
theorem dX1_worsened_71 : decode cX1_worsened 71 = .ok (.iinc 4 1, 3) := dk_132 4 1 (dk_at dksX1_worsened_3 1 rfl rfl)
theorem dX1_worsened_74 : decode cX1_worsened 74 = .ok (.goto (-37), 3) := dk_167 255 219 (dk_at dksX1_worsened_3 4 rfl rfl)
theorem dX1_worsened_77 : decode cX1_worsened 77 = .ok (.aload_n 0, 1) := dk_42 (dk_at dksX1_worsened_3 7 rfl rfl)
theorem dX1_worsened_78 : decode cX1_worsened 78 = .ok (.iload_n 3, 1) := dk_29 (dk_at dksX1_worsened_3 8 rfl rfl)
theorem dX1_worsened_79 : decode cX1_worsened 79 = .ok (.invokevirtual 94, 3) := dk_182 0 94 (dk_at dksX1_worsened_3 9 rfl rfl)
theorem dX1_worsened_82 : decode cX1_worsened 82 = .ok (.ireturn, 1) := dk_172 (dk_at dksX1_worsened_3 12 rfl rfl)
abbrev cX1_steepest : ByteArray := prog_1_method_60_code
def yX1_steepest : MethodName := ⟨RX1, "steepest", "(I)I"⟩
def dkwX1_steepest_3 : List UInt8 := [100, 182, 1, 37, 100, 184, 1, 73, 184, 1, 76, 62, 132, 4, 1, 167, 255, 208, 42, 29, 182, 0, 94, 172]
abbrev dktX1_steepest_3 : List UInt8 := dkwX1_steepest_3 ++ []
def dkwX1_steepest_2 : List UInt8 := [162, 0, 42, 29, 42, 180, 0, 76, 3, 27, 21, 4, 182, 1, 37, 42, 180, 0, 76, 3, 27, 21, 4, 4]
abbrev dktX1_steepest_2 : List UInt8 := dkwX1_steepest_2 ++ dktX1_steepest_3
def dkwX1_steepest_1 : List UInt8 := [156, 0, 9, 42, 28, 182, 0, 94, 172, 3, 62, 4, 54, 4, 21, 4, 42, 180, 0, 59, 180, 0, 97]
abbrev dktX1_steepest_1 : List UInt8 := dkwX1_steepest_1 ++ dktX1_steepest_2
def dkwX1_steepest_0 : List UInt8 := [42, 3, 27, 3, 182, 0, 123, 154, 0, 9, 42, 4, 182, 0, 43, 172, 42, 3, 27, 182, 1, 59, 61, 28]
abbrev dktX1_steepest_0 : List UInt8 := dkwX1_steepest_0 ++ dktX1_steepest_1
theorem dksX1_steepest_0 : cX1_steepest.data.toList.drop 0 = dktX1_steepest_0 := by decide +kernel
theorem dksX1_steepest_1 : cX1_steepest.data.toList.drop 24 = dktX1_steepest_1 := dk_seg dksX1_steepest_0 24 rfl rfl
theorem dksX1_steepest_2 : cX1_steepest.data.toList.drop 47 = dktX1_steepest_2 := dk_seg dksX1_steepest_1 23 rfl rfl
theorem dksX1_steepest_3 : cX1_steepest.data.toList.drop 71 = dktX1_steepest_3 := dk_seg dksX1_steepest_2 24 rfl rfl
theorem dX1_steepest_0 : decode cX1_steepest 0 = .ok (.aload_n 0, 1) := dk_42 (dk_at dksX1_steepest_0 0 rfl rfl)
theorem dX1_steepest_1 : decode cX1_steepest 1 = .ok (.iconst 0, 1) := dk_3 (dk_at dksX1_steepest_0 1 rfl rfl)
theorem dX1_steepest_2 : decode cX1_steepest 2 = .ok (.iload_n 1, 1) := dk_27 (dk_at dksX1_steepest_0 2 rfl rfl)
theorem dX1_steepest_3 : decode cX1_steepest 3 = .ok (.iconst 0, 1) := dk_3 (dk_at dksX1_steepest_0 3 rfl rfl)
theorem dX1_steepest_4 : decode cX1_steepest 4 = .ok (.invokevirtual 123, 3) := dk_182 0 123 (dk_at dksX1_steepest_0 4 rfl rfl)
theorem dX1_steepest_7 : decode cX1_steepest 7 = .ok (.ifCond .ne 9, 3) := dk_154 0 9 (dk_at dksX1_steepest_0 7 rfl rfl)
theorem dX1_steepest_10 : decode cX1_steepest 10 = .ok (.aload_n 0, 1) := dk_42 (dk_at dksX1_steepest_0 10 rfl rfl)
theorem dX1_steepest_11 : decode cX1_steepest 11 = .ok (.iconst 1, 1) := dk_4 (dk_at dksX1_steepest_0 11 rfl rfl)
theorem dX1_steepest_12 : decode cX1_steepest 12 = .ok (.invokevirtual 43, 3) := dk_182 0 43 (dk_at dksX1_steepest_0 12 rfl rfl)
theorem dX1_steepest_15 : decode cX1_steepest 15 = .ok (.ireturn, 1) := dk_172 (dk_at dksX1_steepest_0 15 rfl rfl)
theorem dX1_steepest_16 : decode cX1_steepest 16 = .ok (.aload_n 0, 1) := dk_42 (dk_at dksX1_steepest_0 16 rfl rfl)
theorem dX1_steepest_17 : decode cX1_steepest 17 = .ok (.iconst 0, 1) := dk_3 (dk_at dksX1_steepest_0 17 rfl rfl)
theorem dX1_steepest_18 : decode cX1_steepest 18 = .ok (.iload_n 1, 1) := dk_27 (dk_at dksX1_steepest_0 18 rfl rfl)
theorem dX1_steepest_19 : decode cX1_steepest 19 = .ok (.invokevirtual 315, 3) := dk_182 1 59 (dk_at dksX1_steepest_0 19 rfl rfl)
theorem dX1_steepest_22 : decode cX1_steepest 22 = .ok (.istore_n 2, 1) := dk_61 (dk_at dksX1_steepest_0 22 rfl rfl)
theorem dX1_steepest_23 : decode cX1_steepest 23 = .ok (.iload_n 2, 1) := dk_28 (dk_at dksX1_steepest_0 23 rfl rfl)
theorem dX1_steepest_24 : decode cX1_steepest 24 = .ok (.ifCond .ge 9, 3) := dk_156 0 9 (dk_at dksX1_steepest_1 0 rfl rfl)
theorem dX1_steepest_27 : decode cX1_steepest 27 = .ok (.aload_n 0, 1) := dk_42 (dk_at dksX1_steepest_1 3 rfl rfl)
theorem dX1_steepest_28 : decode cX1_steepest 28 = .ok (.iload_n 2, 1) := dk_28 (dk_at dksX1_steepest_1 4 rfl rfl)
theorem dX1_steepest_29 : decode cX1_steepest 29 = .ok (.invokevirtual 94, 3) := dk_182 0 94 (dk_at dksX1_steepest_1 5 rfl rfl)
theorem dX1_steepest_32 : decode cX1_steepest 32 = .ok (.ireturn, 1) := dk_172 (dk_at dksX1_steepest_1 8 rfl rfl)
theorem dX1_steepest_33 : decode cX1_steepest 33 = .ok (.iconst 0, 1) := dk_3 (dk_at dksX1_steepest_1 9 rfl rfl)
theorem dX1_steepest_34 : decode cX1_steepest 34 = .ok (.istore_n 3, 1) := dk_62 (dk_at dksX1_steepest_1 10 rfl rfl)
theorem dX1_steepest_35 : decode cX1_steepest 35 = .ok (.iconst 1, 1) := dk_4 (dk_at dksX1_steepest_1 11 rfl rfl)
theorem dX1_steepest_36 : decode cX1_steepest 36 = .ok (.istore 4, 2) := dk_54 4 (dk_at dksX1_steepest_1 12 rfl rfl)
theorem dX1_steepest_38 : decode cX1_steepest 38 = .ok (.iload 4, 2) := dk_21 4 (dk_at dksX1_steepest_1 14 rfl rfl)
theorem dX1_steepest_40 : decode cX1_steepest 40 = .ok (.aload_n 0, 1) := dk_42 (dk_at dksX1_steepest_1 16 rfl rfl)
theorem dX1_steepest_41 : decode cX1_steepest 41 = .ok (.getfield 59, 3) := dk_180 0 59 (dk_at dksX1_steepest_1 17 rfl rfl)
theorem dX1_steepest_44 : decode cX1_steepest 44 = .ok (.getfield 97, 3) := dk_180 0 97 (dk_at dksX1_steepest_1 20 rfl rfl)
theorem dX1_steepest_47 : decode cX1_steepest 47 = .ok (.if_icmp .ge 42, 3) := dk_162 0 42 (dk_at dksX1_steepest_2 0 rfl rfl)
theorem dX1_steepest_50 : decode cX1_steepest 50 = .ok (.iload_n 3, 1) := dk_29 (dk_at dksX1_steepest_2 3 rfl rfl)
theorem dX1_steepest_51 : decode cX1_steepest 51 = .ok (.aload_n 0, 1) := dk_42 (dk_at dksX1_steepest_2 4 rfl rfl)
theorem dX1_steepest_52 : decode cX1_steepest 52 = .ok (.getfield 76, 3) := dk_180 0 76 (dk_at dksX1_steepest_2 5 rfl rfl)
theorem dX1_steepest_55 : decode cX1_steepest 55 = .ok (.iconst 0, 1) := dk_3 (dk_at dksX1_steepest_2 8 rfl rfl)
theorem dX1_steepest_56 : decode cX1_steepest 56 = .ok (.iload_n 1, 1) := dk_27 (dk_at dksX1_steepest_2 9 rfl rfl)
theorem dX1_steepest_57 : decode cX1_steepest 57 = .ok (.iload 4, 2) := dk_21 4 (dk_at dksX1_steepest_2 10 rfl rfl)
theorem dX1_steepest_59 : decode cX1_steepest 59 = .ok (.invokevirtual 293, 3) := dk_182 1 37 (dk_at dksX1_steepest_2 12 rfl rfl)
theorem dX1_steepest_62 : decode cX1_steepest 62 = .ok (.aload_n 0, 1) := dk_42 (dk_at dksX1_steepest_2 15 rfl rfl)
theorem dX1_steepest_63 : decode cX1_steepest 63 = .ok (.getfield 76, 3) := dk_180 0 76 (dk_at dksX1_steepest_2 16 rfl rfl)
theorem dX1_steepest_66 : decode cX1_steepest 66 = .ok (.iconst 0, 1) := dk_3 (dk_at dksX1_steepest_2 19 rfl rfl)
theorem dX1_steepest_67 : decode cX1_steepest 67 = .ok (.iload_n 1, 1) := dk_27 (dk_at dksX1_steepest_2 20 rfl rfl)
theorem dX1_steepest_68 : decode cX1_steepest 68 = .ok (.iload 4, 2) := dk_21 4 (dk_at dksX1_steepest_2 21 rfl rfl)
theorem dX1_steepest_70 : decode cX1_steepest 70 = .ok (.iconst 1, 1) := dk_4 (dk_at dksX1_steepest_2 23 rfl rfl)
theorem dX1_steepest_71 : decode cX1_steepest 71 = .ok (.isub, 1) := dk_100 (dk_at dksX1_steepest_3 0 rfl rfl)
theorem dX1_steepest_72 : decode cX1_steepest 72 = .ok (.invokevirtual 293, 3) := dk_182 1 37 (dk_at dksX1_steepest_3 1 rfl rfl)
theorem dX1_steepest_75 : decode cX1_steepest 75 = .ok (.isub, 1) := dk_100 (dk_at dksX1_steepest_3 4 rfl rfl)
theorem dX1_steepest_76 : decode cX1_steepest 76 = .ok (.invokestatic 329, 3) := dk_184 1 73 (dk_at dksX1_steepest_3 5 rfl rfl)
theorem dX1_steepest_79 : decode cX1_steepest 79 = .ok (.invokestatic 332, 3) := dk_184 1 76 (dk_at dksX1_steepest_3 8 rfl rfl)
theorem dX1_steepest_82 : decode cX1_steepest 82 = .ok (.istore_n 3, 1) := dk_62 (dk_at dksX1_steepest_3 11 rfl rfl)
theorem dX1_steepest_83 : decode cX1_steepest 83 = .ok (.iinc 4 1, 3) := dk_132 4 1 (dk_at dksX1_steepest_3 12 rfl rfl)
theorem dX1_steepest_86 : decode cX1_steepest 86 = .ok (.goto (-48), 3) := dk_167 255 208 (dk_at dksX1_steepest_3 15 rfl rfl)
theorem dX1_steepest_89 : decode cX1_steepest 89 = .ok (.aload_n 0, 1) := dk_42 (dk_at dksX1_steepest_3 18 rfl rfl)
theorem dX1_steepest_90 : decode cX1_steepest 90 = .ok (.iload_n 3, 1) := dk_29 (dk_at dksX1_steepest_3 19 rfl rfl)
theorem dX1_steepest_91 : decode cX1_steepest 91 = .ok (.invokevirtual 94, 3) := dk_182 0 94 (dk_at dksX1_steepest_3 20 rfl rfl)
theorem dX1_steepest_94 : decode cX1_steepest 94 = .ok (.ireturn, 1) := dk_172 (dk_at dksX1_steepest_3 23 rfl rfl)
abbrev cX1_log : ByteArray := prog_1_method_61_code
def yX1_log : MethodName := ⟨RX1, "log", "(II)I"⟩
def dkwX1_log_6 : List UInt8 := [42, 4, 182, 0, 43, 172]
abbrev dktX1_log_6 : List UInt8 := dkwX1_log_6 ++ []
def dkwX1_log_5 : List UInt8 := [182, 1, 93, 182, 0, 94, 172, 42, 45, 182, 1, 96, 153, 0, 7, 4, 167, 0, 4, 3, 182, 0, 94, 172]
abbrev dktX1_log_5 : List UInt8 := dkwX1_log_5 ++ dktX1_log_6
def dkwX1_log_4 : List UInt8 := [182, 0, 94, 172, 42, 45, 182, 1, 91, 153, 0, 7, 4, 167, 0, 4, 3, 182, 0, 94, 172, 42, 45]
abbrev dktX1_log_4 : List UInt8 := dkwX1_log_4 ++ dktX1_log_5
def dkwX1_log_3 : List UInt8 := [42, 45, 182, 1, 84, 182, 0, 94, 172, 42, 45, 182, 1, 87, 182, 0, 94, 172, 42, 45, 182, 1, 89]
abbrev dktX1_log_3 : List UInt8 := dkwX1_log_3 ++ dktX1_log_4
def dkwX1_log_2 : List UInt8 := [170, 0, 0, 0, 0, 0, 0, 110, 0, 0, 0, 0, 0, 0, 0, 5, 0, 0, 0, 40, 0, 0, 0, 49, 0, 0, 0, 58, 0, 0, 0, 67, 0, 0, 0, 84, 0, 0, 0, 93]
abbrev dktX1_log_2 : List UInt8 := dkwX1_log_2 ++ dktX1_log_3
def dkwX1_log_1 : List UInt8 := [42, 4, 182, 0, 43, 172, 42, 180, 0, 25, 27, 182, 1, 81, 78, 28]
abbrev dktX1_log_1 : List UInt8 := dkwX1_log_1 ++ dktX1_log_2
def dkwX1_log_0 : List UInt8 := [42, 180, 0, 76, 198, 0, 20, 27, 3, 42, 180, 0, 25, 182, 1, 79, 4, 100, 184, 0, 39, 154, 0, 9]
abbrev dktX1_log_0 : List UInt8 := dkwX1_log_0 ++ dktX1_log_1
theorem dksX1_log_0 : cX1_log.data.toList.drop 0 = dktX1_log_0 := by decide +kernel
theorem dksX1_log_1 : cX1_log.data.toList.drop 24 = dktX1_log_1 := dk_seg dksX1_log_0 24 rfl rfl
theorem dksX1_log_2 : cX1_log.data.toList.drop 40 = dktX1_log_2 := dk_seg dksX1_log_1 16 rfl rfl
theorem dksX1_log_3 : cX1_log.data.toList.drop 80 = dktX1_log_3 := dk_seg dksX1_log_2 40 rfl rfl
theorem dksX1_log_4 : cX1_log.data.toList.drop 103 = dktX1_log_4 := dk_seg dksX1_log_3 23 rfl rfl
theorem dksX1_log_5 : cX1_log.data.toList.drop 126 = dktX1_log_5 := dk_seg dksX1_log_4 23 rfl rfl
theorem dksX1_log_6 : cX1_log.data.toList.drop 150 = dktX1_log_6 := dk_seg dksX1_log_5 24 rfl rfl
theorem dX1_log_0 : decode cX1_log 0 = .ok (.aload_n 0, 1) := dk_42 (dk_at dksX1_log_0 0 rfl rfl)
theorem dX1_log_1 : decode cX1_log 1 = .ok (.getfield 76, 3) := dk_180 0 76 (dk_at dksX1_log_0 1 rfl rfl)
theorem dX1_log_4 : decode cX1_log 4 = .ok (.ifnull 20, 3) := dk_198 0 20 (dk_at dksX1_log_0 4 rfl rfl)
theorem dX1_log_7 : decode cX1_log 7 = .ok (.iload_n 1, 1) := dk_27 (dk_at dksX1_log_0 7 rfl rfl)
theorem dX1_log_8 : decode cX1_log 8 = .ok (.iconst 0, 1) := dk_3 (dk_at dksX1_log_0 8 rfl rfl)
theorem dX1_log_9 : decode cX1_log 9 = .ok (.aload_n 0, 1) := dk_42 (dk_at dksX1_log_0 9 rfl rfl)
theorem dX1_log_10 : decode cX1_log 10 = .ok (.getfield 25, 3) := dk_180 0 25 (dk_at dksX1_log_0 10 rfl rfl)
theorem dX1_log_13 : decode cX1_log 13 = .ok (.invokevirtual 335, 3) := dk_182 1 79 (dk_at dksX1_log_0 13 rfl rfl)
theorem dX1_log_16 : decode cX1_log 16 = .ok (.iconst 1, 1) := dk_4 (dk_at dksX1_log_0 16 rfl rfl)
theorem dX1_log_17 : decode cX1_log 17 = .ok (.isub, 1) := dk_100 (dk_at dksX1_log_0 17 rfl rfl)
theorem dX1_log_18 : decode cX1_log 18 = .ok (.invokestatic 39, 3) := dk_184 0 39 (dk_at dksX1_log_0 18 rfl rfl)
theorem dX1_log_21 : decode cX1_log 21 = .ok (.ifCond .ne 9, 3) := dk_154 0 9 (dk_at dksX1_log_0 21 rfl rfl)
theorem dX1_log_24 : decode cX1_log 24 = .ok (.aload_n 0, 1) := dk_42 (dk_at dksX1_log_1 0 rfl rfl)
theorem dX1_log_25 : decode cX1_log 25 = .ok (.iconst 1, 1) := dk_4 (dk_at dksX1_log_1 1 rfl rfl)
theorem dX1_log_26 : decode cX1_log 26 = .ok (.invokevirtual 43, 3) := dk_182 0 43 (dk_at dksX1_log_1 2 rfl rfl)
theorem dX1_log_29 : decode cX1_log 29 = .ok (.ireturn, 1) := dk_172 (dk_at dksX1_log_1 5 rfl rfl)
theorem dX1_log_30 : decode cX1_log 30 = .ok (.aload_n 0, 1) := dk_42 (dk_at dksX1_log_1 6 rfl rfl)
theorem dX1_log_31 : decode cX1_log 31 = .ok (.getfield 25, 3) := dk_180 0 25 (dk_at dksX1_log_1 7 rfl rfl)
theorem dX1_log_34 : decode cX1_log 34 = .ok (.iload_n 1, 1) := dk_27 (dk_at dksX1_log_1 10 rfl rfl)
theorem dX1_log_35 : decode cX1_log 35 = .ok (.invokevirtual 337, 3) := dk_182 1 81 (dk_at dksX1_log_1 11 rfl rfl)
theorem dX1_log_38 : decode cX1_log 38 = .ok (.astore_n 3, 1) := dk_78 (dk_at dksX1_log_1 14 rfl rfl)
theorem dX1_log_39 : decode cX1_log 39 = .ok (.iload_n 2, 1) := dk_28 (dk_at dksX1_log_1 15 rfl rfl)
theorem dX1_log_40 : decode cX1_log 40 = .ok (.tableswitch 110 0 5 #[40, 49, 58, 67, 84, 93], 40) := by decide +kernel
theorem dX1_log_80 : decode cX1_log 80 = .ok (.aload_n 0, 1) := dk_42 (dk_at dksX1_log_3 0 rfl rfl)
theorem dX1_log_81 : decode cX1_log 81 = .ok (.aload_n 3, 1) := dk_45 (dk_at dksX1_log_3 1 rfl rfl)
theorem dX1_log_82 : decode cX1_log 82 = .ok (.invokevirtual 340, 3) := dk_182 1 84 (dk_at dksX1_log_3 2 rfl rfl)
theorem dX1_log_85 : decode cX1_log 85 = .ok (.invokevirtual 94, 3) := dk_182 0 94 (dk_at dksX1_log_3 5 rfl rfl)
theorem dX1_log_88 : decode cX1_log 88 = .ok (.ireturn, 1) := dk_172 (dk_at dksX1_log_3 8 rfl rfl)
theorem dX1_log_89 : decode cX1_log 89 = .ok (.aload_n 0, 1) := dk_42 (dk_at dksX1_log_3 9 rfl rfl)
theorem dX1_log_90 : decode cX1_log 90 = .ok (.aload_n 3, 1) := dk_45 (dk_at dksX1_log_3 10 rfl rfl)
theorem dX1_log_91 : decode cX1_log 91 = .ok (.invokevirtual 343, 3) := dk_182 1 87 (dk_at dksX1_log_3 11 rfl rfl)
theorem dX1_log_94 : decode cX1_log 94 = .ok (.invokevirtual 94, 3) := dk_182 0 94 (dk_at dksX1_log_3 14 rfl rfl)
theorem dX1_log_97 : decode cX1_log 97 = .ok (.ireturn, 1) := dk_172 (dk_at dksX1_log_3 17 rfl rfl)
theorem dX1_log_98 : decode cX1_log 98 = .ok (.aload_n 0, 1) := dk_42 (dk_at dksX1_log_3 18 rfl rfl)
theorem dX1_log_99 : decode cX1_log 99 = .ok (.aload_n 3, 1) := dk_45 (dk_at dksX1_log_3 19 rfl rfl)
theorem dX1_log_100 : decode cX1_log 100 = .ok (.invokevirtual 345, 3) := dk_182 1 89 (dk_at dksX1_log_3 20 rfl rfl)
theorem dX1_log_103 : decode cX1_log 103 = .ok (.invokevirtual 94, 3) := dk_182 0 94 (dk_at dksX1_log_4 0 rfl rfl)
theorem dX1_log_106 : decode cX1_log 106 = .ok (.ireturn, 1) := dk_172 (dk_at dksX1_log_4 3 rfl rfl)
theorem dX1_log_107 : decode cX1_log 107 = .ok (.aload_n 0, 1) := dk_42 (dk_at dksX1_log_4 4 rfl rfl)
theorem dX1_log_108 : decode cX1_log 108 = .ok (.aload_n 3, 1) := dk_45 (dk_at dksX1_log_4 5 rfl rfl)
theorem dX1_log_109 : decode cX1_log 109 = .ok (.invokevirtual 347, 3) := dk_182 1 91 (dk_at dksX1_log_4 6 rfl rfl)
theorem dX1_log_112 : decode cX1_log 112 = .ok (.ifCond .eq 7, 3) := dk_153 0 7 (dk_at dksX1_log_4 9 rfl rfl)
theorem dX1_log_115 : decode cX1_log 115 = .ok (.iconst 1, 1) := dk_4 (dk_at dksX1_log_4 12 rfl rfl)
theorem dX1_log_116 : decode cX1_log 116 = .ok (.goto 4, 3) := dk_167 0 4 (dk_at dksX1_log_4 13 rfl rfl)
theorem dX1_log_119 : decode cX1_log 119 = .ok (.iconst 0, 1) := dk_3 (dk_at dksX1_log_4 16 rfl rfl)
theorem dX1_log_120 : decode cX1_log 120 = .ok (.invokevirtual 94, 3) := dk_182 0 94 (dk_at dksX1_log_4 17 rfl rfl)
theorem dX1_log_123 : decode cX1_log 123 = .ok (.ireturn, 1) := dk_172 (dk_at dksX1_log_4 20 rfl rfl)
theorem dX1_log_124 : decode cX1_log 124 = .ok (.aload_n 0, 1) := dk_42 (dk_at dksX1_log_4 21 rfl rfl)
theorem dX1_log_125 : decode cX1_log 125 = .ok (.aload_n 3, 1) := dk_45 (dk_at dksX1_log_4 22 rfl rfl)
theorem dX1_log_126 : decode cX1_log 126 = .ok (.invokevirtual 349, 3) := dk_182 1 93 (dk_at dksX1_log_5 0 rfl rfl)
theorem dX1_log_129 : decode cX1_log 129 = .ok (.invokevirtual 94, 3) := dk_182 0 94 (dk_at dksX1_log_5 3 rfl rfl)
theorem dX1_log_132 : decode cX1_log 132 = .ok (.ireturn, 1) := dk_172 (dk_at dksX1_log_5 6 rfl rfl)
theorem dX1_log_133 : decode cX1_log 133 = .ok (.aload_n 0, 1) := dk_42 (dk_at dksX1_log_5 7 rfl rfl)
theorem dX1_log_134 : decode cX1_log 134 = .ok (.aload_n 3, 1) := dk_45 (dk_at dksX1_log_5 8 rfl rfl)
theorem dX1_log_135 : decode cX1_log 135 = .ok (.invokevirtual 352, 3) := dk_182 1 96 (dk_at dksX1_log_5 9 rfl rfl)
theorem dX1_log_138 : decode cX1_log 138 = .ok (.ifCond .eq 7, 3) := dk_153 0 7 (dk_at dksX1_log_5 12 rfl rfl)
theorem dX1_log_141 : decode cX1_log 141 = .ok (.iconst 1, 1) := dk_4 (dk_at dksX1_log_5 15 rfl rfl)
theorem dX1_log_142 : decode cX1_log 142 = .ok (.goto 4, 3) := dk_167 0 4 (dk_at dksX1_log_5 16 rfl rfl)
theorem dX1_log_145 : decode cX1_log 145 = .ok (.iconst 0, 1) := dk_3 (dk_at dksX1_log_5 19 rfl rfl)
theorem dX1_log_146 : decode cX1_log 146 = .ok (.invokevirtual 94, 3) := dk_182 0 94 (dk_at dksX1_log_5 20 rfl rfl)
theorem dX1_log_149 : decode cX1_log 149 = .ok (.ireturn, 1) := dk_172 (dk_at dksX1_log_5 23 rfl rfl)
theorem dX1_log_150 : decode cX1_log 150 = .ok (.aload_n 0, 1) := dk_42 (dk_at dksX1_log_6 0 rfl rfl)
theorem dX1_log_151 : decode cX1_log 151 = .ok (.iconst 1, 1) := dk_4 (dk_at dksX1_log_6 1 rfl rfl)
theorem dX1_log_152 : decode cX1_log 152 = .ok (.invokevirtual 43, 3) := dk_182 0 43 (dk_at dksX1_log_6 2 rfl rfl)
theorem dX1_log_155 : decode cX1_log 155 = .ok (.ireturn, 1) := dk_172 (dk_at dksX1_log_6 5 rfl rfl)
abbrev cX1_size : ByteArray := prog_1_method_63_code
def yX1_size : MethodName := ⟨RX1, "size", "(I)I"⟩
def dkwX1_size_2 : List UInt8 := [42, 180, 0, 33, 172, 42, 180, 0, 25, 182, 1, 79, 172, 2, 172]
abbrev dktX1_size_2 : List UInt8 := dkwX1_size_2 ++ []
def dkwX1_size_1 : List UInt8 := [171, 0, 0, 0, 0, 0, 40, 0, 0, 0, 2, 0, 0, 0, 0, 0, 0, 0, 27, 0, 0, 0, 1, 0, 0, 0, 32]
abbrev dktX1_size_1 : List UInt8 := dkwX1_size_1 ++ dktX1_size_2
def dkwX1_size_0 : List UInt8 := [27]
abbrev dktX1_size_0 : List UInt8 := dkwX1_size_0 ++ dktX1_size_1
theorem dksX1_size_0 : cX1_size.data.toList.drop 0 = dktX1_size_0 := by decide +kernel
theorem dksX1_size_1 : cX1_size.data.toList.drop 1 = dktX1_size_1 := dk_seg dksX1_size_0 1 rfl rfl
theorem dksX1_size_2 : cX1_size.data.toList.drop 28 = dktX1_size_2 := dk_seg dksX1_size_1 27 rfl rfl
theorem dX1_size_0 : decode cX1_size 0 = .ok (.iload_n 1, 1) := dk_27 (dk_at dksX1_size_0 0 rfl rfl)
theorem dX1_size_1 : decode cX1_size 1 = .ok (.lookupswitch 40 #[(0, 27), (1, 32)], 27) := by decide +kernel
theorem dX1_size_28 : decode cX1_size 28 = .ok (.aload_n 0, 1) := dk_42 (dk_at dksX1_size_2 0 rfl rfl)
theorem dX1_size_29 : decode cX1_size 29 = .ok (.getfield 33, 3) := dk_180 0 33 (dk_at dksX1_size_2 1 rfl rfl)
theorem dX1_size_32 : decode cX1_size 32 = .ok (.ireturn, 1) := dk_172 (dk_at dksX1_size_2 4 rfl rfl)
theorem dX1_size_33 : decode cX1_size 33 = .ok (.aload_n 0, 1) := dk_42 (dk_at dksX1_size_2 5 rfl rfl)
theorem dX1_size_34 : decode cX1_size 34 = .ok (.getfield 25, 3) := dk_180 0 25 (dk_at dksX1_size_2 6 rfl rfl)
theorem dX1_size_37 : decode cX1_size 37 = .ok (.invokevirtual 335, 3) := dk_182 1 79 (dk_at dksX1_size_2 9 rfl rfl)
theorem dX1_size_40 : decode cX1_size 40 = .ok (.ireturn, 1) := dk_172 (dk_at dksX1_size_2 12 rfl rfl)
theorem dX1_size_41 : decode cX1_size 41 = .ok (.iconst (-1), 1) := dk_2 (dk_at dksX1_size_2 13 rfl rfl)
theorem dX1_size_42 : decode cX1_size 42 = .ok (.ireturn, 1) := dk_172 (dk_at dksX1_size_2 14 rfl rfl)
abbrev cX1_trouble : ByteArray := prog_1_method_64_code
def yX1_trouble : MethodName := ⟨RX1, "trouble", "()I"⟩
theorem dX1_trouble_0 : decode cX1_trouble 0 = .ok (.aload_n 0, 1) := by decide +kernel
theorem dX1_trouble_1 : decode cX1_trouble 1 = .ok (.getfield 3, 3) := by decide +kernel
theorem dX1_trouble_4 : decode cX1_trouble 4 = .ok (.ireturn, 1) := by decide +kernel
abbrev cX1_unproved : ByteArray := prog_1_method_62_code
def yX1_unproved : MethodName := ⟨RX1, "unproved", "(I)I"⟩
def dkwX1_unproved_3 : List UInt8 := [183, 1, 99, 191]
abbrev dktX1_unproved_3 : List UInt8 := dkwX1_unproved_3 ++ []
def dkwX1_unproved_2 : List UInt8 := [167, 0, 13, 28, 27, 160, 0, 5, 29, 172, 132, 2, 1, 132, 3, 1, 167, 255, 198, 187, 1, 97, 89]
abbrev dktX1_unproved_2 : List UInt8 := dkwX1_unproved_2 ++ dktX1_unproved_3
def dkwX1_unproved_1 : List UInt8 := [162, 0, 43, 42, 180, 0, 76, 180, 0, 84, 29, 182, 0, 174, 192, 0, 178, 180, 1, 3, 6, 162, 0, 6]
abbrev dktX1_unproved_1 : List UInt8 := dkwX1_unproved_1 ++ dktX1_unproved_2
def dkwX1_unproved_0 : List UInt8 := [3, 61, 3, 62, 42, 180, 0, 76, 198, 0, 57, 29, 42, 180, 0, 76, 180, 0, 84, 182, 0, 88]
abbrev dktX1_unproved_0 : List UInt8 := dkwX1_unproved_0 ++ dktX1_unproved_1
theorem dksX1_unproved_0 : cX1_unproved.data.toList.drop 0 = dktX1_unproved_0 := by decide +kernel
theorem dksX1_unproved_1 : cX1_unproved.data.toList.drop 22 = dktX1_unproved_1 := dk_seg dksX1_unproved_0 22 rfl rfl
theorem dksX1_unproved_2 : cX1_unproved.data.toList.drop 46 = dktX1_unproved_2 := dk_seg dksX1_unproved_1 24 rfl rfl
theorem dksX1_unproved_3 : cX1_unproved.data.toList.drop 69 = dktX1_unproved_3 := dk_seg dksX1_unproved_2 23 rfl rfl
theorem dX1_unproved_0 : decode cX1_unproved 0 = .ok (.iconst 0, 1) := dk_3 (dk_at dksX1_unproved_0 0 rfl rfl)
theorem dX1_unproved_1 : decode cX1_unproved 1 = .ok (.istore_n 2, 1) := dk_61 (dk_at dksX1_unproved_0 1 rfl rfl)
theorem dX1_unproved_2 : decode cX1_unproved 2 = .ok (.iconst 0, 1) := dk_3 (dk_at dksX1_unproved_0 2 rfl rfl)
theorem dX1_unproved_3 : decode cX1_unproved 3 = .ok (.istore_n 3, 1) := dk_62 (dk_at dksX1_unproved_0 3 rfl rfl)
theorem dX1_unproved_4 : decode cX1_unproved 4 = .ok (.aload_n 0, 1) := dk_42 (dk_at dksX1_unproved_0 4 rfl rfl)
theorem dX1_unproved_5 : decode cX1_unproved 5 = .ok (.getfield 76, 3) := dk_180 0 76 (dk_at dksX1_unproved_0 5 rfl rfl)
theorem dX1_unproved_8 : decode cX1_unproved 8 = .ok (.ifnull 57, 3) := dk_198 0 57 (dk_at dksX1_unproved_0 8 rfl rfl)
theorem dX1_unproved_11 : decode cX1_unproved 11 = .ok (.iload_n 3, 1) := dk_29 (dk_at dksX1_unproved_0 11 rfl rfl)
theorem dX1_unproved_12 : decode cX1_unproved 12 = .ok (.aload_n 0, 1) := dk_42 (dk_at dksX1_unproved_0 12 rfl rfl)
theorem dX1_unproved_13 : decode cX1_unproved 13 = .ok (.getfield 76, 3) := dk_180 0 76 (dk_at dksX1_unproved_0 13 rfl rfl)
theorem dX1_unproved_16 : decode cX1_unproved 16 = .ok (.getfield 84, 3) := dk_180 0 84 (dk_at dksX1_unproved_0 16 rfl rfl)
theorem dX1_unproved_19 : decode cX1_unproved 19 = .ok (.invokevirtual 88, 3) := dk_182 0 88 (dk_at dksX1_unproved_0 19 rfl rfl)
theorem dX1_unproved_22 : decode cX1_unproved 22 = .ok (.if_icmp .ge 43, 3) := dk_162 0 43 (dk_at dksX1_unproved_1 0 rfl rfl)
theorem dX1_unproved_25 : decode cX1_unproved 25 = .ok (.aload_n 0, 1) := dk_42 (dk_at dksX1_unproved_1 3 rfl rfl)
theorem dX1_unproved_26 : decode cX1_unproved 26 = .ok (.getfield 76, 3) := dk_180 0 76 (dk_at dksX1_unproved_1 4 rfl rfl)
theorem dX1_unproved_29 : decode cX1_unproved 29 = .ok (.getfield 84, 3) := dk_180 0 84 (dk_at dksX1_unproved_1 7 rfl rfl)
theorem dX1_unproved_32 : decode cX1_unproved 32 = .ok (.iload_n 3, 1) := dk_29 (dk_at dksX1_unproved_1 10 rfl rfl)
theorem dX1_unproved_33 : decode cX1_unproved 33 = .ok (.invokevirtual 174, 3) := dk_182 0 174 (dk_at dksX1_unproved_1 11 rfl rfl)
theorem dX1_unproved_36 : decode cX1_unproved 36 = .ok (.checkcast 178, 3) := dk_192 0 178 (dk_at dksX1_unproved_1 14 rfl rfl)
theorem dX1_unproved_39 : decode cX1_unproved 39 = .ok (.getfield 259, 3) := dk_180 1 3 (dk_at dksX1_unproved_1 17 rfl rfl)
theorem dX1_unproved_42 : decode cX1_unproved 42 = .ok (.iconst 3, 1) := dk_6 (dk_at dksX1_unproved_1 20 rfl rfl)
theorem dX1_unproved_43 : decode cX1_unproved 43 = .ok (.if_icmp .ge 6, 3) := dk_162 0 6 (dk_at dksX1_unproved_1 21 rfl rfl)
theorem dX1_unproved_46 : decode cX1_unproved 46 = .ok (.goto 13, 3) := dk_167 0 13 (dk_at dksX1_unproved_2 0 rfl rfl)
theorem dX1_unproved_49 : decode cX1_unproved 49 = .ok (.iload_n 2, 1) := dk_28 (dk_at dksX1_unproved_2 3 rfl rfl)
theorem dX1_unproved_50 : decode cX1_unproved 50 = .ok (.iload_n 1, 1) := dk_27 (dk_at dksX1_unproved_2 4 rfl rfl)
theorem dX1_unproved_51 : decode cX1_unproved 51 = .ok (.if_icmp .ne 5, 3) := dk_160 0 5 (dk_at dksX1_unproved_2 5 rfl rfl)
theorem dX1_unproved_54 : decode cX1_unproved 54 = .ok (.iload_n 3, 1) := dk_29 (dk_at dksX1_unproved_2 8 rfl rfl)
theorem dX1_unproved_55 : decode cX1_unproved 55 = .ok (.ireturn, 1) := dk_172 (dk_at dksX1_unproved_2 9 rfl rfl)
theorem dX1_unproved_56 : decode cX1_unproved 56 = .ok (.iinc 2 1, 3) := dk_132 2 1 (dk_at dksX1_unproved_2 10 rfl rfl)
theorem dX1_unproved_59 : decode cX1_unproved 59 = .ok (.iinc 3 1, 3) := dk_132 3 1 (dk_at dksX1_unproved_2 13 rfl rfl)
theorem dX1_unproved_62 : decode cX1_unproved 62 = .ok (.goto (-58), 3) := dk_167 255 198 (dk_at dksX1_unproved_2 16 rfl rfl)
theorem dX1_unproved_65 : decode cX1_unproved 65 = .ok (.new 353, 3) := dk_187 1 97 (dk_at dksX1_unproved_2 19 rfl rfl)
theorem dX1_unproved_68 : decode cX1_unproved 68 = .ok (.dup, 1) := dk_89 (dk_at dksX1_unproved_2 22 rfl rfl)
theorem dX1_unproved_69 : decode cX1_unproved 69 = .ok (.invokespecial 355, 3) := dk_183 1 99 (dk_at dksX1_unproved_3 0 rfl rfl)
theorem dX1_unproved_72 : decode cX1_unproved 72 = .ok (.athrow, 1) := dk_191 (dk_at dksX1_unproved_3 3 rfl rfl)
theorem q106 : (Jvm.Cond.initialized "MaskedEars") ∈ lw_all := lw_g (lw_at lw_m1 1 rfl) rfl
theorem q141 : (Jvm.Cond.instantiable "MaskedEars" (10 : Nat)) ∈ lw_all := lw_g (lw_at lw_m1 36 rfl) rfl
theorem q143 : (Jvm.Cond.instanceMethod ({ cls := "MaskedEars", name := "<init>", desc := "()V" } : Jvm.MethodName)) ∈ lw_all := lw_g (lw_at lw_m1 38 rfl) rfl
theorem q144 : (Jvm.Cond.code ({ cls := "MaskedEars", name := "<init>", desc := "()V" } : Jvm.MethodName) prog_1_method_4_code (1 : Nat) (Option.none : Option Jvm.ClassFile.FieldType)) ∈ lw_all := lw_g (lw_at lw_m1 39 rfl) rfl
theorem q145 : (Jvm.Cond.methodLink "MaskedEars" (10 : Nat) ({ cls := "java/lang/Object", name := "<init>", desc := "()V" } : Jvm.MethodName)) ∈ lw_all := lw_g (lw_at lw_m1 40 rfl) rfl
theorem q148 : (Jvm.Cond.classLink "MaskedEars" (20 : Nat) "MaskedEars$Latest") ∈ lw_all := lw_g (lw_at lw_m1 43 rfl) rfl
theorem q150 : (Jvm.Cond.methodLink "MaskedEars" (22 : Nat) ({ cls := "MaskedEars$Latest", name := "<init>", desc := "(I)V" } : Jvm.MethodName)) ∈ lw_all := lw_g (lw_at lw_m1 45 rfl) rfl
theorem q191 : (Jvm.Cond.fieldLink "MaskedEars" (3 : Nat) "MaskedEars" "trouble" "I") ∈ lw_all := lw_g (lw_at lw_m1 86 rfl) rfl
theorem q192 : (Jvm.Cond.fieldLink "MaskedEars" (7 : Nat) "MaskedEars" "where" "I") ∈ lw_all := lw_g (lw_at lw_m1 87 rfl) rfl
theorem q194 : (Jvm.Cond.fieldLink "MaskedEars" (16 : Nat) "MaskedEars" "tape" "[B") ∈ lw_all := lw_g (lw_at lw_m1 89 rfl) rfl
theorem q195 : (Jvm.Cond.fieldLink "MaskedEars" (33 : Nat) "MaskedEars" "taped" "I") ∈ lw_all := lw_g (lw_at lw_m1 90 rfl) rfl
theorem q196 : (Jvm.Cond.fieldLink "MaskedEars" (47 : Nat) "MaskedEars" "fault" "I") ∈ lw_all := lw_g (lw_at lw_m1 91 rfl) rfl
theorem q197 : (Jvm.Cond.fieldLink "MaskedEars" (59 : Nat) "MaskedEars" "told" "LMaskedEars$Told;") ∈ lw_all := lw_g (lw_at lw_m1 92 rfl) rfl
theorem q198 : (Jvm.Cond.fieldLink "MaskedEars" (76 : Nat) "MaskedEars" "test" "LMaskedEars$Test;") ∈ lw_all := lw_g (lw_at lw_m1 93 rfl) rfl
theorem q199 : (Jvm.Cond.fieldLink "MaskedEars" (25 : Nat) "MaskedEars" "log" "LMaskedEars$Latest;") ∈ lw_all := lw_g (lw_at lw_m1 94 rfl) rfl
theorem q200 : (Jvm.Cond.fieldLink "MaskedEars" (29 : Nat) "MaskedEars" "earlier" "[I") ∈ lw_all := lw_g (lw_at lw_m1 95 rfl) rfl
theorem q201 : (Jvm.Cond.fieldLink "MaskedEars" (80 : Nat) "MaskedEars" "hasEarlier" "Z") ∈ lw_all := lw_g (lw_at lw_m1 96 rfl) rfl
theorem q202 : (Jvm.Cond.lays "MaskedEars" "MaskedEars" "trouble" "I") ∈ lw_all := lw_g (lw_at lw_m1 97 rfl) rfl
theorem q203 : (Jvm.Cond.soleField "MaskedEars" "trouble") ∈ lw_all := lw_g (lw_at lw_m1 98 rfl) rfl
theorem q204 : (Jvm.Cond.lays "MaskedEars" "MaskedEars" "where" "I") ∈ lw_all := lw_g (lw_at lw_m1 99 rfl) rfl
theorem q205 : (Jvm.Cond.soleField "MaskedEars" "where") ∈ lw_all := lw_g (lw_at lw_m1 100 rfl) rfl
theorem q206 : (Jvm.Cond.laysFinal "MaskedEars" "MaskedEars" "tape" "[B") ∈ lw_all := lw_g (lw_at lw_m1 101 rfl) rfl
theorem q207 : (Jvm.Cond.soleField "MaskedEars" "tape") ∈ lw_all := lw_g (lw_at lw_m1 102 rfl) rfl
theorem q208 : (Jvm.Cond.lays "MaskedEars" "MaskedEars" "taped" "I") ∈ lw_all := lw_g (lw_at lw_m1 103 rfl) rfl
theorem q209 : (Jvm.Cond.soleField "MaskedEars" "taped") ∈ lw_all := lw_g (lw_at lw_m1 104 rfl) rfl
theorem q210 : (Jvm.Cond.lays "MaskedEars" "MaskedEars" "fault" "I") ∈ lw_all := lw_g (lw_at lw_m1 105 rfl) rfl
theorem q211 : (Jvm.Cond.soleField "MaskedEars" "fault") ∈ lw_all := lw_g (lw_at lw_m1 106 rfl) rfl
theorem q212 : (Jvm.Cond.lays "MaskedEars" "MaskedEars" "told" "LMaskedEars$Told;") ∈ lw_all := lw_g (lw_at lw_m1 107 rfl) rfl
theorem q213 : (Jvm.Cond.soleField "MaskedEars" "told") ∈ lw_all := lw_g (lw_at lw_m1 108 rfl) rfl
theorem q214 : (Jvm.Cond.lays "MaskedEars" "MaskedEars" "test" "LMaskedEars$Test;") ∈ lw_all := lw_g (lw_at lw_m1 109 rfl) rfl
theorem q215 : (Jvm.Cond.soleField "MaskedEars" "test") ∈ lw_all := lw_g (lw_at lw_m1 110 rfl) rfl
theorem q216 : (Jvm.Cond.lays "MaskedEars" "MaskedEars" "log" "LMaskedEars$Latest;") ∈ lw_all := lw_g (lw_at lw_m1 111 rfl) rfl
theorem q217 : (Jvm.Cond.soleField "MaskedEars" "log") ∈ lw_all := lw_g (lw_at lw_m1 112 rfl) rfl
theorem q218 : (Jvm.Cond.laysFinal "MaskedEars" "MaskedEars" "earlier" "[I") ∈ lw_all := lw_g (lw_at lw_m1 113 rfl) rfl
theorem q219 : (Jvm.Cond.soleField "MaskedEars" "earlier") ∈ lw_all := lw_g (lw_at lw_m1 114 rfl) rfl
theorem q220 : (Jvm.Cond.lays "MaskedEars" "MaskedEars" "hasEarlier" "Z") ∈ lw_all := lw_g (lw_at lw_m1 115 rfl) rfl
theorem q221 : (Jvm.Cond.soleField "MaskedEars" "hasEarlier") ∈ lw_all := lw_g (lw_at lw_m1 116 rfl) rfl
theorem q222 : (Jvm.Cond.superclass "MaskedEars" "java/lang/Object") ∈ lw_all := lw_g (lw_at lw_m1 117 rfl) rfl
theorem q225 : (Jvm.Cond.instanceMethod ({ cls := "MaskedEars", name := "feed", desc := "(IIIII)I" } : Jvm.MethodName)) ∈ lw_all := lw_g (lw_at lw_m1 120 rfl) rfl
theorem q226 : (Jvm.Cond.selects "MaskedEars" ({ cls := "MaskedEars", name := "feed", desc := "(IIIII)I" } : Jvm.MethodName) ({ cls := "MaskedEars", name := "feed", desc := "(IIIII)I" } : Jvm.MethodName)) ∈ lw_all := lw_g (lw_at lw_m1 121 rfl) rfl
theorem q227 : (Jvm.Cond.code ({ cls := "MaskedEars", name := "feed", desc := "(IIIII)I" } : Jvm.MethodName) prog_1_method_6_code (6 : Nat) (Option.some Jvm.ClassFile.FieldType.int)) ∈ lw_all := lw_g (lw_at lw_m1 122 rfl) rfl
theorem q228 : (Jvm.Cond.methodLink "MaskedEars" (36 : Nat) ({ cls := "MaskedEars", name := "feedOne", desc := "(I)V" } : Jvm.MethodName)) ∈ lw_all := lw_g (lw_at lw_m1 123 rfl) rfl
theorem q229 : (Jvm.Cond.privateMethod ({ cls := "MaskedEars", name := "feedOne", desc := "(I)V" } : Jvm.MethodName)) ∈ lw_tbl := lw_at lw_m1 124 rfl
theorem q230 : (Jvm.Cond.instanceMethod ({ cls := "MaskedEars", name := "feedOne", desc := "(I)V" } : Jvm.MethodName)) ∈ lw_all := lw_g (lw_at lw_m1 125 rfl) rfl
theorem q231 : (Jvm.Cond.code ({ cls := "MaskedEars", name := "feedOne", desc := "(I)V" } : Jvm.MethodName) prog_1_method_5_code (3 : Nat) (Option.none : Option Jvm.ClassFile.FieldType)) ∈ lw_all := lw_g (lw_at lw_m1 126 rfl) rfl
theorem q233 : (Jvm.Cond.instanceMethod ({ cls := "MaskedEars", name := "tester", desc := "(I)I" } : Jvm.MethodName)) ∈ lw_all := lw_g (lw_at lw_m1 128 rfl) rfl
theorem q234 : (Jvm.Cond.selects "MaskedEars" ({ cls := "MaskedEars", name := "tester", desc := "(I)I" } : Jvm.MethodName) ({ cls := "MaskedEars", name := "tester", desc := "(I)I" } : Jvm.MethodName)) ∈ lw_all := lw_g (lw_at lw_m1 129 rfl) rfl
theorem q235 : (Jvm.Cond.codeWith ({ cls := "MaskedEars", name := "tester", desc := "(I)I" } : Jvm.MethodName) prog_1_method_7_code (3 : Nat) (Option.some Jvm.ClassFile.FieldType.int) [((28 : Nat), (44 : Nat), (47 : Nat), (63 : Nat))]) ∈ lw_all := lw_g (lw_at lw_m1 130 rfl) rfl
theorem q236 : (Jvm.Cond.classLink "MaskedEars" (63 : Nat) "MaskedEars$Fault") ∈ lw_all := lw_g (lw_at lw_m1 131 rfl) rfl
theorem q237 : (Jvm.Cond.methodLink "MaskedEars" (39 : Nat) ({ cls := "MaskedEars", name := "isIn", desc := "(III)Z" } : Jvm.MethodName)) ∈ lw_all := lw_g (lw_at lw_m1 132 rfl) rfl
theorem q238 : (Jvm.Cond.static ({ cls := "MaskedEars", name := "isIn", desc := "(III)Z" } : Jvm.MethodName)) ∈ lw_all := lw_g (lw_at lw_m1 133 rfl) rfl
theorem q239 : (Jvm.Cond.code ({ cls := "MaskedEars", name := "isIn", desc := "(III)Z" } : Jvm.MethodName) prog_1_method_1_code (3 : Nat) (Option.some Jvm.ClassFile.FieldType.boolean)) ∈ lw_all := lw_g (lw_at lw_m1 134 rfl) rfl
theorem q240 : (Jvm.Cond.methodLink "MaskedEars" (43 : Nat) ({ cls := "MaskedEars", name := "refused", desc := "(I)I" } : Jvm.MethodName)) ∈ lw_all := lw_g (lw_at lw_m1 135 rfl) rfl
theorem q241 : (Jvm.Cond.privateMethod ({ cls := "MaskedEars", name := "refused", desc := "(I)I" } : Jvm.MethodName)) ∈ lw_tbl := lw_at lw_m1 136 rfl
theorem q242 : (Jvm.Cond.instanceMethod ({ cls := "MaskedEars", name := "refused", desc := "(I)I" } : Jvm.MethodName)) ∈ lw_all := lw_g (lw_at lw_m1 137 rfl) rfl
theorem q243 : (Jvm.Cond.code ({ cls := "MaskedEars", name := "refused", desc := "(I)I" } : Jvm.MethodName) prog_1_method_2_code (2 : Nat) (Option.some Jvm.ClassFile.FieldType.int)) ∈ lw_all := lw_g (lw_at lw_m1 138 rfl) rfl
theorem q244 : (Jvm.Cond.classLink "MaskedEars" (50 : Nat) "MaskedEars$Reader") ∈ lw_all := lw_g (lw_at lw_m1 139 rfl) rfl
theorem q246 : (Jvm.Cond.methodLink "MaskedEars" (52 : Nat) ({ cls := "MaskedEars$Reader", name := "<init>", desc := "(LMaskedEars;I)V" } : Jvm.MethodName)) ∈ lw_all := lw_g (lw_at lw_m1 141 rfl) rfl
theorem q259 : (Jvm.Cond.fieldLinkNest "MaskedEars" (97 : Nat) "MaskedEars$Told" "tones" "I" "MaskedEars") ∈ lw_tbl := lw_at lw_m1 154 rfl
theorem q263 : (Jvm.Cond.fieldLinkNest "MaskedEars" (102 : Nat) "MaskedEars$Told" "across" "I" "MaskedEars") ∈ lw_tbl := lw_at lw_m1 158 rfl
theorem q266 : (Jvm.Cond.fieldLinkNest "MaskedEars" (105 : Nat) "MaskedEars$Told" "gap" "I" "MaskedEars") ∈ lw_tbl := lw_at lw_m1 161 rfl
theorem q269 : (Jvm.Cond.fieldLinkNest "MaskedEars" (108 : Nat) "MaskedEars$Told" "rise" "I" "MaskedEars") ∈ lw_tbl := lw_at lw_m1 164 rfl
theorem q272 : (Jvm.Cond.fieldLinkNest "MaskedEars" (111 : Nat) "MaskedEars$Told" "flats" "I" "MaskedEars") ∈ lw_tbl := lw_at lw_m1 167 rfl
theorem q276 : (Jvm.Cond.fieldLinkNest "MaskedEars" (120 : Nat) "MaskedEars$Told" "slips" "Ljava/util/ArrayList;" "MaskedEars") ∈ lw_tbl := lw_at lw_m1 171 rfl
theorem q322 : (Jvm.Cond.methodLink "MaskedEars" (55 : Nat) ({ cls := "MaskedEars$Reader", name := "read", desc := "()LMaskedEars$Told;" } : Jvm.MethodName)) ∈ lw_all := lw_g (lw_at lw_m1 217 rfl) rfl
theorem q467 : (Jvm.Cond.fieldLinkNest "MaskedEars" (65 : Nat) "MaskedEars$Fault" "kind" "I" "MaskedEars") ∈ lw_tbl := lw_at lw_m2 122 rfl
theorem q469 : (Jvm.Cond.fieldLinkNest "MaskedEars" (68 : Nat) "MaskedEars$Fault" "place" "I" "MaskedEars") ∈ lw_tbl := lw_at lw_m2 124 rfl
theorem q606 : (Jvm.Cond.selects "MaskedEars" ({ cls := "java/lang/Object", name := "getClass", desc := "()Ljava/lang/Class;" } : Jvm.MethodName) ({ cls := "java/lang/Object", name := "getClass", desc := "()Ljava/lang/Class;" } : Jvm.MethodName)) ∈ lw_all := lw_g (lw_at lw_m3 21 rfl) rfl
theorem q638 : (Jvm.Cond.classLink "MaskedEars" (71 : Nat) "MaskedEars$Test") ∈ lw_all := lw_g (lw_at lw_m3 53 rfl) rfl
theorem q640 : (Jvm.Cond.methodLink "MaskedEars" (73 : Nat) ({ cls := "MaskedEars$Test", name := "<init>", desc := "(LMaskedEars$Told;)V" } : Jvm.MethodName)) ∈ lw_all := lw_g (lw_at lw_m3 55 rfl) rfl
theorem q654 : (Jvm.Cond.fieldLinkNest "MaskedEars" (180 : Nat) "MaskedEars$Task" "route" "I" "MaskedEars") ∈ lw_tbl := lw_at lw_m3 69 rfl
theorem q657 : (Jvm.Cond.fieldLinkNest "MaskedEars" (183 : Nat) "MaskedEars$Task" "ear" "I" "MaskedEars") ∈ lw_tbl := lw_at lw_m3 72 rfl
theorem q660 : (Jvm.Cond.fieldLinkNest "MaskedEars" (186 : Nat) "MaskedEars$Task" "tone" "I" "MaskedEars") ∈ lw_tbl := lw_at lw_m3 75 rfl
theorem q663 : (Jvm.Cond.fieldLinkNest "MaskedEars" (189 : Nat) "MaskedEars$Task" "isMasked" "Z" "MaskedEars") ∈ lw_tbl := lw_at lw_m3 78 rfl
theorem q666 : (Jvm.Cond.fieldLinkNest "MaskedEars" (259 : Nat) "MaskedEars$Task" "state" "I" "MaskedEars") ∈ lw_tbl := lw_at lw_m3 81 rfl
theorem q669 : (Jvm.Cond.fieldLinkNest "MaskedEars" (262 : Nat) "MaskedEars$Task" "threshold" "I" "MaskedEars") ∈ lw_tbl := lw_at lw_m3 84 rfl
theorem q671 : (Jvm.Cond.fieldLinkNest "MaskedEars" (265 : Nat) "MaskedEars$Task" "shown" "I" "MaskedEars") ∈ lw_tbl := lw_at lw_m3 86 rfl
theorem q673 : (Jvm.Cond.fieldLinkNest "MaskedEars" (199 : Nat) "MaskedEars$Task" "searches" "I" "MaskedEars") ∈ lw_tbl := lw_at lw_m3 88 rfl
theorem q675 : (Jvm.Cond.fieldLinkNest "MaskedEars" (273 : Nat) "MaskedEars$Task" "odd" "I" "MaskedEars") ∈ lw_tbl := lw_at lw_m3 90 rfl
theorem q677 : (Jvm.Cond.fieldLinkNest "MaskedEars" (267 : Nat) "MaskedEars$Task" "loudest" "I" "MaskedEars") ∈ lw_tbl := lw_at lw_m3 92 rfl
theorem q679 : (Jvm.Cond.fieldLinkNest "MaskedEars" (270 : Nat) "MaskedEars$Task" "provedFrom" "I" "MaskedEars") ∈ lw_tbl := lw_at lw_m3 94 rfl
theorem q682 : (Jvm.Cond.fieldLinkNest "MaskedEars" (196 : Nat) "MaskedEars$Task" "noise" "I" "MaskedEars") ∈ lw_tbl := lw_at lw_m3 97 rfl
theorem q685 : (Jvm.Cond.fieldLinkNest "MaskedEars" (201 : Nat) "MaskedEars$Task" "flats" "I" "MaskedEars") ∈ lw_tbl := lw_at lw_m3 100 rfl
theorem q688 : (Jvm.Cond.fieldLinkNest "MaskedEars" (192 : Nat) "MaskedEars$Task" "search" "LMaskedEars$Search;" "MaskedEars") ∈ lw_tbl := lw_at lw_m3 103 rfl
theorem q846 : (Jvm.Cond.fieldLinkNest "MaskedEars" (202 : Nat) "MaskedEars$Search" "ascents" "[I" "MaskedEars") ∈ lw_tbl := lw_at lw_m4 21 rfl
theorem q849 : (Jvm.Cond.fieldLinkNest "MaskedEars" (208 : Nat) "MaskedEars$Search" "shown" "[I" "MaskedEars") ∈ lw_tbl := lw_at lw_m4 24 rfl
theorem q851 : (Jvm.Cond.fieldLinkNest "MaskedEars" (211 : Nat) "MaskedEars$Search" "heard" "[I" "MaskedEars") ∈ lw_tbl := lw_at lw_m4 26 rfl
theorem q854 : (Jvm.Cond.fieldLinkNest "MaskedEars" (153 : Nat) "MaskedEars$Search" "level" "I" "MaskedEars") ∈ lw_tbl := lw_at lw_m4 29 rfl
theorem q857 : (Jvm.Cond.fieldLinkNest "MaskedEars" (152 : Nat) "MaskedEars$Search" "many" "I" "MaskedEars") ∈ lw_tbl := lw_at lw_m4 32 rfl
theorem q950 : (Jvm.Cond.fieldLinkNest "MaskedEars" (84 : Nat) "MaskedEars$Test" "tasks" "Ljava/util/ArrayList;" "MaskedEars") ∈ lw_tbl := lw_at lw_m4 125 rfl
theorem q952 : (Jvm.Cond.fieldLinkNest "MaskedEars" (171 : Nat) "MaskedEars$Test" "on" "I" "MaskedEars") ∈ lw_tbl := lw_at lw_m4 127 rfl
theorem q954 : (Jvm.Cond.fieldLinkNest "MaskedEars" (114 : Nat) "MaskedEars$Test" "many" "I" "MaskedEars") ∈ lw_tbl := lw_at lw_m4 129 rfl
theorem q967 : (Jvm.Cond.methodLink "MaskedEars" (88 : Nat) ({ cls := "java/util/ArrayList", name := "size", desc := "()I" } : Jvm.MethodName)) ∈ lw_all := lw_g (lw_at lw_m4 142 rfl) rfl
theorem q968 : (Jvm.Cond.methodLink "MaskedEars" (94 : Nat) ({ cls := "MaskedEars", name := "fine", desc := "(I)I" } : Jvm.MethodName)) ∈ lw_all := lw_g (lw_at lw_m4 143 rfl) rfl
theorem q969 : (Jvm.Cond.privateMethod ({ cls := "MaskedEars", name := "fine", desc := "(I)I" } : Jvm.MethodName)) ∈ lw_tbl := lw_at lw_m4 144 rfl
theorem q970 : (Jvm.Cond.instanceMethod ({ cls := "MaskedEars", name := "fine", desc := "(I)I" } : Jvm.MethodName)) ∈ lw_all := lw_g (lw_at lw_m4 145 rfl) rfl
theorem q971 : (Jvm.Cond.code ({ cls := "MaskedEars", name := "fine", desc := "(I)I" } : Jvm.MethodName) prog_1_method_3_code (2 : Nat) (Option.some Jvm.ClassFile.FieldType.int)) ∈ lw_all := lw_g (lw_at lw_m4 146 rfl) rfl
theorem q973 : (Jvm.Cond.instanceMethod ({ cls := "MaskedEars", name := "fault", desc := "()I" } : Jvm.MethodName)) ∈ lw_all := lw_g (lw_at lw_m4 148 rfl) rfl
theorem q974 : (Jvm.Cond.selects "MaskedEars" ({ cls := "MaskedEars", name := "fault", desc := "()I" } : Jvm.MethodName) ({ cls := "MaskedEars", name := "fault", desc := "()I" } : Jvm.MethodName)) ∈ lw_all := lw_g (lw_at lw_m4 149 rfl) rfl
theorem q975 : (Jvm.Cond.code ({ cls := "MaskedEars", name := "fault", desc := "()I" } : Jvm.MethodName) prog_1_method_8_code (1 : Nat) (Option.some Jvm.ClassFile.FieldType.int)) ∈ lw_all := lw_g (lw_at lw_m4 150 rfl) rfl
theorem q977 : (Jvm.Cond.instanceMethod ({ cls := "MaskedEars", name := "where", desc := "()I" } : Jvm.MethodName)) ∈ lw_all := lw_g (lw_at lw_m4 152 rfl) rfl
theorem q978 : (Jvm.Cond.selects "MaskedEars" ({ cls := "MaskedEars", name := "where", desc := "()I" } : Jvm.MethodName) ({ cls := "MaskedEars", name := "where", desc := "()I" } : Jvm.MethodName)) ∈ lw_all := lw_g (lw_at lw_m4 153 rfl) rfl
theorem q979 : (Jvm.Cond.code ({ cls := "MaskedEars", name := "where", desc := "()I" } : Jvm.MethodName) prog_1_method_9_code (1 : Nat) (Option.some Jvm.ClassFile.FieldType.int)) ∈ lw_all := lw_g (lw_at lw_m4 154 rfl) rfl
theorem q981 : (Jvm.Cond.instanceMethod ({ cls := "MaskedEars", name := "about", desc := "(I)I" } : Jvm.MethodName)) ∈ lw_all := lw_g (lw_at lw_m4 156 rfl) rfl
theorem q982 : (Jvm.Cond.selects "MaskedEars" ({ cls := "MaskedEars", name := "about", desc := "(I)I" } : Jvm.MethodName) ({ cls := "MaskedEars", name := "about", desc := "(I)I" } : Jvm.MethodName)) ∈ lw_all := lw_g (lw_at lw_m4 157 rfl) rfl
theorem q983 : (Jvm.Cond.code ({ cls := "MaskedEars", name := "about", desc := "(I)I" } : Jvm.MethodName) prog_1_method_10_code (2 : Nat) (Option.some Jvm.ClassFile.FieldType.int)) ∈ lw_all := lw_g (lw_at lw_m4 158 rfl) rfl
theorem q984 : (Jvm.Cond.methodLink "MaskedEars" (117 : Nat) ({ cls := "MaskedEars$Test", name := "through", desc := "()I" } : Jvm.MethodName)) ∈ lw_all := lw_g (lw_at lw_m4 159 rfl) rfl
theorem q989 : (Jvm.Cond.instanceMethod ({ cls := "MaskedEars", name := "listener", desc := "(III)I" } : Jvm.MethodName)) ∈ lw_all := lw_g (lw_at lw_m4 164 rfl) rfl
theorem q990 : (Jvm.Cond.selects "MaskedEars" ({ cls := "MaskedEars", name := "listener", desc := "(III)I" } : Jvm.MethodName) ({ cls := "MaskedEars", name := "listener", desc := "(III)I" } : Jvm.MethodName)) ∈ lw_all := lw_g (lw_at lw_m4 165 rfl) rfl
theorem q991 : (Jvm.Cond.code ({ cls := "MaskedEars", name := "listener", desc := "(III)I" } : Jvm.MethodName) prog_1_method_12_code (4 : Nat) (Option.some Jvm.ClassFile.FieldType.int)) ∈ lw_all := lw_g (lw_at lw_m4 166 rfl) rfl
theorem q992 : (Jvm.Cond.methodLink "MaskedEars" (123 : Nat) ({ cls := "MaskedEars", name := "isOf", desc := "(III)Z" } : Jvm.MethodName)) ∈ lw_all := lw_g (lw_at lw_m4 167 rfl) rfl
theorem q993 : (Jvm.Cond.privateMethod ({ cls := "MaskedEars", name := "isOf", desc := "(III)Z" } : Jvm.MethodName)) ∈ lw_tbl := lw_at lw_m4 168 rfl
theorem q994 : (Jvm.Cond.instanceMethod ({ cls := "MaskedEars", name := "isOf", desc := "(III)Z" } : Jvm.MethodName)) ∈ lw_all := lw_g (lw_at lw_m4 169 rfl) rfl
theorem q995 : (Jvm.Cond.code ({ cls := "MaskedEars", name := "isOf", desc := "(III)Z" } : Jvm.MethodName) prog_1_method_11_code (4 : Nat) (Option.some Jvm.ClassFile.FieldType.boolean)) ∈ lw_all := lw_g (lw_at lw_m4 170 rfl) rfl
theorem q996 : (Jvm.Cond.methodLink "MaskedEars" (126 : Nat) ({ cls := "MaskedEars$Told", name := "least", desc := "(III)I" } : Jvm.MethodName)) ∈ lw_all := lw_g (lw_at lw_m4 171 rfl) rfl
theorem q998 : (Jvm.Cond.instanceMethod ({ cls := "MaskedEars", name := "hears", desc := "(IIIII)I" } : Jvm.MethodName)) ∈ lw_all := lw_g (lw_at lw_m4 173 rfl) rfl
theorem q999 : (Jvm.Cond.selects "MaskedEars" ({ cls := "MaskedEars", name := "hears", desc := "(IIIII)I" } : Jvm.MethodName) ({ cls := "MaskedEars", name := "hears", desc := "(IIIII)I" } : Jvm.MethodName)) ∈ lw_all := lw_g (lw_at lw_m4 174 rfl) rfl
theorem q1000 : (Jvm.Cond.code ({ cls := "MaskedEars", name := "hears", desc := "(IIIII)I" } : Jvm.MethodName) prog_1_method_14_code (7 : Nat) (Option.some Jvm.ClassFile.FieldType.int)) ∈ lw_all := lw_g (lw_at lw_m4 175 rfl) rfl
theorem q1001 : (Jvm.Cond.methodLink "MaskedEars" (130 : Nat) ({ cls := "MaskedEars", name := "refuses", desc := "(IIIII)I" } : Jvm.MethodName)) ∈ lw_all := lw_g (lw_at lw_m4 176 rfl) rfl
theorem q1002 : (Jvm.Cond.privateMethod ({ cls := "MaskedEars", name := "refuses", desc := "(IIIII)I" } : Jvm.MethodName)) ∈ lw_tbl := lw_at lw_m4 177 rfl
theorem q1003 : (Jvm.Cond.instanceMethod ({ cls := "MaskedEars", name := "refuses", desc := "(IIIII)I" } : Jvm.MethodName)) ∈ lw_all := lw_g (lw_at lw_m4 178 rfl) rfl
theorem q1004 : (Jvm.Cond.code ({ cls := "MaskedEars", name := "refuses", desc := "(IIIII)I" } : Jvm.MethodName) prog_1_method_13_code (6 : Nat) (Option.some Jvm.ClassFile.FieldType.int)) ∈ lw_all := lw_g (lw_at lw_m4 179 rfl) rfl
theorem q1005 : (Jvm.Cond.methodLink "MaskedEars" (134 : Nat) ({ cls := "MaskedEars$Told", name := "hears", desc := "(IIIIII)Z" } : Jvm.MethodName)) ∈ lw_all := lw_g (lw_at lw_m4 180 rfl) rfl
theorem q1015 : (Jvm.Cond.instanceMethod ({ cls := "MaskedEars", name := "least", desc := "(IIII)I" } : Jvm.MethodName)) ∈ lw_all := lw_g (lw_at lw_m4 190 rfl) rfl
theorem q1016 : (Jvm.Cond.selects "MaskedEars" ({ cls := "MaskedEars", name := "least", desc := "(IIII)I" } : Jvm.MethodName) ({ cls := "MaskedEars", name := "least", desc := "(IIII)I" } : Jvm.MethodName)) ∈ lw_all := lw_g (lw_at lw_m4 191 rfl) rfl
theorem q1017 : (Jvm.Cond.code ({ cls := "MaskedEars", name := "least", desc := "(IIII)I" } : Jvm.MethodName) prog_1_method_15_code (6 : Nat) (Option.some Jvm.ClassFile.FieldType.int)) ∈ lw_all := lw_g (lw_at lw_m4 192 rfl) rfl
theorem q1018 : (Jvm.Cond.methodLink "MaskedEars" (138 : Nat) ({ cls := "MaskedEars", name := "leastOf", desc := "(IIII)I" } : Jvm.MethodName)) ∈ lw_all := lw_g (lw_at lw_m4 193 rfl) rfl
theorem q1019 : (Jvm.Cond.privateMethod ({ cls := "MaskedEars", name := "leastOf", desc := "(IIII)I" } : Jvm.MethodName)) ∈ lw_tbl := lw_at lw_m4 194 rfl
theorem q1020 : (Jvm.Cond.instanceMethod ({ cls := "MaskedEars", name := "leastOf", desc := "(IIII)I" } : Jvm.MethodName)) ∈ lw_all := lw_g (lw_at lw_m4 195 rfl) rfl
theorem q1021 : (Jvm.Cond.code ({ cls := "MaskedEars", name := "leastOf", desc := "(IIII)I" } : Jvm.MethodName) prog_1_method_21_code (6 : Nat) (Option.some Jvm.ClassFile.FieldType.int)) ∈ lw_all := lw_g (lw_at lw_m4 196 rfl) rfl
theorem q1022 : (Jvm.Cond.methodLink "MaskedEars" (156 : Nat) ({ cls := "MaskedEars$Told", name := "hears", desc := "(IIIII)Z" } : Jvm.MethodName)) ∈ lw_all := lw_g (lw_at lw_m4 197 rfl) rfl
theorem q1028 : (Jvm.Cond.instanceMethod ({ cls := "MaskedEars", name := "quiets", desc := "(IIII)I" } : Jvm.MethodName)) ∈ lw_all := lw_g (lw_at lw_m4 203 rfl) rfl
theorem q1029 : (Jvm.Cond.selects "MaskedEars" ({ cls := "MaskedEars", name := "quiets", desc := "(IIII)I" } : Jvm.MethodName) ({ cls := "MaskedEars", name := "quiets", desc := "(IIII)I" } : Jvm.MethodName)) ∈ lw_all := lw_g (lw_at lw_m4 204 rfl) rfl
theorem q1030 : (Jvm.Cond.code ({ cls := "MaskedEars", name := "quiets", desc := "(IIII)I" } : Jvm.MethodName) prog_1_method_17_code (6 : Nat) (Option.some Jvm.ClassFile.FieldType.int)) ∈ lw_all := lw_g (lw_at lw_m4 205 rfl) rfl
theorem q1031 : (Jvm.Cond.methodLink "MaskedEars" (142 : Nat) ({ cls := "MaskedEars", name := "noiseFor", desc := "(IIIII)I" } : Jvm.MethodName)) ∈ lw_all := lw_g (lw_at lw_m4 206 rfl) rfl
theorem q1032 : (Jvm.Cond.privateMethod ({ cls := "MaskedEars", name := "noiseFor", desc := "(IIIII)I" } : Jvm.MethodName)) ∈ lw_tbl := lw_at lw_m4 207 rfl
theorem q1033 : (Jvm.Cond.instanceMethod ({ cls := "MaskedEars", name := "noiseFor", desc := "(IIIII)I" } : Jvm.MethodName)) ∈ lw_all := lw_g (lw_at lw_m4 208 rfl) rfl
theorem q1034 : (Jvm.Cond.code ({ cls := "MaskedEars", name := "noiseFor", desc := "(IIIII)I" } : Jvm.MethodName) prog_1_method_16_code (7 : Nat) (Option.some Jvm.ClassFile.FieldType.int)) ∈ lw_all := lw_g (lw_at lw_m4 209 rfl) rfl
theorem q1036 : (Jvm.Cond.instanceMethod ({ cls := "MaskedEars", name := "spoils", desc := "(IIII)I" } : Jvm.MethodName)) ∈ lw_all := lw_g (lw_at lw_m4 211 rfl) rfl
theorem q1037 : (Jvm.Cond.selects "MaskedEars" ({ cls := "MaskedEars", name := "spoils", desc := "(IIII)I" } : Jvm.MethodName) ({ cls := "MaskedEars", name := "spoils", desc := "(IIII)I" } : Jvm.MethodName)) ∈ lw_all := lw_g (lw_at lw_m4 212 rfl) rfl
theorem q1038 : (Jvm.Cond.code ({ cls := "MaskedEars", name := "spoils", desc := "(IIII)I" } : Jvm.MethodName) prog_1_method_18_code (6 : Nat) (Option.some Jvm.ClassFile.FieldType.int)) ∈ lw_all := lw_g (lw_at lw_m4 213 rfl) rfl
theorem q1040 : (Jvm.Cond.instanceMethod ({ cls := "MaskedEars", name := "search", desc := "(IIIIII)I" } : Jvm.MethodName)) ∈ lw_all := lw_g (lw_at lw_m4 215 rfl) rfl
theorem q1041 : (Jvm.Cond.selects "MaskedEars" ({ cls := "MaskedEars", name := "search", desc := "(IIIIII)I" } : Jvm.MethodName) ({ cls := "MaskedEars", name := "search", desc := "(IIIIII)I" } : Jvm.MethodName)) ∈ lw_all := lw_g (lw_at lw_m4 216 rfl) rfl
theorem q1042 : (Jvm.Cond.code ({ cls := "MaskedEars", name := "search", desc := "(IIIIII)I" } : Jvm.MethodName) prog_1_method_19_code (10 : Nat) (Option.some Jvm.ClassFile.FieldType.int)) ∈ lw_all := lw_g (lw_at lw_m4 217 rfl) rfl
theorem q1043 : (Jvm.Cond.classLink "MaskedEars" (145 : Nat) "MaskedEars$Search") ∈ lw_all := lw_g (lw_at lw_m4 218 rfl) rfl
theorem q1044 : (Jvm.Cond.methodLink "MaskedEars" (147 : Nat) ({ cls := "MaskedEars$Search", name := "<init>", desc := "(I)V" } : Jvm.MethodName)) ∈ lw_all := lw_g (lw_at lw_m4 219 rfl) rfl
theorem q1045 : (Jvm.Cond.methodLink "MaskedEars" (148 : Nat) ({ cls := "MaskedEars", name := "searches", desc := "(LMaskedEars$Search;IIII)I" } : Jvm.MethodName)) ∈ lw_all := lw_g (lw_at lw_m4 220 rfl) rfl
theorem q1046 : (Jvm.Cond.privateMethod ({ cls := "MaskedEars", name := "searches", desc := "(LMaskedEars$Search;IIII)I" } : Jvm.MethodName)) ∈ lw_tbl := lw_at lw_m4 221 rfl
theorem q1047 : (Jvm.Cond.instanceMethod ({ cls := "MaskedEars", name := "searches", desc := "(LMaskedEars$Search;IIII)I" } : Jvm.MethodName)) ∈ lw_all := lw_g (lw_at lw_m4 222 rfl) rfl
theorem q1048 : (Jvm.Cond.codeWith ({ cls := "MaskedEars", name := "searches", desc := "(LMaskedEars$Search;IIII)I" } : Jvm.MethodName) prog_1_method_20_code (7 : Nat) (Option.some Jvm.ClassFile.FieldType.int) [((0 : Nat), (37 : Nat), (38 : Nat), (163 : Nat))]) ∈ lw_all := lw_g (lw_at lw_m4 223 rfl) rfl
theorem q1049 : (Jvm.Cond.classLink "MaskedEars" (163 : Nat) "MaskedEars$Lost") ∈ lw_all := lw_g (lw_at lw_m4 224 rfl) rfl
theorem q1050 : (Jvm.Cond.methodLink "MaskedEars" (159 : Nat) ({ cls := "MaskedEars$Search", name := "takes", desc := "(Z)I" } : Jvm.MethodName)) ∈ lw_all := lw_g (lw_at lw_m4 225 rfl) rfl
theorem q1073 : (Jvm.Cond.instanceMethod ({ cls := "MaskedEars", name := "plateau", desc := "(IIII)I" } : Jvm.MethodName)) ∈ lw_all := lw_g (lw_at lw_m5 8 rfl) rfl
theorem q1074 : (Jvm.Cond.selects "MaskedEars" ({ cls := "MaskedEars", name := "plateau", desc := "(IIII)I" } : Jvm.MethodName) ({ cls := "MaskedEars", name := "plateau", desc := "(IIII)I" } : Jvm.MethodName)) ∈ lw_all := lw_g (lw_at lw_m5 9 rfl) rfl
theorem q1075 : (Jvm.Cond.code ({ cls := "MaskedEars", name := "plateau", desc := "(IIII)I" } : Jvm.MethodName) prog_1_method_22_code (9 : Nat) (Option.some Jvm.ClassFile.FieldType.int)) ∈ lw_all := lw_g (lw_at lw_m5 10 rfl) rfl
theorem q1077 : (Jvm.Cond.instanceMethod ({ cls := "MaskedEars", name := "zone", desc := "(IIIII)I" } : Jvm.MethodName)) ∈ lw_all := lw_g (lw_at lw_m5 12 rfl) rfl
theorem q1078 : (Jvm.Cond.selects "MaskedEars" ({ cls := "MaskedEars", name := "zone", desc := "(IIIII)I" } : Jvm.MethodName) ({ cls := "MaskedEars", name := "zone", desc := "(IIIII)I" } : Jvm.MethodName)) ∈ lw_all := lw_g (lw_at lw_m5 13 rfl) rfl
theorem q1079 : (Jvm.Cond.code ({ cls := "MaskedEars", name := "zone", desc := "(IIIII)I" } : Jvm.MethodName) prog_1_method_23_code (9 : Nat) (Option.some Jvm.ClassFile.FieldType.int)) ∈ lw_all := lw_g (lw_at lw_m5 14 rfl) rfl
theorem q1081 : (Jvm.Cond.instanceMethod ({ cls := "MaskedEars", name := "provable", desc := "(IIII)I" } : Jvm.MethodName)) ∈ lw_all := lw_g (lw_at lw_m5 16 rfl) rfl
theorem q1082 : (Jvm.Cond.selects "MaskedEars" ({ cls := "MaskedEars", name := "provable", desc := "(IIII)I" } : Jvm.MethodName) ({ cls := "MaskedEars", name := "provable", desc := "(IIII)I" } : Jvm.MethodName)) ∈ lw_all := lw_g (lw_at lw_m5 17 rfl) rfl
theorem q1083 : (Jvm.Cond.code ({ cls := "MaskedEars", name := "provable", desc := "(IIII)I" } : Jvm.MethodName) prog_1_method_24_code (11 : Nat) (Option.some Jvm.ClassFile.FieldType.int)) ∈ lw_all := lw_g (lw_at lw_m5 18 rfl) rfl
theorem q1084 : (Jvm.Cond.methodLink "MaskedEars" (165 : Nat) ({ cls := "java/lang/Math", name := "min", desc := "(II)I" } : Jvm.MethodName)) ∈ lw_all := lw_g (lw_at lw_m5 19 rfl) rfl
theorem q1086 : (Jvm.Cond.instanceMethod ({ cls := "MaskedEars", name := "now", desc := "(I)I" } : Jvm.MethodName)) ∈ lw_all := lw_g (lw_at lw_m5 21 rfl) rfl
theorem q1087 : (Jvm.Cond.selects "MaskedEars" ({ cls := "MaskedEars", name := "now", desc := "(I)I" } : Jvm.MethodName) ({ cls := "MaskedEars", name := "now", desc := "(I)I" } : Jvm.MethodName)) ∈ lw_all := lw_g (lw_at lw_m5 22 rfl) rfl
theorem q1088 : (Jvm.Cond.code ({ cls := "MaskedEars", name := "now", desc := "(I)I" } : Jvm.MethodName) prog_1_method_25_code (3 : Nat) (Option.some Jvm.ClassFile.FieldType.int)) ∈ lw_all := lw_g (lw_at lw_m5 23 rfl) rfl
theorem q1089 : (Jvm.Cond.methodLink "MaskedEars" (174 : Nat) ({ cls := "java/util/ArrayList", name := "get", desc := "(I)Ljava/lang/Object;" } : Jvm.MethodName)) ∈ lw_all := lw_g (lw_at lw_m5 24 rfl) rfl
theorem q1090 : (Jvm.Cond.classLink "MaskedEars" (178 : Nat) "MaskedEars$Task") ∈ lw_all := lw_g (lw_at lw_m5 25 rfl) rfl
theorem q1092 : (Jvm.Cond.instanceMethod ({ cls := "MaskedEars", name := "tried", desc := "(II)I" } : Jvm.MethodName)) ∈ lw_all := lw_g (lw_at lw_m5 27 rfl) rfl
theorem q1093 : (Jvm.Cond.selects "MaskedEars" ({ cls := "MaskedEars", name := "tried", desc := "(II)I" } : Jvm.MethodName) ({ cls := "MaskedEars", name := "tried", desc := "(II)I" } : Jvm.MethodName)) ∈ lw_all := lw_g (lw_at lw_m5 28 rfl) rfl
theorem q1094 : (Jvm.Cond.code ({ cls := "MaskedEars", name := "tried", desc := "(II)I" } : Jvm.MethodName) prog_1_method_26_code (4 : Nat) (Option.some Jvm.ClassFile.FieldType.int)) ∈ lw_all := lw_g (lw_at lw_m5 29 rfl) rfl
theorem q1095 : (Jvm.Cond.methodLink "MaskedEars" (205 : Nat) ({ cls := "MaskedEars$Search", name := "latestHeard", desc := "(I)I" } : Jvm.MethodName)) ∈ lw_all := lw_g (lw_at lw_m5 30 rfl) rfl
theorem q1097 : (Jvm.Cond.instanceMethod ({ cls := "MaskedEars", name := "answer", desc := "(Z)I" } : Jvm.MethodName)) ∈ lw_all := lw_g (lw_at lw_m5 32 rfl) rfl
theorem q1098 : (Jvm.Cond.selects "MaskedEars" ({ cls := "MaskedEars", name := "answer", desc := "(Z)I" } : Jvm.MethodName) ({ cls := "MaskedEars", name := "answer", desc := "(Z)I" } : Jvm.MethodName)) ∈ lw_all := lw_g (lw_at lw_m5 33 rfl) rfl
theorem q1099 : (Jvm.Cond.code ({ cls := "MaskedEars", name := "answer", desc := "(Z)I" } : Jvm.MethodName) prog_1_method_30_code (3 : Nat) (Option.some Jvm.ClassFile.FieldType.int)) ∈ lw_all := lw_g (lw_at lw_m5 34 rfl) rfl
theorem q1100 : (Jvm.Cond.methodLink "MaskedEars" (240 : Nat) ({ cls := "MaskedEars", name := "refusesNow", desc := "()I" } : Jvm.MethodName)) ∈ lw_all := lw_g (lw_at lw_m5 35 rfl) rfl
theorem q1101 : (Jvm.Cond.privateMethod ({ cls := "MaskedEars", name := "refusesNow", desc := "()I" } : Jvm.MethodName)) ∈ lw_tbl := lw_at lw_m5 36 rfl
theorem q1102 : (Jvm.Cond.instanceMethod ({ cls := "MaskedEars", name := "refusesNow", desc := "()I" } : Jvm.MethodName)) ∈ lw_all := lw_g (lw_at lw_m5 37 rfl) rfl
theorem q1103 : (Jvm.Cond.code ({ cls := "MaskedEars", name := "refusesNow", desc := "()I" } : Jvm.MethodName) prog_1_method_29_code (1 : Nat) (Option.some Jvm.ClassFile.FieldType.int)) ∈ lw_all := lw_g (lw_at lw_m5 38 rfl) rfl
theorem q1104 : (Jvm.Cond.methodLink "MaskedEars" (243 : Nat) ({ cls := "MaskedEars", name := "answers", desc := "(Z)I" } : Jvm.MethodName)) ∈ lw_all := lw_g (lw_at lw_m5 39 rfl) rfl
theorem q1105 : (Jvm.Cond.privateMethod ({ cls := "MaskedEars", name := "answers", desc := "(Z)I" } : Jvm.MethodName)) ∈ lw_tbl := lw_at lw_m5 40 rfl
theorem q1106 : (Jvm.Cond.instanceMethod ({ cls := "MaskedEars", name := "answers", desc := "(Z)I" } : Jvm.MethodName)) ∈ lw_all := lw_g (lw_at lw_m5 41 rfl) rfl
theorem q1107 : (Jvm.Cond.code ({ cls := "MaskedEars", name := "answers", desc := "(Z)I" } : Jvm.MethodName) prog_1_method_27_code (3 : Nat) (Option.some Jvm.ClassFile.FieldType.int)) ∈ lw_all := lw_g (lw_at lw_m5 42 rfl) rfl
theorem q1108 : (Jvm.Cond.classLink "MaskedEars" (214 : Nat) "MaskedEars$Shown") ∈ lw_all := lw_g (lw_at lw_m5 43 rfl) rfl
theorem q1110 : (Jvm.Cond.methodLink "MaskedEars" (216 : Nat) ({ cls := "MaskedEars$Search", name := "isAscent", desc := "()Z" } : Jvm.MethodName)) ∈ lw_all := lw_g (lw_at lw_m5 45 rfl) rfl
theorem q1111 : (Jvm.Cond.methodLinkNest "MaskedEars" (220 : Nat) ({ cls := "MaskedEars$Shown", name := "<init>", desc := "(IIIZIZ)V" } : Jvm.MethodName) "MaskedEars") ∈ lw_tbl := lw_at lw_m5 46 rfl
theorem q1137 : (Jvm.Cond.methodLink "MaskedEars" (223 : Nat) ({ cls := "MaskedEars$Latest", name := "adds", desc := "(LMaskedEars$Shown;)V" } : Jvm.MethodName)) ∈ lw_all := lw_g (lw_at lw_m5 72 rfl) rfl
theorem q1152 : (Jvm.Cond.methodLink "MaskedEars" (227 : Nat) ({ cls := "MaskedEars$Test", name := "takes", desc := "(Z)I" } : Jvm.MethodName)) ∈ lw_all := lw_g (lw_at lw_m5 87 rfl) rfl
theorem q1174 : (Jvm.Cond.instanceMethod ({ cls := "MaskedEars", name := "listen", desc := "()I" } : Jvm.MethodName)) ∈ lw_all := lw_g (lw_at lw_m5 109 rfl) rfl
theorem q1175 : (Jvm.Cond.selects "MaskedEars" ({ cls := "MaskedEars", name := "listen", desc := "()I" } : Jvm.MethodName) ({ cls := "MaskedEars", name := "listen", desc := "()I" } : Jvm.MethodName)) ∈ lw_all := lw_g (lw_at lw_m5 110 rfl) rfl
theorem q1176 : (Jvm.Cond.code ({ cls := "MaskedEars", name := "listen", desc := "()I" } : Jvm.MethodName) prog_1_method_31_code (2 : Nat) (Option.some Jvm.ClassFile.FieldType.int)) ∈ lw_all := lw_g (lw_at lw_m5 111 rfl) rfl
theorem q1177 : (Jvm.Cond.methodLink "MaskedEars" (246 : Nat) ({ cls := "MaskedEars", name := "hearsNow", desc := "()Z" } : Jvm.MethodName)) ∈ lw_all := lw_g (lw_at lw_m5 112 rfl) rfl
theorem q1178 : (Jvm.Cond.privateMethod ({ cls := "MaskedEars", name := "hearsNow", desc := "()Z" } : Jvm.MethodName)) ∈ lw_tbl := lw_at lw_m5 113 rfl
theorem q1179 : (Jvm.Cond.instanceMethod ({ cls := "MaskedEars", name := "hearsNow", desc := "()Z" } : Jvm.MethodName)) ∈ lw_all := lw_g (lw_at lw_m5 114 rfl) rfl
theorem q1180 : (Jvm.Cond.code ({ cls := "MaskedEars", name := "hearsNow", desc := "()Z" } : Jvm.MethodName) prog_1_method_28_code (1 : Nat) (Option.some Jvm.ClassFile.FieldType.boolean)) ∈ lw_all := lw_g (lw_at lw_m5 115 rfl) rfl
theorem q1181 : (Jvm.Cond.methodLink "MaskedEars" (228 : Nat) ({ cls := "MaskedEars$Test", name := "hears", desc := "()Z" } : Jvm.MethodName)) ∈ lw_all := lw_g (lw_at lw_m5 116 rfl) rfl
theorem q1186 : (Jvm.Cond.methodLink "MaskedEars" (230 : Nat) ({ cls := "java/lang/Integer", name := "valueOf", desc := "(I)Ljava/lang/Integer;" } : Jvm.MethodName)) ∈ lw_all := lw_g (lw_at lw_m5 121 rfl) rfl
theorem q1187 : (Jvm.Cond.methodLink "MaskedEars" (236 : Nat) ({ cls := "java/util/ArrayList", name := "contains", desc := "(Ljava/lang/Object;)Z" } : Jvm.MethodName)) ∈ lw_all := lw_g (lw_at lw_m5 122 rfl) rfl
theorem q1203 : (Jvm.Cond.selects "MaskedEars" ({ cls := "java/lang/Object", name := "equals", desc := "(Ljava/lang/Object;)Z" } : Jvm.MethodName) ({ cls := "java/lang/Object", name := "equals", desc := "(Ljava/lang/Object;)Z" } : Jvm.MethodName)) ∈ lw_all := lw_g (lw_at lw_m5 138 rfl) rfl
theorem q1231 : (Jvm.Cond.instanceMethod ({ cls := "MaskedEars", name := "run", desc := "(I)I" } : Jvm.MethodName)) ∈ lw_all := lw_g (lw_at lw_m5 166 rfl) rfl
theorem q1232 : (Jvm.Cond.selects "MaskedEars" ({ cls := "MaskedEars", name := "run", desc := "(I)I" } : Jvm.MethodName) ({ cls := "MaskedEars", name := "run", desc := "(I)I" } : Jvm.MethodName)) ∈ lw_all := lw_g (lw_at lw_m5 167 rfl) rfl
theorem q1233 : (Jvm.Cond.code ({ cls := "MaskedEars", name := "run", desc := "(I)I" } : Jvm.MethodName) prog_1_method_32_code (3 : Nat) (Option.some Jvm.ClassFile.FieldType.int)) ∈ lw_all := lw_g (lw_at lw_m5 168 rfl) rfl
theorem q1235 : (Jvm.Cond.instanceMethod ({ cls := "MaskedEars", name := "give", desc := "()I" } : Jvm.MethodName)) ∈ lw_all := lw_g (lw_at lw_m5 170 rfl) rfl
theorem q1236 : (Jvm.Cond.selects "MaskedEars" ({ cls := "MaskedEars", name := "give", desc := "()I" } : Jvm.MethodName) ({ cls := "MaskedEars", name := "give", desc := "()I" } : Jvm.MethodName)) ∈ lw_all := lw_g (lw_at lw_m5 171 rfl) rfl
theorem q1237 : (Jvm.Cond.code ({ cls := "MaskedEars", name := "give", desc := "()I" } : Jvm.MethodName) prog_1_method_33_code (2 : Nat) (Option.some Jvm.ClassFile.FieldType.int)) ∈ lw_all := lw_g (lw_at lw_m5 172 rfl) rfl
theorem q1238 : (Jvm.Cond.methodLink "MaskedEars" (249 : Nat) ({ cls := "MaskedEars$Test", name := "gives", desc := "()I" } : Jvm.MethodName)) ∈ lw_all := lw_g (lw_at lw_m5 173 rfl) rfl
theorem q1244 : (Jvm.Cond.instanceMethod ({ cls := "MaskedEars", name := "again", desc := "(I)I" } : Jvm.MethodName)) ∈ lw_all := lw_g (lw_at lw_m5 179 rfl) rfl
theorem q1245 : (Jvm.Cond.selects "MaskedEars" ({ cls := "MaskedEars", name := "again", desc := "(I)I" } : Jvm.MethodName) ({ cls := "MaskedEars", name := "again", desc := "(I)I" } : Jvm.MethodName)) ∈ lw_all := lw_g (lw_at lw_m5 180 rfl) rfl
theorem q1246 : (Jvm.Cond.code ({ cls := "MaskedEars", name := "again", desc := "(I)I" } : Jvm.MethodName) prog_1_method_35_code (3 : Nat) (Option.some Jvm.ClassFile.FieldType.int)) ∈ lw_all := lw_g (lw_at lw_m5 181 rfl) rfl
theorem q1247 : (Jvm.Cond.methodLink "MaskedEars" (252 : Nat) ({ cls := "MaskedEars", name := "isTask", desc := "(I)Z" } : Jvm.MethodName)) ∈ lw_all := lw_g (lw_at lw_m5 182 rfl) rfl
theorem q1248 : (Jvm.Cond.privateMethod ({ cls := "MaskedEars", name := "isTask", desc := "(I)Z" } : Jvm.MethodName)) ∈ lw_tbl := lw_at lw_m5 183 rfl
theorem q1249 : (Jvm.Cond.instanceMethod ({ cls := "MaskedEars", name := "isTask", desc := "(I)Z" } : Jvm.MethodName)) ∈ lw_all := lw_g (lw_at lw_m5 184 rfl) rfl
theorem q1250 : (Jvm.Cond.code ({ cls := "MaskedEars", name := "isTask", desc := "(I)Z" } : Jvm.MethodName) prog_1_method_34_code (2 : Nat) (Option.some Jvm.ClassFile.FieldType.boolean)) ∈ lw_all := lw_g (lw_at lw_m5 185 rfl) rfl
theorem q1251 : (Jvm.Cond.methodLink "MaskedEars" (256 : Nat) ({ cls := "MaskedEars$Test", name := "begins", desc := "(I)Z" } : Jvm.MethodName)) ∈ lw_all := lw_g (lw_at lw_m5 186 rfl) rfl
theorem q1253 : (Jvm.Cond.instanceMethod ({ cls := "MaskedEars", name := "task", desc := "(II)I" } : Jvm.MethodName)) ∈ lw_all := lw_g (lw_at lw_m5 188 rfl) rfl
theorem q1254 : (Jvm.Cond.selects "MaskedEars" ({ cls := "MaskedEars", name := "task", desc := "(II)I" } : Jvm.MethodName) ({ cls := "MaskedEars", name := "task", desc := "(II)I" } : Jvm.MethodName)) ∈ lw_all := lw_g (lw_at lw_m5 189 rfl) rfl
theorem q1255 : (Jvm.Cond.code ({ cls := "MaskedEars", name := "task", desc := "(II)I" } : Jvm.MethodName) prog_1_method_36_code (4 : Nat) (Option.some Jvm.ClassFile.FieldType.int)) ∈ lw_all := lw_g (lw_at lw_m5 190 rfl) rfl
theorem q1257 : (Jvm.Cond.instanceMethod ({ cls := "MaskedEars", name := "find", desc := "(IIIZ)I" } : Jvm.MethodName)) ∈ lw_all := lw_g (lw_at lw_m5 192 rfl) rfl
theorem q1258 : (Jvm.Cond.selects "MaskedEars" ({ cls := "MaskedEars", name := "find", desc := "(IIIZ)I" } : Jvm.MethodName) ({ cls := "MaskedEars", name := "find", desc := "(IIIZ)I" } : Jvm.MethodName)) ∈ lw_all := lw_g (lw_at lw_m5 193 rfl) rfl
theorem q1259 : (Jvm.Cond.code ({ cls := "MaskedEars", name := "find", desc := "(IIIZ)I" } : Jvm.MethodName) prog_1_method_37_code (6 : Nat) (Option.some Jvm.ClassFile.FieldType.int)) ∈ lw_all := lw_g (lw_at lw_m5 194 rfl) rfl
theorem q1260 : (Jvm.Cond.methodLink "MaskedEars" (276 : Nat) ({ cls := "MaskedEars$Test", name := "find", desc := "(IIIZ)LMaskedEars$Task;" } : Jvm.MethodName)) ∈ lw_all := lw_g (lw_at lw_m5 195 rfl) rfl
theorem q1261 : (Jvm.Cond.methodLink "MaskedEars" (280 : Nat) ({ cls := "java/util/ArrayList", name := "indexOf", desc := "(Ljava/lang/Object;)I" } : Jvm.MethodName)) ∈ lw_all := lw_g (lw_at lw_m5 196 rfl) rfl
theorem q1263 : (Jvm.Cond.instanceMethod ({ cls := "MaskedEars", name := "doubts", desc := "(II)I" } : Jvm.MethodName)) ∈ lw_all := lw_g (lw_at lw_m5 198 rfl) rfl
theorem q1264 : (Jvm.Cond.selects "MaskedEars" ({ cls := "MaskedEars", name := "doubts", desc := "(II)I" } : Jvm.MethodName) ({ cls := "MaskedEars", name := "doubts", desc := "(II)I" } : Jvm.MethodName)) ∈ lw_all := lw_g (lw_at lw_m5 199 rfl) rfl
theorem q1265 : (Jvm.Cond.code ({ cls := "MaskedEars", name := "doubts", desc := "(II)I" } : Jvm.MethodName) prog_1_method_38_code (3 : Nat) (Option.some Jvm.ClassFile.FieldType.int)) ∈ lw_all := lw_g (lw_at lw_m5 200 rfl) rfl
theorem q1266 : (Jvm.Cond.methodLink "MaskedEars" (284 : Nat) ({ cls := "MaskedEars$Test", name := "doubts", desc := "(II)I" } : Jvm.MethodName)) ∈ lw_all := lw_g (lw_at lw_m5 201 rfl) rfl
theorem q1283 : (Jvm.Cond.instanceMethod ({ cls := "MaskedEars", name := "doubtful", desc := "()I" } : Jvm.MethodName)) ∈ lw_all := lw_g (lw_at lw_m5 218 rfl) rfl
theorem q1284 : (Jvm.Cond.selects "MaskedEars" ({ cls := "MaskedEars", name := "doubtful", desc := "()I" } : Jvm.MethodName) ({ cls := "MaskedEars", name := "doubtful", desc := "()I" } : Jvm.MethodName)) ∈ lw_all := lw_g (lw_at lw_m5 219 rfl) rfl
theorem q1285 : (Jvm.Cond.code ({ cls := "MaskedEars", name := "doubtful", desc := "()I" } : Jvm.MethodName) prog_1_method_39_code (3 : Nat) (Option.some Jvm.ClassFile.FieldType.int)) ∈ lw_all := lw_g (lw_at lw_m5 220 rfl) rfl
theorem q1286 : (Jvm.Cond.methodLink "MaskedEars" (287 : Nat) ({ cls := "MaskedEars$Test", name := "isDoubtful", desc := "(I)Z" } : Jvm.MethodName)) ∈ lw_all := lw_g (lw_at lw_m5 221 rfl) rfl
theorem q1292 : (Jvm.Cond.instanceMethod ({ cls := "MaskedEars", name := "redo", desc := "()I" } : Jvm.MethodName)) ∈ lw_all := lw_g (lw_at lw_m5 227 rfl) rfl
theorem q1293 : (Jvm.Cond.selects "MaskedEars" ({ cls := "MaskedEars", name := "redo", desc := "()I" } : Jvm.MethodName) ({ cls := "MaskedEars", name := "redo", desc := "()I" } : Jvm.MethodName)) ∈ lw_all := lw_g (lw_at lw_m5 228 rfl) rfl
theorem q1294 : (Jvm.Cond.code ({ cls := "MaskedEars", name := "redo", desc := "()I" } : Jvm.MethodName) prog_1_method_40_code (3 : Nat) (Option.some Jvm.ClassFile.FieldType.int)) ∈ lw_all := lw_g (lw_at lw_m5 229 rfl) rfl
theorem q1295 : (Jvm.Cond.methodLink "MaskedEars" (290 : Nat) ({ cls := "MaskedEars$Test", name := "redoes", desc := "()I" } : Jvm.MethodName)) ∈ lw_all := lw_g (lw_at lw_m5 230 rfl) rfl
theorem q1302 : (Jvm.Cond.instanceMethod ({ cls := "MaskedEars", name := "told", desc := "(III)I" } : Jvm.MethodName)) ∈ lw_all := lw_g (lw_at lw_m5 237 rfl) rfl
theorem q1303 : (Jvm.Cond.selects "MaskedEars" ({ cls := "MaskedEars", name := "told", desc := "(III)I" } : Jvm.MethodName) ({ cls := "MaskedEars", name := "told", desc := "(III)I" } : Jvm.MethodName)) ∈ lw_all := lw_g (lw_at lw_m5 238 rfl) rfl
theorem q1304 : (Jvm.Cond.code ({ cls := "MaskedEars", name := "told", desc := "(III)I" } : Jvm.MethodName) prog_1_method_41_code (4 : Nat) (Option.some Jvm.ClassFile.FieldType.int)) ∈ lw_all := lw_g (lw_at lw_m5 239 rfl) rfl
theorem q1305 : (Jvm.Cond.methodLink "MaskedEars" (293 : Nat) ({ cls := "MaskedEars$Test", name := "told", desc := "(III)I" } : Jvm.MethodName)) ∈ lw_all := lw_g (lw_at lw_m6 0 rfl) rfl
theorem q1307 : (Jvm.Cond.instanceMethod ({ cls := "MaskedEars", name := "needs", desc := "(III)I" } : Jvm.MethodName)) ∈ lw_all := lw_g (lw_at lw_m6 2 rfl) rfl
theorem q1308 : (Jvm.Cond.selects "MaskedEars" ({ cls := "MaskedEars", name := "needs", desc := "(III)I" } : Jvm.MethodName) ({ cls := "MaskedEars", name := "needs", desc := "(III)I" } : Jvm.MethodName)) ∈ lw_all := lw_g (lw_at lw_m6 3 rfl) rfl
theorem q1309 : (Jvm.Cond.code ({ cls := "MaskedEars", name := "needs", desc := "(III)I" } : Jvm.MethodName) prog_1_method_42_code (4 : Nat) (Option.some Jvm.ClassFile.FieldType.int)) ∈ lw_all := lw_g (lw_at lw_m6 4 rfl) rfl
theorem q1310 : (Jvm.Cond.methodLink "MaskedEars" (295 : Nat) ({ cls := "MaskedEars$Test", name := "areThrough", desc := "(IZ)Z" } : Jvm.MethodName)) ∈ lw_all := lw_g (lw_at lw_m6 5 rfl) rfl
theorem q1311 : (Jvm.Cond.methodLink "MaskedEars" (299 : Nat) ({ cls := "MaskedEars$Test", name := "needs", desc := "(III)Z" } : Jvm.MethodName)) ∈ lw_all := lw_g (lw_at lw_m6 6 rfl) rfl
theorem q1313 : (Jvm.Cond.instanceMethod ({ cls := "MaskedEars", name := "noise", desc := "(III)I" } : Jvm.MethodName)) ∈ lw_all := lw_g (lw_at lw_m6 8 rfl) rfl
theorem q1314 : (Jvm.Cond.selects "MaskedEars" ({ cls := "MaskedEars", name := "noise", desc := "(III)I" } : Jvm.MethodName) ({ cls := "MaskedEars", name := "noise", desc := "(III)I" } : Jvm.MethodName)) ∈ lw_all := lw_g (lw_at lw_m6 9 rfl) rfl
theorem q1315 : (Jvm.Cond.code ({ cls := "MaskedEars", name := "noise", desc := "(III)I" } : Jvm.MethodName) prog_1_method_43_code (5 : Nat) (Option.some Jvm.ClassFile.FieldType.int)) ∈ lw_all := lw_g (lw_at lw_m6 10 rfl) rfl
theorem q1316 : (Jvm.Cond.methodLink "MaskedEars" (302 : Nat) ({ cls := "MaskedEars$Test", name := "plain", desc := "(III)LMaskedEars$Task;" } : Jvm.MethodName)) ∈ lw_all := lw_g (lw_at lw_m6 11 rfl) rfl
theorem q1317 : (Jvm.Cond.methodLink "MaskedEars" (306 : Nat) ({ cls := "MaskedEars$Test", name := "first", desc := "(II)I" } : Jvm.MethodName)) ∈ lw_all := lw_g (lw_at lw_m6 12 rfl) rfl
theorem q1318 : (Jvm.Cond.methodLink "MaskedEars" (309 : Nat) ({ cls := "MaskedEars$Test", name := "bound", desc := "(II)I" } : Jvm.MethodName)) ∈ lw_all := lw_g (lw_at lw_m6 13 rfl) rfl
theorem q1320 : (Jvm.Cond.instanceMethod ({ cls := "MaskedEars", name := "apart", desc := "(II)I" } : Jvm.MethodName)) ∈ lw_all := lw_g (lw_at lw_m6 15 rfl) rfl
theorem q1321 : (Jvm.Cond.selects "MaskedEars" ({ cls := "MaskedEars", name := "apart", desc := "(II)I" } : Jvm.MethodName) ({ cls := "MaskedEars", name := "apart", desc := "(II)I" } : Jvm.MethodName)) ∈ lw_all := lw_g (lw_at lw_m6 16 rfl) rfl
theorem q1322 : (Jvm.Cond.code ({ cls := "MaskedEars", name := "apart", desc := "(II)I" } : Jvm.MethodName) prog_1_method_45_code (6 : Nat) (Option.some Jvm.ClassFile.FieldType.int)) ∈ lw_all := lw_g (lw_at lw_m6 17 rfl) rfl
theorem q1323 : (Jvm.Cond.methodLink "MaskedEars" (312 : Nat) ({ cls := "MaskedEars", name := "lacks", desc := "(II)I" } : Jvm.MethodName)) ∈ lw_all := lw_g (lw_at lw_m6 18 rfl) rfl
theorem q1324 : (Jvm.Cond.static ({ cls := "MaskedEars", name := "lacks", desc := "(II)I" } : Jvm.MethodName)) ∈ lw_all := lw_g (lw_at lw_m6 19 rfl) rfl
theorem q1325 : (Jvm.Cond.code ({ cls := "MaskedEars", name := "lacks", desc := "(II)I" } : Jvm.MethodName) prog_1_method_44_code (2 : Nat) (Option.some Jvm.ClassFile.FieldType.int)) ∈ lw_all := lw_g (lw_at lw_m6 20 rfl) rfl
theorem q1327 : (Jvm.Cond.instanceMethod ({ cls := "MaskedEars", name := "loss", desc := "(II)I" } : Jvm.MethodName)) ∈ lw_all := lw_g (lw_at lw_m6 22 rfl) rfl
theorem q1328 : (Jvm.Cond.selects "MaskedEars" ({ cls := "MaskedEars", name := "loss", desc := "(II)I" } : Jvm.MethodName) ({ cls := "MaskedEars", name := "loss", desc := "(II)I" } : Jvm.MethodName)) ∈ lw_all := lw_g (lw_at lw_m6 23 rfl) rfl
theorem q1329 : (Jvm.Cond.code ({ cls := "MaskedEars", name := "loss", desc := "(II)I" } : Jvm.MethodName) prog_1_method_46_code (6 : Nat) (Option.some Jvm.ClassFile.FieldType.int)) ∈ lw_all := lw_g (lw_at lw_m6 24 rfl) rfl
theorem q1331 : (Jvm.Cond.instanceMethod ({ cls := "MaskedEars", name := "mean", desc := "(II)I" } : Jvm.MethodName)) ∈ lw_all := lw_g (lw_at lw_m6 26 rfl) rfl
theorem q1332 : (Jvm.Cond.selects "MaskedEars" ({ cls := "MaskedEars", name := "mean", desc := "(II)I" } : Jvm.MethodName) ({ cls := "MaskedEars", name := "mean", desc := "(II)I" } : Jvm.MethodName)) ∈ lw_all := lw_g (lw_at lw_m6 27 rfl) rfl
theorem q1333 : (Jvm.Cond.code ({ cls := "MaskedEars", name := "mean", desc := "(II)I" } : Jvm.MethodName) prog_1_method_48_code (3 : Nat) (Option.some Jvm.ClassFile.FieldType.int)) ∈ lw_all := lw_g (lw_at lw_m6 28 rfl) rfl
theorem q1334 : (Jvm.Cond.methodLink "MaskedEars" (315 : Nat) ({ cls := "MaskedEars", name := "meanOf", desc := "(II)I" } : Jvm.MethodName)) ∈ lw_all := lw_g (lw_at lw_m6 29 rfl) rfl
theorem q1335 : (Jvm.Cond.privateMethod ({ cls := "MaskedEars", name := "meanOf", desc := "(II)I" } : Jvm.MethodName)) ∈ lw_tbl := lw_at lw_m6 30 rfl
theorem q1336 : (Jvm.Cond.instanceMethod ({ cls := "MaskedEars", name := "meanOf", desc := "(II)I" } : Jvm.MethodName)) ∈ lw_all := lw_g (lw_at lw_m6 31 rfl) rfl
theorem q1337 : (Jvm.Cond.code ({ cls := "MaskedEars", name := "meanOf", desc := "(II)I" } : Jvm.MethodName) prog_1_method_47_code (7 : Nat) (Option.some Jvm.ClassFile.FieldType.int)) ∈ lw_all := lw_g (lw_at lw_m6 32 rfl) rfl
theorem q1339 : (Jvm.Cond.instanceMethod ({ cls := "MaskedEars", name := "grade", desc := "(I)I" } : Jvm.MethodName)) ∈ lw_all := lw_g (lw_at lw_m6 34 rfl) rfl
theorem q1340 : (Jvm.Cond.selects "MaskedEars" ({ cls := "MaskedEars", name := "grade", desc := "(I)I" } : Jvm.MethodName) ({ cls := "MaskedEars", name := "grade", desc := "(I)I" } : Jvm.MethodName)) ∈ lw_all := lw_g (lw_at lw_m6 35 rfl) rfl
theorem q1341 : (Jvm.Cond.code ({ cls := "MaskedEars", name := "grade", desc := "(I)I" } : Jvm.MethodName) prog_1_method_49_code (4 : Nat) (Option.some Jvm.ClassFile.FieldType.int)) ∈ lw_all := lw_g (lw_at lw_m6 36 rfl) rfl
theorem q1343 : (Jvm.Cond.instanceMethod ({ cls := "MaskedEars", name := "worse", desc := "()I" } : Jvm.MethodName)) ∈ lw_all := lw_g (lw_at lw_m6 38 rfl) rfl
theorem q1344 : (Jvm.Cond.selects "MaskedEars" ({ cls := "MaskedEars", name := "worse", desc := "()I" } : Jvm.MethodName) ({ cls := "MaskedEars", name := "worse", desc := "()I" } : Jvm.MethodName)) ∈ lw_all := lw_g (lw_at lw_m6 39 rfl) rfl
theorem q1345 : (Jvm.Cond.code ({ cls := "MaskedEars", name := "worse", desc := "()I" } : Jvm.MethodName) prog_1_method_50_code (4 : Nat) (Option.some Jvm.ClassFile.FieldType.int)) ∈ lw_all := lw_g (lw_at lw_m6 40 rfl) rfl
theorem q1347 : (Jvm.Cond.instanceMethod ({ cls := "MaskedEars", name := "right", desc := "(I)I" } : Jvm.MethodName)) ∈ lw_all := lw_g (lw_at lw_m6 42 rfl) rfl
theorem q1348 : (Jvm.Cond.selects "MaskedEars" ({ cls := "MaskedEars", name := "right", desc := "(I)I" } : Jvm.MethodName) ({ cls := "MaskedEars", name := "right", desc := "(I)I" } : Jvm.MethodName)) ∈ lw_all := lw_g (lw_at lw_m6 43 rfl) rfl
theorem q1349 : (Jvm.Cond.code ({ cls := "MaskedEars", name := "right", desc := "(I)I" } : Jvm.MethodName) prog_1_method_51_code (9 : Nat) (Option.some Jvm.ClassFile.FieldType.int)) ∈ lw_all := lw_g (lw_at lw_m6 44 rfl) rfl
theorem q1351 : (Jvm.Cond.instanceMethod ({ cls := "MaskedEars", name := "left", desc := "()I" } : Jvm.MethodName)) ∈ lw_all := lw_g (lw_at lw_m6 46 rfl) rfl
theorem q1352 : (Jvm.Cond.selects "MaskedEars" ({ cls := "MaskedEars", name := "left", desc := "()I" } : Jvm.MethodName) ({ cls := "MaskedEars", name := "left", desc := "()I" } : Jvm.MethodName)) ∈ lw_all := lw_g (lw_at lw_m6 47 rfl) rfl
theorem q1353 : (Jvm.Cond.code ({ cls := "MaskedEars", name := "left", desc := "()I" } : Jvm.MethodName) prog_1_method_52_code (2 : Nat) (Option.some Jvm.ClassFile.FieldType.int)) ∈ lw_all := lw_g (lw_at lw_m6 48 rfl) rfl
theorem q1354 : (Jvm.Cond.methodLink "MaskedEars" (318 : Nat) ({ cls := "MaskedEars$Test", name := "<init>", desc := "(LMaskedEars$Test;)V" } : Jvm.MethodName)) ∈ lw_all := lw_g (lw_at lw_m6 49 rfl) rfl
theorem q1366 : (Jvm.Cond.instanceMethod ({ cls := "MaskedEars", name := "chart", desc := "(II)I" } : Jvm.MethodName)) ∈ lw_all := lw_g (lw_at lw_m6 61 rfl) rfl
theorem q1367 : (Jvm.Cond.selects "MaskedEars" ({ cls := "MaskedEars", name := "chart", desc := "(II)I" } : Jvm.MethodName) ({ cls := "MaskedEars", name := "chart", desc := "(II)I" } : Jvm.MethodName)) ∈ lw_all := lw_g (lw_at lw_m6 62 rfl) rfl
theorem q1368 : (Jvm.Cond.code ({ cls := "MaskedEars", name := "chart", desc := "(II)I" } : Jvm.MethodName) prog_1_method_54_code (4 : Nat) (Option.some Jvm.ClassFile.FieldType.int)) ∈ lw_all := lw_g (lw_at lw_m6 63 rfl) rfl
theorem q1369 : (Jvm.Cond.methodLink "MaskedEars" (321 : Nat) ({ cls := "MaskedEars", name := "signOf", desc := "(III)I" } : Jvm.MethodName)) ∈ lw_all := lw_g (lw_at lw_m6 64 rfl) rfl
theorem q1370 : (Jvm.Cond.privateMethod ({ cls := "MaskedEars", name := "signOf", desc := "(III)I" } : Jvm.MethodName)) ∈ lw_tbl := lw_at lw_m6 65 rfl
theorem q1371 : (Jvm.Cond.instanceMethod ({ cls := "MaskedEars", name := "signOf", desc := "(III)I" } : Jvm.MethodName)) ∈ lw_all := lw_g (lw_at lw_m6 66 rfl) rfl
theorem q1372 : (Jvm.Cond.code ({ cls := "MaskedEars", name := "signOf", desc := "(III)I" } : Jvm.MethodName) prog_1_method_53_code (6 : Nat) (Option.some Jvm.ClassFile.FieldType.int)) ∈ lw_all := lw_g (lw_at lw_m6 67 rfl) rfl
theorem q1374 : (Jvm.Cond.instanceMethod ({ cls := "MaskedEars", name := "mark", desc := "()I" } : Jvm.MethodName)) ∈ lw_all := lw_g (lw_at lw_m6 69 rfl) rfl
theorem q1375 : (Jvm.Cond.selects "MaskedEars" ({ cls := "MaskedEars", name := "mark", desc := "()I" } : Jvm.MethodName) ({ cls := "MaskedEars", name := "mark", desc := "()I" } : Jvm.MethodName)) ∈ lw_all := lw_g (lw_at lw_m6 70 rfl) rfl
theorem q1376 : (Jvm.Cond.code ({ cls := "MaskedEars", name := "mark", desc := "()I" } : Jvm.MethodName) prog_1_method_56_code (7 : Nat) (Option.some Jvm.ClassFile.FieldType.int)) ∈ lw_all := lw_g (lw_at lw_m6 71 rfl) rfl
theorem q1377 : (Jvm.Cond.methodLink "MaskedEars" (324 : Nat) ({ cls := "MaskedEars", name := "place", desc := "(III)I" } : Jvm.MethodName)) ∈ lw_all := lw_g (lw_at lw_m6 72 rfl) rfl
theorem q1378 : (Jvm.Cond.privateMethod ({ cls := "MaskedEars", name := "place", desc := "(III)I" } : Jvm.MethodName)) ∈ lw_tbl := lw_at lw_m6 73 rfl
theorem q1379 : (Jvm.Cond.instanceMethod ({ cls := "MaskedEars", name := "place", desc := "(III)I" } : Jvm.MethodName)) ∈ lw_all := lw_g (lw_at lw_m6 74 rfl) rfl
theorem q1380 : (Jvm.Cond.code ({ cls := "MaskedEars", name := "place", desc := "(III)I" } : Jvm.MethodName) prog_1_method_55_code (4 : Nat) (Option.some Jvm.ClassFile.FieldType.int)) ∈ lw_all := lw_g (lw_at lw_m6 75 rfl) rfl
theorem q1382 : (Jvm.Cond.instanceMethod ({ cls := "MaskedEars", name := "shift", desc := "(III)I" } : Jvm.MethodName)) ∈ lw_all := lw_g (lw_at lw_m6 77 rfl) rfl
theorem q1383 : (Jvm.Cond.selects "MaskedEars" ({ cls := "MaskedEars", name := "shift", desc := "(III)I" } : Jvm.MethodName) ({ cls := "MaskedEars", name := "shift", desc := "(III)I" } : Jvm.MethodName)) ∈ lw_all := lw_g (lw_at lw_m6 78 rfl) rfl
theorem q1384 : (Jvm.Cond.code ({ cls := "MaskedEars", name := "shift", desc := "(III)I" } : Jvm.MethodName) prog_1_method_58_code (4 : Nat) (Option.some Jvm.ClassFile.FieldType.int)) ∈ lw_all := lw_g (lw_at lw_m6 79 rfl) rfl
theorem q1385 : (Jvm.Cond.methodLink "MaskedEars" (326 : Nat) ({ cls := "MaskedEars", name := "shiftOf", desc := "(III)I" } : Jvm.MethodName)) ∈ lw_all := lw_g (lw_at lw_m6 80 rfl) rfl
theorem q1386 : (Jvm.Cond.privateMethod ({ cls := "MaskedEars", name := "shiftOf", desc := "(III)I" } : Jvm.MethodName)) ∈ lw_tbl := lw_at lw_m6 81 rfl
theorem q1387 : (Jvm.Cond.instanceMethod ({ cls := "MaskedEars", name := "shiftOf", desc := "(III)I" } : Jvm.MethodName)) ∈ lw_all := lw_g (lw_at lw_m6 82 rfl) rfl
theorem q1388 : (Jvm.Cond.code ({ cls := "MaskedEars", name := "shiftOf", desc := "(III)I" } : Jvm.MethodName) prog_1_method_57_code (6 : Nat) (Option.some Jvm.ClassFile.FieldType.int)) ∈ lw_all := lw_g (lw_at lw_m6 83 rfl) rfl
theorem q1390 : (Jvm.Cond.instanceMethod ({ cls := "MaskedEars", name := "worsened", desc := "(II)I" } : Jvm.MethodName)) ∈ lw_all := lw_g (lw_at lw_m6 85 rfl) rfl
theorem q1391 : (Jvm.Cond.selects "MaskedEars" ({ cls := "MaskedEars", name := "worsened", desc := "(II)I" } : Jvm.MethodName) ({ cls := "MaskedEars", name := "worsened", desc := "(II)I" } : Jvm.MethodName)) ∈ lw_all := lw_g (lw_at lw_m6 86 rfl) rfl
theorem q1392 : (Jvm.Cond.code ({ cls := "MaskedEars", name := "worsened", desc := "(II)I" } : Jvm.MethodName) prog_1_method_59_code (5 : Nat) (Option.some Jvm.ClassFile.FieldType.int)) ∈ lw_all := lw_g (lw_at lw_m6 87 rfl) rfl
theorem q1394 : (Jvm.Cond.instanceMethod ({ cls := "MaskedEars", name := "steepest", desc := "(I)I" } : Jvm.MethodName)) ∈ lw_all := lw_g (lw_at lw_m6 89 rfl) rfl
theorem q1395 : (Jvm.Cond.selects "MaskedEars" ({ cls := "MaskedEars", name := "steepest", desc := "(I)I" } : Jvm.MethodName) ({ cls := "MaskedEars", name := "steepest", desc := "(I)I" } : Jvm.MethodName)) ∈ lw_all := lw_g (lw_at lw_m6 90 rfl) rfl
theorem q1396 : (Jvm.Cond.code ({ cls := "MaskedEars", name := "steepest", desc := "(I)I" } : Jvm.MethodName) prog_1_method_60_code (5 : Nat) (Option.some Jvm.ClassFile.FieldType.int)) ∈ lw_all := lw_g (lw_at lw_m6 91 rfl) rfl
theorem q1397 : (Jvm.Cond.methodLink "MaskedEars" (329 : Nat) ({ cls := "java/lang/Math", name := "abs", desc := "(I)I" } : Jvm.MethodName)) ∈ lw_all := lw_g (lw_at lw_m6 92 rfl) rfl
theorem q1400 : (Jvm.Cond.methodLink "MaskedEars" (332 : Nat) ({ cls := "java/lang/Math", name := "max", desc := "(II)I" } : Jvm.MethodName)) ∈ lw_all := lw_g (lw_at lw_m6 95 rfl) rfl
theorem q1402 : (Jvm.Cond.instanceMethod ({ cls := "MaskedEars", name := "log", desc := "(II)I" } : Jvm.MethodName)) ∈ lw_all := lw_g (lw_at lw_m6 97 rfl) rfl
theorem q1403 : (Jvm.Cond.selects "MaskedEars" ({ cls := "MaskedEars", name := "log", desc := "(II)I" } : Jvm.MethodName) ({ cls := "MaskedEars", name := "log", desc := "(II)I" } : Jvm.MethodName)) ∈ lw_all := lw_g (lw_at lw_m6 98 rfl) rfl
theorem q1404 : (Jvm.Cond.code ({ cls := "MaskedEars", name := "log", desc := "(II)I" } : Jvm.MethodName) prog_1_method_61_code (4 : Nat) (Option.some Jvm.ClassFile.FieldType.int)) ∈ lw_all := lw_g (lw_at lw_m6 99 rfl) rfl
theorem q1405 : (Jvm.Cond.methodLink "MaskedEars" (335 : Nat) ({ cls := "MaskedEars$Latest", name := "many", desc := "()I" } : Jvm.MethodName)) ∈ lw_all := lw_g (lw_at lw_m6 100 rfl) rfl
theorem q1409 : (Jvm.Cond.methodLink "MaskedEars" (337 : Nat) ({ cls := "MaskedEars$Latest", name := "get", desc := "(I)LMaskedEars$Shown;" } : Jvm.MethodName)) ∈ lw_all := lw_g (lw_at lw_m6 104 rfl) rfl
theorem q1415 : (Jvm.Cond.methodLink "MaskedEars" (340 : Nat) ({ cls := "MaskedEars$Shown", name := "task", desc := "()I" } : Jvm.MethodName)) ∈ lw_all := lw_g (lw_at lw_m6 110 rfl) rfl
theorem q1419 : (Jvm.Cond.methodLink "MaskedEars" (343 : Nat) ({ cls := "MaskedEars$Shown", name := "level", desc := "()I" } : Jvm.MethodName)) ∈ lw_all := lw_g (lw_at lw_m6 114 rfl) rfl
theorem q1423 : (Jvm.Cond.methodLink "MaskedEars" (345 : Nat) ({ cls := "MaskedEars$Shown", name := "noise", desc := "()I" } : Jvm.MethodName)) ∈ lw_all := lw_g (lw_at lw_m6 118 rfl) rfl
theorem q1427 : (Jvm.Cond.methodLink "MaskedEars" (347 : Nat) ({ cls := "MaskedEars$Shown", name := "heard", desc := "()Z" } : Jvm.MethodName)) ∈ lw_all := lw_g (lw_at lw_m6 122 rfl) rfl
theorem q1431 : (Jvm.Cond.methodLink "MaskedEars" (349 : Nat) ({ cls := "MaskedEars$Shown", name := "number", desc := "()I" } : Jvm.MethodName)) ∈ lw_all := lw_g (lw_at lw_m6 126 rfl) rfl
theorem q1435 : (Jvm.Cond.methodLink "MaskedEars" (352 : Nat) ({ cls := "MaskedEars$Shown", name := "isAscent", desc := "()Z" } : Jvm.MethodName)) ∈ lw_all := lw_g (lw_at lw_m6 130 rfl) rfl
theorem q1440 : (Jvm.Cond.instanceMethod ({ cls := "MaskedEars", name := "size", desc := "(I)I" } : Jvm.MethodName)) ∈ lw_all := lw_g (lw_at lw_m6 135 rfl) rfl
theorem q1441 : (Jvm.Cond.selects "MaskedEars" ({ cls := "MaskedEars", name := "size", desc := "(I)I" } : Jvm.MethodName) ({ cls := "MaskedEars", name := "size", desc := "(I)I" } : Jvm.MethodName)) ∈ lw_all := lw_g (lw_at lw_m6 136 rfl) rfl
theorem q1442 : (Jvm.Cond.code ({ cls := "MaskedEars", name := "size", desc := "(I)I" } : Jvm.MethodName) prog_1_method_63_code (2 : Nat) (Option.some Jvm.ClassFile.FieldType.int)) ∈ lw_all := lw_g (lw_at lw_m6 137 rfl) rfl
theorem q1444 : (Jvm.Cond.instanceMethod ({ cls := "MaskedEars", name := "trouble", desc := "()I" } : Jvm.MethodName)) ∈ lw_all := lw_g (lw_at lw_m6 139 rfl) rfl
theorem q1445 : (Jvm.Cond.selects "MaskedEars" ({ cls := "MaskedEars", name := "trouble", desc := "()I" } : Jvm.MethodName) ({ cls := "MaskedEars", name := "trouble", desc := "()I" } : Jvm.MethodName)) ∈ lw_all := lw_g (lw_at lw_m6 140 rfl) rfl
theorem q1446 : (Jvm.Cond.code ({ cls := "MaskedEars", name := "trouble", desc := "()I" } : Jvm.MethodName) prog_1_method_64_code (1 : Nat) (Option.some Jvm.ClassFile.FieldType.int)) ∈ lw_all := lw_g (lw_at lw_m6 141 rfl) rfl
theorem q1452 : (Jvm.Cond.instanceMethod ({ cls := "MaskedEars", name := "unproved", desc := "(I)I" } : Jvm.MethodName)) ∈ lw_all := lw_g (lw_at lw_m6 147 rfl) rfl
theorem q1453 : (Jvm.Cond.selects "MaskedEars" ({ cls := "MaskedEars", name := "unproved", desc := "(I)I" } : Jvm.MethodName) ({ cls := "MaskedEars", name := "unproved", desc := "(I)I" } : Jvm.MethodName)) ∈ lw_all := lw_g (lw_at lw_m6 148 rfl) rfl
theorem q1454 : (Jvm.Cond.code ({ cls := "MaskedEars", name := "unproved", desc := "(I)I" } : Jvm.MethodName) prog_1_method_62_code (4 : Nat) (Option.some Jvm.ClassFile.FieldType.int)) ∈ lw_all := lw_g (lw_at lw_m6 149 rfl) rfl
theorem q1455 : (Jvm.Cond.classLink "MaskedEars" (353 : Nat) "java/util/NoSuchElementException") ∈ lw_all := lw_g (lw_at lw_m6 150 rfl) rfl
theorem q1456 : (Jvm.Cond.methodLink "MaskedEars" (355 : Nat) ({ cls := "java/util/NoSuchElementException", name := "<init>", desc := "()V" } : Jvm.MethodName)) ∈ lw_all := lw_g (lw_at lw_m6 151 rfl) rfl
theorem q1998 : (Jvm.Cond.castable "MaskedEars" "java/lang/Object") ∈ lw_tbl := lw_at lw_m8 213 rfl
theorem in_X1 : ∀ w ∈ wsX10, w ∈ lw_all := lw_in wsX10 [202, 204, 206, 208, 210, 212, 214, 216, 218, 220] (by decide +kernel) (by decide +kernel)
