/-! MaskedEarsModel -/
set_option maxRecDepth 100000
def RX3 : String := "MaskedEarsModel"
def TX3 : u_T := fun k => match k with
  | 0 => ("MaskedEarsModel", "thrown", "I", false)
  | 1 => ("MaskedEarsModel", "trouble", "I", false)
  | 2 => ("MaskedEarsModel", "fault", "I", false)
  | 3 => ("MaskedEarsModel", "where", "I", false)
  | 4 => ("MaskedEarsModel", "tape", "[I", true)
  | 5 => ("MaskedEarsModel", "taped", "I", false)
  | 6 => ("MaskedEarsModel", "is", "[I", true)
  | 7 => ("MaskedEarsModel", "read", "[I", true)
  | 8 => ("MaskedEarsModel", "isTold", "Z", false)
  | 9 => ("MaskedEarsModel", "textLong", "I", false)
  | 10 => ("MaskedEarsModel", "place", "I", false)
  | 11 => ("MaskedEarsModel", "spot", "I", false)
  | 12 => ("MaskedEarsModel", "token", "I", false)
  | 13 => ("MaskedEarsModel", "whole", "I", false)
  | 14 => ("MaskedEarsModel", "readFault", "I", false)
  | 15 => ("MaskedEarsModel", "readPlace", "I", false)
  | 16 => ("MaskedEarsModel", "hasTester", "Z", false)
  | 17 => ("MaskedEarsModel", "earsMet", "I", false)
  | 18 => ("MaskedEarsModel", "row", "[I", true)
  | 19 => ("MaskedEarsModel", "aside", "[I", true)
  | 20 => ("MaskedEarsModel", "timesAt", "[I", true)
  | 21 => ("MaskedEarsModel", "heardAt", "[I", true)
  | 22 => ("MaskedEarsModel", "ascentsAt", "[I", true)
  | 23 => ("MaskedEarsModel", "presented", "I", false)
  | 24 => ("MaskedEarsModel", "earlier", "[I", true)
  | _ => ("MaskedEarsModel", "isMarked", "Z", false)
def tyX3 : Nat → FieldType := fun k => match k with
  | 0 => .int
  | 1 => .int
  | 2 => .int
  | 3 => .int
  | 4 => .array .int
  | 5 => .int
  | 6 => .array .int
  | 7 => .array .int
  | 8 => .boolean
  | 9 => .int
  | 10 => .int
  | 11 => .int
  | 12 => .int
  | 13 => .int
  | 14 => .int
  | 15 => .int
  | 16 => .boolean
  | 17 => .int
  | 18 => .array .int
  | 19 => .array .int
  | 20 => .array .int
  | 21 => .array .int
  | 22 => .array .int
  | 23 => .int
  | 24 => .array .int
  | _ => .boolean
abbrev wsX30 : List Cond := u_ws RX3 TX3 26
set_option maxRecDepth 100000 in
theorem nmX3 : ∀ a, a < 26 → ∀ b, b < 26 → a ≠ b → (TX3 a).2.1 ≠ (TX3 b).2.1 := by decide +kernel
set_option maxRecDepth 100000 in
theorem tyX3_ok : ∀ k, k < 26 → parseFieldDescriptor (TX3 k).2.2.1 = some (tyX3 k) := by decide +kernel
abbrev cX3_init : ByteArray := prog_14_method_1_code
def yX3_init : MethodName := ⟨RX3, "<init>", "()V"⟩
def dkwX3_init_3 : List UInt8 := [188, 10, 181, 0, 35, 42, 16, 24, 188, 10, 181, 0, 38, 177]
abbrev dktX3_init_3 : List UInt8 := dkwX3_init_3 ++ []
def dkwX3_init_2 : List UInt8 := [188, 10, 181, 0, 26, 42, 16, 25, 188, 10, 181, 0, 29, 42, 16, 25, 188, 10, 181, 0, 32, 42, 16, 25]
abbrev dktX3_init_2 : List UInt8 := dkwX3_init_2 ++ dktX3_init_3
def dkwX3_init_1 : List UInt8 := [181, 0, 17, 42, 16, 42, 188, 10, 181, 0, 20, 42, 17, 7, 48, 188, 10, 181, 0, 23, 42, 17, 7, 48]
abbrev dktX3_init_1 : List UInt8 := dkwX3_init_1 ++ dktX3_init_2
def dkwX3_init_0 : List UInt8 := [42, 183, 0, 3, 42, 2, 181, 0, 9, 42, 17, 2, 188, 188, 10, 181, 0, 13, 42, 16, 42, 188, 10]
abbrev dktX3_init_0 : List UInt8 := dkwX3_init_0 ++ dktX3_init_1
theorem dksX3_init_0 : cX3_init.data.toList.drop 0 = dktX3_init_0 := by decide +kernel
theorem dksX3_init_1 : cX3_init.data.toList.drop 23 = dktX3_init_1 := dk_seg dksX3_init_0 23 rfl rfl
theorem dksX3_init_2 : cX3_init.data.toList.drop 47 = dktX3_init_2 := dk_seg dksX3_init_1 24 rfl rfl
theorem dksX3_init_3 : cX3_init.data.toList.drop 71 = dktX3_init_3 := dk_seg dksX3_init_2 24 rfl rfl
theorem dX3_init_0 : decode cX3_init 0 = .ok (.aload_n 0, 1) := dk_42 (dk_at dksX3_init_0 0 rfl rfl)
theorem dX3_init_1 : decode cX3_init 1 = .ok (.invokespecial 3, 3) := dk_183 0 3 (dk_at dksX3_init_0 1 rfl rfl)
theorem dX3_init_4 : decode cX3_init 4 = .ok (.aload_n 0, 1) := dk_42 (dk_at dksX3_init_0 4 rfl rfl)
theorem dX3_init_5 : decode cX3_init 5 = .ok (.iconst (-1), 1) := dk_2 (dk_at dksX3_init_0 5 rfl rfl)
theorem dX3_init_6 : decode cX3_init 6 = .ok (.putfield 9, 3) := dk_181 0 9 (dk_at dksX3_init_0 6 rfl rfl)
theorem dX3_init_9 : decode cX3_init 9 = .ok (.aload_n 0, 1) := dk_42 (dk_at dksX3_init_0 9 rfl rfl)
theorem dX3_init_10 : decode cX3_init 10 = .ok (.sipush 700, 3) := dk_17 2 188 (dk_at dksX3_init_0 10 rfl rfl)
theorem dX3_init_13 : decode cX3_init 13 = .ok (.newarray .int, 2) := dk_188_10 (dk_at dksX3_init_0 13 rfl rfl)
theorem dX3_init_15 : decode cX3_init 15 = .ok (.putfield 13, 3) := dk_181 0 13 (dk_at dksX3_init_0 15 rfl rfl)
theorem dX3_init_18 : decode cX3_init 18 = .ok (.aload_n 0, 1) := dk_42 (dk_at dksX3_init_0 18 rfl rfl)
theorem dX3_init_19 : decode cX3_init 19 = .ok (.bipush 42, 2) := dk_16 42 (dk_at dksX3_init_0 19 rfl rfl)
theorem dX3_init_21 : decode cX3_init 21 = .ok (.newarray .int, 2) := dk_188_10 (dk_at dksX3_init_0 21 rfl rfl)
theorem dX3_init_23 : decode cX3_init 23 = .ok (.putfield 17, 3) := dk_181 0 17 (dk_at dksX3_init_1 0 rfl rfl)
theorem dX3_init_26 : decode cX3_init 26 = .ok (.aload_n 0, 1) := dk_42 (dk_at dksX3_init_1 3 rfl rfl)
theorem dX3_init_27 : decode cX3_init 27 = .ok (.bipush 42, 2) := dk_16 42 (dk_at dksX3_init_1 4 rfl rfl)
theorem dX3_init_29 : decode cX3_init 29 = .ok (.newarray .int, 2) := dk_188_10 (dk_at dksX3_init_1 6 rfl rfl)
theorem dX3_init_31 : decode cX3_init 31 = .ok (.putfield 20, 3) := dk_181 0 20 (dk_at dksX3_init_1 8 rfl rfl)
theorem dX3_init_34 : decode cX3_init 34 = .ok (.aload_n 0, 1) := dk_42 (dk_at dksX3_init_1 11 rfl rfl)
theorem dX3_init_35 : decode cX3_init 35 = .ok (.sipush 1840, 3) := dk_17 7 48 (dk_at dksX3_init_1 12 rfl rfl)
theorem dX3_init_38 : decode cX3_init 38 = .ok (.newarray .int, 2) := dk_188_10 (dk_at dksX3_init_1 15 rfl rfl)
theorem dX3_init_40 : decode cX3_init 40 = .ok (.putfield 23, 3) := dk_181 0 23 (dk_at dksX3_init_1 17 rfl rfl)
theorem dX3_init_43 : decode cX3_init 43 = .ok (.aload_n 0, 1) := dk_42 (dk_at dksX3_init_1 20 rfl rfl)
theorem dX3_init_44 : decode cX3_init 44 = .ok (.sipush 1840, 3) := dk_17 7 48 (dk_at dksX3_init_1 21 rfl rfl)
theorem dX3_init_47 : decode cX3_init 47 = .ok (.newarray .int, 2) := dk_188_10 (dk_at dksX3_init_2 0 rfl rfl)
theorem dX3_init_49 : decode cX3_init 49 = .ok (.putfield 26, 3) := dk_181 0 26 (dk_at dksX3_init_2 2 rfl rfl)
theorem dX3_init_52 : decode cX3_init 52 = .ok (.aload_n 0, 1) := dk_42 (dk_at dksX3_init_2 5 rfl rfl)
theorem dX3_init_53 : decode cX3_init 53 = .ok (.bipush 25, 2) := dk_16 25 (dk_at dksX3_init_2 6 rfl rfl)
theorem dX3_init_55 : decode cX3_init 55 = .ok (.newarray .int, 2) := dk_188_10 (dk_at dksX3_init_2 8 rfl rfl)
theorem dX3_init_57 : decode cX3_init 57 = .ok (.putfield 29, 3) := dk_181 0 29 (dk_at dksX3_init_2 10 rfl rfl)
theorem dX3_init_60 : decode cX3_init 60 = .ok (.aload_n 0, 1) := dk_42 (dk_at dksX3_init_2 13 rfl rfl)
theorem dX3_init_61 : decode cX3_init 61 = .ok (.bipush 25, 2) := dk_16 25 (dk_at dksX3_init_2 14 rfl rfl)
theorem dX3_init_63 : decode cX3_init 63 = .ok (.newarray .int, 2) := dk_188_10 (dk_at dksX3_init_2 16 rfl rfl)
theorem dX3_init_65 : decode cX3_init 65 = .ok (.putfield 32, 3) := dk_181 0 32 (dk_at dksX3_init_2 18 rfl rfl)
theorem dX3_init_68 : decode cX3_init 68 = .ok (.aload_n 0, 1) := dk_42 (dk_at dksX3_init_2 21 rfl rfl)
theorem dX3_init_69 : decode cX3_init 69 = .ok (.bipush 25, 2) := dk_16 25 (dk_at dksX3_init_2 22 rfl rfl)
theorem dX3_init_71 : decode cX3_init 71 = .ok (.newarray .int, 2) := dk_188_10 (dk_at dksX3_init_3 0 rfl rfl)
theorem dX3_init_73 : decode cX3_init 73 = .ok (.putfield 35, 3) := dk_181 0 35 (dk_at dksX3_init_3 2 rfl rfl)
theorem dX3_init_76 : decode cX3_init 76 = .ok (.aload_n 0, 1) := dk_42 (dk_at dksX3_init_3 5 rfl rfl)
theorem dX3_init_77 : decode cX3_init 77 = .ok (.bipush 24, 2) := dk_16 24 (dk_at dksX3_init_3 6 rfl rfl)
theorem dX3_init_79 : decode cX3_init 79 = .ok (.newarray .int, 2) := dk_188_10 (dk_at dksX3_init_3 8 rfl rfl)
theorem dX3_init_81 : decode cX3_init 81 = .ok (.putfield 38, 3) := dk_181 0 38 (dk_at dksX3_init_3 10 rfl rfl)
theorem dX3_init_84 : decode cX3_init 84 = .ok (.return_, 1) := dk_177 (dk_at dksX3_init_3 13 rfl rfl)
abbrev cX3_thrown : ByteArray := prog_14_method_2_code
def yX3_thrown : MethodName := ⟨RX3, "thrown", "()I"⟩
theorem dX3_thrown_0 : decode cX3_thrown 0 = .ok (.aload_n 0, 1) := by decide +kernel
theorem dX3_thrown_1 : decode cX3_thrown 1 = .ok (.getfield 41, 3) := by decide +kernel
theorem dX3_thrown_4 : decode cX3_thrown 4 = .ok (.ireturn, 1) := by decide +kernel
abbrev cX3_feed : ByteArray := prog_14_method_9_code
def yX3_feed : MethodName := ⟨RX3, "feed", "(IIIII)I"⟩
def dkwX3_feed_2 : List UInt8 := [172]
abbrev dktX3_feed_2 : List UInt8 := dkwX3_feed_2 ++ []
def dkwX3_feed_1 : List UInt8 := [182, 0, 50, 42, 29, 182, 0, 50, 42, 21, 4, 182, 0, 50, 42, 21, 5, 182, 0, 50, 42, 180, 0, 47]
abbrev dktX3_feed_1 : List UInt8 := dkwX3_feed_1 ++ dktX3_feed_2
def dkwX3_feed_0 : List UInt8 := [42, 3, 181, 0, 41, 42, 180, 0, 47, 17, 2, 168, 164, 0, 5, 2, 172, 42, 27, 182, 0, 50, 42, 28]
abbrev dktX3_feed_0 : List UInt8 := dkwX3_feed_0 ++ dktX3_feed_1
theorem dksX3_feed_0 : cX3_feed.data.toList.drop 0 = dktX3_feed_0 := by decide +kernel
theorem dksX3_feed_1 : cX3_feed.data.toList.drop 24 = dktX3_feed_1 := dk_seg dksX3_feed_0 24 rfl rfl
theorem dksX3_feed_2 : cX3_feed.data.toList.drop 48 = dktX3_feed_2 := dk_seg dksX3_feed_1 24 rfl rfl
theorem dX3_feed_0 : decode cX3_feed 0 = .ok (.aload_n 0, 1) := dk_42 (dk_at dksX3_feed_0 0 rfl rfl)
theorem dX3_feed_1 : decode cX3_feed 1 = .ok (.iconst 0, 1) := dk_3 (dk_at dksX3_feed_0 1 rfl rfl)
theorem dX3_feed_2 : decode cX3_feed 2 = .ok (.putfield 41, 3) := dk_181 0 41 (dk_at dksX3_feed_0 2 rfl rfl)
theorem dX3_feed_5 : decode cX3_feed 5 = .ok (.aload_n 0, 1) := dk_42 (dk_at dksX3_feed_0 5 rfl rfl)
theorem dX3_feed_6 : decode cX3_feed 6 = .ok (.getfield 47, 3) := dk_180 0 47 (dk_at dksX3_feed_0 6 rfl rfl)
theorem dX3_feed_9 : decode cX3_feed 9 = .ok (.sipush 680, 3) := dk_17 2 168 (dk_at dksX3_feed_0 9 rfl rfl)
theorem dX3_feed_12 : decode cX3_feed 12 = .ok (.if_icmp .le 5, 3) := dk_164 0 5 (dk_at dksX3_feed_0 12 rfl rfl)
theorem dX3_feed_15 : decode cX3_feed 15 = .ok (.iconst (-1), 1) := dk_2 (dk_at dksX3_feed_0 15 rfl rfl)
theorem dX3_feed_16 : decode cX3_feed 16 = .ok (.ireturn, 1) := dk_172 (dk_at dksX3_feed_0 16 rfl rfl)
theorem dX3_feed_17 : decode cX3_feed 17 = .ok (.aload_n 0, 1) := dk_42 (dk_at dksX3_feed_0 17 rfl rfl)
theorem dX3_feed_18 : decode cX3_feed 18 = .ok (.iload_n 1, 1) := dk_27 (dk_at dksX3_feed_0 18 rfl rfl)
theorem dX3_feed_19 : decode cX3_feed 19 = .ok (.invokevirtual 50, 3) := dk_182 0 50 (dk_at dksX3_feed_0 19 rfl rfl)
theorem dX3_feed_22 : decode cX3_feed 22 = .ok (.aload_n 0, 1) := dk_42 (dk_at dksX3_feed_0 22 rfl rfl)
theorem dX3_feed_23 : decode cX3_feed 23 = .ok (.iload_n 2, 1) := dk_28 (dk_at dksX3_feed_0 23 rfl rfl)
theorem dX3_feed_24 : decode cX3_feed 24 = .ok (.invokevirtual 50, 3) := dk_182 0 50 (dk_at dksX3_feed_1 0 rfl rfl)
theorem dX3_feed_27 : decode cX3_feed 27 = .ok (.aload_n 0, 1) := dk_42 (dk_at dksX3_feed_1 3 rfl rfl)
theorem dX3_feed_28 : decode cX3_feed 28 = .ok (.iload_n 3, 1) := dk_29 (dk_at dksX3_feed_1 4 rfl rfl)
theorem dX3_feed_29 : decode cX3_feed 29 = .ok (.invokevirtual 50, 3) := dk_182 0 50 (dk_at dksX3_feed_1 5 rfl rfl)
theorem dX3_feed_32 : decode cX3_feed 32 = .ok (.aload_n 0, 1) := dk_42 (dk_at dksX3_feed_1 8 rfl rfl)
theorem dX3_feed_33 : decode cX3_feed 33 = .ok (.iload 4, 2) := dk_21 4 (dk_at dksX3_feed_1 9 rfl rfl)
theorem dX3_feed_35 : decode cX3_feed 35 = .ok (.invokevirtual 50, 3) := dk_182 0 50 (dk_at dksX3_feed_1 11 rfl rfl)
theorem dX3_feed_38 : decode cX3_feed 38 = .ok (.aload_n 0, 1) := dk_42 (dk_at dksX3_feed_1 14 rfl rfl)
theorem dX3_feed_39 : decode cX3_feed 39 = .ok (.iload 5, 2) := dk_21 5 (dk_at dksX3_feed_1 15 rfl rfl)
theorem dX3_feed_41 : decode cX3_feed 41 = .ok (.invokevirtual 50, 3) := dk_182 0 50 (dk_at dksX3_feed_1 17 rfl rfl)
theorem dX3_feed_44 : decode cX3_feed 44 = .ok (.aload_n 0, 1) := dk_42 (dk_at dksX3_feed_1 20 rfl rfl)
theorem dX3_feed_45 : decode cX3_feed 45 = .ok (.getfield 47, 3) := dk_180 0 47 (dk_at dksX3_feed_1 21 rfl rfl)
theorem dX3_feed_48 : decode cX3_feed 48 = .ok (.ireturn, 1) := dk_172 (dk_at dksX3_feed_2 0 rfl rfl)
abbrev cX3_laysWord : ByteArray := prog_14_method_10_code
def yX3_laysWord : MethodName := ⟨RX3, "laysWord", "(I)V"⟩
def dkwX3_laysWord_1 : List UInt8 := [100, 122, 17, 0, 255, 126, 79, 132, 2, 1, 167, 255, 224, 42, 89, 180, 0, 47, 7, 96, 181, 0, 47, 177]
abbrev dktX3_laysWord_1 : List UInt8 := dkwX3_laysWord_1 ++ []
def dkwX3_laysWord_0 : List UInt8 := [3, 61, 28, 7, 162, 0, 33, 42, 180, 0, 13, 42, 180, 0, 47, 28, 96, 27, 16, 24, 16, 8, 28, 104]
abbrev dktX3_laysWord_0 : List UInt8 := dkwX3_laysWord_0 ++ dktX3_laysWord_1
theorem dksX3_laysWord_0 : cX3_laysWord.data.toList.drop 0 = dktX3_laysWord_0 := by decide +kernel
theorem dksX3_laysWord_1 : cX3_laysWord.data.toList.drop 24 = dktX3_laysWord_1 := dk_seg dksX3_laysWord_0 24 rfl rfl
theorem dX3_laysWord_0 : decode cX3_laysWord 0 = .ok (.iconst 0, 1) := dk_3 (dk_at dksX3_laysWord_0 0 rfl rfl)
theorem dX3_laysWord_1 : decode cX3_laysWord 1 = .ok (.istore_n 2, 1) := dk_61 (dk_at dksX3_laysWord_0 1 rfl rfl)
theorem dX3_laysWord_2 : decode cX3_laysWord 2 = .ok (.iload_n 2, 1) := dk_28 (dk_at dksX3_laysWord_0 2 rfl rfl)
theorem dX3_laysWord_3 : decode cX3_laysWord 3 = .ok (.iconst 4, 1) := dk_7 (dk_at dksX3_laysWord_0 3 rfl rfl)
theorem dX3_laysWord_4 : decode cX3_laysWord 4 = .ok (.if_icmp .ge 33, 3) := dk_162 0 33 (dk_at dksX3_laysWord_0 4 rfl rfl)
theorem dX3_laysWord_7 : decode cX3_laysWord 7 = .ok (.aload_n 0, 1) := dk_42 (dk_at dksX3_laysWord_0 7 rfl rfl)
theorem dX3_laysWord_8 : decode cX3_laysWord 8 = .ok (.getfield 13, 3) := dk_180 0 13 (dk_at dksX3_laysWord_0 8 rfl rfl)
theorem dX3_laysWord_11 : decode cX3_laysWord 11 = .ok (.aload_n 0, 1) := dk_42 (dk_at dksX3_laysWord_0 11 rfl rfl)
theorem dX3_laysWord_12 : decode cX3_laysWord 12 = .ok (.getfield 47, 3) := dk_180 0 47 (dk_at dksX3_laysWord_0 12 rfl rfl)
theorem dX3_laysWord_15 : decode cX3_laysWord 15 = .ok (.iload_n 2, 1) := dk_28 (dk_at dksX3_laysWord_0 15 rfl rfl)
theorem dX3_laysWord_16 : decode cX3_laysWord 16 = .ok (.iadd, 1) := dk_96 (dk_at dksX3_laysWord_0 16 rfl rfl)
theorem dX3_laysWord_17 : decode cX3_laysWord 17 = .ok (.iload_n 1, 1) := dk_27 (dk_at dksX3_laysWord_0 17 rfl rfl)
theorem dX3_laysWord_18 : decode cX3_laysWord 18 = .ok (.bipush 24, 2) := dk_16 24 (dk_at dksX3_laysWord_0 18 rfl rfl)
theorem dX3_laysWord_20 : decode cX3_laysWord 20 = .ok (.bipush 8, 2) := dk_16 8 (dk_at dksX3_laysWord_0 20 rfl rfl)
theorem dX3_laysWord_22 : decode cX3_laysWord 22 = .ok (.iload_n 2, 1) := dk_28 (dk_at dksX3_laysWord_0 22 rfl rfl)
theorem dX3_laysWord_23 : decode cX3_laysWord 23 = .ok (.imul, 1) := dk_104 (dk_at dksX3_laysWord_0 23 rfl rfl)
theorem dX3_laysWord_24 : decode cX3_laysWord 24 = .ok (.isub, 1) := dk_100 (dk_at dksX3_laysWord_1 0 rfl rfl)
theorem dX3_laysWord_25 : decode cX3_laysWord 25 = .ok (.ishr, 1) := dk_122 (dk_at dksX3_laysWord_1 1 rfl rfl)
theorem dX3_laysWord_26 : decode cX3_laysWord 26 = .ok (.sipush 255, 3) := dk_17 0 255 (dk_at dksX3_laysWord_1 2 rfl rfl)
theorem dX3_laysWord_29 : decode cX3_laysWord 29 = .ok (.iand, 1) := dk_126 (dk_at dksX3_laysWord_1 5 rfl rfl)
theorem dX3_laysWord_30 : decode cX3_laysWord 30 = .ok (.iastore, 1) := dk_79 (dk_at dksX3_laysWord_1 6 rfl rfl)
theorem dX3_laysWord_31 : decode cX3_laysWord 31 = .ok (.iinc 2 1, 3) := dk_132 2 1 (dk_at dksX3_laysWord_1 7 rfl rfl)
theorem dX3_laysWord_34 : decode cX3_laysWord 34 = .ok (.goto (-32), 3) := dk_167 255 224 (dk_at dksX3_laysWord_1 10 rfl rfl)
theorem dX3_laysWord_37 : decode cX3_laysWord 37 = .ok (.aload_n 0, 1) := dk_42 (dk_at dksX3_laysWord_1 13 rfl rfl)
theorem dX3_laysWord_38 : decode cX3_laysWord 38 = .ok (.dup, 1) := dk_89 (dk_at dksX3_laysWord_1 14 rfl rfl)
theorem dX3_laysWord_39 : decode cX3_laysWord 39 = .ok (.getfield 47, 3) := dk_180 0 47 (dk_at dksX3_laysWord_1 15 rfl rfl)
theorem dX3_laysWord_42 : decode cX3_laysWord 42 = .ok (.iconst 4, 1) := dk_7 (dk_at dksX3_laysWord_1 18 rfl rfl)
theorem dX3_laysWord_43 : decode cX3_laysWord 43 = .ok (.iadd, 1) := dk_96 (dk_at dksX3_laysWord_1 19 rfl rfl)
theorem dX3_laysWord_44 : decode cX3_laysWord 44 = .ok (.putfield 47, 3) := dk_181 0 47 (dk_at dksX3_laysWord_1 20 rfl rfl)
theorem dX3_laysWord_47 : decode cX3_laysWord 47 = .ok (.return_, 1) := dk_177 (dk_at dksX3_laysWord_1 23 rfl rfl)
abbrev cX3_tester : ByteArray := prog_14_method_23_code
def yX3_tester : MethodName := ⟨RX3, "tester", "(I)I"⟩
def dkwX3_tester_4 : List UInt8 := [4, 181, 0, 168, 42, 3, 181, 0, 171, 42, 182, 0, 174, 42, 180, 0, 23, 3, 46, 172]
abbrev dktX3_tester_4 : List UInt8 := dkwX3_tester_4 ++ []
def dkwX3_tester_3 : List UInt8 := [16, 42, 162, 0, 21, 42, 180, 0, 17, 28, 42, 180, 0, 20, 28, 46, 79, 132, 2, 1, 167, 255, 235, 42]
abbrev dktX3_tester_3 : List UInt8 := dkwX3_tester_3 ++ dktX3_tester_4
def dkwX3_tester_2 : List UInt8 := [180, 0, 87, 181, 0, 159, 42, 42, 180, 0, 90, 181, 0, 9, 42, 7, 182, 0, 165, 172, 3, 61, 28]
abbrev dktX3_tester_2 : List UInt8 := dkwX3_tester_2 ++ dktX3_tester_3
def dkwX3_tester_1 : List UInt8 := [2, 172, 42, 3, 181, 0, 47, 42, 3, 181, 0, 159, 42, 27, 182, 0, 162, 154, 0, 25, 42, 42]
abbrev dktX3_tester_1 : List UInt8 := dkwX3_tester_1 ++ dktX3_tester_2
def dkwX3_tester_0 : List UInt8 := [42, 27, 3, 42, 180, 0, 47, 184, 0, 70, 153, 0, 7, 3, 167, 0, 4, 5, 182, 0, 156, 153, 0, 5]
abbrev dktX3_tester_0 : List UInt8 := dkwX3_tester_0 ++ dktX3_tester_1
theorem dksX3_tester_0 : cX3_tester.data.toList.drop 0 = dktX3_tester_0 := by decide +kernel
theorem dksX3_tester_1 : cX3_tester.data.toList.drop 24 = dktX3_tester_1 := dk_seg dksX3_tester_0 24 rfl rfl
theorem dksX3_tester_2 : cX3_tester.data.toList.drop 46 = dktX3_tester_2 := dk_seg dksX3_tester_1 22 rfl rfl
theorem dksX3_tester_3 : cX3_tester.data.toList.drop 69 = dktX3_tester_3 := dk_seg dksX3_tester_2 23 rfl rfl
theorem dksX3_tester_4 : cX3_tester.data.toList.drop 93 = dktX3_tester_4 := dk_seg dksX3_tester_3 24 rfl rfl
theorem dX3_tester_0 : decode cX3_tester 0 = .ok (.aload_n 0, 1) := dk_42 (dk_at dksX3_tester_0 0 rfl rfl)
theorem dX3_tester_1 : decode cX3_tester 1 = .ok (.iload_n 1, 1) := dk_27 (dk_at dksX3_tester_0 1 rfl rfl)
theorem dX3_tester_2 : decode cX3_tester 2 = .ok (.iconst 0, 1) := dk_3 (dk_at dksX3_tester_0 2 rfl rfl)
theorem dX3_tester_3 : decode cX3_tester 3 = .ok (.aload_n 0, 1) := dk_42 (dk_at dksX3_tester_0 3 rfl rfl)
theorem dX3_tester_4 : decode cX3_tester 4 = .ok (.getfield 47, 3) := dk_180 0 47 (dk_at dksX3_tester_0 4 rfl rfl)
theorem dX3_tester_7 : decode cX3_tester 7 = .ok (.invokestatic 70, 3) := dk_184 0 70 (dk_at dksX3_tester_0 7 rfl rfl)
theorem dX3_tester_10 : decode cX3_tester 10 = .ok (.ifCond .eq 7, 3) := dk_153 0 7 (dk_at dksX3_tester_0 10 rfl rfl)
theorem dX3_tester_13 : decode cX3_tester 13 = .ok (.iconst 0, 1) := dk_3 (dk_at dksX3_tester_0 13 rfl rfl)
theorem dX3_tester_14 : decode cX3_tester 14 = .ok (.goto 4, 3) := dk_167 0 4 (dk_at dksX3_tester_0 14 rfl rfl)
theorem dX3_tester_17 : decode cX3_tester 17 = .ok (.iconst 2, 1) := dk_5 (dk_at dksX3_tester_0 17 rfl rfl)
theorem dX3_tester_18 : decode cX3_tester 18 = .ok (.invokevirtual 156, 3) := dk_182 0 156 (dk_at dksX3_tester_0 18 rfl rfl)
theorem dX3_tester_21 : decode cX3_tester 21 = .ok (.ifCond .eq 5, 3) := dk_153 0 5 (dk_at dksX3_tester_0 21 rfl rfl)
theorem dX3_tester_24 : decode cX3_tester 24 = .ok (.iconst (-1), 1) := dk_2 (dk_at dksX3_tester_1 0 rfl rfl)
theorem dX3_tester_25 : decode cX3_tester 25 = .ok (.ireturn, 1) := dk_172 (dk_at dksX3_tester_1 1 rfl rfl)
theorem dX3_tester_26 : decode cX3_tester 26 = .ok (.aload_n 0, 1) := dk_42 (dk_at dksX3_tester_1 2 rfl rfl)
theorem dX3_tester_27 : decode cX3_tester 27 = .ok (.iconst 0, 1) := dk_3 (dk_at dksX3_tester_1 3 rfl rfl)
theorem dX3_tester_28 : decode cX3_tester 28 = .ok (.putfield 47, 3) := dk_181 0 47 (dk_at dksX3_tester_1 4 rfl rfl)
theorem dX3_tester_31 : decode cX3_tester 31 = .ok (.aload_n 0, 1) := dk_42 (dk_at dksX3_tester_1 7 rfl rfl)
theorem dX3_tester_32 : decode cX3_tester 32 = .ok (.iconst 0, 1) := dk_3 (dk_at dksX3_tester_1 8 rfl rfl)
theorem dX3_tester_33 : decode cX3_tester 33 = .ok (.putfield 159, 3) := dk_181 0 159 (dk_at dksX3_tester_1 9 rfl rfl)
theorem dX3_tester_36 : decode cX3_tester 36 = .ok (.aload_n 0, 1) := dk_42 (dk_at dksX3_tester_1 12 rfl rfl)
theorem dX3_tester_37 : decode cX3_tester 37 = .ok (.iload_n 1, 1) := dk_27 (dk_at dksX3_tester_1 13 rfl rfl)
theorem dX3_tester_38 : decode cX3_tester 38 = .ok (.invokevirtual 162, 3) := dk_182 0 162 (dk_at dksX3_tester_1 14 rfl rfl)
theorem dX3_tester_41 : decode cX3_tester 41 = .ok (.ifCond .ne 25, 3) := dk_154 0 25 (dk_at dksX3_tester_1 17 rfl rfl)
theorem dX3_tester_44 : decode cX3_tester 44 = .ok (.aload_n 0, 1) := dk_42 (dk_at dksX3_tester_1 20 rfl rfl)
theorem dX3_tester_45 : decode cX3_tester 45 = .ok (.aload_n 0, 1) := dk_42 (dk_at dksX3_tester_1 21 rfl rfl)
theorem dX3_tester_46 : decode cX3_tester 46 = .ok (.getfield 87, 3) := dk_180 0 87 (dk_at dksX3_tester_2 0 rfl rfl)
theorem dX3_tester_49 : decode cX3_tester 49 = .ok (.putfield 159, 3) := dk_181 0 159 (dk_at dksX3_tester_2 3 rfl rfl)
theorem dX3_tester_52 : decode cX3_tester 52 = .ok (.aload_n 0, 1) := dk_42 (dk_at dksX3_tester_2 6 rfl rfl)
theorem dX3_tester_53 : decode cX3_tester 53 = .ok (.aload_n 0, 1) := dk_42 (dk_at dksX3_tester_2 7 rfl rfl)
theorem dX3_tester_54 : decode cX3_tester 54 = .ok (.getfield 90, 3) := dk_180 0 90 (dk_at dksX3_tester_2 8 rfl rfl)
theorem dX3_tester_57 : decode cX3_tester 57 = .ok (.putfield 9, 3) := dk_181 0 9 (dk_at dksX3_tester_2 11 rfl rfl)
theorem dX3_tester_60 : decode cX3_tester 60 = .ok (.aload_n 0, 1) := dk_42 (dk_at dksX3_tester_2 14 rfl rfl)
theorem dX3_tester_61 : decode cX3_tester 61 = .ok (.iconst 4, 1) := dk_7 (dk_at dksX3_tester_2 15 rfl rfl)
theorem dX3_tester_62 : decode cX3_tester 62 = .ok (.invokevirtual 165, 3) := dk_182 0 165 (dk_at dksX3_tester_2 16 rfl rfl)
theorem dX3_tester_65 : decode cX3_tester 65 = .ok (.ireturn, 1) := dk_172 (dk_at dksX3_tester_2 19 rfl rfl)
theorem dX3_tester_66 : decode cX3_tester 66 = .ok (.iconst 0, 1) := dk_3 (dk_at dksX3_tester_2 20 rfl rfl)
theorem dX3_tester_67 : decode cX3_tester 67 = .ok (.istore_n 2, 1) := dk_61 (dk_at dksX3_tester_2 21 rfl rfl)
theorem dX3_tester_68 : decode cX3_tester 68 = .ok (.iload_n 2, 1) := dk_28 (dk_at dksX3_tester_2 22 rfl rfl)
theorem dX3_tester_69 : decode cX3_tester 69 = .ok (.bipush 42, 2) := dk_16 42 (dk_at dksX3_tester_3 0 rfl rfl)
theorem dX3_tester_71 : decode cX3_tester 71 = .ok (.if_icmp .ge 21, 3) := dk_162 0 21 (dk_at dksX3_tester_3 2 rfl rfl)
theorem dX3_tester_74 : decode cX3_tester 74 = .ok (.aload_n 0, 1) := dk_42 (dk_at dksX3_tester_3 5 rfl rfl)
theorem dX3_tester_75 : decode cX3_tester 75 = .ok (.getfield 17, 3) := dk_180 0 17 (dk_at dksX3_tester_3 6 rfl rfl)
theorem dX3_tester_78 : decode cX3_tester 78 = .ok (.iload_n 2, 1) := dk_28 (dk_at dksX3_tester_3 9 rfl rfl)
theorem dX3_tester_79 : decode cX3_tester 79 = .ok (.aload_n 0, 1) := dk_42 (dk_at dksX3_tester_3 10 rfl rfl)
theorem dX3_tester_80 : decode cX3_tester 80 = .ok (.getfield 20, 3) := dk_180 0 20 (dk_at dksX3_tester_3 11 rfl rfl)
theorem dX3_tester_83 : decode cX3_tester 83 = .ok (.iload_n 2, 1) := dk_28 (dk_at dksX3_tester_3 14 rfl rfl)
theorem dX3_tester_84 : decode cX3_tester 84 = .ok (.iaload, 1) := dk_46 (dk_at dksX3_tester_3 15 rfl rfl)
theorem dX3_tester_85 : decode cX3_tester 85 = .ok (.iastore, 1) := dk_79 (dk_at dksX3_tester_3 16 rfl rfl)
theorem dX3_tester_86 : decode cX3_tester 86 = .ok (.iinc 2 1, 3) := dk_132 2 1 (dk_at dksX3_tester_3 17 rfl rfl)
theorem dX3_tester_89 : decode cX3_tester 89 = .ok (.goto (-21), 3) := dk_167 255 235 (dk_at dksX3_tester_3 20 rfl rfl)
theorem dX3_tester_92 : decode cX3_tester 92 = .ok (.aload_n 0, 1) := dk_42 (dk_at dksX3_tester_3 23 rfl rfl)
theorem dX3_tester_93 : decode cX3_tester 93 = .ok (.iconst 1, 1) := dk_4 (dk_at dksX3_tester_4 0 rfl rfl)
theorem dX3_tester_94 : decode cX3_tester 94 = .ok (.putfield 168, 3) := dk_181 0 168 (dk_at dksX3_tester_4 1 rfl rfl)
theorem dX3_tester_97 : decode cX3_tester 97 = .ok (.aload_n 0, 1) := dk_42 (dk_at dksX3_tester_4 4 rfl rfl)
theorem dX3_tester_98 : decode cX3_tester 98 = .ok (.iconst 0, 1) := dk_3 (dk_at dksX3_tester_4 5 rfl rfl)
theorem dX3_tester_99 : decode cX3_tester 99 = .ok (.putfield 171, 3) := dk_181 0 171 (dk_at dksX3_tester_4 6 rfl rfl)
theorem dX3_tester_102 : decode cX3_tester 102 = .ok (.aload_n 0, 1) := dk_42 (dk_at dksX3_tester_4 9 rfl rfl)
theorem dX3_tester_103 : decode cX3_tester 103 = .ok (.invokevirtual 174, 3) := dk_182 0 174 (dk_at dksX3_tester_4 10 rfl rfl)
theorem dX3_tester_106 : decode cX3_tester 106 = .ok (.aload_n 0, 1) := dk_42 (dk_at dksX3_tester_4 13 rfl rfl)
theorem dX3_tester_107 : decode cX3_tester 107 = .ok (.getfield 23, 3) := dk_180 0 23 (dk_at dksX3_tester_4 14 rfl rfl)
theorem dX3_tester_110 : decode cX3_tester 110 = .ok (.iconst 0, 1) := dk_3 (dk_at dksX3_tester_4 17 rfl rfl)
theorem dX3_tester_111 : decode cX3_tester 111 = .ok (.iaload, 1) := dk_46 (dk_at dksX3_tester_4 18 rfl rfl)
theorem dX3_tester_112 : decode cX3_tester 112 = .ok (.ireturn, 1) := dk_172 (dk_at dksX3_tester_4 19 rfl rfl)
abbrev cX3_in : ByteArray := prog_14_method_3_code
def yX3_in : MethodName := ⟨RX3, "in", "(III)Z"⟩
def dkwX3_in_0 : List UInt8 := [26, 27, 161, 0, 12, 26, 28, 163, 0, 7, 4, 167, 0, 4, 3, 172]
abbrev dktX3_in_0 : List UInt8 := dkwX3_in_0 ++ []
theorem dksX3_in_0 : cX3_in.data.toList.drop 0 = dktX3_in_0 := by decide +kernel
theorem dX3_in_0 : decode cX3_in 0 = .ok (.iload_n 0, 1) := dk_26 (dk_at dksX3_in_0 0 rfl rfl)
theorem dX3_in_1 : decode cX3_in 1 = .ok (.iload_n 1, 1) := dk_27 (dk_at dksX3_in_0 1 rfl rfl)
theorem dX3_in_2 : decode cX3_in 2 = .ok (.if_icmp .lt 12, 3) := dk_161 0 12 (dk_at dksX3_in_0 2 rfl rfl)
theorem dX3_in_5 : decode cX3_in 5 = .ok (.iload_n 0, 1) := dk_26 (dk_at dksX3_in_0 5 rfl rfl)
theorem dX3_in_6 : decode cX3_in 6 = .ok (.iload_n 2, 1) := dk_28 (dk_at dksX3_in_0 6 rfl rfl)
theorem dX3_in_7 : decode cX3_in 7 = .ok (.if_icmp .gt 7, 3) := dk_163 0 7 (dk_at dksX3_in_0 7 rfl rfl)
theorem dX3_in_10 : decode cX3_in 10 = .ok (.iconst 1, 1) := dk_4 (dk_at dksX3_in_0 10 rfl rfl)
theorem dX3_in_11 : decode cX3_in 11 = .ok (.goto 4, 3) := dk_167 0 4 (dk_at dksX3_in_0 11 rfl rfl)
theorem dX3_in_14 : decode cX3_in 14 = .ok (.iconst 0, 1) := dk_3 (dk_at dksX3_in_0 14 rfl rfl)
theorem dX3_in_15 : decode cX3_in 15 = .ok (.ireturn, 1) := dk_172 (dk_at dksX3_in_0 15 rfl rfl)
abbrev cX3_isRefused : ByteArray := prog_14_method_6_code
def yX3_isRefused : MethodName := ⟨RX3, "isRefused", "(I)Z"⟩
def dkwX3_isRefused_1 : List UInt8 := [172]
abbrev dktX3_isRefused_1 : List UInt8 := dkwX3_isRefused_1 ++ []
def dkwX3_isRefused_0 : List UInt8 := [42, 3, 181, 0, 41, 42, 2, 181, 0, 9, 42, 27, 181, 0, 44, 27, 153, 0, 7, 4, 167, 0, 4, 3]
abbrev dktX3_isRefused_0 : List UInt8 := dkwX3_isRefused_0 ++ dktX3_isRefused_1
theorem dksX3_isRefused_0 : cX3_isRefused.data.toList.drop 0 = dktX3_isRefused_0 := by decide +kernel
theorem dksX3_isRefused_1 : cX3_isRefused.data.toList.drop 24 = dktX3_isRefused_1 := dk_seg dksX3_isRefused_0 24 rfl rfl
theorem dX3_isRefused_0 : decode cX3_isRefused 0 = .ok (.aload_n 0, 1) := dk_42 (dk_at dksX3_isRefused_0 0 rfl rfl)
theorem dX3_isRefused_1 : decode cX3_isRefused 1 = .ok (.iconst 0, 1) := dk_3 (dk_at dksX3_isRefused_0 1 rfl rfl)
theorem dX3_isRefused_2 : decode cX3_isRefused 2 = .ok (.putfield 41, 3) := dk_181 0 41 (dk_at dksX3_isRefused_0 2 rfl rfl)
theorem dX3_isRefused_5 : decode cX3_isRefused 5 = .ok (.aload_n 0, 1) := dk_42 (dk_at dksX3_isRefused_0 5 rfl rfl)
theorem dX3_isRefused_6 : decode cX3_isRefused 6 = .ok (.iconst (-1), 1) := dk_2 (dk_at dksX3_isRefused_0 6 rfl rfl)
theorem dX3_isRefused_7 : decode cX3_isRefused 7 = .ok (.putfield 9, 3) := dk_181 0 9 (dk_at dksX3_isRefused_0 7 rfl rfl)
theorem dX3_isRefused_10 : decode cX3_isRefused 10 = .ok (.aload_n 0, 1) := dk_42 (dk_at dksX3_isRefused_0 10 rfl rfl)
theorem dX3_isRefused_11 : decode cX3_isRefused 11 = .ok (.iload_n 1, 1) := dk_27 (dk_at dksX3_isRefused_0 11 rfl rfl)
theorem dX3_isRefused_12 : decode cX3_isRefused 12 = .ok (.putfield 44, 3) := dk_181 0 44 (dk_at dksX3_isRefused_0 12 rfl rfl)
theorem dX3_isRefused_15 : decode cX3_isRefused 15 = .ok (.iload_n 1, 1) := dk_27 (dk_at dksX3_isRefused_0 15 rfl rfl)
theorem dX3_isRefused_16 : decode cX3_isRefused 16 = .ok (.ifCond .eq 7, 3) := dk_153 0 7 (dk_at dksX3_isRefused_0 16 rfl rfl)
theorem dX3_isRefused_19 : decode cX3_isRefused 19 = .ok (.iconst 1, 1) := dk_4 (dk_at dksX3_isRefused_0 19 rfl rfl)
theorem dX3_isRefused_20 : decode cX3_isRefused 20 = .ok (.goto 4, 3) := dk_167 0 4 (dk_at dksX3_isRefused_0 20 rfl rfl)
theorem dX3_isRefused_23 : decode cX3_isRefused 23 = .ok (.iconst 0, 1) := dk_3 (dk_at dksX3_isRefused_0 23 rfl rfl)
theorem dX3_isRefused_24 : decode cX3_isRefused 24 = .ok (.ireturn, 1) := dk_172 (dk_at dksX3_isRefused_1 0 rfl rfl)
abbrev cX3_readAll : ByteArray := prog_14_method_22_code
def yX3_readAll : MethodName := ⟨RX3, "readAll", "(I)Z"⟩
def dkwX3_readAll_4 : List UInt8 := [182, 0, 93, 153, 0, 7, 4, 167, 0, 4, 3, 172]
abbrev dktX3_readAll_4 : List UInt8 := dkwX3_readAll_4 ++ []
def dkwX3_readAll_3 : List UInt8 := [4, 182, 0, 93, 172, 42, 180, 0, 110, 153, 0, 11, 42, 180, 0, 128, 6, 159, 0, 12, 42, 16, 6]
abbrev dktX3_readAll_3 : List UInt8 := dkwX3_readAll_3 ++ dktX3_readAll_4
def dkwX3_readAll_2 : List UInt8 := [160, 0, 16, 42, 182, 0, 97, 42, 182, 0, 153, 154, 255, 239, 3, 172, 42, 180, 0, 67, 153, 0, 9, 42]
abbrev dktX3_readAll_2 : List UInt8 := dkwX3_readAll_2 ++ dktX3_readAll_3
def dkwX3_readAll_1 : List UInt8 := [8, 3, 79, 42, 182, 0, 97, 42, 182, 0, 153, 154, 0, 5, 3, 172, 42, 180, 0, 67, 16, 59]
abbrev dktX3_readAll_1 : List UInt8 := dkwX3_readAll_1 ++ dktX3_readAll_2
def dkwX3_readAll_0 : List UInt8 := [42, 27, 181, 0, 54, 42, 3, 181, 0, 57, 42, 3, 181, 0, 110, 42, 3, 181, 0, 128, 42, 180, 0, 20]
abbrev dktX3_readAll_0 : List UInt8 := dkwX3_readAll_0 ++ dktX3_readAll_1
theorem dksX3_readAll_0 : cX3_readAll.data.toList.drop 0 = dktX3_readAll_0 := by decide +kernel
theorem dksX3_readAll_1 : cX3_readAll.data.toList.drop 24 = dktX3_readAll_1 := dk_seg dksX3_readAll_0 24 rfl rfl
theorem dksX3_readAll_2 : cX3_readAll.data.toList.drop 46 = dktX3_readAll_2 := dk_seg dksX3_readAll_1 22 rfl rfl
theorem dksX3_readAll_3 : cX3_readAll.data.toList.drop 70 = dktX3_readAll_3 := dk_seg dksX3_readAll_2 24 rfl rfl
theorem dksX3_readAll_4 : cX3_readAll.data.toList.drop 93 = dktX3_readAll_4 := dk_seg dksX3_readAll_3 23 rfl rfl
theorem dX3_readAll_0 : decode cX3_readAll 0 = .ok (.aload_n 0, 1) := dk_42 (dk_at dksX3_readAll_0 0 rfl rfl)
theorem dX3_readAll_1 : decode cX3_readAll 1 = .ok (.iload_n 1, 1) := dk_27 (dk_at dksX3_readAll_0 1 rfl rfl)
theorem dX3_readAll_2 : decode cX3_readAll 2 = .ok (.putfield 54, 3) := dk_181 0 54 (dk_at dksX3_readAll_0 2 rfl rfl)
theorem dX3_readAll_5 : decode cX3_readAll 5 = .ok (.aload_n 0, 1) := dk_42 (dk_at dksX3_readAll_0 5 rfl rfl)
theorem dX3_readAll_6 : decode cX3_readAll 6 = .ok (.iconst 0, 1) := dk_3 (dk_at dksX3_readAll_0 6 rfl rfl)
theorem dX3_readAll_7 : decode cX3_readAll 7 = .ok (.putfield 57, 3) := dk_181 0 57 (dk_at dksX3_readAll_0 7 rfl rfl)
theorem dX3_readAll_10 : decode cX3_readAll 10 = .ok (.aload_n 0, 1) := dk_42 (dk_at dksX3_readAll_0 10 rfl rfl)
theorem dX3_readAll_11 : decode cX3_readAll 11 = .ok (.iconst 0, 1) := dk_3 (dk_at dksX3_readAll_0 11 rfl rfl)
theorem dX3_readAll_12 : decode cX3_readAll 12 = .ok (.putfield 110, 3) := dk_181 0 110 (dk_at dksX3_readAll_0 12 rfl rfl)
theorem dX3_readAll_15 : decode cX3_readAll 15 = .ok (.aload_n 0, 1) := dk_42 (dk_at dksX3_readAll_0 15 rfl rfl)
theorem dX3_readAll_16 : decode cX3_readAll 16 = .ok (.iconst 0, 1) := dk_3 (dk_at dksX3_readAll_0 16 rfl rfl)
theorem dX3_readAll_17 : decode cX3_readAll 17 = .ok (.putfield 128, 3) := dk_181 0 128 (dk_at dksX3_readAll_0 17 rfl rfl)
theorem dX3_readAll_20 : decode cX3_readAll 20 = .ok (.aload_n 0, 1) := dk_42 (dk_at dksX3_readAll_0 20 rfl rfl)
theorem dX3_readAll_21 : decode cX3_readAll 21 = .ok (.getfield 20, 3) := dk_180 0 20 (dk_at dksX3_readAll_0 21 rfl rfl)
theorem dX3_readAll_24 : decode cX3_readAll 24 = .ok (.iconst 5, 1) := dk_8 (dk_at dksX3_readAll_1 0 rfl rfl)
theorem dX3_readAll_25 : decode cX3_readAll 25 = .ok (.iconst 0, 1) := dk_3 (dk_at dksX3_readAll_1 1 rfl rfl)
theorem dX3_readAll_26 : decode cX3_readAll 26 = .ok (.iastore, 1) := dk_79 (dk_at dksX3_readAll_1 2 rfl rfl)
theorem dX3_readAll_27 : decode cX3_readAll 27 = .ok (.aload_n 0, 1) := dk_42 (dk_at dksX3_readAll_1 3 rfl rfl)
theorem dX3_readAll_28 : decode cX3_readAll 28 = .ok (.invokevirtual 97, 3) := dk_182 0 97 (dk_at dksX3_readAll_1 4 rfl rfl)
theorem dX3_readAll_31 : decode cX3_readAll 31 = .ok (.aload_n 0, 1) := dk_42 (dk_at dksX3_readAll_1 7 rfl rfl)
theorem dX3_readAll_32 : decode cX3_readAll 32 = .ok (.invokevirtual 153, 3) := dk_182 0 153 (dk_at dksX3_readAll_1 8 rfl rfl)
theorem dX3_readAll_35 : decode cX3_readAll 35 = .ok (.ifCond .ne 5, 3) := dk_154 0 5 (dk_at dksX3_readAll_1 11 rfl rfl)
theorem dX3_readAll_38 : decode cX3_readAll 38 = .ok (.iconst 0, 1) := dk_3 (dk_at dksX3_readAll_1 14 rfl rfl)
theorem dX3_readAll_39 : decode cX3_readAll 39 = .ok (.ireturn, 1) := dk_172 (dk_at dksX3_readAll_1 15 rfl rfl)
theorem dX3_readAll_40 : decode cX3_readAll 40 = .ok (.aload_n 0, 1) := dk_42 (dk_at dksX3_readAll_1 16 rfl rfl)
theorem dX3_readAll_41 : decode cX3_readAll 41 = .ok (.getfield 67, 3) := dk_180 0 67 (dk_at dksX3_readAll_1 17 rfl rfl)
theorem dX3_readAll_44 : decode cX3_readAll 44 = .ok (.bipush 59, 2) := dk_16 59 (dk_at dksX3_readAll_1 20 rfl rfl)
theorem dX3_readAll_46 : decode cX3_readAll 46 = .ok (.if_icmp .ne 16, 3) := dk_160 0 16 (dk_at dksX3_readAll_2 0 rfl rfl)
theorem dX3_readAll_49 : decode cX3_readAll 49 = .ok (.aload_n 0, 1) := dk_42 (dk_at dksX3_readAll_2 3 rfl rfl)
theorem dX3_readAll_50 : decode cX3_readAll 50 = .ok (.invokevirtual 97, 3) := dk_182 0 97 (dk_at dksX3_readAll_2 4 rfl rfl)
theorem dX3_readAll_53 : decode cX3_readAll 53 = .ok (.aload_n 0, 1) := dk_42 (dk_at dksX3_readAll_2 7 rfl rfl)
theorem dX3_readAll_54 : decode cX3_readAll 54 = .ok (.invokevirtual 153, 3) := dk_182 0 153 (dk_at dksX3_readAll_2 8 rfl rfl)
theorem dX3_readAll_57 : decode cX3_readAll 57 = .ok (.ifCond .ne (-17), 3) := dk_154 255 239 (dk_at dksX3_readAll_2 11 rfl rfl)
theorem dX3_readAll_60 : decode cX3_readAll 60 = .ok (.iconst 0, 1) := dk_3 (dk_at dksX3_readAll_2 14 rfl rfl)
theorem dX3_readAll_61 : decode cX3_readAll 61 = .ok (.ireturn, 1) := dk_172 (dk_at dksX3_readAll_2 15 rfl rfl)
theorem dX3_readAll_62 : decode cX3_readAll 62 = .ok (.aload_n 0, 1) := dk_42 (dk_at dksX3_readAll_2 16 rfl rfl)
theorem dX3_readAll_63 : decode cX3_readAll 63 = .ok (.getfield 67, 3) := dk_180 0 67 (dk_at dksX3_readAll_2 17 rfl rfl)
theorem dX3_readAll_66 : decode cX3_readAll 66 = .ok (.ifCond .eq 9, 3) := dk_153 0 9 (dk_at dksX3_readAll_2 20 rfl rfl)
theorem dX3_readAll_69 : decode cX3_readAll 69 = .ok (.aload_n 0, 1) := dk_42 (dk_at dksX3_readAll_2 23 rfl rfl)
theorem dX3_readAll_70 : decode cX3_readAll 70 = .ok (.iconst 1, 1) := dk_4 (dk_at dksX3_readAll_3 0 rfl rfl)
theorem dX3_readAll_71 : decode cX3_readAll 71 = .ok (.invokevirtual 93, 3) := dk_182 0 93 (dk_at dksX3_readAll_3 1 rfl rfl)
theorem dX3_readAll_74 : decode cX3_readAll 74 = .ok (.ireturn, 1) := dk_172 (dk_at dksX3_readAll_3 4 rfl rfl)
theorem dX3_readAll_75 : decode cX3_readAll 75 = .ok (.aload_n 0, 1) := dk_42 (dk_at dksX3_readAll_3 5 rfl rfl)
theorem dX3_readAll_76 : decode cX3_readAll 76 = .ok (.getfield 110, 3) := dk_180 0 110 (dk_at dksX3_readAll_3 6 rfl rfl)
theorem dX3_readAll_79 : decode cX3_readAll 79 = .ok (.ifCond .eq 11, 3) := dk_153 0 11 (dk_at dksX3_readAll_3 9 rfl rfl)
theorem dX3_readAll_82 : decode cX3_readAll 82 = .ok (.aload_n 0, 1) := dk_42 (dk_at dksX3_readAll_3 12 rfl rfl)
theorem dX3_readAll_83 : decode cX3_readAll 83 = .ok (.getfield 128, 3) := dk_180 0 128 (dk_at dksX3_readAll_3 13 rfl rfl)
theorem dX3_readAll_86 : decode cX3_readAll 86 = .ok (.iconst 3, 1) := dk_6 (dk_at dksX3_readAll_3 16 rfl rfl)
theorem dX3_readAll_87 : decode cX3_readAll 87 = .ok (.if_icmp .eq 12, 3) := dk_159 0 12 (dk_at dksX3_readAll_3 17 rfl rfl)
theorem dX3_readAll_90 : decode cX3_readAll 90 = .ok (.aload_n 0, 1) := dk_42 (dk_at dksX3_readAll_3 20 rfl rfl)
theorem dX3_readAll_91 : decode cX3_readAll 91 = .ok (.bipush 6, 2) := dk_16 6 (dk_at dksX3_readAll_3 21 rfl rfl)
theorem dX3_readAll_93 : decode cX3_readAll 93 = .ok (.invokevirtual 93, 3) := dk_182 0 93 (dk_at dksX3_readAll_4 0 rfl rfl)
theorem dX3_readAll_96 : decode cX3_readAll 96 = .ok (.ifCond .eq 7, 3) := dk_153 0 7 (dk_at dksX3_readAll_4 3 rfl rfl)
theorem dX3_readAll_99 : decode cX3_readAll 99 = .ok (.iconst 1, 1) := dk_4 (dk_at dksX3_readAll_4 6 rfl rfl)
theorem dX3_readAll_100 : decode cX3_readAll 100 = .ok (.goto 4, 3) := dk_167 0 4 (dk_at dksX3_readAll_4 7 rfl rfl)
theorem dX3_readAll_103 : decode cX3_readAll 103 = .ok (.iconst 0, 1) := dk_3 (dk_at dksX3_readAll_4 10 rfl rfl)
theorem dX3_readAll_104 : decode cX3_readAll 104 = .ok (.ireturn, 1) := dk_172 (dk_at dksX3_readAll_4 11 rfl rfl)
abbrev cX3_goesOn : ByteArray := prog_14_method_12_code
def yX3_goesOn : MethodName := ⟨RX3, "goesOn", "()V"⟩
def dkwX3_goesOn_11 : List UInt8 := [167, 0, 4, 4, 181, 0, 67, 177]
abbrev dktX3_goesOn_11 : List UInt8 := dkwX3_goesOn_11 ++ []
def dkwX3_goesOn_10 : List UInt8 := [181, 0, 67, 177, 42, 89, 180, 0, 57, 4, 96, 181, 0, 57, 42, 27, 16, 59, 160, 0, 7, 27]
abbrev dktX3_goesOn_10 : List UInt8 := dkwX3_goesOn_10 ++ dktX3_goesOn_11
def dkwX3_goesOn_9 : List UInt8 := [167, 255, 185, 42, 42, 180, 0, 57, 42, 180, 0, 64, 100, 6, 164, 0, 7, 4, 167, 0, 4, 6]
abbrev dktX3_goesOn_9 : List UInt8 := dkwX3_goesOn_9 ++ dktX3_goesOn_10
def dkwX3_goesOn_8 : List UInt8 := [16, 48, 100, 167, 0, 7, 42, 180, 0, 74, 181, 0, 74, 42, 89, 180, 0, 57, 4, 96, 181, 0, 57]
abbrev dktX3_goesOn_8 : List UInt8 := dkwX3_goesOn_8 ++ dktX3_goesOn_9
def dkwX3_goesOn_7 : List UInt8 := [180, 0, 64, 100, 6, 162, 0, 25, 16, 10, 42, 180, 0, 74, 104, 42, 42, 180, 0, 57, 182, 0, 60, 96]
abbrev dktX3_goesOn_7 : List UInt8 := dkwX3_goesOn_7 ++ dktX3_goesOn_8
def dkwX3_goesOn_6 : List UInt8 := [42, 42, 180, 0, 57, 182, 0, 60, 16, 48, 16, 57, 184, 0, 70, 153, 0, 59, 42, 42, 180, 0, 57, 42]
abbrev dktX3_goesOn_6 : List UInt8 := dkwX3_goesOn_6 ++ dktX3_goesOn_7
def dkwX3_goesOn_5 : List UInt8 := [167, 0, 4, 5, 181, 0, 67, 177, 27, 16, 48, 16, 57, 184, 0, 70, 153, 0, 105, 42, 3, 181, 0, 74]
abbrev dktX3_goesOn_5 : List UInt8 := dkwX3_goesOn_5 ++ dktX3_goesOn_6
def dkwX3_goesOn_4 : List UInt8 := [181, 0, 57, 167, 255, 228, 42, 42, 180, 0, 57, 42, 180, 0, 64, 100, 16, 6, 164, 0, 7, 4]
abbrev dktX3_goesOn_4 : List UInt8 := dkwX3_goesOn_4 ++ dktX3_goesOn_5
def dkwX3_goesOn_3 : List UInt8 := [180, 0, 57, 182, 0, 60, 16, 97, 16, 122, 184, 0, 70, 153, 0, 16, 42, 89, 180, 0, 57, 4, 96]
abbrev dktX3_goesOn_3 : List UInt8 := dkwX3_goesOn_3 ++ dktX3_goesOn_4
def dkwX3_goesOn_2 : List UInt8 := [160, 0, 9, 42, 3, 181, 0, 67, 177, 27, 16, 97, 16, 122, 184, 0, 70, 153, 0, 58, 42, 42]
abbrev dktX3_goesOn_2 : List UInt8 := dkwX3_goesOn_2 ++ dktX3_goesOn_3
def dkwX3_goesOn_1 : List UInt8 := [167, 255, 233, 42, 42, 180, 0, 57, 181, 0, 64, 42, 42, 180, 0, 57, 182, 0, 60, 60, 27, 2]
abbrev dktX3_goesOn_1 : List UInt8 := dkwX3_goesOn_1 ++ dktX3_goesOn_2
def dkwX3_goesOn_0 : List UInt8 := [42, 42, 180, 0, 57, 182, 0, 60, 16, 32, 160, 0, 16, 42, 89, 180, 0, 57, 4, 96, 181, 0, 57]
abbrev dktX3_goesOn_0 : List UInt8 := dkwX3_goesOn_0 ++ dktX3_goesOn_1
theorem dksX3_goesOn_0 : cX3_goesOn.data.toList.drop 0 = dktX3_goesOn_0 := by decide +kernel
theorem dksX3_goesOn_1 : cX3_goesOn.data.toList.drop 23 = dktX3_goesOn_1 := dk_seg dksX3_goesOn_0 23 rfl rfl
theorem dksX3_goesOn_2 : cX3_goesOn.data.toList.drop 45 = dktX3_goesOn_2 := dk_seg dksX3_goesOn_1 22 rfl rfl
theorem dksX3_goesOn_3 : cX3_goesOn.data.toList.drop 67 = dktX3_goesOn_3 := dk_seg dksX3_goesOn_2 22 rfl rfl
theorem dksX3_goesOn_4 : cX3_goesOn.data.toList.drop 90 = dktX3_goesOn_4 := dk_seg dksX3_goesOn_3 23 rfl rfl
theorem dksX3_goesOn_5 : cX3_goesOn.data.toList.drop 112 = dktX3_goesOn_5 := dk_seg dksX3_goesOn_4 22 rfl rfl
theorem dksX3_goesOn_6 : cX3_goesOn.data.toList.drop 136 = dktX3_goesOn_6 := dk_seg dksX3_goesOn_5 24 rfl rfl
theorem dksX3_goesOn_7 : cX3_goesOn.data.toList.drop 160 = dktX3_goesOn_7 := dk_seg dksX3_goesOn_6 24 rfl rfl
theorem dksX3_goesOn_8 : cX3_goesOn.data.toList.drop 184 = dktX3_goesOn_8 := dk_seg dksX3_goesOn_7 24 rfl rfl
theorem dksX3_goesOn_9 : cX3_goesOn.data.toList.drop 207 = dktX3_goesOn_9 := dk_seg dksX3_goesOn_8 23 rfl rfl
theorem dksX3_goesOn_10 : cX3_goesOn.data.toList.drop 229 = dktX3_goesOn_10 := dk_seg dksX3_goesOn_9 22 rfl rfl
theorem dksX3_goesOn_11 : cX3_goesOn.data.toList.drop 251 = dktX3_goesOn_11 := dk_seg dksX3_goesOn_10 22 rfl rfl
theorem dX3_goesOn_0 : decode cX3_goesOn 0 = .ok (.aload_n 0, 1) := dk_42 (dk_at dksX3_goesOn_0 0 rfl rfl)
theorem dX3_goesOn_1 : decode cX3_goesOn 1 = .ok (.aload_n 0, 1) := dk_42 (dk_at dksX3_goesOn_0 1 rfl rfl)
theorem dX3_goesOn_2 : decode cX3_goesOn 2 = .ok (.getfield 57, 3) := dk_180 0 57 (dk_at dksX3_goesOn_0 2 rfl rfl)
theorem dX3_goesOn_5 : decode cX3_goesOn 5 = .ok (.invokevirtual 60, 3) := dk_182 0 60 (dk_at dksX3_goesOn_0 5 rfl rfl)
theorem dX3_goesOn_8 : decode cX3_goesOn 8 = .ok (.bipush 32, 2) := dk_16 32 (dk_at dksX3_goesOn_0 8 rfl rfl)
theorem dX3_goesOn_10 : decode cX3_goesOn 10 = .ok (.if_icmp .ne 16, 3) := dk_160 0 16 (dk_at dksX3_goesOn_0 10 rfl rfl)
theorem dX3_goesOn_13 : decode cX3_goesOn 13 = .ok (.aload_n 0, 1) := dk_42 (dk_at dksX3_goesOn_0 13 rfl rfl)
theorem dX3_goesOn_14 : decode cX3_goesOn 14 = .ok (.dup, 1) := dk_89 (dk_at dksX3_goesOn_0 14 rfl rfl)
theorem dX3_goesOn_15 : decode cX3_goesOn 15 = .ok (.getfield 57, 3) := dk_180 0 57 (dk_at dksX3_goesOn_0 15 rfl rfl)
theorem dX3_goesOn_18 : decode cX3_goesOn 18 = .ok (.iconst 1, 1) := dk_4 (dk_at dksX3_goesOn_0 18 rfl rfl)
theorem dX3_goesOn_19 : decode cX3_goesOn 19 = .ok (.iadd, 1) := dk_96 (dk_at dksX3_goesOn_0 19 rfl rfl)
theorem dX3_goesOn_20 : decode cX3_goesOn 20 = .ok (.putfield 57, 3) := dk_181 0 57 (dk_at dksX3_goesOn_0 20 rfl rfl)
theorem dX3_goesOn_23 : decode cX3_goesOn 23 = .ok (.goto (-23), 3) := dk_167 255 233 (dk_at dksX3_goesOn_1 0 rfl rfl)
theorem dX3_goesOn_26 : decode cX3_goesOn 26 = .ok (.aload_n 0, 1) := dk_42 (dk_at dksX3_goesOn_1 3 rfl rfl)
theorem dX3_goesOn_27 : decode cX3_goesOn 27 = .ok (.aload_n 0, 1) := dk_42 (dk_at dksX3_goesOn_1 4 rfl rfl)
theorem dX3_goesOn_28 : decode cX3_goesOn 28 = .ok (.getfield 57, 3) := dk_180 0 57 (dk_at dksX3_goesOn_1 5 rfl rfl)
theorem dX3_goesOn_31 : decode cX3_goesOn 31 = .ok (.putfield 64, 3) := dk_181 0 64 (dk_at dksX3_goesOn_1 8 rfl rfl)
theorem dX3_goesOn_34 : decode cX3_goesOn 34 = .ok (.aload_n 0, 1) := dk_42 (dk_at dksX3_goesOn_1 11 rfl rfl)
theorem dX3_goesOn_35 : decode cX3_goesOn 35 = .ok (.aload_n 0, 1) := dk_42 (dk_at dksX3_goesOn_1 12 rfl rfl)
theorem dX3_goesOn_36 : decode cX3_goesOn 36 = .ok (.getfield 57, 3) := dk_180 0 57 (dk_at dksX3_goesOn_1 13 rfl rfl)
theorem dX3_goesOn_39 : decode cX3_goesOn 39 = .ok (.invokevirtual 60, 3) := dk_182 0 60 (dk_at dksX3_goesOn_1 16 rfl rfl)
theorem dX3_goesOn_42 : decode cX3_goesOn 42 = .ok (.istore_n 1, 1) := dk_60 (dk_at dksX3_goesOn_1 19 rfl rfl)
theorem dX3_goesOn_43 : decode cX3_goesOn 43 = .ok (.iload_n 1, 1) := dk_27 (dk_at dksX3_goesOn_1 20 rfl rfl)
theorem dX3_goesOn_44 : decode cX3_goesOn 44 = .ok (.iconst (-1), 1) := dk_2 (dk_at dksX3_goesOn_1 21 rfl rfl)
theorem dX3_goesOn_45 : decode cX3_goesOn 45 = .ok (.if_icmp .ne 9, 3) := dk_160 0 9 (dk_at dksX3_goesOn_2 0 rfl rfl)
theorem dX3_goesOn_48 : decode cX3_goesOn 48 = .ok (.aload_n 0, 1) := dk_42 (dk_at dksX3_goesOn_2 3 rfl rfl)
theorem dX3_goesOn_49 : decode cX3_goesOn 49 = .ok (.iconst 0, 1) := dk_3 (dk_at dksX3_goesOn_2 4 rfl rfl)
theorem dX3_goesOn_50 : decode cX3_goesOn 50 = .ok (.putfield 67, 3) := dk_181 0 67 (dk_at dksX3_goesOn_2 5 rfl rfl)
theorem dX3_goesOn_53 : decode cX3_goesOn 53 = .ok (.return_, 1) := dk_177 (dk_at dksX3_goesOn_2 8 rfl rfl)
theorem dX3_goesOn_54 : decode cX3_goesOn 54 = .ok (.iload_n 1, 1) := dk_27 (dk_at dksX3_goesOn_2 9 rfl rfl)
theorem dX3_goesOn_55 : decode cX3_goesOn 55 = .ok (.bipush 97, 2) := dk_16 97 (dk_at dksX3_goesOn_2 10 rfl rfl)
theorem dX3_goesOn_57 : decode cX3_goesOn 57 = .ok (.bipush 122, 2) := dk_16 122 (dk_at dksX3_goesOn_2 12 rfl rfl)
theorem dX3_goesOn_59 : decode cX3_goesOn 59 = .ok (.invokestatic 70, 3) := dk_184 0 70 (dk_at dksX3_goesOn_2 14 rfl rfl)
theorem dX3_goesOn_62 : decode cX3_goesOn 62 = .ok (.ifCond .eq 58, 3) := dk_153 0 58 (dk_at dksX3_goesOn_2 17 rfl rfl)
theorem dX3_goesOn_65 : decode cX3_goesOn 65 = .ok (.aload_n 0, 1) := dk_42 (dk_at dksX3_goesOn_2 20 rfl rfl)
theorem dX3_goesOn_66 : decode cX3_goesOn 66 = .ok (.aload_n 0, 1) := dk_42 (dk_at dksX3_goesOn_2 21 rfl rfl)
theorem dX3_goesOn_67 : decode cX3_goesOn 67 = .ok (.getfield 57, 3) := dk_180 0 57 (dk_at dksX3_goesOn_3 0 rfl rfl)
theorem dX3_goesOn_70 : decode cX3_goesOn 70 = .ok (.invokevirtual 60, 3) := dk_182 0 60 (dk_at dksX3_goesOn_3 3 rfl rfl)
theorem dX3_goesOn_73 : decode cX3_goesOn 73 = .ok (.bipush 97, 2) := dk_16 97 (dk_at dksX3_goesOn_3 6 rfl rfl)
theorem dX3_goesOn_75 : decode cX3_goesOn 75 = .ok (.bipush 122, 2) := dk_16 122 (dk_at dksX3_goesOn_3 8 rfl rfl)
theorem dX3_goesOn_77 : decode cX3_goesOn 77 = .ok (.invokestatic 70, 3) := dk_184 0 70 (dk_at dksX3_goesOn_3 10 rfl rfl)
theorem dX3_goesOn_80 : decode cX3_goesOn 80 = .ok (.ifCond .eq 16, 3) := dk_153 0 16 (dk_at dksX3_goesOn_3 13 rfl rfl)
theorem dX3_goesOn_83 : decode cX3_goesOn 83 = .ok (.aload_n 0, 1) := dk_42 (dk_at dksX3_goesOn_3 16 rfl rfl)
theorem dX3_goesOn_84 : decode cX3_goesOn 84 = .ok (.dup, 1) := dk_89 (dk_at dksX3_goesOn_3 17 rfl rfl)
theorem dX3_goesOn_85 : decode cX3_goesOn 85 = .ok (.getfield 57, 3) := dk_180 0 57 (dk_at dksX3_goesOn_3 18 rfl rfl)
theorem dX3_goesOn_88 : decode cX3_goesOn 88 = .ok (.iconst 1, 1) := dk_4 (dk_at dksX3_goesOn_3 21 rfl rfl)
theorem dX3_goesOn_89 : decode cX3_goesOn 89 = .ok (.iadd, 1) := dk_96 (dk_at dksX3_goesOn_3 22 rfl rfl)
theorem dX3_goesOn_90 : decode cX3_goesOn 90 = .ok (.putfield 57, 3) := dk_181 0 57 (dk_at dksX3_goesOn_4 0 rfl rfl)
theorem dX3_goesOn_93 : decode cX3_goesOn 93 = .ok (.goto (-28), 3) := dk_167 255 228 (dk_at dksX3_goesOn_4 3 rfl rfl)
theorem dX3_goesOn_96 : decode cX3_goesOn 96 = .ok (.aload_n 0, 1) := dk_42 (dk_at dksX3_goesOn_4 6 rfl rfl)
theorem dX3_goesOn_97 : decode cX3_goesOn 97 = .ok (.aload_n 0, 1) := dk_42 (dk_at dksX3_goesOn_4 7 rfl rfl)
theorem dX3_goesOn_98 : decode cX3_goesOn 98 = .ok (.getfield 57, 3) := dk_180 0 57 (dk_at dksX3_goesOn_4 8 rfl rfl)
theorem dX3_goesOn_101 : decode cX3_goesOn 101 = .ok (.aload_n 0, 1) := dk_42 (dk_at dksX3_goesOn_4 11 rfl rfl)
theorem dX3_goesOn_102 : decode cX3_goesOn 102 = .ok (.getfield 64, 3) := dk_180 0 64 (dk_at dksX3_goesOn_4 12 rfl rfl)
theorem dX3_goesOn_105 : decode cX3_goesOn 105 = .ok (.isub, 1) := dk_100 (dk_at dksX3_goesOn_4 15 rfl rfl)
theorem dX3_goesOn_106 : decode cX3_goesOn 106 = .ok (.bipush 6, 2) := dk_16 6 (dk_at dksX3_goesOn_4 16 rfl rfl)
theorem dX3_goesOn_108 : decode cX3_goesOn 108 = .ok (.if_icmp .le 7, 3) := dk_164 0 7 (dk_at dksX3_goesOn_4 18 rfl rfl)
theorem dX3_goesOn_111 : decode cX3_goesOn 111 = .ok (.iconst 1, 1) := dk_4 (dk_at dksX3_goesOn_4 21 rfl rfl)
theorem dX3_goesOn_112 : decode cX3_goesOn 112 = .ok (.goto 4, 3) := dk_167 0 4 (dk_at dksX3_goesOn_5 0 rfl rfl)
theorem dX3_goesOn_115 : decode cX3_goesOn 115 = .ok (.iconst 2, 1) := dk_5 (dk_at dksX3_goesOn_5 3 rfl rfl)
theorem dX3_goesOn_116 : decode cX3_goesOn 116 = .ok (.putfield 67, 3) := dk_181 0 67 (dk_at dksX3_goesOn_5 4 rfl rfl)
theorem dX3_goesOn_119 : decode cX3_goesOn 119 = .ok (.return_, 1) := dk_177 (dk_at dksX3_goesOn_5 7 rfl rfl)
theorem dX3_goesOn_120 : decode cX3_goesOn 120 = .ok (.iload_n 1, 1) := dk_27 (dk_at dksX3_goesOn_5 8 rfl rfl)
theorem dX3_goesOn_121 : decode cX3_goesOn 121 = .ok (.bipush 48, 2) := dk_16 48 (dk_at dksX3_goesOn_5 9 rfl rfl)
theorem dX3_goesOn_123 : decode cX3_goesOn 123 = .ok (.bipush 57, 2) := dk_16 57 (dk_at dksX3_goesOn_5 11 rfl rfl)
theorem dX3_goesOn_125 : decode cX3_goesOn 125 = .ok (.invokestatic 70, 3) := dk_184 0 70 (dk_at dksX3_goesOn_5 13 rfl rfl)
theorem dX3_goesOn_128 : decode cX3_goesOn 128 = .ok (.ifCond .eq 105, 3) := dk_153 0 105 (dk_at dksX3_goesOn_5 16 rfl rfl)
theorem dX3_goesOn_131 : decode cX3_goesOn 131 = .ok (.aload_n 0, 1) := dk_42 (dk_at dksX3_goesOn_5 19 rfl rfl)
theorem dX3_goesOn_132 : decode cX3_goesOn 132 = .ok (.iconst 0, 1) := dk_3 (dk_at dksX3_goesOn_5 20 rfl rfl)
theorem dX3_goesOn_133 : decode cX3_goesOn 133 = .ok (.putfield 74, 3) := dk_181 0 74 (dk_at dksX3_goesOn_5 21 rfl rfl)
theorem dX3_goesOn_136 : decode cX3_goesOn 136 = .ok (.aload_n 0, 1) := dk_42 (dk_at dksX3_goesOn_6 0 rfl rfl)
theorem dX3_goesOn_137 : decode cX3_goesOn 137 = .ok (.aload_n 0, 1) := dk_42 (dk_at dksX3_goesOn_6 1 rfl rfl)
theorem dX3_goesOn_138 : decode cX3_goesOn 138 = .ok (.getfield 57, 3) := dk_180 0 57 (dk_at dksX3_goesOn_6 2 rfl rfl)
theorem dX3_goesOn_141 : decode cX3_goesOn 141 = .ok (.invokevirtual 60, 3) := dk_182 0 60 (dk_at dksX3_goesOn_6 5 rfl rfl)
theorem dX3_goesOn_144 : decode cX3_goesOn 144 = .ok (.bipush 48, 2) := dk_16 48 (dk_at dksX3_goesOn_6 8 rfl rfl)
theorem dX3_goesOn_146 : decode cX3_goesOn 146 = .ok (.bipush 57, 2) := dk_16 57 (dk_at dksX3_goesOn_6 10 rfl rfl)
theorem dX3_goesOn_148 : decode cX3_goesOn 148 = .ok (.invokestatic 70, 3) := dk_184 0 70 (dk_at dksX3_goesOn_6 12 rfl rfl)
theorem dX3_goesOn_151 : decode cX3_goesOn 151 = .ok (.ifCond .eq 59, 3) := dk_153 0 59 (dk_at dksX3_goesOn_6 15 rfl rfl)
theorem dX3_goesOn_154 : decode cX3_goesOn 154 = .ok (.aload_n 0, 1) := dk_42 (dk_at dksX3_goesOn_6 18 rfl rfl)
theorem dX3_goesOn_155 : decode cX3_goesOn 155 = .ok (.aload_n 0, 1) := dk_42 (dk_at dksX3_goesOn_6 19 rfl rfl)
theorem dX3_goesOn_156 : decode cX3_goesOn 156 = .ok (.getfield 57, 3) := dk_180 0 57 (dk_at dksX3_goesOn_6 20 rfl rfl)
theorem dX3_goesOn_159 : decode cX3_goesOn 159 = .ok (.aload_n 0, 1) := dk_42 (dk_at dksX3_goesOn_6 23 rfl rfl)
theorem dX3_goesOn_160 : decode cX3_goesOn 160 = .ok (.getfield 64, 3) := dk_180 0 64 (dk_at dksX3_goesOn_7 0 rfl rfl)
theorem dX3_goesOn_163 : decode cX3_goesOn 163 = .ok (.isub, 1) := dk_100 (dk_at dksX3_goesOn_7 3 rfl rfl)
theorem dX3_goesOn_164 : decode cX3_goesOn 164 = .ok (.iconst 3, 1) := dk_6 (dk_at dksX3_goesOn_7 4 rfl rfl)
theorem dX3_goesOn_165 : decode cX3_goesOn 165 = .ok (.if_icmp .ge 25, 3) := dk_162 0 25 (dk_at dksX3_goesOn_7 5 rfl rfl)
theorem dX3_goesOn_168 : decode cX3_goesOn 168 = .ok (.bipush 10, 2) := dk_16 10 (dk_at dksX3_goesOn_7 8 rfl rfl)
theorem dX3_goesOn_170 : decode cX3_goesOn 170 = .ok (.aload_n 0, 1) := dk_42 (dk_at dksX3_goesOn_7 10 rfl rfl)
theorem dX3_goesOn_171 : decode cX3_goesOn 171 = .ok (.getfield 74, 3) := dk_180 0 74 (dk_at dksX3_goesOn_7 11 rfl rfl)
theorem dX3_goesOn_174 : decode cX3_goesOn 174 = .ok (.imul, 1) := dk_104 (dk_at dksX3_goesOn_7 14 rfl rfl)
theorem dX3_goesOn_175 : decode cX3_goesOn 175 = .ok (.aload_n 0, 1) := dk_42 (dk_at dksX3_goesOn_7 15 rfl rfl)
theorem dX3_goesOn_176 : decode cX3_goesOn 176 = .ok (.aload_n 0, 1) := dk_42 (dk_at dksX3_goesOn_7 16 rfl rfl)
theorem dX3_goesOn_177 : decode cX3_goesOn 177 = .ok (.getfield 57, 3) := dk_180 0 57 (dk_at dksX3_goesOn_7 17 rfl rfl)
theorem dX3_goesOn_180 : decode cX3_goesOn 180 = .ok (.invokevirtual 60, 3) := dk_182 0 60 (dk_at dksX3_goesOn_7 20 rfl rfl)
theorem dX3_goesOn_183 : decode cX3_goesOn 183 = .ok (.iadd, 1) := dk_96 (dk_at dksX3_goesOn_7 23 rfl rfl)
theorem dX3_goesOn_184 : decode cX3_goesOn 184 = .ok (.bipush 48, 2) := dk_16 48 (dk_at dksX3_goesOn_8 0 rfl rfl)
theorem dX3_goesOn_186 : decode cX3_goesOn 186 = .ok (.isub, 1) := dk_100 (dk_at dksX3_goesOn_8 2 rfl rfl)
theorem dX3_goesOn_187 : decode cX3_goesOn 187 = .ok (.goto 7, 3) := dk_167 0 7 (dk_at dksX3_goesOn_8 3 rfl rfl)
theorem dX3_goesOn_190 : decode cX3_goesOn 190 = .ok (.aload_n 0, 1) := dk_42 (dk_at dksX3_goesOn_8 6 rfl rfl)
theorem dX3_goesOn_191 : decode cX3_goesOn 191 = .ok (.getfield 74, 3) := dk_180 0 74 (dk_at dksX3_goesOn_8 7 rfl rfl)
theorem dX3_goesOn_194 : decode cX3_goesOn 194 = .ok (.putfield 74, 3) := dk_181 0 74 (dk_at dksX3_goesOn_8 10 rfl rfl)
theorem dX3_goesOn_197 : decode cX3_goesOn 197 = .ok (.aload_n 0, 1) := dk_42 (dk_at dksX3_goesOn_8 13 rfl rfl)
theorem dX3_goesOn_198 : decode cX3_goesOn 198 = .ok (.dup, 1) := dk_89 (dk_at dksX3_goesOn_8 14 rfl rfl)
theorem dX3_goesOn_199 : decode cX3_goesOn 199 = .ok (.getfield 57, 3) := dk_180 0 57 (dk_at dksX3_goesOn_8 15 rfl rfl)
theorem dX3_goesOn_202 : decode cX3_goesOn 202 = .ok (.iconst 1, 1) := dk_4 (dk_at dksX3_goesOn_8 18 rfl rfl)
theorem dX3_goesOn_203 : decode cX3_goesOn 203 = .ok (.iadd, 1) := dk_96 (dk_at dksX3_goesOn_8 19 rfl rfl)
theorem dX3_goesOn_204 : decode cX3_goesOn 204 = .ok (.putfield 57, 3) := dk_181 0 57 (dk_at dksX3_goesOn_8 20 rfl rfl)
theorem dX3_goesOn_207 : decode cX3_goesOn 207 = .ok (.goto (-71), 3) := dk_167 255 185 (dk_at dksX3_goesOn_9 0 rfl rfl)
theorem dX3_goesOn_210 : decode cX3_goesOn 210 = .ok (.aload_n 0, 1) := dk_42 (dk_at dksX3_goesOn_9 3 rfl rfl)
theorem dX3_goesOn_211 : decode cX3_goesOn 211 = .ok (.aload_n 0, 1) := dk_42 (dk_at dksX3_goesOn_9 4 rfl rfl)
theorem dX3_goesOn_212 : decode cX3_goesOn 212 = .ok (.getfield 57, 3) := dk_180 0 57 (dk_at dksX3_goesOn_9 5 rfl rfl)
theorem dX3_goesOn_215 : decode cX3_goesOn 215 = .ok (.aload_n 0, 1) := dk_42 (dk_at dksX3_goesOn_9 8 rfl rfl)
theorem dX3_goesOn_216 : decode cX3_goesOn 216 = .ok (.getfield 64, 3) := dk_180 0 64 (dk_at dksX3_goesOn_9 9 rfl rfl)
theorem dX3_goesOn_219 : decode cX3_goesOn 219 = .ok (.isub, 1) := dk_100 (dk_at dksX3_goesOn_9 12 rfl rfl)
theorem dX3_goesOn_220 : decode cX3_goesOn 220 = .ok (.iconst 3, 1) := dk_6 (dk_at dksX3_goesOn_9 13 rfl rfl)
theorem dX3_goesOn_221 : decode cX3_goesOn 221 = .ok (.if_icmp .le 7, 3) := dk_164 0 7 (dk_at dksX3_goesOn_9 14 rfl rfl)
theorem dX3_goesOn_224 : decode cX3_goesOn 224 = .ok (.iconst 1, 1) := dk_4 (dk_at dksX3_goesOn_9 17 rfl rfl)
theorem dX3_goesOn_225 : decode cX3_goesOn 225 = .ok (.goto 4, 3) := dk_167 0 4 (dk_at dksX3_goesOn_9 18 rfl rfl)
theorem dX3_goesOn_228 : decode cX3_goesOn 228 = .ok (.iconst 3, 1) := dk_6 (dk_at dksX3_goesOn_9 21 rfl rfl)
theorem dX3_goesOn_229 : decode cX3_goesOn 229 = .ok (.putfield 67, 3) := dk_181 0 67 (dk_at dksX3_goesOn_10 0 rfl rfl)
theorem dX3_goesOn_232 : decode cX3_goesOn 232 = .ok (.return_, 1) := dk_177 (dk_at dksX3_goesOn_10 3 rfl rfl)
theorem dX3_goesOn_233 : decode cX3_goesOn 233 = .ok (.aload_n 0, 1) := dk_42 (dk_at dksX3_goesOn_10 4 rfl rfl)
theorem dX3_goesOn_234 : decode cX3_goesOn 234 = .ok (.dup, 1) := dk_89 (dk_at dksX3_goesOn_10 5 rfl rfl)
theorem dX3_goesOn_235 : decode cX3_goesOn 235 = .ok (.getfield 57, 3) := dk_180 0 57 (dk_at dksX3_goesOn_10 6 rfl rfl)
theorem dX3_goesOn_238 : decode cX3_goesOn 238 = .ok (.iconst 1, 1) := dk_4 (dk_at dksX3_goesOn_10 9 rfl rfl)
theorem dX3_goesOn_239 : decode cX3_goesOn 239 = .ok (.iadd, 1) := dk_96 (dk_at dksX3_goesOn_10 10 rfl rfl)
theorem dX3_goesOn_240 : decode cX3_goesOn 240 = .ok (.putfield 57, 3) := dk_181 0 57 (dk_at dksX3_goesOn_10 11 rfl rfl)
theorem dX3_goesOn_243 : decode cX3_goesOn 243 = .ok (.aload_n 0, 1) := dk_42 (dk_at dksX3_goesOn_10 14 rfl rfl)
theorem dX3_goesOn_244 : decode cX3_goesOn 244 = .ok (.iload_n 1, 1) := dk_27 (dk_at dksX3_goesOn_10 15 rfl rfl)
theorem dX3_goesOn_245 : decode cX3_goesOn 245 = .ok (.bipush 59, 2) := dk_16 59 (dk_at dksX3_goesOn_10 16 rfl rfl)
theorem dX3_goesOn_247 : decode cX3_goesOn 247 = .ok (.if_icmp .ne 7, 3) := dk_160 0 7 (dk_at dksX3_goesOn_10 18 rfl rfl)
theorem dX3_goesOn_250 : decode cX3_goesOn 250 = .ok (.iload_n 1, 1) := dk_27 (dk_at dksX3_goesOn_10 21 rfl rfl)
theorem dX3_goesOn_251 : decode cX3_goesOn 251 = .ok (.goto 4, 3) := dk_167 0 4 (dk_at dksX3_goesOn_11 0 rfl rfl)
theorem dX3_goesOn_254 : decode cX3_goesOn 254 = .ok (.iconst 1, 1) := dk_4 (dk_at dksX3_goesOn_11 3 rfl rfl)
theorem dX3_goesOn_255 : decode cX3_goesOn 255 = .ok (.putfield 67, 3) := dk_181 0 67 (dk_at dksX3_goesOn_11 4 rfl rfl)
theorem dX3_goesOn_258 : decode cX3_goesOn 258 = .ok (.return_, 1) := dk_177 (dk_at dksX3_goesOn_11 7 rfl rfl)
abbrev cX3_see : ByteArray := prog_14_method_11_code
def yX3_see : MethodName := ⟨RX3, "see", "(I)I"⟩
def dkwX3_see_0 : List UInt8 := [27, 42, 180, 0, 54, 162, 0, 12, 42, 180, 0, 13, 27, 46, 167, 0, 4, 2, 172]
abbrev dktX3_see_0 : List UInt8 := dkwX3_see_0 ++ []
theorem dksX3_see_0 : cX3_see.data.toList.drop 0 = dktX3_see_0 := by decide +kernel
theorem dX3_see_0 : decode cX3_see 0 = .ok (.iload_n 1, 1) := dk_27 (dk_at dksX3_see_0 0 rfl rfl)
theorem dX3_see_1 : decode cX3_see 1 = .ok (.aload_n 0, 1) := dk_42 (dk_at dksX3_see_0 1 rfl rfl)
theorem dX3_see_2 : decode cX3_see 2 = .ok (.getfield 54, 3) := dk_180 0 54 (dk_at dksX3_see_0 2 rfl rfl)
theorem dX3_see_5 : decode cX3_see 5 = .ok (.if_icmp .ge 12, 3) := dk_162 0 12 (dk_at dksX3_see_0 5 rfl rfl)
theorem dX3_see_8 : decode cX3_see 8 = .ok (.aload_n 0, 1) := dk_42 (dk_at dksX3_see_0 8 rfl rfl)
theorem dX3_see_9 : decode cX3_see 9 = .ok (.getfield 13, 3) := dk_180 0 13 (dk_at dksX3_see_0 9 rfl rfl)
theorem dX3_see_12 : decode cX3_see 12 = .ok (.iload_n 1, 1) := dk_27 (dk_at dksX3_see_0 12 rfl rfl)
theorem dX3_see_13 : decode cX3_see 13 = .ok (.iaload, 1) := dk_46 (dk_at dksX3_see_0 13 rfl rfl)
theorem dX3_see_14 : decode cX3_see 14 = .ok (.goto 4, 3) := dk_167 0 4 (dk_at dksX3_see_0 14 rfl rfl)
theorem dX3_see_17 : decode cX3_see 17 = .ok (.iconst (-1), 1) := dk_2 (dk_at dksX3_see_0 17 rfl rfl)
theorem dX3_see_18 : decode cX3_see 18 = .ok (.ireturn, 1) := dk_172 (dk_at dksX3_see_0 18 rfl rfl)
abbrev cX3_readLine : ByteArray := prog_14_method_21_code
def yX3_readLine : MethodName := ⟨RX3, "readLine", "()Z"⟩
def dkwX3_readLine_2 : List UInt8 := [182, 0, 100, 153, 0, 10, 42, 182, 0, 150, 167, 0, 8, 42, 4, 182, 0, 93, 172]
abbrev dktX3_readLine_2 : List UInt8 := dkwX3_readLine_2 ++ []
def dkwX3_readLine_1 : List UInt8 := [3, 182, 0, 143, 172, 42, 18, 146, 182, 0, 100, 153, 0, 9, 42, 4, 182, 0, 143, 172, 42, 18, 148]
abbrev dktX3_readLine_1 : List UInt8 := dkwX3_readLine_1 ++ dktX3_readLine_2
def dkwX3_readLine_0 : List UInt8 := [42, 18, 135, 182, 0, 100, 153, 0, 8, 42, 182, 0, 137, 172, 42, 18, 141, 182, 0, 100, 153, 0, 9, 42]
abbrev dktX3_readLine_0 : List UInt8 := dkwX3_readLine_0 ++ dktX3_readLine_1
theorem dksX3_readLine_0 : cX3_readLine.data.toList.drop 0 = dktX3_readLine_0 := by decide +kernel
theorem dksX3_readLine_1 : cX3_readLine.data.toList.drop 24 = dktX3_readLine_1 := dk_seg dksX3_readLine_0 24 rfl rfl
theorem dksX3_readLine_2 : cX3_readLine.data.toList.drop 47 = dktX3_readLine_2 := dk_seg dksX3_readLine_1 23 rfl rfl
theorem dX3_readLine_0 : decode cX3_readLine 0 = .ok (.aload_n 0, 1) := dk_42 (dk_at dksX3_readLine_0 0 rfl rfl)
theorem dX3_readLine_1 : decode cX3_readLine 1 = .ok (.ldc 135, 2) := dk_18 135 (dk_at dksX3_readLine_0 1 rfl rfl)
theorem dX3_readLine_3 : decode cX3_readLine 3 = .ok (.invokevirtual 100, 3) := dk_182 0 100 (dk_at dksX3_readLine_0 3 rfl rfl)
theorem dX3_readLine_6 : decode cX3_readLine 6 = .ok (.ifCond .eq 8, 3) := dk_153 0 8 (dk_at dksX3_readLine_0 6 rfl rfl)
theorem dX3_readLine_9 : decode cX3_readLine 9 = .ok (.aload_n 0, 1) := dk_42 (dk_at dksX3_readLine_0 9 rfl rfl)
theorem dX3_readLine_10 : decode cX3_readLine 10 = .ok (.invokevirtual 137, 3) := dk_182 0 137 (dk_at dksX3_readLine_0 10 rfl rfl)
theorem dX3_readLine_13 : decode cX3_readLine 13 = .ok (.ireturn, 1) := dk_172 (dk_at dksX3_readLine_0 13 rfl rfl)
theorem dX3_readLine_14 : decode cX3_readLine 14 = .ok (.aload_n 0, 1) := dk_42 (dk_at dksX3_readLine_0 14 rfl rfl)
theorem dX3_readLine_15 : decode cX3_readLine 15 = .ok (.ldc 141, 2) := dk_18 141 (dk_at dksX3_readLine_0 15 rfl rfl)
theorem dX3_readLine_17 : decode cX3_readLine 17 = .ok (.invokevirtual 100, 3) := dk_182 0 100 (dk_at dksX3_readLine_0 17 rfl rfl)
theorem dX3_readLine_20 : decode cX3_readLine 20 = .ok (.ifCond .eq 9, 3) := dk_153 0 9 (dk_at dksX3_readLine_0 20 rfl rfl)
theorem dX3_readLine_23 : decode cX3_readLine 23 = .ok (.aload_n 0, 1) := dk_42 (dk_at dksX3_readLine_0 23 rfl rfl)
theorem dX3_readLine_24 : decode cX3_readLine 24 = .ok (.iconst 0, 1) := dk_3 (dk_at dksX3_readLine_1 0 rfl rfl)
theorem dX3_readLine_25 : decode cX3_readLine 25 = .ok (.invokevirtual 143, 3) := dk_182 0 143 (dk_at dksX3_readLine_1 1 rfl rfl)
theorem dX3_readLine_28 : decode cX3_readLine 28 = .ok (.ireturn, 1) := dk_172 (dk_at dksX3_readLine_1 4 rfl rfl)
theorem dX3_readLine_29 : decode cX3_readLine 29 = .ok (.aload_n 0, 1) := dk_42 (dk_at dksX3_readLine_1 5 rfl rfl)
theorem dX3_readLine_30 : decode cX3_readLine 30 = .ok (.ldc 146, 2) := dk_18 146 (dk_at dksX3_readLine_1 6 rfl rfl)
theorem dX3_readLine_32 : decode cX3_readLine 32 = .ok (.invokevirtual 100, 3) := dk_182 0 100 (dk_at dksX3_readLine_1 8 rfl rfl)
theorem dX3_readLine_35 : decode cX3_readLine 35 = .ok (.ifCond .eq 9, 3) := dk_153 0 9 (dk_at dksX3_readLine_1 11 rfl rfl)
theorem dX3_readLine_38 : decode cX3_readLine 38 = .ok (.aload_n 0, 1) := dk_42 (dk_at dksX3_readLine_1 14 rfl rfl)
theorem dX3_readLine_39 : decode cX3_readLine 39 = .ok (.iconst 1, 1) := dk_4 (dk_at dksX3_readLine_1 15 rfl rfl)
theorem dX3_readLine_40 : decode cX3_readLine 40 = .ok (.invokevirtual 143, 3) := dk_182 0 143 (dk_at dksX3_readLine_1 16 rfl rfl)
theorem dX3_readLine_43 : decode cX3_readLine 43 = .ok (.ireturn, 1) := dk_172 (dk_at dksX3_readLine_1 19 rfl rfl)
theorem dX3_readLine_44 : decode cX3_readLine 44 = .ok (.aload_n 0, 1) := dk_42 (dk_at dksX3_readLine_1 20 rfl rfl)
theorem dX3_readLine_45 : decode cX3_readLine 45 = .ok (.ldc 148, 2) := dk_18 148 (dk_at dksX3_readLine_1 21 rfl rfl)
theorem dX3_readLine_47 : decode cX3_readLine 47 = .ok (.invokevirtual 100, 3) := dk_182 0 100 (dk_at dksX3_readLine_2 0 rfl rfl)
theorem dX3_readLine_50 : decode cX3_readLine 50 = .ok (.ifCond .eq 10, 3) := dk_153 0 10 (dk_at dksX3_readLine_2 3 rfl rfl)
theorem dX3_readLine_53 : decode cX3_readLine 53 = .ok (.aload_n 0, 1) := dk_42 (dk_at dksX3_readLine_2 6 rfl rfl)
theorem dX3_readLine_54 : decode cX3_readLine 54 = .ok (.invokevirtual 150, 3) := dk_182 0 150 (dk_at dksX3_readLine_2 7 rfl rfl)
theorem dX3_readLine_57 : decode cX3_readLine 57 = .ok (.goto 8, 3) := dk_167 0 8 (dk_at dksX3_readLine_2 10 rfl rfl)
theorem dX3_readLine_60 : decode cX3_readLine 60 = .ok (.aload_n 0, 1) := dk_42 (dk_at dksX3_readLine_2 13 rfl rfl)
theorem dX3_readLine_61 : decode cX3_readLine 61 = .ok (.iconst 1, 1) := dk_4 (dk_at dksX3_readLine_2 14 rfl rfl)
theorem dX3_readLine_62 : decode cX3_readLine 62 = .ok (.invokevirtual 93, 3) := dk_182 0 93 (dk_at dksX3_readLine_2 15 rfl rfl)
theorem dX3_readLine_65 : decode cX3_readLine 65 = .ok (.ireturn, 1) := dk_172 (dk_at dksX3_readLine_2 18 rfl rfl)
abbrev cX3_isWord : ByteArray := prog_14_method_13_code
def yX3_isWord : MethodName := ⟨RX3, "isWord", "(Ljava/lang/String;)Z"⟩
def dkwX3_isWord_2 : List UInt8 := [28, 182, 0, 83, 159, 0, 5, 3, 172, 132, 2, 1, 167, 255, 224, 4, 172]
abbrev dktX3_isWord_2 : List UInt8 := dkwX3_isWord_2 ++ []
def dkwX3_isWord_1 : List UInt8 := [3, 172, 3, 61, 28, 43, 182, 0, 77, 162, 0, 30, 42, 180, 0, 13, 42, 180, 0, 64, 28, 96, 46, 43]
abbrev dktX3_isWord_1 : List UInt8 := dkwX3_isWord_1 ++ dktX3_isWord_2
def dkwX3_isWord_0 : List UInt8 := [42, 180, 0, 67, 5, 160, 0, 19, 42, 180, 0, 57, 42, 180, 0, 64, 100, 43, 182, 0, 77, 159, 0, 5]
abbrev dktX3_isWord_0 : List UInt8 := dkwX3_isWord_0 ++ dktX3_isWord_1
theorem dksX3_isWord_0 : cX3_isWord.data.toList.drop 0 = dktX3_isWord_0 := by decide +kernel
theorem dksX3_isWord_1 : cX3_isWord.data.toList.drop 24 = dktX3_isWord_1 := dk_seg dksX3_isWord_0 24 rfl rfl
theorem dksX3_isWord_2 : cX3_isWord.data.toList.drop 48 = dktX3_isWord_2 := dk_seg dksX3_isWord_1 24 rfl rfl
theorem dX3_isWord_0 : decode cX3_isWord 0 = .ok (.aload_n 0, 1) := dk_42 (dk_at dksX3_isWord_0 0 rfl rfl)
theorem dX3_isWord_1 : decode cX3_isWord 1 = .ok (.getfield 67, 3) := dk_180 0 67 (dk_at dksX3_isWord_0 1 rfl rfl)
theorem dX3_isWord_4 : decode cX3_isWord 4 = .ok (.iconst 2, 1) := dk_5 (dk_at dksX3_isWord_0 4 rfl rfl)
theorem dX3_isWord_5 : decode cX3_isWord 5 = .ok (.if_icmp .ne 19, 3) := dk_160 0 19 (dk_at dksX3_isWord_0 5 rfl rfl)
theorem dX3_isWord_8 : decode cX3_isWord 8 = .ok (.aload_n 0, 1) := dk_42 (dk_at dksX3_isWord_0 8 rfl rfl)
theorem dX3_isWord_9 : decode cX3_isWord 9 = .ok (.getfield 57, 3) := dk_180 0 57 (dk_at dksX3_isWord_0 9 rfl rfl)
theorem dX3_isWord_12 : decode cX3_isWord 12 = .ok (.aload_n 0, 1) := dk_42 (dk_at dksX3_isWord_0 12 rfl rfl)
theorem dX3_isWord_13 : decode cX3_isWord 13 = .ok (.getfield 64, 3) := dk_180 0 64 (dk_at dksX3_isWord_0 13 rfl rfl)
theorem dX3_isWord_16 : decode cX3_isWord 16 = .ok (.isub, 1) := dk_100 (dk_at dksX3_isWord_0 16 rfl rfl)
theorem dX3_isWord_17 : decode cX3_isWord 17 = .ok (.aload_n 1, 1) := dk_43 (dk_at dksX3_isWord_0 17 rfl rfl)
theorem dX3_isWord_18 : decode cX3_isWord 18 = .ok (.invokevirtual 77, 3) := dk_182 0 77 (dk_at dksX3_isWord_0 18 rfl rfl)
theorem dX3_isWord_21 : decode cX3_isWord 21 = .ok (.if_icmp .eq 5, 3) := dk_159 0 5 (dk_at dksX3_isWord_0 21 rfl rfl)
theorem dX3_isWord_24 : decode cX3_isWord 24 = .ok (.iconst 0, 1) := dk_3 (dk_at dksX3_isWord_1 0 rfl rfl)
theorem dX3_isWord_25 : decode cX3_isWord 25 = .ok (.ireturn, 1) := dk_172 (dk_at dksX3_isWord_1 1 rfl rfl)
theorem dX3_isWord_26 : decode cX3_isWord 26 = .ok (.iconst 0, 1) := dk_3 (dk_at dksX3_isWord_1 2 rfl rfl)
theorem dX3_isWord_27 : decode cX3_isWord 27 = .ok (.istore_n 2, 1) := dk_61 (dk_at dksX3_isWord_1 3 rfl rfl)
theorem dX3_isWord_28 : decode cX3_isWord 28 = .ok (.iload_n 2, 1) := dk_28 (dk_at dksX3_isWord_1 4 rfl rfl)
theorem dX3_isWord_29 : decode cX3_isWord 29 = .ok (.aload_n 1, 1) := dk_43 (dk_at dksX3_isWord_1 5 rfl rfl)
theorem dX3_isWord_30 : decode cX3_isWord 30 = .ok (.invokevirtual 77, 3) := dk_182 0 77 (dk_at dksX3_isWord_1 6 rfl rfl)
theorem dX3_isWord_33 : decode cX3_isWord 33 = .ok (.if_icmp .ge 30, 3) := dk_162 0 30 (dk_at dksX3_isWord_1 9 rfl rfl)
theorem dX3_isWord_36 : decode cX3_isWord 36 = .ok (.aload_n 0, 1) := dk_42 (dk_at dksX3_isWord_1 12 rfl rfl)
theorem dX3_isWord_37 : decode cX3_isWord 37 = .ok (.getfield 13, 3) := dk_180 0 13 (dk_at dksX3_isWord_1 13 rfl rfl)
theorem dX3_isWord_40 : decode cX3_isWord 40 = .ok (.aload_n 0, 1) := dk_42 (dk_at dksX3_isWord_1 16 rfl rfl)
theorem dX3_isWord_41 : decode cX3_isWord 41 = .ok (.getfield 64, 3) := dk_180 0 64 (dk_at dksX3_isWord_1 17 rfl rfl)
theorem dX3_isWord_44 : decode cX3_isWord 44 = .ok (.iload_n 2, 1) := dk_28 (dk_at dksX3_isWord_1 20 rfl rfl)
theorem dX3_isWord_45 : decode cX3_isWord 45 = .ok (.iadd, 1) := dk_96 (dk_at dksX3_isWord_1 21 rfl rfl)
theorem dX3_isWord_46 : decode cX3_isWord 46 = .ok (.iaload, 1) := dk_46 (dk_at dksX3_isWord_1 22 rfl rfl)
theorem dX3_isWord_47 : decode cX3_isWord 47 = .ok (.aload_n 1, 1) := dk_43 (dk_at dksX3_isWord_1 23 rfl rfl)
theorem dX3_isWord_48 : decode cX3_isWord 48 = .ok (.iload_n 2, 1) := dk_28 (dk_at dksX3_isWord_2 0 rfl rfl)
theorem dX3_isWord_49 : decode cX3_isWord 49 = .ok (.invokevirtual 83, 3) := dk_182 0 83 (dk_at dksX3_isWord_2 1 rfl rfl)
theorem dX3_isWord_52 : decode cX3_isWord 52 = .ok (.if_icmp .eq 5, 3) := dk_159 0 5 (dk_at dksX3_isWord_2 4 rfl rfl)
theorem dX3_isWord_55 : decode cX3_isWord 55 = .ok (.iconst 0, 1) := dk_3 (dk_at dksX3_isWord_2 7 rfl rfl)
theorem dX3_isWord_56 : decode cX3_isWord 56 = .ok (.ireturn, 1) := dk_172 (dk_at dksX3_isWord_2 8 rfl rfl)
theorem dX3_isWord_57 : decode cX3_isWord 57 = .ok (.iinc 2 1, 3) := dk_132 2 1 (dk_at dksX3_isWord_2 9 rfl rfl)
theorem dX3_isWord_60 : decode cX3_isWord 60 = .ok (.goto (-32), 3) := dk_167 255 224 (dk_at dksX3_isWord_2 12 rfl rfl)
theorem dX3_isWord_63 : decode cX3_isWord 63 = .ok (.iconst 1, 1) := dk_4 (dk_at dksX3_isWord_2 15 rfl rfl)
theorem dX3_isWord_64 : decode cX3_isWord 64 = .ok (.ireturn, 1) := dk_172 (dk_at dksX3_isWord_2 16 rfl rfl)
abbrev cX3_readTester : ByteArray := prog_14_method_18_code
def yX3_readTester : MethodName := ⟨RX3, "readTester", "()Z"⟩
def dkwX3_readTester_3 : List UInt8 := [18, 126, 7, 5, 7, 182, 0, 116, 153, 0, 7, 4, 167, 0, 4, 3, 181, 0, 110, 42, 180, 0, 110, 172]
abbrev dktX3_readTester_3 : List UInt8 := dkwX3_readTester_3 ++ []
def dkwX3_readTester_2 : List UInt8 := [5, 4, 16, 6, 182, 0, 116, 153, 0, 31, 42, 18, 124, 6, 4, 7, 182, 0, 116, 153, 0, 19, 42]
abbrev dktX3_readTester_2 : List UInt8 := dkwX3_readTester_2 ++ dktX3_readTester_3
def dkwX3_readTester_1 : List UInt8 := [16, 6, 182, 0, 116, 153, 0, 57, 42, 18, 120, 4, 7, 16, 16, 182, 0, 116, 153, 0, 44, 42, 18, 122]
abbrev dktX3_readTester_1 : List UInt8 := dkwX3_readTester_1 ++ dktX3_readTester_2
def dkwX3_readTester_0 : List UInt8 := [42, 180, 0, 110, 153, 0, 9, 42, 6, 182, 0, 93, 172, 42, 182, 0, 97, 42, 42, 18, 114, 3, 4]
abbrev dktX3_readTester_0 : List UInt8 := dkwX3_readTester_0 ++ dktX3_readTester_1
theorem dksX3_readTester_0 : cX3_readTester.data.toList.drop 0 = dktX3_readTester_0 := by decide +kernel
theorem dksX3_readTester_1 : cX3_readTester.data.toList.drop 23 = dktX3_readTester_1 := dk_seg dksX3_readTester_0 23 rfl rfl
theorem dksX3_readTester_2 : cX3_readTester.data.toList.drop 47 = dktX3_readTester_2 := dk_seg dksX3_readTester_1 24 rfl rfl
theorem dksX3_readTester_3 : cX3_readTester.data.toList.drop 70 = dktX3_readTester_3 := dk_seg dksX3_readTester_2 23 rfl rfl
theorem dX3_readTester_0 : decode cX3_readTester 0 = .ok (.aload_n 0, 1) := dk_42 (dk_at dksX3_readTester_0 0 rfl rfl)
theorem dX3_readTester_1 : decode cX3_readTester 1 = .ok (.getfield 110, 3) := dk_180 0 110 (dk_at dksX3_readTester_0 1 rfl rfl)
theorem dX3_readTester_4 : decode cX3_readTester 4 = .ok (.ifCond .eq 9, 3) := dk_153 0 9 (dk_at dksX3_readTester_0 4 rfl rfl)
theorem dX3_readTester_7 : decode cX3_readTester 7 = .ok (.aload_n 0, 1) := dk_42 (dk_at dksX3_readTester_0 7 rfl rfl)
theorem dX3_readTester_8 : decode cX3_readTester 8 = .ok (.iconst 3, 1) := dk_6 (dk_at dksX3_readTester_0 8 rfl rfl)
theorem dX3_readTester_9 : decode cX3_readTester 9 = .ok (.invokevirtual 93, 3) := dk_182 0 93 (dk_at dksX3_readTester_0 9 rfl rfl)
theorem dX3_readTester_12 : decode cX3_readTester 12 = .ok (.ireturn, 1) := dk_172 (dk_at dksX3_readTester_0 12 rfl rfl)
theorem dX3_readTester_13 : decode cX3_readTester 13 = .ok (.aload_n 0, 1) := dk_42 (dk_at dksX3_readTester_0 13 rfl rfl)
theorem dX3_readTester_14 : decode cX3_readTester 14 = .ok (.invokevirtual 97, 3) := dk_182 0 97 (dk_at dksX3_readTester_0 14 rfl rfl)
theorem dX3_readTester_17 : decode cX3_readTester 17 = .ok (.aload_n 0, 1) := dk_42 (dk_at dksX3_readTester_0 17 rfl rfl)
theorem dX3_readTester_18 : decode cX3_readTester 18 = .ok (.aload_n 0, 1) := dk_42 (dk_at dksX3_readTester_0 18 rfl rfl)
theorem dX3_readTester_19 : decode cX3_readTester 19 = .ok (.ldc 114, 2) := dk_18 114 (dk_at dksX3_readTester_0 19 rfl rfl)
theorem dX3_readTester_21 : decode cX3_readTester 21 = .ok (.iconst 0, 1) := dk_3 (dk_at dksX3_readTester_0 21 rfl rfl)
theorem dX3_readTester_22 : decode cX3_readTester 22 = .ok (.iconst 1, 1) := dk_4 (dk_at dksX3_readTester_0 22 rfl rfl)
theorem dX3_readTester_23 : decode cX3_readTester 23 = .ok (.bipush 6, 2) := dk_16 6 (dk_at dksX3_readTester_1 0 rfl rfl)
theorem dX3_readTester_25 : decode cX3_readTester 25 = .ok (.invokevirtual 116, 3) := dk_182 0 116 (dk_at dksX3_readTester_1 2 rfl rfl)
theorem dX3_readTester_28 : decode cX3_readTester 28 = .ok (.ifCond .eq 57, 3) := dk_153 0 57 (dk_at dksX3_readTester_1 5 rfl rfl)
theorem dX3_readTester_31 : decode cX3_readTester 31 = .ok (.aload_n 0, 1) := dk_42 (dk_at dksX3_readTester_1 8 rfl rfl)
theorem dX3_readTester_32 : decode cX3_readTester 32 = .ok (.ldc 120, 2) := dk_18 120 (dk_at dksX3_readTester_1 9 rfl rfl)
theorem dX3_readTester_34 : decode cX3_readTester 34 = .ok (.iconst 1, 1) := dk_4 (dk_at dksX3_readTester_1 11 rfl rfl)
theorem dX3_readTester_35 : decode cX3_readTester 35 = .ok (.iconst 4, 1) := dk_7 (dk_at dksX3_readTester_1 12 rfl rfl)
theorem dX3_readTester_36 : decode cX3_readTester 36 = .ok (.bipush 16, 2) := dk_16 16 (dk_at dksX3_readTester_1 13 rfl rfl)
theorem dX3_readTester_38 : decode cX3_readTester 38 = .ok (.invokevirtual 116, 3) := dk_182 0 116 (dk_at dksX3_readTester_1 15 rfl rfl)
theorem dX3_readTester_41 : decode cX3_readTester 41 = .ok (.ifCond .eq 44, 3) := dk_153 0 44 (dk_at dksX3_readTester_1 18 rfl rfl)
theorem dX3_readTester_44 : decode cX3_readTester 44 = .ok (.aload_n 0, 1) := dk_42 (dk_at dksX3_readTester_1 21 rfl rfl)
theorem dX3_readTester_45 : decode cX3_readTester 45 = .ok (.ldc 122, 2) := dk_18 122 (dk_at dksX3_readTester_1 22 rfl rfl)
theorem dX3_readTester_47 : decode cX3_readTester 47 = .ok (.iconst 2, 1) := dk_5 (dk_at dksX3_readTester_2 0 rfl rfl)
theorem dX3_readTester_48 : decode cX3_readTester 48 = .ok (.iconst 1, 1) := dk_4 (dk_at dksX3_readTester_2 1 rfl rfl)
theorem dX3_readTester_49 : decode cX3_readTester 49 = .ok (.bipush 6, 2) := dk_16 6 (dk_at dksX3_readTester_2 2 rfl rfl)
theorem dX3_readTester_51 : decode cX3_readTester 51 = .ok (.invokevirtual 116, 3) := dk_182 0 116 (dk_at dksX3_readTester_2 4 rfl rfl)
theorem dX3_readTester_54 : decode cX3_readTester 54 = .ok (.ifCond .eq 31, 3) := dk_153 0 31 (dk_at dksX3_readTester_2 7 rfl rfl)
theorem dX3_readTester_57 : decode cX3_readTester 57 = .ok (.aload_n 0, 1) := dk_42 (dk_at dksX3_readTester_2 10 rfl rfl)
theorem dX3_readTester_58 : decode cX3_readTester 58 = .ok (.ldc 124, 2) := dk_18 124 (dk_at dksX3_readTester_2 11 rfl rfl)
theorem dX3_readTester_60 : decode cX3_readTester 60 = .ok (.iconst 3, 1) := dk_6 (dk_at dksX3_readTester_2 13 rfl rfl)
theorem dX3_readTester_61 : decode cX3_readTester 61 = .ok (.iconst 1, 1) := dk_4 (dk_at dksX3_readTester_2 14 rfl rfl)
theorem dX3_readTester_62 : decode cX3_readTester 62 = .ok (.iconst 4, 1) := dk_7 (dk_at dksX3_readTester_2 15 rfl rfl)
theorem dX3_readTester_63 : decode cX3_readTester 63 = .ok (.invokevirtual 116, 3) := dk_182 0 116 (dk_at dksX3_readTester_2 16 rfl rfl)
theorem dX3_readTester_66 : decode cX3_readTester 66 = .ok (.ifCond .eq 19, 3) := dk_153 0 19 (dk_at dksX3_readTester_2 19 rfl rfl)
theorem dX3_readTester_69 : decode cX3_readTester 69 = .ok (.aload_n 0, 1) := dk_42 (dk_at dksX3_readTester_2 22 rfl rfl)
theorem dX3_readTester_70 : decode cX3_readTester 70 = .ok (.ldc 126, 2) := dk_18 126 (dk_at dksX3_readTester_3 0 rfl rfl)
theorem dX3_readTester_72 : decode cX3_readTester 72 = .ok (.iconst 4, 1) := dk_7 (dk_at dksX3_readTester_3 2 rfl rfl)
theorem dX3_readTester_73 : decode cX3_readTester 73 = .ok (.iconst 2, 1) := dk_5 (dk_at dksX3_readTester_3 3 rfl rfl)
theorem dX3_readTester_74 : decode cX3_readTester 74 = .ok (.iconst 4, 1) := dk_7 (dk_at dksX3_readTester_3 4 rfl rfl)
theorem dX3_readTester_75 : decode cX3_readTester 75 = .ok (.invokevirtual 116, 3) := dk_182 0 116 (dk_at dksX3_readTester_3 5 rfl rfl)
theorem dX3_readTester_78 : decode cX3_readTester 78 = .ok (.ifCond .eq 7, 3) := dk_153 0 7 (dk_at dksX3_readTester_3 8 rfl rfl)
theorem dX3_readTester_81 : decode cX3_readTester 81 = .ok (.iconst 1, 1) := dk_4 (dk_at dksX3_readTester_3 11 rfl rfl)
theorem dX3_readTester_82 : decode cX3_readTester 82 = .ok (.goto 4, 3) := dk_167 0 4 (dk_at dksX3_readTester_3 12 rfl rfl)
theorem dX3_readTester_85 : decode cX3_readTester 85 = .ok (.iconst 0, 1) := dk_3 (dk_at dksX3_readTester_3 15 rfl rfl)
theorem dX3_readTester_86 : decode cX3_readTester 86 = .ok (.putfield 110, 3) := dk_181 0 110 (dk_at dksX3_readTester_3 16 rfl rfl)
theorem dX3_readTester_89 : decode cX3_readTester 89 = .ok (.aload_n 0, 1) := dk_42 (dk_at dksX3_readTester_3 19 rfl rfl)
theorem dX3_readTester_90 : decode cX3_readTester 90 = .ok (.getfield 110, 3) := dk_180 0 110 (dk_at dksX3_readTester_3 20 rfl rfl)
theorem dX3_readTester_93 : decode cX3_readTester 93 = .ok (.ireturn, 1) := dk_172 (dk_at dksX3_readTester_3 23 rfl rfl)
abbrev cX3_errs : ByteArray := prog_14_method_14_code
def yX3_errs : MethodName := ⟨RX3, "errs", "(I)Z"⟩
def dkwX3_errs_0 : List UInt8 := [42, 27, 181, 0, 87, 42, 42, 180, 0, 64, 181, 0, 90, 3, 172]
abbrev dktX3_errs_0 : List UInt8 := dkwX3_errs_0 ++ []
theorem dksX3_errs_0 : cX3_errs.data.toList.drop 0 = dktX3_errs_0 := by decide +kernel
theorem dX3_errs_0 : decode cX3_errs 0 = .ok (.aload_n 0, 1) := dk_42 (dk_at dksX3_errs_0 0 rfl rfl)
theorem dX3_errs_1 : decode cX3_errs 1 = .ok (.iload_n 1, 1) := dk_27 (dk_at dksX3_errs_0 1 rfl rfl)
theorem dX3_errs_2 : decode cX3_errs 2 = .ok (.putfield 87, 3) := dk_181 0 87 (dk_at dksX3_errs_0 2 rfl rfl)
theorem dX3_errs_5 : decode cX3_errs 5 = .ok (.aload_n 0, 1) := dk_42 (dk_at dksX3_errs_0 5 rfl rfl)
theorem dX3_errs_6 : decode cX3_errs 6 = .ok (.aload_n 0, 1) := dk_42 (dk_at dksX3_errs_0 6 rfl rfl)
theorem dX3_errs_7 : decode cX3_errs 7 = .ok (.getfield 64, 3) := dk_180 0 64 (dk_at dksX3_errs_0 7 rfl rfl)
theorem dX3_errs_10 : decode cX3_errs 10 = .ok (.putfield 90, 3) := dk_181 0 90 (dk_at dksX3_errs_0 10 rfl rfl)
theorem dX3_errs_13 : decode cX3_errs 13 = .ok (.iconst 0, 1) := dk_3 (dk_at dksX3_errs_0 13 rfl rfl)
theorem dX3_errs_14 : decode cX3_errs 14 = .ok (.ireturn, 1) := dk_172 (dk_at dksX3_errs_0 14 rfl rfl)
abbrev cX3_after : ByteArray := prog_14_method_17_code
def yX3_after : MethodName := ⟨RX3, "after", "(Ljava/lang/String;III)Z"⟩
def dkwX3_after_1 : List UInt8 := [172]
abbrev dktX3_after_1 : List UInt8 := dkwX3_after_1 ++ []
def dkwX3_after_0 : List UInt8 := [42, 43, 182, 0, 104, 153, 0, 18, 42, 28, 29, 21, 4, 182, 0, 107, 153, 0, 7, 4, 167, 0, 4, 3]
abbrev dktX3_after_0 : List UInt8 := dkwX3_after_0 ++ dktX3_after_1
theorem dksX3_after_0 : cX3_after.data.toList.drop 0 = dktX3_after_0 := by decide +kernel
theorem dksX3_after_1 : cX3_after.data.toList.drop 24 = dktX3_after_1 := dk_seg dksX3_after_0 24 rfl rfl
theorem dX3_after_0 : decode cX3_after 0 = .ok (.aload_n 0, 1) := dk_42 (dk_at dksX3_after_0 0 rfl rfl)
theorem dX3_after_1 : decode cX3_after 1 = .ok (.aload_n 1, 1) := dk_43 (dk_at dksX3_after_0 1 rfl rfl)
theorem dX3_after_2 : decode cX3_after 2 = .ok (.invokevirtual 104, 3) := dk_182 0 104 (dk_at dksX3_after_0 2 rfl rfl)
theorem dX3_after_5 : decode cX3_after 5 = .ok (.ifCond .eq 18, 3) := dk_153 0 18 (dk_at dksX3_after_0 5 rfl rfl)
theorem dX3_after_8 : decode cX3_after 8 = .ok (.aload_n 0, 1) := dk_42 (dk_at dksX3_after_0 8 rfl rfl)
theorem dX3_after_9 : decode cX3_after 9 = .ok (.iload_n 2, 1) := dk_28 (dk_at dksX3_after_0 9 rfl rfl)
theorem dX3_after_10 : decode cX3_after 10 = .ok (.iload_n 3, 1) := dk_29 (dk_at dksX3_after_0 10 rfl rfl)
theorem dX3_after_11 : decode cX3_after 11 = .ok (.iload 4, 2) := dk_21 4 (dk_at dksX3_after_0 11 rfl rfl)
theorem dX3_after_13 : decode cX3_after 13 = .ok (.invokevirtual 107, 3) := dk_182 0 107 (dk_at dksX3_after_0 13 rfl rfl)
theorem dX3_after_16 : decode cX3_after 16 = .ok (.ifCond .eq 7, 3) := dk_153 0 7 (dk_at dksX3_after_0 16 rfl rfl)
theorem dX3_after_19 : decode cX3_after 19 = .ok (.iconst 1, 1) := dk_4 (dk_at dksX3_after_0 19 rfl rfl)
theorem dX3_after_20 : decode cX3_after 20 = .ok (.goto 4, 3) := dk_167 0 4 (dk_at dksX3_after_0 20 rfl rfl)
theorem dX3_after_23 : decode cX3_after 23 = .ok (.iconst 0, 1) := dk_3 (dk_at dksX3_after_0 23 rfl rfl)
theorem dX3_after_24 : decode cX3_after 24 = .ok (.ireturn, 1) := dk_172 (dk_at dksX3_after_1 0 rfl rfl)
abbrev cX3_passes : ByteArray := prog_14_method_16_code
def yX3_passes : MethodName := ⟨RX3, "passes", "(Ljava/lang/String;)Z"⟩
def dkwX3_passes_0 : List UInt8 := [42, 43, 182, 0, 100, 154, 0, 9, 42, 4, 182, 0, 93, 172, 42, 182, 0, 97, 4, 172]
abbrev dktX3_passes_0 : List UInt8 := dkwX3_passes_0 ++ []
theorem dksX3_passes_0 : cX3_passes.data.toList.drop 0 = dktX3_passes_0 := by decide +kernel
theorem dX3_passes_0 : decode cX3_passes 0 = .ok (.aload_n 0, 1) := dk_42 (dk_at dksX3_passes_0 0 rfl rfl)
theorem dX3_passes_1 : decode cX3_passes 1 = .ok (.aload_n 1, 1) := dk_43 (dk_at dksX3_passes_0 1 rfl rfl)
theorem dX3_passes_2 : decode cX3_passes 2 = .ok (.invokevirtual 100, 3) := dk_182 0 100 (dk_at dksX3_passes_0 2 rfl rfl)
theorem dX3_passes_5 : decode cX3_passes 5 = .ok (.ifCond .ne 9, 3) := dk_154 0 9 (dk_at dksX3_passes_0 5 rfl rfl)
theorem dX3_passes_8 : decode cX3_passes 8 = .ok (.aload_n 0, 1) := dk_42 (dk_at dksX3_passes_0 8 rfl rfl)
theorem dX3_passes_9 : decode cX3_passes 9 = .ok (.iconst 1, 1) := dk_4 (dk_at dksX3_passes_0 9 rfl rfl)
theorem dX3_passes_10 : decode cX3_passes 10 = .ok (.invokevirtual 93, 3) := dk_182 0 93 (dk_at dksX3_passes_0 10 rfl rfl)
theorem dX3_passes_13 : decode cX3_passes 13 = .ok (.ireturn, 1) := dk_172 (dk_at dksX3_passes_0 13 rfl rfl)
theorem dX3_passes_14 : decode cX3_passes 14 = .ok (.aload_n 0, 1) := dk_42 (dk_at dksX3_passes_0 14 rfl rfl)
theorem dX3_passes_15 : decode cX3_passes 15 = .ok (.invokevirtual 97, 3) := dk_182 0 97 (dk_at dksX3_passes_0 15 rfl rfl)
theorem dX3_passes_18 : decode cX3_passes 18 = .ok (.iconst 1, 1) := dk_4 (dk_at dksX3_passes_0 18 rfl rfl)
theorem dX3_passes_19 : decode cX3_passes 19 = .ok (.ireturn, 1) := dk_172 (dk_at dksX3_passes_0 19 rfl rfl)
abbrev cX3_lays : ByteArray := prog_14_method_15_code
def yX3_lays : MethodName := ⟨RX3, "lays", "(III)Z"⟩
def dkwX3_lays_2 : List UInt8 := [172]
abbrev dktX3_lays_2 : List UInt8 := dkwX3_lays_2 ++ []
def dkwX3_lays_1 : List UInt8 := [154, 0, 9, 42, 5, 182, 0, 93, 172, 42, 180, 0, 20, 27, 42, 180, 0, 74, 79, 42, 182, 0, 97, 4]
abbrev dktX3_lays_1 : List UInt8 := dkwX3_lays_1 ++ dktX3_lays_2
def dkwX3_lays_0 : List UInt8 := [42, 180, 0, 67, 6, 159, 0, 9, 42, 4, 182, 0, 93, 172, 42, 180, 0, 74, 28, 29, 184, 0, 70]
abbrev dktX3_lays_0 : List UInt8 := dkwX3_lays_0 ++ dktX3_lays_1
theorem dksX3_lays_0 : cX3_lays.data.toList.drop 0 = dktX3_lays_0 := by decide +kernel
theorem dksX3_lays_1 : cX3_lays.data.toList.drop 23 = dktX3_lays_1 := dk_seg dksX3_lays_0 23 rfl rfl
theorem dksX3_lays_2 : cX3_lays.data.toList.drop 47 = dktX3_lays_2 := dk_seg dksX3_lays_1 24 rfl rfl
theorem dX3_lays_0 : decode cX3_lays 0 = .ok (.aload_n 0, 1) := dk_42 (dk_at dksX3_lays_0 0 rfl rfl)
theorem dX3_lays_1 : decode cX3_lays 1 = .ok (.getfield 67, 3) := dk_180 0 67 (dk_at dksX3_lays_0 1 rfl rfl)
theorem dX3_lays_4 : decode cX3_lays 4 = .ok (.iconst 3, 1) := dk_6 (dk_at dksX3_lays_0 4 rfl rfl)
theorem dX3_lays_5 : decode cX3_lays 5 = .ok (.if_icmp .eq 9, 3) := dk_159 0 9 (dk_at dksX3_lays_0 5 rfl rfl)
theorem dX3_lays_8 : decode cX3_lays 8 = .ok (.aload_n 0, 1) := dk_42 (dk_at dksX3_lays_0 8 rfl rfl)
theorem dX3_lays_9 : decode cX3_lays 9 = .ok (.iconst 1, 1) := dk_4 (dk_at dksX3_lays_0 9 rfl rfl)
theorem dX3_lays_10 : decode cX3_lays 10 = .ok (.invokevirtual 93, 3) := dk_182 0 93 (dk_at dksX3_lays_0 10 rfl rfl)
theorem dX3_lays_13 : decode cX3_lays 13 = .ok (.ireturn, 1) := dk_172 (dk_at dksX3_lays_0 13 rfl rfl)
theorem dX3_lays_14 : decode cX3_lays 14 = .ok (.aload_n 0, 1) := dk_42 (dk_at dksX3_lays_0 14 rfl rfl)
theorem dX3_lays_15 : decode cX3_lays 15 = .ok (.getfield 74, 3) := dk_180 0 74 (dk_at dksX3_lays_0 15 rfl rfl)
theorem dX3_lays_18 : decode cX3_lays 18 = .ok (.iload_n 2, 1) := dk_28 (dk_at dksX3_lays_0 18 rfl rfl)
theorem dX3_lays_19 : decode cX3_lays 19 = .ok (.iload_n 3, 1) := dk_29 (dk_at dksX3_lays_0 19 rfl rfl)
theorem dX3_lays_20 : decode cX3_lays 20 = .ok (.invokestatic 70, 3) := dk_184 0 70 (dk_at dksX3_lays_0 20 rfl rfl)
theorem dX3_lays_23 : decode cX3_lays 23 = .ok (.ifCond .ne 9, 3) := dk_154 0 9 (dk_at dksX3_lays_1 0 rfl rfl)
theorem dX3_lays_26 : decode cX3_lays 26 = .ok (.aload_n 0, 1) := dk_42 (dk_at dksX3_lays_1 3 rfl rfl)
theorem dX3_lays_27 : decode cX3_lays 27 = .ok (.iconst 2, 1) := dk_5 (dk_at dksX3_lays_1 4 rfl rfl)
theorem dX3_lays_28 : decode cX3_lays 28 = .ok (.invokevirtual 93, 3) := dk_182 0 93 (dk_at dksX3_lays_1 5 rfl rfl)
theorem dX3_lays_31 : decode cX3_lays 31 = .ok (.ireturn, 1) := dk_172 (dk_at dksX3_lays_1 8 rfl rfl)
theorem dX3_lays_32 : decode cX3_lays 32 = .ok (.aload_n 0, 1) := dk_42 (dk_at dksX3_lays_1 9 rfl rfl)
theorem dX3_lays_33 : decode cX3_lays 33 = .ok (.getfield 20, 3) := dk_180 0 20 (dk_at dksX3_lays_1 10 rfl rfl)
theorem dX3_lays_36 : decode cX3_lays 36 = .ok (.iload_n 1, 1) := dk_27 (dk_at dksX3_lays_1 13 rfl rfl)
theorem dX3_lays_37 : decode cX3_lays 37 = .ok (.aload_n 0, 1) := dk_42 (dk_at dksX3_lays_1 14 rfl rfl)
theorem dX3_lays_38 : decode cX3_lays 38 = .ok (.getfield 74, 3) := dk_180 0 74 (dk_at dksX3_lays_1 15 rfl rfl)
theorem dX3_lays_41 : decode cX3_lays 41 = .ok (.iastore, 1) := dk_79 (dk_at dksX3_lays_1 18 rfl rfl)
theorem dX3_lays_42 : decode cX3_lays 42 = .ok (.aload_n 0, 1) := dk_42 (dk_at dksX3_lays_1 19 rfl rfl)
theorem dX3_lays_43 : decode cX3_lays 43 = .ok (.invokevirtual 97, 3) := dk_182 0 97 (dk_at dksX3_lays_1 20 rfl rfl)
theorem dX3_lays_46 : decode cX3_lays 46 = .ok (.iconst 1, 1) := dk_4 (dk_at dksX3_lays_1 23 rfl rfl)
theorem dX3_lays_47 : decode cX3_lays 47 = .ok (.ireturn, 1) := dk_172 (dk_at dksX3_lays_2 0 rfl rfl)
abbrev cX3_readEar : ByteArray := prog_14_method_19_code
def yX3_readEar : MethodName := ⟨RX3, "readEar", "(I)Z"⟩
def dkwX3_readEar_8 : List UInt8 := [180, 0, 128, 4, 27, 120, 128, 181, 0, 128, 4, 172]
abbrev dktX3_readEar_8 : List UInt8 := dkwX3_readEar_8 ++ []
def dkwX3_readEar_7 : List UInt8 := [27, 104, 96, 28, 96, 3, 16, 24, 182, 0, 107, 154, 0, 5, 3, 172, 132, 2, 1, 167, 255, 174, 42, 89]
abbrev dktX3_readEar_7 : List UInt8 := dkwX3_readEar_7 ++ dktX3_readEar_8
def dkwX3_readEar_6 : List UInt8 := [16, 6, 16, 6, 27, 104, 96, 28, 96, 46, 164, 0, 9, 42, 7, 182, 0, 93, 172, 42, 16, 18, 16, 6]
abbrev dktX3_readEar_6 : List UInt8 := dkwX3_readEar_6 ++ dktX3_readEar_7
def dkwX3_readEar_5 : List UInt8 := [160, 0, 43, 42, 180, 0, 74, 3, 16, 24, 184, 0, 70, 153, 0, 30, 42, 180, 0, 74, 42, 180, 0, 20]
abbrev dktX3_readEar_5 : List UInt8 := dkwX3_readEar_5 ++ dktX3_readEar_6
def dkwX3_readEar_4 : List UInt8 := [154, 0, 5, 3, 172, 3, 61, 28, 42, 180, 0, 20, 3, 46, 162, 0, 78, 42, 180, 0, 67, 6]
abbrev dktX3_readEar_4 : List UInt8 := dkwX3_readEar_4 ++ dktX3_readEar_5
def dkwX3_readEar_3 : List UInt8 := [16, 24, 182, 0, 107, 154, 0, 5, 3, 172, 132, 2, 1, 167, 255, 222, 42, 18, 133, 182, 0, 104]
abbrev dktX3_readEar_3 : List UInt8 := dkwX3_readEar_3 ++ dktX3_readEar_4
def dkwX3_readEar_2 : List UInt8 := [172, 3, 61, 28, 42, 180, 0, 20, 3, 46, 162, 0, 30, 42, 16, 6, 16, 6, 27, 104, 96, 28, 96, 3]
abbrev dktX3_readEar_2 : List UInt8 := dkwX3_readEar_2 ++ dktX3_readEar_3
def dkwX3_readEar_1 : List UInt8 := [154, 0, 10, 42, 16, 6, 182, 0, 93, 172, 42, 182, 0, 97, 42, 18, 131, 182, 0, 104, 154, 0, 5, 3]
abbrev dktX3_readEar_1 : List UInt8 := dkwX3_readEar_1 ++ dktX3_readEar_2
def dkwX3_readEar_0 : List UInt8 := [42, 180, 0, 128, 27, 122, 4, 126, 4, 160, 0, 9, 42, 6, 182, 0, 93, 172, 42, 180, 0, 110]
abbrev dktX3_readEar_0 : List UInt8 := dkwX3_readEar_0 ++ dktX3_readEar_1
theorem dksX3_readEar_0 : cX3_readEar.data.toList.drop 0 = dktX3_readEar_0 := by decide +kernel
theorem dksX3_readEar_1 : cX3_readEar.data.toList.drop 22 = dktX3_readEar_1 := dk_seg dksX3_readEar_0 22 rfl rfl
theorem dksX3_readEar_2 : cX3_readEar.data.toList.drop 46 = dktX3_readEar_2 := dk_seg dksX3_readEar_1 24 rfl rfl
theorem dksX3_readEar_3 : cX3_readEar.data.toList.drop 70 = dktX3_readEar_3 := dk_seg dksX3_readEar_2 24 rfl rfl
theorem dksX3_readEar_4 : cX3_readEar.data.toList.drop 92 = dktX3_readEar_4 := dk_seg dksX3_readEar_3 22 rfl rfl
theorem dksX3_readEar_5 : cX3_readEar.data.toList.drop 114 = dktX3_readEar_5 := dk_seg dksX3_readEar_4 22 rfl rfl
theorem dksX3_readEar_6 : cX3_readEar.data.toList.drop 138 = dktX3_readEar_6 := dk_seg dksX3_readEar_5 24 rfl rfl
theorem dksX3_readEar_7 : cX3_readEar.data.toList.drop 162 = dktX3_readEar_7 := dk_seg dksX3_readEar_6 24 rfl rfl
theorem dksX3_readEar_8 : cX3_readEar.data.toList.drop 186 = dktX3_readEar_8 := dk_seg dksX3_readEar_7 24 rfl rfl
theorem dX3_readEar_0 : decode cX3_readEar 0 = .ok (.aload_n 0, 1) := dk_42 (dk_at dksX3_readEar_0 0 rfl rfl)
theorem dX3_readEar_1 : decode cX3_readEar 1 = .ok (.getfield 128, 3) := dk_180 0 128 (dk_at dksX3_readEar_0 1 rfl rfl)
theorem dX3_readEar_4 : decode cX3_readEar 4 = .ok (.iload_n 1, 1) := dk_27 (dk_at dksX3_readEar_0 4 rfl rfl)
theorem dX3_readEar_5 : decode cX3_readEar 5 = .ok (.ishr, 1) := dk_122 (dk_at dksX3_readEar_0 5 rfl rfl)
theorem dX3_readEar_6 : decode cX3_readEar 6 = .ok (.iconst 1, 1) := dk_4 (dk_at dksX3_readEar_0 6 rfl rfl)
theorem dX3_readEar_7 : decode cX3_readEar 7 = .ok (.iand, 1) := dk_126 (dk_at dksX3_readEar_0 7 rfl rfl)
theorem dX3_readEar_8 : decode cX3_readEar 8 = .ok (.iconst 1, 1) := dk_4 (dk_at dksX3_readEar_0 8 rfl rfl)
theorem dX3_readEar_9 : decode cX3_readEar 9 = .ok (.if_icmp .ne 9, 3) := dk_160 0 9 (dk_at dksX3_readEar_0 9 rfl rfl)
theorem dX3_readEar_12 : decode cX3_readEar 12 = .ok (.aload_n 0, 1) := dk_42 (dk_at dksX3_readEar_0 12 rfl rfl)
theorem dX3_readEar_13 : decode cX3_readEar 13 = .ok (.iconst 3, 1) := dk_6 (dk_at dksX3_readEar_0 13 rfl rfl)
theorem dX3_readEar_14 : decode cX3_readEar 14 = .ok (.invokevirtual 93, 3) := dk_182 0 93 (dk_at dksX3_readEar_0 14 rfl rfl)
theorem dX3_readEar_17 : decode cX3_readEar 17 = .ok (.ireturn, 1) := dk_172 (dk_at dksX3_readEar_0 17 rfl rfl)
theorem dX3_readEar_18 : decode cX3_readEar 18 = .ok (.aload_n 0, 1) := dk_42 (dk_at dksX3_readEar_0 18 rfl rfl)
theorem dX3_readEar_19 : decode cX3_readEar 19 = .ok (.getfield 110, 3) := dk_180 0 110 (dk_at dksX3_readEar_0 19 rfl rfl)
theorem dX3_readEar_22 : decode cX3_readEar 22 = .ok (.ifCond .ne 10, 3) := dk_154 0 10 (dk_at dksX3_readEar_1 0 rfl rfl)
theorem dX3_readEar_25 : decode cX3_readEar 25 = .ok (.aload_n 0, 1) := dk_42 (dk_at dksX3_readEar_1 3 rfl rfl)
theorem dX3_readEar_26 : decode cX3_readEar 26 = .ok (.bipush 6, 2) := dk_16 6 (dk_at dksX3_readEar_1 4 rfl rfl)
theorem dX3_readEar_28 : decode cX3_readEar 28 = .ok (.invokevirtual 93, 3) := dk_182 0 93 (dk_at dksX3_readEar_1 6 rfl rfl)
theorem dX3_readEar_31 : decode cX3_readEar 31 = .ok (.ireturn, 1) := dk_172 (dk_at dksX3_readEar_1 9 rfl rfl)
theorem dX3_readEar_32 : decode cX3_readEar 32 = .ok (.aload_n 0, 1) := dk_42 (dk_at dksX3_readEar_1 10 rfl rfl)
theorem dX3_readEar_33 : decode cX3_readEar 33 = .ok (.invokevirtual 97, 3) := dk_182 0 97 (dk_at dksX3_readEar_1 11 rfl rfl)
theorem dX3_readEar_36 : decode cX3_readEar 36 = .ok (.aload_n 0, 1) := dk_42 (dk_at dksX3_readEar_1 14 rfl rfl)
theorem dX3_readEar_37 : decode cX3_readEar 37 = .ok (.ldc 131, 2) := dk_18 131 (dk_at dksX3_readEar_1 15 rfl rfl)
theorem dX3_readEar_39 : decode cX3_readEar 39 = .ok (.invokevirtual 104, 3) := dk_182 0 104 (dk_at dksX3_readEar_1 17 rfl rfl)
theorem dX3_readEar_42 : decode cX3_readEar 42 = .ok (.ifCond .ne 5, 3) := dk_154 0 5 (dk_at dksX3_readEar_1 20 rfl rfl)
theorem dX3_readEar_45 : decode cX3_readEar 45 = .ok (.iconst 0, 1) := dk_3 (dk_at dksX3_readEar_1 23 rfl rfl)
theorem dX3_readEar_46 : decode cX3_readEar 46 = .ok (.ireturn, 1) := dk_172 (dk_at dksX3_readEar_2 0 rfl rfl)
theorem dX3_readEar_47 : decode cX3_readEar 47 = .ok (.iconst 0, 1) := dk_3 (dk_at dksX3_readEar_2 1 rfl rfl)
theorem dX3_readEar_48 : decode cX3_readEar 48 = .ok (.istore_n 2, 1) := dk_61 (dk_at dksX3_readEar_2 2 rfl rfl)
theorem dX3_readEar_49 : decode cX3_readEar 49 = .ok (.iload_n 2, 1) := dk_28 (dk_at dksX3_readEar_2 3 rfl rfl)
theorem dX3_readEar_50 : decode cX3_readEar 50 = .ok (.aload_n 0, 1) := dk_42 (dk_at dksX3_readEar_2 4 rfl rfl)
theorem dX3_readEar_51 : decode cX3_readEar 51 = .ok (.getfield 20, 3) := dk_180 0 20 (dk_at dksX3_readEar_2 5 rfl rfl)
theorem dX3_readEar_54 : decode cX3_readEar 54 = .ok (.iconst 0, 1) := dk_3 (dk_at dksX3_readEar_2 8 rfl rfl)
theorem dX3_readEar_55 : decode cX3_readEar 55 = .ok (.iaload, 1) := dk_46 (dk_at dksX3_readEar_2 9 rfl rfl)
theorem dX3_readEar_56 : decode cX3_readEar 56 = .ok (.if_icmp .ge 30, 3) := dk_162 0 30 (dk_at dksX3_readEar_2 10 rfl rfl)
theorem dX3_readEar_59 : decode cX3_readEar 59 = .ok (.aload_n 0, 1) := dk_42 (dk_at dksX3_readEar_2 13 rfl rfl)
theorem dX3_readEar_60 : decode cX3_readEar 60 = .ok (.bipush 6, 2) := dk_16 6 (dk_at dksX3_readEar_2 14 rfl rfl)
theorem dX3_readEar_62 : decode cX3_readEar 62 = .ok (.bipush 6, 2) := dk_16 6 (dk_at dksX3_readEar_2 16 rfl rfl)
theorem dX3_readEar_64 : decode cX3_readEar 64 = .ok (.iload_n 1, 1) := dk_27 (dk_at dksX3_readEar_2 18 rfl rfl)
theorem dX3_readEar_65 : decode cX3_readEar 65 = .ok (.imul, 1) := dk_104 (dk_at dksX3_readEar_2 19 rfl rfl)
theorem dX3_readEar_66 : decode cX3_readEar 66 = .ok (.iadd, 1) := dk_96 (dk_at dksX3_readEar_2 20 rfl rfl)
theorem dX3_readEar_67 : decode cX3_readEar 67 = .ok (.iload_n 2, 1) := dk_28 (dk_at dksX3_readEar_2 21 rfl rfl)
theorem dX3_readEar_68 : decode cX3_readEar 68 = .ok (.iadd, 1) := dk_96 (dk_at dksX3_readEar_2 22 rfl rfl)
theorem dX3_readEar_69 : decode cX3_readEar 69 = .ok (.iconst 0, 1) := dk_3 (dk_at dksX3_readEar_2 23 rfl rfl)
theorem dX3_readEar_70 : decode cX3_readEar 70 = .ok (.bipush 24, 2) := dk_16 24 (dk_at dksX3_readEar_3 0 rfl rfl)
theorem dX3_readEar_72 : decode cX3_readEar 72 = .ok (.invokevirtual 107, 3) := dk_182 0 107 (dk_at dksX3_readEar_3 2 rfl rfl)
theorem dX3_readEar_75 : decode cX3_readEar 75 = .ok (.ifCond .ne 5, 3) := dk_154 0 5 (dk_at dksX3_readEar_3 5 rfl rfl)
theorem dX3_readEar_78 : decode cX3_readEar 78 = .ok (.iconst 0, 1) := dk_3 (dk_at dksX3_readEar_3 8 rfl rfl)
theorem dX3_readEar_79 : decode cX3_readEar 79 = .ok (.ireturn, 1) := dk_172 (dk_at dksX3_readEar_3 9 rfl rfl)
theorem dX3_readEar_80 : decode cX3_readEar 80 = .ok (.iinc 2 1, 3) := dk_132 2 1 (dk_at dksX3_readEar_3 10 rfl rfl)
theorem dX3_readEar_83 : decode cX3_readEar 83 = .ok (.goto (-34), 3) := dk_167 255 222 (dk_at dksX3_readEar_3 13 rfl rfl)
theorem dX3_readEar_86 : decode cX3_readEar 86 = .ok (.aload_n 0, 1) := dk_42 (dk_at dksX3_readEar_3 16 rfl rfl)
theorem dX3_readEar_87 : decode cX3_readEar 87 = .ok (.ldc 133, 2) := dk_18 133 (dk_at dksX3_readEar_3 17 rfl rfl)
theorem dX3_readEar_89 : decode cX3_readEar 89 = .ok (.invokevirtual 104, 3) := dk_182 0 104 (dk_at dksX3_readEar_3 19 rfl rfl)
theorem dX3_readEar_92 : decode cX3_readEar 92 = .ok (.ifCond .ne 5, 3) := dk_154 0 5 (dk_at dksX3_readEar_4 0 rfl rfl)
theorem dX3_readEar_95 : decode cX3_readEar 95 = .ok (.iconst 0, 1) := dk_3 (dk_at dksX3_readEar_4 3 rfl rfl)
theorem dX3_readEar_96 : decode cX3_readEar 96 = .ok (.ireturn, 1) := dk_172 (dk_at dksX3_readEar_4 4 rfl rfl)
theorem dX3_readEar_97 : decode cX3_readEar 97 = .ok (.iconst 0, 1) := dk_3 (dk_at dksX3_readEar_4 5 rfl rfl)
theorem dX3_readEar_98 : decode cX3_readEar 98 = .ok (.istore_n 2, 1) := dk_61 (dk_at dksX3_readEar_4 6 rfl rfl)
theorem dX3_readEar_99 : decode cX3_readEar 99 = .ok (.iload_n 2, 1) := dk_28 (dk_at dksX3_readEar_4 7 rfl rfl)
theorem dX3_readEar_100 : decode cX3_readEar 100 = .ok (.aload_n 0, 1) := dk_42 (dk_at dksX3_readEar_4 8 rfl rfl)
theorem dX3_readEar_101 : decode cX3_readEar 101 = .ok (.getfield 20, 3) := dk_180 0 20 (dk_at dksX3_readEar_4 9 rfl rfl)
theorem dX3_readEar_104 : decode cX3_readEar 104 = .ok (.iconst 0, 1) := dk_3 (dk_at dksX3_readEar_4 12 rfl rfl)
theorem dX3_readEar_105 : decode cX3_readEar 105 = .ok (.iaload, 1) := dk_46 (dk_at dksX3_readEar_4 13 rfl rfl)
theorem dX3_readEar_106 : decode cX3_readEar 106 = .ok (.if_icmp .ge 78, 3) := dk_162 0 78 (dk_at dksX3_readEar_4 14 rfl rfl)
theorem dX3_readEar_109 : decode cX3_readEar 109 = .ok (.aload_n 0, 1) := dk_42 (dk_at dksX3_readEar_4 17 rfl rfl)
theorem dX3_readEar_110 : decode cX3_readEar 110 = .ok (.getfield 67, 3) := dk_180 0 67 (dk_at dksX3_readEar_4 18 rfl rfl)
theorem dX3_readEar_113 : decode cX3_readEar 113 = .ok (.iconst 3, 1) := dk_6 (dk_at dksX3_readEar_4 21 rfl rfl)
theorem dX3_readEar_114 : decode cX3_readEar 114 = .ok (.if_icmp .ne 43, 3) := dk_160 0 43 (dk_at dksX3_readEar_5 0 rfl rfl)
theorem dX3_readEar_117 : decode cX3_readEar 117 = .ok (.aload_n 0, 1) := dk_42 (dk_at dksX3_readEar_5 3 rfl rfl)
theorem dX3_readEar_118 : decode cX3_readEar 118 = .ok (.getfield 74, 3) := dk_180 0 74 (dk_at dksX3_readEar_5 4 rfl rfl)
theorem dX3_readEar_121 : decode cX3_readEar 121 = .ok (.iconst 0, 1) := dk_3 (dk_at dksX3_readEar_5 7 rfl rfl)
theorem dX3_readEar_122 : decode cX3_readEar 122 = .ok (.bipush 24, 2) := dk_16 24 (dk_at dksX3_readEar_5 8 rfl rfl)
theorem dX3_readEar_124 : decode cX3_readEar 124 = .ok (.invokestatic 70, 3) := dk_184 0 70 (dk_at dksX3_readEar_5 10 rfl rfl)
theorem dX3_readEar_127 : decode cX3_readEar 127 = .ok (.ifCond .eq 30, 3) := dk_153 0 30 (dk_at dksX3_readEar_5 13 rfl rfl)
theorem dX3_readEar_130 : decode cX3_readEar 130 = .ok (.aload_n 0, 1) := dk_42 (dk_at dksX3_readEar_5 16 rfl rfl)
theorem dX3_readEar_131 : decode cX3_readEar 131 = .ok (.getfield 74, 3) := dk_180 0 74 (dk_at dksX3_readEar_5 17 rfl rfl)
theorem dX3_readEar_134 : decode cX3_readEar 134 = .ok (.aload_n 0, 1) := dk_42 (dk_at dksX3_readEar_5 20 rfl rfl)
theorem dX3_readEar_135 : decode cX3_readEar 135 = .ok (.getfield 20, 3) := dk_180 0 20 (dk_at dksX3_readEar_5 21 rfl rfl)
theorem dX3_readEar_138 : decode cX3_readEar 138 = .ok (.bipush 6, 2) := dk_16 6 (dk_at dksX3_readEar_6 0 rfl rfl)
theorem dX3_readEar_140 : decode cX3_readEar 140 = .ok (.bipush 6, 2) := dk_16 6 (dk_at dksX3_readEar_6 2 rfl rfl)
theorem dX3_readEar_142 : decode cX3_readEar 142 = .ok (.iload_n 1, 1) := dk_27 (dk_at dksX3_readEar_6 4 rfl rfl)
theorem dX3_readEar_143 : decode cX3_readEar 143 = .ok (.imul, 1) := dk_104 (dk_at dksX3_readEar_6 5 rfl rfl)
theorem dX3_readEar_144 : decode cX3_readEar 144 = .ok (.iadd, 1) := dk_96 (dk_at dksX3_readEar_6 6 rfl rfl)
theorem dX3_readEar_145 : decode cX3_readEar 145 = .ok (.iload_n 2, 1) := dk_28 (dk_at dksX3_readEar_6 7 rfl rfl)
theorem dX3_readEar_146 : decode cX3_readEar 146 = .ok (.iadd, 1) := dk_96 (dk_at dksX3_readEar_6 8 rfl rfl)
theorem dX3_readEar_147 : decode cX3_readEar 147 = .ok (.iaload, 1) := dk_46 (dk_at dksX3_readEar_6 9 rfl rfl)
theorem dX3_readEar_148 : decode cX3_readEar 148 = .ok (.if_icmp .le 9, 3) := dk_164 0 9 (dk_at dksX3_readEar_6 10 rfl rfl)
theorem dX3_readEar_151 : decode cX3_readEar 151 = .ok (.aload_n 0, 1) := dk_42 (dk_at dksX3_readEar_6 13 rfl rfl)
theorem dX3_readEar_152 : decode cX3_readEar 152 = .ok (.iconst 4, 1) := dk_7 (dk_at dksX3_readEar_6 14 rfl rfl)
theorem dX3_readEar_153 : decode cX3_readEar 153 = .ok (.invokevirtual 93, 3) := dk_182 0 93 (dk_at dksX3_readEar_6 15 rfl rfl)
theorem dX3_readEar_156 : decode cX3_readEar 156 = .ok (.ireturn, 1) := dk_172 (dk_at dksX3_readEar_6 18 rfl rfl)
theorem dX3_readEar_157 : decode cX3_readEar 157 = .ok (.aload_n 0, 1) := dk_42 (dk_at dksX3_readEar_6 19 rfl rfl)
theorem dX3_readEar_158 : decode cX3_readEar 158 = .ok (.bipush 18, 2) := dk_16 18 (dk_at dksX3_readEar_6 20 rfl rfl)
theorem dX3_readEar_160 : decode cX3_readEar 160 = .ok (.bipush 6, 2) := dk_16 6 (dk_at dksX3_readEar_6 22 rfl rfl)
theorem dX3_readEar_162 : decode cX3_readEar 162 = .ok (.iload_n 1, 1) := dk_27 (dk_at dksX3_readEar_7 0 rfl rfl)
theorem dX3_readEar_163 : decode cX3_readEar 163 = .ok (.imul, 1) := dk_104 (dk_at dksX3_readEar_7 1 rfl rfl)
theorem dX3_readEar_164 : decode cX3_readEar 164 = .ok (.iadd, 1) := dk_96 (dk_at dksX3_readEar_7 2 rfl rfl)
theorem dX3_readEar_165 : decode cX3_readEar 165 = .ok (.iload_n 2, 1) := dk_28 (dk_at dksX3_readEar_7 3 rfl rfl)
theorem dX3_readEar_166 : decode cX3_readEar 166 = .ok (.iadd, 1) := dk_96 (dk_at dksX3_readEar_7 4 rfl rfl)
theorem dX3_readEar_167 : decode cX3_readEar 167 = .ok (.iconst 0, 1) := dk_3 (dk_at dksX3_readEar_7 5 rfl rfl)
theorem dX3_readEar_168 : decode cX3_readEar 168 = .ok (.bipush 24, 2) := dk_16 24 (dk_at dksX3_readEar_7 6 rfl rfl)
theorem dX3_readEar_170 : decode cX3_readEar 170 = .ok (.invokevirtual 107, 3) := dk_182 0 107 (dk_at dksX3_readEar_7 8 rfl rfl)
theorem dX3_readEar_173 : decode cX3_readEar 173 = .ok (.ifCond .ne 5, 3) := dk_154 0 5 (dk_at dksX3_readEar_7 11 rfl rfl)
theorem dX3_readEar_176 : decode cX3_readEar 176 = .ok (.iconst 0, 1) := dk_3 (dk_at dksX3_readEar_7 14 rfl rfl)
theorem dX3_readEar_177 : decode cX3_readEar 177 = .ok (.ireturn, 1) := dk_172 (dk_at dksX3_readEar_7 15 rfl rfl)
theorem dX3_readEar_178 : decode cX3_readEar 178 = .ok (.iinc 2 1, 3) := dk_132 2 1 (dk_at dksX3_readEar_7 16 rfl rfl)
theorem dX3_readEar_181 : decode cX3_readEar 181 = .ok (.goto (-82), 3) := dk_167 255 174 (dk_at dksX3_readEar_7 19 rfl rfl)
theorem dX3_readEar_184 : decode cX3_readEar 184 = .ok (.aload_n 0, 1) := dk_42 (dk_at dksX3_readEar_7 22 rfl rfl)
theorem dX3_readEar_185 : decode cX3_readEar 185 = .ok (.dup, 1) := dk_89 (dk_at dksX3_readEar_7 23 rfl rfl)
theorem dX3_readEar_186 : decode cX3_readEar 186 = .ok (.getfield 128, 3) := dk_180 0 128 (dk_at dksX3_readEar_8 0 rfl rfl)
theorem dX3_readEar_189 : decode cX3_readEar 189 = .ok (.iconst 1, 1) := dk_4 (dk_at dksX3_readEar_8 3 rfl rfl)
theorem dX3_readEar_190 : decode cX3_readEar 190 = .ok (.iload_n 1, 1) := dk_27 (dk_at dksX3_readEar_8 4 rfl rfl)
theorem dX3_readEar_191 : decode cX3_readEar 191 = .ok (.ishl, 1) := dk_120 (dk_at dksX3_readEar_8 5 rfl rfl)
theorem dX3_readEar_192 : decode cX3_readEar 192 = .ok (.ior, 1) := dk_128 (dk_at dksX3_readEar_8 6 rfl rfl)
theorem dX3_readEar_193 : decode cX3_readEar 193 = .ok (.putfield 128, 3) := dk_181 0 128 (dk_at dksX3_readEar_8 7 rfl rfl)
theorem dX3_readEar_196 : decode cX3_readEar 196 = .ok (.iconst 1, 1) := dk_4 (dk_at dksX3_readEar_8 10 rfl rfl)
theorem dX3_readEar_197 : decode cX3_readEar 197 = .ok (.ireturn, 1) := dk_172 (dk_at dksX3_readEar_8 11 rfl rfl)
abbrev cX3_readSlip : ByteArray := prog_14_method_20_code
def yX3_readSlip : MethodName := ⟨RX3, "readSlip", "()Z"⟩
def dkwX3_readSlip_3 : List UInt8 := [154, 0, 5, 3, 172, 42, 180, 0, 20, 8, 92, 46, 4, 96, 79, 4, 172]
abbrev dktX3_readSlip_3 : List UInt8 := dkwX3_readSlip_3 ++ []
def dkwX3_readSlip_2 : List UInt8 := [167, 0, 16, 42, 180, 0, 20, 16, 30, 27, 96, 4, 100, 46, 4, 96, 17, 3, 231, 182, 0, 107]
abbrev dktX3_readSlip_2 : List UInt8 := dkwX3_readSlip_2 ++ dktX3_readSlip_3
def dkwX3_readSlip_1 : List UInt8 := [154, 0, 10, 42, 16, 6, 182, 0, 93, 172, 42, 182, 0, 97, 42, 16, 30, 27, 96, 27, 154, 0, 7, 4]
abbrev dktX3_readSlip_1 : List UInt8 := dkwX3_readSlip_1 ++ dktX3_readSlip_2
def dkwX3_readSlip_0 : List UInt8 := [42, 180, 0, 20, 8, 46, 60, 27, 16, 12, 160, 0, 9, 42, 8, 182, 0, 93, 172, 42, 180, 0, 110]
abbrev dktX3_readSlip_0 : List UInt8 := dkwX3_readSlip_0 ++ dktX3_readSlip_1
theorem dksX3_readSlip_0 : cX3_readSlip.data.toList.drop 0 = dktX3_readSlip_0 := by decide +kernel
theorem dksX3_readSlip_1 : cX3_readSlip.data.toList.drop 23 = dktX3_readSlip_1 := dk_seg dksX3_readSlip_0 23 rfl rfl
theorem dksX3_readSlip_2 : cX3_readSlip.data.toList.drop 47 = dktX3_readSlip_2 := dk_seg dksX3_readSlip_1 24 rfl rfl
theorem dksX3_readSlip_3 : cX3_readSlip.data.toList.drop 69 = dktX3_readSlip_3 := dk_seg dksX3_readSlip_2 22 rfl rfl
theorem dX3_readSlip_0 : decode cX3_readSlip 0 = .ok (.aload_n 0, 1) := dk_42 (dk_at dksX3_readSlip_0 0 rfl rfl)
theorem dX3_readSlip_1 : decode cX3_readSlip 1 = .ok (.getfield 20, 3) := dk_180 0 20 (dk_at dksX3_readSlip_0 1 rfl rfl)
theorem dX3_readSlip_4 : decode cX3_readSlip 4 = .ok (.iconst 5, 1) := dk_8 (dk_at dksX3_readSlip_0 4 rfl rfl)
theorem dX3_readSlip_5 : decode cX3_readSlip 5 = .ok (.iaload, 1) := dk_46 (dk_at dksX3_readSlip_0 5 rfl rfl)
theorem dX3_readSlip_6 : decode cX3_readSlip 6 = .ok (.istore_n 1, 1) := dk_60 (dk_at dksX3_readSlip_0 6 rfl rfl)
theorem dX3_readSlip_7 : decode cX3_readSlip 7 = .ok (.iload_n 1, 1) := dk_27 (dk_at dksX3_readSlip_0 7 rfl rfl)
theorem dX3_readSlip_8 : decode cX3_readSlip 8 = .ok (.bipush 12, 2) := dk_16 12 (dk_at dksX3_readSlip_0 8 rfl rfl)
theorem dX3_readSlip_10 : decode cX3_readSlip 10 = .ok (.if_icmp .ne 9, 3) := dk_160 0 9 (dk_at dksX3_readSlip_0 10 rfl rfl)
theorem dX3_readSlip_13 : decode cX3_readSlip 13 = .ok (.aload_n 0, 1) := dk_42 (dk_at dksX3_readSlip_0 13 rfl rfl)
theorem dX3_readSlip_14 : decode cX3_readSlip 14 = .ok (.iconst 5, 1) := dk_8 (dk_at dksX3_readSlip_0 14 rfl rfl)
theorem dX3_readSlip_15 : decode cX3_readSlip 15 = .ok (.invokevirtual 93, 3) := dk_182 0 93 (dk_at dksX3_readSlip_0 15 rfl rfl)
theorem dX3_readSlip_18 : decode cX3_readSlip 18 = .ok (.ireturn, 1) := dk_172 (dk_at dksX3_readSlip_0 18 rfl rfl)
theorem dX3_readSlip_19 : decode cX3_readSlip 19 = .ok (.aload_n 0, 1) := dk_42 (dk_at dksX3_readSlip_0 19 rfl rfl)
theorem dX3_readSlip_20 : decode cX3_readSlip 20 = .ok (.getfield 110, 3) := dk_180 0 110 (dk_at dksX3_readSlip_0 20 rfl rfl)
theorem dX3_readSlip_23 : decode cX3_readSlip 23 = .ok (.ifCond .ne 10, 3) := dk_154 0 10 (dk_at dksX3_readSlip_1 0 rfl rfl)
theorem dX3_readSlip_26 : decode cX3_readSlip 26 = .ok (.aload_n 0, 1) := dk_42 (dk_at dksX3_readSlip_1 3 rfl rfl)
theorem dX3_readSlip_27 : decode cX3_readSlip 27 = .ok (.bipush 6, 2) := dk_16 6 (dk_at dksX3_readSlip_1 4 rfl rfl)
theorem dX3_readSlip_29 : decode cX3_readSlip 29 = .ok (.invokevirtual 93, 3) := dk_182 0 93 (dk_at dksX3_readSlip_1 6 rfl rfl)
theorem dX3_readSlip_32 : decode cX3_readSlip 32 = .ok (.ireturn, 1) := dk_172 (dk_at dksX3_readSlip_1 9 rfl rfl)
theorem dX3_readSlip_33 : decode cX3_readSlip 33 = .ok (.aload_n 0, 1) := dk_42 (dk_at dksX3_readSlip_1 10 rfl rfl)
theorem dX3_readSlip_34 : decode cX3_readSlip 34 = .ok (.invokevirtual 97, 3) := dk_182 0 97 (dk_at dksX3_readSlip_1 11 rfl rfl)
theorem dX3_readSlip_37 : decode cX3_readSlip 37 = .ok (.aload_n 0, 1) := dk_42 (dk_at dksX3_readSlip_1 14 rfl rfl)
theorem dX3_readSlip_38 : decode cX3_readSlip 38 = .ok (.bipush 30, 2) := dk_16 30 (dk_at dksX3_readSlip_1 15 rfl rfl)
theorem dX3_readSlip_40 : decode cX3_readSlip 40 = .ok (.iload_n 1, 1) := dk_27 (dk_at dksX3_readSlip_1 17 rfl rfl)
theorem dX3_readSlip_41 : decode cX3_readSlip 41 = .ok (.iadd, 1) := dk_96 (dk_at dksX3_readSlip_1 18 rfl rfl)
theorem dX3_readSlip_42 : decode cX3_readSlip 42 = .ok (.iload_n 1, 1) := dk_27 (dk_at dksX3_readSlip_1 19 rfl rfl)
theorem dX3_readSlip_43 : decode cX3_readSlip 43 = .ok (.ifCond .ne 7, 3) := dk_154 0 7 (dk_at dksX3_readSlip_1 20 rfl rfl)
theorem dX3_readSlip_46 : decode cX3_readSlip 46 = .ok (.iconst 1, 1) := dk_4 (dk_at dksX3_readSlip_1 23 rfl rfl)
theorem dX3_readSlip_47 : decode cX3_readSlip 47 = .ok (.goto 16, 3) := dk_167 0 16 (dk_at dksX3_readSlip_2 0 rfl rfl)
theorem dX3_readSlip_50 : decode cX3_readSlip 50 = .ok (.aload_n 0, 1) := dk_42 (dk_at dksX3_readSlip_2 3 rfl rfl)
theorem dX3_readSlip_51 : decode cX3_readSlip 51 = .ok (.getfield 20, 3) := dk_180 0 20 (dk_at dksX3_readSlip_2 4 rfl rfl)
theorem dX3_readSlip_54 : decode cX3_readSlip 54 = .ok (.bipush 30, 2) := dk_16 30 (dk_at dksX3_readSlip_2 7 rfl rfl)
theorem dX3_readSlip_56 : decode cX3_readSlip 56 = .ok (.iload_n 1, 1) := dk_27 (dk_at dksX3_readSlip_2 9 rfl rfl)
theorem dX3_readSlip_57 : decode cX3_readSlip 57 = .ok (.iadd, 1) := dk_96 (dk_at dksX3_readSlip_2 10 rfl rfl)
theorem dX3_readSlip_58 : decode cX3_readSlip 58 = .ok (.iconst 1, 1) := dk_4 (dk_at dksX3_readSlip_2 11 rfl rfl)
theorem dX3_readSlip_59 : decode cX3_readSlip 59 = .ok (.isub, 1) := dk_100 (dk_at dksX3_readSlip_2 12 rfl rfl)
theorem dX3_readSlip_60 : decode cX3_readSlip 60 = .ok (.iaload, 1) := dk_46 (dk_at dksX3_readSlip_2 13 rfl rfl)
theorem dX3_readSlip_61 : decode cX3_readSlip 61 = .ok (.iconst 1, 1) := dk_4 (dk_at dksX3_readSlip_2 14 rfl rfl)
theorem dX3_readSlip_62 : decode cX3_readSlip 62 = .ok (.iadd, 1) := dk_96 (dk_at dksX3_readSlip_2 15 rfl rfl)
theorem dX3_readSlip_63 : decode cX3_readSlip 63 = .ok (.sipush 999, 3) := dk_17 3 231 (dk_at dksX3_readSlip_2 16 rfl rfl)
theorem dX3_readSlip_66 : decode cX3_readSlip 66 = .ok (.invokevirtual 107, 3) := dk_182 0 107 (dk_at dksX3_readSlip_2 19 rfl rfl)
theorem dX3_readSlip_69 : decode cX3_readSlip 69 = .ok (.ifCond .ne 5, 3) := dk_154 0 5 (dk_at dksX3_readSlip_3 0 rfl rfl)
theorem dX3_readSlip_72 : decode cX3_readSlip 72 = .ok (.iconst 0, 1) := dk_3 (dk_at dksX3_readSlip_3 3 rfl rfl)
theorem dX3_readSlip_73 : decode cX3_readSlip 73 = .ok (.ireturn, 1) := dk_172 (dk_at dksX3_readSlip_3 4 rfl rfl)
theorem dX3_readSlip_74 : decode cX3_readSlip 74 = .ok (.aload_n 0, 1) := dk_42 (dk_at dksX3_readSlip_3 5 rfl rfl)
theorem dX3_readSlip_75 : decode cX3_readSlip 75 = .ok (.getfield 20, 3) := dk_180 0 20 (dk_at dksX3_readSlip_3 6 rfl rfl)
theorem dX3_readSlip_78 : decode cX3_readSlip 78 = .ok (.iconst 5, 1) := dk_8 (dk_at dksX3_readSlip_3 9 rfl rfl)
theorem dX3_readSlip_79 : decode cX3_readSlip 79 = .ok (.dup2, 1) := dk_92 (dk_at dksX3_readSlip_3 10 rfl rfl)
theorem dX3_readSlip_80 : decode cX3_readSlip 80 = .ok (.iaload, 1) := dk_46 (dk_at dksX3_readSlip_3 11 rfl rfl)
theorem dX3_readSlip_81 : decode cX3_readSlip 81 = .ok (.iconst 1, 1) := dk_4 (dk_at dksX3_readSlip_3 12 rfl rfl)
theorem dX3_readSlip_82 : decode cX3_readSlip 82 = .ok (.iadd, 1) := dk_96 (dk_at dksX3_readSlip_3 13 rfl rfl)
theorem dX3_readSlip_83 : decode cX3_readSlip 83 = .ok (.iastore, 1) := dk_79 (dk_at dksX3_readSlip_3 14 rfl rfl)
theorem dX3_readSlip_84 : decode cX3_readSlip 84 = .ok (.iconst 1, 1) := dk_4 (dk_at dksX3_readSlip_3 15 rfl rfl)
theorem dX3_readSlip_85 : decode cX3_readSlip 85 = .ok (.ireturn, 1) := dk_172 (dk_at dksX3_readSlip_3 16 rfl rfl)
abbrev cX3_no : ByteArray := prog_14_method_5_code
def yX3_no : MethodName := ⟨RX3, "no", "(I)I"⟩
def dkwX3_no_0 : List UInt8 := [42, 27, 181, 0, 44, 2, 172]
abbrev dktX3_no_0 : List UInt8 := dkwX3_no_0 ++ []
theorem dksX3_no_0 : cX3_no.data.toList.drop 0 = dktX3_no_0 := by decide +kernel
theorem dX3_no_0 : decode cX3_no 0 = .ok (.aload_n 0, 1) := dk_42 (dk_at dksX3_no_0 0 rfl rfl)
theorem dX3_no_1 : decode cX3_no 1 = .ok (.iload_n 1, 1) := dk_27 (dk_at dksX3_no_0 1 rfl rfl)
theorem dX3_no_2 : decode cX3_no 2 = .ok (.putfield 44, 3) := dk_181 0 44 (dk_at dksX3_no_0 2 rfl rfl)
theorem dX3_no_5 : decode cX3_no 5 = .ok (.iconst (-1), 1) := dk_2 (dk_at dksX3_no_0 5 rfl rfl)
theorem dX3_no_6 : decode cX3_no 6 = .ok (.ireturn, 1) := dk_172 (dk_at dksX3_no_0 6 rfl rfl)
abbrev cX3_beginsAll : ByteArray := prog_14_method_43_code
def yX3_beginsAll : MethodName := ⟨RX3, "beginsAll", "()V"⟩
def dkwX3_beginsAll_3 : List UInt8 := [3, 182, 0, 223, 87, 177]
abbrev dktX3_beginsAll_3 : List UInt8 := dkwX3_beginsAll_3 ++ []
def dkwX3_beginsAll_2 : List UInt8 := [182, 0, 219, 42, 27, 4, 28, 3, 182, 0, 219, 132, 2, 1, 167, 255, 227, 132, 1, 1, 167, 255, 214, 42]
abbrev dktX3_beginsAll_2 : List UInt8 := dkwX3_beginsAll_2 ++ dktX3_beginsAll_3
def dkwX3_beginsAll_1 : List UInt8 := [27, 5, 162, 0, 43, 3, 61, 28, 42, 180, 0, 17, 3, 46, 162, 0, 25, 42, 27, 3, 28, 3]
abbrev dktX3_beginsAll_1 : List UInt8 := dkwX3_beginsAll_1 ++ dktX3_beginsAll_2
def dkwX3_beginsAll_0 : List UInt8 := [3, 60, 27, 17, 7, 48, 162, 0, 16, 42, 180, 0, 23, 27, 3, 79, 132, 1, 1, 167, 255, 239, 3, 60]
abbrev dktX3_beginsAll_0 : List UInt8 := dkwX3_beginsAll_0 ++ dktX3_beginsAll_1
theorem dksX3_beginsAll_0 : cX3_beginsAll.data.toList.drop 0 = dktX3_beginsAll_0 := by decide +kernel
theorem dksX3_beginsAll_1 : cX3_beginsAll.data.toList.drop 24 = dktX3_beginsAll_1 := dk_seg dksX3_beginsAll_0 24 rfl rfl
theorem dksX3_beginsAll_2 : cX3_beginsAll.data.toList.drop 46 = dktX3_beginsAll_2 := dk_seg dksX3_beginsAll_1 22 rfl rfl
theorem dksX3_beginsAll_3 : cX3_beginsAll.data.toList.drop 70 = dktX3_beginsAll_3 := dk_seg dksX3_beginsAll_2 24 rfl rfl
theorem dX3_beginsAll_0 : decode cX3_beginsAll 0 = .ok (.iconst 0, 1) := dk_3 (dk_at dksX3_beginsAll_0 0 rfl rfl)
theorem dX3_beginsAll_1 : decode cX3_beginsAll 1 = .ok (.istore_n 1, 1) := dk_60 (dk_at dksX3_beginsAll_0 1 rfl rfl)
theorem dX3_beginsAll_2 : decode cX3_beginsAll 2 = .ok (.iload_n 1, 1) := dk_27 (dk_at dksX3_beginsAll_0 2 rfl rfl)
theorem dX3_beginsAll_3 : decode cX3_beginsAll 3 = .ok (.sipush 1840, 3) := dk_17 7 48 (dk_at dksX3_beginsAll_0 3 rfl rfl)
theorem dX3_beginsAll_6 : decode cX3_beginsAll 6 = .ok (.if_icmp .ge 16, 3) := dk_162 0 16 (dk_at dksX3_beginsAll_0 6 rfl rfl)
theorem dX3_beginsAll_9 : decode cX3_beginsAll 9 = .ok (.aload_n 0, 1) := dk_42 (dk_at dksX3_beginsAll_0 9 rfl rfl)
theorem dX3_beginsAll_10 : decode cX3_beginsAll 10 = .ok (.getfield 23, 3) := dk_180 0 23 (dk_at dksX3_beginsAll_0 10 rfl rfl)
theorem dX3_beginsAll_13 : decode cX3_beginsAll 13 = .ok (.iload_n 1, 1) := dk_27 (dk_at dksX3_beginsAll_0 13 rfl rfl)
theorem dX3_beginsAll_14 : decode cX3_beginsAll 14 = .ok (.iconst 0, 1) := dk_3 (dk_at dksX3_beginsAll_0 14 rfl rfl)
theorem dX3_beginsAll_15 : decode cX3_beginsAll 15 = .ok (.iastore, 1) := dk_79 (dk_at dksX3_beginsAll_0 15 rfl rfl)
theorem dX3_beginsAll_16 : decode cX3_beginsAll 16 = .ok (.iinc 1 1, 3) := dk_132 1 1 (dk_at dksX3_beginsAll_0 16 rfl rfl)
theorem dX3_beginsAll_19 : decode cX3_beginsAll 19 = .ok (.goto (-17), 3) := dk_167 255 239 (dk_at dksX3_beginsAll_0 19 rfl rfl)
theorem dX3_beginsAll_22 : decode cX3_beginsAll 22 = .ok (.iconst 0, 1) := dk_3 (dk_at dksX3_beginsAll_0 22 rfl rfl)
theorem dX3_beginsAll_23 : decode cX3_beginsAll 23 = .ok (.istore_n 1, 1) := dk_60 (dk_at dksX3_beginsAll_0 23 rfl rfl)
theorem dX3_beginsAll_24 : decode cX3_beginsAll 24 = .ok (.iload_n 1, 1) := dk_27 (dk_at dksX3_beginsAll_1 0 rfl rfl)
theorem dX3_beginsAll_25 : decode cX3_beginsAll 25 = .ok (.iconst 2, 1) := dk_5 (dk_at dksX3_beginsAll_1 1 rfl rfl)
theorem dX3_beginsAll_26 : decode cX3_beginsAll 26 = .ok (.if_icmp .ge 43, 3) := dk_162 0 43 (dk_at dksX3_beginsAll_1 2 rfl rfl)
theorem dX3_beginsAll_29 : decode cX3_beginsAll 29 = .ok (.iconst 0, 1) := dk_3 (dk_at dksX3_beginsAll_1 5 rfl rfl)
theorem dX3_beginsAll_30 : decode cX3_beginsAll 30 = .ok (.istore_n 2, 1) := dk_61 (dk_at dksX3_beginsAll_1 6 rfl rfl)
theorem dX3_beginsAll_31 : decode cX3_beginsAll 31 = .ok (.iload_n 2, 1) := dk_28 (dk_at dksX3_beginsAll_1 7 rfl rfl)
theorem dX3_beginsAll_32 : decode cX3_beginsAll 32 = .ok (.aload_n 0, 1) := dk_42 (dk_at dksX3_beginsAll_1 8 rfl rfl)
theorem dX3_beginsAll_33 : decode cX3_beginsAll 33 = .ok (.getfield 17, 3) := dk_180 0 17 (dk_at dksX3_beginsAll_1 9 rfl rfl)
theorem dX3_beginsAll_36 : decode cX3_beginsAll 36 = .ok (.iconst 0, 1) := dk_3 (dk_at dksX3_beginsAll_1 12 rfl rfl)
theorem dX3_beginsAll_37 : decode cX3_beginsAll 37 = .ok (.iaload, 1) := dk_46 (dk_at dksX3_beginsAll_1 13 rfl rfl)
theorem dX3_beginsAll_38 : decode cX3_beginsAll 38 = .ok (.if_icmp .ge 25, 3) := dk_162 0 25 (dk_at dksX3_beginsAll_1 14 rfl rfl)
theorem dX3_beginsAll_41 : decode cX3_beginsAll 41 = .ok (.aload_n 0, 1) := dk_42 (dk_at dksX3_beginsAll_1 17 rfl rfl)
theorem dX3_beginsAll_42 : decode cX3_beginsAll 42 = .ok (.iload_n 1, 1) := dk_27 (dk_at dksX3_beginsAll_1 18 rfl rfl)
theorem dX3_beginsAll_43 : decode cX3_beginsAll 43 = .ok (.iconst 0, 1) := dk_3 (dk_at dksX3_beginsAll_1 19 rfl rfl)
theorem dX3_beginsAll_44 : decode cX3_beginsAll 44 = .ok (.iload_n 2, 1) := dk_28 (dk_at dksX3_beginsAll_1 20 rfl rfl)
theorem dX3_beginsAll_45 : decode cX3_beginsAll 45 = .ok (.iconst 0, 1) := dk_3 (dk_at dksX3_beginsAll_1 21 rfl rfl)
theorem dX3_beginsAll_46 : decode cX3_beginsAll 46 = .ok (.invokevirtual 219, 3) := dk_182 0 219 (dk_at dksX3_beginsAll_2 0 rfl rfl)
theorem dX3_beginsAll_49 : decode cX3_beginsAll 49 = .ok (.aload_n 0, 1) := dk_42 (dk_at dksX3_beginsAll_2 3 rfl rfl)
theorem dX3_beginsAll_50 : decode cX3_beginsAll 50 = .ok (.iload_n 1, 1) := dk_27 (dk_at dksX3_beginsAll_2 4 rfl rfl)
theorem dX3_beginsAll_51 : decode cX3_beginsAll 51 = .ok (.iconst 1, 1) := dk_4 (dk_at dksX3_beginsAll_2 5 rfl rfl)
theorem dX3_beginsAll_52 : decode cX3_beginsAll 52 = .ok (.iload_n 2, 1) := dk_28 (dk_at dksX3_beginsAll_2 6 rfl rfl)
theorem dX3_beginsAll_53 : decode cX3_beginsAll 53 = .ok (.iconst 0, 1) := dk_3 (dk_at dksX3_beginsAll_2 7 rfl rfl)
theorem dX3_beginsAll_54 : decode cX3_beginsAll 54 = .ok (.invokevirtual 219, 3) := dk_182 0 219 (dk_at dksX3_beginsAll_2 8 rfl rfl)
theorem dX3_beginsAll_57 : decode cX3_beginsAll 57 = .ok (.iinc 2 1, 3) := dk_132 2 1 (dk_at dksX3_beginsAll_2 11 rfl rfl)
theorem dX3_beginsAll_60 : decode cX3_beginsAll 60 = .ok (.goto (-29), 3) := dk_167 255 227 (dk_at dksX3_beginsAll_2 14 rfl rfl)
theorem dX3_beginsAll_63 : decode cX3_beginsAll 63 = .ok (.iinc 1 1, 3) := dk_132 1 1 (dk_at dksX3_beginsAll_2 17 rfl rfl)
theorem dX3_beginsAll_66 : decode cX3_beginsAll 66 = .ok (.goto (-42), 3) := dk_167 255 214 (dk_at dksX3_beginsAll_2 20 rfl rfl)
theorem dX3_beginsAll_69 : decode cX3_beginsAll 69 = .ok (.aload_n 0, 1) := dk_42 (dk_at dksX3_beginsAll_2 23 rfl rfl)
theorem dX3_beginsAll_70 : decode cX3_beginsAll 70 = .ok (.iconst 0, 1) := dk_3 (dk_at dksX3_beginsAll_3 0 rfl rfl)
theorem dX3_beginsAll_71 : decode cX3_beginsAll 71 = .ok (.invokevirtual 223, 3) := dk_182 0 223 (dk_at dksX3_beginsAll_3 1 rfl rfl)
theorem dX3_beginsAll_74 : decode cX3_beginsAll 74 = .ok (.pop, 1) := dk_87 (dk_at dksX3_beginsAll_3 4 rfl rfl)
theorem dX3_beginsAll_75 : decode cX3_beginsAll 75 = .ok (.return_, 1) := dk_177 (dk_at dksX3_beginsAll_3 5 rfl rfl)
abbrev cX3_addsTask : ByteArray := prog_14_method_41_code
def yX3_addsTask : MethodName := ⟨RX3, "addsTask", "(IIII)V"⟩
def dkwX3_addsTask_3 : List UInt8 := [79, 177]
abbrev dktX3_addsTask_3 : List UInt8 := dkwX3_addsTask_3 ++ []
def dkwX3_addsTask_2 : List UInt8 := [21, 5, 6, 184, 0, 213, 21, 4, 79, 42, 21, 5, 182, 0, 216, 42, 180, 0, 23, 3, 92, 46, 4, 96]
abbrev dktX3_addsTask_2 : List UInt8 := dkwX3_addsTask_2 ++ dktX3_addsTask_3
def dkwX3_addsTask_1 : List UInt8 := [21, 5, 4, 184, 0, 213, 28, 79, 42, 180, 0, 23, 21, 5, 5, 184, 0, 213, 29, 79, 42, 180, 0, 23]
abbrev dktX3_addsTask_1 : List UInt8 := dkwX3_addsTask_1 ++ dktX3_addsTask_2
def dkwX3_addsTask_0 : List UInt8 := [42, 180, 0, 23, 3, 46, 54, 5, 42, 180, 0, 23, 21, 5, 3, 184, 0, 213, 27, 79, 42, 180, 0, 23]
abbrev dktX3_addsTask_0 : List UInt8 := dkwX3_addsTask_0 ++ dktX3_addsTask_1
theorem dksX3_addsTask_0 : cX3_addsTask.data.toList.drop 0 = dktX3_addsTask_0 := by decide +kernel
theorem dksX3_addsTask_1 : cX3_addsTask.data.toList.drop 24 = dktX3_addsTask_1 := dk_seg dksX3_addsTask_0 24 rfl rfl
theorem dksX3_addsTask_2 : cX3_addsTask.data.toList.drop 48 = dktX3_addsTask_2 := dk_seg dksX3_addsTask_1 24 rfl rfl
theorem dksX3_addsTask_3 : cX3_addsTask.data.toList.drop 72 = dktX3_addsTask_3 := dk_seg dksX3_addsTask_2 24 rfl rfl
theorem dX3_addsTask_0 : decode cX3_addsTask 0 = .ok (.aload_n 0, 1) := dk_42 (dk_at dksX3_addsTask_0 0 rfl rfl)
theorem dX3_addsTask_1 : decode cX3_addsTask 1 = .ok (.getfield 23, 3) := dk_180 0 23 (dk_at dksX3_addsTask_0 1 rfl rfl)
theorem dX3_addsTask_4 : decode cX3_addsTask 4 = .ok (.iconst 0, 1) := dk_3 (dk_at dksX3_addsTask_0 4 rfl rfl)
theorem dX3_addsTask_5 : decode cX3_addsTask 5 = .ok (.iaload, 1) := dk_46 (dk_at dksX3_addsTask_0 5 rfl rfl)
theorem dX3_addsTask_6 : decode cX3_addsTask 6 = .ok (.istore 5, 2) := dk_54 5 (dk_at dksX3_addsTask_0 6 rfl rfl)
theorem dX3_addsTask_8 : decode cX3_addsTask 8 = .ok (.aload_n 0, 1) := dk_42 (dk_at dksX3_addsTask_0 8 rfl rfl)
theorem dX3_addsTask_9 : decode cX3_addsTask 9 = .ok (.getfield 23, 3) := dk_180 0 23 (dk_at dksX3_addsTask_0 9 rfl rfl)
theorem dX3_addsTask_12 : decode cX3_addsTask 12 = .ok (.iload 5, 2) := dk_21 5 (dk_at dksX3_addsTask_0 12 rfl rfl)
theorem dX3_addsTask_14 : decode cX3_addsTask 14 = .ok (.iconst 0, 1) := dk_3 (dk_at dksX3_addsTask_0 14 rfl rfl)
theorem dX3_addsTask_15 : decode cX3_addsTask 15 = .ok (.invokestatic 213, 3) := dk_184 0 213 (dk_at dksX3_addsTask_0 15 rfl rfl)
theorem dX3_addsTask_18 : decode cX3_addsTask 18 = .ok (.iload_n 1, 1) := dk_27 (dk_at dksX3_addsTask_0 18 rfl rfl)
theorem dX3_addsTask_19 : decode cX3_addsTask 19 = .ok (.iastore, 1) := dk_79 (dk_at dksX3_addsTask_0 19 rfl rfl)
theorem dX3_addsTask_20 : decode cX3_addsTask 20 = .ok (.aload_n 0, 1) := dk_42 (dk_at dksX3_addsTask_0 20 rfl rfl)
theorem dX3_addsTask_21 : decode cX3_addsTask 21 = .ok (.getfield 23, 3) := dk_180 0 23 (dk_at dksX3_addsTask_0 21 rfl rfl)
theorem dX3_addsTask_24 : decode cX3_addsTask 24 = .ok (.iload 5, 2) := dk_21 5 (dk_at dksX3_addsTask_1 0 rfl rfl)
theorem dX3_addsTask_26 : decode cX3_addsTask 26 = .ok (.iconst 1, 1) := dk_4 (dk_at dksX3_addsTask_1 2 rfl rfl)
theorem dX3_addsTask_27 : decode cX3_addsTask 27 = .ok (.invokestatic 213, 3) := dk_184 0 213 (dk_at dksX3_addsTask_1 3 rfl rfl)
theorem dX3_addsTask_30 : decode cX3_addsTask 30 = .ok (.iload_n 2, 1) := dk_28 (dk_at dksX3_addsTask_1 6 rfl rfl)
theorem dX3_addsTask_31 : decode cX3_addsTask 31 = .ok (.iastore, 1) := dk_79 (dk_at dksX3_addsTask_1 7 rfl rfl)
theorem dX3_addsTask_32 : decode cX3_addsTask 32 = .ok (.aload_n 0, 1) := dk_42 (dk_at dksX3_addsTask_1 8 rfl rfl)
theorem dX3_addsTask_33 : decode cX3_addsTask 33 = .ok (.getfield 23, 3) := dk_180 0 23 (dk_at dksX3_addsTask_1 9 rfl rfl)
theorem dX3_addsTask_36 : decode cX3_addsTask 36 = .ok (.iload 5, 2) := dk_21 5 (dk_at dksX3_addsTask_1 12 rfl rfl)
theorem dX3_addsTask_38 : decode cX3_addsTask 38 = .ok (.iconst 2, 1) := dk_5 (dk_at dksX3_addsTask_1 14 rfl rfl)
theorem dX3_addsTask_39 : decode cX3_addsTask 39 = .ok (.invokestatic 213, 3) := dk_184 0 213 (dk_at dksX3_addsTask_1 15 rfl rfl)
theorem dX3_addsTask_42 : decode cX3_addsTask 42 = .ok (.iload_n 3, 1) := dk_29 (dk_at dksX3_addsTask_1 18 rfl rfl)
theorem dX3_addsTask_43 : decode cX3_addsTask 43 = .ok (.iastore, 1) := dk_79 (dk_at dksX3_addsTask_1 19 rfl rfl)
theorem dX3_addsTask_44 : decode cX3_addsTask 44 = .ok (.aload_n 0, 1) := dk_42 (dk_at dksX3_addsTask_1 20 rfl rfl)
theorem dX3_addsTask_45 : decode cX3_addsTask 45 = .ok (.getfield 23, 3) := dk_180 0 23 (dk_at dksX3_addsTask_1 21 rfl rfl)
theorem dX3_addsTask_48 : decode cX3_addsTask 48 = .ok (.iload 5, 2) := dk_21 5 (dk_at dksX3_addsTask_2 0 rfl rfl)
theorem dX3_addsTask_50 : decode cX3_addsTask 50 = .ok (.iconst 3, 1) := dk_6 (dk_at dksX3_addsTask_2 2 rfl rfl)
theorem dX3_addsTask_51 : decode cX3_addsTask 51 = .ok (.invokestatic 213, 3) := dk_184 0 213 (dk_at dksX3_addsTask_2 3 rfl rfl)
theorem dX3_addsTask_54 : decode cX3_addsTask 54 = .ok (.iload 4, 2) := dk_21 4 (dk_at dksX3_addsTask_2 6 rfl rfl)
theorem dX3_addsTask_56 : decode cX3_addsTask 56 = .ok (.iastore, 1) := dk_79 (dk_at dksX3_addsTask_2 8 rfl rfl)
theorem dX3_addsTask_57 : decode cX3_addsTask 57 = .ok (.aload_n 0, 1) := dk_42 (dk_at dksX3_addsTask_2 9 rfl rfl)
theorem dX3_addsTask_58 : decode cX3_addsTask 58 = .ok (.iload 5, 2) := dk_21 5 (dk_at dksX3_addsTask_2 10 rfl rfl)
theorem dX3_addsTask_60 : decode cX3_addsTask 60 = .ok (.invokevirtual 216, 3) := dk_182 0 216 (dk_at dksX3_addsTask_2 12 rfl rfl)
theorem dX3_addsTask_63 : decode cX3_addsTask 63 = .ok (.aload_n 0, 1) := dk_42 (dk_at dksX3_addsTask_2 15 rfl rfl)
theorem dX3_addsTask_64 : decode cX3_addsTask 64 = .ok (.getfield 23, 3) := dk_180 0 23 (dk_at dksX3_addsTask_2 16 rfl rfl)
theorem dX3_addsTask_67 : decode cX3_addsTask 67 = .ok (.iconst 0, 1) := dk_3 (dk_at dksX3_addsTask_2 19 rfl rfl)
theorem dX3_addsTask_68 : decode cX3_addsTask 68 = .ok (.dup2, 1) := dk_92 (dk_at dksX3_addsTask_2 20 rfl rfl)
theorem dX3_addsTask_69 : decode cX3_addsTask 69 = .ok (.iaload, 1) := dk_46 (dk_at dksX3_addsTask_2 21 rfl rfl)
theorem dX3_addsTask_70 : decode cX3_addsTask 70 = .ok (.iconst 1, 1) := dk_4 (dk_at dksX3_addsTask_2 22 rfl rfl)
theorem dX3_addsTask_71 : decode cX3_addsTask 71 = .ok (.iadd, 1) := dk_96 (dk_at dksX3_addsTask_2 23 rfl rfl)
theorem dX3_addsTask_72 : decode cX3_addsTask 72 = .ok (.iastore, 1) := dk_79 (dk_at dksX3_addsTask_3 0 rfl rfl)
theorem dX3_addsTask_73 : decode cX3_addsTask 73 = .ok (.return_, 1) := dk_177 (dk_at dksX3_addsTask_3 1 rfl rfl)
abbrev cX3_at : ByteArray := prog_14_method_40_code
def yX3_at : MethodName := ⟨RX3, "at", "(II)I"⟩
def dkwX3_at_0 : List UInt8 := [16, 112, 16, 11, 26, 104, 96, 27, 96, 172]
abbrev dktX3_at_0 : List UInt8 := dkwX3_at_0 ++ []
theorem dksX3_at_0 : cX3_at.data.toList.drop 0 = dktX3_at_0 := by decide +kernel
theorem dX3_at_0 : decode cX3_at 0 = .ok (.bipush 112, 2) := dk_16 112 (dk_at dksX3_at_0 0 rfl rfl)
theorem dX3_at_2 : decode cX3_at 2 = .ok (.bipush 11, 2) := dk_16 11 (dk_at dksX3_at_0 2 rfl rfl)
theorem dX3_at_4 : decode cX3_at 4 = .ok (.iload_n 0, 1) := dk_26 (dk_at dksX3_at_0 4 rfl rfl)
theorem dX3_at_5 : decode cX3_at 5 = .ok (.imul, 1) := dk_104 (dk_at dksX3_at_0 5 rfl rfl)
theorem dX3_at_6 : decode cX3_at 6 = .ok (.iadd, 1) := dk_96 (dk_at dksX3_at_0 6 rfl rfl)
theorem dX3_at_7 : decode cX3_at 7 = .ok (.iload_n 1, 1) := dk_27 (dk_at dksX3_at_0 7 rfl rfl)
theorem dX3_at_8 : decode cX3_at 8 = .ok (.iadd, 1) := dk_96 (dk_at dksX3_at_0 8 rfl rfl)
theorem dX3_at_9 : decode cX3_at 9 = .ok (.ireturn, 1) := dk_172 (dk_at dksX3_at_0 9 rfl rfl)
abbrev cX3_forgets : ByteArray := prog_14_method_42_code
def yX3_forgets : MethodName := ⟨RX3, "forgets", "(I)V"⟩
def dkwX3_forgets_3 : List UInt8 := [180, 0, 23, 27, 16, 10, 184, 0, 213, 3, 79, 177]
abbrev dktX3_forgets_3 : List UInt8 := dkwX3_forgets_3 ++ []
def dkwX3_forgets_2 : List UInt8 := [180, 0, 23, 27, 16, 8, 184, 0, 213, 2, 79, 42, 180, 0, 23, 27, 16, 9, 184, 0, 213, 2, 79, 42]
abbrev dktX3_forgets_2 : List UInt8 := dkwX3_forgets_2 ++ dktX3_forgets_3
def dkwX3_forgets_1 : List UInt8 := [180, 0, 23, 27, 16, 6, 184, 0, 213, 3, 79, 42, 180, 0, 23, 27, 16, 7, 184, 0, 213, 3, 79, 42]
abbrev dktX3_forgets_1 : List UInt8 := dkwX3_forgets_1 ++ dktX3_forgets_2
def dkwX3_forgets_0 : List UInt8 := [42, 180, 0, 23, 27, 7, 184, 0, 213, 3, 79, 42, 180, 0, 23, 27, 8, 184, 0, 213, 16, 254, 79, 42]
abbrev dktX3_forgets_0 : List UInt8 := dkwX3_forgets_0 ++ dktX3_forgets_1
theorem dksX3_forgets_0 : cX3_forgets.data.toList.drop 0 = dktX3_forgets_0 := by decide +kernel
theorem dksX3_forgets_1 : cX3_forgets.data.toList.drop 24 = dktX3_forgets_1 := dk_seg dksX3_forgets_0 24 rfl rfl
theorem dksX3_forgets_2 : cX3_forgets.data.toList.drop 48 = dktX3_forgets_2 := dk_seg dksX3_forgets_1 24 rfl rfl
theorem dksX3_forgets_3 : cX3_forgets.data.toList.drop 72 = dktX3_forgets_3 := dk_seg dksX3_forgets_2 24 rfl rfl
theorem dX3_forgets_0 : decode cX3_forgets 0 = .ok (.aload_n 0, 1) := dk_42 (dk_at dksX3_forgets_0 0 rfl rfl)
theorem dX3_forgets_1 : decode cX3_forgets 1 = .ok (.getfield 23, 3) := dk_180 0 23 (dk_at dksX3_forgets_0 1 rfl rfl)
theorem dX3_forgets_4 : decode cX3_forgets 4 = .ok (.iload_n 1, 1) := dk_27 (dk_at dksX3_forgets_0 4 rfl rfl)
theorem dX3_forgets_5 : decode cX3_forgets 5 = .ok (.iconst 4, 1) := dk_7 (dk_at dksX3_forgets_0 5 rfl rfl)
theorem dX3_forgets_6 : decode cX3_forgets 6 = .ok (.invokestatic 213, 3) := dk_184 0 213 (dk_at dksX3_forgets_0 6 rfl rfl)
theorem dX3_forgets_9 : decode cX3_forgets 9 = .ok (.iconst 0, 1) := dk_3 (dk_at dksX3_forgets_0 9 rfl rfl)
theorem dX3_forgets_10 : decode cX3_forgets 10 = .ok (.iastore, 1) := dk_79 (dk_at dksX3_forgets_0 10 rfl rfl)
theorem dX3_forgets_11 : decode cX3_forgets 11 = .ok (.aload_n 0, 1) := dk_42 (dk_at dksX3_forgets_0 11 rfl rfl)
theorem dX3_forgets_12 : decode cX3_forgets 12 = .ok (.getfield 23, 3) := dk_180 0 23 (dk_at dksX3_forgets_0 12 rfl rfl)
theorem dX3_forgets_15 : decode cX3_forgets 15 = .ok (.iload_n 1, 1) := dk_27 (dk_at dksX3_forgets_0 15 rfl rfl)
theorem dX3_forgets_16 : decode cX3_forgets 16 = .ok (.iconst 5, 1) := dk_8 (dk_at dksX3_forgets_0 16 rfl rfl)
theorem dX3_forgets_17 : decode cX3_forgets 17 = .ok (.invokestatic 213, 3) := dk_184 0 213 (dk_at dksX3_forgets_0 17 rfl rfl)
theorem dX3_forgets_20 : decode cX3_forgets 20 = .ok (.bipush (-2), 2) := dk_16 254 (dk_at dksX3_forgets_0 20 rfl rfl)
theorem dX3_forgets_22 : decode cX3_forgets 22 = .ok (.iastore, 1) := dk_79 (dk_at dksX3_forgets_0 22 rfl rfl)
theorem dX3_forgets_23 : decode cX3_forgets 23 = .ok (.aload_n 0, 1) := dk_42 (dk_at dksX3_forgets_0 23 rfl rfl)
theorem dX3_forgets_24 : decode cX3_forgets 24 = .ok (.getfield 23, 3) := dk_180 0 23 (dk_at dksX3_forgets_1 0 rfl rfl)
theorem dX3_forgets_27 : decode cX3_forgets 27 = .ok (.iload_n 1, 1) := dk_27 (dk_at dksX3_forgets_1 3 rfl rfl)
theorem dX3_forgets_28 : decode cX3_forgets 28 = .ok (.bipush 6, 2) := dk_16 6 (dk_at dksX3_forgets_1 4 rfl rfl)
theorem dX3_forgets_30 : decode cX3_forgets 30 = .ok (.invokestatic 213, 3) := dk_184 0 213 (dk_at dksX3_forgets_1 6 rfl rfl)
theorem dX3_forgets_33 : decode cX3_forgets 33 = .ok (.iconst 0, 1) := dk_3 (dk_at dksX3_forgets_1 9 rfl rfl)
theorem dX3_forgets_34 : decode cX3_forgets 34 = .ok (.iastore, 1) := dk_79 (dk_at dksX3_forgets_1 10 rfl rfl)
theorem dX3_forgets_35 : decode cX3_forgets 35 = .ok (.aload_n 0, 1) := dk_42 (dk_at dksX3_forgets_1 11 rfl rfl)
theorem dX3_forgets_36 : decode cX3_forgets 36 = .ok (.getfield 23, 3) := dk_180 0 23 (dk_at dksX3_forgets_1 12 rfl rfl)
theorem dX3_forgets_39 : decode cX3_forgets 39 = .ok (.iload_n 1, 1) := dk_27 (dk_at dksX3_forgets_1 15 rfl rfl)
theorem dX3_forgets_40 : decode cX3_forgets 40 = .ok (.bipush 7, 2) := dk_16 7 (dk_at dksX3_forgets_1 16 rfl rfl)
theorem dX3_forgets_42 : decode cX3_forgets 42 = .ok (.invokestatic 213, 3) := dk_184 0 213 (dk_at dksX3_forgets_1 18 rfl rfl)
theorem dX3_forgets_45 : decode cX3_forgets 45 = .ok (.iconst 0, 1) := dk_3 (dk_at dksX3_forgets_1 21 rfl rfl)
theorem dX3_forgets_46 : decode cX3_forgets 46 = .ok (.iastore, 1) := dk_79 (dk_at dksX3_forgets_1 22 rfl rfl)
theorem dX3_forgets_47 : decode cX3_forgets 47 = .ok (.aload_n 0, 1) := dk_42 (dk_at dksX3_forgets_1 23 rfl rfl)
theorem dX3_forgets_48 : decode cX3_forgets 48 = .ok (.getfield 23, 3) := dk_180 0 23 (dk_at dksX3_forgets_2 0 rfl rfl)
theorem dX3_forgets_51 : decode cX3_forgets 51 = .ok (.iload_n 1, 1) := dk_27 (dk_at dksX3_forgets_2 3 rfl rfl)
theorem dX3_forgets_52 : decode cX3_forgets 52 = .ok (.bipush 8, 2) := dk_16 8 (dk_at dksX3_forgets_2 4 rfl rfl)
theorem dX3_forgets_54 : decode cX3_forgets 54 = .ok (.invokestatic 213, 3) := dk_184 0 213 (dk_at dksX3_forgets_2 6 rfl rfl)
theorem dX3_forgets_57 : decode cX3_forgets 57 = .ok (.iconst (-1), 1) := dk_2 (dk_at dksX3_forgets_2 9 rfl rfl)
theorem dX3_forgets_58 : decode cX3_forgets 58 = .ok (.iastore, 1) := dk_79 (dk_at dksX3_forgets_2 10 rfl rfl)
theorem dX3_forgets_59 : decode cX3_forgets 59 = .ok (.aload_n 0, 1) := dk_42 (dk_at dksX3_forgets_2 11 rfl rfl)
theorem dX3_forgets_60 : decode cX3_forgets 60 = .ok (.getfield 23, 3) := dk_180 0 23 (dk_at dksX3_forgets_2 12 rfl rfl)
theorem dX3_forgets_63 : decode cX3_forgets 63 = .ok (.iload_n 1, 1) := dk_27 (dk_at dksX3_forgets_2 15 rfl rfl)
theorem dX3_forgets_64 : decode cX3_forgets 64 = .ok (.bipush 9, 2) := dk_16 9 (dk_at dksX3_forgets_2 16 rfl rfl)
theorem dX3_forgets_66 : decode cX3_forgets 66 = .ok (.invokestatic 213, 3) := dk_184 0 213 (dk_at dksX3_forgets_2 18 rfl rfl)
theorem dX3_forgets_69 : decode cX3_forgets 69 = .ok (.iconst (-1), 1) := dk_2 (dk_at dksX3_forgets_2 21 rfl rfl)
theorem dX3_forgets_70 : decode cX3_forgets 70 = .ok (.iastore, 1) := dk_79 (dk_at dksX3_forgets_2 22 rfl rfl)
theorem dX3_forgets_71 : decode cX3_forgets 71 = .ok (.aload_n 0, 1) := dk_42 (dk_at dksX3_forgets_2 23 rfl rfl)
theorem dX3_forgets_72 : decode cX3_forgets 72 = .ok (.getfield 23, 3) := dk_180 0 23 (dk_at dksX3_forgets_3 0 rfl rfl)
theorem dX3_forgets_75 : decode cX3_forgets 75 = .ok (.iload_n 1, 1) := dk_27 (dk_at dksX3_forgets_3 3 rfl rfl)
theorem dX3_forgets_76 : decode cX3_forgets 76 = .ok (.bipush 10, 2) := dk_16 10 (dk_at dksX3_forgets_3 4 rfl rfl)
theorem dX3_forgets_78 : decode cX3_forgets 78 = .ok (.invokestatic 213, 3) := dk_184 0 213 (dk_at dksX3_forgets_3 6 rfl rfl)
theorem dX3_forgets_81 : decode cX3_forgets 81 = .ok (.iconst 0, 1) := dk_3 (dk_at dksX3_forgets_3 9 rfl rfl)
theorem dX3_forgets_82 : decode cX3_forgets 82 = .ok (.iastore, 1) := dk_79 (dk_at dksX3_forgets_3 10 rfl rfl)
theorem dX3_forgets_83 : decode cX3_forgets 83 = .ok (.return_, 1) := dk_177 (dk_at dksX3_forgets_3 11 rfl rfl)
abbrev cX3_begins : ByteArray := prog_14_method_54_code
def yX3_begins : MethodName := ⟨RX3, "begins", "(I)Z"⟩
def dkwX3_begins_7 : List UInt8 := [182, 0, 248, 182, 0, 244, 4, 172]
abbrev dktX3_begins_7 : List UInt8 := dkwX3_begins_7 ++ []
def dkwX3_begins_6 : List UInt8 := [180, 0, 23, 4, 16, 254, 79, 3, 172, 42, 42, 28, 29, 21, 4, 182, 0, 235, 42, 29, 21, 4]
abbrev dktX3_begins_6 : List UInt8 := dkwX3_begins_6 ++ dktX3_begins_7
def dkwX3_begins_5 : List UInt8 := [180, 0, 23, 27, 7, 184, 0, 213, 42, 21, 4, 182, 0, 232, 153, 0, 7, 6, 167, 0, 4, 7, 79, 42]
abbrev dktX3_begins_5 : List UInt8 := dkwX3_begins_5 ++ dktX3_begins_6
def dkwX3_begins_4 : List UInt8 := [182, 0, 232, 153, 0, 20, 42, 29, 21, 4, 182, 0, 248, 42, 29, 21, 4, 182, 0, 251, 164, 0, 37, 42]
abbrev dktX3_begins_4 : List UInt8 := dkwX3_begins_4 ++ dktX3_begins_5
def dkwX3_begins_3 : List UInt8 := [180, 0, 23, 27, 6, 184, 0, 213, 46, 154, 0, 12, 42, 16, 8, 2, 182, 0, 244, 4, 172, 42, 21, 4]
abbrev dktX3_begins_3 : List UInt8 := dkwX3_begins_3 ++ dktX3_begins_4
def dkwX3_begins_2 : List UInt8 := [180, 0, 23, 27, 4, 184, 0, 213, 46, 62, 42, 180, 0, 23, 27, 5, 184, 0, 213, 46, 54, 4, 42]
abbrev dktX3_begins_2 : List UInt8 := dkwX3_begins_2 ++ dktX3_begins_3
def dkwX3_begins_1 : List UInt8 := [42, 180, 0, 23, 27, 7, 184, 0, 213, 4, 79, 42, 180, 0, 23, 27, 3, 184, 0, 213, 46, 61, 42]
abbrev dktX3_begins_1 : List UInt8 := dkwX3_begins_1 ++ dktX3_begins_2
def dkwX3_begins_0 : List UInt8 := [42, 180, 0, 23, 4, 27, 79, 42, 180, 0, 23, 16, 7, 3, 79, 42, 180, 0, 23, 16, 8, 16, 254, 79]
abbrev dktX3_begins_0 : List UInt8 := dkwX3_begins_0 ++ dktX3_begins_1
theorem dksX3_begins_0 : cX3_begins.data.toList.drop 0 = dktX3_begins_0 := by decide +kernel
theorem dksX3_begins_1 : cX3_begins.data.toList.drop 24 = dktX3_begins_1 := dk_seg dksX3_begins_0 24 rfl rfl
theorem dksX3_begins_2 : cX3_begins.data.toList.drop 47 = dktX3_begins_2 := dk_seg dksX3_begins_1 23 rfl rfl
theorem dksX3_begins_3 : cX3_begins.data.toList.drop 70 = dktX3_begins_3 := dk_seg dksX3_begins_2 23 rfl rfl
theorem dksX3_begins_4 : cX3_begins.data.toList.drop 94 = dktX3_begins_4 := dk_seg dksX3_begins_3 24 rfl rfl
theorem dksX3_begins_5 : cX3_begins.data.toList.drop 118 = dktX3_begins_5 := dk_seg dksX3_begins_4 24 rfl rfl
theorem dksX3_begins_6 : cX3_begins.data.toList.drop 142 = dktX3_begins_6 := dk_seg dksX3_begins_5 24 rfl rfl
theorem dksX3_begins_7 : cX3_begins.data.toList.drop 164 = dktX3_begins_7 := dk_seg dksX3_begins_6 22 rfl rfl
theorem dX3_begins_0 : decode cX3_begins 0 = .ok (.aload_n 0, 1) := dk_42 (dk_at dksX3_begins_0 0 rfl rfl)
theorem dX3_begins_1 : decode cX3_begins 1 = .ok (.getfield 23, 3) := dk_180 0 23 (dk_at dksX3_begins_0 1 rfl rfl)
theorem dX3_begins_4 : decode cX3_begins 4 = .ok (.iconst 1, 1) := dk_4 (dk_at dksX3_begins_0 4 rfl rfl)
theorem dX3_begins_5 : decode cX3_begins 5 = .ok (.iload_n 1, 1) := dk_27 (dk_at dksX3_begins_0 5 rfl rfl)
theorem dX3_begins_6 : decode cX3_begins 6 = .ok (.iastore, 1) := dk_79 (dk_at dksX3_begins_0 6 rfl rfl)
theorem dX3_begins_7 : decode cX3_begins 7 = .ok (.aload_n 0, 1) := dk_42 (dk_at dksX3_begins_0 7 rfl rfl)
theorem dX3_begins_8 : decode cX3_begins 8 = .ok (.getfield 23, 3) := dk_180 0 23 (dk_at dksX3_begins_0 8 rfl rfl)
theorem dX3_begins_11 : decode cX3_begins 11 = .ok (.bipush 7, 2) := dk_16 7 (dk_at dksX3_begins_0 11 rfl rfl)
theorem dX3_begins_13 : decode cX3_begins 13 = .ok (.iconst 0, 1) := dk_3 (dk_at dksX3_begins_0 13 rfl rfl)
theorem dX3_begins_14 : decode cX3_begins 14 = .ok (.iastore, 1) := dk_79 (dk_at dksX3_begins_0 14 rfl rfl)
theorem dX3_begins_15 : decode cX3_begins 15 = .ok (.aload_n 0, 1) := dk_42 (dk_at dksX3_begins_0 15 rfl rfl)
theorem dX3_begins_16 : decode cX3_begins 16 = .ok (.getfield 23, 3) := dk_180 0 23 (dk_at dksX3_begins_0 16 rfl rfl)
theorem dX3_begins_19 : decode cX3_begins 19 = .ok (.bipush 8, 2) := dk_16 8 (dk_at dksX3_begins_0 19 rfl rfl)
theorem dX3_begins_21 : decode cX3_begins 21 = .ok (.bipush (-2), 2) := dk_16 254 (dk_at dksX3_begins_0 21 rfl rfl)
theorem dX3_begins_23 : decode cX3_begins 23 = .ok (.iastore, 1) := dk_79 (dk_at dksX3_begins_0 23 rfl rfl)
theorem dX3_begins_24 : decode cX3_begins 24 = .ok (.aload_n 0, 1) := dk_42 (dk_at dksX3_begins_1 0 rfl rfl)
theorem dX3_begins_25 : decode cX3_begins 25 = .ok (.getfield 23, 3) := dk_180 0 23 (dk_at dksX3_begins_1 1 rfl rfl)
theorem dX3_begins_28 : decode cX3_begins 28 = .ok (.iload_n 1, 1) := dk_27 (dk_at dksX3_begins_1 4 rfl rfl)
theorem dX3_begins_29 : decode cX3_begins 29 = .ok (.iconst 4, 1) := dk_7 (dk_at dksX3_begins_1 5 rfl rfl)
theorem dX3_begins_30 : decode cX3_begins 30 = .ok (.invokestatic 213, 3) := dk_184 0 213 (dk_at dksX3_begins_1 6 rfl rfl)
theorem dX3_begins_33 : decode cX3_begins 33 = .ok (.iconst 1, 1) := dk_4 (dk_at dksX3_begins_1 9 rfl rfl)
theorem dX3_begins_34 : decode cX3_begins 34 = .ok (.iastore, 1) := dk_79 (dk_at dksX3_begins_1 10 rfl rfl)
theorem dX3_begins_35 : decode cX3_begins 35 = .ok (.aload_n 0, 1) := dk_42 (dk_at dksX3_begins_1 11 rfl rfl)
theorem dX3_begins_36 : decode cX3_begins 36 = .ok (.getfield 23, 3) := dk_180 0 23 (dk_at dksX3_begins_1 12 rfl rfl)
theorem dX3_begins_39 : decode cX3_begins 39 = .ok (.iload_n 1, 1) := dk_27 (dk_at dksX3_begins_1 15 rfl rfl)
theorem dX3_begins_40 : decode cX3_begins 40 = .ok (.iconst 0, 1) := dk_3 (dk_at dksX3_begins_1 16 rfl rfl)
theorem dX3_begins_41 : decode cX3_begins 41 = .ok (.invokestatic 213, 3) := dk_184 0 213 (dk_at dksX3_begins_1 17 rfl rfl)
theorem dX3_begins_44 : decode cX3_begins 44 = .ok (.iaload, 1) := dk_46 (dk_at dksX3_begins_1 20 rfl rfl)
theorem dX3_begins_45 : decode cX3_begins 45 = .ok (.istore_n 2, 1) := dk_61 (dk_at dksX3_begins_1 21 rfl rfl)
theorem dX3_begins_46 : decode cX3_begins 46 = .ok (.aload_n 0, 1) := dk_42 (dk_at dksX3_begins_1 22 rfl rfl)
theorem dX3_begins_47 : decode cX3_begins 47 = .ok (.getfield 23, 3) := dk_180 0 23 (dk_at dksX3_begins_2 0 rfl rfl)
theorem dX3_begins_50 : decode cX3_begins 50 = .ok (.iload_n 1, 1) := dk_27 (dk_at dksX3_begins_2 3 rfl rfl)
theorem dX3_begins_51 : decode cX3_begins 51 = .ok (.iconst 1, 1) := dk_4 (dk_at dksX3_begins_2 4 rfl rfl)
theorem dX3_begins_52 : decode cX3_begins 52 = .ok (.invokestatic 213, 3) := dk_184 0 213 (dk_at dksX3_begins_2 5 rfl rfl)
theorem dX3_begins_55 : decode cX3_begins 55 = .ok (.iaload, 1) := dk_46 (dk_at dksX3_begins_2 8 rfl rfl)
theorem dX3_begins_56 : decode cX3_begins 56 = .ok (.istore_n 3, 1) := dk_62 (dk_at dksX3_begins_2 9 rfl rfl)
theorem dX3_begins_57 : decode cX3_begins 57 = .ok (.aload_n 0, 1) := dk_42 (dk_at dksX3_begins_2 10 rfl rfl)
theorem dX3_begins_58 : decode cX3_begins 58 = .ok (.getfield 23, 3) := dk_180 0 23 (dk_at dksX3_begins_2 11 rfl rfl)
theorem dX3_begins_61 : decode cX3_begins 61 = .ok (.iload_n 1, 1) := dk_27 (dk_at dksX3_begins_2 14 rfl rfl)
theorem dX3_begins_62 : decode cX3_begins 62 = .ok (.iconst 2, 1) := dk_5 (dk_at dksX3_begins_2 15 rfl rfl)
theorem dX3_begins_63 : decode cX3_begins 63 = .ok (.invokestatic 213, 3) := dk_184 0 213 (dk_at dksX3_begins_2 16 rfl rfl)
theorem dX3_begins_66 : decode cX3_begins 66 = .ok (.iaload, 1) := dk_46 (dk_at dksX3_begins_2 19 rfl rfl)
theorem dX3_begins_67 : decode cX3_begins 67 = .ok (.istore 4, 2) := dk_54 4 (dk_at dksX3_begins_2 20 rfl rfl)
theorem dX3_begins_69 : decode cX3_begins 69 = .ok (.aload_n 0, 1) := dk_42 (dk_at dksX3_begins_2 22 rfl rfl)
theorem dX3_begins_70 : decode cX3_begins 70 = .ok (.getfield 23, 3) := dk_180 0 23 (dk_at dksX3_begins_3 0 rfl rfl)
theorem dX3_begins_73 : decode cX3_begins 73 = .ok (.iload_n 1, 1) := dk_27 (dk_at dksX3_begins_3 3 rfl rfl)
theorem dX3_begins_74 : decode cX3_begins 74 = .ok (.iconst 3, 1) := dk_6 (dk_at dksX3_begins_3 4 rfl rfl)
theorem dX3_begins_75 : decode cX3_begins 75 = .ok (.invokestatic 213, 3) := dk_184 0 213 (dk_at dksX3_begins_3 5 rfl rfl)
theorem dX3_begins_78 : decode cX3_begins 78 = .ok (.iaload, 1) := dk_46 (dk_at dksX3_begins_3 8 rfl rfl)
theorem dX3_begins_79 : decode cX3_begins 79 = .ok (.ifCond .ne 12, 3) := dk_154 0 12 (dk_at dksX3_begins_3 9 rfl rfl)
theorem dX3_begins_82 : decode cX3_begins 82 = .ok (.aload_n 0, 1) := dk_42 (dk_at dksX3_begins_3 12 rfl rfl)
theorem dX3_begins_83 : decode cX3_begins 83 = .ok (.bipush 8, 2) := dk_16 8 (dk_at dksX3_begins_3 13 rfl rfl)
theorem dX3_begins_85 : decode cX3_begins 85 = .ok (.iconst (-1), 1) := dk_2 (dk_at dksX3_begins_3 15 rfl rfl)
theorem dX3_begins_86 : decode cX3_begins 86 = .ok (.invokevirtual 244, 3) := dk_182 0 244 (dk_at dksX3_begins_3 16 rfl rfl)
theorem dX3_begins_89 : decode cX3_begins 89 = .ok (.iconst 1, 1) := dk_4 (dk_at dksX3_begins_3 19 rfl rfl)
theorem dX3_begins_90 : decode cX3_begins 90 = .ok (.ireturn, 1) := dk_172 (dk_at dksX3_begins_3 20 rfl rfl)
theorem dX3_begins_91 : decode cX3_begins 91 = .ok (.aload_n 0, 1) := dk_42 (dk_at dksX3_begins_3 21 rfl rfl)
theorem dX3_begins_92 : decode cX3_begins 92 = .ok (.iload 4, 2) := dk_21 4 (dk_at dksX3_begins_3 22 rfl rfl)
theorem dX3_begins_94 : decode cX3_begins 94 = .ok (.invokevirtual 232, 3) := dk_182 0 232 (dk_at dksX3_begins_4 0 rfl rfl)
theorem dX3_begins_97 : decode cX3_begins 97 = .ok (.ifCond .eq 20, 3) := dk_153 0 20 (dk_at dksX3_begins_4 3 rfl rfl)
theorem dX3_begins_100 : decode cX3_begins 100 = .ok (.aload_n 0, 1) := dk_42 (dk_at dksX3_begins_4 6 rfl rfl)
theorem dX3_begins_101 : decode cX3_begins 101 = .ok (.iload_n 3, 1) := dk_29 (dk_at dksX3_begins_4 7 rfl rfl)
theorem dX3_begins_102 : decode cX3_begins 102 = .ok (.iload 4, 2) := dk_21 4 (dk_at dksX3_begins_4 8 rfl rfl)
theorem dX3_begins_104 : decode cX3_begins 104 = .ok (.invokevirtual 248, 3) := dk_182 0 248 (dk_at dksX3_begins_4 10 rfl rfl)
theorem dX3_begins_107 : decode cX3_begins 107 = .ok (.aload_n 0, 1) := dk_42 (dk_at dksX3_begins_4 13 rfl rfl)
theorem dX3_begins_108 : decode cX3_begins 108 = .ok (.iload_n 3, 1) := dk_29 (dk_at dksX3_begins_4 14 rfl rfl)
theorem dX3_begins_109 : decode cX3_begins 109 = .ok (.iload 4, 2) := dk_21 4 (dk_at dksX3_begins_4 15 rfl rfl)
theorem dX3_begins_111 : decode cX3_begins 111 = .ok (.invokevirtual 251, 3) := dk_182 0 251 (dk_at dksX3_begins_4 17 rfl rfl)
theorem dX3_begins_114 : decode cX3_begins 114 = .ok (.if_icmp .le 37, 3) := dk_164 0 37 (dk_at dksX3_begins_4 20 rfl rfl)
theorem dX3_begins_117 : decode cX3_begins 117 = .ok (.aload_n 0, 1) := dk_42 (dk_at dksX3_begins_4 23 rfl rfl)
theorem dX3_begins_118 : decode cX3_begins 118 = .ok (.getfield 23, 3) := dk_180 0 23 (dk_at dksX3_begins_5 0 rfl rfl)
theorem dX3_begins_121 : decode cX3_begins 121 = .ok (.iload_n 1, 1) := dk_27 (dk_at dksX3_begins_5 3 rfl rfl)
theorem dX3_begins_122 : decode cX3_begins 122 = .ok (.iconst 4, 1) := dk_7 (dk_at dksX3_begins_5 4 rfl rfl)
theorem dX3_begins_123 : decode cX3_begins 123 = .ok (.invokestatic 213, 3) := dk_184 0 213 (dk_at dksX3_begins_5 5 rfl rfl)
theorem dX3_begins_126 : decode cX3_begins 126 = .ok (.aload_n 0, 1) := dk_42 (dk_at dksX3_begins_5 8 rfl rfl)
theorem dX3_begins_127 : decode cX3_begins 127 = .ok (.iload 4, 2) := dk_21 4 (dk_at dksX3_begins_5 9 rfl rfl)
theorem dX3_begins_129 : decode cX3_begins 129 = .ok (.invokevirtual 232, 3) := dk_182 0 232 (dk_at dksX3_begins_5 11 rfl rfl)
theorem dX3_begins_132 : decode cX3_begins 132 = .ok (.ifCond .eq 7, 3) := dk_153 0 7 (dk_at dksX3_begins_5 14 rfl rfl)
theorem dX3_begins_135 : decode cX3_begins 135 = .ok (.iconst 3, 1) := dk_6 (dk_at dksX3_begins_5 17 rfl rfl)
theorem dX3_begins_136 : decode cX3_begins 136 = .ok (.goto 4, 3) := dk_167 0 4 (dk_at dksX3_begins_5 18 rfl rfl)
theorem dX3_begins_139 : decode cX3_begins 139 = .ok (.iconst 4, 1) := dk_7 (dk_at dksX3_begins_5 21 rfl rfl)
theorem dX3_begins_140 : decode cX3_begins 140 = .ok (.iastore, 1) := dk_79 (dk_at dksX3_begins_5 22 rfl rfl)
theorem dX3_begins_141 : decode cX3_begins 141 = .ok (.aload_n 0, 1) := dk_42 (dk_at dksX3_begins_5 23 rfl rfl)
theorem dX3_begins_142 : decode cX3_begins 142 = .ok (.getfield 23, 3) := dk_180 0 23 (dk_at dksX3_begins_6 0 rfl rfl)
theorem dX3_begins_145 : decode cX3_begins 145 = .ok (.iconst 1, 1) := dk_4 (dk_at dksX3_begins_6 3 rfl rfl)
theorem dX3_begins_146 : decode cX3_begins 146 = .ok (.bipush (-2), 2) := dk_16 254 (dk_at dksX3_begins_6 4 rfl rfl)
theorem dX3_begins_148 : decode cX3_begins 148 = .ok (.iastore, 1) := dk_79 (dk_at dksX3_begins_6 6 rfl rfl)
theorem dX3_begins_149 : decode cX3_begins 149 = .ok (.iconst 0, 1) := dk_3 (dk_at dksX3_begins_6 7 rfl rfl)
theorem dX3_begins_150 : decode cX3_begins 150 = .ok (.ireturn, 1) := dk_172 (dk_at dksX3_begins_6 8 rfl rfl)
theorem dX3_begins_151 : decode cX3_begins 151 = .ok (.aload_n 0, 1) := dk_42 (dk_at dksX3_begins_6 9 rfl rfl)
theorem dX3_begins_152 : decode cX3_begins 152 = .ok (.aload_n 0, 1) := dk_42 (dk_at dksX3_begins_6 10 rfl rfl)
theorem dX3_begins_153 : decode cX3_begins 153 = .ok (.iload_n 2, 1) := dk_28 (dk_at dksX3_begins_6 11 rfl rfl)
theorem dX3_begins_154 : decode cX3_begins 154 = .ok (.iload_n 3, 1) := dk_29 (dk_at dksX3_begins_6 12 rfl rfl)
theorem dX3_begins_155 : decode cX3_begins 155 = .ok (.iload 4, 2) := dk_21 4 (dk_at dksX3_begins_6 13 rfl rfl)
theorem dX3_begins_157 : decode cX3_begins 157 = .ok (.invokevirtual 235, 3) := dk_182 0 235 (dk_at dksX3_begins_6 15 rfl rfl)
theorem dX3_begins_160 : decode cX3_begins 160 = .ok (.aload_n 0, 1) := dk_42 (dk_at dksX3_begins_6 18 rfl rfl)
theorem dX3_begins_161 : decode cX3_begins 161 = .ok (.iload_n 3, 1) := dk_29 (dk_at dksX3_begins_6 19 rfl rfl)
theorem dX3_begins_162 : decode cX3_begins 162 = .ok (.iload 4, 2) := dk_21 4 (dk_at dksX3_begins_6 20 rfl rfl)
theorem dX3_begins_164 : decode cX3_begins 164 = .ok (.invokevirtual 248, 3) := dk_182 0 248 (dk_at dksX3_begins_7 0 rfl rfl)
theorem dX3_begins_167 : decode cX3_begins 167 = .ok (.invokevirtual 244, 3) := dk_182 0 244 (dk_at dksX3_begins_7 3 rfl rfl)
theorem dX3_begins_170 : decode cX3_begins 170 = .ok (.iconst 1, 1) := dk_4 (dk_at dksX3_begins_7 6 rfl rfl)
theorem dX3_begins_171 : decode cX3_begins 171 = .ok (.ireturn, 1) := dk_172 (dk_at dksX3_begins_7 7 rfl rfl)
abbrev cX3_searches : ByteArray := prog_14_method_53_code
def yX3_searches : MethodName := ⟨RX3, "searches", "(II)V"⟩
def dkwX3_searches_4 : List UInt8 := [180, 0, 23, 29, 16, 8, 184, 0, 213, 46, 79, 177]
abbrev dktX3_searches_4 : List UInt8 := dkwX3_searches_4 ++ []
def dkwX3_searches_3 : List UInt8 := [184, 0, 213, 28, 42, 180, 0, 23, 29, 16, 8, 184, 0, 213, 46, 164, 0, 7, 28, 167, 0, 14, 42]
abbrev dktX3_searches_3 : List UInt8 := dkwX3_searches_3 ++ dktX3_searches_4
def dkwX3_searches_2 : List UInt8 := [3, 79, 132, 3, 1, 167, 255, 240, 42, 180, 0, 23, 4, 46, 62, 42, 180, 0, 23, 29, 16, 8]
abbrev dktX3_searches_2 : List UInt8 := dkwX3_searches_2 ++ dktX3_searches_3
def dkwX3_searches_1 : List UInt8 := [28, 79, 42, 180, 0, 23, 16, 6, 3, 79, 16, 12, 62, 29, 16, 112, 162, 0, 16, 42, 180, 0, 23, 29]
abbrev dktX3_searches_1 : List UInt8 := dkwX3_searches_1 ++ dktX3_searches_2
def dkwX3_searches_0 : List UInt8 := [42, 180, 0, 23, 6, 27, 16, 24, 184, 0, 238, 79, 42, 180, 0, 23, 7, 2, 79, 42, 180, 0, 23, 8]
abbrev dktX3_searches_0 : List UInt8 := dkwX3_searches_0 ++ dktX3_searches_1
theorem dksX3_searches_0 : cX3_searches.data.toList.drop 0 = dktX3_searches_0 := by decide +kernel
theorem dksX3_searches_1 : cX3_searches.data.toList.drop 24 = dktX3_searches_1 := dk_seg dksX3_searches_0 24 rfl rfl
theorem dksX3_searches_2 : cX3_searches.data.toList.drop 48 = dktX3_searches_2 := dk_seg dksX3_searches_1 24 rfl rfl
theorem dksX3_searches_3 : cX3_searches.data.toList.drop 70 = dktX3_searches_3 := dk_seg dksX3_searches_2 22 rfl rfl
theorem dksX3_searches_4 : cX3_searches.data.toList.drop 93 = dktX3_searches_4 := dk_seg dksX3_searches_3 23 rfl rfl
theorem dX3_searches_0 : decode cX3_searches 0 = .ok (.aload_n 0, 1) := dk_42 (dk_at dksX3_searches_0 0 rfl rfl)
theorem dX3_searches_1 : decode cX3_searches 1 = .ok (.getfield 23, 3) := dk_180 0 23 (dk_at dksX3_searches_0 1 rfl rfl)
theorem dX3_searches_4 : decode cX3_searches 4 = .ok (.iconst 3, 1) := dk_6 (dk_at dksX3_searches_0 4 rfl rfl)
theorem dX3_searches_5 : decode cX3_searches 5 = .ok (.iload_n 1, 1) := dk_27 (dk_at dksX3_searches_0 5 rfl rfl)
theorem dX3_searches_6 : decode cX3_searches 6 = .ok (.bipush 24, 2) := dk_16 24 (dk_at dksX3_searches_0 6 rfl rfl)
theorem dX3_searches_8 : decode cX3_searches 8 = .ok (.invokestatic 238, 3) := dk_184 0 238 (dk_at dksX3_searches_0 8 rfl rfl)
theorem dX3_searches_11 : decode cX3_searches 11 = .ok (.iastore, 1) := dk_79 (dk_at dksX3_searches_0 11 rfl rfl)
theorem dX3_searches_12 : decode cX3_searches 12 = .ok (.aload_n 0, 1) := dk_42 (dk_at dksX3_searches_0 12 rfl rfl)
theorem dX3_searches_13 : decode cX3_searches 13 = .ok (.getfield 23, 3) := dk_180 0 23 (dk_at dksX3_searches_0 13 rfl rfl)
theorem dX3_searches_16 : decode cX3_searches 16 = .ok (.iconst 4, 1) := dk_7 (dk_at dksX3_searches_0 16 rfl rfl)
theorem dX3_searches_17 : decode cX3_searches 17 = .ok (.iconst (-1), 1) := dk_2 (dk_at dksX3_searches_0 17 rfl rfl)
theorem dX3_searches_18 : decode cX3_searches 18 = .ok (.iastore, 1) := dk_79 (dk_at dksX3_searches_0 18 rfl rfl)
theorem dX3_searches_19 : decode cX3_searches 19 = .ok (.aload_n 0, 1) := dk_42 (dk_at dksX3_searches_0 19 rfl rfl)
theorem dX3_searches_20 : decode cX3_searches 20 = .ok (.getfield 23, 3) := dk_180 0 23 (dk_at dksX3_searches_0 20 rfl rfl)
theorem dX3_searches_23 : decode cX3_searches 23 = .ok (.iconst 5, 1) := dk_8 (dk_at dksX3_searches_0 23 rfl rfl)
theorem dX3_searches_24 : decode cX3_searches 24 = .ok (.iload_n 2, 1) := dk_28 (dk_at dksX3_searches_1 0 rfl rfl)
theorem dX3_searches_25 : decode cX3_searches 25 = .ok (.iastore, 1) := dk_79 (dk_at dksX3_searches_1 1 rfl rfl)
theorem dX3_searches_26 : decode cX3_searches 26 = .ok (.aload_n 0, 1) := dk_42 (dk_at dksX3_searches_1 2 rfl rfl)
theorem dX3_searches_27 : decode cX3_searches 27 = .ok (.getfield 23, 3) := dk_180 0 23 (dk_at dksX3_searches_1 3 rfl rfl)
theorem dX3_searches_30 : decode cX3_searches 30 = .ok (.bipush 6, 2) := dk_16 6 (dk_at dksX3_searches_1 6 rfl rfl)
theorem dX3_searches_32 : decode cX3_searches 32 = .ok (.iconst 0, 1) := dk_3 (dk_at dksX3_searches_1 8 rfl rfl)
theorem dX3_searches_33 : decode cX3_searches 33 = .ok (.iastore, 1) := dk_79 (dk_at dksX3_searches_1 9 rfl rfl)
theorem dX3_searches_34 : decode cX3_searches 34 = .ok (.bipush 12, 2) := dk_16 12 (dk_at dksX3_searches_1 10 rfl rfl)
theorem dX3_searches_36 : decode cX3_searches 36 = .ok (.istore_n 3, 1) := dk_62 (dk_at dksX3_searches_1 12 rfl rfl)
theorem dX3_searches_37 : decode cX3_searches 37 = .ok (.iload_n 3, 1) := dk_29 (dk_at dksX3_searches_1 13 rfl rfl)
theorem dX3_searches_38 : decode cX3_searches 38 = .ok (.bipush 112, 2) := dk_16 112 (dk_at dksX3_searches_1 14 rfl rfl)
theorem dX3_searches_40 : decode cX3_searches 40 = .ok (.if_icmp .ge 16, 3) := dk_162 0 16 (dk_at dksX3_searches_1 16 rfl rfl)
theorem dX3_searches_43 : decode cX3_searches 43 = .ok (.aload_n 0, 1) := dk_42 (dk_at dksX3_searches_1 19 rfl rfl)
theorem dX3_searches_44 : decode cX3_searches 44 = .ok (.getfield 23, 3) := dk_180 0 23 (dk_at dksX3_searches_1 20 rfl rfl)
theorem dX3_searches_47 : decode cX3_searches 47 = .ok (.iload_n 3, 1) := dk_29 (dk_at dksX3_searches_1 23 rfl rfl)
theorem dX3_searches_48 : decode cX3_searches 48 = .ok (.iconst 0, 1) := dk_3 (dk_at dksX3_searches_2 0 rfl rfl)
theorem dX3_searches_49 : decode cX3_searches 49 = .ok (.iastore, 1) := dk_79 (dk_at dksX3_searches_2 1 rfl rfl)
theorem dX3_searches_50 : decode cX3_searches 50 = .ok (.iinc 3 1, 3) := dk_132 3 1 (dk_at dksX3_searches_2 2 rfl rfl)
theorem dX3_searches_53 : decode cX3_searches 53 = .ok (.goto (-16), 3) := dk_167 255 240 (dk_at dksX3_searches_2 5 rfl rfl)
theorem dX3_searches_56 : decode cX3_searches 56 = .ok (.aload_n 0, 1) := dk_42 (dk_at dksX3_searches_2 8 rfl rfl)
theorem dX3_searches_57 : decode cX3_searches 57 = .ok (.getfield 23, 3) := dk_180 0 23 (dk_at dksX3_searches_2 9 rfl rfl)
theorem dX3_searches_60 : decode cX3_searches 60 = .ok (.iconst 1, 1) := dk_4 (dk_at dksX3_searches_2 12 rfl rfl)
theorem dX3_searches_61 : decode cX3_searches 61 = .ok (.iaload, 1) := dk_46 (dk_at dksX3_searches_2 13 rfl rfl)
theorem dX3_searches_62 : decode cX3_searches 62 = .ok (.istore_n 3, 1) := dk_62 (dk_at dksX3_searches_2 14 rfl rfl)
theorem dX3_searches_63 : decode cX3_searches 63 = .ok (.aload_n 0, 1) := dk_42 (dk_at dksX3_searches_2 15 rfl rfl)
theorem dX3_searches_64 : decode cX3_searches 64 = .ok (.getfield 23, 3) := dk_180 0 23 (dk_at dksX3_searches_2 16 rfl rfl)
theorem dX3_searches_67 : decode cX3_searches 67 = .ok (.iload_n 3, 1) := dk_29 (dk_at dksX3_searches_2 19 rfl rfl)
theorem dX3_searches_68 : decode cX3_searches 68 = .ok (.bipush 8, 2) := dk_16 8 (dk_at dksX3_searches_2 20 rfl rfl)
theorem dX3_searches_70 : decode cX3_searches 70 = .ok (.invokestatic 213, 3) := dk_184 0 213 (dk_at dksX3_searches_3 0 rfl rfl)
theorem dX3_searches_73 : decode cX3_searches 73 = .ok (.iload_n 2, 1) := dk_28 (dk_at dksX3_searches_3 3 rfl rfl)
theorem dX3_searches_74 : decode cX3_searches 74 = .ok (.aload_n 0, 1) := dk_42 (dk_at dksX3_searches_3 4 rfl rfl)
theorem dX3_searches_75 : decode cX3_searches 75 = .ok (.getfield 23, 3) := dk_180 0 23 (dk_at dksX3_searches_3 5 rfl rfl)
theorem dX3_searches_78 : decode cX3_searches 78 = .ok (.iload_n 3, 1) := dk_29 (dk_at dksX3_searches_3 8 rfl rfl)
theorem dX3_searches_79 : decode cX3_searches 79 = .ok (.bipush 8, 2) := dk_16 8 (dk_at dksX3_searches_3 9 rfl rfl)
theorem dX3_searches_81 : decode cX3_searches 81 = .ok (.invokestatic 213, 3) := dk_184 0 213 (dk_at dksX3_searches_3 11 rfl rfl)
theorem dX3_searches_84 : decode cX3_searches 84 = .ok (.iaload, 1) := dk_46 (dk_at dksX3_searches_3 14 rfl rfl)
theorem dX3_searches_85 : decode cX3_searches 85 = .ok (.if_icmp .le 7, 3) := dk_164 0 7 (dk_at dksX3_searches_3 15 rfl rfl)
theorem dX3_searches_88 : decode cX3_searches 88 = .ok (.iload_n 2, 1) := dk_28 (dk_at dksX3_searches_3 18 rfl rfl)
theorem dX3_searches_89 : decode cX3_searches 89 = .ok (.goto 14, 3) := dk_167 0 14 (dk_at dksX3_searches_3 19 rfl rfl)
theorem dX3_searches_92 : decode cX3_searches 92 = .ok (.aload_n 0, 1) := dk_42 (dk_at dksX3_searches_3 22 rfl rfl)
theorem dX3_searches_93 : decode cX3_searches 93 = .ok (.getfield 23, 3) := dk_180 0 23 (dk_at dksX3_searches_4 0 rfl rfl)
theorem dX3_searches_96 : decode cX3_searches 96 = .ok (.iload_n 3, 1) := dk_29 (dk_at dksX3_searches_4 3 rfl rfl)
theorem dX3_searches_97 : decode cX3_searches 97 = .ok (.bipush 8, 2) := dk_16 8 (dk_at dksX3_searches_4 4 rfl rfl)
theorem dX3_searches_99 : decode cX3_searches 99 = .ok (.invokestatic 213, 3) := dk_184 0 213 (dk_at dksX3_searches_4 6 rfl rfl)
theorem dX3_searches_102 : decode cX3_searches 102 = .ok (.iaload, 1) := dk_46 (dk_at dksX3_searches_4 9 rfl rfl)
theorem dX3_searches_103 : decode cX3_searches 103 = .ok (.iastore, 1) := dk_79 (dk_at dksX3_searches_4 10 rfl rfl)
theorem dX3_searches_104 : decode cX3_searches 104 = .ok (.return_, 1) := dk_177 (dk_at dksX3_searches_4 11 rfl rfl)
abbrev cX3_lesser : ByteArray := prog_14_method_4_code
def yX3_lesser : MethodName := ⟨RX3, "lesser", "(II)I"⟩
def dkwX3_lesser_0 : List UInt8 := [26, 27, 162, 0, 7, 26, 167, 0, 4, 27, 172]
abbrev dktX3_lesser_0 : List UInt8 := dkwX3_lesser_0 ++ []
theorem dksX3_lesser_0 : cX3_lesser.data.toList.drop 0 = dktX3_lesser_0 := by decide +kernel
theorem dX3_lesser_0 : decode cX3_lesser 0 = .ok (.iload_n 0, 1) := dk_26 (dk_at dksX3_lesser_0 0 rfl rfl)
theorem dX3_lesser_1 : decode cX3_lesser 1 = .ok (.iload_n 1, 1) := dk_27 (dk_at dksX3_lesser_0 1 rfl rfl)
theorem dX3_lesser_2 : decode cX3_lesser 2 = .ok (.if_icmp .ge 7, 3) := dk_162 0 7 (dk_at dksX3_lesser_0 2 rfl rfl)
theorem dX3_lesser_5 : decode cX3_lesser 5 = .ok (.iload_n 0, 1) := dk_26 (dk_at dksX3_lesser_0 5 rfl rfl)
theorem dX3_lesser_6 : decode cX3_lesser 6 = .ok (.goto 4, 3) := dk_167 0 4 (dk_at dksX3_lesser_0 6 rfl rfl)
theorem dX3_lesser_9 : decode cX3_lesser 9 = .ok (.iload_n 1, 1) := dk_27 (dk_at dksX3_lesser_0 9 rfl rfl)
theorem dX3_lesser_10 : decode cX3_lesser 10 = .ok (.ireturn, 1) := dk_172 (dk_at dksX3_lesser_0 10 rfl rfl)
abbrev cX3_areProved : ByteArray := prog_14_method_48_code
def yX3_areProved : MethodName := ⟨RX3, "areProved", "(I)Z"⟩
def dkwX3_areProved_2 : List UInt8 := [27, 182, 0, 226, 182, 0, 229, 153, 0, 7, 4, 167, 0, 4, 3, 172]
abbrev dktX3_areProved_2 : List UInt8 := dkwX3_areProved_2 ++ []
def dkwX3_areProved_1 : List UInt8 := [182, 0, 229, 153, 0, 35, 42, 42, 4, 3, 27, 182, 0, 226, 182, 0, 229, 153, 0, 21, 42, 42, 4, 4]
abbrev dktX3_areProved_1 : List UInt8 := dkwX3_areProved_1 ++ dktX3_areProved_2
def dkwX3_areProved_0 : List UInt8 := [42, 42, 3, 3, 27, 182, 0, 226, 182, 0, 229, 153, 0, 49, 42, 42, 3, 4, 27, 182, 0, 226]
abbrev dktX3_areProved_0 : List UInt8 := dkwX3_areProved_0 ++ dktX3_areProved_1
theorem dksX3_areProved_0 : cX3_areProved.data.toList.drop 0 = dktX3_areProved_0 := by decide +kernel
theorem dksX3_areProved_1 : cX3_areProved.data.toList.drop 22 = dktX3_areProved_1 := dk_seg dksX3_areProved_0 22 rfl rfl
theorem dksX3_areProved_2 : cX3_areProved.data.toList.drop 46 = dktX3_areProved_2 := dk_seg dksX3_areProved_1 24 rfl rfl
theorem dX3_areProved_0 : decode cX3_areProved 0 = .ok (.aload_n 0, 1) := dk_42 (dk_at dksX3_areProved_0 0 rfl rfl)
theorem dX3_areProved_1 : decode cX3_areProved 1 = .ok (.aload_n 0, 1) := dk_42 (dk_at dksX3_areProved_0 1 rfl rfl)
theorem dX3_areProved_2 : decode cX3_areProved 2 = .ok (.iconst 0, 1) := dk_3 (dk_at dksX3_areProved_0 2 rfl rfl)
theorem dX3_areProved_3 : decode cX3_areProved 3 = .ok (.iconst 0, 1) := dk_3 (dk_at dksX3_areProved_0 3 rfl rfl)
theorem dX3_areProved_4 : decode cX3_areProved 4 = .ok (.iload_n 1, 1) := dk_27 (dk_at dksX3_areProved_0 4 rfl rfl)
theorem dX3_areProved_5 : decode cX3_areProved 5 = .ok (.invokevirtual 226, 3) := dk_182 0 226 (dk_at dksX3_areProved_0 5 rfl rfl)
theorem dX3_areProved_8 : decode cX3_areProved 8 = .ok (.invokevirtual 229, 3) := dk_182 0 229 (dk_at dksX3_areProved_0 8 rfl rfl)
theorem dX3_areProved_11 : decode cX3_areProved 11 = .ok (.ifCond .eq 49, 3) := dk_153 0 49 (dk_at dksX3_areProved_0 11 rfl rfl)
theorem dX3_areProved_14 : decode cX3_areProved 14 = .ok (.aload_n 0, 1) := dk_42 (dk_at dksX3_areProved_0 14 rfl rfl)
theorem dX3_areProved_15 : decode cX3_areProved 15 = .ok (.aload_n 0, 1) := dk_42 (dk_at dksX3_areProved_0 15 rfl rfl)
theorem dX3_areProved_16 : decode cX3_areProved 16 = .ok (.iconst 0, 1) := dk_3 (dk_at dksX3_areProved_0 16 rfl rfl)
theorem dX3_areProved_17 : decode cX3_areProved 17 = .ok (.iconst 1, 1) := dk_4 (dk_at dksX3_areProved_0 17 rfl rfl)
theorem dX3_areProved_18 : decode cX3_areProved 18 = .ok (.iload_n 1, 1) := dk_27 (dk_at dksX3_areProved_0 18 rfl rfl)
theorem dX3_areProved_19 : decode cX3_areProved 19 = .ok (.invokevirtual 226, 3) := dk_182 0 226 (dk_at dksX3_areProved_0 19 rfl rfl)
theorem dX3_areProved_22 : decode cX3_areProved 22 = .ok (.invokevirtual 229, 3) := dk_182 0 229 (dk_at dksX3_areProved_1 0 rfl rfl)
theorem dX3_areProved_25 : decode cX3_areProved 25 = .ok (.ifCond .eq 35, 3) := dk_153 0 35 (dk_at dksX3_areProved_1 3 rfl rfl)
theorem dX3_areProved_28 : decode cX3_areProved 28 = .ok (.aload_n 0, 1) := dk_42 (dk_at dksX3_areProved_1 6 rfl rfl)
theorem dX3_areProved_29 : decode cX3_areProved 29 = .ok (.aload_n 0, 1) := dk_42 (dk_at dksX3_areProved_1 7 rfl rfl)
theorem dX3_areProved_30 : decode cX3_areProved 30 = .ok (.iconst 1, 1) := dk_4 (dk_at dksX3_areProved_1 8 rfl rfl)
theorem dX3_areProved_31 : decode cX3_areProved 31 = .ok (.iconst 0, 1) := dk_3 (dk_at dksX3_areProved_1 9 rfl rfl)
theorem dX3_areProved_32 : decode cX3_areProved 32 = .ok (.iload_n 1, 1) := dk_27 (dk_at dksX3_areProved_1 10 rfl rfl)
theorem dX3_areProved_33 : decode cX3_areProved 33 = .ok (.invokevirtual 226, 3) := dk_182 0 226 (dk_at dksX3_areProved_1 11 rfl rfl)
theorem dX3_areProved_36 : decode cX3_areProved 36 = .ok (.invokevirtual 229, 3) := dk_182 0 229 (dk_at dksX3_areProved_1 14 rfl rfl)
theorem dX3_areProved_39 : decode cX3_areProved 39 = .ok (.ifCond .eq 21, 3) := dk_153 0 21 (dk_at dksX3_areProved_1 17 rfl rfl)
theorem dX3_areProved_42 : decode cX3_areProved 42 = .ok (.aload_n 0, 1) := dk_42 (dk_at dksX3_areProved_1 20 rfl rfl)
theorem dX3_areProved_43 : decode cX3_areProved 43 = .ok (.aload_n 0, 1) := dk_42 (dk_at dksX3_areProved_1 21 rfl rfl)
theorem dX3_areProved_44 : decode cX3_areProved 44 = .ok (.iconst 1, 1) := dk_4 (dk_at dksX3_areProved_1 22 rfl rfl)
theorem dX3_areProved_45 : decode cX3_areProved 45 = .ok (.iconst 1, 1) := dk_4 (dk_at dksX3_areProved_1 23 rfl rfl)
theorem dX3_areProved_46 : decode cX3_areProved 46 = .ok (.iload_n 1, 1) := dk_27 (dk_at dksX3_areProved_2 0 rfl rfl)
theorem dX3_areProved_47 : decode cX3_areProved 47 = .ok (.invokevirtual 226, 3) := dk_182 0 226 (dk_at dksX3_areProved_2 1 rfl rfl)
theorem dX3_areProved_50 : decode cX3_areProved 50 = .ok (.invokevirtual 229, 3) := dk_182 0 229 (dk_at dksX3_areProved_2 4 rfl rfl)
theorem dX3_areProved_53 : decode cX3_areProved 53 = .ok (.ifCond .eq 7, 3) := dk_153 0 7 (dk_at dksX3_areProved_2 7 rfl rfl)
theorem dX3_areProved_56 : decode cX3_areProved 56 = .ok (.iconst 1, 1) := dk_4 (dk_at dksX3_areProved_2 10 rfl rfl)
theorem dX3_areProved_57 : decode cX3_areProved 57 = .ok (.goto 4, 3) := dk_167 0 4 (dk_at dksX3_areProved_2 11 rfl rfl)
theorem dX3_areProved_60 : decode cX3_areProved 60 = .ok (.iconst 0, 1) := dk_3 (dk_at dksX3_areProved_2 14 rfl rfl)
theorem dX3_areProved_61 : decode cX3_areProved 61 = .ok (.ireturn, 1) := dk_172 (dk_at dksX3_areProved_2 15 rfl rfl)
abbrev cX3_plain : ByteArray := prog_14_method_44_code
def yX3_plain : MethodName := ⟨RX3, "plain", "(III)I"⟩
def dkwX3_plain_0 : List UInt8 := [5, 42, 180, 0, 17, 3, 46, 27, 104, 29, 96, 104, 28, 96, 172]
abbrev dktX3_plain_0 : List UInt8 := dkwX3_plain_0 ++ []
theorem dksX3_plain_0 : cX3_plain.data.toList.drop 0 = dktX3_plain_0 := by decide +kernel
theorem dX3_plain_0 : decode cX3_plain 0 = .ok (.iconst 2, 1) := dk_5 (dk_at dksX3_plain_0 0 rfl rfl)
theorem dX3_plain_1 : decode cX3_plain 1 = .ok (.aload_n 0, 1) := dk_42 (dk_at dksX3_plain_0 1 rfl rfl)
theorem dX3_plain_2 : decode cX3_plain 2 = .ok (.getfield 17, 3) := dk_180 0 17 (dk_at dksX3_plain_0 2 rfl rfl)
theorem dX3_plain_5 : decode cX3_plain 5 = .ok (.iconst 0, 1) := dk_3 (dk_at dksX3_plain_0 5 rfl rfl)
theorem dX3_plain_6 : decode cX3_plain 6 = .ok (.iaload, 1) := dk_46 (dk_at dksX3_plain_0 6 rfl rfl)
theorem dX3_plain_7 : decode cX3_plain 7 = .ok (.iload_n 1, 1) := dk_27 (dk_at dksX3_plain_0 7 rfl rfl)
theorem dX3_plain_8 : decode cX3_plain 8 = .ok (.imul, 1) := dk_104 (dk_at dksX3_plain_0 8 rfl rfl)
theorem dX3_plain_9 : decode cX3_plain 9 = .ok (.iload_n 3, 1) := dk_29 (dk_at dksX3_plain_0 9 rfl rfl)
theorem dX3_plain_10 : decode cX3_plain 10 = .ok (.iadd, 1) := dk_96 (dk_at dksX3_plain_0 10 rfl rfl)
theorem dX3_plain_11 : decode cX3_plain 11 = .ok (.imul, 1) := dk_104 (dk_at dksX3_plain_0 11 rfl rfl)
theorem dX3_plain_12 : decode cX3_plain 12 = .ok (.iload_n 2, 1) := dk_28 (dk_at dksX3_plain_0 12 rfl rfl)
theorem dX3_plain_13 : decode cX3_plain 13 = .ok (.iadd, 1) := dk_96 (dk_at dksX3_plain_0 13 rfl rfl)
theorem dX3_plain_14 : decode cX3_plain 14 = .ok (.ireturn, 1) := dk_172 (dk_at dksX3_plain_0 14 rfl rfl)
abbrev cX3_isProved : ByteArray := prog_14_method_47_code
def yX3_isProved : MethodName := ⟨RX3, "isProved", "(I)Z"⟩
def dkwX3_isProved_0 : List UInt8 := [42, 180, 0, 23, 27, 7, 184, 0, 213, 46, 5, 160, 0, 7, 4, 167, 0, 4, 3, 172]
abbrev dktX3_isProved_0 : List UInt8 := dkwX3_isProved_0 ++ []
theorem dksX3_isProved_0 : cX3_isProved.data.toList.drop 0 = dktX3_isProved_0 := by decide +kernel
theorem dX3_isProved_0 : decode cX3_isProved 0 = .ok (.aload_n 0, 1) := dk_42 (dk_at dksX3_isProved_0 0 rfl rfl)
theorem dX3_isProved_1 : decode cX3_isProved 1 = .ok (.getfield 23, 3) := dk_180 0 23 (dk_at dksX3_isProved_0 1 rfl rfl)
theorem dX3_isProved_4 : decode cX3_isProved 4 = .ok (.iload_n 1, 1) := dk_27 (dk_at dksX3_isProved_0 4 rfl rfl)
theorem dX3_isProved_5 : decode cX3_isProved 5 = .ok (.iconst 4, 1) := dk_7 (dk_at dksX3_isProved_0 5 rfl rfl)
theorem dX3_isProved_6 : decode cX3_isProved 6 = .ok (.invokestatic 213, 3) := dk_184 0 213 (dk_at dksX3_isProved_0 6 rfl rfl)
theorem dX3_isProved_9 : decode cX3_isProved 9 = .ok (.iaload, 1) := dk_46 (dk_at dksX3_isProved_0 9 rfl rfl)
theorem dX3_isProved_10 : decode cX3_isProved 10 = .ok (.iconst 2, 1) := dk_5 (dk_at dksX3_isProved_0 10 rfl rfl)
theorem dX3_isProved_11 : decode cX3_isProved 11 = .ok (.if_icmp .ne 7, 3) := dk_160 0 7 (dk_at dksX3_isProved_0 11 rfl rfl)
theorem dX3_isProved_14 : decode cX3_isProved 14 = .ok (.iconst 1, 1) := dk_4 (dk_at dksX3_isProved_0 14 rfl rfl)
theorem dX3_isProved_15 : decode cX3_isProved 15 = .ok (.goto 4, 3) := dk_167 0 4 (dk_at dksX3_isProved_0 15 rfl rfl)
theorem dX3_isProved_18 : decode cX3_isProved 18 = .ok (.iconst 0, 1) := dk_3 (dk_at dksX3_isProved_0 18 rfl rfl)
theorem dX3_isProved_19 : decode cX3_isProved 19 = .ok (.ireturn, 1) := dk_172 (dk_at dksX3_isProved_0 19 rfl rfl)
abbrev cX3_firstNoise : ByteArray := prog_14_method_51_code
def yX3_firstNoise : MethodName := ⟨RX3, "firstNoise", "(II)I"⟩
def dkwX3_firstNoise_0 : List UInt8 := [42, 3, 4, 27, 100, 28, 182, 0, 235, 5, 96, 172]
abbrev dktX3_firstNoise_0 : List UInt8 := dkwX3_firstNoise_0 ++ []
theorem dksX3_firstNoise_0 : cX3_firstNoise.data.toList.drop 0 = dktX3_firstNoise_0 := by decide +kernel
theorem dX3_firstNoise_0 : decode cX3_firstNoise 0 = .ok (.aload_n 0, 1) := dk_42 (dk_at dksX3_firstNoise_0 0 rfl rfl)
theorem dX3_firstNoise_1 : decode cX3_firstNoise 1 = .ok (.iconst 0, 1) := dk_3 (dk_at dksX3_firstNoise_0 1 rfl rfl)
theorem dX3_firstNoise_2 : decode cX3_firstNoise 2 = .ok (.iconst 1, 1) := dk_4 (dk_at dksX3_firstNoise_0 2 rfl rfl)
theorem dX3_firstNoise_3 : decode cX3_firstNoise 3 = .ok (.iload_n 1, 1) := dk_27 (dk_at dksX3_firstNoise_0 3 rfl rfl)
theorem dX3_firstNoise_4 : decode cX3_firstNoise 4 = .ok (.isub, 1) := dk_100 (dk_at dksX3_firstNoise_0 4 rfl rfl)
theorem dX3_firstNoise_5 : decode cX3_firstNoise 5 = .ok (.iload_n 2, 1) := dk_28 (dk_at dksX3_firstNoise_0 5 rfl rfl)
theorem dX3_firstNoise_6 : decode cX3_firstNoise 6 = .ok (.invokevirtual 235, 3) := dk_182 0 235 (dk_at dksX3_firstNoise_0 6 rfl rfl)
theorem dX3_firstNoise_9 : decode cX3_firstNoise 9 = .ok (.iconst 2, 1) := dk_5 (dk_at dksX3_firstNoise_0 9 rfl rfl)
theorem dX3_firstNoise_10 : decode cX3_firstNoise 10 = .ok (.iadd, 1) := dk_96 (dk_at dksX3_firstNoise_0 10 rfl rfl)
theorem dX3_firstNoise_11 : decode cX3_firstNoise 11 = .ok (.ireturn, 1) := dk_172 (dk_at dksX3_firstNoise_0 11 rfl rfl)
abbrev cX3_plainThreshold : ByteArray := prog_14_method_46_code
def yX3_plainThreshold : MethodName := ⟨RX3, "plainThreshold", "(III)I"⟩
def dkwX3_plainThreshold_0 : List UInt8 := [42, 180, 0, 23, 42, 27, 28, 29, 182, 0, 226, 8, 184, 0, 213, 46, 172]
abbrev dktX3_plainThreshold_0 : List UInt8 := dkwX3_plainThreshold_0 ++ []
theorem dksX3_plainThreshold_0 : cX3_plainThreshold.data.toList.drop 0 = dktX3_plainThreshold_0 := by decide +kernel
theorem dX3_plainThreshold_0 : decode cX3_plainThreshold 0 = .ok (.aload_n 0, 1) := dk_42 (dk_at dksX3_plainThreshold_0 0 rfl rfl)
theorem dX3_plainThreshold_1 : decode cX3_plainThreshold 1 = .ok (.getfield 23, 3) := dk_180 0 23 (dk_at dksX3_plainThreshold_0 1 rfl rfl)
theorem dX3_plainThreshold_4 : decode cX3_plainThreshold 4 = .ok (.aload_n 0, 1) := dk_42 (dk_at dksX3_plainThreshold_0 4 rfl rfl)
theorem dX3_plainThreshold_5 : decode cX3_plainThreshold 5 = .ok (.iload_n 1, 1) := dk_27 (dk_at dksX3_plainThreshold_0 5 rfl rfl)
theorem dX3_plainThreshold_6 : decode cX3_plainThreshold 6 = .ok (.iload_n 2, 1) := dk_28 (dk_at dksX3_plainThreshold_0 6 rfl rfl)
theorem dX3_plainThreshold_7 : decode cX3_plainThreshold 7 = .ok (.iload_n 3, 1) := dk_29 (dk_at dksX3_plainThreshold_0 7 rfl rfl)
theorem dX3_plainThreshold_8 : decode cX3_plainThreshold 8 = .ok (.invokevirtual 226, 3) := dk_182 0 226 (dk_at dksX3_plainThreshold_0 8 rfl rfl)
theorem dX3_plainThreshold_11 : decode cX3_plainThreshold 11 = .ok (.iconst 5, 1) := dk_8 (dk_at dksX3_plainThreshold_0 11 rfl rfl)
theorem dX3_plainThreshold_12 : decode cX3_plainThreshold 12 = .ok (.invokestatic 213, 3) := dk_184 0 213 (dk_at dksX3_plainThreshold_0 12 rfl rfl)
theorem dX3_plainThreshold_15 : decode cX3_plainThreshold 15 = .ok (.iaload, 1) := dk_46 (dk_at dksX3_plainThreshold_0 15 rfl rfl)
theorem dX3_plainThreshold_16 : decode cX3_plainThreshold 16 = .ok (.ireturn, 1) := dk_172 (dk_at dksX3_plainThreshold_0 16 rfl rfl)
abbrev cX3_bound : ByteArray := prog_14_method_52_code
def yX3_bound : MethodName := ⟨RX3, "bound", "(II)I"⟩
def dkwX3_bound_0 : List UInt8 := [16, 24, 42, 4, 27, 28, 182, 0, 235, 42, 180, 0, 17, 4, 46, 96, 4, 100, 184, 0, 238, 172]
abbrev dktX3_bound_0 : List UInt8 := dkwX3_bound_0 ++ []
theorem dksX3_bound_0 : cX3_bound.data.toList.drop 0 = dktX3_bound_0 := by decide +kernel
theorem dX3_bound_0 : decode cX3_bound 0 = .ok (.bipush 24, 2) := dk_16 24 (dk_at dksX3_bound_0 0 rfl rfl)
theorem dX3_bound_2 : decode cX3_bound 2 = .ok (.aload_n 0, 1) := dk_42 (dk_at dksX3_bound_0 2 rfl rfl)
theorem dX3_bound_3 : decode cX3_bound 3 = .ok (.iconst 1, 1) := dk_4 (dk_at dksX3_bound_0 3 rfl rfl)
theorem dX3_bound_4 : decode cX3_bound 4 = .ok (.iload_n 1, 1) := dk_27 (dk_at dksX3_bound_0 4 rfl rfl)
theorem dX3_bound_5 : decode cX3_bound 5 = .ok (.iload_n 2, 1) := dk_28 (dk_at dksX3_bound_0 5 rfl rfl)
theorem dX3_bound_6 : decode cX3_bound 6 = .ok (.invokevirtual 235, 3) := dk_182 0 235 (dk_at dksX3_bound_0 6 rfl rfl)
theorem dX3_bound_9 : decode cX3_bound 9 = .ok (.aload_n 0, 1) := dk_42 (dk_at dksX3_bound_0 9 rfl rfl)
theorem dX3_bound_10 : decode cX3_bound 10 = .ok (.getfield 17, 3) := dk_180 0 17 (dk_at dksX3_bound_0 10 rfl rfl)
theorem dX3_bound_13 : decode cX3_bound 13 = .ok (.iconst 1, 1) := dk_4 (dk_at dksX3_bound_0 13 rfl rfl)
theorem dX3_bound_14 : decode cX3_bound 14 = .ok (.iaload, 1) := dk_46 (dk_at dksX3_bound_0 14 rfl rfl)
theorem dX3_bound_15 : decode cX3_bound 15 = .ok (.iadd, 1) := dk_96 (dk_at dksX3_bound_0 15 rfl rfl)
theorem dX3_bound_16 : decode cX3_bound 16 = .ok (.iconst 1, 1) := dk_4 (dk_at dksX3_bound_0 16 rfl rfl)
theorem dX3_bound_17 : decode cX3_bound 17 = .ok (.isub, 1) := dk_100 (dk_at dksX3_bound_0 17 rfl rfl)
theorem dX3_bound_18 : decode cX3_bound 18 = .ok (.invokestatic 238, 3) := dk_184 0 238 (dk_at dksX3_bound_0 18 rfl rfl)
theorem dX3_bound_21 : decode cX3_bound 21 = .ok (.ireturn, 1) := dk_172 (dk_at dksX3_bound_0 21 rfl rfl)
abbrev cX3_fault : ByteArray := prog_14_method_24_code
def yX3_fault : MethodName := ⟨RX3, "fault", "()I"⟩
def dkwX3_fault_0 : List UInt8 := [42, 3, 181, 0, 41, 42, 180, 0, 159, 172]
abbrev dktX3_fault_0 : List UInt8 := dkwX3_fault_0 ++ []
theorem dksX3_fault_0 : cX3_fault.data.toList.drop 0 = dktX3_fault_0 := by decide +kernel
theorem dX3_fault_0 : decode cX3_fault 0 = .ok (.aload_n 0, 1) := dk_42 (dk_at dksX3_fault_0 0 rfl rfl)
theorem dX3_fault_1 : decode cX3_fault 1 = .ok (.iconst 0, 1) := dk_3 (dk_at dksX3_fault_0 1 rfl rfl)
theorem dX3_fault_2 : decode cX3_fault 2 = .ok (.putfield 41, 3) := dk_181 0 41 (dk_at dksX3_fault_0 2 rfl rfl)
theorem dX3_fault_5 : decode cX3_fault 5 = .ok (.aload_n 0, 1) := dk_42 (dk_at dksX3_fault_0 5 rfl rfl)
theorem dX3_fault_6 : decode cX3_fault 6 = .ok (.getfield 159, 3) := dk_180 0 159 (dk_at dksX3_fault_0 6 rfl rfl)
theorem dX3_fault_9 : decode cX3_fault 9 = .ok (.ireturn, 1) := dk_172 (dk_at dksX3_fault_0 9 rfl rfl)
abbrev cX3_where : ByteArray := prog_14_method_25_code
def yX3_where : MethodName := ⟨RX3, "where", "()I"⟩
def dkwX3_where_0 : List UInt8 := [42, 3, 181, 0, 41, 42, 180, 0, 44, 7, 160, 0, 10, 42, 180, 0, 9, 167, 0, 4, 2, 172]
abbrev dktX3_where_0 : List UInt8 := dkwX3_where_0 ++ []
theorem dksX3_where_0 : cX3_where.data.toList.drop 0 = dktX3_where_0 := by decide +kernel
theorem dX3_where_0 : decode cX3_where 0 = .ok (.aload_n 0, 1) := dk_42 (dk_at dksX3_where_0 0 rfl rfl)
theorem dX3_where_1 : decode cX3_where 1 = .ok (.iconst 0, 1) := dk_3 (dk_at dksX3_where_0 1 rfl rfl)
theorem dX3_where_2 : decode cX3_where 2 = .ok (.putfield 41, 3) := dk_181 0 41 (dk_at dksX3_where_0 2 rfl rfl)
theorem dX3_where_5 : decode cX3_where 5 = .ok (.aload_n 0, 1) := dk_42 (dk_at dksX3_where_0 5 rfl rfl)
theorem dX3_where_6 : decode cX3_where 6 = .ok (.getfield 44, 3) := dk_180 0 44 (dk_at dksX3_where_0 6 rfl rfl)
theorem dX3_where_9 : decode cX3_where 9 = .ok (.iconst 4, 1) := dk_7 (dk_at dksX3_where_0 9 rfl rfl)
theorem dX3_where_10 : decode cX3_where 10 = .ok (.if_icmp .ne 10, 3) := dk_160 0 10 (dk_at dksX3_where_0 10 rfl rfl)
theorem dX3_where_13 : decode cX3_where 13 = .ok (.aload_n 0, 1) := dk_42 (dk_at dksX3_where_0 13 rfl rfl)
theorem dX3_where_14 : decode cX3_where 14 = .ok (.getfield 9, 3) := dk_180 0 9 (dk_at dksX3_where_0 14 rfl rfl)
theorem dX3_where_17 : decode cX3_where 17 = .ok (.goto 4, 3) := dk_167 0 4 (dk_at dksX3_where_0 17 rfl rfl)
theorem dX3_where_20 : decode cX3_where 20 = .ok (.iconst (-1), 1) := dk_2 (dk_at dksX3_where_0 20 rfl rfl)
theorem dX3_where_21 : decode cX3_where 21 = .ok (.ireturn, 1) := dk_172 (dk_at dksX3_where_0 21 rfl rfl)
abbrev cX3_listener : ByteArray := prog_14_method_31_code
def yX3_listener : MethodName := ⟨RX3, "listener", "(III)I"⟩
def dkwX3_listener_1 : List UInt8 := [28, 29, 182, 0, 181, 167, 0, 9, 42, 28, 29, 182, 0, 177, 172]
abbrev dktX3_listener_1 : List UInt8 := dkwX3_listener_1 ++ []
def dkwX3_listener_0 : List UInt8 := [42, 42, 27, 28, 29, 182, 0, 188, 184, 0, 191, 182, 0, 156, 153, 0, 5, 2, 172, 27, 154, 0, 12, 42]
abbrev dktX3_listener_0 : List UInt8 := dkwX3_listener_0 ++ dktX3_listener_1
theorem dksX3_listener_0 : cX3_listener.data.toList.drop 0 = dktX3_listener_0 := by decide +kernel
theorem dksX3_listener_1 : cX3_listener.data.toList.drop 24 = dktX3_listener_1 := dk_seg dksX3_listener_0 24 rfl rfl
theorem dX3_listener_0 : decode cX3_listener 0 = .ok (.aload_n 0, 1) := dk_42 (dk_at dksX3_listener_0 0 rfl rfl)
theorem dX3_listener_1 : decode cX3_listener 1 = .ok (.aload_n 0, 1) := dk_42 (dk_at dksX3_listener_0 1 rfl rfl)
theorem dX3_listener_2 : decode cX3_listener 2 = .ok (.iload_n 1, 1) := dk_27 (dk_at dksX3_listener_0 2 rfl rfl)
theorem dX3_listener_3 : decode cX3_listener 3 = .ok (.iload_n 2, 1) := dk_28 (dk_at dksX3_listener_0 3 rfl rfl)
theorem dX3_listener_4 : decode cX3_listener 4 = .ok (.iload_n 3, 1) := dk_29 (dk_at dksX3_listener_0 4 rfl rfl)
theorem dX3_listener_5 : decode cX3_listener 5 = .ok (.invokevirtual 188, 3) := dk_182 0 188 (dk_at dksX3_listener_0 5 rfl rfl)
theorem dX3_listener_8 : decode cX3_listener 8 = .ok (.invokestatic 191, 3) := dk_184 0 191 (dk_at dksX3_listener_0 8 rfl rfl)
theorem dX3_listener_11 : decode cX3_listener 11 = .ok (.invokevirtual 156, 3) := dk_182 0 156 (dk_at dksX3_listener_0 11 rfl rfl)
theorem dX3_listener_14 : decode cX3_listener 14 = .ok (.ifCond .eq 5, 3) := dk_153 0 5 (dk_at dksX3_listener_0 14 rfl rfl)
theorem dX3_listener_17 : decode cX3_listener 17 = .ok (.iconst (-1), 1) := dk_2 (dk_at dksX3_listener_0 17 rfl rfl)
theorem dX3_listener_18 : decode cX3_listener 18 = .ok (.ireturn, 1) := dk_172 (dk_at dksX3_listener_0 18 rfl rfl)
theorem dX3_listener_19 : decode cX3_listener 19 = .ok (.iload_n 1, 1) := dk_27 (dk_at dksX3_listener_0 19 rfl rfl)
theorem dX3_listener_20 : decode cX3_listener 20 = .ok (.ifCond .ne 12, 3) := dk_154 0 12 (dk_at dksX3_listener_0 20 rfl rfl)
theorem dX3_listener_23 : decode cX3_listener 23 = .ok (.aload_n 0, 1) := dk_42 (dk_at dksX3_listener_0 23 rfl rfl)
theorem dX3_listener_24 : decode cX3_listener 24 = .ok (.iload_n 2, 1) := dk_28 (dk_at dksX3_listener_1 0 rfl rfl)
theorem dX3_listener_25 : decode cX3_listener 25 = .ok (.iload_n 3, 1) := dk_29 (dk_at dksX3_listener_1 1 rfl rfl)
theorem dX3_listener_26 : decode cX3_listener 26 = .ok (.invokevirtual 181, 3) := dk_182 0 181 (dk_at dksX3_listener_1 2 rfl rfl)
theorem dX3_listener_29 : decode cX3_listener 29 = .ok (.goto 9, 3) := dk_167 0 9 (dk_at dksX3_listener_1 5 rfl rfl)
theorem dX3_listener_32 : decode cX3_listener 32 = .ok (.aload_n 0, 1) := dk_42 (dk_at dksX3_listener_1 8 rfl rfl)
theorem dX3_listener_33 : decode cX3_listener 33 = .ok (.iload_n 2, 1) := dk_28 (dk_at dksX3_listener_1 9 rfl rfl)
theorem dX3_listener_34 : decode cX3_listener 34 = .ok (.iload_n 3, 1) := dk_29 (dk_at dksX3_listener_1 10 rfl rfl)
theorem dX3_listener_35 : decode cX3_listener 35 = .ok (.invokevirtual 177, 3) := dk_182 0 177 (dk_at dksX3_listener_1 11 rfl rfl)
theorem dX3_listener_38 : decode cX3_listener 38 = .ok (.ireturn, 1) := dk_172 (dk_at dksX3_listener_1 14 rfl rfl)
abbrev cX3_isOne : ByteArray := prog_14_method_30_code
def yX3_isOne : MethodName := ⟨RX3, "isOne", "(III)Z"⟩
def dkwX3_isOne_2 : List UInt8 := [172]
abbrev dktX3_isOne_2 : List UInt8 := dkwX3_isOne_2 ++ []
def dkwX3_isOne_1 : List UInt8 := [153, 0, 23, 29, 3, 42, 180, 0, 17, 3, 46, 4, 100, 184, 0, 70, 153, 0, 7, 4, 167, 0, 4, 3]
abbrev dktX3_isOne_1 : List UInt8 := dkwX3_isOne_1 ++ dktX3_isOne_2
def dkwX3_isOne_0 : List UInt8 := [42, 180, 0, 168, 153, 0, 41, 27, 3, 4, 184, 0, 70, 153, 0, 32, 28, 3, 4, 184, 0, 70]
abbrev dktX3_isOne_0 : List UInt8 := dkwX3_isOne_0 ++ dktX3_isOne_1
theorem dksX3_isOne_0 : cX3_isOne.data.toList.drop 0 = dktX3_isOne_0 := by decide +kernel
theorem dksX3_isOne_1 : cX3_isOne.data.toList.drop 22 = dktX3_isOne_1 := dk_seg dksX3_isOne_0 22 rfl rfl
theorem dksX3_isOne_2 : cX3_isOne.data.toList.drop 46 = dktX3_isOne_2 := dk_seg dksX3_isOne_1 24 rfl rfl
theorem dX3_isOne_0 : decode cX3_isOne 0 = .ok (.aload_n 0, 1) := dk_42 (dk_at dksX3_isOne_0 0 rfl rfl)
theorem dX3_isOne_1 : decode cX3_isOne 1 = .ok (.getfield 168, 3) := dk_180 0 168 (dk_at dksX3_isOne_0 1 rfl rfl)
theorem dX3_isOne_4 : decode cX3_isOne 4 = .ok (.ifCond .eq 41, 3) := dk_153 0 41 (dk_at dksX3_isOne_0 4 rfl rfl)
theorem dX3_isOne_7 : decode cX3_isOne 7 = .ok (.iload_n 1, 1) := dk_27 (dk_at dksX3_isOne_0 7 rfl rfl)
theorem dX3_isOne_8 : decode cX3_isOne 8 = .ok (.iconst 0, 1) := dk_3 (dk_at dksX3_isOne_0 8 rfl rfl)
theorem dX3_isOne_9 : decode cX3_isOne 9 = .ok (.iconst 1, 1) := dk_4 (dk_at dksX3_isOne_0 9 rfl rfl)
theorem dX3_isOne_10 : decode cX3_isOne 10 = .ok (.invokestatic 70, 3) := dk_184 0 70 (dk_at dksX3_isOne_0 10 rfl rfl)
theorem dX3_isOne_13 : decode cX3_isOne 13 = .ok (.ifCond .eq 32, 3) := dk_153 0 32 (dk_at dksX3_isOne_0 13 rfl rfl)
theorem dX3_isOne_16 : decode cX3_isOne 16 = .ok (.iload_n 2, 1) := dk_28 (dk_at dksX3_isOne_0 16 rfl rfl)
theorem dX3_isOne_17 : decode cX3_isOne 17 = .ok (.iconst 0, 1) := dk_3 (dk_at dksX3_isOne_0 17 rfl rfl)
theorem dX3_isOne_18 : decode cX3_isOne 18 = .ok (.iconst 1, 1) := dk_4 (dk_at dksX3_isOne_0 18 rfl rfl)
theorem dX3_isOne_19 : decode cX3_isOne 19 = .ok (.invokestatic 70, 3) := dk_184 0 70 (dk_at dksX3_isOne_0 19 rfl rfl)
theorem dX3_isOne_22 : decode cX3_isOne 22 = .ok (.ifCond .eq 23, 3) := dk_153 0 23 (dk_at dksX3_isOne_1 0 rfl rfl)
theorem dX3_isOne_25 : decode cX3_isOne 25 = .ok (.iload_n 3, 1) := dk_29 (dk_at dksX3_isOne_1 3 rfl rfl)
theorem dX3_isOne_26 : decode cX3_isOne 26 = .ok (.iconst 0, 1) := dk_3 (dk_at dksX3_isOne_1 4 rfl rfl)
theorem dX3_isOne_27 : decode cX3_isOne 27 = .ok (.aload_n 0, 1) := dk_42 (dk_at dksX3_isOne_1 5 rfl rfl)
theorem dX3_isOne_28 : decode cX3_isOne 28 = .ok (.getfield 17, 3) := dk_180 0 17 (dk_at dksX3_isOne_1 6 rfl rfl)
theorem dX3_isOne_31 : decode cX3_isOne 31 = .ok (.iconst 0, 1) := dk_3 (dk_at dksX3_isOne_1 9 rfl rfl)
theorem dX3_isOne_32 : decode cX3_isOne 32 = .ok (.iaload, 1) := dk_46 (dk_at dksX3_isOne_1 10 rfl rfl)
theorem dX3_isOne_33 : decode cX3_isOne 33 = .ok (.iconst 1, 1) := dk_4 (dk_at dksX3_isOne_1 11 rfl rfl)
theorem dX3_isOne_34 : decode cX3_isOne 34 = .ok (.isub, 1) := dk_100 (dk_at dksX3_isOne_1 12 rfl rfl)
theorem dX3_isOne_35 : decode cX3_isOne 35 = .ok (.invokestatic 70, 3) := dk_184 0 70 (dk_at dksX3_isOne_1 13 rfl rfl)
theorem dX3_isOne_38 : decode cX3_isOne 38 = .ok (.ifCond .eq 7, 3) := dk_153 0 7 (dk_at dksX3_isOne_1 16 rfl rfl)
theorem dX3_isOne_41 : decode cX3_isOne 41 = .ok (.iconst 1, 1) := dk_4 (dk_at dksX3_isOne_1 19 rfl rfl)
theorem dX3_isOne_42 : decode cX3_isOne 42 = .ok (.goto 4, 3) := dk_167 0 4 (dk_at dksX3_isOne_1 20 rfl rfl)
theorem dX3_isOne_45 : decode cX3_isOne 45 = .ok (.iconst 0, 1) := dk_3 (dk_at dksX3_isOne_1 23 rfl rfl)
theorem dX3_isOne_46 : decode cX3_isOne 46 = .ok (.ireturn, 1) := dk_172 (dk_at dksX3_isOne_2 0 rfl rfl)
abbrev cX3_unless : ByteArray := prog_14_method_7_code
def yX3_unless : MethodName := ⟨RX3, "unless", "(Z)I"⟩
def dkwX3_unless_0 : List UInt8 := [26, 153, 0, 7, 3, 167, 0, 4, 4, 172]
abbrev dktX3_unless_0 : List UInt8 := dkwX3_unless_0 ++ []
theorem dksX3_unless_0 : cX3_unless.data.toList.drop 0 = dktX3_unless_0 := by decide +kernel
theorem dX3_unless_0 : decode cX3_unless 0 = .ok (.iload_n 0, 1) := dk_26 (dk_at dksX3_unless_0 0 rfl rfl)
theorem dX3_unless_1 : decode cX3_unless 1 = .ok (.ifCond .eq 7, 3) := dk_153 0 7 (dk_at dksX3_unless_0 1 rfl rfl)
theorem dX3_unless_4 : decode cX3_unless 4 = .ok (.iconst 0, 1) := dk_3 (dk_at dksX3_unless_0 4 rfl rfl)
theorem dX3_unless_5 : decode cX3_unless 5 = .ok (.goto 4, 3) := dk_167 0 4 (dk_at dksX3_unless_0 5 rfl rfl)
theorem dX3_unless_8 : decode cX3_unless 8 = .ok (.iconst 1, 1) := dk_4 (dk_at dksX3_unless_0 8 rfl rfl)
theorem dX3_unless_9 : decode cX3_unless 9 = .ok (.ireturn, 1) := dk_172 (dk_at dksX3_unless_0 9 rfl rfl)
abbrev cX3_airOf : ByteArray := prog_14_method_26_code
def yX3_airOf : MethodName := ⟨RX3, "airOf", "(II)I"⟩
def dkwX3_airOf_0 : List UInt8 := [42, 180, 0, 17, 16, 6, 16, 6, 27, 104, 96, 28, 96, 46, 172]
abbrev dktX3_airOf_0 : List UInt8 := dkwX3_airOf_0 ++ []
theorem dksX3_airOf_0 : cX3_airOf.data.toList.drop 0 = dktX3_airOf_0 := by decide +kernel
theorem dX3_airOf_0 : decode cX3_airOf 0 = .ok (.aload_n 0, 1) := dk_42 (dk_at dksX3_airOf_0 0 rfl rfl)
theorem dX3_airOf_1 : decode cX3_airOf 1 = .ok (.getfield 17, 3) := dk_180 0 17 (dk_at dksX3_airOf_0 1 rfl rfl)
theorem dX3_airOf_4 : decode cX3_airOf 4 = .ok (.bipush 6, 2) := dk_16 6 (dk_at dksX3_airOf_0 4 rfl rfl)
theorem dX3_airOf_6 : decode cX3_airOf 6 = .ok (.bipush 6, 2) := dk_16 6 (dk_at dksX3_airOf_0 6 rfl rfl)
theorem dX3_airOf_8 : decode cX3_airOf 8 = .ok (.iload_n 1, 1) := dk_27 (dk_at dksX3_airOf_0 8 rfl rfl)
theorem dX3_airOf_9 : decode cX3_airOf 9 = .ok (.imul, 1) := dk_104 (dk_at dksX3_airOf_0 9 rfl rfl)
theorem dX3_airOf_10 : decode cX3_airOf 10 = .ok (.iadd, 1) := dk_96 (dk_at dksX3_airOf_0 10 rfl rfl)
theorem dX3_airOf_11 : decode cX3_airOf 11 = .ok (.iload_n 2, 1) := dk_28 (dk_at dksX3_airOf_0 11 rfl rfl)
theorem dX3_airOf_12 : decode cX3_airOf 12 = .ok (.iadd, 1) := dk_96 (dk_at dksX3_airOf_0 12 rfl rfl)
theorem dX3_airOf_13 : decode cX3_airOf 13 = .ok (.iaload, 1) := dk_46 (dk_at dksX3_airOf_0 13 rfl rfl)
theorem dX3_airOf_14 : decode cX3_airOf 14 = .ok (.ireturn, 1) := dk_172 (dk_at dksX3_airOf_0 14 rfl rfl)
abbrev cX3_boneOf : ByteArray := prog_14_method_27_code
def yX3_boneOf : MethodName := ⟨RX3, "boneOf", "(II)I"⟩
def dkwX3_boneOf_0 : List UInt8 := [42, 180, 0, 17, 16, 18, 16, 6, 27, 104, 96, 28, 96, 46, 172]
abbrev dktX3_boneOf_0 : List UInt8 := dkwX3_boneOf_0 ++ []
theorem dksX3_boneOf_0 : cX3_boneOf.data.toList.drop 0 = dktX3_boneOf_0 := by decide +kernel
theorem dX3_boneOf_0 : decode cX3_boneOf 0 = .ok (.aload_n 0, 1) := dk_42 (dk_at dksX3_boneOf_0 0 rfl rfl)
theorem dX3_boneOf_1 : decode cX3_boneOf 1 = .ok (.getfield 17, 3) := dk_180 0 17 (dk_at dksX3_boneOf_0 1 rfl rfl)
theorem dX3_boneOf_4 : decode cX3_boneOf 4 = .ok (.bipush 18, 2) := dk_16 18 (dk_at dksX3_boneOf_0 4 rfl rfl)
theorem dX3_boneOf_6 : decode cX3_boneOf 6 = .ok (.bipush 6, 2) := dk_16 6 (dk_at dksX3_boneOf_0 6 rfl rfl)
theorem dX3_boneOf_8 : decode cX3_boneOf 8 = .ok (.iload_n 1, 1) := dk_27 (dk_at dksX3_boneOf_0 8 rfl rfl)
theorem dX3_boneOf_9 : decode cX3_boneOf 9 = .ok (.imul, 1) := dk_104 (dk_at dksX3_boneOf_0 9 rfl rfl)
theorem dX3_boneOf_10 : decode cX3_boneOf 10 = .ok (.iadd, 1) := dk_96 (dk_at dksX3_boneOf_0 10 rfl rfl)
theorem dX3_boneOf_11 : decode cX3_boneOf 11 = .ok (.iload_n 2, 1) := dk_28 (dk_at dksX3_boneOf_0 11 rfl rfl)
theorem dX3_boneOf_12 : decode cX3_boneOf 12 = .ok (.iadd, 1) := dk_96 (dk_at dksX3_boneOf_0 12 rfl rfl)
theorem dX3_boneOf_13 : decode cX3_boneOf 13 = .ok (.iaload, 1) := dk_46 (dk_at dksX3_boneOf_0 13 rfl rfl)
theorem dX3_boneOf_14 : decode cX3_boneOf 14 = .ok (.ireturn, 1) := dk_172 (dk_at dksX3_boneOf_0 14 rfl rfl)
abbrev cX3_hears : ByteArray := prog_14_method_32_code
def yX3_hears : MethodName := ⟨RX3, "hears", "(IIIII)I"⟩
def dkwX3_hears_2 : List UInt8 := [28, 29, 21, 4, 21, 5, 182, 0, 198, 172]
abbrev dktX3_hears_2 : List UInt8 := dkwX3_hears_2 ++ []
def dkwX3_hears_1 : List UInt8 := [184, 0, 70, 153, 0, 7, 4, 167, 0, 4, 3, 184, 0, 195, 182, 0, 156, 153, 0, 5, 2, 172, 42, 27]
abbrev dktX3_hears_1 : List UInt8 := dkwX3_hears_1 ++ dktX3_hears_2
def dkwX3_hears_0 : List UInt8 := [42, 42, 27, 28, 29, 182, 0, 188, 21, 4, 3, 16, 24, 184, 0, 70, 153, 0, 18, 21, 5, 2, 16, 24]
abbrev dktX3_hears_0 : List UInt8 := dkwX3_hears_0 ++ dktX3_hears_1
theorem dksX3_hears_0 : cX3_hears.data.toList.drop 0 = dktX3_hears_0 := by decide +kernel
theorem dksX3_hears_1 : cX3_hears.data.toList.drop 24 = dktX3_hears_1 := dk_seg dksX3_hears_0 24 rfl rfl
theorem dksX3_hears_2 : cX3_hears.data.toList.drop 48 = dktX3_hears_2 := dk_seg dksX3_hears_1 24 rfl rfl
theorem dX3_hears_0 : decode cX3_hears 0 = .ok (.aload_n 0, 1) := dk_42 (dk_at dksX3_hears_0 0 rfl rfl)
theorem dX3_hears_1 : decode cX3_hears 1 = .ok (.aload_n 0, 1) := dk_42 (dk_at dksX3_hears_0 1 rfl rfl)
theorem dX3_hears_2 : decode cX3_hears 2 = .ok (.iload_n 1, 1) := dk_27 (dk_at dksX3_hears_0 2 rfl rfl)
theorem dX3_hears_3 : decode cX3_hears 3 = .ok (.iload_n 2, 1) := dk_28 (dk_at dksX3_hears_0 3 rfl rfl)
theorem dX3_hears_4 : decode cX3_hears 4 = .ok (.iload_n 3, 1) := dk_29 (dk_at dksX3_hears_0 4 rfl rfl)
theorem dX3_hears_5 : decode cX3_hears 5 = .ok (.invokevirtual 188, 3) := dk_182 0 188 (dk_at dksX3_hears_0 5 rfl rfl)
theorem dX3_hears_8 : decode cX3_hears 8 = .ok (.iload 4, 2) := dk_21 4 (dk_at dksX3_hears_0 8 rfl rfl)
theorem dX3_hears_10 : decode cX3_hears 10 = .ok (.iconst 0, 1) := dk_3 (dk_at dksX3_hears_0 10 rfl rfl)
theorem dX3_hears_11 : decode cX3_hears 11 = .ok (.bipush 24, 2) := dk_16 24 (dk_at dksX3_hears_0 11 rfl rfl)
theorem dX3_hears_13 : decode cX3_hears 13 = .ok (.invokestatic 70, 3) := dk_184 0 70 (dk_at dksX3_hears_0 13 rfl rfl)
theorem dX3_hears_16 : decode cX3_hears 16 = .ok (.ifCond .eq 18, 3) := dk_153 0 18 (dk_at dksX3_hears_0 16 rfl rfl)
theorem dX3_hears_19 : decode cX3_hears 19 = .ok (.iload 5, 2) := dk_21 5 (dk_at dksX3_hears_0 19 rfl rfl)
theorem dX3_hears_21 : decode cX3_hears 21 = .ok (.iconst (-1), 1) := dk_2 (dk_at dksX3_hears_0 21 rfl rfl)
theorem dX3_hears_22 : decode cX3_hears 22 = .ok (.bipush 24, 2) := dk_16 24 (dk_at dksX3_hears_0 22 rfl rfl)
theorem dX3_hears_24 : decode cX3_hears 24 = .ok (.invokestatic 70, 3) := dk_184 0 70 (dk_at dksX3_hears_1 0 rfl rfl)
theorem dX3_hears_27 : decode cX3_hears 27 = .ok (.ifCond .eq 7, 3) := dk_153 0 7 (dk_at dksX3_hears_1 3 rfl rfl)
theorem dX3_hears_30 : decode cX3_hears 30 = .ok (.iconst 1, 1) := dk_4 (dk_at dksX3_hears_1 6 rfl rfl)
theorem dX3_hears_31 : decode cX3_hears 31 = .ok (.goto 4, 3) := dk_167 0 4 (dk_at dksX3_hears_1 7 rfl rfl)
theorem dX3_hears_34 : decode cX3_hears 34 = .ok (.iconst 0, 1) := dk_3 (dk_at dksX3_hears_1 10 rfl rfl)
theorem dX3_hears_35 : decode cX3_hears 35 = .ok (.invokestatic 195, 3) := dk_184 0 195 (dk_at dksX3_hears_1 11 rfl rfl)
theorem dX3_hears_38 : decode cX3_hears 38 = .ok (.invokevirtual 156, 3) := dk_182 0 156 (dk_at dksX3_hears_1 14 rfl rfl)
theorem dX3_hears_41 : decode cX3_hears 41 = .ok (.ifCond .eq 5, 3) := dk_153 0 5 (dk_at dksX3_hears_1 17 rfl rfl)
theorem dX3_hears_44 : decode cX3_hears 44 = .ok (.iconst (-1), 1) := dk_2 (dk_at dksX3_hears_1 20 rfl rfl)
theorem dX3_hears_45 : decode cX3_hears 45 = .ok (.ireturn, 1) := dk_172 (dk_at dksX3_hears_1 21 rfl rfl)
theorem dX3_hears_46 : decode cX3_hears 46 = .ok (.aload_n 0, 1) := dk_42 (dk_at dksX3_hears_1 22 rfl rfl)
theorem dX3_hears_47 : decode cX3_hears 47 = .ok (.iload_n 1, 1) := dk_27 (dk_at dksX3_hears_1 23 rfl rfl)
theorem dX3_hears_48 : decode cX3_hears 48 = .ok (.iload_n 2, 1) := dk_28 (dk_at dksX3_hears_2 0 rfl rfl)
theorem dX3_hears_49 : decode cX3_hears 49 = .ok (.iload_n 3, 1) := dk_29 (dk_at dksX3_hears_2 1 rfl rfl)
theorem dX3_hears_50 : decode cX3_hears 50 = .ok (.iload 4, 2) := dk_21 4 (dk_at dksX3_hears_2 2 rfl rfl)
theorem dX3_hears_52 : decode cX3_hears 52 = .ok (.iload 5, 2) := dk_21 5 (dk_at dksX3_hears_2 4 rfl rfl)
theorem dX3_hears_54 : decode cX3_hears 54 = .ok (.invokevirtual 198, 3) := dk_182 0 198 (dk_at dksX3_hears_2 6 rfl rfl)
theorem dX3_hears_57 : decode cX3_hears 57 = .ok (.ireturn, 1) := dk_172 (dk_at dksX3_hears_2 9 rfl rfl)
abbrev cX3_unless_2 : ByteArray := prog_14_method_8_code
def yX3_unless_2 : MethodName := ⟨RX3, "unless", "(ZZ)I"⟩
def dkwX3_unless_2_0 : List UInt8 := [26, 154, 0, 7, 4, 167, 0, 12, 27, 153, 0, 7, 3, 167, 0, 4, 5, 172]
abbrev dktX3_unless_2_0 : List UInt8 := dkwX3_unless_2_0 ++ []
theorem dksX3_unless_2_0 : cX3_unless_2.data.toList.drop 0 = dktX3_unless_2_0 := by decide +kernel
theorem dX3_unless_2_0 : decode cX3_unless_2 0 = .ok (.iload_n 0, 1) := dk_26 (dk_at dksX3_unless_2_0 0 rfl rfl)
theorem dX3_unless_2_1 : decode cX3_unless_2 1 = .ok (.ifCond .ne 7, 3) := dk_154 0 7 (dk_at dksX3_unless_2_0 1 rfl rfl)
theorem dX3_unless_2_4 : decode cX3_unless_2 4 = .ok (.iconst 1, 1) := dk_4 (dk_at dksX3_unless_2_0 4 rfl rfl)
theorem dX3_unless_2_5 : decode cX3_unless_2 5 = .ok (.goto 12, 3) := dk_167 0 12 (dk_at dksX3_unless_2_0 5 rfl rfl)
theorem dX3_unless_2_8 : decode cX3_unless_2 8 = .ok (.iload_n 1, 1) := dk_27 (dk_at dksX3_unless_2_0 8 rfl rfl)
theorem dX3_unless_2_9 : decode cX3_unless_2 9 = .ok (.ifCond .eq 7, 3) := dk_153 0 7 (dk_at dksX3_unless_2_0 9 rfl rfl)
theorem dX3_unless_2_12 : decode cX3_unless_2 12 = .ok (.iconst 0, 1) := dk_3 (dk_at dksX3_unless_2_0 12 rfl rfl)
theorem dX3_unless_2_13 : decode cX3_unless_2 13 = .ok (.goto 4, 3) := dk_167 0 4 (dk_at dksX3_unless_2_0 13 rfl rfl)
theorem dX3_unless_2_16 : decode cX3_unless_2 16 = .ok (.iconst 2, 1) := dk_5 (dk_at dksX3_unless_2_0 16 rfl rfl)
theorem dX3_unless_2_17 : decode cX3_unless_2 17 = .ok (.ireturn, 1) := dk_172 (dk_at dksX3_unless_2_0 17 rfl rfl)
abbrev cX3_heardBy : ByteArray := prog_14_method_29_code
def yX3_heardBy : MethodName := ⟨RX3, "heardBy", "(IIIII)I"⟩
def dkwX3_heardBy_6 : List UInt8 := [21, 11, 4, 21, 6, 120, 128, 167, 0, 5, 21, 11, 172]
abbrev dktX3_heardBy_6 : List UInt8 := dkwX3_heardBy_6 ++ []
def dkwX3_heardBy_5 : List UInt8 := [4, 28, 120, 167, 0, 4, 3, 54, 11, 42, 21, 6, 29, 21, 8, 21, 10, 182, 0, 184, 153, 0, 13]
abbrev dktX3_heardBy_5 : List UInt8 := dkwX3_heardBy_5 ++ dktX3_heardBy_6
def dkwX3_heardBy_4 : List UInt8 := [42, 21, 6, 29, 182, 0, 177, 100, 100, 54, 10, 42, 28, 29, 21, 7, 21, 9, 182, 0, 184, 153, 0, 9]
abbrev dktX3_heardBy_4 : List UInt8 := dkwX3_heardBy_4 ++ dktX3_heardBy_5
def dkwX3_heardBy_3 : List UInt8 := [100, 54, 9, 21, 5, 2, 160, 0, 9, 17, 252, 24, 167, 0, 21, 21, 5, 42, 21, 6, 29, 182, 0, 181]
abbrev dktX3_heardBy_3 : List UInt8 := dkwX3_heardBy_3 ++ dktX3_heardBy_4
def dkwX3_heardBy_2 : List UInt8 := [21, 4, 54, 8, 21, 5, 2, 160, 0, 9, 17, 252, 24, 167, 0, 12, 21, 5, 42, 180, 0, 17, 4, 46]
abbrev dktX3_heardBy_2 : List UInt8 := dkwX3_heardBy_2 ++ dktX3_heardBy_3
def dkwX3_heardBy_1 : List UInt8 := [100, 167, 0, 5, 21, 4, 54, 7, 27, 154, 0, 15, 21, 4, 42, 180, 0, 17, 4, 46, 100, 167, 0, 5]
abbrev dktX3_heardBy_1 : List UInt8 := dkwX3_heardBy_1 ++ dktX3_heardBy_2
def dkwX3_heardBy_0 : List UInt8 := [4, 28, 100, 54, 6, 27, 154, 0, 22, 21, 4, 42, 28, 29, 182, 0, 181, 42, 28, 29, 182, 0, 177, 100]
abbrev dktX3_heardBy_0 : List UInt8 := dkwX3_heardBy_0 ++ dktX3_heardBy_1
theorem dksX3_heardBy_0 : cX3_heardBy.data.toList.drop 0 = dktX3_heardBy_0 := by decide +kernel
theorem dksX3_heardBy_1 : cX3_heardBy.data.toList.drop 24 = dktX3_heardBy_1 := dk_seg dksX3_heardBy_0 24 rfl rfl
theorem dksX3_heardBy_2 : cX3_heardBy.data.toList.drop 48 = dktX3_heardBy_2 := dk_seg dksX3_heardBy_1 24 rfl rfl
theorem dksX3_heardBy_3 : cX3_heardBy.data.toList.drop 72 = dktX3_heardBy_3 := dk_seg dksX3_heardBy_2 24 rfl rfl
theorem dksX3_heardBy_4 : cX3_heardBy.data.toList.drop 96 = dktX3_heardBy_4 := dk_seg dksX3_heardBy_3 24 rfl rfl
theorem dksX3_heardBy_5 : cX3_heardBy.data.toList.drop 120 = dktX3_heardBy_5 := dk_seg dksX3_heardBy_4 24 rfl rfl
theorem dksX3_heardBy_6 : cX3_heardBy.data.toList.drop 143 = dktX3_heardBy_6 := dk_seg dksX3_heardBy_5 23 rfl rfl
theorem dX3_heardBy_0 : decode cX3_heardBy 0 = .ok (.iconst 1, 1) := dk_4 (dk_at dksX3_heardBy_0 0 rfl rfl)
theorem dX3_heardBy_1 : decode cX3_heardBy 1 = .ok (.iload_n 2, 1) := dk_28 (dk_at dksX3_heardBy_0 1 rfl rfl)
theorem dX3_heardBy_2 : decode cX3_heardBy 2 = .ok (.isub, 1) := dk_100 (dk_at dksX3_heardBy_0 2 rfl rfl)
theorem dX3_heardBy_3 : decode cX3_heardBy 3 = .ok (.istore 6, 2) := dk_54 6 (dk_at dksX3_heardBy_0 3 rfl rfl)
theorem dX3_heardBy_5 : decode cX3_heardBy 5 = .ok (.iload_n 1, 1) := dk_27 (dk_at dksX3_heardBy_0 5 rfl rfl)
theorem dX3_heardBy_6 : decode cX3_heardBy 6 = .ok (.ifCond .ne 22, 3) := dk_154 0 22 (dk_at dksX3_heardBy_0 6 rfl rfl)
theorem dX3_heardBy_9 : decode cX3_heardBy 9 = .ok (.iload 4, 2) := dk_21 4 (dk_at dksX3_heardBy_0 9 rfl rfl)
theorem dX3_heardBy_11 : decode cX3_heardBy 11 = .ok (.aload_n 0, 1) := dk_42 (dk_at dksX3_heardBy_0 11 rfl rfl)
theorem dX3_heardBy_12 : decode cX3_heardBy 12 = .ok (.iload_n 2, 1) := dk_28 (dk_at dksX3_heardBy_0 12 rfl rfl)
theorem dX3_heardBy_13 : decode cX3_heardBy 13 = .ok (.iload_n 3, 1) := dk_29 (dk_at dksX3_heardBy_0 13 rfl rfl)
theorem dX3_heardBy_14 : decode cX3_heardBy 14 = .ok (.invokevirtual 181, 3) := dk_182 0 181 (dk_at dksX3_heardBy_0 14 rfl rfl)
theorem dX3_heardBy_17 : decode cX3_heardBy 17 = .ok (.aload_n 0, 1) := dk_42 (dk_at dksX3_heardBy_0 17 rfl rfl)
theorem dX3_heardBy_18 : decode cX3_heardBy 18 = .ok (.iload_n 2, 1) := dk_28 (dk_at dksX3_heardBy_0 18 rfl rfl)
theorem dX3_heardBy_19 : decode cX3_heardBy 19 = .ok (.iload_n 3, 1) := dk_29 (dk_at dksX3_heardBy_0 19 rfl rfl)
theorem dX3_heardBy_20 : decode cX3_heardBy 20 = .ok (.invokevirtual 177, 3) := dk_182 0 177 (dk_at dksX3_heardBy_0 20 rfl rfl)
theorem dX3_heardBy_23 : decode cX3_heardBy 23 = .ok (.isub, 1) := dk_100 (dk_at dksX3_heardBy_0 23 rfl rfl)
theorem dX3_heardBy_24 : decode cX3_heardBy 24 = .ok (.isub, 1) := dk_100 (dk_at dksX3_heardBy_1 0 rfl rfl)
theorem dX3_heardBy_25 : decode cX3_heardBy 25 = .ok (.goto 5, 3) := dk_167 0 5 (dk_at dksX3_heardBy_1 1 rfl rfl)
theorem dX3_heardBy_28 : decode cX3_heardBy 28 = .ok (.iload 4, 2) := dk_21 4 (dk_at dksX3_heardBy_1 4 rfl rfl)
theorem dX3_heardBy_30 : decode cX3_heardBy 30 = .ok (.istore 7, 2) := dk_54 7 (dk_at dksX3_heardBy_1 6 rfl rfl)
theorem dX3_heardBy_32 : decode cX3_heardBy 32 = .ok (.iload_n 1, 1) := dk_27 (dk_at dksX3_heardBy_1 8 rfl rfl)
theorem dX3_heardBy_33 : decode cX3_heardBy 33 = .ok (.ifCond .ne 15, 3) := dk_154 0 15 (dk_at dksX3_heardBy_1 9 rfl rfl)
theorem dX3_heardBy_36 : decode cX3_heardBy 36 = .ok (.iload 4, 2) := dk_21 4 (dk_at dksX3_heardBy_1 12 rfl rfl)
theorem dX3_heardBy_38 : decode cX3_heardBy 38 = .ok (.aload_n 0, 1) := dk_42 (dk_at dksX3_heardBy_1 14 rfl rfl)
theorem dX3_heardBy_39 : decode cX3_heardBy 39 = .ok (.getfield 17, 3) := dk_180 0 17 (dk_at dksX3_heardBy_1 15 rfl rfl)
theorem dX3_heardBy_42 : decode cX3_heardBy 42 = .ok (.iconst 1, 1) := dk_4 (dk_at dksX3_heardBy_1 18 rfl rfl)
theorem dX3_heardBy_43 : decode cX3_heardBy 43 = .ok (.iaload, 1) := dk_46 (dk_at dksX3_heardBy_1 19 rfl rfl)
theorem dX3_heardBy_44 : decode cX3_heardBy 44 = .ok (.isub, 1) := dk_100 (dk_at dksX3_heardBy_1 20 rfl rfl)
theorem dX3_heardBy_45 : decode cX3_heardBy 45 = .ok (.goto 5, 3) := dk_167 0 5 (dk_at dksX3_heardBy_1 21 rfl rfl)
theorem dX3_heardBy_48 : decode cX3_heardBy 48 = .ok (.iload 4, 2) := dk_21 4 (dk_at dksX3_heardBy_2 0 rfl rfl)
theorem dX3_heardBy_50 : decode cX3_heardBy 50 = .ok (.istore 8, 2) := dk_54 8 (dk_at dksX3_heardBy_2 2 rfl rfl)
theorem dX3_heardBy_52 : decode cX3_heardBy 52 = .ok (.iload 5, 2) := dk_21 5 (dk_at dksX3_heardBy_2 4 rfl rfl)
theorem dX3_heardBy_54 : decode cX3_heardBy 54 = .ok (.iconst (-1), 1) := dk_2 (dk_at dksX3_heardBy_2 6 rfl rfl)
theorem dX3_heardBy_55 : decode cX3_heardBy 55 = .ok (.if_icmp .ne 9, 3) := dk_160 0 9 (dk_at dksX3_heardBy_2 7 rfl rfl)
theorem dX3_heardBy_58 : decode cX3_heardBy 58 = .ok (.sipush (-1000), 3) := dk_17 252 24 (dk_at dksX3_heardBy_2 10 rfl rfl)
theorem dX3_heardBy_61 : decode cX3_heardBy 61 = .ok (.goto 12, 3) := dk_167 0 12 (dk_at dksX3_heardBy_2 13 rfl rfl)
theorem dX3_heardBy_64 : decode cX3_heardBy 64 = .ok (.iload 5, 2) := dk_21 5 (dk_at dksX3_heardBy_2 16 rfl rfl)
theorem dX3_heardBy_66 : decode cX3_heardBy 66 = .ok (.aload_n 0, 1) := dk_42 (dk_at dksX3_heardBy_2 18 rfl rfl)
theorem dX3_heardBy_67 : decode cX3_heardBy 67 = .ok (.getfield 17, 3) := dk_180 0 17 (dk_at dksX3_heardBy_2 19 rfl rfl)
theorem dX3_heardBy_70 : decode cX3_heardBy 70 = .ok (.iconst 1, 1) := dk_4 (dk_at dksX3_heardBy_2 22 rfl rfl)
theorem dX3_heardBy_71 : decode cX3_heardBy 71 = .ok (.iaload, 1) := dk_46 (dk_at dksX3_heardBy_2 23 rfl rfl)
theorem dX3_heardBy_72 : decode cX3_heardBy 72 = .ok (.isub, 1) := dk_100 (dk_at dksX3_heardBy_3 0 rfl rfl)
theorem dX3_heardBy_73 : decode cX3_heardBy 73 = .ok (.istore 9, 2) := dk_54 9 (dk_at dksX3_heardBy_3 1 rfl rfl)
theorem dX3_heardBy_75 : decode cX3_heardBy 75 = .ok (.iload 5, 2) := dk_21 5 (dk_at dksX3_heardBy_3 3 rfl rfl)
theorem dX3_heardBy_77 : decode cX3_heardBy 77 = .ok (.iconst (-1), 1) := dk_2 (dk_at dksX3_heardBy_3 5 rfl rfl)
theorem dX3_heardBy_78 : decode cX3_heardBy 78 = .ok (.if_icmp .ne 9, 3) := dk_160 0 9 (dk_at dksX3_heardBy_3 6 rfl rfl)
theorem dX3_heardBy_81 : decode cX3_heardBy 81 = .ok (.sipush (-1000), 3) := dk_17 252 24 (dk_at dksX3_heardBy_3 9 rfl rfl)
theorem dX3_heardBy_84 : decode cX3_heardBy 84 = .ok (.goto 21, 3) := dk_167 0 21 (dk_at dksX3_heardBy_3 12 rfl rfl)
theorem dX3_heardBy_87 : decode cX3_heardBy 87 = .ok (.iload 5, 2) := dk_21 5 (dk_at dksX3_heardBy_3 15 rfl rfl)
theorem dX3_heardBy_89 : decode cX3_heardBy 89 = .ok (.aload_n 0, 1) := dk_42 (dk_at dksX3_heardBy_3 17 rfl rfl)
theorem dX3_heardBy_90 : decode cX3_heardBy 90 = .ok (.iload 6, 2) := dk_21 6 (dk_at dksX3_heardBy_3 18 rfl rfl)
theorem dX3_heardBy_92 : decode cX3_heardBy 92 = .ok (.iload_n 3, 1) := dk_29 (dk_at dksX3_heardBy_3 20 rfl rfl)
theorem dX3_heardBy_93 : decode cX3_heardBy 93 = .ok (.invokevirtual 181, 3) := dk_182 0 181 (dk_at dksX3_heardBy_3 21 rfl rfl)
theorem dX3_heardBy_96 : decode cX3_heardBy 96 = .ok (.aload_n 0, 1) := dk_42 (dk_at dksX3_heardBy_4 0 rfl rfl)
theorem dX3_heardBy_97 : decode cX3_heardBy 97 = .ok (.iload 6, 2) := dk_21 6 (dk_at dksX3_heardBy_4 1 rfl rfl)
theorem dX3_heardBy_99 : decode cX3_heardBy 99 = .ok (.iload_n 3, 1) := dk_29 (dk_at dksX3_heardBy_4 3 rfl rfl)
theorem dX3_heardBy_100 : decode cX3_heardBy 100 = .ok (.invokevirtual 177, 3) := dk_182 0 177 (dk_at dksX3_heardBy_4 4 rfl rfl)
theorem dX3_heardBy_103 : decode cX3_heardBy 103 = .ok (.isub, 1) := dk_100 (dk_at dksX3_heardBy_4 7 rfl rfl)
theorem dX3_heardBy_104 : decode cX3_heardBy 104 = .ok (.isub, 1) := dk_100 (dk_at dksX3_heardBy_4 8 rfl rfl)
theorem dX3_heardBy_105 : decode cX3_heardBy 105 = .ok (.istore 10, 2) := dk_54 10 (dk_at dksX3_heardBy_4 9 rfl rfl)
theorem dX3_heardBy_107 : decode cX3_heardBy 107 = .ok (.aload_n 0, 1) := dk_42 (dk_at dksX3_heardBy_4 11 rfl rfl)
theorem dX3_heardBy_108 : decode cX3_heardBy 108 = .ok (.iload_n 2, 1) := dk_28 (dk_at dksX3_heardBy_4 12 rfl rfl)
theorem dX3_heardBy_109 : decode cX3_heardBy 109 = .ok (.iload_n 3, 1) := dk_29 (dk_at dksX3_heardBy_4 13 rfl rfl)
theorem dX3_heardBy_110 : decode cX3_heardBy 110 = .ok (.iload 7, 2) := dk_21 7 (dk_at dksX3_heardBy_4 14 rfl rfl)
theorem dX3_heardBy_112 : decode cX3_heardBy 112 = .ok (.iload 9, 2) := dk_21 9 (dk_at dksX3_heardBy_4 16 rfl rfl)
theorem dX3_heardBy_114 : decode cX3_heardBy 114 = .ok (.invokevirtual 184, 3) := dk_182 0 184 (dk_at dksX3_heardBy_4 18 rfl rfl)
theorem dX3_heardBy_117 : decode cX3_heardBy 117 = .ok (.ifCond .eq 9, 3) := dk_153 0 9 (dk_at dksX3_heardBy_4 21 rfl rfl)
theorem dX3_heardBy_120 : decode cX3_heardBy 120 = .ok (.iconst 1, 1) := dk_4 (dk_at dksX3_heardBy_5 0 rfl rfl)
theorem dX3_heardBy_121 : decode cX3_heardBy 121 = .ok (.iload_n 2, 1) := dk_28 (dk_at dksX3_heardBy_5 1 rfl rfl)
theorem dX3_heardBy_122 : decode cX3_heardBy 122 = .ok (.ishl, 1) := dk_120 (dk_at dksX3_heardBy_5 2 rfl rfl)
theorem dX3_heardBy_123 : decode cX3_heardBy 123 = .ok (.goto 4, 3) := dk_167 0 4 (dk_at dksX3_heardBy_5 3 rfl rfl)
theorem dX3_heardBy_126 : decode cX3_heardBy 126 = .ok (.iconst 0, 1) := dk_3 (dk_at dksX3_heardBy_5 6 rfl rfl)
theorem dX3_heardBy_127 : decode cX3_heardBy 127 = .ok (.istore 11, 2) := dk_54 11 (dk_at dksX3_heardBy_5 7 rfl rfl)
theorem dX3_heardBy_129 : decode cX3_heardBy 129 = .ok (.aload_n 0, 1) := dk_42 (dk_at dksX3_heardBy_5 9 rfl rfl)
theorem dX3_heardBy_130 : decode cX3_heardBy 130 = .ok (.iload 6, 2) := dk_21 6 (dk_at dksX3_heardBy_5 10 rfl rfl)
theorem dX3_heardBy_132 : decode cX3_heardBy 132 = .ok (.iload_n 3, 1) := dk_29 (dk_at dksX3_heardBy_5 12 rfl rfl)
theorem dX3_heardBy_133 : decode cX3_heardBy 133 = .ok (.iload 8, 2) := dk_21 8 (dk_at dksX3_heardBy_5 13 rfl rfl)
theorem dX3_heardBy_135 : decode cX3_heardBy 135 = .ok (.iload 10, 2) := dk_21 10 (dk_at dksX3_heardBy_5 15 rfl rfl)
theorem dX3_heardBy_137 : decode cX3_heardBy 137 = .ok (.invokevirtual 184, 3) := dk_182 0 184 (dk_at dksX3_heardBy_5 17 rfl rfl)
theorem dX3_heardBy_140 : decode cX3_heardBy 140 = .ok (.ifCond .eq 13, 3) := dk_153 0 13 (dk_at dksX3_heardBy_5 20 rfl rfl)
theorem dX3_heardBy_143 : decode cX3_heardBy 143 = .ok (.iload 11, 2) := dk_21 11 (dk_at dksX3_heardBy_6 0 rfl rfl)
theorem dX3_heardBy_145 : decode cX3_heardBy 145 = .ok (.iconst 1, 1) := dk_4 (dk_at dksX3_heardBy_6 2 rfl rfl)
theorem dX3_heardBy_146 : decode cX3_heardBy 146 = .ok (.iload 6, 2) := dk_21 6 (dk_at dksX3_heardBy_6 3 rfl rfl)
theorem dX3_heardBy_148 : decode cX3_heardBy 148 = .ok (.ishl, 1) := dk_120 (dk_at dksX3_heardBy_6 5 rfl rfl)
theorem dX3_heardBy_149 : decode cX3_heardBy 149 = .ok (.ior, 1) := dk_128 (dk_at dksX3_heardBy_6 6 rfl rfl)
theorem dX3_heardBy_150 : decode cX3_heardBy 150 = .ok (.goto 5, 3) := dk_167 0 5 (dk_at dksX3_heardBy_6 7 rfl rfl)
theorem dX3_heardBy_153 : decode cX3_heardBy 153 = .ok (.iload 11, 2) := dk_21 11 (dk_at dksX3_heardBy_6 10 rfl rfl)
theorem dX3_heardBy_155 : decode cX3_heardBy 155 = .ok (.ireturn, 1) := dk_172 (dk_at dksX3_heardBy_6 12 rfl rfl)
abbrev cX3_isHeardBy : ByteArray := prog_14_method_28_code
def yX3_isHeardBy : MethodName := ⟨RX3, "isHeardBy", "(IIII)Z"⟩
def dkwX3_isHeardBy_0 : List UInt8 := [29, 42, 27, 28, 182, 0, 177, 161, 0, 13, 29, 21, 4, 161, 0, 7, 4, 167, 0, 4, 3, 172]
abbrev dktX3_isHeardBy_0 : List UInt8 := dkwX3_isHeardBy_0 ++ []
theorem dksX3_isHeardBy_0 : cX3_isHeardBy.data.toList.drop 0 = dktX3_isHeardBy_0 := by decide +kernel
theorem dX3_isHeardBy_0 : decode cX3_isHeardBy 0 = .ok (.iload_n 3, 1) := dk_29 (dk_at dksX3_isHeardBy_0 0 rfl rfl)
theorem dX3_isHeardBy_1 : decode cX3_isHeardBy 1 = .ok (.aload_n 0, 1) := dk_42 (dk_at dksX3_isHeardBy_0 1 rfl rfl)
theorem dX3_isHeardBy_2 : decode cX3_isHeardBy 2 = .ok (.iload_n 1, 1) := dk_27 (dk_at dksX3_isHeardBy_0 2 rfl rfl)
theorem dX3_isHeardBy_3 : decode cX3_isHeardBy 3 = .ok (.iload_n 2, 1) := dk_28 (dk_at dksX3_isHeardBy_0 3 rfl rfl)
theorem dX3_isHeardBy_4 : decode cX3_isHeardBy 4 = .ok (.invokevirtual 177, 3) := dk_182 0 177 (dk_at dksX3_isHeardBy_0 4 rfl rfl)
theorem dX3_isHeardBy_7 : decode cX3_isHeardBy 7 = .ok (.if_icmp .lt 13, 3) := dk_161 0 13 (dk_at dksX3_isHeardBy_0 7 rfl rfl)
theorem dX3_isHeardBy_10 : decode cX3_isHeardBy 10 = .ok (.iload_n 3, 1) := dk_29 (dk_at dksX3_isHeardBy_0 10 rfl rfl)
theorem dX3_isHeardBy_11 : decode cX3_isHeardBy 11 = .ok (.iload 4, 2) := dk_21 4 (dk_at dksX3_isHeardBy_0 11 rfl rfl)
theorem dX3_isHeardBy_13 : decode cX3_isHeardBy 13 = .ok (.if_icmp .lt 7, 3) := dk_161 0 7 (dk_at dksX3_isHeardBy_0 13 rfl rfl)
theorem dX3_isHeardBy_16 : decode cX3_isHeardBy 16 = .ok (.iconst 1, 1) := dk_4 (dk_at dksX3_isHeardBy_0 16 rfl rfl)
theorem dX3_isHeardBy_17 : decode cX3_isHeardBy 17 = .ok (.goto 4, 3) := dk_167 0 4 (dk_at dksX3_isHeardBy_0 17 rfl rfl)
theorem dX3_isHeardBy_20 : decode cX3_isHeardBy 20 = .ok (.iconst 0, 1) := dk_3 (dk_at dksX3_isHeardBy_0 20 rfl rfl)
theorem dX3_isHeardBy_21 : decode cX3_isHeardBy 21 = .ok (.ireturn, 1) := dk_172 (dk_at dksX3_isHeardBy_0 21 rfl rfl)
abbrev cX3_least : ByteArray := prog_14_method_33_code
def yX3_least : MethodName := ⟨RX3, "least", "(IIII)I"⟩
def dkwX3_least_2 : List UInt8 := [182, 0, 198, 154, 0, 9, 132, 5, 1, 167, 255, 232, 21, 5, 172]
abbrev dktX3_least_2 : List UInt8 := dkwX3_least_2 ++ []
def dkwX3_least_1 : List UInt8 := [153, 0, 5, 2, 172, 3, 54, 5, 21, 5, 16, 25, 162, 0, 23, 42, 27, 28, 29, 21, 5, 21, 4]
abbrev dktX3_least_1 : List UInt8 := dkwX3_least_1 ++ dktX3_least_2
def dkwX3_least_0 : List UInt8 := [42, 42, 27, 28, 29, 182, 0, 188, 21, 4, 2, 16, 24, 184, 0, 70, 184, 0, 195, 182, 0, 156]
abbrev dktX3_least_0 : List UInt8 := dkwX3_least_0 ++ dktX3_least_1
theorem dksX3_least_0 : cX3_least.data.toList.drop 0 = dktX3_least_0 := by decide +kernel
theorem dksX3_least_1 : cX3_least.data.toList.drop 22 = dktX3_least_1 := dk_seg dksX3_least_0 22 rfl rfl
theorem dksX3_least_2 : cX3_least.data.toList.drop 45 = dktX3_least_2 := dk_seg dksX3_least_1 23 rfl rfl
theorem dX3_least_0 : decode cX3_least 0 = .ok (.aload_n 0, 1) := dk_42 (dk_at dksX3_least_0 0 rfl rfl)
theorem dX3_least_1 : decode cX3_least 1 = .ok (.aload_n 0, 1) := dk_42 (dk_at dksX3_least_0 1 rfl rfl)
theorem dX3_least_2 : decode cX3_least 2 = .ok (.iload_n 1, 1) := dk_27 (dk_at dksX3_least_0 2 rfl rfl)
theorem dX3_least_3 : decode cX3_least 3 = .ok (.iload_n 2, 1) := dk_28 (dk_at dksX3_least_0 3 rfl rfl)
theorem dX3_least_4 : decode cX3_least 4 = .ok (.iload_n 3, 1) := dk_29 (dk_at dksX3_least_0 4 rfl rfl)
theorem dX3_least_5 : decode cX3_least 5 = .ok (.invokevirtual 188, 3) := dk_182 0 188 (dk_at dksX3_least_0 5 rfl rfl)
theorem dX3_least_8 : decode cX3_least 8 = .ok (.iload 4, 2) := dk_21 4 (dk_at dksX3_least_0 8 rfl rfl)
theorem dX3_least_10 : decode cX3_least 10 = .ok (.iconst (-1), 1) := dk_2 (dk_at dksX3_least_0 10 rfl rfl)
theorem dX3_least_11 : decode cX3_least 11 = .ok (.bipush 24, 2) := dk_16 24 (dk_at dksX3_least_0 11 rfl rfl)
theorem dX3_least_13 : decode cX3_least 13 = .ok (.invokestatic 70, 3) := dk_184 0 70 (dk_at dksX3_least_0 13 rfl rfl)
theorem dX3_least_16 : decode cX3_least 16 = .ok (.invokestatic 195, 3) := dk_184 0 195 (dk_at dksX3_least_0 16 rfl rfl)
theorem dX3_least_19 : decode cX3_least 19 = .ok (.invokevirtual 156, 3) := dk_182 0 156 (dk_at dksX3_least_0 19 rfl rfl)
theorem dX3_least_22 : decode cX3_least 22 = .ok (.ifCond .eq 5, 3) := dk_153 0 5 (dk_at dksX3_least_1 0 rfl rfl)
theorem dX3_least_25 : decode cX3_least 25 = .ok (.iconst (-1), 1) := dk_2 (dk_at dksX3_least_1 3 rfl rfl)
theorem dX3_least_26 : decode cX3_least 26 = .ok (.ireturn, 1) := dk_172 (dk_at dksX3_least_1 4 rfl rfl)
theorem dX3_least_27 : decode cX3_least 27 = .ok (.iconst 0, 1) := dk_3 (dk_at dksX3_least_1 5 rfl rfl)
theorem dX3_least_28 : decode cX3_least 28 = .ok (.istore 5, 2) := dk_54 5 (dk_at dksX3_least_1 6 rfl rfl)
theorem dX3_least_30 : decode cX3_least 30 = .ok (.iload 5, 2) := dk_21 5 (dk_at dksX3_least_1 8 rfl rfl)
theorem dX3_least_32 : decode cX3_least 32 = .ok (.bipush 25, 2) := dk_16 25 (dk_at dksX3_least_1 10 rfl rfl)
theorem dX3_least_34 : decode cX3_least 34 = .ok (.if_icmp .ge 23, 3) := dk_162 0 23 (dk_at dksX3_least_1 12 rfl rfl)
theorem dX3_least_37 : decode cX3_least 37 = .ok (.aload_n 0, 1) := dk_42 (dk_at dksX3_least_1 15 rfl rfl)
theorem dX3_least_38 : decode cX3_least 38 = .ok (.iload_n 1, 1) := dk_27 (dk_at dksX3_least_1 16 rfl rfl)
theorem dX3_least_39 : decode cX3_least 39 = .ok (.iload_n 2, 1) := dk_28 (dk_at dksX3_least_1 17 rfl rfl)
theorem dX3_least_40 : decode cX3_least 40 = .ok (.iload_n 3, 1) := dk_29 (dk_at dksX3_least_1 18 rfl rfl)
theorem dX3_least_41 : decode cX3_least 41 = .ok (.iload 5, 2) := dk_21 5 (dk_at dksX3_least_1 19 rfl rfl)
theorem dX3_least_43 : decode cX3_least 43 = .ok (.iload 4, 2) := dk_21 4 (dk_at dksX3_least_1 21 rfl rfl)
theorem dX3_least_45 : decode cX3_least 45 = .ok (.invokevirtual 198, 3) := dk_182 0 198 (dk_at dksX3_least_2 0 rfl rfl)
theorem dX3_least_48 : decode cX3_least 48 = .ok (.ifCond .ne 9, 3) := dk_154 0 9 (dk_at dksX3_least_2 3 rfl rfl)
theorem dX3_least_51 : decode cX3_least 51 = .ok (.iinc 5 1, 3) := dk_132 5 1 (dk_at dksX3_least_2 6 rfl rfl)
theorem dX3_least_54 : decode cX3_least 54 = .ok (.goto (-24), 3) := dk_167 255 232 (dk_at dksX3_least_2 9 rfl rfl)
theorem dX3_least_57 : decode cX3_least 57 = .ok (.iload 5, 2) := dk_21 5 (dk_at dksX3_least_2 12 rfl rfl)
theorem dX3_least_59 : decode cX3_least 59 = .ok (.ireturn, 1) := dk_172 (dk_at dksX3_least_2 14 rfl rfl)
abbrev cX3_quiets : ByteArray := prog_14_method_35_code
def yX3_quiets : MethodName := ⟨RX3, "quiets", "(IIII)I"⟩
def dkwX3_quiets_1 : List UInt8 := [153, 0, 5, 2, 172, 42, 4, 28, 100, 27, 28, 29, 21, 4, 182, 0, 202, 172]
abbrev dktX3_quiets_1 : List UInt8 := dkwX3_quiets_1 ++ []
def dkwX3_quiets_0 : List UInt8 := [42, 42, 27, 28, 29, 182, 0, 188, 21, 4, 3, 16, 24, 184, 0, 70, 184, 0, 195, 182, 0, 156]
abbrev dktX3_quiets_0 : List UInt8 := dkwX3_quiets_0 ++ dktX3_quiets_1
theorem dksX3_quiets_0 : cX3_quiets.data.toList.drop 0 = dktX3_quiets_0 := by decide +kernel
theorem dksX3_quiets_1 : cX3_quiets.data.toList.drop 22 = dktX3_quiets_1 := dk_seg dksX3_quiets_0 22 rfl rfl
theorem dX3_quiets_0 : decode cX3_quiets 0 = .ok (.aload_n 0, 1) := dk_42 (dk_at dksX3_quiets_0 0 rfl rfl)
theorem dX3_quiets_1 : decode cX3_quiets 1 = .ok (.aload_n 0, 1) := dk_42 (dk_at dksX3_quiets_0 1 rfl rfl)
theorem dX3_quiets_2 : decode cX3_quiets 2 = .ok (.iload_n 1, 1) := dk_27 (dk_at dksX3_quiets_0 2 rfl rfl)
theorem dX3_quiets_3 : decode cX3_quiets 3 = .ok (.iload_n 2, 1) := dk_28 (dk_at dksX3_quiets_0 3 rfl rfl)
theorem dX3_quiets_4 : decode cX3_quiets 4 = .ok (.iload_n 3, 1) := dk_29 (dk_at dksX3_quiets_0 4 rfl rfl)
theorem dX3_quiets_5 : decode cX3_quiets 5 = .ok (.invokevirtual 188, 3) := dk_182 0 188 (dk_at dksX3_quiets_0 5 rfl rfl)
theorem dX3_quiets_8 : decode cX3_quiets 8 = .ok (.iload 4, 2) := dk_21 4 (dk_at dksX3_quiets_0 8 rfl rfl)
theorem dX3_quiets_10 : decode cX3_quiets 10 = .ok (.iconst 0, 1) := dk_3 (dk_at dksX3_quiets_0 10 rfl rfl)
theorem dX3_quiets_11 : decode cX3_quiets 11 = .ok (.bipush 24, 2) := dk_16 24 (dk_at dksX3_quiets_0 11 rfl rfl)
theorem dX3_quiets_13 : decode cX3_quiets 13 = .ok (.invokestatic 70, 3) := dk_184 0 70 (dk_at dksX3_quiets_0 13 rfl rfl)
theorem dX3_quiets_16 : decode cX3_quiets 16 = .ok (.invokestatic 195, 3) := dk_184 0 195 (dk_at dksX3_quiets_0 16 rfl rfl)
theorem dX3_quiets_19 : decode cX3_quiets 19 = .ok (.invokevirtual 156, 3) := dk_182 0 156 (dk_at dksX3_quiets_0 19 rfl rfl)
theorem dX3_quiets_22 : decode cX3_quiets 22 = .ok (.ifCond .eq 5, 3) := dk_153 0 5 (dk_at dksX3_quiets_1 0 rfl rfl)
theorem dX3_quiets_25 : decode cX3_quiets 25 = .ok (.iconst (-1), 1) := dk_2 (dk_at dksX3_quiets_1 3 rfl rfl)
theorem dX3_quiets_26 : decode cX3_quiets 26 = .ok (.ireturn, 1) := dk_172 (dk_at dksX3_quiets_1 4 rfl rfl)
theorem dX3_quiets_27 : decode cX3_quiets 27 = .ok (.aload_n 0, 1) := dk_42 (dk_at dksX3_quiets_1 5 rfl rfl)
theorem dX3_quiets_28 : decode cX3_quiets 28 = .ok (.iconst 1, 1) := dk_4 (dk_at dksX3_quiets_1 6 rfl rfl)
theorem dX3_quiets_29 : decode cX3_quiets 29 = .ok (.iload_n 2, 1) := dk_28 (dk_at dksX3_quiets_1 7 rfl rfl)
theorem dX3_quiets_30 : decode cX3_quiets 30 = .ok (.isub, 1) := dk_100 (dk_at dksX3_quiets_1 8 rfl rfl)
theorem dX3_quiets_31 : decode cX3_quiets 31 = .ok (.iload_n 1, 1) := dk_27 (dk_at dksX3_quiets_1 9 rfl rfl)
theorem dX3_quiets_32 : decode cX3_quiets 32 = .ok (.iload_n 2, 1) := dk_28 (dk_at dksX3_quiets_1 10 rfl rfl)
theorem dX3_quiets_33 : decode cX3_quiets 33 = .ok (.iload_n 3, 1) := dk_29 (dk_at dksX3_quiets_1 11 rfl rfl)
theorem dX3_quiets_34 : decode cX3_quiets 34 = .ok (.iload 4, 2) := dk_21 4 (dk_at dksX3_quiets_1 12 rfl rfl)
theorem dX3_quiets_36 : decode cX3_quiets 36 = .ok (.invokevirtual 202, 3) := dk_182 0 202 (dk_at dksX3_quiets_1 14 rfl rfl)
theorem dX3_quiets_39 : decode cX3_quiets 39 = .ok (.ireturn, 1) := dk_172 (dk_at dksX3_quiets_1 17 rfl rfl)
abbrev cX3_silences : ByteArray := prog_14_method_34_code
def yX3_silences : MethodName := ⟨RX3, "silences", "(IIIII)I"⟩
def dkwX3_silences_1 : List UInt8 := [4, 126, 154, 0, 6, 21, 6, 172, 132, 6, 1, 167, 255, 224, 16, 254, 172]
abbrev dktX3_silences_1 : List UInt8 := dkwX3_silences_1 ++ []
def dkwX3_silences_0 : List UInt8 := [3, 54, 6, 21, 6, 16, 24, 163, 0, 31, 42, 28, 29, 21, 4, 21, 5, 21, 6, 182, 0, 198, 27, 122]
abbrev dktX3_silences_0 : List UInt8 := dkwX3_silences_0 ++ dktX3_silences_1
theorem dksX3_silences_0 : cX3_silences.data.toList.drop 0 = dktX3_silences_0 := by decide +kernel
theorem dksX3_silences_1 : cX3_silences.data.toList.drop 24 = dktX3_silences_1 := dk_seg dksX3_silences_0 24 rfl rfl
theorem dX3_silences_0 : decode cX3_silences 0 = .ok (.iconst 0, 1) := dk_3 (dk_at dksX3_silences_0 0 rfl rfl)
theorem dX3_silences_1 : decode cX3_silences 1 = .ok (.istore 6, 2) := dk_54 6 (dk_at dksX3_silences_0 1 rfl rfl)
theorem dX3_silences_3 : decode cX3_silences 3 = .ok (.iload 6, 2) := dk_21 6 (dk_at dksX3_silences_0 3 rfl rfl)
theorem dX3_silences_5 : decode cX3_silences 5 = .ok (.bipush 24, 2) := dk_16 24 (dk_at dksX3_silences_0 5 rfl rfl)
theorem dX3_silences_7 : decode cX3_silences 7 = .ok (.if_icmp .gt 31, 3) := dk_163 0 31 (dk_at dksX3_silences_0 7 rfl rfl)
theorem dX3_silences_10 : decode cX3_silences 10 = .ok (.aload_n 0, 1) := dk_42 (dk_at dksX3_silences_0 10 rfl rfl)
theorem dX3_silences_11 : decode cX3_silences 11 = .ok (.iload_n 2, 1) := dk_28 (dk_at dksX3_silences_0 11 rfl rfl)
theorem dX3_silences_12 : decode cX3_silences 12 = .ok (.iload_n 3, 1) := dk_29 (dk_at dksX3_silences_0 12 rfl rfl)
theorem dX3_silences_13 : decode cX3_silences 13 = .ok (.iload 4, 2) := dk_21 4 (dk_at dksX3_silences_0 13 rfl rfl)
theorem dX3_silences_15 : decode cX3_silences 15 = .ok (.iload 5, 2) := dk_21 5 (dk_at dksX3_silences_0 15 rfl rfl)
theorem dX3_silences_17 : decode cX3_silences 17 = .ok (.iload 6, 2) := dk_21 6 (dk_at dksX3_silences_0 17 rfl rfl)
theorem dX3_silences_19 : decode cX3_silences 19 = .ok (.invokevirtual 198, 3) := dk_182 0 198 (dk_at dksX3_silences_0 19 rfl rfl)
theorem dX3_silences_22 : decode cX3_silences 22 = .ok (.iload_n 1, 1) := dk_27 (dk_at dksX3_silences_0 22 rfl rfl)
theorem dX3_silences_23 : decode cX3_silences 23 = .ok (.ishr, 1) := dk_122 (dk_at dksX3_silences_0 23 rfl rfl)
theorem dX3_silences_24 : decode cX3_silences 24 = .ok (.iconst 1, 1) := dk_4 (dk_at dksX3_silences_1 0 rfl rfl)
theorem dX3_silences_25 : decode cX3_silences 25 = .ok (.iand, 1) := dk_126 (dk_at dksX3_silences_1 1 rfl rfl)
theorem dX3_silences_26 : decode cX3_silences 26 = .ok (.ifCond .ne 6, 3) := dk_154 0 6 (dk_at dksX3_silences_1 2 rfl rfl)
theorem dX3_silences_29 : decode cX3_silences 29 = .ok (.iload 6, 2) := dk_21 6 (dk_at dksX3_silences_1 5 rfl rfl)
theorem dX3_silences_31 : decode cX3_silences 31 = .ok (.ireturn, 1) := dk_172 (dk_at dksX3_silences_1 7 rfl rfl)
theorem dX3_silences_32 : decode cX3_silences 32 = .ok (.iinc 6 1, 3) := dk_132 6 1 (dk_at dksX3_silences_1 8 rfl rfl)
theorem dX3_silences_35 : decode cX3_silences 35 = .ok (.goto (-32), 3) := dk_167 255 224 (dk_at dksX3_silences_1 11 rfl rfl)
theorem dX3_silences_38 : decode cX3_silences 38 = .ok (.bipush (-2), 2) := dk_16 254 (dk_at dksX3_silences_1 14 rfl rfl)
theorem dX3_silences_40 : decode cX3_silences 40 = .ok (.ireturn, 1) := dk_172 (dk_at dksX3_silences_1 16 rfl rfl)
abbrev cX3_spoils : ByteArray := prog_14_method_36_code
def yX3_spoils : MethodName := ⟨RX3, "spoils", "(IIII)I"⟩
def dkwX3_spoils_3 : List UInt8 := [16, 254, 172]
abbrev dktX3_spoils_3 : List UInt8 := dkwX3_spoils_3 ++ []
def dkwX3_spoils_2 : List UInt8 := [167, 0, 4, 3, 54, 5, 21, 5, 153, 0, 16, 42, 28, 27, 28, 29, 21, 4, 182, 0, 202, 167, 0, 5]
abbrev dktX3_spoils_2 : List UInt8 := dkwX3_spoils_2 ++ dktX3_spoils_3
def dkwX3_spoils_1 : List UInt8 := [153, 0, 5, 2, 172, 42, 27, 28, 29, 21, 4, 2, 182, 0, 198, 28, 122, 4, 126, 4, 160, 0, 7, 4]
abbrev dktX3_spoils_1 : List UInt8 := dkwX3_spoils_1 ++ dktX3_spoils_2
def dkwX3_spoils_0 : List UInt8 := [42, 42, 27, 28, 29, 182, 0, 188, 21, 4, 3, 16, 24, 184, 0, 70, 184, 0, 195, 182, 0, 156]
abbrev dktX3_spoils_0 : List UInt8 := dkwX3_spoils_0 ++ dktX3_spoils_1
theorem dksX3_spoils_0 : cX3_spoils.data.toList.drop 0 = dktX3_spoils_0 := by decide +kernel
theorem dksX3_spoils_1 : cX3_spoils.data.toList.drop 22 = dktX3_spoils_1 := dk_seg dksX3_spoils_0 22 rfl rfl
theorem dksX3_spoils_2 : cX3_spoils.data.toList.drop 46 = dktX3_spoils_2 := dk_seg dksX3_spoils_1 24 rfl rfl
theorem dksX3_spoils_3 : cX3_spoils.data.toList.drop 70 = dktX3_spoils_3 := dk_seg dksX3_spoils_2 24 rfl rfl
theorem dX3_spoils_0 : decode cX3_spoils 0 = .ok (.aload_n 0, 1) := dk_42 (dk_at dksX3_spoils_0 0 rfl rfl)
theorem dX3_spoils_1 : decode cX3_spoils 1 = .ok (.aload_n 0, 1) := dk_42 (dk_at dksX3_spoils_0 1 rfl rfl)
theorem dX3_spoils_2 : decode cX3_spoils 2 = .ok (.iload_n 1, 1) := dk_27 (dk_at dksX3_spoils_0 2 rfl rfl)
theorem dX3_spoils_3 : decode cX3_spoils 3 = .ok (.iload_n 2, 1) := dk_28 (dk_at dksX3_spoils_0 3 rfl rfl)
theorem dX3_spoils_4 : decode cX3_spoils 4 = .ok (.iload_n 3, 1) := dk_29 (dk_at dksX3_spoils_0 4 rfl rfl)
theorem dX3_spoils_5 : decode cX3_spoils 5 = .ok (.invokevirtual 188, 3) := dk_182 0 188 (dk_at dksX3_spoils_0 5 rfl rfl)
theorem dX3_spoils_8 : decode cX3_spoils 8 = .ok (.iload 4, 2) := dk_21 4 (dk_at dksX3_spoils_0 8 rfl rfl)
theorem dX3_spoils_10 : decode cX3_spoils 10 = .ok (.iconst 0, 1) := dk_3 (dk_at dksX3_spoils_0 10 rfl rfl)
theorem dX3_spoils_11 : decode cX3_spoils 11 = .ok (.bipush 24, 2) := dk_16 24 (dk_at dksX3_spoils_0 11 rfl rfl)
theorem dX3_spoils_13 : decode cX3_spoils 13 = .ok (.invokestatic 70, 3) := dk_184 0 70 (dk_at dksX3_spoils_0 13 rfl rfl)
theorem dX3_spoils_16 : decode cX3_spoils 16 = .ok (.invokestatic 195, 3) := dk_184 0 195 (dk_at dksX3_spoils_0 16 rfl rfl)
theorem dX3_spoils_19 : decode cX3_spoils 19 = .ok (.invokevirtual 156, 3) := dk_182 0 156 (dk_at dksX3_spoils_0 19 rfl rfl)
theorem dX3_spoils_22 : decode cX3_spoils 22 = .ok (.ifCond .eq 5, 3) := dk_153 0 5 (dk_at dksX3_spoils_1 0 rfl rfl)
theorem dX3_spoils_25 : decode cX3_spoils 25 = .ok (.iconst (-1), 1) := dk_2 (dk_at dksX3_spoils_1 3 rfl rfl)
theorem dX3_spoils_26 : decode cX3_spoils 26 = .ok (.ireturn, 1) := dk_172 (dk_at dksX3_spoils_1 4 rfl rfl)
theorem dX3_spoils_27 : decode cX3_spoils 27 = .ok (.aload_n 0, 1) := dk_42 (dk_at dksX3_spoils_1 5 rfl rfl)
theorem dX3_spoils_28 : decode cX3_spoils 28 = .ok (.iload_n 1, 1) := dk_27 (dk_at dksX3_spoils_1 6 rfl rfl)
theorem dX3_spoils_29 : decode cX3_spoils 29 = .ok (.iload_n 2, 1) := dk_28 (dk_at dksX3_spoils_1 7 rfl rfl)
theorem dX3_spoils_30 : decode cX3_spoils 30 = .ok (.iload_n 3, 1) := dk_29 (dk_at dksX3_spoils_1 8 rfl rfl)
theorem dX3_spoils_31 : decode cX3_spoils 31 = .ok (.iload 4, 2) := dk_21 4 (dk_at dksX3_spoils_1 9 rfl rfl)
theorem dX3_spoils_33 : decode cX3_spoils 33 = .ok (.iconst (-1), 1) := dk_2 (dk_at dksX3_spoils_1 11 rfl rfl)
theorem dX3_spoils_34 : decode cX3_spoils 34 = .ok (.invokevirtual 198, 3) := dk_182 0 198 (dk_at dksX3_spoils_1 12 rfl rfl)
theorem dX3_spoils_37 : decode cX3_spoils 37 = .ok (.iload_n 2, 1) := dk_28 (dk_at dksX3_spoils_1 15 rfl rfl)
theorem dX3_spoils_38 : decode cX3_spoils 38 = .ok (.ishr, 1) := dk_122 (dk_at dksX3_spoils_1 16 rfl rfl)
theorem dX3_spoils_39 : decode cX3_spoils 39 = .ok (.iconst 1, 1) := dk_4 (dk_at dksX3_spoils_1 17 rfl rfl)
theorem dX3_spoils_40 : decode cX3_spoils 40 = .ok (.iand, 1) := dk_126 (dk_at dksX3_spoils_1 18 rfl rfl)
theorem dX3_spoils_41 : decode cX3_spoils 41 = .ok (.iconst 1, 1) := dk_4 (dk_at dksX3_spoils_1 19 rfl rfl)
theorem dX3_spoils_42 : decode cX3_spoils 42 = .ok (.if_icmp .ne 7, 3) := dk_160 0 7 (dk_at dksX3_spoils_1 20 rfl rfl)
theorem dX3_spoils_45 : decode cX3_spoils 45 = .ok (.iconst 1, 1) := dk_4 (dk_at dksX3_spoils_1 23 rfl rfl)
theorem dX3_spoils_46 : decode cX3_spoils 46 = .ok (.goto 4, 3) := dk_167 0 4 (dk_at dksX3_spoils_2 0 rfl rfl)
theorem dX3_spoils_49 : decode cX3_spoils 49 = .ok (.iconst 0, 1) := dk_3 (dk_at dksX3_spoils_2 3 rfl rfl)
theorem dX3_spoils_50 : decode cX3_spoils 50 = .ok (.istore 5, 2) := dk_54 5 (dk_at dksX3_spoils_2 4 rfl rfl)
theorem dX3_spoils_52 : decode cX3_spoils 52 = .ok (.iload 5, 2) := dk_21 5 (dk_at dksX3_spoils_2 6 rfl rfl)
theorem dX3_spoils_54 : decode cX3_spoils 54 = .ok (.ifCond .eq 16, 3) := dk_153 0 16 (dk_at dksX3_spoils_2 8 rfl rfl)
theorem dX3_spoils_57 : decode cX3_spoils 57 = .ok (.aload_n 0, 1) := dk_42 (dk_at dksX3_spoils_2 11 rfl rfl)
theorem dX3_spoils_58 : decode cX3_spoils 58 = .ok (.iload_n 2, 1) := dk_28 (dk_at dksX3_spoils_2 12 rfl rfl)
theorem dX3_spoils_59 : decode cX3_spoils 59 = .ok (.iload_n 1, 1) := dk_27 (dk_at dksX3_spoils_2 13 rfl rfl)
theorem dX3_spoils_60 : decode cX3_spoils 60 = .ok (.iload_n 2, 1) := dk_28 (dk_at dksX3_spoils_2 14 rfl rfl)
theorem dX3_spoils_61 : decode cX3_spoils 61 = .ok (.iload_n 3, 1) := dk_29 (dk_at dksX3_spoils_2 15 rfl rfl)
theorem dX3_spoils_62 : decode cX3_spoils 62 = .ok (.iload 4, 2) := dk_21 4 (dk_at dksX3_spoils_2 16 rfl rfl)
theorem dX3_spoils_64 : decode cX3_spoils 64 = .ok (.invokevirtual 202, 3) := dk_182 0 202 (dk_at dksX3_spoils_2 18 rfl rfl)
theorem dX3_spoils_67 : decode cX3_spoils 67 = .ok (.goto 5, 3) := dk_167 0 5 (dk_at dksX3_spoils_2 21 rfl rfl)
theorem dX3_spoils_70 : decode cX3_spoils 70 = .ok (.bipush (-2), 2) := dk_16 254 (dk_at dksX3_spoils_3 0 rfl rfl)
theorem dX3_spoils_72 : decode cX3_spoils 72 = .ok (.ireturn, 1) := dk_172 (dk_at dksX3_spoils_3 2 rfl rfl)
abbrev cX3_plateau : ByteArray := prog_14_method_38_code
def yX3_plateau : MethodName := ⟨RX3, "plateau", "(IIII)I"⟩
def dkwX3_plateau_5 : List UInt8 := [21, 4, 4, 160, 0, 8, 21, 6, 167, 0, 5, 21, 7, 172]
abbrev dktX3_plateau_5 : List UInt8 := dkwX3_plateau_5 ++ []
def dkwX3_plateau_4 : List UInt8 := [21, 8, 54, 6, 132, 7, 1, 132, 8, 1, 167, 255, 204, 21, 4, 154, 0, 8, 21, 5, 167, 0, 16]
abbrev dktX3_plateau_4 : List UInt8 := dkwX3_plateau_4 ++ dktX3_plateau_5
def dkwX3_plateau_3 : List UInt8 := [29, 182, 0, 209, 160, 0, 26, 21, 5, 16, 254, 160, 0, 8, 21, 8, 167, 0, 5, 21, 5, 54, 5]
abbrev dktX3_plateau_3 : List UInt8 := dkwX3_plateau_3 ++ dktX3_plateau_4
def dkwX3_plateau_2 : List UInt8 := [54, 7, 3, 54, 8, 21, 8, 16, 24, 163, 0, 51, 42, 27, 28, 29, 21, 8, 182, 0, 205, 42, 27, 28]
abbrev dktX3_plateau_2 : List UInt8 := dkwX3_plateau_2 ++ dktX3_plateau_3
def dkwX3_plateau_1 : List UInt8 := [167, 0, 4, 3, 184, 0, 191, 182, 0, 156, 153, 0, 5, 2, 172, 16, 254, 54, 5, 16, 254, 54, 6, 3]
abbrev dktX3_plateau_1 : List UInt8 := dkwX3_plateau_1 ++ dktX3_plateau_2
def dkwX3_plateau_0 : List UInt8 := [42, 42, 27, 28, 29, 182, 0, 188, 153, 0, 17, 21, 4, 3, 5, 184, 0, 70, 153, 0, 7, 4]
abbrev dktX3_plateau_0 : List UInt8 := dkwX3_plateau_0 ++ dktX3_plateau_1
theorem dksX3_plateau_0 : cX3_plateau.data.toList.drop 0 = dktX3_plateau_0 := by decide +kernel
theorem dksX3_plateau_1 : cX3_plateau.data.toList.drop 22 = dktX3_plateau_1 := dk_seg dksX3_plateau_0 22 rfl rfl
theorem dksX3_plateau_2 : cX3_plateau.data.toList.drop 46 = dktX3_plateau_2 := dk_seg dksX3_plateau_1 24 rfl rfl
theorem dksX3_plateau_3 : cX3_plateau.data.toList.drop 70 = dktX3_plateau_3 := dk_seg dksX3_plateau_2 24 rfl rfl
theorem dksX3_plateau_4 : cX3_plateau.data.toList.drop 93 = dktX3_plateau_4 := dk_seg dksX3_plateau_3 23 rfl rfl
theorem dksX3_plateau_5 : cX3_plateau.data.toList.drop 116 = dktX3_plateau_5 := dk_seg dksX3_plateau_4 23 rfl rfl
theorem dX3_plateau_0 : decode cX3_plateau 0 = .ok (.aload_n 0, 1) := dk_42 (dk_at dksX3_plateau_0 0 rfl rfl)
theorem dX3_plateau_1 : decode cX3_plateau 1 = .ok (.aload_n 0, 1) := dk_42 (dk_at dksX3_plateau_0 1 rfl rfl)
theorem dX3_plateau_2 : decode cX3_plateau 2 = .ok (.iload_n 1, 1) := dk_27 (dk_at dksX3_plateau_0 2 rfl rfl)
theorem dX3_plateau_3 : decode cX3_plateau 3 = .ok (.iload_n 2, 1) := dk_28 (dk_at dksX3_plateau_0 3 rfl rfl)
theorem dX3_plateau_4 : decode cX3_plateau 4 = .ok (.iload_n 3, 1) := dk_29 (dk_at dksX3_plateau_0 4 rfl rfl)
theorem dX3_plateau_5 : decode cX3_plateau 5 = .ok (.invokevirtual 188, 3) := dk_182 0 188 (dk_at dksX3_plateau_0 5 rfl rfl)
theorem dX3_plateau_8 : decode cX3_plateau 8 = .ok (.ifCond .eq 17, 3) := dk_153 0 17 (dk_at dksX3_plateau_0 8 rfl rfl)
theorem dX3_plateau_11 : decode cX3_plateau 11 = .ok (.iload 4, 2) := dk_21 4 (dk_at dksX3_plateau_0 11 rfl rfl)
theorem dX3_plateau_13 : decode cX3_plateau 13 = .ok (.iconst 0, 1) := dk_3 (dk_at dksX3_plateau_0 13 rfl rfl)
theorem dX3_plateau_14 : decode cX3_plateau 14 = .ok (.iconst 2, 1) := dk_5 (dk_at dksX3_plateau_0 14 rfl rfl)
theorem dX3_plateau_15 : decode cX3_plateau 15 = .ok (.invokestatic 70, 3) := dk_184 0 70 (dk_at dksX3_plateau_0 15 rfl rfl)
theorem dX3_plateau_18 : decode cX3_plateau 18 = .ok (.ifCond .eq 7, 3) := dk_153 0 7 (dk_at dksX3_plateau_0 18 rfl rfl)
theorem dX3_plateau_21 : decode cX3_plateau 21 = .ok (.iconst 1, 1) := dk_4 (dk_at dksX3_plateau_0 21 rfl rfl)
theorem dX3_plateau_22 : decode cX3_plateau 22 = .ok (.goto 4, 3) := dk_167 0 4 (dk_at dksX3_plateau_1 0 rfl rfl)
theorem dX3_plateau_25 : decode cX3_plateau 25 = .ok (.iconst 0, 1) := dk_3 (dk_at dksX3_plateau_1 3 rfl rfl)
theorem dX3_plateau_26 : decode cX3_plateau 26 = .ok (.invokestatic 191, 3) := dk_184 0 191 (dk_at dksX3_plateau_1 4 rfl rfl)
theorem dX3_plateau_29 : decode cX3_plateau 29 = .ok (.invokevirtual 156, 3) := dk_182 0 156 (dk_at dksX3_plateau_1 7 rfl rfl)
theorem dX3_plateau_32 : decode cX3_plateau 32 = .ok (.ifCond .eq 5, 3) := dk_153 0 5 (dk_at dksX3_plateau_1 10 rfl rfl)
theorem dX3_plateau_35 : decode cX3_plateau 35 = .ok (.iconst (-1), 1) := dk_2 (dk_at dksX3_plateau_1 13 rfl rfl)
theorem dX3_plateau_36 : decode cX3_plateau 36 = .ok (.ireturn, 1) := dk_172 (dk_at dksX3_plateau_1 14 rfl rfl)
theorem dX3_plateau_37 : decode cX3_plateau 37 = .ok (.bipush (-2), 2) := dk_16 254 (dk_at dksX3_plateau_1 15 rfl rfl)
theorem dX3_plateau_39 : decode cX3_plateau 39 = .ok (.istore 5, 2) := dk_54 5 (dk_at dksX3_plateau_1 17 rfl rfl)
theorem dX3_plateau_41 : decode cX3_plateau 41 = .ok (.bipush (-2), 2) := dk_16 254 (dk_at dksX3_plateau_1 19 rfl rfl)
theorem dX3_plateau_43 : decode cX3_plateau 43 = .ok (.istore 6, 2) := dk_54 6 (dk_at dksX3_plateau_1 21 rfl rfl)
theorem dX3_plateau_45 : decode cX3_plateau 45 = .ok (.iconst 0, 1) := dk_3 (dk_at dksX3_plateau_1 23 rfl rfl)
theorem dX3_plateau_46 : decode cX3_plateau 46 = .ok (.istore 7, 2) := dk_54 7 (dk_at dksX3_plateau_2 0 rfl rfl)
theorem dX3_plateau_48 : decode cX3_plateau 48 = .ok (.iconst 0, 1) := dk_3 (dk_at dksX3_plateau_2 2 rfl rfl)
theorem dX3_plateau_49 : decode cX3_plateau 49 = .ok (.istore 8, 2) := dk_54 8 (dk_at dksX3_plateau_2 3 rfl rfl)
theorem dX3_plateau_51 : decode cX3_plateau 51 = .ok (.iload 8, 2) := dk_21 8 (dk_at dksX3_plateau_2 5 rfl rfl)
theorem dX3_plateau_53 : decode cX3_plateau 53 = .ok (.bipush 24, 2) := dk_16 24 (dk_at dksX3_plateau_2 7 rfl rfl)
theorem dX3_plateau_55 : decode cX3_plateau 55 = .ok (.if_icmp .gt 51, 3) := dk_163 0 51 (dk_at dksX3_plateau_2 9 rfl rfl)
theorem dX3_plateau_58 : decode cX3_plateau 58 = .ok (.aload_n 0, 1) := dk_42 (dk_at dksX3_plateau_2 12 rfl rfl)
theorem dX3_plateau_59 : decode cX3_plateau 59 = .ok (.iload_n 1, 1) := dk_27 (dk_at dksX3_plateau_2 13 rfl rfl)
theorem dX3_plateau_60 : decode cX3_plateau 60 = .ok (.iload_n 2, 1) := dk_28 (dk_at dksX3_plateau_2 14 rfl rfl)
theorem dX3_plateau_61 : decode cX3_plateau 61 = .ok (.iload_n 3, 1) := dk_29 (dk_at dksX3_plateau_2 15 rfl rfl)
theorem dX3_plateau_62 : decode cX3_plateau 62 = .ok (.iload 8, 2) := dk_21 8 (dk_at dksX3_plateau_2 16 rfl rfl)
theorem dX3_plateau_64 : decode cX3_plateau 64 = .ok (.invokevirtual 205, 3) := dk_182 0 205 (dk_at dksX3_plateau_2 18 rfl rfl)
theorem dX3_plateau_67 : decode cX3_plateau 67 = .ok (.aload_n 0, 1) := dk_42 (dk_at dksX3_plateau_2 21 rfl rfl)
theorem dX3_plateau_68 : decode cX3_plateau 68 = .ok (.iload_n 1, 1) := dk_27 (dk_at dksX3_plateau_2 22 rfl rfl)
theorem dX3_plateau_69 : decode cX3_plateau 69 = .ok (.iload_n 2, 1) := dk_28 (dk_at dksX3_plateau_2 23 rfl rfl)
theorem dX3_plateau_70 : decode cX3_plateau 70 = .ok (.iload_n 3, 1) := dk_29 (dk_at dksX3_plateau_3 0 rfl rfl)
theorem dX3_plateau_71 : decode cX3_plateau 71 = .ok (.invokevirtual 209, 3) := dk_182 0 209 (dk_at dksX3_plateau_3 1 rfl rfl)
theorem dX3_plateau_74 : decode cX3_plateau 74 = .ok (.if_icmp .ne 26, 3) := dk_160 0 26 (dk_at dksX3_plateau_3 4 rfl rfl)
theorem dX3_plateau_77 : decode cX3_plateau 77 = .ok (.iload 5, 2) := dk_21 5 (dk_at dksX3_plateau_3 7 rfl rfl)
theorem dX3_plateau_79 : decode cX3_plateau 79 = .ok (.bipush (-2), 2) := dk_16 254 (dk_at dksX3_plateau_3 9 rfl rfl)
theorem dX3_plateau_81 : decode cX3_plateau 81 = .ok (.if_icmp .ne 8, 3) := dk_160 0 8 (dk_at dksX3_plateau_3 11 rfl rfl)
theorem dX3_plateau_84 : decode cX3_plateau 84 = .ok (.iload 8, 2) := dk_21 8 (dk_at dksX3_plateau_3 14 rfl rfl)
theorem dX3_plateau_86 : decode cX3_plateau 86 = .ok (.goto 5, 3) := dk_167 0 5 (dk_at dksX3_plateau_3 16 rfl rfl)
theorem dX3_plateau_89 : decode cX3_plateau 89 = .ok (.iload 5, 2) := dk_21 5 (dk_at dksX3_plateau_3 19 rfl rfl)
theorem dX3_plateau_91 : decode cX3_plateau 91 = .ok (.istore 5, 2) := dk_54 5 (dk_at dksX3_plateau_3 21 rfl rfl)
theorem dX3_plateau_93 : decode cX3_plateau 93 = .ok (.iload 8, 2) := dk_21 8 (dk_at dksX3_plateau_4 0 rfl rfl)
theorem dX3_plateau_95 : decode cX3_plateau 95 = .ok (.istore 6, 2) := dk_54 6 (dk_at dksX3_plateau_4 2 rfl rfl)
theorem dX3_plateau_97 : decode cX3_plateau 97 = .ok (.iinc 7 1, 3) := dk_132 7 1 (dk_at dksX3_plateau_4 4 rfl rfl)
theorem dX3_plateau_100 : decode cX3_plateau 100 = .ok (.iinc 8 1, 3) := dk_132 8 1 (dk_at dksX3_plateau_4 7 rfl rfl)
theorem dX3_plateau_103 : decode cX3_plateau 103 = .ok (.goto (-52), 3) := dk_167 255 204 (dk_at dksX3_plateau_4 10 rfl rfl)
theorem dX3_plateau_106 : decode cX3_plateau 106 = .ok (.iload 4, 2) := dk_21 4 (dk_at dksX3_plateau_4 13 rfl rfl)
theorem dX3_plateau_108 : decode cX3_plateau 108 = .ok (.ifCond .ne 8, 3) := dk_154 0 8 (dk_at dksX3_plateau_4 15 rfl rfl)
theorem dX3_plateau_111 : decode cX3_plateau 111 = .ok (.iload 5, 2) := dk_21 5 (dk_at dksX3_plateau_4 18 rfl rfl)
theorem dX3_plateau_113 : decode cX3_plateau 113 = .ok (.goto 16, 3) := dk_167 0 16 (dk_at dksX3_plateau_4 20 rfl rfl)
theorem dX3_plateau_116 : decode cX3_plateau 116 = .ok (.iload 4, 2) := dk_21 4 (dk_at dksX3_plateau_5 0 rfl rfl)
theorem dX3_plateau_118 : decode cX3_plateau 118 = .ok (.iconst 1, 1) := dk_4 (dk_at dksX3_plateau_5 2 rfl rfl)
theorem dX3_plateau_119 : decode cX3_plateau 119 = .ok (.if_icmp .ne 8, 3) := dk_160 0 8 (dk_at dksX3_plateau_5 3 rfl rfl)
theorem dX3_plateau_122 : decode cX3_plateau 122 = .ok (.iload 6, 2) := dk_21 6 (dk_at dksX3_plateau_5 6 rfl rfl)
theorem dX3_plateau_124 : decode cX3_plateau 124 = .ok (.goto 5, 3) := dk_167 0 5 (dk_at dksX3_plateau_5 8 rfl rfl)
theorem dX3_plateau_127 : decode cX3_plateau 127 = .ok (.iload 7, 2) := dk_21 7 (dk_at dksX3_plateau_5 11 rfl rfl)
theorem dX3_plateau_129 : decode cX3_plateau 129 = .ok (.ireturn, 1) := dk_172 (dk_at dksX3_plateau_5 13 rfl rfl)
abbrev cX3_leastOf : ByteArray := prog_14_method_75_code
def yX3_leastOf : MethodName := ⟨RX3, "leastOf", "(IIII)I"⟩
def dkwX3_leastOf_1 : List UInt8 := [132, 5, 1, 167, 255, 232, 21, 5, 172]
abbrev dktX3_leastOf_1 : List UInt8 := dkwX3_leastOf_1 ++ []
def dkwX3_leastOf_0 : List UInt8 := [3, 54, 5, 21, 5, 16, 25, 162, 0, 23, 42, 27, 28, 29, 21, 5, 21, 4, 182, 0, 198, 154, 0, 9]
abbrev dktX3_leastOf_0 : List UInt8 := dkwX3_leastOf_0 ++ dktX3_leastOf_1
theorem dksX3_leastOf_0 : cX3_leastOf.data.toList.drop 0 = dktX3_leastOf_0 := by decide +kernel
theorem dksX3_leastOf_1 : cX3_leastOf.data.toList.drop 24 = dktX3_leastOf_1 := dk_seg dksX3_leastOf_0 24 rfl rfl
theorem dX3_leastOf_0 : decode cX3_leastOf 0 = .ok (.iconst 0, 1) := dk_3 (dk_at dksX3_leastOf_0 0 rfl rfl)
theorem dX3_leastOf_1 : decode cX3_leastOf 1 = .ok (.istore 5, 2) := dk_54 5 (dk_at dksX3_leastOf_0 1 rfl rfl)
theorem dX3_leastOf_3 : decode cX3_leastOf 3 = .ok (.iload 5, 2) := dk_21 5 (dk_at dksX3_leastOf_0 3 rfl rfl)
theorem dX3_leastOf_5 : decode cX3_leastOf 5 = .ok (.bipush 25, 2) := dk_16 25 (dk_at dksX3_leastOf_0 5 rfl rfl)
theorem dX3_leastOf_7 : decode cX3_leastOf 7 = .ok (.if_icmp .ge 23, 3) := dk_162 0 23 (dk_at dksX3_leastOf_0 7 rfl rfl)
theorem dX3_leastOf_10 : decode cX3_leastOf 10 = .ok (.aload_n 0, 1) := dk_42 (dk_at dksX3_leastOf_0 10 rfl rfl)
theorem dX3_leastOf_11 : decode cX3_leastOf 11 = .ok (.iload_n 1, 1) := dk_27 (dk_at dksX3_leastOf_0 11 rfl rfl)
theorem dX3_leastOf_12 : decode cX3_leastOf 12 = .ok (.iload_n 2, 1) := dk_28 (dk_at dksX3_leastOf_0 12 rfl rfl)
theorem dX3_leastOf_13 : decode cX3_leastOf 13 = .ok (.iload_n 3, 1) := dk_29 (dk_at dksX3_leastOf_0 13 rfl rfl)
theorem dX3_leastOf_14 : decode cX3_leastOf 14 = .ok (.iload 5, 2) := dk_21 5 (dk_at dksX3_leastOf_0 14 rfl rfl)
theorem dX3_leastOf_16 : decode cX3_leastOf 16 = .ok (.iload 4, 2) := dk_21 4 (dk_at dksX3_leastOf_0 16 rfl rfl)
theorem dX3_leastOf_18 : decode cX3_leastOf 18 = .ok (.invokevirtual 198, 3) := dk_182 0 198 (dk_at dksX3_leastOf_0 18 rfl rfl)
theorem dX3_leastOf_21 : decode cX3_leastOf 21 = .ok (.ifCond .ne 9, 3) := dk_154 0 9 (dk_at dksX3_leastOf_0 21 rfl rfl)
theorem dX3_leastOf_24 : decode cX3_leastOf 24 = .ok (.iinc 5 1, 3) := dk_132 5 1 (dk_at dksX3_leastOf_1 0 rfl rfl)
theorem dX3_leastOf_27 : decode cX3_leastOf 27 = .ok (.goto (-24), 3) := dk_167 255 232 (dk_at dksX3_leastOf_1 3 rfl rfl)
theorem dX3_leastOf_30 : decode cX3_leastOf 30 = .ok (.iload 5, 2) := dk_21 5 (dk_at dksX3_leastOf_1 6 rfl rfl)
theorem dX3_leastOf_32 : decode cX3_leastOf 32 = .ok (.ireturn, 1) := dk_172 (dk_at dksX3_leastOf_1 8 rfl rfl)
abbrev cX3_ownOf : ByteArray := prog_14_method_37_code
def yX3_ownOf : MethodName := ⟨RX3, "ownOf", "(III)I"⟩
def dkwX3_ownOf_0 : List UInt8 := [27, 154, 0, 12, 42, 28, 29, 182, 0, 181, 167, 0, 9, 42, 28, 29, 182, 0, 177, 172]
abbrev dktX3_ownOf_0 : List UInt8 := dkwX3_ownOf_0 ++ []
theorem dksX3_ownOf_0 : cX3_ownOf.data.toList.drop 0 = dktX3_ownOf_0 := by decide +kernel
theorem dX3_ownOf_0 : decode cX3_ownOf 0 = .ok (.iload_n 1, 1) := dk_27 (dk_at dksX3_ownOf_0 0 rfl rfl)
theorem dX3_ownOf_1 : decode cX3_ownOf 1 = .ok (.ifCond .ne 12, 3) := dk_154 0 12 (dk_at dksX3_ownOf_0 1 rfl rfl)
theorem dX3_ownOf_4 : decode cX3_ownOf 4 = .ok (.aload_n 0, 1) := dk_42 (dk_at dksX3_ownOf_0 4 rfl rfl)
theorem dX3_ownOf_5 : decode cX3_ownOf 5 = .ok (.iload_n 2, 1) := dk_28 (dk_at dksX3_ownOf_0 5 rfl rfl)
theorem dX3_ownOf_6 : decode cX3_ownOf 6 = .ok (.iload_n 3, 1) := dk_29 (dk_at dksX3_ownOf_0 6 rfl rfl)
theorem dX3_ownOf_7 : decode cX3_ownOf 7 = .ok (.invokevirtual 181, 3) := dk_182 0 181 (dk_at dksX3_ownOf_0 7 rfl rfl)
theorem dX3_ownOf_10 : decode cX3_ownOf 10 = .ok (.goto 9, 3) := dk_167 0 9 (dk_at dksX3_ownOf_0 10 rfl rfl)
theorem dX3_ownOf_13 : decode cX3_ownOf 13 = .ok (.aload_n 0, 1) := dk_42 (dk_at dksX3_ownOf_0 13 rfl rfl)
theorem dX3_ownOf_14 : decode cX3_ownOf 14 = .ok (.iload_n 2, 1) := dk_28 (dk_at dksX3_ownOf_0 14 rfl rfl)
theorem dX3_ownOf_15 : decode cX3_ownOf 15 = .ok (.iload_n 3, 1) := dk_29 (dk_at dksX3_ownOf_0 15 rfl rfl)
theorem dX3_ownOf_16 : decode cX3_ownOf 16 = .ok (.invokevirtual 177, 3) := dk_182 0 177 (dk_at dksX3_ownOf_0 16 rfl rfl)
theorem dX3_ownOf_19 : decode cX3_ownOf 19 = .ok (.ireturn, 1) := dk_172 (dk_at dksX3_ownOf_0 19 rfl rfl)
abbrev cX3_zone : ByteArray := prog_14_method_39_code
def yX3_zone : MethodName := ⟨RX3, "zone", "(IIIII)I"⟩
def dkwX3_zone_4 : List UInt8 := [96, 21, 8, 4, 160, 0, 12, 21, 7, 154, 0, 7, 7, 167, 0, 4, 3, 96, 172]
abbrev dktX3_zone_4 : List UInt8 := dkwX3_zone_4 ++ []
def dkwX3_zone_3 : List UInt8 := [21, 4, 2, 182, 0, 198, 28, 122, 4, 126, 54, 8, 21, 7, 5, 21, 6, 4, 28, 100, 122, 4, 126, 104]
abbrev dktX3_zone_3 : List UInt8 := dkwX3_zone_3 ++ dktX3_zone_4
def dkwX3_zone_2 : List UInt8 := [28, 29, 21, 4, 21, 5, 182, 0, 198, 54, 6, 21, 6, 28, 122, 4, 126, 54, 7, 42, 27, 28, 29]
abbrev dktX3_zone_2 : List UInt8 := dkwX3_zone_2 ++ dktX3_zone_3
def dkwX3_zone_1 : List UInt8 := [184, 0, 70, 153, 0, 7, 4, 167, 0, 4, 3, 184, 0, 195, 182, 0, 156, 153, 0, 5, 2, 172, 42, 27]
abbrev dktX3_zone_1 : List UInt8 := dkwX3_zone_1 ++ dktX3_zone_2
def dkwX3_zone_0 : List UInt8 := [42, 42, 27, 28, 29, 182, 0, 188, 21, 4, 3, 16, 24, 184, 0, 70, 153, 0, 18, 21, 5, 2, 16, 24]
abbrev dktX3_zone_0 : List UInt8 := dkwX3_zone_0 ++ dktX3_zone_1
theorem dksX3_zone_0 : cX3_zone.data.toList.drop 0 = dktX3_zone_0 := by decide +kernel
theorem dksX3_zone_1 : cX3_zone.data.toList.drop 24 = dktX3_zone_1 := dk_seg dksX3_zone_0 24 rfl rfl
theorem dksX3_zone_2 : cX3_zone.data.toList.drop 48 = dktX3_zone_2 := dk_seg dksX3_zone_1 24 rfl rfl
theorem dksX3_zone_3 : cX3_zone.data.toList.drop 71 = dktX3_zone_3 := dk_seg dksX3_zone_2 23 rfl rfl
theorem dksX3_zone_4 : cX3_zone.data.toList.drop 95 = dktX3_zone_4 := dk_seg dksX3_zone_3 24 rfl rfl
theorem dX3_zone_0 : decode cX3_zone 0 = .ok (.aload_n 0, 1) := dk_42 (dk_at dksX3_zone_0 0 rfl rfl)
theorem dX3_zone_1 : decode cX3_zone 1 = .ok (.aload_n 0, 1) := dk_42 (dk_at dksX3_zone_0 1 rfl rfl)
theorem dX3_zone_2 : decode cX3_zone 2 = .ok (.iload_n 1, 1) := dk_27 (dk_at dksX3_zone_0 2 rfl rfl)
theorem dX3_zone_3 : decode cX3_zone 3 = .ok (.iload_n 2, 1) := dk_28 (dk_at dksX3_zone_0 3 rfl rfl)
theorem dX3_zone_4 : decode cX3_zone 4 = .ok (.iload_n 3, 1) := dk_29 (dk_at dksX3_zone_0 4 rfl rfl)
theorem dX3_zone_5 : decode cX3_zone 5 = .ok (.invokevirtual 188, 3) := dk_182 0 188 (dk_at dksX3_zone_0 5 rfl rfl)
theorem dX3_zone_8 : decode cX3_zone 8 = .ok (.iload 4, 2) := dk_21 4 (dk_at dksX3_zone_0 8 rfl rfl)
theorem dX3_zone_10 : decode cX3_zone 10 = .ok (.iconst 0, 1) := dk_3 (dk_at dksX3_zone_0 10 rfl rfl)
theorem dX3_zone_11 : decode cX3_zone 11 = .ok (.bipush 24, 2) := dk_16 24 (dk_at dksX3_zone_0 11 rfl rfl)
theorem dX3_zone_13 : decode cX3_zone 13 = .ok (.invokestatic 70, 3) := dk_184 0 70 (dk_at dksX3_zone_0 13 rfl rfl)
theorem dX3_zone_16 : decode cX3_zone 16 = .ok (.ifCond .eq 18, 3) := dk_153 0 18 (dk_at dksX3_zone_0 16 rfl rfl)
theorem dX3_zone_19 : decode cX3_zone 19 = .ok (.iload 5, 2) := dk_21 5 (dk_at dksX3_zone_0 19 rfl rfl)
theorem dX3_zone_21 : decode cX3_zone 21 = .ok (.iconst (-1), 1) := dk_2 (dk_at dksX3_zone_0 21 rfl rfl)
theorem dX3_zone_22 : decode cX3_zone 22 = .ok (.bipush 24, 2) := dk_16 24 (dk_at dksX3_zone_0 22 rfl rfl)
theorem dX3_zone_24 : decode cX3_zone 24 = .ok (.invokestatic 70, 3) := dk_184 0 70 (dk_at dksX3_zone_1 0 rfl rfl)
theorem dX3_zone_27 : decode cX3_zone 27 = .ok (.ifCond .eq 7, 3) := dk_153 0 7 (dk_at dksX3_zone_1 3 rfl rfl)
theorem dX3_zone_30 : decode cX3_zone 30 = .ok (.iconst 1, 1) := dk_4 (dk_at dksX3_zone_1 6 rfl rfl)
theorem dX3_zone_31 : decode cX3_zone 31 = .ok (.goto 4, 3) := dk_167 0 4 (dk_at dksX3_zone_1 7 rfl rfl)
theorem dX3_zone_34 : decode cX3_zone 34 = .ok (.iconst 0, 1) := dk_3 (dk_at dksX3_zone_1 10 rfl rfl)
theorem dX3_zone_35 : decode cX3_zone 35 = .ok (.invokestatic 195, 3) := dk_184 0 195 (dk_at dksX3_zone_1 11 rfl rfl)
theorem dX3_zone_38 : decode cX3_zone 38 = .ok (.invokevirtual 156, 3) := dk_182 0 156 (dk_at dksX3_zone_1 14 rfl rfl)
theorem dX3_zone_41 : decode cX3_zone 41 = .ok (.ifCond .eq 5, 3) := dk_153 0 5 (dk_at dksX3_zone_1 17 rfl rfl)
theorem dX3_zone_44 : decode cX3_zone 44 = .ok (.iconst (-1), 1) := dk_2 (dk_at dksX3_zone_1 20 rfl rfl)
theorem dX3_zone_45 : decode cX3_zone 45 = .ok (.ireturn, 1) := dk_172 (dk_at dksX3_zone_1 21 rfl rfl)
theorem dX3_zone_46 : decode cX3_zone 46 = .ok (.aload_n 0, 1) := dk_42 (dk_at dksX3_zone_1 22 rfl rfl)
theorem dX3_zone_47 : decode cX3_zone 47 = .ok (.iload_n 1, 1) := dk_27 (dk_at dksX3_zone_1 23 rfl rfl)
theorem dX3_zone_48 : decode cX3_zone 48 = .ok (.iload_n 2, 1) := dk_28 (dk_at dksX3_zone_2 0 rfl rfl)
theorem dX3_zone_49 : decode cX3_zone 49 = .ok (.iload_n 3, 1) := dk_29 (dk_at dksX3_zone_2 1 rfl rfl)
theorem dX3_zone_50 : decode cX3_zone 50 = .ok (.iload 4, 2) := dk_21 4 (dk_at dksX3_zone_2 2 rfl rfl)
theorem dX3_zone_52 : decode cX3_zone 52 = .ok (.iload 5, 2) := dk_21 5 (dk_at dksX3_zone_2 4 rfl rfl)
theorem dX3_zone_54 : decode cX3_zone 54 = .ok (.invokevirtual 198, 3) := dk_182 0 198 (dk_at dksX3_zone_2 6 rfl rfl)
theorem dX3_zone_57 : decode cX3_zone 57 = .ok (.istore 6, 2) := dk_54 6 (dk_at dksX3_zone_2 9 rfl rfl)
theorem dX3_zone_59 : decode cX3_zone 59 = .ok (.iload 6, 2) := dk_21 6 (dk_at dksX3_zone_2 11 rfl rfl)
theorem dX3_zone_61 : decode cX3_zone 61 = .ok (.iload_n 2, 1) := dk_28 (dk_at dksX3_zone_2 13 rfl rfl)
theorem dX3_zone_62 : decode cX3_zone 62 = .ok (.ishr, 1) := dk_122 (dk_at dksX3_zone_2 14 rfl rfl)
theorem dX3_zone_63 : decode cX3_zone 63 = .ok (.iconst 1, 1) := dk_4 (dk_at dksX3_zone_2 15 rfl rfl)
theorem dX3_zone_64 : decode cX3_zone 64 = .ok (.iand, 1) := dk_126 (dk_at dksX3_zone_2 16 rfl rfl)
theorem dX3_zone_65 : decode cX3_zone 65 = .ok (.istore 7, 2) := dk_54 7 (dk_at dksX3_zone_2 17 rfl rfl)
theorem dX3_zone_67 : decode cX3_zone 67 = .ok (.aload_n 0, 1) := dk_42 (dk_at dksX3_zone_2 19 rfl rfl)
theorem dX3_zone_68 : decode cX3_zone 68 = .ok (.iload_n 1, 1) := dk_27 (dk_at dksX3_zone_2 20 rfl rfl)
theorem dX3_zone_69 : decode cX3_zone 69 = .ok (.iload_n 2, 1) := dk_28 (dk_at dksX3_zone_2 21 rfl rfl)
theorem dX3_zone_70 : decode cX3_zone 70 = .ok (.iload_n 3, 1) := dk_29 (dk_at dksX3_zone_2 22 rfl rfl)
theorem dX3_zone_71 : decode cX3_zone 71 = .ok (.iload 4, 2) := dk_21 4 (dk_at dksX3_zone_3 0 rfl rfl)
theorem dX3_zone_73 : decode cX3_zone 73 = .ok (.iconst (-1), 1) := dk_2 (dk_at dksX3_zone_3 2 rfl rfl)
theorem dX3_zone_74 : decode cX3_zone 74 = .ok (.invokevirtual 198, 3) := dk_182 0 198 (dk_at dksX3_zone_3 3 rfl rfl)
theorem dX3_zone_77 : decode cX3_zone 77 = .ok (.iload_n 2, 1) := dk_28 (dk_at dksX3_zone_3 6 rfl rfl)
theorem dX3_zone_78 : decode cX3_zone 78 = .ok (.ishr, 1) := dk_122 (dk_at dksX3_zone_3 7 rfl rfl)
theorem dX3_zone_79 : decode cX3_zone 79 = .ok (.iconst 1, 1) := dk_4 (dk_at dksX3_zone_3 8 rfl rfl)
theorem dX3_zone_80 : decode cX3_zone 80 = .ok (.iand, 1) := dk_126 (dk_at dksX3_zone_3 9 rfl rfl)
theorem dX3_zone_81 : decode cX3_zone 81 = .ok (.istore 8, 2) := dk_54 8 (dk_at dksX3_zone_3 10 rfl rfl)
theorem dX3_zone_83 : decode cX3_zone 83 = .ok (.iload 7, 2) := dk_21 7 (dk_at dksX3_zone_3 12 rfl rfl)
theorem dX3_zone_85 : decode cX3_zone 85 = .ok (.iconst 2, 1) := dk_5 (dk_at dksX3_zone_3 14 rfl rfl)
theorem dX3_zone_86 : decode cX3_zone 86 = .ok (.iload 6, 2) := dk_21 6 (dk_at dksX3_zone_3 15 rfl rfl)
theorem dX3_zone_88 : decode cX3_zone 88 = .ok (.iconst 1, 1) := dk_4 (dk_at dksX3_zone_3 17 rfl rfl)
theorem dX3_zone_89 : decode cX3_zone 89 = .ok (.iload_n 2, 1) := dk_28 (dk_at dksX3_zone_3 18 rfl rfl)
theorem dX3_zone_90 : decode cX3_zone 90 = .ok (.isub, 1) := dk_100 (dk_at dksX3_zone_3 19 rfl rfl)
theorem dX3_zone_91 : decode cX3_zone 91 = .ok (.ishr, 1) := dk_122 (dk_at dksX3_zone_3 20 rfl rfl)
theorem dX3_zone_92 : decode cX3_zone 92 = .ok (.iconst 1, 1) := dk_4 (dk_at dksX3_zone_3 21 rfl rfl)
theorem dX3_zone_93 : decode cX3_zone 93 = .ok (.iand, 1) := dk_126 (dk_at dksX3_zone_3 22 rfl rfl)
theorem dX3_zone_94 : decode cX3_zone 94 = .ok (.imul, 1) := dk_104 (dk_at dksX3_zone_3 23 rfl rfl)
theorem dX3_zone_95 : decode cX3_zone 95 = .ok (.iadd, 1) := dk_96 (dk_at dksX3_zone_4 0 rfl rfl)
theorem dX3_zone_96 : decode cX3_zone 96 = .ok (.iload 8, 2) := dk_21 8 (dk_at dksX3_zone_4 1 rfl rfl)
theorem dX3_zone_98 : decode cX3_zone 98 = .ok (.iconst 1, 1) := dk_4 (dk_at dksX3_zone_4 3 rfl rfl)
theorem dX3_zone_99 : decode cX3_zone 99 = .ok (.if_icmp .ne 12, 3) := dk_160 0 12 (dk_at dksX3_zone_4 4 rfl rfl)
theorem dX3_zone_102 : decode cX3_zone 102 = .ok (.iload 7, 2) := dk_21 7 (dk_at dksX3_zone_4 7 rfl rfl)
theorem dX3_zone_104 : decode cX3_zone 104 = .ok (.ifCond .ne 7, 3) := dk_154 0 7 (dk_at dksX3_zone_4 9 rfl rfl)
theorem dX3_zone_107 : decode cX3_zone 107 = .ok (.iconst 4, 1) := dk_7 (dk_at dksX3_zone_4 12 rfl rfl)
theorem dX3_zone_108 : decode cX3_zone 108 = .ok (.goto 4, 3) := dk_167 0 4 (dk_at dksX3_zone_4 13 rfl rfl)
theorem dX3_zone_111 : decode cX3_zone 111 = .ok (.iconst 0, 1) := dk_3 (dk_at dksX3_zone_4 16 rfl rfl)
theorem dX3_zone_112 : decode cX3_zone 112 = .ok (.iadd, 1) := dk_96 (dk_at dksX3_zone_4 17 rfl rfl)
theorem dX3_zone_113 : decode cX3_zone 113 = .ok (.ireturn, 1) := dk_172 (dk_at dksX3_zone_4 18 rfl rfl)
abbrev cX3_now : ByteArray := prog_14_method_64_code
def yX3_now : MethodName := ⟨RX3, "now", "(I)I"⟩
def dkwX3_now_6 : List UInt8 := [28, 27, 4, 100, 184, 0, 213, 46, 172]
abbrev dktX3_now_6 : List UInt8 := dkwX3_now_6 ++ []
def dkwX3_now_5 : List UInt8 := [42, 180, 0, 23, 28, 16, 7, 184, 0, 213, 46, 172, 42, 180, 0, 23, 16, 7, 46, 172, 42, 180, 0, 23]
abbrev dktX3_now_5 : List UInt8 := dkwX3_now_5 ++ dktX3_now_6
def dkwX3_now_4 : List UInt8 := [28, 172, 42, 180, 0, 23, 6, 46, 172, 42, 180, 0, 23, 8, 46, 172, 42, 180, 0, 23, 16, 6, 46, 172]
abbrev dktX3_now_4 : List UInt8 := dkwX3_now_4 ++ dktX3_now_5
def dkwX3_now_3 : List UInt8 := [170, 0, 0, 0, 0, 0, 0, 100, 0, 0, 0, 0, 0, 0, 0, 9, 0, 0, 0, 56, 0, 0, 0, 100, 0, 0, 0, 100, 0, 0, 0, 100, 0, 0, 0, 100, 0, 0, 0, 58, 0, 0, 0, 65, 0, 0, 0, 72, 0, 0, 0, 80, 0, 0, 0, 92]
abbrev dktX3_now_3 : List UInt8 := dkwX3_now_3 ++ dktX3_now_4
def dkwX3_now_2 : List UInt8 := [180, 0, 23, 4, 46, 61, 27]
abbrev dktX3_now_2 : List UInt8 := dkwX3_now_2 ++ dktX3_now_3
def dkwX3_now_1 : List UInt8 := [184, 0, 191, 182, 0, 156, 153, 0, 5, 2, 172, 42, 182, 1, 20, 154, 0, 6, 16, 254, 172, 42]
abbrev dktX3_now_1 : List UInt8 := dkwX3_now_1 ++ dktX3_now_2
def dkwX3_now_0 : List UInt8 := [42, 42, 180, 0, 168, 153, 0, 17, 27, 3, 16, 9, 184, 0, 70, 153, 0, 7, 4, 167, 0, 4, 3]
abbrev dktX3_now_0 : List UInt8 := dkwX3_now_0 ++ dktX3_now_1
theorem dksX3_now_0 : cX3_now.data.toList.drop 0 = dktX3_now_0 := by decide +kernel
theorem dksX3_now_1 : cX3_now.data.toList.drop 23 = dktX3_now_1 := dk_seg dksX3_now_0 23 rfl rfl
theorem dksX3_now_2 : cX3_now.data.toList.drop 45 = dktX3_now_2 := dk_seg dksX3_now_1 22 rfl rfl
theorem dksX3_now_3 : cX3_now.data.toList.drop 52 = dktX3_now_3 := dk_seg dksX3_now_2 7 rfl rfl
theorem dksX3_now_4 : cX3_now.data.toList.drop 108 = dktX3_now_4 := dk_seg dksX3_now_3 56 rfl rfl
theorem dksX3_now_5 : cX3_now.data.toList.drop 132 = dktX3_now_5 := dk_seg dksX3_now_4 24 rfl rfl
theorem dksX3_now_6 : cX3_now.data.toList.drop 156 = dktX3_now_6 := dk_seg dksX3_now_5 24 rfl rfl
theorem dX3_now_0 : decode cX3_now 0 = .ok (.aload_n 0, 1) := dk_42 (dk_at dksX3_now_0 0 rfl rfl)
theorem dX3_now_1 : decode cX3_now 1 = .ok (.aload_n 0, 1) := dk_42 (dk_at dksX3_now_0 1 rfl rfl)
theorem dX3_now_2 : decode cX3_now 2 = .ok (.getfield 168, 3) := dk_180 0 168 (dk_at dksX3_now_0 2 rfl rfl)
theorem dX3_now_5 : decode cX3_now 5 = .ok (.ifCond .eq 17, 3) := dk_153 0 17 (dk_at dksX3_now_0 5 rfl rfl)
theorem dX3_now_8 : decode cX3_now 8 = .ok (.iload_n 1, 1) := dk_27 (dk_at dksX3_now_0 8 rfl rfl)
theorem dX3_now_9 : decode cX3_now 9 = .ok (.iconst 0, 1) := dk_3 (dk_at dksX3_now_0 9 rfl rfl)
theorem dX3_now_10 : decode cX3_now 10 = .ok (.bipush 9, 2) := dk_16 9 (dk_at dksX3_now_0 10 rfl rfl)
theorem dX3_now_12 : decode cX3_now 12 = .ok (.invokestatic 70, 3) := dk_184 0 70 (dk_at dksX3_now_0 12 rfl rfl)
theorem dX3_now_15 : decode cX3_now 15 = .ok (.ifCond .eq 7, 3) := dk_153 0 7 (dk_at dksX3_now_0 15 rfl rfl)
theorem dX3_now_18 : decode cX3_now 18 = .ok (.iconst 1, 1) := dk_4 (dk_at dksX3_now_0 18 rfl rfl)
theorem dX3_now_19 : decode cX3_now 19 = .ok (.goto 4, 3) := dk_167 0 4 (dk_at dksX3_now_0 19 rfl rfl)
theorem dX3_now_22 : decode cX3_now 22 = .ok (.iconst 0, 1) := dk_3 (dk_at dksX3_now_0 22 rfl rfl)
theorem dX3_now_23 : decode cX3_now 23 = .ok (.invokestatic 191, 3) := dk_184 0 191 (dk_at dksX3_now_1 0 rfl rfl)
theorem dX3_now_26 : decode cX3_now 26 = .ok (.invokevirtual 156, 3) := dk_182 0 156 (dk_at dksX3_now_1 3 rfl rfl)
theorem dX3_now_29 : decode cX3_now 29 = .ok (.ifCond .eq 5, 3) := dk_153 0 5 (dk_at dksX3_now_1 6 rfl rfl)
theorem dX3_now_32 : decode cX3_now 32 = .ok (.iconst (-1), 1) := dk_2 (dk_at dksX3_now_1 9 rfl rfl)
theorem dX3_now_33 : decode cX3_now 33 = .ok (.ireturn, 1) := dk_172 (dk_at dksX3_now_1 10 rfl rfl)
theorem dX3_now_34 : decode cX3_now 34 = .ok (.aload_n 0, 1) := dk_42 (dk_at dksX3_now_1 11 rfl rfl)
theorem dX3_now_35 : decode cX3_now 35 = .ok (.invokevirtual 276, 3) := dk_182 1 20 (dk_at dksX3_now_1 12 rfl rfl)
theorem dX3_now_38 : decode cX3_now 38 = .ok (.ifCond .ne 6, 3) := dk_154 0 6 (dk_at dksX3_now_1 15 rfl rfl)
theorem dX3_now_41 : decode cX3_now 41 = .ok (.bipush (-2), 2) := dk_16 254 (dk_at dksX3_now_1 18 rfl rfl)
theorem dX3_now_43 : decode cX3_now 43 = .ok (.ireturn, 1) := dk_172 (dk_at dksX3_now_1 20 rfl rfl)
theorem dX3_now_44 : decode cX3_now 44 = .ok (.aload_n 0, 1) := dk_42 (dk_at dksX3_now_1 21 rfl rfl)
theorem dX3_now_45 : decode cX3_now 45 = .ok (.getfield 23, 3) := dk_180 0 23 (dk_at dksX3_now_2 0 rfl rfl)
theorem dX3_now_48 : decode cX3_now 48 = .ok (.iconst 1, 1) := dk_4 (dk_at dksX3_now_2 3 rfl rfl)
theorem dX3_now_49 : decode cX3_now 49 = .ok (.iaload, 1) := dk_46 (dk_at dksX3_now_2 4 rfl rfl)
theorem dX3_now_50 : decode cX3_now 50 = .ok (.istore_n 2, 1) := dk_61 (dk_at dksX3_now_2 5 rfl rfl)
theorem dX3_now_51 : decode cX3_now 51 = .ok (.iload_n 1, 1) := dk_27 (dk_at dksX3_now_2 6 rfl rfl)
theorem dX3_now_52 : decode cX3_now 52 = .ok (.tableswitch 100 0 9 #[56, 100, 100, 100, 100, 58, 65, 72, 80, 92], 56) := by decide +kernel
theorem dX3_now_108 : decode cX3_now 108 = .ok (.iload_n 2, 1) := dk_28 (dk_at dksX3_now_4 0 rfl rfl)
theorem dX3_now_109 : decode cX3_now 109 = .ok (.ireturn, 1) := dk_172 (dk_at dksX3_now_4 1 rfl rfl)
theorem dX3_now_110 : decode cX3_now 110 = .ok (.aload_n 0, 1) := dk_42 (dk_at dksX3_now_4 2 rfl rfl)
theorem dX3_now_111 : decode cX3_now 111 = .ok (.getfield 23, 3) := dk_180 0 23 (dk_at dksX3_now_4 3 rfl rfl)
theorem dX3_now_114 : decode cX3_now 114 = .ok (.iconst 3, 1) := dk_6 (dk_at dksX3_now_4 6 rfl rfl)
theorem dX3_now_115 : decode cX3_now 115 = .ok (.iaload, 1) := dk_46 (dk_at dksX3_now_4 7 rfl rfl)
theorem dX3_now_116 : decode cX3_now 116 = .ok (.ireturn, 1) := dk_172 (dk_at dksX3_now_4 8 rfl rfl)
theorem dX3_now_117 : decode cX3_now 117 = .ok (.aload_n 0, 1) := dk_42 (dk_at dksX3_now_4 9 rfl rfl)
theorem dX3_now_118 : decode cX3_now 118 = .ok (.getfield 23, 3) := dk_180 0 23 (dk_at dksX3_now_4 10 rfl rfl)
theorem dX3_now_121 : decode cX3_now 121 = .ok (.iconst 5, 1) := dk_8 (dk_at dksX3_now_4 13 rfl rfl)
theorem dX3_now_122 : decode cX3_now 122 = .ok (.iaload, 1) := dk_46 (dk_at dksX3_now_4 14 rfl rfl)
theorem dX3_now_123 : decode cX3_now 123 = .ok (.ireturn, 1) := dk_172 (dk_at dksX3_now_4 15 rfl rfl)
theorem dX3_now_124 : decode cX3_now 124 = .ok (.aload_n 0, 1) := dk_42 (dk_at dksX3_now_4 16 rfl rfl)
theorem dX3_now_125 : decode cX3_now 125 = .ok (.getfield 23, 3) := dk_180 0 23 (dk_at dksX3_now_4 17 rfl rfl)
theorem dX3_now_128 : decode cX3_now 128 = .ok (.bipush 6, 2) := dk_16 6 (dk_at dksX3_now_4 20 rfl rfl)
theorem dX3_now_130 : decode cX3_now 130 = .ok (.iaload, 1) := dk_46 (dk_at dksX3_now_4 22 rfl rfl)
theorem dX3_now_131 : decode cX3_now 131 = .ok (.ireturn, 1) := dk_172 (dk_at dksX3_now_4 23 rfl rfl)
theorem dX3_now_132 : decode cX3_now 132 = .ok (.aload_n 0, 1) := dk_42 (dk_at dksX3_now_5 0 rfl rfl)
theorem dX3_now_133 : decode cX3_now 133 = .ok (.getfield 23, 3) := dk_180 0 23 (dk_at dksX3_now_5 1 rfl rfl)
theorem dX3_now_136 : decode cX3_now 136 = .ok (.iload_n 2, 1) := dk_28 (dk_at dksX3_now_5 4 rfl rfl)
theorem dX3_now_137 : decode cX3_now 137 = .ok (.bipush 7, 2) := dk_16 7 (dk_at dksX3_now_5 5 rfl rfl)
theorem dX3_now_139 : decode cX3_now 139 = .ok (.invokestatic 213, 3) := dk_184 0 213 (dk_at dksX3_now_5 7 rfl rfl)
theorem dX3_now_142 : decode cX3_now 142 = .ok (.iaload, 1) := dk_46 (dk_at dksX3_now_5 10 rfl rfl)
theorem dX3_now_143 : decode cX3_now 143 = .ok (.ireturn, 1) := dk_172 (dk_at dksX3_now_5 11 rfl rfl)
theorem dX3_now_144 : decode cX3_now 144 = .ok (.aload_n 0, 1) := dk_42 (dk_at dksX3_now_5 12 rfl rfl)
theorem dX3_now_145 : decode cX3_now 145 = .ok (.getfield 23, 3) := dk_180 0 23 (dk_at dksX3_now_5 13 rfl rfl)
theorem dX3_now_148 : decode cX3_now 148 = .ok (.bipush 7, 2) := dk_16 7 (dk_at dksX3_now_5 16 rfl rfl)
theorem dX3_now_150 : decode cX3_now 150 = .ok (.iaload, 1) := dk_46 (dk_at dksX3_now_5 18 rfl rfl)
theorem dX3_now_151 : decode cX3_now 151 = .ok (.ireturn, 1) := dk_172 (dk_at dksX3_now_5 19 rfl rfl)
theorem dX3_now_152 : decode cX3_now 152 = .ok (.aload_n 0, 1) := dk_42 (dk_at dksX3_now_5 20 rfl rfl)
theorem dX3_now_153 : decode cX3_now 153 = .ok (.getfield 23, 3) := dk_180 0 23 (dk_at dksX3_now_5 21 rfl rfl)
theorem dX3_now_156 : decode cX3_now 156 = .ok (.iload_n 2, 1) := dk_28 (dk_at dksX3_now_6 0 rfl rfl)
theorem dX3_now_157 : decode cX3_now 157 = .ok (.iload_n 1, 1) := dk_27 (dk_at dksX3_now_6 1 rfl rfl)
theorem dX3_now_158 : decode cX3_now 158 = .ok (.iconst 1, 1) := dk_4 (dk_at dksX3_now_6 2 rfl rfl)
theorem dX3_now_159 : decode cX3_now 159 = .ok (.isub, 1) := dk_100 (dk_at dksX3_now_6 3 rfl rfl)
theorem dX3_now_160 : decode cX3_now 160 = .ok (.invokestatic 213, 3) := dk_184 0 213 (dk_at dksX3_now_6 4 rfl rfl)
theorem dX3_now_163 : decode cX3_now 163 = .ok (.iaload, 1) := dk_46 (dk_at dksX3_now_6 7 rfl rfl)
theorem dX3_now_164 : decode cX3_now 164 = .ok (.ireturn, 1) := dk_172 (dk_at dksX3_now_6 8 rfl rfl)
abbrev cX3_isOn : ByteArray := prog_14_method_62_code
def yX3_isOn : MethodName := ⟨RX3, "isOn", "()Z"⟩
def dkwX3_isOn_0 : List UInt8 := [42, 180, 0, 168, 153, 0, 18, 42, 180, 0, 23, 4, 46, 16, 254, 159, 0, 7, 4, 167, 0, 4, 3, 172]
abbrev dktX3_isOn_0 : List UInt8 := dkwX3_isOn_0 ++ []
theorem dksX3_isOn_0 : cX3_isOn.data.toList.drop 0 = dktX3_isOn_0 := by decide +kernel
theorem dX3_isOn_0 : decode cX3_isOn 0 = .ok (.aload_n 0, 1) := dk_42 (dk_at dksX3_isOn_0 0 rfl rfl)
theorem dX3_isOn_1 : decode cX3_isOn 1 = .ok (.getfield 168, 3) := dk_180 0 168 (dk_at dksX3_isOn_0 1 rfl rfl)
theorem dX3_isOn_4 : decode cX3_isOn 4 = .ok (.ifCond .eq 18, 3) := dk_153 0 18 (dk_at dksX3_isOn_0 4 rfl rfl)
theorem dX3_isOn_7 : decode cX3_isOn 7 = .ok (.aload_n 0, 1) := dk_42 (dk_at dksX3_isOn_0 7 rfl rfl)
theorem dX3_isOn_8 : decode cX3_isOn 8 = .ok (.getfield 23, 3) := dk_180 0 23 (dk_at dksX3_isOn_0 8 rfl rfl)
theorem dX3_isOn_11 : decode cX3_isOn 11 = .ok (.iconst 1, 1) := dk_4 (dk_at dksX3_isOn_0 11 rfl rfl)
theorem dX3_isOn_12 : decode cX3_isOn 12 = .ok (.iaload, 1) := dk_46 (dk_at dksX3_isOn_0 12 rfl rfl)
theorem dX3_isOn_13 : decode cX3_isOn 13 = .ok (.bipush (-2), 2) := dk_16 254 (dk_at dksX3_isOn_0 13 rfl rfl)
theorem dX3_isOn_15 : decode cX3_isOn 15 = .ok (.if_icmp .eq 7, 3) := dk_159 0 7 (dk_at dksX3_isOn_0 15 rfl rfl)
theorem dX3_isOn_18 : decode cX3_isOn 18 = .ok (.iconst 1, 1) := dk_4 (dk_at dksX3_isOn_0 18 rfl rfl)
theorem dX3_isOn_19 : decode cX3_isOn 19 = .ok (.goto 4, 3) := dk_167 0 4 (dk_at dksX3_isOn_0 19 rfl rfl)
theorem dX3_isOn_22 : decode cX3_isOn 22 = .ok (.iconst 0, 1) := dk_3 (dk_at dksX3_isOn_0 22 rfl rfl)
theorem dX3_isOn_23 : decode cX3_isOn 23 = .ok (.ireturn, 1) := dk_172 (dk_at dksX3_isOn_0 23 rfl rfl)
abbrev cX3_tried : ByteArray := prog_14_method_65_code
def yX3_tried : MethodName := ⟨RX3, "tried", "(II)I"⟩
def dkwX3_tried_3 : List UInt8 := [167, 0, 4, 29, 172]
abbrev dktX3_tried_3 : List UInt8 := dkwX3_tried_3 ++ []
def dkwX3_tried_2 : List UInt8 := [16, 254, 172, 42, 180, 0, 23, 27, 28, 184, 1, 4, 46, 62, 28, 4, 160, 0, 10, 29, 184, 1, 14]
abbrev dktX3_tried_2 : List UInt8 := dkwX3_tried_2 ++ dktX3_tried_3
def dkwX3_tried_1 : List UInt8 := [16, 24, 184, 0, 70, 184, 0, 195, 182, 0, 156, 153, 0, 5, 2, 172, 42, 182, 1, 20, 154, 0, 6]
abbrev dktX3_tried_1 : List UInt8 := dkwX3_tried_1 ++ dktX3_tried_2
def dkwX3_tried_0 : List UInt8 := [42, 42, 180, 0, 168, 153, 0, 16, 28, 3, 6, 184, 0, 70, 153, 0, 7, 4, 167, 0, 4, 3, 27, 3]
abbrev dktX3_tried_0 : List UInt8 := dkwX3_tried_0 ++ dktX3_tried_1
theorem dksX3_tried_0 : cX3_tried.data.toList.drop 0 = dktX3_tried_0 := by decide +kernel
theorem dksX3_tried_1 : cX3_tried.data.toList.drop 24 = dktX3_tried_1 := dk_seg dksX3_tried_0 24 rfl rfl
theorem dksX3_tried_2 : cX3_tried.data.toList.drop 47 = dktX3_tried_2 := dk_seg dksX3_tried_1 23 rfl rfl
theorem dksX3_tried_3 : cX3_tried.data.toList.drop 70 = dktX3_tried_3 := dk_seg dksX3_tried_2 23 rfl rfl
theorem dX3_tried_0 : decode cX3_tried 0 = .ok (.aload_n 0, 1) := dk_42 (dk_at dksX3_tried_0 0 rfl rfl)
theorem dX3_tried_1 : decode cX3_tried 1 = .ok (.aload_n 0, 1) := dk_42 (dk_at dksX3_tried_0 1 rfl rfl)
theorem dX3_tried_2 : decode cX3_tried 2 = .ok (.getfield 168, 3) := dk_180 0 168 (dk_at dksX3_tried_0 2 rfl rfl)
theorem dX3_tried_5 : decode cX3_tried 5 = .ok (.ifCond .eq 16, 3) := dk_153 0 16 (dk_at dksX3_tried_0 5 rfl rfl)
theorem dX3_tried_8 : decode cX3_tried 8 = .ok (.iload_n 2, 1) := dk_28 (dk_at dksX3_tried_0 8 rfl rfl)
theorem dX3_tried_9 : decode cX3_tried 9 = .ok (.iconst 0, 1) := dk_3 (dk_at dksX3_tried_0 9 rfl rfl)
theorem dX3_tried_10 : decode cX3_tried 10 = .ok (.iconst 3, 1) := dk_6 (dk_at dksX3_tried_0 10 rfl rfl)
theorem dX3_tried_11 : decode cX3_tried 11 = .ok (.invokestatic 70, 3) := dk_184 0 70 (dk_at dksX3_tried_0 11 rfl rfl)
theorem dX3_tried_14 : decode cX3_tried 14 = .ok (.ifCond .eq 7, 3) := dk_153 0 7 (dk_at dksX3_tried_0 14 rfl rfl)
theorem dX3_tried_17 : decode cX3_tried 17 = .ok (.iconst 1, 1) := dk_4 (dk_at dksX3_tried_0 17 rfl rfl)
theorem dX3_tried_18 : decode cX3_tried 18 = .ok (.goto 4, 3) := dk_167 0 4 (dk_at dksX3_tried_0 18 rfl rfl)
theorem dX3_tried_21 : decode cX3_tried 21 = .ok (.iconst 0, 1) := dk_3 (dk_at dksX3_tried_0 21 rfl rfl)
theorem dX3_tried_22 : decode cX3_tried 22 = .ok (.iload_n 1, 1) := dk_27 (dk_at dksX3_tried_0 22 rfl rfl)
theorem dX3_tried_23 : decode cX3_tried 23 = .ok (.iconst 0, 1) := dk_3 (dk_at dksX3_tried_0 23 rfl rfl)
theorem dX3_tried_24 : decode cX3_tried 24 = .ok (.bipush 24, 2) := dk_16 24 (dk_at dksX3_tried_1 0 rfl rfl)
theorem dX3_tried_26 : decode cX3_tried 26 = .ok (.invokestatic 70, 3) := dk_184 0 70 (dk_at dksX3_tried_1 2 rfl rfl)
theorem dX3_tried_29 : decode cX3_tried 29 = .ok (.invokestatic 195, 3) := dk_184 0 195 (dk_at dksX3_tried_1 5 rfl rfl)
theorem dX3_tried_32 : decode cX3_tried 32 = .ok (.invokevirtual 156, 3) := dk_182 0 156 (dk_at dksX3_tried_1 8 rfl rfl)
theorem dX3_tried_35 : decode cX3_tried 35 = .ok (.ifCond .eq 5, 3) := dk_153 0 5 (dk_at dksX3_tried_1 11 rfl rfl)
theorem dX3_tried_38 : decode cX3_tried 38 = .ok (.iconst (-1), 1) := dk_2 (dk_at dksX3_tried_1 14 rfl rfl)
theorem dX3_tried_39 : decode cX3_tried 39 = .ok (.ireturn, 1) := dk_172 (dk_at dksX3_tried_1 15 rfl rfl)
theorem dX3_tried_40 : decode cX3_tried 40 = .ok (.aload_n 0, 1) := dk_42 (dk_at dksX3_tried_1 16 rfl rfl)
theorem dX3_tried_41 : decode cX3_tried 41 = .ok (.invokevirtual 276, 3) := dk_182 1 20 (dk_at dksX3_tried_1 17 rfl rfl)
theorem dX3_tried_44 : decode cX3_tried 44 = .ok (.ifCond .ne 6, 3) := dk_154 0 6 (dk_at dksX3_tried_1 20 rfl rfl)
theorem dX3_tried_47 : decode cX3_tried 47 = .ok (.bipush (-2), 2) := dk_16 254 (dk_at dksX3_tried_2 0 rfl rfl)
theorem dX3_tried_49 : decode cX3_tried 49 = .ok (.ireturn, 1) := dk_172 (dk_at dksX3_tried_2 2 rfl rfl)
theorem dX3_tried_50 : decode cX3_tried 50 = .ok (.aload_n 0, 1) := dk_42 (dk_at dksX3_tried_2 3 rfl rfl)
theorem dX3_tried_51 : decode cX3_tried 51 = .ok (.getfield 23, 3) := dk_180 0 23 (dk_at dksX3_tried_2 4 rfl rfl)
theorem dX3_tried_54 : decode cX3_tried 54 = .ok (.iload_n 1, 1) := dk_27 (dk_at dksX3_tried_2 7 rfl rfl)
theorem dX3_tried_55 : decode cX3_tried 55 = .ok (.iload_n 2, 1) := dk_28 (dk_at dksX3_tried_2 8 rfl rfl)
theorem dX3_tried_56 : decode cX3_tried 56 = .ok (.invokestatic 260, 3) := dk_184 1 4 (dk_at dksX3_tried_2 9 rfl rfl)
theorem dX3_tried_59 : decode cX3_tried 59 = .ok (.iaload, 1) := dk_46 (dk_at dksX3_tried_2 12 rfl rfl)
theorem dX3_tried_60 : decode cX3_tried 60 = .ok (.istore_n 3, 1) := dk_62 (dk_at dksX3_tried_2 13 rfl rfl)
theorem dX3_tried_61 : decode cX3_tried 61 = .ok (.iload_n 2, 1) := dk_28 (dk_at dksX3_tried_2 14 rfl rfl)
theorem dX3_tried_62 : decode cX3_tried 62 = .ok (.iconst 1, 1) := dk_4 (dk_at dksX3_tried_2 15 rfl rfl)
theorem dX3_tried_63 : decode cX3_tried 63 = .ok (.if_icmp .ne 10, 3) := dk_160 0 10 (dk_at dksX3_tried_2 16 rfl rfl)
theorem dX3_tried_66 : decode cX3_tried 66 = .ok (.iload_n 3, 1) := dk_29 (dk_at dksX3_tried_2 19 rfl rfl)
theorem dX3_tried_67 : decode cX3_tried 67 = .ok (.invokestatic 270, 3) := dk_184 1 14 (dk_at dksX3_tried_2 20 rfl rfl)
theorem dX3_tried_70 : decode cX3_tried 70 = .ok (.goto 4, 3) := dk_167 0 4 (dk_at dksX3_tried_3 0 rfl rfl)
theorem dX3_tried_73 : decode cX3_tried 73 = .ok (.iload_n 3, 1) := dk_29 (dk_at dksX3_tried_3 3 rfl rfl)
theorem dX3_tried_74 : decode cX3_tried 74 = .ok (.ireturn, 1) := dk_172 (dk_at dksX3_tried_3 4 rfl rfl)
abbrev cX3_countAt : ByteArray := prog_14_method_58_code
def yX3_countAt : MethodName := ⟨RX3, "countAt", "(II)I"⟩
def dkwX3_countAt_0 : List UInt8 := [16, 12, 7, 26, 104, 96, 27, 96, 172]
abbrev dktX3_countAt_0 : List UInt8 := dkwX3_countAt_0 ++ []
theorem dksX3_countAt_0 : cX3_countAt.data.toList.drop 0 = dktX3_countAt_0 := by decide +kernel
theorem dX3_countAt_0 : decode cX3_countAt 0 = .ok (.bipush 12, 2) := dk_16 12 (dk_at dksX3_countAt_0 0 rfl rfl)
theorem dX3_countAt_2 : decode cX3_countAt 2 = .ok (.iconst 4, 1) := dk_7 (dk_at dksX3_countAt_0 2 rfl rfl)
theorem dX3_countAt_3 : decode cX3_countAt 3 = .ok (.iload_n 0, 1) := dk_26 (dk_at dksX3_countAt_0 3 rfl rfl)
theorem dX3_countAt_4 : decode cX3_countAt 4 = .ok (.imul, 1) := dk_104 (dk_at dksX3_countAt_0 4 rfl rfl)
theorem dX3_countAt_5 : decode cX3_countAt 5 = .ok (.iadd, 1) := dk_96 (dk_at dksX3_countAt_0 5 rfl rfl)
theorem dX3_countAt_6 : decode cX3_countAt 6 = .ok (.iload_n 1, 1) := dk_27 (dk_at dksX3_countAt_0 6 rfl rfl)
theorem dX3_countAt_7 : decode cX3_countAt 7 = .ok (.iadd, 1) := dk_96 (dk_at dksX3_countAt_0 7 rfl rfl)
theorem dX3_countAt_8 : decode cX3_countAt 8 = .ok (.ireturn, 1) := dk_172 (dk_at dksX3_countAt_0 8 rfl rfl)
abbrev cX3_onesOf : ByteArray := prog_14_method_59_code
def yX3_onesOf : MethodName := ⟨RX3, "onesOf", "(I)I"⟩
def dkwX3_onesOf_0 : List UInt8 := [26, 4, 126, 26, 4, 122, 4, 126, 96, 26, 5, 122, 4, 126, 96, 172]
abbrev dktX3_onesOf_0 : List UInt8 := dkwX3_onesOf_0 ++ []
theorem dksX3_onesOf_0 : cX3_onesOf.data.toList.drop 0 = dktX3_onesOf_0 := by decide +kernel
theorem dX3_onesOf_0 : decode cX3_onesOf 0 = .ok (.iload_n 0, 1) := dk_26 (dk_at dksX3_onesOf_0 0 rfl rfl)
theorem dX3_onesOf_1 : decode cX3_onesOf 1 = .ok (.iconst 1, 1) := dk_4 (dk_at dksX3_onesOf_0 1 rfl rfl)
theorem dX3_onesOf_2 : decode cX3_onesOf 2 = .ok (.iand, 1) := dk_126 (dk_at dksX3_onesOf_0 2 rfl rfl)
theorem dX3_onesOf_3 : decode cX3_onesOf 3 = .ok (.iload_n 0, 1) := dk_26 (dk_at dksX3_onesOf_0 3 rfl rfl)
theorem dX3_onesOf_4 : decode cX3_onesOf 4 = .ok (.iconst 1, 1) := dk_4 (dk_at dksX3_onesOf_0 4 rfl rfl)
theorem dX3_onesOf_5 : decode cX3_onesOf 5 = .ok (.ishr, 1) := dk_122 (dk_at dksX3_onesOf_0 5 rfl rfl)
theorem dX3_onesOf_6 : decode cX3_onesOf 6 = .ok (.iconst 1, 1) := dk_4 (dk_at dksX3_onesOf_0 6 rfl rfl)
theorem dX3_onesOf_7 : decode cX3_onesOf 7 = .ok (.iand, 1) := dk_126 (dk_at dksX3_onesOf_0 7 rfl rfl)
theorem dX3_onesOf_8 : decode cX3_onesOf 8 = .ok (.iadd, 1) := dk_96 (dk_at dksX3_onesOf_0 8 rfl rfl)
theorem dX3_onesOf_9 : decode cX3_onesOf 9 = .ok (.iload_n 0, 1) := dk_26 (dk_at dksX3_onesOf_0 9 rfl rfl)
theorem dX3_onesOf_10 : decode cX3_onesOf 10 = .ok (.iconst 2, 1) := dk_5 (dk_at dksX3_onesOf_0 10 rfl rfl)
theorem dX3_onesOf_11 : decode cX3_onesOf 11 = .ok (.ishr, 1) := dk_122 (dk_at dksX3_onesOf_0 11 rfl rfl)
theorem dX3_onesOf_12 : decode cX3_onesOf 12 = .ok (.iconst 1, 1) := dk_4 (dk_at dksX3_onesOf_0 12 rfl rfl)
theorem dX3_onesOf_13 : decode cX3_onesOf 13 = .ok (.iand, 1) := dk_126 (dk_at dksX3_onesOf_0 13 rfl rfl)
theorem dX3_onesOf_14 : decode cX3_onesOf 14 = .ok (.iadd, 1) := dk_96 (dk_at dksX3_onesOf_0 14 rfl rfl)
theorem dX3_onesOf_15 : decode cX3_onesOf 15 = .ok (.ireturn, 1) := dk_172 (dk_at dksX3_onesOf_0 15 rfl rfl)
abbrev cX3_answer : ByteArray := prog_14_method_66_code
def yX3_answer : MethodName := ⟨RX3, "answer", "(Z)I"⟩
def dkwX3_answer_0 : List UInt8 := [42, 42, 182, 1, 23, 182, 0, 156, 153, 0, 7, 2, 167, 0, 9, 42, 27, 4, 182, 1, 26, 172]
abbrev dktX3_answer_0 : List UInt8 := dkwX3_answer_0 ++ []
theorem dksX3_answer_0 : cX3_answer.data.toList.drop 0 = dktX3_answer_0 := by decide +kernel
theorem dX3_answer_0 : decode cX3_answer 0 = .ok (.aload_n 0, 1) := dk_42 (dk_at dksX3_answer_0 0 rfl rfl)
theorem dX3_answer_1 : decode cX3_answer 1 = .ok (.aload_n 0, 1) := dk_42 (dk_at dksX3_answer_0 1 rfl rfl)
theorem dX3_answer_2 : decode cX3_answer 2 = .ok (.invokevirtual 279, 3) := dk_182 1 23 (dk_at dksX3_answer_0 2 rfl rfl)
theorem dX3_answer_5 : decode cX3_answer 5 = .ok (.invokevirtual 156, 3) := dk_182 0 156 (dk_at dksX3_answer_0 5 rfl rfl)
theorem dX3_answer_8 : decode cX3_answer 8 = .ok (.ifCond .eq 7, 3) := dk_153 0 7 (dk_at dksX3_answer_0 8 rfl rfl)
theorem dX3_answer_11 : decode cX3_answer 11 = .ok (.iconst (-1), 1) := dk_2 (dk_at dksX3_answer_0 11 rfl rfl)
theorem dX3_answer_12 : decode cX3_answer 12 = .ok (.goto 9, 3) := dk_167 0 9 (dk_at dksX3_answer_0 12 rfl rfl)
theorem dX3_answer_15 : decode cX3_answer 15 = .ok (.aload_n 0, 1) := dk_42 (dk_at dksX3_answer_0 15 rfl rfl)
theorem dX3_answer_16 : decode cX3_answer 16 = .ok (.iload_n 1, 1) := dk_27 (dk_at dksX3_answer_0 16 rfl rfl)
theorem dX3_answer_17 : decode cX3_answer 17 = .ok (.iconst 1, 1) := dk_4 (dk_at dksX3_answer_0 17 rfl rfl)
theorem dX3_answer_18 : decode cX3_answer 18 = .ok (.invokevirtual 282, 3) := dk_182 1 26 (dk_at dksX3_answer_0 18 rfl rfl)
theorem dX3_answer_21 : decode cX3_answer 21 = .ok (.ireturn, 1) := dk_172 (dk_at dksX3_answer_0 21 rfl rfl)
abbrev cX3_onWhy : ByteArray := prog_14_method_63_code
def yX3_onWhy : MethodName := ⟨RX3, "onWhy", "()I"⟩
def dkwX3_onWhy_0 : List UInt8 := [42, 180, 0, 168, 154, 0, 7, 4, 167, 0, 15, 42, 182, 1, 20, 153, 0, 7, 3, 167, 0, 4, 8, 172]
abbrev dktX3_onWhy_0 : List UInt8 := dkwX3_onWhy_0 ++ []
theorem dksX3_onWhy_0 : cX3_onWhy.data.toList.drop 0 = dktX3_onWhy_0 := by decide +kernel
theorem dX3_onWhy_0 : decode cX3_onWhy 0 = .ok (.aload_n 0, 1) := dk_42 (dk_at dksX3_onWhy_0 0 rfl rfl)
theorem dX3_onWhy_1 : decode cX3_onWhy 1 = .ok (.getfield 168, 3) := dk_180 0 168 (dk_at dksX3_onWhy_0 1 rfl rfl)
theorem dX3_onWhy_4 : decode cX3_onWhy 4 = .ok (.ifCond .ne 7, 3) := dk_154 0 7 (dk_at dksX3_onWhy_0 4 rfl rfl)
theorem dX3_onWhy_7 : decode cX3_onWhy 7 = .ok (.iconst 1, 1) := dk_4 (dk_at dksX3_onWhy_0 7 rfl rfl)
theorem dX3_onWhy_8 : decode cX3_onWhy 8 = .ok (.goto 15, 3) := dk_167 0 15 (dk_at dksX3_onWhy_0 8 rfl rfl)
theorem dX3_onWhy_11 : decode cX3_onWhy 11 = .ok (.aload_n 0, 1) := dk_42 (dk_at dksX3_onWhy_0 11 rfl rfl)
theorem dX3_onWhy_12 : decode cX3_onWhy 12 = .ok (.invokevirtual 276, 3) := dk_182 1 20 (dk_at dksX3_onWhy_0 12 rfl rfl)
theorem dX3_onWhy_15 : decode cX3_onWhy 15 = .ok (.ifCond .eq 7, 3) := dk_153 0 7 (dk_at dksX3_onWhy_0 15 rfl rfl)
theorem dX3_onWhy_18 : decode cX3_onWhy 18 = .ok (.iconst 0, 1) := dk_3 (dk_at dksX3_onWhy_0 18 rfl rfl)
theorem dX3_onWhy_19 : decode cX3_onWhy 19 = .ok (.goto 4, 3) := dk_167 0 4 (dk_at dksX3_onWhy_0 19 rfl rfl)
theorem dX3_onWhy_22 : decode cX3_onWhy 22 = .ok (.iconst 5, 1) := dk_8 (dk_at dksX3_onWhy_0 22 rfl rfl)
theorem dX3_onWhy_23 : decode cX3_onWhy 23 = .ok (.ireturn, 1) := dk_172 (dk_at dksX3_onWhy_0 23 rfl rfl)
abbrev cX3_answers : ByteArray := prog_14_method_61_code
def yX3_answers : MethodName := ⟨RX3, "answers", "(ZZ)I"⟩
def dkwX3_answers_13 : List UInt8 := [180, 0, 23, 16, 6, 46, 16, 30, 160, 0, 13, 42, 7, 16, 254, 182, 1, 7, 167, 0, 4, 3, 172]
abbrev dktX3_answers_13 : List UInt8 := dkwX3_answers_13 ++ []
def dkwX3_answers_12 : List UInt8 := [180, 0, 23, 16, 24, 6, 184, 1, 4, 46, 100, 5, 160, 0, 10, 42, 16, 25, 182, 1, 17, 172, 42]
abbrev dktX3_answers_12 : List UInt8 := dkwX3_answers_12 ++ dktX3_answers_13
def dkwX3_answers_11 : List UInt8 := [182, 1, 17, 172, 29, 16, 24, 160, 0, 37, 42, 180, 0, 23, 16, 24, 5, 184, 1, 4, 46, 42]
abbrev dktX3_answers_11 : List UInt8 := dkwX3_answers_11 ++ dktX3_answers_12
def dkwX3_answers_10 : List UInt8 := [162, 0, 21, 29, 154, 0, 23, 42, 180, 0, 23, 3, 6, 184, 1, 4, 46, 5, 160, 0, 9, 42, 29]
abbrev dktX3_answers_10 : List UInt8 := dkwX3_answers_10 ++ dktX3_answers_11
def dkwX3_answers_9 : List UInt8 := [16, 24, 29, 4, 96, 184, 0, 238, 79, 42, 180, 0, 23, 29, 4, 184, 1, 4, 46, 184, 1, 14, 5]
abbrev dktX3_answers_9 : List UInt8 := dkwX3_answers_9 ++ dktX3_answers_10
def dkwX3_answers_8 : List UInt8 := [180, 0, 23, 6, 27, 153, 0, 18, 29, 5, 162, 0, 7, 3, 167, 0, 17, 29, 5, 100, 167, 0, 11]
abbrev dktX3_answers_8 : List UInt8 := dkwX3_answers_8 ++ dktX3_answers_9
def dkwX3_answers_7 : List UInt8 := [46, 104, 27, 153, 0, 7, 4, 167, 0, 4, 3, 96, 16, 8, 112, 79, 42, 180, 0, 23, 7, 29, 79, 42]
abbrev dktX3_answers_7 : List UInt8 := dkwX3_answers_7 ++ dktX3_answers_8
def dkwX3_answers_6 : List UInt8 := [92, 46, 4, 96, 79, 42, 180, 0, 23, 29, 4, 184, 1, 4, 5, 42, 180, 0, 23, 29, 4, 184, 1, 4]
abbrev dktX3_answers_6 : List UInt8 := dkwX3_answers_6 ++ dktX3_answers_7
def dkwX3_answers_5 : List UInt8 := [153, 0, 7, 4, 167, 0, 4, 3, 96, 79, 21, 4, 153, 0, 52, 42, 180, 0, 23, 29, 3, 184, 1, 4]
abbrev dktX3_answers_5 : List UInt8 := dkwX3_answers_5 ++ dktX3_answers_6
def dkwX3_answers_4 : List UInt8 := [29, 5, 184, 1, 4, 92, 46, 4, 96, 79, 42, 180, 0, 23, 29, 6, 184, 1, 4, 92, 46, 27]
abbrev dktX3_answers_4 : List UInt8 := dkwX3_answers_4 ++ dktX3_answers_5
def dkwX3_answers_3 : List UInt8 := [184, 0, 213, 92, 46, 4, 96, 79, 28, 153, 0, 11, 42, 29, 27, 21, 4, 182, 1, 10, 42, 180, 0, 23]
abbrev dktX3_answers_3 : List UInt8 := dkwX3_answers_3 ++ dktX3_answers_4
def dkwX3_answers_2 : List UInt8 := [180, 0, 23, 16, 6, 92, 46, 4, 96, 79, 42, 180, 0, 23, 42, 180, 0, 23, 4, 46, 16, 6]
abbrev dktX3_answers_2 : List UInt8 := dkwX3_answers_2 ++ dktX3_answers_3
def dkwX3_answers_1 : List UInt8 := [164, 0, 7, 4, 167, 0, 4, 3, 54, 4, 42, 180, 0, 23, 16, 10, 92, 46, 4, 96, 79, 42]
abbrev dktX3_answers_1 : List UInt8 := dkwX3_answers_1 ++ dktX3_answers_2
def dkwX3_answers_0 : List UInt8 := [42, 180, 0, 23, 6, 46, 62, 42, 180, 0, 23, 16, 6, 46, 158, 0, 17, 29, 42, 180, 0, 23, 7, 46]
abbrev dktX3_answers_0 : List UInt8 := dkwX3_answers_0 ++ dktX3_answers_1
theorem dksX3_answers_0 : cX3_answers.data.toList.drop 0 = dktX3_answers_0 := by decide +kernel
theorem dksX3_answers_1 : cX3_answers.data.toList.drop 24 = dktX3_answers_1 := dk_seg dksX3_answers_0 24 rfl rfl
theorem dksX3_answers_2 : cX3_answers.data.toList.drop 46 = dktX3_answers_2 := dk_seg dksX3_answers_1 22 rfl rfl
theorem dksX3_answers_3 : cX3_answers.data.toList.drop 68 = dktX3_answers_3 := dk_seg dksX3_answers_2 22 rfl rfl
theorem dksX3_answers_4 : cX3_answers.data.toList.drop 92 = dktX3_answers_4 := dk_seg dksX3_answers_3 24 rfl rfl
theorem dksX3_answers_5 : cX3_answers.data.toList.drop 114 = dktX3_answers_5 := dk_seg dksX3_answers_4 22 rfl rfl
theorem dksX3_answers_6 : cX3_answers.data.toList.drop 138 = dktX3_answers_6 := dk_seg dksX3_answers_5 24 rfl rfl
theorem dksX3_answers_7 : cX3_answers.data.toList.drop 162 = dktX3_answers_7 := dk_seg dksX3_answers_6 24 rfl rfl
theorem dksX3_answers_8 : cX3_answers.data.toList.drop 186 = dktX3_answers_8 := dk_seg dksX3_answers_7 24 rfl rfl
theorem dksX3_answers_9 : cX3_answers.data.toList.drop 209 = dktX3_answers_9 := dk_seg dksX3_answers_8 23 rfl rfl
theorem dksX3_answers_10 : cX3_answers.data.toList.drop 232 = dktX3_answers_10 := dk_seg dksX3_answers_9 23 rfl rfl
theorem dksX3_answers_11 : cX3_answers.data.toList.drop 255 = dktX3_answers_11 := dk_seg dksX3_answers_10 23 rfl rfl
theorem dksX3_answers_12 : cX3_answers.data.toList.drop 277 = dktX3_answers_12 := dk_seg dksX3_answers_11 22 rfl rfl
theorem dksX3_answers_13 : cX3_answers.data.toList.drop 300 = dktX3_answers_13 := dk_seg dksX3_answers_12 23 rfl rfl
theorem dX3_answers_0 : decode cX3_answers 0 = .ok (.aload_n 0, 1) := dk_42 (dk_at dksX3_answers_0 0 rfl rfl)
theorem dX3_answers_1 : decode cX3_answers 1 = .ok (.getfield 23, 3) := dk_180 0 23 (dk_at dksX3_answers_0 1 rfl rfl)
theorem dX3_answers_4 : decode cX3_answers 4 = .ok (.iconst 3, 1) := dk_6 (dk_at dksX3_answers_0 4 rfl rfl)
theorem dX3_answers_5 : decode cX3_answers 5 = .ok (.iaload, 1) := dk_46 (dk_at dksX3_answers_0 5 rfl rfl)
theorem dX3_answers_6 : decode cX3_answers 6 = .ok (.istore_n 3, 1) := dk_62 (dk_at dksX3_answers_0 6 rfl rfl)
theorem dX3_answers_7 : decode cX3_answers 7 = .ok (.aload_n 0, 1) := dk_42 (dk_at dksX3_answers_0 7 rfl rfl)
theorem dX3_answers_8 : decode cX3_answers 8 = .ok (.getfield 23, 3) := dk_180 0 23 (dk_at dksX3_answers_0 8 rfl rfl)
theorem dX3_answers_11 : decode cX3_answers 11 = .ok (.bipush 6, 2) := dk_16 6 (dk_at dksX3_answers_0 11 rfl rfl)
theorem dX3_answers_13 : decode cX3_answers 13 = .ok (.iaload, 1) := dk_46 (dk_at dksX3_answers_0 13 rfl rfl)
theorem dX3_answers_14 : decode cX3_answers 14 = .ok (.ifCond .le 17, 3) := dk_158 0 17 (dk_at dksX3_answers_0 14 rfl rfl)
theorem dX3_answers_17 : decode cX3_answers 17 = .ok (.iload_n 3, 1) := dk_29 (dk_at dksX3_answers_0 17 rfl rfl)
theorem dX3_answers_18 : decode cX3_answers 18 = .ok (.aload_n 0, 1) := dk_42 (dk_at dksX3_answers_0 18 rfl rfl)
theorem dX3_answers_19 : decode cX3_answers 19 = .ok (.getfield 23, 3) := dk_180 0 23 (dk_at dksX3_answers_0 19 rfl rfl)
theorem dX3_answers_22 : decode cX3_answers 22 = .ok (.iconst 4, 1) := dk_7 (dk_at dksX3_answers_0 22 rfl rfl)
theorem dX3_answers_23 : decode cX3_answers 23 = .ok (.iaload, 1) := dk_46 (dk_at dksX3_answers_0 23 rfl rfl)
theorem dX3_answers_24 : decode cX3_answers 24 = .ok (.if_icmp .le 7, 3) := dk_164 0 7 (dk_at dksX3_answers_1 0 rfl rfl)
theorem dX3_answers_27 : decode cX3_answers 27 = .ok (.iconst 1, 1) := dk_4 (dk_at dksX3_answers_1 3 rfl rfl)
theorem dX3_answers_28 : decode cX3_answers 28 = .ok (.goto 4, 3) := dk_167 0 4 (dk_at dksX3_answers_1 4 rfl rfl)
theorem dX3_answers_31 : decode cX3_answers 31 = .ok (.iconst 0, 1) := dk_3 (dk_at dksX3_answers_1 7 rfl rfl)
theorem dX3_answers_32 : decode cX3_answers 32 = .ok (.istore 4, 2) := dk_54 4 (dk_at dksX3_answers_1 8 rfl rfl)
theorem dX3_answers_34 : decode cX3_answers 34 = .ok (.aload_n 0, 1) := dk_42 (dk_at dksX3_answers_1 10 rfl rfl)
theorem dX3_answers_35 : decode cX3_answers 35 = .ok (.getfield 23, 3) := dk_180 0 23 (dk_at dksX3_answers_1 11 rfl rfl)
theorem dX3_answers_38 : decode cX3_answers 38 = .ok (.bipush 10, 2) := dk_16 10 (dk_at dksX3_answers_1 14 rfl rfl)
theorem dX3_answers_40 : decode cX3_answers 40 = .ok (.dup2, 1) := dk_92 (dk_at dksX3_answers_1 16 rfl rfl)
theorem dX3_answers_41 : decode cX3_answers 41 = .ok (.iaload, 1) := dk_46 (dk_at dksX3_answers_1 17 rfl rfl)
theorem dX3_answers_42 : decode cX3_answers 42 = .ok (.iconst 1, 1) := dk_4 (dk_at dksX3_answers_1 18 rfl rfl)
theorem dX3_answers_43 : decode cX3_answers 43 = .ok (.iadd, 1) := dk_96 (dk_at dksX3_answers_1 19 rfl rfl)
theorem dX3_answers_44 : decode cX3_answers 44 = .ok (.iastore, 1) := dk_79 (dk_at dksX3_answers_1 20 rfl rfl)
theorem dX3_answers_45 : decode cX3_answers 45 = .ok (.aload_n 0, 1) := dk_42 (dk_at dksX3_answers_1 21 rfl rfl)
theorem dX3_answers_46 : decode cX3_answers 46 = .ok (.getfield 23, 3) := dk_180 0 23 (dk_at dksX3_answers_2 0 rfl rfl)
theorem dX3_answers_49 : decode cX3_answers 49 = .ok (.bipush 6, 2) := dk_16 6 (dk_at dksX3_answers_2 3 rfl rfl)
theorem dX3_answers_51 : decode cX3_answers 51 = .ok (.dup2, 1) := dk_92 (dk_at dksX3_answers_2 5 rfl rfl)
theorem dX3_answers_52 : decode cX3_answers 52 = .ok (.iaload, 1) := dk_46 (dk_at dksX3_answers_2 6 rfl rfl)
theorem dX3_answers_53 : decode cX3_answers 53 = .ok (.iconst 1, 1) := dk_4 (dk_at dksX3_answers_2 7 rfl rfl)
theorem dX3_answers_54 : decode cX3_answers 54 = .ok (.iadd, 1) := dk_96 (dk_at dksX3_answers_2 8 rfl rfl)
theorem dX3_answers_55 : decode cX3_answers 55 = .ok (.iastore, 1) := dk_79 (dk_at dksX3_answers_2 9 rfl rfl)
theorem dX3_answers_56 : decode cX3_answers 56 = .ok (.aload_n 0, 1) := dk_42 (dk_at dksX3_answers_2 10 rfl rfl)
theorem dX3_answers_57 : decode cX3_answers 57 = .ok (.getfield 23, 3) := dk_180 0 23 (dk_at dksX3_answers_2 11 rfl rfl)
theorem dX3_answers_60 : decode cX3_answers 60 = .ok (.aload_n 0, 1) := dk_42 (dk_at dksX3_answers_2 14 rfl rfl)
theorem dX3_answers_61 : decode cX3_answers 61 = .ok (.getfield 23, 3) := dk_180 0 23 (dk_at dksX3_answers_2 15 rfl rfl)
theorem dX3_answers_64 : decode cX3_answers 64 = .ok (.iconst 1, 1) := dk_4 (dk_at dksX3_answers_2 18 rfl rfl)
theorem dX3_answers_65 : decode cX3_answers 65 = .ok (.iaload, 1) := dk_46 (dk_at dksX3_answers_2 19 rfl rfl)
theorem dX3_answers_66 : decode cX3_answers 66 = .ok (.bipush 6, 2) := dk_16 6 (dk_at dksX3_answers_2 20 rfl rfl)
theorem dX3_answers_68 : decode cX3_answers 68 = .ok (.invokestatic 213, 3) := dk_184 0 213 (dk_at dksX3_answers_3 0 rfl rfl)
theorem dX3_answers_71 : decode cX3_answers 71 = .ok (.dup2, 1) := dk_92 (dk_at dksX3_answers_3 3 rfl rfl)
theorem dX3_answers_72 : decode cX3_answers 72 = .ok (.iaload, 1) := dk_46 (dk_at dksX3_answers_3 4 rfl rfl)
theorem dX3_answers_73 : decode cX3_answers 73 = .ok (.iconst 1, 1) := dk_4 (dk_at dksX3_answers_3 5 rfl rfl)
theorem dX3_answers_74 : decode cX3_answers 74 = .ok (.iadd, 1) := dk_96 (dk_at dksX3_answers_3 6 rfl rfl)
theorem dX3_answers_75 : decode cX3_answers 75 = .ok (.iastore, 1) := dk_79 (dk_at dksX3_answers_3 7 rfl rfl)
theorem dX3_answers_76 : decode cX3_answers 76 = .ok (.iload_n 2, 1) := dk_28 (dk_at dksX3_answers_3 8 rfl rfl)
theorem dX3_answers_77 : decode cX3_answers 77 = .ok (.ifCond .eq 11, 3) := dk_153 0 11 (dk_at dksX3_answers_3 9 rfl rfl)
theorem dX3_answers_80 : decode cX3_answers 80 = .ok (.aload_n 0, 1) := dk_42 (dk_at dksX3_answers_3 12 rfl rfl)
theorem dX3_answers_81 : decode cX3_answers 81 = .ok (.iload_n 3, 1) := dk_29 (dk_at dksX3_answers_3 13 rfl rfl)
theorem dX3_answers_82 : decode cX3_answers 82 = .ok (.iload_n 1, 1) := dk_27 (dk_at dksX3_answers_3 14 rfl rfl)
theorem dX3_answers_83 : decode cX3_answers 83 = .ok (.iload 4, 2) := dk_21 4 (dk_at dksX3_answers_3 15 rfl rfl)
theorem dX3_answers_85 : decode cX3_answers 85 = .ok (.invokevirtual 266, 3) := dk_182 1 10 (dk_at dksX3_answers_3 17 rfl rfl)
theorem dX3_answers_88 : decode cX3_answers 88 = .ok (.aload_n 0, 1) := dk_42 (dk_at dksX3_answers_3 20 rfl rfl)
theorem dX3_answers_89 : decode cX3_answers 89 = .ok (.getfield 23, 3) := dk_180 0 23 (dk_at dksX3_answers_3 21 rfl rfl)
theorem dX3_answers_92 : decode cX3_answers 92 = .ok (.iload_n 3, 1) := dk_29 (dk_at dksX3_answers_4 0 rfl rfl)
theorem dX3_answers_93 : decode cX3_answers 93 = .ok (.iconst 2, 1) := dk_5 (dk_at dksX3_answers_4 1 rfl rfl)
theorem dX3_answers_94 : decode cX3_answers 94 = .ok (.invokestatic 260, 3) := dk_184 1 4 (dk_at dksX3_answers_4 2 rfl rfl)
theorem dX3_answers_97 : decode cX3_answers 97 = .ok (.dup2, 1) := dk_92 (dk_at dksX3_answers_4 5 rfl rfl)
theorem dX3_answers_98 : decode cX3_answers 98 = .ok (.iaload, 1) := dk_46 (dk_at dksX3_answers_4 6 rfl rfl)
theorem dX3_answers_99 : decode cX3_answers 99 = .ok (.iconst 1, 1) := dk_4 (dk_at dksX3_answers_4 7 rfl rfl)
theorem dX3_answers_100 : decode cX3_answers 100 = .ok (.iadd, 1) := dk_96 (dk_at dksX3_answers_4 8 rfl rfl)
theorem dX3_answers_101 : decode cX3_answers 101 = .ok (.iastore, 1) := dk_79 (dk_at dksX3_answers_4 9 rfl rfl)
theorem dX3_answers_102 : decode cX3_answers 102 = .ok (.aload_n 0, 1) := dk_42 (dk_at dksX3_answers_4 10 rfl rfl)
theorem dX3_answers_103 : decode cX3_answers 103 = .ok (.getfield 23, 3) := dk_180 0 23 (dk_at dksX3_answers_4 11 rfl rfl)
theorem dX3_answers_106 : decode cX3_answers 106 = .ok (.iload_n 3, 1) := dk_29 (dk_at dksX3_answers_4 14 rfl rfl)
theorem dX3_answers_107 : decode cX3_answers 107 = .ok (.iconst 3, 1) := dk_6 (dk_at dksX3_answers_4 15 rfl rfl)
theorem dX3_answers_108 : decode cX3_answers 108 = .ok (.invokestatic 260, 3) := dk_184 1 4 (dk_at dksX3_answers_4 16 rfl rfl)
theorem dX3_answers_111 : decode cX3_answers 111 = .ok (.dup2, 1) := dk_92 (dk_at dksX3_answers_4 19 rfl rfl)
theorem dX3_answers_112 : decode cX3_answers 112 = .ok (.iaload, 1) := dk_46 (dk_at dksX3_answers_4 20 rfl rfl)
theorem dX3_answers_113 : decode cX3_answers 113 = .ok (.iload_n 1, 1) := dk_27 (dk_at dksX3_answers_4 21 rfl rfl)
theorem dX3_answers_114 : decode cX3_answers 114 = .ok (.ifCond .eq 7, 3) := dk_153 0 7 (dk_at dksX3_answers_5 0 rfl rfl)
theorem dX3_answers_117 : decode cX3_answers 117 = .ok (.iconst 1, 1) := dk_4 (dk_at dksX3_answers_5 3 rfl rfl)
theorem dX3_answers_118 : decode cX3_answers 118 = .ok (.goto 4, 3) := dk_167 0 4 (dk_at dksX3_answers_5 4 rfl rfl)
theorem dX3_answers_121 : decode cX3_answers 121 = .ok (.iconst 0, 1) := dk_3 (dk_at dksX3_answers_5 7 rfl rfl)
theorem dX3_answers_122 : decode cX3_answers 122 = .ok (.iadd, 1) := dk_96 (dk_at dksX3_answers_5 8 rfl rfl)
theorem dX3_answers_123 : decode cX3_answers 123 = .ok (.iastore, 1) := dk_79 (dk_at dksX3_answers_5 9 rfl rfl)
theorem dX3_answers_124 : decode cX3_answers 124 = .ok (.iload 4, 2) := dk_21 4 (dk_at dksX3_answers_5 10 rfl rfl)
theorem dX3_answers_126 : decode cX3_answers 126 = .ok (.ifCond .eq 52, 3) := dk_153 0 52 (dk_at dksX3_answers_5 12 rfl rfl)
theorem dX3_answers_129 : decode cX3_answers 129 = .ok (.aload_n 0, 1) := dk_42 (dk_at dksX3_answers_5 15 rfl rfl)
theorem dX3_answers_130 : decode cX3_answers 130 = .ok (.getfield 23, 3) := dk_180 0 23 (dk_at dksX3_answers_5 16 rfl rfl)
theorem dX3_answers_133 : decode cX3_answers 133 = .ok (.iload_n 3, 1) := dk_29 (dk_at dksX3_answers_5 19 rfl rfl)
theorem dX3_answers_134 : decode cX3_answers 134 = .ok (.iconst 0, 1) := dk_3 (dk_at dksX3_answers_5 20 rfl rfl)
theorem dX3_answers_135 : decode cX3_answers 135 = .ok (.invokestatic 260, 3) := dk_184 1 4 (dk_at dksX3_answers_5 21 rfl rfl)
theorem dX3_answers_138 : decode cX3_answers 138 = .ok (.dup2, 1) := dk_92 (dk_at dksX3_answers_6 0 rfl rfl)
theorem dX3_answers_139 : decode cX3_answers 139 = .ok (.iaload, 1) := dk_46 (dk_at dksX3_answers_6 1 rfl rfl)
theorem dX3_answers_140 : decode cX3_answers 140 = .ok (.iconst 1, 1) := dk_4 (dk_at dksX3_answers_6 2 rfl rfl)
theorem dX3_answers_141 : decode cX3_answers 141 = .ok (.iadd, 1) := dk_96 (dk_at dksX3_answers_6 3 rfl rfl)
theorem dX3_answers_142 : decode cX3_answers 142 = .ok (.iastore, 1) := dk_79 (dk_at dksX3_answers_6 4 rfl rfl)
theorem dX3_answers_143 : decode cX3_answers 143 = .ok (.aload_n 0, 1) := dk_42 (dk_at dksX3_answers_6 5 rfl rfl)
theorem dX3_answers_144 : decode cX3_answers 144 = .ok (.getfield 23, 3) := dk_180 0 23 (dk_at dksX3_answers_6 6 rfl rfl)
theorem dX3_answers_147 : decode cX3_answers 147 = .ok (.iload_n 3, 1) := dk_29 (dk_at dksX3_answers_6 9 rfl rfl)
theorem dX3_answers_148 : decode cX3_answers 148 = .ok (.iconst 1, 1) := dk_4 (dk_at dksX3_answers_6 10 rfl rfl)
theorem dX3_answers_149 : decode cX3_answers 149 = .ok (.invokestatic 260, 3) := dk_184 1 4 (dk_at dksX3_answers_6 11 rfl rfl)
theorem dX3_answers_152 : decode cX3_answers 152 = .ok (.iconst 2, 1) := dk_5 (dk_at dksX3_answers_6 14 rfl rfl)
theorem dX3_answers_153 : decode cX3_answers 153 = .ok (.aload_n 0, 1) := dk_42 (dk_at dksX3_answers_6 15 rfl rfl)
theorem dX3_answers_154 : decode cX3_answers 154 = .ok (.getfield 23, 3) := dk_180 0 23 (dk_at dksX3_answers_6 16 rfl rfl)
theorem dX3_answers_157 : decode cX3_answers 157 = .ok (.iload_n 3, 1) := dk_29 (dk_at dksX3_answers_6 19 rfl rfl)
theorem dX3_answers_158 : decode cX3_answers 158 = .ok (.iconst 1, 1) := dk_4 (dk_at dksX3_answers_6 20 rfl rfl)
theorem dX3_answers_159 : decode cX3_answers 159 = .ok (.invokestatic 260, 3) := dk_184 1 4 (dk_at dksX3_answers_6 21 rfl rfl)
theorem dX3_answers_162 : decode cX3_answers 162 = .ok (.iaload, 1) := dk_46 (dk_at dksX3_answers_7 0 rfl rfl)
theorem dX3_answers_163 : decode cX3_answers 163 = .ok (.imul, 1) := dk_104 (dk_at dksX3_answers_7 1 rfl rfl)
theorem dX3_answers_164 : decode cX3_answers 164 = .ok (.iload_n 1, 1) := dk_27 (dk_at dksX3_answers_7 2 rfl rfl)
theorem dX3_answers_165 : decode cX3_answers 165 = .ok (.ifCond .eq 7, 3) := dk_153 0 7 (dk_at dksX3_answers_7 3 rfl rfl)
theorem dX3_answers_168 : decode cX3_answers 168 = .ok (.iconst 1, 1) := dk_4 (dk_at dksX3_answers_7 6 rfl rfl)
theorem dX3_answers_169 : decode cX3_answers 169 = .ok (.goto 4, 3) := dk_167 0 4 (dk_at dksX3_answers_7 7 rfl rfl)
theorem dX3_answers_172 : decode cX3_answers 172 = .ok (.iconst 0, 1) := dk_3 (dk_at dksX3_answers_7 10 rfl rfl)
theorem dX3_answers_173 : decode cX3_answers 173 = .ok (.iadd, 1) := dk_96 (dk_at dksX3_answers_7 11 rfl rfl)
theorem dX3_answers_174 : decode cX3_answers 174 = .ok (.bipush 8, 2) := dk_16 8 (dk_at dksX3_answers_7 12 rfl rfl)
theorem dX3_answers_176 : decode cX3_answers 176 = .ok (.irem, 1) := dk_112 (dk_at dksX3_answers_7 14 rfl rfl)
theorem dX3_answers_177 : decode cX3_answers 177 = .ok (.iastore, 1) := dk_79 (dk_at dksX3_answers_7 15 rfl rfl)
theorem dX3_answers_178 : decode cX3_answers 178 = .ok (.aload_n 0, 1) := dk_42 (dk_at dksX3_answers_7 16 rfl rfl)
theorem dX3_answers_179 : decode cX3_answers 179 = .ok (.getfield 23, 3) := dk_180 0 23 (dk_at dksX3_answers_7 17 rfl rfl)
theorem dX3_answers_182 : decode cX3_answers 182 = .ok (.iconst 4, 1) := dk_7 (dk_at dksX3_answers_7 20 rfl rfl)
theorem dX3_answers_183 : decode cX3_answers 183 = .ok (.iload_n 3, 1) := dk_29 (dk_at dksX3_answers_7 21 rfl rfl)
theorem dX3_answers_184 : decode cX3_answers 184 = .ok (.iastore, 1) := dk_79 (dk_at dksX3_answers_7 22 rfl rfl)
theorem dX3_answers_185 : decode cX3_answers 185 = .ok (.aload_n 0, 1) := dk_42 (dk_at dksX3_answers_7 23 rfl rfl)
theorem dX3_answers_186 : decode cX3_answers 186 = .ok (.getfield 23, 3) := dk_180 0 23 (dk_at dksX3_answers_8 0 rfl rfl)
theorem dX3_answers_189 : decode cX3_answers 189 = .ok (.iconst 3, 1) := dk_6 (dk_at dksX3_answers_8 3 rfl rfl)
theorem dX3_answers_190 : decode cX3_answers 190 = .ok (.iload_n 1, 1) := dk_27 (dk_at dksX3_answers_8 4 rfl rfl)
theorem dX3_answers_191 : decode cX3_answers 191 = .ok (.ifCond .eq 18, 3) := dk_153 0 18 (dk_at dksX3_answers_8 5 rfl rfl)
theorem dX3_answers_194 : decode cX3_answers 194 = .ok (.iload_n 3, 1) := dk_29 (dk_at dksX3_answers_8 8 rfl rfl)
theorem dX3_answers_195 : decode cX3_answers 195 = .ok (.iconst 2, 1) := dk_5 (dk_at dksX3_answers_8 9 rfl rfl)
theorem dX3_answers_196 : decode cX3_answers 196 = .ok (.if_icmp .ge 7, 3) := dk_162 0 7 (dk_at dksX3_answers_8 10 rfl rfl)
theorem dX3_answers_199 : decode cX3_answers 199 = .ok (.iconst 0, 1) := dk_3 (dk_at dksX3_answers_8 13 rfl rfl)
theorem dX3_answers_200 : decode cX3_answers 200 = .ok (.goto 17, 3) := dk_167 0 17 (dk_at dksX3_answers_8 14 rfl rfl)
theorem dX3_answers_203 : decode cX3_answers 203 = .ok (.iload_n 3, 1) := dk_29 (dk_at dksX3_answers_8 17 rfl rfl)
theorem dX3_answers_204 : decode cX3_answers 204 = .ok (.iconst 2, 1) := dk_5 (dk_at dksX3_answers_8 18 rfl rfl)
theorem dX3_answers_205 : decode cX3_answers 205 = .ok (.isub, 1) := dk_100 (dk_at dksX3_answers_8 19 rfl rfl)
theorem dX3_answers_206 : decode cX3_answers 206 = .ok (.goto 11, 3) := dk_167 0 11 (dk_at dksX3_answers_8 20 rfl rfl)
theorem dX3_answers_209 : decode cX3_answers 209 = .ok (.bipush 24, 2) := dk_16 24 (dk_at dksX3_answers_9 0 rfl rfl)
theorem dX3_answers_211 : decode cX3_answers 211 = .ok (.iload_n 3, 1) := dk_29 (dk_at dksX3_answers_9 2 rfl rfl)
theorem dX3_answers_212 : decode cX3_answers 212 = .ok (.iconst 1, 1) := dk_4 (dk_at dksX3_answers_9 3 rfl rfl)
theorem dX3_answers_213 : decode cX3_answers 213 = .ok (.iadd, 1) := dk_96 (dk_at dksX3_answers_9 4 rfl rfl)
theorem dX3_answers_214 : decode cX3_answers 214 = .ok (.invokestatic 238, 3) := dk_184 0 238 (dk_at dksX3_answers_9 5 rfl rfl)
theorem dX3_answers_217 : decode cX3_answers 217 = .ok (.iastore, 1) := dk_79 (dk_at dksX3_answers_9 8 rfl rfl)
theorem dX3_answers_218 : decode cX3_answers 218 = .ok (.aload_n 0, 1) := dk_42 (dk_at dksX3_answers_9 9 rfl rfl)
theorem dX3_answers_219 : decode cX3_answers 219 = .ok (.getfield 23, 3) := dk_180 0 23 (dk_at dksX3_answers_9 10 rfl rfl)
theorem dX3_answers_222 : decode cX3_answers 222 = .ok (.iload_n 3, 1) := dk_29 (dk_at dksX3_answers_9 13 rfl rfl)
theorem dX3_answers_223 : decode cX3_answers 223 = .ok (.iconst 1, 1) := dk_4 (dk_at dksX3_answers_9 14 rfl rfl)
theorem dX3_answers_224 : decode cX3_answers 224 = .ok (.invokestatic 260, 3) := dk_184 1 4 (dk_at dksX3_answers_9 15 rfl rfl)
theorem dX3_answers_227 : decode cX3_answers 227 = .ok (.iaload, 1) := dk_46 (dk_at dksX3_answers_9 18 rfl rfl)
theorem dX3_answers_228 : decode cX3_answers 228 = .ok (.invokestatic 270, 3) := dk_184 1 14 (dk_at dksX3_answers_9 19 rfl rfl)
theorem dX3_answers_231 : decode cX3_answers 231 = .ok (.iconst 2, 1) := dk_5 (dk_at dksX3_answers_9 22 rfl rfl)
theorem dX3_answers_232 : decode cX3_answers 232 = .ok (.if_icmp .ge 21, 3) := dk_162 0 21 (dk_at dksX3_answers_10 0 rfl rfl)
theorem dX3_answers_235 : decode cX3_answers 235 = .ok (.iload_n 3, 1) := dk_29 (dk_at dksX3_answers_10 3 rfl rfl)
theorem dX3_answers_236 : decode cX3_answers 236 = .ok (.ifCond .ne 23, 3) := dk_154 0 23 (dk_at dksX3_answers_10 4 rfl rfl)
theorem dX3_answers_239 : decode cX3_answers 239 = .ok (.aload_n 0, 1) := dk_42 (dk_at dksX3_answers_10 7 rfl rfl)
theorem dX3_answers_240 : decode cX3_answers 240 = .ok (.getfield 23, 3) := dk_180 0 23 (dk_at dksX3_answers_10 8 rfl rfl)
theorem dX3_answers_243 : decode cX3_answers 243 = .ok (.iconst 0, 1) := dk_3 (dk_at dksX3_answers_10 11 rfl rfl)
theorem dX3_answers_244 : decode cX3_answers 244 = .ok (.iconst 3, 1) := dk_6 (dk_at dksX3_answers_10 12 rfl rfl)
theorem dX3_answers_245 : decode cX3_answers 245 = .ok (.invokestatic 260, 3) := dk_184 1 4 (dk_at dksX3_answers_10 13 rfl rfl)
theorem dX3_answers_248 : decode cX3_answers 248 = .ok (.iaload, 1) := dk_46 (dk_at dksX3_answers_10 16 rfl rfl)
theorem dX3_answers_249 : decode cX3_answers 249 = .ok (.iconst 2, 1) := dk_5 (dk_at dksX3_answers_10 17 rfl rfl)
theorem dX3_answers_250 : decode cX3_answers 250 = .ok (.if_icmp .ne 9, 3) := dk_160 0 9 (dk_at dksX3_answers_10 18 rfl rfl)
theorem dX3_answers_253 : decode cX3_answers 253 = .ok (.aload_n 0, 1) := dk_42 (dk_at dksX3_answers_10 21 rfl rfl)
theorem dX3_answers_254 : decode cX3_answers 254 = .ok (.iload_n 3, 1) := dk_29 (dk_at dksX3_answers_10 22 rfl rfl)
theorem dX3_answers_255 : decode cX3_answers 255 = .ok (.invokevirtual 273, 3) := dk_182 1 17 (dk_at dksX3_answers_11 0 rfl rfl)
theorem dX3_answers_258 : decode cX3_answers 258 = .ok (.ireturn, 1) := dk_172 (dk_at dksX3_answers_11 3 rfl rfl)
theorem dX3_answers_259 : decode cX3_answers 259 = .ok (.iload_n 3, 1) := dk_29 (dk_at dksX3_answers_11 4 rfl rfl)
theorem dX3_answers_260 : decode cX3_answers 260 = .ok (.bipush 24, 2) := dk_16 24 (dk_at dksX3_answers_11 5 rfl rfl)
theorem dX3_answers_262 : decode cX3_answers 262 = .ok (.if_icmp .ne 37, 3) := dk_160 0 37 (dk_at dksX3_answers_11 7 rfl rfl)
theorem dX3_answers_265 : decode cX3_answers 265 = .ok (.aload_n 0, 1) := dk_42 (dk_at dksX3_answers_11 10 rfl rfl)
theorem dX3_answers_266 : decode cX3_answers 266 = .ok (.getfield 23, 3) := dk_180 0 23 (dk_at dksX3_answers_11 11 rfl rfl)
theorem dX3_answers_269 : decode cX3_answers 269 = .ok (.bipush 24, 2) := dk_16 24 (dk_at dksX3_answers_11 14 rfl rfl)
theorem dX3_answers_271 : decode cX3_answers 271 = .ok (.iconst 2, 1) := dk_5 (dk_at dksX3_answers_11 16 rfl rfl)
theorem dX3_answers_272 : decode cX3_answers 272 = .ok (.invokestatic 260, 3) := dk_184 1 4 (dk_at dksX3_answers_11 17 rfl rfl)
theorem dX3_answers_275 : decode cX3_answers 275 = .ok (.iaload, 1) := dk_46 (dk_at dksX3_answers_11 20 rfl rfl)
theorem dX3_answers_276 : decode cX3_answers 276 = .ok (.aload_n 0, 1) := dk_42 (dk_at dksX3_answers_11 21 rfl rfl)
theorem dX3_answers_277 : decode cX3_answers 277 = .ok (.getfield 23, 3) := dk_180 0 23 (dk_at dksX3_answers_12 0 rfl rfl)
theorem dX3_answers_280 : decode cX3_answers 280 = .ok (.bipush 24, 2) := dk_16 24 (dk_at dksX3_answers_12 3 rfl rfl)
theorem dX3_answers_282 : decode cX3_answers 282 = .ok (.iconst 3, 1) := dk_6 (dk_at dksX3_answers_12 5 rfl rfl)
theorem dX3_answers_283 : decode cX3_answers 283 = .ok (.invokestatic 260, 3) := dk_184 1 4 (dk_at dksX3_answers_12 6 rfl rfl)
theorem dX3_answers_286 : decode cX3_answers 286 = .ok (.iaload, 1) := dk_46 (dk_at dksX3_answers_12 9 rfl rfl)
theorem dX3_answers_287 : decode cX3_answers 287 = .ok (.isub, 1) := dk_100 (dk_at dksX3_answers_12 10 rfl rfl)
theorem dX3_answers_288 : decode cX3_answers 288 = .ok (.iconst 2, 1) := dk_5 (dk_at dksX3_answers_12 11 rfl rfl)
theorem dX3_answers_289 : decode cX3_answers 289 = .ok (.if_icmp .ne 10, 3) := dk_160 0 10 (dk_at dksX3_answers_12 12 rfl rfl)
theorem dX3_answers_292 : decode cX3_answers 292 = .ok (.aload_n 0, 1) := dk_42 (dk_at dksX3_answers_12 15 rfl rfl)
theorem dX3_answers_293 : decode cX3_answers 293 = .ok (.bipush 25, 2) := dk_16 25 (dk_at dksX3_answers_12 16 rfl rfl)
theorem dX3_answers_295 : decode cX3_answers 295 = .ok (.invokevirtual 273, 3) := dk_182 1 17 (dk_at dksX3_answers_12 18 rfl rfl)
theorem dX3_answers_298 : decode cX3_answers 298 = .ok (.ireturn, 1) := dk_172 (dk_at dksX3_answers_12 21 rfl rfl)
theorem dX3_answers_299 : decode cX3_answers 299 = .ok (.aload_n 0, 1) := dk_42 (dk_at dksX3_answers_12 22 rfl rfl)
theorem dX3_answers_300 : decode cX3_answers 300 = .ok (.getfield 23, 3) := dk_180 0 23 (dk_at dksX3_answers_13 0 rfl rfl)
theorem dX3_answers_303 : decode cX3_answers 303 = .ok (.bipush 6, 2) := dk_16 6 (dk_at dksX3_answers_13 3 rfl rfl)
theorem dX3_answers_305 : decode cX3_answers 305 = .ok (.iaload, 1) := dk_46 (dk_at dksX3_answers_13 5 rfl rfl)
theorem dX3_answers_306 : decode cX3_answers 306 = .ok (.bipush 30, 2) := dk_16 30 (dk_at dksX3_answers_13 6 rfl rfl)
theorem dX3_answers_308 : decode cX3_answers 308 = .ok (.if_icmp .ne 13, 3) := dk_160 0 13 (dk_at dksX3_answers_13 8 rfl rfl)
theorem dX3_answers_311 : decode cX3_answers 311 = .ok (.aload_n 0, 1) := dk_42 (dk_at dksX3_answers_13 11 rfl rfl)
theorem dX3_answers_312 : decode cX3_answers 312 = .ok (.iconst 4, 1) := dk_7 (dk_at dksX3_answers_13 12 rfl rfl)
theorem dX3_answers_313 : decode cX3_answers 313 = .ok (.bipush (-2), 2) := dk_16 254 (dk_at dksX3_answers_13 13 rfl rfl)
theorem dX3_answers_315 : decode cX3_answers 315 = .ok (.invokevirtual 263, 3) := dk_182 1 7 (dk_at dksX3_answers_13 15 rfl rfl)
theorem dX3_answers_318 : decode cX3_answers 318 = .ok (.goto 4, 3) := dk_167 0 4 (dk_at dksX3_answers_13 18 rfl rfl)
theorem dX3_answers_321 : decode cX3_answers 321 = .ok (.iconst 0, 1) := dk_3 (dk_at dksX3_answers_13 21 rfl rfl)
theorem dX3_answers_322 : decode cX3_answers 322 = .ok (.ireturn, 1) := dk_172 (dk_at dksX3_answers_13 22 rfl rfl)
abbrev cX3_logs : ByteArray := prog_14_method_60_code
def yX3_logs : MethodName := ⟨RX3, "logs", "(IZZ)V"⟩
def dkwX3_logs_6 : List UInt8 := [167, 0, 4, 3, 79, 177]
abbrev dktX3_logs_6 : List UInt8 := dkwX3_logs_6 ++ []
def dkwX3_logs_5 : List UInt8 := [17, 2, 132, 42, 180, 0, 23, 16, 10, 46, 79, 42, 180, 0, 23, 17, 2, 133, 29, 153, 0, 7, 4]
abbrev dktX3_logs_5 : List UInt8 := dkwX3_logs_5 ++ dktX3_logs_6
def dkwX3_logs_4 : List UInt8 := [79, 42, 180, 0, 23, 17, 2, 131, 28, 153, 0, 7, 4, 167, 0, 4, 3, 79, 42, 180, 0, 23]
abbrev dktX3_logs_4 : List UInt8 := dkwX3_logs_4 ++ dktX3_logs_5
def dkwX3_logs_3 : List UInt8 := [46, 79, 42, 180, 0, 23, 17, 2, 129, 27, 79, 42, 180, 0, 23, 17, 2, 130, 42, 180, 0, 23, 8, 46]
abbrev dktX3_logs_3 : List UInt8 := dkwX3_logs_3 ++ dktX3_logs_4
def dkwX3_logs_2 : List UInt8 := [180, 0, 23, 16, 11, 46, 4, 96, 184, 0, 238, 79, 42, 180, 0, 23, 17, 2, 128, 42, 180, 0, 23, 4]
abbrev dktX3_logs_2 : List UInt8 := dkwX3_logs_2 ++ dktX3_logs_3
def dkwX3_logs_1 : List UInt8 := [21, 4, 16, 6, 100, 46, 79, 132, 4, 255, 167, 255, 228, 42, 180, 0, 23, 16, 11, 17, 0, 200, 42]
abbrev dktX3_logs_1 : List UInt8 := dkwX3_logs_1 ++ dktX3_logs_2
def dkwX3_logs_0 : List UInt8 := [17, 7, 47, 54, 4, 21, 4, 17, 2, 134, 161, 0, 26, 42, 180, 0, 23, 21, 4, 42, 180, 0, 23]
abbrev dktX3_logs_0 : List UInt8 := dkwX3_logs_0 ++ dktX3_logs_1
theorem dksX3_logs_0 : cX3_logs.data.toList.drop 0 = dktX3_logs_0 := by decide +kernel
theorem dksX3_logs_1 : cX3_logs.data.toList.drop 23 = dktX3_logs_1 := dk_seg dksX3_logs_0 23 rfl rfl
theorem dksX3_logs_2 : cX3_logs.data.toList.drop 46 = dktX3_logs_2 := dk_seg dksX3_logs_1 23 rfl rfl
theorem dksX3_logs_3 : cX3_logs.data.toList.drop 70 = dktX3_logs_3 := dk_seg dksX3_logs_2 24 rfl rfl
theorem dksX3_logs_4 : cX3_logs.data.toList.drop 94 = dktX3_logs_4 := dk_seg dksX3_logs_3 24 rfl rfl
theorem dksX3_logs_5 : cX3_logs.data.toList.drop 116 = dktX3_logs_5 := dk_seg dksX3_logs_4 22 rfl rfl
theorem dksX3_logs_6 : cX3_logs.data.toList.drop 139 = dktX3_logs_6 := dk_seg dksX3_logs_5 23 rfl rfl
theorem dX3_logs_0 : decode cX3_logs 0 = .ok (.sipush 1839, 3) := dk_17 7 47 (dk_at dksX3_logs_0 0 rfl rfl)
theorem dX3_logs_3 : decode cX3_logs 3 = .ok (.istore 4, 2) := dk_54 4 (dk_at dksX3_logs_0 3 rfl rfl)
theorem dX3_logs_5 : decode cX3_logs 5 = .ok (.iload 4, 2) := dk_21 4 (dk_at dksX3_logs_0 5 rfl rfl)
theorem dX3_logs_7 : decode cX3_logs 7 = .ok (.sipush 646, 3) := dk_17 2 134 (dk_at dksX3_logs_0 7 rfl rfl)
theorem dX3_logs_10 : decode cX3_logs 10 = .ok (.if_icmp .lt 26, 3) := dk_161 0 26 (dk_at dksX3_logs_0 10 rfl rfl)
theorem dX3_logs_13 : decode cX3_logs 13 = .ok (.aload_n 0, 1) := dk_42 (dk_at dksX3_logs_0 13 rfl rfl)
theorem dX3_logs_14 : decode cX3_logs 14 = .ok (.getfield 23, 3) := dk_180 0 23 (dk_at dksX3_logs_0 14 rfl rfl)
theorem dX3_logs_17 : decode cX3_logs 17 = .ok (.iload 4, 2) := dk_21 4 (dk_at dksX3_logs_0 17 rfl rfl)
theorem dX3_logs_19 : decode cX3_logs 19 = .ok (.aload_n 0, 1) := dk_42 (dk_at dksX3_logs_0 19 rfl rfl)
theorem dX3_logs_20 : decode cX3_logs 20 = .ok (.getfield 23, 3) := dk_180 0 23 (dk_at dksX3_logs_0 20 rfl rfl)
theorem dX3_logs_23 : decode cX3_logs 23 = .ok (.iload 4, 2) := dk_21 4 (dk_at dksX3_logs_1 0 rfl rfl)
theorem dX3_logs_25 : decode cX3_logs 25 = .ok (.bipush 6, 2) := dk_16 6 (dk_at dksX3_logs_1 2 rfl rfl)
theorem dX3_logs_27 : decode cX3_logs 27 = .ok (.isub, 1) := dk_100 (dk_at dksX3_logs_1 4 rfl rfl)
theorem dX3_logs_28 : decode cX3_logs 28 = .ok (.iaload, 1) := dk_46 (dk_at dksX3_logs_1 5 rfl rfl)
theorem dX3_logs_29 : decode cX3_logs 29 = .ok (.iastore, 1) := dk_79 (dk_at dksX3_logs_1 6 rfl rfl)
theorem dX3_logs_30 : decode cX3_logs 30 = .ok (.iinc 4 (-1), 3) := dk_132 4 255 (dk_at dksX3_logs_1 7 rfl rfl)
theorem dX3_logs_33 : decode cX3_logs 33 = .ok (.goto (-28), 3) := dk_167 255 228 (dk_at dksX3_logs_1 10 rfl rfl)
theorem dX3_logs_36 : decode cX3_logs 36 = .ok (.aload_n 0, 1) := dk_42 (dk_at dksX3_logs_1 13 rfl rfl)
theorem dX3_logs_37 : decode cX3_logs 37 = .ok (.getfield 23, 3) := dk_180 0 23 (dk_at dksX3_logs_1 14 rfl rfl)
theorem dX3_logs_40 : decode cX3_logs 40 = .ok (.bipush 11, 2) := dk_16 11 (dk_at dksX3_logs_1 17 rfl rfl)
theorem dX3_logs_42 : decode cX3_logs 42 = .ok (.sipush 200, 3) := dk_17 0 200 (dk_at dksX3_logs_1 19 rfl rfl)
theorem dX3_logs_45 : decode cX3_logs 45 = .ok (.aload_n 0, 1) := dk_42 (dk_at dksX3_logs_1 22 rfl rfl)
theorem dX3_logs_46 : decode cX3_logs 46 = .ok (.getfield 23, 3) := dk_180 0 23 (dk_at dksX3_logs_2 0 rfl rfl)
theorem dX3_logs_49 : decode cX3_logs 49 = .ok (.bipush 11, 2) := dk_16 11 (dk_at dksX3_logs_2 3 rfl rfl)
theorem dX3_logs_51 : decode cX3_logs 51 = .ok (.iaload, 1) := dk_46 (dk_at dksX3_logs_2 5 rfl rfl)
theorem dX3_logs_52 : decode cX3_logs 52 = .ok (.iconst 1, 1) := dk_4 (dk_at dksX3_logs_2 6 rfl rfl)
theorem dX3_logs_53 : decode cX3_logs 53 = .ok (.iadd, 1) := dk_96 (dk_at dksX3_logs_2 7 rfl rfl)
theorem dX3_logs_54 : decode cX3_logs 54 = .ok (.invokestatic 238, 3) := dk_184 0 238 (dk_at dksX3_logs_2 8 rfl rfl)
theorem dX3_logs_57 : decode cX3_logs 57 = .ok (.iastore, 1) := dk_79 (dk_at dksX3_logs_2 11 rfl rfl)
theorem dX3_logs_58 : decode cX3_logs 58 = .ok (.aload_n 0, 1) := dk_42 (dk_at dksX3_logs_2 12 rfl rfl)
theorem dX3_logs_59 : decode cX3_logs 59 = .ok (.getfield 23, 3) := dk_180 0 23 (dk_at dksX3_logs_2 13 rfl rfl)
theorem dX3_logs_62 : decode cX3_logs 62 = .ok (.sipush 640, 3) := dk_17 2 128 (dk_at dksX3_logs_2 16 rfl rfl)
theorem dX3_logs_65 : decode cX3_logs 65 = .ok (.aload_n 0, 1) := dk_42 (dk_at dksX3_logs_2 19 rfl rfl)
theorem dX3_logs_66 : decode cX3_logs 66 = .ok (.getfield 23, 3) := dk_180 0 23 (dk_at dksX3_logs_2 20 rfl rfl)
theorem dX3_logs_69 : decode cX3_logs 69 = .ok (.iconst 1, 1) := dk_4 (dk_at dksX3_logs_2 23 rfl rfl)
theorem dX3_logs_70 : decode cX3_logs 70 = .ok (.iaload, 1) := dk_46 (dk_at dksX3_logs_3 0 rfl rfl)
theorem dX3_logs_71 : decode cX3_logs 71 = .ok (.iastore, 1) := dk_79 (dk_at dksX3_logs_3 1 rfl rfl)
theorem dX3_logs_72 : decode cX3_logs 72 = .ok (.aload_n 0, 1) := dk_42 (dk_at dksX3_logs_3 2 rfl rfl)
theorem dX3_logs_73 : decode cX3_logs 73 = .ok (.getfield 23, 3) := dk_180 0 23 (dk_at dksX3_logs_3 3 rfl rfl)
theorem dX3_logs_76 : decode cX3_logs 76 = .ok (.sipush 641, 3) := dk_17 2 129 (dk_at dksX3_logs_3 6 rfl rfl)
theorem dX3_logs_79 : decode cX3_logs 79 = .ok (.iload_n 1, 1) := dk_27 (dk_at dksX3_logs_3 9 rfl rfl)
theorem dX3_logs_80 : decode cX3_logs 80 = .ok (.iastore, 1) := dk_79 (dk_at dksX3_logs_3 10 rfl rfl)
theorem dX3_logs_81 : decode cX3_logs 81 = .ok (.aload_n 0, 1) := dk_42 (dk_at dksX3_logs_3 11 rfl rfl)
theorem dX3_logs_82 : decode cX3_logs 82 = .ok (.getfield 23, 3) := dk_180 0 23 (dk_at dksX3_logs_3 12 rfl rfl)
theorem dX3_logs_85 : decode cX3_logs 85 = .ok (.sipush 642, 3) := dk_17 2 130 (dk_at dksX3_logs_3 15 rfl rfl)
theorem dX3_logs_88 : decode cX3_logs 88 = .ok (.aload_n 0, 1) := dk_42 (dk_at dksX3_logs_3 18 rfl rfl)
theorem dX3_logs_89 : decode cX3_logs 89 = .ok (.getfield 23, 3) := dk_180 0 23 (dk_at dksX3_logs_3 19 rfl rfl)
theorem dX3_logs_92 : decode cX3_logs 92 = .ok (.iconst 5, 1) := dk_8 (dk_at dksX3_logs_3 22 rfl rfl)
theorem dX3_logs_93 : decode cX3_logs 93 = .ok (.iaload, 1) := dk_46 (dk_at dksX3_logs_3 23 rfl rfl)
theorem dX3_logs_94 : decode cX3_logs 94 = .ok (.iastore, 1) := dk_79 (dk_at dksX3_logs_4 0 rfl rfl)
theorem dX3_logs_95 : decode cX3_logs 95 = .ok (.aload_n 0, 1) := dk_42 (dk_at dksX3_logs_4 1 rfl rfl)
theorem dX3_logs_96 : decode cX3_logs 96 = .ok (.getfield 23, 3) := dk_180 0 23 (dk_at dksX3_logs_4 2 rfl rfl)
theorem dX3_logs_99 : decode cX3_logs 99 = .ok (.sipush 643, 3) := dk_17 2 131 (dk_at dksX3_logs_4 5 rfl rfl)
theorem dX3_logs_102 : decode cX3_logs 102 = .ok (.iload_n 2, 1) := dk_28 (dk_at dksX3_logs_4 8 rfl rfl)
theorem dX3_logs_103 : decode cX3_logs 103 = .ok (.ifCond .eq 7, 3) := dk_153 0 7 (dk_at dksX3_logs_4 9 rfl rfl)
theorem dX3_logs_106 : decode cX3_logs 106 = .ok (.iconst 1, 1) := dk_4 (dk_at dksX3_logs_4 12 rfl rfl)
theorem dX3_logs_107 : decode cX3_logs 107 = .ok (.goto 4, 3) := dk_167 0 4 (dk_at dksX3_logs_4 13 rfl rfl)
theorem dX3_logs_110 : decode cX3_logs 110 = .ok (.iconst 0, 1) := dk_3 (dk_at dksX3_logs_4 16 rfl rfl)
theorem dX3_logs_111 : decode cX3_logs 111 = .ok (.iastore, 1) := dk_79 (dk_at dksX3_logs_4 17 rfl rfl)
theorem dX3_logs_112 : decode cX3_logs 112 = .ok (.aload_n 0, 1) := dk_42 (dk_at dksX3_logs_4 18 rfl rfl)
theorem dX3_logs_113 : decode cX3_logs 113 = .ok (.getfield 23, 3) := dk_180 0 23 (dk_at dksX3_logs_4 19 rfl rfl)
theorem dX3_logs_116 : decode cX3_logs 116 = .ok (.sipush 644, 3) := dk_17 2 132 (dk_at dksX3_logs_5 0 rfl rfl)
theorem dX3_logs_119 : decode cX3_logs 119 = .ok (.aload_n 0, 1) := dk_42 (dk_at dksX3_logs_5 3 rfl rfl)
theorem dX3_logs_120 : decode cX3_logs 120 = .ok (.getfield 23, 3) := dk_180 0 23 (dk_at dksX3_logs_5 4 rfl rfl)
theorem dX3_logs_123 : decode cX3_logs 123 = .ok (.bipush 10, 2) := dk_16 10 (dk_at dksX3_logs_5 7 rfl rfl)
theorem dX3_logs_125 : decode cX3_logs 125 = .ok (.iaload, 1) := dk_46 (dk_at dksX3_logs_5 9 rfl rfl)
theorem dX3_logs_126 : decode cX3_logs 126 = .ok (.iastore, 1) := dk_79 (dk_at dksX3_logs_5 10 rfl rfl)
theorem dX3_logs_127 : decode cX3_logs 127 = .ok (.aload_n 0, 1) := dk_42 (dk_at dksX3_logs_5 11 rfl rfl)
theorem dX3_logs_128 : decode cX3_logs 128 = .ok (.getfield 23, 3) := dk_180 0 23 (dk_at dksX3_logs_5 12 rfl rfl)
theorem dX3_logs_131 : decode cX3_logs 131 = .ok (.sipush 645, 3) := dk_17 2 133 (dk_at dksX3_logs_5 15 rfl rfl)
theorem dX3_logs_134 : decode cX3_logs 134 = .ok (.iload_n 3, 1) := dk_29 (dk_at dksX3_logs_5 18 rfl rfl)
theorem dX3_logs_135 : decode cX3_logs 135 = .ok (.ifCond .eq 7, 3) := dk_153 0 7 (dk_at dksX3_logs_5 19 rfl rfl)
theorem dX3_logs_138 : decode cX3_logs 138 = .ok (.iconst 1, 1) := dk_4 (dk_at dksX3_logs_5 22 rfl rfl)
theorem dX3_logs_139 : decode cX3_logs 139 = .ok (.goto 4, 3) := dk_167 0 4 (dk_at dksX3_logs_6 0 rfl rfl)
theorem dX3_logs_142 : decode cX3_logs 142 = .ok (.iconst 0, 1) := dk_3 (dk_at dksX3_logs_6 3 rfl rfl)
theorem dX3_logs_143 : decode cX3_logs 143 = .ok (.iastore, 1) := dk_79 (dk_at dksX3_logs_6 4 rfl rfl)
theorem dX3_logs_144 : decode cX3_logs 144 = .ok (.return_, 1) := dk_177 (dk_at dksX3_logs_6 5 rfl rfl)
abbrev cX3_comesTo : ByteArray := prog_14_method_57_code
def yX3_comesTo : MethodName := ⟨RX3, "comesTo", "(I)I"⟩
def dkwX3_comesTo_11 : List UInt8 := [27, 29, 182, 0, 244, 4, 172]
abbrev dktX3_comesTo_11 : List UInt8 := dkwX3_comesTo_11 ++ []
def dkwX3_comesTo_10 : List UInt8 := [180, 0, 23, 28, 5, 184, 0, 213, 46, 182, 0, 251, 164, 0, 11, 42, 6, 16, 254, 182, 1, 7, 172, 42]
abbrev dktX3_comesTo_10 : List UInt8 := dkwX3_comesTo_10 ++ dktX3_comesTo_11
def dkwX3_comesTo_9 : List UInt8 := [8, 46, 42, 180, 0, 17, 6, 46, 96, 62, 29, 42, 42, 180, 0, 23, 28, 4, 184, 0, 213, 46, 42]
abbrev dktX3_comesTo_9 : List UInt8 := dkwX3_comesTo_9 ++ dktX3_comesTo_10
def dkwX3_comesTo_8 : List UInt8 := [16, 9, 184, 0, 213, 42, 180, 0, 23, 16, 9, 46, 79, 42, 5, 27, 182, 1, 7, 172, 42, 180, 0, 23]
abbrev dktX3_comesTo_8 : List UInt8 := dkwX3_comesTo_8 ++ dktX3_comesTo_9
def dkwX3_comesTo_7 : List UInt8 := [96, 79, 42, 180, 0, 23, 16, 7, 46, 42, 180, 0, 17, 7, 46, 160, 0, 28, 42, 180, 0, 23, 28]
abbrev dktX3_comesTo_7 : List UInt8 := dkwX3_comesTo_7 ++ dktX3_comesTo_8
def dkwX3_comesTo_6 : List UInt8 := [42, 180, 0, 23, 8, 46, 79, 42, 180, 0, 23, 16, 8, 27, 79, 42, 180, 0, 23, 16, 7, 92, 46, 4]
abbrev dktX3_comesTo_6 : List UInt8 := dkwX3_comesTo_6 ++ dktX3_comesTo_7
def dkwX3_comesTo_5 : List UInt8 := [180, 0, 23, 16, 8, 46, 27, 159, 0, 24, 42, 180, 0, 23, 16, 7, 3, 79, 42, 180, 0, 23, 16, 9]
abbrev dktX3_comesTo_5 : List UInt8 := dkwX3_comesTo_5 ++ dktX3_comesTo_6
def dkwX3_comesTo_4 : List UInt8 := [46, 154, 0, 10, 42, 5, 27, 182, 1, 7, 172, 42, 180, 0, 23, 16, 7, 46, 153, 0, 14, 42]
abbrev dktX3_comesTo_4 : List UInt8 := dkwX3_comesTo_4 ++ dktX3_comesTo_5
def dkwX3_comesTo_3 : List UInt8 := [184, 1, 4, 46, 21, 4, 100, 96, 79, 132, 3, 1, 167, 255, 198, 42, 180, 0, 23, 28, 6, 184, 0, 213]
abbrev dktX3_comesTo_3 : List UInt8 := dkwX3_comesTo_3 ++ dktX3_comesTo_4
def dkwX3_comesTo_2 : List UInt8 := [16, 10, 184, 0, 213, 92, 46, 29, 27, 162, 0, 8, 21, 4, 167, 0, 16, 42, 180, 0, 23, 29, 5]
abbrev dktX3_comesTo_2 : List UInt8 := dkwX3_comesTo_2 ++ dktX3_comesTo_3
def dkwX3_comesTo_1 : List UInt8 := [29, 16, 25, 162, 0, 58, 42, 180, 0, 23, 29, 6, 184, 1, 4, 46, 54, 4, 42, 180, 0, 23, 28]
abbrev dktX3_comesTo_1 : List UInt8 := dkwX3_comesTo_1 ++ dktX3_comesTo_2
def dkwX3_comesTo_0 : List UInt8 := [42, 180, 0, 23, 4, 46, 61, 42, 180, 0, 23, 28, 16, 7, 184, 0, 213, 92, 46, 4, 96, 79, 3, 62]
abbrev dktX3_comesTo_0 : List UInt8 := dkwX3_comesTo_0 ++ dktX3_comesTo_1
theorem dksX3_comesTo_0 : cX3_comesTo.data.toList.drop 0 = dktX3_comesTo_0 := by decide +kernel
theorem dksX3_comesTo_1 : cX3_comesTo.data.toList.drop 24 = dktX3_comesTo_1 := dk_seg dksX3_comesTo_0 24 rfl rfl
theorem dksX3_comesTo_2 : cX3_comesTo.data.toList.drop 47 = dktX3_comesTo_2 := dk_seg dksX3_comesTo_1 23 rfl rfl
theorem dksX3_comesTo_3 : cX3_comesTo.data.toList.drop 70 = dktX3_comesTo_3 := dk_seg dksX3_comesTo_2 23 rfl rfl
theorem dksX3_comesTo_4 : cX3_comesTo.data.toList.drop 94 = dktX3_comesTo_4 := dk_seg dksX3_comesTo_3 24 rfl rfl
theorem dksX3_comesTo_5 : cX3_comesTo.data.toList.drop 116 = dktX3_comesTo_5 := dk_seg dksX3_comesTo_4 22 rfl rfl
theorem dksX3_comesTo_6 : cX3_comesTo.data.toList.drop 140 = dktX3_comesTo_6 := dk_seg dksX3_comesTo_5 24 rfl rfl
theorem dksX3_comesTo_7 : cX3_comesTo.data.toList.drop 164 = dktX3_comesTo_7 := dk_seg dksX3_comesTo_6 24 rfl rfl
theorem dksX3_comesTo_8 : cX3_comesTo.data.toList.drop 187 = dktX3_comesTo_8 := dk_seg dksX3_comesTo_7 23 rfl rfl
theorem dksX3_comesTo_9 : cX3_comesTo.data.toList.drop 211 = dktX3_comesTo_9 := dk_seg dksX3_comesTo_8 24 rfl rfl
theorem dksX3_comesTo_10 : cX3_comesTo.data.toList.drop 234 = dktX3_comesTo_10 := dk_seg dksX3_comesTo_9 23 rfl rfl
theorem dksX3_comesTo_11 : cX3_comesTo.data.toList.drop 258 = dktX3_comesTo_11 := dk_seg dksX3_comesTo_10 24 rfl rfl
theorem dX3_comesTo_0 : decode cX3_comesTo 0 = .ok (.aload_n 0, 1) := dk_42 (dk_at dksX3_comesTo_0 0 rfl rfl)
theorem dX3_comesTo_1 : decode cX3_comesTo 1 = .ok (.getfield 23, 3) := dk_180 0 23 (dk_at dksX3_comesTo_0 1 rfl rfl)
theorem dX3_comesTo_4 : decode cX3_comesTo 4 = .ok (.iconst 1, 1) := dk_4 (dk_at dksX3_comesTo_0 4 rfl rfl)
theorem dX3_comesTo_5 : decode cX3_comesTo 5 = .ok (.iaload, 1) := dk_46 (dk_at dksX3_comesTo_0 5 rfl rfl)
theorem dX3_comesTo_6 : decode cX3_comesTo 6 = .ok (.istore_n 2, 1) := dk_61 (dk_at dksX3_comesTo_0 6 rfl rfl)
theorem dX3_comesTo_7 : decode cX3_comesTo 7 = .ok (.aload_n 0, 1) := dk_42 (dk_at dksX3_comesTo_0 7 rfl rfl)
theorem dX3_comesTo_8 : decode cX3_comesTo 8 = .ok (.getfield 23, 3) := dk_180 0 23 (dk_at dksX3_comesTo_0 8 rfl rfl)
theorem dX3_comesTo_11 : decode cX3_comesTo 11 = .ok (.iload_n 2, 1) := dk_28 (dk_at dksX3_comesTo_0 11 rfl rfl)
theorem dX3_comesTo_12 : decode cX3_comesTo 12 = .ok (.bipush 7, 2) := dk_16 7 (dk_at dksX3_comesTo_0 12 rfl rfl)
theorem dX3_comesTo_14 : decode cX3_comesTo 14 = .ok (.invokestatic 213, 3) := dk_184 0 213 (dk_at dksX3_comesTo_0 14 rfl rfl)
theorem dX3_comesTo_17 : decode cX3_comesTo 17 = .ok (.dup2, 1) := dk_92 (dk_at dksX3_comesTo_0 17 rfl rfl)
theorem dX3_comesTo_18 : decode cX3_comesTo 18 = .ok (.iaload, 1) := dk_46 (dk_at dksX3_comesTo_0 18 rfl rfl)
theorem dX3_comesTo_19 : decode cX3_comesTo 19 = .ok (.iconst 1, 1) := dk_4 (dk_at dksX3_comesTo_0 19 rfl rfl)
theorem dX3_comesTo_20 : decode cX3_comesTo 20 = .ok (.iadd, 1) := dk_96 (dk_at dksX3_comesTo_0 20 rfl rfl)
theorem dX3_comesTo_21 : decode cX3_comesTo 21 = .ok (.iastore, 1) := dk_79 (dk_at dksX3_comesTo_0 21 rfl rfl)
theorem dX3_comesTo_22 : decode cX3_comesTo 22 = .ok (.iconst 0, 1) := dk_3 (dk_at dksX3_comesTo_0 22 rfl rfl)
theorem dX3_comesTo_23 : decode cX3_comesTo 23 = .ok (.istore_n 3, 1) := dk_62 (dk_at dksX3_comesTo_0 23 rfl rfl)
theorem dX3_comesTo_24 : decode cX3_comesTo 24 = .ok (.iload_n 3, 1) := dk_29 (dk_at dksX3_comesTo_1 0 rfl rfl)
theorem dX3_comesTo_25 : decode cX3_comesTo 25 = .ok (.bipush 25, 2) := dk_16 25 (dk_at dksX3_comesTo_1 1 rfl rfl)
theorem dX3_comesTo_27 : decode cX3_comesTo 27 = .ok (.if_icmp .ge 58, 3) := dk_162 0 58 (dk_at dksX3_comesTo_1 3 rfl rfl)
theorem dX3_comesTo_30 : decode cX3_comesTo 30 = .ok (.aload_n 0, 1) := dk_42 (dk_at dksX3_comesTo_1 6 rfl rfl)
theorem dX3_comesTo_31 : decode cX3_comesTo 31 = .ok (.getfield 23, 3) := dk_180 0 23 (dk_at dksX3_comesTo_1 7 rfl rfl)
theorem dX3_comesTo_34 : decode cX3_comesTo 34 = .ok (.iload_n 3, 1) := dk_29 (dk_at dksX3_comesTo_1 10 rfl rfl)
theorem dX3_comesTo_35 : decode cX3_comesTo 35 = .ok (.iconst 3, 1) := dk_6 (dk_at dksX3_comesTo_1 11 rfl rfl)
theorem dX3_comesTo_36 : decode cX3_comesTo 36 = .ok (.invokestatic 260, 3) := dk_184 1 4 (dk_at dksX3_comesTo_1 12 rfl rfl)
theorem dX3_comesTo_39 : decode cX3_comesTo 39 = .ok (.iaload, 1) := dk_46 (dk_at dksX3_comesTo_1 15 rfl rfl)
theorem dX3_comesTo_40 : decode cX3_comesTo 40 = .ok (.istore 4, 2) := dk_54 4 (dk_at dksX3_comesTo_1 16 rfl rfl)
theorem dX3_comesTo_42 : decode cX3_comesTo 42 = .ok (.aload_n 0, 1) := dk_42 (dk_at dksX3_comesTo_1 18 rfl rfl)
theorem dX3_comesTo_43 : decode cX3_comesTo 43 = .ok (.getfield 23, 3) := dk_180 0 23 (dk_at dksX3_comesTo_1 19 rfl rfl)
theorem dX3_comesTo_46 : decode cX3_comesTo 46 = .ok (.iload_n 2, 1) := dk_28 (dk_at dksX3_comesTo_1 22 rfl rfl)
theorem dX3_comesTo_47 : decode cX3_comesTo 47 = .ok (.bipush 10, 2) := dk_16 10 (dk_at dksX3_comesTo_2 0 rfl rfl)
theorem dX3_comesTo_49 : decode cX3_comesTo 49 = .ok (.invokestatic 213, 3) := dk_184 0 213 (dk_at dksX3_comesTo_2 2 rfl rfl)
theorem dX3_comesTo_52 : decode cX3_comesTo 52 = .ok (.dup2, 1) := dk_92 (dk_at dksX3_comesTo_2 5 rfl rfl)
theorem dX3_comesTo_53 : decode cX3_comesTo 53 = .ok (.iaload, 1) := dk_46 (dk_at dksX3_comesTo_2 6 rfl rfl)
theorem dX3_comesTo_54 : decode cX3_comesTo 54 = .ok (.iload_n 3, 1) := dk_29 (dk_at dksX3_comesTo_2 7 rfl rfl)
theorem dX3_comesTo_55 : decode cX3_comesTo 55 = .ok (.iload_n 1, 1) := dk_27 (dk_at dksX3_comesTo_2 8 rfl rfl)
theorem dX3_comesTo_56 : decode cX3_comesTo 56 = .ok (.if_icmp .ge 8, 3) := dk_162 0 8 (dk_at dksX3_comesTo_2 9 rfl rfl)
theorem dX3_comesTo_59 : decode cX3_comesTo 59 = .ok (.iload 4, 2) := dk_21 4 (dk_at dksX3_comesTo_2 12 rfl rfl)
theorem dX3_comesTo_61 : decode cX3_comesTo 61 = .ok (.goto 16, 3) := dk_167 0 16 (dk_at dksX3_comesTo_2 14 rfl rfl)
theorem dX3_comesTo_64 : decode cX3_comesTo 64 = .ok (.aload_n 0, 1) := dk_42 (dk_at dksX3_comesTo_2 17 rfl rfl)
theorem dX3_comesTo_65 : decode cX3_comesTo 65 = .ok (.getfield 23, 3) := dk_180 0 23 (dk_at dksX3_comesTo_2 18 rfl rfl)
theorem dX3_comesTo_68 : decode cX3_comesTo 68 = .ok (.iload_n 3, 1) := dk_29 (dk_at dksX3_comesTo_2 21 rfl rfl)
theorem dX3_comesTo_69 : decode cX3_comesTo 69 = .ok (.iconst 2, 1) := dk_5 (dk_at dksX3_comesTo_2 22 rfl rfl)
theorem dX3_comesTo_70 : decode cX3_comesTo 70 = .ok (.invokestatic 260, 3) := dk_184 1 4 (dk_at dksX3_comesTo_3 0 rfl rfl)
theorem dX3_comesTo_73 : decode cX3_comesTo 73 = .ok (.iaload, 1) := dk_46 (dk_at dksX3_comesTo_3 3 rfl rfl)
theorem dX3_comesTo_74 : decode cX3_comesTo 74 = .ok (.iload 4, 2) := dk_21 4 (dk_at dksX3_comesTo_3 4 rfl rfl)
theorem dX3_comesTo_76 : decode cX3_comesTo 76 = .ok (.isub, 1) := dk_100 (dk_at dksX3_comesTo_3 6 rfl rfl)
theorem dX3_comesTo_77 : decode cX3_comesTo 77 = .ok (.iadd, 1) := dk_96 (dk_at dksX3_comesTo_3 7 rfl rfl)
theorem dX3_comesTo_78 : decode cX3_comesTo 78 = .ok (.iastore, 1) := dk_79 (dk_at dksX3_comesTo_3 8 rfl rfl)
theorem dX3_comesTo_79 : decode cX3_comesTo 79 = .ok (.iinc 3 1, 3) := dk_132 3 1 (dk_at dksX3_comesTo_3 9 rfl rfl)
theorem dX3_comesTo_82 : decode cX3_comesTo 82 = .ok (.goto (-58), 3) := dk_167 255 198 (dk_at dksX3_comesTo_3 12 rfl rfl)
theorem dX3_comesTo_85 : decode cX3_comesTo 85 = .ok (.aload_n 0, 1) := dk_42 (dk_at dksX3_comesTo_3 15 rfl rfl)
theorem dX3_comesTo_86 : decode cX3_comesTo 86 = .ok (.getfield 23, 3) := dk_180 0 23 (dk_at dksX3_comesTo_3 16 rfl rfl)
theorem dX3_comesTo_89 : decode cX3_comesTo 89 = .ok (.iload_n 2, 1) := dk_28 (dk_at dksX3_comesTo_3 19 rfl rfl)
theorem dX3_comesTo_90 : decode cX3_comesTo 90 = .ok (.iconst 3, 1) := dk_6 (dk_at dksX3_comesTo_3 20 rfl rfl)
theorem dX3_comesTo_91 : decode cX3_comesTo 91 = .ok (.invokestatic 213, 3) := dk_184 0 213 (dk_at dksX3_comesTo_3 21 rfl rfl)
theorem dX3_comesTo_94 : decode cX3_comesTo 94 = .ok (.iaload, 1) := dk_46 (dk_at dksX3_comesTo_4 0 rfl rfl)
theorem dX3_comesTo_95 : decode cX3_comesTo 95 = .ok (.ifCond .ne 10, 3) := dk_154 0 10 (dk_at dksX3_comesTo_4 1 rfl rfl)
theorem dX3_comesTo_98 : decode cX3_comesTo 98 = .ok (.aload_n 0, 1) := dk_42 (dk_at dksX3_comesTo_4 4 rfl rfl)
theorem dX3_comesTo_99 : decode cX3_comesTo 99 = .ok (.iconst 2, 1) := dk_5 (dk_at dksX3_comesTo_4 5 rfl rfl)
theorem dX3_comesTo_100 : decode cX3_comesTo 100 = .ok (.iload_n 1, 1) := dk_27 (dk_at dksX3_comesTo_4 6 rfl rfl)
theorem dX3_comesTo_101 : decode cX3_comesTo 101 = .ok (.invokevirtual 263, 3) := dk_182 1 7 (dk_at dksX3_comesTo_4 7 rfl rfl)
theorem dX3_comesTo_104 : decode cX3_comesTo 104 = .ok (.ireturn, 1) := dk_172 (dk_at dksX3_comesTo_4 10 rfl rfl)
theorem dX3_comesTo_105 : decode cX3_comesTo 105 = .ok (.aload_n 0, 1) := dk_42 (dk_at dksX3_comesTo_4 11 rfl rfl)
theorem dX3_comesTo_106 : decode cX3_comesTo 106 = .ok (.getfield 23, 3) := dk_180 0 23 (dk_at dksX3_comesTo_4 12 rfl rfl)
theorem dX3_comesTo_109 : decode cX3_comesTo 109 = .ok (.bipush 7, 2) := dk_16 7 (dk_at dksX3_comesTo_4 15 rfl rfl)
theorem dX3_comesTo_111 : decode cX3_comesTo 111 = .ok (.iaload, 1) := dk_46 (dk_at dksX3_comesTo_4 17 rfl rfl)
theorem dX3_comesTo_112 : decode cX3_comesTo 112 = .ok (.ifCond .eq 14, 3) := dk_153 0 14 (dk_at dksX3_comesTo_4 18 rfl rfl)
theorem dX3_comesTo_115 : decode cX3_comesTo 115 = .ok (.aload_n 0, 1) := dk_42 (dk_at dksX3_comesTo_4 21 rfl rfl)
theorem dX3_comesTo_116 : decode cX3_comesTo 116 = .ok (.getfield 23, 3) := dk_180 0 23 (dk_at dksX3_comesTo_5 0 rfl rfl)
theorem dX3_comesTo_119 : decode cX3_comesTo 119 = .ok (.bipush 8, 2) := dk_16 8 (dk_at dksX3_comesTo_5 3 rfl rfl)
theorem dX3_comesTo_121 : decode cX3_comesTo 121 = .ok (.iaload, 1) := dk_46 (dk_at dksX3_comesTo_5 5 rfl rfl)
theorem dX3_comesTo_122 : decode cX3_comesTo 122 = .ok (.iload_n 1, 1) := dk_27 (dk_at dksX3_comesTo_5 6 rfl rfl)
theorem dX3_comesTo_123 : decode cX3_comesTo 123 = .ok (.if_icmp .eq 24, 3) := dk_159 0 24 (dk_at dksX3_comesTo_5 7 rfl rfl)
theorem dX3_comesTo_126 : decode cX3_comesTo 126 = .ok (.aload_n 0, 1) := dk_42 (dk_at dksX3_comesTo_5 10 rfl rfl)
theorem dX3_comesTo_127 : decode cX3_comesTo 127 = .ok (.getfield 23, 3) := dk_180 0 23 (dk_at dksX3_comesTo_5 11 rfl rfl)
theorem dX3_comesTo_130 : decode cX3_comesTo 130 = .ok (.bipush 7, 2) := dk_16 7 (dk_at dksX3_comesTo_5 14 rfl rfl)
theorem dX3_comesTo_132 : decode cX3_comesTo 132 = .ok (.iconst 0, 1) := dk_3 (dk_at dksX3_comesTo_5 16 rfl rfl)
theorem dX3_comesTo_133 : decode cX3_comesTo 133 = .ok (.iastore, 1) := dk_79 (dk_at dksX3_comesTo_5 17 rfl rfl)
theorem dX3_comesTo_134 : decode cX3_comesTo 134 = .ok (.aload_n 0, 1) := dk_42 (dk_at dksX3_comesTo_5 18 rfl rfl)
theorem dX3_comesTo_135 : decode cX3_comesTo 135 = .ok (.getfield 23, 3) := dk_180 0 23 (dk_at dksX3_comesTo_5 19 rfl rfl)
theorem dX3_comesTo_138 : decode cX3_comesTo 138 = .ok (.bipush 9, 2) := dk_16 9 (dk_at dksX3_comesTo_5 22 rfl rfl)
theorem dX3_comesTo_140 : decode cX3_comesTo 140 = .ok (.aload_n 0, 1) := dk_42 (dk_at dksX3_comesTo_6 0 rfl rfl)
theorem dX3_comesTo_141 : decode cX3_comesTo 141 = .ok (.getfield 23, 3) := dk_180 0 23 (dk_at dksX3_comesTo_6 1 rfl rfl)
theorem dX3_comesTo_144 : decode cX3_comesTo 144 = .ok (.iconst 5, 1) := dk_8 (dk_at dksX3_comesTo_6 4 rfl rfl)
theorem dX3_comesTo_145 : decode cX3_comesTo 145 = .ok (.iaload, 1) := dk_46 (dk_at dksX3_comesTo_6 5 rfl rfl)
theorem dX3_comesTo_146 : decode cX3_comesTo 146 = .ok (.iastore, 1) := dk_79 (dk_at dksX3_comesTo_6 6 rfl rfl)
theorem dX3_comesTo_147 : decode cX3_comesTo 147 = .ok (.aload_n 0, 1) := dk_42 (dk_at dksX3_comesTo_6 7 rfl rfl)
theorem dX3_comesTo_148 : decode cX3_comesTo 148 = .ok (.getfield 23, 3) := dk_180 0 23 (dk_at dksX3_comesTo_6 8 rfl rfl)
theorem dX3_comesTo_151 : decode cX3_comesTo 151 = .ok (.bipush 8, 2) := dk_16 8 (dk_at dksX3_comesTo_6 11 rfl rfl)
theorem dX3_comesTo_153 : decode cX3_comesTo 153 = .ok (.iload_n 1, 1) := dk_27 (dk_at dksX3_comesTo_6 13 rfl rfl)
theorem dX3_comesTo_154 : decode cX3_comesTo 154 = .ok (.iastore, 1) := dk_79 (dk_at dksX3_comesTo_6 14 rfl rfl)
theorem dX3_comesTo_155 : decode cX3_comesTo 155 = .ok (.aload_n 0, 1) := dk_42 (dk_at dksX3_comesTo_6 15 rfl rfl)
theorem dX3_comesTo_156 : decode cX3_comesTo 156 = .ok (.getfield 23, 3) := dk_180 0 23 (dk_at dksX3_comesTo_6 16 rfl rfl)
theorem dX3_comesTo_159 : decode cX3_comesTo 159 = .ok (.bipush 7, 2) := dk_16 7 (dk_at dksX3_comesTo_6 19 rfl rfl)
theorem dX3_comesTo_161 : decode cX3_comesTo 161 = .ok (.dup2, 1) := dk_92 (dk_at dksX3_comesTo_6 21 rfl rfl)
theorem dX3_comesTo_162 : decode cX3_comesTo 162 = .ok (.iaload, 1) := dk_46 (dk_at dksX3_comesTo_6 22 rfl rfl)
theorem dX3_comesTo_163 : decode cX3_comesTo 163 = .ok (.iconst 1, 1) := dk_4 (dk_at dksX3_comesTo_6 23 rfl rfl)
theorem dX3_comesTo_164 : decode cX3_comesTo 164 = .ok (.iadd, 1) := dk_96 (dk_at dksX3_comesTo_7 0 rfl rfl)
theorem dX3_comesTo_165 : decode cX3_comesTo 165 = .ok (.iastore, 1) := dk_79 (dk_at dksX3_comesTo_7 1 rfl rfl)
theorem dX3_comesTo_166 : decode cX3_comesTo 166 = .ok (.aload_n 0, 1) := dk_42 (dk_at dksX3_comesTo_7 2 rfl rfl)
theorem dX3_comesTo_167 : decode cX3_comesTo 167 = .ok (.getfield 23, 3) := dk_180 0 23 (dk_at dksX3_comesTo_7 3 rfl rfl)
theorem dX3_comesTo_170 : decode cX3_comesTo 170 = .ok (.bipush 7, 2) := dk_16 7 (dk_at dksX3_comesTo_7 6 rfl rfl)
theorem dX3_comesTo_172 : decode cX3_comesTo 172 = .ok (.iaload, 1) := dk_46 (dk_at dksX3_comesTo_7 8 rfl rfl)
theorem dX3_comesTo_173 : decode cX3_comesTo 173 = .ok (.aload_n 0, 1) := dk_42 (dk_at dksX3_comesTo_7 9 rfl rfl)
theorem dX3_comesTo_174 : decode cX3_comesTo 174 = .ok (.getfield 17, 3) := dk_180 0 17 (dk_at dksX3_comesTo_7 10 rfl rfl)
theorem dX3_comesTo_177 : decode cX3_comesTo 177 = .ok (.iconst 4, 1) := dk_7 (dk_at dksX3_comesTo_7 13 rfl rfl)
theorem dX3_comesTo_178 : decode cX3_comesTo 178 = .ok (.iaload, 1) := dk_46 (dk_at dksX3_comesTo_7 14 rfl rfl)
theorem dX3_comesTo_179 : decode cX3_comesTo 179 = .ok (.if_icmp .ne 28, 3) := dk_160 0 28 (dk_at dksX3_comesTo_7 15 rfl rfl)
theorem dX3_comesTo_182 : decode cX3_comesTo 182 = .ok (.aload_n 0, 1) := dk_42 (dk_at dksX3_comesTo_7 18 rfl rfl)
theorem dX3_comesTo_183 : decode cX3_comesTo 183 = .ok (.getfield 23, 3) := dk_180 0 23 (dk_at dksX3_comesTo_7 19 rfl rfl)
theorem dX3_comesTo_186 : decode cX3_comesTo 186 = .ok (.iload_n 2, 1) := dk_28 (dk_at dksX3_comesTo_7 22 rfl rfl)
theorem dX3_comesTo_187 : decode cX3_comesTo 187 = .ok (.bipush 9, 2) := dk_16 9 (dk_at dksX3_comesTo_8 0 rfl rfl)
theorem dX3_comesTo_189 : decode cX3_comesTo 189 = .ok (.invokestatic 213, 3) := dk_184 0 213 (dk_at dksX3_comesTo_8 2 rfl rfl)
theorem dX3_comesTo_192 : decode cX3_comesTo 192 = .ok (.aload_n 0, 1) := dk_42 (dk_at dksX3_comesTo_8 5 rfl rfl)
theorem dX3_comesTo_193 : decode cX3_comesTo 193 = .ok (.getfield 23, 3) := dk_180 0 23 (dk_at dksX3_comesTo_8 6 rfl rfl)
theorem dX3_comesTo_196 : decode cX3_comesTo 196 = .ok (.bipush 9, 2) := dk_16 9 (dk_at dksX3_comesTo_8 9 rfl rfl)
theorem dX3_comesTo_198 : decode cX3_comesTo 198 = .ok (.iaload, 1) := dk_46 (dk_at dksX3_comesTo_8 11 rfl rfl)
theorem dX3_comesTo_199 : decode cX3_comesTo 199 = .ok (.iastore, 1) := dk_79 (dk_at dksX3_comesTo_8 12 rfl rfl)
theorem dX3_comesTo_200 : decode cX3_comesTo 200 = .ok (.aload_n 0, 1) := dk_42 (dk_at dksX3_comesTo_8 13 rfl rfl)
theorem dX3_comesTo_201 : decode cX3_comesTo 201 = .ok (.iconst 2, 1) := dk_5 (dk_at dksX3_comesTo_8 14 rfl rfl)
theorem dX3_comesTo_202 : decode cX3_comesTo 202 = .ok (.iload_n 1, 1) := dk_27 (dk_at dksX3_comesTo_8 15 rfl rfl)
theorem dX3_comesTo_203 : decode cX3_comesTo 203 = .ok (.invokevirtual 263, 3) := dk_182 1 7 (dk_at dksX3_comesTo_8 16 rfl rfl)
theorem dX3_comesTo_206 : decode cX3_comesTo 206 = .ok (.ireturn, 1) := dk_172 (dk_at dksX3_comesTo_8 19 rfl rfl)
theorem dX3_comesTo_207 : decode cX3_comesTo 207 = .ok (.aload_n 0, 1) := dk_42 (dk_at dksX3_comesTo_8 20 rfl rfl)
theorem dX3_comesTo_208 : decode cX3_comesTo 208 = .ok (.getfield 23, 3) := dk_180 0 23 (dk_at dksX3_comesTo_8 21 rfl rfl)
theorem dX3_comesTo_211 : decode cX3_comesTo 211 = .ok (.iconst 5, 1) := dk_8 (dk_at dksX3_comesTo_9 0 rfl rfl)
theorem dX3_comesTo_212 : decode cX3_comesTo 212 = .ok (.iaload, 1) := dk_46 (dk_at dksX3_comesTo_9 1 rfl rfl)
theorem dX3_comesTo_213 : decode cX3_comesTo 213 = .ok (.aload_n 0, 1) := dk_42 (dk_at dksX3_comesTo_9 2 rfl rfl)
theorem dX3_comesTo_214 : decode cX3_comesTo 214 = .ok (.getfield 17, 3) := dk_180 0 17 (dk_at dksX3_comesTo_9 3 rfl rfl)
theorem dX3_comesTo_217 : decode cX3_comesTo 217 = .ok (.iconst 3, 1) := dk_6 (dk_at dksX3_comesTo_9 6 rfl rfl)
theorem dX3_comesTo_218 : decode cX3_comesTo 218 = .ok (.iaload, 1) := dk_46 (dk_at dksX3_comesTo_9 7 rfl rfl)
theorem dX3_comesTo_219 : decode cX3_comesTo 219 = .ok (.iadd, 1) := dk_96 (dk_at dksX3_comesTo_9 8 rfl rfl)
theorem dX3_comesTo_220 : decode cX3_comesTo 220 = .ok (.istore_n 3, 1) := dk_62 (dk_at dksX3_comesTo_9 9 rfl rfl)
theorem dX3_comesTo_221 : decode cX3_comesTo 221 = .ok (.iload_n 3, 1) := dk_29 (dk_at dksX3_comesTo_9 10 rfl rfl)
theorem dX3_comesTo_222 : decode cX3_comesTo 222 = .ok (.aload_n 0, 1) := dk_42 (dk_at dksX3_comesTo_9 11 rfl rfl)
theorem dX3_comesTo_223 : decode cX3_comesTo 223 = .ok (.aload_n 0, 1) := dk_42 (dk_at dksX3_comesTo_9 12 rfl rfl)
theorem dX3_comesTo_224 : decode cX3_comesTo 224 = .ok (.getfield 23, 3) := dk_180 0 23 (dk_at dksX3_comesTo_9 13 rfl rfl)
theorem dX3_comesTo_227 : decode cX3_comesTo 227 = .ok (.iload_n 2, 1) := dk_28 (dk_at dksX3_comesTo_9 16 rfl rfl)
theorem dX3_comesTo_228 : decode cX3_comesTo 228 = .ok (.iconst 1, 1) := dk_4 (dk_at dksX3_comesTo_9 17 rfl rfl)
theorem dX3_comesTo_229 : decode cX3_comesTo 229 = .ok (.invokestatic 213, 3) := dk_184 0 213 (dk_at dksX3_comesTo_9 18 rfl rfl)
theorem dX3_comesTo_232 : decode cX3_comesTo 232 = .ok (.iaload, 1) := dk_46 (dk_at dksX3_comesTo_9 21 rfl rfl)
theorem dX3_comesTo_233 : decode cX3_comesTo 233 = .ok (.aload_n 0, 1) := dk_42 (dk_at dksX3_comesTo_9 22 rfl rfl)
theorem dX3_comesTo_234 : decode cX3_comesTo 234 = .ok (.getfield 23, 3) := dk_180 0 23 (dk_at dksX3_comesTo_10 0 rfl rfl)
theorem dX3_comesTo_237 : decode cX3_comesTo 237 = .ok (.iload_n 2, 1) := dk_28 (dk_at dksX3_comesTo_10 3 rfl rfl)
theorem dX3_comesTo_238 : decode cX3_comesTo 238 = .ok (.iconst 2, 1) := dk_5 (dk_at dksX3_comesTo_10 4 rfl rfl)
theorem dX3_comesTo_239 : decode cX3_comesTo 239 = .ok (.invokestatic 213, 3) := dk_184 0 213 (dk_at dksX3_comesTo_10 5 rfl rfl)
theorem dX3_comesTo_242 : decode cX3_comesTo 242 = .ok (.iaload, 1) := dk_46 (dk_at dksX3_comesTo_10 8 rfl rfl)
theorem dX3_comesTo_243 : decode cX3_comesTo 243 = .ok (.invokevirtual 251, 3) := dk_182 0 251 (dk_at dksX3_comesTo_10 9 rfl rfl)
theorem dX3_comesTo_246 : decode cX3_comesTo 246 = .ok (.if_icmp .le 11, 3) := dk_164 0 11 (dk_at dksX3_comesTo_10 12 rfl rfl)
theorem dX3_comesTo_249 : decode cX3_comesTo 249 = .ok (.aload_n 0, 1) := dk_42 (dk_at dksX3_comesTo_10 15 rfl rfl)
theorem dX3_comesTo_250 : decode cX3_comesTo 250 = .ok (.iconst 3, 1) := dk_6 (dk_at dksX3_comesTo_10 16 rfl rfl)
theorem dX3_comesTo_251 : decode cX3_comesTo 251 = .ok (.bipush (-2), 2) := dk_16 254 (dk_at dksX3_comesTo_10 17 rfl rfl)
theorem dX3_comesTo_253 : decode cX3_comesTo 253 = .ok (.invokevirtual 263, 3) := dk_182 1 7 (dk_at dksX3_comesTo_10 19 rfl rfl)
theorem dX3_comesTo_256 : decode cX3_comesTo 256 = .ok (.ireturn, 1) := dk_172 (dk_at dksX3_comesTo_10 22 rfl rfl)
theorem dX3_comesTo_257 : decode cX3_comesTo 257 = .ok (.aload_n 0, 1) := dk_42 (dk_at dksX3_comesTo_10 23 rfl rfl)
theorem dX3_comesTo_258 : decode cX3_comesTo 258 = .ok (.iload_n 1, 1) := dk_27 (dk_at dksX3_comesTo_11 0 rfl rfl)
theorem dX3_comesTo_259 : decode cX3_comesTo 259 = .ok (.iload_n 3, 1) := dk_29 (dk_at dksX3_comesTo_11 1 rfl rfl)
theorem dX3_comesTo_260 : decode cX3_comesTo 260 = .ok (.invokevirtual 244, 3) := dk_182 0 244 (dk_at dksX3_comesTo_11 2 rfl rfl)
theorem dX3_comesTo_263 : decode cX3_comesTo 263 = .ok (.iconst 1, 1) := dk_4 (dk_at dksX3_comesTo_11 5 rfl rfl)
theorem dX3_comesTo_264 : decode cX3_comesTo 264 = .ok (.ireturn, 1) := dk_172 (dk_at dksX3_comesTo_11 6 rfl rfl)
abbrev cX3_ends : ByteArray := prog_14_method_56_code
def yX3_ends : MethodName := ⟨RX3, "ends", "(II)I"⟩
def dkwX3_ends_1 : List UInt8 := [184, 0, 213, 28, 79, 42, 29, 182, 1, 1, 172]
abbrev dktX3_ends_1 : List UInt8 := dkwX3_ends_1 ++ []
def dkwX3_ends_0 : List UInt8 := [42, 180, 0, 23, 4, 46, 62, 42, 180, 0, 23, 29, 7, 184, 0, 213, 27, 79, 42, 180, 0, 23, 29, 8]
abbrev dktX3_ends_0 : List UInt8 := dkwX3_ends_0 ++ dktX3_ends_1
theorem dksX3_ends_0 : cX3_ends.data.toList.drop 0 = dktX3_ends_0 := by decide +kernel
theorem dksX3_ends_1 : cX3_ends.data.toList.drop 24 = dktX3_ends_1 := dk_seg dksX3_ends_0 24 rfl rfl
theorem dX3_ends_0 : decode cX3_ends 0 = .ok (.aload_n 0, 1) := dk_42 (dk_at dksX3_ends_0 0 rfl rfl)
theorem dX3_ends_1 : decode cX3_ends 1 = .ok (.getfield 23, 3) := dk_180 0 23 (dk_at dksX3_ends_0 1 rfl rfl)
theorem dX3_ends_4 : decode cX3_ends 4 = .ok (.iconst 1, 1) := dk_4 (dk_at dksX3_ends_0 4 rfl rfl)
theorem dX3_ends_5 : decode cX3_ends 5 = .ok (.iaload, 1) := dk_46 (dk_at dksX3_ends_0 5 rfl rfl)
theorem dX3_ends_6 : decode cX3_ends 6 = .ok (.istore_n 3, 1) := dk_62 (dk_at dksX3_ends_0 6 rfl rfl)
theorem dX3_ends_7 : decode cX3_ends 7 = .ok (.aload_n 0, 1) := dk_42 (dk_at dksX3_ends_0 7 rfl rfl)
theorem dX3_ends_8 : decode cX3_ends 8 = .ok (.getfield 23, 3) := dk_180 0 23 (dk_at dksX3_ends_0 8 rfl rfl)
theorem dX3_ends_11 : decode cX3_ends 11 = .ok (.iload_n 3, 1) := dk_29 (dk_at dksX3_ends_0 11 rfl rfl)
theorem dX3_ends_12 : decode cX3_ends 12 = .ok (.iconst 4, 1) := dk_7 (dk_at dksX3_ends_0 12 rfl rfl)
theorem dX3_ends_13 : decode cX3_ends 13 = .ok (.invokestatic 213, 3) := dk_184 0 213 (dk_at dksX3_ends_0 13 rfl rfl)
theorem dX3_ends_16 : decode cX3_ends 16 = .ok (.iload_n 1, 1) := dk_27 (dk_at dksX3_ends_0 16 rfl rfl)
theorem dX3_ends_17 : decode cX3_ends 17 = .ok (.iastore, 1) := dk_79 (dk_at dksX3_ends_0 17 rfl rfl)
theorem dX3_ends_18 : decode cX3_ends 18 = .ok (.aload_n 0, 1) := dk_42 (dk_at dksX3_ends_0 18 rfl rfl)
theorem dX3_ends_19 : decode cX3_ends 19 = .ok (.getfield 23, 3) := dk_180 0 23 (dk_at dksX3_ends_0 19 rfl rfl)
theorem dX3_ends_22 : decode cX3_ends 22 = .ok (.iload_n 3, 1) := dk_29 (dk_at dksX3_ends_0 22 rfl rfl)
theorem dX3_ends_23 : decode cX3_ends 23 = .ok (.iconst 5, 1) := dk_8 (dk_at dksX3_ends_0 23 rfl rfl)
theorem dX3_ends_24 : decode cX3_ends 24 = .ok (.invokestatic 213, 3) := dk_184 0 213 (dk_at dksX3_ends_1 0 rfl rfl)
theorem dX3_ends_27 : decode cX3_ends 27 = .ok (.iload_n 2, 1) := dk_28 (dk_at dksX3_ends_1 3 rfl rfl)
theorem dX3_ends_28 : decode cX3_ends 28 = .ok (.iastore, 1) := dk_79 (dk_at dksX3_ends_1 4 rfl rfl)
theorem dX3_ends_29 : decode cX3_ends 29 = .ok (.aload_n 0, 1) := dk_42 (dk_at dksX3_ends_1 5 rfl rfl)
theorem dX3_ends_30 : decode cX3_ends 30 = .ok (.iload_n 3, 1) := dk_29 (dk_at dksX3_ends_1 6 rfl rfl)
theorem dX3_ends_31 : decode cX3_ends 31 = .ok (.invokevirtual 257, 3) := dk_182 1 1 (dk_at dksX3_ends_1 7 rfl rfl)
theorem dX3_ends_34 : decode cX3_ends 34 = .ok (.ireturn, 1) := dk_172 (dk_at dksX3_ends_1 10 rfl rfl)
abbrev cX3_nextTask : ByteArray := prog_14_method_55_code
def yX3_nextTask : MethodName := ⟨RX3, "nextTask", "(I)I"⟩
def dkwX3_nextTask_3 : List UInt8 := [167, 255, 222, 28, 42, 180, 0, 23, 3, 46, 162, 0, 7, 5, 167, 0, 4, 6, 172]
abbrev dktX3_nextTask_3 : List UInt8 := dkwX3_nextTask_3 ++ []
def dkwX3_nextTask_2 : List UInt8 := [180, 0, 23, 28, 7, 184, 0, 213, 46, 154, 0, 11, 42, 28, 182, 0, 223, 154, 0, 9, 132, 2, 1]
abbrev dktX3_nextTask_2 : List UInt8 := dkwX3_nextTask_2 ++ dktX3_nextTask_3
def dkwX3_nextTask_1 : List UInt8 := [3, 46, 160, 0, 7, 42, 182, 0, 254, 27, 4, 96, 61, 28, 42, 180, 0, 23, 3, 46, 162, 0, 30, 42]
abbrev dktX3_nextTask_1 : List UInt8 := dkwX3_nextTask_1 ++ dktX3_nextTask_2
def dkwX3_nextTask_0 : List UInt8 := [42, 180, 0, 23, 4, 16, 254, 79, 42, 180, 0, 23, 5, 46, 154, 0, 19, 27, 4, 96, 42, 180, 0, 23]
abbrev dktX3_nextTask_0 : List UInt8 := dkwX3_nextTask_0 ++ dktX3_nextTask_1
theorem dksX3_nextTask_0 : cX3_nextTask.data.toList.drop 0 = dktX3_nextTask_0 := by decide +kernel
theorem dksX3_nextTask_1 : cX3_nextTask.data.toList.drop 24 = dktX3_nextTask_1 := dk_seg dksX3_nextTask_0 24 rfl rfl
theorem dksX3_nextTask_2 : cX3_nextTask.data.toList.drop 48 = dktX3_nextTask_2 := dk_seg dksX3_nextTask_1 24 rfl rfl
theorem dksX3_nextTask_3 : cX3_nextTask.data.toList.drop 71 = dktX3_nextTask_3 := dk_seg dksX3_nextTask_2 23 rfl rfl
theorem dX3_nextTask_0 : decode cX3_nextTask 0 = .ok (.aload_n 0, 1) := dk_42 (dk_at dksX3_nextTask_0 0 rfl rfl)
theorem dX3_nextTask_1 : decode cX3_nextTask 1 = .ok (.getfield 23, 3) := dk_180 0 23 (dk_at dksX3_nextTask_0 1 rfl rfl)
theorem dX3_nextTask_4 : decode cX3_nextTask 4 = .ok (.iconst 1, 1) := dk_4 (dk_at dksX3_nextTask_0 4 rfl rfl)
theorem dX3_nextTask_5 : decode cX3_nextTask 5 = .ok (.bipush (-2), 2) := dk_16 254 (dk_at dksX3_nextTask_0 5 rfl rfl)
theorem dX3_nextTask_7 : decode cX3_nextTask 7 = .ok (.iastore, 1) := dk_79 (dk_at dksX3_nextTask_0 7 rfl rfl)
theorem dX3_nextTask_8 : decode cX3_nextTask 8 = .ok (.aload_n 0, 1) := dk_42 (dk_at dksX3_nextTask_0 8 rfl rfl)
theorem dX3_nextTask_9 : decode cX3_nextTask 9 = .ok (.getfield 23, 3) := dk_180 0 23 (dk_at dksX3_nextTask_0 9 rfl rfl)
theorem dX3_nextTask_12 : decode cX3_nextTask 12 = .ok (.iconst 2, 1) := dk_5 (dk_at dksX3_nextTask_0 12 rfl rfl)
theorem dX3_nextTask_13 : decode cX3_nextTask 13 = .ok (.iaload, 1) := dk_46 (dk_at dksX3_nextTask_0 13 rfl rfl)
theorem dX3_nextTask_14 : decode cX3_nextTask 14 = .ok (.ifCond .ne 19, 3) := dk_154 0 19 (dk_at dksX3_nextTask_0 14 rfl rfl)
theorem dX3_nextTask_17 : decode cX3_nextTask 17 = .ok (.iload_n 1, 1) := dk_27 (dk_at dksX3_nextTask_0 17 rfl rfl)
theorem dX3_nextTask_18 : decode cX3_nextTask 18 = .ok (.iconst 1, 1) := dk_4 (dk_at dksX3_nextTask_0 18 rfl rfl)
theorem dX3_nextTask_19 : decode cX3_nextTask 19 = .ok (.iadd, 1) := dk_96 (dk_at dksX3_nextTask_0 19 rfl rfl)
theorem dX3_nextTask_20 : decode cX3_nextTask 20 = .ok (.aload_n 0, 1) := dk_42 (dk_at dksX3_nextTask_0 20 rfl rfl)
theorem dX3_nextTask_21 : decode cX3_nextTask 21 = .ok (.getfield 23, 3) := dk_180 0 23 (dk_at dksX3_nextTask_0 21 rfl rfl)
theorem dX3_nextTask_24 : decode cX3_nextTask 24 = .ok (.iconst 0, 1) := dk_3 (dk_at dksX3_nextTask_1 0 rfl rfl)
theorem dX3_nextTask_25 : decode cX3_nextTask 25 = .ok (.iaload, 1) := dk_46 (dk_at dksX3_nextTask_1 1 rfl rfl)
theorem dX3_nextTask_26 : decode cX3_nextTask 26 = .ok (.if_icmp .ne 7, 3) := dk_160 0 7 (dk_at dksX3_nextTask_1 2 rfl rfl)
theorem dX3_nextTask_29 : decode cX3_nextTask 29 = .ok (.aload_n 0, 1) := dk_42 (dk_at dksX3_nextTask_1 5 rfl rfl)
theorem dX3_nextTask_30 : decode cX3_nextTask 30 = .ok (.invokevirtual 254, 3) := dk_182 0 254 (dk_at dksX3_nextTask_1 6 rfl rfl)
theorem dX3_nextTask_33 : decode cX3_nextTask 33 = .ok (.iload_n 1, 1) := dk_27 (dk_at dksX3_nextTask_1 9 rfl rfl)
theorem dX3_nextTask_34 : decode cX3_nextTask 34 = .ok (.iconst 1, 1) := dk_4 (dk_at dksX3_nextTask_1 10 rfl rfl)
theorem dX3_nextTask_35 : decode cX3_nextTask 35 = .ok (.iadd, 1) := dk_96 (dk_at dksX3_nextTask_1 11 rfl rfl)
theorem dX3_nextTask_36 : decode cX3_nextTask 36 = .ok (.istore_n 2, 1) := dk_61 (dk_at dksX3_nextTask_1 12 rfl rfl)
theorem dX3_nextTask_37 : decode cX3_nextTask 37 = .ok (.iload_n 2, 1) := dk_28 (dk_at dksX3_nextTask_1 13 rfl rfl)
theorem dX3_nextTask_38 : decode cX3_nextTask 38 = .ok (.aload_n 0, 1) := dk_42 (dk_at dksX3_nextTask_1 14 rfl rfl)
theorem dX3_nextTask_39 : decode cX3_nextTask 39 = .ok (.getfield 23, 3) := dk_180 0 23 (dk_at dksX3_nextTask_1 15 rfl rfl)
theorem dX3_nextTask_42 : decode cX3_nextTask 42 = .ok (.iconst 0, 1) := dk_3 (dk_at dksX3_nextTask_1 18 rfl rfl)
theorem dX3_nextTask_43 : decode cX3_nextTask 43 = .ok (.iaload, 1) := dk_46 (dk_at dksX3_nextTask_1 19 rfl rfl)
theorem dX3_nextTask_44 : decode cX3_nextTask 44 = .ok (.if_icmp .ge 30, 3) := dk_162 0 30 (dk_at dksX3_nextTask_1 20 rfl rfl)
theorem dX3_nextTask_47 : decode cX3_nextTask 47 = .ok (.aload_n 0, 1) := dk_42 (dk_at dksX3_nextTask_1 23 rfl rfl)
theorem dX3_nextTask_48 : decode cX3_nextTask 48 = .ok (.getfield 23, 3) := dk_180 0 23 (dk_at dksX3_nextTask_2 0 rfl rfl)
theorem dX3_nextTask_51 : decode cX3_nextTask 51 = .ok (.iload_n 2, 1) := dk_28 (dk_at dksX3_nextTask_2 3 rfl rfl)
theorem dX3_nextTask_52 : decode cX3_nextTask 52 = .ok (.iconst 4, 1) := dk_7 (dk_at dksX3_nextTask_2 4 rfl rfl)
theorem dX3_nextTask_53 : decode cX3_nextTask 53 = .ok (.invokestatic 213, 3) := dk_184 0 213 (dk_at dksX3_nextTask_2 5 rfl rfl)
theorem dX3_nextTask_56 : decode cX3_nextTask 56 = .ok (.iaload, 1) := dk_46 (dk_at dksX3_nextTask_2 8 rfl rfl)
theorem dX3_nextTask_57 : decode cX3_nextTask 57 = .ok (.ifCond .ne 11, 3) := dk_154 0 11 (dk_at dksX3_nextTask_2 9 rfl rfl)
theorem dX3_nextTask_60 : decode cX3_nextTask 60 = .ok (.aload_n 0, 1) := dk_42 (dk_at dksX3_nextTask_2 12 rfl rfl)
theorem dX3_nextTask_61 : decode cX3_nextTask 61 = .ok (.iload_n 2, 1) := dk_28 (dk_at dksX3_nextTask_2 13 rfl rfl)
theorem dX3_nextTask_62 : decode cX3_nextTask 62 = .ok (.invokevirtual 223, 3) := dk_182 0 223 (dk_at dksX3_nextTask_2 14 rfl rfl)
theorem dX3_nextTask_65 : decode cX3_nextTask 65 = .ok (.ifCond .ne 9, 3) := dk_154 0 9 (dk_at dksX3_nextTask_2 17 rfl rfl)
theorem dX3_nextTask_68 : decode cX3_nextTask 68 = .ok (.iinc 2 1, 3) := dk_132 2 1 (dk_at dksX3_nextTask_2 20 rfl rfl)
theorem dX3_nextTask_71 : decode cX3_nextTask 71 = .ok (.goto (-34), 3) := dk_167 255 222 (dk_at dksX3_nextTask_3 0 rfl rfl)
theorem dX3_nextTask_74 : decode cX3_nextTask 74 = .ok (.iload_n 2, 1) := dk_28 (dk_at dksX3_nextTask_3 3 rfl rfl)
theorem dX3_nextTask_75 : decode cX3_nextTask 75 = .ok (.aload_n 0, 1) := dk_42 (dk_at dksX3_nextTask_3 4 rfl rfl)
theorem dX3_nextTask_76 : decode cX3_nextTask 76 = .ok (.getfield 23, 3) := dk_180 0 23 (dk_at dksX3_nextTask_3 5 rfl rfl)
theorem dX3_nextTask_79 : decode cX3_nextTask 79 = .ok (.iconst 0, 1) := dk_3 (dk_at dksX3_nextTask_3 8 rfl rfl)
theorem dX3_nextTask_80 : decode cX3_nextTask 80 = .ok (.iaload, 1) := dk_46 (dk_at dksX3_nextTask_3 9 rfl rfl)
theorem dX3_nextTask_81 : decode cX3_nextTask 81 = .ok (.if_icmp .ge 7, 3) := dk_162 0 7 (dk_at dksX3_nextTask_3 10 rfl rfl)
theorem dX3_nextTask_84 : decode cX3_nextTask 84 = .ok (.iconst 2, 1) := dk_5 (dk_at dksX3_nextTask_3 13 rfl rfl)
theorem dX3_nextTask_85 : decode cX3_nextTask 85 = .ok (.goto 4, 3) := dk_167 0 4 (dk_at dksX3_nextTask_3 14 rfl rfl)
theorem dX3_nextTask_88 : decode cX3_nextTask 88 = .ok (.iconst 3, 1) := dk_6 (dk_at dksX3_nextTask_3 17 rfl rfl)
theorem dX3_nextTask_89 : decode cX3_nextTask 89 = .ok (.ireturn, 1) := dk_172 (dk_at dksX3_nextTask_3 18 rfl rfl)
abbrev cX3_addsMasked : ByteArray := prog_14_method_50_code
def yX3_addsMasked : MethodName := ⟨RX3, "addsMasked", "()V"⟩
def dkwX3_addsMasked_2 : List UInt8 := [4, 182, 0, 219, 132, 3, 1, 167, 255, 230, 132, 2, 1, 167, 255, 212, 132, 1, 1, 167, 255, 199, 177]
abbrev dktX3_addsMasked_2 : List UInt8 := dkwX3_addsMasked_2 ++ []
def dkwX3_addsMasked_1 : List UInt8 := [162, 0, 40, 3, 62, 29, 5, 162, 0, 27, 42, 27, 29, 28, 182, 0, 241, 153, 0, 11, 42, 27, 29, 28]
abbrev dktX3_addsMasked_1 : List UInt8 := dkwX3_addsMasked_1 ++ dktX3_addsMasked_2
def dkwX3_addsMasked_0 : List UInt8 := [42, 180, 0, 23, 5, 4, 79, 3, 60, 27, 5, 162, 0, 58, 3, 61, 28, 42, 180, 0, 17, 3, 46]
abbrev dktX3_addsMasked_0 : List UInt8 := dkwX3_addsMasked_0 ++ dktX3_addsMasked_1
theorem dksX3_addsMasked_0 : cX3_addsMasked.data.toList.drop 0 = dktX3_addsMasked_0 := by decide +kernel
theorem dksX3_addsMasked_1 : cX3_addsMasked.data.toList.drop 23 = dktX3_addsMasked_1 := dk_seg dksX3_addsMasked_0 23 rfl rfl
theorem dksX3_addsMasked_2 : cX3_addsMasked.data.toList.drop 47 = dktX3_addsMasked_2 := dk_seg dksX3_addsMasked_1 24 rfl rfl
theorem dX3_addsMasked_0 : decode cX3_addsMasked 0 = .ok (.aload_n 0, 1) := dk_42 (dk_at dksX3_addsMasked_0 0 rfl rfl)
theorem dX3_addsMasked_1 : decode cX3_addsMasked 1 = .ok (.getfield 23, 3) := dk_180 0 23 (dk_at dksX3_addsMasked_0 1 rfl rfl)
theorem dX3_addsMasked_4 : decode cX3_addsMasked 4 = .ok (.iconst 2, 1) := dk_5 (dk_at dksX3_addsMasked_0 4 rfl rfl)
theorem dX3_addsMasked_5 : decode cX3_addsMasked 5 = .ok (.iconst 1, 1) := dk_4 (dk_at dksX3_addsMasked_0 5 rfl rfl)
theorem dX3_addsMasked_6 : decode cX3_addsMasked 6 = .ok (.iastore, 1) := dk_79 (dk_at dksX3_addsMasked_0 6 rfl rfl)
theorem dX3_addsMasked_7 : decode cX3_addsMasked 7 = .ok (.iconst 0, 1) := dk_3 (dk_at dksX3_addsMasked_0 7 rfl rfl)
theorem dX3_addsMasked_8 : decode cX3_addsMasked 8 = .ok (.istore_n 1, 1) := dk_60 (dk_at dksX3_addsMasked_0 8 rfl rfl)
theorem dX3_addsMasked_9 : decode cX3_addsMasked 9 = .ok (.iload_n 1, 1) := dk_27 (dk_at dksX3_addsMasked_0 9 rfl rfl)
theorem dX3_addsMasked_10 : decode cX3_addsMasked 10 = .ok (.iconst 2, 1) := dk_5 (dk_at dksX3_addsMasked_0 10 rfl rfl)
theorem dX3_addsMasked_11 : decode cX3_addsMasked 11 = .ok (.if_icmp .ge 58, 3) := dk_162 0 58 (dk_at dksX3_addsMasked_0 11 rfl rfl)
theorem dX3_addsMasked_14 : decode cX3_addsMasked 14 = .ok (.iconst 0, 1) := dk_3 (dk_at dksX3_addsMasked_0 14 rfl rfl)
theorem dX3_addsMasked_15 : decode cX3_addsMasked 15 = .ok (.istore_n 2, 1) := dk_61 (dk_at dksX3_addsMasked_0 15 rfl rfl)
theorem dX3_addsMasked_16 : decode cX3_addsMasked 16 = .ok (.iload_n 2, 1) := dk_28 (dk_at dksX3_addsMasked_0 16 rfl rfl)
theorem dX3_addsMasked_17 : decode cX3_addsMasked 17 = .ok (.aload_n 0, 1) := dk_42 (dk_at dksX3_addsMasked_0 17 rfl rfl)
theorem dX3_addsMasked_18 : decode cX3_addsMasked 18 = .ok (.getfield 17, 3) := dk_180 0 17 (dk_at dksX3_addsMasked_0 18 rfl rfl)
theorem dX3_addsMasked_21 : decode cX3_addsMasked 21 = .ok (.iconst 0, 1) := dk_3 (dk_at dksX3_addsMasked_0 21 rfl rfl)
theorem dX3_addsMasked_22 : decode cX3_addsMasked 22 = .ok (.iaload, 1) := dk_46 (dk_at dksX3_addsMasked_0 22 rfl rfl)
theorem dX3_addsMasked_23 : decode cX3_addsMasked 23 = .ok (.if_icmp .ge 40, 3) := dk_162 0 40 (dk_at dksX3_addsMasked_1 0 rfl rfl)
theorem dX3_addsMasked_26 : decode cX3_addsMasked 26 = .ok (.iconst 0, 1) := dk_3 (dk_at dksX3_addsMasked_1 3 rfl rfl)
theorem dX3_addsMasked_27 : decode cX3_addsMasked 27 = .ok (.istore_n 3, 1) := dk_62 (dk_at dksX3_addsMasked_1 4 rfl rfl)
theorem dX3_addsMasked_28 : decode cX3_addsMasked 28 = .ok (.iload_n 3, 1) := dk_29 (dk_at dksX3_addsMasked_1 5 rfl rfl)
theorem dX3_addsMasked_29 : decode cX3_addsMasked 29 = .ok (.iconst 2, 1) := dk_5 (dk_at dksX3_addsMasked_1 6 rfl rfl)
theorem dX3_addsMasked_30 : decode cX3_addsMasked 30 = .ok (.if_icmp .ge 27, 3) := dk_162 0 27 (dk_at dksX3_addsMasked_1 7 rfl rfl)
theorem dX3_addsMasked_33 : decode cX3_addsMasked 33 = .ok (.aload_n 0, 1) := dk_42 (dk_at dksX3_addsMasked_1 10 rfl rfl)
theorem dX3_addsMasked_34 : decode cX3_addsMasked 34 = .ok (.iload_n 1, 1) := dk_27 (dk_at dksX3_addsMasked_1 11 rfl rfl)
theorem dX3_addsMasked_35 : decode cX3_addsMasked 35 = .ok (.iload_n 3, 1) := dk_29 (dk_at dksX3_addsMasked_1 12 rfl rfl)
theorem dX3_addsMasked_36 : decode cX3_addsMasked 36 = .ok (.iload_n 2, 1) := dk_28 (dk_at dksX3_addsMasked_1 13 rfl rfl)
theorem dX3_addsMasked_37 : decode cX3_addsMasked 37 = .ok (.invokevirtual 241, 3) := dk_182 0 241 (dk_at dksX3_addsMasked_1 14 rfl rfl)
theorem dX3_addsMasked_40 : decode cX3_addsMasked 40 = .ok (.ifCond .eq 11, 3) := dk_153 0 11 (dk_at dksX3_addsMasked_1 17 rfl rfl)
theorem dX3_addsMasked_43 : decode cX3_addsMasked 43 = .ok (.aload_n 0, 1) := dk_42 (dk_at dksX3_addsMasked_1 20 rfl rfl)
theorem dX3_addsMasked_44 : decode cX3_addsMasked 44 = .ok (.iload_n 1, 1) := dk_27 (dk_at dksX3_addsMasked_1 21 rfl rfl)
theorem dX3_addsMasked_45 : decode cX3_addsMasked 45 = .ok (.iload_n 3, 1) := dk_29 (dk_at dksX3_addsMasked_1 22 rfl rfl)
theorem dX3_addsMasked_46 : decode cX3_addsMasked 46 = .ok (.iload_n 2, 1) := dk_28 (dk_at dksX3_addsMasked_1 23 rfl rfl)
theorem dX3_addsMasked_47 : decode cX3_addsMasked 47 = .ok (.iconst 1, 1) := dk_4 (dk_at dksX3_addsMasked_2 0 rfl rfl)
theorem dX3_addsMasked_48 : decode cX3_addsMasked 48 = .ok (.invokevirtual 219, 3) := dk_182 0 219 (dk_at dksX3_addsMasked_2 1 rfl rfl)
theorem dX3_addsMasked_51 : decode cX3_addsMasked 51 = .ok (.iinc 3 1, 3) := dk_132 3 1 (dk_at dksX3_addsMasked_2 4 rfl rfl)
theorem dX3_addsMasked_54 : decode cX3_addsMasked 54 = .ok (.goto (-26), 3) := dk_167 255 230 (dk_at dksX3_addsMasked_2 7 rfl rfl)
theorem dX3_addsMasked_57 : decode cX3_addsMasked 57 = .ok (.iinc 2 1, 3) := dk_132 2 1 (dk_at dksX3_addsMasked_2 10 rfl rfl)
theorem dX3_addsMasked_60 : decode cX3_addsMasked 60 = .ok (.goto (-44), 3) := dk_167 255 212 (dk_at dksX3_addsMasked_2 13 rfl rfl)
theorem dX3_addsMasked_63 : decode cX3_addsMasked 63 = .ok (.iinc 1 1, 3) := dk_132 1 1 (dk_at dksX3_addsMasked_2 16 rfl rfl)
theorem dX3_addsMasked_66 : decode cX3_addsMasked 66 = .ok (.goto (-57), 3) := dk_167 255 199 (dk_at dksX3_addsMasked_2 19 rfl rfl)
theorem dX3_addsMasked_69 : decode cX3_addsMasked 69 = .ok (.return_, 1) := dk_177 (dk_at dksX3_addsMasked_2 22 rfl rfl)
abbrev cX3_doesNeed : ByteArray := prog_14_method_49_code
def yX3_doesNeed : MethodName := ⟨RX3, "doesNeed", "(III)Z"⟩
def dkwX3_doesNeed_3 : List UInt8 := [184, 0, 238, 161, 0, 7, 4, 167, 0, 4, 3, 172]
abbrev dktX3_doesNeed_3 : List UInt8 := dkwX3_doesNeed_3 ++ []
def dkwX3_doesNeed_2 : List UInt8 := [172, 21, 4, 42, 180, 0, 17, 4, 46, 100, 42, 4, 3, 29, 182, 0, 235, 42, 4, 4, 29, 182, 0, 235]
abbrev dktX3_doesNeed_2 : List UInt8 := dkwX3_doesNeed_2 ++ dktX3_doesNeed_3
def dkwX3_doesNeed_1 : List UInt8 := [21, 4, 42, 4, 28, 29, 182, 0, 235, 100, 42, 180, 0, 17, 5, 46, 161, 0, 7, 4, 167, 0, 4, 3]
abbrev dktX3_doesNeed_1 : List UInt8 := dkwX3_doesNeed_1 ++ dktX3_doesNeed_2
def dkwX3_doesNeed_0 : List UInt8 := [42, 29, 182, 0, 232, 154, 0, 5, 3, 172, 42, 3, 28, 29, 182, 0, 235, 54, 4, 27, 4, 160, 0, 28]
abbrev dktX3_doesNeed_0 : List UInt8 := dkwX3_doesNeed_0 ++ dktX3_doesNeed_1
theorem dksX3_doesNeed_0 : cX3_doesNeed.data.toList.drop 0 = dktX3_doesNeed_0 := by decide +kernel
theorem dksX3_doesNeed_1 : cX3_doesNeed.data.toList.drop 24 = dktX3_doesNeed_1 := dk_seg dksX3_doesNeed_0 24 rfl rfl
theorem dksX3_doesNeed_2 : cX3_doesNeed.data.toList.drop 48 = dktX3_doesNeed_2 := dk_seg dksX3_doesNeed_1 24 rfl rfl
theorem dksX3_doesNeed_3 : cX3_doesNeed.data.toList.drop 72 = dktX3_doesNeed_3 := dk_seg dksX3_doesNeed_2 24 rfl rfl
theorem dX3_doesNeed_0 : decode cX3_doesNeed 0 = .ok (.aload_n 0, 1) := dk_42 (dk_at dksX3_doesNeed_0 0 rfl rfl)
theorem dX3_doesNeed_1 : decode cX3_doesNeed 1 = .ok (.iload_n 3, 1) := dk_29 (dk_at dksX3_doesNeed_0 1 rfl rfl)
theorem dX3_doesNeed_2 : decode cX3_doesNeed 2 = .ok (.invokevirtual 232, 3) := dk_182 0 232 (dk_at dksX3_doesNeed_0 2 rfl rfl)
theorem dX3_doesNeed_5 : decode cX3_doesNeed 5 = .ok (.ifCond .ne 5, 3) := dk_154 0 5 (dk_at dksX3_doesNeed_0 5 rfl rfl)
theorem dX3_doesNeed_8 : decode cX3_doesNeed 8 = .ok (.iconst 0, 1) := dk_3 (dk_at dksX3_doesNeed_0 8 rfl rfl)
theorem dX3_doesNeed_9 : decode cX3_doesNeed 9 = .ok (.ireturn, 1) := dk_172 (dk_at dksX3_doesNeed_0 9 rfl rfl)
theorem dX3_doesNeed_10 : decode cX3_doesNeed 10 = .ok (.aload_n 0, 1) := dk_42 (dk_at dksX3_doesNeed_0 10 rfl rfl)
theorem dX3_doesNeed_11 : decode cX3_doesNeed 11 = .ok (.iconst 0, 1) := dk_3 (dk_at dksX3_doesNeed_0 11 rfl rfl)
theorem dX3_doesNeed_12 : decode cX3_doesNeed 12 = .ok (.iload_n 2, 1) := dk_28 (dk_at dksX3_doesNeed_0 12 rfl rfl)
theorem dX3_doesNeed_13 : decode cX3_doesNeed 13 = .ok (.iload_n 3, 1) := dk_29 (dk_at dksX3_doesNeed_0 13 rfl rfl)
theorem dX3_doesNeed_14 : decode cX3_doesNeed 14 = .ok (.invokevirtual 235, 3) := dk_182 0 235 (dk_at dksX3_doesNeed_0 14 rfl rfl)
theorem dX3_doesNeed_17 : decode cX3_doesNeed 17 = .ok (.istore 4, 2) := dk_54 4 (dk_at dksX3_doesNeed_0 17 rfl rfl)
theorem dX3_doesNeed_19 : decode cX3_doesNeed 19 = .ok (.iload_n 1, 1) := dk_27 (dk_at dksX3_doesNeed_0 19 rfl rfl)
theorem dX3_doesNeed_20 : decode cX3_doesNeed 20 = .ok (.iconst 1, 1) := dk_4 (dk_at dksX3_doesNeed_0 20 rfl rfl)
theorem dX3_doesNeed_21 : decode cX3_doesNeed 21 = .ok (.if_icmp .ne 28, 3) := dk_160 0 28 (dk_at dksX3_doesNeed_0 21 rfl rfl)
theorem dX3_doesNeed_24 : decode cX3_doesNeed 24 = .ok (.iload 4, 2) := dk_21 4 (dk_at dksX3_doesNeed_1 0 rfl rfl)
theorem dX3_doesNeed_26 : decode cX3_doesNeed 26 = .ok (.aload_n 0, 1) := dk_42 (dk_at dksX3_doesNeed_1 2 rfl rfl)
theorem dX3_doesNeed_27 : decode cX3_doesNeed 27 = .ok (.iconst 1, 1) := dk_4 (dk_at dksX3_doesNeed_1 3 rfl rfl)
theorem dX3_doesNeed_28 : decode cX3_doesNeed 28 = .ok (.iload_n 2, 1) := dk_28 (dk_at dksX3_doesNeed_1 4 rfl rfl)
theorem dX3_doesNeed_29 : decode cX3_doesNeed 29 = .ok (.iload_n 3, 1) := dk_29 (dk_at dksX3_doesNeed_1 5 rfl rfl)
theorem dX3_doesNeed_30 : decode cX3_doesNeed 30 = .ok (.invokevirtual 235, 3) := dk_182 0 235 (dk_at dksX3_doesNeed_1 6 rfl rfl)
theorem dX3_doesNeed_33 : decode cX3_doesNeed 33 = .ok (.isub, 1) := dk_100 (dk_at dksX3_doesNeed_1 9 rfl rfl)
theorem dX3_doesNeed_34 : decode cX3_doesNeed 34 = .ok (.aload_n 0, 1) := dk_42 (dk_at dksX3_doesNeed_1 10 rfl rfl)
theorem dX3_doesNeed_35 : decode cX3_doesNeed 35 = .ok (.getfield 17, 3) := dk_180 0 17 (dk_at dksX3_doesNeed_1 11 rfl rfl)
theorem dX3_doesNeed_38 : decode cX3_doesNeed 38 = .ok (.iconst 2, 1) := dk_5 (dk_at dksX3_doesNeed_1 14 rfl rfl)
theorem dX3_doesNeed_39 : decode cX3_doesNeed 39 = .ok (.iaload, 1) := dk_46 (dk_at dksX3_doesNeed_1 15 rfl rfl)
theorem dX3_doesNeed_40 : decode cX3_doesNeed 40 = .ok (.if_icmp .lt 7, 3) := dk_161 0 7 (dk_at dksX3_doesNeed_1 16 rfl rfl)
theorem dX3_doesNeed_43 : decode cX3_doesNeed 43 = .ok (.iconst 1, 1) := dk_4 (dk_at dksX3_doesNeed_1 19 rfl rfl)
theorem dX3_doesNeed_44 : decode cX3_doesNeed 44 = .ok (.goto 4, 3) := dk_167 0 4 (dk_at dksX3_doesNeed_1 20 rfl rfl)
theorem dX3_doesNeed_47 : decode cX3_doesNeed 47 = .ok (.iconst 0, 1) := dk_3 (dk_at dksX3_doesNeed_1 23 rfl rfl)
theorem dX3_doesNeed_48 : decode cX3_doesNeed 48 = .ok (.ireturn, 1) := dk_172 (dk_at dksX3_doesNeed_2 0 rfl rfl)
theorem dX3_doesNeed_49 : decode cX3_doesNeed 49 = .ok (.iload 4, 2) := dk_21 4 (dk_at dksX3_doesNeed_2 1 rfl rfl)
theorem dX3_doesNeed_51 : decode cX3_doesNeed 51 = .ok (.aload_n 0, 1) := dk_42 (dk_at dksX3_doesNeed_2 3 rfl rfl)
theorem dX3_doesNeed_52 : decode cX3_doesNeed 52 = .ok (.getfield 17, 3) := dk_180 0 17 (dk_at dksX3_doesNeed_2 4 rfl rfl)
theorem dX3_doesNeed_55 : decode cX3_doesNeed 55 = .ok (.iconst 1, 1) := dk_4 (dk_at dksX3_doesNeed_2 7 rfl rfl)
theorem dX3_doesNeed_56 : decode cX3_doesNeed 56 = .ok (.iaload, 1) := dk_46 (dk_at dksX3_doesNeed_2 8 rfl rfl)
theorem dX3_doesNeed_57 : decode cX3_doesNeed 57 = .ok (.isub, 1) := dk_100 (dk_at dksX3_doesNeed_2 9 rfl rfl)
theorem dX3_doesNeed_58 : decode cX3_doesNeed 58 = .ok (.aload_n 0, 1) := dk_42 (dk_at dksX3_doesNeed_2 10 rfl rfl)
theorem dX3_doesNeed_59 : decode cX3_doesNeed 59 = .ok (.iconst 1, 1) := dk_4 (dk_at dksX3_doesNeed_2 11 rfl rfl)
theorem dX3_doesNeed_60 : decode cX3_doesNeed 60 = .ok (.iconst 0, 1) := dk_3 (dk_at dksX3_doesNeed_2 12 rfl rfl)
theorem dX3_doesNeed_61 : decode cX3_doesNeed 61 = .ok (.iload_n 3, 1) := dk_29 (dk_at dksX3_doesNeed_2 13 rfl rfl)
theorem dX3_doesNeed_62 : decode cX3_doesNeed 62 = .ok (.invokevirtual 235, 3) := dk_182 0 235 (dk_at dksX3_doesNeed_2 14 rfl rfl)
theorem dX3_doesNeed_65 : decode cX3_doesNeed 65 = .ok (.aload_n 0, 1) := dk_42 (dk_at dksX3_doesNeed_2 17 rfl rfl)
theorem dX3_doesNeed_66 : decode cX3_doesNeed 66 = .ok (.iconst 1, 1) := dk_4 (dk_at dksX3_doesNeed_2 18 rfl rfl)
theorem dX3_doesNeed_67 : decode cX3_doesNeed 67 = .ok (.iconst 1, 1) := dk_4 (dk_at dksX3_doesNeed_2 19 rfl rfl)
theorem dX3_doesNeed_68 : decode cX3_doesNeed 68 = .ok (.iload_n 3, 1) := dk_29 (dk_at dksX3_doesNeed_2 20 rfl rfl)
theorem dX3_doesNeed_69 : decode cX3_doesNeed 69 = .ok (.invokevirtual 235, 3) := dk_182 0 235 (dk_at dksX3_doesNeed_2 21 rfl rfl)
theorem dX3_doesNeed_72 : decode cX3_doesNeed 72 = .ok (.invokestatic 238, 3) := dk_184 0 238 (dk_at dksX3_doesNeed_3 0 rfl rfl)
theorem dX3_doesNeed_75 : decode cX3_doesNeed 75 = .ok (.if_icmp .lt 7, 3) := dk_161 0 7 (dk_at dksX3_doesNeed_3 3 rfl rfl)
theorem dX3_doesNeed_78 : decode cX3_doesNeed 78 = .ok (.iconst 1, 1) := dk_4 (dk_at dksX3_doesNeed_3 6 rfl rfl)
theorem dX3_doesNeed_79 : decode cX3_doesNeed 79 = .ok (.goto 4, 3) := dk_167 0 4 (dk_at dksX3_doesNeed_3 7 rfl rfl)
theorem dX3_doesNeed_82 : decode cX3_doesNeed 82 = .ok (.iconst 0, 1) := dk_3 (dk_at dksX3_doesNeed_3 10 rfl rfl)
theorem dX3_doesNeed_83 : decode cX3_doesNeed 83 = .ok (.ireturn, 1) := dk_172 (dk_at dksX3_doesNeed_3 11 rfl rfl)
abbrev cX3_listen : ByteArray := prog_14_method_69_code
def yX3_listen : MethodName := ⟨RX3, "listen", "()I"⟩
def dkwX3_listen_0 : List UInt8 := [42, 42, 182, 1, 23, 182, 0, 156, 153, 0, 7, 2, 167, 0, 9, 42, 4, 4, 182, 1, 32, 172]
abbrev dktX3_listen_0 : List UInt8 := dkwX3_listen_0 ++ []
theorem dksX3_listen_0 : cX3_listen.data.toList.drop 0 = dktX3_listen_0 := by decide +kernel
theorem dX3_listen_0 : decode cX3_listen 0 = .ok (.aload_n 0, 1) := dk_42 (dk_at dksX3_listen_0 0 rfl rfl)
theorem dX3_listen_1 : decode cX3_listen 1 = .ok (.aload_n 0, 1) := dk_42 (dk_at dksX3_listen_0 1 rfl rfl)
theorem dX3_listen_2 : decode cX3_listen 2 = .ok (.invokevirtual 279, 3) := dk_182 1 23 (dk_at dksX3_listen_0 2 rfl rfl)
theorem dX3_listen_5 : decode cX3_listen 5 = .ok (.invokevirtual 156, 3) := dk_182 0 156 (dk_at dksX3_listen_0 5 rfl rfl)
theorem dX3_listen_8 : decode cX3_listen 8 = .ok (.ifCond .eq 7, 3) := dk_153 0 7 (dk_at dksX3_listen_0 8 rfl rfl)
theorem dX3_listen_11 : decode cX3_listen 11 = .ok (.iconst (-1), 1) := dk_2 (dk_at dksX3_listen_0 11 rfl rfl)
theorem dX3_listen_12 : decode cX3_listen 12 = .ok (.goto 9, 3) := dk_167 0 9 (dk_at dksX3_listen_0 12 rfl rfl)
theorem dX3_listen_15 : decode cX3_listen 15 = .ok (.aload_n 0, 1) := dk_42 (dk_at dksX3_listen_0 15 rfl rfl)
theorem dX3_listen_16 : decode cX3_listen 16 = .ok (.iconst 1, 1) := dk_4 (dk_at dksX3_listen_0 16 rfl rfl)
theorem dX3_listen_17 : decode cX3_listen 17 = .ok (.iconst 1, 1) := dk_4 (dk_at dksX3_listen_0 17 rfl rfl)
theorem dX3_listen_18 : decode cX3_listen 18 = .ok (.invokevirtual 288, 3) := dk_182 1 32 (dk_at dksX3_listen_0 18 rfl rfl)
theorem dX3_listen_21 : decode cX3_listen 21 = .ok (.ireturn, 1) := dk_172 (dk_at dksX3_listen_0 21 rfl rfl)
abbrev cX3_listens : ByteArray := prog_14_method_68_code
def yX3_listens : MethodName := ⟨RX3, "listens", "(ZZ)I"⟩
def dkwX3_listens_4 : List UInt8 := [167, 0, 5, 21, 4, 28, 182, 1, 26, 172]
abbrev dktX3_listens_4 : List UInt8 := dkwX3_listens_4 ++ []
def dkwX3_listens_3 : List UInt8 := [180, 0, 23, 16, 10, 46, 4, 96, 182, 1, 29, 153, 0, 16, 21, 4, 154, 0, 7, 4, 167, 0, 9, 3]
abbrev dktX3_listens_3 : List UInt8 := dkwX3_listens_3 ++ dktX3_listens_4
def dkwX3_listens_2 : List UInt8 := [8, 46, 182, 0, 198, 153, 0, 7, 4, 167, 0, 4, 3, 54, 4, 42, 27, 153, 0, 32, 42, 42]
abbrev dktX3_listens_2 : List UInt8 := dkwX3_listens_2 ++ dktX3_listens_3
def dkwX3_listens_1 : List UInt8 := [184, 0, 213, 46, 42, 180, 0, 23, 29, 5, 184, 0, 213, 46, 42, 180, 0, 23, 6, 46, 42, 180, 0, 23]
abbrev dktX3_listens_1 : List UInt8 := dkwX3_listens_1 ++ dktX3_listens_2
def dkwX3_listens_0 : List UInt8 := [42, 180, 0, 23, 4, 46, 62, 42, 42, 180, 0, 23, 29, 3, 184, 0, 213, 46, 42, 180, 0, 23, 29, 4]
abbrev dktX3_listens_0 : List UInt8 := dkwX3_listens_0 ++ dktX3_listens_1
theorem dksX3_listens_0 : cX3_listens.data.toList.drop 0 = dktX3_listens_0 := by decide +kernel
theorem dksX3_listens_1 : cX3_listens.data.toList.drop 24 = dktX3_listens_1 := dk_seg dksX3_listens_0 24 rfl rfl
theorem dksX3_listens_2 : cX3_listens.data.toList.drop 48 = dktX3_listens_2 := dk_seg dksX3_listens_1 24 rfl rfl
theorem dksX3_listens_3 : cX3_listens.data.toList.drop 70 = dktX3_listens_3 := dk_seg dksX3_listens_2 22 rfl rfl
theorem dksX3_listens_4 : cX3_listens.data.toList.drop 94 = dktX3_listens_4 := dk_seg dksX3_listens_3 24 rfl rfl
theorem dX3_listens_0 : decode cX3_listens 0 = .ok (.aload_n 0, 1) := dk_42 (dk_at dksX3_listens_0 0 rfl rfl)
theorem dX3_listens_1 : decode cX3_listens 1 = .ok (.getfield 23, 3) := dk_180 0 23 (dk_at dksX3_listens_0 1 rfl rfl)
theorem dX3_listens_4 : decode cX3_listens 4 = .ok (.iconst 1, 1) := dk_4 (dk_at dksX3_listens_0 4 rfl rfl)
theorem dX3_listens_5 : decode cX3_listens 5 = .ok (.iaload, 1) := dk_46 (dk_at dksX3_listens_0 5 rfl rfl)
theorem dX3_listens_6 : decode cX3_listens 6 = .ok (.istore_n 3, 1) := dk_62 (dk_at dksX3_listens_0 6 rfl rfl)
theorem dX3_listens_7 : decode cX3_listens 7 = .ok (.aload_n 0, 1) := dk_42 (dk_at dksX3_listens_0 7 rfl rfl)
theorem dX3_listens_8 : decode cX3_listens 8 = .ok (.aload_n 0, 1) := dk_42 (dk_at dksX3_listens_0 8 rfl rfl)
theorem dX3_listens_9 : decode cX3_listens 9 = .ok (.getfield 23, 3) := dk_180 0 23 (dk_at dksX3_listens_0 9 rfl rfl)
theorem dX3_listens_12 : decode cX3_listens 12 = .ok (.iload_n 3, 1) := dk_29 (dk_at dksX3_listens_0 12 rfl rfl)
theorem dX3_listens_13 : decode cX3_listens 13 = .ok (.iconst 0, 1) := dk_3 (dk_at dksX3_listens_0 13 rfl rfl)
theorem dX3_listens_14 : decode cX3_listens 14 = .ok (.invokestatic 213, 3) := dk_184 0 213 (dk_at dksX3_listens_0 14 rfl rfl)
theorem dX3_listens_17 : decode cX3_listens 17 = .ok (.iaload, 1) := dk_46 (dk_at dksX3_listens_0 17 rfl rfl)
theorem dX3_listens_18 : decode cX3_listens 18 = .ok (.aload_n 0, 1) := dk_42 (dk_at dksX3_listens_0 18 rfl rfl)
theorem dX3_listens_19 : decode cX3_listens 19 = .ok (.getfield 23, 3) := dk_180 0 23 (dk_at dksX3_listens_0 19 rfl rfl)
theorem dX3_listens_22 : decode cX3_listens 22 = .ok (.iload_n 3, 1) := dk_29 (dk_at dksX3_listens_0 22 rfl rfl)
theorem dX3_listens_23 : decode cX3_listens 23 = .ok (.iconst 1, 1) := dk_4 (dk_at dksX3_listens_0 23 rfl rfl)
theorem dX3_listens_24 : decode cX3_listens 24 = .ok (.invokestatic 213, 3) := dk_184 0 213 (dk_at dksX3_listens_1 0 rfl rfl)
theorem dX3_listens_27 : decode cX3_listens 27 = .ok (.iaload, 1) := dk_46 (dk_at dksX3_listens_1 3 rfl rfl)
theorem dX3_listens_28 : decode cX3_listens 28 = .ok (.aload_n 0, 1) := dk_42 (dk_at dksX3_listens_1 4 rfl rfl)
theorem dX3_listens_29 : decode cX3_listens 29 = .ok (.getfield 23, 3) := dk_180 0 23 (dk_at dksX3_listens_1 5 rfl rfl)
theorem dX3_listens_32 : decode cX3_listens 32 = .ok (.iload_n 3, 1) := dk_29 (dk_at dksX3_listens_1 8 rfl rfl)
theorem dX3_listens_33 : decode cX3_listens 33 = .ok (.iconst 2, 1) := dk_5 (dk_at dksX3_listens_1 9 rfl rfl)
theorem dX3_listens_34 : decode cX3_listens 34 = .ok (.invokestatic 213, 3) := dk_184 0 213 (dk_at dksX3_listens_1 10 rfl rfl)
theorem dX3_listens_37 : decode cX3_listens 37 = .ok (.iaload, 1) := dk_46 (dk_at dksX3_listens_1 13 rfl rfl)
theorem dX3_listens_38 : decode cX3_listens 38 = .ok (.aload_n 0, 1) := dk_42 (dk_at dksX3_listens_1 14 rfl rfl)
theorem dX3_listens_39 : decode cX3_listens 39 = .ok (.getfield 23, 3) := dk_180 0 23 (dk_at dksX3_listens_1 15 rfl rfl)
theorem dX3_listens_42 : decode cX3_listens 42 = .ok (.iconst 3, 1) := dk_6 (dk_at dksX3_listens_1 18 rfl rfl)
theorem dX3_listens_43 : decode cX3_listens 43 = .ok (.iaload, 1) := dk_46 (dk_at dksX3_listens_1 19 rfl rfl)
theorem dX3_listens_44 : decode cX3_listens 44 = .ok (.aload_n 0, 1) := dk_42 (dk_at dksX3_listens_1 20 rfl rfl)
theorem dX3_listens_45 : decode cX3_listens 45 = .ok (.getfield 23, 3) := dk_180 0 23 (dk_at dksX3_listens_1 21 rfl rfl)
theorem dX3_listens_48 : decode cX3_listens 48 = .ok (.iconst 5, 1) := dk_8 (dk_at dksX3_listens_2 0 rfl rfl)
theorem dX3_listens_49 : decode cX3_listens 49 = .ok (.iaload, 1) := dk_46 (dk_at dksX3_listens_2 1 rfl rfl)
theorem dX3_listens_50 : decode cX3_listens 50 = .ok (.invokevirtual 198, 3) := dk_182 0 198 (dk_at dksX3_listens_2 2 rfl rfl)
theorem dX3_listens_53 : decode cX3_listens 53 = .ok (.ifCond .eq 7, 3) := dk_153 0 7 (dk_at dksX3_listens_2 5 rfl rfl)
theorem dX3_listens_56 : decode cX3_listens 56 = .ok (.iconst 1, 1) := dk_4 (dk_at dksX3_listens_2 8 rfl rfl)
theorem dX3_listens_57 : decode cX3_listens 57 = .ok (.goto 4, 3) := dk_167 0 4 (dk_at dksX3_listens_2 9 rfl rfl)
theorem dX3_listens_60 : decode cX3_listens 60 = .ok (.iconst 0, 1) := dk_3 (dk_at dksX3_listens_2 12 rfl rfl)
theorem dX3_listens_61 : decode cX3_listens 61 = .ok (.istore 4, 2) := dk_54 4 (dk_at dksX3_listens_2 13 rfl rfl)
theorem dX3_listens_63 : decode cX3_listens 63 = .ok (.aload_n 0, 1) := dk_42 (dk_at dksX3_listens_2 15 rfl rfl)
theorem dX3_listens_64 : decode cX3_listens 64 = .ok (.iload_n 1, 1) := dk_27 (dk_at dksX3_listens_2 16 rfl rfl)
theorem dX3_listens_65 : decode cX3_listens 65 = .ok (.ifCond .eq 32, 3) := dk_153 0 32 (dk_at dksX3_listens_2 17 rfl rfl)
theorem dX3_listens_68 : decode cX3_listens 68 = .ok (.aload_n 0, 1) := dk_42 (dk_at dksX3_listens_2 20 rfl rfl)
theorem dX3_listens_69 : decode cX3_listens 69 = .ok (.aload_n 0, 1) := dk_42 (dk_at dksX3_listens_2 21 rfl rfl)
theorem dX3_listens_70 : decode cX3_listens 70 = .ok (.getfield 23, 3) := dk_180 0 23 (dk_at dksX3_listens_3 0 rfl rfl)
theorem dX3_listens_73 : decode cX3_listens 73 = .ok (.bipush 10, 2) := dk_16 10 (dk_at dksX3_listens_3 3 rfl rfl)
theorem dX3_listens_75 : decode cX3_listens 75 = .ok (.iaload, 1) := dk_46 (dk_at dksX3_listens_3 5 rfl rfl)
theorem dX3_listens_76 : decode cX3_listens 76 = .ok (.iconst 1, 1) := dk_4 (dk_at dksX3_listens_3 6 rfl rfl)
theorem dX3_listens_77 : decode cX3_listens 77 = .ok (.iadd, 1) := dk_96 (dk_at dksX3_listens_3 7 rfl rfl)
theorem dX3_listens_78 : decode cX3_listens 78 = .ok (.invokevirtual 285, 3) := dk_182 1 29 (dk_at dksX3_listens_3 8 rfl rfl)
theorem dX3_listens_81 : decode cX3_listens 81 = .ok (.ifCond .eq 16, 3) := dk_153 0 16 (dk_at dksX3_listens_3 11 rfl rfl)
theorem dX3_listens_84 : decode cX3_listens 84 = .ok (.iload 4, 2) := dk_21 4 (dk_at dksX3_listens_3 14 rfl rfl)
theorem dX3_listens_86 : decode cX3_listens 86 = .ok (.ifCond .ne 7, 3) := dk_154 0 7 (dk_at dksX3_listens_3 16 rfl rfl)
theorem dX3_listens_89 : decode cX3_listens 89 = .ok (.iconst 1, 1) := dk_4 (dk_at dksX3_listens_3 19 rfl rfl)
theorem dX3_listens_90 : decode cX3_listens 90 = .ok (.goto 9, 3) := dk_167 0 9 (dk_at dksX3_listens_3 20 rfl rfl)
theorem dX3_listens_93 : decode cX3_listens 93 = .ok (.iconst 0, 1) := dk_3 (dk_at dksX3_listens_3 23 rfl rfl)
theorem dX3_listens_94 : decode cX3_listens 94 = .ok (.goto 5, 3) := dk_167 0 5 (dk_at dksX3_listens_4 0 rfl rfl)
theorem dX3_listens_97 : decode cX3_listens 97 = .ok (.iload 4, 2) := dk_21 4 (dk_at dksX3_listens_4 3 rfl rfl)
theorem dX3_listens_99 : decode cX3_listens 99 = .ok (.iload_n 2, 1) := dk_28 (dk_at dksX3_listens_4 5 rfl rfl)
theorem dX3_listens_100 : decode cX3_listens 100 = .ok (.invokevirtual 282, 3) := dk_182 1 26 (dk_at dksX3_listens_4 6 rfl rfl)
theorem dX3_listens_103 : decode cX3_listens 103 = .ok (.ireturn, 1) := dk_172 (dk_at dksX3_listens_4 9 rfl rfl)
abbrev cX3_isSlip : ByteArray := prog_14_method_67_code
def yX3_isSlip : MethodName := ⟨RX3, "isSlip", "(I)Z"⟩
def dkwX3_isSlip_1 : List UInt8 := [160, 0, 5, 4, 172, 132, 2, 1, 167, 255, 228, 3, 172]
abbrev dktX3_isSlip_1 : List UInt8 := dkwX3_isSlip_1 ++ []
def dkwX3_isSlip_0 : List UInt8 := [3, 61, 28, 42, 180, 0, 17, 8, 46, 162, 0, 24, 42, 180, 0, 17, 16, 30, 28, 96, 46, 27]
abbrev dktX3_isSlip_0 : List UInt8 := dkwX3_isSlip_0 ++ dktX3_isSlip_1
theorem dksX3_isSlip_0 : cX3_isSlip.data.toList.drop 0 = dktX3_isSlip_0 := by decide +kernel
theorem dksX3_isSlip_1 : cX3_isSlip.data.toList.drop 22 = dktX3_isSlip_1 := dk_seg dksX3_isSlip_0 22 rfl rfl
theorem dX3_isSlip_0 : decode cX3_isSlip 0 = .ok (.iconst 0, 1) := dk_3 (dk_at dksX3_isSlip_0 0 rfl rfl)
theorem dX3_isSlip_1 : decode cX3_isSlip 1 = .ok (.istore_n 2, 1) := dk_61 (dk_at dksX3_isSlip_0 1 rfl rfl)
theorem dX3_isSlip_2 : decode cX3_isSlip 2 = .ok (.iload_n 2, 1) := dk_28 (dk_at dksX3_isSlip_0 2 rfl rfl)
theorem dX3_isSlip_3 : decode cX3_isSlip 3 = .ok (.aload_n 0, 1) := dk_42 (dk_at dksX3_isSlip_0 3 rfl rfl)
theorem dX3_isSlip_4 : decode cX3_isSlip 4 = .ok (.getfield 17, 3) := dk_180 0 17 (dk_at dksX3_isSlip_0 4 rfl rfl)
theorem dX3_isSlip_7 : decode cX3_isSlip 7 = .ok (.iconst 5, 1) := dk_8 (dk_at dksX3_isSlip_0 7 rfl rfl)
theorem dX3_isSlip_8 : decode cX3_isSlip 8 = .ok (.iaload, 1) := dk_46 (dk_at dksX3_isSlip_0 8 rfl rfl)
theorem dX3_isSlip_9 : decode cX3_isSlip 9 = .ok (.if_icmp .ge 24, 3) := dk_162 0 24 (dk_at dksX3_isSlip_0 9 rfl rfl)
theorem dX3_isSlip_12 : decode cX3_isSlip 12 = .ok (.aload_n 0, 1) := dk_42 (dk_at dksX3_isSlip_0 12 rfl rfl)
theorem dX3_isSlip_13 : decode cX3_isSlip 13 = .ok (.getfield 17, 3) := dk_180 0 17 (dk_at dksX3_isSlip_0 13 rfl rfl)
theorem dX3_isSlip_16 : decode cX3_isSlip 16 = .ok (.bipush 30, 2) := dk_16 30 (dk_at dksX3_isSlip_0 16 rfl rfl)
theorem dX3_isSlip_18 : decode cX3_isSlip 18 = .ok (.iload_n 2, 1) := dk_28 (dk_at dksX3_isSlip_0 18 rfl rfl)
theorem dX3_isSlip_19 : decode cX3_isSlip 19 = .ok (.iadd, 1) := dk_96 (dk_at dksX3_isSlip_0 19 rfl rfl)
theorem dX3_isSlip_20 : decode cX3_isSlip 20 = .ok (.iaload, 1) := dk_46 (dk_at dksX3_isSlip_0 20 rfl rfl)
theorem dX3_isSlip_21 : decode cX3_isSlip 21 = .ok (.iload_n 1, 1) := dk_27 (dk_at dksX3_isSlip_0 21 rfl rfl)
theorem dX3_isSlip_22 : decode cX3_isSlip 22 = .ok (.if_icmp .ne 5, 3) := dk_160 0 5 (dk_at dksX3_isSlip_1 0 rfl rfl)
theorem dX3_isSlip_25 : decode cX3_isSlip 25 = .ok (.iconst 1, 1) := dk_4 (dk_at dksX3_isSlip_1 3 rfl rfl)
theorem dX3_isSlip_26 : decode cX3_isSlip 26 = .ok (.ireturn, 1) := dk_172 (dk_at dksX3_isSlip_1 4 rfl rfl)
theorem dX3_isSlip_27 : decode cX3_isSlip 27 = .ok (.iinc 2 1, 3) := dk_132 2 1 (dk_at dksX3_isSlip_1 5 rfl rfl)
theorem dX3_isSlip_30 : decode cX3_isSlip 30 = .ok (.goto (-28), 3) := dk_167 255 228 (dk_at dksX3_isSlip_1 8 rfl rfl)
theorem dX3_isSlip_33 : decode cX3_isSlip 33 = .ok (.iconst 0, 1) := dk_3 (dk_at dksX3_isSlip_1 11 rfl rfl)
theorem dX3_isSlip_34 : decode cX3_isSlip 34 = .ok (.ireturn, 1) := dk_172 (dk_at dksX3_isSlip_1 12 rfl rfl)
abbrev cX3_run : ByteArray := prog_14_method_70_code
def yX3_run : MethodName := ⟨RX3, "run", "(I)I"⟩
def dkwX3_run_3 : List UInt8 := [167, 255, 234, 28, 172]
abbrev dktX3_run_3 : List UInt8 := dkwX3_run_3 ++ []
def dkwX3_run_2 : List UInt8 := [61, 28, 27, 162, 0, 23, 42, 182, 1, 20, 153, 0, 16, 42, 4, 4, 182, 1, 32, 62, 132, 2, 1]
abbrev dktX3_run_2 : List UInt8 := dkwX3_run_2 ++ dktX3_run_3
def dkwX3_run_1 : List UInt8 := [167, 0, 15, 42, 182, 1, 20, 153, 0, 7, 3, 167, 0, 4, 8, 182, 0, 156, 153, 0, 5, 2, 172, 3]
abbrev dktX3_run_1 : List UInt8 := dkwX3_run_1 ++ dktX3_run_2
def dkwX3_run_0 : List UInt8 := [42, 42, 180, 0, 168, 154, 0, 7, 4, 167, 0, 30, 27, 4, 17, 39, 15, 184, 0, 70, 154, 0, 7, 5]
abbrev dktX3_run_0 : List UInt8 := dkwX3_run_0 ++ dktX3_run_1
theorem dksX3_run_0 : cX3_run.data.toList.drop 0 = dktX3_run_0 := by decide +kernel
theorem dksX3_run_1 : cX3_run.data.toList.drop 24 = dktX3_run_1 := dk_seg dksX3_run_0 24 rfl rfl
theorem dksX3_run_2 : cX3_run.data.toList.drop 48 = dktX3_run_2 := dk_seg dksX3_run_1 24 rfl rfl
theorem dksX3_run_3 : cX3_run.data.toList.drop 71 = dktX3_run_3 := dk_seg dksX3_run_2 23 rfl rfl
theorem dX3_run_0 : decode cX3_run 0 = .ok (.aload_n 0, 1) := dk_42 (dk_at dksX3_run_0 0 rfl rfl)
theorem dX3_run_1 : decode cX3_run 1 = .ok (.aload_n 0, 1) := dk_42 (dk_at dksX3_run_0 1 rfl rfl)
theorem dX3_run_2 : decode cX3_run 2 = .ok (.getfield 168, 3) := dk_180 0 168 (dk_at dksX3_run_0 2 rfl rfl)
theorem dX3_run_5 : decode cX3_run 5 = .ok (.ifCond .ne 7, 3) := dk_154 0 7 (dk_at dksX3_run_0 5 rfl rfl)
theorem dX3_run_8 : decode cX3_run 8 = .ok (.iconst 1, 1) := dk_4 (dk_at dksX3_run_0 8 rfl rfl)
theorem dX3_run_9 : decode cX3_run 9 = .ok (.goto 30, 3) := dk_167 0 30 (dk_at dksX3_run_0 9 rfl rfl)
theorem dX3_run_12 : decode cX3_run 12 = .ok (.iload_n 1, 1) := dk_27 (dk_at dksX3_run_0 12 rfl rfl)
theorem dX3_run_13 : decode cX3_run 13 = .ok (.iconst 1, 1) := dk_4 (dk_at dksX3_run_0 13 rfl rfl)
theorem dX3_run_14 : decode cX3_run 14 = .ok (.sipush 9999, 3) := dk_17 39 15 (dk_at dksX3_run_0 14 rfl rfl)
theorem dX3_run_17 : decode cX3_run 17 = .ok (.invokestatic 70, 3) := dk_184 0 70 (dk_at dksX3_run_0 17 rfl rfl)
theorem dX3_run_20 : decode cX3_run 20 = .ok (.ifCond .ne 7, 3) := dk_154 0 7 (dk_at dksX3_run_0 20 rfl rfl)
theorem dX3_run_23 : decode cX3_run 23 = .ok (.iconst 2, 1) := dk_5 (dk_at dksX3_run_0 23 rfl rfl)
theorem dX3_run_24 : decode cX3_run 24 = .ok (.goto 15, 3) := dk_167 0 15 (dk_at dksX3_run_1 0 rfl rfl)
theorem dX3_run_27 : decode cX3_run 27 = .ok (.aload_n 0, 1) := dk_42 (dk_at dksX3_run_1 3 rfl rfl)
theorem dX3_run_28 : decode cX3_run 28 = .ok (.invokevirtual 276, 3) := dk_182 1 20 (dk_at dksX3_run_1 4 rfl rfl)
theorem dX3_run_31 : decode cX3_run 31 = .ok (.ifCond .eq 7, 3) := dk_153 0 7 (dk_at dksX3_run_1 7 rfl rfl)
theorem dX3_run_34 : decode cX3_run 34 = .ok (.iconst 0, 1) := dk_3 (dk_at dksX3_run_1 10 rfl rfl)
theorem dX3_run_35 : decode cX3_run 35 = .ok (.goto 4, 3) := dk_167 0 4 (dk_at dksX3_run_1 11 rfl rfl)
theorem dX3_run_38 : decode cX3_run 38 = .ok (.iconst 5, 1) := dk_8 (dk_at dksX3_run_1 14 rfl rfl)
theorem dX3_run_39 : decode cX3_run 39 = .ok (.invokevirtual 156, 3) := dk_182 0 156 (dk_at dksX3_run_1 15 rfl rfl)
theorem dX3_run_42 : decode cX3_run 42 = .ok (.ifCond .eq 5, 3) := dk_153 0 5 (dk_at dksX3_run_1 18 rfl rfl)
theorem dX3_run_45 : decode cX3_run 45 = .ok (.iconst (-1), 1) := dk_2 (dk_at dksX3_run_1 21 rfl rfl)
theorem dX3_run_46 : decode cX3_run 46 = .ok (.ireturn, 1) := dk_172 (dk_at dksX3_run_1 22 rfl rfl)
theorem dX3_run_47 : decode cX3_run 47 = .ok (.iconst 0, 1) := dk_3 (dk_at dksX3_run_1 23 rfl rfl)
theorem dX3_run_48 : decode cX3_run 48 = .ok (.istore_n 2, 1) := dk_61 (dk_at dksX3_run_2 0 rfl rfl)
theorem dX3_run_49 : decode cX3_run 49 = .ok (.iload_n 2, 1) := dk_28 (dk_at dksX3_run_2 1 rfl rfl)
theorem dX3_run_50 : decode cX3_run 50 = .ok (.iload_n 1, 1) := dk_27 (dk_at dksX3_run_2 2 rfl rfl)
theorem dX3_run_51 : decode cX3_run 51 = .ok (.if_icmp .ge 23, 3) := dk_162 0 23 (dk_at dksX3_run_2 3 rfl rfl)
theorem dX3_run_54 : decode cX3_run 54 = .ok (.aload_n 0, 1) := dk_42 (dk_at dksX3_run_2 6 rfl rfl)
theorem dX3_run_55 : decode cX3_run 55 = .ok (.invokevirtual 276, 3) := dk_182 1 20 (dk_at dksX3_run_2 7 rfl rfl)
theorem dX3_run_58 : decode cX3_run 58 = .ok (.ifCond .eq 16, 3) := dk_153 0 16 (dk_at dksX3_run_2 10 rfl rfl)
theorem dX3_run_61 : decode cX3_run 61 = .ok (.aload_n 0, 1) := dk_42 (dk_at dksX3_run_2 13 rfl rfl)
theorem dX3_run_62 : decode cX3_run 62 = .ok (.iconst 1, 1) := dk_4 (dk_at dksX3_run_2 14 rfl rfl)
theorem dX3_run_63 : decode cX3_run 63 = .ok (.iconst 1, 1) := dk_4 (dk_at dksX3_run_2 15 rfl rfl)
theorem dX3_run_64 : decode cX3_run 64 = .ok (.invokevirtual 288, 3) := dk_182 1 32 (dk_at dksX3_run_2 16 rfl rfl)
theorem dX3_run_67 : decode cX3_run 67 = .ok (.istore_n 3, 1) := dk_62 (dk_at dksX3_run_2 19 rfl rfl)
theorem dX3_run_68 : decode cX3_run 68 = .ok (.iinc 2 1, 3) := dk_132 2 1 (dk_at dksX3_run_2 20 rfl rfl)
theorem dX3_run_71 : decode cX3_run 71 = .ok (.goto (-22), 3) := dk_167 255 234 (dk_at dksX3_run_3 0 rfl rfl)
theorem dX3_run_74 : decode cX3_run 74 = .ok (.iload_n 2, 1) := dk_28 (dk_at dksX3_run_3 3 rfl rfl)
theorem dX3_run_75 : decode cX3_run 75 = .ok (.ireturn, 1) := dk_172 (dk_at dksX3_run_3 4 rfl rfl)
abbrev cX3_give : ByteArray := prog_14_method_71_code
def yX3_give : MethodName := ⟨RX3, "give", "()I"⟩
def dkwX3_give_0 : List UInt8 := [42, 42, 182, 1, 23, 182, 0, 156, 153, 0, 7, 2, 167, 0, 10, 42, 7, 16, 254, 182, 1, 7, 172]
abbrev dktX3_give_0 : List UInt8 := dkwX3_give_0 ++ []
theorem dksX3_give_0 : cX3_give.data.toList.drop 0 = dktX3_give_0 := by decide +kernel
theorem dX3_give_0 : decode cX3_give 0 = .ok (.aload_n 0, 1) := dk_42 (dk_at dksX3_give_0 0 rfl rfl)
theorem dX3_give_1 : decode cX3_give 1 = .ok (.aload_n 0, 1) := dk_42 (dk_at dksX3_give_0 1 rfl rfl)
theorem dX3_give_2 : decode cX3_give 2 = .ok (.invokevirtual 279, 3) := dk_182 1 23 (dk_at dksX3_give_0 2 rfl rfl)
theorem dX3_give_5 : decode cX3_give 5 = .ok (.invokevirtual 156, 3) := dk_182 0 156 (dk_at dksX3_give_0 5 rfl rfl)
theorem dX3_give_8 : decode cX3_give 8 = .ok (.ifCond .eq 7, 3) := dk_153 0 7 (dk_at dksX3_give_0 8 rfl rfl)
theorem dX3_give_11 : decode cX3_give 11 = .ok (.iconst (-1), 1) := dk_2 (dk_at dksX3_give_0 11 rfl rfl)
theorem dX3_give_12 : decode cX3_give 12 = .ok (.goto 10, 3) := dk_167 0 10 (dk_at dksX3_give_0 12 rfl rfl)
theorem dX3_give_15 : decode cX3_give 15 = .ok (.aload_n 0, 1) := dk_42 (dk_at dksX3_give_0 15 rfl rfl)
theorem dX3_give_16 : decode cX3_give 16 = .ok (.iconst 4, 1) := dk_7 (dk_at dksX3_give_0 16 rfl rfl)
theorem dX3_give_17 : decode cX3_give 17 = .ok (.bipush (-2), 2) := dk_16 254 (dk_at dksX3_give_0 17 rfl rfl)
theorem dX3_give_19 : decode cX3_give 19 = .ok (.invokevirtual 263, 3) := dk_182 1 7 (dk_at dksX3_give_0 19 rfl rfl)
theorem dX3_give_22 : decode cX3_give 22 = .ok (.ireturn, 1) := dk_172 (dk_at dksX3_give_0 22 rfl rfl)
abbrev cX3_again : ByteArray := prog_14_method_72_code
def yX3_again : MethodName := ⟨RX3, "again", "(I)I"⟩
def dkwX3_again_3 : List UInt8 := [184, 0, 213, 46, 172]
abbrev dktX3_again_3 : List UInt8 := dkwX3_again_3 ++ []
def dkwX3_again_2 : List UInt8 := [8, 182, 0, 165, 172, 42, 27, 182, 0, 216, 42, 27, 182, 0, 223, 61, 42, 180, 0, 23, 27, 3]
abbrev dktX3_again_2 : List UInt8 := dkwX3_again_2 ++ dktX3_again_3
def dkwX3_again_1 : List UInt8 := [4, 167, 0, 4, 3, 184, 0, 191, 182, 0, 156, 153, 0, 5, 2, 172, 42, 182, 1, 20, 153, 0, 9, 42]
abbrev dktX3_again_1 : List UInt8 := dkwX3_again_1 ++ dktX3_again_2
def dkwX3_again_0 : List UInt8 := [42, 42, 180, 0, 168, 153, 0, 23, 27, 3, 42, 180, 0, 23, 3, 46, 4, 100, 184, 0, 70, 153, 0, 7]
abbrev dktX3_again_0 : List UInt8 := dkwX3_again_0 ++ dktX3_again_1
theorem dksX3_again_0 : cX3_again.data.toList.drop 0 = dktX3_again_0 := by decide +kernel
theorem dksX3_again_1 : cX3_again.data.toList.drop 24 = dktX3_again_1 := dk_seg dksX3_again_0 24 rfl rfl
theorem dksX3_again_2 : cX3_again.data.toList.drop 48 = dktX3_again_2 := dk_seg dksX3_again_1 24 rfl rfl
theorem dksX3_again_3 : cX3_again.data.toList.drop 70 = dktX3_again_3 := dk_seg dksX3_again_2 22 rfl rfl
theorem dX3_again_0 : decode cX3_again 0 = .ok (.aload_n 0, 1) := dk_42 (dk_at dksX3_again_0 0 rfl rfl)
theorem dX3_again_1 : decode cX3_again 1 = .ok (.aload_n 0, 1) := dk_42 (dk_at dksX3_again_0 1 rfl rfl)
theorem dX3_again_2 : decode cX3_again 2 = .ok (.getfield 168, 3) := dk_180 0 168 (dk_at dksX3_again_0 2 rfl rfl)
theorem dX3_again_5 : decode cX3_again 5 = .ok (.ifCond .eq 23, 3) := dk_153 0 23 (dk_at dksX3_again_0 5 rfl rfl)
theorem dX3_again_8 : decode cX3_again 8 = .ok (.iload_n 1, 1) := dk_27 (dk_at dksX3_again_0 8 rfl rfl)
theorem dX3_again_9 : decode cX3_again 9 = .ok (.iconst 0, 1) := dk_3 (dk_at dksX3_again_0 9 rfl rfl)
theorem dX3_again_10 : decode cX3_again 10 = .ok (.aload_n 0, 1) := dk_42 (dk_at dksX3_again_0 10 rfl rfl)
theorem dX3_again_11 : decode cX3_again 11 = .ok (.getfield 23, 3) := dk_180 0 23 (dk_at dksX3_again_0 11 rfl rfl)
theorem dX3_again_14 : decode cX3_again 14 = .ok (.iconst 0, 1) := dk_3 (dk_at dksX3_again_0 14 rfl rfl)
theorem dX3_again_15 : decode cX3_again 15 = .ok (.iaload, 1) := dk_46 (dk_at dksX3_again_0 15 rfl rfl)
theorem dX3_again_16 : decode cX3_again 16 = .ok (.iconst 1, 1) := dk_4 (dk_at dksX3_again_0 16 rfl rfl)
theorem dX3_again_17 : decode cX3_again 17 = .ok (.isub, 1) := dk_100 (dk_at dksX3_again_0 17 rfl rfl)
theorem dX3_again_18 : decode cX3_again 18 = .ok (.invokestatic 70, 3) := dk_184 0 70 (dk_at dksX3_again_0 18 rfl rfl)
theorem dX3_again_21 : decode cX3_again 21 = .ok (.ifCond .eq 7, 3) := dk_153 0 7 (dk_at dksX3_again_0 21 rfl rfl)
theorem dX3_again_24 : decode cX3_again 24 = .ok (.iconst 1, 1) := dk_4 (dk_at dksX3_again_1 0 rfl rfl)
theorem dX3_again_25 : decode cX3_again 25 = .ok (.goto 4, 3) := dk_167 0 4 (dk_at dksX3_again_1 1 rfl rfl)
theorem dX3_again_28 : decode cX3_again 28 = .ok (.iconst 0, 1) := dk_3 (dk_at dksX3_again_1 4 rfl rfl)
theorem dX3_again_29 : decode cX3_again 29 = .ok (.invokestatic 191, 3) := dk_184 0 191 (dk_at dksX3_again_1 5 rfl rfl)
theorem dX3_again_32 : decode cX3_again 32 = .ok (.invokevirtual 156, 3) := dk_182 0 156 (dk_at dksX3_again_1 8 rfl rfl)
theorem dX3_again_35 : decode cX3_again 35 = .ok (.ifCond .eq 5, 3) := dk_153 0 5 (dk_at dksX3_again_1 11 rfl rfl)
theorem dX3_again_38 : decode cX3_again 38 = .ok (.iconst (-1), 1) := dk_2 (dk_at dksX3_again_1 14 rfl rfl)
theorem dX3_again_39 : decode cX3_again 39 = .ok (.ireturn, 1) := dk_172 (dk_at dksX3_again_1 15 rfl rfl)
theorem dX3_again_40 : decode cX3_again 40 = .ok (.aload_n 0, 1) := dk_42 (dk_at dksX3_again_1 16 rfl rfl)
theorem dX3_again_41 : decode cX3_again 41 = .ok (.invokevirtual 276, 3) := dk_182 1 20 (dk_at dksX3_again_1 17 rfl rfl)
theorem dX3_again_44 : decode cX3_again 44 = .ok (.ifCond .eq 9, 3) := dk_153 0 9 (dk_at dksX3_again_1 20 rfl rfl)
theorem dX3_again_47 : decode cX3_again 47 = .ok (.aload_n 0, 1) := dk_42 (dk_at dksX3_again_1 23 rfl rfl)
theorem dX3_again_48 : decode cX3_again 48 = .ok (.iconst 5, 1) := dk_8 (dk_at dksX3_again_2 0 rfl rfl)
theorem dX3_again_49 : decode cX3_again 49 = .ok (.invokevirtual 165, 3) := dk_182 0 165 (dk_at dksX3_again_2 1 rfl rfl)
theorem dX3_again_52 : decode cX3_again 52 = .ok (.ireturn, 1) := dk_172 (dk_at dksX3_again_2 4 rfl rfl)
theorem dX3_again_53 : decode cX3_again 53 = .ok (.aload_n 0, 1) := dk_42 (dk_at dksX3_again_2 5 rfl rfl)
theorem dX3_again_54 : decode cX3_again 54 = .ok (.iload_n 1, 1) := dk_27 (dk_at dksX3_again_2 6 rfl rfl)
theorem dX3_again_55 : decode cX3_again 55 = .ok (.invokevirtual 216, 3) := dk_182 0 216 (dk_at dksX3_again_2 7 rfl rfl)
theorem dX3_again_58 : decode cX3_again 58 = .ok (.aload_n 0, 1) := dk_42 (dk_at dksX3_again_2 10 rfl rfl)
theorem dX3_again_59 : decode cX3_again 59 = .ok (.iload_n 1, 1) := dk_27 (dk_at dksX3_again_2 11 rfl rfl)
theorem dX3_again_60 : decode cX3_again 60 = .ok (.invokevirtual 223, 3) := dk_182 0 223 (dk_at dksX3_again_2 12 rfl rfl)
theorem dX3_again_63 : decode cX3_again 63 = .ok (.istore_n 2, 1) := dk_61 (dk_at dksX3_again_2 15 rfl rfl)
theorem dX3_again_64 : decode cX3_again 64 = .ok (.aload_n 0, 1) := dk_42 (dk_at dksX3_again_2 16 rfl rfl)
theorem dX3_again_65 : decode cX3_again 65 = .ok (.getfield 23, 3) := dk_180 0 23 (dk_at dksX3_again_2 17 rfl rfl)
theorem dX3_again_68 : decode cX3_again 68 = .ok (.iload_n 1, 1) := dk_27 (dk_at dksX3_again_2 20 rfl rfl)
theorem dX3_again_69 : decode cX3_again 69 = .ok (.iconst 0, 1) := dk_3 (dk_at dksX3_again_2 21 rfl rfl)
theorem dX3_again_70 : decode cX3_again 70 = .ok (.invokestatic 213, 3) := dk_184 0 213 (dk_at dksX3_again_3 0 rfl rfl)
theorem dX3_again_73 : decode cX3_again 73 = .ok (.iaload, 1) := dk_46 (dk_at dksX3_again_3 3 rfl rfl)
theorem dX3_again_74 : decode cX3_again 74 = .ok (.ireturn, 1) := dk_172 (dk_at dksX3_again_3 4 rfl rfl)
abbrev cX3_search : ByteArray := prog_14_method_74_code
def yX3_search : MethodName := ⟨RX3, "search", "(IIIIII)I"⟩
def dkwX3_search_3 : List UInt8 := [21, 4, 21, 5, 182, 1, 38, 54, 7, 21, 6, 154, 0, 8, 21, 7, 167, 0, 7, 42, 180, 1, 35, 172]
abbrev dktX3_search_3 : List UInt8 := dkwX3_search_3 ++ []
def dkwX3_search_2 : List UInt8 := [153, 0, 7, 4, 167, 0, 4, 3, 184, 0, 195, 182, 0, 156, 153, 0, 5, 2, 172, 42, 27, 28, 29]
abbrev dktX3_search_2 : List UInt8 := dkwX3_search_2 ++ dktX3_search_3
def dkwX3_search_1 : List UInt8 := [167, 0, 4, 3, 21, 5, 3, 16, 24, 184, 0, 70, 153, 0, 18, 21, 4, 2, 16, 24, 184, 0, 70]
abbrev dktX3_search_1 : List UInt8 := dkwX3_search_1 ++ dktX3_search_2
def dkwX3_search_0 : List UInt8 := [42, 42, 27, 28, 29, 182, 0, 188, 153, 0, 17, 21, 6, 3, 4, 184, 0, 70, 153, 0, 7, 4]
abbrev dktX3_search_0 : List UInt8 := dkwX3_search_0 ++ dktX3_search_1
theorem dksX3_search_0 : cX3_search.data.toList.drop 0 = dktX3_search_0 := by decide +kernel
theorem dksX3_search_1 : cX3_search.data.toList.drop 22 = dktX3_search_1 := dk_seg dksX3_search_0 22 rfl rfl
theorem dksX3_search_2 : cX3_search.data.toList.drop 45 = dktX3_search_2 := dk_seg dksX3_search_1 23 rfl rfl
theorem dksX3_search_3 : cX3_search.data.toList.drop 68 = dktX3_search_3 := dk_seg dksX3_search_2 23 rfl rfl
theorem dX3_search_0 : decode cX3_search 0 = .ok (.aload_n 0, 1) := dk_42 (dk_at dksX3_search_0 0 rfl rfl)
theorem dX3_search_1 : decode cX3_search 1 = .ok (.aload_n 0, 1) := dk_42 (dk_at dksX3_search_0 1 rfl rfl)
theorem dX3_search_2 : decode cX3_search 2 = .ok (.iload_n 1, 1) := dk_27 (dk_at dksX3_search_0 2 rfl rfl)
theorem dX3_search_3 : decode cX3_search 3 = .ok (.iload_n 2, 1) := dk_28 (dk_at dksX3_search_0 3 rfl rfl)
theorem dX3_search_4 : decode cX3_search 4 = .ok (.iload_n 3, 1) := dk_29 (dk_at dksX3_search_0 4 rfl rfl)
theorem dX3_search_5 : decode cX3_search 5 = .ok (.invokevirtual 188, 3) := dk_182 0 188 (dk_at dksX3_search_0 5 rfl rfl)
theorem dX3_search_8 : decode cX3_search 8 = .ok (.ifCond .eq 17, 3) := dk_153 0 17 (dk_at dksX3_search_0 8 rfl rfl)
theorem dX3_search_11 : decode cX3_search 11 = .ok (.iload 6, 2) := dk_21 6 (dk_at dksX3_search_0 11 rfl rfl)
theorem dX3_search_13 : decode cX3_search 13 = .ok (.iconst 0, 1) := dk_3 (dk_at dksX3_search_0 13 rfl rfl)
theorem dX3_search_14 : decode cX3_search 14 = .ok (.iconst 1, 1) := dk_4 (dk_at dksX3_search_0 14 rfl rfl)
theorem dX3_search_15 : decode cX3_search 15 = .ok (.invokestatic 70, 3) := dk_184 0 70 (dk_at dksX3_search_0 15 rfl rfl)
theorem dX3_search_18 : decode cX3_search 18 = .ok (.ifCond .eq 7, 3) := dk_153 0 7 (dk_at dksX3_search_0 18 rfl rfl)
theorem dX3_search_21 : decode cX3_search 21 = .ok (.iconst 1, 1) := dk_4 (dk_at dksX3_search_0 21 rfl rfl)
theorem dX3_search_22 : decode cX3_search 22 = .ok (.goto 4, 3) := dk_167 0 4 (dk_at dksX3_search_1 0 rfl rfl)
theorem dX3_search_25 : decode cX3_search 25 = .ok (.iconst 0, 1) := dk_3 (dk_at dksX3_search_1 3 rfl rfl)
theorem dX3_search_26 : decode cX3_search 26 = .ok (.iload 5, 2) := dk_21 5 (dk_at dksX3_search_1 4 rfl rfl)
theorem dX3_search_28 : decode cX3_search 28 = .ok (.iconst 0, 1) := dk_3 (dk_at dksX3_search_1 6 rfl rfl)
theorem dX3_search_29 : decode cX3_search 29 = .ok (.bipush 24, 2) := dk_16 24 (dk_at dksX3_search_1 7 rfl rfl)
theorem dX3_search_31 : decode cX3_search 31 = .ok (.invokestatic 70, 3) := dk_184 0 70 (dk_at dksX3_search_1 9 rfl rfl)
theorem dX3_search_34 : decode cX3_search 34 = .ok (.ifCond .eq 18, 3) := dk_153 0 18 (dk_at dksX3_search_1 12 rfl rfl)
theorem dX3_search_37 : decode cX3_search 37 = .ok (.iload 4, 2) := dk_21 4 (dk_at dksX3_search_1 15 rfl rfl)
theorem dX3_search_39 : decode cX3_search 39 = .ok (.iconst (-1), 1) := dk_2 (dk_at dksX3_search_1 17 rfl rfl)
theorem dX3_search_40 : decode cX3_search 40 = .ok (.bipush 24, 2) := dk_16 24 (dk_at dksX3_search_1 18 rfl rfl)
theorem dX3_search_42 : decode cX3_search 42 = .ok (.invokestatic 70, 3) := dk_184 0 70 (dk_at dksX3_search_1 20 rfl rfl)
theorem dX3_search_45 : decode cX3_search 45 = .ok (.ifCond .eq 7, 3) := dk_153 0 7 (dk_at dksX3_search_2 0 rfl rfl)
theorem dX3_search_48 : decode cX3_search 48 = .ok (.iconst 1, 1) := dk_4 (dk_at dksX3_search_2 3 rfl rfl)
theorem dX3_search_49 : decode cX3_search 49 = .ok (.goto 4, 3) := dk_167 0 4 (dk_at dksX3_search_2 4 rfl rfl)
theorem dX3_search_52 : decode cX3_search 52 = .ok (.iconst 0, 1) := dk_3 (dk_at dksX3_search_2 7 rfl rfl)
theorem dX3_search_53 : decode cX3_search 53 = .ok (.invokestatic 195, 3) := dk_184 0 195 (dk_at dksX3_search_2 8 rfl rfl)
theorem dX3_search_56 : decode cX3_search 56 = .ok (.invokevirtual 156, 3) := dk_182 0 156 (dk_at dksX3_search_2 11 rfl rfl)
theorem dX3_search_59 : decode cX3_search 59 = .ok (.ifCond .eq 5, 3) := dk_153 0 5 (dk_at dksX3_search_2 14 rfl rfl)
theorem dX3_search_62 : decode cX3_search 62 = .ok (.iconst (-1), 1) := dk_2 (dk_at dksX3_search_2 17 rfl rfl)
theorem dX3_search_63 : decode cX3_search 63 = .ok (.ireturn, 1) := dk_172 (dk_at dksX3_search_2 18 rfl rfl)
theorem dX3_search_64 : decode cX3_search 64 = .ok (.aload_n 0, 1) := dk_42 (dk_at dksX3_search_2 19 rfl rfl)
theorem dX3_search_65 : decode cX3_search 65 = .ok (.iload_n 1, 1) := dk_27 (dk_at dksX3_search_2 20 rfl rfl)
theorem dX3_search_66 : decode cX3_search 66 = .ok (.iload_n 2, 1) := dk_28 (dk_at dksX3_search_2 21 rfl rfl)
theorem dX3_search_67 : decode cX3_search 67 = .ok (.iload_n 3, 1) := dk_29 (dk_at dksX3_search_2 22 rfl rfl)
theorem dX3_search_68 : decode cX3_search 68 = .ok (.iload 4, 2) := dk_21 4 (dk_at dksX3_search_3 0 rfl rfl)
theorem dX3_search_70 : decode cX3_search 70 = .ok (.iload 5, 2) := dk_21 5 (dk_at dksX3_search_3 2 rfl rfl)
theorem dX3_search_72 : decode cX3_search 72 = .ok (.invokevirtual 294, 3) := dk_182 1 38 (dk_at dksX3_search_3 4 rfl rfl)
theorem dX3_search_75 : decode cX3_search 75 = .ok (.istore 7, 2) := dk_54 7 (dk_at dksX3_search_3 7 rfl rfl)
theorem dX3_search_77 : decode cX3_search 77 = .ok (.iload 6, 2) := dk_21 6 (dk_at dksX3_search_3 9 rfl rfl)
theorem dX3_search_79 : decode cX3_search 79 = .ok (.ifCond .ne 8, 3) := dk_154 0 8 (dk_at dksX3_search_3 11 rfl rfl)
theorem dX3_search_82 : decode cX3_search 82 = .ok (.iload 7, 2) := dk_21 7 (dk_at dksX3_search_3 14 rfl rfl)
theorem dX3_search_84 : decode cX3_search 84 = .ok (.goto 7, 3) := dk_167 0 7 (dk_at dksX3_search_3 16 rfl rfl)
theorem dX3_search_87 : decode cX3_search 87 = .ok (.aload_n 0, 1) := dk_42 (dk_at dksX3_search_3 19 rfl rfl)
theorem dX3_search_88 : decode cX3_search 88 = .ok (.getfield 291, 3) := dk_180 1 35 (dk_at dksX3_search_3 20 rfl rfl)
theorem dX3_search_91 : decode cX3_search 91 = .ok (.ireturn, 1) := dk_172 (dk_at dksX3_search_3 23 rfl rfl)
abbrev cX3_searchOf : ByteArray := prog_14_method_73_code
def yX3_searchOf : MethodName := ⟨RX3, "searchOf", "(IIIII)I"⟩
def dkwX3_searchOf_11 : List UInt8 := [54, 6, 167, 255, 49]
abbrev dktX3_searchOf_11 : List UInt8 := dkwX3_searchOf_11 ++ []
def dkwX3_searchOf_10 : List UInt8 := [162, 0, 7, 3, 167, 0, 19, 21, 6, 5, 100, 167, 0, 12, 16, 24, 21, 6, 4, 96, 184, 0, 238]
abbrev dktX3_searchOf_10 : List UInt8 := dkwX3_searchOf_10 ++ dktX3_searchOf_11
def dkwX3_searchOf_9 : List UInt8 := [16, 24, 46, 100, 5, 160, 0, 6, 16, 25, 172, 21, 6, 54, 7, 21, 8, 153, 0, 20, 21, 6, 5]
abbrev dktX3_searchOf_9 : List UInt8 := dkwX3_searchOf_9 ++ dktX3_searchOf_10
def dkwX3_searchOf_8 : List UInt8 := [160, 0, 6, 21, 6, 172, 21, 6, 16, 24, 160, 0, 25, 42, 180, 0, 29, 16, 24, 46, 42, 180, 0, 32]
abbrev dktX3_searchOf_8 : List UInt8 := dkwX3_searchOf_8 ++ dktX3_searchOf_9
def dkwX3_searchOf_7 : List UInt8 := [21, 6, 46, 184, 1, 14, 5, 162, 0, 18, 21, 6, 154, 0, 16, 42, 180, 0, 32, 3, 46, 5]
abbrev dktX3_searchOf_7 : List UInt8 := dkwX3_searchOf_7 ++ dktX3_searchOf_8
def dkwX3_searchOf_6 : List UInt8 := [167, 0, 4, 3, 96, 16, 8, 112, 167, 0, 10, 42, 180, 0, 35, 21, 6, 46, 79, 42, 180, 0, 35]
abbrev dktX3_searchOf_6 : List UInt8 := dkwX3_searchOf_6 ++ dktX3_searchOf_7
def dkwX3_searchOf_5 : List UInt8 := [21, 6, 21, 6, 21, 7, 164, 0, 29, 5, 42, 180, 0, 35, 21, 6, 46, 104, 21, 8, 153, 0, 7, 4]
abbrev dktX3_searchOf_5 : List UInt8 := dkwX3_searchOf_5 ++ dktX3_searchOf_6
def dkwX3_searchOf_4 : List UInt8 := [42, 180, 0, 32, 21, 6, 92, 46, 21, 8, 153, 0, 7, 4, 167, 0, 4, 3, 96, 79, 42, 180, 0, 35]
abbrev dktX3_searchOf_4 : List UInt8 := dkwX3_searchOf_4 ++ dktX3_searchOf_5
def dkwX3_searchOf_3 : List UInt8 := [182, 0, 198, 153, 0, 7, 4, 167, 0, 4, 3, 54, 8, 42, 180, 0, 29, 21, 6, 92, 46, 4, 96, 79]
abbrev dktX3_searchOf_3 : List UInt8 := dkwX3_searchOf_3 ++ dktX3_searchOf_4
def dkwX3_searchOf_2 : List UInt8 := [42, 3, 181, 1, 35, 42, 89, 180, 1, 35, 4, 96, 181, 1, 35, 42, 27, 28, 29, 21, 6, 21, 4]
abbrev dktX3_searchOf_2 : List UInt8 := dkwX3_searchOf_2 ++ dktX3_searchOf_3
def dkwX3_searchOf_1 : List UInt8 := [3, 79, 42, 180, 0, 35, 21, 6, 3, 79, 132, 6, 1, 167, 255, 222, 21, 5, 54, 6, 16, 25, 54, 7]
abbrev dktX3_searchOf_1 : List UInt8 := dkwX3_searchOf_1 ++ dktX3_searchOf_2
def dkwX3_searchOf_0 : List UInt8 := [3, 54, 6, 21, 6, 16, 25, 162, 0, 33, 42, 180, 0, 29, 21, 6, 3, 79, 42, 180, 0, 32, 21, 6]
abbrev dktX3_searchOf_0 : List UInt8 := dkwX3_searchOf_0 ++ dktX3_searchOf_1
theorem dksX3_searchOf_0 : cX3_searchOf.data.toList.drop 0 = dktX3_searchOf_0 := by decide +kernel
theorem dksX3_searchOf_1 : cX3_searchOf.data.toList.drop 24 = dktX3_searchOf_1 := dk_seg dksX3_searchOf_0 24 rfl rfl
theorem dksX3_searchOf_2 : cX3_searchOf.data.toList.drop 48 = dktX3_searchOf_2 := dk_seg dksX3_searchOf_1 24 rfl rfl
theorem dksX3_searchOf_3 : cX3_searchOf.data.toList.drop 71 = dktX3_searchOf_3 := dk_seg dksX3_searchOf_2 23 rfl rfl
theorem dksX3_searchOf_4 : cX3_searchOf.data.toList.drop 95 = dktX3_searchOf_4 := dk_seg dksX3_searchOf_3 24 rfl rfl
theorem dksX3_searchOf_5 : cX3_searchOf.data.toList.drop 119 = dktX3_searchOf_5 := dk_seg dksX3_searchOf_4 24 rfl rfl
theorem dksX3_searchOf_6 : cX3_searchOf.data.toList.drop 143 = dktX3_searchOf_6 := dk_seg dksX3_searchOf_5 24 rfl rfl
theorem dksX3_searchOf_7 : cX3_searchOf.data.toList.drop 166 = dktX3_searchOf_7 := dk_seg dksX3_searchOf_6 23 rfl rfl
theorem dksX3_searchOf_8 : cX3_searchOf.data.toList.drop 188 = dktX3_searchOf_8 := dk_seg dksX3_searchOf_7 22 rfl rfl
theorem dksX3_searchOf_9 : cX3_searchOf.data.toList.drop 212 = dktX3_searchOf_9 := dk_seg dksX3_searchOf_8 24 rfl rfl
theorem dksX3_searchOf_10 : cX3_searchOf.data.toList.drop 235 = dktX3_searchOf_10 := dk_seg dksX3_searchOf_9 23 rfl rfl
theorem dksX3_searchOf_11 : cX3_searchOf.data.toList.drop 258 = dktX3_searchOf_11 := dk_seg dksX3_searchOf_10 23 rfl rfl
theorem dX3_searchOf_0 : decode cX3_searchOf 0 = .ok (.iconst 0, 1) := dk_3 (dk_at dksX3_searchOf_0 0 rfl rfl)
theorem dX3_searchOf_1 : decode cX3_searchOf 1 = .ok (.istore 6, 2) := dk_54 6 (dk_at dksX3_searchOf_0 1 rfl rfl)
theorem dX3_searchOf_3 : decode cX3_searchOf 3 = .ok (.iload 6, 2) := dk_21 6 (dk_at dksX3_searchOf_0 3 rfl rfl)
theorem dX3_searchOf_5 : decode cX3_searchOf 5 = .ok (.bipush 25, 2) := dk_16 25 (dk_at dksX3_searchOf_0 5 rfl rfl)
theorem dX3_searchOf_7 : decode cX3_searchOf 7 = .ok (.if_icmp .ge 33, 3) := dk_162 0 33 (dk_at dksX3_searchOf_0 7 rfl rfl)
theorem dX3_searchOf_10 : decode cX3_searchOf 10 = .ok (.aload_n 0, 1) := dk_42 (dk_at dksX3_searchOf_0 10 rfl rfl)
theorem dX3_searchOf_11 : decode cX3_searchOf 11 = .ok (.getfield 29, 3) := dk_180 0 29 (dk_at dksX3_searchOf_0 11 rfl rfl)
theorem dX3_searchOf_14 : decode cX3_searchOf 14 = .ok (.iload 6, 2) := dk_21 6 (dk_at dksX3_searchOf_0 14 rfl rfl)
theorem dX3_searchOf_16 : decode cX3_searchOf 16 = .ok (.iconst 0, 1) := dk_3 (dk_at dksX3_searchOf_0 16 rfl rfl)
theorem dX3_searchOf_17 : decode cX3_searchOf 17 = .ok (.iastore, 1) := dk_79 (dk_at dksX3_searchOf_0 17 rfl rfl)
theorem dX3_searchOf_18 : decode cX3_searchOf 18 = .ok (.aload_n 0, 1) := dk_42 (dk_at dksX3_searchOf_0 18 rfl rfl)
theorem dX3_searchOf_19 : decode cX3_searchOf 19 = .ok (.getfield 32, 3) := dk_180 0 32 (dk_at dksX3_searchOf_0 19 rfl rfl)
theorem dX3_searchOf_22 : decode cX3_searchOf 22 = .ok (.iload 6, 2) := dk_21 6 (dk_at dksX3_searchOf_0 22 rfl rfl)
theorem dX3_searchOf_24 : decode cX3_searchOf 24 = .ok (.iconst 0, 1) := dk_3 (dk_at dksX3_searchOf_1 0 rfl rfl)
theorem dX3_searchOf_25 : decode cX3_searchOf 25 = .ok (.iastore, 1) := dk_79 (dk_at dksX3_searchOf_1 1 rfl rfl)
theorem dX3_searchOf_26 : decode cX3_searchOf 26 = .ok (.aload_n 0, 1) := dk_42 (dk_at dksX3_searchOf_1 2 rfl rfl)
theorem dX3_searchOf_27 : decode cX3_searchOf 27 = .ok (.getfield 35, 3) := dk_180 0 35 (dk_at dksX3_searchOf_1 3 rfl rfl)
theorem dX3_searchOf_30 : decode cX3_searchOf 30 = .ok (.iload 6, 2) := dk_21 6 (dk_at dksX3_searchOf_1 6 rfl rfl)
theorem dX3_searchOf_32 : decode cX3_searchOf 32 = .ok (.iconst 0, 1) := dk_3 (dk_at dksX3_searchOf_1 8 rfl rfl)
theorem dX3_searchOf_33 : decode cX3_searchOf 33 = .ok (.iastore, 1) := dk_79 (dk_at dksX3_searchOf_1 9 rfl rfl)
theorem dX3_searchOf_34 : decode cX3_searchOf 34 = .ok (.iinc 6 1, 3) := dk_132 6 1 (dk_at dksX3_searchOf_1 10 rfl rfl)
theorem dX3_searchOf_37 : decode cX3_searchOf 37 = .ok (.goto (-34), 3) := dk_167 255 222 (dk_at dksX3_searchOf_1 13 rfl rfl)
theorem dX3_searchOf_40 : decode cX3_searchOf 40 = .ok (.iload 5, 2) := dk_21 5 (dk_at dksX3_searchOf_1 16 rfl rfl)
theorem dX3_searchOf_42 : decode cX3_searchOf 42 = .ok (.istore 6, 2) := dk_54 6 (dk_at dksX3_searchOf_1 18 rfl rfl)
theorem dX3_searchOf_44 : decode cX3_searchOf 44 = .ok (.bipush 25, 2) := dk_16 25 (dk_at dksX3_searchOf_1 20 rfl rfl)
theorem dX3_searchOf_46 : decode cX3_searchOf 46 = .ok (.istore 7, 2) := dk_54 7 (dk_at dksX3_searchOf_1 22 rfl rfl)
theorem dX3_searchOf_48 : decode cX3_searchOf 48 = .ok (.aload_n 0, 1) := dk_42 (dk_at dksX3_searchOf_2 0 rfl rfl)
theorem dX3_searchOf_49 : decode cX3_searchOf 49 = .ok (.iconst 0, 1) := dk_3 (dk_at dksX3_searchOf_2 1 rfl rfl)
theorem dX3_searchOf_50 : decode cX3_searchOf 50 = .ok (.putfield 291, 3) := dk_181 1 35 (dk_at dksX3_searchOf_2 2 rfl rfl)
theorem dX3_searchOf_53 : decode cX3_searchOf 53 = .ok (.aload_n 0, 1) := dk_42 (dk_at dksX3_searchOf_2 5 rfl rfl)
theorem dX3_searchOf_54 : decode cX3_searchOf 54 = .ok (.dup, 1) := dk_89 (dk_at dksX3_searchOf_2 6 rfl rfl)
theorem dX3_searchOf_55 : decode cX3_searchOf 55 = .ok (.getfield 291, 3) := dk_180 1 35 (dk_at dksX3_searchOf_2 7 rfl rfl)
theorem dX3_searchOf_58 : decode cX3_searchOf 58 = .ok (.iconst 1, 1) := dk_4 (dk_at dksX3_searchOf_2 10 rfl rfl)
theorem dX3_searchOf_59 : decode cX3_searchOf 59 = .ok (.iadd, 1) := dk_96 (dk_at dksX3_searchOf_2 11 rfl rfl)
theorem dX3_searchOf_60 : decode cX3_searchOf 60 = .ok (.putfield 291, 3) := dk_181 1 35 (dk_at dksX3_searchOf_2 12 rfl rfl)
theorem dX3_searchOf_63 : decode cX3_searchOf 63 = .ok (.aload_n 0, 1) := dk_42 (dk_at dksX3_searchOf_2 15 rfl rfl)
theorem dX3_searchOf_64 : decode cX3_searchOf 64 = .ok (.iload_n 1, 1) := dk_27 (dk_at dksX3_searchOf_2 16 rfl rfl)
theorem dX3_searchOf_65 : decode cX3_searchOf 65 = .ok (.iload_n 2, 1) := dk_28 (dk_at dksX3_searchOf_2 17 rfl rfl)
theorem dX3_searchOf_66 : decode cX3_searchOf 66 = .ok (.iload_n 3, 1) := dk_29 (dk_at dksX3_searchOf_2 18 rfl rfl)
theorem dX3_searchOf_67 : decode cX3_searchOf 67 = .ok (.iload 6, 2) := dk_21 6 (dk_at dksX3_searchOf_2 19 rfl rfl)
theorem dX3_searchOf_69 : decode cX3_searchOf 69 = .ok (.iload 4, 2) := dk_21 4 (dk_at dksX3_searchOf_2 21 rfl rfl)
theorem dX3_searchOf_71 : decode cX3_searchOf 71 = .ok (.invokevirtual 198, 3) := dk_182 0 198 (dk_at dksX3_searchOf_3 0 rfl rfl)
theorem dX3_searchOf_74 : decode cX3_searchOf 74 = .ok (.ifCond .eq 7, 3) := dk_153 0 7 (dk_at dksX3_searchOf_3 3 rfl rfl)
theorem dX3_searchOf_77 : decode cX3_searchOf 77 = .ok (.iconst 1, 1) := dk_4 (dk_at dksX3_searchOf_3 6 rfl rfl)
theorem dX3_searchOf_78 : decode cX3_searchOf 78 = .ok (.goto 4, 3) := dk_167 0 4 (dk_at dksX3_searchOf_3 7 rfl rfl)
theorem dX3_searchOf_81 : decode cX3_searchOf 81 = .ok (.iconst 0, 1) := dk_3 (dk_at dksX3_searchOf_3 10 rfl rfl)
theorem dX3_searchOf_82 : decode cX3_searchOf 82 = .ok (.istore 8, 2) := dk_54 8 (dk_at dksX3_searchOf_3 11 rfl rfl)
theorem dX3_searchOf_84 : decode cX3_searchOf 84 = .ok (.aload_n 0, 1) := dk_42 (dk_at dksX3_searchOf_3 13 rfl rfl)
theorem dX3_searchOf_85 : decode cX3_searchOf 85 = .ok (.getfield 29, 3) := dk_180 0 29 (dk_at dksX3_searchOf_3 14 rfl rfl)
theorem dX3_searchOf_88 : decode cX3_searchOf 88 = .ok (.iload 6, 2) := dk_21 6 (dk_at dksX3_searchOf_3 17 rfl rfl)
theorem dX3_searchOf_90 : decode cX3_searchOf 90 = .ok (.dup2, 1) := dk_92 (dk_at dksX3_searchOf_3 19 rfl rfl)
theorem dX3_searchOf_91 : decode cX3_searchOf 91 = .ok (.iaload, 1) := dk_46 (dk_at dksX3_searchOf_3 20 rfl rfl)
theorem dX3_searchOf_92 : decode cX3_searchOf 92 = .ok (.iconst 1, 1) := dk_4 (dk_at dksX3_searchOf_3 21 rfl rfl)
theorem dX3_searchOf_93 : decode cX3_searchOf 93 = .ok (.iadd, 1) := dk_96 (dk_at dksX3_searchOf_3 22 rfl rfl)
theorem dX3_searchOf_94 : decode cX3_searchOf 94 = .ok (.iastore, 1) := dk_79 (dk_at dksX3_searchOf_3 23 rfl rfl)
theorem dX3_searchOf_95 : decode cX3_searchOf 95 = .ok (.aload_n 0, 1) := dk_42 (dk_at dksX3_searchOf_4 0 rfl rfl)
theorem dX3_searchOf_96 : decode cX3_searchOf 96 = .ok (.getfield 32, 3) := dk_180 0 32 (dk_at dksX3_searchOf_4 1 rfl rfl)
theorem dX3_searchOf_99 : decode cX3_searchOf 99 = .ok (.iload 6, 2) := dk_21 6 (dk_at dksX3_searchOf_4 4 rfl rfl)
theorem dX3_searchOf_101 : decode cX3_searchOf 101 = .ok (.dup2, 1) := dk_92 (dk_at dksX3_searchOf_4 6 rfl rfl)
theorem dX3_searchOf_102 : decode cX3_searchOf 102 = .ok (.iaload, 1) := dk_46 (dk_at dksX3_searchOf_4 7 rfl rfl)
theorem dX3_searchOf_103 : decode cX3_searchOf 103 = .ok (.iload 8, 2) := dk_21 8 (dk_at dksX3_searchOf_4 8 rfl rfl)
theorem dX3_searchOf_105 : decode cX3_searchOf 105 = .ok (.ifCond .eq 7, 3) := dk_153 0 7 (dk_at dksX3_searchOf_4 10 rfl rfl)
theorem dX3_searchOf_108 : decode cX3_searchOf 108 = .ok (.iconst 1, 1) := dk_4 (dk_at dksX3_searchOf_4 13 rfl rfl)
theorem dX3_searchOf_109 : decode cX3_searchOf 109 = .ok (.goto 4, 3) := dk_167 0 4 (dk_at dksX3_searchOf_4 14 rfl rfl)
theorem dX3_searchOf_112 : decode cX3_searchOf 112 = .ok (.iconst 0, 1) := dk_3 (dk_at dksX3_searchOf_4 17 rfl rfl)
theorem dX3_searchOf_113 : decode cX3_searchOf 113 = .ok (.iadd, 1) := dk_96 (dk_at dksX3_searchOf_4 18 rfl rfl)
theorem dX3_searchOf_114 : decode cX3_searchOf 114 = .ok (.iastore, 1) := dk_79 (dk_at dksX3_searchOf_4 19 rfl rfl)
theorem dX3_searchOf_115 : decode cX3_searchOf 115 = .ok (.aload_n 0, 1) := dk_42 (dk_at dksX3_searchOf_4 20 rfl rfl)
theorem dX3_searchOf_116 : decode cX3_searchOf 116 = .ok (.getfield 35, 3) := dk_180 0 35 (dk_at dksX3_searchOf_4 21 rfl rfl)
theorem dX3_searchOf_119 : decode cX3_searchOf 119 = .ok (.iload 6, 2) := dk_21 6 (dk_at dksX3_searchOf_5 0 rfl rfl)
theorem dX3_searchOf_121 : decode cX3_searchOf 121 = .ok (.iload 6, 2) := dk_21 6 (dk_at dksX3_searchOf_5 2 rfl rfl)
theorem dX3_searchOf_123 : decode cX3_searchOf 123 = .ok (.iload 7, 2) := dk_21 7 (dk_at dksX3_searchOf_5 4 rfl rfl)
theorem dX3_searchOf_125 : decode cX3_searchOf 125 = .ok (.if_icmp .le 29, 3) := dk_164 0 29 (dk_at dksX3_searchOf_5 6 rfl rfl)
theorem dX3_searchOf_128 : decode cX3_searchOf 128 = .ok (.iconst 2, 1) := dk_5 (dk_at dksX3_searchOf_5 9 rfl rfl)
theorem dX3_searchOf_129 : decode cX3_searchOf 129 = .ok (.aload_n 0, 1) := dk_42 (dk_at dksX3_searchOf_5 10 rfl rfl)
theorem dX3_searchOf_130 : decode cX3_searchOf 130 = .ok (.getfield 35, 3) := dk_180 0 35 (dk_at dksX3_searchOf_5 11 rfl rfl)
theorem dX3_searchOf_133 : decode cX3_searchOf 133 = .ok (.iload 6, 2) := dk_21 6 (dk_at dksX3_searchOf_5 14 rfl rfl)
theorem dX3_searchOf_135 : decode cX3_searchOf 135 = .ok (.iaload, 1) := dk_46 (dk_at dksX3_searchOf_5 16 rfl rfl)
theorem dX3_searchOf_136 : decode cX3_searchOf 136 = .ok (.imul, 1) := dk_104 (dk_at dksX3_searchOf_5 17 rfl rfl)
theorem dX3_searchOf_137 : decode cX3_searchOf 137 = .ok (.iload 8, 2) := dk_21 8 (dk_at dksX3_searchOf_5 18 rfl rfl)
theorem dX3_searchOf_139 : decode cX3_searchOf 139 = .ok (.ifCond .eq 7, 3) := dk_153 0 7 (dk_at dksX3_searchOf_5 20 rfl rfl)
theorem dX3_searchOf_142 : decode cX3_searchOf 142 = .ok (.iconst 1, 1) := dk_4 (dk_at dksX3_searchOf_5 23 rfl rfl)
theorem dX3_searchOf_143 : decode cX3_searchOf 143 = .ok (.goto 4, 3) := dk_167 0 4 (dk_at dksX3_searchOf_6 0 rfl rfl)
theorem dX3_searchOf_146 : decode cX3_searchOf 146 = .ok (.iconst 0, 1) := dk_3 (dk_at dksX3_searchOf_6 3 rfl rfl)
theorem dX3_searchOf_147 : decode cX3_searchOf 147 = .ok (.iadd, 1) := dk_96 (dk_at dksX3_searchOf_6 4 rfl rfl)
theorem dX3_searchOf_148 : decode cX3_searchOf 148 = .ok (.bipush 8, 2) := dk_16 8 (dk_at dksX3_searchOf_6 5 rfl rfl)
theorem dX3_searchOf_150 : decode cX3_searchOf 150 = .ok (.irem, 1) := dk_112 (dk_at dksX3_searchOf_6 7 rfl rfl)
theorem dX3_searchOf_151 : decode cX3_searchOf 151 = .ok (.goto 10, 3) := dk_167 0 10 (dk_at dksX3_searchOf_6 8 rfl rfl)
theorem dX3_searchOf_154 : decode cX3_searchOf 154 = .ok (.aload_n 0, 1) := dk_42 (dk_at dksX3_searchOf_6 11 rfl rfl)
theorem dX3_searchOf_155 : decode cX3_searchOf 155 = .ok (.getfield 35, 3) := dk_180 0 35 (dk_at dksX3_searchOf_6 12 rfl rfl)
theorem dX3_searchOf_158 : decode cX3_searchOf 158 = .ok (.iload 6, 2) := dk_21 6 (dk_at dksX3_searchOf_6 15 rfl rfl)
theorem dX3_searchOf_160 : decode cX3_searchOf 160 = .ok (.iaload, 1) := dk_46 (dk_at dksX3_searchOf_6 17 rfl rfl)
theorem dX3_searchOf_161 : decode cX3_searchOf 161 = .ok (.iastore, 1) := dk_79 (dk_at dksX3_searchOf_6 18 rfl rfl)
theorem dX3_searchOf_162 : decode cX3_searchOf 162 = .ok (.aload_n 0, 1) := dk_42 (dk_at dksX3_searchOf_6 19 rfl rfl)
theorem dX3_searchOf_163 : decode cX3_searchOf 163 = .ok (.getfield 35, 3) := dk_180 0 35 (dk_at dksX3_searchOf_6 20 rfl rfl)
theorem dX3_searchOf_166 : decode cX3_searchOf 166 = .ok (.iload 6, 2) := dk_21 6 (dk_at dksX3_searchOf_7 0 rfl rfl)
theorem dX3_searchOf_168 : decode cX3_searchOf 168 = .ok (.iaload, 1) := dk_46 (dk_at dksX3_searchOf_7 2 rfl rfl)
theorem dX3_searchOf_169 : decode cX3_searchOf 169 = .ok (.invokestatic 270, 3) := dk_184 1 14 (dk_at dksX3_searchOf_7 3 rfl rfl)
theorem dX3_searchOf_172 : decode cX3_searchOf 172 = .ok (.iconst 2, 1) := dk_5 (dk_at dksX3_searchOf_7 6 rfl rfl)
theorem dX3_searchOf_173 : decode cX3_searchOf 173 = .ok (.if_icmp .ge 18, 3) := dk_162 0 18 (dk_at dksX3_searchOf_7 7 rfl rfl)
theorem dX3_searchOf_176 : decode cX3_searchOf 176 = .ok (.iload 6, 2) := dk_21 6 (dk_at dksX3_searchOf_7 10 rfl rfl)
theorem dX3_searchOf_178 : decode cX3_searchOf 178 = .ok (.ifCond .ne 16, 3) := dk_154 0 16 (dk_at dksX3_searchOf_7 12 rfl rfl)
theorem dX3_searchOf_181 : decode cX3_searchOf 181 = .ok (.aload_n 0, 1) := dk_42 (dk_at dksX3_searchOf_7 15 rfl rfl)
theorem dX3_searchOf_182 : decode cX3_searchOf 182 = .ok (.getfield 32, 3) := dk_180 0 32 (dk_at dksX3_searchOf_7 16 rfl rfl)
theorem dX3_searchOf_185 : decode cX3_searchOf 185 = .ok (.iconst 0, 1) := dk_3 (dk_at dksX3_searchOf_7 19 rfl rfl)
theorem dX3_searchOf_186 : decode cX3_searchOf 186 = .ok (.iaload, 1) := dk_46 (dk_at dksX3_searchOf_7 20 rfl rfl)
theorem dX3_searchOf_187 : decode cX3_searchOf 187 = .ok (.iconst 2, 1) := dk_5 (dk_at dksX3_searchOf_7 21 rfl rfl)
theorem dX3_searchOf_188 : decode cX3_searchOf 188 = .ok (.if_icmp .ne 6, 3) := dk_160 0 6 (dk_at dksX3_searchOf_8 0 rfl rfl)
theorem dX3_searchOf_191 : decode cX3_searchOf 191 = .ok (.iload 6, 2) := dk_21 6 (dk_at dksX3_searchOf_8 3 rfl rfl)
theorem dX3_searchOf_193 : decode cX3_searchOf 193 = .ok (.ireturn, 1) := dk_172 (dk_at dksX3_searchOf_8 5 rfl rfl)
theorem dX3_searchOf_194 : decode cX3_searchOf 194 = .ok (.iload 6, 2) := dk_21 6 (dk_at dksX3_searchOf_8 6 rfl rfl)
theorem dX3_searchOf_196 : decode cX3_searchOf 196 = .ok (.bipush 24, 2) := dk_16 24 (dk_at dksX3_searchOf_8 8 rfl rfl)
theorem dX3_searchOf_198 : decode cX3_searchOf 198 = .ok (.if_icmp .ne 25, 3) := dk_160 0 25 (dk_at dksX3_searchOf_8 10 rfl rfl)
theorem dX3_searchOf_201 : decode cX3_searchOf 201 = .ok (.aload_n 0, 1) := dk_42 (dk_at dksX3_searchOf_8 13 rfl rfl)
theorem dX3_searchOf_202 : decode cX3_searchOf 202 = .ok (.getfield 29, 3) := dk_180 0 29 (dk_at dksX3_searchOf_8 14 rfl rfl)
theorem dX3_searchOf_205 : decode cX3_searchOf 205 = .ok (.bipush 24, 2) := dk_16 24 (dk_at dksX3_searchOf_8 17 rfl rfl)
theorem dX3_searchOf_207 : decode cX3_searchOf 207 = .ok (.iaload, 1) := dk_46 (dk_at dksX3_searchOf_8 19 rfl rfl)
theorem dX3_searchOf_208 : decode cX3_searchOf 208 = .ok (.aload_n 0, 1) := dk_42 (dk_at dksX3_searchOf_8 20 rfl rfl)
theorem dX3_searchOf_209 : decode cX3_searchOf 209 = .ok (.getfield 32, 3) := dk_180 0 32 (dk_at dksX3_searchOf_8 21 rfl rfl)
theorem dX3_searchOf_212 : decode cX3_searchOf 212 = .ok (.bipush 24, 2) := dk_16 24 (dk_at dksX3_searchOf_9 0 rfl rfl)
theorem dX3_searchOf_214 : decode cX3_searchOf 214 = .ok (.iaload, 1) := dk_46 (dk_at dksX3_searchOf_9 2 rfl rfl)
theorem dX3_searchOf_215 : decode cX3_searchOf 215 = .ok (.isub, 1) := dk_100 (dk_at dksX3_searchOf_9 3 rfl rfl)
theorem dX3_searchOf_216 : decode cX3_searchOf 216 = .ok (.iconst 2, 1) := dk_5 (dk_at dksX3_searchOf_9 4 rfl rfl)
theorem dX3_searchOf_217 : decode cX3_searchOf 217 = .ok (.if_icmp .ne 6, 3) := dk_160 0 6 (dk_at dksX3_searchOf_9 5 rfl rfl)
theorem dX3_searchOf_220 : decode cX3_searchOf 220 = .ok (.bipush 25, 2) := dk_16 25 (dk_at dksX3_searchOf_9 8 rfl rfl)
theorem dX3_searchOf_222 : decode cX3_searchOf 222 = .ok (.ireturn, 1) := dk_172 (dk_at dksX3_searchOf_9 10 rfl rfl)
theorem dX3_searchOf_223 : decode cX3_searchOf 223 = .ok (.iload 6, 2) := dk_21 6 (dk_at dksX3_searchOf_9 11 rfl rfl)
theorem dX3_searchOf_225 : decode cX3_searchOf 225 = .ok (.istore 7, 2) := dk_54 7 (dk_at dksX3_searchOf_9 13 rfl rfl)
theorem dX3_searchOf_227 : decode cX3_searchOf 227 = .ok (.iload 8, 2) := dk_21 8 (dk_at dksX3_searchOf_9 15 rfl rfl)
theorem dX3_searchOf_229 : decode cX3_searchOf 229 = .ok (.ifCond .eq 20, 3) := dk_153 0 20 (dk_at dksX3_searchOf_9 17 rfl rfl)
theorem dX3_searchOf_232 : decode cX3_searchOf 232 = .ok (.iload 6, 2) := dk_21 6 (dk_at dksX3_searchOf_9 20 rfl rfl)
theorem dX3_searchOf_234 : decode cX3_searchOf 234 = .ok (.iconst 2, 1) := dk_5 (dk_at dksX3_searchOf_9 22 rfl rfl)
theorem dX3_searchOf_235 : decode cX3_searchOf 235 = .ok (.if_icmp .ge 7, 3) := dk_162 0 7 (dk_at dksX3_searchOf_10 0 rfl rfl)
theorem dX3_searchOf_238 : decode cX3_searchOf 238 = .ok (.iconst 0, 1) := dk_3 (dk_at dksX3_searchOf_10 3 rfl rfl)
theorem dX3_searchOf_239 : decode cX3_searchOf 239 = .ok (.goto 19, 3) := dk_167 0 19 (dk_at dksX3_searchOf_10 4 rfl rfl)
theorem dX3_searchOf_242 : decode cX3_searchOf 242 = .ok (.iload 6, 2) := dk_21 6 (dk_at dksX3_searchOf_10 7 rfl rfl)
theorem dX3_searchOf_244 : decode cX3_searchOf 244 = .ok (.iconst 2, 1) := dk_5 (dk_at dksX3_searchOf_10 9 rfl rfl)
theorem dX3_searchOf_245 : decode cX3_searchOf 245 = .ok (.isub, 1) := dk_100 (dk_at dksX3_searchOf_10 10 rfl rfl)
theorem dX3_searchOf_246 : decode cX3_searchOf 246 = .ok (.goto 12, 3) := dk_167 0 12 (dk_at dksX3_searchOf_10 11 rfl rfl)
theorem dX3_searchOf_249 : decode cX3_searchOf 249 = .ok (.bipush 24, 2) := dk_16 24 (dk_at dksX3_searchOf_10 14 rfl rfl)
theorem dX3_searchOf_251 : decode cX3_searchOf 251 = .ok (.iload 6, 2) := dk_21 6 (dk_at dksX3_searchOf_10 16 rfl rfl)
theorem dX3_searchOf_253 : decode cX3_searchOf 253 = .ok (.iconst 1, 1) := dk_4 (dk_at dksX3_searchOf_10 18 rfl rfl)
theorem dX3_searchOf_254 : decode cX3_searchOf 254 = .ok (.iadd, 1) := dk_96 (dk_at dksX3_searchOf_10 19 rfl rfl)
theorem dX3_searchOf_255 : decode cX3_searchOf 255 = .ok (.invokestatic 238, 3) := dk_184 0 238 (dk_at dksX3_searchOf_10 20 rfl rfl)
theorem dX3_searchOf_258 : decode cX3_searchOf 258 = .ok (.istore 6, 2) := dk_54 6 (dk_at dksX3_searchOf_11 0 rfl rfl)
theorem dX3_searchOf_260 : decode cX3_searchOf 260 = .ok (.goto (-207), 3) := dk_167 255 49 (dk_at dksX3_searchOf_11 2 rfl rfl)
abbrev cX3_provable : ByteArray := prog_14_method_76_code
def yX3_provable : MethodName := ⟨RX3, "provable", "(IIII)I"⟩
def dkwX3_provable_9 : List UInt8 := [6, 172]
abbrev dktX3_provable_9 : List UInt8 := dkwX3_provable_9 ++ []
def dkwX3_provable_8 : List UInt8 := [21, 10, 153, 0, 8, 21, 8, 167, 0, 18, 16, 254, 167, 0, 13, 21, 10, 153, 0, 7, 5, 167, 0, 4]
abbrev dktX3_provable_8 : List UInt8 := dkwX3_provable_8 ++ dktX3_provable_9
def dkwX3_provable_7 : List UInt8 := [167, 0, 4, 3, 54, 10, 21, 4, 5, 160, 0, 8, 21, 9, 167, 0, 34, 21, 4, 4, 160, 0, 18]
abbrev dktX3_provable_7 : List UInt8 := dkwX3_provable_7 ++ dktX3_provable_8
def dkwX3_provable_6 : List UInt8 := [42, 180, 0, 17, 6, 46, 96, 54, 5, 167, 255, 192, 21, 7, 42, 180, 0, 17, 7, 46, 160, 0, 7, 4]
abbrev dktX3_provable_6 : List UInt8 := dkwX3_provable_6 ++ dktX3_provable_7
def dkwX3_provable_5 : List UInt8 := [21, 8, 160, 0, 10, 21, 7, 4, 96, 167, 0, 4, 4, 54, 7, 21, 10, 54, 8, 132, 9, 1, 21, 5]
abbrev dktX3_provable_5 : List UInt8 := dkwX3_provable_5 ++ dktX3_provable_6
def dkwX3_provable_4 : List UInt8 := [21, 7, 42, 180, 0, 17, 7, 46, 162, 0, 52, 42, 27, 28, 29, 21, 5, 182, 0, 205, 54, 10, 21, 10]
abbrev dktX3_provable_4 : List UInt8 := dkwX3_provable_4 ++ dktX3_provable_5
def dkwX3_provable_3 : List UInt8 := [4, 100, 184, 0, 238, 54, 6, 3, 54, 7, 16, 254, 54, 8, 3, 54, 9, 21, 5, 21, 6, 163, 0, 63]
abbrev dktX3_provable_3 : List UInt8 := dkwX3_provable_3 ++ dktX3_provable_4
def dkwX3_provable_2 : List UInt8 := [182, 0, 205, 5, 96, 54, 5, 16, 24, 42, 4, 28, 29, 2, 182, 0, 205, 42, 180, 0, 17, 4, 46, 96]
abbrev dktX3_provable_2 : List UInt8 := dkwX3_provable_2 ++ dktX3_provable_3
def dkwX3_provable_1 : List UInt8 := [167, 0, 4, 3, 184, 0, 191, 182, 0, 156, 153, 0, 5, 2, 172, 42, 3, 4, 28, 100, 29, 2]
abbrev dktX3_provable_1 : List UInt8 := dkwX3_provable_1 ++ dktX3_provable_2
def dkwX3_provable_0 : List UInt8 := [42, 42, 27, 28, 29, 182, 0, 188, 153, 0, 17, 21, 4, 3, 5, 184, 0, 70, 153, 0, 7, 4]
abbrev dktX3_provable_0 : List UInt8 := dkwX3_provable_0 ++ dktX3_provable_1
theorem dksX3_provable_0 : cX3_provable.data.toList.drop 0 = dktX3_provable_0 := by decide +kernel
theorem dksX3_provable_1 : cX3_provable.data.toList.drop 22 = dktX3_provable_1 := dk_seg dksX3_provable_0 22 rfl rfl
theorem dksX3_provable_2 : cX3_provable.data.toList.drop 44 = dktX3_provable_2 := dk_seg dksX3_provable_1 22 rfl rfl
theorem dksX3_provable_3 : cX3_provable.data.toList.drop 68 = dktX3_provable_3 := dk_seg dksX3_provable_2 24 rfl rfl
theorem dksX3_provable_4 : cX3_provable.data.toList.drop 92 = dktX3_provable_4 := dk_seg dksX3_provable_3 24 rfl rfl
theorem dksX3_provable_5 : cX3_provable.data.toList.drop 116 = dktX3_provable_5 := dk_seg dksX3_provable_4 24 rfl rfl
theorem dksX3_provable_6 : cX3_provable.data.toList.drop 140 = dktX3_provable_6 := dk_seg dksX3_provable_5 24 rfl rfl
theorem dksX3_provable_7 : cX3_provable.data.toList.drop 164 = dktX3_provable_7 := dk_seg dksX3_provable_6 24 rfl rfl
theorem dksX3_provable_8 : cX3_provable.data.toList.drop 187 = dktX3_provable_8 := dk_seg dksX3_provable_7 23 rfl rfl
theorem dksX3_provable_9 : cX3_provable.data.toList.drop 211 = dktX3_provable_9 := dk_seg dksX3_provable_8 24 rfl rfl
theorem dX3_provable_0 : decode cX3_provable 0 = .ok (.aload_n 0, 1) := dk_42 (dk_at dksX3_provable_0 0 rfl rfl)
theorem dX3_provable_1 : decode cX3_provable 1 = .ok (.aload_n 0, 1) := dk_42 (dk_at dksX3_provable_0 1 rfl rfl)
theorem dX3_provable_2 : decode cX3_provable 2 = .ok (.iload_n 1, 1) := dk_27 (dk_at dksX3_provable_0 2 rfl rfl)
theorem dX3_provable_3 : decode cX3_provable 3 = .ok (.iload_n 2, 1) := dk_28 (dk_at dksX3_provable_0 3 rfl rfl)
theorem dX3_provable_4 : decode cX3_provable 4 = .ok (.iload_n 3, 1) := dk_29 (dk_at dksX3_provable_0 4 rfl rfl)
theorem dX3_provable_5 : decode cX3_provable 5 = .ok (.invokevirtual 188, 3) := dk_182 0 188 (dk_at dksX3_provable_0 5 rfl rfl)
theorem dX3_provable_8 : decode cX3_provable 8 = .ok (.ifCond .eq 17, 3) := dk_153 0 17 (dk_at dksX3_provable_0 8 rfl rfl)
theorem dX3_provable_11 : decode cX3_provable 11 = .ok (.iload 4, 2) := dk_21 4 (dk_at dksX3_provable_0 11 rfl rfl)
theorem dX3_provable_13 : decode cX3_provable 13 = .ok (.iconst 0, 1) := dk_3 (dk_at dksX3_provable_0 13 rfl rfl)
theorem dX3_provable_14 : decode cX3_provable 14 = .ok (.iconst 2, 1) := dk_5 (dk_at dksX3_provable_0 14 rfl rfl)
theorem dX3_provable_15 : decode cX3_provable 15 = .ok (.invokestatic 70, 3) := dk_184 0 70 (dk_at dksX3_provable_0 15 rfl rfl)
theorem dX3_provable_18 : decode cX3_provable 18 = .ok (.ifCond .eq 7, 3) := dk_153 0 7 (dk_at dksX3_provable_0 18 rfl rfl)
theorem dX3_provable_21 : decode cX3_provable 21 = .ok (.iconst 1, 1) := dk_4 (dk_at dksX3_provable_0 21 rfl rfl)
theorem dX3_provable_22 : decode cX3_provable 22 = .ok (.goto 4, 3) := dk_167 0 4 (dk_at dksX3_provable_1 0 rfl rfl)
theorem dX3_provable_25 : decode cX3_provable 25 = .ok (.iconst 0, 1) := dk_3 (dk_at dksX3_provable_1 3 rfl rfl)
theorem dX3_provable_26 : decode cX3_provable 26 = .ok (.invokestatic 191, 3) := dk_184 0 191 (dk_at dksX3_provable_1 4 rfl rfl)
theorem dX3_provable_29 : decode cX3_provable 29 = .ok (.invokevirtual 156, 3) := dk_182 0 156 (dk_at dksX3_provable_1 7 rfl rfl)
theorem dX3_provable_32 : decode cX3_provable 32 = .ok (.ifCond .eq 5, 3) := dk_153 0 5 (dk_at dksX3_provable_1 10 rfl rfl)
theorem dX3_provable_35 : decode cX3_provable 35 = .ok (.iconst (-1), 1) := dk_2 (dk_at dksX3_provable_1 13 rfl rfl)
theorem dX3_provable_36 : decode cX3_provable 36 = .ok (.ireturn, 1) := dk_172 (dk_at dksX3_provable_1 14 rfl rfl)
theorem dX3_provable_37 : decode cX3_provable 37 = .ok (.aload_n 0, 1) := dk_42 (dk_at dksX3_provable_1 15 rfl rfl)
theorem dX3_provable_38 : decode cX3_provable 38 = .ok (.iconst 0, 1) := dk_3 (dk_at dksX3_provable_1 16 rfl rfl)
theorem dX3_provable_39 : decode cX3_provable 39 = .ok (.iconst 1, 1) := dk_4 (dk_at dksX3_provable_1 17 rfl rfl)
theorem dX3_provable_40 : decode cX3_provable 40 = .ok (.iload_n 2, 1) := dk_28 (dk_at dksX3_provable_1 18 rfl rfl)
theorem dX3_provable_41 : decode cX3_provable 41 = .ok (.isub, 1) := dk_100 (dk_at dksX3_provable_1 19 rfl rfl)
theorem dX3_provable_42 : decode cX3_provable 42 = .ok (.iload_n 3, 1) := dk_29 (dk_at dksX3_provable_1 20 rfl rfl)
theorem dX3_provable_43 : decode cX3_provable 43 = .ok (.iconst (-1), 1) := dk_2 (dk_at dksX3_provable_1 21 rfl rfl)
theorem dX3_provable_44 : decode cX3_provable 44 = .ok (.invokevirtual 205, 3) := dk_182 0 205 (dk_at dksX3_provable_2 0 rfl rfl)
theorem dX3_provable_47 : decode cX3_provable 47 = .ok (.iconst 2, 1) := dk_5 (dk_at dksX3_provable_2 3 rfl rfl)
theorem dX3_provable_48 : decode cX3_provable 48 = .ok (.iadd, 1) := dk_96 (dk_at dksX3_provable_2 4 rfl rfl)
theorem dX3_provable_49 : decode cX3_provable 49 = .ok (.istore 5, 2) := dk_54 5 (dk_at dksX3_provable_2 5 rfl rfl)
theorem dX3_provable_51 : decode cX3_provable 51 = .ok (.bipush 24, 2) := dk_16 24 (dk_at dksX3_provable_2 7 rfl rfl)
theorem dX3_provable_53 : decode cX3_provable 53 = .ok (.aload_n 0, 1) := dk_42 (dk_at dksX3_provable_2 9 rfl rfl)
theorem dX3_provable_54 : decode cX3_provable 54 = .ok (.iconst 1, 1) := dk_4 (dk_at dksX3_provable_2 10 rfl rfl)
theorem dX3_provable_55 : decode cX3_provable 55 = .ok (.iload_n 2, 1) := dk_28 (dk_at dksX3_provable_2 11 rfl rfl)
theorem dX3_provable_56 : decode cX3_provable 56 = .ok (.iload_n 3, 1) := dk_29 (dk_at dksX3_provable_2 12 rfl rfl)
theorem dX3_provable_57 : decode cX3_provable 57 = .ok (.iconst (-1), 1) := dk_2 (dk_at dksX3_provable_2 13 rfl rfl)
theorem dX3_provable_58 : decode cX3_provable 58 = .ok (.invokevirtual 205, 3) := dk_182 0 205 (dk_at dksX3_provable_2 14 rfl rfl)
theorem dX3_provable_61 : decode cX3_provable 61 = .ok (.aload_n 0, 1) := dk_42 (dk_at dksX3_provable_2 17 rfl rfl)
theorem dX3_provable_62 : decode cX3_provable 62 = .ok (.getfield 17, 3) := dk_180 0 17 (dk_at dksX3_provable_2 18 rfl rfl)
theorem dX3_provable_65 : decode cX3_provable 65 = .ok (.iconst 1, 1) := dk_4 (dk_at dksX3_provable_2 21 rfl rfl)
theorem dX3_provable_66 : decode cX3_provable 66 = .ok (.iaload, 1) := dk_46 (dk_at dksX3_provable_2 22 rfl rfl)
theorem dX3_provable_67 : decode cX3_provable 67 = .ok (.iadd, 1) := dk_96 (dk_at dksX3_provable_2 23 rfl rfl)
theorem dX3_provable_68 : decode cX3_provable 68 = .ok (.iconst 1, 1) := dk_4 (dk_at dksX3_provable_3 0 rfl rfl)
theorem dX3_provable_69 : decode cX3_provable 69 = .ok (.isub, 1) := dk_100 (dk_at dksX3_provable_3 1 rfl rfl)
theorem dX3_provable_70 : decode cX3_provable 70 = .ok (.invokestatic 238, 3) := dk_184 0 238 (dk_at dksX3_provable_3 2 rfl rfl)
theorem dX3_provable_73 : decode cX3_provable 73 = .ok (.istore 6, 2) := dk_54 6 (dk_at dksX3_provable_3 5 rfl rfl)
theorem dX3_provable_75 : decode cX3_provable 75 = .ok (.iconst 0, 1) := dk_3 (dk_at dksX3_provable_3 7 rfl rfl)
theorem dX3_provable_76 : decode cX3_provable 76 = .ok (.istore 7, 2) := dk_54 7 (dk_at dksX3_provable_3 8 rfl rfl)
theorem dX3_provable_78 : decode cX3_provable 78 = .ok (.bipush (-2), 2) := dk_16 254 (dk_at dksX3_provable_3 10 rfl rfl)
theorem dX3_provable_80 : decode cX3_provable 80 = .ok (.istore 8, 2) := dk_54 8 (dk_at dksX3_provable_3 12 rfl rfl)
theorem dX3_provable_82 : decode cX3_provable 82 = .ok (.iconst 0, 1) := dk_3 (dk_at dksX3_provable_3 14 rfl rfl)
theorem dX3_provable_83 : decode cX3_provable 83 = .ok (.istore 9, 2) := dk_54 9 (dk_at dksX3_provable_3 15 rfl rfl)
theorem dX3_provable_85 : decode cX3_provable 85 = .ok (.iload 5, 2) := dk_21 5 (dk_at dksX3_provable_3 17 rfl rfl)
theorem dX3_provable_87 : decode cX3_provable 87 = .ok (.iload 6, 2) := dk_21 6 (dk_at dksX3_provable_3 19 rfl rfl)
theorem dX3_provable_89 : decode cX3_provable 89 = .ok (.if_icmp .gt 63, 3) := dk_163 0 63 (dk_at dksX3_provable_3 21 rfl rfl)
theorem dX3_provable_92 : decode cX3_provable 92 = .ok (.iload 7, 2) := dk_21 7 (dk_at dksX3_provable_4 0 rfl rfl)
theorem dX3_provable_94 : decode cX3_provable 94 = .ok (.aload_n 0, 1) := dk_42 (dk_at dksX3_provable_4 2 rfl rfl)
theorem dX3_provable_95 : decode cX3_provable 95 = .ok (.getfield 17, 3) := dk_180 0 17 (dk_at dksX3_provable_4 3 rfl rfl)
theorem dX3_provable_98 : decode cX3_provable 98 = .ok (.iconst 4, 1) := dk_7 (dk_at dksX3_provable_4 6 rfl rfl)
theorem dX3_provable_99 : decode cX3_provable 99 = .ok (.iaload, 1) := dk_46 (dk_at dksX3_provable_4 7 rfl rfl)
theorem dX3_provable_100 : decode cX3_provable 100 = .ok (.if_icmp .ge 52, 3) := dk_162 0 52 (dk_at dksX3_provable_4 8 rfl rfl)
theorem dX3_provable_103 : decode cX3_provable 103 = .ok (.aload_n 0, 1) := dk_42 (dk_at dksX3_provable_4 11 rfl rfl)
theorem dX3_provable_104 : decode cX3_provable 104 = .ok (.iload_n 1, 1) := dk_27 (dk_at dksX3_provable_4 12 rfl rfl)
theorem dX3_provable_105 : decode cX3_provable 105 = .ok (.iload_n 2, 1) := dk_28 (dk_at dksX3_provable_4 13 rfl rfl)
theorem dX3_provable_106 : decode cX3_provable 106 = .ok (.iload_n 3, 1) := dk_29 (dk_at dksX3_provable_4 14 rfl rfl)
theorem dX3_provable_107 : decode cX3_provable 107 = .ok (.iload 5, 2) := dk_21 5 (dk_at dksX3_provable_4 15 rfl rfl)
theorem dX3_provable_109 : decode cX3_provable 109 = .ok (.invokevirtual 205, 3) := dk_182 0 205 (dk_at dksX3_provable_4 17 rfl rfl)
theorem dX3_provable_112 : decode cX3_provable 112 = .ok (.istore 10, 2) := dk_54 10 (dk_at dksX3_provable_4 20 rfl rfl)
theorem dX3_provable_114 : decode cX3_provable 114 = .ok (.iload 10, 2) := dk_21 10 (dk_at dksX3_provable_4 22 rfl rfl)
theorem dX3_provable_116 : decode cX3_provable 116 = .ok (.iload 8, 2) := dk_21 8 (dk_at dksX3_provable_5 0 rfl rfl)
theorem dX3_provable_118 : decode cX3_provable 118 = .ok (.if_icmp .ne 10, 3) := dk_160 0 10 (dk_at dksX3_provable_5 2 rfl rfl)
theorem dX3_provable_121 : decode cX3_provable 121 = .ok (.iload 7, 2) := dk_21 7 (dk_at dksX3_provable_5 5 rfl rfl)
theorem dX3_provable_123 : decode cX3_provable 123 = .ok (.iconst 1, 1) := dk_4 (dk_at dksX3_provable_5 7 rfl rfl)
theorem dX3_provable_124 : decode cX3_provable 124 = .ok (.iadd, 1) := dk_96 (dk_at dksX3_provable_5 8 rfl rfl)
theorem dX3_provable_125 : decode cX3_provable 125 = .ok (.goto 4, 3) := dk_167 0 4 (dk_at dksX3_provable_5 9 rfl rfl)
theorem dX3_provable_128 : decode cX3_provable 128 = .ok (.iconst 1, 1) := dk_4 (dk_at dksX3_provable_5 12 rfl rfl)
theorem dX3_provable_129 : decode cX3_provable 129 = .ok (.istore 7, 2) := dk_54 7 (dk_at dksX3_provable_5 13 rfl rfl)
theorem dX3_provable_131 : decode cX3_provable 131 = .ok (.iload 10, 2) := dk_21 10 (dk_at dksX3_provable_5 15 rfl rfl)
theorem dX3_provable_133 : decode cX3_provable 133 = .ok (.istore 8, 2) := dk_54 8 (dk_at dksX3_provable_5 17 rfl rfl)
theorem dX3_provable_135 : decode cX3_provable 135 = .ok (.iinc 9 1, 3) := dk_132 9 1 (dk_at dksX3_provable_5 19 rfl rfl)
theorem dX3_provable_138 : decode cX3_provable 138 = .ok (.iload 5, 2) := dk_21 5 (dk_at dksX3_provable_5 22 rfl rfl)
theorem dX3_provable_140 : decode cX3_provable 140 = .ok (.aload_n 0, 1) := dk_42 (dk_at dksX3_provable_6 0 rfl rfl)
theorem dX3_provable_141 : decode cX3_provable 141 = .ok (.getfield 17, 3) := dk_180 0 17 (dk_at dksX3_provable_6 1 rfl rfl)
theorem dX3_provable_144 : decode cX3_provable 144 = .ok (.iconst 3, 1) := dk_6 (dk_at dksX3_provable_6 4 rfl rfl)
theorem dX3_provable_145 : decode cX3_provable 145 = .ok (.iaload, 1) := dk_46 (dk_at dksX3_provable_6 5 rfl rfl)
theorem dX3_provable_146 : decode cX3_provable 146 = .ok (.iadd, 1) := dk_96 (dk_at dksX3_provable_6 6 rfl rfl)
theorem dX3_provable_147 : decode cX3_provable 147 = .ok (.istore 5, 2) := dk_54 5 (dk_at dksX3_provable_6 7 rfl rfl)
theorem dX3_provable_149 : decode cX3_provable 149 = .ok (.goto (-64), 3) := dk_167 255 192 (dk_at dksX3_provable_6 9 rfl rfl)
theorem dX3_provable_152 : decode cX3_provable 152 = .ok (.iload 7, 2) := dk_21 7 (dk_at dksX3_provable_6 12 rfl rfl)
theorem dX3_provable_154 : decode cX3_provable 154 = .ok (.aload_n 0, 1) := dk_42 (dk_at dksX3_provable_6 14 rfl rfl)
theorem dX3_provable_155 : decode cX3_provable 155 = .ok (.getfield 17, 3) := dk_180 0 17 (dk_at dksX3_provable_6 15 rfl rfl)
theorem dX3_provable_158 : decode cX3_provable 158 = .ok (.iconst 4, 1) := dk_7 (dk_at dksX3_provable_6 18 rfl rfl)
theorem dX3_provable_159 : decode cX3_provable 159 = .ok (.iaload, 1) := dk_46 (dk_at dksX3_provable_6 19 rfl rfl)
theorem dX3_provable_160 : decode cX3_provable 160 = .ok (.if_icmp .ne 7, 3) := dk_160 0 7 (dk_at dksX3_provable_6 20 rfl rfl)
theorem dX3_provable_163 : decode cX3_provable 163 = .ok (.iconst 1, 1) := dk_4 (dk_at dksX3_provable_6 23 rfl rfl)
theorem dX3_provable_164 : decode cX3_provable 164 = .ok (.goto 4, 3) := dk_167 0 4 (dk_at dksX3_provable_7 0 rfl rfl)
theorem dX3_provable_167 : decode cX3_provable 167 = .ok (.iconst 0, 1) := dk_3 (dk_at dksX3_provable_7 3 rfl rfl)
theorem dX3_provable_168 : decode cX3_provable 168 = .ok (.istore 10, 2) := dk_54 10 (dk_at dksX3_provable_7 4 rfl rfl)
theorem dX3_provable_170 : decode cX3_provable 170 = .ok (.iload 4, 2) := dk_21 4 (dk_at dksX3_provable_7 6 rfl rfl)
theorem dX3_provable_172 : decode cX3_provable 172 = .ok (.iconst 2, 1) := dk_5 (dk_at dksX3_provable_7 8 rfl rfl)
theorem dX3_provable_173 : decode cX3_provable 173 = .ok (.if_icmp .ne 8, 3) := dk_160 0 8 (dk_at dksX3_provable_7 9 rfl rfl)
theorem dX3_provable_176 : decode cX3_provable 176 = .ok (.iload 9, 2) := dk_21 9 (dk_at dksX3_provable_7 12 rfl rfl)
theorem dX3_provable_178 : decode cX3_provable 178 = .ok (.goto 34, 3) := dk_167 0 34 (dk_at dksX3_provable_7 14 rfl rfl)
theorem dX3_provable_181 : decode cX3_provable 181 = .ok (.iload 4, 2) := dk_21 4 (dk_at dksX3_provable_7 17 rfl rfl)
theorem dX3_provable_183 : decode cX3_provable 183 = .ok (.iconst 1, 1) := dk_4 (dk_at dksX3_provable_7 19 rfl rfl)
theorem dX3_provable_184 : decode cX3_provable 184 = .ok (.if_icmp .ne 18, 3) := dk_160 0 18 (dk_at dksX3_provable_7 20 rfl rfl)
theorem dX3_provable_187 : decode cX3_provable 187 = .ok (.iload 10, 2) := dk_21 10 (dk_at dksX3_provable_8 0 rfl rfl)
theorem dX3_provable_189 : decode cX3_provable 189 = .ok (.ifCond .eq 8, 3) := dk_153 0 8 (dk_at dksX3_provable_8 2 rfl rfl)
theorem dX3_provable_192 : decode cX3_provable 192 = .ok (.iload 8, 2) := dk_21 8 (dk_at dksX3_provable_8 5 rfl rfl)
theorem dX3_provable_194 : decode cX3_provable 194 = .ok (.goto 18, 3) := dk_167 0 18 (dk_at dksX3_provable_8 7 rfl rfl)
theorem dX3_provable_197 : decode cX3_provable 197 = .ok (.bipush (-2), 2) := dk_16 254 (dk_at dksX3_provable_8 10 rfl rfl)
theorem dX3_provable_199 : decode cX3_provable 199 = .ok (.goto 13, 3) := dk_167 0 13 (dk_at dksX3_provable_8 12 rfl rfl)
theorem dX3_provable_202 : decode cX3_provable 202 = .ok (.iload 10, 2) := dk_21 10 (dk_at dksX3_provable_8 15 rfl rfl)
theorem dX3_provable_204 : decode cX3_provable 204 = .ok (.ifCond .eq 7, 3) := dk_153 0 7 (dk_at dksX3_provable_8 17 rfl rfl)
theorem dX3_provable_207 : decode cX3_provable 207 = .ok (.iconst 2, 1) := dk_5 (dk_at dksX3_provable_8 20 rfl rfl)
theorem dX3_provable_208 : decode cX3_provable 208 = .ok (.goto 4, 3) := dk_167 0 4 (dk_at dksX3_provable_8 21 rfl rfl)
theorem dX3_provable_211 : decode cX3_provable 211 = .ok (.iconst 3, 1) := dk_6 (dk_at dksX3_provable_9 0 rfl rfl)
theorem dX3_provable_212 : decode cX3_provable 212 = .ok (.ireturn, 1) := dk_172 (dk_at dksX3_provable_9 1 rfl rfl)
abbrev cX3_about : ByteArray := prog_14_method_78_code
def yX3_about : MethodName := ⟨RX3, "about", "(I)I"⟩
def dkwX3_about_4 : List UInt8 := [8, 46, 172, 42, 180, 0, 17, 27, 46, 172]
abbrev dktX3_about_4 : List UInt8 := dkwX3_about_4 ++ []
def dkwX3_about_3 : List UInt8 := [42, 180, 0, 23, 16, 10, 46, 172, 42, 180, 0, 23, 3, 46, 172, 42, 182, 1, 41, 172, 42, 180, 0, 17]
abbrev dktX3_about_3 : List UInt8 := dkwX3_about_3 ++ dktX3_about_4
def dkwX3_about_2 : List UInt8 := [170, 0, 0, 0, 56, 0, 0, 0, 5, 0, 0, 0, 8, 0, 0, 0, 29, 0, 0, 0, 37, 0, 0, 0, 44, 0, 0, 0, 49]
abbrev dktX3_about_2 : List UInt8 := dkwX3_about_2 ++ dktX3_about_3
def dkwX3_about_1 : List UInt8 := [184, 0, 191, 182, 0, 156, 153, 0, 5, 2, 172, 27]
abbrev dktX3_about_1 : List UInt8 := dkwX3_about_1 ++ dktX3_about_2
def dkwX3_about_0 : List UInt8 := [42, 42, 180, 0, 168, 153, 0, 17, 27, 3, 16, 8, 184, 0, 70, 153, 0, 7, 4, 167, 0, 4, 3]
abbrev dktX3_about_0 : List UInt8 := dkwX3_about_0 ++ dktX3_about_1
theorem dksX3_about_0 : cX3_about.data.toList.drop 0 = dktX3_about_0 := by decide +kernel
theorem dksX3_about_1 : cX3_about.data.toList.drop 23 = dktX3_about_1 := dk_seg dksX3_about_0 23 rfl rfl
theorem dksX3_about_2 : cX3_about.data.toList.drop 35 = dktX3_about_2 := dk_seg dksX3_about_1 12 rfl rfl
theorem dksX3_about_3 : cX3_about.data.toList.drop 64 = dktX3_about_3 := dk_seg dksX3_about_2 29 rfl rfl
theorem dksX3_about_4 : cX3_about.data.toList.drop 88 = dktX3_about_4 := dk_seg dksX3_about_3 24 rfl rfl
theorem dX3_about_0 : decode cX3_about 0 = .ok (.aload_n 0, 1) := dk_42 (dk_at dksX3_about_0 0 rfl rfl)
theorem dX3_about_1 : decode cX3_about 1 = .ok (.aload_n 0, 1) := dk_42 (dk_at dksX3_about_0 1 rfl rfl)
theorem dX3_about_2 : decode cX3_about 2 = .ok (.getfield 168, 3) := dk_180 0 168 (dk_at dksX3_about_0 2 rfl rfl)
theorem dX3_about_5 : decode cX3_about 5 = .ok (.ifCond .eq 17, 3) := dk_153 0 17 (dk_at dksX3_about_0 5 rfl rfl)
theorem dX3_about_8 : decode cX3_about 8 = .ok (.iload_n 1, 1) := dk_27 (dk_at dksX3_about_0 8 rfl rfl)
theorem dX3_about_9 : decode cX3_about 9 = .ok (.iconst 0, 1) := dk_3 (dk_at dksX3_about_0 9 rfl rfl)
theorem dX3_about_10 : decode cX3_about 10 = .ok (.bipush 8, 2) := dk_16 8 (dk_at dksX3_about_0 10 rfl rfl)
theorem dX3_about_12 : decode cX3_about 12 = .ok (.invokestatic 70, 3) := dk_184 0 70 (dk_at dksX3_about_0 12 rfl rfl)
theorem dX3_about_15 : decode cX3_about 15 = .ok (.ifCond .eq 7, 3) := dk_153 0 7 (dk_at dksX3_about_0 15 rfl rfl)
theorem dX3_about_18 : decode cX3_about 18 = .ok (.iconst 1, 1) := dk_4 (dk_at dksX3_about_0 18 rfl rfl)
theorem dX3_about_19 : decode cX3_about 19 = .ok (.goto 4, 3) := dk_167 0 4 (dk_at dksX3_about_0 19 rfl rfl)
theorem dX3_about_22 : decode cX3_about 22 = .ok (.iconst 0, 1) := dk_3 (dk_at dksX3_about_0 22 rfl rfl)
theorem dX3_about_23 : decode cX3_about 23 = .ok (.invokestatic 191, 3) := dk_184 0 191 (dk_at dksX3_about_1 0 rfl rfl)
theorem dX3_about_26 : decode cX3_about 26 = .ok (.invokevirtual 156, 3) := dk_182 0 156 (dk_at dksX3_about_1 3 rfl rfl)
theorem dX3_about_29 : decode cX3_about 29 = .ok (.ifCond .eq 5, 3) := dk_153 0 5 (dk_at dksX3_about_1 6 rfl rfl)
theorem dX3_about_32 : decode cX3_about 32 = .ok (.iconst (-1), 1) := dk_2 (dk_at dksX3_about_1 9 rfl rfl)
theorem dX3_about_33 : decode cX3_about 33 = .ok (.ireturn, 1) := dk_172 (dk_at dksX3_about_1 10 rfl rfl)
theorem dX3_about_34 : decode cX3_about 34 = .ok (.iload_n 1, 1) := dk_27 (dk_at dksX3_about_1 11 rfl rfl)
theorem dX3_about_35 : decode cX3_about 35 = .ok (.tableswitch 56 5 8 #[29, 37, 44, 49], 29) := by decide +kernel
theorem dX3_about_64 : decode cX3_about 64 = .ok (.aload_n 0, 1) := dk_42 (dk_at dksX3_about_3 0 rfl rfl)
theorem dX3_about_65 : decode cX3_about 65 = .ok (.getfield 23, 3) := dk_180 0 23 (dk_at dksX3_about_3 1 rfl rfl)
theorem dX3_about_68 : decode cX3_about 68 = .ok (.bipush 10, 2) := dk_16 10 (dk_at dksX3_about_3 4 rfl rfl)
theorem dX3_about_70 : decode cX3_about 70 = .ok (.iaload, 1) := dk_46 (dk_at dksX3_about_3 6 rfl rfl)
theorem dX3_about_71 : decode cX3_about 71 = .ok (.ireturn, 1) := dk_172 (dk_at dksX3_about_3 7 rfl rfl)
theorem dX3_about_72 : decode cX3_about 72 = .ok (.aload_n 0, 1) := dk_42 (dk_at dksX3_about_3 8 rfl rfl)
theorem dX3_about_73 : decode cX3_about 73 = .ok (.getfield 23, 3) := dk_180 0 23 (dk_at dksX3_about_3 9 rfl rfl)
theorem dX3_about_76 : decode cX3_about 76 = .ok (.iconst 0, 1) := dk_3 (dk_at dksX3_about_3 12 rfl rfl)
theorem dX3_about_77 : decode cX3_about 77 = .ok (.iaload, 1) := dk_46 (dk_at dksX3_about_3 13 rfl rfl)
theorem dX3_about_78 : decode cX3_about 78 = .ok (.ireturn, 1) := dk_172 (dk_at dksX3_about_3 14 rfl rfl)
theorem dX3_about_79 : decode cX3_about 79 = .ok (.aload_n 0, 1) := dk_42 (dk_at dksX3_about_3 15 rfl rfl)
theorem dX3_about_80 : decode cX3_about 80 = .ok (.invokevirtual 297, 3) := dk_182 1 41 (dk_at dksX3_about_3 16 rfl rfl)
theorem dX3_about_83 : decode cX3_about 83 = .ok (.ireturn, 1) := dk_172 (dk_at dksX3_about_3 19 rfl rfl)
theorem dX3_about_84 : decode cX3_about 84 = .ok (.aload_n 0, 1) := dk_42 (dk_at dksX3_about_3 20 rfl rfl)
theorem dX3_about_85 : decode cX3_about 85 = .ok (.getfield 17, 3) := dk_180 0 17 (dk_at dksX3_about_3 21 rfl rfl)
theorem dX3_about_88 : decode cX3_about 88 = .ok (.iconst 5, 1) := dk_8 (dk_at dksX3_about_4 0 rfl rfl)
theorem dX3_about_89 : decode cX3_about 89 = .ok (.iaload, 1) := dk_46 (dk_at dksX3_about_4 1 rfl rfl)
theorem dX3_about_90 : decode cX3_about 90 = .ok (.ireturn, 1) := dk_172 (dk_at dksX3_about_4 2 rfl rfl)
theorem dX3_about_91 : decode cX3_about 91 = .ok (.aload_n 0, 1) := dk_42 (dk_at dksX3_about_4 3 rfl rfl)
theorem dX3_about_92 : decode cX3_about 92 = .ok (.getfield 17, 3) := dk_180 0 17 (dk_at dksX3_about_4 4 rfl rfl)
theorem dX3_about_95 : decode cX3_about 95 = .ok (.iload_n 1, 1) := dk_27 (dk_at dksX3_about_4 7 rfl rfl)
theorem dX3_about_96 : decode cX3_about 96 = .ok (.iaload, 1) := dk_46 (dk_at dksX3_about_4 8 rfl rfl)
theorem dX3_about_97 : decode cX3_about 97 = .ok (.ireturn, 1) := dk_172 (dk_at dksX3_about_4 9 rfl rfl)
abbrev cX3_throughMany : ByteArray := prog_14_method_77_code
def yX3_throughMany : MethodName := ⟨RX3, "throughMany", "()I"⟩
def dkwX3_throughMany_1 : List UInt8 := [46, 5, 161, 0, 7, 4, 167, 0, 4, 3, 96, 60, 132, 2, 1, 167, 255, 221, 27, 172]
abbrev dktX3_throughMany_1 : List UInt8 := dkwX3_throughMany_1 ++ []
def dkwX3_throughMany_0 : List UInt8 := [3, 60, 3, 61, 28, 42, 180, 0, 23, 3, 46, 162, 0, 31, 27, 42, 180, 0, 23, 28, 7, 184, 0, 213]
abbrev dktX3_throughMany_0 : List UInt8 := dkwX3_throughMany_0 ++ dktX3_throughMany_1
theorem dksX3_throughMany_0 : cX3_throughMany.data.toList.drop 0 = dktX3_throughMany_0 := by decide +kernel
theorem dksX3_throughMany_1 : cX3_throughMany.data.toList.drop 24 = dktX3_throughMany_1 := dk_seg dksX3_throughMany_0 24 rfl rfl
theorem dX3_throughMany_0 : decode cX3_throughMany 0 = .ok (.iconst 0, 1) := dk_3 (dk_at dksX3_throughMany_0 0 rfl rfl)
theorem dX3_throughMany_1 : decode cX3_throughMany 1 = .ok (.istore_n 1, 1) := dk_60 (dk_at dksX3_throughMany_0 1 rfl rfl)
theorem dX3_throughMany_2 : decode cX3_throughMany 2 = .ok (.iconst 0, 1) := dk_3 (dk_at dksX3_throughMany_0 2 rfl rfl)
theorem dX3_throughMany_3 : decode cX3_throughMany 3 = .ok (.istore_n 2, 1) := dk_61 (dk_at dksX3_throughMany_0 3 rfl rfl)
theorem dX3_throughMany_4 : decode cX3_throughMany 4 = .ok (.iload_n 2, 1) := dk_28 (dk_at dksX3_throughMany_0 4 rfl rfl)
theorem dX3_throughMany_5 : decode cX3_throughMany 5 = .ok (.aload_n 0, 1) := dk_42 (dk_at dksX3_throughMany_0 5 rfl rfl)
theorem dX3_throughMany_6 : decode cX3_throughMany 6 = .ok (.getfield 23, 3) := dk_180 0 23 (dk_at dksX3_throughMany_0 6 rfl rfl)
theorem dX3_throughMany_9 : decode cX3_throughMany 9 = .ok (.iconst 0, 1) := dk_3 (dk_at dksX3_throughMany_0 9 rfl rfl)
theorem dX3_throughMany_10 : decode cX3_throughMany 10 = .ok (.iaload, 1) := dk_46 (dk_at dksX3_throughMany_0 10 rfl rfl)
theorem dX3_throughMany_11 : decode cX3_throughMany 11 = .ok (.if_icmp .ge 31, 3) := dk_162 0 31 (dk_at dksX3_throughMany_0 11 rfl rfl)
theorem dX3_throughMany_14 : decode cX3_throughMany 14 = .ok (.iload_n 1, 1) := dk_27 (dk_at dksX3_throughMany_0 14 rfl rfl)
theorem dX3_throughMany_15 : decode cX3_throughMany 15 = .ok (.aload_n 0, 1) := dk_42 (dk_at dksX3_throughMany_0 15 rfl rfl)
theorem dX3_throughMany_16 : decode cX3_throughMany 16 = .ok (.getfield 23, 3) := dk_180 0 23 (dk_at dksX3_throughMany_0 16 rfl rfl)
theorem dX3_throughMany_19 : decode cX3_throughMany 19 = .ok (.iload_n 2, 1) := dk_28 (dk_at dksX3_throughMany_0 19 rfl rfl)
theorem dX3_throughMany_20 : decode cX3_throughMany 20 = .ok (.iconst 4, 1) := dk_7 (dk_at dksX3_throughMany_0 20 rfl rfl)
theorem dX3_throughMany_21 : decode cX3_throughMany 21 = .ok (.invokestatic 213, 3) := dk_184 0 213 (dk_at dksX3_throughMany_0 21 rfl rfl)
theorem dX3_throughMany_24 : decode cX3_throughMany 24 = .ok (.iaload, 1) := dk_46 (dk_at dksX3_throughMany_1 0 rfl rfl)
theorem dX3_throughMany_25 : decode cX3_throughMany 25 = .ok (.iconst 2, 1) := dk_5 (dk_at dksX3_throughMany_1 1 rfl rfl)
theorem dX3_throughMany_26 : decode cX3_throughMany 26 = .ok (.if_icmp .lt 7, 3) := dk_161 0 7 (dk_at dksX3_throughMany_1 2 rfl rfl)
theorem dX3_throughMany_29 : decode cX3_throughMany 29 = .ok (.iconst 1, 1) := dk_4 (dk_at dksX3_throughMany_1 5 rfl rfl)
theorem dX3_throughMany_30 : decode cX3_throughMany 30 = .ok (.goto 4, 3) := dk_167 0 4 (dk_at dksX3_throughMany_1 6 rfl rfl)
theorem dX3_throughMany_33 : decode cX3_throughMany 33 = .ok (.iconst 0, 1) := dk_3 (dk_at dksX3_throughMany_1 9 rfl rfl)
theorem dX3_throughMany_34 : decode cX3_throughMany 34 = .ok (.iadd, 1) := dk_96 (dk_at dksX3_throughMany_1 10 rfl rfl)
theorem dX3_throughMany_35 : decode cX3_throughMany 35 = .ok (.istore_n 1, 1) := dk_60 (dk_at dksX3_throughMany_1 11 rfl rfl)
theorem dX3_throughMany_36 : decode cX3_throughMany 36 = .ok (.iinc 2 1, 3) := dk_132 2 1 (dk_at dksX3_throughMany_1 12 rfl rfl)
theorem dX3_throughMany_39 : decode cX3_throughMany 39 = .ok (.goto (-35), 3) := dk_167 255 221 (dk_at dksX3_throughMany_1 15 rfl rfl)
theorem dX3_throughMany_42 : decode cX3_throughMany 42 = .ok (.iload_n 1, 1) := dk_27 (dk_at dksX3_throughMany_1 18 rfl rfl)
theorem dX3_throughMany_43 : decode cX3_throughMany 43 = .ok (.ireturn, 1) := dk_172 (dk_at dksX3_throughMany_1 19 rfl rfl)
abbrev cX3_task : ByteArray := prog_14_method_79_code
def yX3_task : MethodName := ⟨RX3, "task", "(II)I"⟩
def dkwX3_task_2 : List UInt8 := [2, 167, 0, 13, 42, 180, 0, 23, 27, 28, 184, 0, 213, 46, 172]
abbrev dktX3_task_2 : List UInt8 := dkwX3_task_2 ++ []
def dkwX3_task_1 : List UInt8 := [28, 3, 16, 10, 184, 0, 70, 153, 0, 7, 4, 167, 0, 4, 3, 184, 0, 191, 182, 0, 156, 153, 0, 7]
abbrev dktX3_task_1 : List UInt8 := dkwX3_task_1 ++ dktX3_task_2
def dkwX3_task_0 : List UInt8 := [42, 42, 180, 0, 168, 153, 0, 33, 27, 3, 42, 180, 0, 23, 3, 46, 4, 100, 184, 0, 70, 153, 0, 17]
abbrev dktX3_task_0 : List UInt8 := dkwX3_task_0 ++ dktX3_task_1
theorem dksX3_task_0 : cX3_task.data.toList.drop 0 = dktX3_task_0 := by decide +kernel
theorem dksX3_task_1 : cX3_task.data.toList.drop 24 = dktX3_task_1 := dk_seg dksX3_task_0 24 rfl rfl
theorem dksX3_task_2 : cX3_task.data.toList.drop 48 = dktX3_task_2 := dk_seg dksX3_task_1 24 rfl rfl
theorem dX3_task_0 : decode cX3_task 0 = .ok (.aload_n 0, 1) := dk_42 (dk_at dksX3_task_0 0 rfl rfl)
theorem dX3_task_1 : decode cX3_task 1 = .ok (.aload_n 0, 1) := dk_42 (dk_at dksX3_task_0 1 rfl rfl)
theorem dX3_task_2 : decode cX3_task 2 = .ok (.getfield 168, 3) := dk_180 0 168 (dk_at dksX3_task_0 2 rfl rfl)
theorem dX3_task_5 : decode cX3_task 5 = .ok (.ifCond .eq 33, 3) := dk_153 0 33 (dk_at dksX3_task_0 5 rfl rfl)
theorem dX3_task_8 : decode cX3_task 8 = .ok (.iload_n 1, 1) := dk_27 (dk_at dksX3_task_0 8 rfl rfl)
theorem dX3_task_9 : decode cX3_task 9 = .ok (.iconst 0, 1) := dk_3 (dk_at dksX3_task_0 9 rfl rfl)
theorem dX3_task_10 : decode cX3_task 10 = .ok (.aload_n 0, 1) := dk_42 (dk_at dksX3_task_0 10 rfl rfl)
theorem dX3_task_11 : decode cX3_task 11 = .ok (.getfield 23, 3) := dk_180 0 23 (dk_at dksX3_task_0 11 rfl rfl)
theorem dX3_task_14 : decode cX3_task 14 = .ok (.iconst 0, 1) := dk_3 (dk_at dksX3_task_0 14 rfl rfl)
theorem dX3_task_15 : decode cX3_task 15 = .ok (.iaload, 1) := dk_46 (dk_at dksX3_task_0 15 rfl rfl)
theorem dX3_task_16 : decode cX3_task 16 = .ok (.iconst 1, 1) := dk_4 (dk_at dksX3_task_0 16 rfl rfl)
theorem dX3_task_17 : decode cX3_task 17 = .ok (.isub, 1) := dk_100 (dk_at dksX3_task_0 17 rfl rfl)
theorem dX3_task_18 : decode cX3_task 18 = .ok (.invokestatic 70, 3) := dk_184 0 70 (dk_at dksX3_task_0 18 rfl rfl)
theorem dX3_task_21 : decode cX3_task 21 = .ok (.ifCond .eq 17, 3) := dk_153 0 17 (dk_at dksX3_task_0 21 rfl rfl)
theorem dX3_task_24 : decode cX3_task 24 = .ok (.iload_n 2, 1) := dk_28 (dk_at dksX3_task_1 0 rfl rfl)
theorem dX3_task_25 : decode cX3_task 25 = .ok (.iconst 0, 1) := dk_3 (dk_at dksX3_task_1 1 rfl rfl)
theorem dX3_task_26 : decode cX3_task 26 = .ok (.bipush 10, 2) := dk_16 10 (dk_at dksX3_task_1 2 rfl rfl)
theorem dX3_task_28 : decode cX3_task 28 = .ok (.invokestatic 70, 3) := dk_184 0 70 (dk_at dksX3_task_1 4 rfl rfl)
theorem dX3_task_31 : decode cX3_task 31 = .ok (.ifCond .eq 7, 3) := dk_153 0 7 (dk_at dksX3_task_1 7 rfl rfl)
theorem dX3_task_34 : decode cX3_task 34 = .ok (.iconst 1, 1) := dk_4 (dk_at dksX3_task_1 10 rfl rfl)
theorem dX3_task_35 : decode cX3_task 35 = .ok (.goto 4, 3) := dk_167 0 4 (dk_at dksX3_task_1 11 rfl rfl)
theorem dX3_task_38 : decode cX3_task 38 = .ok (.iconst 0, 1) := dk_3 (dk_at dksX3_task_1 14 rfl rfl)
theorem dX3_task_39 : decode cX3_task 39 = .ok (.invokestatic 191, 3) := dk_184 0 191 (dk_at dksX3_task_1 15 rfl rfl)
theorem dX3_task_42 : decode cX3_task 42 = .ok (.invokevirtual 156, 3) := dk_182 0 156 (dk_at dksX3_task_1 18 rfl rfl)
theorem dX3_task_45 : decode cX3_task 45 = .ok (.ifCond .eq 7, 3) := dk_153 0 7 (dk_at dksX3_task_1 21 rfl rfl)
theorem dX3_task_48 : decode cX3_task 48 = .ok (.iconst (-1), 1) := dk_2 (dk_at dksX3_task_2 0 rfl rfl)
theorem dX3_task_49 : decode cX3_task 49 = .ok (.goto 13, 3) := dk_167 0 13 (dk_at dksX3_task_2 1 rfl rfl)
theorem dX3_task_52 : decode cX3_task 52 = .ok (.aload_n 0, 1) := dk_42 (dk_at dksX3_task_2 4 rfl rfl)
theorem dX3_task_53 : decode cX3_task 53 = .ok (.getfield 23, 3) := dk_180 0 23 (dk_at dksX3_task_2 5 rfl rfl)
theorem dX3_task_56 : decode cX3_task 56 = .ok (.iload_n 1, 1) := dk_27 (dk_at dksX3_task_2 8 rfl rfl)
theorem dX3_task_57 : decode cX3_task 57 = .ok (.iload_n 2, 1) := dk_28 (dk_at dksX3_task_2 9 rfl rfl)
theorem dX3_task_58 : decode cX3_task 58 = .ok (.invokestatic 213, 3) := dk_184 0 213 (dk_at dksX3_task_2 10 rfl rfl)
theorem dX3_task_61 : decode cX3_task 61 = .ok (.iaload, 1) := dk_46 (dk_at dksX3_task_2 13 rfl rfl)
theorem dX3_task_62 : decode cX3_task 62 = .ok (.ireturn, 1) := dk_172 (dk_at dksX3_task_2 14 rfl rfl)
abbrev cX3_find : ByteArray := prog_14_method_80_code
def yX3_find : MethodName := ⟨RX3, "find", "(IIIZ)I"⟩
def dkwX3_find_1 : List UInt8 := [42, 27, 28, 29, 182, 1, 44, 167, 0, 10, 42, 27, 28, 29, 182, 0, 226, 172]
abbrev dktX3_find_1 : List UInt8 := dkwX3_find_1 ++ []
def dkwX3_find_0 : List UInt8 := [42, 42, 27, 28, 29, 182, 0, 188, 184, 0, 191, 182, 0, 156, 153, 0, 5, 2, 172, 21, 4, 153, 0, 13]
abbrev dktX3_find_0 : List UInt8 := dkwX3_find_0 ++ dktX3_find_1
theorem dksX3_find_0 : cX3_find.data.toList.drop 0 = dktX3_find_0 := by decide +kernel
theorem dksX3_find_1 : cX3_find.data.toList.drop 24 = dktX3_find_1 := dk_seg dksX3_find_0 24 rfl rfl
theorem dX3_find_0 : decode cX3_find 0 = .ok (.aload_n 0, 1) := dk_42 (dk_at dksX3_find_0 0 rfl rfl)
theorem dX3_find_1 : decode cX3_find 1 = .ok (.aload_n 0, 1) := dk_42 (dk_at dksX3_find_0 1 rfl rfl)
theorem dX3_find_2 : decode cX3_find 2 = .ok (.iload_n 1, 1) := dk_27 (dk_at dksX3_find_0 2 rfl rfl)
theorem dX3_find_3 : decode cX3_find 3 = .ok (.iload_n 2, 1) := dk_28 (dk_at dksX3_find_0 3 rfl rfl)
theorem dX3_find_4 : decode cX3_find 4 = .ok (.iload_n 3, 1) := dk_29 (dk_at dksX3_find_0 4 rfl rfl)
theorem dX3_find_5 : decode cX3_find 5 = .ok (.invokevirtual 188, 3) := dk_182 0 188 (dk_at dksX3_find_0 5 rfl rfl)
theorem dX3_find_8 : decode cX3_find 8 = .ok (.invokestatic 191, 3) := dk_184 0 191 (dk_at dksX3_find_0 8 rfl rfl)
theorem dX3_find_11 : decode cX3_find 11 = .ok (.invokevirtual 156, 3) := dk_182 0 156 (dk_at dksX3_find_0 11 rfl rfl)
theorem dX3_find_14 : decode cX3_find 14 = .ok (.ifCond .eq 5, 3) := dk_153 0 5 (dk_at dksX3_find_0 14 rfl rfl)
theorem dX3_find_17 : decode cX3_find 17 = .ok (.iconst (-1), 1) := dk_2 (dk_at dksX3_find_0 17 rfl rfl)
theorem dX3_find_18 : decode cX3_find 18 = .ok (.ireturn, 1) := dk_172 (dk_at dksX3_find_0 18 rfl rfl)
theorem dX3_find_19 : decode cX3_find 19 = .ok (.iload 4, 2) := dk_21 4 (dk_at dksX3_find_0 19 rfl rfl)
theorem dX3_find_21 : decode cX3_find 21 = .ok (.ifCond .eq 13, 3) := dk_153 0 13 (dk_at dksX3_find_0 21 rfl rfl)
theorem dX3_find_24 : decode cX3_find 24 = .ok (.aload_n 0, 1) := dk_42 (dk_at dksX3_find_1 0 rfl rfl)
theorem dX3_find_25 : decode cX3_find 25 = .ok (.iload_n 1, 1) := dk_27 (dk_at dksX3_find_1 1 rfl rfl)
theorem dX3_find_26 : decode cX3_find 26 = .ok (.iload_n 2, 1) := dk_28 (dk_at dksX3_find_1 2 rfl rfl)
theorem dX3_find_27 : decode cX3_find 27 = .ok (.iload_n 3, 1) := dk_29 (dk_at dksX3_find_1 3 rfl rfl)
theorem dX3_find_28 : decode cX3_find 28 = .ok (.invokevirtual 300, 3) := dk_182 1 44 (dk_at dksX3_find_1 4 rfl rfl)
theorem dX3_find_31 : decode cX3_find 31 = .ok (.goto 10, 3) := dk_167 0 10 (dk_at dksX3_find_1 7 rfl rfl)
theorem dX3_find_34 : decode cX3_find 34 = .ok (.aload_n 0, 1) := dk_42 (dk_at dksX3_find_1 10 rfl rfl)
theorem dX3_find_35 : decode cX3_find 35 = .ok (.iload_n 1, 1) := dk_27 (dk_at dksX3_find_1 11 rfl rfl)
theorem dX3_find_36 : decode cX3_find 36 = .ok (.iload_n 2, 1) := dk_28 (dk_at dksX3_find_1 12 rfl rfl)
theorem dX3_find_37 : decode cX3_find 37 = .ok (.iload_n 3, 1) := dk_29 (dk_at dksX3_find_1 13 rfl rfl)
theorem dX3_find_38 : decode cX3_find 38 = .ok (.invokevirtual 226, 3) := dk_182 0 226 (dk_at dksX3_find_1 14 rfl rfl)
theorem dX3_find_41 : decode cX3_find 41 = .ok (.ireturn, 1) := dk_172 (dk_at dksX3_find_1 17 rfl rfl)
abbrev cX3_masked : ByteArray := prog_14_method_45_code
def yX3_masked : MethodName := ⟨RX3, "masked", "(III)I"⟩
def dkwX3_masked_3 : List UInt8 := [132, 4, 1, 167, 255, 194, 16, 254, 172]
abbrev dktX3_masked_3 : List UInt8 := dkwX3_masked_3 ++ []
def dkwX3_masked_2 : List UInt8 := [46, 28, 160, 0, 21, 42, 180, 0, 23, 21, 4, 5, 184, 0, 213, 46, 29, 160, 0, 6, 21, 4, 172]
abbrev dktX3_masked_2 : List UInt8 := dkwX3_masked_2 ++ dktX3_masked_3
def dkwX3_masked_1 : List UInt8 := [180, 0, 23, 21, 4, 3, 184, 0, 213, 46, 27, 160, 0, 36, 42, 180, 0, 23, 21, 4, 4, 184, 0, 213]
abbrev dktX3_masked_1 : List UInt8 := dkwX3_masked_1 ++ dktX3_masked_2
def dkwX3_masked_0 : List UInt8 := [7, 42, 180, 0, 17, 3, 46, 104, 54, 4, 21, 4, 42, 180, 0, 23, 3, 46, 162, 0, 57, 42]
abbrev dktX3_masked_0 : List UInt8 := dkwX3_masked_0 ++ dktX3_masked_1
theorem dksX3_masked_0 : cX3_masked.data.toList.drop 0 = dktX3_masked_0 := by decide +kernel
theorem dksX3_masked_1 : cX3_masked.data.toList.drop 22 = dktX3_masked_1 := dk_seg dksX3_masked_0 22 rfl rfl
theorem dksX3_masked_2 : cX3_masked.data.toList.drop 46 = dktX3_masked_2 := dk_seg dksX3_masked_1 24 rfl rfl
theorem dksX3_masked_3 : cX3_masked.data.toList.drop 69 = dktX3_masked_3 := dk_seg dksX3_masked_2 23 rfl rfl
theorem dX3_masked_0 : decode cX3_masked 0 = .ok (.iconst 4, 1) := dk_7 (dk_at dksX3_masked_0 0 rfl rfl)
theorem dX3_masked_1 : decode cX3_masked 1 = .ok (.aload_n 0, 1) := dk_42 (dk_at dksX3_masked_0 1 rfl rfl)
theorem dX3_masked_2 : decode cX3_masked 2 = .ok (.getfield 17, 3) := dk_180 0 17 (dk_at dksX3_masked_0 2 rfl rfl)
theorem dX3_masked_5 : decode cX3_masked 5 = .ok (.iconst 0, 1) := dk_3 (dk_at dksX3_masked_0 5 rfl rfl)
theorem dX3_masked_6 : decode cX3_masked 6 = .ok (.iaload, 1) := dk_46 (dk_at dksX3_masked_0 6 rfl rfl)
theorem dX3_masked_7 : decode cX3_masked 7 = .ok (.imul, 1) := dk_104 (dk_at dksX3_masked_0 7 rfl rfl)
theorem dX3_masked_8 : decode cX3_masked 8 = .ok (.istore 4, 2) := dk_54 4 (dk_at dksX3_masked_0 8 rfl rfl)
theorem dX3_masked_10 : decode cX3_masked 10 = .ok (.iload 4, 2) := dk_21 4 (dk_at dksX3_masked_0 10 rfl rfl)
theorem dX3_masked_12 : decode cX3_masked 12 = .ok (.aload_n 0, 1) := dk_42 (dk_at dksX3_masked_0 12 rfl rfl)
theorem dX3_masked_13 : decode cX3_masked 13 = .ok (.getfield 23, 3) := dk_180 0 23 (dk_at dksX3_masked_0 13 rfl rfl)
theorem dX3_masked_16 : decode cX3_masked 16 = .ok (.iconst 0, 1) := dk_3 (dk_at dksX3_masked_0 16 rfl rfl)
theorem dX3_masked_17 : decode cX3_masked 17 = .ok (.iaload, 1) := dk_46 (dk_at dksX3_masked_0 17 rfl rfl)
theorem dX3_masked_18 : decode cX3_masked 18 = .ok (.if_icmp .ge 57, 3) := dk_162 0 57 (dk_at dksX3_masked_0 18 rfl rfl)
theorem dX3_masked_21 : decode cX3_masked 21 = .ok (.aload_n 0, 1) := dk_42 (dk_at dksX3_masked_0 21 rfl rfl)
theorem dX3_masked_22 : decode cX3_masked 22 = .ok (.getfield 23, 3) := dk_180 0 23 (dk_at dksX3_masked_1 0 rfl rfl)
theorem dX3_masked_25 : decode cX3_masked 25 = .ok (.iload 4, 2) := dk_21 4 (dk_at dksX3_masked_1 3 rfl rfl)
theorem dX3_masked_27 : decode cX3_masked 27 = .ok (.iconst 0, 1) := dk_3 (dk_at dksX3_masked_1 5 rfl rfl)
theorem dX3_masked_28 : decode cX3_masked 28 = .ok (.invokestatic 213, 3) := dk_184 0 213 (dk_at dksX3_masked_1 6 rfl rfl)
theorem dX3_masked_31 : decode cX3_masked 31 = .ok (.iaload, 1) := dk_46 (dk_at dksX3_masked_1 9 rfl rfl)
theorem dX3_masked_32 : decode cX3_masked 32 = .ok (.iload_n 1, 1) := dk_27 (dk_at dksX3_masked_1 10 rfl rfl)
theorem dX3_masked_33 : decode cX3_masked 33 = .ok (.if_icmp .ne 36, 3) := dk_160 0 36 (dk_at dksX3_masked_1 11 rfl rfl)
theorem dX3_masked_36 : decode cX3_masked 36 = .ok (.aload_n 0, 1) := dk_42 (dk_at dksX3_masked_1 14 rfl rfl)
theorem dX3_masked_37 : decode cX3_masked 37 = .ok (.getfield 23, 3) := dk_180 0 23 (dk_at dksX3_masked_1 15 rfl rfl)
theorem dX3_masked_40 : decode cX3_masked 40 = .ok (.iload 4, 2) := dk_21 4 (dk_at dksX3_masked_1 18 rfl rfl)
theorem dX3_masked_42 : decode cX3_masked 42 = .ok (.iconst 1, 1) := dk_4 (dk_at dksX3_masked_1 20 rfl rfl)
theorem dX3_masked_43 : decode cX3_masked 43 = .ok (.invokestatic 213, 3) := dk_184 0 213 (dk_at dksX3_masked_1 21 rfl rfl)
theorem dX3_masked_46 : decode cX3_masked 46 = .ok (.iaload, 1) := dk_46 (dk_at dksX3_masked_2 0 rfl rfl)
theorem dX3_masked_47 : decode cX3_masked 47 = .ok (.iload_n 2, 1) := dk_28 (dk_at dksX3_masked_2 1 rfl rfl)
theorem dX3_masked_48 : decode cX3_masked 48 = .ok (.if_icmp .ne 21, 3) := dk_160 0 21 (dk_at dksX3_masked_2 2 rfl rfl)
theorem dX3_masked_51 : decode cX3_masked 51 = .ok (.aload_n 0, 1) := dk_42 (dk_at dksX3_masked_2 5 rfl rfl)
theorem dX3_masked_52 : decode cX3_masked 52 = .ok (.getfield 23, 3) := dk_180 0 23 (dk_at dksX3_masked_2 6 rfl rfl)
theorem dX3_masked_55 : decode cX3_masked 55 = .ok (.iload 4, 2) := dk_21 4 (dk_at dksX3_masked_2 9 rfl rfl)
theorem dX3_masked_57 : decode cX3_masked 57 = .ok (.iconst 2, 1) := dk_5 (dk_at dksX3_masked_2 11 rfl rfl)
theorem dX3_masked_58 : decode cX3_masked 58 = .ok (.invokestatic 213, 3) := dk_184 0 213 (dk_at dksX3_masked_2 12 rfl rfl)
theorem dX3_masked_61 : decode cX3_masked 61 = .ok (.iaload, 1) := dk_46 (dk_at dksX3_masked_2 15 rfl rfl)
theorem dX3_masked_62 : decode cX3_masked 62 = .ok (.iload_n 3, 1) := dk_29 (dk_at dksX3_masked_2 16 rfl rfl)
theorem dX3_masked_63 : decode cX3_masked 63 = .ok (.if_icmp .ne 6, 3) := dk_160 0 6 (dk_at dksX3_masked_2 17 rfl rfl)
theorem dX3_masked_66 : decode cX3_masked 66 = .ok (.iload 4, 2) := dk_21 4 (dk_at dksX3_masked_2 20 rfl rfl)
theorem dX3_masked_68 : decode cX3_masked 68 = .ok (.ireturn, 1) := dk_172 (dk_at dksX3_masked_2 22 rfl rfl)
theorem dX3_masked_69 : decode cX3_masked 69 = .ok (.iinc 4 1, 3) := dk_132 4 1 (dk_at dksX3_masked_3 0 rfl rfl)
theorem dX3_masked_72 : decode cX3_masked 72 = .ok (.goto (-62), 3) := dk_167 255 194 (dk_at dksX3_masked_3 3 rfl rfl)
theorem dX3_masked_75 : decode cX3_masked 75 = .ok (.bipush (-2), 2) := dk_16 254 (dk_at dksX3_masked_3 6 rfl rfl)
theorem dX3_masked_77 : decode cX3_masked 77 = .ok (.ireturn, 1) := dk_172 (dk_at dksX3_masked_3 8 rfl rfl)
abbrev cX3_told : ByteArray := prog_14_method_82_code
def yX3_told : MethodName := ⟨RX3, "told", "(III)I"⟩
def dkwX3_told_1 : List UInt8 := [29, 182, 1, 47, 172]
abbrev dktX3_told_1 : List UInt8 := dkwX3_told_1 ++ []
def dkwX3_told_0 : List UInt8 := [42, 42, 27, 28, 29, 182, 0, 188, 184, 0, 191, 182, 0, 156, 153, 0, 7, 2, 167, 0, 10, 42, 27, 28]
abbrev dktX3_told_0 : List UInt8 := dkwX3_told_0 ++ dktX3_told_1
theorem dksX3_told_0 : cX3_told.data.toList.drop 0 = dktX3_told_0 := by decide +kernel
theorem dksX3_told_1 : cX3_told.data.toList.drop 24 = dktX3_told_1 := dk_seg dksX3_told_0 24 rfl rfl
theorem dX3_told_0 : decode cX3_told 0 = .ok (.aload_n 0, 1) := dk_42 (dk_at dksX3_told_0 0 rfl rfl)
theorem dX3_told_1 : decode cX3_told 1 = .ok (.aload_n 0, 1) := dk_42 (dk_at dksX3_told_0 1 rfl rfl)
theorem dX3_told_2 : decode cX3_told 2 = .ok (.iload_n 1, 1) := dk_27 (dk_at dksX3_told_0 2 rfl rfl)
theorem dX3_told_3 : decode cX3_told 3 = .ok (.iload_n 2, 1) := dk_28 (dk_at dksX3_told_0 3 rfl rfl)
theorem dX3_told_4 : decode cX3_told 4 = .ok (.iload_n 3, 1) := dk_29 (dk_at dksX3_told_0 4 rfl rfl)
theorem dX3_told_5 : decode cX3_told 5 = .ok (.invokevirtual 188, 3) := dk_182 0 188 (dk_at dksX3_told_0 5 rfl rfl)
theorem dX3_told_8 : decode cX3_told 8 = .ok (.invokestatic 191, 3) := dk_184 0 191 (dk_at dksX3_told_0 8 rfl rfl)
theorem dX3_told_11 : decode cX3_told 11 = .ok (.invokevirtual 156, 3) := dk_182 0 156 (dk_at dksX3_told_0 11 rfl rfl)
theorem dX3_told_14 : decode cX3_told 14 = .ok (.ifCond .eq 7, 3) := dk_153 0 7 (dk_at dksX3_told_0 14 rfl rfl)
theorem dX3_told_17 : decode cX3_told 17 = .ok (.iconst (-1), 1) := dk_2 (dk_at dksX3_told_0 17 rfl rfl)
theorem dX3_told_18 : decode cX3_told 18 = .ok (.goto 10, 3) := dk_167 0 10 (dk_at dksX3_told_0 18 rfl rfl)
theorem dX3_told_21 : decode cX3_told 21 = .ok (.aload_n 0, 1) := dk_42 (dk_at dksX3_told_0 21 rfl rfl)
theorem dX3_told_22 : decode cX3_told 22 = .ok (.iload_n 1, 1) := dk_27 (dk_at dksX3_told_0 22 rfl rfl)
theorem dX3_told_23 : decode cX3_told 23 = .ok (.iload_n 2, 1) := dk_28 (dk_at dksX3_told_0 23 rfl rfl)
theorem dX3_told_24 : decode cX3_told 24 = .ok (.iload_n 3, 1) := dk_29 (dk_at dksX3_told_1 0 rfl rfl)
theorem dX3_told_25 : decode cX3_told 25 = .ok (.invokevirtual 303, 3) := dk_182 1 47 (dk_at dksX3_told_1 1 rfl rfl)
theorem dX3_told_28 : decode cX3_told 28 = .ok (.ireturn, 1) := dk_172 (dk_at dksX3_told_1 4 rfl rfl)
abbrev cX3_toldOf : ByteArray := prog_14_method_81_code
def yX3_toldOf : MethodName := ⟨RX3, "toldOf", "(III)I"⟩
def dkwX3_toldOf_3 : List UInt8 := [16, 254, 167, 0, 5, 16, 253, 172]
abbrev dktX3_toldOf_3 : List UInt8 := dkwX3_toldOf_3 ++ []
def dkwX3_toldOf_2 : List UInt8 := [160, 0, 17, 42, 180, 0, 23, 21, 4, 8, 184, 0, 213, 46, 167, 0, 16, 21, 5, 5, 162, 0, 8]
abbrev dktX3_toldOf_2 : List UInt8 := dkwX3_toldOf_2 ++ dktX3_toldOf_3
def dkwX3_toldOf_1 : List UInt8 := [167, 0, 5, 21, 4, 54, 4, 42, 180, 0, 23, 21, 4, 7, 184, 0, 213, 46, 54, 5, 21, 5, 5]
abbrev dktX3_toldOf_1 : List UInt8 := dkwX3_toldOf_1 ++ dktX3_toldOf_2
def dkwX3_toldOf_0 : List UInt8 := [42, 27, 28, 29, 182, 1, 44, 54, 4, 21, 4, 16, 254, 160, 0, 13, 42, 27, 28, 29, 182, 0, 226]
abbrev dktX3_toldOf_0 : List UInt8 := dkwX3_toldOf_0 ++ dktX3_toldOf_1
theorem dksX3_toldOf_0 : cX3_toldOf.data.toList.drop 0 = dktX3_toldOf_0 := by decide +kernel
theorem dksX3_toldOf_1 : cX3_toldOf.data.toList.drop 23 = dktX3_toldOf_1 := dk_seg dksX3_toldOf_0 23 rfl rfl
theorem dksX3_toldOf_2 : cX3_toldOf.data.toList.drop 46 = dktX3_toldOf_2 := dk_seg dksX3_toldOf_1 23 rfl rfl
theorem dksX3_toldOf_3 : cX3_toldOf.data.toList.drop 69 = dktX3_toldOf_3 := dk_seg dksX3_toldOf_2 23 rfl rfl
theorem dX3_toldOf_0 : decode cX3_toldOf 0 = .ok (.aload_n 0, 1) := dk_42 (dk_at dksX3_toldOf_0 0 rfl rfl)
theorem dX3_toldOf_1 : decode cX3_toldOf 1 = .ok (.iload_n 1, 1) := dk_27 (dk_at dksX3_toldOf_0 1 rfl rfl)
theorem dX3_toldOf_2 : decode cX3_toldOf 2 = .ok (.iload_n 2, 1) := dk_28 (dk_at dksX3_toldOf_0 2 rfl rfl)
theorem dX3_toldOf_3 : decode cX3_toldOf 3 = .ok (.iload_n 3, 1) := dk_29 (dk_at dksX3_toldOf_0 3 rfl rfl)
theorem dX3_toldOf_4 : decode cX3_toldOf 4 = .ok (.invokevirtual 300, 3) := dk_182 1 44 (dk_at dksX3_toldOf_0 4 rfl rfl)
theorem dX3_toldOf_7 : decode cX3_toldOf 7 = .ok (.istore 4, 2) := dk_54 4 (dk_at dksX3_toldOf_0 7 rfl rfl)
theorem dX3_toldOf_9 : decode cX3_toldOf 9 = .ok (.iload 4, 2) := dk_21 4 (dk_at dksX3_toldOf_0 9 rfl rfl)
theorem dX3_toldOf_11 : decode cX3_toldOf 11 = .ok (.bipush (-2), 2) := dk_16 254 (dk_at dksX3_toldOf_0 11 rfl rfl)
theorem dX3_toldOf_13 : decode cX3_toldOf 13 = .ok (.if_icmp .ne 13, 3) := dk_160 0 13 (dk_at dksX3_toldOf_0 13 rfl rfl)
theorem dX3_toldOf_16 : decode cX3_toldOf 16 = .ok (.aload_n 0, 1) := dk_42 (dk_at dksX3_toldOf_0 16 rfl rfl)
theorem dX3_toldOf_17 : decode cX3_toldOf 17 = .ok (.iload_n 1, 1) := dk_27 (dk_at dksX3_toldOf_0 17 rfl rfl)
theorem dX3_toldOf_18 : decode cX3_toldOf 18 = .ok (.iload_n 2, 1) := dk_28 (dk_at dksX3_toldOf_0 18 rfl rfl)
theorem dX3_toldOf_19 : decode cX3_toldOf 19 = .ok (.iload_n 3, 1) := dk_29 (dk_at dksX3_toldOf_0 19 rfl rfl)
theorem dX3_toldOf_20 : decode cX3_toldOf 20 = .ok (.invokevirtual 226, 3) := dk_182 0 226 (dk_at dksX3_toldOf_0 20 rfl rfl)
theorem dX3_toldOf_23 : decode cX3_toldOf 23 = .ok (.goto 5, 3) := dk_167 0 5 (dk_at dksX3_toldOf_1 0 rfl rfl)
theorem dX3_toldOf_26 : decode cX3_toldOf 26 = .ok (.iload 4, 2) := dk_21 4 (dk_at dksX3_toldOf_1 3 rfl rfl)
theorem dX3_toldOf_28 : decode cX3_toldOf 28 = .ok (.istore 4, 2) := dk_54 4 (dk_at dksX3_toldOf_1 5 rfl rfl)
theorem dX3_toldOf_30 : decode cX3_toldOf 30 = .ok (.aload_n 0, 1) := dk_42 (dk_at dksX3_toldOf_1 7 rfl rfl)
theorem dX3_toldOf_31 : decode cX3_toldOf 31 = .ok (.getfield 23, 3) := dk_180 0 23 (dk_at dksX3_toldOf_1 8 rfl rfl)
theorem dX3_toldOf_34 : decode cX3_toldOf 34 = .ok (.iload 4, 2) := dk_21 4 (dk_at dksX3_toldOf_1 11 rfl rfl)
theorem dX3_toldOf_36 : decode cX3_toldOf 36 = .ok (.iconst 4, 1) := dk_7 (dk_at dksX3_toldOf_1 13 rfl rfl)
theorem dX3_toldOf_37 : decode cX3_toldOf 37 = .ok (.invokestatic 213, 3) := dk_184 0 213 (dk_at dksX3_toldOf_1 14 rfl rfl)
theorem dX3_toldOf_40 : decode cX3_toldOf 40 = .ok (.iaload, 1) := dk_46 (dk_at dksX3_toldOf_1 17 rfl rfl)
theorem dX3_toldOf_41 : decode cX3_toldOf 41 = .ok (.istore 5, 2) := dk_54 5 (dk_at dksX3_toldOf_1 18 rfl rfl)
theorem dX3_toldOf_43 : decode cX3_toldOf 43 = .ok (.iload 5, 2) := dk_21 5 (dk_at dksX3_toldOf_1 20 rfl rfl)
theorem dX3_toldOf_45 : decode cX3_toldOf 45 = .ok (.iconst 2, 1) := dk_5 (dk_at dksX3_toldOf_1 22 rfl rfl)
theorem dX3_toldOf_46 : decode cX3_toldOf 46 = .ok (.if_icmp .ne 17, 3) := dk_160 0 17 (dk_at dksX3_toldOf_2 0 rfl rfl)
theorem dX3_toldOf_49 : decode cX3_toldOf 49 = .ok (.aload_n 0, 1) := dk_42 (dk_at dksX3_toldOf_2 3 rfl rfl)
theorem dX3_toldOf_50 : decode cX3_toldOf 50 = .ok (.getfield 23, 3) := dk_180 0 23 (dk_at dksX3_toldOf_2 4 rfl rfl)
theorem dX3_toldOf_53 : decode cX3_toldOf 53 = .ok (.iload 4, 2) := dk_21 4 (dk_at dksX3_toldOf_2 7 rfl rfl)
theorem dX3_toldOf_55 : decode cX3_toldOf 55 = .ok (.iconst 5, 1) := dk_8 (dk_at dksX3_toldOf_2 9 rfl rfl)
theorem dX3_toldOf_56 : decode cX3_toldOf 56 = .ok (.invokestatic 213, 3) := dk_184 0 213 (dk_at dksX3_toldOf_2 10 rfl rfl)
theorem dX3_toldOf_59 : decode cX3_toldOf 59 = .ok (.iaload, 1) := dk_46 (dk_at dksX3_toldOf_2 13 rfl rfl)
theorem dX3_toldOf_60 : decode cX3_toldOf 60 = .ok (.goto 16, 3) := dk_167 0 16 (dk_at dksX3_toldOf_2 14 rfl rfl)
theorem dX3_toldOf_63 : decode cX3_toldOf 63 = .ok (.iload 5, 2) := dk_21 5 (dk_at dksX3_toldOf_2 17 rfl rfl)
theorem dX3_toldOf_65 : decode cX3_toldOf 65 = .ok (.iconst 2, 1) := dk_5 (dk_at dksX3_toldOf_2 19 rfl rfl)
theorem dX3_toldOf_66 : decode cX3_toldOf 66 = .ok (.if_icmp .ge 8, 3) := dk_162 0 8 (dk_at dksX3_toldOf_2 20 rfl rfl)
theorem dX3_toldOf_69 : decode cX3_toldOf 69 = .ok (.bipush (-2), 2) := dk_16 254 (dk_at dksX3_toldOf_3 0 rfl rfl)
theorem dX3_toldOf_71 : decode cX3_toldOf 71 = .ok (.goto 5, 3) := dk_167 0 5 (dk_at dksX3_toldOf_3 2 rfl rfl)
theorem dX3_toldOf_74 : decode cX3_toldOf 74 = .ok (.bipush (-3), 2) := dk_16 253 (dk_at dksX3_toldOf_3 5 rfl rfl)
theorem dX3_toldOf_76 : decode cX3_toldOf 76 = .ok (.ireturn, 1) := dk_172 (dk_at dksX3_toldOf_3 7 rfl rfl)
abbrev cX3_needs : ByteArray := prog_14_method_84_code
def yX3_needs : MethodName := ⟨RX3, "needs", "(III)I"⟩
def dkwX3_needs_1 : List UInt8 := [154, 0, 8, 16, 254, 167, 0, 18, 42, 27, 28, 29, 182, 0, 241, 153, 0, 7, 4, 167, 0, 4, 3, 172]
abbrev dktX3_needs_1 : List UInt8 := dkwX3_needs_1 ++ []
def dkwX3_needs_0 : List UInt8 := [42, 42, 27, 28, 29, 182, 0, 188, 184, 0, 191, 182, 0, 156, 153, 0, 5, 2, 172, 42, 29, 182, 1, 50]
abbrev dktX3_needs_0 : List UInt8 := dkwX3_needs_0 ++ dktX3_needs_1
theorem dksX3_needs_0 : cX3_needs.data.toList.drop 0 = dktX3_needs_0 := by decide +kernel
theorem dksX3_needs_1 : cX3_needs.data.toList.drop 24 = dktX3_needs_1 := dk_seg dksX3_needs_0 24 rfl rfl
theorem dX3_needs_0 : decode cX3_needs 0 = .ok (.aload_n 0, 1) := dk_42 (dk_at dksX3_needs_0 0 rfl rfl)
theorem dX3_needs_1 : decode cX3_needs 1 = .ok (.aload_n 0, 1) := dk_42 (dk_at dksX3_needs_0 1 rfl rfl)
theorem dX3_needs_2 : decode cX3_needs 2 = .ok (.iload_n 1, 1) := dk_27 (dk_at dksX3_needs_0 2 rfl rfl)
theorem dX3_needs_3 : decode cX3_needs 3 = .ok (.iload_n 2, 1) := dk_28 (dk_at dksX3_needs_0 3 rfl rfl)
theorem dX3_needs_4 : decode cX3_needs 4 = .ok (.iload_n 3, 1) := dk_29 (dk_at dksX3_needs_0 4 rfl rfl)
theorem dX3_needs_5 : decode cX3_needs 5 = .ok (.invokevirtual 188, 3) := dk_182 0 188 (dk_at dksX3_needs_0 5 rfl rfl)
theorem dX3_needs_8 : decode cX3_needs 8 = .ok (.invokestatic 191, 3) := dk_184 0 191 (dk_at dksX3_needs_0 8 rfl rfl)
theorem dX3_needs_11 : decode cX3_needs 11 = .ok (.invokevirtual 156, 3) := dk_182 0 156 (dk_at dksX3_needs_0 11 rfl rfl)
theorem dX3_needs_14 : decode cX3_needs 14 = .ok (.ifCond .eq 5, 3) := dk_153 0 5 (dk_at dksX3_needs_0 14 rfl rfl)
theorem dX3_needs_17 : decode cX3_needs 17 = .ok (.iconst (-1), 1) := dk_2 (dk_at dksX3_needs_0 17 rfl rfl)
theorem dX3_needs_18 : decode cX3_needs 18 = .ok (.ireturn, 1) := dk_172 (dk_at dksX3_needs_0 18 rfl rfl)
theorem dX3_needs_19 : decode cX3_needs 19 = .ok (.aload_n 0, 1) := dk_42 (dk_at dksX3_needs_0 19 rfl rfl)
theorem dX3_needs_20 : decode cX3_needs 20 = .ok (.iload_n 3, 1) := dk_29 (dk_at dksX3_needs_0 20 rfl rfl)
theorem dX3_needs_21 : decode cX3_needs 21 = .ok (.invokevirtual 306, 3) := dk_182 1 50 (dk_at dksX3_needs_0 21 rfl rfl)
theorem dX3_needs_24 : decode cX3_needs 24 = .ok (.ifCond .ne 8, 3) := dk_154 0 8 (dk_at dksX3_needs_1 0 rfl rfl)
theorem dX3_needs_27 : decode cX3_needs 27 = .ok (.bipush (-2), 2) := dk_16 254 (dk_at dksX3_needs_1 3 rfl rfl)
theorem dX3_needs_29 : decode cX3_needs 29 = .ok (.goto 18, 3) := dk_167 0 18 (dk_at dksX3_needs_1 5 rfl rfl)
theorem dX3_needs_32 : decode cX3_needs 32 = .ok (.aload_n 0, 1) := dk_42 (dk_at dksX3_needs_1 8 rfl rfl)
theorem dX3_needs_33 : decode cX3_needs 33 = .ok (.iload_n 1, 1) := dk_27 (dk_at dksX3_needs_1 9 rfl rfl)
theorem dX3_needs_34 : decode cX3_needs 34 = .ok (.iload_n 2, 1) := dk_28 (dk_at dksX3_needs_1 10 rfl rfl)
theorem dX3_needs_35 : decode cX3_needs 35 = .ok (.iload_n 3, 1) := dk_29 (dk_at dksX3_needs_1 11 rfl rfl)
theorem dX3_needs_36 : decode cX3_needs 36 = .ok (.invokevirtual 241, 3) := dk_182 0 241 (dk_at dksX3_needs_1 12 rfl rfl)
theorem dX3_needs_39 : decode cX3_needs 39 = .ok (.ifCond .eq 7, 3) := dk_153 0 7 (dk_at dksX3_needs_1 15 rfl rfl)
theorem dX3_needs_42 : decode cX3_needs 42 = .ok (.iconst 1, 1) := dk_4 (dk_at dksX3_needs_1 18 rfl rfl)
theorem dX3_needs_43 : decode cX3_needs 43 = .ok (.goto 4, 3) := dk_167 0 4 (dk_at dksX3_needs_1 19 rfl rfl)
theorem dX3_needs_46 : decode cX3_needs 46 = .ok (.iconst 0, 1) := dk_3 (dk_at dksX3_needs_1 22 rfl rfl)
theorem dX3_needs_47 : decode cX3_needs 47 = .ok (.ireturn, 1) := dk_172 (dk_at dksX3_needs_1 23 rfl rfl)
abbrev cX3_areThrough : ByteArray := prog_14_method_83_code
def yX3_areThrough : MethodName := ⟨RX3, "areThrough", "(I)Z"⟩
def dkwX3_areThrough_1 : List UInt8 := [184, 0, 213, 46, 5, 162, 0, 5, 3, 172, 132, 2, 1, 167, 255, 222, 4, 172]
abbrev dktX3_areThrough_1 : List UInt8 := dkwX3_areThrough_1 ++ []
def dkwX3_areThrough_0 : List UInt8 := [3, 61, 28, 7, 162, 0, 35, 42, 180, 0, 23, 42, 28, 5, 108, 28, 5, 112, 27, 182, 0, 226, 7]
abbrev dktX3_areThrough_0 : List UInt8 := dkwX3_areThrough_0 ++ dktX3_areThrough_1
theorem dksX3_areThrough_0 : cX3_areThrough.data.toList.drop 0 = dktX3_areThrough_0 := by decide +kernel
theorem dksX3_areThrough_1 : cX3_areThrough.data.toList.drop 23 = dktX3_areThrough_1 := dk_seg dksX3_areThrough_0 23 rfl rfl
theorem dX3_areThrough_0 : decode cX3_areThrough 0 = .ok (.iconst 0, 1) := dk_3 (dk_at dksX3_areThrough_0 0 rfl rfl)
theorem dX3_areThrough_1 : decode cX3_areThrough 1 = .ok (.istore_n 2, 1) := dk_61 (dk_at dksX3_areThrough_0 1 rfl rfl)
theorem dX3_areThrough_2 : decode cX3_areThrough 2 = .ok (.iload_n 2, 1) := dk_28 (dk_at dksX3_areThrough_0 2 rfl rfl)
theorem dX3_areThrough_3 : decode cX3_areThrough 3 = .ok (.iconst 4, 1) := dk_7 (dk_at dksX3_areThrough_0 3 rfl rfl)
theorem dX3_areThrough_4 : decode cX3_areThrough 4 = .ok (.if_icmp .ge 35, 3) := dk_162 0 35 (dk_at dksX3_areThrough_0 4 rfl rfl)
theorem dX3_areThrough_7 : decode cX3_areThrough 7 = .ok (.aload_n 0, 1) := dk_42 (dk_at dksX3_areThrough_0 7 rfl rfl)
theorem dX3_areThrough_8 : decode cX3_areThrough 8 = .ok (.getfield 23, 3) := dk_180 0 23 (dk_at dksX3_areThrough_0 8 rfl rfl)
theorem dX3_areThrough_11 : decode cX3_areThrough 11 = .ok (.aload_n 0, 1) := dk_42 (dk_at dksX3_areThrough_0 11 rfl rfl)
theorem dX3_areThrough_12 : decode cX3_areThrough 12 = .ok (.iload_n 2, 1) := dk_28 (dk_at dksX3_areThrough_0 12 rfl rfl)
theorem dX3_areThrough_13 : decode cX3_areThrough 13 = .ok (.iconst 2, 1) := dk_5 (dk_at dksX3_areThrough_0 13 rfl rfl)
theorem dX3_areThrough_14 : decode cX3_areThrough 14 = .ok (.idiv, 1) := dk_108 (dk_at dksX3_areThrough_0 14 rfl rfl)
theorem dX3_areThrough_15 : decode cX3_areThrough 15 = .ok (.iload_n 2, 1) := dk_28 (dk_at dksX3_areThrough_0 15 rfl rfl)
theorem dX3_areThrough_16 : decode cX3_areThrough 16 = .ok (.iconst 2, 1) := dk_5 (dk_at dksX3_areThrough_0 16 rfl rfl)
theorem dX3_areThrough_17 : decode cX3_areThrough 17 = .ok (.irem, 1) := dk_112 (dk_at dksX3_areThrough_0 17 rfl rfl)
theorem dX3_areThrough_18 : decode cX3_areThrough 18 = .ok (.iload_n 1, 1) := dk_27 (dk_at dksX3_areThrough_0 18 rfl rfl)
theorem dX3_areThrough_19 : decode cX3_areThrough 19 = .ok (.invokevirtual 226, 3) := dk_182 0 226 (dk_at dksX3_areThrough_0 19 rfl rfl)
theorem dX3_areThrough_22 : decode cX3_areThrough 22 = .ok (.iconst 4, 1) := dk_7 (dk_at dksX3_areThrough_0 22 rfl rfl)
theorem dX3_areThrough_23 : decode cX3_areThrough 23 = .ok (.invokestatic 213, 3) := dk_184 0 213 (dk_at dksX3_areThrough_1 0 rfl rfl)
theorem dX3_areThrough_26 : decode cX3_areThrough 26 = .ok (.iaload, 1) := dk_46 (dk_at dksX3_areThrough_1 3 rfl rfl)
theorem dX3_areThrough_27 : decode cX3_areThrough 27 = .ok (.iconst 2, 1) := dk_5 (dk_at dksX3_areThrough_1 4 rfl rfl)
theorem dX3_areThrough_28 : decode cX3_areThrough 28 = .ok (.if_icmp .ge 5, 3) := dk_162 0 5 (dk_at dksX3_areThrough_1 5 rfl rfl)
theorem dX3_areThrough_31 : decode cX3_areThrough 31 = .ok (.iconst 0, 1) := dk_3 (dk_at dksX3_areThrough_1 8 rfl rfl)
theorem dX3_areThrough_32 : decode cX3_areThrough 32 = .ok (.ireturn, 1) := dk_172 (dk_at dksX3_areThrough_1 9 rfl rfl)
theorem dX3_areThrough_33 : decode cX3_areThrough 33 = .ok (.iinc 2 1, 3) := dk_132 2 1 (dk_at dksX3_areThrough_1 10 rfl rfl)
theorem dX3_areThrough_36 : decode cX3_areThrough 36 = .ok (.goto (-34), 3) := dk_167 255 222 (dk_at dksX3_areThrough_1 13 rfl rfl)
theorem dX3_areThrough_39 : decode cX3_areThrough 39 = .ok (.iconst 1, 1) := dk_4 (dk_at dksX3_areThrough_1 16 rfl rfl)
theorem dX3_areThrough_40 : decode cX3_areThrough 40 = .ok (.ireturn, 1) := dk_172 (dk_at dksX3_areThrough_1 17 rfl rfl)
abbrev cX3_noise : ByteArray := prog_14_method_85_code
def yX3_noise : MethodName := ⟨RX3, "noise", "(III)I"⟩
def dkwX3_noise_3 : List UInt8 := [154, 0, 12, 42, 27, 28, 182, 0, 248, 167, 0, 9, 42, 27, 28, 182, 0, 251, 172]
abbrev dktX3_noise_3 : List UInt8 := dkwX3_noise_3 ++ []
def dkwX3_noise_2 : List UInt8 := [182, 0, 226, 167, 0, 10, 42, 4, 27, 28, 182, 0, 226, 182, 0, 229, 154, 0, 6, 16, 254, 172, 29]
abbrev dktX3_noise_2 : List UInt8 := dkwX3_noise_2 ++ dktX3_noise_3
def dkwX3_noise_1 : List UInt8 := [3, 184, 0, 191, 182, 0, 156, 153, 0, 5, 2, 172, 42, 29, 154, 0, 15, 42, 3, 4, 27, 100, 28]
abbrev dktX3_noise_1 : List UInt8 := dkwX3_noise_1 ++ dktX3_noise_2
def dkwX3_noise_0 : List UInt8 := [42, 42, 3, 27, 28, 182, 0, 188, 153, 0, 16, 29, 3, 4, 184, 0, 70, 153, 0, 7, 4, 167, 0, 4]
abbrev dktX3_noise_0 : List UInt8 := dkwX3_noise_0 ++ dktX3_noise_1
theorem dksX3_noise_0 : cX3_noise.data.toList.drop 0 = dktX3_noise_0 := by decide +kernel
theorem dksX3_noise_1 : cX3_noise.data.toList.drop 24 = dktX3_noise_1 := dk_seg dksX3_noise_0 24 rfl rfl
theorem dksX3_noise_2 : cX3_noise.data.toList.drop 47 = dktX3_noise_2 := dk_seg dksX3_noise_1 23 rfl rfl
theorem dksX3_noise_3 : cX3_noise.data.toList.drop 70 = dktX3_noise_3 := dk_seg dksX3_noise_2 23 rfl rfl
theorem dX3_noise_0 : decode cX3_noise 0 = .ok (.aload_n 0, 1) := dk_42 (dk_at dksX3_noise_0 0 rfl rfl)
theorem dX3_noise_1 : decode cX3_noise 1 = .ok (.aload_n 0, 1) := dk_42 (dk_at dksX3_noise_0 1 rfl rfl)
theorem dX3_noise_2 : decode cX3_noise 2 = .ok (.iconst 0, 1) := dk_3 (dk_at dksX3_noise_0 2 rfl rfl)
theorem dX3_noise_3 : decode cX3_noise 3 = .ok (.iload_n 1, 1) := dk_27 (dk_at dksX3_noise_0 3 rfl rfl)
theorem dX3_noise_4 : decode cX3_noise 4 = .ok (.iload_n 2, 1) := dk_28 (dk_at dksX3_noise_0 4 rfl rfl)
theorem dX3_noise_5 : decode cX3_noise 5 = .ok (.invokevirtual 188, 3) := dk_182 0 188 (dk_at dksX3_noise_0 5 rfl rfl)
theorem dX3_noise_8 : decode cX3_noise 8 = .ok (.ifCond .eq 16, 3) := dk_153 0 16 (dk_at dksX3_noise_0 8 rfl rfl)
theorem dX3_noise_11 : decode cX3_noise 11 = .ok (.iload_n 3, 1) := dk_29 (dk_at dksX3_noise_0 11 rfl rfl)
theorem dX3_noise_12 : decode cX3_noise 12 = .ok (.iconst 0, 1) := dk_3 (dk_at dksX3_noise_0 12 rfl rfl)
theorem dX3_noise_13 : decode cX3_noise 13 = .ok (.iconst 1, 1) := dk_4 (dk_at dksX3_noise_0 13 rfl rfl)
theorem dX3_noise_14 : decode cX3_noise 14 = .ok (.invokestatic 70, 3) := dk_184 0 70 (dk_at dksX3_noise_0 14 rfl rfl)
theorem dX3_noise_17 : decode cX3_noise 17 = .ok (.ifCond .eq 7, 3) := dk_153 0 7 (dk_at dksX3_noise_0 17 rfl rfl)
theorem dX3_noise_20 : decode cX3_noise 20 = .ok (.iconst 1, 1) := dk_4 (dk_at dksX3_noise_0 20 rfl rfl)
theorem dX3_noise_21 : decode cX3_noise 21 = .ok (.goto 4, 3) := dk_167 0 4 (dk_at dksX3_noise_0 21 rfl rfl)
theorem dX3_noise_24 : decode cX3_noise 24 = .ok (.iconst 0, 1) := dk_3 (dk_at dksX3_noise_1 0 rfl rfl)
theorem dX3_noise_25 : decode cX3_noise 25 = .ok (.invokestatic 191, 3) := dk_184 0 191 (dk_at dksX3_noise_1 1 rfl rfl)
theorem dX3_noise_28 : decode cX3_noise 28 = .ok (.invokevirtual 156, 3) := dk_182 0 156 (dk_at dksX3_noise_1 4 rfl rfl)
theorem dX3_noise_31 : decode cX3_noise 31 = .ok (.ifCond .eq 5, 3) := dk_153 0 5 (dk_at dksX3_noise_1 7 rfl rfl)
theorem dX3_noise_34 : decode cX3_noise 34 = .ok (.iconst (-1), 1) := dk_2 (dk_at dksX3_noise_1 10 rfl rfl)
theorem dX3_noise_35 : decode cX3_noise 35 = .ok (.ireturn, 1) := dk_172 (dk_at dksX3_noise_1 11 rfl rfl)
theorem dX3_noise_36 : decode cX3_noise 36 = .ok (.aload_n 0, 1) := dk_42 (dk_at dksX3_noise_1 12 rfl rfl)
theorem dX3_noise_37 : decode cX3_noise 37 = .ok (.iload_n 3, 1) := dk_29 (dk_at dksX3_noise_1 13 rfl rfl)
theorem dX3_noise_38 : decode cX3_noise 38 = .ok (.ifCond .ne 15, 3) := dk_154 0 15 (dk_at dksX3_noise_1 14 rfl rfl)
theorem dX3_noise_41 : decode cX3_noise 41 = .ok (.aload_n 0, 1) := dk_42 (dk_at dksX3_noise_1 17 rfl rfl)
theorem dX3_noise_42 : decode cX3_noise 42 = .ok (.iconst 0, 1) := dk_3 (dk_at dksX3_noise_1 18 rfl rfl)
theorem dX3_noise_43 : decode cX3_noise 43 = .ok (.iconst 1, 1) := dk_4 (dk_at dksX3_noise_1 19 rfl rfl)
theorem dX3_noise_44 : decode cX3_noise 44 = .ok (.iload_n 1, 1) := dk_27 (dk_at dksX3_noise_1 20 rfl rfl)
theorem dX3_noise_45 : decode cX3_noise 45 = .ok (.isub, 1) := dk_100 (dk_at dksX3_noise_1 21 rfl rfl)
theorem dX3_noise_46 : decode cX3_noise 46 = .ok (.iload_n 2, 1) := dk_28 (dk_at dksX3_noise_1 22 rfl rfl)
theorem dX3_noise_47 : decode cX3_noise 47 = .ok (.invokevirtual 226, 3) := dk_182 0 226 (dk_at dksX3_noise_2 0 rfl rfl)
theorem dX3_noise_50 : decode cX3_noise 50 = .ok (.goto 10, 3) := dk_167 0 10 (dk_at dksX3_noise_2 3 rfl rfl)
theorem dX3_noise_53 : decode cX3_noise 53 = .ok (.aload_n 0, 1) := dk_42 (dk_at dksX3_noise_2 6 rfl rfl)
theorem dX3_noise_54 : decode cX3_noise 54 = .ok (.iconst 1, 1) := dk_4 (dk_at dksX3_noise_2 7 rfl rfl)
theorem dX3_noise_55 : decode cX3_noise 55 = .ok (.iload_n 1, 1) := dk_27 (dk_at dksX3_noise_2 8 rfl rfl)
theorem dX3_noise_56 : decode cX3_noise 56 = .ok (.iload_n 2, 1) := dk_28 (dk_at dksX3_noise_2 9 rfl rfl)
theorem dX3_noise_57 : decode cX3_noise 57 = .ok (.invokevirtual 226, 3) := dk_182 0 226 (dk_at dksX3_noise_2 10 rfl rfl)
theorem dX3_noise_60 : decode cX3_noise 60 = .ok (.invokevirtual 229, 3) := dk_182 0 229 (dk_at dksX3_noise_2 13 rfl rfl)
theorem dX3_noise_63 : decode cX3_noise 63 = .ok (.ifCond .ne 6, 3) := dk_154 0 6 (dk_at dksX3_noise_2 16 rfl rfl)
theorem dX3_noise_66 : decode cX3_noise 66 = .ok (.bipush (-2), 2) := dk_16 254 (dk_at dksX3_noise_2 19 rfl rfl)
theorem dX3_noise_68 : decode cX3_noise 68 = .ok (.ireturn, 1) := dk_172 (dk_at dksX3_noise_2 21 rfl rfl)
theorem dX3_noise_69 : decode cX3_noise 69 = .ok (.iload_n 3, 1) := dk_29 (dk_at dksX3_noise_2 22 rfl rfl)
theorem dX3_noise_70 : decode cX3_noise 70 = .ok (.ifCond .ne 12, 3) := dk_154 0 12 (dk_at dksX3_noise_3 0 rfl rfl)
theorem dX3_noise_73 : decode cX3_noise 73 = .ok (.aload_n 0, 1) := dk_42 (dk_at dksX3_noise_3 3 rfl rfl)
theorem dX3_noise_74 : decode cX3_noise 74 = .ok (.iload_n 1, 1) := dk_27 (dk_at dksX3_noise_3 4 rfl rfl)
theorem dX3_noise_75 : decode cX3_noise 75 = .ok (.iload_n 2, 1) := dk_28 (dk_at dksX3_noise_3 5 rfl rfl)
theorem dX3_noise_76 : decode cX3_noise 76 = .ok (.invokevirtual 248, 3) := dk_182 0 248 (dk_at dksX3_noise_3 6 rfl rfl)
theorem dX3_noise_79 : decode cX3_noise 79 = .ok (.goto 9, 3) := dk_167 0 9 (dk_at dksX3_noise_3 9 rfl rfl)
theorem dX3_noise_82 : decode cX3_noise 82 = .ok (.aload_n 0, 1) := dk_42 (dk_at dksX3_noise_3 12 rfl rfl)
theorem dX3_noise_83 : decode cX3_noise 83 = .ok (.iload_n 1, 1) := dk_27 (dk_at dksX3_noise_3 13 rfl rfl)
theorem dX3_noise_84 : decode cX3_noise 84 = .ok (.iload_n 2, 1) := dk_28 (dk_at dksX3_noise_3 14 rfl rfl)
theorem dX3_noise_85 : decode cX3_noise 85 = .ok (.invokevirtual 251, 3) := dk_182 0 251 (dk_at dksX3_noise_3 15 rfl rfl)
theorem dX3_noise_88 : decode cX3_noise 88 = .ok (.ireturn, 1) := dk_172 (dk_at dksX3_noise_3 18 rfl rfl)
abbrev cX3_apart : ByteArray := prog_14_method_87_code
def yX3_apart : MethodName := ⟨RX3, "apart", "(II)I"⟩
def dkwX3_apart_2 : List UInt8 := [153, 0, 8, 21, 5, 167, 0, 10, 16, 100, 29, 96, 21, 4, 100, 172]
abbrev dktX3_apart_2 : List UInt8 := dkwX3_apart_2 ++ []
def dkwX3_apart_1 : List UInt8 := [182, 1, 47, 62, 42, 4, 27, 28, 182, 1, 47, 54, 4, 29, 21, 4, 184, 1, 53, 54, 5, 21, 5]
abbrev dktX3_apart_1 : List UInt8 := dkwX3_apart_1 ++ dktX3_apart_2
def dkwX3_apart_0 : List UInt8 := [42, 42, 3, 27, 28, 182, 0, 188, 184, 0, 191, 182, 0, 156, 153, 0, 5, 2, 172, 42, 3, 27, 28]
abbrev dktX3_apart_0 : List UInt8 := dkwX3_apart_0 ++ dktX3_apart_1
theorem dksX3_apart_0 : cX3_apart.data.toList.drop 0 = dktX3_apart_0 := by decide +kernel
theorem dksX3_apart_1 : cX3_apart.data.toList.drop 23 = dktX3_apart_1 := dk_seg dksX3_apart_0 23 rfl rfl
theorem dksX3_apart_2 : cX3_apart.data.toList.drop 46 = dktX3_apart_2 := dk_seg dksX3_apart_1 23 rfl rfl
theorem dX3_apart_0 : decode cX3_apart 0 = .ok (.aload_n 0, 1) := dk_42 (dk_at dksX3_apart_0 0 rfl rfl)
theorem dX3_apart_1 : decode cX3_apart 1 = .ok (.aload_n 0, 1) := dk_42 (dk_at dksX3_apart_0 1 rfl rfl)
theorem dX3_apart_2 : decode cX3_apart 2 = .ok (.iconst 0, 1) := dk_3 (dk_at dksX3_apart_0 2 rfl rfl)
theorem dX3_apart_3 : decode cX3_apart 3 = .ok (.iload_n 1, 1) := dk_27 (dk_at dksX3_apart_0 3 rfl rfl)
theorem dX3_apart_4 : decode cX3_apart 4 = .ok (.iload_n 2, 1) := dk_28 (dk_at dksX3_apart_0 4 rfl rfl)
theorem dX3_apart_5 : decode cX3_apart 5 = .ok (.invokevirtual 188, 3) := dk_182 0 188 (dk_at dksX3_apart_0 5 rfl rfl)
theorem dX3_apart_8 : decode cX3_apart 8 = .ok (.invokestatic 191, 3) := dk_184 0 191 (dk_at dksX3_apart_0 8 rfl rfl)
theorem dX3_apart_11 : decode cX3_apart 11 = .ok (.invokevirtual 156, 3) := dk_182 0 156 (dk_at dksX3_apart_0 11 rfl rfl)
theorem dX3_apart_14 : decode cX3_apart 14 = .ok (.ifCond .eq 5, 3) := dk_153 0 5 (dk_at dksX3_apart_0 14 rfl rfl)
theorem dX3_apart_17 : decode cX3_apart 17 = .ok (.iconst (-1), 1) := dk_2 (dk_at dksX3_apart_0 17 rfl rfl)
theorem dX3_apart_18 : decode cX3_apart 18 = .ok (.ireturn, 1) := dk_172 (dk_at dksX3_apart_0 18 rfl rfl)
theorem dX3_apart_19 : decode cX3_apart 19 = .ok (.aload_n 0, 1) := dk_42 (dk_at dksX3_apart_0 19 rfl rfl)
theorem dX3_apart_20 : decode cX3_apart 20 = .ok (.iconst 0, 1) := dk_3 (dk_at dksX3_apart_0 20 rfl rfl)
theorem dX3_apart_21 : decode cX3_apart 21 = .ok (.iload_n 1, 1) := dk_27 (dk_at dksX3_apart_0 21 rfl rfl)
theorem dX3_apart_22 : decode cX3_apart 22 = .ok (.iload_n 2, 1) := dk_28 (dk_at dksX3_apart_0 22 rfl rfl)
theorem dX3_apart_23 : decode cX3_apart 23 = .ok (.invokevirtual 303, 3) := dk_182 1 47 (dk_at dksX3_apart_1 0 rfl rfl)
theorem dX3_apart_26 : decode cX3_apart 26 = .ok (.istore_n 3, 1) := dk_62 (dk_at dksX3_apart_1 3 rfl rfl)
theorem dX3_apart_27 : decode cX3_apart 27 = .ok (.aload_n 0, 1) := dk_42 (dk_at dksX3_apart_1 4 rfl rfl)
theorem dX3_apart_28 : decode cX3_apart 28 = .ok (.iconst 1, 1) := dk_4 (dk_at dksX3_apart_1 5 rfl rfl)
theorem dX3_apart_29 : decode cX3_apart 29 = .ok (.iload_n 1, 1) := dk_27 (dk_at dksX3_apart_1 6 rfl rfl)
theorem dX3_apart_30 : decode cX3_apart 30 = .ok (.iload_n 2, 1) := dk_28 (dk_at dksX3_apart_1 7 rfl rfl)
theorem dX3_apart_31 : decode cX3_apart 31 = .ok (.invokevirtual 303, 3) := dk_182 1 47 (dk_at dksX3_apart_1 8 rfl rfl)
theorem dX3_apart_34 : decode cX3_apart 34 = .ok (.istore 4, 2) := dk_54 4 (dk_at dksX3_apart_1 11 rfl rfl)
theorem dX3_apart_36 : decode cX3_apart 36 = .ok (.iload_n 3, 1) := dk_29 (dk_at dksX3_apart_1 13 rfl rfl)
theorem dX3_apart_37 : decode cX3_apart 37 = .ok (.iload 4, 2) := dk_21 4 (dk_at dksX3_apart_1 14 rfl rfl)
theorem dX3_apart_39 : decode cX3_apart 39 = .ok (.invokestatic 309, 3) := dk_184 1 53 (dk_at dksX3_apart_1 16 rfl rfl)
theorem dX3_apart_42 : decode cX3_apart 42 = .ok (.istore 5, 2) := dk_54 5 (dk_at dksX3_apart_1 19 rfl rfl)
theorem dX3_apart_44 : decode cX3_apart 44 = .ok (.iload 5, 2) := dk_21 5 (dk_at dksX3_apart_1 21 rfl rfl)
theorem dX3_apart_46 : decode cX3_apart 46 = .ok (.ifCond .eq 8, 3) := dk_153 0 8 (dk_at dksX3_apart_2 0 rfl rfl)
theorem dX3_apart_49 : decode cX3_apart 49 = .ok (.iload 5, 2) := dk_21 5 (dk_at dksX3_apart_2 3 rfl rfl)
theorem dX3_apart_51 : decode cX3_apart 51 = .ok (.goto 10, 3) := dk_167 0 10 (dk_at dksX3_apart_2 5 rfl rfl)
theorem dX3_apart_54 : decode cX3_apart 54 = .ok (.bipush 100, 2) := dk_16 100 (dk_at dksX3_apart_2 8 rfl rfl)
theorem dX3_apart_56 : decode cX3_apart 56 = .ok (.iload_n 3, 1) := dk_29 (dk_at dksX3_apart_2 10 rfl rfl)
theorem dX3_apart_57 : decode cX3_apart 57 = .ok (.iadd, 1) := dk_96 (dk_at dksX3_apart_2 11 rfl rfl)
theorem dX3_apart_58 : decode cX3_apart 58 = .ok (.iload 4, 2) := dk_21 4 (dk_at dksX3_apart_2 12 rfl rfl)
theorem dX3_apart_60 : decode cX3_apart 60 = .ok (.isub, 1) := dk_100 (dk_at dksX3_apart_2 14 rfl rfl)
theorem dX3_apart_61 : decode cX3_apart 61 = .ok (.ireturn, 1) := dk_172 (dk_at dksX3_apart_2 15 rfl rfl)
abbrev cX3_lacks : ByteArray := prog_14_method_86_code
def yX3_lacks : MethodName := ⟨RX3, "lacks", "(II)I"⟩
def dkwX3_lacks_1 : List UInt8 := [16, 253, 160, 0, 8, 16, 253, 167, 0, 4, 3, 172]
abbrev dktX3_lacks_1 : List UInt8 := dkwX3_lacks_1 ++ []
def dkwX3_lacks_0 : List UInt8 := [26, 16, 254, 159, 0, 9, 27, 16, 254, 160, 0, 8, 16, 254, 167, 0, 21, 26, 16, 253, 159, 0, 9, 27]
abbrev dktX3_lacks_0 : List UInt8 := dkwX3_lacks_0 ++ dktX3_lacks_1
theorem dksX3_lacks_0 : cX3_lacks.data.toList.drop 0 = dktX3_lacks_0 := by decide +kernel
theorem dksX3_lacks_1 : cX3_lacks.data.toList.drop 24 = dktX3_lacks_1 := dk_seg dksX3_lacks_0 24 rfl rfl
theorem dX3_lacks_0 : decode cX3_lacks 0 = .ok (.iload_n 0, 1) := dk_26 (dk_at dksX3_lacks_0 0 rfl rfl)
theorem dX3_lacks_1 : decode cX3_lacks 1 = .ok (.bipush (-2), 2) := dk_16 254 (dk_at dksX3_lacks_0 1 rfl rfl)
theorem dX3_lacks_3 : decode cX3_lacks 3 = .ok (.if_icmp .eq 9, 3) := dk_159 0 9 (dk_at dksX3_lacks_0 3 rfl rfl)
theorem dX3_lacks_6 : decode cX3_lacks 6 = .ok (.iload_n 1, 1) := dk_27 (dk_at dksX3_lacks_0 6 rfl rfl)
theorem dX3_lacks_7 : decode cX3_lacks 7 = .ok (.bipush (-2), 2) := dk_16 254 (dk_at dksX3_lacks_0 7 rfl rfl)
theorem dX3_lacks_9 : decode cX3_lacks 9 = .ok (.if_icmp .ne 8, 3) := dk_160 0 8 (dk_at dksX3_lacks_0 9 rfl rfl)
theorem dX3_lacks_12 : decode cX3_lacks 12 = .ok (.bipush (-2), 2) := dk_16 254 (dk_at dksX3_lacks_0 12 rfl rfl)
theorem dX3_lacks_14 : decode cX3_lacks 14 = .ok (.goto 21, 3) := dk_167 0 21 (dk_at dksX3_lacks_0 14 rfl rfl)
theorem dX3_lacks_17 : decode cX3_lacks 17 = .ok (.iload_n 0, 1) := dk_26 (dk_at dksX3_lacks_0 17 rfl rfl)
theorem dX3_lacks_18 : decode cX3_lacks 18 = .ok (.bipush (-3), 2) := dk_16 253 (dk_at dksX3_lacks_0 18 rfl rfl)
theorem dX3_lacks_20 : decode cX3_lacks 20 = .ok (.if_icmp .eq 9, 3) := dk_159 0 9 (dk_at dksX3_lacks_0 20 rfl rfl)
theorem dX3_lacks_23 : decode cX3_lacks 23 = .ok (.iload_n 1, 1) := dk_27 (dk_at dksX3_lacks_0 23 rfl rfl)
theorem dX3_lacks_24 : decode cX3_lacks 24 = .ok (.bipush (-3), 2) := dk_16 253 (dk_at dksX3_lacks_1 0 rfl rfl)
theorem dX3_lacks_26 : decode cX3_lacks 26 = .ok (.if_icmp .ne 8, 3) := dk_160 0 8 (dk_at dksX3_lacks_1 2 rfl rfl)
theorem dX3_lacks_29 : decode cX3_lacks 29 = .ok (.bipush (-3), 2) := dk_16 253 (dk_at dksX3_lacks_1 5 rfl rfl)
theorem dX3_lacks_31 : decode cX3_lacks 31 = .ok (.goto 4, 3) := dk_167 0 4 (dk_at dksX3_lacks_1 7 rfl rfl)
theorem dX3_lacks_34 : decode cX3_lacks 34 = .ok (.iconst 0, 1) := dk_3 (dk_at dksX3_lacks_1 10 rfl rfl)
theorem dX3_lacks_35 : decode cX3_lacks 35 = .ok (.ireturn, 1) := dk_172 (dk_at dksX3_lacks_1 11 rfl rfl)
abbrev cX3_loss : ByteArray := prog_14_method_88_code
def yX3_loss : MethodName := ⟨RX3, "loss", "(II)I"⟩
def dkwX3_loss_4 : List UInt8 := [167, 0, 13, 21, 6, 153, 0, 7, 6, 167, 0, 4, 5, 172]
abbrev dktX3_loss_4 : List UInt8 := dkwX3_loss_4 ++ []
def dkwX3_loss_3 : List UInt8 := [161, 0, 7, 4, 167, 0, 4, 3, 54, 6, 21, 4, 8, 163, 0, 12, 21, 6, 153, 0, 7, 4]
abbrev dktX3_loss_3 : List UInt8 := dkwX3_loss_3 ++ dktX3_loss_4
def dkwX3_loss_2 : List UInt8 := [153, 0, 6, 21, 5, 172, 29, 8, 163, 0, 5, 3, 172, 29, 21, 4, 100, 42, 180, 0, 17, 5, 46]
abbrev dktX3_loss_2 : List UInt8 := dkwX3_loss_2 ++ dktX3_loss_3
def dkwX3_loss_1 : List UInt8 := [182, 1, 47, 62, 42, 4, 27, 28, 182, 1, 47, 54, 4, 29, 21, 4, 184, 1, 53, 54, 5, 21, 5]
abbrev dktX3_loss_1 : List UInt8 := dkwX3_loss_1 ++ dktX3_loss_2
def dkwX3_loss_0 : List UInt8 := [42, 42, 3, 27, 28, 182, 0, 188, 184, 0, 191, 182, 0, 156, 153, 0, 5, 2, 172, 42, 3, 27, 28]
abbrev dktX3_loss_0 : List UInt8 := dkwX3_loss_0 ++ dktX3_loss_1
theorem dksX3_loss_0 : cX3_loss.data.toList.drop 0 = dktX3_loss_0 := by decide +kernel
theorem dksX3_loss_1 : cX3_loss.data.toList.drop 23 = dktX3_loss_1 := dk_seg dksX3_loss_0 23 rfl rfl
theorem dksX3_loss_2 : cX3_loss.data.toList.drop 46 = dktX3_loss_2 := dk_seg dksX3_loss_1 23 rfl rfl
theorem dksX3_loss_3 : cX3_loss.data.toList.drop 69 = dktX3_loss_3 := dk_seg dksX3_loss_2 23 rfl rfl
theorem dksX3_loss_4 : cX3_loss.data.toList.drop 91 = dktX3_loss_4 := dk_seg dksX3_loss_3 22 rfl rfl
theorem dX3_loss_0 : decode cX3_loss 0 = .ok (.aload_n 0, 1) := dk_42 (dk_at dksX3_loss_0 0 rfl rfl)
theorem dX3_loss_1 : decode cX3_loss 1 = .ok (.aload_n 0, 1) := dk_42 (dk_at dksX3_loss_0 1 rfl rfl)
theorem dX3_loss_2 : decode cX3_loss 2 = .ok (.iconst 0, 1) := dk_3 (dk_at dksX3_loss_0 2 rfl rfl)
theorem dX3_loss_3 : decode cX3_loss 3 = .ok (.iload_n 1, 1) := dk_27 (dk_at dksX3_loss_0 3 rfl rfl)
theorem dX3_loss_4 : decode cX3_loss 4 = .ok (.iload_n 2, 1) := dk_28 (dk_at dksX3_loss_0 4 rfl rfl)
theorem dX3_loss_5 : decode cX3_loss 5 = .ok (.invokevirtual 188, 3) := dk_182 0 188 (dk_at dksX3_loss_0 5 rfl rfl)
theorem dX3_loss_8 : decode cX3_loss 8 = .ok (.invokestatic 191, 3) := dk_184 0 191 (dk_at dksX3_loss_0 8 rfl rfl)
theorem dX3_loss_11 : decode cX3_loss 11 = .ok (.invokevirtual 156, 3) := dk_182 0 156 (dk_at dksX3_loss_0 11 rfl rfl)
theorem dX3_loss_14 : decode cX3_loss 14 = .ok (.ifCond .eq 5, 3) := dk_153 0 5 (dk_at dksX3_loss_0 14 rfl rfl)
theorem dX3_loss_17 : decode cX3_loss 17 = .ok (.iconst (-1), 1) := dk_2 (dk_at dksX3_loss_0 17 rfl rfl)
theorem dX3_loss_18 : decode cX3_loss 18 = .ok (.ireturn, 1) := dk_172 (dk_at dksX3_loss_0 18 rfl rfl)
theorem dX3_loss_19 : decode cX3_loss 19 = .ok (.aload_n 0, 1) := dk_42 (dk_at dksX3_loss_0 19 rfl rfl)
theorem dX3_loss_20 : decode cX3_loss 20 = .ok (.iconst 0, 1) := dk_3 (dk_at dksX3_loss_0 20 rfl rfl)
theorem dX3_loss_21 : decode cX3_loss 21 = .ok (.iload_n 1, 1) := dk_27 (dk_at dksX3_loss_0 21 rfl rfl)
theorem dX3_loss_22 : decode cX3_loss 22 = .ok (.iload_n 2, 1) := dk_28 (dk_at dksX3_loss_0 22 rfl rfl)
theorem dX3_loss_23 : decode cX3_loss 23 = .ok (.invokevirtual 303, 3) := dk_182 1 47 (dk_at dksX3_loss_1 0 rfl rfl)
theorem dX3_loss_26 : decode cX3_loss 26 = .ok (.istore_n 3, 1) := dk_62 (dk_at dksX3_loss_1 3 rfl rfl)
theorem dX3_loss_27 : decode cX3_loss 27 = .ok (.aload_n 0, 1) := dk_42 (dk_at dksX3_loss_1 4 rfl rfl)
theorem dX3_loss_28 : decode cX3_loss 28 = .ok (.iconst 1, 1) := dk_4 (dk_at dksX3_loss_1 5 rfl rfl)
theorem dX3_loss_29 : decode cX3_loss 29 = .ok (.iload_n 1, 1) := dk_27 (dk_at dksX3_loss_1 6 rfl rfl)
theorem dX3_loss_30 : decode cX3_loss 30 = .ok (.iload_n 2, 1) := dk_28 (dk_at dksX3_loss_1 7 rfl rfl)
theorem dX3_loss_31 : decode cX3_loss 31 = .ok (.invokevirtual 303, 3) := dk_182 1 47 (dk_at dksX3_loss_1 8 rfl rfl)
theorem dX3_loss_34 : decode cX3_loss 34 = .ok (.istore 4, 2) := dk_54 4 (dk_at dksX3_loss_1 11 rfl rfl)
theorem dX3_loss_36 : decode cX3_loss 36 = .ok (.iload_n 3, 1) := dk_29 (dk_at dksX3_loss_1 13 rfl rfl)
theorem dX3_loss_37 : decode cX3_loss 37 = .ok (.iload 4, 2) := dk_21 4 (dk_at dksX3_loss_1 14 rfl rfl)
theorem dX3_loss_39 : decode cX3_loss 39 = .ok (.invokestatic 309, 3) := dk_184 1 53 (dk_at dksX3_loss_1 16 rfl rfl)
theorem dX3_loss_42 : decode cX3_loss 42 = .ok (.istore 5, 2) := dk_54 5 (dk_at dksX3_loss_1 19 rfl rfl)
theorem dX3_loss_44 : decode cX3_loss 44 = .ok (.iload 5, 2) := dk_21 5 (dk_at dksX3_loss_1 21 rfl rfl)
theorem dX3_loss_46 : decode cX3_loss 46 = .ok (.ifCond .eq 6, 3) := dk_153 0 6 (dk_at dksX3_loss_2 0 rfl rfl)
theorem dX3_loss_49 : decode cX3_loss 49 = .ok (.iload 5, 2) := dk_21 5 (dk_at dksX3_loss_2 3 rfl rfl)
theorem dX3_loss_51 : decode cX3_loss 51 = .ok (.ireturn, 1) := dk_172 (dk_at dksX3_loss_2 5 rfl rfl)
theorem dX3_loss_52 : decode cX3_loss 52 = .ok (.iload_n 3, 1) := dk_29 (dk_at dksX3_loss_2 6 rfl rfl)
theorem dX3_loss_53 : decode cX3_loss 53 = .ok (.iconst 5, 1) := dk_8 (dk_at dksX3_loss_2 7 rfl rfl)
theorem dX3_loss_54 : decode cX3_loss 54 = .ok (.if_icmp .gt 5, 3) := dk_163 0 5 (dk_at dksX3_loss_2 8 rfl rfl)
theorem dX3_loss_57 : decode cX3_loss 57 = .ok (.iconst 0, 1) := dk_3 (dk_at dksX3_loss_2 11 rfl rfl)
theorem dX3_loss_58 : decode cX3_loss 58 = .ok (.ireturn, 1) := dk_172 (dk_at dksX3_loss_2 12 rfl rfl)
theorem dX3_loss_59 : decode cX3_loss 59 = .ok (.iload_n 3, 1) := dk_29 (dk_at dksX3_loss_2 13 rfl rfl)
theorem dX3_loss_60 : decode cX3_loss 60 = .ok (.iload 4, 2) := dk_21 4 (dk_at dksX3_loss_2 14 rfl rfl)
theorem dX3_loss_62 : decode cX3_loss 62 = .ok (.isub, 1) := dk_100 (dk_at dksX3_loss_2 16 rfl rfl)
theorem dX3_loss_63 : decode cX3_loss 63 = .ok (.aload_n 0, 1) := dk_42 (dk_at dksX3_loss_2 17 rfl rfl)
theorem dX3_loss_64 : decode cX3_loss 64 = .ok (.getfield 17, 3) := dk_180 0 17 (dk_at dksX3_loss_2 18 rfl rfl)
theorem dX3_loss_67 : decode cX3_loss 67 = .ok (.iconst 2, 1) := dk_5 (dk_at dksX3_loss_2 21 rfl rfl)
theorem dX3_loss_68 : decode cX3_loss 68 = .ok (.iaload, 1) := dk_46 (dk_at dksX3_loss_2 22 rfl rfl)
theorem dX3_loss_69 : decode cX3_loss 69 = .ok (.if_icmp .lt 7, 3) := dk_161 0 7 (dk_at dksX3_loss_3 0 rfl rfl)
theorem dX3_loss_72 : decode cX3_loss 72 = .ok (.iconst 1, 1) := dk_4 (dk_at dksX3_loss_3 3 rfl rfl)
theorem dX3_loss_73 : decode cX3_loss 73 = .ok (.goto 4, 3) := dk_167 0 4 (dk_at dksX3_loss_3 4 rfl rfl)
theorem dX3_loss_76 : decode cX3_loss 76 = .ok (.iconst 0, 1) := dk_3 (dk_at dksX3_loss_3 7 rfl rfl)
theorem dX3_loss_77 : decode cX3_loss 77 = .ok (.istore 6, 2) := dk_54 6 (dk_at dksX3_loss_3 8 rfl rfl)
theorem dX3_loss_79 : decode cX3_loss 79 = .ok (.iload 4, 2) := dk_21 4 (dk_at dksX3_loss_3 10 rfl rfl)
theorem dX3_loss_81 : decode cX3_loss 81 = .ok (.iconst 5, 1) := dk_8 (dk_at dksX3_loss_3 12 rfl rfl)
theorem dX3_loss_82 : decode cX3_loss 82 = .ok (.if_icmp .gt 12, 3) := dk_163 0 12 (dk_at dksX3_loss_3 13 rfl rfl)
theorem dX3_loss_85 : decode cX3_loss 85 = .ok (.iload 6, 2) := dk_21 6 (dk_at dksX3_loss_3 16 rfl rfl)
theorem dX3_loss_87 : decode cX3_loss 87 = .ok (.ifCond .eq 7, 3) := dk_153 0 7 (dk_at dksX3_loss_3 18 rfl rfl)
theorem dX3_loss_90 : decode cX3_loss 90 = .ok (.iconst 1, 1) := dk_4 (dk_at dksX3_loss_3 21 rfl rfl)
theorem dX3_loss_91 : decode cX3_loss 91 = .ok (.goto 13, 3) := dk_167 0 13 (dk_at dksX3_loss_4 0 rfl rfl)
theorem dX3_loss_94 : decode cX3_loss 94 = .ok (.iload 6, 2) := dk_21 6 (dk_at dksX3_loss_4 3 rfl rfl)
theorem dX3_loss_96 : decode cX3_loss 96 = .ok (.ifCond .eq 7, 3) := dk_153 0 7 (dk_at dksX3_loss_4 5 rfl rfl)
theorem dX3_loss_99 : decode cX3_loss 99 = .ok (.iconst 3, 1) := dk_6 (dk_at dksX3_loss_4 8 rfl rfl)
theorem dX3_loss_100 : decode cX3_loss 100 = .ok (.goto 4, 3) := dk_167 0 4 (dk_at dksX3_loss_4 9 rfl rfl)
theorem dX3_loss_103 : decode cX3_loss 103 = .ok (.iconst 2, 1) := dk_5 (dk_at dksX3_loss_4 12 rfl rfl)
theorem dX3_loss_104 : decode cX3_loss 104 = .ok (.ireturn, 1) := dk_172 (dk_at dksX3_loss_4 13 rfl rfl)
abbrev cX3_doubts : ByteArray := prog_14_method_92_code
def yX3_doubts : MethodName := ⟨RX3, "doubts", "(II)I"⟩
def dkwX3_doubts_1 : List UInt8 := [182, 1, 62, 172]
abbrev dktX3_doubts_1 : List UInt8 := dkwX3_doubts_1 ++ []
def dkwX3_doubts_0 : List UInt8 := [42, 42, 3, 27, 28, 182, 0, 188, 184, 0, 191, 182, 0, 156, 153, 0, 7, 2, 167, 0, 9, 42, 27, 28]
abbrev dktX3_doubts_0 : List UInt8 := dkwX3_doubts_0 ++ dktX3_doubts_1
theorem dksX3_doubts_0 : cX3_doubts.data.toList.drop 0 = dktX3_doubts_0 := by decide +kernel
theorem dksX3_doubts_1 : cX3_doubts.data.toList.drop 24 = dktX3_doubts_1 := dk_seg dksX3_doubts_0 24 rfl rfl
theorem dX3_doubts_0 : decode cX3_doubts 0 = .ok (.aload_n 0, 1) := dk_42 (dk_at dksX3_doubts_0 0 rfl rfl)
theorem dX3_doubts_1 : decode cX3_doubts 1 = .ok (.aload_n 0, 1) := dk_42 (dk_at dksX3_doubts_0 1 rfl rfl)
theorem dX3_doubts_2 : decode cX3_doubts 2 = .ok (.iconst 0, 1) := dk_3 (dk_at dksX3_doubts_0 2 rfl rfl)
theorem dX3_doubts_3 : decode cX3_doubts 3 = .ok (.iload_n 1, 1) := dk_27 (dk_at dksX3_doubts_0 3 rfl rfl)
theorem dX3_doubts_4 : decode cX3_doubts 4 = .ok (.iload_n 2, 1) := dk_28 (dk_at dksX3_doubts_0 4 rfl rfl)
theorem dX3_doubts_5 : decode cX3_doubts 5 = .ok (.invokevirtual 188, 3) := dk_182 0 188 (dk_at dksX3_doubts_0 5 rfl rfl)
theorem dX3_doubts_8 : decode cX3_doubts 8 = .ok (.invokestatic 191, 3) := dk_184 0 191 (dk_at dksX3_doubts_0 8 rfl rfl)
theorem dX3_doubts_11 : decode cX3_doubts 11 = .ok (.invokevirtual 156, 3) := dk_182 0 156 (dk_at dksX3_doubts_0 11 rfl rfl)
theorem dX3_doubts_14 : decode cX3_doubts 14 = .ok (.ifCond .eq 7, 3) := dk_153 0 7 (dk_at dksX3_doubts_0 14 rfl rfl)
theorem dX3_doubts_17 : decode cX3_doubts 17 = .ok (.iconst (-1), 1) := dk_2 (dk_at dksX3_doubts_0 17 rfl rfl)
theorem dX3_doubts_18 : decode cX3_doubts 18 = .ok (.goto 9, 3) := dk_167 0 9 (dk_at dksX3_doubts_0 18 rfl rfl)
theorem dX3_doubts_21 : decode cX3_doubts 21 = .ok (.aload_n 0, 1) := dk_42 (dk_at dksX3_doubts_0 21 rfl rfl)
theorem dX3_doubts_22 : decode cX3_doubts 22 = .ok (.iload_n 1, 1) := dk_27 (dk_at dksX3_doubts_0 22 rfl rfl)
theorem dX3_doubts_23 : decode cX3_doubts 23 = .ok (.iload_n 2, 1) := dk_28 (dk_at dksX3_doubts_0 23 rfl rfl)
theorem dX3_doubts_24 : decode cX3_doubts 24 = .ok (.invokevirtual 318, 3) := dk_182 1 62 (dk_at dksX3_doubts_1 0 rfl rfl)
theorem dX3_doubts_27 : decode cX3_doubts 27 = .ok (.ireturn, 1) := dk_172 (dk_at dksX3_doubts_1 3 rfl rfl)
abbrev cX3_doubtsOf : ByteArray := prog_14_method_91_code
def yX3_doubtsOf : MethodName := ⟨RX3, "doubtsOf", "(II)I"⟩
def dkwX3_doubtsOf_7 : List UInt8 := [21, 6, 172]
abbrev dktX3_doubtsOf_7 : List UInt8 := dkwX3_doubtsOf_7 ++ []
def dkwX3_doubtsOf_6 : List UInt8 := [182, 1, 59, 154, 0, 13, 42, 4, 27, 28, 182, 1, 59, 153, 0, 11, 21, 6, 16, 8, 128, 167, 0, 5]
abbrev dktX3_doubtsOf_6 : List UInt8 := dkwX3_doubtsOf_6 ++ dktX3_doubtsOf_7
def dkwX3_doubtsOf_5 : List UInt8 := [155, 0, 14, 21, 8, 21, 7, 164, 0, 7, 7, 167, 0, 4, 3, 128, 54, 6, 42, 3, 27, 28]
abbrev dktX3_doubtsOf_5 : List UInt8 := dkwX3_doubtsOf_5 ++ dktX3_doubtsOf_6
def dkwX3_doubtsOf_4 : List UInt8 := [42, 3, 27, 28, 182, 1, 47, 54, 7, 42, 4, 27, 28, 182, 1, 47, 54, 8, 21, 6, 21, 7]
abbrev dktX3_doubtsOf_4 : List UInt8 := dkwX3_doubtsOf_4 ++ dktX3_doubtsOf_5
def dkwX3_doubtsOf_3 : List UInt8 := [159, 0, 20, 29, 21, 5, 42, 180, 0, 17, 4, 46, 96, 164, 0, 7, 5, 167, 0, 4, 3, 128, 54, 6]
abbrev dktX3_doubtsOf_3 : List UInt8 := dkwX3_doubtsOf_3 ++ dktX3_doubtsOf_4
def dkwX3_doubtsOf_2 : List UInt8 := [159, 0, 7, 4, 167, 0, 4, 3, 54, 6, 21, 6, 29, 16, 254, 159, 0, 27, 21, 5, 16, 254]
abbrev dktX3_doubtsOf_2 : List UInt8 := dkwX3_doubtsOf_2 ++ dktX3_doubtsOf_3
def dkwX3_doubtsOf_1 : List UInt8 := [182, 1, 56, 54, 5, 21, 4, 16, 254, 159, 0, 21, 21, 5, 16, 254, 159, 0, 14, 21, 4, 21, 5]
abbrev dktX3_doubtsOf_1 : List UInt8 := dkwX3_doubtsOf_1 ++ dktX3_doubtsOf_2
def dkwX3_doubtsOf_0 : List UInt8 := [42, 3, 27, 28, 182, 1, 56, 62, 42, 4, 27, 28, 182, 1, 56, 54, 4, 42, 4, 4, 27, 100, 28]
abbrev dktX3_doubtsOf_0 : List UInt8 := dkwX3_doubtsOf_0 ++ dktX3_doubtsOf_1
theorem dksX3_doubtsOf_0 : cX3_doubtsOf.data.toList.drop 0 = dktX3_doubtsOf_0 := by decide +kernel
theorem dksX3_doubtsOf_1 : cX3_doubtsOf.data.toList.drop 23 = dktX3_doubtsOf_1 := dk_seg dksX3_doubtsOf_0 23 rfl rfl
theorem dksX3_doubtsOf_2 : cX3_doubtsOf.data.toList.drop 46 = dktX3_doubtsOf_2 := dk_seg dksX3_doubtsOf_1 23 rfl rfl
theorem dksX3_doubtsOf_3 : cX3_doubtsOf.data.toList.drop 68 = dktX3_doubtsOf_3 := dk_seg dksX3_doubtsOf_2 22 rfl rfl
theorem dksX3_doubtsOf_4 : cX3_doubtsOf.data.toList.drop 92 = dktX3_doubtsOf_4 := dk_seg dksX3_doubtsOf_3 24 rfl rfl
theorem dksX3_doubtsOf_5 : cX3_doubtsOf.data.toList.drop 114 = dktX3_doubtsOf_5 := dk_seg dksX3_doubtsOf_4 22 rfl rfl
theorem dksX3_doubtsOf_6 : cX3_doubtsOf.data.toList.drop 136 = dktX3_doubtsOf_6 := dk_seg dksX3_doubtsOf_5 22 rfl rfl
theorem dksX3_doubtsOf_7 : cX3_doubtsOf.data.toList.drop 160 = dktX3_doubtsOf_7 := dk_seg dksX3_doubtsOf_6 24 rfl rfl
theorem dX3_doubtsOf_0 : decode cX3_doubtsOf 0 = .ok (.aload_n 0, 1) := dk_42 (dk_at dksX3_doubtsOf_0 0 rfl rfl)
theorem dX3_doubtsOf_1 : decode cX3_doubtsOf 1 = .ok (.iconst 0, 1) := dk_3 (dk_at dksX3_doubtsOf_0 1 rfl rfl)
theorem dX3_doubtsOf_2 : decode cX3_doubtsOf 2 = .ok (.iload_n 1, 1) := dk_27 (dk_at dksX3_doubtsOf_0 2 rfl rfl)
theorem dX3_doubtsOf_3 : decode cX3_doubtsOf 3 = .ok (.iload_n 2, 1) := dk_28 (dk_at dksX3_doubtsOf_0 3 rfl rfl)
theorem dX3_doubtsOf_4 : decode cX3_doubtsOf 4 = .ok (.invokevirtual 312, 3) := dk_182 1 56 (dk_at dksX3_doubtsOf_0 4 rfl rfl)
theorem dX3_doubtsOf_7 : decode cX3_doubtsOf 7 = .ok (.istore_n 3, 1) := dk_62 (dk_at dksX3_doubtsOf_0 7 rfl rfl)
theorem dX3_doubtsOf_8 : decode cX3_doubtsOf 8 = .ok (.aload_n 0, 1) := dk_42 (dk_at dksX3_doubtsOf_0 8 rfl rfl)
theorem dX3_doubtsOf_9 : decode cX3_doubtsOf 9 = .ok (.iconst 1, 1) := dk_4 (dk_at dksX3_doubtsOf_0 9 rfl rfl)
theorem dX3_doubtsOf_10 : decode cX3_doubtsOf 10 = .ok (.iload_n 1, 1) := dk_27 (dk_at dksX3_doubtsOf_0 10 rfl rfl)
theorem dX3_doubtsOf_11 : decode cX3_doubtsOf 11 = .ok (.iload_n 2, 1) := dk_28 (dk_at dksX3_doubtsOf_0 11 rfl rfl)
theorem dX3_doubtsOf_12 : decode cX3_doubtsOf 12 = .ok (.invokevirtual 312, 3) := dk_182 1 56 (dk_at dksX3_doubtsOf_0 12 rfl rfl)
theorem dX3_doubtsOf_15 : decode cX3_doubtsOf 15 = .ok (.istore 4, 2) := dk_54 4 (dk_at dksX3_doubtsOf_0 15 rfl rfl)
theorem dX3_doubtsOf_17 : decode cX3_doubtsOf 17 = .ok (.aload_n 0, 1) := dk_42 (dk_at dksX3_doubtsOf_0 17 rfl rfl)
theorem dX3_doubtsOf_18 : decode cX3_doubtsOf 18 = .ok (.iconst 1, 1) := dk_4 (dk_at dksX3_doubtsOf_0 18 rfl rfl)
theorem dX3_doubtsOf_19 : decode cX3_doubtsOf 19 = .ok (.iconst 1, 1) := dk_4 (dk_at dksX3_doubtsOf_0 19 rfl rfl)
theorem dX3_doubtsOf_20 : decode cX3_doubtsOf 20 = .ok (.iload_n 1, 1) := dk_27 (dk_at dksX3_doubtsOf_0 20 rfl rfl)
theorem dX3_doubtsOf_21 : decode cX3_doubtsOf 21 = .ok (.isub, 1) := dk_100 (dk_at dksX3_doubtsOf_0 21 rfl rfl)
theorem dX3_doubtsOf_22 : decode cX3_doubtsOf 22 = .ok (.iload_n 2, 1) := dk_28 (dk_at dksX3_doubtsOf_0 22 rfl rfl)
theorem dX3_doubtsOf_23 : decode cX3_doubtsOf 23 = .ok (.invokevirtual 312, 3) := dk_182 1 56 (dk_at dksX3_doubtsOf_1 0 rfl rfl)
theorem dX3_doubtsOf_26 : decode cX3_doubtsOf 26 = .ok (.istore 5, 2) := dk_54 5 (dk_at dksX3_doubtsOf_1 3 rfl rfl)
theorem dX3_doubtsOf_28 : decode cX3_doubtsOf 28 = .ok (.iload 4, 2) := dk_21 4 (dk_at dksX3_doubtsOf_1 5 rfl rfl)
theorem dX3_doubtsOf_30 : decode cX3_doubtsOf 30 = .ok (.bipush (-2), 2) := dk_16 254 (dk_at dksX3_doubtsOf_1 7 rfl rfl)
theorem dX3_doubtsOf_32 : decode cX3_doubtsOf 32 = .ok (.if_icmp .eq 21, 3) := dk_159 0 21 (dk_at dksX3_doubtsOf_1 9 rfl rfl)
theorem dX3_doubtsOf_35 : decode cX3_doubtsOf 35 = .ok (.iload 5, 2) := dk_21 5 (dk_at dksX3_doubtsOf_1 12 rfl rfl)
theorem dX3_doubtsOf_37 : decode cX3_doubtsOf 37 = .ok (.bipush (-2), 2) := dk_16 254 (dk_at dksX3_doubtsOf_1 14 rfl rfl)
theorem dX3_doubtsOf_39 : decode cX3_doubtsOf 39 = .ok (.if_icmp .eq 14, 3) := dk_159 0 14 (dk_at dksX3_doubtsOf_1 16 rfl rfl)
theorem dX3_doubtsOf_42 : decode cX3_doubtsOf 42 = .ok (.iload 4, 2) := dk_21 4 (dk_at dksX3_doubtsOf_1 19 rfl rfl)
theorem dX3_doubtsOf_44 : decode cX3_doubtsOf 44 = .ok (.iload 5, 2) := dk_21 5 (dk_at dksX3_doubtsOf_1 21 rfl rfl)
theorem dX3_doubtsOf_46 : decode cX3_doubtsOf 46 = .ok (.if_icmp .eq 7, 3) := dk_159 0 7 (dk_at dksX3_doubtsOf_2 0 rfl rfl)
theorem dX3_doubtsOf_49 : decode cX3_doubtsOf 49 = .ok (.iconst 1, 1) := dk_4 (dk_at dksX3_doubtsOf_2 3 rfl rfl)
theorem dX3_doubtsOf_50 : decode cX3_doubtsOf 50 = .ok (.goto 4, 3) := dk_167 0 4 (dk_at dksX3_doubtsOf_2 4 rfl rfl)
theorem dX3_doubtsOf_53 : decode cX3_doubtsOf 53 = .ok (.iconst 0, 1) := dk_3 (dk_at dksX3_doubtsOf_2 7 rfl rfl)
theorem dX3_doubtsOf_54 : decode cX3_doubtsOf 54 = .ok (.istore 6, 2) := dk_54 6 (dk_at dksX3_doubtsOf_2 8 rfl rfl)
theorem dX3_doubtsOf_56 : decode cX3_doubtsOf 56 = .ok (.iload 6, 2) := dk_21 6 (dk_at dksX3_doubtsOf_2 10 rfl rfl)
theorem dX3_doubtsOf_58 : decode cX3_doubtsOf 58 = .ok (.iload_n 3, 1) := dk_29 (dk_at dksX3_doubtsOf_2 12 rfl rfl)
theorem dX3_doubtsOf_59 : decode cX3_doubtsOf 59 = .ok (.bipush (-2), 2) := dk_16 254 (dk_at dksX3_doubtsOf_2 13 rfl rfl)
theorem dX3_doubtsOf_61 : decode cX3_doubtsOf 61 = .ok (.if_icmp .eq 27, 3) := dk_159 0 27 (dk_at dksX3_doubtsOf_2 15 rfl rfl)
theorem dX3_doubtsOf_64 : decode cX3_doubtsOf 64 = .ok (.iload 5, 2) := dk_21 5 (dk_at dksX3_doubtsOf_2 18 rfl rfl)
theorem dX3_doubtsOf_66 : decode cX3_doubtsOf 66 = .ok (.bipush (-2), 2) := dk_16 254 (dk_at dksX3_doubtsOf_2 20 rfl rfl)
theorem dX3_doubtsOf_68 : decode cX3_doubtsOf 68 = .ok (.if_icmp .eq 20, 3) := dk_159 0 20 (dk_at dksX3_doubtsOf_3 0 rfl rfl)
theorem dX3_doubtsOf_71 : decode cX3_doubtsOf 71 = .ok (.iload_n 3, 1) := dk_29 (dk_at dksX3_doubtsOf_3 3 rfl rfl)
theorem dX3_doubtsOf_72 : decode cX3_doubtsOf 72 = .ok (.iload 5, 2) := dk_21 5 (dk_at dksX3_doubtsOf_3 4 rfl rfl)
theorem dX3_doubtsOf_74 : decode cX3_doubtsOf 74 = .ok (.aload_n 0, 1) := dk_42 (dk_at dksX3_doubtsOf_3 6 rfl rfl)
theorem dX3_doubtsOf_75 : decode cX3_doubtsOf 75 = .ok (.getfield 17, 3) := dk_180 0 17 (dk_at dksX3_doubtsOf_3 7 rfl rfl)
theorem dX3_doubtsOf_78 : decode cX3_doubtsOf 78 = .ok (.iconst 1, 1) := dk_4 (dk_at dksX3_doubtsOf_3 10 rfl rfl)
theorem dX3_doubtsOf_79 : decode cX3_doubtsOf 79 = .ok (.iaload, 1) := dk_46 (dk_at dksX3_doubtsOf_3 11 rfl rfl)
theorem dX3_doubtsOf_80 : decode cX3_doubtsOf 80 = .ok (.iadd, 1) := dk_96 (dk_at dksX3_doubtsOf_3 12 rfl rfl)
theorem dX3_doubtsOf_81 : decode cX3_doubtsOf 81 = .ok (.if_icmp .le 7, 3) := dk_164 0 7 (dk_at dksX3_doubtsOf_3 13 rfl rfl)
theorem dX3_doubtsOf_84 : decode cX3_doubtsOf 84 = .ok (.iconst 2, 1) := dk_5 (dk_at dksX3_doubtsOf_3 16 rfl rfl)
theorem dX3_doubtsOf_85 : decode cX3_doubtsOf 85 = .ok (.goto 4, 3) := dk_167 0 4 (dk_at dksX3_doubtsOf_3 17 rfl rfl)
theorem dX3_doubtsOf_88 : decode cX3_doubtsOf 88 = .ok (.iconst 0, 1) := dk_3 (dk_at dksX3_doubtsOf_3 20 rfl rfl)
theorem dX3_doubtsOf_89 : decode cX3_doubtsOf 89 = .ok (.ior, 1) := dk_128 (dk_at dksX3_doubtsOf_3 21 rfl rfl)
theorem dX3_doubtsOf_90 : decode cX3_doubtsOf 90 = .ok (.istore 6, 2) := dk_54 6 (dk_at dksX3_doubtsOf_3 22 rfl rfl)
theorem dX3_doubtsOf_92 : decode cX3_doubtsOf 92 = .ok (.aload_n 0, 1) := dk_42 (dk_at dksX3_doubtsOf_4 0 rfl rfl)
theorem dX3_doubtsOf_93 : decode cX3_doubtsOf 93 = .ok (.iconst 0, 1) := dk_3 (dk_at dksX3_doubtsOf_4 1 rfl rfl)
theorem dX3_doubtsOf_94 : decode cX3_doubtsOf 94 = .ok (.iload_n 1, 1) := dk_27 (dk_at dksX3_doubtsOf_4 2 rfl rfl)
theorem dX3_doubtsOf_95 : decode cX3_doubtsOf 95 = .ok (.iload_n 2, 1) := dk_28 (dk_at dksX3_doubtsOf_4 3 rfl rfl)
theorem dX3_doubtsOf_96 : decode cX3_doubtsOf 96 = .ok (.invokevirtual 303, 3) := dk_182 1 47 (dk_at dksX3_doubtsOf_4 4 rfl rfl)
theorem dX3_doubtsOf_99 : decode cX3_doubtsOf 99 = .ok (.istore 7, 2) := dk_54 7 (dk_at dksX3_doubtsOf_4 7 rfl rfl)
theorem dX3_doubtsOf_101 : decode cX3_doubtsOf 101 = .ok (.aload_n 0, 1) := dk_42 (dk_at dksX3_doubtsOf_4 9 rfl rfl)
theorem dX3_doubtsOf_102 : decode cX3_doubtsOf 102 = .ok (.iconst 1, 1) := dk_4 (dk_at dksX3_doubtsOf_4 10 rfl rfl)
theorem dX3_doubtsOf_103 : decode cX3_doubtsOf 103 = .ok (.iload_n 1, 1) := dk_27 (dk_at dksX3_doubtsOf_4 11 rfl rfl)
theorem dX3_doubtsOf_104 : decode cX3_doubtsOf 104 = .ok (.iload_n 2, 1) := dk_28 (dk_at dksX3_doubtsOf_4 12 rfl rfl)
theorem dX3_doubtsOf_105 : decode cX3_doubtsOf 105 = .ok (.invokevirtual 303, 3) := dk_182 1 47 (dk_at dksX3_doubtsOf_4 13 rfl rfl)
theorem dX3_doubtsOf_108 : decode cX3_doubtsOf 108 = .ok (.istore 8, 2) := dk_54 8 (dk_at dksX3_doubtsOf_4 16 rfl rfl)
theorem dX3_doubtsOf_110 : decode cX3_doubtsOf 110 = .ok (.iload 6, 2) := dk_21 6 (dk_at dksX3_doubtsOf_4 18 rfl rfl)
theorem dX3_doubtsOf_112 : decode cX3_doubtsOf 112 = .ok (.iload 7, 2) := dk_21 7 (dk_at dksX3_doubtsOf_4 20 rfl rfl)
theorem dX3_doubtsOf_114 : decode cX3_doubtsOf 114 = .ok (.ifCond .lt 14, 3) := dk_155 0 14 (dk_at dksX3_doubtsOf_5 0 rfl rfl)
theorem dX3_doubtsOf_117 : decode cX3_doubtsOf 117 = .ok (.iload 8, 2) := dk_21 8 (dk_at dksX3_doubtsOf_5 3 rfl rfl)
theorem dX3_doubtsOf_119 : decode cX3_doubtsOf 119 = .ok (.iload 7, 2) := dk_21 7 (dk_at dksX3_doubtsOf_5 5 rfl rfl)
theorem dX3_doubtsOf_121 : decode cX3_doubtsOf 121 = .ok (.if_icmp .le 7, 3) := dk_164 0 7 (dk_at dksX3_doubtsOf_5 7 rfl rfl)
theorem dX3_doubtsOf_124 : decode cX3_doubtsOf 124 = .ok (.iconst 4, 1) := dk_7 (dk_at dksX3_doubtsOf_5 10 rfl rfl)
theorem dX3_doubtsOf_125 : decode cX3_doubtsOf 125 = .ok (.goto 4, 3) := dk_167 0 4 (dk_at dksX3_doubtsOf_5 11 rfl rfl)
theorem dX3_doubtsOf_128 : decode cX3_doubtsOf 128 = .ok (.iconst 0, 1) := dk_3 (dk_at dksX3_doubtsOf_5 14 rfl rfl)
theorem dX3_doubtsOf_129 : decode cX3_doubtsOf 129 = .ok (.ior, 1) := dk_128 (dk_at dksX3_doubtsOf_5 15 rfl rfl)
theorem dX3_doubtsOf_130 : decode cX3_doubtsOf 130 = .ok (.istore 6, 2) := dk_54 6 (dk_at dksX3_doubtsOf_5 16 rfl rfl)
theorem dX3_doubtsOf_132 : decode cX3_doubtsOf 132 = .ok (.aload_n 0, 1) := dk_42 (dk_at dksX3_doubtsOf_5 18 rfl rfl)
theorem dX3_doubtsOf_133 : decode cX3_doubtsOf 133 = .ok (.iconst 0, 1) := dk_3 (dk_at dksX3_doubtsOf_5 19 rfl rfl)
theorem dX3_doubtsOf_134 : decode cX3_doubtsOf 134 = .ok (.iload_n 1, 1) := dk_27 (dk_at dksX3_doubtsOf_5 20 rfl rfl)
theorem dX3_doubtsOf_135 : decode cX3_doubtsOf 135 = .ok (.iload_n 2, 1) := dk_28 (dk_at dksX3_doubtsOf_5 21 rfl rfl)
theorem dX3_doubtsOf_136 : decode cX3_doubtsOf 136 = .ok (.invokevirtual 315, 3) := dk_182 1 59 (dk_at dksX3_doubtsOf_6 0 rfl rfl)
theorem dX3_doubtsOf_139 : decode cX3_doubtsOf 139 = .ok (.ifCond .ne 13, 3) := dk_154 0 13 (dk_at dksX3_doubtsOf_6 3 rfl rfl)
theorem dX3_doubtsOf_142 : decode cX3_doubtsOf 142 = .ok (.aload_n 0, 1) := dk_42 (dk_at dksX3_doubtsOf_6 6 rfl rfl)
theorem dX3_doubtsOf_143 : decode cX3_doubtsOf 143 = .ok (.iconst 1, 1) := dk_4 (dk_at dksX3_doubtsOf_6 7 rfl rfl)
theorem dX3_doubtsOf_144 : decode cX3_doubtsOf 144 = .ok (.iload_n 1, 1) := dk_27 (dk_at dksX3_doubtsOf_6 8 rfl rfl)
theorem dX3_doubtsOf_145 : decode cX3_doubtsOf 145 = .ok (.iload_n 2, 1) := dk_28 (dk_at dksX3_doubtsOf_6 9 rfl rfl)
theorem dX3_doubtsOf_146 : decode cX3_doubtsOf 146 = .ok (.invokevirtual 315, 3) := dk_182 1 59 (dk_at dksX3_doubtsOf_6 10 rfl rfl)
theorem dX3_doubtsOf_149 : decode cX3_doubtsOf 149 = .ok (.ifCond .eq 11, 3) := dk_153 0 11 (dk_at dksX3_doubtsOf_6 13 rfl rfl)
theorem dX3_doubtsOf_152 : decode cX3_doubtsOf 152 = .ok (.iload 6, 2) := dk_21 6 (dk_at dksX3_doubtsOf_6 16 rfl rfl)
theorem dX3_doubtsOf_154 : decode cX3_doubtsOf 154 = .ok (.bipush 8, 2) := dk_16 8 (dk_at dksX3_doubtsOf_6 18 rfl rfl)
theorem dX3_doubtsOf_156 : decode cX3_doubtsOf 156 = .ok (.ior, 1) := dk_128 (dk_at dksX3_doubtsOf_6 20 rfl rfl)
theorem dX3_doubtsOf_157 : decode cX3_doubtsOf 157 = .ok (.goto 5, 3) := dk_167 0 5 (dk_at dksX3_doubtsOf_6 21 rfl rfl)
theorem dX3_doubtsOf_160 : decode cX3_doubtsOf 160 = .ok (.iload 6, 2) := dk_21 6 (dk_at dksX3_doubtsOf_7 0 rfl rfl)
theorem dX3_doubtsOf_162 : decode cX3_doubtsOf 162 = .ok (.ireturn, 1) := dk_172 (dk_at dksX3_doubtsOf_7 2 rfl rfl)
abbrev cX3_plainOrNone : ByteArray := prog_14_method_89_code
def yX3_plainOrNone : MethodName := ⟨RX3, "plainOrNone", "(III)I"⟩
def dkwX3_plainOrNone_1 : List UInt8 := [8, 184, 0, 213, 46, 167, 0, 5, 16, 254, 172]
abbrev dktX3_plainOrNone_1 : List UInt8 := dkwX3_plainOrNone_1 ++ []
def dkwX3_plainOrNone_0 : List UInt8 := [42, 27, 28, 29, 182, 0, 226, 54, 4, 42, 21, 4, 182, 0, 229, 153, 0, 17, 42, 180, 0, 23, 21, 4]
abbrev dktX3_plainOrNone_0 : List UInt8 := dkwX3_plainOrNone_0 ++ dktX3_plainOrNone_1
theorem dksX3_plainOrNone_0 : cX3_plainOrNone.data.toList.drop 0 = dktX3_plainOrNone_0 := by decide +kernel
theorem dksX3_plainOrNone_1 : cX3_plainOrNone.data.toList.drop 24 = dktX3_plainOrNone_1 := dk_seg dksX3_plainOrNone_0 24 rfl rfl
theorem dX3_plainOrNone_0 : decode cX3_plainOrNone 0 = .ok (.aload_n 0, 1) := dk_42 (dk_at dksX3_plainOrNone_0 0 rfl rfl)
theorem dX3_plainOrNone_1 : decode cX3_plainOrNone 1 = .ok (.iload_n 1, 1) := dk_27 (dk_at dksX3_plainOrNone_0 1 rfl rfl)
theorem dX3_plainOrNone_2 : decode cX3_plainOrNone 2 = .ok (.iload_n 2, 1) := dk_28 (dk_at dksX3_plainOrNone_0 2 rfl rfl)
theorem dX3_plainOrNone_3 : decode cX3_plainOrNone 3 = .ok (.iload_n 3, 1) := dk_29 (dk_at dksX3_plainOrNone_0 3 rfl rfl)
theorem dX3_plainOrNone_4 : decode cX3_plainOrNone 4 = .ok (.invokevirtual 226, 3) := dk_182 0 226 (dk_at dksX3_plainOrNone_0 4 rfl rfl)
theorem dX3_plainOrNone_7 : decode cX3_plainOrNone 7 = .ok (.istore 4, 2) := dk_54 4 (dk_at dksX3_plainOrNone_0 7 rfl rfl)
theorem dX3_plainOrNone_9 : decode cX3_plainOrNone 9 = .ok (.aload_n 0, 1) := dk_42 (dk_at dksX3_plainOrNone_0 9 rfl rfl)
theorem dX3_plainOrNone_10 : decode cX3_plainOrNone 10 = .ok (.iload 4, 2) := dk_21 4 (dk_at dksX3_plainOrNone_0 10 rfl rfl)
theorem dX3_plainOrNone_12 : decode cX3_plainOrNone 12 = .ok (.invokevirtual 229, 3) := dk_182 0 229 (dk_at dksX3_plainOrNone_0 12 rfl rfl)
theorem dX3_plainOrNone_15 : decode cX3_plainOrNone 15 = .ok (.ifCond .eq 17, 3) := dk_153 0 17 (dk_at dksX3_plainOrNone_0 15 rfl rfl)
theorem dX3_plainOrNone_18 : decode cX3_plainOrNone 18 = .ok (.aload_n 0, 1) := dk_42 (dk_at dksX3_plainOrNone_0 18 rfl rfl)
theorem dX3_plainOrNone_19 : decode cX3_plainOrNone 19 = .ok (.getfield 23, 3) := dk_180 0 23 (dk_at dksX3_plainOrNone_0 19 rfl rfl)
theorem dX3_plainOrNone_22 : decode cX3_plainOrNone 22 = .ok (.iload 4, 2) := dk_21 4 (dk_at dksX3_plainOrNone_0 22 rfl rfl)
theorem dX3_plainOrNone_24 : decode cX3_plainOrNone 24 = .ok (.iconst 5, 1) := dk_8 (dk_at dksX3_plainOrNone_1 0 rfl rfl)
theorem dX3_plainOrNone_25 : decode cX3_plainOrNone 25 = .ok (.invokestatic 213, 3) := dk_184 0 213 (dk_at dksX3_plainOrNone_1 1 rfl rfl)
theorem dX3_plainOrNone_28 : decode cX3_plainOrNone 28 = .ok (.iaload, 1) := dk_46 (dk_at dksX3_plainOrNone_1 4 rfl rfl)
theorem dX3_plainOrNone_29 : decode cX3_plainOrNone 29 = .ok (.goto 5, 3) := dk_167 0 5 (dk_at dksX3_plainOrNone_1 5 rfl rfl)
theorem dX3_plainOrNone_32 : decode cX3_plainOrNone 32 = .ok (.bipush (-2), 2) := dk_16 254 (dk_at dksX3_plainOrNone_1 8 rfl rfl)
theorem dX3_plainOrNone_34 : decode cX3_plainOrNone 34 = .ok (.ireturn, 1) := dk_172 (dk_at dksX3_plainOrNone_1 10 rfl rfl)
abbrev cX3_isHelped : ByteArray := prog_14_method_90_code
def yX3_isHelped : MethodName := ⟨RX3, "isHelped", "(III)Z"⟩
def dkwX3_isHelped_2 : List UInt8 := [21, 4, 8, 184, 0, 213, 46, 21, 5, 162, 0, 7, 4, 167, 0, 4, 3, 172]
abbrev dktX3_isHelped_2 : List UInt8 := dkwX3_isHelped_2 ++ []
def dkwX3_isHelped_1 : List UInt8 := [159, 0, 39, 42, 21, 4, 182, 0, 229, 153, 0, 30, 21, 5, 16, 254, 159, 0, 23, 42, 180, 0, 23]
abbrev dktX3_isHelped_1 : List UInt8 := dkwX3_isHelped_1 ++ dktX3_isHelped_2
def dkwX3_isHelped_0 : List UInt8 := [42, 27, 28, 29, 182, 1, 44, 54, 4, 42, 27, 28, 29, 182, 1, 56, 54, 5, 21, 4, 16, 254]
abbrev dktX3_isHelped_0 : List UInt8 := dkwX3_isHelped_0 ++ dktX3_isHelped_1
theorem dksX3_isHelped_0 : cX3_isHelped.data.toList.drop 0 = dktX3_isHelped_0 := by decide +kernel
theorem dksX3_isHelped_1 : cX3_isHelped.data.toList.drop 22 = dktX3_isHelped_1 := dk_seg dksX3_isHelped_0 22 rfl rfl
theorem dksX3_isHelped_2 : cX3_isHelped.data.toList.drop 45 = dktX3_isHelped_2 := dk_seg dksX3_isHelped_1 23 rfl rfl
theorem dX3_isHelped_0 : decode cX3_isHelped 0 = .ok (.aload_n 0, 1) := dk_42 (dk_at dksX3_isHelped_0 0 rfl rfl)
theorem dX3_isHelped_1 : decode cX3_isHelped 1 = .ok (.iload_n 1, 1) := dk_27 (dk_at dksX3_isHelped_0 1 rfl rfl)
theorem dX3_isHelped_2 : decode cX3_isHelped 2 = .ok (.iload_n 2, 1) := dk_28 (dk_at dksX3_isHelped_0 2 rfl rfl)
theorem dX3_isHelped_3 : decode cX3_isHelped 3 = .ok (.iload_n 3, 1) := dk_29 (dk_at dksX3_isHelped_0 3 rfl rfl)
theorem dX3_isHelped_4 : decode cX3_isHelped 4 = .ok (.invokevirtual 300, 3) := dk_182 1 44 (dk_at dksX3_isHelped_0 4 rfl rfl)
theorem dX3_isHelped_7 : decode cX3_isHelped 7 = .ok (.istore 4, 2) := dk_54 4 (dk_at dksX3_isHelped_0 7 rfl rfl)
theorem dX3_isHelped_9 : decode cX3_isHelped 9 = .ok (.aload_n 0, 1) := dk_42 (dk_at dksX3_isHelped_0 9 rfl rfl)
theorem dX3_isHelped_10 : decode cX3_isHelped 10 = .ok (.iload_n 1, 1) := dk_27 (dk_at dksX3_isHelped_0 10 rfl rfl)
theorem dX3_isHelped_11 : decode cX3_isHelped 11 = .ok (.iload_n 2, 1) := dk_28 (dk_at dksX3_isHelped_0 11 rfl rfl)
theorem dX3_isHelped_12 : decode cX3_isHelped 12 = .ok (.iload_n 3, 1) := dk_29 (dk_at dksX3_isHelped_0 12 rfl rfl)
theorem dX3_isHelped_13 : decode cX3_isHelped 13 = .ok (.invokevirtual 312, 3) := dk_182 1 56 (dk_at dksX3_isHelped_0 13 rfl rfl)
theorem dX3_isHelped_16 : decode cX3_isHelped 16 = .ok (.istore 5, 2) := dk_54 5 (dk_at dksX3_isHelped_0 16 rfl rfl)
theorem dX3_isHelped_18 : decode cX3_isHelped 18 = .ok (.iload 4, 2) := dk_21 4 (dk_at dksX3_isHelped_0 18 rfl rfl)
theorem dX3_isHelped_20 : decode cX3_isHelped 20 = .ok (.bipush (-2), 2) := dk_16 254 (dk_at dksX3_isHelped_0 20 rfl rfl)
theorem dX3_isHelped_22 : decode cX3_isHelped 22 = .ok (.if_icmp .eq 39, 3) := dk_159 0 39 (dk_at dksX3_isHelped_1 0 rfl rfl)
theorem dX3_isHelped_25 : decode cX3_isHelped 25 = .ok (.aload_n 0, 1) := dk_42 (dk_at dksX3_isHelped_1 3 rfl rfl)
theorem dX3_isHelped_26 : decode cX3_isHelped 26 = .ok (.iload 4, 2) := dk_21 4 (dk_at dksX3_isHelped_1 4 rfl rfl)
theorem dX3_isHelped_28 : decode cX3_isHelped 28 = .ok (.invokevirtual 229, 3) := dk_182 0 229 (dk_at dksX3_isHelped_1 6 rfl rfl)
theorem dX3_isHelped_31 : decode cX3_isHelped 31 = .ok (.ifCond .eq 30, 3) := dk_153 0 30 (dk_at dksX3_isHelped_1 9 rfl rfl)
theorem dX3_isHelped_34 : decode cX3_isHelped 34 = .ok (.iload 5, 2) := dk_21 5 (dk_at dksX3_isHelped_1 12 rfl rfl)
theorem dX3_isHelped_36 : decode cX3_isHelped 36 = .ok (.bipush (-2), 2) := dk_16 254 (dk_at dksX3_isHelped_1 14 rfl rfl)
theorem dX3_isHelped_38 : decode cX3_isHelped 38 = .ok (.if_icmp .eq 23, 3) := dk_159 0 23 (dk_at dksX3_isHelped_1 16 rfl rfl)
theorem dX3_isHelped_41 : decode cX3_isHelped 41 = .ok (.aload_n 0, 1) := dk_42 (dk_at dksX3_isHelped_1 19 rfl rfl)
theorem dX3_isHelped_42 : decode cX3_isHelped 42 = .ok (.getfield 23, 3) := dk_180 0 23 (dk_at dksX3_isHelped_1 20 rfl rfl)
theorem dX3_isHelped_45 : decode cX3_isHelped 45 = .ok (.iload 4, 2) := dk_21 4 (dk_at dksX3_isHelped_2 0 rfl rfl)
theorem dX3_isHelped_47 : decode cX3_isHelped 47 = .ok (.iconst 5, 1) := dk_8 (dk_at dksX3_isHelped_2 2 rfl rfl)
theorem dX3_isHelped_48 : decode cX3_isHelped 48 = .ok (.invokestatic 213, 3) := dk_184 0 213 (dk_at dksX3_isHelped_2 3 rfl rfl)
theorem dX3_isHelped_51 : decode cX3_isHelped 51 = .ok (.iaload, 1) := dk_46 (dk_at dksX3_isHelped_2 6 rfl rfl)
theorem dX3_isHelped_52 : decode cX3_isHelped 52 = .ok (.iload 5, 2) := dk_21 5 (dk_at dksX3_isHelped_2 7 rfl rfl)
theorem dX3_isHelped_54 : decode cX3_isHelped 54 = .ok (.if_icmp .ge 7, 3) := dk_162 0 7 (dk_at dksX3_isHelped_2 9 rfl rfl)
theorem dX3_isHelped_57 : decode cX3_isHelped 57 = .ok (.iconst 1, 1) := dk_4 (dk_at dksX3_isHelped_2 12 rfl rfl)
theorem dX3_isHelped_58 : decode cX3_isHelped 58 = .ok (.goto 4, 3) := dk_167 0 4 (dk_at dksX3_isHelped_2 13 rfl rfl)
theorem dX3_isHelped_61 : decode cX3_isHelped 61 = .ok (.iconst 0, 1) := dk_3 (dk_at dksX3_isHelped_2 16 rfl rfl)
theorem dX3_isHelped_62 : decode cX3_isHelped 62 = .ok (.ireturn, 1) := dk_172 (dk_at dksX3_isHelped_2 17 rfl rfl)
abbrev cX3_doubtful : ByteArray := prog_14_method_95_code
def yX3_doubtful : MethodName := ⟨RX3, "doubtful", "()I"⟩
def dkwX3_doubtful_0 : List UInt8 := [42, 42, 180, 0, 168, 184, 0, 191, 182, 0, 156, 153, 0, 7, 2, 167, 0, 7, 42, 182, 1, 68, 172]
abbrev dktX3_doubtful_0 : List UInt8 := dkwX3_doubtful_0 ++ []
theorem dksX3_doubtful_0 : cX3_doubtful.data.toList.drop 0 = dktX3_doubtful_0 := by decide +kernel
theorem dX3_doubtful_0 : decode cX3_doubtful 0 = .ok (.aload_n 0, 1) := dk_42 (dk_at dksX3_doubtful_0 0 rfl rfl)
theorem dX3_doubtful_1 : decode cX3_doubtful 1 = .ok (.aload_n 0, 1) := dk_42 (dk_at dksX3_doubtful_0 1 rfl rfl)
theorem dX3_doubtful_2 : decode cX3_doubtful 2 = .ok (.getfield 168, 3) := dk_180 0 168 (dk_at dksX3_doubtful_0 2 rfl rfl)
theorem dX3_doubtful_5 : decode cX3_doubtful 5 = .ok (.invokestatic 191, 3) := dk_184 0 191 (dk_at dksX3_doubtful_0 5 rfl rfl)
theorem dX3_doubtful_8 : decode cX3_doubtful 8 = .ok (.invokevirtual 156, 3) := dk_182 0 156 (dk_at dksX3_doubtful_0 8 rfl rfl)
theorem dX3_doubtful_11 : decode cX3_doubtful 11 = .ok (.ifCond .eq 7, 3) := dk_153 0 7 (dk_at dksX3_doubtful_0 11 rfl rfl)
theorem dX3_doubtful_14 : decode cX3_doubtful 14 = .ok (.iconst (-1), 1) := dk_2 (dk_at dksX3_doubtful_0 14 rfl rfl)
theorem dX3_doubtful_15 : decode cX3_doubtful 15 = .ok (.goto 7, 3) := dk_167 0 7 (dk_at dksX3_doubtful_0 15 rfl rfl)
theorem dX3_doubtful_18 : decode cX3_doubtful 18 = .ok (.aload_n 0, 1) := dk_42 (dk_at dksX3_doubtful_0 18 rfl rfl)
theorem dX3_doubtful_19 : decode cX3_doubtful 19 = .ok (.invokevirtual 324, 3) := dk_182 1 68 (dk_at dksX3_doubtful_0 19 rfl rfl)
theorem dX3_doubtful_22 : decode cX3_doubtful 22 = .ok (.ireturn, 1) := dk_172 (dk_at dksX3_doubtful_0 22 rfl rfl)
abbrev cX3_doubtfulMany : ByteArray := prog_14_method_94_code
def yX3_doubtfulMany : MethodName := ⟨RX3, "doubtfulMany", "()I"⟩
def dkwX3_doubtfulMany_1 : List UInt8 := [167, 0, 4, 3, 96, 60, 132, 2, 1, 167, 255, 227, 27, 172]
abbrev dktX3_doubtfulMany_1 : List UInt8 := dkwX3_doubtfulMany_1 ++ []
def dkwX3_doubtfulMany_0 : List UInt8 := [3, 60, 3, 61, 28, 42, 180, 0, 17, 3, 46, 162, 0, 25, 27, 42, 28, 182, 1, 65, 153, 0, 7, 4]
abbrev dktX3_doubtfulMany_0 : List UInt8 := dkwX3_doubtfulMany_0 ++ dktX3_doubtfulMany_1
theorem dksX3_doubtfulMany_0 : cX3_doubtfulMany.data.toList.drop 0 = dktX3_doubtfulMany_0 := by decide +kernel
theorem dksX3_doubtfulMany_1 : cX3_doubtfulMany.data.toList.drop 24 = dktX3_doubtfulMany_1 := dk_seg dksX3_doubtfulMany_0 24 rfl rfl
theorem dX3_doubtfulMany_0 : decode cX3_doubtfulMany 0 = .ok (.iconst 0, 1) := dk_3 (dk_at dksX3_doubtfulMany_0 0 rfl rfl)
theorem dX3_doubtfulMany_1 : decode cX3_doubtfulMany 1 = .ok (.istore_n 1, 1) := dk_60 (dk_at dksX3_doubtfulMany_0 1 rfl rfl)
theorem dX3_doubtfulMany_2 : decode cX3_doubtfulMany 2 = .ok (.iconst 0, 1) := dk_3 (dk_at dksX3_doubtfulMany_0 2 rfl rfl)
theorem dX3_doubtfulMany_3 : decode cX3_doubtfulMany 3 = .ok (.istore_n 2, 1) := dk_61 (dk_at dksX3_doubtfulMany_0 3 rfl rfl)
theorem dX3_doubtfulMany_4 : decode cX3_doubtfulMany 4 = .ok (.iload_n 2, 1) := dk_28 (dk_at dksX3_doubtfulMany_0 4 rfl rfl)
theorem dX3_doubtfulMany_5 : decode cX3_doubtfulMany 5 = .ok (.aload_n 0, 1) := dk_42 (dk_at dksX3_doubtfulMany_0 5 rfl rfl)
theorem dX3_doubtfulMany_6 : decode cX3_doubtfulMany 6 = .ok (.getfield 17, 3) := dk_180 0 17 (dk_at dksX3_doubtfulMany_0 6 rfl rfl)
theorem dX3_doubtfulMany_9 : decode cX3_doubtfulMany 9 = .ok (.iconst 0, 1) := dk_3 (dk_at dksX3_doubtfulMany_0 9 rfl rfl)
theorem dX3_doubtfulMany_10 : decode cX3_doubtfulMany 10 = .ok (.iaload, 1) := dk_46 (dk_at dksX3_doubtfulMany_0 10 rfl rfl)
theorem dX3_doubtfulMany_11 : decode cX3_doubtfulMany 11 = .ok (.if_icmp .ge 25, 3) := dk_162 0 25 (dk_at dksX3_doubtfulMany_0 11 rfl rfl)
theorem dX3_doubtfulMany_14 : decode cX3_doubtfulMany 14 = .ok (.iload_n 1, 1) := dk_27 (dk_at dksX3_doubtfulMany_0 14 rfl rfl)
theorem dX3_doubtfulMany_15 : decode cX3_doubtfulMany 15 = .ok (.aload_n 0, 1) := dk_42 (dk_at dksX3_doubtfulMany_0 15 rfl rfl)
theorem dX3_doubtfulMany_16 : decode cX3_doubtfulMany 16 = .ok (.iload_n 2, 1) := dk_28 (dk_at dksX3_doubtfulMany_0 16 rfl rfl)
theorem dX3_doubtfulMany_17 : decode cX3_doubtfulMany 17 = .ok (.invokevirtual 321, 3) := dk_182 1 65 (dk_at dksX3_doubtfulMany_0 17 rfl rfl)
theorem dX3_doubtfulMany_20 : decode cX3_doubtfulMany 20 = .ok (.ifCond .eq 7, 3) := dk_153 0 7 (dk_at dksX3_doubtfulMany_0 20 rfl rfl)
theorem dX3_doubtfulMany_23 : decode cX3_doubtfulMany 23 = .ok (.iconst 1, 1) := dk_4 (dk_at dksX3_doubtfulMany_0 23 rfl rfl)
theorem dX3_doubtfulMany_24 : decode cX3_doubtfulMany 24 = .ok (.goto 4, 3) := dk_167 0 4 (dk_at dksX3_doubtfulMany_1 0 rfl rfl)
theorem dX3_doubtfulMany_27 : decode cX3_doubtfulMany 27 = .ok (.iconst 0, 1) := dk_3 (dk_at dksX3_doubtfulMany_1 3 rfl rfl)
theorem dX3_doubtfulMany_28 : decode cX3_doubtfulMany 28 = .ok (.iadd, 1) := dk_96 (dk_at dksX3_doubtfulMany_1 4 rfl rfl)
theorem dX3_doubtfulMany_29 : decode cX3_doubtfulMany 29 = .ok (.istore_n 1, 1) := dk_60 (dk_at dksX3_doubtfulMany_1 5 rfl rfl)
theorem dX3_doubtfulMany_30 : decode cX3_doubtfulMany 30 = .ok (.iinc 2 1, 3) := dk_132 2 1 (dk_at dksX3_doubtfulMany_1 6 rfl rfl)
theorem dX3_doubtfulMany_33 : decode cX3_doubtfulMany 33 = .ok (.goto (-29), 3) := dk_167 255 227 (dk_at dksX3_doubtfulMany_1 9 rfl rfl)
theorem dX3_doubtfulMany_36 : decode cX3_doubtfulMany 36 = .ok (.iload_n 1, 1) := dk_27 (dk_at dksX3_doubtfulMany_1 12 rfl rfl)
theorem dX3_doubtfulMany_37 : decode cX3_doubtfulMany 37 = .ok (.ireturn, 1) := dk_172 (dk_at dksX3_doubtfulMany_1 13 rfl rfl)
abbrev cX3_isDoubtful : ByteArray := prog_14_method_93_code
def yX3_isDoubtful : MethodName := ⟨RX3, "isDoubtful", "(I)Z"⟩
def dkwX3_isDoubtful_0 : List UInt8 := [42, 3, 27, 182, 1, 62, 154, 0, 12, 42, 4, 27, 182, 1, 62, 153, 0, 7, 4, 167, 0, 4, 3, 172]
abbrev dktX3_isDoubtful_0 : List UInt8 := dkwX3_isDoubtful_0 ++ []
theorem dksX3_isDoubtful_0 : cX3_isDoubtful.data.toList.drop 0 = dktX3_isDoubtful_0 := by decide +kernel
theorem dX3_isDoubtful_0 : decode cX3_isDoubtful 0 = .ok (.aload_n 0, 1) := dk_42 (dk_at dksX3_isDoubtful_0 0 rfl rfl)
theorem dX3_isDoubtful_1 : decode cX3_isDoubtful 1 = .ok (.iconst 0, 1) := dk_3 (dk_at dksX3_isDoubtful_0 1 rfl rfl)
theorem dX3_isDoubtful_2 : decode cX3_isDoubtful 2 = .ok (.iload_n 1, 1) := dk_27 (dk_at dksX3_isDoubtful_0 2 rfl rfl)
theorem dX3_isDoubtful_3 : decode cX3_isDoubtful 3 = .ok (.invokevirtual 318, 3) := dk_182 1 62 (dk_at dksX3_isDoubtful_0 3 rfl rfl)
theorem dX3_isDoubtful_6 : decode cX3_isDoubtful 6 = .ok (.ifCond .ne 12, 3) := dk_154 0 12 (dk_at dksX3_isDoubtful_0 6 rfl rfl)
theorem dX3_isDoubtful_9 : decode cX3_isDoubtful 9 = .ok (.aload_n 0, 1) := dk_42 (dk_at dksX3_isDoubtful_0 9 rfl rfl)
theorem dX3_isDoubtful_10 : decode cX3_isDoubtful 10 = .ok (.iconst 1, 1) := dk_4 (dk_at dksX3_isDoubtful_0 10 rfl rfl)
theorem dX3_isDoubtful_11 : decode cX3_isDoubtful 11 = .ok (.iload_n 1, 1) := dk_27 (dk_at dksX3_isDoubtful_0 11 rfl rfl)
theorem dX3_isDoubtful_12 : decode cX3_isDoubtful 12 = .ok (.invokevirtual 318, 3) := dk_182 1 62 (dk_at dksX3_isDoubtful_0 12 rfl rfl)
theorem dX3_isDoubtful_15 : decode cX3_isDoubtful 15 = .ok (.ifCond .eq 7, 3) := dk_153 0 7 (dk_at dksX3_isDoubtful_0 15 rfl rfl)
theorem dX3_isDoubtful_18 : decode cX3_isDoubtful 18 = .ok (.iconst 1, 1) := dk_4 (dk_at dksX3_isDoubtful_0 18 rfl rfl)
theorem dX3_isDoubtful_19 : decode cX3_isDoubtful 19 = .ok (.goto 4, 3) := dk_167 0 4 (dk_at dksX3_isDoubtful_0 19 rfl rfl)
theorem dX3_isDoubtful_22 : decode cX3_isDoubtful 22 = .ok (.iconst 0, 1) := dk_3 (dk_at dksX3_isDoubtful_0 22 rfl rfl)
theorem dX3_isDoubtful_23 : decode cX3_isDoubtful 23 = .ok (.ireturn, 1) := dk_172 (dk_at dksX3_isDoubtful_0 23 rfl rfl)
abbrev cX3_redo : ByteArray := prog_14_method_96_code
def yX3_redo : MethodName := ⟨RX3, "redo", "()I"⟩
def dkwX3_redo_5 : List UInt8 := [132, 4, 255, 167, 255, 220, 42, 29, 182, 0, 223, 54, 4, 28, 172]
abbrev dktX3_redo_5 : List UInt8 := dkwX3_redo_5 ++ []
def dkwX3_redo_4 : List UInt8 := [21, 4, 5, 184, 0, 213, 46, 51, 153, 0, 15, 42, 21, 4, 182, 0, 216, 132, 2, 1, 21, 4, 62]
abbrev dktX3_redo_4 : List UInt8 := dkwX3_redo_4 ++ dktX3_redo_5
def dkwX3_redo_3 : List UInt8 := [61, 2, 62, 42, 180, 0, 23, 3, 46, 4, 100, 54, 4, 21, 4, 155, 0, 37, 43, 42, 180, 0, 23]
abbrev dktX3_redo_3 : List UInt8 := dkwX3_redo_3 ++ dktX3_redo_4
def dkwX3_redo_2 : List UInt8 := [42, 180, 0, 17, 3, 46, 162, 0, 17, 43, 28, 42, 28, 182, 1, 65, 84, 132, 2, 1, 167, 255, 235, 3]
abbrev dktX3_redo_2 : List UInt8 := dkwX3_redo_2 ++ dktX3_redo_3
def dkwX3_redo_1 : List UInt8 := [154, 0, 7, 8, 167, 0, 4, 3, 182, 0, 156, 153, 0, 5, 2, 172, 16, 6, 188, 4, 76, 3, 61, 28]
abbrev dktX3_redo_1 : List UInt8 := dkwX3_redo_1 ++ dktX3_redo_2
def dkwX3_redo_0 : List UInt8 := [42, 42, 180, 0, 168, 154, 0, 7, 4, 167, 0, 22, 42, 182, 1, 20, 154, 0, 10, 42, 182, 1, 68]
abbrev dktX3_redo_0 : List UInt8 := dkwX3_redo_0 ++ dktX3_redo_1
theorem dksX3_redo_0 : cX3_redo.data.toList.drop 0 = dktX3_redo_0 := by decide +kernel
theorem dksX3_redo_1 : cX3_redo.data.toList.drop 23 = dktX3_redo_1 := dk_seg dksX3_redo_0 23 rfl rfl
theorem dksX3_redo_2 : cX3_redo.data.toList.drop 47 = dktX3_redo_2 := dk_seg dksX3_redo_1 24 rfl rfl
theorem dksX3_redo_3 : cX3_redo.data.toList.drop 71 = dktX3_redo_3 := dk_seg dksX3_redo_2 24 rfl rfl
theorem dksX3_redo_4 : cX3_redo.data.toList.drop 94 = dktX3_redo_4 := dk_seg dksX3_redo_3 23 rfl rfl
theorem dksX3_redo_5 : cX3_redo.data.toList.drop 117 = dktX3_redo_5 := dk_seg dksX3_redo_4 23 rfl rfl
theorem dX3_redo_0 : decode cX3_redo 0 = .ok (.aload_n 0, 1) := dk_42 (dk_at dksX3_redo_0 0 rfl rfl)
theorem dX3_redo_1 : decode cX3_redo 1 = .ok (.aload_n 0, 1) := dk_42 (dk_at dksX3_redo_0 1 rfl rfl)
theorem dX3_redo_2 : decode cX3_redo 2 = .ok (.getfield 168, 3) := dk_180 0 168 (dk_at dksX3_redo_0 2 rfl rfl)
theorem dX3_redo_5 : decode cX3_redo 5 = .ok (.ifCond .ne 7, 3) := dk_154 0 7 (dk_at dksX3_redo_0 5 rfl rfl)
theorem dX3_redo_8 : decode cX3_redo 8 = .ok (.iconst 1, 1) := dk_4 (dk_at dksX3_redo_0 8 rfl rfl)
theorem dX3_redo_9 : decode cX3_redo 9 = .ok (.goto 22, 3) := dk_167 0 22 (dk_at dksX3_redo_0 9 rfl rfl)
theorem dX3_redo_12 : decode cX3_redo 12 = .ok (.aload_n 0, 1) := dk_42 (dk_at dksX3_redo_0 12 rfl rfl)
theorem dX3_redo_13 : decode cX3_redo 13 = .ok (.invokevirtual 276, 3) := dk_182 1 20 (dk_at dksX3_redo_0 13 rfl rfl)
theorem dX3_redo_16 : decode cX3_redo 16 = .ok (.ifCond .ne 10, 3) := dk_154 0 10 (dk_at dksX3_redo_0 16 rfl rfl)
theorem dX3_redo_19 : decode cX3_redo 19 = .ok (.aload_n 0, 1) := dk_42 (dk_at dksX3_redo_0 19 rfl rfl)
theorem dX3_redo_20 : decode cX3_redo 20 = .ok (.invokevirtual 324, 3) := dk_182 1 68 (dk_at dksX3_redo_0 20 rfl rfl)
theorem dX3_redo_23 : decode cX3_redo 23 = .ok (.ifCond .ne 7, 3) := dk_154 0 7 (dk_at dksX3_redo_1 0 rfl rfl)
theorem dX3_redo_26 : decode cX3_redo 26 = .ok (.iconst 5, 1) := dk_8 (dk_at dksX3_redo_1 3 rfl rfl)
theorem dX3_redo_27 : decode cX3_redo 27 = .ok (.goto 4, 3) := dk_167 0 4 (dk_at dksX3_redo_1 4 rfl rfl)
theorem dX3_redo_30 : decode cX3_redo 30 = .ok (.iconst 0, 1) := dk_3 (dk_at dksX3_redo_1 7 rfl rfl)
theorem dX3_redo_31 : decode cX3_redo 31 = .ok (.invokevirtual 156, 3) := dk_182 0 156 (dk_at dksX3_redo_1 8 rfl rfl)
theorem dX3_redo_34 : decode cX3_redo 34 = .ok (.ifCond .eq 5, 3) := dk_153 0 5 (dk_at dksX3_redo_1 11 rfl rfl)
theorem dX3_redo_37 : decode cX3_redo 37 = .ok (.iconst (-1), 1) := dk_2 (dk_at dksX3_redo_1 14 rfl rfl)
theorem dX3_redo_38 : decode cX3_redo 38 = .ok (.ireturn, 1) := dk_172 (dk_at dksX3_redo_1 15 rfl rfl)
theorem dX3_redo_39 : decode cX3_redo 39 = .ok (.bipush 6, 2) := dk_16 6 (dk_at dksX3_redo_1 16 rfl rfl)
theorem dX3_redo_41 : decode cX3_redo 41 = .ok (.newarray .boolean, 2) := dk_188_4 (dk_at dksX3_redo_1 18 rfl rfl)
theorem dX3_redo_43 : decode cX3_redo 43 = .ok (.astore_n 1, 1) := dk_76 (dk_at dksX3_redo_1 20 rfl rfl)
theorem dX3_redo_44 : decode cX3_redo 44 = .ok (.iconst 0, 1) := dk_3 (dk_at dksX3_redo_1 21 rfl rfl)
theorem dX3_redo_45 : decode cX3_redo 45 = .ok (.istore_n 2, 1) := dk_61 (dk_at dksX3_redo_1 22 rfl rfl)
theorem dX3_redo_46 : decode cX3_redo 46 = .ok (.iload_n 2, 1) := dk_28 (dk_at dksX3_redo_1 23 rfl rfl)
theorem dX3_redo_47 : decode cX3_redo 47 = .ok (.aload_n 0, 1) := dk_42 (dk_at dksX3_redo_2 0 rfl rfl)
theorem dX3_redo_48 : decode cX3_redo 48 = .ok (.getfield 17, 3) := dk_180 0 17 (dk_at dksX3_redo_2 1 rfl rfl)
theorem dX3_redo_51 : decode cX3_redo 51 = .ok (.iconst 0, 1) := dk_3 (dk_at dksX3_redo_2 4 rfl rfl)
theorem dX3_redo_52 : decode cX3_redo 52 = .ok (.iaload, 1) := dk_46 (dk_at dksX3_redo_2 5 rfl rfl)
theorem dX3_redo_53 : decode cX3_redo 53 = .ok (.if_icmp .ge 17, 3) := dk_162 0 17 (dk_at dksX3_redo_2 6 rfl rfl)
theorem dX3_redo_56 : decode cX3_redo 56 = .ok (.aload_n 1, 1) := dk_43 (dk_at dksX3_redo_2 9 rfl rfl)
theorem dX3_redo_57 : decode cX3_redo 57 = .ok (.iload_n 2, 1) := dk_28 (dk_at dksX3_redo_2 10 rfl rfl)
theorem dX3_redo_58 : decode cX3_redo 58 = .ok (.aload_n 0, 1) := dk_42 (dk_at dksX3_redo_2 11 rfl rfl)
theorem dX3_redo_59 : decode cX3_redo 59 = .ok (.iload_n 2, 1) := dk_28 (dk_at dksX3_redo_2 12 rfl rfl)
theorem dX3_redo_60 : decode cX3_redo 60 = .ok (.invokevirtual 321, 3) := dk_182 1 65 (dk_at dksX3_redo_2 13 rfl rfl)
theorem dX3_redo_63 : decode cX3_redo 63 = .ok (.bastore, 1) := dk_84 (dk_at dksX3_redo_2 16 rfl rfl)
theorem dX3_redo_64 : decode cX3_redo 64 = .ok (.iinc 2 1, 3) := dk_132 2 1 (dk_at dksX3_redo_2 17 rfl rfl)
theorem dX3_redo_67 : decode cX3_redo 67 = .ok (.goto (-21), 3) := dk_167 255 235 (dk_at dksX3_redo_2 20 rfl rfl)
theorem dX3_redo_70 : decode cX3_redo 70 = .ok (.iconst 0, 1) := dk_3 (dk_at dksX3_redo_2 23 rfl rfl)
theorem dX3_redo_71 : decode cX3_redo 71 = .ok (.istore_n 2, 1) := dk_61 (dk_at dksX3_redo_3 0 rfl rfl)
theorem dX3_redo_72 : decode cX3_redo 72 = .ok (.iconst (-1), 1) := dk_2 (dk_at dksX3_redo_3 1 rfl rfl)
theorem dX3_redo_73 : decode cX3_redo 73 = .ok (.istore_n 3, 1) := dk_62 (dk_at dksX3_redo_3 2 rfl rfl)
theorem dX3_redo_74 : decode cX3_redo 74 = .ok (.aload_n 0, 1) := dk_42 (dk_at dksX3_redo_3 3 rfl rfl)
theorem dX3_redo_75 : decode cX3_redo 75 = .ok (.getfield 23, 3) := dk_180 0 23 (dk_at dksX3_redo_3 4 rfl rfl)
theorem dX3_redo_78 : decode cX3_redo 78 = .ok (.iconst 0, 1) := dk_3 (dk_at dksX3_redo_3 7 rfl rfl)
theorem dX3_redo_79 : decode cX3_redo 79 = .ok (.iaload, 1) := dk_46 (dk_at dksX3_redo_3 8 rfl rfl)
theorem dX3_redo_80 : decode cX3_redo 80 = .ok (.iconst 1, 1) := dk_4 (dk_at dksX3_redo_3 9 rfl rfl)
theorem dX3_redo_81 : decode cX3_redo 81 = .ok (.isub, 1) := dk_100 (dk_at dksX3_redo_3 10 rfl rfl)
theorem dX3_redo_82 : decode cX3_redo 82 = .ok (.istore 4, 2) := dk_54 4 (dk_at dksX3_redo_3 11 rfl rfl)
theorem dX3_redo_84 : decode cX3_redo 84 = .ok (.iload 4, 2) := dk_21 4 (dk_at dksX3_redo_3 13 rfl rfl)
theorem dX3_redo_86 : decode cX3_redo 86 = .ok (.ifCond .lt 37, 3) := dk_155 0 37 (dk_at dksX3_redo_3 15 rfl rfl)
theorem dX3_redo_89 : decode cX3_redo 89 = .ok (.aload_n 1, 1) := dk_43 (dk_at dksX3_redo_3 18 rfl rfl)
theorem dX3_redo_90 : decode cX3_redo 90 = .ok (.aload_n 0, 1) := dk_42 (dk_at dksX3_redo_3 19 rfl rfl)
theorem dX3_redo_91 : decode cX3_redo 91 = .ok (.getfield 23, 3) := dk_180 0 23 (dk_at dksX3_redo_3 20 rfl rfl)
theorem dX3_redo_94 : decode cX3_redo 94 = .ok (.iload 4, 2) := dk_21 4 (dk_at dksX3_redo_4 0 rfl rfl)
theorem dX3_redo_96 : decode cX3_redo 96 = .ok (.iconst 2, 1) := dk_5 (dk_at dksX3_redo_4 2 rfl rfl)
theorem dX3_redo_97 : decode cX3_redo 97 = .ok (.invokestatic 213, 3) := dk_184 0 213 (dk_at dksX3_redo_4 3 rfl rfl)
theorem dX3_redo_100 : decode cX3_redo 100 = .ok (.iaload, 1) := dk_46 (dk_at dksX3_redo_4 6 rfl rfl)
theorem dX3_redo_101 : decode cX3_redo 101 = .ok (.baload, 1) := dk_51 (dk_at dksX3_redo_4 7 rfl rfl)
theorem dX3_redo_102 : decode cX3_redo 102 = .ok (.ifCond .eq 15, 3) := dk_153 0 15 (dk_at dksX3_redo_4 8 rfl rfl)
theorem dX3_redo_105 : decode cX3_redo 105 = .ok (.aload_n 0, 1) := dk_42 (dk_at dksX3_redo_4 11 rfl rfl)
theorem dX3_redo_106 : decode cX3_redo 106 = .ok (.iload 4, 2) := dk_21 4 (dk_at dksX3_redo_4 12 rfl rfl)
theorem dX3_redo_108 : decode cX3_redo 108 = .ok (.invokevirtual 216, 3) := dk_182 0 216 (dk_at dksX3_redo_4 14 rfl rfl)
theorem dX3_redo_111 : decode cX3_redo 111 = .ok (.iinc 2 1, 3) := dk_132 2 1 (dk_at dksX3_redo_4 17 rfl rfl)
theorem dX3_redo_114 : decode cX3_redo 114 = .ok (.iload 4, 2) := dk_21 4 (dk_at dksX3_redo_4 20 rfl rfl)
theorem dX3_redo_116 : decode cX3_redo 116 = .ok (.istore_n 3, 1) := dk_62 (dk_at dksX3_redo_4 22 rfl rfl)
theorem dX3_redo_117 : decode cX3_redo 117 = .ok (.iinc 4 (-1), 3) := dk_132 4 255 (dk_at dksX3_redo_5 0 rfl rfl)
theorem dX3_redo_120 : decode cX3_redo 120 = .ok (.goto (-36), 3) := dk_167 255 220 (dk_at dksX3_redo_5 3 rfl rfl)
theorem dX3_redo_123 : decode cX3_redo 123 = .ok (.aload_n 0, 1) := dk_42 (dk_at dksX3_redo_5 6 rfl rfl)
theorem dX3_redo_124 : decode cX3_redo 124 = .ok (.iload_n 3, 1) := dk_29 (dk_at dksX3_redo_5 7 rfl rfl)
theorem dX3_redo_125 : decode cX3_redo 125 = .ok (.invokevirtual 223, 3) := dk_182 0 223 (dk_at dksX3_redo_5 8 rfl rfl)
theorem dX3_redo_128 : decode cX3_redo 128 = .ok (.istore 4, 2) := dk_54 4 (dk_at dksX3_redo_5 11 rfl rfl)
theorem dX3_redo_130 : decode cX3_redo 130 = .ok (.iload_n 2, 1) := dk_28 (dk_at dksX3_redo_5 13 rfl rfl)
theorem dX3_redo_131 : decode cX3_redo 131 = .ok (.ireturn, 1) := dk_172 (dk_at dksX3_redo_5 14 rfl rfl)
abbrev cX3_grade : ByteArray := prog_14_method_97_code
def yX3_grade : MethodName := ⟨RX3, "grade", "(I)I"⟩
def dkwX3_grade_3 : List UInt8 := [167, 0, 4, 7, 172]
abbrev dktX3_grade_3 : List UInt8 := dkwX3_grade_3 ++ []
def dkwX3_grade_2 : List UInt8 := [163, 0, 7, 4, 167, 0, 24, 28, 16, 13, 163, 0, 7, 5, 167, 0, 14, 28, 16, 17, 163, 0, 7, 6]
abbrev dktX3_grade_2 : List UInt8 := dkwX3_grade_2 ++ dktX3_grade_3
def dkwX3_grade_1 : List UInt8 := [182, 1, 71, 61, 28, 156, 0, 7, 28, 167, 0, 43, 28, 8, 163, 0, 7, 3, 167, 0, 34, 28, 16, 9]
abbrev dktX3_grade_1 : List UInt8 := dkwX3_grade_1 ++ dktX3_grade_2
def dkwX3_grade_0 : List UInt8 := [42, 42, 3, 27, 3, 182, 0, 188, 184, 0, 191, 182, 0, 156, 153, 0, 5, 2, 172, 42, 3, 27]
abbrev dktX3_grade_0 : List UInt8 := dkwX3_grade_0 ++ dktX3_grade_1
theorem dksX3_grade_0 : cX3_grade.data.toList.drop 0 = dktX3_grade_0 := by decide +kernel
theorem dksX3_grade_1 : cX3_grade.data.toList.drop 22 = dktX3_grade_1 := dk_seg dksX3_grade_0 22 rfl rfl
theorem dksX3_grade_2 : cX3_grade.data.toList.drop 46 = dktX3_grade_2 := dk_seg dksX3_grade_1 24 rfl rfl
theorem dksX3_grade_3 : cX3_grade.data.toList.drop 70 = dktX3_grade_3 := dk_seg dksX3_grade_2 24 rfl rfl
theorem dX3_grade_0 : decode cX3_grade 0 = .ok (.aload_n 0, 1) := dk_42 (dk_at dksX3_grade_0 0 rfl rfl)
theorem dX3_grade_1 : decode cX3_grade 1 = .ok (.aload_n 0, 1) := dk_42 (dk_at dksX3_grade_0 1 rfl rfl)
theorem dX3_grade_2 : decode cX3_grade 2 = .ok (.iconst 0, 1) := dk_3 (dk_at dksX3_grade_0 2 rfl rfl)
theorem dX3_grade_3 : decode cX3_grade 3 = .ok (.iload_n 1, 1) := dk_27 (dk_at dksX3_grade_0 3 rfl rfl)
theorem dX3_grade_4 : decode cX3_grade 4 = .ok (.iconst 0, 1) := dk_3 (dk_at dksX3_grade_0 4 rfl rfl)
theorem dX3_grade_5 : decode cX3_grade 5 = .ok (.invokevirtual 188, 3) := dk_182 0 188 (dk_at dksX3_grade_0 5 rfl rfl)
theorem dX3_grade_8 : decode cX3_grade 8 = .ok (.invokestatic 191, 3) := dk_184 0 191 (dk_at dksX3_grade_0 8 rfl rfl)
theorem dX3_grade_11 : decode cX3_grade 11 = .ok (.invokevirtual 156, 3) := dk_182 0 156 (dk_at dksX3_grade_0 11 rfl rfl)
theorem dX3_grade_14 : decode cX3_grade 14 = .ok (.ifCond .eq 5, 3) := dk_153 0 5 (dk_at dksX3_grade_0 14 rfl rfl)
theorem dX3_grade_17 : decode cX3_grade 17 = .ok (.iconst (-1), 1) := dk_2 (dk_at dksX3_grade_0 17 rfl rfl)
theorem dX3_grade_18 : decode cX3_grade 18 = .ok (.ireturn, 1) := dk_172 (dk_at dksX3_grade_0 18 rfl rfl)
theorem dX3_grade_19 : decode cX3_grade 19 = .ok (.aload_n 0, 1) := dk_42 (dk_at dksX3_grade_0 19 rfl rfl)
theorem dX3_grade_20 : decode cX3_grade 20 = .ok (.iconst 0, 1) := dk_3 (dk_at dksX3_grade_0 20 rfl rfl)
theorem dX3_grade_21 : decode cX3_grade 21 = .ok (.iload_n 1, 1) := dk_27 (dk_at dksX3_grade_0 21 rfl rfl)
theorem dX3_grade_22 : decode cX3_grade 22 = .ok (.invokevirtual 327, 3) := dk_182 1 71 (dk_at dksX3_grade_1 0 rfl rfl)
theorem dX3_grade_25 : decode cX3_grade 25 = .ok (.istore_n 2, 1) := dk_61 (dk_at dksX3_grade_1 3 rfl rfl)
theorem dX3_grade_26 : decode cX3_grade 26 = .ok (.iload_n 2, 1) := dk_28 (dk_at dksX3_grade_1 4 rfl rfl)
theorem dX3_grade_27 : decode cX3_grade 27 = .ok (.ifCond .ge 7, 3) := dk_156 0 7 (dk_at dksX3_grade_1 5 rfl rfl)
theorem dX3_grade_30 : decode cX3_grade 30 = .ok (.iload_n 2, 1) := dk_28 (dk_at dksX3_grade_1 8 rfl rfl)
theorem dX3_grade_31 : decode cX3_grade 31 = .ok (.goto 43, 3) := dk_167 0 43 (dk_at dksX3_grade_1 9 rfl rfl)
theorem dX3_grade_34 : decode cX3_grade 34 = .ok (.iload_n 2, 1) := dk_28 (dk_at dksX3_grade_1 12 rfl rfl)
theorem dX3_grade_35 : decode cX3_grade 35 = .ok (.iconst 5, 1) := dk_8 (dk_at dksX3_grade_1 13 rfl rfl)
theorem dX3_grade_36 : decode cX3_grade 36 = .ok (.if_icmp .gt 7, 3) := dk_163 0 7 (dk_at dksX3_grade_1 14 rfl rfl)
theorem dX3_grade_39 : decode cX3_grade 39 = .ok (.iconst 0, 1) := dk_3 (dk_at dksX3_grade_1 17 rfl rfl)
theorem dX3_grade_40 : decode cX3_grade 40 = .ok (.goto 34, 3) := dk_167 0 34 (dk_at dksX3_grade_1 18 rfl rfl)
theorem dX3_grade_43 : decode cX3_grade 43 = .ok (.iload_n 2, 1) := dk_28 (dk_at dksX3_grade_1 21 rfl rfl)
theorem dX3_grade_44 : decode cX3_grade 44 = .ok (.bipush 9, 2) := dk_16 9 (dk_at dksX3_grade_1 22 rfl rfl)
theorem dX3_grade_46 : decode cX3_grade 46 = .ok (.if_icmp .gt 7, 3) := dk_163 0 7 (dk_at dksX3_grade_2 0 rfl rfl)
theorem dX3_grade_49 : decode cX3_grade 49 = .ok (.iconst 1, 1) := dk_4 (dk_at dksX3_grade_2 3 rfl rfl)
theorem dX3_grade_50 : decode cX3_grade 50 = .ok (.goto 24, 3) := dk_167 0 24 (dk_at dksX3_grade_2 4 rfl rfl)
theorem dX3_grade_53 : decode cX3_grade 53 = .ok (.iload_n 2, 1) := dk_28 (dk_at dksX3_grade_2 7 rfl rfl)
theorem dX3_grade_54 : decode cX3_grade 54 = .ok (.bipush 13, 2) := dk_16 13 (dk_at dksX3_grade_2 8 rfl rfl)
theorem dX3_grade_56 : decode cX3_grade 56 = .ok (.if_icmp .gt 7, 3) := dk_163 0 7 (dk_at dksX3_grade_2 10 rfl rfl)
theorem dX3_grade_59 : decode cX3_grade 59 = .ok (.iconst 2, 1) := dk_5 (dk_at dksX3_grade_2 13 rfl rfl)
theorem dX3_grade_60 : decode cX3_grade 60 = .ok (.goto 14, 3) := dk_167 0 14 (dk_at dksX3_grade_2 14 rfl rfl)
theorem dX3_grade_63 : decode cX3_grade 63 = .ok (.iload_n 2, 1) := dk_28 (dk_at dksX3_grade_2 17 rfl rfl)
theorem dX3_grade_64 : decode cX3_grade 64 = .ok (.bipush 17, 2) := dk_16 17 (dk_at dksX3_grade_2 18 rfl rfl)
theorem dX3_grade_66 : decode cX3_grade 66 = .ok (.if_icmp .gt 7, 3) := dk_163 0 7 (dk_at dksX3_grade_2 20 rfl rfl)
theorem dX3_grade_69 : decode cX3_grade 69 = .ok (.iconst 3, 1) := dk_6 (dk_at dksX3_grade_2 23 rfl rfl)
theorem dX3_grade_70 : decode cX3_grade 70 = .ok (.goto 4, 3) := dk_167 0 4 (dk_at dksX3_grade_3 0 rfl rfl)
theorem dX3_grade_73 : decode cX3_grade 73 = .ok (.iconst 4, 1) := dk_7 (dk_at dksX3_grade_3 3 rfl rfl)
theorem dX3_grade_74 : decode cX3_grade 74 = .ok (.ireturn, 1) := dk_172 (dk_at dksX3_grade_3 4 rfl rfl)
abbrev cX3_meanOf : ByteArray := prog_14_method_98_code
def yX3_meanOf : MethodName := ⟨RX3, "meanOf", "(II)I"⟩
def dkwX3_meanOf_3 : List UInt8 := [167, 255, 192, 21, 4, 153, 0, 8, 21, 4, 167, 0, 11, 29, 42, 180, 0, 17, 3, 46, 108, 172]
abbrev dktX3_meanOf_3 : List UInt8 := dkwX3_meanOf_3 ++ []
def dkwX3_meanOf_2 : List UInt8 := [21, 6, 16, 253, 160, 0, 8, 16, 253, 167, 0, 5, 21, 4, 54, 4, 29, 21, 6, 96, 62, 132, 5, 1]
abbrev dktX3_meanOf_2 : List UInt8 := dkwX3_meanOf_2 ++ dktX3_meanOf_3
def dkwX3_meanOf_1 : List UInt8 := [182, 1, 47, 54, 6, 21, 4, 16, 254, 159, 0, 10, 21, 6, 16, 254, 160, 0, 8, 16, 254, 167, 0, 17]
abbrev dktX3_meanOf_1 : List UInt8 := dkwX3_meanOf_1 ++ dktX3_meanOf_2
def dkwX3_meanOf_0 : List UInt8 := [3, 62, 3, 54, 4, 3, 54, 5, 21, 5, 42, 180, 0, 17, 3, 46, 162, 0, 59, 42, 27, 28, 21, 5]
abbrev dktX3_meanOf_0 : List UInt8 := dkwX3_meanOf_0 ++ dktX3_meanOf_1
theorem dksX3_meanOf_0 : cX3_meanOf.data.toList.drop 0 = dktX3_meanOf_0 := by decide +kernel
theorem dksX3_meanOf_1 : cX3_meanOf.data.toList.drop 24 = dktX3_meanOf_1 := dk_seg dksX3_meanOf_0 24 rfl rfl
theorem dksX3_meanOf_2 : cX3_meanOf.data.toList.drop 48 = dktX3_meanOf_2 := dk_seg dksX3_meanOf_1 24 rfl rfl
theorem dksX3_meanOf_3 : cX3_meanOf.data.toList.drop 72 = dktX3_meanOf_3 := dk_seg dksX3_meanOf_2 24 rfl rfl
theorem dX3_meanOf_0 : decode cX3_meanOf 0 = .ok (.iconst 0, 1) := dk_3 (dk_at dksX3_meanOf_0 0 rfl rfl)
theorem dX3_meanOf_1 : decode cX3_meanOf 1 = .ok (.istore_n 3, 1) := dk_62 (dk_at dksX3_meanOf_0 1 rfl rfl)
theorem dX3_meanOf_2 : decode cX3_meanOf 2 = .ok (.iconst 0, 1) := dk_3 (dk_at dksX3_meanOf_0 2 rfl rfl)
theorem dX3_meanOf_3 : decode cX3_meanOf 3 = .ok (.istore 4, 2) := dk_54 4 (dk_at dksX3_meanOf_0 3 rfl rfl)
theorem dX3_meanOf_5 : decode cX3_meanOf 5 = .ok (.iconst 0, 1) := dk_3 (dk_at dksX3_meanOf_0 5 rfl rfl)
theorem dX3_meanOf_6 : decode cX3_meanOf 6 = .ok (.istore 5, 2) := dk_54 5 (dk_at dksX3_meanOf_0 6 rfl rfl)
theorem dX3_meanOf_8 : decode cX3_meanOf 8 = .ok (.iload 5, 2) := dk_21 5 (dk_at dksX3_meanOf_0 8 rfl rfl)
theorem dX3_meanOf_10 : decode cX3_meanOf 10 = .ok (.aload_n 0, 1) := dk_42 (dk_at dksX3_meanOf_0 10 rfl rfl)
theorem dX3_meanOf_11 : decode cX3_meanOf 11 = .ok (.getfield 17, 3) := dk_180 0 17 (dk_at dksX3_meanOf_0 11 rfl rfl)
theorem dX3_meanOf_14 : decode cX3_meanOf 14 = .ok (.iconst 0, 1) := dk_3 (dk_at dksX3_meanOf_0 14 rfl rfl)
theorem dX3_meanOf_15 : decode cX3_meanOf 15 = .ok (.iaload, 1) := dk_46 (dk_at dksX3_meanOf_0 15 rfl rfl)
theorem dX3_meanOf_16 : decode cX3_meanOf 16 = .ok (.if_icmp .ge 59, 3) := dk_162 0 59 (dk_at dksX3_meanOf_0 16 rfl rfl)
theorem dX3_meanOf_19 : decode cX3_meanOf 19 = .ok (.aload_n 0, 1) := dk_42 (dk_at dksX3_meanOf_0 19 rfl rfl)
theorem dX3_meanOf_20 : decode cX3_meanOf 20 = .ok (.iload_n 1, 1) := dk_27 (dk_at dksX3_meanOf_0 20 rfl rfl)
theorem dX3_meanOf_21 : decode cX3_meanOf 21 = .ok (.iload_n 2, 1) := dk_28 (dk_at dksX3_meanOf_0 21 rfl rfl)
theorem dX3_meanOf_22 : decode cX3_meanOf 22 = .ok (.iload 5, 2) := dk_21 5 (dk_at dksX3_meanOf_0 22 rfl rfl)
theorem dX3_meanOf_24 : decode cX3_meanOf 24 = .ok (.invokevirtual 303, 3) := dk_182 1 47 (dk_at dksX3_meanOf_1 0 rfl rfl)
theorem dX3_meanOf_27 : decode cX3_meanOf 27 = .ok (.istore 6, 2) := dk_54 6 (dk_at dksX3_meanOf_1 3 rfl rfl)
theorem dX3_meanOf_29 : decode cX3_meanOf 29 = .ok (.iload 4, 2) := dk_21 4 (dk_at dksX3_meanOf_1 5 rfl rfl)
theorem dX3_meanOf_31 : decode cX3_meanOf 31 = .ok (.bipush (-2), 2) := dk_16 254 (dk_at dksX3_meanOf_1 7 rfl rfl)
theorem dX3_meanOf_33 : decode cX3_meanOf 33 = .ok (.if_icmp .eq 10, 3) := dk_159 0 10 (dk_at dksX3_meanOf_1 9 rfl rfl)
theorem dX3_meanOf_36 : decode cX3_meanOf 36 = .ok (.iload 6, 2) := dk_21 6 (dk_at dksX3_meanOf_1 12 rfl rfl)
theorem dX3_meanOf_38 : decode cX3_meanOf 38 = .ok (.bipush (-2), 2) := dk_16 254 (dk_at dksX3_meanOf_1 14 rfl rfl)
theorem dX3_meanOf_40 : decode cX3_meanOf 40 = .ok (.if_icmp .ne 8, 3) := dk_160 0 8 (dk_at dksX3_meanOf_1 16 rfl rfl)
theorem dX3_meanOf_43 : decode cX3_meanOf 43 = .ok (.bipush (-2), 2) := dk_16 254 (dk_at dksX3_meanOf_1 19 rfl rfl)
theorem dX3_meanOf_45 : decode cX3_meanOf 45 = .ok (.goto 17, 3) := dk_167 0 17 (dk_at dksX3_meanOf_1 21 rfl rfl)
theorem dX3_meanOf_48 : decode cX3_meanOf 48 = .ok (.iload 6, 2) := dk_21 6 (dk_at dksX3_meanOf_2 0 rfl rfl)
theorem dX3_meanOf_50 : decode cX3_meanOf 50 = .ok (.bipush (-3), 2) := dk_16 253 (dk_at dksX3_meanOf_2 2 rfl rfl)
theorem dX3_meanOf_52 : decode cX3_meanOf 52 = .ok (.if_icmp .ne 8, 3) := dk_160 0 8 (dk_at dksX3_meanOf_2 4 rfl rfl)
theorem dX3_meanOf_55 : decode cX3_meanOf 55 = .ok (.bipush (-3), 2) := dk_16 253 (dk_at dksX3_meanOf_2 7 rfl rfl)
theorem dX3_meanOf_57 : decode cX3_meanOf 57 = .ok (.goto 5, 3) := dk_167 0 5 (dk_at dksX3_meanOf_2 9 rfl rfl)
theorem dX3_meanOf_60 : decode cX3_meanOf 60 = .ok (.iload 4, 2) := dk_21 4 (dk_at dksX3_meanOf_2 12 rfl rfl)
theorem dX3_meanOf_62 : decode cX3_meanOf 62 = .ok (.istore 4, 2) := dk_54 4 (dk_at dksX3_meanOf_2 14 rfl rfl)
theorem dX3_meanOf_64 : decode cX3_meanOf 64 = .ok (.iload_n 3, 1) := dk_29 (dk_at dksX3_meanOf_2 16 rfl rfl)
theorem dX3_meanOf_65 : decode cX3_meanOf 65 = .ok (.iload 6, 2) := dk_21 6 (dk_at dksX3_meanOf_2 17 rfl rfl)
theorem dX3_meanOf_67 : decode cX3_meanOf 67 = .ok (.iadd, 1) := dk_96 (dk_at dksX3_meanOf_2 19 rfl rfl)
theorem dX3_meanOf_68 : decode cX3_meanOf 68 = .ok (.istore_n 3, 1) := dk_62 (dk_at dksX3_meanOf_2 20 rfl rfl)
theorem dX3_meanOf_69 : decode cX3_meanOf 69 = .ok (.iinc 5 1, 3) := dk_132 5 1 (dk_at dksX3_meanOf_2 21 rfl rfl)
theorem dX3_meanOf_72 : decode cX3_meanOf 72 = .ok (.goto (-64), 3) := dk_167 255 192 (dk_at dksX3_meanOf_3 0 rfl rfl)
theorem dX3_meanOf_75 : decode cX3_meanOf 75 = .ok (.iload 4, 2) := dk_21 4 (dk_at dksX3_meanOf_3 3 rfl rfl)
theorem dX3_meanOf_77 : decode cX3_meanOf 77 = .ok (.ifCond .eq 8, 3) := dk_153 0 8 (dk_at dksX3_meanOf_3 5 rfl rfl)
theorem dX3_meanOf_80 : decode cX3_meanOf 80 = .ok (.iload 4, 2) := dk_21 4 (dk_at dksX3_meanOf_3 8 rfl rfl)
theorem dX3_meanOf_82 : decode cX3_meanOf 82 = .ok (.goto 11, 3) := dk_167 0 11 (dk_at dksX3_meanOf_3 10 rfl rfl)
theorem dX3_meanOf_85 : decode cX3_meanOf 85 = .ok (.iload_n 3, 1) := dk_29 (dk_at dksX3_meanOf_3 13 rfl rfl)
theorem dX3_meanOf_86 : decode cX3_meanOf 86 = .ok (.aload_n 0, 1) := dk_42 (dk_at dksX3_meanOf_3 14 rfl rfl)
theorem dX3_meanOf_87 : decode cX3_meanOf 87 = .ok (.getfield 17, 3) := dk_180 0 17 (dk_at dksX3_meanOf_3 15 rfl rfl)
theorem dX3_meanOf_90 : decode cX3_meanOf 90 = .ok (.iconst 0, 1) := dk_3 (dk_at dksX3_meanOf_3 18 rfl rfl)
theorem dX3_meanOf_91 : decode cX3_meanOf 91 = .ok (.iaload, 1) := dk_46 (dk_at dksX3_meanOf_3 19 rfl rfl)
theorem dX3_meanOf_92 : decode cX3_meanOf 92 = .ok (.idiv, 1) := dk_108 (dk_at dksX3_meanOf_3 20 rfl rfl)
theorem dX3_meanOf_93 : decode cX3_meanOf 93 = .ok (.ireturn, 1) := dk_172 (dk_at dksX3_meanOf_3 21 rfl rfl)
abbrev cX3_mean : ByteArray := prog_14_method_99_code
def yX3_mean : MethodName := ⟨RX3, "mean", "(II)I"⟩
def dkwX3_mean_1 : List UInt8 := [182, 1, 71, 172]
abbrev dktX3_mean_1 : List UInt8 := dkwX3_mean_1 ++ []
def dkwX3_mean_0 : List UInt8 := [42, 42, 27, 28, 3, 182, 0, 188, 184, 0, 191, 182, 0, 156, 153, 0, 7, 2, 167, 0, 9, 42, 27, 28]
abbrev dktX3_mean_0 : List UInt8 := dkwX3_mean_0 ++ dktX3_mean_1
theorem dksX3_mean_0 : cX3_mean.data.toList.drop 0 = dktX3_mean_0 := by decide +kernel
theorem dksX3_mean_1 : cX3_mean.data.toList.drop 24 = dktX3_mean_1 := dk_seg dksX3_mean_0 24 rfl rfl
theorem dX3_mean_0 : decode cX3_mean 0 = .ok (.aload_n 0, 1) := dk_42 (dk_at dksX3_mean_0 0 rfl rfl)
theorem dX3_mean_1 : decode cX3_mean 1 = .ok (.aload_n 0, 1) := dk_42 (dk_at dksX3_mean_0 1 rfl rfl)
theorem dX3_mean_2 : decode cX3_mean 2 = .ok (.iload_n 1, 1) := dk_27 (dk_at dksX3_mean_0 2 rfl rfl)
theorem dX3_mean_3 : decode cX3_mean 3 = .ok (.iload_n 2, 1) := dk_28 (dk_at dksX3_mean_0 3 rfl rfl)
theorem dX3_mean_4 : decode cX3_mean 4 = .ok (.iconst 0, 1) := dk_3 (dk_at dksX3_mean_0 4 rfl rfl)
theorem dX3_mean_5 : decode cX3_mean 5 = .ok (.invokevirtual 188, 3) := dk_182 0 188 (dk_at dksX3_mean_0 5 rfl rfl)
theorem dX3_mean_8 : decode cX3_mean 8 = .ok (.invokestatic 191, 3) := dk_184 0 191 (dk_at dksX3_mean_0 8 rfl rfl)
theorem dX3_mean_11 : decode cX3_mean 11 = .ok (.invokevirtual 156, 3) := dk_182 0 156 (dk_at dksX3_mean_0 11 rfl rfl)
theorem dX3_mean_14 : decode cX3_mean 14 = .ok (.ifCond .eq 7, 3) := dk_153 0 7 (dk_at dksX3_mean_0 14 rfl rfl)
theorem dX3_mean_17 : decode cX3_mean 17 = .ok (.iconst (-1), 1) := dk_2 (dk_at dksX3_mean_0 17 rfl rfl)
theorem dX3_mean_18 : decode cX3_mean 18 = .ok (.goto 9, 3) := dk_167 0 9 (dk_at dksX3_mean_0 18 rfl rfl)
theorem dX3_mean_21 : decode cX3_mean 21 = .ok (.aload_n 0, 1) := dk_42 (dk_at dksX3_mean_0 21 rfl rfl)
theorem dX3_mean_22 : decode cX3_mean 22 = .ok (.iload_n 1, 1) := dk_27 (dk_at dksX3_mean_0 22 rfl rfl)
theorem dX3_mean_23 : decode cX3_mean 23 = .ok (.iload_n 2, 1) := dk_28 (dk_at dksX3_mean_0 23 rfl rfl)
theorem dX3_mean_24 : decode cX3_mean 24 = .ok (.invokevirtual 327, 3) := dk_182 1 71 (dk_at dksX3_mean_1 0 rfl rfl)
theorem dX3_mean_27 : decode cX3_mean 27 = .ok (.ireturn, 1) := dk_172 (dk_at dksX3_mean_1 3 rfl rfl)
abbrev cX3_worse : ByteArray := prog_14_method_100_code
def yX3_worse : MethodName := ⟨RX3, "worse", "()I"⟩
def dkwX3_worse_2 : List UInt8 := [164, 0, 7, 4, 167, 0, 4, 3, 172]
abbrev dktX3_worse_2 : List UInt8 := dkwX3_worse_2 ++ []
def dkwX3_worse_1 : List UInt8 := [3, 4, 182, 1, 71, 61, 27, 28, 184, 1, 53, 62, 29, 153, 0, 7, 29, 167, 0, 13, 28, 27]
abbrev dktX3_worse_1 : List UInt8 := dkwX3_worse_1 ++ dktX3_worse_2
def dkwX3_worse_0 : List UInt8 := [42, 42, 180, 0, 168, 184, 0, 191, 182, 0, 156, 153, 0, 5, 2, 172, 42, 3, 3, 182, 1, 71, 60, 42]
abbrev dktX3_worse_0 : List UInt8 := dkwX3_worse_0 ++ dktX3_worse_1
theorem dksX3_worse_0 : cX3_worse.data.toList.drop 0 = dktX3_worse_0 := by decide +kernel
theorem dksX3_worse_1 : cX3_worse.data.toList.drop 24 = dktX3_worse_1 := dk_seg dksX3_worse_0 24 rfl rfl
theorem dksX3_worse_2 : cX3_worse.data.toList.drop 46 = dktX3_worse_2 := dk_seg dksX3_worse_1 22 rfl rfl
theorem dX3_worse_0 : decode cX3_worse 0 = .ok (.aload_n 0, 1) := dk_42 (dk_at dksX3_worse_0 0 rfl rfl)
theorem dX3_worse_1 : decode cX3_worse 1 = .ok (.aload_n 0, 1) := dk_42 (dk_at dksX3_worse_0 1 rfl rfl)
theorem dX3_worse_2 : decode cX3_worse 2 = .ok (.getfield 168, 3) := dk_180 0 168 (dk_at dksX3_worse_0 2 rfl rfl)
theorem dX3_worse_5 : decode cX3_worse 5 = .ok (.invokestatic 191, 3) := dk_184 0 191 (dk_at dksX3_worse_0 5 rfl rfl)
theorem dX3_worse_8 : decode cX3_worse 8 = .ok (.invokevirtual 156, 3) := dk_182 0 156 (dk_at dksX3_worse_0 8 rfl rfl)
theorem dX3_worse_11 : decode cX3_worse 11 = .ok (.ifCond .eq 5, 3) := dk_153 0 5 (dk_at dksX3_worse_0 11 rfl rfl)
theorem dX3_worse_14 : decode cX3_worse 14 = .ok (.iconst (-1), 1) := dk_2 (dk_at dksX3_worse_0 14 rfl rfl)
theorem dX3_worse_15 : decode cX3_worse 15 = .ok (.ireturn, 1) := dk_172 (dk_at dksX3_worse_0 15 rfl rfl)
theorem dX3_worse_16 : decode cX3_worse 16 = .ok (.aload_n 0, 1) := dk_42 (dk_at dksX3_worse_0 16 rfl rfl)
theorem dX3_worse_17 : decode cX3_worse 17 = .ok (.iconst 0, 1) := dk_3 (dk_at dksX3_worse_0 17 rfl rfl)
theorem dX3_worse_18 : decode cX3_worse 18 = .ok (.iconst 0, 1) := dk_3 (dk_at dksX3_worse_0 18 rfl rfl)
theorem dX3_worse_19 : decode cX3_worse 19 = .ok (.invokevirtual 327, 3) := dk_182 1 71 (dk_at dksX3_worse_0 19 rfl rfl)
theorem dX3_worse_22 : decode cX3_worse 22 = .ok (.istore_n 1, 1) := dk_60 (dk_at dksX3_worse_0 22 rfl rfl)
theorem dX3_worse_23 : decode cX3_worse 23 = .ok (.aload_n 0, 1) := dk_42 (dk_at dksX3_worse_0 23 rfl rfl)
theorem dX3_worse_24 : decode cX3_worse 24 = .ok (.iconst 0, 1) := dk_3 (dk_at dksX3_worse_1 0 rfl rfl)
theorem dX3_worse_25 : decode cX3_worse 25 = .ok (.iconst 1, 1) := dk_4 (dk_at dksX3_worse_1 1 rfl rfl)
theorem dX3_worse_26 : decode cX3_worse 26 = .ok (.invokevirtual 327, 3) := dk_182 1 71 (dk_at dksX3_worse_1 2 rfl rfl)
theorem dX3_worse_29 : decode cX3_worse 29 = .ok (.istore_n 2, 1) := dk_61 (dk_at dksX3_worse_1 5 rfl rfl)
theorem dX3_worse_30 : decode cX3_worse 30 = .ok (.iload_n 1, 1) := dk_27 (dk_at dksX3_worse_1 6 rfl rfl)
theorem dX3_worse_31 : decode cX3_worse 31 = .ok (.iload_n 2, 1) := dk_28 (dk_at dksX3_worse_1 7 rfl rfl)
theorem dX3_worse_32 : decode cX3_worse 32 = .ok (.invokestatic 309, 3) := dk_184 1 53 (dk_at dksX3_worse_1 8 rfl rfl)
theorem dX3_worse_35 : decode cX3_worse 35 = .ok (.istore_n 3, 1) := dk_62 (dk_at dksX3_worse_1 11 rfl rfl)
theorem dX3_worse_36 : decode cX3_worse 36 = .ok (.iload_n 3, 1) := dk_29 (dk_at dksX3_worse_1 12 rfl rfl)
theorem dX3_worse_37 : decode cX3_worse 37 = .ok (.ifCond .eq 7, 3) := dk_153 0 7 (dk_at dksX3_worse_1 13 rfl rfl)
theorem dX3_worse_40 : decode cX3_worse 40 = .ok (.iload_n 3, 1) := dk_29 (dk_at dksX3_worse_1 16 rfl rfl)
theorem dX3_worse_41 : decode cX3_worse 41 = .ok (.goto 13, 3) := dk_167 0 13 (dk_at dksX3_worse_1 17 rfl rfl)
theorem dX3_worse_44 : decode cX3_worse 44 = .ok (.iload_n 2, 1) := dk_28 (dk_at dksX3_worse_1 20 rfl rfl)
theorem dX3_worse_45 : decode cX3_worse 45 = .ok (.iload_n 1, 1) := dk_27 (dk_at dksX3_worse_1 21 rfl rfl)
theorem dX3_worse_46 : decode cX3_worse 46 = .ok (.if_icmp .le 7, 3) := dk_164 0 7 (dk_at dksX3_worse_2 0 rfl rfl)
theorem dX3_worse_49 : decode cX3_worse 49 = .ok (.iconst 1, 1) := dk_4 (dk_at dksX3_worse_2 3 rfl rfl)
theorem dX3_worse_50 : decode cX3_worse 50 = .ok (.goto 4, 3) := dk_167 0 4 (dk_at dksX3_worse_2 4 rfl rfl)
theorem dX3_worse_53 : decode cX3_worse 53 = .ok (.iconst 0, 1) := dk_3 (dk_at dksX3_worse_2 7 rfl rfl)
theorem dX3_worse_54 : decode cX3_worse 54 = .ok (.ireturn, 1) := dk_172 (dk_at dksX3_worse_2 8 rfl rfl)
abbrev cX3_right : ByteArray := prog_14_method_101_code
def yX3_right : MethodName := ⟨RX3, "right", "(I)I"⟩
def dkwX3_right_7 : List UInt8 := [27, 160, 0, 7, 4, 167, 0, 4, 3, 96, 61, 132, 3, 1, 167, 255, 117, 28, 172]
abbrev dktX3_right_7 : List UInt8 := dkwX3_right_7 ++ []
def dkwX3_right_6 : List UInt8 := [160, 0, 7, 5, 167, 0, 15, 21, 7, 21, 8, 160, 0, 7, 3, 167, 0, 4, 4, 54, 9, 28, 21, 9]
abbrev dktX3_right_6 : List UInt8 := dkwX3_right_6 ++ dktX3_right_7
def dkwX3_right_5 : List UInt8 := [21, 6, 182, 0, 177, 54, 8, 21, 7, 16, 254, 160, 0, 7, 6, 167, 0, 26, 21, 7, 16, 253]
abbrev dktX3_right_5 : List UInt8 := dkwX3_right_5 ++ dktX3_right_6
def dkwX3_right_4 : List UInt8 := [182, 1, 47, 54, 7, 21, 4, 154, 0, 14, 42, 21, 5, 21, 6, 182, 0, 181, 167, 0, 11, 42, 21, 5]
abbrev dktX3_right_4 : List UInt8 := dkwX3_right_4 ++ dktX3_right_5
def dkwX3_right_3 : List UInt8 := [46, 54, 5, 42, 180, 0, 23, 29, 5, 184, 0, 213, 46, 54, 6, 42, 21, 4, 21, 5, 21, 6]
abbrev dktX3_right_3 : List UInt8 := dkwX3_right_3 ++ dktX3_right_4
def dkwX3_right_2 : List UInt8 := [162, 0, 133, 42, 180, 0, 23, 29, 3, 184, 0, 213, 46, 54, 4, 42, 180, 0, 23, 29, 4, 184, 0, 213]
abbrev dktX3_right_2 : List UInt8 := dkwX3_right_2 ++ dktX3_right_3
def dkwX3_right_1 : List UInt8 := [184, 0, 191, 182, 0, 156, 153, 0, 5, 2, 172, 3, 61, 3, 62, 29, 7, 42, 180, 0, 17, 3, 46, 104]
abbrev dktX3_right_1 : List UInt8 := dkwX3_right_1 ++ dktX3_right_2
def dkwX3_right_0 : List UInt8 := [42, 42, 180, 0, 168, 153, 0, 16, 27, 3, 6, 184, 0, 70, 153, 0, 7, 4, 167, 0, 4, 3]
abbrev dktX3_right_0 : List UInt8 := dkwX3_right_0 ++ dktX3_right_1
theorem dksX3_right_0 : cX3_right.data.toList.drop 0 = dktX3_right_0 := by decide +kernel
theorem dksX3_right_1 : cX3_right.data.toList.drop 22 = dktX3_right_1 := dk_seg dksX3_right_0 22 rfl rfl
theorem dksX3_right_2 : cX3_right.data.toList.drop 46 = dktX3_right_2 := dk_seg dksX3_right_1 24 rfl rfl
theorem dksX3_right_3 : cX3_right.data.toList.drop 70 = dktX3_right_3 := dk_seg dksX3_right_2 24 rfl rfl
theorem dksX3_right_4 : cX3_right.data.toList.drop 92 = dktX3_right_4 := dk_seg dksX3_right_3 22 rfl rfl
theorem dksX3_right_5 : cX3_right.data.toList.drop 116 = dktX3_right_5 := dk_seg dksX3_right_4 24 rfl rfl
theorem dksX3_right_6 : cX3_right.data.toList.drop 138 = dktX3_right_6 := dk_seg dksX3_right_5 22 rfl rfl
theorem dksX3_right_7 : cX3_right.data.toList.drop 162 = dktX3_right_7 := dk_seg dksX3_right_6 24 rfl rfl
theorem dX3_right_0 : decode cX3_right 0 = .ok (.aload_n 0, 1) := dk_42 (dk_at dksX3_right_0 0 rfl rfl)
theorem dX3_right_1 : decode cX3_right 1 = .ok (.aload_n 0, 1) := dk_42 (dk_at dksX3_right_0 1 rfl rfl)
theorem dX3_right_2 : decode cX3_right 2 = .ok (.getfield 168, 3) := dk_180 0 168 (dk_at dksX3_right_0 2 rfl rfl)
theorem dX3_right_5 : decode cX3_right 5 = .ok (.ifCond .eq 16, 3) := dk_153 0 16 (dk_at dksX3_right_0 5 rfl rfl)
theorem dX3_right_8 : decode cX3_right 8 = .ok (.iload_n 1, 1) := dk_27 (dk_at dksX3_right_0 8 rfl rfl)
theorem dX3_right_9 : decode cX3_right 9 = .ok (.iconst 0, 1) := dk_3 (dk_at dksX3_right_0 9 rfl rfl)
theorem dX3_right_10 : decode cX3_right 10 = .ok (.iconst 3, 1) := dk_6 (dk_at dksX3_right_0 10 rfl rfl)
theorem dX3_right_11 : decode cX3_right 11 = .ok (.invokestatic 70, 3) := dk_184 0 70 (dk_at dksX3_right_0 11 rfl rfl)
theorem dX3_right_14 : decode cX3_right 14 = .ok (.ifCond .eq 7, 3) := dk_153 0 7 (dk_at dksX3_right_0 14 rfl rfl)
theorem dX3_right_17 : decode cX3_right 17 = .ok (.iconst 1, 1) := dk_4 (dk_at dksX3_right_0 17 rfl rfl)
theorem dX3_right_18 : decode cX3_right 18 = .ok (.goto 4, 3) := dk_167 0 4 (dk_at dksX3_right_0 18 rfl rfl)
theorem dX3_right_21 : decode cX3_right 21 = .ok (.iconst 0, 1) := dk_3 (dk_at dksX3_right_0 21 rfl rfl)
theorem dX3_right_22 : decode cX3_right 22 = .ok (.invokestatic 191, 3) := dk_184 0 191 (dk_at dksX3_right_1 0 rfl rfl)
theorem dX3_right_25 : decode cX3_right 25 = .ok (.invokevirtual 156, 3) := dk_182 0 156 (dk_at dksX3_right_1 3 rfl rfl)
theorem dX3_right_28 : decode cX3_right 28 = .ok (.ifCond .eq 5, 3) := dk_153 0 5 (dk_at dksX3_right_1 6 rfl rfl)
theorem dX3_right_31 : decode cX3_right 31 = .ok (.iconst (-1), 1) := dk_2 (dk_at dksX3_right_1 9 rfl rfl)
theorem dX3_right_32 : decode cX3_right 32 = .ok (.ireturn, 1) := dk_172 (dk_at dksX3_right_1 10 rfl rfl)
theorem dX3_right_33 : decode cX3_right 33 = .ok (.iconst 0, 1) := dk_3 (dk_at dksX3_right_1 11 rfl rfl)
theorem dX3_right_34 : decode cX3_right 34 = .ok (.istore_n 2, 1) := dk_61 (dk_at dksX3_right_1 12 rfl rfl)
theorem dX3_right_35 : decode cX3_right 35 = .ok (.iconst 0, 1) := dk_3 (dk_at dksX3_right_1 13 rfl rfl)
theorem dX3_right_36 : decode cX3_right 36 = .ok (.istore_n 3, 1) := dk_62 (dk_at dksX3_right_1 14 rfl rfl)
theorem dX3_right_37 : decode cX3_right 37 = .ok (.iload_n 3, 1) := dk_29 (dk_at dksX3_right_1 15 rfl rfl)
theorem dX3_right_38 : decode cX3_right 38 = .ok (.iconst 4, 1) := dk_7 (dk_at dksX3_right_1 16 rfl rfl)
theorem dX3_right_39 : decode cX3_right 39 = .ok (.aload_n 0, 1) := dk_42 (dk_at dksX3_right_1 17 rfl rfl)
theorem dX3_right_40 : decode cX3_right 40 = .ok (.getfield 17, 3) := dk_180 0 17 (dk_at dksX3_right_1 18 rfl rfl)
theorem dX3_right_43 : decode cX3_right 43 = .ok (.iconst 0, 1) := dk_3 (dk_at dksX3_right_1 21 rfl rfl)
theorem dX3_right_44 : decode cX3_right 44 = .ok (.iaload, 1) := dk_46 (dk_at dksX3_right_1 22 rfl rfl)
theorem dX3_right_45 : decode cX3_right 45 = .ok (.imul, 1) := dk_104 (dk_at dksX3_right_1 23 rfl rfl)
theorem dX3_right_46 : decode cX3_right 46 = .ok (.if_icmp .ge 133, 3) := dk_162 0 133 (dk_at dksX3_right_2 0 rfl rfl)
theorem dX3_right_49 : decode cX3_right 49 = .ok (.aload_n 0, 1) := dk_42 (dk_at dksX3_right_2 3 rfl rfl)
theorem dX3_right_50 : decode cX3_right 50 = .ok (.getfield 23, 3) := dk_180 0 23 (dk_at dksX3_right_2 4 rfl rfl)
theorem dX3_right_53 : decode cX3_right 53 = .ok (.iload_n 3, 1) := dk_29 (dk_at dksX3_right_2 7 rfl rfl)
theorem dX3_right_54 : decode cX3_right 54 = .ok (.iconst 0, 1) := dk_3 (dk_at dksX3_right_2 8 rfl rfl)
theorem dX3_right_55 : decode cX3_right 55 = .ok (.invokestatic 213, 3) := dk_184 0 213 (dk_at dksX3_right_2 9 rfl rfl)
theorem dX3_right_58 : decode cX3_right 58 = .ok (.iaload, 1) := dk_46 (dk_at dksX3_right_2 12 rfl rfl)
theorem dX3_right_59 : decode cX3_right 59 = .ok (.istore 4, 2) := dk_54 4 (dk_at dksX3_right_2 13 rfl rfl)
theorem dX3_right_61 : decode cX3_right 61 = .ok (.aload_n 0, 1) := dk_42 (dk_at dksX3_right_2 15 rfl rfl)
theorem dX3_right_62 : decode cX3_right 62 = .ok (.getfield 23, 3) := dk_180 0 23 (dk_at dksX3_right_2 16 rfl rfl)
theorem dX3_right_65 : decode cX3_right 65 = .ok (.iload_n 3, 1) := dk_29 (dk_at dksX3_right_2 19 rfl rfl)
theorem dX3_right_66 : decode cX3_right 66 = .ok (.iconst 1, 1) := dk_4 (dk_at dksX3_right_2 20 rfl rfl)
theorem dX3_right_67 : decode cX3_right 67 = .ok (.invokestatic 213, 3) := dk_184 0 213 (dk_at dksX3_right_2 21 rfl rfl)
theorem dX3_right_70 : decode cX3_right 70 = .ok (.iaload, 1) := dk_46 (dk_at dksX3_right_3 0 rfl rfl)
theorem dX3_right_71 : decode cX3_right 71 = .ok (.istore 5, 2) := dk_54 5 (dk_at dksX3_right_3 1 rfl rfl)
theorem dX3_right_73 : decode cX3_right 73 = .ok (.aload_n 0, 1) := dk_42 (dk_at dksX3_right_3 3 rfl rfl)
theorem dX3_right_74 : decode cX3_right 74 = .ok (.getfield 23, 3) := dk_180 0 23 (dk_at dksX3_right_3 4 rfl rfl)
theorem dX3_right_77 : decode cX3_right 77 = .ok (.iload_n 3, 1) := dk_29 (dk_at dksX3_right_3 7 rfl rfl)
theorem dX3_right_78 : decode cX3_right 78 = .ok (.iconst 2, 1) := dk_5 (dk_at dksX3_right_3 8 rfl rfl)
theorem dX3_right_79 : decode cX3_right 79 = .ok (.invokestatic 213, 3) := dk_184 0 213 (dk_at dksX3_right_3 9 rfl rfl)
theorem dX3_right_82 : decode cX3_right 82 = .ok (.iaload, 1) := dk_46 (dk_at dksX3_right_3 12 rfl rfl)
theorem dX3_right_83 : decode cX3_right 83 = .ok (.istore 6, 2) := dk_54 6 (dk_at dksX3_right_3 13 rfl rfl)
theorem dX3_right_85 : decode cX3_right 85 = .ok (.aload_n 0, 1) := dk_42 (dk_at dksX3_right_3 15 rfl rfl)
theorem dX3_right_86 : decode cX3_right 86 = .ok (.iload 4, 2) := dk_21 4 (dk_at dksX3_right_3 16 rfl rfl)
theorem dX3_right_88 : decode cX3_right 88 = .ok (.iload 5, 2) := dk_21 5 (dk_at dksX3_right_3 18 rfl rfl)
theorem dX3_right_90 : decode cX3_right 90 = .ok (.iload 6, 2) := dk_21 6 (dk_at dksX3_right_3 20 rfl rfl)
theorem dX3_right_92 : decode cX3_right 92 = .ok (.invokevirtual 303, 3) := dk_182 1 47 (dk_at dksX3_right_4 0 rfl rfl)
theorem dX3_right_95 : decode cX3_right 95 = .ok (.istore 7, 2) := dk_54 7 (dk_at dksX3_right_4 3 rfl rfl)
theorem dX3_right_97 : decode cX3_right 97 = .ok (.iload 4, 2) := dk_21 4 (dk_at dksX3_right_4 5 rfl rfl)
theorem dX3_right_99 : decode cX3_right 99 = .ok (.ifCond .ne 14, 3) := dk_154 0 14 (dk_at dksX3_right_4 7 rfl rfl)
theorem dX3_right_102 : decode cX3_right 102 = .ok (.aload_n 0, 1) := dk_42 (dk_at dksX3_right_4 10 rfl rfl)
theorem dX3_right_103 : decode cX3_right 103 = .ok (.iload 5, 2) := dk_21 5 (dk_at dksX3_right_4 11 rfl rfl)
theorem dX3_right_105 : decode cX3_right 105 = .ok (.iload 6, 2) := dk_21 6 (dk_at dksX3_right_4 13 rfl rfl)
theorem dX3_right_107 : decode cX3_right 107 = .ok (.invokevirtual 181, 3) := dk_182 0 181 (dk_at dksX3_right_4 15 rfl rfl)
theorem dX3_right_110 : decode cX3_right 110 = .ok (.goto 11, 3) := dk_167 0 11 (dk_at dksX3_right_4 18 rfl rfl)
theorem dX3_right_113 : decode cX3_right 113 = .ok (.aload_n 0, 1) := dk_42 (dk_at dksX3_right_4 21 rfl rfl)
theorem dX3_right_114 : decode cX3_right 114 = .ok (.iload 5, 2) := dk_21 5 (dk_at dksX3_right_4 22 rfl rfl)
theorem dX3_right_116 : decode cX3_right 116 = .ok (.iload 6, 2) := dk_21 6 (dk_at dksX3_right_5 0 rfl rfl)
theorem dX3_right_118 : decode cX3_right 118 = .ok (.invokevirtual 177, 3) := dk_182 0 177 (dk_at dksX3_right_5 2 rfl rfl)
theorem dX3_right_121 : decode cX3_right 121 = .ok (.istore 8, 2) := dk_54 8 (dk_at dksX3_right_5 5 rfl rfl)
theorem dX3_right_123 : decode cX3_right 123 = .ok (.iload 7, 2) := dk_21 7 (dk_at dksX3_right_5 7 rfl rfl)
theorem dX3_right_125 : decode cX3_right 125 = .ok (.bipush (-2), 2) := dk_16 254 (dk_at dksX3_right_5 9 rfl rfl)
theorem dX3_right_127 : decode cX3_right 127 = .ok (.if_icmp .ne 7, 3) := dk_160 0 7 (dk_at dksX3_right_5 11 rfl rfl)
theorem dX3_right_130 : decode cX3_right 130 = .ok (.iconst 3, 1) := dk_6 (dk_at dksX3_right_5 14 rfl rfl)
theorem dX3_right_131 : decode cX3_right 131 = .ok (.goto 26, 3) := dk_167 0 26 (dk_at dksX3_right_5 15 rfl rfl)
theorem dX3_right_134 : decode cX3_right 134 = .ok (.iload 7, 2) := dk_21 7 (dk_at dksX3_right_5 18 rfl rfl)
theorem dX3_right_136 : decode cX3_right 136 = .ok (.bipush (-3), 2) := dk_16 253 (dk_at dksX3_right_5 20 rfl rfl)
theorem dX3_right_138 : decode cX3_right 138 = .ok (.if_icmp .ne 7, 3) := dk_160 0 7 (dk_at dksX3_right_6 0 rfl rfl)
theorem dX3_right_141 : decode cX3_right 141 = .ok (.iconst 2, 1) := dk_5 (dk_at dksX3_right_6 3 rfl rfl)
theorem dX3_right_142 : decode cX3_right 142 = .ok (.goto 15, 3) := dk_167 0 15 (dk_at dksX3_right_6 4 rfl rfl)
theorem dX3_right_145 : decode cX3_right 145 = .ok (.iload 7, 2) := dk_21 7 (dk_at dksX3_right_6 7 rfl rfl)
theorem dX3_right_147 : decode cX3_right 147 = .ok (.iload 8, 2) := dk_21 8 (dk_at dksX3_right_6 9 rfl rfl)
theorem dX3_right_149 : decode cX3_right 149 = .ok (.if_icmp .ne 7, 3) := dk_160 0 7 (dk_at dksX3_right_6 11 rfl rfl)
theorem dX3_right_152 : decode cX3_right 152 = .ok (.iconst 0, 1) := dk_3 (dk_at dksX3_right_6 14 rfl rfl)
theorem dX3_right_153 : decode cX3_right 153 = .ok (.goto 4, 3) := dk_167 0 4 (dk_at dksX3_right_6 15 rfl rfl)
theorem dX3_right_156 : decode cX3_right 156 = .ok (.iconst 1, 1) := dk_4 (dk_at dksX3_right_6 18 rfl rfl)
theorem dX3_right_157 : decode cX3_right 157 = .ok (.istore 9, 2) := dk_54 9 (dk_at dksX3_right_6 19 rfl rfl)
theorem dX3_right_159 : decode cX3_right 159 = .ok (.iload_n 2, 1) := dk_28 (dk_at dksX3_right_6 21 rfl rfl)
theorem dX3_right_160 : decode cX3_right 160 = .ok (.iload 9, 2) := dk_21 9 (dk_at dksX3_right_6 22 rfl rfl)
theorem dX3_right_162 : decode cX3_right 162 = .ok (.iload_n 1, 1) := dk_27 (dk_at dksX3_right_7 0 rfl rfl)
theorem dX3_right_163 : decode cX3_right 163 = .ok (.if_icmp .ne 7, 3) := dk_160 0 7 (dk_at dksX3_right_7 1 rfl rfl)
theorem dX3_right_166 : decode cX3_right 166 = .ok (.iconst 1, 1) := dk_4 (dk_at dksX3_right_7 4 rfl rfl)
theorem dX3_right_167 : decode cX3_right 167 = .ok (.goto 4, 3) := dk_167 0 4 (dk_at dksX3_right_7 5 rfl rfl)
theorem dX3_right_170 : decode cX3_right 170 = .ok (.iconst 0, 1) := dk_3 (dk_at dksX3_right_7 8 rfl rfl)
theorem dX3_right_171 : decode cX3_right 171 = .ok (.iadd, 1) := dk_96 (dk_at dksX3_right_7 9 rfl rfl)
theorem dX3_right_172 : decode cX3_right 172 = .ok (.istore_n 2, 1) := dk_61 (dk_at dksX3_right_7 10 rfl rfl)
theorem dX3_right_173 : decode cX3_right 173 = .ok (.iinc 3 1, 3) := dk_132 3 1 (dk_at dksX3_right_7 11 rfl rfl)
theorem dX3_right_176 : decode cX3_right 176 = .ok (.goto (-139), 3) := dk_167 255 117 (dk_at dksX3_right_7 14 rfl rfl)
theorem dX3_right_179 : decode cX3_right 179 = .ok (.iload_n 2, 1) := dk_28 (dk_at dksX3_right_7 17 rfl rfl)
theorem dX3_right_180 : decode cX3_right 180 = .ok (.ireturn, 1) := dk_172 (dk_at dksX3_right_7 18 rfl rfl)
abbrev cX3_left : ByteArray := prog_14_method_102_code
def yX3_left : MethodName := ⟨RX3, "left", "()I"⟩
def dkwX3_left_4 : List UInt8 := [27, 172]
abbrev dktX3_left_4 : List UInt8 := dkwX3_left_4 ++ []
def dkwX3_left_3 : List UInt8 := [17, 7, 48, 162, 0, 21, 42, 180, 0, 23, 28, 42, 180, 0, 26, 28, 46, 79, 132, 2, 1, 167, 255, 234]
abbrev dktX3_left_3 : List UInt8 := dkwX3_left_3 ++ dktX3_left_4
def dkwX3_left_2 : List UInt8 := [182, 1, 20, 153, 0, 16, 42, 3, 3, 182, 1, 32, 61, 132, 1, 1, 167, 255, 239, 3, 61, 28]
abbrev dktX3_left_2 : List UInt8 := dkwX3_left_2 ++ dktX3_left_3
def dkwX3_left_1 : List UInt8 := [162, 0, 21, 42, 180, 0, 26, 27, 42, 180, 0, 23, 27, 46, 79, 132, 1, 1, 167, 255, 234, 3, 60, 42]
abbrev dktX3_left_1 : List UInt8 := dkwX3_left_1 ++ dktX3_left_2
def dkwX3_left_0 : List UInt8 := [42, 42, 180, 0, 168, 184, 0, 191, 182, 0, 156, 153, 0, 5, 2, 172, 3, 60, 27, 17, 7, 48]
abbrev dktX3_left_0 : List UInt8 := dkwX3_left_0 ++ dktX3_left_1
theorem dksX3_left_0 : cX3_left.data.toList.drop 0 = dktX3_left_0 := by decide +kernel
theorem dksX3_left_1 : cX3_left.data.toList.drop 22 = dktX3_left_1 := dk_seg dksX3_left_0 22 rfl rfl
theorem dksX3_left_2 : cX3_left.data.toList.drop 46 = dktX3_left_2 := dk_seg dksX3_left_1 24 rfl rfl
theorem dksX3_left_3 : cX3_left.data.toList.drop 68 = dktX3_left_3 := dk_seg dksX3_left_2 22 rfl rfl
theorem dksX3_left_4 : cX3_left.data.toList.drop 92 = dktX3_left_4 := dk_seg dksX3_left_3 24 rfl rfl
theorem dX3_left_0 : decode cX3_left 0 = .ok (.aload_n 0, 1) := dk_42 (dk_at dksX3_left_0 0 rfl rfl)
theorem dX3_left_1 : decode cX3_left 1 = .ok (.aload_n 0, 1) := dk_42 (dk_at dksX3_left_0 1 rfl rfl)
theorem dX3_left_2 : decode cX3_left 2 = .ok (.getfield 168, 3) := dk_180 0 168 (dk_at dksX3_left_0 2 rfl rfl)
theorem dX3_left_5 : decode cX3_left 5 = .ok (.invokestatic 191, 3) := dk_184 0 191 (dk_at dksX3_left_0 5 rfl rfl)
theorem dX3_left_8 : decode cX3_left 8 = .ok (.invokevirtual 156, 3) := dk_182 0 156 (dk_at dksX3_left_0 8 rfl rfl)
theorem dX3_left_11 : decode cX3_left 11 = .ok (.ifCond .eq 5, 3) := dk_153 0 5 (dk_at dksX3_left_0 11 rfl rfl)
theorem dX3_left_14 : decode cX3_left 14 = .ok (.iconst (-1), 1) := dk_2 (dk_at dksX3_left_0 14 rfl rfl)
theorem dX3_left_15 : decode cX3_left 15 = .ok (.ireturn, 1) := dk_172 (dk_at dksX3_left_0 15 rfl rfl)
theorem dX3_left_16 : decode cX3_left 16 = .ok (.iconst 0, 1) := dk_3 (dk_at dksX3_left_0 16 rfl rfl)
theorem dX3_left_17 : decode cX3_left 17 = .ok (.istore_n 1, 1) := dk_60 (dk_at dksX3_left_0 17 rfl rfl)
theorem dX3_left_18 : decode cX3_left 18 = .ok (.iload_n 1, 1) := dk_27 (dk_at dksX3_left_0 18 rfl rfl)
theorem dX3_left_19 : decode cX3_left 19 = .ok (.sipush 1840, 3) := dk_17 7 48 (dk_at dksX3_left_0 19 rfl rfl)
theorem dX3_left_22 : decode cX3_left 22 = .ok (.if_icmp .ge 21, 3) := dk_162 0 21 (dk_at dksX3_left_1 0 rfl rfl)
theorem dX3_left_25 : decode cX3_left 25 = .ok (.aload_n 0, 1) := dk_42 (dk_at dksX3_left_1 3 rfl rfl)
theorem dX3_left_26 : decode cX3_left 26 = .ok (.getfield 26, 3) := dk_180 0 26 (dk_at dksX3_left_1 4 rfl rfl)
theorem dX3_left_29 : decode cX3_left 29 = .ok (.iload_n 1, 1) := dk_27 (dk_at dksX3_left_1 7 rfl rfl)
theorem dX3_left_30 : decode cX3_left 30 = .ok (.aload_n 0, 1) := dk_42 (dk_at dksX3_left_1 8 rfl rfl)
theorem dX3_left_31 : decode cX3_left 31 = .ok (.getfield 23, 3) := dk_180 0 23 (dk_at dksX3_left_1 9 rfl rfl)
theorem dX3_left_34 : decode cX3_left 34 = .ok (.iload_n 1, 1) := dk_27 (dk_at dksX3_left_1 12 rfl rfl)
theorem dX3_left_35 : decode cX3_left 35 = .ok (.iaload, 1) := dk_46 (dk_at dksX3_left_1 13 rfl rfl)
theorem dX3_left_36 : decode cX3_left 36 = .ok (.iastore, 1) := dk_79 (dk_at dksX3_left_1 14 rfl rfl)
theorem dX3_left_37 : decode cX3_left 37 = .ok (.iinc 1 1, 3) := dk_132 1 1 (dk_at dksX3_left_1 15 rfl rfl)
theorem dX3_left_40 : decode cX3_left 40 = .ok (.goto (-22), 3) := dk_167 255 234 (dk_at dksX3_left_1 18 rfl rfl)
theorem dX3_left_43 : decode cX3_left 43 = .ok (.iconst 0, 1) := dk_3 (dk_at dksX3_left_1 21 rfl rfl)
theorem dX3_left_44 : decode cX3_left 44 = .ok (.istore_n 1, 1) := dk_60 (dk_at dksX3_left_1 22 rfl rfl)
theorem dX3_left_45 : decode cX3_left 45 = .ok (.aload_n 0, 1) := dk_42 (dk_at dksX3_left_1 23 rfl rfl)
theorem dX3_left_46 : decode cX3_left 46 = .ok (.invokevirtual 276, 3) := dk_182 1 20 (dk_at dksX3_left_2 0 rfl rfl)
theorem dX3_left_49 : decode cX3_left 49 = .ok (.ifCond .eq 16, 3) := dk_153 0 16 (dk_at dksX3_left_2 3 rfl rfl)
theorem dX3_left_52 : decode cX3_left 52 = .ok (.aload_n 0, 1) := dk_42 (dk_at dksX3_left_2 6 rfl rfl)
theorem dX3_left_53 : decode cX3_left 53 = .ok (.iconst 0, 1) := dk_3 (dk_at dksX3_left_2 7 rfl rfl)
theorem dX3_left_54 : decode cX3_left 54 = .ok (.iconst 0, 1) := dk_3 (dk_at dksX3_left_2 8 rfl rfl)
theorem dX3_left_55 : decode cX3_left 55 = .ok (.invokevirtual 288, 3) := dk_182 1 32 (dk_at dksX3_left_2 9 rfl rfl)
theorem dX3_left_58 : decode cX3_left 58 = .ok (.istore_n 2, 1) := dk_61 (dk_at dksX3_left_2 12 rfl rfl)
theorem dX3_left_59 : decode cX3_left 59 = .ok (.iinc 1 1, 3) := dk_132 1 1 (dk_at dksX3_left_2 13 rfl rfl)
theorem dX3_left_62 : decode cX3_left 62 = .ok (.goto (-17), 3) := dk_167 255 239 (dk_at dksX3_left_2 16 rfl rfl)
theorem dX3_left_65 : decode cX3_left 65 = .ok (.iconst 0, 1) := dk_3 (dk_at dksX3_left_2 19 rfl rfl)
theorem dX3_left_66 : decode cX3_left 66 = .ok (.istore_n 2, 1) := dk_61 (dk_at dksX3_left_2 20 rfl rfl)
theorem dX3_left_67 : decode cX3_left 67 = .ok (.iload_n 2, 1) := dk_28 (dk_at dksX3_left_2 21 rfl rfl)
theorem dX3_left_68 : decode cX3_left 68 = .ok (.sipush 1840, 3) := dk_17 7 48 (dk_at dksX3_left_3 0 rfl rfl)
theorem dX3_left_71 : decode cX3_left 71 = .ok (.if_icmp .ge 21, 3) := dk_162 0 21 (dk_at dksX3_left_3 3 rfl rfl)
theorem dX3_left_74 : decode cX3_left 74 = .ok (.aload_n 0, 1) := dk_42 (dk_at dksX3_left_3 6 rfl rfl)
theorem dX3_left_75 : decode cX3_left 75 = .ok (.getfield 23, 3) := dk_180 0 23 (dk_at dksX3_left_3 7 rfl rfl)
theorem dX3_left_78 : decode cX3_left 78 = .ok (.iload_n 2, 1) := dk_28 (dk_at dksX3_left_3 10 rfl rfl)
theorem dX3_left_79 : decode cX3_left 79 = .ok (.aload_n 0, 1) := dk_42 (dk_at dksX3_left_3 11 rfl rfl)
theorem dX3_left_80 : decode cX3_left 80 = .ok (.getfield 26, 3) := dk_180 0 26 (dk_at dksX3_left_3 12 rfl rfl)
theorem dX3_left_83 : decode cX3_left 83 = .ok (.iload_n 2, 1) := dk_28 (dk_at dksX3_left_3 15 rfl rfl)
theorem dX3_left_84 : decode cX3_left 84 = .ok (.iaload, 1) := dk_46 (dk_at dksX3_left_3 16 rfl rfl)
theorem dX3_left_85 : decode cX3_left 85 = .ok (.iastore, 1) := dk_79 (dk_at dksX3_left_3 17 rfl rfl)
theorem dX3_left_86 : decode cX3_left 86 = .ok (.iinc 2 1, 3) := dk_132 2 1 (dk_at dksX3_left_3 18 rfl rfl)
theorem dX3_left_89 : decode cX3_left 89 = .ok (.goto (-22), 3) := dk_167 255 234 (dk_at dksX3_left_3 21 rfl rfl)
theorem dX3_left_92 : decode cX3_left 92 = .ok (.iload_n 1, 1) := dk_27 (dk_at dksX3_left_4 0 rfl rfl)
theorem dX3_left_93 : decode cX3_left 93 = .ok (.ireturn, 1) := dk_172 (dk_at dksX3_left_4 1 rfl rfl)
abbrev cX3_chart : ByteArray := prog_14_method_104_code
def yX3_chart : MethodName := ⟨RX3, "chart", "(II)I"⟩
def dkwX3_chart_3 : List UInt8 := [28, 29, 112, 182, 1, 74, 172]
abbrev dktX3_chart_3 : List UInt8 := dkwX3_chart_3 ++ []
def dkwX3_chart_2 : List UInt8 := [161, 0, 5, 2, 172, 28, 29, 112, 29, 4, 100, 160, 0, 8, 16, 10, 167, 0, 14, 42, 27, 28, 29, 108]
abbrev dktX3_chart_2 : List UInt8 := dkwX3_chart_2 ++ dktX3_chart_3
def dkwX3_chart_1 : List UInt8 := [182, 0, 156, 153, 0, 5, 2, 172, 42, 180, 0, 17, 3, 46, 4, 96, 62, 28, 29, 16, 26, 104]
abbrev dktX3_chart_1 : List UInt8 := dkwX3_chart_1 ++ dktX3_chart_2
def dkwX3_chart_0 : List UInt8 := [42, 42, 3, 27, 3, 182, 0, 188, 153, 0, 11, 28, 155, 0, 7, 4, 167, 0, 4, 3, 184, 0, 191]
abbrev dktX3_chart_0 : List UInt8 := dkwX3_chart_0 ++ dktX3_chart_1
theorem dksX3_chart_0 : cX3_chart.data.toList.drop 0 = dktX3_chart_0 := by decide +kernel
theorem dksX3_chart_1 : cX3_chart.data.toList.drop 23 = dktX3_chart_1 := dk_seg dksX3_chart_0 23 rfl rfl
theorem dksX3_chart_2 : cX3_chart.data.toList.drop 45 = dktX3_chart_2 := dk_seg dksX3_chart_1 22 rfl rfl
theorem dksX3_chart_3 : cX3_chart.data.toList.drop 69 = dktX3_chart_3 := dk_seg dksX3_chart_2 24 rfl rfl
theorem dX3_chart_0 : decode cX3_chart 0 = .ok (.aload_n 0, 1) := dk_42 (dk_at dksX3_chart_0 0 rfl rfl)
theorem dX3_chart_1 : decode cX3_chart 1 = .ok (.aload_n 0, 1) := dk_42 (dk_at dksX3_chart_0 1 rfl rfl)
theorem dX3_chart_2 : decode cX3_chart 2 = .ok (.iconst 0, 1) := dk_3 (dk_at dksX3_chart_0 2 rfl rfl)
theorem dX3_chart_3 : decode cX3_chart 3 = .ok (.iload_n 1, 1) := dk_27 (dk_at dksX3_chart_0 3 rfl rfl)
theorem dX3_chart_4 : decode cX3_chart 4 = .ok (.iconst 0, 1) := dk_3 (dk_at dksX3_chart_0 4 rfl rfl)
theorem dX3_chart_5 : decode cX3_chart 5 = .ok (.invokevirtual 188, 3) := dk_182 0 188 (dk_at dksX3_chart_0 5 rfl rfl)
theorem dX3_chart_8 : decode cX3_chart 8 = .ok (.ifCond .eq 11, 3) := dk_153 0 11 (dk_at dksX3_chart_0 8 rfl rfl)
theorem dX3_chart_11 : decode cX3_chart 11 = .ok (.iload_n 2, 1) := dk_28 (dk_at dksX3_chart_0 11 rfl rfl)
theorem dX3_chart_12 : decode cX3_chart 12 = .ok (.ifCond .lt 7, 3) := dk_155 0 7 (dk_at dksX3_chart_0 12 rfl rfl)
theorem dX3_chart_15 : decode cX3_chart 15 = .ok (.iconst 1, 1) := dk_4 (dk_at dksX3_chart_0 15 rfl rfl)
theorem dX3_chart_16 : decode cX3_chart 16 = .ok (.goto 4, 3) := dk_167 0 4 (dk_at dksX3_chart_0 16 rfl rfl)
theorem dX3_chart_19 : decode cX3_chart 19 = .ok (.iconst 0, 1) := dk_3 (dk_at dksX3_chart_0 19 rfl rfl)
theorem dX3_chart_20 : decode cX3_chart 20 = .ok (.invokestatic 191, 3) := dk_184 0 191 (dk_at dksX3_chart_0 20 rfl rfl)
theorem dX3_chart_23 : decode cX3_chart 23 = .ok (.invokevirtual 156, 3) := dk_182 0 156 (dk_at dksX3_chart_1 0 rfl rfl)
theorem dX3_chart_26 : decode cX3_chart 26 = .ok (.ifCond .eq 5, 3) := dk_153 0 5 (dk_at dksX3_chart_1 3 rfl rfl)
theorem dX3_chart_29 : decode cX3_chart 29 = .ok (.iconst (-1), 1) := dk_2 (dk_at dksX3_chart_1 6 rfl rfl)
theorem dX3_chart_30 : decode cX3_chart 30 = .ok (.ireturn, 1) := dk_172 (dk_at dksX3_chart_1 7 rfl rfl)
theorem dX3_chart_31 : decode cX3_chart 31 = .ok (.aload_n 0, 1) := dk_42 (dk_at dksX3_chart_1 8 rfl rfl)
theorem dX3_chart_32 : decode cX3_chart 32 = .ok (.getfield 17, 3) := dk_180 0 17 (dk_at dksX3_chart_1 9 rfl rfl)
theorem dX3_chart_35 : decode cX3_chart 35 = .ok (.iconst 0, 1) := dk_3 (dk_at dksX3_chart_1 12 rfl rfl)
theorem dX3_chart_36 : decode cX3_chart 36 = .ok (.iaload, 1) := dk_46 (dk_at dksX3_chart_1 13 rfl rfl)
theorem dX3_chart_37 : decode cX3_chart 37 = .ok (.iconst 1, 1) := dk_4 (dk_at dksX3_chart_1 14 rfl rfl)
theorem dX3_chart_38 : decode cX3_chart 38 = .ok (.iadd, 1) := dk_96 (dk_at dksX3_chart_1 15 rfl rfl)
theorem dX3_chart_39 : decode cX3_chart 39 = .ok (.istore_n 3, 1) := dk_62 (dk_at dksX3_chart_1 16 rfl rfl)
theorem dX3_chart_40 : decode cX3_chart 40 = .ok (.iload_n 2, 1) := dk_28 (dk_at dksX3_chart_1 17 rfl rfl)
theorem dX3_chart_41 : decode cX3_chart 41 = .ok (.iload_n 3, 1) := dk_29 (dk_at dksX3_chart_1 18 rfl rfl)
theorem dX3_chart_42 : decode cX3_chart 42 = .ok (.bipush 26, 2) := dk_16 26 (dk_at dksX3_chart_1 19 rfl rfl)
theorem dX3_chart_44 : decode cX3_chart 44 = .ok (.imul, 1) := dk_104 (dk_at dksX3_chart_1 21 rfl rfl)
theorem dX3_chart_45 : decode cX3_chart 45 = .ok (.if_icmp .lt 5, 3) := dk_161 0 5 (dk_at dksX3_chart_2 0 rfl rfl)
theorem dX3_chart_48 : decode cX3_chart 48 = .ok (.iconst (-1), 1) := dk_2 (dk_at dksX3_chart_2 3 rfl rfl)
theorem dX3_chart_49 : decode cX3_chart 49 = .ok (.ireturn, 1) := dk_172 (dk_at dksX3_chart_2 4 rfl rfl)
theorem dX3_chart_50 : decode cX3_chart 50 = .ok (.iload_n 2, 1) := dk_28 (dk_at dksX3_chart_2 5 rfl rfl)
theorem dX3_chart_51 : decode cX3_chart 51 = .ok (.iload_n 3, 1) := dk_29 (dk_at dksX3_chart_2 6 rfl rfl)
theorem dX3_chart_52 : decode cX3_chart 52 = .ok (.irem, 1) := dk_112 (dk_at dksX3_chart_2 7 rfl rfl)
theorem dX3_chart_53 : decode cX3_chart 53 = .ok (.iload_n 3, 1) := dk_29 (dk_at dksX3_chart_2 8 rfl rfl)
theorem dX3_chart_54 : decode cX3_chart 54 = .ok (.iconst 1, 1) := dk_4 (dk_at dksX3_chart_2 9 rfl rfl)
theorem dX3_chart_55 : decode cX3_chart 55 = .ok (.isub, 1) := dk_100 (dk_at dksX3_chart_2 10 rfl rfl)
theorem dX3_chart_56 : decode cX3_chart 56 = .ok (.if_icmp .ne 8, 3) := dk_160 0 8 (dk_at dksX3_chart_2 11 rfl rfl)
theorem dX3_chart_59 : decode cX3_chart 59 = .ok (.bipush 10, 2) := dk_16 10 (dk_at dksX3_chart_2 14 rfl rfl)
theorem dX3_chart_61 : decode cX3_chart 61 = .ok (.goto 14, 3) := dk_167 0 14 (dk_at dksX3_chart_2 16 rfl rfl)
theorem dX3_chart_64 : decode cX3_chart 64 = .ok (.aload_n 0, 1) := dk_42 (dk_at dksX3_chart_2 19 rfl rfl)
theorem dX3_chart_65 : decode cX3_chart 65 = .ok (.iload_n 1, 1) := dk_27 (dk_at dksX3_chart_2 20 rfl rfl)
theorem dX3_chart_66 : decode cX3_chart 66 = .ok (.iload_n 2, 1) := dk_28 (dk_at dksX3_chart_2 21 rfl rfl)
theorem dX3_chart_67 : decode cX3_chart 67 = .ok (.iload_n 3, 1) := dk_29 (dk_at dksX3_chart_2 22 rfl rfl)
theorem dX3_chart_68 : decode cX3_chart 68 = .ok (.idiv, 1) := dk_108 (dk_at dksX3_chart_2 23 rfl rfl)
theorem dX3_chart_69 : decode cX3_chart 69 = .ok (.iload_n 2, 1) := dk_28 (dk_at dksX3_chart_3 0 rfl rfl)
theorem dX3_chart_70 : decode cX3_chart 70 = .ok (.iload_n 3, 1) := dk_29 (dk_at dksX3_chart_3 1 rfl rfl)
theorem dX3_chart_71 : decode cX3_chart 71 = .ok (.irem, 1) := dk_112 (dk_at dksX3_chart_3 2 rfl rfl)
theorem dX3_chart_72 : decode cX3_chart 72 = .ok (.invokevirtual 330, 3) := dk_182 1 74 (dk_at dksX3_chart_3 3 rfl rfl)
theorem dX3_chart_75 : decode cX3_chart 75 = .ok (.ireturn, 1) := dk_172 (dk_at dksX3_chart_3 6 rfl rfl)
abbrev cX3_signAt : ByteArray := prog_14_method_103_code
def yX3_signAt : MethodName := ⟨RX3, "signAt", "(III)I"⟩
def dkwX3_signAt_4 : List UInt8 := [159, 0, 10, 21, 5, 16, 253, 160, 0, 8, 16, 63, 167, 0, 5, 16, 46, 172]
abbrev dktX3_signAt_4 : List UInt8 := dkwX3_signAt_4 ++ []
def dkwX3_signAt_3 : List UInt8 := [16, 254, 160, 0, 8, 16, 99, 167, 0, 5, 16, 67, 172, 28, 16, 25, 160, 0, 22, 21, 4, 16, 253]
abbrev dktX3_signAt_3 : List UInt8 := dkwX3_signAt_3 ++ dktX3_signAt_4
def dkwX3_signAt_2 : List UInt8 := [160, 0, 8, 16, 111, 167, 0, 5, 16, 79, 172, 21, 5, 28, 160, 0, 23, 42, 4, 27, 29, 182, 1, 44]
abbrev dktX3_signAt_2 : List UInt8 := dkwX3_signAt_2 ++ dktX3_signAt_3
def dkwX3_signAt_1 : List UInt8 := [21, 5, 28, 160, 0, 6, 16, 42, 172, 21, 4, 28, 160, 0, 23, 42, 3, 27, 29, 182, 1, 44, 16, 254]
abbrev dktX3_signAt_1 : List UInt8 := dkwX3_signAt_1 ++ dktX3_signAt_2
def dkwX3_signAt_0 : List UInt8 := [42, 3, 27, 29, 182, 1, 47, 54, 4, 42, 4, 27, 29, 182, 1, 47, 54, 5, 21, 4, 28, 160, 0, 12]
abbrev dktX3_signAt_0 : List UInt8 := dkwX3_signAt_0 ++ dktX3_signAt_1
theorem dksX3_signAt_0 : cX3_signAt.data.toList.drop 0 = dktX3_signAt_0 := by decide +kernel
theorem dksX3_signAt_1 : cX3_signAt.data.toList.drop 24 = dktX3_signAt_1 := dk_seg dksX3_signAt_0 24 rfl rfl
theorem dksX3_signAt_2 : cX3_signAt.data.toList.drop 48 = dktX3_signAt_2 := dk_seg dksX3_signAt_1 24 rfl rfl
theorem dksX3_signAt_3 : cX3_signAt.data.toList.drop 72 = dktX3_signAt_3 := dk_seg dksX3_signAt_2 24 rfl rfl
theorem dksX3_signAt_4 : cX3_signAt.data.toList.drop 95 = dktX3_signAt_4 := dk_seg dksX3_signAt_3 23 rfl rfl
theorem dX3_signAt_0 : decode cX3_signAt 0 = .ok (.aload_n 0, 1) := dk_42 (dk_at dksX3_signAt_0 0 rfl rfl)
theorem dX3_signAt_1 : decode cX3_signAt 1 = .ok (.iconst 0, 1) := dk_3 (dk_at dksX3_signAt_0 1 rfl rfl)
theorem dX3_signAt_2 : decode cX3_signAt 2 = .ok (.iload_n 1, 1) := dk_27 (dk_at dksX3_signAt_0 2 rfl rfl)
theorem dX3_signAt_3 : decode cX3_signAt 3 = .ok (.iload_n 3, 1) := dk_29 (dk_at dksX3_signAt_0 3 rfl rfl)
theorem dX3_signAt_4 : decode cX3_signAt 4 = .ok (.invokevirtual 303, 3) := dk_182 1 47 (dk_at dksX3_signAt_0 4 rfl rfl)
theorem dX3_signAt_7 : decode cX3_signAt 7 = .ok (.istore 4, 2) := dk_54 4 (dk_at dksX3_signAt_0 7 rfl rfl)
theorem dX3_signAt_9 : decode cX3_signAt 9 = .ok (.aload_n 0, 1) := dk_42 (dk_at dksX3_signAt_0 9 rfl rfl)
theorem dX3_signAt_10 : decode cX3_signAt 10 = .ok (.iconst 1, 1) := dk_4 (dk_at dksX3_signAt_0 10 rfl rfl)
theorem dX3_signAt_11 : decode cX3_signAt 11 = .ok (.iload_n 1, 1) := dk_27 (dk_at dksX3_signAt_0 11 rfl rfl)
theorem dX3_signAt_12 : decode cX3_signAt 12 = .ok (.iload_n 3, 1) := dk_29 (dk_at dksX3_signAt_0 12 rfl rfl)
theorem dX3_signAt_13 : decode cX3_signAt 13 = .ok (.invokevirtual 303, 3) := dk_182 1 47 (dk_at dksX3_signAt_0 13 rfl rfl)
theorem dX3_signAt_16 : decode cX3_signAt 16 = .ok (.istore 5, 2) := dk_54 5 (dk_at dksX3_signAt_0 16 rfl rfl)
theorem dX3_signAt_18 : decode cX3_signAt 18 = .ok (.iload 4, 2) := dk_21 4 (dk_at dksX3_signAt_0 18 rfl rfl)
theorem dX3_signAt_20 : decode cX3_signAt 20 = .ok (.iload_n 2, 1) := dk_28 (dk_at dksX3_signAt_0 20 rfl rfl)
theorem dX3_signAt_21 : decode cX3_signAt 21 = .ok (.if_icmp .ne 12, 3) := dk_160 0 12 (dk_at dksX3_signAt_0 21 rfl rfl)
theorem dX3_signAt_24 : decode cX3_signAt 24 = .ok (.iload 5, 2) := dk_21 5 (dk_at dksX3_signAt_1 0 rfl rfl)
theorem dX3_signAt_26 : decode cX3_signAt 26 = .ok (.iload_n 2, 1) := dk_28 (dk_at dksX3_signAt_1 2 rfl rfl)
theorem dX3_signAt_27 : decode cX3_signAt 27 = .ok (.if_icmp .ne 6, 3) := dk_160 0 6 (dk_at dksX3_signAt_1 3 rfl rfl)
theorem dX3_signAt_30 : decode cX3_signAt 30 = .ok (.bipush 42, 2) := dk_16 42 (dk_at dksX3_signAt_1 6 rfl rfl)
theorem dX3_signAt_32 : decode cX3_signAt 32 = .ok (.ireturn, 1) := dk_172 (dk_at dksX3_signAt_1 8 rfl rfl)
theorem dX3_signAt_33 : decode cX3_signAt 33 = .ok (.iload 4, 2) := dk_21 4 (dk_at dksX3_signAt_1 9 rfl rfl)
theorem dX3_signAt_35 : decode cX3_signAt 35 = .ok (.iload_n 2, 1) := dk_28 (dk_at dksX3_signAt_1 11 rfl rfl)
theorem dX3_signAt_36 : decode cX3_signAt 36 = .ok (.if_icmp .ne 23, 3) := dk_160 0 23 (dk_at dksX3_signAt_1 12 rfl rfl)
theorem dX3_signAt_39 : decode cX3_signAt 39 = .ok (.aload_n 0, 1) := dk_42 (dk_at dksX3_signAt_1 15 rfl rfl)
theorem dX3_signAt_40 : decode cX3_signAt 40 = .ok (.iconst 0, 1) := dk_3 (dk_at dksX3_signAt_1 16 rfl rfl)
theorem dX3_signAt_41 : decode cX3_signAt 41 = .ok (.iload_n 1, 1) := dk_27 (dk_at dksX3_signAt_1 17 rfl rfl)
theorem dX3_signAt_42 : decode cX3_signAt 42 = .ok (.iload_n 3, 1) := dk_29 (dk_at dksX3_signAt_1 18 rfl rfl)
theorem dX3_signAt_43 : decode cX3_signAt 43 = .ok (.invokevirtual 300, 3) := dk_182 1 44 (dk_at dksX3_signAt_1 19 rfl rfl)
theorem dX3_signAt_46 : decode cX3_signAt 46 = .ok (.bipush (-2), 2) := dk_16 254 (dk_at dksX3_signAt_1 22 rfl rfl)
theorem dX3_signAt_48 : decode cX3_signAt 48 = .ok (.if_icmp .ne 8, 3) := dk_160 0 8 (dk_at dksX3_signAt_2 0 rfl rfl)
theorem dX3_signAt_51 : decode cX3_signAt 51 = .ok (.bipush 111, 2) := dk_16 111 (dk_at dksX3_signAt_2 3 rfl rfl)
theorem dX3_signAt_53 : decode cX3_signAt 53 = .ok (.goto 5, 3) := dk_167 0 5 (dk_at dksX3_signAt_2 5 rfl rfl)
theorem dX3_signAt_56 : decode cX3_signAt 56 = .ok (.bipush 79, 2) := dk_16 79 (dk_at dksX3_signAt_2 8 rfl rfl)
theorem dX3_signAt_58 : decode cX3_signAt 58 = .ok (.ireturn, 1) := dk_172 (dk_at dksX3_signAt_2 10 rfl rfl)
theorem dX3_signAt_59 : decode cX3_signAt 59 = .ok (.iload 5, 2) := dk_21 5 (dk_at dksX3_signAt_2 11 rfl rfl)
theorem dX3_signAt_61 : decode cX3_signAt 61 = .ok (.iload_n 2, 1) := dk_28 (dk_at dksX3_signAt_2 13 rfl rfl)
theorem dX3_signAt_62 : decode cX3_signAt 62 = .ok (.if_icmp .ne 23, 3) := dk_160 0 23 (dk_at dksX3_signAt_2 14 rfl rfl)
theorem dX3_signAt_65 : decode cX3_signAt 65 = .ok (.aload_n 0, 1) := dk_42 (dk_at dksX3_signAt_2 17 rfl rfl)
theorem dX3_signAt_66 : decode cX3_signAt 66 = .ok (.iconst 1, 1) := dk_4 (dk_at dksX3_signAt_2 18 rfl rfl)
theorem dX3_signAt_67 : decode cX3_signAt 67 = .ok (.iload_n 1, 1) := dk_27 (dk_at dksX3_signAt_2 19 rfl rfl)
theorem dX3_signAt_68 : decode cX3_signAt 68 = .ok (.iload_n 3, 1) := dk_29 (dk_at dksX3_signAt_2 20 rfl rfl)
theorem dX3_signAt_69 : decode cX3_signAt 69 = .ok (.invokevirtual 300, 3) := dk_182 1 44 (dk_at dksX3_signAt_2 21 rfl rfl)
theorem dX3_signAt_72 : decode cX3_signAt 72 = .ok (.bipush (-2), 2) := dk_16 254 (dk_at dksX3_signAt_3 0 rfl rfl)
theorem dX3_signAt_74 : decode cX3_signAt 74 = .ok (.if_icmp .ne 8, 3) := dk_160 0 8 (dk_at dksX3_signAt_3 2 rfl rfl)
theorem dX3_signAt_77 : decode cX3_signAt 77 = .ok (.bipush 99, 2) := dk_16 99 (dk_at dksX3_signAt_3 5 rfl rfl)
theorem dX3_signAt_79 : decode cX3_signAt 79 = .ok (.goto 5, 3) := dk_167 0 5 (dk_at dksX3_signAt_3 7 rfl rfl)
theorem dX3_signAt_82 : decode cX3_signAt 82 = .ok (.bipush 67, 2) := dk_16 67 (dk_at dksX3_signAt_3 10 rfl rfl)
theorem dX3_signAt_84 : decode cX3_signAt 84 = .ok (.ireturn, 1) := dk_172 (dk_at dksX3_signAt_3 12 rfl rfl)
theorem dX3_signAt_85 : decode cX3_signAt 85 = .ok (.iload_n 2, 1) := dk_28 (dk_at dksX3_signAt_3 13 rfl rfl)
theorem dX3_signAt_86 : decode cX3_signAt 86 = .ok (.bipush 25, 2) := dk_16 25 (dk_at dksX3_signAt_3 14 rfl rfl)
theorem dX3_signAt_88 : decode cX3_signAt 88 = .ok (.if_icmp .ne 22, 3) := dk_160 0 22 (dk_at dksX3_signAt_3 16 rfl rfl)
theorem dX3_signAt_91 : decode cX3_signAt 91 = .ok (.iload 4, 2) := dk_21 4 (dk_at dksX3_signAt_3 19 rfl rfl)
theorem dX3_signAt_93 : decode cX3_signAt 93 = .ok (.bipush (-3), 2) := dk_16 253 (dk_at dksX3_signAt_3 21 rfl rfl)
theorem dX3_signAt_95 : decode cX3_signAt 95 = .ok (.if_icmp .eq 10, 3) := dk_159 0 10 (dk_at dksX3_signAt_4 0 rfl rfl)
theorem dX3_signAt_98 : decode cX3_signAt 98 = .ok (.iload 5, 2) := dk_21 5 (dk_at dksX3_signAt_4 3 rfl rfl)
theorem dX3_signAt_100 : decode cX3_signAt 100 = .ok (.bipush (-3), 2) := dk_16 253 (dk_at dksX3_signAt_4 5 rfl rfl)
theorem dX3_signAt_102 : decode cX3_signAt 102 = .ok (.if_icmp .ne 8, 3) := dk_160 0 8 (dk_at dksX3_signAt_4 7 rfl rfl)
theorem dX3_signAt_105 : decode cX3_signAt 105 = .ok (.bipush 63, 2) := dk_16 63 (dk_at dksX3_signAt_4 10 rfl rfl)
theorem dX3_signAt_107 : decode cX3_signAt 107 = .ok (.goto 5, 3) := dk_167 0 5 (dk_at dksX3_signAt_4 12 rfl rfl)
theorem dX3_signAt_110 : decode cX3_signAt 110 = .ok (.bipush 46, 2) := dk_16 46 (dk_at dksX3_signAt_4 15 rfl rfl)
theorem dX3_signAt_112 : decode cX3_signAt 112 = .ok (.ireturn, 1) := dk_172 (dk_at dksX3_signAt_4 17 rfl rfl)
abbrev cX3_mark : ByteArray := prog_14_method_105_code
def yX3_mark : MethodName := ⟨RX3, "mark", "()I"⟩
def dkwX3_mark_4 : List UInt8 := [132, 2, 1, 167, 255, 184, 27, 172]
abbrev dktX3_mark_4 : List UInt8 := dkwX3_mark_4 ++ []
def dkwX3_mark_3 : List UInt8 := [46, 182, 1, 47, 79, 27, 42, 180, 0, 38, 28, 46, 155, 0, 7, 4, 167, 0, 4, 3, 96, 60]
abbrev dktX3_mark_3 : List UInt8 := dkwX3_mark_3 ++ dktX3_mark_4
def dkwX3_mark_2 : List UInt8 := [3, 184, 0, 213, 46, 42, 180, 0, 23, 28, 4, 184, 0, 213, 46, 42, 180, 0, 23, 28, 5, 184, 0, 213]
abbrev dktX3_mark_2 : List UInt8 := dkwX3_mark_2 ++ dktX3_mark_3
def dkwX3_mark_1 : List UInt8 := [61, 28, 7, 42, 180, 0, 17, 3, 46, 104, 162, 0, 66, 42, 180, 0, 38, 28, 42, 42, 180, 0, 23, 28]
abbrev dktX3_mark_1 : List UInt8 := dkwX3_mark_1 ++ dktX3_mark_2
def dkwX3_mark_0 : List UInt8 := [42, 42, 180, 0, 168, 184, 0, 191, 182, 0, 156, 153, 0, 5, 2, 172, 42, 4, 181, 0, 171, 3, 60, 3]
abbrev dktX3_mark_0 : List UInt8 := dkwX3_mark_0 ++ dktX3_mark_1
theorem dksX3_mark_0 : cX3_mark.data.toList.drop 0 = dktX3_mark_0 := by decide +kernel
theorem dksX3_mark_1 : cX3_mark.data.toList.drop 24 = dktX3_mark_1 := dk_seg dksX3_mark_0 24 rfl rfl
theorem dksX3_mark_2 : cX3_mark.data.toList.drop 48 = dktX3_mark_2 := dk_seg dksX3_mark_1 24 rfl rfl
theorem dksX3_mark_3 : cX3_mark.data.toList.drop 72 = dktX3_mark_3 := dk_seg dksX3_mark_2 24 rfl rfl
theorem dksX3_mark_4 : cX3_mark.data.toList.drop 94 = dktX3_mark_4 := dk_seg dksX3_mark_3 22 rfl rfl
theorem dX3_mark_0 : decode cX3_mark 0 = .ok (.aload_n 0, 1) := dk_42 (dk_at dksX3_mark_0 0 rfl rfl)
theorem dX3_mark_1 : decode cX3_mark 1 = .ok (.aload_n 0, 1) := dk_42 (dk_at dksX3_mark_0 1 rfl rfl)
theorem dX3_mark_2 : decode cX3_mark 2 = .ok (.getfield 168, 3) := dk_180 0 168 (dk_at dksX3_mark_0 2 rfl rfl)
theorem dX3_mark_5 : decode cX3_mark 5 = .ok (.invokestatic 191, 3) := dk_184 0 191 (dk_at dksX3_mark_0 5 rfl rfl)
theorem dX3_mark_8 : decode cX3_mark 8 = .ok (.invokevirtual 156, 3) := dk_182 0 156 (dk_at dksX3_mark_0 8 rfl rfl)
theorem dX3_mark_11 : decode cX3_mark 11 = .ok (.ifCond .eq 5, 3) := dk_153 0 5 (dk_at dksX3_mark_0 11 rfl rfl)
theorem dX3_mark_14 : decode cX3_mark 14 = .ok (.iconst (-1), 1) := dk_2 (dk_at dksX3_mark_0 14 rfl rfl)
theorem dX3_mark_15 : decode cX3_mark 15 = .ok (.ireturn, 1) := dk_172 (dk_at dksX3_mark_0 15 rfl rfl)
theorem dX3_mark_16 : decode cX3_mark 16 = .ok (.aload_n 0, 1) := dk_42 (dk_at dksX3_mark_0 16 rfl rfl)
theorem dX3_mark_17 : decode cX3_mark 17 = .ok (.iconst 1, 1) := dk_4 (dk_at dksX3_mark_0 17 rfl rfl)
theorem dX3_mark_18 : decode cX3_mark 18 = .ok (.putfield 171, 3) := dk_181 0 171 (dk_at dksX3_mark_0 18 rfl rfl)
theorem dX3_mark_21 : decode cX3_mark 21 = .ok (.iconst 0, 1) := dk_3 (dk_at dksX3_mark_0 21 rfl rfl)
theorem dX3_mark_22 : decode cX3_mark 22 = .ok (.istore_n 1, 1) := dk_60 (dk_at dksX3_mark_0 22 rfl rfl)
theorem dX3_mark_23 : decode cX3_mark 23 = .ok (.iconst 0, 1) := dk_3 (dk_at dksX3_mark_0 23 rfl rfl)
theorem dX3_mark_24 : decode cX3_mark 24 = .ok (.istore_n 2, 1) := dk_61 (dk_at dksX3_mark_1 0 rfl rfl)
theorem dX3_mark_25 : decode cX3_mark 25 = .ok (.iload_n 2, 1) := dk_28 (dk_at dksX3_mark_1 1 rfl rfl)
theorem dX3_mark_26 : decode cX3_mark 26 = .ok (.iconst 4, 1) := dk_7 (dk_at dksX3_mark_1 2 rfl rfl)
theorem dX3_mark_27 : decode cX3_mark 27 = .ok (.aload_n 0, 1) := dk_42 (dk_at dksX3_mark_1 3 rfl rfl)
theorem dX3_mark_28 : decode cX3_mark 28 = .ok (.getfield 17, 3) := dk_180 0 17 (dk_at dksX3_mark_1 4 rfl rfl)
theorem dX3_mark_31 : decode cX3_mark 31 = .ok (.iconst 0, 1) := dk_3 (dk_at dksX3_mark_1 7 rfl rfl)
theorem dX3_mark_32 : decode cX3_mark 32 = .ok (.iaload, 1) := dk_46 (dk_at dksX3_mark_1 8 rfl rfl)
theorem dX3_mark_33 : decode cX3_mark 33 = .ok (.imul, 1) := dk_104 (dk_at dksX3_mark_1 9 rfl rfl)
theorem dX3_mark_34 : decode cX3_mark 34 = .ok (.if_icmp .ge 66, 3) := dk_162 0 66 (dk_at dksX3_mark_1 10 rfl rfl)
theorem dX3_mark_37 : decode cX3_mark 37 = .ok (.aload_n 0, 1) := dk_42 (dk_at dksX3_mark_1 13 rfl rfl)
theorem dX3_mark_38 : decode cX3_mark 38 = .ok (.getfield 38, 3) := dk_180 0 38 (dk_at dksX3_mark_1 14 rfl rfl)
theorem dX3_mark_41 : decode cX3_mark 41 = .ok (.iload_n 2, 1) := dk_28 (dk_at dksX3_mark_1 17 rfl rfl)
theorem dX3_mark_42 : decode cX3_mark 42 = .ok (.aload_n 0, 1) := dk_42 (dk_at dksX3_mark_1 18 rfl rfl)
theorem dX3_mark_43 : decode cX3_mark 43 = .ok (.aload_n 0, 1) := dk_42 (dk_at dksX3_mark_1 19 rfl rfl)
theorem dX3_mark_44 : decode cX3_mark 44 = .ok (.getfield 23, 3) := dk_180 0 23 (dk_at dksX3_mark_1 20 rfl rfl)
theorem dX3_mark_47 : decode cX3_mark 47 = .ok (.iload_n 2, 1) := dk_28 (dk_at dksX3_mark_1 23 rfl rfl)
theorem dX3_mark_48 : decode cX3_mark 48 = .ok (.iconst 0, 1) := dk_3 (dk_at dksX3_mark_2 0 rfl rfl)
theorem dX3_mark_49 : decode cX3_mark 49 = .ok (.invokestatic 213, 3) := dk_184 0 213 (dk_at dksX3_mark_2 1 rfl rfl)
theorem dX3_mark_52 : decode cX3_mark 52 = .ok (.iaload, 1) := dk_46 (dk_at dksX3_mark_2 4 rfl rfl)
theorem dX3_mark_53 : decode cX3_mark 53 = .ok (.aload_n 0, 1) := dk_42 (dk_at dksX3_mark_2 5 rfl rfl)
theorem dX3_mark_54 : decode cX3_mark 54 = .ok (.getfield 23, 3) := dk_180 0 23 (dk_at dksX3_mark_2 6 rfl rfl)
theorem dX3_mark_57 : decode cX3_mark 57 = .ok (.iload_n 2, 1) := dk_28 (dk_at dksX3_mark_2 9 rfl rfl)
theorem dX3_mark_58 : decode cX3_mark 58 = .ok (.iconst 1, 1) := dk_4 (dk_at dksX3_mark_2 10 rfl rfl)
theorem dX3_mark_59 : decode cX3_mark 59 = .ok (.invokestatic 213, 3) := dk_184 0 213 (dk_at dksX3_mark_2 11 rfl rfl)
theorem dX3_mark_62 : decode cX3_mark 62 = .ok (.iaload, 1) := dk_46 (dk_at dksX3_mark_2 14 rfl rfl)
theorem dX3_mark_63 : decode cX3_mark 63 = .ok (.aload_n 0, 1) := dk_42 (dk_at dksX3_mark_2 15 rfl rfl)
theorem dX3_mark_64 : decode cX3_mark 64 = .ok (.getfield 23, 3) := dk_180 0 23 (dk_at dksX3_mark_2 16 rfl rfl)
theorem dX3_mark_67 : decode cX3_mark 67 = .ok (.iload_n 2, 1) := dk_28 (dk_at dksX3_mark_2 19 rfl rfl)
theorem dX3_mark_68 : decode cX3_mark 68 = .ok (.iconst 2, 1) := dk_5 (dk_at dksX3_mark_2 20 rfl rfl)
theorem dX3_mark_69 : decode cX3_mark 69 = .ok (.invokestatic 213, 3) := dk_184 0 213 (dk_at dksX3_mark_2 21 rfl rfl)
theorem dX3_mark_72 : decode cX3_mark 72 = .ok (.iaload, 1) := dk_46 (dk_at dksX3_mark_3 0 rfl rfl)
theorem dX3_mark_73 : decode cX3_mark 73 = .ok (.invokevirtual 303, 3) := dk_182 1 47 (dk_at dksX3_mark_3 1 rfl rfl)
theorem dX3_mark_76 : decode cX3_mark 76 = .ok (.iastore, 1) := dk_79 (dk_at dksX3_mark_3 4 rfl rfl)
theorem dX3_mark_77 : decode cX3_mark 77 = .ok (.iload_n 1, 1) := dk_27 (dk_at dksX3_mark_3 5 rfl rfl)
theorem dX3_mark_78 : decode cX3_mark 78 = .ok (.aload_n 0, 1) := dk_42 (dk_at dksX3_mark_3 6 rfl rfl)
theorem dX3_mark_79 : decode cX3_mark 79 = .ok (.getfield 38, 3) := dk_180 0 38 (dk_at dksX3_mark_3 7 rfl rfl)
theorem dX3_mark_82 : decode cX3_mark 82 = .ok (.iload_n 2, 1) := dk_28 (dk_at dksX3_mark_3 10 rfl rfl)
theorem dX3_mark_83 : decode cX3_mark 83 = .ok (.iaload, 1) := dk_46 (dk_at dksX3_mark_3 11 rfl rfl)
theorem dX3_mark_84 : decode cX3_mark 84 = .ok (.ifCond .lt 7, 3) := dk_155 0 7 (dk_at dksX3_mark_3 12 rfl rfl)
theorem dX3_mark_87 : decode cX3_mark 87 = .ok (.iconst 1, 1) := dk_4 (dk_at dksX3_mark_3 15 rfl rfl)
theorem dX3_mark_88 : decode cX3_mark 88 = .ok (.goto 4, 3) := dk_167 0 4 (dk_at dksX3_mark_3 16 rfl rfl)
theorem dX3_mark_91 : decode cX3_mark 91 = .ok (.iconst 0, 1) := dk_3 (dk_at dksX3_mark_3 19 rfl rfl)
theorem dX3_mark_92 : decode cX3_mark 92 = .ok (.iadd, 1) := dk_96 (dk_at dksX3_mark_3 20 rfl rfl)
theorem dX3_mark_93 : decode cX3_mark 93 = .ok (.istore_n 1, 1) := dk_60 (dk_at dksX3_mark_3 21 rfl rfl)
theorem dX3_mark_94 : decode cX3_mark 94 = .ok (.iinc 2 1, 3) := dk_132 2 1 (dk_at dksX3_mark_4 0 rfl rfl)
theorem dX3_mark_97 : decode cX3_mark 97 = .ok (.goto (-72), 3) := dk_167 255 184 (dk_at dksX3_mark_4 3 rfl rfl)
theorem dX3_mark_100 : decode cX3_mark 100 = .ok (.iload_n 1, 1) := dk_27 (dk_at dksX3_mark_4 6 rfl rfl)
theorem dX3_mark_101 : decode cX3_mark 101 = .ok (.ireturn, 1) := dk_172 (dk_at dksX3_mark_4 7 rfl rfl)
abbrev cX3_shift : ByteArray := prog_14_method_107_code
def yX3_shift : MethodName := ⟨RX3, "shift", "(III)I"⟩
def dkwX3_shift_1 : List UInt8 := [29, 182, 1, 77, 172]
abbrev dktX3_shift_1 : List UInt8 := dkwX3_shift_1 ++ []
def dkwX3_shift_0 : List UInt8 := [42, 42, 27, 28, 29, 182, 0, 188, 184, 0, 191, 182, 0, 156, 153, 0, 7, 2, 167, 0, 10, 42, 27, 28]
abbrev dktX3_shift_0 : List UInt8 := dkwX3_shift_0 ++ dktX3_shift_1
theorem dksX3_shift_0 : cX3_shift.data.toList.drop 0 = dktX3_shift_0 := by decide +kernel
theorem dksX3_shift_1 : cX3_shift.data.toList.drop 24 = dktX3_shift_1 := dk_seg dksX3_shift_0 24 rfl rfl
theorem dX3_shift_0 : decode cX3_shift 0 = .ok (.aload_n 0, 1) := dk_42 (dk_at dksX3_shift_0 0 rfl rfl)
theorem dX3_shift_1 : decode cX3_shift 1 = .ok (.aload_n 0, 1) := dk_42 (dk_at dksX3_shift_0 1 rfl rfl)
theorem dX3_shift_2 : decode cX3_shift 2 = .ok (.iload_n 1, 1) := dk_27 (dk_at dksX3_shift_0 2 rfl rfl)
theorem dX3_shift_3 : decode cX3_shift 3 = .ok (.iload_n 2, 1) := dk_28 (dk_at dksX3_shift_0 3 rfl rfl)
theorem dX3_shift_4 : decode cX3_shift 4 = .ok (.iload_n 3, 1) := dk_29 (dk_at dksX3_shift_0 4 rfl rfl)
theorem dX3_shift_5 : decode cX3_shift 5 = .ok (.invokevirtual 188, 3) := dk_182 0 188 (dk_at dksX3_shift_0 5 rfl rfl)
theorem dX3_shift_8 : decode cX3_shift 8 = .ok (.invokestatic 191, 3) := dk_184 0 191 (dk_at dksX3_shift_0 8 rfl rfl)
theorem dX3_shift_11 : decode cX3_shift 11 = .ok (.invokevirtual 156, 3) := dk_182 0 156 (dk_at dksX3_shift_0 11 rfl rfl)
theorem dX3_shift_14 : decode cX3_shift 14 = .ok (.ifCond .eq 7, 3) := dk_153 0 7 (dk_at dksX3_shift_0 14 rfl rfl)
theorem dX3_shift_17 : decode cX3_shift 17 = .ok (.iconst (-1), 1) := dk_2 (dk_at dksX3_shift_0 17 rfl rfl)
theorem dX3_shift_18 : decode cX3_shift 18 = .ok (.goto 10, 3) := dk_167 0 10 (dk_at dksX3_shift_0 18 rfl rfl)
theorem dX3_shift_21 : decode cX3_shift 21 = .ok (.aload_n 0, 1) := dk_42 (dk_at dksX3_shift_0 21 rfl rfl)
theorem dX3_shift_22 : decode cX3_shift 22 = .ok (.iload_n 1, 1) := dk_27 (dk_at dksX3_shift_0 22 rfl rfl)
theorem dX3_shift_23 : decode cX3_shift 23 = .ok (.iload_n 2, 1) := dk_28 (dk_at dksX3_shift_0 23 rfl rfl)
theorem dX3_shift_24 : decode cX3_shift 24 = .ok (.iload_n 3, 1) := dk_29 (dk_at dksX3_shift_1 0 rfl rfl)
theorem dX3_shift_25 : decode cX3_shift 25 = .ok (.invokevirtual 333, 3) := dk_182 1 77 (dk_at dksX3_shift_1 1 rfl rfl)
theorem dX3_shift_28 : decode cX3_shift 28 = .ok (.ireturn, 1) := dk_172 (dk_at dksX3_shift_1 4 rfl rfl)
abbrev cX3_shiftOf : ByteArray := prog_14_method_106_code
def yX3_shiftOf : MethodName := ⟨RX3, "shiftOf", "(III)I"⟩
def dkwX3_shiftOf_2 : List UInt8 := [167, 0, 11, 16, 100, 21, 4, 96, 21, 5, 100, 172]
abbrev dktX3_shiftOf_2 : List UInt8 := dkwX3_shiftOf_2 ++ []
def dkwX3_shiftOf_1 : List UInt8 := [182, 0, 226, 46, 167, 0, 5, 16, 254, 54, 5, 21, 4, 155, 0, 8, 21, 5, 156, 0, 8, 16, 254]
abbrev dktX3_shiftOf_1 : List UInt8 := dkwX3_shiftOf_1 ++ dktX3_shiftOf_2
def dkwX3_shiftOf_0 : List UInt8 := [42, 27, 28, 29, 182, 1, 47, 54, 4, 42, 180, 0, 171, 153, 0, 18, 42, 180, 0, 38, 42, 27, 28, 29]
abbrev dktX3_shiftOf_0 : List UInt8 := dkwX3_shiftOf_0 ++ dktX3_shiftOf_1
theorem dksX3_shiftOf_0 : cX3_shiftOf.data.toList.drop 0 = dktX3_shiftOf_0 := by decide +kernel
theorem dksX3_shiftOf_1 : cX3_shiftOf.data.toList.drop 24 = dktX3_shiftOf_1 := dk_seg dksX3_shiftOf_0 24 rfl rfl
theorem dksX3_shiftOf_2 : cX3_shiftOf.data.toList.drop 47 = dktX3_shiftOf_2 := dk_seg dksX3_shiftOf_1 23 rfl rfl
theorem dX3_shiftOf_0 : decode cX3_shiftOf 0 = .ok (.aload_n 0, 1) := dk_42 (dk_at dksX3_shiftOf_0 0 rfl rfl)
theorem dX3_shiftOf_1 : decode cX3_shiftOf 1 = .ok (.iload_n 1, 1) := dk_27 (dk_at dksX3_shiftOf_0 1 rfl rfl)
theorem dX3_shiftOf_2 : decode cX3_shiftOf 2 = .ok (.iload_n 2, 1) := dk_28 (dk_at dksX3_shiftOf_0 2 rfl rfl)
theorem dX3_shiftOf_3 : decode cX3_shiftOf 3 = .ok (.iload_n 3, 1) := dk_29 (dk_at dksX3_shiftOf_0 3 rfl rfl)
theorem dX3_shiftOf_4 : decode cX3_shiftOf 4 = .ok (.invokevirtual 303, 3) := dk_182 1 47 (dk_at dksX3_shiftOf_0 4 rfl rfl)
theorem dX3_shiftOf_7 : decode cX3_shiftOf 7 = .ok (.istore 4, 2) := dk_54 4 (dk_at dksX3_shiftOf_0 7 rfl rfl)
theorem dX3_shiftOf_9 : decode cX3_shiftOf 9 = .ok (.aload_n 0, 1) := dk_42 (dk_at dksX3_shiftOf_0 9 rfl rfl)
theorem dX3_shiftOf_10 : decode cX3_shiftOf 10 = .ok (.getfield 171, 3) := dk_180 0 171 (dk_at dksX3_shiftOf_0 10 rfl rfl)
theorem dX3_shiftOf_13 : decode cX3_shiftOf 13 = .ok (.ifCond .eq 18, 3) := dk_153 0 18 (dk_at dksX3_shiftOf_0 13 rfl rfl)
theorem dX3_shiftOf_16 : decode cX3_shiftOf 16 = .ok (.aload_n 0, 1) := dk_42 (dk_at dksX3_shiftOf_0 16 rfl rfl)
theorem dX3_shiftOf_17 : decode cX3_shiftOf 17 = .ok (.getfield 38, 3) := dk_180 0 38 (dk_at dksX3_shiftOf_0 17 rfl rfl)
theorem dX3_shiftOf_20 : decode cX3_shiftOf 20 = .ok (.aload_n 0, 1) := dk_42 (dk_at dksX3_shiftOf_0 20 rfl rfl)
theorem dX3_shiftOf_21 : decode cX3_shiftOf 21 = .ok (.iload_n 1, 1) := dk_27 (dk_at dksX3_shiftOf_0 21 rfl rfl)
theorem dX3_shiftOf_22 : decode cX3_shiftOf 22 = .ok (.iload_n 2, 1) := dk_28 (dk_at dksX3_shiftOf_0 22 rfl rfl)
theorem dX3_shiftOf_23 : decode cX3_shiftOf 23 = .ok (.iload_n 3, 1) := dk_29 (dk_at dksX3_shiftOf_0 23 rfl rfl)
theorem dX3_shiftOf_24 : decode cX3_shiftOf 24 = .ok (.invokevirtual 226, 3) := dk_182 0 226 (dk_at dksX3_shiftOf_1 0 rfl rfl)
theorem dX3_shiftOf_27 : decode cX3_shiftOf 27 = .ok (.iaload, 1) := dk_46 (dk_at dksX3_shiftOf_1 3 rfl rfl)
theorem dX3_shiftOf_28 : decode cX3_shiftOf 28 = .ok (.goto 5, 3) := dk_167 0 5 (dk_at dksX3_shiftOf_1 4 rfl rfl)
theorem dX3_shiftOf_31 : decode cX3_shiftOf 31 = .ok (.bipush (-2), 2) := dk_16 254 (dk_at dksX3_shiftOf_1 7 rfl rfl)
theorem dX3_shiftOf_33 : decode cX3_shiftOf 33 = .ok (.istore 5, 2) := dk_54 5 (dk_at dksX3_shiftOf_1 9 rfl rfl)
theorem dX3_shiftOf_35 : decode cX3_shiftOf 35 = .ok (.iload 4, 2) := dk_21 4 (dk_at dksX3_shiftOf_1 11 rfl rfl)
theorem dX3_shiftOf_37 : decode cX3_shiftOf 37 = .ok (.ifCond .lt 8, 3) := dk_155 0 8 (dk_at dksX3_shiftOf_1 13 rfl rfl)
theorem dX3_shiftOf_40 : decode cX3_shiftOf 40 = .ok (.iload 5, 2) := dk_21 5 (dk_at dksX3_shiftOf_1 16 rfl rfl)
theorem dX3_shiftOf_42 : decode cX3_shiftOf 42 = .ok (.ifCond .ge 8, 3) := dk_156 0 8 (dk_at dksX3_shiftOf_1 18 rfl rfl)
theorem dX3_shiftOf_45 : decode cX3_shiftOf 45 = .ok (.bipush (-2), 2) := dk_16 254 (dk_at dksX3_shiftOf_1 21 rfl rfl)
theorem dX3_shiftOf_47 : decode cX3_shiftOf 47 = .ok (.goto 11, 3) := dk_167 0 11 (dk_at dksX3_shiftOf_2 0 rfl rfl)
theorem dX3_shiftOf_50 : decode cX3_shiftOf 50 = .ok (.bipush 100, 2) := dk_16 100 (dk_at dksX3_shiftOf_2 3 rfl rfl)
theorem dX3_shiftOf_52 : decode cX3_shiftOf 52 = .ok (.iload 4, 2) := dk_21 4 (dk_at dksX3_shiftOf_2 5 rfl rfl)
theorem dX3_shiftOf_54 : decode cX3_shiftOf 54 = .ok (.iadd, 1) := dk_96 (dk_at dksX3_shiftOf_2 7 rfl rfl)
theorem dX3_shiftOf_55 : decode cX3_shiftOf 55 = .ok (.iload 5, 2) := dk_21 5 (dk_at dksX3_shiftOf_2 8 rfl rfl)
theorem dX3_shiftOf_57 : decode cX3_shiftOf 57 = .ok (.isub, 1) := dk_100 (dk_at dksX3_shiftOf_2 10 rfl rfl)
theorem dX3_shiftOf_58 : decode cX3_shiftOf 58 = .ok (.ireturn, 1) := dk_172 (dk_at dksX3_shiftOf_2 11 rfl rfl)
abbrev cX3_worsened : ByteArray := prog_14_method_108_code
def yX3_worsened : MethodName := ⟨RX3, "worsened", "(II)I"⟩
def dkwX3_worsened_3 : List UInt8 := [167, 255, 216, 29, 172]
abbrev dktX3_worsened_3 : List UInt8 := dkwX3_worsened_3 ++ []
def dkwX3_worsened_2 : List UInt8 := [182, 1, 77, 16, 100, 28, 96, 161, 0, 10, 4, 21, 4, 120, 167, 0, 4, 3, 128, 62, 132, 4, 1]
abbrev dktX3_worsened_2 : List UInt8 := dkwX3_worsened_2 ++ dktX3_worsened_3
def dkwX3_worsened_1 : List UInt8 := [2, 172, 3, 62, 3, 54, 4, 21, 4, 42, 180, 0, 17, 3, 46, 162, 0, 35, 29, 42, 3, 27, 21, 4]
abbrev dktX3_worsened_1 : List UInt8 := dkwX3_worsened_1 ++ dktX3_worsened_2
def dkwX3_worsened_0 : List UInt8 := [42, 42, 3, 27, 3, 182, 0, 188, 28, 4, 16, 25, 184, 0, 70, 184, 0, 195, 182, 0, 156, 153, 0, 5]
abbrev dktX3_worsened_0 : List UInt8 := dkwX3_worsened_0 ++ dktX3_worsened_1
theorem dksX3_worsened_0 : cX3_worsened.data.toList.drop 0 = dktX3_worsened_0 := by decide +kernel
theorem dksX3_worsened_1 : cX3_worsened.data.toList.drop 24 = dktX3_worsened_1 := dk_seg dksX3_worsened_0 24 rfl rfl
theorem dksX3_worsened_2 : cX3_worsened.data.toList.drop 48 = dktX3_worsened_2 := dk_seg dksX3_worsened_1 24 rfl rfl
theorem dksX3_worsened_3 : cX3_worsened.data.toList.drop 71 = dktX3_worsened_3 := dk_seg dksX3_worsened_2 23 rfl rfl
theorem dX3_worsened_0 : decode cX3_worsened 0 = .ok (.aload_n 0, 1) := dk_42 (dk_at dksX3_worsened_0 0 rfl rfl)
theorem dX3_worsened_1 : decode cX3_worsened 1 = .ok (.aload_n 0, 1) := dk_42 (dk_at dksX3_worsened_0 1 rfl rfl)
theorem dX3_worsened_2 : decode cX3_worsened 2 = .ok (.iconst 0, 1) := dk_3 (dk_at dksX3_worsened_0 2 rfl rfl)
theorem dX3_worsened_3 : decode cX3_worsened 3 = .ok (.iload_n 1, 1) := dk_27 (dk_at dksX3_worsened_0 3 rfl rfl)
theorem dX3_worsened_4 : decode cX3_worsened 4 = .ok (.iconst 0, 1) := dk_3 (dk_at dksX3_worsened_0 4 rfl rfl)
theorem dX3_worsened_5 : decode cX3_worsened 5 = .ok (.invokevirtual 188, 3) := dk_182 0 188 (dk_at dksX3_worsened_0 5 rfl rfl)
theorem dX3_worsened_8 : decode cX3_worsened 8 = .ok (.iload_n 2, 1) := dk_28 (dk_at dksX3_worsened_0 8 rfl rfl)
theorem dX3_worsened_9 : decode cX3_worsened 9 = .ok (.iconst 1, 1) := dk_4 (dk_at dksX3_worsened_0 9 rfl rfl)
theorem dX3_worsened_10 : decode cX3_worsened 10 = .ok (.bipush 25, 2) := dk_16 25 (dk_at dksX3_worsened_0 10 rfl rfl)
theorem dX3_worsened_12 : decode cX3_worsened 12 = .ok (.invokestatic 70, 3) := dk_184 0 70 (dk_at dksX3_worsened_0 12 rfl rfl)
theorem dX3_worsened_15 : decode cX3_worsened 15 = .ok (.invokestatic 195, 3) := dk_184 0 195 (dk_at dksX3_worsened_0 15 rfl rfl)
theorem dX3_worsened_18 : decode cX3_worsened 18 = .ok (.invokevirtual 156, 3) := dk_182 0 156 (dk_at dksX3_worsened_0 18 rfl rfl)
theorem dX3_worsened_21 : decode cX3_worsened 21 = .ok (.ifCond .eq 5, 3) := dk_153 0 5 (dk_at dksX3_worsened_0 21 rfl rfl)
theorem dX3_worsened_24 : decode cX3_worsened 24 = .ok (.iconst (-1), 1) := dk_2 (dk_at dksX3_worsened_1 0 rfl rfl)
theorem dX3_worsened_25 : decode cX3_worsened 25 = .ok (.ireturn, 1) := dk_172 (dk_at dksX3_worsened_1 1 rfl rfl)
theorem dX3_worsened_26 : decode cX3_worsened 26 = .ok (.iconst 0, 1) := dk_3 (dk_at dksX3_worsened_1 2 rfl rfl)
theorem dX3_worsened_27 : decode cX3_worsened 27 = .ok (.istore_n 3, 1) := dk_62 (dk_at dksX3_worsened_1 3 rfl rfl)
theorem dX3_worsened_28 : decode cX3_worsened 28 = .ok (.iconst 0, 1) := dk_3 (dk_at dksX3_worsened_1 4 rfl rfl)
theorem dX3_worsened_29 : decode cX3_worsened 29 = .ok (.istore 4, 2) := dk_54 4 (dk_at dksX3_worsened_1 5 rfl rfl)
theorem dX3_worsened_31 : decode cX3_worsened 31 = .ok (.iload 4, 2) := dk_21 4 (dk_at dksX3_worsened_1 7 rfl rfl)
theorem dX3_worsened_33 : decode cX3_worsened 33 = .ok (.aload_n 0, 1) := dk_42 (dk_at dksX3_worsened_1 9 rfl rfl)
theorem dX3_worsened_34 : decode cX3_worsened 34 = .ok (.getfield 17, 3) := dk_180 0 17 (dk_at dksX3_worsened_1 10 rfl rfl)
theorem dX3_worsened_37 : decode cX3_worsened 37 = .ok (.iconst 0, 1) := dk_3 (dk_at dksX3_worsened_1 13 rfl rfl)
theorem dX3_worsened_38 : decode cX3_worsened 38 = .ok (.iaload, 1) := dk_46 (dk_at dksX3_worsened_1 14 rfl rfl)
theorem dX3_worsened_39 : decode cX3_worsened 39 = .ok (.if_icmp .ge 35, 3) := dk_162 0 35 (dk_at dksX3_worsened_1 15 rfl rfl)
theorem dX3_worsened_42 : decode cX3_worsened 42 = .ok (.iload_n 3, 1) := dk_29 (dk_at dksX3_worsened_1 18 rfl rfl)
theorem dX3_worsened_43 : decode cX3_worsened 43 = .ok (.aload_n 0, 1) := dk_42 (dk_at dksX3_worsened_1 19 rfl rfl)
theorem dX3_worsened_44 : decode cX3_worsened 44 = .ok (.iconst 0, 1) := dk_3 (dk_at dksX3_worsened_1 20 rfl rfl)
theorem dX3_worsened_45 : decode cX3_worsened 45 = .ok (.iload_n 1, 1) := dk_27 (dk_at dksX3_worsened_1 21 rfl rfl)
theorem dX3_worsened_46 : decode cX3_worsened 46 = .ok (.iload 4, 2) := dk_21 4 (dk_at dksX3_worsened_1 22 rfl rfl)
theorem dX3_worsened_48 : decode cX3_worsened 48 = .ok (.invokevirtual 333, 3) := dk_182 1 77 (dk_at dksX3_worsened_2 0 rfl rfl)
theorem dX3_worsened_51 : decode cX3_worsened 51 = .ok (.bipush 100, 2) := dk_16 100 (dk_at dksX3_worsened_2 3 rfl rfl)
theorem dX3_worsened_53 : decode cX3_worsened 53 = .ok (.iload_n 2, 1) := dk_28 (dk_at dksX3_worsened_2 5 rfl rfl)
theorem dX3_worsened_54 : decode cX3_worsened 54 = .ok (.iadd, 1) := dk_96 (dk_at dksX3_worsened_2 6 rfl rfl)
theorem dX3_worsened_55 : decode cX3_worsened 55 = .ok (.if_icmp .lt 10, 3) := dk_161 0 10 (dk_at dksX3_worsened_2 7 rfl rfl)
theorem dX3_worsened_58 : decode cX3_worsened 58 = .ok (.iconst 1, 1) := dk_4 (dk_at dksX3_worsened_2 10 rfl rfl)
theorem dX3_worsened_59 : decode cX3_worsened 59 = .ok (.iload 4, 2) := dk_21 4 (dk_at dksX3_worsened_2 11 rfl rfl)
theorem dX3_worsened_61 : decode cX3_worsened 61 = .ok (.ishl, 1) := dk_120 (dk_at dksX3_worsened_2 13 rfl rfl)
theorem dX3_worsened_62 : decode cX3_worsened 62 = .ok (.goto 4, 3) := dk_167 0 4 (dk_at dksX3_worsened_2 14 rfl rfl)
theorem dX3_worsened_65 : decode cX3_worsened 65 = .ok (.iconst 0, 1) := dk_3 (dk_at dksX3_worsened_2 17 rfl rfl)
theorem dX3_worsened_66 : decode cX3_worsened 66 = .ok (.ior, 1) := dk_128 (dk_at dksX3_worsened_2 18 rfl rfl)
theorem dX3_worsened_67 : decode cX3_worsened 67 = .ok (.istore_n 3, 1) := dk_62 (dk_at dksX3_worsened_2 19 rfl rfl)
theorem dX3_worsened_68 : decode cX3_worsened 68 = .ok (.iinc 4 1, 3) := dk_132 4 1 (dk_at dksX3_worsened_2 20 rfl rfl)
theorem dX3_worsened_71 : decode cX3_worsened 71 = .ok (.goto (-40), 3) := dk_167 255 216 (dk_at dksX3_worsened_3 0 rfl rfl)
theorem dX3_worsened_74 : decode cX3_worsened 74 = .ok (.iload_n 3, 1) := dk_29 (dk_at dksX3_worsened_3 3 rfl rfl)
theorem dX3_worsened_75 : decode cX3_worsened 75 = .ok (.ireturn, 1) := dk_172 (dk_at dksX3_worsened_3 4 rfl rfl)
abbrev cX3_steepest : ByteArray := prog_14_method_109_code
def yX3_steepest : MethodName := ⟨RX3, "steepest", "(I)I"⟩
def dkwX3_steepest_4 : List UInt8 := [167, 0, 4, 29, 62, 132, 4, 1, 167, 255, 193, 29, 172]
abbrev dktX3_steepest_4 : List UInt8 := dkwX3_steepest_4 ++ []
def dkwX3_steepest_3 : List UInt8 := [21, 5, 156, 0, 9, 21, 5, 116, 167, 0, 5, 21, 5, 54, 5, 21, 5, 29, 164, 0, 8, 21, 5]
abbrev dktX3_steepest_3 : List UInt8 := dkwX3_steepest_3 ++ dktX3_steepest_4
def dkwX3_steepest_2 : List UInt8 := [162, 0, 58, 42, 3, 27, 21, 4, 182, 1, 47, 42, 3, 27, 21, 4, 4, 100, 182, 1, 47, 100, 54, 5]
abbrev dktX3_steepest_2 : List UInt8 := dkwX3_steepest_2 ++ dktX3_steepest_3
def dkwX3_steepest_1 : List UInt8 := [182, 1, 71, 61, 28, 156, 0, 5, 28, 172, 3, 62, 4, 54, 4, 21, 4, 42, 180, 0, 17, 3, 46]
abbrev dktX3_steepest_1 : List UInt8 := dkwX3_steepest_1 ++ dktX3_steepest_2
def dkwX3_steepest_0 : List UInt8 := [42, 42, 3, 27, 3, 182, 0, 188, 184, 0, 191, 182, 0, 156, 153, 0, 5, 2, 172, 42, 3, 27]
abbrev dktX3_steepest_0 : List UInt8 := dkwX3_steepest_0 ++ dktX3_steepest_1
theorem dksX3_steepest_0 : cX3_steepest.data.toList.drop 0 = dktX3_steepest_0 := by decide +kernel
theorem dksX3_steepest_1 : cX3_steepest.data.toList.drop 22 = dktX3_steepest_1 := dk_seg dksX3_steepest_0 22 rfl rfl
theorem dksX3_steepest_2 : cX3_steepest.data.toList.drop 45 = dktX3_steepest_2 := dk_seg dksX3_steepest_1 23 rfl rfl
theorem dksX3_steepest_3 : cX3_steepest.data.toList.drop 69 = dktX3_steepest_3 := dk_seg dksX3_steepest_2 24 rfl rfl
theorem dksX3_steepest_4 : cX3_steepest.data.toList.drop 92 = dktX3_steepest_4 := dk_seg dksX3_steepest_3 23 rfl rfl
theorem dX3_steepest_0 : decode cX3_steepest 0 = .ok (.aload_n 0, 1) := dk_42 (dk_at dksX3_steepest_0 0 rfl rfl)
theorem dX3_steepest_1 : decode cX3_steepest 1 = .ok (.aload_n 0, 1) := dk_42 (dk_at dksX3_steepest_0 1 rfl rfl)
theorem dX3_steepest_2 : decode cX3_steepest 2 = .ok (.iconst 0, 1) := dk_3 (dk_at dksX3_steepest_0 2 rfl rfl)
theorem dX3_steepest_3 : decode cX3_steepest 3 = .ok (.iload_n 1, 1) := dk_27 (dk_at dksX3_steepest_0 3 rfl rfl)
theorem dX3_steepest_4 : decode cX3_steepest 4 = .ok (.iconst 0, 1) := dk_3 (dk_at dksX3_steepest_0 4 rfl rfl)
theorem dX3_steepest_5 : decode cX3_steepest 5 = .ok (.invokevirtual 188, 3) := dk_182 0 188 (dk_at dksX3_steepest_0 5 rfl rfl)
theorem dX3_steepest_8 : decode cX3_steepest 8 = .ok (.invokestatic 191, 3) := dk_184 0 191 (dk_at dksX3_steepest_0 8 rfl rfl)
theorem dX3_steepest_11 : decode cX3_steepest 11 = .ok (.invokevirtual 156, 3) := dk_182 0 156 (dk_at dksX3_steepest_0 11 rfl rfl)
theorem dX3_steepest_14 : decode cX3_steepest 14 = .ok (.ifCond .eq 5, 3) := dk_153 0 5 (dk_at dksX3_steepest_0 14 rfl rfl)
theorem dX3_steepest_17 : decode cX3_steepest 17 = .ok (.iconst (-1), 1) := dk_2 (dk_at dksX3_steepest_0 17 rfl rfl)
theorem dX3_steepest_18 : decode cX3_steepest 18 = .ok (.ireturn, 1) := dk_172 (dk_at dksX3_steepest_0 18 rfl rfl)
theorem dX3_steepest_19 : decode cX3_steepest 19 = .ok (.aload_n 0, 1) := dk_42 (dk_at dksX3_steepest_0 19 rfl rfl)
theorem dX3_steepest_20 : decode cX3_steepest 20 = .ok (.iconst 0, 1) := dk_3 (dk_at dksX3_steepest_0 20 rfl rfl)
theorem dX3_steepest_21 : decode cX3_steepest 21 = .ok (.iload_n 1, 1) := dk_27 (dk_at dksX3_steepest_0 21 rfl rfl)
theorem dX3_steepest_22 : decode cX3_steepest 22 = .ok (.invokevirtual 327, 3) := dk_182 1 71 (dk_at dksX3_steepest_1 0 rfl rfl)
theorem dX3_steepest_25 : decode cX3_steepest 25 = .ok (.istore_n 2, 1) := dk_61 (dk_at dksX3_steepest_1 3 rfl rfl)
theorem dX3_steepest_26 : decode cX3_steepest 26 = .ok (.iload_n 2, 1) := dk_28 (dk_at dksX3_steepest_1 4 rfl rfl)
theorem dX3_steepest_27 : decode cX3_steepest 27 = .ok (.ifCond .ge 5, 3) := dk_156 0 5 (dk_at dksX3_steepest_1 5 rfl rfl)
theorem dX3_steepest_30 : decode cX3_steepest 30 = .ok (.iload_n 2, 1) := dk_28 (dk_at dksX3_steepest_1 8 rfl rfl)
theorem dX3_steepest_31 : decode cX3_steepest 31 = .ok (.ireturn, 1) := dk_172 (dk_at dksX3_steepest_1 9 rfl rfl)
theorem dX3_steepest_32 : decode cX3_steepest 32 = .ok (.iconst 0, 1) := dk_3 (dk_at dksX3_steepest_1 10 rfl rfl)
theorem dX3_steepest_33 : decode cX3_steepest 33 = .ok (.istore_n 3, 1) := dk_62 (dk_at dksX3_steepest_1 11 rfl rfl)
theorem dX3_steepest_34 : decode cX3_steepest 34 = .ok (.iconst 1, 1) := dk_4 (dk_at dksX3_steepest_1 12 rfl rfl)
theorem dX3_steepest_35 : decode cX3_steepest 35 = .ok (.istore 4, 2) := dk_54 4 (dk_at dksX3_steepest_1 13 rfl rfl)
theorem dX3_steepest_37 : decode cX3_steepest 37 = .ok (.iload 4, 2) := dk_21 4 (dk_at dksX3_steepest_1 15 rfl rfl)
theorem dX3_steepest_39 : decode cX3_steepest 39 = .ok (.aload_n 0, 1) := dk_42 (dk_at dksX3_steepest_1 17 rfl rfl)
theorem dX3_steepest_40 : decode cX3_steepest 40 = .ok (.getfield 17, 3) := dk_180 0 17 (dk_at dksX3_steepest_1 18 rfl rfl)
theorem dX3_steepest_43 : decode cX3_steepest 43 = .ok (.iconst 0, 1) := dk_3 (dk_at dksX3_steepest_1 21 rfl rfl)
theorem dX3_steepest_44 : decode cX3_steepest 44 = .ok (.iaload, 1) := dk_46 (dk_at dksX3_steepest_1 22 rfl rfl)
theorem dX3_steepest_45 : decode cX3_steepest 45 = .ok (.if_icmp .ge 58, 3) := dk_162 0 58 (dk_at dksX3_steepest_2 0 rfl rfl)
theorem dX3_steepest_48 : decode cX3_steepest 48 = .ok (.aload_n 0, 1) := dk_42 (dk_at dksX3_steepest_2 3 rfl rfl)
theorem dX3_steepest_49 : decode cX3_steepest 49 = .ok (.iconst 0, 1) := dk_3 (dk_at dksX3_steepest_2 4 rfl rfl)
theorem dX3_steepest_50 : decode cX3_steepest 50 = .ok (.iload_n 1, 1) := dk_27 (dk_at dksX3_steepest_2 5 rfl rfl)
theorem dX3_steepest_51 : decode cX3_steepest 51 = .ok (.iload 4, 2) := dk_21 4 (dk_at dksX3_steepest_2 6 rfl rfl)
theorem dX3_steepest_53 : decode cX3_steepest 53 = .ok (.invokevirtual 303, 3) := dk_182 1 47 (dk_at dksX3_steepest_2 8 rfl rfl)
theorem dX3_steepest_56 : decode cX3_steepest 56 = .ok (.aload_n 0, 1) := dk_42 (dk_at dksX3_steepest_2 11 rfl rfl)
theorem dX3_steepest_57 : decode cX3_steepest 57 = .ok (.iconst 0, 1) := dk_3 (dk_at dksX3_steepest_2 12 rfl rfl)
theorem dX3_steepest_58 : decode cX3_steepest 58 = .ok (.iload_n 1, 1) := dk_27 (dk_at dksX3_steepest_2 13 rfl rfl)
theorem dX3_steepest_59 : decode cX3_steepest 59 = .ok (.iload 4, 2) := dk_21 4 (dk_at dksX3_steepest_2 14 rfl rfl)
theorem dX3_steepest_61 : decode cX3_steepest 61 = .ok (.iconst 1, 1) := dk_4 (dk_at dksX3_steepest_2 16 rfl rfl)
theorem dX3_steepest_62 : decode cX3_steepest 62 = .ok (.isub, 1) := dk_100 (dk_at dksX3_steepest_2 17 rfl rfl)
theorem dX3_steepest_63 : decode cX3_steepest 63 = .ok (.invokevirtual 303, 3) := dk_182 1 47 (dk_at dksX3_steepest_2 18 rfl rfl)
theorem dX3_steepest_66 : decode cX3_steepest 66 = .ok (.isub, 1) := dk_100 (dk_at dksX3_steepest_2 21 rfl rfl)
theorem dX3_steepest_67 : decode cX3_steepest 67 = .ok (.istore 5, 2) := dk_54 5 (dk_at dksX3_steepest_2 22 rfl rfl)
theorem dX3_steepest_69 : decode cX3_steepest 69 = .ok (.iload 5, 2) := dk_21 5 (dk_at dksX3_steepest_3 0 rfl rfl)
theorem dX3_steepest_71 : decode cX3_steepest 71 = .ok (.ifCond .ge 9, 3) := dk_156 0 9 (dk_at dksX3_steepest_3 2 rfl rfl)
theorem dX3_steepest_74 : decode cX3_steepest 74 = .ok (.iload 5, 2) := dk_21 5 (dk_at dksX3_steepest_3 5 rfl rfl)
theorem dX3_steepest_76 : decode cX3_steepest 76 = .ok (.ineg, 1) := dk_116 (dk_at dksX3_steepest_3 7 rfl rfl)
theorem dX3_steepest_77 : decode cX3_steepest 77 = .ok (.goto 5, 3) := dk_167 0 5 (dk_at dksX3_steepest_3 8 rfl rfl)
theorem dX3_steepest_80 : decode cX3_steepest 80 = .ok (.iload 5, 2) := dk_21 5 (dk_at dksX3_steepest_3 11 rfl rfl)
theorem dX3_steepest_82 : decode cX3_steepest 82 = .ok (.istore 5, 2) := dk_54 5 (dk_at dksX3_steepest_3 13 rfl rfl)
theorem dX3_steepest_84 : decode cX3_steepest 84 = .ok (.iload 5, 2) := dk_21 5 (dk_at dksX3_steepest_3 15 rfl rfl)
theorem dX3_steepest_86 : decode cX3_steepest 86 = .ok (.iload_n 3, 1) := dk_29 (dk_at dksX3_steepest_3 17 rfl rfl)
theorem dX3_steepest_87 : decode cX3_steepest 87 = .ok (.if_icmp .le 8, 3) := dk_164 0 8 (dk_at dksX3_steepest_3 18 rfl rfl)
theorem dX3_steepest_90 : decode cX3_steepest 90 = .ok (.iload 5, 2) := dk_21 5 (dk_at dksX3_steepest_3 21 rfl rfl)
theorem dX3_steepest_92 : decode cX3_steepest 92 = .ok (.goto 4, 3) := dk_167 0 4 (dk_at dksX3_steepest_4 0 rfl rfl)
theorem dX3_steepest_95 : decode cX3_steepest 95 = .ok (.iload_n 3, 1) := dk_29 (dk_at dksX3_steepest_4 3 rfl rfl)
theorem dX3_steepest_96 : decode cX3_steepest 96 = .ok (.istore_n 3, 1) := dk_62 (dk_at dksX3_steepest_4 4 rfl rfl)
theorem dX3_steepest_97 : decode cX3_steepest 97 = .ok (.iinc 4 1, 3) := dk_132 4 1 (dk_at dksX3_steepest_4 5 rfl rfl)
theorem dX3_steepest_100 : decode cX3_steepest 100 = .ok (.goto (-63), 3) := dk_167 255 193 (dk_at dksX3_steepest_4 8 rfl rfl)
theorem dX3_steepest_103 : decode cX3_steepest 103 = .ok (.iload_n 3, 1) := dk_29 (dk_at dksX3_steepest_4 11 rfl rfl)
theorem dX3_steepest_104 : decode cX3_steepest 104 = .ok (.ireturn, 1) := dk_172 (dk_at dksX3_steepest_4 12 rfl rfl)
abbrev cX3_log : ByteArray := prog_14_method_110_code
def yX3_log : MethodName := ⟨RX3, "log", "(II)I"⟩
def dkwX3_log_2 : List UInt8 := [153, 0, 7, 2, 167, 0, 18, 42, 180, 0, 23, 17, 2, 128, 16, 6, 27, 104, 96, 28, 96, 46, 172]
abbrev dktX3_log_2 : List UInt8 := dkwX3_log_2 ++ []
def dkwX3_log_1 : List UInt8 := [153, 0, 16, 28, 3, 8, 184, 0, 70, 153, 0, 7, 4, 167, 0, 4, 3, 184, 0, 191, 182, 0, 156]
abbrev dktX3_log_1 : List UInt8 := dkwX3_log_1 ++ dktX3_log_2
def dkwX3_log_0 : List UInt8 := [42, 42, 180, 0, 168, 153, 0, 33, 27, 3, 42, 180, 0, 23, 16, 11, 46, 4, 100, 184, 0, 70]
abbrev dktX3_log_0 : List UInt8 := dkwX3_log_0 ++ dktX3_log_1
theorem dksX3_log_0 : cX3_log.data.toList.drop 0 = dktX3_log_0 := by decide +kernel
theorem dksX3_log_1 : cX3_log.data.toList.drop 22 = dktX3_log_1 := dk_seg dksX3_log_0 22 rfl rfl
theorem dksX3_log_2 : cX3_log.data.toList.drop 45 = dktX3_log_2 := dk_seg dksX3_log_1 23 rfl rfl
theorem dX3_log_0 : decode cX3_log 0 = .ok (.aload_n 0, 1) := dk_42 (dk_at dksX3_log_0 0 rfl rfl)
theorem dX3_log_1 : decode cX3_log 1 = .ok (.aload_n 0, 1) := dk_42 (dk_at dksX3_log_0 1 rfl rfl)
theorem dX3_log_2 : decode cX3_log 2 = .ok (.getfield 168, 3) := dk_180 0 168 (dk_at dksX3_log_0 2 rfl rfl)
theorem dX3_log_5 : decode cX3_log 5 = .ok (.ifCond .eq 33, 3) := dk_153 0 33 (dk_at dksX3_log_0 5 rfl rfl)
theorem dX3_log_8 : decode cX3_log 8 = .ok (.iload_n 1, 1) := dk_27 (dk_at dksX3_log_0 8 rfl rfl)
theorem dX3_log_9 : decode cX3_log 9 = .ok (.iconst 0, 1) := dk_3 (dk_at dksX3_log_0 9 rfl rfl)
theorem dX3_log_10 : decode cX3_log 10 = .ok (.aload_n 0, 1) := dk_42 (dk_at dksX3_log_0 10 rfl rfl)
theorem dX3_log_11 : decode cX3_log 11 = .ok (.getfield 23, 3) := dk_180 0 23 (dk_at dksX3_log_0 11 rfl rfl)
theorem dX3_log_14 : decode cX3_log 14 = .ok (.bipush 11, 2) := dk_16 11 (dk_at dksX3_log_0 14 rfl rfl)
theorem dX3_log_16 : decode cX3_log 16 = .ok (.iaload, 1) := dk_46 (dk_at dksX3_log_0 16 rfl rfl)
theorem dX3_log_17 : decode cX3_log 17 = .ok (.iconst 1, 1) := dk_4 (dk_at dksX3_log_0 17 rfl rfl)
theorem dX3_log_18 : decode cX3_log 18 = .ok (.isub, 1) := dk_100 (dk_at dksX3_log_0 18 rfl rfl)
theorem dX3_log_19 : decode cX3_log 19 = .ok (.invokestatic 70, 3) := dk_184 0 70 (dk_at dksX3_log_0 19 rfl rfl)
theorem dX3_log_22 : decode cX3_log 22 = .ok (.ifCond .eq 16, 3) := dk_153 0 16 (dk_at dksX3_log_1 0 rfl rfl)
theorem dX3_log_25 : decode cX3_log 25 = .ok (.iload_n 2, 1) := dk_28 (dk_at dksX3_log_1 3 rfl rfl)
theorem dX3_log_26 : decode cX3_log 26 = .ok (.iconst 0, 1) := dk_3 (dk_at dksX3_log_1 4 rfl rfl)
theorem dX3_log_27 : decode cX3_log 27 = .ok (.iconst 5, 1) := dk_8 (dk_at dksX3_log_1 5 rfl rfl)
theorem dX3_log_28 : decode cX3_log 28 = .ok (.invokestatic 70, 3) := dk_184 0 70 (dk_at dksX3_log_1 6 rfl rfl)
theorem dX3_log_31 : decode cX3_log 31 = .ok (.ifCond .eq 7, 3) := dk_153 0 7 (dk_at dksX3_log_1 9 rfl rfl)
theorem dX3_log_34 : decode cX3_log 34 = .ok (.iconst 1, 1) := dk_4 (dk_at dksX3_log_1 12 rfl rfl)
theorem dX3_log_35 : decode cX3_log 35 = .ok (.goto 4, 3) := dk_167 0 4 (dk_at dksX3_log_1 13 rfl rfl)
theorem dX3_log_38 : decode cX3_log 38 = .ok (.iconst 0, 1) := dk_3 (dk_at dksX3_log_1 16 rfl rfl)
theorem dX3_log_39 : decode cX3_log 39 = .ok (.invokestatic 191, 3) := dk_184 0 191 (dk_at dksX3_log_1 17 rfl rfl)
theorem dX3_log_42 : decode cX3_log 42 = .ok (.invokevirtual 156, 3) := dk_182 0 156 (dk_at dksX3_log_1 20 rfl rfl)
theorem dX3_log_45 : decode cX3_log 45 = .ok (.ifCond .eq 7, 3) := dk_153 0 7 (dk_at dksX3_log_2 0 rfl rfl)
theorem dX3_log_48 : decode cX3_log 48 = .ok (.iconst (-1), 1) := dk_2 (dk_at dksX3_log_2 3 rfl rfl)
theorem dX3_log_49 : decode cX3_log 49 = .ok (.goto 18, 3) := dk_167 0 18 (dk_at dksX3_log_2 4 rfl rfl)
theorem dX3_log_52 : decode cX3_log 52 = .ok (.aload_n 0, 1) := dk_42 (dk_at dksX3_log_2 7 rfl rfl)
theorem dX3_log_53 : decode cX3_log 53 = .ok (.getfield 23, 3) := dk_180 0 23 (dk_at dksX3_log_2 8 rfl rfl)
theorem dX3_log_56 : decode cX3_log 56 = .ok (.sipush 640, 3) := dk_17 2 128 (dk_at dksX3_log_2 11 rfl rfl)
theorem dX3_log_59 : decode cX3_log 59 = .ok (.bipush 6, 2) := dk_16 6 (dk_at dksX3_log_2 14 rfl rfl)
theorem dX3_log_61 : decode cX3_log 61 = .ok (.iload_n 1, 1) := dk_27 (dk_at dksX3_log_2 16 rfl rfl)
theorem dX3_log_62 : decode cX3_log 62 = .ok (.imul, 1) := dk_104 (dk_at dksX3_log_2 17 rfl rfl)
theorem dX3_log_63 : decode cX3_log 63 = .ok (.iadd, 1) := dk_96 (dk_at dksX3_log_2 18 rfl rfl)
theorem dX3_log_64 : decode cX3_log 64 = .ok (.iload_n 2, 1) := dk_28 (dk_at dksX3_log_2 19 rfl rfl)
theorem dX3_log_65 : decode cX3_log 65 = .ok (.iadd, 1) := dk_96 (dk_at dksX3_log_2 20 rfl rfl)
theorem dX3_log_66 : decode cX3_log 66 = .ok (.iaload, 1) := dk_46 (dk_at dksX3_log_2 21 rfl rfl)
theorem dX3_log_67 : decode cX3_log 67 = .ok (.ireturn, 1) := dk_172 (dk_at dksX3_log_2 22 rfl rfl)
abbrev cX3_unproved : ByteArray := prog_14_method_111_code
def yX3_unproved : MethodName := ⟨RX3, "unproved", "(I)I"⟩
def dkwX3_unproved_2 : List UInt8 := [132, 2, 1, 132, 3, 1, 167, 255, 212, 42, 4, 181, 0, 41, 3, 172]
abbrev dktX3_unproved_2 : List UInt8 := dkwX3_unproved_2 ++ []
def dkwX3_unproved_1 : List UInt8 := [162, 0, 33, 42, 180, 0, 23, 29, 7, 184, 0, 213, 46, 5, 164, 0, 13, 28, 27, 160, 0, 5, 29, 172]
abbrev dktX3_unproved_1 : List UInt8 := dkwX3_unproved_1 ++ dktX3_unproved_2
def dkwX3_unproved_0 : List UInt8 := [42, 3, 181, 0, 41, 3, 61, 3, 62, 42, 180, 0, 168, 153, 0, 43, 29, 42, 180, 0, 23, 3, 46]
abbrev dktX3_unproved_0 : List UInt8 := dkwX3_unproved_0 ++ dktX3_unproved_1
theorem dksX3_unproved_0 : cX3_unproved.data.toList.drop 0 = dktX3_unproved_0 := by decide +kernel
theorem dksX3_unproved_1 : cX3_unproved.data.toList.drop 23 = dktX3_unproved_1 := dk_seg dksX3_unproved_0 23 rfl rfl
theorem dksX3_unproved_2 : cX3_unproved.data.toList.drop 47 = dktX3_unproved_2 := dk_seg dksX3_unproved_1 24 rfl rfl
theorem dX3_unproved_0 : decode cX3_unproved 0 = .ok (.aload_n 0, 1) := dk_42 (dk_at dksX3_unproved_0 0 rfl rfl)
theorem dX3_unproved_1 : decode cX3_unproved 1 = .ok (.iconst 0, 1) := dk_3 (dk_at dksX3_unproved_0 1 rfl rfl)
theorem dX3_unproved_2 : decode cX3_unproved 2 = .ok (.putfield 41, 3) := dk_181 0 41 (dk_at dksX3_unproved_0 2 rfl rfl)
theorem dX3_unproved_5 : decode cX3_unproved 5 = .ok (.iconst 0, 1) := dk_3 (dk_at dksX3_unproved_0 5 rfl rfl)
theorem dX3_unproved_6 : decode cX3_unproved 6 = .ok (.istore_n 2, 1) := dk_61 (dk_at dksX3_unproved_0 6 rfl rfl)
theorem dX3_unproved_7 : decode cX3_unproved 7 = .ok (.iconst 0, 1) := dk_3 (dk_at dksX3_unproved_0 7 rfl rfl)
theorem dX3_unproved_8 : decode cX3_unproved 8 = .ok (.istore_n 3, 1) := dk_62 (dk_at dksX3_unproved_0 8 rfl rfl)
theorem dX3_unproved_9 : decode cX3_unproved 9 = .ok (.aload_n 0, 1) := dk_42 (dk_at dksX3_unproved_0 9 rfl rfl)
theorem dX3_unproved_10 : decode cX3_unproved 10 = .ok (.getfield 168, 3) := dk_180 0 168 (dk_at dksX3_unproved_0 10 rfl rfl)
theorem dX3_unproved_13 : decode cX3_unproved 13 = .ok (.ifCond .eq 43, 3) := dk_153 0 43 (dk_at dksX3_unproved_0 13 rfl rfl)
theorem dX3_unproved_16 : decode cX3_unproved 16 = .ok (.iload_n 3, 1) := dk_29 (dk_at dksX3_unproved_0 16 rfl rfl)
theorem dX3_unproved_17 : decode cX3_unproved 17 = .ok (.aload_n 0, 1) := dk_42 (dk_at dksX3_unproved_0 17 rfl rfl)
theorem dX3_unproved_18 : decode cX3_unproved 18 = .ok (.getfield 23, 3) := dk_180 0 23 (dk_at dksX3_unproved_0 18 rfl rfl)
theorem dX3_unproved_21 : decode cX3_unproved 21 = .ok (.iconst 0, 1) := dk_3 (dk_at dksX3_unproved_0 21 rfl rfl)
theorem dX3_unproved_22 : decode cX3_unproved 22 = .ok (.iaload, 1) := dk_46 (dk_at dksX3_unproved_0 22 rfl rfl)
theorem dX3_unproved_23 : decode cX3_unproved 23 = .ok (.if_icmp .ge 33, 3) := dk_162 0 33 (dk_at dksX3_unproved_1 0 rfl rfl)
theorem dX3_unproved_26 : decode cX3_unproved 26 = .ok (.aload_n 0, 1) := dk_42 (dk_at dksX3_unproved_1 3 rfl rfl)
theorem dX3_unproved_27 : decode cX3_unproved 27 = .ok (.getfield 23, 3) := dk_180 0 23 (dk_at dksX3_unproved_1 4 rfl rfl)
theorem dX3_unproved_30 : decode cX3_unproved 30 = .ok (.iload_n 3, 1) := dk_29 (dk_at dksX3_unproved_1 7 rfl rfl)
theorem dX3_unproved_31 : decode cX3_unproved 31 = .ok (.iconst 4, 1) := dk_7 (dk_at dksX3_unproved_1 8 rfl rfl)
theorem dX3_unproved_32 : decode cX3_unproved 32 = .ok (.invokestatic 213, 3) := dk_184 0 213 (dk_at dksX3_unproved_1 9 rfl rfl)
theorem dX3_unproved_35 : decode cX3_unproved 35 = .ok (.iaload, 1) := dk_46 (dk_at dksX3_unproved_1 12 rfl rfl)
theorem dX3_unproved_36 : decode cX3_unproved 36 = .ok (.iconst 2, 1) := dk_5 (dk_at dksX3_unproved_1 13 rfl rfl)
theorem dX3_unproved_37 : decode cX3_unproved 37 = .ok (.if_icmp .le 13, 3) := dk_164 0 13 (dk_at dksX3_unproved_1 14 rfl rfl)
theorem dX3_unproved_40 : decode cX3_unproved 40 = .ok (.iload_n 2, 1) := dk_28 (dk_at dksX3_unproved_1 17 rfl rfl)
theorem dX3_unproved_41 : decode cX3_unproved 41 = .ok (.iload_n 1, 1) := dk_27 (dk_at dksX3_unproved_1 18 rfl rfl)
theorem dX3_unproved_42 : decode cX3_unproved 42 = .ok (.if_icmp .ne 5, 3) := dk_160 0 5 (dk_at dksX3_unproved_1 19 rfl rfl)
theorem dX3_unproved_45 : decode cX3_unproved 45 = .ok (.iload_n 3, 1) := dk_29 (dk_at dksX3_unproved_1 22 rfl rfl)
theorem dX3_unproved_46 : decode cX3_unproved 46 = .ok (.ireturn, 1) := dk_172 (dk_at dksX3_unproved_1 23 rfl rfl)
theorem dX3_unproved_47 : decode cX3_unproved 47 = .ok (.iinc 2 1, 3) := dk_132 2 1 (dk_at dksX3_unproved_2 0 rfl rfl)
theorem dX3_unproved_50 : decode cX3_unproved 50 = .ok (.iinc 3 1, 3) := dk_132 3 1 (dk_at dksX3_unproved_2 3 rfl rfl)
theorem dX3_unproved_53 : decode cX3_unproved 53 = .ok (.goto (-44), 3) := dk_167 255 212 (dk_at dksX3_unproved_2 6 rfl rfl)
theorem dX3_unproved_56 : decode cX3_unproved 56 = .ok (.aload_n 0, 1) := dk_42 (dk_at dksX3_unproved_2 9 rfl rfl)
theorem dX3_unproved_57 : decode cX3_unproved 57 = .ok (.iconst 1, 1) := dk_4 (dk_at dksX3_unproved_2 10 rfl rfl)
theorem dX3_unproved_58 : decode cX3_unproved 58 = .ok (.putfield 41, 3) := dk_181 0 41 (dk_at dksX3_unproved_2 11 rfl rfl)
theorem dX3_unproved_61 : decode cX3_unproved 61 = .ok (.iconst 0, 1) := dk_3 (dk_at dksX3_unproved_2 14 rfl rfl)
theorem dX3_unproved_62 : decode cX3_unproved 62 = .ok (.ireturn, 1) := dk_172 (dk_at dksX3_unproved_2 15 rfl rfl)
abbrev cX3_size : ByteArray := prog_14_method_112_code
def yX3_size : MethodName := ⟨RX3, "size", "(I)I"⟩
def dkwX3_size_3 : List UInt8 := [2, 172]
abbrev dktX3_size_3 : List UInt8 := dkwX3_size_3 ++ []
def dkwX3_size_2 : List UInt8 := [42, 180, 0, 47, 172, 42, 180, 0, 168, 153, 0, 13, 42, 180, 0, 23, 16, 11, 46, 167, 0, 4, 3, 172]
abbrev dktX3_size_2 : List UInt8 := dkwX3_size_2 ++ dktX3_size_3
def dkwX3_size_1 : List UInt8 := [171, 0, 0, 0, 0, 50, 0, 0, 0, 2, 0, 0, 0, 0, 0, 0, 0, 26, 0, 0, 0, 1, 0, 0, 0, 31]
abbrev dktX3_size_1 : List UInt8 := dkwX3_size_1 ++ dktX3_size_2
def dkwX3_size_0 : List UInt8 := [42, 3, 181, 0, 41, 27]
abbrev dktX3_size_0 : List UInt8 := dkwX3_size_0 ++ dktX3_size_1
theorem dksX3_size_0 : cX3_size.data.toList.drop 0 = dktX3_size_0 := by decide +kernel
theorem dksX3_size_1 : cX3_size.data.toList.drop 6 = dktX3_size_1 := dk_seg dksX3_size_0 6 rfl rfl
theorem dksX3_size_2 : cX3_size.data.toList.drop 32 = dktX3_size_2 := dk_seg dksX3_size_1 26 rfl rfl
theorem dksX3_size_3 : cX3_size.data.toList.drop 56 = dktX3_size_3 := dk_seg dksX3_size_2 24 rfl rfl
theorem dX3_size_0 : decode cX3_size 0 = .ok (.aload_n 0, 1) := dk_42 (dk_at dksX3_size_0 0 rfl rfl)
theorem dX3_size_1 : decode cX3_size 1 = .ok (.iconst 0, 1) := dk_3 (dk_at dksX3_size_0 1 rfl rfl)
theorem dX3_size_2 : decode cX3_size 2 = .ok (.putfield 41, 3) := dk_181 0 41 (dk_at dksX3_size_0 2 rfl rfl)
theorem dX3_size_5 : decode cX3_size 5 = .ok (.iload_n 1, 1) := dk_27 (dk_at dksX3_size_0 5 rfl rfl)
theorem dX3_size_6 : decode cX3_size 6 = .ok (.lookupswitch 50 #[(0, 26), (1, 31)], 26) := by decide +kernel
theorem dX3_size_32 : decode cX3_size 32 = .ok (.aload_n 0, 1) := dk_42 (dk_at dksX3_size_2 0 rfl rfl)
theorem dX3_size_33 : decode cX3_size 33 = .ok (.getfield 47, 3) := dk_180 0 47 (dk_at dksX3_size_2 1 rfl rfl)
theorem dX3_size_36 : decode cX3_size 36 = .ok (.ireturn, 1) := dk_172 (dk_at dksX3_size_2 4 rfl rfl)
theorem dX3_size_37 : decode cX3_size 37 = .ok (.aload_n 0, 1) := dk_42 (dk_at dksX3_size_2 5 rfl rfl)
theorem dX3_size_38 : decode cX3_size 38 = .ok (.getfield 168, 3) := dk_180 0 168 (dk_at dksX3_size_2 6 rfl rfl)
theorem dX3_size_41 : decode cX3_size 41 = .ok (.ifCond .eq 13, 3) := dk_153 0 13 (dk_at dksX3_size_2 9 rfl rfl)
theorem dX3_size_44 : decode cX3_size 44 = .ok (.aload_n 0, 1) := dk_42 (dk_at dksX3_size_2 12 rfl rfl)
theorem dX3_size_45 : decode cX3_size 45 = .ok (.getfield 23, 3) := dk_180 0 23 (dk_at dksX3_size_2 13 rfl rfl)
theorem dX3_size_48 : decode cX3_size 48 = .ok (.bipush 11, 2) := dk_16 11 (dk_at dksX3_size_2 16 rfl rfl)
theorem dX3_size_50 : decode cX3_size 50 = .ok (.iaload, 1) := dk_46 (dk_at dksX3_size_2 18 rfl rfl)
theorem dX3_size_51 : decode cX3_size 51 = .ok (.goto 4, 3) := dk_167 0 4 (dk_at dksX3_size_2 19 rfl rfl)
theorem dX3_size_54 : decode cX3_size 54 = .ok (.iconst 0, 1) := dk_3 (dk_at dksX3_size_2 22 rfl rfl)
theorem dX3_size_55 : decode cX3_size 55 = .ok (.ireturn, 1) := dk_172 (dk_at dksX3_size_2 23 rfl rfl)
theorem dX3_size_56 : decode cX3_size 56 = .ok (.iconst (-1), 1) := dk_2 (dk_at dksX3_size_3 0 rfl rfl)
theorem dX3_size_57 : decode cX3_size 57 = .ok (.ireturn, 1) := dk_172 (dk_at dksX3_size_3 1 rfl rfl)
abbrev cX3_trouble : ByteArray := prog_14_method_113_code
def yX3_trouble : MethodName := ⟨RX3, "trouble", "()I"⟩
def dkwX3_trouble_0 : List UInt8 := [42, 3, 181, 0, 41, 42, 180, 0, 44, 172]
abbrev dktX3_trouble_0 : List UInt8 := dkwX3_trouble_0 ++ []
theorem dksX3_trouble_0 : cX3_trouble.data.toList.drop 0 = dktX3_trouble_0 := by decide +kernel
theorem dX3_trouble_0 : decode cX3_trouble 0 = .ok (.aload_n 0, 1) := dk_42 (dk_at dksX3_trouble_0 0 rfl rfl)
theorem dX3_trouble_1 : decode cX3_trouble 1 = .ok (.iconst 0, 1) := dk_3 (dk_at dksX3_trouble_0 1 rfl rfl)
theorem dX3_trouble_2 : decode cX3_trouble 2 = .ok (.putfield 41, 3) := dk_181 0 41 (dk_at dksX3_trouble_0 2 rfl rfl)
theorem dX3_trouble_5 : decode cX3_trouble 5 = .ok (.aload_n 0, 1) := dk_42 (dk_at dksX3_trouble_0 5 rfl rfl)
theorem dX3_trouble_6 : decode cX3_trouble 6 = .ok (.getfield 44, 3) := dk_180 0 44 (dk_at dksX3_trouble_0 6 rfl rfl)
theorem dX3_trouble_9 : decode cX3_trouble 9 = .ok (.ireturn, 1) := dk_172 (dk_at dksX3_trouble_0 9 rfl rfl)
theorem q111 : (Jvm.Cond.initialized "MaskedEarsModel") ∈ lw_all := lw_g (lw_at lw_m1 6 rfl) rfl
theorem q618 : (Jvm.Cond.selects "MaskedEarsModel" ({ cls := "java/lang/Object", name := "getClass", desc := "()Ljava/lang/Class;" } : Jvm.MethodName) ({ cls := "java/lang/Object", name := "getClass", desc := "()Ljava/lang/Class;" } : Jvm.MethodName)) ∈ lw_all := lw_g (lw_at lw_m3 33 rfl) rfl
theorem q1217 : (Jvm.Cond.selects "MaskedEarsModel" ({ cls := "java/lang/Object", name := "equals", desc := "(Ljava/lang/Object;)Z" } : Jvm.MethodName) ({ cls := "java/lang/Object", name := "equals", desc := "(Ljava/lang/Object;)Z" } : Jvm.MethodName)) ∈ lw_all := lw_g (lw_at lw_m5 152 rfl) rfl
theorem q1458 : (Jvm.Cond.instantiable "MaskedEarsModel" (26 : Nat)) ∈ lw_all := lw_g (lw_at lw_m6 153 rfl) rfl
theorem q1460 : (Jvm.Cond.instanceMethod ({ cls := "MaskedEarsModel", name := "<init>", desc := "()V" } : Jvm.MethodName)) ∈ lw_all := lw_g (lw_at lw_m6 155 rfl) rfl
theorem q1461 : (Jvm.Cond.code ({ cls := "MaskedEarsModel", name := "<init>", desc := "()V" } : Jvm.MethodName) prog_14_method_1_code (1 : Nat) (Option.none : Option Jvm.ClassFile.FieldType)) ∈ lw_all := lw_g (lw_at lw_m6 156 rfl) rfl
theorem q1462 : (Jvm.Cond.methodLink "MaskedEarsModel" (3 : Nat) ({ cls := "java/lang/Object", name := "<init>", desc := "()V" } : Jvm.MethodName)) ∈ lw_all := lw_g (lw_at lw_m6 157 rfl) rfl
theorem q1463 : (Jvm.Cond.fieldLink "MaskedEarsModel" (41 : Nat) "MaskedEarsModel" "thrown" "I") ∈ lw_all := lw_g (lw_at lw_m6 158 rfl) rfl
theorem q1464 : (Jvm.Cond.fieldLink "MaskedEarsModel" (44 : Nat) "MaskedEarsModel" "trouble" "I") ∈ lw_all := lw_g (lw_at lw_m6 159 rfl) rfl
theorem q1465 : (Jvm.Cond.fieldLink "MaskedEarsModel" (159 : Nat) "MaskedEarsModel" "fault" "I") ∈ lw_all := lw_g (lw_at lw_m6 160 rfl) rfl
theorem q1466 : (Jvm.Cond.fieldLink "MaskedEarsModel" (9 : Nat) "MaskedEarsModel" "where" "I") ∈ lw_all := lw_g (lw_at lw_m6 161 rfl) rfl
theorem q1467 : (Jvm.Cond.fieldLink "MaskedEarsModel" (13 : Nat) "MaskedEarsModel" "tape" "[I") ∈ lw_all := lw_g (lw_at lw_m6 162 rfl) rfl
theorem q1468 : (Jvm.Cond.fieldLink "MaskedEarsModel" (47 : Nat) "MaskedEarsModel" "taped" "I") ∈ lw_all := lw_g (lw_at lw_m6 163 rfl) rfl
theorem q1469 : (Jvm.Cond.fieldLink "MaskedEarsModel" (17 : Nat) "MaskedEarsModel" "is" "[I") ∈ lw_all := lw_g (lw_at lw_m6 164 rfl) rfl
theorem q1470 : (Jvm.Cond.fieldLink "MaskedEarsModel" (20 : Nat) "MaskedEarsModel" "read" "[I") ∈ lw_all := lw_g (lw_at lw_m6 165 rfl) rfl
theorem q1471 : (Jvm.Cond.fieldLink "MaskedEarsModel" (168 : Nat) "MaskedEarsModel" "isTold" "Z") ∈ lw_all := lw_g (lw_at lw_m6 166 rfl) rfl
theorem q1472 : (Jvm.Cond.fieldLink "MaskedEarsModel" (54 : Nat) "MaskedEarsModel" "textLong" "I") ∈ lw_all := lw_g (lw_at lw_m6 167 rfl) rfl
theorem q1473 : (Jvm.Cond.fieldLink "MaskedEarsModel" (64 : Nat) "MaskedEarsModel" "place" "I") ∈ lw_all := lw_g (lw_at lw_m6 168 rfl) rfl
theorem q1474 : (Jvm.Cond.fieldLink "MaskedEarsModel" (57 : Nat) "MaskedEarsModel" "spot" "I") ∈ lw_all := lw_g (lw_at lw_m6 169 rfl) rfl
theorem q1475 : (Jvm.Cond.fieldLink "MaskedEarsModel" (67 : Nat) "MaskedEarsModel" "token" "I") ∈ lw_all := lw_g (lw_at lw_m6 170 rfl) rfl
theorem q1476 : (Jvm.Cond.fieldLink "MaskedEarsModel" (74 : Nat) "MaskedEarsModel" "whole" "I") ∈ lw_all := lw_g (lw_at lw_m6 171 rfl) rfl
theorem q1477 : (Jvm.Cond.fieldLink "MaskedEarsModel" (87 : Nat) "MaskedEarsModel" "readFault" "I") ∈ lw_all := lw_g (lw_at lw_m6 172 rfl) rfl
theorem q1478 : (Jvm.Cond.fieldLink "MaskedEarsModel" (90 : Nat) "MaskedEarsModel" "readPlace" "I") ∈ lw_all := lw_g (lw_at lw_m6 173 rfl) rfl
theorem q1479 : (Jvm.Cond.fieldLink "MaskedEarsModel" (110 : Nat) "MaskedEarsModel" "hasTester" "Z") ∈ lw_all := lw_g (lw_at lw_m6 174 rfl) rfl
theorem q1480 : (Jvm.Cond.fieldLink "MaskedEarsModel" (128 : Nat) "MaskedEarsModel" "earsMet" "I") ∈ lw_all := lw_g (lw_at lw_m6 175 rfl) rfl
theorem q1481 : (Jvm.Cond.fieldLink "MaskedEarsModel" (23 : Nat) "MaskedEarsModel" "row" "[I") ∈ lw_all := lw_g (lw_at lw_m6 176 rfl) rfl
theorem q1482 : (Jvm.Cond.fieldLink "MaskedEarsModel" (26 : Nat) "MaskedEarsModel" "aside" "[I") ∈ lw_all := lw_g (lw_at lw_m6 177 rfl) rfl
theorem q1483 : (Jvm.Cond.fieldLink "MaskedEarsModel" (29 : Nat) "MaskedEarsModel" "timesAt" "[I") ∈ lw_all := lw_g (lw_at lw_m6 178 rfl) rfl
theorem q1484 : (Jvm.Cond.fieldLink "MaskedEarsModel" (32 : Nat) "MaskedEarsModel" "heardAt" "[I") ∈ lw_all := lw_g (lw_at lw_m6 179 rfl) rfl
theorem q1485 : (Jvm.Cond.fieldLink "MaskedEarsModel" (35 : Nat) "MaskedEarsModel" "ascentsAt" "[I") ∈ lw_all := lw_g (lw_at lw_m6 180 rfl) rfl
theorem q1486 : (Jvm.Cond.fieldLink "MaskedEarsModel" (291 : Nat) "MaskedEarsModel" "presented" "I") ∈ lw_all := lw_g (lw_at lw_m6 181 rfl) rfl
theorem q1487 : (Jvm.Cond.fieldLink "MaskedEarsModel" (38 : Nat) "MaskedEarsModel" "earlier" "[I") ∈ lw_all := lw_g (lw_at lw_m6 182 rfl) rfl
theorem q1488 : (Jvm.Cond.fieldLink "MaskedEarsModel" (171 : Nat) "MaskedEarsModel" "isMarked" "Z") ∈ lw_all := lw_g (lw_at lw_m6 183 rfl) rfl
theorem q1489 : (Jvm.Cond.lays "MaskedEarsModel" "MaskedEarsModel" "thrown" "I") ∈ lw_all := lw_g (lw_at lw_m6 184 rfl) rfl
theorem q1490 : (Jvm.Cond.soleField "MaskedEarsModel" "thrown") ∈ lw_all := lw_g (lw_at lw_m6 185 rfl) rfl
theorem q1491 : (Jvm.Cond.lays "MaskedEarsModel" "MaskedEarsModel" "trouble" "I") ∈ lw_all := lw_g (lw_at lw_m6 186 rfl) rfl
theorem q1492 : (Jvm.Cond.soleField "MaskedEarsModel" "trouble") ∈ lw_all := lw_g (lw_at lw_m6 187 rfl) rfl
theorem q1493 : (Jvm.Cond.lays "MaskedEarsModel" "MaskedEarsModel" "fault" "I") ∈ lw_all := lw_g (lw_at lw_m6 188 rfl) rfl
theorem q1494 : (Jvm.Cond.soleField "MaskedEarsModel" "fault") ∈ lw_all := lw_g (lw_at lw_m6 189 rfl) rfl
theorem q1495 : (Jvm.Cond.lays "MaskedEarsModel" "MaskedEarsModel" "where" "I") ∈ lw_all := lw_g (lw_at lw_m6 190 rfl) rfl
theorem q1496 : (Jvm.Cond.soleField "MaskedEarsModel" "where") ∈ lw_all := lw_g (lw_at lw_m6 191 rfl) rfl
theorem q1497 : (Jvm.Cond.laysFinal "MaskedEarsModel" "MaskedEarsModel" "tape" "[I") ∈ lw_all := lw_g (lw_at lw_m6 192 rfl) rfl
theorem q1498 : (Jvm.Cond.soleField "MaskedEarsModel" "tape") ∈ lw_all := lw_g (lw_at lw_m6 193 rfl) rfl
theorem q1499 : (Jvm.Cond.lays "MaskedEarsModel" "MaskedEarsModel" "taped" "I") ∈ lw_all := lw_g (lw_at lw_m6 194 rfl) rfl
theorem q1500 : (Jvm.Cond.soleField "MaskedEarsModel" "taped") ∈ lw_all := lw_g (lw_at lw_m6 195 rfl) rfl
theorem q1501 : (Jvm.Cond.laysFinal "MaskedEarsModel" "MaskedEarsModel" "is" "[I") ∈ lw_all := lw_g (lw_at lw_m6 196 rfl) rfl
theorem q1502 : (Jvm.Cond.soleField "MaskedEarsModel" "is") ∈ lw_all := lw_g (lw_at lw_m6 197 rfl) rfl
theorem q1503 : (Jvm.Cond.laysFinal "MaskedEarsModel" "MaskedEarsModel" "read" "[I") ∈ lw_all := lw_g (lw_at lw_m6 198 rfl) rfl
theorem q1504 : (Jvm.Cond.soleField "MaskedEarsModel" "read") ∈ lw_all := lw_g (lw_at lw_m6 199 rfl) rfl
theorem q1505 : (Jvm.Cond.lays "MaskedEarsModel" "MaskedEarsModel" "isTold" "Z") ∈ lw_all := lw_g (lw_at lw_m6 200 rfl) rfl
theorem q1506 : (Jvm.Cond.soleField "MaskedEarsModel" "isTold") ∈ lw_all := lw_g (lw_at lw_m6 201 rfl) rfl
theorem q1507 : (Jvm.Cond.lays "MaskedEarsModel" "MaskedEarsModel" "textLong" "I") ∈ lw_all := lw_g (lw_at lw_m6 202 rfl) rfl
theorem q1508 : (Jvm.Cond.soleField "MaskedEarsModel" "textLong") ∈ lw_all := lw_g (lw_at lw_m6 203 rfl) rfl
theorem q1509 : (Jvm.Cond.lays "MaskedEarsModel" "MaskedEarsModel" "place" "I") ∈ lw_all := lw_g (lw_at lw_m6 204 rfl) rfl
theorem q1510 : (Jvm.Cond.soleField "MaskedEarsModel" "place") ∈ lw_all := lw_g (lw_at lw_m6 205 rfl) rfl
theorem q1511 : (Jvm.Cond.lays "MaskedEarsModel" "MaskedEarsModel" "spot" "I") ∈ lw_all := lw_g (lw_at lw_m6 206 rfl) rfl
theorem q1512 : (Jvm.Cond.soleField "MaskedEarsModel" "spot") ∈ lw_all := lw_g (lw_at lw_m6 207 rfl) rfl
theorem q1513 : (Jvm.Cond.lays "MaskedEarsModel" "MaskedEarsModel" "token" "I") ∈ lw_all := lw_g (lw_at lw_m6 208 rfl) rfl
theorem q1514 : (Jvm.Cond.soleField "MaskedEarsModel" "token") ∈ lw_all := lw_g (lw_at lw_m6 209 rfl) rfl
theorem q1515 : (Jvm.Cond.lays "MaskedEarsModel" "MaskedEarsModel" "whole" "I") ∈ lw_all := lw_g (lw_at lw_m6 210 rfl) rfl
theorem q1516 : (Jvm.Cond.soleField "MaskedEarsModel" "whole") ∈ lw_all := lw_g (lw_at lw_m6 211 rfl) rfl
theorem q1517 : (Jvm.Cond.lays "MaskedEarsModel" "MaskedEarsModel" "readFault" "I") ∈ lw_all := lw_g (lw_at lw_m6 212 rfl) rfl
theorem q1518 : (Jvm.Cond.soleField "MaskedEarsModel" "readFault") ∈ lw_all := lw_g (lw_at lw_m6 213 rfl) rfl
theorem q1519 : (Jvm.Cond.lays "MaskedEarsModel" "MaskedEarsModel" "readPlace" "I") ∈ lw_all := lw_g (lw_at lw_m6 214 rfl) rfl
theorem q1520 : (Jvm.Cond.soleField "MaskedEarsModel" "readPlace") ∈ lw_all := lw_g (lw_at lw_m6 215 rfl) rfl
theorem q1521 : (Jvm.Cond.lays "MaskedEarsModel" "MaskedEarsModel" "hasTester" "Z") ∈ lw_all := lw_g (lw_at lw_m6 216 rfl) rfl
theorem q1522 : (Jvm.Cond.soleField "MaskedEarsModel" "hasTester") ∈ lw_all := lw_g (lw_at lw_m6 217 rfl) rfl
theorem q1523 : (Jvm.Cond.lays "MaskedEarsModel" "MaskedEarsModel" "earsMet" "I") ∈ lw_all := lw_g (lw_at lw_m6 218 rfl) rfl
theorem q1524 : (Jvm.Cond.soleField "MaskedEarsModel" "earsMet") ∈ lw_all := lw_g (lw_at lw_m6 219 rfl) rfl
theorem q1525 : (Jvm.Cond.laysFinal "MaskedEarsModel" "MaskedEarsModel" "row" "[I") ∈ lw_all := lw_g (lw_at lw_m6 220 rfl) rfl
theorem q1526 : (Jvm.Cond.soleField "MaskedEarsModel" "row") ∈ lw_all := lw_g (lw_at lw_m6 221 rfl) rfl
theorem q1527 : (Jvm.Cond.laysFinal "MaskedEarsModel" "MaskedEarsModel" "aside" "[I") ∈ lw_all := lw_g (lw_at lw_m6 222 rfl) rfl
theorem q1528 : (Jvm.Cond.soleField "MaskedEarsModel" "aside") ∈ lw_all := lw_g (lw_at lw_m6 223 rfl) rfl
theorem q1529 : (Jvm.Cond.laysFinal "MaskedEarsModel" "MaskedEarsModel" "timesAt" "[I") ∈ lw_all := lw_g (lw_at lw_m6 224 rfl) rfl
theorem q1530 : (Jvm.Cond.soleField "MaskedEarsModel" "timesAt") ∈ lw_all := lw_g (lw_at lw_m6 225 rfl) rfl
theorem q1531 : (Jvm.Cond.laysFinal "MaskedEarsModel" "MaskedEarsModel" "heardAt" "[I") ∈ lw_all := lw_g (lw_at lw_m6 226 rfl) rfl
theorem q1532 : (Jvm.Cond.soleField "MaskedEarsModel" "heardAt") ∈ lw_all := lw_g (lw_at lw_m6 227 rfl) rfl
theorem q1533 : (Jvm.Cond.laysFinal "MaskedEarsModel" "MaskedEarsModel" "ascentsAt" "[I") ∈ lw_all := lw_g (lw_at lw_m6 228 rfl) rfl
theorem q1534 : (Jvm.Cond.soleField "MaskedEarsModel" "ascentsAt") ∈ lw_all := lw_g (lw_at lw_m6 229 rfl) rfl
theorem q1535 : (Jvm.Cond.lays "MaskedEarsModel" "MaskedEarsModel" "presented" "I") ∈ lw_all := lw_g (lw_at lw_m6 230 rfl) rfl
theorem q1536 : (Jvm.Cond.soleField "MaskedEarsModel" "presented") ∈ lw_all := lw_g (lw_at lw_m6 231 rfl) rfl
theorem q1537 : (Jvm.Cond.laysFinal "MaskedEarsModel" "MaskedEarsModel" "earlier" "[I") ∈ lw_all := lw_g (lw_at lw_m6 232 rfl) rfl
theorem q1538 : (Jvm.Cond.soleField "MaskedEarsModel" "earlier") ∈ lw_all := lw_g (lw_at lw_m6 233 rfl) rfl
theorem q1539 : (Jvm.Cond.lays "MaskedEarsModel" "MaskedEarsModel" "isMarked" "Z") ∈ lw_all := lw_g (lw_at lw_m6 234 rfl) rfl
theorem q1540 : (Jvm.Cond.soleField "MaskedEarsModel" "isMarked") ∈ lw_all := lw_g (lw_at lw_m6 235 rfl) rfl
theorem q1541 : (Jvm.Cond.superclass "MaskedEarsModel" "java/lang/Object") ∈ lw_all := lw_g (lw_at lw_m6 236 rfl) rfl
theorem q1543 : (Jvm.Cond.instanceMethod ({ cls := "MaskedEarsModel", name := "thrown", desc := "()I" } : Jvm.MethodName)) ∈ lw_all := lw_g (lw_at lw_m6 238 rfl) rfl
theorem q1544 : (Jvm.Cond.selects "MaskedEarsModel" ({ cls := "MaskedEarsModel", name := "thrown", desc := "()I" } : Jvm.MethodName) ({ cls := "MaskedEarsModel", name := "thrown", desc := "()I" } : Jvm.MethodName)) ∈ lw_all := lw_g (lw_at lw_m6 239 rfl) rfl
theorem q1545 : (Jvm.Cond.code ({ cls := "MaskedEarsModel", name := "thrown", desc := "()I" } : Jvm.MethodName) prog_14_method_2_code (1 : Nat) (Option.some Jvm.ClassFile.FieldType.int)) ∈ lw_all := lw_g (lw_at lw_m7 0 rfl) rfl
theorem q1547 : (Jvm.Cond.instanceMethod ({ cls := "MaskedEarsModel", name := "feed", desc := "(IIIII)I" } : Jvm.MethodName)) ∈ lw_all := lw_g (lw_at lw_m7 2 rfl) rfl
theorem q1548 : (Jvm.Cond.selects "MaskedEarsModel" ({ cls := "MaskedEarsModel", name := "feed", desc := "(IIIII)I" } : Jvm.MethodName) ({ cls := "MaskedEarsModel", name := "feed", desc := "(IIIII)I" } : Jvm.MethodName)) ∈ lw_all := lw_g (lw_at lw_m7 3 rfl) rfl
theorem q1549 : (Jvm.Cond.code ({ cls := "MaskedEarsModel", name := "feed", desc := "(IIIII)I" } : Jvm.MethodName) prog_14_method_9_code (6 : Nat) (Option.some Jvm.ClassFile.FieldType.int)) ∈ lw_all := lw_g (lw_at lw_m7 4 rfl) rfl
theorem q1550 : (Jvm.Cond.methodLink "MaskedEarsModel" (50 : Nat) ({ cls := "MaskedEarsModel", name := "laysWord", desc := "(I)V" } : Jvm.MethodName)) ∈ lw_all := lw_g (lw_at lw_m7 5 rfl) rfl
theorem q1551 : (Jvm.Cond.privateMethod ({ cls := "MaskedEarsModel", name := "laysWord", desc := "(I)V" } : Jvm.MethodName)) ∈ lw_tbl := lw_at lw_m7 6 rfl
theorem q1552 : (Jvm.Cond.instanceMethod ({ cls := "MaskedEarsModel", name := "laysWord", desc := "(I)V" } : Jvm.MethodName)) ∈ lw_all := lw_g (lw_at lw_m7 7 rfl) rfl
theorem q1553 : (Jvm.Cond.code ({ cls := "MaskedEarsModel", name := "laysWord", desc := "(I)V" } : Jvm.MethodName) prog_14_method_10_code (3 : Nat) (Option.none : Option Jvm.ClassFile.FieldType)) ∈ lw_all := lw_g (lw_at lw_m7 8 rfl) rfl
theorem q1555 : (Jvm.Cond.instanceMethod ({ cls := "MaskedEarsModel", name := "tester", desc := "(I)I" } : Jvm.MethodName)) ∈ lw_all := lw_g (lw_at lw_m7 10 rfl) rfl
theorem q1556 : (Jvm.Cond.selects "MaskedEarsModel" ({ cls := "MaskedEarsModel", name := "tester", desc := "(I)I" } : Jvm.MethodName) ({ cls := "MaskedEarsModel", name := "tester", desc := "(I)I" } : Jvm.MethodName)) ∈ lw_all := lw_g (lw_at lw_m7 11 rfl) rfl
theorem q1557 : (Jvm.Cond.code ({ cls := "MaskedEarsModel", name := "tester", desc := "(I)I" } : Jvm.MethodName) prog_14_method_23_code (3 : Nat) (Option.some Jvm.ClassFile.FieldType.int)) ∈ lw_all := lw_g (lw_at lw_m7 12 rfl) rfl
theorem q1558 : (Jvm.Cond.methodLink "MaskedEarsModel" (70 : Nat) ({ cls := "MaskedEarsModel", name := "in", desc := "(III)Z" } : Jvm.MethodName)) ∈ lw_all := lw_g (lw_at lw_m7 13 rfl) rfl
theorem q1559 : (Jvm.Cond.static ({ cls := "MaskedEarsModel", name := "in", desc := "(III)Z" } : Jvm.MethodName)) ∈ lw_all := lw_g (lw_at lw_m7 14 rfl) rfl
theorem q1560 : (Jvm.Cond.code ({ cls := "MaskedEarsModel", name := "in", desc := "(III)Z" } : Jvm.MethodName) prog_14_method_3_code (3 : Nat) (Option.some Jvm.ClassFile.FieldType.boolean)) ∈ lw_all := lw_g (lw_at lw_m7 15 rfl) rfl
theorem q1561 : (Jvm.Cond.methodLink "MaskedEarsModel" (156 : Nat) ({ cls := "MaskedEarsModel", name := "isRefused", desc := "(I)Z" } : Jvm.MethodName)) ∈ lw_all := lw_g (lw_at lw_m7 16 rfl) rfl
theorem q1562 : (Jvm.Cond.privateMethod ({ cls := "MaskedEarsModel", name := "isRefused", desc := "(I)Z" } : Jvm.MethodName)) ∈ lw_tbl := lw_at lw_m7 17 rfl
theorem q1563 : (Jvm.Cond.instanceMethod ({ cls := "MaskedEarsModel", name := "isRefused", desc := "(I)Z" } : Jvm.MethodName)) ∈ lw_all := lw_g (lw_at lw_m7 18 rfl) rfl
theorem q1564 : (Jvm.Cond.code ({ cls := "MaskedEarsModel", name := "isRefused", desc := "(I)Z" } : Jvm.MethodName) prog_14_method_6_code (2 : Nat) (Option.some Jvm.ClassFile.FieldType.boolean)) ∈ lw_all := lw_g (lw_at lw_m7 19 rfl) rfl
theorem q1565 : (Jvm.Cond.methodLink "MaskedEarsModel" (162 : Nat) ({ cls := "MaskedEarsModel", name := "readAll", desc := "(I)Z" } : Jvm.MethodName)) ∈ lw_all := lw_g (lw_at lw_m7 20 rfl) rfl
theorem q1566 : (Jvm.Cond.privateMethod ({ cls := "MaskedEarsModel", name := "readAll", desc := "(I)Z" } : Jvm.MethodName)) ∈ lw_tbl := lw_at lw_m7 21 rfl
theorem q1567 : (Jvm.Cond.instanceMethod ({ cls := "MaskedEarsModel", name := "readAll", desc := "(I)Z" } : Jvm.MethodName)) ∈ lw_all := lw_g (lw_at lw_m7 22 rfl) rfl
theorem q1568 : (Jvm.Cond.code ({ cls := "MaskedEarsModel", name := "readAll", desc := "(I)Z" } : Jvm.MethodName) prog_14_method_22_code (2 : Nat) (Option.some Jvm.ClassFile.FieldType.boolean)) ∈ lw_all := lw_g (lw_at lw_m7 23 rfl) rfl
theorem q1569 : (Jvm.Cond.methodLink "MaskedEarsModel" (97 : Nat) ({ cls := "MaskedEarsModel", name := "goesOn", desc := "()V" } : Jvm.MethodName)) ∈ lw_all := lw_g (lw_at lw_m7 24 rfl) rfl
theorem q1570 : (Jvm.Cond.privateMethod ({ cls := "MaskedEarsModel", name := "goesOn", desc := "()V" } : Jvm.MethodName)) ∈ lw_tbl := lw_at lw_m7 25 rfl
theorem q1571 : (Jvm.Cond.instanceMethod ({ cls := "MaskedEarsModel", name := "goesOn", desc := "()V" } : Jvm.MethodName)) ∈ lw_all := lw_g (lw_at lw_m7 26 rfl) rfl
theorem q1572 : (Jvm.Cond.code ({ cls := "MaskedEarsModel", name := "goesOn", desc := "()V" } : Jvm.MethodName) prog_14_method_12_code (2 : Nat) (Option.none : Option Jvm.ClassFile.FieldType)) ∈ lw_all := lw_g (lw_at lw_m7 27 rfl) rfl
theorem q1573 : (Jvm.Cond.methodLink "MaskedEarsModel" (60 : Nat) ({ cls := "MaskedEarsModel", name := "see", desc := "(I)I" } : Jvm.MethodName)) ∈ lw_all := lw_g (lw_at lw_m7 28 rfl) rfl
theorem q1574 : (Jvm.Cond.privateMethod ({ cls := "MaskedEarsModel", name := "see", desc := "(I)I" } : Jvm.MethodName)) ∈ lw_tbl := lw_at lw_m7 29 rfl
theorem q1575 : (Jvm.Cond.instanceMethod ({ cls := "MaskedEarsModel", name := "see", desc := "(I)I" } : Jvm.MethodName)) ∈ lw_all := lw_g (lw_at lw_m7 30 rfl) rfl
theorem q1576 : (Jvm.Cond.code ({ cls := "MaskedEarsModel", name := "see", desc := "(I)I" } : Jvm.MethodName) prog_14_method_11_code (2 : Nat) (Option.some Jvm.ClassFile.FieldType.int)) ∈ lw_all := lw_g (lw_at lw_m7 31 rfl) rfl
theorem q1577 : (Jvm.Cond.methodLink "MaskedEarsModel" (153 : Nat) ({ cls := "MaskedEarsModel", name := "readLine", desc := "()Z" } : Jvm.MethodName)) ∈ lw_all := lw_g (lw_at lw_m7 32 rfl) rfl
theorem q1578 : (Jvm.Cond.privateMethod ({ cls := "MaskedEarsModel", name := "readLine", desc := "()Z" } : Jvm.MethodName)) ∈ lw_tbl := lw_at lw_m7 33 rfl
theorem q1579 : (Jvm.Cond.instanceMethod ({ cls := "MaskedEarsModel", name := "readLine", desc := "()Z" } : Jvm.MethodName)) ∈ lw_all := lw_g (lw_at lw_m7 34 rfl) rfl
theorem q1580 : (Jvm.Cond.code ({ cls := "MaskedEarsModel", name := "readLine", desc := "()Z" } : Jvm.MethodName) prog_14_method_21_code (1 : Nat) (Option.some Jvm.ClassFile.FieldType.boolean)) ∈ lw_all := lw_g (lw_at lw_m7 35 rfl) rfl
theorem q1581 : (Jvm.Cond.stringRef "MaskedEarsModel" (135 : Nat) "tester") ∈ lw_tbl := lw_at lw_m7 36 rfl
theorem q1582 : (Jvm.Cond.methodLink "MaskedEarsModel" (100 : Nat) ({ cls := "MaskedEarsModel", name := "isWord", desc := "(Ljava/lang/String;)Z" } : Jvm.MethodName)) ∈ lw_all := lw_g (lw_at lw_m7 37 rfl) rfl
theorem q1583 : (Jvm.Cond.privateMethod ({ cls := "MaskedEarsModel", name := "isWord", desc := "(Ljava/lang/String;)Z" } : Jvm.MethodName)) ∈ lw_tbl := lw_at lw_m7 38 rfl
theorem q1584 : (Jvm.Cond.instanceMethod ({ cls := "MaskedEarsModel", name := "isWord", desc := "(Ljava/lang/String;)Z" } : Jvm.MethodName)) ∈ lw_all := lw_g (lw_at lw_m7 39 rfl) rfl
theorem q1585 : (Jvm.Cond.code ({ cls := "MaskedEarsModel", name := "isWord", desc := "(Ljava/lang/String;)Z" } : Jvm.MethodName) prog_14_method_13_code (3 : Nat) (Option.some Jvm.ClassFile.FieldType.boolean)) ∈ lw_all := lw_g (lw_at lw_m7 40 rfl) rfl
theorem q1586 : (Jvm.Cond.methodLink "MaskedEarsModel" (77 : Nat) ({ cls := "java/lang/String", name := "length", desc := "()I" } : Jvm.MethodName)) ∈ lw_all := lw_g (lw_at lw_m7 41 rfl) rfl
theorem q1587 : (Jvm.Cond.methodLink "MaskedEarsModel" (83 : Nat) ({ cls := "java/lang/String", name := "charAt", desc := "(I)C" } : Jvm.MethodName)) ∈ lw_all := lw_g (lw_at lw_m7 42 rfl) rfl
theorem q1588 : (Jvm.Cond.methodLink "MaskedEarsModel" (137 : Nat) ({ cls := "MaskedEarsModel", name := "readTester", desc := "()Z" } : Jvm.MethodName)) ∈ lw_all := lw_g (lw_at lw_m7 43 rfl) rfl
theorem q1589 : (Jvm.Cond.privateMethod ({ cls := "MaskedEarsModel", name := "readTester", desc := "()Z" } : Jvm.MethodName)) ∈ lw_tbl := lw_at lw_m7 44 rfl
theorem q1590 : (Jvm.Cond.instanceMethod ({ cls := "MaskedEarsModel", name := "readTester", desc := "()Z" } : Jvm.MethodName)) ∈ lw_all := lw_g (lw_at lw_m7 45 rfl) rfl
theorem q1591 : (Jvm.Cond.code ({ cls := "MaskedEarsModel", name := "readTester", desc := "()Z" } : Jvm.MethodName) prog_14_method_18_code (1 : Nat) (Option.some Jvm.ClassFile.FieldType.boolean)) ∈ lw_all := lw_g (lw_at lw_m7 46 rfl) rfl
theorem q1592 : (Jvm.Cond.methodLink "MaskedEarsModel" (93 : Nat) ({ cls := "MaskedEarsModel", name := "errs", desc := "(I)Z" } : Jvm.MethodName)) ∈ lw_all := lw_g (lw_at lw_m7 47 rfl) rfl
theorem q1593 : (Jvm.Cond.privateMethod ({ cls := "MaskedEarsModel", name := "errs", desc := "(I)Z" } : Jvm.MethodName)) ∈ lw_tbl := lw_at lw_m7 48 rfl
theorem q1594 : (Jvm.Cond.instanceMethod ({ cls := "MaskedEarsModel", name := "errs", desc := "(I)Z" } : Jvm.MethodName)) ∈ lw_all := lw_g (lw_at lw_m7 49 rfl) rfl
theorem q1595 : (Jvm.Cond.code ({ cls := "MaskedEarsModel", name := "errs", desc := "(I)Z" } : Jvm.MethodName) prog_14_method_14_code (2 : Nat) (Option.some Jvm.ClassFile.FieldType.boolean)) ∈ lw_all := lw_g (lw_at lw_m7 50 rfl) rfl
theorem q1596 : (Jvm.Cond.stringRef "MaskedEarsModel" (114 : Nat) "tones") ∈ lw_tbl := lw_at lw_m7 51 rfl
theorem q1597 : (Jvm.Cond.methodLink "MaskedEarsModel" (116 : Nat) ({ cls := "MaskedEarsModel", name := "after", desc := "(Ljava/lang/String;III)Z" } : Jvm.MethodName)) ∈ lw_all := lw_g (lw_at lw_m7 52 rfl) rfl
theorem q1598 : (Jvm.Cond.privateMethod ({ cls := "MaskedEarsModel", name := "after", desc := "(Ljava/lang/String;III)Z" } : Jvm.MethodName)) ∈ lw_tbl := lw_at lw_m7 53 rfl
theorem q1599 : (Jvm.Cond.instanceMethod ({ cls := "MaskedEarsModel", name := "after", desc := "(Ljava/lang/String;III)Z" } : Jvm.MethodName)) ∈ lw_all := lw_g (lw_at lw_m7 54 rfl) rfl
theorem q1600 : (Jvm.Cond.code ({ cls := "MaskedEarsModel", name := "after", desc := "(Ljava/lang/String;III)Z" } : Jvm.MethodName) prog_14_method_17_code (5 : Nat) (Option.some Jvm.ClassFile.FieldType.boolean)) ∈ lw_all := lw_g (lw_at lw_m7 55 rfl) rfl
theorem q1601 : (Jvm.Cond.methodLink "MaskedEarsModel" (104 : Nat) ({ cls := "MaskedEarsModel", name := "passes", desc := "(Ljava/lang/String;)Z" } : Jvm.MethodName)) ∈ lw_all := lw_g (lw_at lw_m7 56 rfl) rfl
theorem q1602 : (Jvm.Cond.privateMethod ({ cls := "MaskedEarsModel", name := "passes", desc := "(Ljava/lang/String;)Z" } : Jvm.MethodName)) ∈ lw_tbl := lw_at lw_m7 57 rfl
theorem q1603 : (Jvm.Cond.instanceMethod ({ cls := "MaskedEarsModel", name := "passes", desc := "(Ljava/lang/String;)Z" } : Jvm.MethodName)) ∈ lw_all := lw_g (lw_at lw_m7 58 rfl) rfl
theorem q1604 : (Jvm.Cond.code ({ cls := "MaskedEarsModel", name := "passes", desc := "(Ljava/lang/String;)Z" } : Jvm.MethodName) prog_14_method_16_code (2 : Nat) (Option.some Jvm.ClassFile.FieldType.boolean)) ∈ lw_all := lw_g (lw_at lw_m7 59 rfl) rfl
theorem q1605 : (Jvm.Cond.methodLink "MaskedEarsModel" (107 : Nat) ({ cls := "MaskedEarsModel", name := "lays", desc := "(III)Z" } : Jvm.MethodName)) ∈ lw_all := lw_g (lw_at lw_m7 60 rfl) rfl
theorem q1606 : (Jvm.Cond.privateMethod ({ cls := "MaskedEarsModel", name := "lays", desc := "(III)Z" } : Jvm.MethodName)) ∈ lw_tbl := lw_at lw_m7 61 rfl
theorem q1607 : (Jvm.Cond.instanceMethod ({ cls := "MaskedEarsModel", name := "lays", desc := "(III)Z" } : Jvm.MethodName)) ∈ lw_all := lw_g (lw_at lw_m7 62 rfl) rfl
theorem q1608 : (Jvm.Cond.code ({ cls := "MaskedEarsModel", name := "lays", desc := "(III)Z" } : Jvm.MethodName) prog_14_method_15_code (4 : Nat) (Option.some Jvm.ClassFile.FieldType.boolean)) ∈ lw_all := lw_g (lw_at lw_m7 63 rfl) rfl
theorem q1609 : (Jvm.Cond.stringRef "MaskedEarsModel" (120 : Nat) "across") ∈ lw_tbl := lw_at lw_m7 64 rfl
theorem q1610 : (Jvm.Cond.stringRef "MaskedEarsModel" (122 : Nat) "gap") ∈ lw_tbl := lw_at lw_m7 65 rfl
theorem q1611 : (Jvm.Cond.stringRef "MaskedEarsModel" (124 : Nat) "rise") ∈ lw_tbl := lw_at lw_m7 66 rfl
theorem q1612 : (Jvm.Cond.stringRef "MaskedEarsModel" (126 : Nat) "flats") ∈ lw_tbl := lw_at lw_m7 67 rfl
theorem q1613 : (Jvm.Cond.stringRef "MaskedEarsModel" (141 : Nat) "left") ∈ lw_tbl := lw_at lw_m7 68 rfl
theorem q1614 : (Jvm.Cond.methodLink "MaskedEarsModel" (143 : Nat) ({ cls := "MaskedEarsModel", name := "readEar", desc := "(I)Z" } : Jvm.MethodName)) ∈ lw_all := lw_g (lw_at lw_m7 69 rfl) rfl
theorem q1615 : (Jvm.Cond.privateMethod ({ cls := "MaskedEarsModel", name := "readEar", desc := "(I)Z" } : Jvm.MethodName)) ∈ lw_tbl := lw_at lw_m7 70 rfl
theorem q1616 : (Jvm.Cond.instanceMethod ({ cls := "MaskedEarsModel", name := "readEar", desc := "(I)Z" } : Jvm.MethodName)) ∈ lw_all := lw_g (lw_at lw_m7 71 rfl) rfl
theorem q1617 : (Jvm.Cond.code ({ cls := "MaskedEarsModel", name := "readEar", desc := "(I)Z" } : Jvm.MethodName) prog_14_method_19_code (3 : Nat) (Option.some Jvm.ClassFile.FieldType.boolean)) ∈ lw_all := lw_g (lw_at lw_m7 72 rfl) rfl
theorem q1618 : (Jvm.Cond.stringRef "MaskedEarsModel" (131 : Nat) "air") ∈ lw_tbl := lw_at lw_m7 73 rfl
theorem q1619 : (Jvm.Cond.stringRef "MaskedEarsModel" (133 : Nat) "bone") ∈ lw_tbl := lw_at lw_m7 74 rfl
theorem q1620 : (Jvm.Cond.stringRef "MaskedEarsModel" (146 : Nat) "right") ∈ lw_tbl := lw_at lw_m7 75 rfl
theorem q1621 : (Jvm.Cond.stringRef "MaskedEarsModel" (148 : Nat) "slip") ∈ lw_tbl := lw_at lw_m7 76 rfl
theorem q1622 : (Jvm.Cond.methodLink "MaskedEarsModel" (150 : Nat) ({ cls := "MaskedEarsModel", name := "readSlip", desc := "()Z" } : Jvm.MethodName)) ∈ lw_all := lw_g (lw_at lw_m7 77 rfl) rfl
theorem q1623 : (Jvm.Cond.privateMethod ({ cls := "MaskedEarsModel", name := "readSlip", desc := "()Z" } : Jvm.MethodName)) ∈ lw_tbl := lw_at lw_m7 78 rfl
theorem q1624 : (Jvm.Cond.instanceMethod ({ cls := "MaskedEarsModel", name := "readSlip", desc := "()Z" } : Jvm.MethodName)) ∈ lw_all := lw_g (lw_at lw_m7 79 rfl) rfl
theorem q1625 : (Jvm.Cond.code ({ cls := "MaskedEarsModel", name := "readSlip", desc := "()Z" } : Jvm.MethodName) prog_14_method_20_code (2 : Nat) (Option.some Jvm.ClassFile.FieldType.boolean)) ∈ lw_all := lw_g (lw_at lw_m7 80 rfl) rfl
theorem q1626 : (Jvm.Cond.methodLink "MaskedEarsModel" (165 : Nat) ({ cls := "MaskedEarsModel", name := "no", desc := "(I)I" } : Jvm.MethodName)) ∈ lw_all := lw_g (lw_at lw_m7 81 rfl) rfl
theorem q1627 : (Jvm.Cond.privateMethod ({ cls := "MaskedEarsModel", name := "no", desc := "(I)I" } : Jvm.MethodName)) ∈ lw_tbl := lw_at lw_m7 82 rfl
theorem q1628 : (Jvm.Cond.instanceMethod ({ cls := "MaskedEarsModel", name := "no", desc := "(I)I" } : Jvm.MethodName)) ∈ lw_all := lw_g (lw_at lw_m7 83 rfl) rfl
theorem q1629 : (Jvm.Cond.code ({ cls := "MaskedEarsModel", name := "no", desc := "(I)I" } : Jvm.MethodName) prog_14_method_5_code (2 : Nat) (Option.some Jvm.ClassFile.FieldType.int)) ∈ lw_all := lw_g (lw_at lw_m7 84 rfl) rfl
theorem q1630 : (Jvm.Cond.methodLink "MaskedEarsModel" (174 : Nat) ({ cls := "MaskedEarsModel", name := "beginsAll", desc := "()V" } : Jvm.MethodName)) ∈ lw_all := lw_g (lw_at lw_m7 85 rfl) rfl
theorem q1631 : (Jvm.Cond.privateMethod ({ cls := "MaskedEarsModel", name := "beginsAll", desc := "()V" } : Jvm.MethodName)) ∈ lw_tbl := lw_at lw_m7 86 rfl
theorem q1632 : (Jvm.Cond.instanceMethod ({ cls := "MaskedEarsModel", name := "beginsAll", desc := "()V" } : Jvm.MethodName)) ∈ lw_all := lw_g (lw_at lw_m7 87 rfl) rfl
theorem q1633 : (Jvm.Cond.code ({ cls := "MaskedEarsModel", name := "beginsAll", desc := "()V" } : Jvm.MethodName) prog_14_method_43_code (3 : Nat) (Option.none : Option Jvm.ClassFile.FieldType)) ∈ lw_all := lw_g (lw_at lw_m7 88 rfl) rfl
theorem q1634 : (Jvm.Cond.methodLink "MaskedEarsModel" (219 : Nat) ({ cls := "MaskedEarsModel", name := "addsTask", desc := "(IIII)V" } : Jvm.MethodName)) ∈ lw_all := lw_g (lw_at lw_m7 89 rfl) rfl
theorem q1635 : (Jvm.Cond.privateMethod ({ cls := "MaskedEarsModel", name := "addsTask", desc := "(IIII)V" } : Jvm.MethodName)) ∈ lw_tbl := lw_at lw_m7 90 rfl
theorem q1636 : (Jvm.Cond.instanceMethod ({ cls := "MaskedEarsModel", name := "addsTask", desc := "(IIII)V" } : Jvm.MethodName)) ∈ lw_all := lw_g (lw_at lw_m7 91 rfl) rfl
theorem q1637 : (Jvm.Cond.code ({ cls := "MaskedEarsModel", name := "addsTask", desc := "(IIII)V" } : Jvm.MethodName) prog_14_method_41_code (6 : Nat) (Option.none : Option Jvm.ClassFile.FieldType)) ∈ lw_all := lw_g (lw_at lw_m7 92 rfl) rfl
theorem q1638 : (Jvm.Cond.methodLink "MaskedEarsModel" (213 : Nat) ({ cls := "MaskedEarsModel", name := "at", desc := "(II)I" } : Jvm.MethodName)) ∈ lw_all := lw_g (lw_at lw_m7 93 rfl) rfl
theorem q1639 : (Jvm.Cond.static ({ cls := "MaskedEarsModel", name := "at", desc := "(II)I" } : Jvm.MethodName)) ∈ lw_all := lw_g (lw_at lw_m7 94 rfl) rfl
theorem q1640 : (Jvm.Cond.code ({ cls := "MaskedEarsModel", name := "at", desc := "(II)I" } : Jvm.MethodName) prog_14_method_40_code (2 : Nat) (Option.some Jvm.ClassFile.FieldType.int)) ∈ lw_all := lw_g (lw_at lw_m7 95 rfl) rfl
theorem q1641 : (Jvm.Cond.methodLink "MaskedEarsModel" (216 : Nat) ({ cls := "MaskedEarsModel", name := "forgets", desc := "(I)V" } : Jvm.MethodName)) ∈ lw_all := lw_g (lw_at lw_m7 96 rfl) rfl
theorem q1642 : (Jvm.Cond.privateMethod ({ cls := "MaskedEarsModel", name := "forgets", desc := "(I)V" } : Jvm.MethodName)) ∈ lw_tbl := lw_at lw_m7 97 rfl
theorem q1643 : (Jvm.Cond.instanceMethod ({ cls := "MaskedEarsModel", name := "forgets", desc := "(I)V" } : Jvm.MethodName)) ∈ lw_all := lw_g (lw_at lw_m7 98 rfl) rfl
theorem q1644 : (Jvm.Cond.code ({ cls := "MaskedEarsModel", name := "forgets", desc := "(I)V" } : Jvm.MethodName) prog_14_method_42_code (2 : Nat) (Option.none : Option Jvm.ClassFile.FieldType)) ∈ lw_all := lw_g (lw_at lw_m7 99 rfl) rfl
theorem q1645 : (Jvm.Cond.methodLink "MaskedEarsModel" (223 : Nat) ({ cls := "MaskedEarsModel", name := "begins", desc := "(I)Z" } : Jvm.MethodName)) ∈ lw_all := lw_g (lw_at lw_m7 100 rfl) rfl
theorem q1646 : (Jvm.Cond.privateMethod ({ cls := "MaskedEarsModel", name := "begins", desc := "(I)Z" } : Jvm.MethodName)) ∈ lw_tbl := lw_at lw_m7 101 rfl
theorem q1647 : (Jvm.Cond.instanceMethod ({ cls := "MaskedEarsModel", name := "begins", desc := "(I)Z" } : Jvm.MethodName)) ∈ lw_all := lw_g (lw_at lw_m7 102 rfl) rfl
theorem q1648 : (Jvm.Cond.code ({ cls := "MaskedEarsModel", name := "begins", desc := "(I)Z" } : Jvm.MethodName) prog_14_method_54_code (5 : Nat) (Option.some Jvm.ClassFile.FieldType.boolean)) ∈ lw_all := lw_g (lw_at lw_m7 103 rfl) rfl
theorem q1649 : (Jvm.Cond.methodLink "MaskedEarsModel" (244 : Nat) ({ cls := "MaskedEarsModel", name := "searches", desc := "(II)V" } : Jvm.MethodName)) ∈ lw_all := lw_g (lw_at lw_m7 104 rfl) rfl
theorem q1650 : (Jvm.Cond.privateMethod ({ cls := "MaskedEarsModel", name := "searches", desc := "(II)V" } : Jvm.MethodName)) ∈ lw_tbl := lw_at lw_m7 105 rfl
theorem q1651 : (Jvm.Cond.instanceMethod ({ cls := "MaskedEarsModel", name := "searches", desc := "(II)V" } : Jvm.MethodName)) ∈ lw_all := lw_g (lw_at lw_m7 106 rfl) rfl
theorem q1652 : (Jvm.Cond.code ({ cls := "MaskedEarsModel", name := "searches", desc := "(II)V" } : Jvm.MethodName) prog_14_method_53_code (4 : Nat) (Option.none : Option Jvm.ClassFile.FieldType)) ∈ lw_all := lw_g (lw_at lw_m7 107 rfl) rfl
theorem q1653 : (Jvm.Cond.methodLink "MaskedEarsModel" (238 : Nat) ({ cls := "MaskedEarsModel", name := "lesser", desc := "(II)I" } : Jvm.MethodName)) ∈ lw_all := lw_g (lw_at lw_m7 108 rfl) rfl
theorem q1654 : (Jvm.Cond.static ({ cls := "MaskedEarsModel", name := "lesser", desc := "(II)I" } : Jvm.MethodName)) ∈ lw_all := lw_g (lw_at lw_m7 109 rfl) rfl
theorem q1655 : (Jvm.Cond.code ({ cls := "MaskedEarsModel", name := "lesser", desc := "(II)I" } : Jvm.MethodName) prog_14_method_4_code (2 : Nat) (Option.some Jvm.ClassFile.FieldType.int)) ∈ lw_all := lw_g (lw_at lw_m7 110 rfl) rfl
theorem q1656 : (Jvm.Cond.methodLink "MaskedEarsModel" (232 : Nat) ({ cls := "MaskedEarsModel", name := "areProved", desc := "(I)Z" } : Jvm.MethodName)) ∈ lw_all := lw_g (lw_at lw_m7 111 rfl) rfl
theorem q1657 : (Jvm.Cond.privateMethod ({ cls := "MaskedEarsModel", name := "areProved", desc := "(I)Z" } : Jvm.MethodName)) ∈ lw_tbl := lw_at lw_m7 112 rfl
theorem q1658 : (Jvm.Cond.instanceMethod ({ cls := "MaskedEarsModel", name := "areProved", desc := "(I)Z" } : Jvm.MethodName)) ∈ lw_all := lw_g (lw_at lw_m7 113 rfl) rfl
theorem q1659 : (Jvm.Cond.code ({ cls := "MaskedEarsModel", name := "areProved", desc := "(I)Z" } : Jvm.MethodName) prog_14_method_48_code (2 : Nat) (Option.some Jvm.ClassFile.FieldType.boolean)) ∈ lw_all := lw_g (lw_at lw_m7 114 rfl) rfl
theorem q1660 : (Jvm.Cond.methodLink "MaskedEarsModel" (226 : Nat) ({ cls := "MaskedEarsModel", name := "plain", desc := "(III)I" } : Jvm.MethodName)) ∈ lw_all := lw_g (lw_at lw_m7 115 rfl) rfl
theorem q1661 : (Jvm.Cond.privateMethod ({ cls := "MaskedEarsModel", name := "plain", desc := "(III)I" } : Jvm.MethodName)) ∈ lw_tbl := lw_at lw_m7 116 rfl
theorem q1662 : (Jvm.Cond.instanceMethod ({ cls := "MaskedEarsModel", name := "plain", desc := "(III)I" } : Jvm.MethodName)) ∈ lw_all := lw_g (lw_at lw_m7 117 rfl) rfl
theorem q1663 : (Jvm.Cond.code ({ cls := "MaskedEarsModel", name := "plain", desc := "(III)I" } : Jvm.MethodName) prog_14_method_44_code (4 : Nat) (Option.some Jvm.ClassFile.FieldType.int)) ∈ lw_all := lw_g (lw_at lw_m7 118 rfl) rfl
theorem q1664 : (Jvm.Cond.methodLink "MaskedEarsModel" (229 : Nat) ({ cls := "MaskedEarsModel", name := "isProved", desc := "(I)Z" } : Jvm.MethodName)) ∈ lw_all := lw_g (lw_at lw_m7 119 rfl) rfl
theorem q1665 : (Jvm.Cond.privateMethod ({ cls := "MaskedEarsModel", name := "isProved", desc := "(I)Z" } : Jvm.MethodName)) ∈ lw_tbl := lw_at lw_m7 120 rfl
theorem q1666 : (Jvm.Cond.instanceMethod ({ cls := "MaskedEarsModel", name := "isProved", desc := "(I)Z" } : Jvm.MethodName)) ∈ lw_all := lw_g (lw_at lw_m7 121 rfl) rfl
theorem q1667 : (Jvm.Cond.code ({ cls := "MaskedEarsModel", name := "isProved", desc := "(I)Z" } : Jvm.MethodName) prog_14_method_47_code (2 : Nat) (Option.some Jvm.ClassFile.FieldType.boolean)) ∈ lw_all := lw_g (lw_at lw_m7 122 rfl) rfl
theorem q1668 : (Jvm.Cond.methodLink "MaskedEarsModel" (248 : Nat) ({ cls := "MaskedEarsModel", name := "firstNoise", desc := "(II)I" } : Jvm.MethodName)) ∈ lw_all := lw_g (lw_at lw_m7 123 rfl) rfl
theorem q1669 : (Jvm.Cond.privateMethod ({ cls := "MaskedEarsModel", name := "firstNoise", desc := "(II)I" } : Jvm.MethodName)) ∈ lw_tbl := lw_at lw_m7 124 rfl
theorem q1670 : (Jvm.Cond.instanceMethod ({ cls := "MaskedEarsModel", name := "firstNoise", desc := "(II)I" } : Jvm.MethodName)) ∈ lw_all := lw_g (lw_at lw_m7 125 rfl) rfl
theorem q1671 : (Jvm.Cond.code ({ cls := "MaskedEarsModel", name := "firstNoise", desc := "(II)I" } : Jvm.MethodName) prog_14_method_51_code (3 : Nat) (Option.some Jvm.ClassFile.FieldType.int)) ∈ lw_all := lw_g (lw_at lw_m7 126 rfl) rfl
theorem q1672 : (Jvm.Cond.methodLink "MaskedEarsModel" (235 : Nat) ({ cls := "MaskedEarsModel", name := "plainThreshold", desc := "(III)I" } : Jvm.MethodName)) ∈ lw_all := lw_g (lw_at lw_m7 127 rfl) rfl
theorem q1673 : (Jvm.Cond.privateMethod ({ cls := "MaskedEarsModel", name := "plainThreshold", desc := "(III)I" } : Jvm.MethodName)) ∈ lw_tbl := lw_at lw_m7 128 rfl
theorem q1674 : (Jvm.Cond.instanceMethod ({ cls := "MaskedEarsModel", name := "plainThreshold", desc := "(III)I" } : Jvm.MethodName)) ∈ lw_all := lw_g (lw_at lw_m7 129 rfl) rfl
theorem q1675 : (Jvm.Cond.code ({ cls := "MaskedEarsModel", name := "plainThreshold", desc := "(III)I" } : Jvm.MethodName) prog_14_method_46_code (4 : Nat) (Option.some Jvm.ClassFile.FieldType.int)) ∈ lw_all := lw_g (lw_at lw_m7 130 rfl) rfl
theorem q1676 : (Jvm.Cond.methodLink "MaskedEarsModel" (251 : Nat) ({ cls := "MaskedEarsModel", name := "bound", desc := "(II)I" } : Jvm.MethodName)) ∈ lw_all := lw_g (lw_at lw_m7 131 rfl) rfl
theorem q1677 : (Jvm.Cond.privateMethod ({ cls := "MaskedEarsModel", name := "bound", desc := "(II)I" } : Jvm.MethodName)) ∈ lw_tbl := lw_at lw_m7 132 rfl
theorem q1678 : (Jvm.Cond.instanceMethod ({ cls := "MaskedEarsModel", name := "bound", desc := "(II)I" } : Jvm.MethodName)) ∈ lw_all := lw_g (lw_at lw_m7 133 rfl) rfl
theorem q1679 : (Jvm.Cond.code ({ cls := "MaskedEarsModel", name := "bound", desc := "(II)I" } : Jvm.MethodName) prog_14_method_52_code (3 : Nat) (Option.some Jvm.ClassFile.FieldType.int)) ∈ lw_all := lw_g (lw_at lw_m7 134 rfl) rfl
theorem q1681 : (Jvm.Cond.instanceMethod ({ cls := "MaskedEarsModel", name := "fault", desc := "()I" } : Jvm.MethodName)) ∈ lw_all := lw_g (lw_at lw_m7 136 rfl) rfl
theorem q1682 : (Jvm.Cond.selects "MaskedEarsModel" ({ cls := "MaskedEarsModel", name := "fault", desc := "()I" } : Jvm.MethodName) ({ cls := "MaskedEarsModel", name := "fault", desc := "()I" } : Jvm.MethodName)) ∈ lw_all := lw_g (lw_at lw_m7 137 rfl) rfl
theorem q1683 : (Jvm.Cond.code ({ cls := "MaskedEarsModel", name := "fault", desc := "()I" } : Jvm.MethodName) prog_14_method_24_code (1 : Nat) (Option.some Jvm.ClassFile.FieldType.int)) ∈ lw_all := lw_g (lw_at lw_m7 138 rfl) rfl
theorem q1685 : (Jvm.Cond.instanceMethod ({ cls := "MaskedEarsModel", name := "where", desc := "()I" } : Jvm.MethodName)) ∈ lw_all := lw_g (lw_at lw_m7 140 rfl) rfl
theorem q1686 : (Jvm.Cond.selects "MaskedEarsModel" ({ cls := "MaskedEarsModel", name := "where", desc := "()I" } : Jvm.MethodName) ({ cls := "MaskedEarsModel", name := "where", desc := "()I" } : Jvm.MethodName)) ∈ lw_all := lw_g (lw_at lw_m7 141 rfl) rfl
theorem q1687 : (Jvm.Cond.code ({ cls := "MaskedEarsModel", name := "where", desc := "()I" } : Jvm.MethodName) prog_14_method_25_code (1 : Nat) (Option.some Jvm.ClassFile.FieldType.int)) ∈ lw_all := lw_g (lw_at lw_m7 142 rfl) rfl
theorem q1689 : (Jvm.Cond.instanceMethod ({ cls := "MaskedEarsModel", name := "listener", desc := "(III)I" } : Jvm.MethodName)) ∈ lw_all := lw_g (lw_at lw_m7 144 rfl) rfl
theorem q1690 : (Jvm.Cond.selects "MaskedEarsModel" ({ cls := "MaskedEarsModel", name := "listener", desc := "(III)I" } : Jvm.MethodName) ({ cls := "MaskedEarsModel", name := "listener", desc := "(III)I" } : Jvm.MethodName)) ∈ lw_all := lw_g (lw_at lw_m7 145 rfl) rfl
theorem q1691 : (Jvm.Cond.code ({ cls := "MaskedEarsModel", name := "listener", desc := "(III)I" } : Jvm.MethodName) prog_14_method_31_code (4 : Nat) (Option.some Jvm.ClassFile.FieldType.int)) ∈ lw_all := lw_g (lw_at lw_m7 146 rfl) rfl
theorem q1692 : (Jvm.Cond.methodLink "MaskedEarsModel" (188 : Nat) ({ cls := "MaskedEarsModel", name := "isOne", desc := "(III)Z" } : Jvm.MethodName)) ∈ lw_all := lw_g (lw_at lw_m7 147 rfl) rfl
theorem q1693 : (Jvm.Cond.privateMethod ({ cls := "MaskedEarsModel", name := "isOne", desc := "(III)Z" } : Jvm.MethodName)) ∈ lw_tbl := lw_at lw_m7 148 rfl
theorem q1694 : (Jvm.Cond.instanceMethod ({ cls := "MaskedEarsModel", name := "isOne", desc := "(III)Z" } : Jvm.MethodName)) ∈ lw_all := lw_g (lw_at lw_m7 149 rfl) rfl
theorem q1695 : (Jvm.Cond.code ({ cls := "MaskedEarsModel", name := "isOne", desc := "(III)Z" } : Jvm.MethodName) prog_14_method_30_code (4 : Nat) (Option.some Jvm.ClassFile.FieldType.boolean)) ∈ lw_all := lw_g (lw_at lw_m7 150 rfl) rfl
theorem q1696 : (Jvm.Cond.methodLink "MaskedEarsModel" (191 : Nat) ({ cls := "MaskedEarsModel", name := "unless", desc := "(Z)I" } : Jvm.MethodName)) ∈ lw_all := lw_g (lw_at lw_m7 151 rfl) rfl
theorem q1697 : (Jvm.Cond.static ({ cls := "MaskedEarsModel", name := "unless", desc := "(Z)I" } : Jvm.MethodName)) ∈ lw_all := lw_g (lw_at lw_m7 152 rfl) rfl
theorem q1698 : (Jvm.Cond.code ({ cls := "MaskedEarsModel", name := "unless", desc := "(Z)I" } : Jvm.MethodName) prog_14_method_7_code (1 : Nat) (Option.some Jvm.ClassFile.FieldType.int)) ∈ lw_all := lw_g (lw_at lw_m7 153 rfl) rfl
theorem q1699 : (Jvm.Cond.methodLink "MaskedEarsModel" (181 : Nat) ({ cls := "MaskedEarsModel", name := "airOf", desc := "(II)I" } : Jvm.MethodName)) ∈ lw_all := lw_g (lw_at lw_m7 154 rfl) rfl
theorem q1700 : (Jvm.Cond.privateMethod ({ cls := "MaskedEarsModel", name := "airOf", desc := "(II)I" } : Jvm.MethodName)) ∈ lw_tbl := lw_at lw_m7 155 rfl
theorem q1701 : (Jvm.Cond.instanceMethod ({ cls := "MaskedEarsModel", name := "airOf", desc := "(II)I" } : Jvm.MethodName)) ∈ lw_all := lw_g (lw_at lw_m7 156 rfl) rfl
theorem q1702 : (Jvm.Cond.code ({ cls := "MaskedEarsModel", name := "airOf", desc := "(II)I" } : Jvm.MethodName) prog_14_method_26_code (3 : Nat) (Option.some Jvm.ClassFile.FieldType.int)) ∈ lw_all := lw_g (lw_at lw_m7 157 rfl) rfl
theorem q1703 : (Jvm.Cond.methodLink "MaskedEarsModel" (177 : Nat) ({ cls := "MaskedEarsModel", name := "boneOf", desc := "(II)I" } : Jvm.MethodName)) ∈ lw_all := lw_g (lw_at lw_m7 158 rfl) rfl
theorem q1704 : (Jvm.Cond.privateMethod ({ cls := "MaskedEarsModel", name := "boneOf", desc := "(II)I" } : Jvm.MethodName)) ∈ lw_tbl := lw_at lw_m7 159 rfl
theorem q1705 : (Jvm.Cond.instanceMethod ({ cls := "MaskedEarsModel", name := "boneOf", desc := "(II)I" } : Jvm.MethodName)) ∈ lw_all := lw_g (lw_at lw_m7 160 rfl) rfl
theorem q1706 : (Jvm.Cond.code ({ cls := "MaskedEarsModel", name := "boneOf", desc := "(II)I" } : Jvm.MethodName) prog_14_method_27_code (3 : Nat) (Option.some Jvm.ClassFile.FieldType.int)) ∈ lw_all := lw_g (lw_at lw_m7 161 rfl) rfl
theorem q1708 : (Jvm.Cond.instanceMethod ({ cls := "MaskedEarsModel", name := "hears", desc := "(IIIII)I" } : Jvm.MethodName)) ∈ lw_all := lw_g (lw_at lw_m7 163 rfl) rfl
theorem q1709 : (Jvm.Cond.selects "MaskedEarsModel" ({ cls := "MaskedEarsModel", name := "hears", desc := "(IIIII)I" } : Jvm.MethodName) ({ cls := "MaskedEarsModel", name := "hears", desc := "(IIIII)I" } : Jvm.MethodName)) ∈ lw_all := lw_g (lw_at lw_m7 164 rfl) rfl
theorem q1710 : (Jvm.Cond.code ({ cls := "MaskedEarsModel", name := "hears", desc := "(IIIII)I" } : Jvm.MethodName) prog_14_method_32_code (6 : Nat) (Option.some Jvm.ClassFile.FieldType.int)) ∈ lw_all := lw_g (lw_at lw_m7 165 rfl) rfl
theorem q1711 : (Jvm.Cond.methodLink "MaskedEarsModel" (195 : Nat) ({ cls := "MaskedEarsModel", name := "unless", desc := "(ZZ)I" } : Jvm.MethodName)) ∈ lw_all := lw_g (lw_at lw_m7 166 rfl) rfl
theorem q1712 : (Jvm.Cond.static ({ cls := "MaskedEarsModel", name := "unless", desc := "(ZZ)I" } : Jvm.MethodName)) ∈ lw_all := lw_g (lw_at lw_m7 167 rfl) rfl
theorem q1713 : (Jvm.Cond.code ({ cls := "MaskedEarsModel", name := "unless", desc := "(ZZ)I" } : Jvm.MethodName) prog_14_method_8_code (2 : Nat) (Option.some Jvm.ClassFile.FieldType.int)) ∈ lw_all := lw_g (lw_at lw_m7 168 rfl) rfl
theorem q1714 : (Jvm.Cond.methodLink "MaskedEarsModel" (198 : Nat) ({ cls := "MaskedEarsModel", name := "heardBy", desc := "(IIIII)I" } : Jvm.MethodName)) ∈ lw_all := lw_g (lw_at lw_m7 169 rfl) rfl
theorem q1715 : (Jvm.Cond.privateMethod ({ cls := "MaskedEarsModel", name := "heardBy", desc := "(IIIII)I" } : Jvm.MethodName)) ∈ lw_tbl := lw_at lw_m7 170 rfl
theorem q1716 : (Jvm.Cond.instanceMethod ({ cls := "MaskedEarsModel", name := "heardBy", desc := "(IIIII)I" } : Jvm.MethodName)) ∈ lw_all := lw_g (lw_at lw_m7 171 rfl) rfl
theorem q1717 : (Jvm.Cond.code ({ cls := "MaskedEarsModel", name := "heardBy", desc := "(IIIII)I" } : Jvm.MethodName) prog_14_method_29_code (12 : Nat) (Option.some Jvm.ClassFile.FieldType.int)) ∈ lw_all := lw_g (lw_at lw_m7 172 rfl) rfl
theorem q1718 : (Jvm.Cond.methodLink "MaskedEarsModel" (184 : Nat) ({ cls := "MaskedEarsModel", name := "isHeardBy", desc := "(IIII)Z" } : Jvm.MethodName)) ∈ lw_all := lw_g (lw_at lw_m7 173 rfl) rfl
theorem q1719 : (Jvm.Cond.privateMethod ({ cls := "MaskedEarsModel", name := "isHeardBy", desc := "(IIII)Z" } : Jvm.MethodName)) ∈ lw_tbl := lw_at lw_m7 174 rfl
theorem q1720 : (Jvm.Cond.instanceMethod ({ cls := "MaskedEarsModel", name := "isHeardBy", desc := "(IIII)Z" } : Jvm.MethodName)) ∈ lw_all := lw_g (lw_at lw_m7 175 rfl) rfl
theorem q1721 : (Jvm.Cond.code ({ cls := "MaskedEarsModel", name := "isHeardBy", desc := "(IIII)Z" } : Jvm.MethodName) prog_14_method_28_code (5 : Nat) (Option.some Jvm.ClassFile.FieldType.boolean)) ∈ lw_all := lw_g (lw_at lw_m7 176 rfl) rfl
theorem q1723 : (Jvm.Cond.instanceMethod ({ cls := "MaskedEarsModel", name := "least", desc := "(IIII)I" } : Jvm.MethodName)) ∈ lw_all := lw_g (lw_at lw_m7 178 rfl) rfl
theorem q1724 : (Jvm.Cond.selects "MaskedEarsModel" ({ cls := "MaskedEarsModel", name := "least", desc := "(IIII)I" } : Jvm.MethodName) ({ cls := "MaskedEarsModel", name := "least", desc := "(IIII)I" } : Jvm.MethodName)) ∈ lw_all := lw_g (lw_at lw_m7 179 rfl) rfl
theorem q1725 : (Jvm.Cond.code ({ cls := "MaskedEarsModel", name := "least", desc := "(IIII)I" } : Jvm.MethodName) prog_14_method_33_code (6 : Nat) (Option.some Jvm.ClassFile.FieldType.int)) ∈ lw_all := lw_g (lw_at lw_m7 180 rfl) rfl
theorem q1727 : (Jvm.Cond.instanceMethod ({ cls := "MaskedEarsModel", name := "quiets", desc := "(IIII)I" } : Jvm.MethodName)) ∈ lw_all := lw_g (lw_at lw_m7 182 rfl) rfl
theorem q1728 : (Jvm.Cond.selects "MaskedEarsModel" ({ cls := "MaskedEarsModel", name := "quiets", desc := "(IIII)I" } : Jvm.MethodName) ({ cls := "MaskedEarsModel", name := "quiets", desc := "(IIII)I" } : Jvm.MethodName)) ∈ lw_all := lw_g (lw_at lw_m7 183 rfl) rfl
theorem q1729 : (Jvm.Cond.code ({ cls := "MaskedEarsModel", name := "quiets", desc := "(IIII)I" } : Jvm.MethodName) prog_14_method_35_code (5 : Nat) (Option.some Jvm.ClassFile.FieldType.int)) ∈ lw_all := lw_g (lw_at lw_m7 184 rfl) rfl
theorem q1730 : (Jvm.Cond.methodLink "MaskedEarsModel" (202 : Nat) ({ cls := "MaskedEarsModel", name := "silences", desc := "(IIIII)I" } : Jvm.MethodName)) ∈ lw_all := lw_g (lw_at lw_m7 185 rfl) rfl
theorem q1731 : (Jvm.Cond.privateMethod ({ cls := "MaskedEarsModel", name := "silences", desc := "(IIIII)I" } : Jvm.MethodName)) ∈ lw_tbl := lw_at lw_m7 186 rfl
theorem q1732 : (Jvm.Cond.instanceMethod ({ cls := "MaskedEarsModel", name := "silences", desc := "(IIIII)I" } : Jvm.MethodName)) ∈ lw_all := lw_g (lw_at lw_m7 187 rfl) rfl
theorem q1733 : (Jvm.Cond.code ({ cls := "MaskedEarsModel", name := "silences", desc := "(IIIII)I" } : Jvm.MethodName) prog_14_method_34_code (7 : Nat) (Option.some Jvm.ClassFile.FieldType.int)) ∈ lw_all := lw_g (lw_at lw_m7 188 rfl) rfl
theorem q1735 : (Jvm.Cond.instanceMethod ({ cls := "MaskedEarsModel", name := "spoils", desc := "(IIII)I" } : Jvm.MethodName)) ∈ lw_all := lw_g (lw_at lw_m7 190 rfl) rfl
theorem q1736 : (Jvm.Cond.selects "MaskedEarsModel" ({ cls := "MaskedEarsModel", name := "spoils", desc := "(IIII)I" } : Jvm.MethodName) ({ cls := "MaskedEarsModel", name := "spoils", desc := "(IIII)I" } : Jvm.MethodName)) ∈ lw_all := lw_g (lw_at lw_m7 191 rfl) rfl
theorem q1737 : (Jvm.Cond.code ({ cls := "MaskedEarsModel", name := "spoils", desc := "(IIII)I" } : Jvm.MethodName) prog_14_method_36_code (6 : Nat) (Option.some Jvm.ClassFile.FieldType.int)) ∈ lw_all := lw_g (lw_at lw_m7 192 rfl) rfl
theorem q1739 : (Jvm.Cond.instanceMethod ({ cls := "MaskedEarsModel", name := "plateau", desc := "(IIII)I" } : Jvm.MethodName)) ∈ lw_all := lw_g (lw_at lw_m7 194 rfl) rfl
theorem q1740 : (Jvm.Cond.selects "MaskedEarsModel" ({ cls := "MaskedEarsModel", name := "plateau", desc := "(IIII)I" } : Jvm.MethodName) ({ cls := "MaskedEarsModel", name := "plateau", desc := "(IIII)I" } : Jvm.MethodName)) ∈ lw_all := lw_g (lw_at lw_m7 195 rfl) rfl
theorem q1741 : (Jvm.Cond.code ({ cls := "MaskedEarsModel", name := "plateau", desc := "(IIII)I" } : Jvm.MethodName) prog_14_method_38_code (9 : Nat) (Option.some Jvm.ClassFile.FieldType.int)) ∈ lw_all := lw_g (lw_at lw_m7 196 rfl) rfl
theorem q1742 : (Jvm.Cond.methodLink "MaskedEarsModel" (205 : Nat) ({ cls := "MaskedEarsModel", name := "leastOf", desc := "(IIII)I" } : Jvm.MethodName)) ∈ lw_all := lw_g (lw_at lw_m7 197 rfl) rfl
theorem q1743 : (Jvm.Cond.privateMethod ({ cls := "MaskedEarsModel", name := "leastOf", desc := "(IIII)I" } : Jvm.MethodName)) ∈ lw_tbl := lw_at lw_m7 198 rfl
theorem q1744 : (Jvm.Cond.instanceMethod ({ cls := "MaskedEarsModel", name := "leastOf", desc := "(IIII)I" } : Jvm.MethodName)) ∈ lw_all := lw_g (lw_at lw_m7 199 rfl) rfl
theorem q1745 : (Jvm.Cond.code ({ cls := "MaskedEarsModel", name := "leastOf", desc := "(IIII)I" } : Jvm.MethodName) prog_14_method_75_code (6 : Nat) (Option.some Jvm.ClassFile.FieldType.int)) ∈ lw_all := lw_g (lw_at lw_m7 200 rfl) rfl
theorem q1746 : (Jvm.Cond.methodLink "MaskedEarsModel" (209 : Nat) ({ cls := "MaskedEarsModel", name := "ownOf", desc := "(III)I" } : Jvm.MethodName)) ∈ lw_all := lw_g (lw_at lw_m7 201 rfl) rfl
theorem q1747 : (Jvm.Cond.privateMethod ({ cls := "MaskedEarsModel", name := "ownOf", desc := "(III)I" } : Jvm.MethodName)) ∈ lw_tbl := lw_at lw_m7 202 rfl
theorem q1748 : (Jvm.Cond.instanceMethod ({ cls := "MaskedEarsModel", name := "ownOf", desc := "(III)I" } : Jvm.MethodName)) ∈ lw_all := lw_g (lw_at lw_m7 203 rfl) rfl
theorem q1749 : (Jvm.Cond.code ({ cls := "MaskedEarsModel", name := "ownOf", desc := "(III)I" } : Jvm.MethodName) prog_14_method_37_code (4 : Nat) (Option.some Jvm.ClassFile.FieldType.int)) ∈ lw_all := lw_g (lw_at lw_m7 204 rfl) rfl
theorem q1751 : (Jvm.Cond.instanceMethod ({ cls := "MaskedEarsModel", name := "zone", desc := "(IIIII)I" } : Jvm.MethodName)) ∈ lw_all := lw_g (lw_at lw_m7 206 rfl) rfl
theorem q1752 : (Jvm.Cond.selects "MaskedEarsModel" ({ cls := "MaskedEarsModel", name := "zone", desc := "(IIIII)I" } : Jvm.MethodName) ({ cls := "MaskedEarsModel", name := "zone", desc := "(IIIII)I" } : Jvm.MethodName)) ∈ lw_all := lw_g (lw_at lw_m7 207 rfl) rfl
theorem q1753 : (Jvm.Cond.code ({ cls := "MaskedEarsModel", name := "zone", desc := "(IIIII)I" } : Jvm.MethodName) prog_14_method_39_code (9 : Nat) (Option.some Jvm.ClassFile.FieldType.int)) ∈ lw_all := lw_g (lw_at lw_m7 208 rfl) rfl
theorem q1755 : (Jvm.Cond.instanceMethod ({ cls := "MaskedEarsModel", name := "now", desc := "(I)I" } : Jvm.MethodName)) ∈ lw_all := lw_g (lw_at lw_m7 210 rfl) rfl
theorem q1756 : (Jvm.Cond.selects "MaskedEarsModel" ({ cls := "MaskedEarsModel", name := "now", desc := "(I)I" } : Jvm.MethodName) ({ cls := "MaskedEarsModel", name := "now", desc := "(I)I" } : Jvm.MethodName)) ∈ lw_all := lw_g (lw_at lw_m7 211 rfl) rfl
theorem q1757 : (Jvm.Cond.code ({ cls := "MaskedEarsModel", name := "now", desc := "(I)I" } : Jvm.MethodName) prog_14_method_64_code (3 : Nat) (Option.some Jvm.ClassFile.FieldType.int)) ∈ lw_all := lw_g (lw_at lw_m7 212 rfl) rfl
theorem q1758 : (Jvm.Cond.methodLink "MaskedEarsModel" (276 : Nat) ({ cls := "MaskedEarsModel", name := "isOn", desc := "()Z" } : Jvm.MethodName)) ∈ lw_all := lw_g (lw_at lw_m7 213 rfl) rfl
theorem q1759 : (Jvm.Cond.privateMethod ({ cls := "MaskedEarsModel", name := "isOn", desc := "()Z" } : Jvm.MethodName)) ∈ lw_tbl := lw_at lw_m7 214 rfl
theorem q1760 : (Jvm.Cond.instanceMethod ({ cls := "MaskedEarsModel", name := "isOn", desc := "()Z" } : Jvm.MethodName)) ∈ lw_all := lw_g (lw_at lw_m7 215 rfl) rfl
theorem q1761 : (Jvm.Cond.code ({ cls := "MaskedEarsModel", name := "isOn", desc := "()Z" } : Jvm.MethodName) prog_14_method_62_code (1 : Nat) (Option.some Jvm.ClassFile.FieldType.boolean)) ∈ lw_all := lw_g (lw_at lw_m7 216 rfl) rfl
theorem q1763 : (Jvm.Cond.instanceMethod ({ cls := "MaskedEarsModel", name := "tried", desc := "(II)I" } : Jvm.MethodName)) ∈ lw_all := lw_g (lw_at lw_m7 218 rfl) rfl
theorem q1764 : (Jvm.Cond.selects "MaskedEarsModel" ({ cls := "MaskedEarsModel", name := "tried", desc := "(II)I" } : Jvm.MethodName) ({ cls := "MaskedEarsModel", name := "tried", desc := "(II)I" } : Jvm.MethodName)) ∈ lw_all := lw_g (lw_at lw_m7 219 rfl) rfl
theorem q1765 : (Jvm.Cond.code ({ cls := "MaskedEarsModel", name := "tried", desc := "(II)I" } : Jvm.MethodName) prog_14_method_65_code (4 : Nat) (Option.some Jvm.ClassFile.FieldType.int)) ∈ lw_all := lw_g (lw_at lw_m7 220 rfl) rfl
theorem q1766 : (Jvm.Cond.methodLink "MaskedEarsModel" (260 : Nat) ({ cls := "MaskedEarsModel", name := "countAt", desc := "(II)I" } : Jvm.MethodName)) ∈ lw_all := lw_g (lw_at lw_m7 221 rfl) rfl
theorem q1767 : (Jvm.Cond.static ({ cls := "MaskedEarsModel", name := "countAt", desc := "(II)I" } : Jvm.MethodName)) ∈ lw_all := lw_g (lw_at lw_m7 222 rfl) rfl
theorem q1768 : (Jvm.Cond.code ({ cls := "MaskedEarsModel", name := "countAt", desc := "(II)I" } : Jvm.MethodName) prog_14_method_58_code (2 : Nat) (Option.some Jvm.ClassFile.FieldType.int)) ∈ lw_all := lw_g (lw_at lw_m7 223 rfl) rfl
theorem q1769 : (Jvm.Cond.methodLink "MaskedEarsModel" (270 : Nat) ({ cls := "MaskedEarsModel", name := "onesOf", desc := "(I)I" } : Jvm.MethodName)) ∈ lw_all := lw_g (lw_at lw_m7 224 rfl) rfl
theorem q1770 : (Jvm.Cond.static ({ cls := "MaskedEarsModel", name := "onesOf", desc := "(I)I" } : Jvm.MethodName)) ∈ lw_all := lw_g (lw_at lw_m7 225 rfl) rfl
theorem q1771 : (Jvm.Cond.code ({ cls := "MaskedEarsModel", name := "onesOf", desc := "(I)I" } : Jvm.MethodName) prog_14_method_59_code (1 : Nat) (Option.some Jvm.ClassFile.FieldType.int)) ∈ lw_all := lw_g (lw_at lw_m7 226 rfl) rfl
theorem q1773 : (Jvm.Cond.instanceMethod ({ cls := "MaskedEarsModel", name := "answer", desc := "(Z)I" } : Jvm.MethodName)) ∈ lw_all := lw_g (lw_at lw_m7 228 rfl) rfl
theorem q1774 : (Jvm.Cond.selects "MaskedEarsModel" ({ cls := "MaskedEarsModel", name := "answer", desc := "(Z)I" } : Jvm.MethodName) ({ cls := "MaskedEarsModel", name := "answer", desc := "(Z)I" } : Jvm.MethodName)) ∈ lw_all := lw_g (lw_at lw_m7 229 rfl) rfl
theorem q1775 : (Jvm.Cond.code ({ cls := "MaskedEarsModel", name := "answer", desc := "(Z)I" } : Jvm.MethodName) prog_14_method_66_code (2 : Nat) (Option.some Jvm.ClassFile.FieldType.int)) ∈ lw_all := lw_g (lw_at lw_m7 230 rfl) rfl
theorem q1776 : (Jvm.Cond.methodLink "MaskedEarsModel" (279 : Nat) ({ cls := "MaskedEarsModel", name := "onWhy", desc := "()I" } : Jvm.MethodName)) ∈ lw_all := lw_g (lw_at lw_m7 231 rfl) rfl
theorem q1777 : (Jvm.Cond.privateMethod ({ cls := "MaskedEarsModel", name := "onWhy", desc := "()I" } : Jvm.MethodName)) ∈ lw_tbl := lw_at lw_m7 232 rfl
theorem q1778 : (Jvm.Cond.instanceMethod ({ cls := "MaskedEarsModel", name := "onWhy", desc := "()I" } : Jvm.MethodName)) ∈ lw_all := lw_g (lw_at lw_m7 233 rfl) rfl
theorem q1779 : (Jvm.Cond.code ({ cls := "MaskedEarsModel", name := "onWhy", desc := "()I" } : Jvm.MethodName) prog_14_method_63_code (1 : Nat) (Option.some Jvm.ClassFile.FieldType.int)) ∈ lw_all := lw_g (lw_at lw_m7 234 rfl) rfl
theorem q1780 : (Jvm.Cond.methodLink "MaskedEarsModel" (282 : Nat) ({ cls := "MaskedEarsModel", name := "answers", desc := "(ZZ)I" } : Jvm.MethodName)) ∈ lw_all := lw_g (lw_at lw_m7 235 rfl) rfl
theorem q1781 : (Jvm.Cond.privateMethod ({ cls := "MaskedEarsModel", name := "answers", desc := "(ZZ)I" } : Jvm.MethodName)) ∈ lw_tbl := lw_at lw_m7 236 rfl
theorem q1782 : (Jvm.Cond.instanceMethod ({ cls := "MaskedEarsModel", name := "answers", desc := "(ZZ)I" } : Jvm.MethodName)) ∈ lw_all := lw_g (lw_at lw_m7 237 rfl) rfl
theorem q1783 : (Jvm.Cond.code ({ cls := "MaskedEarsModel", name := "answers", desc := "(ZZ)I" } : Jvm.MethodName) prog_14_method_61_code (5 : Nat) (Option.some Jvm.ClassFile.FieldType.int)) ∈ lw_all := lw_g (lw_at lw_m7 238 rfl) rfl
theorem q1784 : (Jvm.Cond.methodLink "MaskedEarsModel" (266 : Nat) ({ cls := "MaskedEarsModel", name := "logs", desc := "(IZZ)V" } : Jvm.MethodName)) ∈ lw_all := lw_g (lw_at lw_m7 239 rfl) rfl
theorem q1785 : (Jvm.Cond.privateMethod ({ cls := "MaskedEarsModel", name := "logs", desc := "(IZZ)V" } : Jvm.MethodName)) ∈ lw_tbl := lw_at lw_m8 0 rfl
theorem q1786 : (Jvm.Cond.instanceMethod ({ cls := "MaskedEarsModel", name := "logs", desc := "(IZZ)V" } : Jvm.MethodName)) ∈ lw_all := lw_g (lw_at lw_m8 1 rfl) rfl
theorem q1787 : (Jvm.Cond.code ({ cls := "MaskedEarsModel", name := "logs", desc := "(IZZ)V" } : Jvm.MethodName) prog_14_method_60_code (5 : Nat) (Option.none : Option Jvm.ClassFile.FieldType)) ∈ lw_all := lw_g (lw_at lw_m8 2 rfl) rfl
theorem q1788 : (Jvm.Cond.methodLink "MaskedEarsModel" (273 : Nat) ({ cls := "MaskedEarsModel", name := "comesTo", desc := "(I)I" } : Jvm.MethodName)) ∈ lw_all := lw_g (lw_at lw_m8 3 rfl) rfl
theorem q1789 : (Jvm.Cond.privateMethod ({ cls := "MaskedEarsModel", name := "comesTo", desc := "(I)I" } : Jvm.MethodName)) ∈ lw_tbl := lw_at lw_m8 4 rfl
theorem q1790 : (Jvm.Cond.instanceMethod ({ cls := "MaskedEarsModel", name := "comesTo", desc := "(I)I" } : Jvm.MethodName)) ∈ lw_all := lw_g (lw_at lw_m8 5 rfl) rfl
theorem q1791 : (Jvm.Cond.code ({ cls := "MaskedEarsModel", name := "comesTo", desc := "(I)I" } : Jvm.MethodName) prog_14_method_57_code (5 : Nat) (Option.some Jvm.ClassFile.FieldType.int)) ∈ lw_all := lw_g (lw_at lw_m8 6 rfl) rfl
theorem q1792 : (Jvm.Cond.methodLink "MaskedEarsModel" (263 : Nat) ({ cls := "MaskedEarsModel", name := "ends", desc := "(II)I" } : Jvm.MethodName)) ∈ lw_all := lw_g (lw_at lw_m8 7 rfl) rfl
theorem q1793 : (Jvm.Cond.privateMethod ({ cls := "MaskedEarsModel", name := "ends", desc := "(II)I" } : Jvm.MethodName)) ∈ lw_tbl := lw_at lw_m8 8 rfl
theorem q1794 : (Jvm.Cond.instanceMethod ({ cls := "MaskedEarsModel", name := "ends", desc := "(II)I" } : Jvm.MethodName)) ∈ lw_all := lw_g (lw_at lw_m8 9 rfl) rfl
theorem q1795 : (Jvm.Cond.code ({ cls := "MaskedEarsModel", name := "ends", desc := "(II)I" } : Jvm.MethodName) prog_14_method_56_code (4 : Nat) (Option.some Jvm.ClassFile.FieldType.int)) ∈ lw_all := lw_g (lw_at lw_m8 10 rfl) rfl
theorem q1796 : (Jvm.Cond.methodLink "MaskedEarsModel" (257 : Nat) ({ cls := "MaskedEarsModel", name := "nextTask", desc := "(I)I" } : Jvm.MethodName)) ∈ lw_all := lw_g (lw_at lw_m8 11 rfl) rfl
theorem q1797 : (Jvm.Cond.privateMethod ({ cls := "MaskedEarsModel", name := "nextTask", desc := "(I)I" } : Jvm.MethodName)) ∈ lw_tbl := lw_at lw_m8 12 rfl
theorem q1798 : (Jvm.Cond.instanceMethod ({ cls := "MaskedEarsModel", name := "nextTask", desc := "(I)I" } : Jvm.MethodName)) ∈ lw_all := lw_g (lw_at lw_m8 13 rfl) rfl
theorem q1799 : (Jvm.Cond.code ({ cls := "MaskedEarsModel", name := "nextTask", desc := "(I)I" } : Jvm.MethodName) prog_14_method_55_code (3 : Nat) (Option.some Jvm.ClassFile.FieldType.int)) ∈ lw_all := lw_g (lw_at lw_m8 14 rfl) rfl
theorem q1800 : (Jvm.Cond.methodLink "MaskedEarsModel" (254 : Nat) ({ cls := "MaskedEarsModel", name := "addsMasked", desc := "()V" } : Jvm.MethodName)) ∈ lw_all := lw_g (lw_at lw_m8 15 rfl) rfl
theorem q1801 : (Jvm.Cond.privateMethod ({ cls := "MaskedEarsModel", name := "addsMasked", desc := "()V" } : Jvm.MethodName)) ∈ lw_tbl := lw_at lw_m8 16 rfl
theorem q1802 : (Jvm.Cond.instanceMethod ({ cls := "MaskedEarsModel", name := "addsMasked", desc := "()V" } : Jvm.MethodName)) ∈ lw_all := lw_g (lw_at lw_m8 17 rfl) rfl
theorem q1803 : (Jvm.Cond.code ({ cls := "MaskedEarsModel", name := "addsMasked", desc := "()V" } : Jvm.MethodName) prog_14_method_50_code (4 : Nat) (Option.none : Option Jvm.ClassFile.FieldType)) ∈ lw_all := lw_g (lw_at lw_m8 18 rfl) rfl
theorem q1804 : (Jvm.Cond.methodLink "MaskedEarsModel" (241 : Nat) ({ cls := "MaskedEarsModel", name := "doesNeed", desc := "(III)Z" } : Jvm.MethodName)) ∈ lw_all := lw_g (lw_at lw_m8 19 rfl) rfl
theorem q1805 : (Jvm.Cond.privateMethod ({ cls := "MaskedEarsModel", name := "doesNeed", desc := "(III)Z" } : Jvm.MethodName)) ∈ lw_tbl := lw_at lw_m8 20 rfl
theorem q1806 : (Jvm.Cond.instanceMethod ({ cls := "MaskedEarsModel", name := "doesNeed", desc := "(III)Z" } : Jvm.MethodName)) ∈ lw_all := lw_g (lw_at lw_m8 21 rfl) rfl
theorem q1807 : (Jvm.Cond.code ({ cls := "MaskedEarsModel", name := "doesNeed", desc := "(III)Z" } : Jvm.MethodName) prog_14_method_49_code (5 : Nat) (Option.some Jvm.ClassFile.FieldType.boolean)) ∈ lw_all := lw_g (lw_at lw_m8 22 rfl) rfl
theorem q1809 : (Jvm.Cond.instanceMethod ({ cls := "MaskedEarsModel", name := "listen", desc := "()I" } : Jvm.MethodName)) ∈ lw_all := lw_g (lw_at lw_m8 24 rfl) rfl
theorem q1810 : (Jvm.Cond.selects "MaskedEarsModel" ({ cls := "MaskedEarsModel", name := "listen", desc := "()I" } : Jvm.MethodName) ({ cls := "MaskedEarsModel", name := "listen", desc := "()I" } : Jvm.MethodName)) ∈ lw_all := lw_g (lw_at lw_m8 25 rfl) rfl
theorem q1811 : (Jvm.Cond.code ({ cls := "MaskedEarsModel", name := "listen", desc := "()I" } : Jvm.MethodName) prog_14_method_69_code (1 : Nat) (Option.some Jvm.ClassFile.FieldType.int)) ∈ lw_all := lw_g (lw_at lw_m8 26 rfl) rfl
theorem q1812 : (Jvm.Cond.methodLink "MaskedEarsModel" (288 : Nat) ({ cls := "MaskedEarsModel", name := "listens", desc := "(ZZ)I" } : Jvm.MethodName)) ∈ lw_all := lw_g (lw_at lw_m8 27 rfl) rfl
theorem q1813 : (Jvm.Cond.privateMethod ({ cls := "MaskedEarsModel", name := "listens", desc := "(ZZ)I" } : Jvm.MethodName)) ∈ lw_tbl := lw_at lw_m8 28 rfl
theorem q1814 : (Jvm.Cond.instanceMethod ({ cls := "MaskedEarsModel", name := "listens", desc := "(ZZ)I" } : Jvm.MethodName)) ∈ lw_all := lw_g (lw_at lw_m8 29 rfl) rfl
theorem q1815 : (Jvm.Cond.code ({ cls := "MaskedEarsModel", name := "listens", desc := "(ZZ)I" } : Jvm.MethodName) prog_14_method_68_code (5 : Nat) (Option.some Jvm.ClassFile.FieldType.int)) ∈ lw_all := lw_g (lw_at lw_m8 30 rfl) rfl
theorem q1816 : (Jvm.Cond.methodLink "MaskedEarsModel" (285 : Nat) ({ cls := "MaskedEarsModel", name := "isSlip", desc := "(I)Z" } : Jvm.MethodName)) ∈ lw_all := lw_g (lw_at lw_m8 31 rfl) rfl
theorem q1817 : (Jvm.Cond.privateMethod ({ cls := "MaskedEarsModel", name := "isSlip", desc := "(I)Z" } : Jvm.MethodName)) ∈ lw_tbl := lw_at lw_m8 32 rfl
theorem q1818 : (Jvm.Cond.instanceMethod ({ cls := "MaskedEarsModel", name := "isSlip", desc := "(I)Z" } : Jvm.MethodName)) ∈ lw_all := lw_g (lw_at lw_m8 33 rfl) rfl
theorem q1819 : (Jvm.Cond.code ({ cls := "MaskedEarsModel", name := "isSlip", desc := "(I)Z" } : Jvm.MethodName) prog_14_method_67_code (3 : Nat) (Option.some Jvm.ClassFile.FieldType.boolean)) ∈ lw_all := lw_g (lw_at lw_m8 34 rfl) rfl
theorem q1821 : (Jvm.Cond.instanceMethod ({ cls := "MaskedEarsModel", name := "run", desc := "(I)I" } : Jvm.MethodName)) ∈ lw_all := lw_g (lw_at lw_m8 36 rfl) rfl
theorem q1822 : (Jvm.Cond.selects "MaskedEarsModel" ({ cls := "MaskedEarsModel", name := "run", desc := "(I)I" } : Jvm.MethodName) ({ cls := "MaskedEarsModel", name := "run", desc := "(I)I" } : Jvm.MethodName)) ∈ lw_all := lw_g (lw_at lw_m8 37 rfl) rfl
theorem q1823 : (Jvm.Cond.code ({ cls := "MaskedEarsModel", name := "run", desc := "(I)I" } : Jvm.MethodName) prog_14_method_70_code (4 : Nat) (Option.some Jvm.ClassFile.FieldType.int)) ∈ lw_all := lw_g (lw_at lw_m8 38 rfl) rfl
theorem q1825 : (Jvm.Cond.instanceMethod ({ cls := "MaskedEarsModel", name := "give", desc := "()I" } : Jvm.MethodName)) ∈ lw_all := lw_g (lw_at lw_m8 40 rfl) rfl
theorem q1826 : (Jvm.Cond.selects "MaskedEarsModel" ({ cls := "MaskedEarsModel", name := "give", desc := "()I" } : Jvm.MethodName) ({ cls := "MaskedEarsModel", name := "give", desc := "()I" } : Jvm.MethodName)) ∈ lw_all := lw_g (lw_at lw_m8 41 rfl) rfl
theorem q1827 : (Jvm.Cond.code ({ cls := "MaskedEarsModel", name := "give", desc := "()I" } : Jvm.MethodName) prog_14_method_71_code (1 : Nat) (Option.some Jvm.ClassFile.FieldType.int)) ∈ lw_all := lw_g (lw_at lw_m8 42 rfl) rfl
theorem q1829 : (Jvm.Cond.instanceMethod ({ cls := "MaskedEarsModel", name := "again", desc := "(I)I" } : Jvm.MethodName)) ∈ lw_all := lw_g (lw_at lw_m8 44 rfl) rfl
theorem q1830 : (Jvm.Cond.selects "MaskedEarsModel" ({ cls := "MaskedEarsModel", name := "again", desc := "(I)I" } : Jvm.MethodName) ({ cls := "MaskedEarsModel", name := "again", desc := "(I)I" } : Jvm.MethodName)) ∈ lw_all := lw_g (lw_at lw_m8 45 rfl) rfl
theorem q1831 : (Jvm.Cond.code ({ cls := "MaskedEarsModel", name := "again", desc := "(I)I" } : Jvm.MethodName) prog_14_method_72_code (3 : Nat) (Option.some Jvm.ClassFile.FieldType.int)) ∈ lw_all := lw_g (lw_at lw_m8 46 rfl) rfl
theorem q1833 : (Jvm.Cond.instanceMethod ({ cls := "MaskedEarsModel", name := "search", desc := "(IIIIII)I" } : Jvm.MethodName)) ∈ lw_all := lw_g (lw_at lw_m8 48 rfl) rfl
theorem q1834 : (Jvm.Cond.selects "MaskedEarsModel" ({ cls := "MaskedEarsModel", name := "search", desc := "(IIIIII)I" } : Jvm.MethodName) ({ cls := "MaskedEarsModel", name := "search", desc := "(IIIIII)I" } : Jvm.MethodName)) ∈ lw_all := lw_g (lw_at lw_m8 49 rfl) rfl
theorem q1835 : (Jvm.Cond.code ({ cls := "MaskedEarsModel", name := "search", desc := "(IIIIII)I" } : Jvm.MethodName) prog_14_method_74_code (8 : Nat) (Option.some Jvm.ClassFile.FieldType.int)) ∈ lw_all := lw_g (lw_at lw_m8 50 rfl) rfl
theorem q1836 : (Jvm.Cond.methodLink "MaskedEarsModel" (294 : Nat) ({ cls := "MaskedEarsModel", name := "searchOf", desc := "(IIIII)I" } : Jvm.MethodName)) ∈ lw_all := lw_g (lw_at lw_m8 51 rfl) rfl
theorem q1837 : (Jvm.Cond.privateMethod ({ cls := "MaskedEarsModel", name := "searchOf", desc := "(IIIII)I" } : Jvm.MethodName)) ∈ lw_tbl := lw_at lw_m8 52 rfl
theorem q1838 : (Jvm.Cond.instanceMethod ({ cls := "MaskedEarsModel", name := "searchOf", desc := "(IIIII)I" } : Jvm.MethodName)) ∈ lw_all := lw_g (lw_at lw_m8 53 rfl) rfl
theorem q1839 : (Jvm.Cond.code ({ cls := "MaskedEarsModel", name := "searchOf", desc := "(IIIII)I" } : Jvm.MethodName) prog_14_method_73_code (9 : Nat) (Option.some Jvm.ClassFile.FieldType.int)) ∈ lw_all := lw_g (lw_at lw_m8 54 rfl) rfl
theorem q1841 : (Jvm.Cond.instanceMethod ({ cls := "MaskedEarsModel", name := "provable", desc := "(IIII)I" } : Jvm.MethodName)) ∈ lw_all := lw_g (lw_at lw_m8 56 rfl) rfl
theorem q1842 : (Jvm.Cond.selects "MaskedEarsModel" ({ cls := "MaskedEarsModel", name := "provable", desc := "(IIII)I" } : Jvm.MethodName) ({ cls := "MaskedEarsModel", name := "provable", desc := "(IIII)I" } : Jvm.MethodName)) ∈ lw_all := lw_g (lw_at lw_m8 57 rfl) rfl
theorem q1843 : (Jvm.Cond.code ({ cls := "MaskedEarsModel", name := "provable", desc := "(IIII)I" } : Jvm.MethodName) prog_14_method_76_code (11 : Nat) (Option.some Jvm.ClassFile.FieldType.int)) ∈ lw_all := lw_g (lw_at lw_m8 58 rfl) rfl
theorem q1845 : (Jvm.Cond.instanceMethod ({ cls := "MaskedEarsModel", name := "about", desc := "(I)I" } : Jvm.MethodName)) ∈ lw_all := lw_g (lw_at lw_m8 60 rfl) rfl
theorem q1846 : (Jvm.Cond.selects "MaskedEarsModel" ({ cls := "MaskedEarsModel", name := "about", desc := "(I)I" } : Jvm.MethodName) ({ cls := "MaskedEarsModel", name := "about", desc := "(I)I" } : Jvm.MethodName)) ∈ lw_all := lw_g (lw_at lw_m8 61 rfl) rfl
theorem q1847 : (Jvm.Cond.code ({ cls := "MaskedEarsModel", name := "about", desc := "(I)I" } : Jvm.MethodName) prog_14_method_78_code (2 : Nat) (Option.some Jvm.ClassFile.FieldType.int)) ∈ lw_all := lw_g (lw_at lw_m8 62 rfl) rfl
theorem q1848 : (Jvm.Cond.methodLink "MaskedEarsModel" (297 : Nat) ({ cls := "MaskedEarsModel", name := "throughMany", desc := "()I" } : Jvm.MethodName)) ∈ lw_all := lw_g (lw_at lw_m8 63 rfl) rfl
theorem q1849 : (Jvm.Cond.privateMethod ({ cls := "MaskedEarsModel", name := "throughMany", desc := "()I" } : Jvm.MethodName)) ∈ lw_tbl := lw_at lw_m8 64 rfl
theorem q1850 : (Jvm.Cond.instanceMethod ({ cls := "MaskedEarsModel", name := "throughMany", desc := "()I" } : Jvm.MethodName)) ∈ lw_all := lw_g (lw_at lw_m8 65 rfl) rfl
theorem q1851 : (Jvm.Cond.code ({ cls := "MaskedEarsModel", name := "throughMany", desc := "()I" } : Jvm.MethodName) prog_14_method_77_code (3 : Nat) (Option.some Jvm.ClassFile.FieldType.int)) ∈ lw_all := lw_g (lw_at lw_m8 66 rfl) rfl
theorem q1853 : (Jvm.Cond.instanceMethod ({ cls := "MaskedEarsModel", name := "task", desc := "(II)I" } : Jvm.MethodName)) ∈ lw_all := lw_g (lw_at lw_m8 68 rfl) rfl
theorem q1854 : (Jvm.Cond.selects "MaskedEarsModel" ({ cls := "MaskedEarsModel", name := "task", desc := "(II)I" } : Jvm.MethodName) ({ cls := "MaskedEarsModel", name := "task", desc := "(II)I" } : Jvm.MethodName)) ∈ lw_all := lw_g (lw_at lw_m8 69 rfl) rfl
theorem q1855 : (Jvm.Cond.code ({ cls := "MaskedEarsModel", name := "task", desc := "(II)I" } : Jvm.MethodName) prog_14_method_79_code (3 : Nat) (Option.some Jvm.ClassFile.FieldType.int)) ∈ lw_all := lw_g (lw_at lw_m8 70 rfl) rfl
theorem q1857 : (Jvm.Cond.instanceMethod ({ cls := "MaskedEarsModel", name := "find", desc := "(IIIZ)I" } : Jvm.MethodName)) ∈ lw_all := lw_g (lw_at lw_m8 72 rfl) rfl
theorem q1858 : (Jvm.Cond.selects "MaskedEarsModel" ({ cls := "MaskedEarsModel", name := "find", desc := "(IIIZ)I" } : Jvm.MethodName) ({ cls := "MaskedEarsModel", name := "find", desc := "(IIIZ)I" } : Jvm.MethodName)) ∈ lw_all := lw_g (lw_at lw_m8 73 rfl) rfl
theorem q1859 : (Jvm.Cond.code ({ cls := "MaskedEarsModel", name := "find", desc := "(IIIZ)I" } : Jvm.MethodName) prog_14_method_80_code (5 : Nat) (Option.some Jvm.ClassFile.FieldType.int)) ∈ lw_all := lw_g (lw_at lw_m8 74 rfl) rfl
theorem q1860 : (Jvm.Cond.methodLink "MaskedEarsModel" (300 : Nat) ({ cls := "MaskedEarsModel", name := "masked", desc := "(III)I" } : Jvm.MethodName)) ∈ lw_all := lw_g (lw_at lw_m8 75 rfl) rfl
theorem q1861 : (Jvm.Cond.privateMethod ({ cls := "MaskedEarsModel", name := "masked", desc := "(III)I" } : Jvm.MethodName)) ∈ lw_tbl := lw_at lw_m8 76 rfl
theorem q1862 : (Jvm.Cond.instanceMethod ({ cls := "MaskedEarsModel", name := "masked", desc := "(III)I" } : Jvm.MethodName)) ∈ lw_all := lw_g (lw_at lw_m8 77 rfl) rfl
theorem q1863 : (Jvm.Cond.code ({ cls := "MaskedEarsModel", name := "masked", desc := "(III)I" } : Jvm.MethodName) prog_14_method_45_code (5 : Nat) (Option.some Jvm.ClassFile.FieldType.int)) ∈ lw_all := lw_g (lw_at lw_m8 78 rfl) rfl
theorem q1865 : (Jvm.Cond.instanceMethod ({ cls := "MaskedEarsModel", name := "told", desc := "(III)I" } : Jvm.MethodName)) ∈ lw_all := lw_g (lw_at lw_m8 80 rfl) rfl
theorem q1866 : (Jvm.Cond.selects "MaskedEarsModel" ({ cls := "MaskedEarsModel", name := "told", desc := "(III)I" } : Jvm.MethodName) ({ cls := "MaskedEarsModel", name := "told", desc := "(III)I" } : Jvm.MethodName)) ∈ lw_all := lw_g (lw_at lw_m8 81 rfl) rfl
theorem q1867 : (Jvm.Cond.code ({ cls := "MaskedEarsModel", name := "told", desc := "(III)I" } : Jvm.MethodName) prog_14_method_82_code (4 : Nat) (Option.some Jvm.ClassFile.FieldType.int)) ∈ lw_all := lw_g (lw_at lw_m8 82 rfl) rfl
theorem q1868 : (Jvm.Cond.methodLink "MaskedEarsModel" (303 : Nat) ({ cls := "MaskedEarsModel", name := "toldOf", desc := "(III)I" } : Jvm.MethodName)) ∈ lw_all := lw_g (lw_at lw_m8 83 rfl) rfl
theorem q1869 : (Jvm.Cond.privateMethod ({ cls := "MaskedEarsModel", name := "toldOf", desc := "(III)I" } : Jvm.MethodName)) ∈ lw_tbl := lw_at lw_m8 84 rfl
theorem q1870 : (Jvm.Cond.instanceMethod ({ cls := "MaskedEarsModel", name := "toldOf", desc := "(III)I" } : Jvm.MethodName)) ∈ lw_all := lw_g (lw_at lw_m8 85 rfl) rfl
theorem q1871 : (Jvm.Cond.code ({ cls := "MaskedEarsModel", name := "toldOf", desc := "(III)I" } : Jvm.MethodName) prog_14_method_81_code (6 : Nat) (Option.some Jvm.ClassFile.FieldType.int)) ∈ lw_all := lw_g (lw_at lw_m8 86 rfl) rfl
theorem q1873 : (Jvm.Cond.instanceMethod ({ cls := "MaskedEarsModel", name := "needs", desc := "(III)I" } : Jvm.MethodName)) ∈ lw_all := lw_g (lw_at lw_m8 88 rfl) rfl
theorem q1874 : (Jvm.Cond.selects "MaskedEarsModel" ({ cls := "MaskedEarsModel", name := "needs", desc := "(III)I" } : Jvm.MethodName) ({ cls := "MaskedEarsModel", name := "needs", desc := "(III)I" } : Jvm.MethodName)) ∈ lw_all := lw_g (lw_at lw_m8 89 rfl) rfl
theorem q1875 : (Jvm.Cond.code ({ cls := "MaskedEarsModel", name := "needs", desc := "(III)I" } : Jvm.MethodName) prog_14_method_84_code (4 : Nat) (Option.some Jvm.ClassFile.FieldType.int)) ∈ lw_all := lw_g (lw_at lw_m8 90 rfl) rfl
theorem q1876 : (Jvm.Cond.methodLink "MaskedEarsModel" (306 : Nat) ({ cls := "MaskedEarsModel", name := "areThrough", desc := "(I)Z" } : Jvm.MethodName)) ∈ lw_all := lw_g (lw_at lw_m8 91 rfl) rfl
theorem q1877 : (Jvm.Cond.privateMethod ({ cls := "MaskedEarsModel", name := "areThrough", desc := "(I)Z" } : Jvm.MethodName)) ∈ lw_tbl := lw_at lw_m8 92 rfl
theorem q1878 : (Jvm.Cond.instanceMethod ({ cls := "MaskedEarsModel", name := "areThrough", desc := "(I)Z" } : Jvm.MethodName)) ∈ lw_all := lw_g (lw_at lw_m8 93 rfl) rfl
theorem q1879 : (Jvm.Cond.code ({ cls := "MaskedEarsModel", name := "areThrough", desc := "(I)Z" } : Jvm.MethodName) prog_14_method_83_code (3 : Nat) (Option.some Jvm.ClassFile.FieldType.boolean)) ∈ lw_all := lw_g (lw_at lw_m8 94 rfl) rfl
theorem q1881 : (Jvm.Cond.instanceMethod ({ cls := "MaskedEarsModel", name := "noise", desc := "(III)I" } : Jvm.MethodName)) ∈ lw_all := lw_g (lw_at lw_m8 96 rfl) rfl
theorem q1882 : (Jvm.Cond.selects "MaskedEarsModel" ({ cls := "MaskedEarsModel", name := "noise", desc := "(III)I" } : Jvm.MethodName) ({ cls := "MaskedEarsModel", name := "noise", desc := "(III)I" } : Jvm.MethodName)) ∈ lw_all := lw_g (lw_at lw_m8 97 rfl) rfl
theorem q1883 : (Jvm.Cond.code ({ cls := "MaskedEarsModel", name := "noise", desc := "(III)I" } : Jvm.MethodName) prog_14_method_85_code (4 : Nat) (Option.some Jvm.ClassFile.FieldType.int)) ∈ lw_all := lw_g (lw_at lw_m8 98 rfl) rfl
theorem q1885 : (Jvm.Cond.instanceMethod ({ cls := "MaskedEarsModel", name := "apart", desc := "(II)I" } : Jvm.MethodName)) ∈ lw_all := lw_g (lw_at lw_m8 100 rfl) rfl
theorem q1886 : (Jvm.Cond.selects "MaskedEarsModel" ({ cls := "MaskedEarsModel", name := "apart", desc := "(II)I" } : Jvm.MethodName) ({ cls := "MaskedEarsModel", name := "apart", desc := "(II)I" } : Jvm.MethodName)) ∈ lw_all := lw_g (lw_at lw_m8 101 rfl) rfl
theorem q1887 : (Jvm.Cond.code ({ cls := "MaskedEarsModel", name := "apart", desc := "(II)I" } : Jvm.MethodName) prog_14_method_87_code (6 : Nat) (Option.some Jvm.ClassFile.FieldType.int)) ∈ lw_all := lw_g (lw_at lw_m8 102 rfl) rfl
theorem q1888 : (Jvm.Cond.methodLink "MaskedEarsModel" (309 : Nat) ({ cls := "MaskedEarsModel", name := "lacks", desc := "(II)I" } : Jvm.MethodName)) ∈ lw_all := lw_g (lw_at lw_m8 103 rfl) rfl
theorem q1889 : (Jvm.Cond.static ({ cls := "MaskedEarsModel", name := "lacks", desc := "(II)I" } : Jvm.MethodName)) ∈ lw_all := lw_g (lw_at lw_m8 104 rfl) rfl
theorem q1890 : (Jvm.Cond.code ({ cls := "MaskedEarsModel", name := "lacks", desc := "(II)I" } : Jvm.MethodName) prog_14_method_86_code (2 : Nat) (Option.some Jvm.ClassFile.FieldType.int)) ∈ lw_all := lw_g (lw_at lw_m8 105 rfl) rfl
theorem q1892 : (Jvm.Cond.instanceMethod ({ cls := "MaskedEarsModel", name := "loss", desc := "(II)I" } : Jvm.MethodName)) ∈ lw_all := lw_g (lw_at lw_m8 107 rfl) rfl
theorem q1893 : (Jvm.Cond.selects "MaskedEarsModel" ({ cls := "MaskedEarsModel", name := "loss", desc := "(II)I" } : Jvm.MethodName) ({ cls := "MaskedEarsModel", name := "loss", desc := "(II)I" } : Jvm.MethodName)) ∈ lw_all := lw_g (lw_at lw_m8 108 rfl) rfl
theorem q1894 : (Jvm.Cond.code ({ cls := "MaskedEarsModel", name := "loss", desc := "(II)I" } : Jvm.MethodName) prog_14_method_88_code (7 : Nat) (Option.some Jvm.ClassFile.FieldType.int)) ∈ lw_all := lw_g (lw_at lw_m8 109 rfl) rfl
theorem q1896 : (Jvm.Cond.instanceMethod ({ cls := "MaskedEarsModel", name := "doubts", desc := "(II)I" } : Jvm.MethodName)) ∈ lw_all := lw_g (lw_at lw_m8 111 rfl) rfl
theorem q1897 : (Jvm.Cond.selects "MaskedEarsModel" ({ cls := "MaskedEarsModel", name := "doubts", desc := "(II)I" } : Jvm.MethodName) ({ cls := "MaskedEarsModel", name := "doubts", desc := "(II)I" } : Jvm.MethodName)) ∈ lw_all := lw_g (lw_at lw_m8 112 rfl) rfl
theorem q1898 : (Jvm.Cond.code ({ cls := "MaskedEarsModel", name := "doubts", desc := "(II)I" } : Jvm.MethodName) prog_14_method_92_code (3 : Nat) (Option.some Jvm.ClassFile.FieldType.int)) ∈ lw_all := lw_g (lw_at lw_m8 113 rfl) rfl
theorem q1899 : (Jvm.Cond.methodLink "MaskedEarsModel" (318 : Nat) ({ cls := "MaskedEarsModel", name := "doubtsOf", desc := "(II)I" } : Jvm.MethodName)) ∈ lw_all := lw_g (lw_at lw_m8 114 rfl) rfl
theorem q1900 : (Jvm.Cond.privateMethod ({ cls := "MaskedEarsModel", name := "doubtsOf", desc := "(II)I" } : Jvm.MethodName)) ∈ lw_tbl := lw_at lw_m8 115 rfl
theorem q1901 : (Jvm.Cond.instanceMethod ({ cls := "MaskedEarsModel", name := "doubtsOf", desc := "(II)I" } : Jvm.MethodName)) ∈ lw_all := lw_g (lw_at lw_m8 116 rfl) rfl
theorem q1902 : (Jvm.Cond.code ({ cls := "MaskedEarsModel", name := "doubtsOf", desc := "(II)I" } : Jvm.MethodName) prog_14_method_91_code (9 : Nat) (Option.some Jvm.ClassFile.FieldType.int)) ∈ lw_all := lw_g (lw_at lw_m8 117 rfl) rfl
theorem q1903 : (Jvm.Cond.methodLink "MaskedEarsModel" (312 : Nat) ({ cls := "MaskedEarsModel", name := "plainOrNone", desc := "(III)I" } : Jvm.MethodName)) ∈ lw_all := lw_g (lw_at lw_m8 118 rfl) rfl
theorem q1904 : (Jvm.Cond.privateMethod ({ cls := "MaskedEarsModel", name := "plainOrNone", desc := "(III)I" } : Jvm.MethodName)) ∈ lw_tbl := lw_at lw_m8 119 rfl
theorem q1905 : (Jvm.Cond.instanceMethod ({ cls := "MaskedEarsModel", name := "plainOrNone", desc := "(III)I" } : Jvm.MethodName)) ∈ lw_all := lw_g (lw_at lw_m8 120 rfl) rfl
theorem q1906 : (Jvm.Cond.code ({ cls := "MaskedEarsModel", name := "plainOrNone", desc := "(III)I" } : Jvm.MethodName) prog_14_method_89_code (5 : Nat) (Option.some Jvm.ClassFile.FieldType.int)) ∈ lw_all := lw_g (lw_at lw_m8 121 rfl) rfl
theorem q1907 : (Jvm.Cond.methodLink "MaskedEarsModel" (315 : Nat) ({ cls := "MaskedEarsModel", name := "isHelped", desc := "(III)Z" } : Jvm.MethodName)) ∈ lw_all := lw_g (lw_at lw_m8 122 rfl) rfl
theorem q1908 : (Jvm.Cond.privateMethod ({ cls := "MaskedEarsModel", name := "isHelped", desc := "(III)Z" } : Jvm.MethodName)) ∈ lw_tbl := lw_at lw_m8 123 rfl
theorem q1909 : (Jvm.Cond.instanceMethod ({ cls := "MaskedEarsModel", name := "isHelped", desc := "(III)Z" } : Jvm.MethodName)) ∈ lw_all := lw_g (lw_at lw_m8 124 rfl) rfl
theorem q1910 : (Jvm.Cond.code ({ cls := "MaskedEarsModel", name := "isHelped", desc := "(III)Z" } : Jvm.MethodName) prog_14_method_90_code (6 : Nat) (Option.some Jvm.ClassFile.FieldType.boolean)) ∈ lw_all := lw_g (lw_at lw_m8 125 rfl) rfl
theorem q1912 : (Jvm.Cond.instanceMethod ({ cls := "MaskedEarsModel", name := "doubtful", desc := "()I" } : Jvm.MethodName)) ∈ lw_all := lw_g (lw_at lw_m8 127 rfl) rfl
theorem q1913 : (Jvm.Cond.selects "MaskedEarsModel" ({ cls := "MaskedEarsModel", name := "doubtful", desc := "()I" } : Jvm.MethodName) ({ cls := "MaskedEarsModel", name := "doubtful", desc := "()I" } : Jvm.MethodName)) ∈ lw_all := lw_g (lw_at lw_m8 128 rfl) rfl
theorem q1914 : (Jvm.Cond.code ({ cls := "MaskedEarsModel", name := "doubtful", desc := "()I" } : Jvm.MethodName) prog_14_method_95_code (1 : Nat) (Option.some Jvm.ClassFile.FieldType.int)) ∈ lw_all := lw_g (lw_at lw_m8 129 rfl) rfl
theorem q1915 : (Jvm.Cond.methodLink "MaskedEarsModel" (324 : Nat) ({ cls := "MaskedEarsModel", name := "doubtfulMany", desc := "()I" } : Jvm.MethodName)) ∈ lw_all := lw_g (lw_at lw_m8 130 rfl) rfl
theorem q1916 : (Jvm.Cond.privateMethod ({ cls := "MaskedEarsModel", name := "doubtfulMany", desc := "()I" } : Jvm.MethodName)) ∈ lw_tbl := lw_at lw_m8 131 rfl
theorem q1917 : (Jvm.Cond.instanceMethod ({ cls := "MaskedEarsModel", name := "doubtfulMany", desc := "()I" } : Jvm.MethodName)) ∈ lw_all := lw_g (lw_at lw_m8 132 rfl) rfl
theorem q1918 : (Jvm.Cond.code ({ cls := "MaskedEarsModel", name := "doubtfulMany", desc := "()I" } : Jvm.MethodName) prog_14_method_94_code (3 : Nat) (Option.some Jvm.ClassFile.FieldType.int)) ∈ lw_all := lw_g (lw_at lw_m8 133 rfl) rfl
theorem q1919 : (Jvm.Cond.methodLink "MaskedEarsModel" (321 : Nat) ({ cls := "MaskedEarsModel", name := "isDoubtful", desc := "(I)Z" } : Jvm.MethodName)) ∈ lw_all := lw_g (lw_at lw_m8 134 rfl) rfl
theorem q1920 : (Jvm.Cond.privateMethod ({ cls := "MaskedEarsModel", name := "isDoubtful", desc := "(I)Z" } : Jvm.MethodName)) ∈ lw_tbl := lw_at lw_m8 135 rfl
theorem q1921 : (Jvm.Cond.instanceMethod ({ cls := "MaskedEarsModel", name := "isDoubtful", desc := "(I)Z" } : Jvm.MethodName)) ∈ lw_all := lw_g (lw_at lw_m8 136 rfl) rfl
theorem q1922 : (Jvm.Cond.code ({ cls := "MaskedEarsModel", name := "isDoubtful", desc := "(I)Z" } : Jvm.MethodName) prog_14_method_93_code (2 : Nat) (Option.some Jvm.ClassFile.FieldType.boolean)) ∈ lw_all := lw_g (lw_at lw_m8 137 rfl) rfl
theorem q1924 : (Jvm.Cond.instanceMethod ({ cls := "MaskedEarsModel", name := "redo", desc := "()I" } : Jvm.MethodName)) ∈ lw_all := lw_g (lw_at lw_m8 139 rfl) rfl
theorem q1925 : (Jvm.Cond.selects "MaskedEarsModel" ({ cls := "MaskedEarsModel", name := "redo", desc := "()I" } : Jvm.MethodName) ({ cls := "MaskedEarsModel", name := "redo", desc := "()I" } : Jvm.MethodName)) ∈ lw_all := lw_g (lw_at lw_m8 140 rfl) rfl
theorem q1926 : (Jvm.Cond.code ({ cls := "MaskedEarsModel", name := "redo", desc := "()I" } : Jvm.MethodName) prog_14_method_96_code (5 : Nat) (Option.some Jvm.ClassFile.FieldType.int)) ∈ lw_all := lw_g (lw_at lw_m8 141 rfl) rfl
theorem q1928 : (Jvm.Cond.instanceMethod ({ cls := "MaskedEarsModel", name := "grade", desc := "(I)I" } : Jvm.MethodName)) ∈ lw_all := lw_g (lw_at lw_m8 143 rfl) rfl
theorem q1929 : (Jvm.Cond.selects "MaskedEarsModel" ({ cls := "MaskedEarsModel", name := "grade", desc := "(I)I" } : Jvm.MethodName) ({ cls := "MaskedEarsModel", name := "grade", desc := "(I)I" } : Jvm.MethodName)) ∈ lw_all := lw_g (lw_at lw_m8 144 rfl) rfl
theorem q1930 : (Jvm.Cond.code ({ cls := "MaskedEarsModel", name := "grade", desc := "(I)I" } : Jvm.MethodName) prog_14_method_97_code (3 : Nat) (Option.some Jvm.ClassFile.FieldType.int)) ∈ lw_all := lw_g (lw_at lw_m8 145 rfl) rfl
theorem q1931 : (Jvm.Cond.methodLink "MaskedEarsModel" (327 : Nat) ({ cls := "MaskedEarsModel", name := "meanOf", desc := "(II)I" } : Jvm.MethodName)) ∈ lw_all := lw_g (lw_at lw_m8 146 rfl) rfl
theorem q1932 : (Jvm.Cond.privateMethod ({ cls := "MaskedEarsModel", name := "meanOf", desc := "(II)I" } : Jvm.MethodName)) ∈ lw_tbl := lw_at lw_m8 147 rfl
theorem q1933 : (Jvm.Cond.instanceMethod ({ cls := "MaskedEarsModel", name := "meanOf", desc := "(II)I" } : Jvm.MethodName)) ∈ lw_all := lw_g (lw_at lw_m8 148 rfl) rfl
theorem q1934 : (Jvm.Cond.code ({ cls := "MaskedEarsModel", name := "meanOf", desc := "(II)I" } : Jvm.MethodName) prog_14_method_98_code (7 : Nat) (Option.some Jvm.ClassFile.FieldType.int)) ∈ lw_all := lw_g (lw_at lw_m8 149 rfl) rfl
theorem q1936 : (Jvm.Cond.instanceMethod ({ cls := "MaskedEarsModel", name := "mean", desc := "(II)I" } : Jvm.MethodName)) ∈ lw_all := lw_g (lw_at lw_m8 151 rfl) rfl
theorem q1937 : (Jvm.Cond.selects "MaskedEarsModel" ({ cls := "MaskedEarsModel", name := "mean", desc := "(II)I" } : Jvm.MethodName) ({ cls := "MaskedEarsModel", name := "mean", desc := "(II)I" } : Jvm.MethodName)) ∈ lw_all := lw_g (lw_at lw_m8 152 rfl) rfl
theorem q1938 : (Jvm.Cond.code ({ cls := "MaskedEarsModel", name := "mean", desc := "(II)I" } : Jvm.MethodName) prog_14_method_99_code (3 : Nat) (Option.some Jvm.ClassFile.FieldType.int)) ∈ lw_all := lw_g (lw_at lw_m8 153 rfl) rfl
theorem q1940 : (Jvm.Cond.instanceMethod ({ cls := "MaskedEarsModel", name := "worse", desc := "()I" } : Jvm.MethodName)) ∈ lw_all := lw_g (lw_at lw_m8 155 rfl) rfl
theorem q1941 : (Jvm.Cond.selects "MaskedEarsModel" ({ cls := "MaskedEarsModel", name := "worse", desc := "()I" } : Jvm.MethodName) ({ cls := "MaskedEarsModel", name := "worse", desc := "()I" } : Jvm.MethodName)) ∈ lw_all := lw_g (lw_at lw_m8 156 rfl) rfl
theorem q1942 : (Jvm.Cond.code ({ cls := "MaskedEarsModel", name := "worse", desc := "()I" } : Jvm.MethodName) prog_14_method_100_code (4 : Nat) (Option.some Jvm.ClassFile.FieldType.int)) ∈ lw_all := lw_g (lw_at lw_m8 157 rfl) rfl
theorem q1944 : (Jvm.Cond.instanceMethod ({ cls := "MaskedEarsModel", name := "right", desc := "(I)I" } : Jvm.MethodName)) ∈ lw_all := lw_g (lw_at lw_m8 159 rfl) rfl
theorem q1945 : (Jvm.Cond.selects "MaskedEarsModel" ({ cls := "MaskedEarsModel", name := "right", desc := "(I)I" } : Jvm.MethodName) ({ cls := "MaskedEarsModel", name := "right", desc := "(I)I" } : Jvm.MethodName)) ∈ lw_all := lw_g (lw_at lw_m8 160 rfl) rfl
theorem q1946 : (Jvm.Cond.code ({ cls := "MaskedEarsModel", name := "right", desc := "(I)I" } : Jvm.MethodName) prog_14_method_101_code (10 : Nat) (Option.some Jvm.ClassFile.FieldType.int)) ∈ lw_all := lw_g (lw_at lw_m8 161 rfl) rfl
theorem q1948 : (Jvm.Cond.instanceMethod ({ cls := "MaskedEarsModel", name := "left", desc := "()I" } : Jvm.MethodName)) ∈ lw_all := lw_g (lw_at lw_m8 163 rfl) rfl
theorem q1949 : (Jvm.Cond.selects "MaskedEarsModel" ({ cls := "MaskedEarsModel", name := "left", desc := "()I" } : Jvm.MethodName) ({ cls := "MaskedEarsModel", name := "left", desc := "()I" } : Jvm.MethodName)) ∈ lw_all := lw_g (lw_at lw_m8 164 rfl) rfl
theorem q1950 : (Jvm.Cond.code ({ cls := "MaskedEarsModel", name := "left", desc := "()I" } : Jvm.MethodName) prog_14_method_102_code (3 : Nat) (Option.some Jvm.ClassFile.FieldType.int)) ∈ lw_all := lw_g (lw_at lw_m8 165 rfl) rfl
theorem q1952 : (Jvm.Cond.instanceMethod ({ cls := "MaskedEarsModel", name := "chart", desc := "(II)I" } : Jvm.MethodName)) ∈ lw_all := lw_g (lw_at lw_m8 167 rfl) rfl
theorem q1953 : (Jvm.Cond.selects "MaskedEarsModel" ({ cls := "MaskedEarsModel", name := "chart", desc := "(II)I" } : Jvm.MethodName) ({ cls := "MaskedEarsModel", name := "chart", desc := "(II)I" } : Jvm.MethodName)) ∈ lw_all := lw_g (lw_at lw_m8 168 rfl) rfl
theorem q1954 : (Jvm.Cond.code ({ cls := "MaskedEarsModel", name := "chart", desc := "(II)I" } : Jvm.MethodName) prog_14_method_104_code (4 : Nat) (Option.some Jvm.ClassFile.FieldType.int)) ∈ lw_all := lw_g (lw_at lw_m8 169 rfl) rfl
theorem q1955 : (Jvm.Cond.methodLink "MaskedEarsModel" (330 : Nat) ({ cls := "MaskedEarsModel", name := "signAt", desc := "(III)I" } : Jvm.MethodName)) ∈ lw_all := lw_g (lw_at lw_m8 170 rfl) rfl
theorem q1956 : (Jvm.Cond.privateMethod ({ cls := "MaskedEarsModel", name := "signAt", desc := "(III)I" } : Jvm.MethodName)) ∈ lw_tbl := lw_at lw_m8 171 rfl
theorem q1957 : (Jvm.Cond.instanceMethod ({ cls := "MaskedEarsModel", name := "signAt", desc := "(III)I" } : Jvm.MethodName)) ∈ lw_all := lw_g (lw_at lw_m8 172 rfl) rfl
theorem q1958 : (Jvm.Cond.code ({ cls := "MaskedEarsModel", name := "signAt", desc := "(III)I" } : Jvm.MethodName) prog_14_method_103_code (6 : Nat) (Option.some Jvm.ClassFile.FieldType.int)) ∈ lw_all := lw_g (lw_at lw_m8 173 rfl) rfl
theorem q1960 : (Jvm.Cond.instanceMethod ({ cls := "MaskedEarsModel", name := "mark", desc := "()I" } : Jvm.MethodName)) ∈ lw_all := lw_g (lw_at lw_m8 175 rfl) rfl
theorem q1961 : (Jvm.Cond.selects "MaskedEarsModel" ({ cls := "MaskedEarsModel", name := "mark", desc := "()I" } : Jvm.MethodName) ({ cls := "MaskedEarsModel", name := "mark", desc := "()I" } : Jvm.MethodName)) ∈ lw_all := lw_g (lw_at lw_m8 176 rfl) rfl
theorem q1962 : (Jvm.Cond.code ({ cls := "MaskedEarsModel", name := "mark", desc := "()I" } : Jvm.MethodName) prog_14_method_105_code (3 : Nat) (Option.some Jvm.ClassFile.FieldType.int)) ∈ lw_all := lw_g (lw_at lw_m8 177 rfl) rfl
theorem q1964 : (Jvm.Cond.instanceMethod ({ cls := "MaskedEarsModel", name := "shift", desc := "(III)I" } : Jvm.MethodName)) ∈ lw_all := lw_g (lw_at lw_m8 179 rfl) rfl
theorem q1965 : (Jvm.Cond.selects "MaskedEarsModel" ({ cls := "MaskedEarsModel", name := "shift", desc := "(III)I" } : Jvm.MethodName) ({ cls := "MaskedEarsModel", name := "shift", desc := "(III)I" } : Jvm.MethodName)) ∈ lw_all := lw_g (lw_at lw_m8 180 rfl) rfl
theorem q1966 : (Jvm.Cond.code ({ cls := "MaskedEarsModel", name := "shift", desc := "(III)I" } : Jvm.MethodName) prog_14_method_107_code (4 : Nat) (Option.some Jvm.ClassFile.FieldType.int)) ∈ lw_all := lw_g (lw_at lw_m8 181 rfl) rfl
theorem q1967 : (Jvm.Cond.methodLink "MaskedEarsModel" (333 : Nat) ({ cls := "MaskedEarsModel", name := "shiftOf", desc := "(III)I" } : Jvm.MethodName)) ∈ lw_all := lw_g (lw_at lw_m8 182 rfl) rfl
theorem q1968 : (Jvm.Cond.privateMethod ({ cls := "MaskedEarsModel", name := "shiftOf", desc := "(III)I" } : Jvm.MethodName)) ∈ lw_tbl := lw_at lw_m8 183 rfl
theorem q1969 : (Jvm.Cond.instanceMethod ({ cls := "MaskedEarsModel", name := "shiftOf", desc := "(III)I" } : Jvm.MethodName)) ∈ lw_all := lw_g (lw_at lw_m8 184 rfl) rfl
theorem q1970 : (Jvm.Cond.code ({ cls := "MaskedEarsModel", name := "shiftOf", desc := "(III)I" } : Jvm.MethodName) prog_14_method_106_code (6 : Nat) (Option.some Jvm.ClassFile.FieldType.int)) ∈ lw_all := lw_g (lw_at lw_m8 185 rfl) rfl
theorem q1972 : (Jvm.Cond.instanceMethod ({ cls := "MaskedEarsModel", name := "worsened", desc := "(II)I" } : Jvm.MethodName)) ∈ lw_all := lw_g (lw_at lw_m8 187 rfl) rfl
theorem q1973 : (Jvm.Cond.selects "MaskedEarsModel" ({ cls := "MaskedEarsModel", name := "worsened", desc := "(II)I" } : Jvm.MethodName) ({ cls := "MaskedEarsModel", name := "worsened", desc := "(II)I" } : Jvm.MethodName)) ∈ lw_all := lw_g (lw_at lw_m8 188 rfl) rfl
theorem q1974 : (Jvm.Cond.code ({ cls := "MaskedEarsModel", name := "worsened", desc := "(II)I" } : Jvm.MethodName) prog_14_method_108_code (5 : Nat) (Option.some Jvm.ClassFile.FieldType.int)) ∈ lw_all := lw_g (lw_at lw_m8 189 rfl) rfl
theorem q1976 : (Jvm.Cond.instanceMethod ({ cls := "MaskedEarsModel", name := "steepest", desc := "(I)I" } : Jvm.MethodName)) ∈ lw_all := lw_g (lw_at lw_m8 191 rfl) rfl
theorem q1977 : (Jvm.Cond.selects "MaskedEarsModel" ({ cls := "MaskedEarsModel", name := "steepest", desc := "(I)I" } : Jvm.MethodName) ({ cls := "MaskedEarsModel", name := "steepest", desc := "(I)I" } : Jvm.MethodName)) ∈ lw_all := lw_g (lw_at lw_m8 192 rfl) rfl
theorem q1978 : (Jvm.Cond.code ({ cls := "MaskedEarsModel", name := "steepest", desc := "(I)I" } : Jvm.MethodName) prog_14_method_109_code (6 : Nat) (Option.some Jvm.ClassFile.FieldType.int)) ∈ lw_all := lw_g (lw_at lw_m8 193 rfl) rfl
theorem q1980 : (Jvm.Cond.instanceMethod ({ cls := "MaskedEarsModel", name := "log", desc := "(II)I" } : Jvm.MethodName)) ∈ lw_all := lw_g (lw_at lw_m8 195 rfl) rfl
theorem q1981 : (Jvm.Cond.selects "MaskedEarsModel" ({ cls := "MaskedEarsModel", name := "log", desc := "(II)I" } : Jvm.MethodName) ({ cls := "MaskedEarsModel", name := "log", desc := "(II)I" } : Jvm.MethodName)) ∈ lw_all := lw_g (lw_at lw_m8 196 rfl) rfl
theorem q1982 : (Jvm.Cond.code ({ cls := "MaskedEarsModel", name := "log", desc := "(II)I" } : Jvm.MethodName) prog_14_method_110_code (3 : Nat) (Option.some Jvm.ClassFile.FieldType.int)) ∈ lw_all := lw_g (lw_at lw_m8 197 rfl) rfl
theorem q1984 : (Jvm.Cond.instanceMethod ({ cls := "MaskedEarsModel", name := "unproved", desc := "(I)I" } : Jvm.MethodName)) ∈ lw_all := lw_g (lw_at lw_m8 199 rfl) rfl
theorem q1985 : (Jvm.Cond.selects "MaskedEarsModel" ({ cls := "MaskedEarsModel", name := "unproved", desc := "(I)I" } : Jvm.MethodName) ({ cls := "MaskedEarsModel", name := "unproved", desc := "(I)I" } : Jvm.MethodName)) ∈ lw_all := lw_g (lw_at lw_m8 200 rfl) rfl
theorem q1986 : (Jvm.Cond.code ({ cls := "MaskedEarsModel", name := "unproved", desc := "(I)I" } : Jvm.MethodName) prog_14_method_111_code (4 : Nat) (Option.some Jvm.ClassFile.FieldType.int)) ∈ lw_all := lw_g (lw_at lw_m8 201 rfl) rfl
theorem q1988 : (Jvm.Cond.instanceMethod ({ cls := "MaskedEarsModel", name := "size", desc := "(I)I" } : Jvm.MethodName)) ∈ lw_all := lw_g (lw_at lw_m8 203 rfl) rfl
theorem q1989 : (Jvm.Cond.selects "MaskedEarsModel" ({ cls := "MaskedEarsModel", name := "size", desc := "(I)I" } : Jvm.MethodName) ({ cls := "MaskedEarsModel", name := "size", desc := "(I)I" } : Jvm.MethodName)) ∈ lw_all := lw_g (lw_at lw_m8 204 rfl) rfl
theorem q1990 : (Jvm.Cond.code ({ cls := "MaskedEarsModel", name := "size", desc := "(I)I" } : Jvm.MethodName) prog_14_method_112_code (2 : Nat) (Option.some Jvm.ClassFile.FieldType.int)) ∈ lw_all := lw_g (lw_at lw_m8 205 rfl) rfl
theorem q1992 : (Jvm.Cond.instanceMethod ({ cls := "MaskedEarsModel", name := "trouble", desc := "()I" } : Jvm.MethodName)) ∈ lw_all := lw_g (lw_at lw_m8 207 rfl) rfl
theorem q1993 : (Jvm.Cond.selects "MaskedEarsModel" ({ cls := "MaskedEarsModel", name := "trouble", desc := "()I" } : Jvm.MethodName) ({ cls := "MaskedEarsModel", name := "trouble", desc := "()I" } : Jvm.MethodName)) ∈ lw_all := lw_g (lw_at lw_m8 208 rfl) rfl
theorem q1994 : (Jvm.Cond.code ({ cls := "MaskedEarsModel", name := "trouble", desc := "()I" } : Jvm.MethodName) prog_14_method_113_code (1 : Nat) (Option.some Jvm.ClassFile.FieldType.int)) ∈ lw_all := lw_g (lw_at lw_m8 209 rfl) rfl
theorem q2001 : (Jvm.Cond.castable "MaskedEarsModel" "java/lang/Object") ∈ lw_tbl := lw_at lw_m8 216 rfl
theorem in_X3 : ∀ w ∈ wsX30, w ∈ lw_all := lw_in wsX30 [1489, 1491, 1493, 1495, 1497, 1499, 1501, 1503, 1505, 1507, 1509, 1511, 1513, 1515, 1517, 1519, 1521, 1523, 1525, 1527, 1529, 1531, 1533, 1535, 1537, 1539] (by decide +kernel) (by decide +kernel)
