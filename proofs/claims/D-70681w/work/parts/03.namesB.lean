/-! TearsQueue -/
set_option maxRecDepth 100000
def RX0 : String := "TearsQueue"
def TX0 : u_T := fun k => match k with
  | 0 => ("TearsQueue", "kinds", "[LTearsQueue$Plain;", true)
  | 1 => ("TearsQueue", "now", "LTearsQueue$Stop;", true)
  | 2 => ("TearsQueue", "tried", "LTearsQueue$Stop;", true)
  | 3 => ("TearsQueue", "images", "[LTearsQueue$Stop;", true)
  | 4 => ("TearsQueue", "kept", "I", false)
  | 5 => ("TearsQueue", "seen", "[B", true)
  | 6 => ("TearsQueue", "seenMany", "I", false)
  | 7 => ("TearsQueue", "weepers", "I", false)
  | 8 => ("TearsQueue", "often", "I", false)
  | 9 => ("TearsQueue", "firstOver", "I", false)
  | 10 => ("TearsQueue", "tape", "[B", true)
  | 11 => ("TearsQueue", "taped", "I", false)
  | 12 => ("TearsQueue", "fault", "I", false)
  | 13 => ("TearsQueue", "row", "[B", true)
  | 14 => ("TearsQueue", "goneSum", "J", false)
  | 15 => ("TearsQueue", "manySum", "J", false)
  | 16 => ("TearsQueue", "allWays", "J", false)
  | 17 => ("TearsQueue", "sheets", "[LTearsQueue$Sheet;", true)
  | _ => ("TearsQueue", "torn", "I", false)
def tyX0 : Nat → FieldType := fun k => match k with
  | 0 => .array (.object "TearsQueue$Plain")
  | 1 => .object "TearsQueue$Stop"
  | 2 => .object "TearsQueue$Stop"
  | 3 => .array (.object "TearsQueue$Stop")
  | 4 => .int
  | 5 => .array .byte
  | 6 => .int
  | 7 => .int
  | 8 => .int
  | 9 => .int
  | 10 => .array .byte
  | 11 => .int
  | 12 => .int
  | 13 => .array .byte
  | 14 => .long
  | 15 => .long
  | 16 => .long
  | 17 => .array (.object "TearsQueue$Sheet")
  | _ => .int
abbrev wsX00 : List Cond := u_ws RX0 TX0 19
set_option maxRecDepth 100000 in
theorem nmX0 : ∀ a, a < 19 → ∀ b, b < 19 → a ≠ b → (TX0 a).2.1 ≠ (TX0 b).2.1 := by decide +kernel
set_option maxRecDepth 100000 in
theorem tyX0_ok : ∀ k, k < 19 → parseFieldDescriptor (TX0 k).2.2.1 = some (tyX0 k) := by decide +kernel
abbrev cX0_init : ByteArray := prog_1_method_9_code
def yX0_init : MethodName := ⟨RX0, "<init>", "()V"⟩
def dkwX0_init_6 : List UInt8 := [180, 0, 135, 27, 187, 0, 133, 89, 183, 0, 139, 83, 132, 1, 1, 167, 255, 235, 177]
abbrev dktX0_init_6 : List UInt8 := dkwX0_init_6 ++ []
def dkwX0_init_5 : List UInt8 := [42, 7, 188, 8, 181, 0, 130, 42, 7, 189, 0, 133, 181, 0, 135, 3, 60, 27, 7, 162, 0, 22, 42]
abbrev dktX0_init_5 : List UInt8 := dkwX0_init_5 ++ dktX0_init_6
def dkwX0_init_4 : List UInt8 := [183, 0, 112, 83, 181, 0, 120, 42, 16, 12, 188, 8, 181, 0, 124, 42, 17, 0, 160, 188, 8, 181, 0, 127]
abbrev dktX0_init_4 : List UInt8 := dkwX0_init_4 ++ dktX0_init_5
def dkwX0_init_3 : List UInt8 := [181, 0, 117, 42, 5, 189, 0, 8, 89, 3, 187, 0, 8, 89, 183, 0, 112, 83, 89, 4, 187, 0, 8, 89]
abbrev dktX0_init_3 : List UInt8 := dkwX0_init_3 ++ dktX0_init_4
def dkwX0_init_2 : List UInt8 := [83, 181, 0, 1, 42, 187, 0, 8, 89, 183, 0, 112, 181, 0, 113, 42, 187, 0, 8, 89, 183, 0, 112]
abbrev dktX0_init_2 : List UInt8 := dkwX0_init_2 ++ dktX0_init_3
def dkwX0_init_1 : List UInt8 := [89, 183, 0, 105, 83, 89, 5, 187, 0, 106, 89, 183, 0, 108, 83, 89, 6, 187, 0, 109, 89, 183, 0, 111]
abbrev dktX0_init_1 : List UInt8 := dkwX0_init_1 ++ dktX0_init_2
def dkwX0_init_0 : List UInt8 := [42, 183, 0, 97, 42, 7, 189, 0, 14, 89, 3, 187, 0, 14, 89, 183, 0, 102, 83, 89, 4, 187, 0, 103]
abbrev dktX0_init_0 : List UInt8 := dkwX0_init_0 ++ dktX0_init_1
theorem dksX0_init_0 : cX0_init.data.toList.drop 0 = dktX0_init_0 := by decide +kernel
theorem dksX0_init_1 : cX0_init.data.toList.drop 24 = dktX0_init_1 := dk_seg dksX0_init_0 24 rfl rfl
theorem dksX0_init_2 : cX0_init.data.toList.drop 48 = dktX0_init_2 := dk_seg dksX0_init_1 24 rfl rfl
theorem dksX0_init_3 : cX0_init.data.toList.drop 71 = dktX0_init_3 := dk_seg dksX0_init_2 23 rfl rfl
theorem dksX0_init_4 : cX0_init.data.toList.drop 95 = dktX0_init_4 := dk_seg dksX0_init_3 24 rfl rfl
theorem dksX0_init_5 : cX0_init.data.toList.drop 119 = dktX0_init_5 := dk_seg dksX0_init_4 24 rfl rfl
theorem dksX0_init_6 : cX0_init.data.toList.drop 142 = dktX0_init_6 := dk_seg dksX0_init_5 23 rfl rfl
theorem dX0_init_0 : decode cX0_init 0 = .ok (.aload_n 0, 1) := dk_42 (dk_at dksX0_init_0 0 rfl rfl)
theorem dX0_init_1 : decode cX0_init 1 = .ok (.invokespecial 97, 3) := dk_183 0 97 (dk_at dksX0_init_0 1 rfl rfl)
theorem dX0_init_4 : decode cX0_init 4 = .ok (.aload_n 0, 1) := dk_42 (dk_at dksX0_init_0 4 rfl rfl)
theorem dX0_init_5 : decode cX0_init 5 = .ok (.iconst 4, 1) := dk_7 (dk_at dksX0_init_0 5 rfl rfl)
theorem dX0_init_6 : decode cX0_init 6 = .ok (.anewarray 14, 3) := dk_189 0 14 (dk_at dksX0_init_0 6 rfl rfl)
theorem dX0_init_9 : decode cX0_init 9 = .ok (.dup, 1) := dk_89 (dk_at dksX0_init_0 9 rfl rfl)
theorem dX0_init_10 : decode cX0_init 10 = .ok (.iconst 0, 1) := dk_3 (dk_at dksX0_init_0 10 rfl rfl)
theorem dX0_init_11 : decode cX0_init 11 = .ok (.new 14, 3) := dk_187 0 14 (dk_at dksX0_init_0 11 rfl rfl)
theorem dX0_init_14 : decode cX0_init 14 = .ok (.dup, 1) := dk_89 (dk_at dksX0_init_0 14 rfl rfl)
theorem dX0_init_15 : decode cX0_init 15 = .ok (.invokespecial 102, 3) := dk_183 0 102 (dk_at dksX0_init_0 15 rfl rfl)
theorem dX0_init_18 : decode cX0_init 18 = .ok (.aastore, 1) := dk_83 (dk_at dksX0_init_0 18 rfl rfl)
theorem dX0_init_19 : decode cX0_init 19 = .ok (.dup, 1) := dk_89 (dk_at dksX0_init_0 19 rfl rfl)
theorem dX0_init_20 : decode cX0_init 20 = .ok (.iconst 1, 1) := dk_4 (dk_at dksX0_init_0 20 rfl rfl)
theorem dX0_init_21 : decode cX0_init 21 = .ok (.new 103, 3) := dk_187 0 103 (dk_at dksX0_init_0 21 rfl rfl)
theorem dX0_init_24 : decode cX0_init 24 = .ok (.dup, 1) := dk_89 (dk_at dksX0_init_1 0 rfl rfl)
theorem dX0_init_25 : decode cX0_init 25 = .ok (.invokespecial 105, 3) := dk_183 0 105 (dk_at dksX0_init_1 1 rfl rfl)
theorem dX0_init_28 : decode cX0_init 28 = .ok (.aastore, 1) := dk_83 (dk_at dksX0_init_1 4 rfl rfl)
theorem dX0_init_29 : decode cX0_init 29 = .ok (.dup, 1) := dk_89 (dk_at dksX0_init_1 5 rfl rfl)
theorem dX0_init_30 : decode cX0_init 30 = .ok (.iconst 2, 1) := dk_5 (dk_at dksX0_init_1 6 rfl rfl)
theorem dX0_init_31 : decode cX0_init 31 = .ok (.new 106, 3) := dk_187 0 106 (dk_at dksX0_init_1 7 rfl rfl)
theorem dX0_init_34 : decode cX0_init 34 = .ok (.dup, 1) := dk_89 (dk_at dksX0_init_1 10 rfl rfl)
theorem dX0_init_35 : decode cX0_init 35 = .ok (.invokespecial 108, 3) := dk_183 0 108 (dk_at dksX0_init_1 11 rfl rfl)
theorem dX0_init_38 : decode cX0_init 38 = .ok (.aastore, 1) := dk_83 (dk_at dksX0_init_1 14 rfl rfl)
theorem dX0_init_39 : decode cX0_init 39 = .ok (.dup, 1) := dk_89 (dk_at dksX0_init_1 15 rfl rfl)
theorem dX0_init_40 : decode cX0_init 40 = .ok (.iconst 3, 1) := dk_6 (dk_at dksX0_init_1 16 rfl rfl)
theorem dX0_init_41 : decode cX0_init 41 = .ok (.new 109, 3) := dk_187 0 109 (dk_at dksX0_init_1 17 rfl rfl)
theorem dX0_init_44 : decode cX0_init 44 = .ok (.dup, 1) := dk_89 (dk_at dksX0_init_1 20 rfl rfl)
theorem dX0_init_45 : decode cX0_init 45 = .ok (.invokespecial 111, 3) := dk_183 0 111 (dk_at dksX0_init_1 21 rfl rfl)
theorem dX0_init_48 : decode cX0_init 48 = .ok (.aastore, 1) := dk_83 (dk_at dksX0_init_2 0 rfl rfl)
theorem dX0_init_49 : decode cX0_init 49 = .ok (.putfield 1, 3) := dk_181 0 1 (dk_at dksX0_init_2 1 rfl rfl)
theorem dX0_init_52 : decode cX0_init 52 = .ok (.aload_n 0, 1) := dk_42 (dk_at dksX0_init_2 4 rfl rfl)
theorem dX0_init_53 : decode cX0_init 53 = .ok (.new 8, 3) := dk_187 0 8 (dk_at dksX0_init_2 5 rfl rfl)
theorem dX0_init_56 : decode cX0_init 56 = .ok (.dup, 1) := dk_89 (dk_at dksX0_init_2 8 rfl rfl)
theorem dX0_init_57 : decode cX0_init 57 = .ok (.invokespecial 112, 3) := dk_183 0 112 (dk_at dksX0_init_2 9 rfl rfl)
theorem dX0_init_60 : decode cX0_init 60 = .ok (.putfield 113, 3) := dk_181 0 113 (dk_at dksX0_init_2 12 rfl rfl)
theorem dX0_init_63 : decode cX0_init 63 = .ok (.aload_n 0, 1) := dk_42 (dk_at dksX0_init_2 15 rfl rfl)
theorem dX0_init_64 : decode cX0_init 64 = .ok (.new 8, 3) := dk_187 0 8 (dk_at dksX0_init_2 16 rfl rfl)
theorem dX0_init_67 : decode cX0_init 67 = .ok (.dup, 1) := dk_89 (dk_at dksX0_init_2 19 rfl rfl)
theorem dX0_init_68 : decode cX0_init 68 = .ok (.invokespecial 112, 3) := dk_183 0 112 (dk_at dksX0_init_2 20 rfl rfl)
theorem dX0_init_71 : decode cX0_init 71 = .ok (.putfield 117, 3) := dk_181 0 117 (dk_at dksX0_init_3 0 rfl rfl)
theorem dX0_init_74 : decode cX0_init 74 = .ok (.aload_n 0, 1) := dk_42 (dk_at dksX0_init_3 3 rfl rfl)
theorem dX0_init_75 : decode cX0_init 75 = .ok (.iconst 2, 1) := dk_5 (dk_at dksX0_init_3 4 rfl rfl)
theorem dX0_init_76 : decode cX0_init 76 = .ok (.anewarray 8, 3) := dk_189 0 8 (dk_at dksX0_init_3 5 rfl rfl)
theorem dX0_init_79 : decode cX0_init 79 = .ok (.dup, 1) := dk_89 (dk_at dksX0_init_3 8 rfl rfl)
theorem dX0_init_80 : decode cX0_init 80 = .ok (.iconst 0, 1) := dk_3 (dk_at dksX0_init_3 9 rfl rfl)
theorem dX0_init_81 : decode cX0_init 81 = .ok (.new 8, 3) := dk_187 0 8 (dk_at dksX0_init_3 10 rfl rfl)
theorem dX0_init_84 : decode cX0_init 84 = .ok (.dup, 1) := dk_89 (dk_at dksX0_init_3 13 rfl rfl)
theorem dX0_init_85 : decode cX0_init 85 = .ok (.invokespecial 112, 3) := dk_183 0 112 (dk_at dksX0_init_3 14 rfl rfl)
theorem dX0_init_88 : decode cX0_init 88 = .ok (.aastore, 1) := dk_83 (dk_at dksX0_init_3 17 rfl rfl)
theorem dX0_init_89 : decode cX0_init 89 = .ok (.dup, 1) := dk_89 (dk_at dksX0_init_3 18 rfl rfl)
theorem dX0_init_90 : decode cX0_init 90 = .ok (.iconst 1, 1) := dk_4 (dk_at dksX0_init_3 19 rfl rfl)
theorem dX0_init_91 : decode cX0_init 91 = .ok (.new 8, 3) := dk_187 0 8 (dk_at dksX0_init_3 20 rfl rfl)
theorem dX0_init_94 : decode cX0_init 94 = .ok (.dup, 1) := dk_89 (dk_at dksX0_init_3 23 rfl rfl)
theorem dX0_init_95 : decode cX0_init 95 = .ok (.invokespecial 112, 3) := dk_183 0 112 (dk_at dksX0_init_4 0 rfl rfl)
theorem dX0_init_98 : decode cX0_init 98 = .ok (.aastore, 1) := dk_83 (dk_at dksX0_init_4 3 rfl rfl)
theorem dX0_init_99 : decode cX0_init 99 = .ok (.putfield 120, 3) := dk_181 0 120 (dk_at dksX0_init_4 4 rfl rfl)
theorem dX0_init_102 : decode cX0_init 102 = .ok (.aload_n 0, 1) := dk_42 (dk_at dksX0_init_4 7 rfl rfl)
theorem dX0_init_103 : decode cX0_init 103 = .ok (.bipush 12, 2) := dk_16 12 (dk_at dksX0_init_4 8 rfl rfl)
theorem dX0_init_105 : decode cX0_init 105 = .ok (.newarray .byte, 2) := dk_188_8 (dk_at dksX0_init_4 10 rfl rfl)
theorem dX0_init_107 : decode cX0_init 107 = .ok (.putfield 124, 3) := dk_181 0 124 (dk_at dksX0_init_4 12 rfl rfl)
theorem dX0_init_110 : decode cX0_init 110 = .ok (.aload_n 0, 1) := dk_42 (dk_at dksX0_init_4 15 rfl rfl)
theorem dX0_init_111 : decode cX0_init 111 = .ok (.sipush 160, 3) := dk_17 0 160 (dk_at dksX0_init_4 16 rfl rfl)
theorem dX0_init_114 : decode cX0_init 114 = .ok (.newarray .byte, 2) := dk_188_8 (dk_at dksX0_init_4 19 rfl rfl)
theorem dX0_init_116 : decode cX0_init 116 = .ok (.putfield 127, 3) := dk_181 0 127 (dk_at dksX0_init_4 21 rfl rfl)
theorem dX0_init_119 : decode cX0_init 119 = .ok (.aload_n 0, 1) := dk_42 (dk_at dksX0_init_5 0 rfl rfl)
theorem dX0_init_120 : decode cX0_init 120 = .ok (.iconst 4, 1) := dk_7 (dk_at dksX0_init_5 1 rfl rfl)
theorem dX0_init_121 : decode cX0_init 121 = .ok (.newarray .byte, 2) := dk_188_8 (dk_at dksX0_init_5 2 rfl rfl)
theorem dX0_init_123 : decode cX0_init 123 = .ok (.putfield 130, 3) := dk_181 0 130 (dk_at dksX0_init_5 4 rfl rfl)
theorem dX0_init_126 : decode cX0_init 126 = .ok (.aload_n 0, 1) := dk_42 (dk_at dksX0_init_5 7 rfl rfl)
theorem dX0_init_127 : decode cX0_init 127 = .ok (.iconst 4, 1) := dk_7 (dk_at dksX0_init_5 8 rfl rfl)
theorem dX0_init_128 : decode cX0_init 128 = .ok (.anewarray 133, 3) := dk_189 0 133 (dk_at dksX0_init_5 9 rfl rfl)
theorem dX0_init_131 : decode cX0_init 131 = .ok (.putfield 135, 3) := dk_181 0 135 (dk_at dksX0_init_5 12 rfl rfl)
theorem dX0_init_134 : decode cX0_init 134 = .ok (.iconst 0, 1) := dk_3 (dk_at dksX0_init_5 15 rfl rfl)
theorem dX0_init_135 : decode cX0_init 135 = .ok (.istore_n 1, 1) := dk_60 (dk_at dksX0_init_5 16 rfl rfl)
theorem dX0_init_136 : decode cX0_init 136 = .ok (.iload_n 1, 1) := dk_27 (dk_at dksX0_init_5 17 rfl rfl)
theorem dX0_init_137 : decode cX0_init 137 = .ok (.iconst 4, 1) := dk_7 (dk_at dksX0_init_5 18 rfl rfl)
theorem dX0_init_138 : decode cX0_init 138 = .ok (.if_icmp .ge 22, 3) := dk_162 0 22 (dk_at dksX0_init_5 19 rfl rfl)
theorem dX0_init_141 : decode cX0_init 141 = .ok (.aload_n 0, 1) := dk_42 (dk_at dksX0_init_5 22 rfl rfl)
theorem dX0_init_142 : decode cX0_init 142 = .ok (.getfield 135, 3) := dk_180 0 135 (dk_at dksX0_init_6 0 rfl rfl)
theorem dX0_init_145 : decode cX0_init 145 = .ok (.iload_n 1, 1) := dk_27 (dk_at dksX0_init_6 3 rfl rfl)
theorem dX0_init_146 : decode cX0_init 146 = .ok (.new 133, 3) := dk_187 0 133 (dk_at dksX0_init_6 4 rfl rfl)
theorem dX0_init_149 : decode cX0_init 149 = .ok (.dup, 1) := dk_89 (dk_at dksX0_init_6 7 rfl rfl)
theorem dX0_init_150 : decode cX0_init 150 = .ok (.invokespecial 139, 3) := dk_183 0 139 (dk_at dksX0_init_6 8 rfl rfl)
theorem dX0_init_153 : decode cX0_init 153 = .ok (.aastore, 1) := dk_83 (dk_at dksX0_init_6 11 rfl rfl)
theorem dX0_init_154 : decode cX0_init 154 = .ok (.iinc 1 1, 3) := dk_132 1 1 (dk_at dksX0_init_6 12 rfl rfl)
theorem dX0_init_157 : decode cX0_init 157 = .ok (.goto (-21), 3) := dk_167 255 235 (dk_at dksX0_init_6 15 rfl rfl)
theorem dX0_init_160 : decode cX0_init 160 = .ok (.return_, 1) := dk_177 (dk_at dksX0_init_6 18 rfl rfl)
abbrev cX0_feed : ByteArray := prog_1_method_10_code
def yX0_feed : MethodName := ⟨RX0, "feed", "(I)I"⟩
def dkwX0_feed_2 : List UInt8 := [42, 180, 0, 146, 172]
abbrev dktX0_feed_2 : List UInt8 := dkwX0_feed_2 ++ []
def dkwX0_feed_1 : List UInt8 := [16, 253, 172, 42, 180, 0, 127, 42, 180, 0, 146, 27, 145, 84, 42, 89, 180, 0, 146, 4, 96, 181, 0, 146]
abbrev dktX0_feed_1 : List UInt8 := dkwX0_feed_1 ++ dktX0_feed_2
def dkwX0_feed_0 : List UInt8 := [27, 133, 9, 20, 0, 140, 184, 0, 142, 154, 0, 5, 2, 172, 42, 180, 0, 146, 17, 0, 160, 160, 0, 6]
abbrev dktX0_feed_0 : List UInt8 := dkwX0_feed_0 ++ dktX0_feed_1
theorem dksX0_feed_0 : cX0_feed.data.toList.drop 0 = dktX0_feed_0 := by decide +kernel
theorem dksX0_feed_1 : cX0_feed.data.toList.drop 24 = dktX0_feed_1 := dk_seg dksX0_feed_0 24 rfl rfl
theorem dksX0_feed_2 : cX0_feed.data.toList.drop 48 = dktX0_feed_2 := dk_seg dksX0_feed_1 24 rfl rfl
theorem dX0_feed_0 : decode cX0_feed 0 = .ok (.iload_n 1, 1) := dk_27 (dk_at dksX0_feed_0 0 rfl rfl)
theorem dX0_feed_1 : decode cX0_feed 1 = .ok (.i2l, 1) := dk_133 (dk_at dksX0_feed_0 1 rfl rfl)
theorem dX0_feed_2 : decode cX0_feed 2 = .ok (.lconst 0, 1) := dk_9 (dk_at dksX0_feed_0 2 rfl rfl)
theorem dX0_feed_3 : decode cX0_feed 3 = .ok (.ldc2_w 140, 3) := dk_20 0 140 (dk_at dksX0_feed_0 3 rfl rfl)
theorem dX0_feed_6 : decode cX0_feed 6 = .ok (.invokestatic 142, 3) := dk_184 0 142 (dk_at dksX0_feed_0 6 rfl rfl)
theorem dX0_feed_9 : decode cX0_feed 9 = .ok (.ifCond .ne 5, 3) := dk_154 0 5 (dk_at dksX0_feed_0 9 rfl rfl)
theorem dX0_feed_12 : decode cX0_feed 12 = .ok (.iconst (-1), 1) := dk_2 (dk_at dksX0_feed_0 12 rfl rfl)
theorem dX0_feed_13 : decode cX0_feed 13 = .ok (.ireturn, 1) := dk_172 (dk_at dksX0_feed_0 13 rfl rfl)
theorem dX0_feed_14 : decode cX0_feed 14 = .ok (.aload_n 0, 1) := dk_42 (dk_at dksX0_feed_0 14 rfl rfl)
theorem dX0_feed_15 : decode cX0_feed 15 = .ok (.getfield 146, 3) := dk_180 0 146 (dk_at dksX0_feed_0 15 rfl rfl)
theorem dX0_feed_18 : decode cX0_feed 18 = .ok (.sipush 160, 3) := dk_17 0 160 (dk_at dksX0_feed_0 18 rfl rfl)
theorem dX0_feed_21 : decode cX0_feed 21 = .ok (.if_icmp .ne 6, 3) := dk_160 0 6 (dk_at dksX0_feed_0 21 rfl rfl)
theorem dX0_feed_24 : decode cX0_feed 24 = .ok (.bipush (-3), 2) := dk_16 253 (dk_at dksX0_feed_1 0 rfl rfl)
theorem dX0_feed_26 : decode cX0_feed 26 = .ok (.ireturn, 1) := dk_172 (dk_at dksX0_feed_1 2 rfl rfl)
theorem dX0_feed_27 : decode cX0_feed 27 = .ok (.aload_n 0, 1) := dk_42 (dk_at dksX0_feed_1 3 rfl rfl)
theorem dX0_feed_28 : decode cX0_feed 28 = .ok (.getfield 127, 3) := dk_180 0 127 (dk_at dksX0_feed_1 4 rfl rfl)
theorem dX0_feed_31 : decode cX0_feed 31 = .ok (.aload_n 0, 1) := dk_42 (dk_at dksX0_feed_1 7 rfl rfl)
theorem dX0_feed_32 : decode cX0_feed 32 = .ok (.getfield 146, 3) := dk_180 0 146 (dk_at dksX0_feed_1 8 rfl rfl)
theorem dX0_feed_35 : decode cX0_feed 35 = .ok (.iload_n 1, 1) := dk_27 (dk_at dksX0_feed_1 11 rfl rfl)
theorem dX0_feed_36 : decode cX0_feed 36 = .ok (.i2b, 1) := dk_145 (dk_at dksX0_feed_1 12 rfl rfl)
theorem dX0_feed_37 : decode cX0_feed 37 = .ok (.bastore, 1) := dk_84 (dk_at dksX0_feed_1 13 rfl rfl)
theorem dX0_feed_38 : decode cX0_feed 38 = .ok (.aload_n 0, 1) := dk_42 (dk_at dksX0_feed_1 14 rfl rfl)
theorem dX0_feed_39 : decode cX0_feed 39 = .ok (.dup, 1) := dk_89 (dk_at dksX0_feed_1 15 rfl rfl)
theorem dX0_feed_40 : decode cX0_feed 40 = .ok (.getfield 146, 3) := dk_180 0 146 (dk_at dksX0_feed_1 16 rfl rfl)
theorem dX0_feed_43 : decode cX0_feed 43 = .ok (.iconst 1, 1) := dk_4 (dk_at dksX0_feed_1 19 rfl rfl)
theorem dX0_feed_44 : decode cX0_feed 44 = .ok (.iadd, 1) := dk_96 (dk_at dksX0_feed_1 20 rfl rfl)
theorem dX0_feed_45 : decode cX0_feed 45 = .ok (.putfield 146, 3) := dk_181 0 146 (dk_at dksX0_feed_1 21 rfl rfl)
theorem dX0_feed_48 : decode cX0_feed 48 = .ok (.aload_n 0, 1) := dk_42 (dk_at dksX0_feed_2 0 rfl rfl)
theorem dX0_feed_49 : decode cX0_feed 49 = .ok (.getfield 146, 3) := dk_180 0 146 (dk_at dksX0_feed_2 1 rfl rfl)
theorem dX0_feed_52 : decode cX0_feed 52 = .ok (.ireturn, 1) := dk_172 (dk_at dksX0_feed_2 4 rfl rfl)
abbrev cX0_in : ByteArray := prog_1_method_1_code
def yX0_in : MethodName := ⟨RX0, "in", "(JJJ)Z"⟩
def dkwX0_in_0 : List UInt8 := [30, 32, 148, 155, 0, 14, 30, 22, 4, 148, 157, 0, 7, 4, 167, 0, 4, 3, 172]
abbrev dktX0_in_0 : List UInt8 := dkwX0_in_0 ++ []
theorem dksX0_in_0 : cX0_in.data.toList.drop 0 = dktX0_in_0 := by decide +kernel
theorem dX0_in_0 : decode cX0_in 0 = .ok (.lload_n 0, 1) := dk_30 (dk_at dksX0_in_0 0 rfl rfl)
theorem dX0_in_1 : decode cX0_in 1 = .ok (.lload_n 2, 1) := dk_32 (dk_at dksX0_in_0 1 rfl rfl)
theorem dX0_in_2 : decode cX0_in 2 = .ok (.lcmp, 1) := dk_148 (dk_at dksX0_in_0 2 rfl rfl)
theorem dX0_in_3 : decode cX0_in 3 = .ok (.ifCond .lt 14, 3) := dk_155 0 14 (dk_at dksX0_in_0 3 rfl rfl)
theorem dX0_in_6 : decode cX0_in 6 = .ok (.lload_n 0, 1) := dk_30 (dk_at dksX0_in_0 6 rfl rfl)
theorem dX0_in_7 : decode cX0_in 7 = .ok (.lload 4, 2) := dk_22 4 (dk_at dksX0_in_0 7 rfl rfl)
theorem dX0_in_9 : decode cX0_in 9 = .ok (.lcmp, 1) := dk_148 (dk_at dksX0_in_0 9 rfl rfl)
theorem dX0_in_10 : decode cX0_in 10 = .ok (.ifCond .gt 7, 3) := dk_157 0 7 (dk_at dksX0_in_0 10 rfl rfl)
theorem dX0_in_13 : decode cX0_in 13 = .ok (.iconst 1, 1) := dk_4 (dk_at dksX0_in_0 13 rfl rfl)
theorem dX0_in_14 : decode cX0_in 14 = .ok (.goto 4, 3) := dk_167 0 4 (dk_at dksX0_in_0 14 rfl rfl)
theorem dX0_in_17 : decode cX0_in 17 = .ok (.iconst 0, 1) := dk_3 (dk_at dksX0_in_0 17 rfl rfl)
theorem dX0_in_18 : decode cX0_in 18 = .ok (.ireturn, 1) := dk_172 (dk_at dksX0_in_0 18 rfl rfl)
abbrev cX0_end : ByteArray := prog_1_method_11_code
def yX0_end : MethodName := ⟨RX0, "end", "(I)I"⟩
def dkwX0_end_1 : List UInt8 := [181, 0, 146, 28, 172]
abbrev dktX0_end_1 : List UInt8 := dkwX0_end_1 ++ []
def dkwX0_end_0 : List UInt8 := [27, 133, 9, 42, 180, 0, 146, 133, 184, 0, 142, 154, 0, 5, 2, 172, 42, 180, 0, 146, 61, 42, 27]
abbrev dktX0_end_0 : List UInt8 := dkwX0_end_0 ++ dktX0_end_1
theorem dksX0_end_0 : cX0_end.data.toList.drop 0 = dktX0_end_0 := by decide +kernel
theorem dksX0_end_1 : cX0_end.data.toList.drop 23 = dktX0_end_1 := dk_seg dksX0_end_0 23 rfl rfl
theorem dX0_end_0 : decode cX0_end 0 = .ok (.iload_n 1, 1) := dk_27 (dk_at dksX0_end_0 0 rfl rfl)
theorem dX0_end_1 : decode cX0_end 1 = .ok (.i2l, 1) := dk_133 (dk_at dksX0_end_0 1 rfl rfl)
theorem dX0_end_2 : decode cX0_end 2 = .ok (.lconst 0, 1) := dk_9 (dk_at dksX0_end_0 2 rfl rfl)
theorem dX0_end_3 : decode cX0_end 3 = .ok (.aload_n 0, 1) := dk_42 (dk_at dksX0_end_0 3 rfl rfl)
theorem dX0_end_4 : decode cX0_end 4 = .ok (.getfield 146, 3) := dk_180 0 146 (dk_at dksX0_end_0 4 rfl rfl)
theorem dX0_end_7 : decode cX0_end 7 = .ok (.i2l, 1) := dk_133 (dk_at dksX0_end_0 7 rfl rfl)
theorem dX0_end_8 : decode cX0_end 8 = .ok (.invokestatic 142, 3) := dk_184 0 142 (dk_at dksX0_end_0 8 rfl rfl)
theorem dX0_end_11 : decode cX0_end 11 = .ok (.ifCond .ne 5, 3) := dk_154 0 5 (dk_at dksX0_end_0 11 rfl rfl)
theorem dX0_end_14 : decode cX0_end 14 = .ok (.iconst (-1), 1) := dk_2 (dk_at dksX0_end_0 14 rfl rfl)
theorem dX0_end_15 : decode cX0_end 15 = .ok (.ireturn, 1) := dk_172 (dk_at dksX0_end_0 15 rfl rfl)
theorem dX0_end_16 : decode cX0_end 16 = .ok (.aload_n 0, 1) := dk_42 (dk_at dksX0_end_0 16 rfl rfl)
theorem dX0_end_17 : decode cX0_end 17 = .ok (.getfield 146, 3) := dk_180 0 146 (dk_at dksX0_end_0 17 rfl rfl)
theorem dX0_end_20 : decode cX0_end 20 = .ok (.istore_n 2, 1) := dk_61 (dk_at dksX0_end_0 20 rfl rfl)
theorem dX0_end_21 : decode cX0_end 21 = .ok (.aload_n 0, 1) := dk_42 (dk_at dksX0_end_0 21 rfl rfl)
theorem dX0_end_22 : decode cX0_end 22 = .ok (.iload_n 1, 1) := dk_27 (dk_at dksX0_end_0 22 rfl rfl)
theorem dX0_end_23 : decode cX0_end 23 = .ok (.putfield 146, 3) := dk_181 0 146 (dk_at dksX0_end_1 0 rfl rfl)
theorem dX0_end_26 : decode cX0_end 26 = .ok (.iload_n 2, 1) := dk_28 (dk_at dksX0_end_1 3 rfl rfl)
theorem dX0_end_27 : decode cX0_end 27 = .ok (.ireturn, 1) := dk_172 (dk_at dksX0_end_1 4 rfl rfl)
abbrev cX0_text : ByteArray := prog_1_method_12_code
def yX0_text : MethodName := ⟨RX0, "text", "()I"⟩
def dkwX0_text_2 : List UInt8 := [181, 0, 170, 29, 172, 77, 42, 44, 180, 0, 175, 181, 0, 149, 16, 246, 44, 180, 0, 178, 100, 172]
abbrev dktX0_text_2 : List UInt8 := dkwX0_text_2 ++ []
def dkwX0_text_1 : List UInt8 := [77, 44, 182, 0, 157, 62, 42, 180, 0, 113, 44, 180, 0, 160, 182, 0, 163, 42, 3, 181, 0, 167, 42, 3]
abbrev dktX0_text_1 : List UInt8 := dkwX0_text_1 ++ dktX0_text_2
def dkwX0_text_0 : List UInt8 := [42, 180, 0, 146, 60, 42, 3, 181, 0, 146, 42, 3, 181, 0, 149, 187, 0, 152, 89, 42, 27, 183, 0, 154]
abbrev dktX0_text_0 : List UInt8 := dkwX0_text_0 ++ dktX0_text_1
theorem dksX0_text_0 : cX0_text.data.toList.drop 0 = dktX0_text_0 := by decide +kernel
theorem dksX0_text_1 : cX0_text.data.toList.drop 24 = dktX0_text_1 := dk_seg dksX0_text_0 24 rfl rfl
theorem dksX0_text_2 : cX0_text.data.toList.drop 48 = dktX0_text_2 := dk_seg dksX0_text_1 24 rfl rfl
theorem dX0_text_0 : decode cX0_text 0 = .ok (.aload_n 0, 1) := dk_42 (dk_at dksX0_text_0 0 rfl rfl)
theorem dX0_text_1 : decode cX0_text 1 = .ok (.getfield 146, 3) := dk_180 0 146 (dk_at dksX0_text_0 1 rfl rfl)
theorem dX0_text_4 : decode cX0_text 4 = .ok (.istore_n 1, 1) := dk_60 (dk_at dksX0_text_0 4 rfl rfl)
theorem dX0_text_5 : decode cX0_text 5 = .ok (.aload_n 0, 1) := dk_42 (dk_at dksX0_text_0 5 rfl rfl)
theorem dX0_text_6 : decode cX0_text 6 = .ok (.iconst 0, 1) := dk_3 (dk_at dksX0_text_0 6 rfl rfl)
theorem dX0_text_7 : decode cX0_text 7 = .ok (.putfield 146, 3) := dk_181 0 146 (dk_at dksX0_text_0 7 rfl rfl)
theorem dX0_text_10 : decode cX0_text 10 = .ok (.aload_n 0, 1) := dk_42 (dk_at dksX0_text_0 10 rfl rfl)
theorem dX0_text_11 : decode cX0_text 11 = .ok (.iconst 0, 1) := dk_3 (dk_at dksX0_text_0 11 rfl rfl)
theorem dX0_text_12 : decode cX0_text 12 = .ok (.putfield 149, 3) := dk_181 0 149 (dk_at dksX0_text_0 12 rfl rfl)
theorem dX0_text_15 : decode cX0_text 15 = .ok (.new 152, 3) := dk_187 0 152 (dk_at dksX0_text_0 15 rfl rfl)
theorem dX0_text_18 : decode cX0_text 18 = .ok (.dup, 1) := dk_89 (dk_at dksX0_text_0 18 rfl rfl)
theorem dX0_text_19 : decode cX0_text 19 = .ok (.aload_n 0, 1) := dk_42 (dk_at dksX0_text_0 19 rfl rfl)
theorem dX0_text_20 : decode cX0_text 20 = .ok (.iload_n 1, 1) := dk_27 (dk_at dksX0_text_0 20 rfl rfl)
theorem dX0_text_21 : decode cX0_text 21 = .ok (.invokespecial 154, 3) := dk_183 0 154 (dk_at dksX0_text_0 21 rfl rfl)
theorem dX0_text_24 : decode cX0_text 24 = .ok (.astore_n 2, 1) := dk_77 (dk_at dksX0_text_1 0 rfl rfl)
theorem dX0_text_25 : decode cX0_text 25 = .ok (.aload_n 2, 1) := dk_44 (dk_at dksX0_text_1 1 rfl rfl)
theorem dX0_text_26 : decode cX0_text 26 = .ok (.invokevirtual 157, 3) := dk_182 0 157 (dk_at dksX0_text_1 2 rfl rfl)
theorem dX0_text_29 : decode cX0_text 29 = .ok (.istore_n 3, 1) := dk_62 (dk_at dksX0_text_1 5 rfl rfl)
theorem dX0_text_30 : decode cX0_text 30 = .ok (.aload_n 0, 1) := dk_42 (dk_at dksX0_text_1 6 rfl rfl)
theorem dX0_text_31 : decode cX0_text 31 = .ok (.getfield 113, 3) := dk_180 0 113 (dk_at dksX0_text_1 7 rfl rfl)
theorem dX0_text_34 : decode cX0_text 34 = .ok (.aload_n 2, 1) := dk_44 (dk_at dksX0_text_1 10 rfl rfl)
theorem dX0_text_35 : decode cX0_text 35 = .ok (.getfield 160, 3) := dk_180 0 160 (dk_at dksX0_text_1 11 rfl rfl)
theorem dX0_text_38 : decode cX0_text 38 = .ok (.invokevirtual 163, 3) := dk_182 0 163 (dk_at dksX0_text_1 14 rfl rfl)
theorem dX0_text_41 : decode cX0_text 41 = .ok (.aload_n 0, 1) := dk_42 (dk_at dksX0_text_1 17 rfl rfl)
theorem dX0_text_42 : decode cX0_text 42 = .ok (.iconst 0, 1) := dk_3 (dk_at dksX0_text_1 18 rfl rfl)
theorem dX0_text_43 : decode cX0_text 43 = .ok (.putfield 167, 3) := dk_181 0 167 (dk_at dksX0_text_1 19 rfl rfl)
theorem dX0_text_46 : decode cX0_text 46 = .ok (.aload_n 0, 1) := dk_42 (dk_at dksX0_text_1 22 rfl rfl)
theorem dX0_text_47 : decode cX0_text 47 = .ok (.iconst 0, 1) := dk_3 (dk_at dksX0_text_1 23 rfl rfl)
theorem dX0_text_48 : decode cX0_text 48 = .ok (.putfield 170, 3) := dk_181 0 170 (dk_at dksX0_text_2 0 rfl rfl)
theorem dX0_text_51 : decode cX0_text 51 = .ok (.iload_n 3, 1) := dk_29 (dk_at dksX0_text_2 3 rfl rfl)
theorem dX0_text_52 : decode cX0_text 52 = .ok (.ireturn, 1) := dk_172 (dk_at dksX0_text_2 4 rfl rfl)
theorem dX0_text_53 : decode cX0_text 53 = .ok (.astore_n 2, 1) := dk_77 (dk_at dksX0_text_2 5 rfl rfl)
theorem dX0_text_54 : decode cX0_text 54 = .ok (.aload_n 0, 1) := dk_42 (dk_at dksX0_text_2 6 rfl rfl)
theorem dX0_text_55 : decode cX0_text 55 = .ok (.aload_n 2, 1) := dk_44 (dk_at dksX0_text_2 7 rfl rfl)
theorem dX0_text_56 : decode cX0_text 56 = .ok (.getfield 175, 3) := dk_180 0 175 (dk_at dksX0_text_2 8 rfl rfl)
theorem dX0_text_59 : decode cX0_text 59 = .ok (.putfield 149, 3) := dk_181 0 149 (dk_at dksX0_text_2 11 rfl rfl)
theorem dX0_text_62 : decode cX0_text 62 = .ok (.bipush (-10), 2) := dk_16 246 (dk_at dksX0_text_2 14 rfl rfl)
theorem dX0_text_64 : decode cX0_text 64 = .ok (.aload_n 2, 1) := dk_44 (dk_at dksX0_text_2 16 rfl rfl)
theorem dX0_text_65 : decode cX0_text 65 = .ok (.getfield 178, 3) := dk_180 0 178 (dk_at dksX0_text_2 17 rfl rfl)
theorem dX0_text_68 : decode cX0_text 68 = .ok (.isub, 1) := dk_100 (dk_at dksX0_text_2 20 rfl rfl)
theorem dX0_text_69 : decode cX0_text 69 = .ok (.ireturn, 1) := dk_172 (dk_at dksX0_text_2 21 rfl rfl)
abbrev cX0_has : ByteArray := prog_1_method_2_code
def yX0_has : MethodName := ⟨RX0, "has", "(II)Z"⟩
def dkwX0_has_0 : List UInt8 := [26, 27, 122, 4, 126, 4, 160, 0, 7, 4, 167, 0, 4, 3, 172]
abbrev dktX0_has_0 : List UInt8 := dkwX0_has_0 ++ []
theorem dksX0_has_0 : cX0_has.data.toList.drop 0 = dktX0_has_0 := by decide +kernel
theorem dX0_has_0 : decode cX0_has 0 = .ok (.iload_n 0, 1) := dk_26 (dk_at dksX0_has_0 0 rfl rfl)
theorem dX0_has_1 : decode cX0_has 1 = .ok (.iload_n 1, 1) := dk_27 (dk_at dksX0_has_0 1 rfl rfl)
theorem dX0_has_2 : decode cX0_has 2 = .ok (.ishr, 1) := dk_122 (dk_at dksX0_has_0 2 rfl rfl)
theorem dX0_has_3 : decode cX0_has 3 = .ok (.iconst 1, 1) := dk_4 (dk_at dksX0_has_0 3 rfl rfl)
theorem dX0_has_4 : decode cX0_has 4 = .ok (.iand, 1) := dk_126 (dk_at dksX0_has_0 4 rfl rfl)
theorem dX0_has_5 : decode cX0_has 5 = .ok (.iconst 1, 1) := dk_4 (dk_at dksX0_has_0 5 rfl rfl)
theorem dX0_has_6 : decode cX0_has 6 = .ok (.if_icmp .ne 7, 3) := dk_160 0 7 (dk_at dksX0_has_0 6 rfl rfl)
theorem dX0_has_9 : decode cX0_has 9 = .ok (.iconst 1, 1) := dk_4 (dk_at dksX0_has_0 9 rfl rfl)
theorem dX0_has_10 : decode cX0_has 10 = .ok (.goto 4, 3) := dk_167 0 4 (dk_at dksX0_has_0 10 rfl rfl)
theorem dX0_has_13 : decode cX0_has 13 = .ok (.iconst 0, 1) := dk_3 (dk_at dksX0_has_0 13 rfl rfl)
theorem dX0_has_14 : decode cX0_has 14 = .ok (.ireturn, 1) := dk_172 (dk_at dksX0_has_0 14 rfl rfl)
abbrev cX0_fault : ByteArray := prog_1_method_13_code
def yX0_fault : MethodName := ⟨RX0, "fault", "()I"⟩
theorem dX0_fault_0 : decode cX0_fault 0 = .ok (.aload_n 0, 1) := by decide +kernel
theorem dX0_fault_1 : decode cX0_fault 1 = .ok (.getfield 149, 3) := by decide +kernel
theorem dX0_fault_4 : decode cX0_fault 4 = .ok (.ireturn, 1) := by decide +kernel
abbrev cX0_rule : ByteArray := prog_1_method_17_code
def yX0_rule : MethodName := ⟨RX0, "rule", "(I)I"⟩
def dkwX0_rule_4 : List UInt8 := [42, 180, 0, 113, 182, 0, 189, 172, 2, 172]
abbrev dktX0_rule_4 : List UInt8 := dkwX0_rule_4 ++ []
def dkwX0_rule_3 : List UInt8 := [42, 180, 0, 113, 180, 0, 34, 172, 42, 180, 0, 113, 180, 0, 86, 172, 42, 180, 0, 113, 182, 0, 186, 172]
abbrev dktX0_rule_3 : List UInt8 := dkwX0_rule_3 ++ dktX0_rule_4
def dkwX0_rule_2 : List UInt8 := [42, 180, 0, 113, 180, 0, 19, 172, 42, 180, 0, 113, 180, 0, 48, 172, 42, 180, 0, 113, 180, 0, 183, 172]
abbrev dktX0_rule_2 : List UInt8 := dkwX0_rule_2 ++ dktX0_rule_3
def dkwX0_rule_1 : List UInt8 := [170, 0, 0, 0, 0, 0, 99, 0, 0, 0, 0, 0, 0, 0, 6, 0, 0, 0, 43, 0, 0, 0, 51, 0, 0, 0, 59, 0, 0, 0, 67, 0, 0, 0, 75, 0, 0, 0, 83, 0, 0, 0, 91]
abbrev dktX0_rule_1 : List UInt8 := dkwX0_rule_1 ++ dktX0_rule_2
def dkwX0_rule_0 : List UInt8 := [27]
abbrev dktX0_rule_0 : List UInt8 := dkwX0_rule_0 ++ dktX0_rule_1
theorem dksX0_rule_0 : cX0_rule.data.toList.drop 0 = dktX0_rule_0 := by decide +kernel
theorem dksX0_rule_1 : cX0_rule.data.toList.drop 1 = dktX0_rule_1 := dk_seg dksX0_rule_0 1 rfl rfl
theorem dksX0_rule_2 : cX0_rule.data.toList.drop 44 = dktX0_rule_2 := dk_seg dksX0_rule_1 43 rfl rfl
theorem dksX0_rule_3 : cX0_rule.data.toList.drop 68 = dktX0_rule_3 := dk_seg dksX0_rule_2 24 rfl rfl
theorem dksX0_rule_4 : cX0_rule.data.toList.drop 92 = dktX0_rule_4 := dk_seg dksX0_rule_3 24 rfl rfl
theorem dX0_rule_0 : decode cX0_rule 0 = .ok (.iload_n 1, 1) := dk_27 (dk_at dksX0_rule_0 0 rfl rfl)
theorem dX0_rule_1 : decode cX0_rule 1 = .ok (.tableswitch 99 0 6 #[43, 51, 59, 67, 75, 83, 91], 43) := by decide +kernel
theorem dX0_rule_44 : decode cX0_rule 44 = .ok (.aload_n 0, 1) := dk_42 (dk_at dksX0_rule_2 0 rfl rfl)
theorem dX0_rule_45 : decode cX0_rule 45 = .ok (.getfield 113, 3) := dk_180 0 113 (dk_at dksX0_rule_2 1 rfl rfl)
theorem dX0_rule_48 : decode cX0_rule 48 = .ok (.getfield 19, 3) := dk_180 0 19 (dk_at dksX0_rule_2 4 rfl rfl)
theorem dX0_rule_51 : decode cX0_rule 51 = .ok (.ireturn, 1) := dk_172 (dk_at dksX0_rule_2 7 rfl rfl)
theorem dX0_rule_52 : decode cX0_rule 52 = .ok (.aload_n 0, 1) := dk_42 (dk_at dksX0_rule_2 8 rfl rfl)
theorem dX0_rule_53 : decode cX0_rule 53 = .ok (.getfield 113, 3) := dk_180 0 113 (dk_at dksX0_rule_2 9 rfl rfl)
theorem dX0_rule_56 : decode cX0_rule 56 = .ok (.getfield 48, 3) := dk_180 0 48 (dk_at dksX0_rule_2 12 rfl rfl)
theorem dX0_rule_59 : decode cX0_rule 59 = .ok (.ireturn, 1) := dk_172 (dk_at dksX0_rule_2 15 rfl rfl)
theorem dX0_rule_60 : decode cX0_rule 60 = .ok (.aload_n 0, 1) := dk_42 (dk_at dksX0_rule_2 16 rfl rfl)
theorem dX0_rule_61 : decode cX0_rule 61 = .ok (.getfield 113, 3) := dk_180 0 113 (dk_at dksX0_rule_2 17 rfl rfl)
theorem dX0_rule_64 : decode cX0_rule 64 = .ok (.getfield 183, 3) := dk_180 0 183 (dk_at dksX0_rule_2 20 rfl rfl)
theorem dX0_rule_67 : decode cX0_rule 67 = .ok (.ireturn, 1) := dk_172 (dk_at dksX0_rule_2 23 rfl rfl)
theorem dX0_rule_68 : decode cX0_rule 68 = .ok (.aload_n 0, 1) := dk_42 (dk_at dksX0_rule_3 0 rfl rfl)
theorem dX0_rule_69 : decode cX0_rule 69 = .ok (.getfield 113, 3) := dk_180 0 113 (dk_at dksX0_rule_3 1 rfl rfl)
theorem dX0_rule_72 : decode cX0_rule 72 = .ok (.getfield 34, 3) := dk_180 0 34 (dk_at dksX0_rule_3 4 rfl rfl)
theorem dX0_rule_75 : decode cX0_rule 75 = .ok (.ireturn, 1) := dk_172 (dk_at dksX0_rule_3 7 rfl rfl)
theorem dX0_rule_76 : decode cX0_rule 76 = .ok (.aload_n 0, 1) := dk_42 (dk_at dksX0_rule_3 8 rfl rfl)
theorem dX0_rule_77 : decode cX0_rule 77 = .ok (.getfield 113, 3) := dk_180 0 113 (dk_at dksX0_rule_3 9 rfl rfl)
theorem dX0_rule_80 : decode cX0_rule 80 = .ok (.getfield 86, 3) := dk_180 0 86 (dk_at dksX0_rule_3 12 rfl rfl)
theorem dX0_rule_83 : decode cX0_rule 83 = .ok (.ireturn, 1) := dk_172 (dk_at dksX0_rule_3 15 rfl rfl)
theorem dX0_rule_84 : decode cX0_rule 84 = .ok (.aload_n 0, 1) := dk_42 (dk_at dksX0_rule_3 16 rfl rfl)
theorem dX0_rule_85 : decode cX0_rule 85 = .ok (.getfield 113, 3) := dk_180 0 113 (dk_at dksX0_rule_3 17 rfl rfl)
theorem dX0_rule_88 : decode cX0_rule 88 = .ok (.invokevirtual 186, 3) := dk_182 0 186 (dk_at dksX0_rule_3 20 rfl rfl)
theorem dX0_rule_91 : decode cX0_rule 91 = .ok (.ireturn, 1) := dk_172 (dk_at dksX0_rule_3 23 rfl rfl)
theorem dX0_rule_92 : decode cX0_rule 92 = .ok (.aload_n 0, 1) := dk_42 (dk_at dksX0_rule_4 0 rfl rfl)
theorem dX0_rule_93 : decode cX0_rule 93 = .ok (.getfield 113, 3) := dk_180 0 113 (dk_at dksX0_rule_4 1 rfl rfl)
theorem dX0_rule_96 : decode cX0_rule 96 = .ok (.invokevirtual 189, 3) := dk_182 0 189 (dk_at dksX0_rule_4 4 rfl rfl)
theorem dX0_rule_99 : decode cX0_rule 99 = .ok (.ireturn, 1) := dk_172 (dk_at dksX0_rule_4 7 rfl rfl)
theorem dX0_rule_100 : decode cX0_rule 100 = .ok (.iconst (-1), 1) := dk_2 (dk_at dksX0_rule_4 8 rfl rfl)
theorem dX0_rule_101 : decode cX0_rule 101 = .ok (.ireturn, 1) := dk_172 (dk_at dksX0_rule_4 9 rfl rfl)
abbrev cX0_one : ByteArray := prog_1_method_18_code
def yX0_one : MethodName := ⟨RX0, "one", "(II)I"⟩
def dkwX0_one_3 : List UInt8 := [180, 0, 113, 27, 182, 0, 31, 172, 42, 180, 0, 113, 27, 5, 182, 0, 7, 172, 2, 172]
abbrev dktX0_one_3 : List UInt8 := dkwX0_one_3 ++ []
def dkwX0_one_2 : List UInt8 := [42, 180, 0, 113, 27, 28, 182, 0, 7, 172, 42, 180, 0, 113, 180, 0, 44, 27, 53, 172, 42, 42]
abbrev dktX0_one_2 : List UInt8 := dkwX0_one_2 ++ dktX0_one_3
def dkwX0_one_1 : List UInt8 := [170, 0, 0, 0, 73, 0, 0, 0, 0, 0, 0, 0, 4, 0, 0, 0, 33, 0, 0, 0, 33, 0, 0, 0, 43, 0, 0, 0, 53, 0, 0, 0, 63]
abbrev dktX0_one_1 : List UInt8 := dkwX0_one_1 ++ dktX0_one_2
def dkwX0_one_0 : List UInt8 := [42, 27, 182, 0, 192, 154, 0, 5, 2, 172, 28]
abbrev dktX0_one_0 : List UInt8 := dkwX0_one_0 ++ dktX0_one_1
theorem dksX0_one_0 : cX0_one.data.toList.drop 0 = dktX0_one_0 := by decide +kernel
theorem dksX0_one_1 : cX0_one.data.toList.drop 11 = dktX0_one_1 := dk_seg dksX0_one_0 11 rfl rfl
theorem dksX0_one_2 : cX0_one.data.toList.drop 44 = dktX0_one_2 := dk_seg dksX0_one_1 33 rfl rfl
theorem dksX0_one_3 : cX0_one.data.toList.drop 66 = dktX0_one_3 := dk_seg dksX0_one_2 22 rfl rfl
theorem dX0_one_0 : decode cX0_one 0 = .ok (.aload_n 0, 1) := dk_42 (dk_at dksX0_one_0 0 rfl rfl)
theorem dX0_one_1 : decode cX0_one 1 = .ok (.iload_n 1, 1) := dk_27 (dk_at dksX0_one_0 1 rfl rfl)
theorem dX0_one_2 : decode cX0_one 2 = .ok (.invokevirtual 192, 3) := dk_182 0 192 (dk_at dksX0_one_0 2 rfl rfl)
theorem dX0_one_5 : decode cX0_one 5 = .ok (.ifCond .ne 5, 3) := dk_154 0 5 (dk_at dksX0_one_0 5 rfl rfl)
theorem dX0_one_8 : decode cX0_one 8 = .ok (.iconst (-1), 1) := dk_2 (dk_at dksX0_one_0 8 rfl rfl)
theorem dX0_one_9 : decode cX0_one 9 = .ok (.ireturn, 1) := dk_172 (dk_at dksX0_one_0 9 rfl rfl)
theorem dX0_one_10 : decode cX0_one 10 = .ok (.iload_n 2, 1) := dk_28 (dk_at dksX0_one_0 10 rfl rfl)
theorem dX0_one_11 : decode cX0_one 11 = .ok (.tableswitch 73 0 4 #[33, 33, 43, 53, 63], 33) := by decide +kernel
theorem dX0_one_44 : decode cX0_one 44 = .ok (.aload_n 0, 1) := dk_42 (dk_at dksX0_one_2 0 rfl rfl)
theorem dX0_one_45 : decode cX0_one 45 = .ok (.getfield 113, 3) := dk_180 0 113 (dk_at dksX0_one_2 1 rfl rfl)
theorem dX0_one_48 : decode cX0_one 48 = .ok (.iload_n 1, 1) := dk_27 (dk_at dksX0_one_2 4 rfl rfl)
theorem dX0_one_49 : decode cX0_one 49 = .ok (.iload_n 2, 1) := dk_28 (dk_at dksX0_one_2 5 rfl rfl)
theorem dX0_one_50 : decode cX0_one 50 = .ok (.invokevirtual 7, 3) := dk_182 0 7 (dk_at dksX0_one_2 6 rfl rfl)
theorem dX0_one_53 : decode cX0_one 53 = .ok (.ireturn, 1) := dk_172 (dk_at dksX0_one_2 9 rfl rfl)
theorem dX0_one_54 : decode cX0_one 54 = .ok (.aload_n 0, 1) := dk_42 (dk_at dksX0_one_2 10 rfl rfl)
theorem dX0_one_55 : decode cX0_one 55 = .ok (.getfield 113, 3) := dk_180 0 113 (dk_at dksX0_one_2 11 rfl rfl)
theorem dX0_one_58 : decode cX0_one 58 = .ok (.getfield 44, 3) := dk_180 0 44 (dk_at dksX0_one_2 14 rfl rfl)
theorem dX0_one_61 : decode cX0_one 61 = .ok (.iload_n 1, 1) := dk_27 (dk_at dksX0_one_2 17 rfl rfl)
theorem dX0_one_62 : decode cX0_one 62 = .ok (.saload, 1) := dk_53 (dk_at dksX0_one_2 18 rfl rfl)
theorem dX0_one_63 : decode cX0_one 63 = .ok (.ireturn, 1) := dk_172 (dk_at dksX0_one_2 19 rfl rfl)
theorem dX0_one_64 : decode cX0_one 64 = .ok (.aload_n 0, 1) := dk_42 (dk_at dksX0_one_2 20 rfl rfl)
theorem dX0_one_65 : decode cX0_one 65 = .ok (.aload_n 0, 1) := dk_42 (dk_at dksX0_one_2 21 rfl rfl)
theorem dX0_one_66 : decode cX0_one 66 = .ok (.getfield 113, 3) := dk_180 0 113 (dk_at dksX0_one_3 0 rfl rfl)
theorem dX0_one_69 : decode cX0_one 69 = .ok (.iload_n 1, 1) := dk_27 (dk_at dksX0_one_3 3 rfl rfl)
theorem dX0_one_70 : decode cX0_one 70 = .ok (.invokevirtual 31, 3) := dk_182 0 31 (dk_at dksX0_one_3 4 rfl rfl)
theorem dX0_one_73 : decode cX0_one 73 = .ok (.ireturn, 1) := dk_172 (dk_at dksX0_one_3 7 rfl rfl)
theorem dX0_one_74 : decode cX0_one 74 = .ok (.aload_n 0, 1) := dk_42 (dk_at dksX0_one_3 8 rfl rfl)
theorem dX0_one_75 : decode cX0_one 75 = .ok (.getfield 113, 3) := dk_180 0 113 (dk_at dksX0_one_3 9 rfl rfl)
theorem dX0_one_78 : decode cX0_one 78 = .ok (.iload_n 1, 1) := dk_27 (dk_at dksX0_one_3 12 rfl rfl)
theorem dX0_one_79 : decode cX0_one 79 = .ok (.iconst 2, 1) := dk_5 (dk_at dksX0_one_3 13 rfl rfl)
theorem dX0_one_80 : decode cX0_one 80 = .ok (.invokevirtual 7, 3) := dk_182 0 7 (dk_at dksX0_one_3 14 rfl rfl)
theorem dX0_one_83 : decode cX0_one 83 = .ok (.ireturn, 1) := dk_172 (dk_at dksX0_one_3 17 rfl rfl)
theorem dX0_one_84 : decode cX0_one 84 = .ok (.iconst (-1), 1) := dk_2 (dk_at dksX0_one_3 18 rfl rfl)
theorem dX0_one_85 : decode cX0_one 85 = .ok (.ireturn, 1) := dk_172 (dk_at dksX0_one_3 19 rfl rfl)
abbrev cX0_isOne : ByteArray := prog_1_method_14_code
def yX0_isOne : MethodName := ⟨RX0, "isOne", "(I)Z"⟩
def dkwX0_isOne_0 : List UInt8 := [27, 133, 9, 42, 180, 0, 113, 180, 0, 19, 4, 100, 133, 184, 0, 142, 172]
abbrev dktX0_isOne_0 : List UInt8 := dkwX0_isOne_0 ++ []
theorem dksX0_isOne_0 : cX0_isOne.data.toList.drop 0 = dktX0_isOne_0 := by decide +kernel
theorem dX0_isOne_0 : decode cX0_isOne 0 = .ok (.iload_n 1, 1) := dk_27 (dk_at dksX0_isOne_0 0 rfl rfl)
theorem dX0_isOne_1 : decode cX0_isOne 1 = .ok (.i2l, 1) := dk_133 (dk_at dksX0_isOne_0 1 rfl rfl)
theorem dX0_isOne_2 : decode cX0_isOne 2 = .ok (.lconst 0, 1) := dk_9 (dk_at dksX0_isOne_0 2 rfl rfl)
theorem dX0_isOne_3 : decode cX0_isOne 3 = .ok (.aload_n 0, 1) := dk_42 (dk_at dksX0_isOne_0 3 rfl rfl)
theorem dX0_isOne_4 : decode cX0_isOne 4 = .ok (.getfield 113, 3) := dk_180 0 113 (dk_at dksX0_isOne_0 4 rfl rfl)
theorem dX0_isOne_7 : decode cX0_isOne 7 = .ok (.getfield 19, 3) := dk_180 0 19 (dk_at dksX0_isOne_0 7 rfl rfl)
theorem dX0_isOne_10 : decode cX0_isOne 10 = .ok (.iconst 1, 1) := dk_4 (dk_at dksX0_isOne_0 10 rfl rfl)
theorem dX0_isOne_11 : decode cX0_isOne 11 = .ok (.isub, 1) := dk_100 (dk_at dksX0_isOne_0 11 rfl rfl)
theorem dX0_isOne_12 : decode cX0_isOne 12 = .ok (.i2l, 1) := dk_133 (dk_at dksX0_isOne_0 12 rfl rfl)
theorem dX0_isOne_13 : decode cX0_isOne 13 = .ok (.invokestatic 142, 3) := dk_184 0 142 (dk_at dksX0_isOne_0 13 rfl rfl)
theorem dX0_isOne_16 : decode cX0_isOne 16 = .ok (.ireturn, 1) := dk_172 (dk_at dksX0_isOne_0 16 rfl rfl)
abbrev cX0_brim : ByteArray := prog_1_method_3_code
def yX0_brim : MethodName := ⟨RX0, "brim", "(LTearsQueue$Stop;I)I"⟩
def dkwX0_brim_0 : List UInt8 := [42, 180, 0, 1, 43, 28, 3, 182, 0, 7, 50, 182, 0, 13, 172]
abbrev dktX0_brim_0 : List UInt8 := dkwX0_brim_0 ++ []
theorem dksX0_brim_0 : cX0_brim.data.toList.drop 0 = dktX0_brim_0 := by decide +kernel
theorem dX0_brim_0 : decode cX0_brim 0 = .ok (.aload_n 0, 1) := dk_42 (dk_at dksX0_brim_0 0 rfl rfl)
theorem dX0_brim_1 : decode cX0_brim 1 = .ok (.getfield 1, 3) := dk_180 0 1 (dk_at dksX0_brim_0 1 rfl rfl)
theorem dX0_brim_4 : decode cX0_brim 4 = .ok (.aload_n 1, 1) := dk_43 (dk_at dksX0_brim_0 4 rfl rfl)
theorem dX0_brim_5 : decode cX0_brim 5 = .ok (.iload_n 2, 1) := dk_28 (dk_at dksX0_brim_0 5 rfl rfl)
theorem dX0_brim_6 : decode cX0_brim 6 = .ok (.iconst 0, 1) := dk_3 (dk_at dksX0_brim_0 6 rfl rfl)
theorem dX0_brim_7 : decode cX0_brim 7 = .ok (.invokevirtual 7, 3) := dk_182 0 7 (dk_at dksX0_brim_0 7 rfl rfl)
theorem dX0_brim_10 : decode cX0_brim 10 = .ok (.aaload, 1) := dk_50 (dk_at dksX0_brim_0 10 rfl rfl)
theorem dX0_brim_11 : decode cX0_brim 11 = .ok (.invokevirtual 13, 3) := dk_182 0 13 (dk_at dksX0_brim_0 11 rfl rfl)
theorem dX0_brim_14 : decode cX0_brim 14 = .ok (.ireturn, 1) := dk_172 (dk_at dksX0_brim_0 14 rfl rfl)
abbrev cX0_act : ByteArray := prog_1_method_19_code
def yX0_act : MethodName := ⟨RX0, "act", "(I)I"⟩
def dkwX0_act_1 : List UInt8 := [180, 0, 89, 27, 51, 167, 0, 4, 2, 172]
abbrev dktX0_act_1 : List UInt8 := dkwX0_act_1 ++ []
def dkwX0_act_0 : List UInt8 := [27, 133, 9, 42, 180, 0, 113, 180, 0, 86, 4, 100, 133, 184, 0, 142, 153, 0, 15, 42, 180, 0, 113]
abbrev dktX0_act_0 : List UInt8 := dkwX0_act_0 ++ dktX0_act_1
theorem dksX0_act_0 : cX0_act.data.toList.drop 0 = dktX0_act_0 := by decide +kernel
theorem dksX0_act_1 : cX0_act.data.toList.drop 23 = dktX0_act_1 := dk_seg dksX0_act_0 23 rfl rfl
theorem dX0_act_0 : decode cX0_act 0 = .ok (.iload_n 1, 1) := dk_27 (dk_at dksX0_act_0 0 rfl rfl)
theorem dX0_act_1 : decode cX0_act 1 = .ok (.i2l, 1) := dk_133 (dk_at dksX0_act_0 1 rfl rfl)
theorem dX0_act_2 : decode cX0_act 2 = .ok (.lconst 0, 1) := dk_9 (dk_at dksX0_act_0 2 rfl rfl)
theorem dX0_act_3 : decode cX0_act 3 = .ok (.aload_n 0, 1) := dk_42 (dk_at dksX0_act_0 3 rfl rfl)
theorem dX0_act_4 : decode cX0_act 4 = .ok (.getfield 113, 3) := dk_180 0 113 (dk_at dksX0_act_0 4 rfl rfl)
theorem dX0_act_7 : decode cX0_act 7 = .ok (.getfield 86, 3) := dk_180 0 86 (dk_at dksX0_act_0 7 rfl rfl)
theorem dX0_act_10 : decode cX0_act 10 = .ok (.iconst 1, 1) := dk_4 (dk_at dksX0_act_0 10 rfl rfl)
theorem dX0_act_11 : decode cX0_act 11 = .ok (.isub, 1) := dk_100 (dk_at dksX0_act_0 11 rfl rfl)
theorem dX0_act_12 : decode cX0_act 12 = .ok (.i2l, 1) := dk_133 (dk_at dksX0_act_0 12 rfl rfl)
theorem dX0_act_13 : decode cX0_act 13 = .ok (.invokestatic 142, 3) := dk_184 0 142 (dk_at dksX0_act_0 13 rfl rfl)
theorem dX0_act_16 : decode cX0_act 16 = .ok (.ifCond .eq 15, 3) := dk_153 0 15 (dk_at dksX0_act_0 16 rfl rfl)
theorem dX0_act_19 : decode cX0_act 19 = .ok (.aload_n 0, 1) := dk_42 (dk_at dksX0_act_0 19 rfl rfl)
theorem dX0_act_20 : decode cX0_act 20 = .ok (.getfield 113, 3) := dk_180 0 113 (dk_at dksX0_act_0 20 rfl rfl)
theorem dX0_act_23 : decode cX0_act 23 = .ok (.getfield 89, 3) := dk_180 0 89 (dk_at dksX0_act_1 0 rfl rfl)
theorem dX0_act_26 : decode cX0_act 26 = .ok (.iload_n 1, 1) := dk_27 (dk_at dksX0_act_1 3 rfl rfl)
theorem dX0_act_27 : decode cX0_act 27 = .ok (.baload, 1) := dk_51 (dk_at dksX0_act_1 4 rfl rfl)
theorem dX0_act_28 : decode cX0_act 28 = .ok (.goto 4, 3) := dk_167 0 4 (dk_at dksX0_act_1 5 rfl rfl)
theorem dX0_act_31 : decode cX0_act 31 = .ok (.iconst (-1), 1) := dk_2 (dk_at dksX0_act_1 8 rfl rfl)
theorem dX0_act_32 : decode cX0_act 32 = .ok (.ireturn, 1) := dk_172 (dk_at dksX0_act_1 9 rfl rfl)
abbrev cX0_queue : ByteArray := prog_1_method_20_code
def yX0_queue : MethodName := ⟨RX0, "queue", "(I)I"⟩
def dkwX0_queue_1 : List UInt8 := [180, 0, 113, 27, 182, 0, 197, 2, 130, 126, 182, 0, 200, 167, 0, 4, 2, 172]
abbrev dktX0_queue_1 : List UInt8 := dkwX0_queue_1 ++ []
def dkwX0_queue_0 : List UInt8 := [27, 133, 9, 20, 0, 195, 184, 0, 142, 153, 0, 31, 42, 180, 0, 113, 42, 180, 0, 113, 182, 0, 186, 42]
abbrev dktX0_queue_0 : List UInt8 := dkwX0_queue_0 ++ dktX0_queue_1
theorem dksX0_queue_0 : cX0_queue.data.toList.drop 0 = dktX0_queue_0 := by decide +kernel
theorem dksX0_queue_1 : cX0_queue.data.toList.drop 24 = dktX0_queue_1 := dk_seg dksX0_queue_0 24 rfl rfl
theorem dX0_queue_0 : decode cX0_queue 0 = .ok (.iload_n 1, 1) := dk_27 (dk_at dksX0_queue_0 0 rfl rfl)
theorem dX0_queue_1 : decode cX0_queue 1 = .ok (.i2l, 1) := dk_133 (dk_at dksX0_queue_0 1 rfl rfl)
theorem dX0_queue_2 : decode cX0_queue 2 = .ok (.lconst 0, 1) := dk_9 (dk_at dksX0_queue_0 2 rfl rfl)
theorem dX0_queue_3 : decode cX0_queue 3 = .ok (.ldc2_w 195, 3) := dk_20 0 195 (dk_at dksX0_queue_0 3 rfl rfl)
theorem dX0_queue_6 : decode cX0_queue 6 = .ok (.invokestatic 142, 3) := dk_184 0 142 (dk_at dksX0_queue_0 6 rfl rfl)
theorem dX0_queue_9 : decode cX0_queue 9 = .ok (.ifCond .eq 31, 3) := dk_153 0 31 (dk_at dksX0_queue_0 9 rfl rfl)
theorem dX0_queue_12 : decode cX0_queue 12 = .ok (.aload_n 0, 1) := dk_42 (dk_at dksX0_queue_0 12 rfl rfl)
theorem dX0_queue_13 : decode cX0_queue 13 = .ok (.getfield 113, 3) := dk_180 0 113 (dk_at dksX0_queue_0 13 rfl rfl)
theorem dX0_queue_16 : decode cX0_queue 16 = .ok (.aload_n 0, 1) := dk_42 (dk_at dksX0_queue_0 16 rfl rfl)
theorem dX0_queue_17 : decode cX0_queue 17 = .ok (.getfield 113, 3) := dk_180 0 113 (dk_at dksX0_queue_0 17 rfl rfl)
theorem dX0_queue_20 : decode cX0_queue 20 = .ok (.invokevirtual 186, 3) := dk_182 0 186 (dk_at dksX0_queue_0 20 rfl rfl)
theorem dX0_queue_23 : decode cX0_queue 23 = .ok (.aload_n 0, 1) := dk_42 (dk_at dksX0_queue_0 23 rfl rfl)
theorem dX0_queue_24 : decode cX0_queue 24 = .ok (.getfield 113, 3) := dk_180 0 113 (dk_at dksX0_queue_1 0 rfl rfl)
theorem dX0_queue_27 : decode cX0_queue 27 = .ok (.iload_n 1, 1) := dk_27 (dk_at dksX0_queue_1 3 rfl rfl)
theorem dX0_queue_28 : decode cX0_queue 28 = .ok (.invokevirtual 197, 3) := dk_182 0 197 (dk_at dksX0_queue_1 4 rfl rfl)
theorem dX0_queue_31 : decode cX0_queue 31 = .ok (.iconst (-1), 1) := dk_2 (dk_at dksX0_queue_1 7 rfl rfl)
theorem dX0_queue_32 : decode cX0_queue 32 = .ok (.ixor, 1) := dk_130 (dk_at dksX0_queue_1 8 rfl rfl)
theorem dX0_queue_33 : decode cX0_queue 33 = .ok (.iand, 1) := dk_126 (dk_at dksX0_queue_1 9 rfl rfl)
theorem dX0_queue_34 : decode cX0_queue 34 = .ok (.invokevirtual 200, 3) := dk_182 0 200 (dk_at dksX0_queue_1 10 rfl rfl)
theorem dX0_queue_37 : decode cX0_queue 37 = .ok (.goto 4, 3) := dk_167 0 4 (dk_at dksX0_queue_1 13 rfl rfl)
theorem dX0_queue_40 : decode cX0_queue 40 = .ok (.iconst (-1), 1) := dk_2 (dk_at dksX0_queue_1 16 rfl rfl)
theorem dX0_queue_41 : decode cX0_queue 41 = .ok (.ireturn, 1) := dk_172 (dk_at dksX0_queue_1 17 rfl rfl)
abbrev cX0_alter : ByteArray := prog_1_method_21_code
def yX0_alter : MethodName := ⟨RX0, "alter", "(III)I"⟩
def dkwX0_alter_2 : List UInt8 := [182, 0, 7, 54, 4, 42, 180, 0, 113, 27, 28, 29, 182, 0, 51, 21, 4, 172]
abbrev dktX0_alter_2 : List UInt8 := dkwX0_alter_2 ++ []
def dkwX0_alter_1 : List UInt8 := [20, 0, 206, 167, 0, 6, 20, 0, 208, 184, 0, 142, 154, 0, 5, 2, 172, 42, 180, 0, 113, 27, 28]
abbrev dktX0_alter_1 : List UInt8 := dkwX0_alter_1 ++ dktX0_alter_2
def dkwX0_alter_0 : List UInt8 := [42, 27, 182, 0, 192, 153, 0, 32, 28, 184, 0, 203, 153, 0, 25, 29, 133, 9, 28, 154, 0, 9]
abbrev dktX0_alter_0 : List UInt8 := dkwX0_alter_0 ++ dktX0_alter_1
theorem dksX0_alter_0 : cX0_alter.data.toList.drop 0 = dktX0_alter_0 := by decide +kernel
theorem dksX0_alter_1 : cX0_alter.data.toList.drop 22 = dktX0_alter_1 := dk_seg dksX0_alter_0 22 rfl rfl
theorem dksX0_alter_2 : cX0_alter.data.toList.drop 45 = dktX0_alter_2 := dk_seg dksX0_alter_1 23 rfl rfl
theorem dX0_alter_0 : decode cX0_alter 0 = .ok (.aload_n 0, 1) := dk_42 (dk_at dksX0_alter_0 0 rfl rfl)
theorem dX0_alter_1 : decode cX0_alter 1 = .ok (.iload_n 1, 1) := dk_27 (dk_at dksX0_alter_0 1 rfl rfl)
theorem dX0_alter_2 : decode cX0_alter 2 = .ok (.invokevirtual 192, 3) := dk_182 0 192 (dk_at dksX0_alter_0 2 rfl rfl)
theorem dX0_alter_5 : decode cX0_alter 5 = .ok (.ifCond .eq 32, 3) := dk_153 0 32 (dk_at dksX0_alter_0 5 rfl rfl)
theorem dX0_alter_8 : decode cX0_alter 8 = .ok (.iload_n 2, 1) := dk_28 (dk_at dksX0_alter_0 8 rfl rfl)
theorem dX0_alter_9 : decode cX0_alter 9 = .ok (.invokestatic 203, 3) := dk_184 0 203 (dk_at dksX0_alter_0 9 rfl rfl)
theorem dX0_alter_12 : decode cX0_alter 12 = .ok (.ifCond .eq 25, 3) := dk_153 0 25 (dk_at dksX0_alter_0 12 rfl rfl)
theorem dX0_alter_15 : decode cX0_alter 15 = .ok (.iload_n 3, 1) := dk_29 (dk_at dksX0_alter_0 15 rfl rfl)
theorem dX0_alter_16 : decode cX0_alter 16 = .ok (.i2l, 1) := dk_133 (dk_at dksX0_alter_0 16 rfl rfl)
theorem dX0_alter_17 : decode cX0_alter 17 = .ok (.lconst 0, 1) := dk_9 (dk_at dksX0_alter_0 17 rfl rfl)
theorem dX0_alter_18 : decode cX0_alter 18 = .ok (.iload_n 2, 1) := dk_28 (dk_at dksX0_alter_0 18 rfl rfl)
theorem dX0_alter_19 : decode cX0_alter 19 = .ok (.ifCond .ne 9, 3) := dk_154 0 9 (dk_at dksX0_alter_0 19 rfl rfl)
theorem dX0_alter_22 : decode cX0_alter 22 = .ok (.ldc2_w 206, 3) := dk_20 0 206 (dk_at dksX0_alter_1 0 rfl rfl)
theorem dX0_alter_25 : decode cX0_alter 25 = .ok (.goto 6, 3) := dk_167 0 6 (dk_at dksX0_alter_1 3 rfl rfl)
theorem dX0_alter_28 : decode cX0_alter 28 = .ok (.ldc2_w 208, 3) := dk_20 0 208 (dk_at dksX0_alter_1 6 rfl rfl)
theorem dX0_alter_31 : decode cX0_alter 31 = .ok (.invokestatic 142, 3) := dk_184 0 142 (dk_at dksX0_alter_1 9 rfl rfl)
theorem dX0_alter_34 : decode cX0_alter 34 = .ok (.ifCond .ne 5, 3) := dk_154 0 5 (dk_at dksX0_alter_1 12 rfl rfl)
theorem dX0_alter_37 : decode cX0_alter 37 = .ok (.iconst (-1), 1) := dk_2 (dk_at dksX0_alter_1 15 rfl rfl)
theorem dX0_alter_38 : decode cX0_alter 38 = .ok (.ireturn, 1) := dk_172 (dk_at dksX0_alter_1 16 rfl rfl)
theorem dX0_alter_39 : decode cX0_alter 39 = .ok (.aload_n 0, 1) := dk_42 (dk_at dksX0_alter_1 17 rfl rfl)
theorem dX0_alter_40 : decode cX0_alter 40 = .ok (.getfield 113, 3) := dk_180 0 113 (dk_at dksX0_alter_1 18 rfl rfl)
theorem dX0_alter_43 : decode cX0_alter 43 = .ok (.iload_n 1, 1) := dk_27 (dk_at dksX0_alter_1 21 rfl rfl)
theorem dX0_alter_44 : decode cX0_alter 44 = .ok (.iload_n 2, 1) := dk_28 (dk_at dksX0_alter_1 22 rfl rfl)
theorem dX0_alter_45 : decode cX0_alter 45 = .ok (.invokevirtual 7, 3) := dk_182 0 7 (dk_at dksX0_alter_2 0 rfl rfl)
theorem dX0_alter_48 : decode cX0_alter 48 = .ok (.istore 4, 2) := dk_54 4 (dk_at dksX0_alter_2 3 rfl rfl)
theorem dX0_alter_50 : decode cX0_alter 50 = .ok (.aload_n 0, 1) := dk_42 (dk_at dksX0_alter_2 5 rfl rfl)
theorem dX0_alter_51 : decode cX0_alter 51 = .ok (.getfield 113, 3) := dk_180 0 113 (dk_at dksX0_alter_2 6 rfl rfl)
theorem dX0_alter_54 : decode cX0_alter 54 = .ok (.iload_n 1, 1) := dk_27 (dk_at dksX0_alter_2 9 rfl rfl)
theorem dX0_alter_55 : decode cX0_alter 55 = .ok (.iload_n 2, 1) := dk_28 (dk_at dksX0_alter_2 10 rfl rfl)
theorem dX0_alter_56 : decode cX0_alter 56 = .ok (.iload_n 3, 1) := dk_29 (dk_at dksX0_alter_2 11 rfl rfl)
theorem dX0_alter_57 : decode cX0_alter 57 = .ok (.invokevirtual 51, 3) := dk_182 0 51 (dk_at dksX0_alter_2 12 rfl rfl)
theorem dX0_alter_60 : decode cX0_alter 60 = .ok (.iload 4, 2) := dk_21 4 (dk_at dksX0_alter_2 15 rfl rfl)
theorem dX0_alter_62 : decode cX0_alter 62 = .ok (.ireturn, 1) := dk_172 (dk_at dksX0_alter_2 17 rfl rfl)
abbrev cX0_isPart : ByteArray := prog_1_method_15_code
def yX0_isPart : MethodName := ⟨RX0, "isPart", "(I)Z"⟩
def dkwX0_isPart_0 : List UInt8 := [26, 133, 9, 10, 184, 0, 142, 172]
abbrev dktX0_isPart_0 : List UInt8 := dkwX0_isPart_0 ++ []
theorem dksX0_isPart_0 : cX0_isPart.data.toList.drop 0 = dktX0_isPart_0 := by decide +kernel
theorem dX0_isPart_0 : decode cX0_isPart 0 = .ok (.iload_n 0, 1) := dk_26 (dk_at dksX0_isPart_0 0 rfl rfl)
theorem dX0_isPart_1 : decode cX0_isPart 1 = .ok (.i2l, 1) := dk_133 (dk_at dksX0_isPart_0 1 rfl rfl)
theorem dX0_isPart_2 : decode cX0_isPart 2 = .ok (.lconst 0, 1) := dk_9 (dk_at dksX0_isPart_0 2 rfl rfl)
theorem dX0_isPart_3 : decode cX0_isPart 3 = .ok (.lconst 1, 1) := dk_10 (dk_at dksX0_isPart_0 3 rfl rfl)
theorem dX0_isPart_4 : decode cX0_isPart 4 = .ok (.invokestatic 142, 3) := dk_184 0 142 (dk_at dksX0_isPart_0 4 rfl rfl)
theorem dX0_isPart_7 : decode cX0_isPart 7 = .ok (.ireturn, 1) := dk_172 (dk_at dksX0_isPart_0 7 rfl rfl)
abbrev cX0_room : ByteArray := prog_1_method_22_code
def yX0_room : MethodName := ⟨RX0, "room", "(I)I"⟩
def dkwX0_room_1 : List UInt8 := [180, 0, 113, 27, 181, 0, 183, 28, 172]
abbrev dktX0_room_1 : List UInt8 := dkwX0_room_1 ++ []
def dkwX0_room_0 : List UInt8 := [27, 133, 10, 20, 0, 210, 184, 0, 142, 154, 0, 5, 2, 172, 42, 180, 0, 113, 180, 0, 183, 61, 42]
abbrev dktX0_room_0 : List UInt8 := dkwX0_room_0 ++ dktX0_room_1
theorem dksX0_room_0 : cX0_room.data.toList.drop 0 = dktX0_room_0 := by decide +kernel
theorem dksX0_room_1 : cX0_room.data.toList.drop 23 = dktX0_room_1 := dk_seg dksX0_room_0 23 rfl rfl
theorem dX0_room_0 : decode cX0_room 0 = .ok (.iload_n 1, 1) := dk_27 (dk_at dksX0_room_0 0 rfl rfl)
theorem dX0_room_1 : decode cX0_room 1 = .ok (.i2l, 1) := dk_133 (dk_at dksX0_room_0 1 rfl rfl)
theorem dX0_room_2 : decode cX0_room 2 = .ok (.lconst 1, 1) := dk_10 (dk_at dksX0_room_0 2 rfl rfl)
theorem dX0_room_3 : decode cX0_room 3 = .ok (.ldc2_w 210, 3) := dk_20 0 210 (dk_at dksX0_room_0 3 rfl rfl)
theorem dX0_room_6 : decode cX0_room 6 = .ok (.invokestatic 142, 3) := dk_184 0 142 (dk_at dksX0_room_0 6 rfl rfl)
theorem dX0_room_9 : decode cX0_room 9 = .ok (.ifCond .ne 5, 3) := dk_154 0 5 (dk_at dksX0_room_0 9 rfl rfl)
theorem dX0_room_12 : decode cX0_room 12 = .ok (.iconst (-1), 1) := dk_2 (dk_at dksX0_room_0 12 rfl rfl)
theorem dX0_room_13 : decode cX0_room 13 = .ok (.ireturn, 1) := dk_172 (dk_at dksX0_room_0 13 rfl rfl)
theorem dX0_room_14 : decode cX0_room 14 = .ok (.aload_n 0, 1) := dk_42 (dk_at dksX0_room_0 14 rfl rfl)
theorem dX0_room_15 : decode cX0_room 15 = .ok (.getfield 113, 3) := dk_180 0 113 (dk_at dksX0_room_0 15 rfl rfl)
theorem dX0_room_18 : decode cX0_room 18 = .ok (.getfield 183, 3) := dk_180 0 183 (dk_at dksX0_room_0 18 rfl rfl)
theorem dX0_room_21 : decode cX0_room 21 = .ok (.istore_n 2, 1) := dk_61 (dk_at dksX0_room_0 21 rfl rfl)
theorem dX0_room_22 : decode cX0_room 22 = .ok (.aload_n 0, 1) := dk_42 (dk_at dksX0_room_0 22 rfl rfl)
theorem dX0_room_23 : decode cX0_room 23 = .ok (.getfield 113, 3) := dk_180 0 113 (dk_at dksX0_room_1 0 rfl rfl)
theorem dX0_room_26 : decode cX0_room 26 = .ok (.iload_n 1, 1) := dk_27 (dk_at dksX0_room_1 3 rfl rfl)
theorem dX0_room_27 : decode cX0_room 27 = .ok (.putfield 183, 3) := dk_181 0 183 (dk_at dksX0_room_1 4 rfl rfl)
theorem dX0_room_30 : decode cX0_room 30 = .ok (.iload_n 2, 1) := dk_28 (dk_at dksX0_room_1 7 rfl rfl)
theorem dX0_room_31 : decode cX0_room 31 = .ok (.ireturn, 1) := dk_172 (dk_at dksX0_room_1 8 rfl rfl)
abbrev cX0_think : ByteArray := prog_1_method_23_code
def yX0_think : MethodName := ⟨RX0, "think", "(I)I"⟩
def dkwX0_think_1 : List UInt8 := [180, 0, 113, 27, 181, 0, 34, 28, 172]
abbrev dktX0_think_1 : List UInt8 := dkwX0_think_1 ++ []
def dkwX0_think_0 : List UInt8 := [27, 133, 10, 20, 0, 212, 184, 0, 142, 154, 0, 5, 2, 172, 42, 180, 0, 113, 180, 0, 34, 61, 42]
abbrev dktX0_think_0 : List UInt8 := dkwX0_think_0 ++ dktX0_think_1
theorem dksX0_think_0 : cX0_think.data.toList.drop 0 = dktX0_think_0 := by decide +kernel
theorem dksX0_think_1 : cX0_think.data.toList.drop 23 = dktX0_think_1 := dk_seg dksX0_think_0 23 rfl rfl
theorem dX0_think_0 : decode cX0_think 0 = .ok (.iload_n 1, 1) := dk_27 (dk_at dksX0_think_0 0 rfl rfl)
theorem dX0_think_1 : decode cX0_think 1 = .ok (.i2l, 1) := dk_133 (dk_at dksX0_think_0 1 rfl rfl)
theorem dX0_think_2 : decode cX0_think 2 = .ok (.lconst 1, 1) := dk_10 (dk_at dksX0_think_0 2 rfl rfl)
theorem dX0_think_3 : decode cX0_think 3 = .ok (.ldc2_w 212, 3) := dk_20 0 212 (dk_at dksX0_think_0 3 rfl rfl)
theorem dX0_think_6 : decode cX0_think 6 = .ok (.invokestatic 142, 3) := dk_184 0 142 (dk_at dksX0_think_0 6 rfl rfl)
theorem dX0_think_9 : decode cX0_think 9 = .ok (.ifCond .ne 5, 3) := dk_154 0 5 (dk_at dksX0_think_0 9 rfl rfl)
theorem dX0_think_12 : decode cX0_think 12 = .ok (.iconst (-1), 1) := dk_2 (dk_at dksX0_think_0 12 rfl rfl)
theorem dX0_think_13 : decode cX0_think 13 = .ok (.ireturn, 1) := dk_172 (dk_at dksX0_think_0 13 rfl rfl)
theorem dX0_think_14 : decode cX0_think 14 = .ok (.aload_n 0, 1) := dk_42 (dk_at dksX0_think_0 14 rfl rfl)
theorem dX0_think_15 : decode cX0_think 15 = .ok (.getfield 113, 3) := dk_180 0 113 (dk_at dksX0_think_0 15 rfl rfl)
theorem dX0_think_18 : decode cX0_think 18 = .ok (.getfield 34, 3) := dk_180 0 34 (dk_at dksX0_think_0 18 rfl rfl)
theorem dX0_think_21 : decode cX0_think 21 = .ok (.istore_n 2, 1) := dk_61 (dk_at dksX0_think_0 21 rfl rfl)
theorem dX0_think_22 : decode cX0_think 22 = .ok (.aload_n 0, 1) := dk_42 (dk_at dksX0_think_0 22 rfl rfl)
theorem dX0_think_23 : decode cX0_think 23 = .ok (.getfield 113, 3) := dk_180 0 113 (dk_at dksX0_think_1 0 rfl rfl)
theorem dX0_think_26 : decode cX0_think 26 = .ok (.iload_n 1, 1) := dk_27 (dk_at dksX0_think_1 3 rfl rfl)
theorem dX0_think_27 : decode cX0_think 27 = .ok (.putfield 34, 3) := dk_181 0 34 (dk_at dksX0_think_1 4 rfl rfl)
theorem dX0_think_30 : decode cX0_think 30 = .ok (.iload_n 2, 1) := dk_28 (dk_at dksX0_think_1 7 rfl rfl)
theorem dX0_think_31 : decode cX0_think 31 = .ok (.ireturn, 1) := dk_172 (dk_at dksX0_think_1 8 rfl rfl)
abbrev cX0_plan : ByteArray := prog_1_method_25_code
def yX0_plan : MethodName := ⟨RX0, "plan", "(I)I"⟩
def dkwX0_plan_2 : List UInt8 := [180, 0, 86, 4, 96, 181, 0, 86, 42, 180, 0, 113, 180, 0, 86, 172]
abbrev dktX0_plan_2 : List UInt8 := dkwX0_plan_2 ++ []
def dkwX0_plan_1 : List UInt8 := [172, 42, 180, 0, 113, 180, 0, 89, 42, 180, 0, 113, 180, 0, 86, 27, 145, 84, 42, 180, 0, 113, 89]
abbrev dktX0_plan_1 : List UInt8 := dkwX0_plan_1 ++ dktX0_plan_2
def dkwX0_plan_0 : List UInt8 := [42, 27, 182, 0, 214, 154, 0, 5, 2, 172, 42, 180, 0, 113, 180, 0, 86, 16, 8, 160, 0, 6, 16, 253]
abbrev dktX0_plan_0 : List UInt8 := dkwX0_plan_0 ++ dktX0_plan_1
theorem dksX0_plan_0 : cX0_plan.data.toList.drop 0 = dktX0_plan_0 := by decide +kernel
theorem dksX0_plan_1 : cX0_plan.data.toList.drop 24 = dktX0_plan_1 := dk_seg dksX0_plan_0 24 rfl rfl
theorem dksX0_plan_2 : cX0_plan.data.toList.drop 47 = dktX0_plan_2 := dk_seg dksX0_plan_1 23 rfl rfl
theorem dX0_plan_0 : decode cX0_plan 0 = .ok (.aload_n 0, 1) := dk_42 (dk_at dksX0_plan_0 0 rfl rfl)
theorem dX0_plan_1 : decode cX0_plan 1 = .ok (.iload_n 1, 1) := dk_27 (dk_at dksX0_plan_0 1 rfl rfl)
theorem dX0_plan_2 : decode cX0_plan 2 = .ok (.invokevirtual 214, 3) := dk_182 0 214 (dk_at dksX0_plan_0 2 rfl rfl)
theorem dX0_plan_5 : decode cX0_plan 5 = .ok (.ifCond .ne 5, 3) := dk_154 0 5 (dk_at dksX0_plan_0 5 rfl rfl)
theorem dX0_plan_8 : decode cX0_plan 8 = .ok (.iconst (-1), 1) := dk_2 (dk_at dksX0_plan_0 8 rfl rfl)
theorem dX0_plan_9 : decode cX0_plan 9 = .ok (.ireturn, 1) := dk_172 (dk_at dksX0_plan_0 9 rfl rfl)
theorem dX0_plan_10 : decode cX0_plan 10 = .ok (.aload_n 0, 1) := dk_42 (dk_at dksX0_plan_0 10 rfl rfl)
theorem dX0_plan_11 : decode cX0_plan 11 = .ok (.getfield 113, 3) := dk_180 0 113 (dk_at dksX0_plan_0 11 rfl rfl)
theorem dX0_plan_14 : decode cX0_plan 14 = .ok (.getfield 86, 3) := dk_180 0 86 (dk_at dksX0_plan_0 14 rfl rfl)
theorem dX0_plan_17 : decode cX0_plan 17 = .ok (.bipush 8, 2) := dk_16 8 (dk_at dksX0_plan_0 17 rfl rfl)
theorem dX0_plan_19 : decode cX0_plan 19 = .ok (.if_icmp .ne 6, 3) := dk_160 0 6 (dk_at dksX0_plan_0 19 rfl rfl)
theorem dX0_plan_22 : decode cX0_plan 22 = .ok (.bipush (-3), 2) := dk_16 253 (dk_at dksX0_plan_0 22 rfl rfl)
theorem dX0_plan_24 : decode cX0_plan 24 = .ok (.ireturn, 1) := dk_172 (dk_at dksX0_plan_1 0 rfl rfl)
theorem dX0_plan_25 : decode cX0_plan 25 = .ok (.aload_n 0, 1) := dk_42 (dk_at dksX0_plan_1 1 rfl rfl)
theorem dX0_plan_26 : decode cX0_plan 26 = .ok (.getfield 113, 3) := dk_180 0 113 (dk_at dksX0_plan_1 2 rfl rfl)
theorem dX0_plan_29 : decode cX0_plan 29 = .ok (.getfield 89, 3) := dk_180 0 89 (dk_at dksX0_plan_1 5 rfl rfl)
theorem dX0_plan_32 : decode cX0_plan 32 = .ok (.aload_n 0, 1) := dk_42 (dk_at dksX0_plan_1 8 rfl rfl)
theorem dX0_plan_33 : decode cX0_plan 33 = .ok (.getfield 113, 3) := dk_180 0 113 (dk_at dksX0_plan_1 9 rfl rfl)
theorem dX0_plan_36 : decode cX0_plan 36 = .ok (.getfield 86, 3) := dk_180 0 86 (dk_at dksX0_plan_1 12 rfl rfl)
theorem dX0_plan_39 : decode cX0_plan 39 = .ok (.iload_n 1, 1) := dk_27 (dk_at dksX0_plan_1 15 rfl rfl)
theorem dX0_plan_40 : decode cX0_plan 40 = .ok (.i2b, 1) := dk_145 (dk_at dksX0_plan_1 16 rfl rfl)
theorem dX0_plan_41 : decode cX0_plan 41 = .ok (.bastore, 1) := dk_84 (dk_at dksX0_plan_1 17 rfl rfl)
theorem dX0_plan_42 : decode cX0_plan 42 = .ok (.aload_n 0, 1) := dk_42 (dk_at dksX0_plan_1 18 rfl rfl)
theorem dX0_plan_43 : decode cX0_plan 43 = .ok (.getfield 113, 3) := dk_180 0 113 (dk_at dksX0_plan_1 19 rfl rfl)
theorem dX0_plan_46 : decode cX0_plan 46 = .ok (.dup, 1) := dk_89 (dk_at dksX0_plan_1 22 rfl rfl)
theorem dX0_plan_47 : decode cX0_plan 47 = .ok (.getfield 86, 3) := dk_180 0 86 (dk_at dksX0_plan_2 0 rfl rfl)
theorem dX0_plan_50 : decode cX0_plan 50 = .ok (.iconst 1, 1) := dk_4 (dk_at dksX0_plan_2 3 rfl rfl)
theorem dX0_plan_51 : decode cX0_plan 51 = .ok (.iadd, 1) := dk_96 (dk_at dksX0_plan_2 4 rfl rfl)
theorem dX0_plan_52 : decode cX0_plan 52 = .ok (.putfield 86, 3) := dk_181 0 86 (dk_at dksX0_plan_2 5 rfl rfl)
theorem dX0_plan_55 : decode cX0_plan 55 = .ok (.aload_n 0, 1) := dk_42 (dk_at dksX0_plan_2 8 rfl rfl)
theorem dX0_plan_56 : decode cX0_plan 56 = .ok (.getfield 113, 3) := dk_180 0 113 (dk_at dksX0_plan_2 9 rfl rfl)
theorem dX0_plan_59 : decode cX0_plan 59 = .ok (.getfield 86, 3) := dk_180 0 86 (dk_at dksX0_plan_2 12 rfl rfl)
theorem dX0_plan_62 : decode cX0_plan 62 = .ok (.ireturn, 1) := dk_172 (dk_at dksX0_plan_2 15 rfl rfl)
abbrev cX0_isAct : ByteArray := prog_1_method_24_code
def yX0_isAct : MethodName := ⟨RX0, "isAct", "(I)Z"⟩
def dkwX0_isAct_1 : List UInt8 := [172]
abbrev dktX0_isAct_1 : List UInt8 := dkwX0_isAct_1 ++ []
def dkwX0_isAct_0 : List UInt8 := [42, 27, 182, 0, 192, 154, 0, 14, 27, 8, 159, 0, 9, 27, 16, 6, 160, 0, 7, 4, 167, 0, 4, 3]
abbrev dktX0_isAct_0 : List UInt8 := dkwX0_isAct_0 ++ dktX0_isAct_1
theorem dksX0_isAct_0 : cX0_isAct.data.toList.drop 0 = dktX0_isAct_0 := by decide +kernel
theorem dksX0_isAct_1 : cX0_isAct.data.toList.drop 24 = dktX0_isAct_1 := dk_seg dksX0_isAct_0 24 rfl rfl
theorem dX0_isAct_0 : decode cX0_isAct 0 = .ok (.aload_n 0, 1) := dk_42 (dk_at dksX0_isAct_0 0 rfl rfl)
theorem dX0_isAct_1 : decode cX0_isAct 1 = .ok (.iload_n 1, 1) := dk_27 (dk_at dksX0_isAct_0 1 rfl rfl)
theorem dX0_isAct_2 : decode cX0_isAct 2 = .ok (.invokevirtual 192, 3) := dk_182 0 192 (dk_at dksX0_isAct_0 2 rfl rfl)
theorem dX0_isAct_5 : decode cX0_isAct 5 = .ok (.ifCond .ne 14, 3) := dk_154 0 14 (dk_at dksX0_isAct_0 5 rfl rfl)
theorem dX0_isAct_8 : decode cX0_isAct 8 = .ok (.iload_n 1, 1) := dk_27 (dk_at dksX0_isAct_0 8 rfl rfl)
theorem dX0_isAct_9 : decode cX0_isAct 9 = .ok (.iconst 5, 1) := dk_8 (dk_at dksX0_isAct_0 9 rfl rfl)
theorem dX0_isAct_10 : decode cX0_isAct 10 = .ok (.if_icmp .eq 9, 3) := dk_159 0 9 (dk_at dksX0_isAct_0 10 rfl rfl)
theorem dX0_isAct_13 : decode cX0_isAct 13 = .ok (.iload_n 1, 1) := dk_27 (dk_at dksX0_isAct_0 13 rfl rfl)
theorem dX0_isAct_14 : decode cX0_isAct 14 = .ok (.bipush 6, 2) := dk_16 6 (dk_at dksX0_isAct_0 14 rfl rfl)
theorem dX0_isAct_16 : decode cX0_isAct 16 = .ok (.if_icmp .ne 7, 3) := dk_160 0 7 (dk_at dksX0_isAct_0 16 rfl rfl)
theorem dX0_isAct_19 : decode cX0_isAct 19 = .ok (.iconst 1, 1) := dk_4 (dk_at dksX0_isAct_0 19 rfl rfl)
theorem dX0_isAct_20 : decode cX0_isAct 20 = .ok (.goto 4, 3) := dk_167 0 4 (dk_at dksX0_isAct_0 20 rfl rfl)
theorem dX0_isAct_23 : decode cX0_isAct 23 = .ok (.iconst 0, 1) := dk_3 (dk_at dksX0_isAct_0 23 rfl rfl)
theorem dX0_isAct_24 : decode cX0_isAct 24 = .ok (.ireturn, 1) := dk_172 (dk_at dksX0_isAct_1 0 rfl rfl)
abbrev cX0_cut : ByteArray := prog_1_method_26_code
def yX0_cut : MethodName := ⟨RX0, "cut", "(I)I"⟩
def dkwX0_cut_1 : List UInt8 := [180, 0, 86, 61, 42, 180, 0, 113, 27, 181, 0, 86, 28, 172]
abbrev dktX0_cut_1 : List UInt8 := dkwX0_cut_1 ++ []
def dkwX0_cut_0 : List UInt8 := [27, 133, 9, 42, 180, 0, 113, 180, 0, 86, 133, 184, 0, 142, 154, 0, 5, 2, 172, 42, 180, 0, 113]
abbrev dktX0_cut_0 : List UInt8 := dkwX0_cut_0 ++ dktX0_cut_1
theorem dksX0_cut_0 : cX0_cut.data.toList.drop 0 = dktX0_cut_0 := by decide +kernel
theorem dksX0_cut_1 : cX0_cut.data.toList.drop 23 = dktX0_cut_1 := dk_seg dksX0_cut_0 23 rfl rfl
theorem dX0_cut_0 : decode cX0_cut 0 = .ok (.iload_n 1, 1) := dk_27 (dk_at dksX0_cut_0 0 rfl rfl)
theorem dX0_cut_1 : decode cX0_cut 1 = .ok (.i2l, 1) := dk_133 (dk_at dksX0_cut_0 1 rfl rfl)
theorem dX0_cut_2 : decode cX0_cut 2 = .ok (.lconst 0, 1) := dk_9 (dk_at dksX0_cut_0 2 rfl rfl)
theorem dX0_cut_3 : decode cX0_cut 3 = .ok (.aload_n 0, 1) := dk_42 (dk_at dksX0_cut_0 3 rfl rfl)
theorem dX0_cut_4 : decode cX0_cut 4 = .ok (.getfield 113, 3) := dk_180 0 113 (dk_at dksX0_cut_0 4 rfl rfl)
theorem dX0_cut_7 : decode cX0_cut 7 = .ok (.getfield 86, 3) := dk_180 0 86 (dk_at dksX0_cut_0 7 rfl rfl)
theorem dX0_cut_10 : decode cX0_cut 10 = .ok (.i2l, 1) := dk_133 (dk_at dksX0_cut_0 10 rfl rfl)
theorem dX0_cut_11 : decode cX0_cut 11 = .ok (.invokestatic 142, 3) := dk_184 0 142 (dk_at dksX0_cut_0 11 rfl rfl)
theorem dX0_cut_14 : decode cX0_cut 14 = .ok (.ifCond .ne 5, 3) := dk_154 0 5 (dk_at dksX0_cut_0 14 rfl rfl)
theorem dX0_cut_17 : decode cX0_cut 17 = .ok (.iconst (-1), 1) := dk_2 (dk_at dksX0_cut_0 17 rfl rfl)
theorem dX0_cut_18 : decode cX0_cut 18 = .ok (.ireturn, 1) := dk_172 (dk_at dksX0_cut_0 18 rfl rfl)
theorem dX0_cut_19 : decode cX0_cut 19 = .ok (.aload_n 0, 1) := dk_42 (dk_at dksX0_cut_0 19 rfl rfl)
theorem dX0_cut_20 : decode cX0_cut 20 = .ok (.getfield 113, 3) := dk_180 0 113 (dk_at dksX0_cut_0 20 rfl rfl)
theorem dX0_cut_23 : decode cX0_cut 23 = .ok (.getfield 86, 3) := dk_180 0 86 (dk_at dksX0_cut_1 0 rfl rfl)
theorem dX0_cut_26 : decode cX0_cut 26 = .ok (.istore_n 2, 1) := dk_61 (dk_at dksX0_cut_1 3 rfl rfl)
theorem dX0_cut_27 : decode cX0_cut 27 = .ok (.aload_n 0, 1) := dk_42 (dk_at dksX0_cut_1 4 rfl rfl)
theorem dX0_cut_28 : decode cX0_cut 28 = .ok (.getfield 113, 3) := dk_180 0 113 (dk_at dksX0_cut_1 5 rfl rfl)
theorem dX0_cut_31 : decode cX0_cut 31 = .ok (.iload_n 1, 1) := dk_27 (dk_at dksX0_cut_1 8 rfl rfl)
theorem dX0_cut_32 : decode cX0_cut 32 = .ok (.putfield 86, 3) := dk_181 0 86 (dk_at dksX0_cut_1 9 rfl rfl)
theorem dX0_cut_35 : decode cX0_cut 35 = .ok (.iload_n 2, 1) := dk_28 (dk_at dksX0_cut_1 12 rfl rfl)
theorem dX0_cut_36 : decode cX0_cut 36 = .ok (.ireturn, 1) := dk_172 (dk_at dksX0_cut_1 13 rfl rfl)
abbrev cX0_thinks : ByteArray := prog_1_method_27_code
def yX0_thinks : MethodName := ⟨RX0, "thinks", "(I)I"⟩
def dkwX0_thinks_1 : List UInt8 := [180, 0, 113, 27, 182, 0, 74, 167, 0, 5, 16, 254, 172]
abbrev dktX0_thinks_1 : List UInt8 := dkwX0_thinks_1 ++ []
def dkwX0_thinks_0 : List UInt8 := [42, 27, 182, 0, 192, 154, 0, 5, 2, 172, 42, 180, 0, 113, 27, 182, 0, 23, 153, 0, 15, 42, 42]
abbrev dktX0_thinks_0 : List UInt8 := dkwX0_thinks_0 ++ dktX0_thinks_1
theorem dksX0_thinks_0 : cX0_thinks.data.toList.drop 0 = dktX0_thinks_0 := by decide +kernel
theorem dksX0_thinks_1 : cX0_thinks.data.toList.drop 23 = dktX0_thinks_1 := dk_seg dksX0_thinks_0 23 rfl rfl
theorem dX0_thinks_0 : decode cX0_thinks 0 = .ok (.aload_n 0, 1) := dk_42 (dk_at dksX0_thinks_0 0 rfl rfl)
theorem dX0_thinks_1 : decode cX0_thinks 1 = .ok (.iload_n 1, 1) := dk_27 (dk_at dksX0_thinks_0 1 rfl rfl)
theorem dX0_thinks_2 : decode cX0_thinks 2 = .ok (.invokevirtual 192, 3) := dk_182 0 192 (dk_at dksX0_thinks_0 2 rfl rfl)
theorem dX0_thinks_5 : decode cX0_thinks 5 = .ok (.ifCond .ne 5, 3) := dk_154 0 5 (dk_at dksX0_thinks_0 5 rfl rfl)
theorem dX0_thinks_8 : decode cX0_thinks 8 = .ok (.iconst (-1), 1) := dk_2 (dk_at dksX0_thinks_0 8 rfl rfl)
theorem dX0_thinks_9 : decode cX0_thinks 9 = .ok (.ireturn, 1) := dk_172 (dk_at dksX0_thinks_0 9 rfl rfl)
theorem dX0_thinks_10 : decode cX0_thinks 10 = .ok (.aload_n 0, 1) := dk_42 (dk_at dksX0_thinks_0 10 rfl rfl)
theorem dX0_thinks_11 : decode cX0_thinks 11 = .ok (.getfield 113, 3) := dk_180 0 113 (dk_at dksX0_thinks_0 11 rfl rfl)
theorem dX0_thinks_14 : decode cX0_thinks 14 = .ok (.iload_n 1, 1) := dk_27 (dk_at dksX0_thinks_0 14 rfl rfl)
theorem dX0_thinks_15 : decode cX0_thinks 15 = .ok (.invokevirtual 23, 3) := dk_182 0 23 (dk_at dksX0_thinks_0 15 rfl rfl)
theorem dX0_thinks_18 : decode cX0_thinks 18 = .ok (.ifCond .eq 15, 3) := dk_153 0 15 (dk_at dksX0_thinks_0 18 rfl rfl)
theorem dX0_thinks_21 : decode cX0_thinks 21 = .ok (.aload_n 0, 1) := dk_42 (dk_at dksX0_thinks_0 21 rfl rfl)
theorem dX0_thinks_22 : decode cX0_thinks 22 = .ok (.aload_n 0, 1) := dk_42 (dk_at dksX0_thinks_0 22 rfl rfl)
theorem dX0_thinks_23 : decode cX0_thinks 23 = .ok (.getfield 113, 3) := dk_180 0 113 (dk_at dksX0_thinks_1 0 rfl rfl)
theorem dX0_thinks_26 : decode cX0_thinks 26 = .ok (.iload_n 1, 1) := dk_27 (dk_at dksX0_thinks_1 3 rfl rfl)
theorem dX0_thinks_27 : decode cX0_thinks 27 = .ok (.invokevirtual 74, 3) := dk_182 0 74 (dk_at dksX0_thinks_1 4 rfl rfl)
theorem dX0_thinks_30 : decode cX0_thinks 30 = .ok (.goto 5, 3) := dk_167 0 5 (dk_at dksX0_thinks_1 7 rfl rfl)
theorem dX0_thinks_33 : decode cX0_thinks 33 = .ok (.bipush (-2), 2) := dk_16 254 (dk_at dksX0_thinks_1 10 rfl rfl)
theorem dX0_thinks_35 : decode cX0_thinks 35 = .ok (.ireturn, 1) := dk_172 (dk_at dksX0_thinks_1 12 rfl rfl)
abbrev cX0_thinking : ByteArray := prog_1_method_5_code
def yX0_thinking : MethodName := ⟨RX0, "thinking", "(LTearsQueue$Stop;I)I"⟩
def dkwX0_thinking_3 : List UInt8 := [182, 0, 41, 54, 4, 167, 255, 200, 29, 172]
abbrev dktX0_thinking_3 : List UInt8 := dkwX0_thinking_3 ++ []
def dkwX0_thinking_2 : List UInt8 := [21, 4, 4, 3, 182, 0, 51, 43, 21, 4, 2, 182, 0, 55, 43, 21, 4, 4, 182, 0, 55, 42, 43, 29]
abbrev dktX0_thinking_2 : List UInt8 := dkwX0_thinking_2 ++ dktX0_thinking_3
def dkwX0_thinking_1 : List UInt8 := [159, 0, 55, 29, 4, 21, 4, 120, 128, 62, 43, 180, 0, 44, 21, 4, 43, 180, 0, 48, 147, 86, 43]
abbrev dktX0_thinking_1 : List UInt8 := dkwX0_thinking_1 ++ dktX0_thinking_2
def dkwX0_thinking_0 : List UInt8 := [3, 62, 43, 28, 43, 180, 0, 34, 182, 0, 37, 42, 43, 29, 182, 0, 41, 54, 4, 21, 4, 16, 252]
abbrev dktX0_thinking_0 : List UInt8 := dkwX0_thinking_0 ++ dktX0_thinking_1
theorem dksX0_thinking_0 : cX0_thinking.data.toList.drop 0 = dktX0_thinking_0 := by decide +kernel
theorem dksX0_thinking_1 : cX0_thinking.data.toList.drop 23 = dktX0_thinking_1 := dk_seg dksX0_thinking_0 23 rfl rfl
theorem dksX0_thinking_2 : cX0_thinking.data.toList.drop 46 = dktX0_thinking_2 := dk_seg dksX0_thinking_1 23 rfl rfl
theorem dksX0_thinking_3 : cX0_thinking.data.toList.drop 70 = dktX0_thinking_3 := dk_seg dksX0_thinking_2 24 rfl rfl
theorem dX0_thinking_0 : decode cX0_thinking 0 = .ok (.iconst 0, 1) := dk_3 (dk_at dksX0_thinking_0 0 rfl rfl)
theorem dX0_thinking_1 : decode cX0_thinking 1 = .ok (.istore_n 3, 1) := dk_62 (dk_at dksX0_thinking_0 1 rfl rfl)
theorem dX0_thinking_2 : decode cX0_thinking 2 = .ok (.aload_n 1, 1) := dk_43 (dk_at dksX0_thinking_0 2 rfl rfl)
theorem dX0_thinking_3 : decode cX0_thinking 3 = .ok (.iload_n 2, 1) := dk_28 (dk_at dksX0_thinking_0 3 rfl rfl)
theorem dX0_thinking_4 : decode cX0_thinking 4 = .ok (.aload_n 1, 1) := dk_43 (dk_at dksX0_thinking_0 4 rfl rfl)
theorem dX0_thinking_5 : decode cX0_thinking 5 = .ok (.getfield 34, 3) := dk_180 0 34 (dk_at dksX0_thinking_0 5 rfl rfl)
theorem dX0_thinking_8 : decode cX0_thinking 8 = .ok (.invokevirtual 37, 3) := dk_182 0 37 (dk_at dksX0_thinking_0 8 rfl rfl)
theorem dX0_thinking_11 : decode cX0_thinking 11 = .ok (.aload_n 0, 1) := dk_42 (dk_at dksX0_thinking_0 11 rfl rfl)
theorem dX0_thinking_12 : decode cX0_thinking 12 = .ok (.aload_n 1, 1) := dk_43 (dk_at dksX0_thinking_0 12 rfl rfl)
theorem dX0_thinking_13 : decode cX0_thinking 13 = .ok (.iload_n 3, 1) := dk_29 (dk_at dksX0_thinking_0 13 rfl rfl)
theorem dX0_thinking_14 : decode cX0_thinking 14 = .ok (.invokevirtual 41, 3) := dk_182 0 41 (dk_at dksX0_thinking_0 14 rfl rfl)
theorem dX0_thinking_17 : decode cX0_thinking 17 = .ok (.istore 4, 2) := dk_54 4 (dk_at dksX0_thinking_0 17 rfl rfl)
theorem dX0_thinking_19 : decode cX0_thinking 19 = .ok (.iload 4, 2) := dk_21 4 (dk_at dksX0_thinking_0 19 rfl rfl)
theorem dX0_thinking_21 : decode cX0_thinking 21 = .ok (.bipush (-4), 2) := dk_16 252 (dk_at dksX0_thinking_0 21 rfl rfl)
theorem dX0_thinking_23 : decode cX0_thinking 23 = .ok (.if_icmp .eq 55, 3) := dk_159 0 55 (dk_at dksX0_thinking_1 0 rfl rfl)
theorem dX0_thinking_26 : decode cX0_thinking 26 = .ok (.iload_n 3, 1) := dk_29 (dk_at dksX0_thinking_1 3 rfl rfl)
theorem dX0_thinking_27 : decode cX0_thinking 27 = .ok (.iconst 1, 1) := dk_4 (dk_at dksX0_thinking_1 4 rfl rfl)
theorem dX0_thinking_28 : decode cX0_thinking 28 = .ok (.iload 4, 2) := dk_21 4 (dk_at dksX0_thinking_1 5 rfl rfl)
theorem dX0_thinking_30 : decode cX0_thinking 30 = .ok (.ishl, 1) := dk_120 (dk_at dksX0_thinking_1 7 rfl rfl)
theorem dX0_thinking_31 : decode cX0_thinking 31 = .ok (.ior, 1) := dk_128 (dk_at dksX0_thinking_1 8 rfl rfl)
theorem dX0_thinking_32 : decode cX0_thinking 32 = .ok (.istore_n 3, 1) := dk_62 (dk_at dksX0_thinking_1 9 rfl rfl)
theorem dX0_thinking_33 : decode cX0_thinking 33 = .ok (.aload_n 1, 1) := dk_43 (dk_at dksX0_thinking_1 10 rfl rfl)
theorem dX0_thinking_34 : decode cX0_thinking 34 = .ok (.getfield 44, 3) := dk_180 0 44 (dk_at dksX0_thinking_1 11 rfl rfl)
theorem dX0_thinking_37 : decode cX0_thinking 37 = .ok (.iload 4, 2) := dk_21 4 (dk_at dksX0_thinking_1 14 rfl rfl)
theorem dX0_thinking_39 : decode cX0_thinking 39 = .ok (.aload_n 1, 1) := dk_43 (dk_at dksX0_thinking_1 16 rfl rfl)
theorem dX0_thinking_40 : decode cX0_thinking 40 = .ok (.getfield 48, 3) := dk_180 0 48 (dk_at dksX0_thinking_1 17 rfl rfl)
theorem dX0_thinking_43 : decode cX0_thinking 43 = .ok (.i2s, 1) := dk_147 (dk_at dksX0_thinking_1 20 rfl rfl)
theorem dX0_thinking_44 : decode cX0_thinking 44 = .ok (.sastore, 1) := dk_86 (dk_at dksX0_thinking_1 21 rfl rfl)
theorem dX0_thinking_45 : decode cX0_thinking 45 = .ok (.aload_n 1, 1) := dk_43 (dk_at dksX0_thinking_1 22 rfl rfl)
theorem dX0_thinking_46 : decode cX0_thinking 46 = .ok (.iload 4, 2) := dk_21 4 (dk_at dksX0_thinking_2 0 rfl rfl)
theorem dX0_thinking_48 : decode cX0_thinking 48 = .ok (.iconst 1, 1) := dk_4 (dk_at dksX0_thinking_2 2 rfl rfl)
theorem dX0_thinking_49 : decode cX0_thinking 49 = .ok (.iconst 0, 1) := dk_3 (dk_at dksX0_thinking_2 3 rfl rfl)
theorem dX0_thinking_50 : decode cX0_thinking 50 = .ok (.invokevirtual 51, 3) := dk_182 0 51 (dk_at dksX0_thinking_2 4 rfl rfl)
theorem dX0_thinking_53 : decode cX0_thinking 53 = .ok (.aload_n 1, 1) := dk_43 (dk_at dksX0_thinking_2 7 rfl rfl)
theorem dX0_thinking_54 : decode cX0_thinking 54 = .ok (.iload 4, 2) := dk_21 4 (dk_at dksX0_thinking_2 8 rfl rfl)
theorem dX0_thinking_56 : decode cX0_thinking 56 = .ok (.iconst (-1), 1) := dk_2 (dk_at dksX0_thinking_2 10 rfl rfl)
theorem dX0_thinking_57 : decode cX0_thinking 57 = .ok (.invokevirtual 55, 3) := dk_182 0 55 (dk_at dksX0_thinking_2 11 rfl rfl)
theorem dX0_thinking_60 : decode cX0_thinking 60 = .ok (.aload_n 1, 1) := dk_43 (dk_at dksX0_thinking_2 14 rfl rfl)
theorem dX0_thinking_61 : decode cX0_thinking 61 = .ok (.iload 4, 2) := dk_21 4 (dk_at dksX0_thinking_2 15 rfl rfl)
theorem dX0_thinking_63 : decode cX0_thinking 63 = .ok (.iconst 1, 1) := dk_4 (dk_at dksX0_thinking_2 17 rfl rfl)
theorem dX0_thinking_64 : decode cX0_thinking 64 = .ok (.invokevirtual 55, 3) := dk_182 0 55 (dk_at dksX0_thinking_2 18 rfl rfl)
theorem dX0_thinking_67 : decode cX0_thinking 67 = .ok (.aload_n 0, 1) := dk_42 (dk_at dksX0_thinking_2 21 rfl rfl)
theorem dX0_thinking_68 : decode cX0_thinking 68 = .ok (.aload_n 1, 1) := dk_43 (dk_at dksX0_thinking_2 22 rfl rfl)
theorem dX0_thinking_69 : decode cX0_thinking 69 = .ok (.iload_n 3, 1) := dk_29 (dk_at dksX0_thinking_2 23 rfl rfl)
theorem dX0_thinking_70 : decode cX0_thinking 70 = .ok (.invokevirtual 41, 3) := dk_182 0 41 (dk_at dksX0_thinking_3 0 rfl rfl)
theorem dX0_thinking_73 : decode cX0_thinking 73 = .ok (.istore 4, 2) := dk_54 4 (dk_at dksX0_thinking_3 3 rfl rfl)
theorem dX0_thinking_75 : decode cX0_thinking 75 = .ok (.goto (-56), 3) := dk_167 255 200 (dk_at dksX0_thinking_3 5 rfl rfl)
theorem dX0_thinking_78 : decode cX0_thinking 78 = .ok (.iload_n 3, 1) := dk_29 (dk_at dksX0_thinking_3 8 rfl rfl)
theorem dX0_thinking_79 : decode cX0_thinking 79 = .ok (.ireturn, 1) := dk_172 (dk_at dksX0_thinking_3 9 rfl rfl)
abbrev cX0_nextWeeper : ByteArray := prog_1_method_4_code
def yX0_nextWeeper : MethodName := ⟨RX0, "nextWeeper", "(LTearsQueue$Stop;I)I"⟩
def dkwX0_nextWeeper_2 : List UInt8 := [182, 0, 31, 161, 0, 8, 21, 4, 167, 0, 4, 29, 62, 132, 4, 255, 167, 255, 206, 29, 172]
abbrev dktX0_nextWeeper_2 : List UInt8 := dkwX0_nextWeeper_2 ++ []
def dkwX0_nextWeeper_1 : List UInt8 := [153, 0, 34, 28, 21, 4, 184, 0, 27, 154, 0, 25, 43, 21, 4, 4, 182, 0, 7, 42, 43, 21, 4]
abbrev dktX0_nextWeeper_1 : List UInt8 := dkwX0_nextWeeper_1 ++ dktX0_nextWeeper_2
def dkwX0_nextWeeper_0 : List UInt8 := [16, 252, 62, 43, 180, 0, 19, 4, 100, 54, 4, 21, 4, 155, 0, 51, 43, 21, 4, 182, 0, 23]
abbrev dktX0_nextWeeper_0 : List UInt8 := dkwX0_nextWeeper_0 ++ dktX0_nextWeeper_1
theorem dksX0_nextWeeper_0 : cX0_nextWeeper.data.toList.drop 0 = dktX0_nextWeeper_0 := by decide +kernel
theorem dksX0_nextWeeper_1 : cX0_nextWeeper.data.toList.drop 22 = dktX0_nextWeeper_1 := dk_seg dksX0_nextWeeper_0 22 rfl rfl
theorem dksX0_nextWeeper_2 : cX0_nextWeeper.data.toList.drop 45 = dktX0_nextWeeper_2 := dk_seg dksX0_nextWeeper_1 23 rfl rfl
theorem dX0_nextWeeper_0 : decode cX0_nextWeeper 0 = .ok (.bipush (-4), 2) := dk_16 252 (dk_at dksX0_nextWeeper_0 0 rfl rfl)
theorem dX0_nextWeeper_2 : decode cX0_nextWeeper 2 = .ok (.istore_n 3, 1) := dk_62 (dk_at dksX0_nextWeeper_0 2 rfl rfl)
theorem dX0_nextWeeper_3 : decode cX0_nextWeeper 3 = .ok (.aload_n 1, 1) := dk_43 (dk_at dksX0_nextWeeper_0 3 rfl rfl)
theorem dX0_nextWeeper_4 : decode cX0_nextWeeper 4 = .ok (.getfield 19, 3) := dk_180 0 19 (dk_at dksX0_nextWeeper_0 4 rfl rfl)
theorem dX0_nextWeeper_7 : decode cX0_nextWeeper 7 = .ok (.iconst 1, 1) := dk_4 (dk_at dksX0_nextWeeper_0 7 rfl rfl)
theorem dX0_nextWeeper_8 : decode cX0_nextWeeper 8 = .ok (.isub, 1) := dk_100 (dk_at dksX0_nextWeeper_0 8 rfl rfl)
theorem dX0_nextWeeper_9 : decode cX0_nextWeeper 9 = .ok (.istore 4, 2) := dk_54 4 (dk_at dksX0_nextWeeper_0 9 rfl rfl)
theorem dX0_nextWeeper_11 : decode cX0_nextWeeper 11 = .ok (.iload 4, 2) := dk_21 4 (dk_at dksX0_nextWeeper_0 11 rfl rfl)
theorem dX0_nextWeeper_13 : decode cX0_nextWeeper 13 = .ok (.ifCond .lt 51, 3) := dk_155 0 51 (dk_at dksX0_nextWeeper_0 13 rfl rfl)
theorem dX0_nextWeeper_16 : decode cX0_nextWeeper 16 = .ok (.aload_n 1, 1) := dk_43 (dk_at dksX0_nextWeeper_0 16 rfl rfl)
theorem dX0_nextWeeper_17 : decode cX0_nextWeeper 17 = .ok (.iload 4, 2) := dk_21 4 (dk_at dksX0_nextWeeper_0 17 rfl rfl)
theorem dX0_nextWeeper_19 : decode cX0_nextWeeper 19 = .ok (.invokevirtual 23, 3) := dk_182 0 23 (dk_at dksX0_nextWeeper_0 19 rfl rfl)
theorem dX0_nextWeeper_22 : decode cX0_nextWeeper 22 = .ok (.ifCond .eq 34, 3) := dk_153 0 34 (dk_at dksX0_nextWeeper_1 0 rfl rfl)
theorem dX0_nextWeeper_25 : decode cX0_nextWeeper 25 = .ok (.iload_n 2, 1) := dk_28 (dk_at dksX0_nextWeeper_1 3 rfl rfl)
theorem dX0_nextWeeper_26 : decode cX0_nextWeeper 26 = .ok (.iload 4, 2) := dk_21 4 (dk_at dksX0_nextWeeper_1 4 rfl rfl)
theorem dX0_nextWeeper_28 : decode cX0_nextWeeper 28 = .ok (.invokestatic 27, 3) := dk_184 0 27 (dk_at dksX0_nextWeeper_1 6 rfl rfl)
theorem dX0_nextWeeper_31 : decode cX0_nextWeeper 31 = .ok (.ifCond .ne 25, 3) := dk_154 0 25 (dk_at dksX0_nextWeeper_1 9 rfl rfl)
theorem dX0_nextWeeper_34 : decode cX0_nextWeeper 34 = .ok (.aload_n 1, 1) := dk_43 (dk_at dksX0_nextWeeper_1 12 rfl rfl)
theorem dX0_nextWeeper_35 : decode cX0_nextWeeper 35 = .ok (.iload 4, 2) := dk_21 4 (dk_at dksX0_nextWeeper_1 13 rfl rfl)
theorem dX0_nextWeeper_37 : decode cX0_nextWeeper 37 = .ok (.iconst 1, 1) := dk_4 (dk_at dksX0_nextWeeper_1 15 rfl rfl)
theorem dX0_nextWeeper_38 : decode cX0_nextWeeper 38 = .ok (.invokevirtual 7, 3) := dk_182 0 7 (dk_at dksX0_nextWeeper_1 16 rfl rfl)
theorem dX0_nextWeeper_41 : decode cX0_nextWeeper 41 = .ok (.aload_n 0, 1) := dk_42 (dk_at dksX0_nextWeeper_1 19 rfl rfl)
theorem dX0_nextWeeper_42 : decode cX0_nextWeeper 42 = .ok (.aload_n 1, 1) := dk_43 (dk_at dksX0_nextWeeper_1 20 rfl rfl)
theorem dX0_nextWeeper_43 : decode cX0_nextWeeper 43 = .ok (.iload 4, 2) := dk_21 4 (dk_at dksX0_nextWeeper_1 21 rfl rfl)
theorem dX0_nextWeeper_45 : decode cX0_nextWeeper 45 = .ok (.invokevirtual 31, 3) := dk_182 0 31 (dk_at dksX0_nextWeeper_2 0 rfl rfl)
theorem dX0_nextWeeper_48 : decode cX0_nextWeeper 48 = .ok (.if_icmp .lt 8, 3) := dk_161 0 8 (dk_at dksX0_nextWeeper_2 3 rfl rfl)
theorem dX0_nextWeeper_51 : decode cX0_nextWeeper 51 = .ok (.iload 4, 2) := dk_21 4 (dk_at dksX0_nextWeeper_2 6 rfl rfl)
theorem dX0_nextWeeper_53 : decode cX0_nextWeeper 53 = .ok (.goto 4, 3) := dk_167 0 4 (dk_at dksX0_nextWeeper_2 8 rfl rfl)
theorem dX0_nextWeeper_56 : decode cX0_nextWeeper 56 = .ok (.iload_n 3, 1) := dk_29 (dk_at dksX0_nextWeeper_2 11 rfl rfl)
theorem dX0_nextWeeper_57 : decode cX0_nextWeeper 57 = .ok (.istore_n 3, 1) := dk_62 (dk_at dksX0_nextWeeper_2 12 rfl rfl)
theorem dX0_nextWeeper_58 : decode cX0_nextWeeper 58 = .ok (.iinc 4 (-1), 3) := dk_132 4 255 (dk_at dksX0_nextWeeper_2 13 rfl rfl)
theorem dX0_nextWeeper_61 : decode cX0_nextWeeper 61 = .ok (.goto (-50), 3) := dk_167 255 206 (dk_at dksX0_nextWeeper_2 16 rfl rfl)
theorem dX0_nextWeeper_64 : decode cX0_nextWeeper 64 = .ok (.iload_n 3, 1) := dk_29 (dk_at dksX0_nextWeeper_2 19 rfl rfl)
theorem dX0_nextWeeper_65 : decode cX0_nextWeeper 65 = .ok (.ireturn, 1) := dk_172 (dk_at dksX0_nextWeeper_2 20 rfl rfl)
abbrev cX0_minutes : ByteArray := prog_1_method_28_code
def yX0_minutes : MethodName := ⟨RX0, "minutes", "(I)I"⟩
def dkwX0_minutes_1 : List UInt8 := [180, 0, 113, 182, 0, 67, 132, 2, 1, 167, 255, 241, 42, 180, 0, 113, 182, 0, 189, 172]
abbrev dktX0_minutes_1 : List UInt8 := dkwX0_minutes_1 ++ []
def dkwX0_minutes_0 : List UInt8 := [27, 133, 9, 20, 0, 217, 184, 0, 142, 154, 0, 5, 2, 172, 3, 61, 28, 27, 162, 0, 16, 42]
abbrev dktX0_minutes_0 : List UInt8 := dkwX0_minutes_0 ++ dktX0_minutes_1
theorem dksX0_minutes_0 : cX0_minutes.data.toList.drop 0 = dktX0_minutes_0 := by decide +kernel
theorem dksX0_minutes_1 : cX0_minutes.data.toList.drop 22 = dktX0_minutes_1 := dk_seg dksX0_minutes_0 22 rfl rfl
theorem dX0_minutes_0 : decode cX0_minutes 0 = .ok (.iload_n 1, 1) := dk_27 (dk_at dksX0_minutes_0 0 rfl rfl)
theorem dX0_minutes_1 : decode cX0_minutes 1 = .ok (.i2l, 1) := dk_133 (dk_at dksX0_minutes_0 1 rfl rfl)
theorem dX0_minutes_2 : decode cX0_minutes 2 = .ok (.lconst 0, 1) := dk_9 (dk_at dksX0_minutes_0 2 rfl rfl)
theorem dX0_minutes_3 : decode cX0_minutes 3 = .ok (.ldc2_w 217, 3) := dk_20 0 217 (dk_at dksX0_minutes_0 3 rfl rfl)
theorem dX0_minutes_6 : decode cX0_minutes 6 = .ok (.invokestatic 142, 3) := dk_184 0 142 (dk_at dksX0_minutes_0 6 rfl rfl)
theorem dX0_minutes_9 : decode cX0_minutes 9 = .ok (.ifCond .ne 5, 3) := dk_154 0 5 (dk_at dksX0_minutes_0 9 rfl rfl)
theorem dX0_minutes_12 : decode cX0_minutes 12 = .ok (.iconst (-1), 1) := dk_2 (dk_at dksX0_minutes_0 12 rfl rfl)
theorem dX0_minutes_13 : decode cX0_minutes 13 = .ok (.ireturn, 1) := dk_172 (dk_at dksX0_minutes_0 13 rfl rfl)
theorem dX0_minutes_14 : decode cX0_minutes 14 = .ok (.iconst 0, 1) := dk_3 (dk_at dksX0_minutes_0 14 rfl rfl)
theorem dX0_minutes_15 : decode cX0_minutes 15 = .ok (.istore_n 2, 1) := dk_61 (dk_at dksX0_minutes_0 15 rfl rfl)
theorem dX0_minutes_16 : decode cX0_minutes 16 = .ok (.iload_n 2, 1) := dk_28 (dk_at dksX0_minutes_0 16 rfl rfl)
theorem dX0_minutes_17 : decode cX0_minutes 17 = .ok (.iload_n 1, 1) := dk_27 (dk_at dksX0_minutes_0 17 rfl rfl)
theorem dX0_minutes_18 : decode cX0_minutes 18 = .ok (.if_icmp .ge 16, 3) := dk_162 0 16 (dk_at dksX0_minutes_0 18 rfl rfl)
theorem dX0_minutes_21 : decode cX0_minutes 21 = .ok (.aload_n 0, 1) := dk_42 (dk_at dksX0_minutes_0 21 rfl rfl)
theorem dX0_minutes_22 : decode cX0_minutes 22 = .ok (.getfield 113, 3) := dk_180 0 113 (dk_at dksX0_minutes_1 0 rfl rfl)
theorem dX0_minutes_25 : decode cX0_minutes 25 = .ok (.invokevirtual 67, 3) := dk_182 0 67 (dk_at dksX0_minutes_1 3 rfl rfl)
theorem dX0_minutes_28 : decode cX0_minutes 28 = .ok (.iinc 2 1, 3) := dk_132 2 1 (dk_at dksX0_minutes_1 6 rfl rfl)
theorem dX0_minutes_31 : decode cX0_minutes 31 = .ok (.goto (-15), 3) := dk_167 255 241 (dk_at dksX0_minutes_1 9 rfl rfl)
theorem dX0_minutes_34 : decode cX0_minutes 34 = .ok (.aload_n 0, 1) := dk_42 (dk_at dksX0_minutes_1 12 rfl rfl)
theorem dX0_minutes_35 : decode cX0_minutes 35 = .ok (.getfield 113, 3) := dk_180 0 113 (dk_at dksX0_minutes_1 13 rfl rfl)
theorem dX0_minutes_38 : decode cX0_minutes 38 = .ok (.invokevirtual 189, 3) := dk_182 0 189 (dk_at dksX0_minutes_1 16 rfl rfl)
theorem dX0_minutes_41 : decode cX0_minutes 41 = .ok (.ireturn, 1) := dk_172 (dk_at dksX0_minutes_1 19 rfl rfl)
abbrev cX0_tram : ByteArray := prog_1_method_29_code
def yX0_tram : MethodName := ⟨RX0, "tram", "()I"⟩
def dkwX0_tram_0 : List UInt8 := [42, 180, 0, 113, 182, 0, 71, 172]
abbrev dktX0_tram_0 : List UInt8 := dkwX0_tram_0 ++ []
theorem dksX0_tram_0 : cX0_tram.data.toList.drop 0 = dktX0_tram_0 := by decide +kernel
theorem dX0_tram_0 : decode cX0_tram 0 = .ok (.aload_n 0, 1) := dk_42 (dk_at dksX0_tram_0 0 rfl rfl)
theorem dX0_tram_1 : decode cX0_tram 1 = .ok (.getfield 113, 3) := dk_180 0 113 (dk_at dksX0_tram_0 1 rfl rfl)
theorem dX0_tram_4 : decode cX0_tram 4 = .ok (.invokevirtual 71, 3) := dk_182 0 71 (dk_at dksX0_tram_0 4 rfl rfl)
theorem dX0_tram_7 : decode cX0_tram 7 = .ok (.ireturn, 1) := dk_172 (dk_at dksX0_tram_0 7 rfl rfl)
abbrev cX0_joy : ByteArray := prog_1_method_30_code
def yX0_joy : MethodName := ⟨RX0, "joy", "(I)I"⟩
def dkwX0_joy_2 : List UInt8 := [180, 0, 44, 27, 16, 252, 86, 28, 172]
abbrev dktX0_joy_2 : List UInt8 := dkwX0_joy_2 ++ []
def dkwX0_joy_1 : List UInt8 := [42, 180, 0, 113, 27, 4, 182, 0, 7, 61, 42, 180, 0, 113, 27, 4, 3, 182, 0, 51, 42, 180, 0, 113]
abbrev dktX0_joy_1 : List UInt8 := dkwX0_joy_1 ++ dktX0_joy_2
def dkwX0_joy_0 : List UInt8 := [42, 27, 182, 0, 192, 154, 0, 5, 2, 172, 42, 180, 0, 113, 27, 182, 0, 23, 154, 0, 6, 16, 254, 172]
abbrev dktX0_joy_0 : List UInt8 := dkwX0_joy_0 ++ dktX0_joy_1
theorem dksX0_joy_0 : cX0_joy.data.toList.drop 0 = dktX0_joy_0 := by decide +kernel
theorem dksX0_joy_1 : cX0_joy.data.toList.drop 24 = dktX0_joy_1 := dk_seg dksX0_joy_0 24 rfl rfl
theorem dksX0_joy_2 : cX0_joy.data.toList.drop 48 = dktX0_joy_2 := dk_seg dksX0_joy_1 24 rfl rfl
theorem dX0_joy_0 : decode cX0_joy 0 = .ok (.aload_n 0, 1) := dk_42 (dk_at dksX0_joy_0 0 rfl rfl)
theorem dX0_joy_1 : decode cX0_joy 1 = .ok (.iload_n 1, 1) := dk_27 (dk_at dksX0_joy_0 1 rfl rfl)
theorem dX0_joy_2 : decode cX0_joy 2 = .ok (.invokevirtual 192, 3) := dk_182 0 192 (dk_at dksX0_joy_0 2 rfl rfl)
theorem dX0_joy_5 : decode cX0_joy 5 = .ok (.ifCond .ne 5, 3) := dk_154 0 5 (dk_at dksX0_joy_0 5 rfl rfl)
theorem dX0_joy_8 : decode cX0_joy 8 = .ok (.iconst (-1), 1) := dk_2 (dk_at dksX0_joy_0 8 rfl rfl)
theorem dX0_joy_9 : decode cX0_joy 9 = .ok (.ireturn, 1) := dk_172 (dk_at dksX0_joy_0 9 rfl rfl)
theorem dX0_joy_10 : decode cX0_joy 10 = .ok (.aload_n 0, 1) := dk_42 (dk_at dksX0_joy_0 10 rfl rfl)
theorem dX0_joy_11 : decode cX0_joy 11 = .ok (.getfield 113, 3) := dk_180 0 113 (dk_at dksX0_joy_0 11 rfl rfl)
theorem dX0_joy_14 : decode cX0_joy 14 = .ok (.iload_n 1, 1) := dk_27 (dk_at dksX0_joy_0 14 rfl rfl)
theorem dX0_joy_15 : decode cX0_joy 15 = .ok (.invokevirtual 23, 3) := dk_182 0 23 (dk_at dksX0_joy_0 15 rfl rfl)
theorem dX0_joy_18 : decode cX0_joy 18 = .ok (.ifCond .ne 6, 3) := dk_154 0 6 (dk_at dksX0_joy_0 18 rfl rfl)
theorem dX0_joy_21 : decode cX0_joy 21 = .ok (.bipush (-2), 2) := dk_16 254 (dk_at dksX0_joy_0 21 rfl rfl)
theorem dX0_joy_23 : decode cX0_joy 23 = .ok (.ireturn, 1) := dk_172 (dk_at dksX0_joy_0 23 rfl rfl)
theorem dX0_joy_24 : decode cX0_joy 24 = .ok (.aload_n 0, 1) := dk_42 (dk_at dksX0_joy_1 0 rfl rfl)
theorem dX0_joy_25 : decode cX0_joy 25 = .ok (.getfield 113, 3) := dk_180 0 113 (dk_at dksX0_joy_1 1 rfl rfl)
theorem dX0_joy_28 : decode cX0_joy 28 = .ok (.iload_n 1, 1) := dk_27 (dk_at dksX0_joy_1 4 rfl rfl)
theorem dX0_joy_29 : decode cX0_joy 29 = .ok (.iconst 1, 1) := dk_4 (dk_at dksX0_joy_1 5 rfl rfl)
theorem dX0_joy_30 : decode cX0_joy 30 = .ok (.invokevirtual 7, 3) := dk_182 0 7 (dk_at dksX0_joy_1 6 rfl rfl)
theorem dX0_joy_33 : decode cX0_joy 33 = .ok (.istore_n 2, 1) := dk_61 (dk_at dksX0_joy_1 9 rfl rfl)
theorem dX0_joy_34 : decode cX0_joy 34 = .ok (.aload_n 0, 1) := dk_42 (dk_at dksX0_joy_1 10 rfl rfl)
theorem dX0_joy_35 : decode cX0_joy 35 = .ok (.getfield 113, 3) := dk_180 0 113 (dk_at dksX0_joy_1 11 rfl rfl)
theorem dX0_joy_38 : decode cX0_joy 38 = .ok (.iload_n 1, 1) := dk_27 (dk_at dksX0_joy_1 14 rfl rfl)
theorem dX0_joy_39 : decode cX0_joy 39 = .ok (.iconst 1, 1) := dk_4 (dk_at dksX0_joy_1 15 rfl rfl)
theorem dX0_joy_40 : decode cX0_joy 40 = .ok (.iconst 0, 1) := dk_3 (dk_at dksX0_joy_1 16 rfl rfl)
theorem dX0_joy_41 : decode cX0_joy 41 = .ok (.invokevirtual 51, 3) := dk_182 0 51 (dk_at dksX0_joy_1 17 rfl rfl)
theorem dX0_joy_44 : decode cX0_joy 44 = .ok (.aload_n 0, 1) := dk_42 (dk_at dksX0_joy_1 20 rfl rfl)
theorem dX0_joy_45 : decode cX0_joy 45 = .ok (.getfield 113, 3) := dk_180 0 113 (dk_at dksX0_joy_1 21 rfl rfl)
theorem dX0_joy_48 : decode cX0_joy 48 = .ok (.getfield 44, 3) := dk_180 0 44 (dk_at dksX0_joy_2 0 rfl rfl)
theorem dX0_joy_51 : decode cX0_joy 51 = .ok (.iload_n 1, 1) := dk_27 (dk_at dksX0_joy_2 3 rfl rfl)
theorem dX0_joy_52 : decode cX0_joy 52 = .ok (.bipush (-4), 2) := dk_16 252 (dk_at dksX0_joy_2 4 rfl rfl)
theorem dX0_joy_54 : decode cX0_joy 54 = .ok (.sastore, 1) := dk_86 (dk_at dksX0_joy_2 6 rfl rfl)
theorem dX0_joy_55 : decode cX0_joy 55 = .ok (.iload_n 2, 1) := dk_28 (dk_at dksX0_joy_2 7 rfl rfl)
theorem dX0_joy_56 : decode cX0_joy 56 = .ok (.ireturn, 1) := dk_172 (dk_at dksX0_joy_2 8 rfl rfl)
abbrev cX0_second : ByteArray := prog_1_method_31_code
def yX0_second : MethodName := ⟨RX0, "second", "()I"⟩
def dkwX0_second_1 : List UInt8 := [42, 180, 0, 113, 28, 5, 3, 182, 0, 51, 132, 2, 1, 167, 255, 232, 27, 172]
abbrev dktX0_second_1 : List UInt8 := dkwX0_second_1 ++ []
def dkwX0_second_0 : List UInt8 := [42, 180, 0, 113, 182, 0, 219, 184, 0, 77, 60, 3, 61, 28, 42, 180, 0, 113, 180, 0, 19, 162, 0, 19]
abbrev dktX0_second_0 : List UInt8 := dkwX0_second_0 ++ dktX0_second_1
theorem dksX0_second_0 : cX0_second.data.toList.drop 0 = dktX0_second_0 := by decide +kernel
theorem dksX0_second_1 : cX0_second.data.toList.drop 24 = dktX0_second_1 := dk_seg dksX0_second_0 24 rfl rfl
theorem dX0_second_0 : decode cX0_second 0 = .ok (.aload_n 0, 1) := dk_42 (dk_at dksX0_second_0 0 rfl rfl)
theorem dX0_second_1 : decode cX0_second 1 = .ok (.getfield 113, 3) := dk_180 0 113 (dk_at dksX0_second_0 1 rfl rfl)
theorem dX0_second_4 : decode cX0_second 4 = .ok (.invokevirtual 219, 3) := dk_182 0 219 (dk_at dksX0_second_0 4 rfl rfl)
theorem dX0_second_7 : decode cX0_second 7 = .ok (.invokestatic 77, 3) := dk_184 0 77 (dk_at dksX0_second_0 7 rfl rfl)
theorem dX0_second_10 : decode cX0_second 10 = .ok (.istore_n 1, 1) := dk_60 (dk_at dksX0_second_0 10 rfl rfl)
theorem dX0_second_11 : decode cX0_second 11 = .ok (.iconst 0, 1) := dk_3 (dk_at dksX0_second_0 11 rfl rfl)
theorem dX0_second_12 : decode cX0_second 12 = .ok (.istore_n 2, 1) := dk_61 (dk_at dksX0_second_0 12 rfl rfl)
theorem dX0_second_13 : decode cX0_second 13 = .ok (.iload_n 2, 1) := dk_28 (dk_at dksX0_second_0 13 rfl rfl)
theorem dX0_second_14 : decode cX0_second 14 = .ok (.aload_n 0, 1) := dk_42 (dk_at dksX0_second_0 14 rfl rfl)
theorem dX0_second_15 : decode cX0_second 15 = .ok (.getfield 113, 3) := dk_180 0 113 (dk_at dksX0_second_0 15 rfl rfl)
theorem dX0_second_18 : decode cX0_second 18 = .ok (.getfield 19, 3) := dk_180 0 19 (dk_at dksX0_second_0 18 rfl rfl)
theorem dX0_second_21 : decode cX0_second 21 = .ok (.if_icmp .ge 19, 3) := dk_162 0 19 (dk_at dksX0_second_0 21 rfl rfl)
theorem dX0_second_24 : decode cX0_second 24 = .ok (.aload_n 0, 1) := dk_42 (dk_at dksX0_second_1 0 rfl rfl)
theorem dX0_second_25 : decode cX0_second 25 = .ok (.getfield 113, 3) := dk_180 0 113 (dk_at dksX0_second_1 1 rfl rfl)
theorem dX0_second_28 : decode cX0_second 28 = .ok (.iload_n 2, 1) := dk_28 (dk_at dksX0_second_1 4 rfl rfl)
theorem dX0_second_29 : decode cX0_second 29 = .ok (.iconst 2, 1) := dk_5 (dk_at dksX0_second_1 5 rfl rfl)
theorem dX0_second_30 : decode cX0_second 30 = .ok (.iconst 0, 1) := dk_3 (dk_at dksX0_second_1 6 rfl rfl)
theorem dX0_second_31 : decode cX0_second 31 = .ok (.invokevirtual 51, 3) := dk_182 0 51 (dk_at dksX0_second_1 7 rfl rfl)
theorem dX0_second_34 : decode cX0_second 34 = .ok (.iinc 2 1, 3) := dk_132 2 1 (dk_at dksX0_second_1 10 rfl rfl)
theorem dX0_second_37 : decode cX0_second 37 = .ok (.goto (-24), 3) := dk_167 255 232 (dk_at dksX0_second_1 13 rfl rfl)
theorem dX0_second_40 : decode cX0_second 40 = .ok (.iload_n 1, 1) := dk_27 (dk_at dksX0_second_1 16 rfl rfl)
theorem dX0_second_41 : decode cX0_second 41 = .ok (.ireturn, 1) := dk_172 (dk_at dksX0_second_1 17 rfl rfl)
abbrev cX0_runs : ByteArray := prog_1_method_32_code
def yX0_runs : MethodName := ⟨RX0, "runs", "(I)I"⟩
def dkwX0_runs_3 : List UInt8 := [167, 0, 22, 27, 6, 160, 0, 10, 42, 180, 0, 64, 167, 0, 10, 42, 180, 0, 117, 182, 0, 189, 172]
abbrev dktX0_runs_3 : List UInt8 := dkwX0_runs_3 ++ []
def dkwX0_runs_2 : List UInt8 := [167, 0, 46, 27, 4, 160, 0, 10, 42, 180, 0, 58, 167, 0, 34, 27, 5, 160, 0, 10, 42, 180, 0, 61]
abbrev dktX0_runs_2 : List UInt8 := dkwX0_runs_2 ++ dktX0_runs_3
def dkwX0_runs_1 : List UInt8 := [182, 0, 163, 42, 42, 180, 0, 117, 3, 182, 0, 222, 27, 154, 0, 13, 42, 180, 0, 117, 182, 0, 219]
abbrev dktX0_runs_1 : List UInt8 := dkwX0_runs_1 ++ dktX0_runs_2
def dkwX0_runs_0 : List UInt8 := [27, 133, 9, 20, 0, 195, 184, 0, 142, 154, 0, 5, 2, 172, 42, 180, 0, 117, 42, 180, 0, 113]
abbrev dktX0_runs_0 : List UInt8 := dkwX0_runs_0 ++ dktX0_runs_1
theorem dksX0_runs_0 : cX0_runs.data.toList.drop 0 = dktX0_runs_0 := by decide +kernel
theorem dksX0_runs_1 : cX0_runs.data.toList.drop 22 = dktX0_runs_1 := dk_seg dksX0_runs_0 22 rfl rfl
theorem dksX0_runs_2 : cX0_runs.data.toList.drop 45 = dktX0_runs_2 := dk_seg dksX0_runs_1 23 rfl rfl
theorem dksX0_runs_3 : cX0_runs.data.toList.drop 69 = dktX0_runs_3 := dk_seg dksX0_runs_2 24 rfl rfl
theorem dX0_runs_0 : decode cX0_runs 0 = .ok (.iload_n 1, 1) := dk_27 (dk_at dksX0_runs_0 0 rfl rfl)
theorem dX0_runs_1 : decode cX0_runs 1 = .ok (.i2l, 1) := dk_133 (dk_at dksX0_runs_0 1 rfl rfl)
theorem dX0_runs_2 : decode cX0_runs 2 = .ok (.lconst 0, 1) := dk_9 (dk_at dksX0_runs_0 2 rfl rfl)
theorem dX0_runs_3 : decode cX0_runs 3 = .ok (.ldc2_w 195, 3) := dk_20 0 195 (dk_at dksX0_runs_0 3 rfl rfl)
theorem dX0_runs_6 : decode cX0_runs 6 = .ok (.invokestatic 142, 3) := dk_184 0 142 (dk_at dksX0_runs_0 6 rfl rfl)
theorem dX0_runs_9 : decode cX0_runs 9 = .ok (.ifCond .ne 5, 3) := dk_154 0 5 (dk_at dksX0_runs_0 9 rfl rfl)
theorem dX0_runs_12 : decode cX0_runs 12 = .ok (.iconst (-1), 1) := dk_2 (dk_at dksX0_runs_0 12 rfl rfl)
theorem dX0_runs_13 : decode cX0_runs 13 = .ok (.ireturn, 1) := dk_172 (dk_at dksX0_runs_0 13 rfl rfl)
theorem dX0_runs_14 : decode cX0_runs 14 = .ok (.aload_n 0, 1) := dk_42 (dk_at dksX0_runs_0 14 rfl rfl)
theorem dX0_runs_15 : decode cX0_runs 15 = .ok (.getfield 117, 3) := dk_180 0 117 (dk_at dksX0_runs_0 15 rfl rfl)
theorem dX0_runs_18 : decode cX0_runs 18 = .ok (.aload_n 0, 1) := dk_42 (dk_at dksX0_runs_0 18 rfl rfl)
theorem dX0_runs_19 : decode cX0_runs 19 = .ok (.getfield 113, 3) := dk_180 0 113 (dk_at dksX0_runs_0 19 rfl rfl)
theorem dX0_runs_22 : decode cX0_runs 22 = .ok (.invokevirtual 163, 3) := dk_182 0 163 (dk_at dksX0_runs_1 0 rfl rfl)
theorem dX0_runs_25 : decode cX0_runs 25 = .ok (.aload_n 0, 1) := dk_42 (dk_at dksX0_runs_1 3 rfl rfl)
theorem dX0_runs_26 : decode cX0_runs 26 = .ok (.aload_n 0, 1) := dk_42 (dk_at dksX0_runs_1 4 rfl rfl)
theorem dX0_runs_27 : decode cX0_runs 27 = .ok (.getfield 117, 3) := dk_180 0 117 (dk_at dksX0_runs_1 5 rfl rfl)
theorem dX0_runs_30 : decode cX0_runs 30 = .ok (.iconst 0, 1) := dk_3 (dk_at dksX0_runs_1 8 rfl rfl)
theorem dX0_runs_31 : decode cX0_runs 31 = .ok (.invokevirtual 222, 3) := dk_182 0 222 (dk_at dksX0_runs_1 9 rfl rfl)
theorem dX0_runs_34 : decode cX0_runs 34 = .ok (.iload_n 1, 1) := dk_27 (dk_at dksX0_runs_1 12 rfl rfl)
theorem dX0_runs_35 : decode cX0_runs 35 = .ok (.ifCond .ne 13, 3) := dk_154 0 13 (dk_at dksX0_runs_1 13 rfl rfl)
theorem dX0_runs_38 : decode cX0_runs 38 = .ok (.aload_n 0, 1) := dk_42 (dk_at dksX0_runs_1 16 rfl rfl)
theorem dX0_runs_39 : decode cX0_runs 39 = .ok (.getfield 117, 3) := dk_180 0 117 (dk_at dksX0_runs_1 17 rfl rfl)
theorem dX0_runs_42 : decode cX0_runs 42 = .ok (.invokevirtual 219, 3) := dk_182 0 219 (dk_at dksX0_runs_1 20 rfl rfl)
theorem dX0_runs_45 : decode cX0_runs 45 = .ok (.goto 46, 3) := dk_167 0 46 (dk_at dksX0_runs_2 0 rfl rfl)
theorem dX0_runs_48 : decode cX0_runs 48 = .ok (.iload_n 1, 1) := dk_27 (dk_at dksX0_runs_2 3 rfl rfl)
theorem dX0_runs_49 : decode cX0_runs 49 = .ok (.iconst 1, 1) := dk_4 (dk_at dksX0_runs_2 4 rfl rfl)
theorem dX0_runs_50 : decode cX0_runs 50 = .ok (.if_icmp .ne 10, 3) := dk_160 0 10 (dk_at dksX0_runs_2 5 rfl rfl)
theorem dX0_runs_53 : decode cX0_runs 53 = .ok (.aload_n 0, 1) := dk_42 (dk_at dksX0_runs_2 8 rfl rfl)
theorem dX0_runs_54 : decode cX0_runs 54 = .ok (.getfield 58, 3) := dk_180 0 58 (dk_at dksX0_runs_2 9 rfl rfl)
theorem dX0_runs_57 : decode cX0_runs 57 = .ok (.goto 34, 3) := dk_167 0 34 (dk_at dksX0_runs_2 12 rfl rfl)
theorem dX0_runs_60 : decode cX0_runs 60 = .ok (.iload_n 1, 1) := dk_27 (dk_at dksX0_runs_2 15 rfl rfl)
theorem dX0_runs_61 : decode cX0_runs 61 = .ok (.iconst 2, 1) := dk_5 (dk_at dksX0_runs_2 16 rfl rfl)
theorem dX0_runs_62 : decode cX0_runs 62 = .ok (.if_icmp .ne 10, 3) := dk_160 0 10 (dk_at dksX0_runs_2 17 rfl rfl)
theorem dX0_runs_65 : decode cX0_runs 65 = .ok (.aload_n 0, 1) := dk_42 (dk_at dksX0_runs_2 20 rfl rfl)
theorem dX0_runs_66 : decode cX0_runs 66 = .ok (.getfield 61, 3) := dk_180 0 61 (dk_at dksX0_runs_2 21 rfl rfl)
theorem dX0_runs_69 : decode cX0_runs 69 = .ok (.goto 22, 3) := dk_167 0 22 (dk_at dksX0_runs_3 0 rfl rfl)
theorem dX0_runs_72 : decode cX0_runs 72 = .ok (.iload_n 1, 1) := dk_27 (dk_at dksX0_runs_3 3 rfl rfl)
theorem dX0_runs_73 : decode cX0_runs 73 = .ok (.iconst 3, 1) := dk_6 (dk_at dksX0_runs_3 4 rfl rfl)
theorem dX0_runs_74 : decode cX0_runs 74 = .ok (.if_icmp .ne 10, 3) := dk_160 0 10 (dk_at dksX0_runs_3 5 rfl rfl)
theorem dX0_runs_77 : decode cX0_runs 77 = .ok (.aload_n 0, 1) := dk_42 (dk_at dksX0_runs_3 8 rfl rfl)
theorem dX0_runs_78 : decode cX0_runs 78 = .ok (.getfield 64, 3) := dk_180 0 64 (dk_at dksX0_runs_3 9 rfl rfl)
theorem dX0_runs_81 : decode cX0_runs 81 = .ok (.goto 10, 3) := dk_167 0 10 (dk_at dksX0_runs_3 12 rfl rfl)
theorem dX0_runs_84 : decode cX0_runs 84 = .ok (.aload_n 0, 1) := dk_42 (dk_at dksX0_runs_3 15 rfl rfl)
theorem dX0_runs_85 : decode cX0_runs 85 = .ok (.getfield 117, 3) := dk_180 0 117 (dk_at dksX0_runs_3 16 rfl rfl)
theorem dX0_runs_88 : decode cX0_runs 88 = .ok (.invokevirtual 189, 3) := dk_182 0 189 (dk_at dksX0_runs_3 19 rfl rfl)
theorem dX0_runs_91 : decode cX0_runs 91 = .ok (.ireturn, 1) := dk_172 (dk_at dksX0_runs_3 22 rfl rfl)
abbrev cX0_goes : ByteArray := prog_1_method_8_code
def yX0_goes : MethodName := ⟨RX0, "goes", "(LTearsQueue$Stop;I)V"⟩
def dkwX0_goes_3 : List UInt8 := [132, 3, 1, 167, 255, 190, 177]
abbrev dktX0_goes_3 : List UInt8 := dkwX0_goes_3 ++ []
def dkwX0_goes_2 : List UInt8 := [154, 0, 16, 42, 180, 0, 64, 16, 252, 160, 0, 7, 29, 167, 0, 7, 42, 180, 0, 64, 181, 0, 64]
abbrev dktX0_goes_2 : List UInt8 := dkwX0_goes_2 ++ dktX0_goes_3
def dkwX0_goes_1 : List UInt8 := [43, 180, 0, 89, 29, 51, 182, 0, 93, 153, 0, 7, 4, 167, 0, 4, 3, 54, 4, 42, 21, 4]
abbrev dktX0_goes_1 : List UInt8 := dkwX0_goes_1 ++ dktX0_goes_2
def dkwX0_goes_0 : List UInt8 := [42, 182, 0, 83, 3, 62, 29, 43, 180, 0, 86, 162, 0, 64, 28, 29, 184, 0, 27, 154, 0, 17, 42, 43]
abbrev dktX0_goes_0 : List UInt8 := dkwX0_goes_0 ++ dktX0_goes_1
theorem dksX0_goes_0 : cX0_goes.data.toList.drop 0 = dktX0_goes_0 := by decide +kernel
theorem dksX0_goes_1 : cX0_goes.data.toList.drop 24 = dktX0_goes_1 := dk_seg dksX0_goes_0 24 rfl rfl
theorem dksX0_goes_2 : cX0_goes.data.toList.drop 46 = dktX0_goes_2 := dk_seg dksX0_goes_1 22 rfl rfl
theorem dksX0_goes_3 : cX0_goes.data.toList.drop 69 = dktX0_goes_3 := dk_seg dksX0_goes_2 23 rfl rfl
theorem dX0_goes_0 : decode cX0_goes 0 = .ok (.aload_n 0, 1) := dk_42 (dk_at dksX0_goes_0 0 rfl rfl)
theorem dX0_goes_1 : decode cX0_goes 1 = .ok (.invokevirtual 83, 3) := dk_182 0 83 (dk_at dksX0_goes_0 1 rfl rfl)
theorem dX0_goes_4 : decode cX0_goes 4 = .ok (.iconst 0, 1) := dk_3 (dk_at dksX0_goes_0 4 rfl rfl)
theorem dX0_goes_5 : decode cX0_goes 5 = .ok (.istore_n 3, 1) := dk_62 (dk_at dksX0_goes_0 5 rfl rfl)
theorem dX0_goes_6 : decode cX0_goes 6 = .ok (.iload_n 3, 1) := dk_29 (dk_at dksX0_goes_0 6 rfl rfl)
theorem dX0_goes_7 : decode cX0_goes 7 = .ok (.aload_n 1, 1) := dk_43 (dk_at dksX0_goes_0 7 rfl rfl)
theorem dX0_goes_8 : decode cX0_goes 8 = .ok (.getfield 86, 3) := dk_180 0 86 (dk_at dksX0_goes_0 8 rfl rfl)
theorem dX0_goes_11 : decode cX0_goes 11 = .ok (.if_icmp .ge 64, 3) := dk_162 0 64 (dk_at dksX0_goes_0 11 rfl rfl)
theorem dX0_goes_14 : decode cX0_goes 14 = .ok (.iload_n 2, 1) := dk_28 (dk_at dksX0_goes_0 14 rfl rfl)
theorem dX0_goes_15 : decode cX0_goes 15 = .ok (.iload_n 3, 1) := dk_29 (dk_at dksX0_goes_0 15 rfl rfl)
theorem dX0_goes_16 : decode cX0_goes 16 = .ok (.invokestatic 27, 3) := dk_184 0 27 (dk_at dksX0_goes_0 16 rfl rfl)
theorem dX0_goes_19 : decode cX0_goes 19 = .ok (.ifCond .ne 17, 3) := dk_154 0 17 (dk_at dksX0_goes_0 19 rfl rfl)
theorem dX0_goes_22 : decode cX0_goes 22 = .ok (.aload_n 0, 1) := dk_42 (dk_at dksX0_goes_0 22 rfl rfl)
theorem dX0_goes_23 : decode cX0_goes 23 = .ok (.aload_n 1, 1) := dk_43 (dk_at dksX0_goes_0 23 rfl rfl)
theorem dX0_goes_24 : decode cX0_goes 24 = .ok (.aload_n 1, 1) := dk_43 (dk_at dksX0_goes_1 0 rfl rfl)
theorem dX0_goes_25 : decode cX0_goes 25 = .ok (.getfield 89, 3) := dk_180 0 89 (dk_at dksX0_goes_1 1 rfl rfl)
theorem dX0_goes_28 : decode cX0_goes 28 = .ok (.iload_n 3, 1) := dk_29 (dk_at dksX0_goes_1 4 rfl rfl)
theorem dX0_goes_29 : decode cX0_goes 29 = .ok (.baload, 1) := dk_51 (dk_at dksX0_goes_1 5 rfl rfl)
theorem dX0_goes_30 : decode cX0_goes 30 = .ok (.invokevirtual 93, 3) := dk_182 0 93 (dk_at dksX0_goes_1 6 rfl rfl)
theorem dX0_goes_33 : decode cX0_goes 33 = .ok (.ifCond .eq 7, 3) := dk_153 0 7 (dk_at dksX0_goes_1 9 rfl rfl)
theorem dX0_goes_36 : decode cX0_goes 36 = .ok (.iconst 1, 1) := dk_4 (dk_at dksX0_goes_1 12 rfl rfl)
theorem dX0_goes_37 : decode cX0_goes 37 = .ok (.goto 4, 3) := dk_167 0 4 (dk_at dksX0_goes_1 13 rfl rfl)
theorem dX0_goes_40 : decode cX0_goes 40 = .ok (.iconst 0, 1) := dk_3 (dk_at dksX0_goes_1 16 rfl rfl)
theorem dX0_goes_41 : decode cX0_goes 41 = .ok (.istore 4, 2) := dk_54 4 (dk_at dksX0_goes_1 17 rfl rfl)
theorem dX0_goes_43 : decode cX0_goes 43 = .ok (.aload_n 0, 1) := dk_42 (dk_at dksX0_goes_1 19 rfl rfl)
theorem dX0_goes_44 : decode cX0_goes 44 = .ok (.iload 4, 2) := dk_21 4 (dk_at dksX0_goes_1 20 rfl rfl)
theorem dX0_goes_46 : decode cX0_goes 46 = .ok (.ifCond .ne 16, 3) := dk_154 0 16 (dk_at dksX0_goes_2 0 rfl rfl)
theorem dX0_goes_49 : decode cX0_goes 49 = .ok (.aload_n 0, 1) := dk_42 (dk_at dksX0_goes_2 3 rfl rfl)
theorem dX0_goes_50 : decode cX0_goes 50 = .ok (.getfield 64, 3) := dk_180 0 64 (dk_at dksX0_goes_2 4 rfl rfl)
theorem dX0_goes_53 : decode cX0_goes 53 = .ok (.bipush (-4), 2) := dk_16 252 (dk_at dksX0_goes_2 7 rfl rfl)
theorem dX0_goes_55 : decode cX0_goes 55 = .ok (.if_icmp .ne 7, 3) := dk_160 0 7 (dk_at dksX0_goes_2 9 rfl rfl)
theorem dX0_goes_58 : decode cX0_goes 58 = .ok (.iload_n 3, 1) := dk_29 (dk_at dksX0_goes_2 12 rfl rfl)
theorem dX0_goes_59 : decode cX0_goes 59 = .ok (.goto 7, 3) := dk_167 0 7 (dk_at dksX0_goes_2 13 rfl rfl)
theorem dX0_goes_62 : decode cX0_goes 62 = .ok (.aload_n 0, 1) := dk_42 (dk_at dksX0_goes_2 16 rfl rfl)
theorem dX0_goes_63 : decode cX0_goes 63 = .ok (.getfield 64, 3) := dk_180 0 64 (dk_at dksX0_goes_2 17 rfl rfl)
theorem dX0_goes_66 : decode cX0_goes 66 = .ok (.putfield 64, 3) := dk_181 0 64 (dk_at dksX0_goes_2 20 rfl rfl)
theorem dX0_goes_69 : decode cX0_goes 69 = .ok (.iinc 3 1, 3) := dk_132 3 1 (dk_at dksX0_goes_3 0 rfl rfl)
theorem dX0_goes_72 : decode cX0_goes 72 = .ok (.goto (-66), 3) := dk_167 255 190 (dk_at dksX0_goes_3 3 rfl rfl)
theorem dX0_goes_75 : decode cX0_goes 75 = .ok (.return_, 1) := dk_177 (dk_at dksX0_goes_3 6 rfl rfl)
abbrev cX0_begins : ByteArray := prog_1_method_6_code
def yX0_begins : MethodName := ⟨RX0, "begins", "()V"⟩
def dkwX0_begins_0 : List UInt8 := [42, 3, 181, 0, 58, 42, 3, 181, 0, 61, 42, 16, 252, 181, 0, 64, 177]
abbrev dktX0_begins_0 : List UInt8 := dkwX0_begins_0 ++ []
theorem dksX0_begins_0 : cX0_begins.data.toList.drop 0 = dktX0_begins_0 := by decide +kernel
theorem dX0_begins_0 : decode cX0_begins 0 = .ok (.aload_n 0, 1) := dk_42 (dk_at dksX0_begins_0 0 rfl rfl)
theorem dX0_begins_1 : decode cX0_begins 1 = .ok (.iconst 0, 1) := dk_3 (dk_at dksX0_begins_0 1 rfl rfl)
theorem dX0_begins_2 : decode cX0_begins 2 = .ok (.putfield 58, 3) := dk_181 0 58 (dk_at dksX0_begins_0 2 rfl rfl)
theorem dX0_begins_5 : decode cX0_begins 5 = .ok (.aload_n 0, 1) := dk_42 (dk_at dksX0_begins_0 5 rfl rfl)
theorem dX0_begins_6 : decode cX0_begins 6 = .ok (.iconst 0, 1) := dk_3 (dk_at dksX0_begins_0 6 rfl rfl)
theorem dX0_begins_7 : decode cX0_begins 7 = .ok (.putfield 61, 3) := dk_181 0 61 (dk_at dksX0_begins_0 7 rfl rfl)
theorem dX0_begins_10 : decode cX0_begins 10 = .ok (.aload_n 0, 1) := dk_42 (dk_at dksX0_begins_0 10 rfl rfl)
theorem dX0_begins_11 : decode cX0_begins 11 = .ok (.bipush (-4), 2) := dk_16 252 (dk_at dksX0_begins_0 11 rfl rfl)
theorem dX0_begins_13 : decode cX0_begins 13 = .ok (.putfield 64, 3) := dk_181 0 64 (dk_at dksX0_begins_0 13 rfl rfl)
theorem dX0_begins_16 : decode cX0_begins 16 = .ok (.return_, 1) := dk_177 (dk_at dksX0_begins_0 16 rfl rfl)
abbrev cX0_acts : ByteArray := prog_1_method_7_code
def yX0_acts : MethodName := ⟨RX0, "acts", "(LTearsQueue$Stop;I)Z"⟩
def dkwX0_acts_2 : List UInt8 := [180, 0, 58, 29, 128, 181, 0, 58, 42, 89, 180, 0, 61, 29, 184, 0, 77, 96, 181, 0, 61, 4, 172]
abbrev dktX0_acts_2 : List UInt8 := dkwX0_acts_2 ++ []
def dkwX0_acts_1 : List UInt8 := [167, 0, 43, 43, 28, 182, 0, 23, 154, 0, 5, 3, 172, 42, 43, 28, 182, 0, 74, 62, 42, 89]
abbrev dktX0_acts_1 : List UInt8 := dkwX0_acts_1 ++ dktX0_acts_2
def dkwX0_acts_0 : List UInt8 := [28, 8, 160, 0, 10, 43, 182, 0, 67, 167, 0, 57, 28, 16, 6, 160, 0, 11, 43, 182, 0, 71, 87]
abbrev dktX0_acts_0 : List UInt8 := dkwX0_acts_0 ++ dktX0_acts_1
theorem dksX0_acts_0 : cX0_acts.data.toList.drop 0 = dktX0_acts_0 := by decide +kernel
theorem dksX0_acts_1 : cX0_acts.data.toList.drop 23 = dktX0_acts_1 := dk_seg dksX0_acts_0 23 rfl rfl
theorem dksX0_acts_2 : cX0_acts.data.toList.drop 45 = dktX0_acts_2 := dk_seg dksX0_acts_1 22 rfl rfl
theorem dX0_acts_0 : decode cX0_acts 0 = .ok (.iload_n 2, 1) := dk_28 (dk_at dksX0_acts_0 0 rfl rfl)
theorem dX0_acts_1 : decode cX0_acts 1 = .ok (.iconst 5, 1) := dk_8 (dk_at dksX0_acts_0 1 rfl rfl)
theorem dX0_acts_2 : decode cX0_acts 2 = .ok (.if_icmp .ne 10, 3) := dk_160 0 10 (dk_at dksX0_acts_0 2 rfl rfl)
theorem dX0_acts_5 : decode cX0_acts 5 = .ok (.aload_n 1, 1) := dk_43 (dk_at dksX0_acts_0 5 rfl rfl)
theorem dX0_acts_6 : decode cX0_acts 6 = .ok (.invokevirtual 67, 3) := dk_182 0 67 (dk_at dksX0_acts_0 6 rfl rfl)
theorem dX0_acts_9 : decode cX0_acts 9 = .ok (.goto 57, 3) := dk_167 0 57 (dk_at dksX0_acts_0 9 rfl rfl)
theorem dX0_acts_12 : decode cX0_acts 12 = .ok (.iload_n 2, 1) := dk_28 (dk_at dksX0_acts_0 12 rfl rfl)
theorem dX0_acts_13 : decode cX0_acts 13 = .ok (.bipush 6, 2) := dk_16 6 (dk_at dksX0_acts_0 13 rfl rfl)
theorem dX0_acts_15 : decode cX0_acts 15 = .ok (.if_icmp .ne 11, 3) := dk_160 0 11 (dk_at dksX0_acts_0 15 rfl rfl)
theorem dX0_acts_18 : decode cX0_acts 18 = .ok (.aload_n 1, 1) := dk_43 (dk_at dksX0_acts_0 18 rfl rfl)
theorem dX0_acts_19 : decode cX0_acts 19 = .ok (.invokevirtual 71, 3) := dk_182 0 71 (dk_at dksX0_acts_0 19 rfl rfl)
theorem dX0_acts_22 : decode cX0_acts 22 = .ok (.pop, 1) := dk_87 (dk_at dksX0_acts_0 22 rfl rfl)
theorem dX0_acts_23 : decode cX0_acts 23 = .ok (.goto 43, 3) := dk_167 0 43 (dk_at dksX0_acts_1 0 rfl rfl)
theorem dX0_acts_26 : decode cX0_acts 26 = .ok (.aload_n 1, 1) := dk_43 (dk_at dksX0_acts_1 3 rfl rfl)
theorem dX0_acts_27 : decode cX0_acts 27 = .ok (.iload_n 2, 1) := dk_28 (dk_at dksX0_acts_1 4 rfl rfl)
theorem dX0_acts_28 : decode cX0_acts 28 = .ok (.invokevirtual 23, 3) := dk_182 0 23 (dk_at dksX0_acts_1 5 rfl rfl)
theorem dX0_acts_31 : decode cX0_acts 31 = .ok (.ifCond .ne 5, 3) := dk_154 0 5 (dk_at dksX0_acts_1 8 rfl rfl)
theorem dX0_acts_34 : decode cX0_acts 34 = .ok (.iconst 0, 1) := dk_3 (dk_at dksX0_acts_1 11 rfl rfl)
theorem dX0_acts_35 : decode cX0_acts 35 = .ok (.ireturn, 1) := dk_172 (dk_at dksX0_acts_1 12 rfl rfl)
theorem dX0_acts_36 : decode cX0_acts 36 = .ok (.aload_n 0, 1) := dk_42 (dk_at dksX0_acts_1 13 rfl rfl)
theorem dX0_acts_37 : decode cX0_acts 37 = .ok (.aload_n 1, 1) := dk_43 (dk_at dksX0_acts_1 14 rfl rfl)
theorem dX0_acts_38 : decode cX0_acts 38 = .ok (.iload_n 2, 1) := dk_28 (dk_at dksX0_acts_1 15 rfl rfl)
theorem dX0_acts_39 : decode cX0_acts 39 = .ok (.invokevirtual 74, 3) := dk_182 0 74 (dk_at dksX0_acts_1 16 rfl rfl)
theorem dX0_acts_42 : decode cX0_acts 42 = .ok (.istore_n 3, 1) := dk_62 (dk_at dksX0_acts_1 19 rfl rfl)
theorem dX0_acts_43 : decode cX0_acts 43 = .ok (.aload_n 0, 1) := dk_42 (dk_at dksX0_acts_1 20 rfl rfl)
theorem dX0_acts_44 : decode cX0_acts 44 = .ok (.dup, 1) := dk_89 (dk_at dksX0_acts_1 21 rfl rfl)
theorem dX0_acts_45 : decode cX0_acts 45 = .ok (.getfield 58, 3) := dk_180 0 58 (dk_at dksX0_acts_2 0 rfl rfl)
theorem dX0_acts_48 : decode cX0_acts 48 = .ok (.iload_n 3, 1) := dk_29 (dk_at dksX0_acts_2 3 rfl rfl)
theorem dX0_acts_49 : decode cX0_acts 49 = .ok (.ior, 1) := dk_128 (dk_at dksX0_acts_2 4 rfl rfl)
theorem dX0_acts_50 : decode cX0_acts 50 = .ok (.putfield 58, 3) := dk_181 0 58 (dk_at dksX0_acts_2 5 rfl rfl)
theorem dX0_acts_53 : decode cX0_acts 53 = .ok (.aload_n 0, 1) := dk_42 (dk_at dksX0_acts_2 8 rfl rfl)
theorem dX0_acts_54 : decode cX0_acts 54 = .ok (.dup, 1) := dk_89 (dk_at dksX0_acts_2 9 rfl rfl)
theorem dX0_acts_55 : decode cX0_acts 55 = .ok (.getfield 61, 3) := dk_180 0 61 (dk_at dksX0_acts_2 10 rfl rfl)
theorem dX0_acts_58 : decode cX0_acts 58 = .ok (.iload_n 3, 1) := dk_29 (dk_at dksX0_acts_2 13 rfl rfl)
theorem dX0_acts_59 : decode cX0_acts 59 = .ok (.invokestatic 77, 3) := dk_184 0 77 (dk_at dksX0_acts_2 14 rfl rfl)
theorem dX0_acts_62 : decode cX0_acts 62 = .ok (.iadd, 1) := dk_96 (dk_at dksX0_acts_2 17 rfl rfl)
theorem dX0_acts_63 : decode cX0_acts 63 = .ok (.putfield 61, 3) := dk_181 0 61 (dk_at dksX0_acts_2 18 rfl rfl)
theorem dX0_acts_66 : decode cX0_acts 66 = .ok (.iconst 1, 1) := dk_4 (dk_at dksX0_acts_2 21 rfl rfl)
theorem dX0_acts_67 : decode cX0_acts 67 = .ok (.ireturn, 1) := dk_172 (dk_at dksX0_acts_2 22 rfl rfl)
abbrev cX0_ahead : ByteArray := prog_1_method_33_code
def yX0_ahead : MethodName := ⟨RX0, "ahead", "(II)I"⟩
def dkwX0_ahead_2 : List UInt8 := [4, 182, 0, 7, 167, 0, 12, 42, 180, 0, 117, 180, 0, 44, 27, 53, 172]
abbrev dktX0_ahead_2 : List UInt8 := dkwX0_ahead_2 ++ []
def dkwX0_ahead_1 : List UInt8 := [180, 0, 113, 182, 0, 163, 42, 42, 180, 0, 117, 3, 182, 0, 222, 28, 154, 0, 15, 42, 180, 0, 117, 27]
abbrev dktX0_ahead_1 : List UInt8 := dkwX0_ahead_1 ++ dktX0_ahead_2
def dkwX0_ahead_0 : List UInt8 := [42, 27, 182, 0, 192, 153, 0, 10, 28, 184, 0, 203, 154, 0, 5, 2, 172, 42, 180, 0, 117, 42]
abbrev dktX0_ahead_0 : List UInt8 := dkwX0_ahead_0 ++ dktX0_ahead_1
theorem dksX0_ahead_0 : cX0_ahead.data.toList.drop 0 = dktX0_ahead_0 := by decide +kernel
theorem dksX0_ahead_1 : cX0_ahead.data.toList.drop 22 = dktX0_ahead_1 := dk_seg dksX0_ahead_0 22 rfl rfl
theorem dksX0_ahead_2 : cX0_ahead.data.toList.drop 46 = dktX0_ahead_2 := dk_seg dksX0_ahead_1 24 rfl rfl
theorem dX0_ahead_0 : decode cX0_ahead 0 = .ok (.aload_n 0, 1) := dk_42 (dk_at dksX0_ahead_0 0 rfl rfl)
theorem dX0_ahead_1 : decode cX0_ahead 1 = .ok (.iload_n 1, 1) := dk_27 (dk_at dksX0_ahead_0 1 rfl rfl)
theorem dX0_ahead_2 : decode cX0_ahead 2 = .ok (.invokevirtual 192, 3) := dk_182 0 192 (dk_at dksX0_ahead_0 2 rfl rfl)
theorem dX0_ahead_5 : decode cX0_ahead 5 = .ok (.ifCond .eq 10, 3) := dk_153 0 10 (dk_at dksX0_ahead_0 5 rfl rfl)
theorem dX0_ahead_8 : decode cX0_ahead 8 = .ok (.iload_n 2, 1) := dk_28 (dk_at dksX0_ahead_0 8 rfl rfl)
theorem dX0_ahead_9 : decode cX0_ahead 9 = .ok (.invokestatic 203, 3) := dk_184 0 203 (dk_at dksX0_ahead_0 9 rfl rfl)
theorem dX0_ahead_12 : decode cX0_ahead 12 = .ok (.ifCond .ne 5, 3) := dk_154 0 5 (dk_at dksX0_ahead_0 12 rfl rfl)
theorem dX0_ahead_15 : decode cX0_ahead 15 = .ok (.iconst (-1), 1) := dk_2 (dk_at dksX0_ahead_0 15 rfl rfl)
theorem dX0_ahead_16 : decode cX0_ahead 16 = .ok (.ireturn, 1) := dk_172 (dk_at dksX0_ahead_0 16 rfl rfl)
theorem dX0_ahead_17 : decode cX0_ahead 17 = .ok (.aload_n 0, 1) := dk_42 (dk_at dksX0_ahead_0 17 rfl rfl)
theorem dX0_ahead_18 : decode cX0_ahead 18 = .ok (.getfield 117, 3) := dk_180 0 117 (dk_at dksX0_ahead_0 18 rfl rfl)
theorem dX0_ahead_21 : decode cX0_ahead 21 = .ok (.aload_n 0, 1) := dk_42 (dk_at dksX0_ahead_0 21 rfl rfl)
theorem dX0_ahead_22 : decode cX0_ahead 22 = .ok (.getfield 113, 3) := dk_180 0 113 (dk_at dksX0_ahead_1 0 rfl rfl)
theorem dX0_ahead_25 : decode cX0_ahead 25 = .ok (.invokevirtual 163, 3) := dk_182 0 163 (dk_at dksX0_ahead_1 3 rfl rfl)
theorem dX0_ahead_28 : decode cX0_ahead 28 = .ok (.aload_n 0, 1) := dk_42 (dk_at dksX0_ahead_1 6 rfl rfl)
theorem dX0_ahead_29 : decode cX0_ahead 29 = .ok (.aload_n 0, 1) := dk_42 (dk_at dksX0_ahead_1 7 rfl rfl)
theorem dX0_ahead_30 : decode cX0_ahead 30 = .ok (.getfield 117, 3) := dk_180 0 117 (dk_at dksX0_ahead_1 8 rfl rfl)
theorem dX0_ahead_33 : decode cX0_ahead 33 = .ok (.iconst 0, 1) := dk_3 (dk_at dksX0_ahead_1 11 rfl rfl)
theorem dX0_ahead_34 : decode cX0_ahead 34 = .ok (.invokevirtual 222, 3) := dk_182 0 222 (dk_at dksX0_ahead_1 12 rfl rfl)
theorem dX0_ahead_37 : decode cX0_ahead 37 = .ok (.iload_n 2, 1) := dk_28 (dk_at dksX0_ahead_1 15 rfl rfl)
theorem dX0_ahead_38 : decode cX0_ahead 38 = .ok (.ifCond .ne 15, 3) := dk_154 0 15 (dk_at dksX0_ahead_1 16 rfl rfl)
theorem dX0_ahead_41 : decode cX0_ahead 41 = .ok (.aload_n 0, 1) := dk_42 (dk_at dksX0_ahead_1 19 rfl rfl)
theorem dX0_ahead_42 : decode cX0_ahead 42 = .ok (.getfield 117, 3) := dk_180 0 117 (dk_at dksX0_ahead_1 20 rfl rfl)
theorem dX0_ahead_45 : decode cX0_ahead 45 = .ok (.iload_n 1, 1) := dk_27 (dk_at dksX0_ahead_1 23 rfl rfl)
theorem dX0_ahead_46 : decode cX0_ahead 46 = .ok (.iconst 1, 1) := dk_4 (dk_at dksX0_ahead_2 0 rfl rfl)
theorem dX0_ahead_47 : decode cX0_ahead 47 = .ok (.invokevirtual 7, 3) := dk_182 0 7 (dk_at dksX0_ahead_2 1 rfl rfl)
theorem dX0_ahead_50 : decode cX0_ahead 50 = .ok (.goto 12, 3) := dk_167 0 12 (dk_at dksX0_ahead_2 4 rfl rfl)
theorem dX0_ahead_53 : decode cX0_ahead 53 = .ok (.aload_n 0, 1) := dk_42 (dk_at dksX0_ahead_2 7 rfl rfl)
theorem dX0_ahead_54 : decode cX0_ahead 54 = .ok (.getfield 117, 3) := dk_180 0 117 (dk_at dksX0_ahead_2 8 rfl rfl)
theorem dX0_ahead_57 : decode cX0_ahead 57 = .ok (.getfield 44, 3) := dk_180 0 44 (dk_at dksX0_ahead_2 11 rfl rfl)
theorem dX0_ahead_60 : decode cX0_ahead 60 = .ok (.iload_n 1, 1) := dk_27 (dk_at dksX0_ahead_2 14 rfl rfl)
theorem dX0_ahead_61 : decode cX0_ahead 61 = .ok (.saload, 1) := dk_53 (dk_at dksX0_ahead_2 15 rfl rfl)
theorem dX0_ahead_62 : decode cX0_ahead 62 = .ok (.ireturn, 1) := dk_172 (dk_at dksX0_ahead_2 16 rfl rfl)
abbrev cX0_soon : ByteArray := prog_1_method_34_code
def yX0_soon : MethodName := ⟨RX0, "soon", "(I)I"⟩
def dkwX0_soon_3 : List UInt8 := [132, 2, 1, 167, 255, 206, 16, 252, 172]
abbrev dktX0_soon_3 : List UInt8 := dkwX0_soon_3 ++ []
def dkwX0_soon_2 : List UInt8 := [182, 0, 186, 182, 0, 200, 27, 160, 0, 5, 28, 172, 42, 42, 180, 0, 117, 27, 182, 0, 74, 87]
abbrev dktX0_soon_2 : List UInt8 := dkwX0_soon_2 ++ dktX0_soon_3
def dkwX0_soon_1 : List UInt8 := [16, 9, 163, 0, 50, 42, 180, 0, 117, 27, 182, 0, 23, 153, 0, 39, 42, 180, 0, 117, 42, 180, 0, 117]
abbrev dktX0_soon_1 : List UInt8 := dkwX0_soon_1 ++ dktX0_soon_2
def dkwX0_soon_0 : List UInt8 := [42, 27, 182, 0, 192, 154, 0, 5, 2, 172, 42, 180, 0, 117, 42, 180, 0, 113, 182, 0, 163, 3, 61, 28]
abbrev dktX0_soon_0 : List UInt8 := dkwX0_soon_0 ++ dktX0_soon_1
theorem dksX0_soon_0 : cX0_soon.data.toList.drop 0 = dktX0_soon_0 := by decide +kernel
theorem dksX0_soon_1 : cX0_soon.data.toList.drop 24 = dktX0_soon_1 := dk_seg dksX0_soon_0 24 rfl rfl
theorem dksX0_soon_2 : cX0_soon.data.toList.drop 48 = dktX0_soon_2 := dk_seg dksX0_soon_1 24 rfl rfl
theorem dksX0_soon_3 : cX0_soon.data.toList.drop 70 = dktX0_soon_3 := dk_seg dksX0_soon_2 22 rfl rfl
theorem dX0_soon_0 : decode cX0_soon 0 = .ok (.aload_n 0, 1) := dk_42 (dk_at dksX0_soon_0 0 rfl rfl)
theorem dX0_soon_1 : decode cX0_soon 1 = .ok (.iload_n 1, 1) := dk_27 (dk_at dksX0_soon_0 1 rfl rfl)
theorem dX0_soon_2 : decode cX0_soon 2 = .ok (.invokevirtual 192, 3) := dk_182 0 192 (dk_at dksX0_soon_0 2 rfl rfl)
theorem dX0_soon_5 : decode cX0_soon 5 = .ok (.ifCond .ne 5, 3) := dk_154 0 5 (dk_at dksX0_soon_0 5 rfl rfl)
theorem dX0_soon_8 : decode cX0_soon 8 = .ok (.iconst (-1), 1) := dk_2 (dk_at dksX0_soon_0 8 rfl rfl)
theorem dX0_soon_9 : decode cX0_soon 9 = .ok (.ireturn, 1) := dk_172 (dk_at dksX0_soon_0 9 rfl rfl)
theorem dX0_soon_10 : decode cX0_soon 10 = .ok (.aload_n 0, 1) := dk_42 (dk_at dksX0_soon_0 10 rfl rfl)
theorem dX0_soon_11 : decode cX0_soon 11 = .ok (.getfield 117, 3) := dk_180 0 117 (dk_at dksX0_soon_0 11 rfl rfl)
theorem dX0_soon_14 : decode cX0_soon 14 = .ok (.aload_n 0, 1) := dk_42 (dk_at dksX0_soon_0 14 rfl rfl)
theorem dX0_soon_15 : decode cX0_soon 15 = .ok (.getfield 113, 3) := dk_180 0 113 (dk_at dksX0_soon_0 15 rfl rfl)
theorem dX0_soon_18 : decode cX0_soon 18 = .ok (.invokevirtual 163, 3) := dk_182 0 163 (dk_at dksX0_soon_0 18 rfl rfl)
theorem dX0_soon_21 : decode cX0_soon 21 = .ok (.iconst 0, 1) := dk_3 (dk_at dksX0_soon_0 21 rfl rfl)
theorem dX0_soon_22 : decode cX0_soon 22 = .ok (.istore_n 2, 1) := dk_61 (dk_at dksX0_soon_0 22 rfl rfl)
theorem dX0_soon_23 : decode cX0_soon 23 = .ok (.iload_n 2, 1) := dk_28 (dk_at dksX0_soon_0 23 rfl rfl)
theorem dX0_soon_24 : decode cX0_soon 24 = .ok (.bipush 9, 2) := dk_16 9 (dk_at dksX0_soon_1 0 rfl rfl)
theorem dX0_soon_26 : decode cX0_soon 26 = .ok (.if_icmp .gt 50, 3) := dk_163 0 50 (dk_at dksX0_soon_1 2 rfl rfl)
theorem dX0_soon_29 : decode cX0_soon 29 = .ok (.aload_n 0, 1) := dk_42 (dk_at dksX0_soon_1 5 rfl rfl)
theorem dX0_soon_30 : decode cX0_soon 30 = .ok (.getfield 117, 3) := dk_180 0 117 (dk_at dksX0_soon_1 6 rfl rfl)
theorem dX0_soon_33 : decode cX0_soon 33 = .ok (.iload_n 1, 1) := dk_27 (dk_at dksX0_soon_1 9 rfl rfl)
theorem dX0_soon_34 : decode cX0_soon 34 = .ok (.invokevirtual 23, 3) := dk_182 0 23 (dk_at dksX0_soon_1 10 rfl rfl)
theorem dX0_soon_37 : decode cX0_soon 37 = .ok (.ifCond .eq 39, 3) := dk_153 0 39 (dk_at dksX0_soon_1 13 rfl rfl)
theorem dX0_soon_40 : decode cX0_soon 40 = .ok (.aload_n 0, 1) := dk_42 (dk_at dksX0_soon_1 16 rfl rfl)
theorem dX0_soon_41 : decode cX0_soon 41 = .ok (.getfield 117, 3) := dk_180 0 117 (dk_at dksX0_soon_1 17 rfl rfl)
theorem dX0_soon_44 : decode cX0_soon 44 = .ok (.aload_n 0, 1) := dk_42 (dk_at dksX0_soon_1 20 rfl rfl)
theorem dX0_soon_45 : decode cX0_soon 45 = .ok (.getfield 117, 3) := dk_180 0 117 (dk_at dksX0_soon_1 21 rfl rfl)
theorem dX0_soon_48 : decode cX0_soon 48 = .ok (.invokevirtual 186, 3) := dk_182 0 186 (dk_at dksX0_soon_2 0 rfl rfl)
theorem dX0_soon_51 : decode cX0_soon 51 = .ok (.invokevirtual 200, 3) := dk_182 0 200 (dk_at dksX0_soon_2 3 rfl rfl)
theorem dX0_soon_54 : decode cX0_soon 54 = .ok (.iload_n 1, 1) := dk_27 (dk_at dksX0_soon_2 6 rfl rfl)
theorem dX0_soon_55 : decode cX0_soon 55 = .ok (.if_icmp .ne 5, 3) := dk_160 0 5 (dk_at dksX0_soon_2 7 rfl rfl)
theorem dX0_soon_58 : decode cX0_soon 58 = .ok (.iload_n 2, 1) := dk_28 (dk_at dksX0_soon_2 10 rfl rfl)
theorem dX0_soon_59 : decode cX0_soon 59 = .ok (.ireturn, 1) := dk_172 (dk_at dksX0_soon_2 11 rfl rfl)
theorem dX0_soon_60 : decode cX0_soon 60 = .ok (.aload_n 0, 1) := dk_42 (dk_at dksX0_soon_2 12 rfl rfl)
theorem dX0_soon_61 : decode cX0_soon 61 = .ok (.aload_n 0, 1) := dk_42 (dk_at dksX0_soon_2 13 rfl rfl)
theorem dX0_soon_62 : decode cX0_soon 62 = .ok (.getfield 117, 3) := dk_180 0 117 (dk_at dksX0_soon_2 14 rfl rfl)
theorem dX0_soon_65 : decode cX0_soon 65 = .ok (.iload_n 1, 1) := dk_27 (dk_at dksX0_soon_2 17 rfl rfl)
theorem dX0_soon_66 : decode cX0_soon 66 = .ok (.invokevirtual 74, 3) := dk_182 0 74 (dk_at dksX0_soon_2 18 rfl rfl)
theorem dX0_soon_69 : decode cX0_soon 69 = .ok (.pop, 1) := dk_87 (dk_at dksX0_soon_2 21 rfl rfl)
theorem dX0_soon_70 : decode cX0_soon 70 = .ok (.iinc 2 1, 3) := dk_132 2 1 (dk_at dksX0_soon_3 0 rfl rfl)
theorem dX0_soon_73 : decode cX0_soon 73 = .ok (.goto (-50), 3) := dk_167 255 206 (dk_at dksX0_soon_3 3 rfl rfl)
theorem dX0_soon_76 : decode cX0_soon 76 = .ok (.bipush (-4), 2) := dk_16 252 (dk_at dksX0_soon_3 6 rfl rfl)
theorem dX0_soon_78 : decode cX0_soon 78 = .ok (.ireturn, 1) := dk_172 (dk_at dksX0_soon_3 8 rfl rfl)
abbrev cX0_best : ByteArray := prog_1_method_38_code
def yX0_best : MethodName := ⟨RX0, "best", "(II)I"⟩
def dkwX0_best_10 : List UInt8 := [16, 10, 100, 182, 0, 235, 167, 0, 5, 16, 252, 172]
abbrev dktX0_best_10 : List UInt8 := dkwX0_best_10 ++ []
def dkwX0_best_9 : List UInt8 := [29, 167, 0, 34, 28, 4, 160, 0, 8, 21, 4, 167, 0, 24, 28, 16, 10, 100, 27, 162, 0, 14, 42, 28]
abbrev dktX0_best_9 : List UInt8 := dkwX0_best_9 ++ dktX0_best_10
def dkwX0_best_8 : List UInt8 := [167, 0, 4, 29, 62, 132, 7, 1, 167, 255, 109, 42, 21, 5, 27, 21, 6, 182, 0, 232, 28, 154, 0, 7]
abbrev dktX0_best_8 : List UInt8 := dkwX0_best_8 ++ dktX0_best_9
def dkwX0_best_7 : List UInt8 := [21, 9, 153, 0, 10, 42, 180, 0, 61, 167, 0, 5, 21, 4, 54, 4, 21, 9, 153, 0, 8, 21, 8]
abbrev dktX0_best_7 : List UInt8 := dkwX0_best_7 ++ dktX0_best_8
def dkwX0_best_6 : List UInt8 := [164, 0, 7, 4, 167, 0, 4, 3, 54, 9, 21, 9, 153, 0, 8, 21, 7, 167, 0, 5, 21, 5, 54, 5]
abbrev dktX0_best_6 : List UInt8 := dkwX0_best_6 ++ dktX0_best_7
def dkwX0_best_5 : List UInt8 := [184, 0, 77, 54, 8, 21, 8, 29, 163, 0, 18, 21, 8, 29, 160, 0, 16, 42, 180, 0, 61, 21, 4]
abbrev dktX0_best_5 : List UInt8 := dkwX0_best_5 ++ dktX0_best_6
def dkwX0_best_4 : List UInt8 := [42, 180, 0, 117, 42, 21, 8, 182, 0, 235, 182, 0, 93, 87, 132, 8, 1, 167, 255, 232, 42, 180, 0, 58]
abbrev dktX0_best_4 : List UInt8 := dkwX0_best_4 ++ dktX0_best_5
def dkwX0_best_3 : List UInt8 := [180, 0, 117, 42, 180, 0, 113, 182, 0, 163, 42, 182, 0, 83, 3, 54, 8, 21, 8, 27, 162, 0, 24, 42]
abbrev dktX0_best_3 : List UInt8 := dkwX0_best_3 ++ dktX0_best_4
def dkwX0_best_2 : List UInt8 := [3, 54, 7, 21, 7, 21, 6, 27, 184, 0, 229, 162, 0, 142, 42, 21, 7, 27, 21, 6, 182, 0, 232, 42]
abbrev dktX0_best_2 : List UInt8 := dkwX0_best_2 ++ dktX0_best_3
def dkwX0_best_1 : List UInt8 := [154, 0, 5, 2, 172, 2, 62, 2, 54, 4, 3, 54, 5, 42, 180, 0, 113, 180, 0, 19, 4, 96, 54, 6]
abbrev dktX0_best_1 : List UInt8 := dkwX0_best_1 ++ dktX0_best_2
def dkwX0_best_0 : List UInt8 := [27, 133, 9, 20, 0, 195, 184, 0, 142, 153, 0, 18, 28, 184, 0, 203, 154, 0, 13, 28, 7, 184, 0, 226]
abbrev dktX0_best_0 : List UInt8 := dkwX0_best_0 ++ dktX0_best_1
theorem dksX0_best_0 : cX0_best.data.toList.drop 0 = dktX0_best_0 := by decide +kernel
theorem dksX0_best_1 : cX0_best.data.toList.drop 24 = dktX0_best_1 := dk_seg dksX0_best_0 24 rfl rfl
theorem dksX0_best_2 : cX0_best.data.toList.drop 48 = dktX0_best_2 := dk_seg dksX0_best_1 24 rfl rfl
theorem dksX0_best_3 : cX0_best.data.toList.drop 72 = dktX0_best_3 := dk_seg dksX0_best_2 24 rfl rfl
theorem dksX0_best_4 : cX0_best.data.toList.drop 96 = dktX0_best_4 := dk_seg dksX0_best_3 24 rfl rfl
theorem dksX0_best_5 : cX0_best.data.toList.drop 120 = dktX0_best_5 := dk_seg dksX0_best_4 24 rfl rfl
theorem dksX0_best_6 : cX0_best.data.toList.drop 143 = dktX0_best_6 := dk_seg dksX0_best_5 23 rfl rfl
theorem dksX0_best_7 : cX0_best.data.toList.drop 167 = dktX0_best_7 := dk_seg dksX0_best_6 24 rfl rfl
theorem dksX0_best_8 : cX0_best.data.toList.drop 190 = dktX0_best_8 := dk_seg dksX0_best_7 23 rfl rfl
theorem dksX0_best_9 : cX0_best.data.toList.drop 214 = dktX0_best_9 := dk_seg dksX0_best_8 24 rfl rfl
theorem dksX0_best_10 : cX0_best.data.toList.drop 238 = dktX0_best_10 := dk_seg dksX0_best_9 24 rfl rfl
theorem dX0_best_0 : decode cX0_best 0 = .ok (.iload_n 1, 1) := dk_27 (dk_at dksX0_best_0 0 rfl rfl)
theorem dX0_best_1 : decode cX0_best 1 = .ok (.i2l, 1) := dk_133 (dk_at dksX0_best_0 1 rfl rfl)
theorem dX0_best_2 : decode cX0_best 2 = .ok (.lconst 0, 1) := dk_9 (dk_at dksX0_best_0 2 rfl rfl)
theorem dX0_best_3 : decode cX0_best 3 = .ok (.ldc2_w 195, 3) := dk_20 0 195 (dk_at dksX0_best_0 3 rfl rfl)
theorem dX0_best_6 : decode cX0_best 6 = .ok (.invokestatic 142, 3) := dk_184 0 142 (dk_at dksX0_best_0 6 rfl rfl)
theorem dX0_best_9 : decode cX0_best 9 = .ok (.ifCond .eq 18, 3) := dk_153 0 18 (dk_at dksX0_best_0 9 rfl rfl)
theorem dX0_best_12 : decode cX0_best 12 = .ok (.iload_n 2, 1) := dk_28 (dk_at dksX0_best_0 12 rfl rfl)
theorem dX0_best_13 : decode cX0_best 13 = .ok (.invokestatic 203, 3) := dk_184 0 203 (dk_at dksX0_best_0 13 rfl rfl)
theorem dX0_best_16 : decode cX0_best 16 = .ok (.ifCond .ne 13, 3) := dk_154 0 13 (dk_at dksX0_best_0 16 rfl rfl)
theorem dX0_best_19 : decode cX0_best 19 = .ok (.iload_n 2, 1) := dk_28 (dk_at dksX0_best_0 19 rfl rfl)
theorem dX0_best_20 : decode cX0_best 20 = .ok (.iconst 4, 1) := dk_7 (dk_at dksX0_best_0 20 rfl rfl)
theorem dX0_best_21 : decode cX0_best 21 = .ok (.invokestatic 226, 3) := dk_184 0 226 (dk_at dksX0_best_0 21 rfl rfl)
theorem dX0_best_24 : decode cX0_best 24 = .ok (.ifCond .ne 5, 3) := dk_154 0 5 (dk_at dksX0_best_1 0 rfl rfl)
theorem dX0_best_27 : decode cX0_best 27 = .ok (.iconst (-1), 1) := dk_2 (dk_at dksX0_best_1 3 rfl rfl)
theorem dX0_best_28 : decode cX0_best 28 = .ok (.ireturn, 1) := dk_172 (dk_at dksX0_best_1 4 rfl rfl)
theorem dX0_best_29 : decode cX0_best 29 = .ok (.iconst (-1), 1) := dk_2 (dk_at dksX0_best_1 5 rfl rfl)
theorem dX0_best_30 : decode cX0_best 30 = .ok (.istore_n 3, 1) := dk_62 (dk_at dksX0_best_1 6 rfl rfl)
theorem dX0_best_31 : decode cX0_best 31 = .ok (.iconst (-1), 1) := dk_2 (dk_at dksX0_best_1 7 rfl rfl)
theorem dX0_best_32 : decode cX0_best 32 = .ok (.istore 4, 2) := dk_54 4 (dk_at dksX0_best_1 8 rfl rfl)
theorem dX0_best_34 : decode cX0_best 34 = .ok (.iconst 0, 1) := dk_3 (dk_at dksX0_best_1 10 rfl rfl)
theorem dX0_best_35 : decode cX0_best 35 = .ok (.istore 5, 2) := dk_54 5 (dk_at dksX0_best_1 11 rfl rfl)
theorem dX0_best_37 : decode cX0_best 37 = .ok (.aload_n 0, 1) := dk_42 (dk_at dksX0_best_1 13 rfl rfl)
theorem dX0_best_38 : decode cX0_best 38 = .ok (.getfield 113, 3) := dk_180 0 113 (dk_at dksX0_best_1 14 rfl rfl)
theorem dX0_best_41 : decode cX0_best 41 = .ok (.getfield 19, 3) := dk_180 0 19 (dk_at dksX0_best_1 17 rfl rfl)
theorem dX0_best_44 : decode cX0_best 44 = .ok (.iconst 1, 1) := dk_4 (dk_at dksX0_best_1 20 rfl rfl)
theorem dX0_best_45 : decode cX0_best 45 = .ok (.iadd, 1) := dk_96 (dk_at dksX0_best_1 21 rfl rfl)
theorem dX0_best_46 : decode cX0_best 46 = .ok (.istore 6, 2) := dk_54 6 (dk_at dksX0_best_1 22 rfl rfl)
theorem dX0_best_48 : decode cX0_best 48 = .ok (.iconst 0, 1) := dk_3 (dk_at dksX0_best_2 0 rfl rfl)
theorem dX0_best_49 : decode cX0_best 49 = .ok (.istore 7, 2) := dk_54 7 (dk_at dksX0_best_2 1 rfl rfl)
theorem dX0_best_51 : decode cX0_best 51 = .ok (.iload 7, 2) := dk_21 7 (dk_at dksX0_best_2 3 rfl rfl)
theorem dX0_best_53 : decode cX0_best 53 = .ok (.iload 6, 2) := dk_21 6 (dk_at dksX0_best_2 5 rfl rfl)
theorem dX0_best_55 : decode cX0_best 55 = .ok (.iload_n 1, 1) := dk_27 (dk_at dksX0_best_2 7 rfl rfl)
theorem dX0_best_56 : decode cX0_best 56 = .ok (.invokestatic 229, 3) := dk_184 0 229 (dk_at dksX0_best_2 8 rfl rfl)
theorem dX0_best_59 : decode cX0_best 59 = .ok (.if_icmp .ge 142, 3) := dk_162 0 142 (dk_at dksX0_best_2 11 rfl rfl)
theorem dX0_best_62 : decode cX0_best 62 = .ok (.aload_n 0, 1) := dk_42 (dk_at dksX0_best_2 14 rfl rfl)
theorem dX0_best_63 : decode cX0_best 63 = .ok (.iload 7, 2) := dk_21 7 (dk_at dksX0_best_2 15 rfl rfl)
theorem dX0_best_65 : decode cX0_best 65 = .ok (.iload_n 1, 1) := dk_27 (dk_at dksX0_best_2 17 rfl rfl)
theorem dX0_best_66 : decode cX0_best 66 = .ok (.iload 6, 2) := dk_21 6 (dk_at dksX0_best_2 18 rfl rfl)
theorem dX0_best_68 : decode cX0_best 68 = .ok (.invokevirtual 232, 3) := dk_182 0 232 (dk_at dksX0_best_2 20 rfl rfl)
theorem dX0_best_71 : decode cX0_best 71 = .ok (.aload_n 0, 1) := dk_42 (dk_at dksX0_best_2 23 rfl rfl)
theorem dX0_best_72 : decode cX0_best 72 = .ok (.getfield 117, 3) := dk_180 0 117 (dk_at dksX0_best_3 0 rfl rfl)
theorem dX0_best_75 : decode cX0_best 75 = .ok (.aload_n 0, 1) := dk_42 (dk_at dksX0_best_3 3 rfl rfl)
theorem dX0_best_76 : decode cX0_best 76 = .ok (.getfield 113, 3) := dk_180 0 113 (dk_at dksX0_best_3 4 rfl rfl)
theorem dX0_best_79 : decode cX0_best 79 = .ok (.invokevirtual 163, 3) := dk_182 0 163 (dk_at dksX0_best_3 7 rfl rfl)
theorem dX0_best_82 : decode cX0_best 82 = .ok (.aload_n 0, 1) := dk_42 (dk_at dksX0_best_3 10 rfl rfl)
theorem dX0_best_83 : decode cX0_best 83 = .ok (.invokevirtual 83, 3) := dk_182 0 83 (dk_at dksX0_best_3 11 rfl rfl)
theorem dX0_best_86 : decode cX0_best 86 = .ok (.iconst 0, 1) := dk_3 (dk_at dksX0_best_3 14 rfl rfl)
theorem dX0_best_87 : decode cX0_best 87 = .ok (.istore 8, 2) := dk_54 8 (dk_at dksX0_best_3 15 rfl rfl)
theorem dX0_best_89 : decode cX0_best 89 = .ok (.iload 8, 2) := dk_21 8 (dk_at dksX0_best_3 17 rfl rfl)
theorem dX0_best_91 : decode cX0_best 91 = .ok (.iload_n 1, 1) := dk_27 (dk_at dksX0_best_3 19 rfl rfl)
theorem dX0_best_92 : decode cX0_best 92 = .ok (.if_icmp .ge 24, 3) := dk_162 0 24 (dk_at dksX0_best_3 20 rfl rfl)
theorem dX0_best_95 : decode cX0_best 95 = .ok (.aload_n 0, 1) := dk_42 (dk_at dksX0_best_3 23 rfl rfl)
theorem dX0_best_96 : decode cX0_best 96 = .ok (.aload_n 0, 1) := dk_42 (dk_at dksX0_best_4 0 rfl rfl)
theorem dX0_best_97 : decode cX0_best 97 = .ok (.getfield 117, 3) := dk_180 0 117 (dk_at dksX0_best_4 1 rfl rfl)
theorem dX0_best_100 : decode cX0_best 100 = .ok (.aload_n 0, 1) := dk_42 (dk_at dksX0_best_4 4 rfl rfl)
theorem dX0_best_101 : decode cX0_best 101 = .ok (.iload 8, 2) := dk_21 8 (dk_at dksX0_best_4 5 rfl rfl)
theorem dX0_best_103 : decode cX0_best 103 = .ok (.invokevirtual 235, 3) := dk_182 0 235 (dk_at dksX0_best_4 7 rfl rfl)
theorem dX0_best_106 : decode cX0_best 106 = .ok (.invokevirtual 93, 3) := dk_182 0 93 (dk_at dksX0_best_4 10 rfl rfl)
theorem dX0_best_109 : decode cX0_best 109 = .ok (.pop, 1) := dk_87 (dk_at dksX0_best_4 13 rfl rfl)
theorem dX0_best_110 : decode cX0_best 110 = .ok (.iinc 8 1, 3) := dk_132 8 1 (dk_at dksX0_best_4 14 rfl rfl)
theorem dX0_best_113 : decode cX0_best 113 = .ok (.goto (-24), 3) := dk_167 255 232 (dk_at dksX0_best_4 17 rfl rfl)
theorem dX0_best_116 : decode cX0_best 116 = .ok (.aload_n 0, 1) := dk_42 (dk_at dksX0_best_4 20 rfl rfl)
theorem dX0_best_117 : decode cX0_best 117 = .ok (.getfield 58, 3) := dk_180 0 58 (dk_at dksX0_best_4 21 rfl rfl)
theorem dX0_best_120 : decode cX0_best 120 = .ok (.invokestatic 77, 3) := dk_184 0 77 (dk_at dksX0_best_5 0 rfl rfl)
theorem dX0_best_123 : decode cX0_best 123 = .ok (.istore 8, 2) := dk_54 8 (dk_at dksX0_best_5 3 rfl rfl)
theorem dX0_best_125 : decode cX0_best 125 = .ok (.iload 8, 2) := dk_21 8 (dk_at dksX0_best_5 5 rfl rfl)
theorem dX0_best_127 : decode cX0_best 127 = .ok (.iload_n 3, 1) := dk_29 (dk_at dksX0_best_5 7 rfl rfl)
theorem dX0_best_128 : decode cX0_best 128 = .ok (.if_icmp .gt 18, 3) := dk_163 0 18 (dk_at dksX0_best_5 8 rfl rfl)
theorem dX0_best_131 : decode cX0_best 131 = .ok (.iload 8, 2) := dk_21 8 (dk_at dksX0_best_5 11 rfl rfl)
theorem dX0_best_133 : decode cX0_best 133 = .ok (.iload_n 3, 1) := dk_29 (dk_at dksX0_best_5 13 rfl rfl)
theorem dX0_best_134 : decode cX0_best 134 = .ok (.if_icmp .ne 16, 3) := dk_160 0 16 (dk_at dksX0_best_5 14 rfl rfl)
theorem dX0_best_137 : decode cX0_best 137 = .ok (.aload_n 0, 1) := dk_42 (dk_at dksX0_best_5 17 rfl rfl)
theorem dX0_best_138 : decode cX0_best 138 = .ok (.getfield 61, 3) := dk_180 0 61 (dk_at dksX0_best_5 18 rfl rfl)
theorem dX0_best_141 : decode cX0_best 141 = .ok (.iload 4, 2) := dk_21 4 (dk_at dksX0_best_5 21 rfl rfl)
theorem dX0_best_143 : decode cX0_best 143 = .ok (.if_icmp .le 7, 3) := dk_164 0 7 (dk_at dksX0_best_6 0 rfl rfl)
theorem dX0_best_146 : decode cX0_best 146 = .ok (.iconst 1, 1) := dk_4 (dk_at dksX0_best_6 3 rfl rfl)
theorem dX0_best_147 : decode cX0_best 147 = .ok (.goto 4, 3) := dk_167 0 4 (dk_at dksX0_best_6 4 rfl rfl)
theorem dX0_best_150 : decode cX0_best 150 = .ok (.iconst 0, 1) := dk_3 (dk_at dksX0_best_6 7 rfl rfl)
theorem dX0_best_151 : decode cX0_best 151 = .ok (.istore 9, 2) := dk_54 9 (dk_at dksX0_best_6 8 rfl rfl)
theorem dX0_best_153 : decode cX0_best 153 = .ok (.iload 9, 2) := dk_21 9 (dk_at dksX0_best_6 10 rfl rfl)
theorem dX0_best_155 : decode cX0_best 155 = .ok (.ifCond .eq 8, 3) := dk_153 0 8 (dk_at dksX0_best_6 12 rfl rfl)
theorem dX0_best_158 : decode cX0_best 158 = .ok (.iload 7, 2) := dk_21 7 (dk_at dksX0_best_6 15 rfl rfl)
theorem dX0_best_160 : decode cX0_best 160 = .ok (.goto 5, 3) := dk_167 0 5 (dk_at dksX0_best_6 17 rfl rfl)
theorem dX0_best_163 : decode cX0_best 163 = .ok (.iload 5, 2) := dk_21 5 (dk_at dksX0_best_6 20 rfl rfl)
theorem dX0_best_165 : decode cX0_best 165 = .ok (.istore 5, 2) := dk_54 5 (dk_at dksX0_best_6 22 rfl rfl)
theorem dX0_best_167 : decode cX0_best 167 = .ok (.iload 9, 2) := dk_21 9 (dk_at dksX0_best_7 0 rfl rfl)
theorem dX0_best_169 : decode cX0_best 169 = .ok (.ifCond .eq 10, 3) := dk_153 0 10 (dk_at dksX0_best_7 2 rfl rfl)
theorem dX0_best_172 : decode cX0_best 172 = .ok (.aload_n 0, 1) := dk_42 (dk_at dksX0_best_7 5 rfl rfl)
theorem dX0_best_173 : decode cX0_best 173 = .ok (.getfield 61, 3) := dk_180 0 61 (dk_at dksX0_best_7 6 rfl rfl)
theorem dX0_best_176 : decode cX0_best 176 = .ok (.goto 5, 3) := dk_167 0 5 (dk_at dksX0_best_7 9 rfl rfl)
theorem dX0_best_179 : decode cX0_best 179 = .ok (.iload 4, 2) := dk_21 4 (dk_at dksX0_best_7 12 rfl rfl)
theorem dX0_best_181 : decode cX0_best 181 = .ok (.istore 4, 2) := dk_54 4 (dk_at dksX0_best_7 14 rfl rfl)
theorem dX0_best_183 : decode cX0_best 183 = .ok (.iload 9, 2) := dk_21 9 (dk_at dksX0_best_7 16 rfl rfl)
theorem dX0_best_185 : decode cX0_best 185 = .ok (.ifCond .eq 8, 3) := dk_153 0 8 (dk_at dksX0_best_7 18 rfl rfl)
theorem dX0_best_188 : decode cX0_best 188 = .ok (.iload 8, 2) := dk_21 8 (dk_at dksX0_best_7 21 rfl rfl)
theorem dX0_best_190 : decode cX0_best 190 = .ok (.goto 4, 3) := dk_167 0 4 (dk_at dksX0_best_8 0 rfl rfl)
theorem dX0_best_193 : decode cX0_best 193 = .ok (.iload_n 3, 1) := dk_29 (dk_at dksX0_best_8 3 rfl rfl)
theorem dX0_best_194 : decode cX0_best 194 = .ok (.istore_n 3, 1) := dk_62 (dk_at dksX0_best_8 4 rfl rfl)
theorem dX0_best_195 : decode cX0_best 195 = .ok (.iinc 7 1, 3) := dk_132 7 1 (dk_at dksX0_best_8 5 rfl rfl)
theorem dX0_best_198 : decode cX0_best 198 = .ok (.goto (-147), 3) := dk_167 255 109 (dk_at dksX0_best_8 8 rfl rfl)
theorem dX0_best_201 : decode cX0_best 201 = .ok (.aload_n 0, 1) := dk_42 (dk_at dksX0_best_8 11 rfl rfl)
theorem dX0_best_202 : decode cX0_best 202 = .ok (.iload 5, 2) := dk_21 5 (dk_at dksX0_best_8 12 rfl rfl)
theorem dX0_best_204 : decode cX0_best 204 = .ok (.iload_n 1, 1) := dk_27 (dk_at dksX0_best_8 14 rfl rfl)
theorem dX0_best_205 : decode cX0_best 205 = .ok (.iload 6, 2) := dk_21 6 (dk_at dksX0_best_8 15 rfl rfl)
theorem dX0_best_207 : decode cX0_best 207 = .ok (.invokevirtual 232, 3) := dk_182 0 232 (dk_at dksX0_best_8 17 rfl rfl)
theorem dX0_best_210 : decode cX0_best 210 = .ok (.iload_n 2, 1) := dk_28 (dk_at dksX0_best_8 20 rfl rfl)
theorem dX0_best_211 : decode cX0_best 211 = .ok (.ifCond .ne 7, 3) := dk_154 0 7 (dk_at dksX0_best_8 21 rfl rfl)
theorem dX0_best_214 : decode cX0_best 214 = .ok (.iload_n 3, 1) := dk_29 (dk_at dksX0_best_9 0 rfl rfl)
theorem dX0_best_215 : decode cX0_best 215 = .ok (.goto 34, 3) := dk_167 0 34 (dk_at dksX0_best_9 1 rfl rfl)
theorem dX0_best_218 : decode cX0_best 218 = .ok (.iload_n 2, 1) := dk_28 (dk_at dksX0_best_9 4 rfl rfl)
theorem dX0_best_219 : decode cX0_best 219 = .ok (.iconst 1, 1) := dk_4 (dk_at dksX0_best_9 5 rfl rfl)
theorem dX0_best_220 : decode cX0_best 220 = .ok (.if_icmp .ne 8, 3) := dk_160 0 8 (dk_at dksX0_best_9 6 rfl rfl)
theorem dX0_best_223 : decode cX0_best 223 = .ok (.iload 4, 2) := dk_21 4 (dk_at dksX0_best_9 9 rfl rfl)
theorem dX0_best_225 : decode cX0_best 225 = .ok (.goto 24, 3) := dk_167 0 24 (dk_at dksX0_best_9 11 rfl rfl)
theorem dX0_best_228 : decode cX0_best 228 = .ok (.iload_n 2, 1) := dk_28 (dk_at dksX0_best_9 14 rfl rfl)
theorem dX0_best_229 : decode cX0_best 229 = .ok (.bipush 10, 2) := dk_16 10 (dk_at dksX0_best_9 15 rfl rfl)
theorem dX0_best_231 : decode cX0_best 231 = .ok (.isub, 1) := dk_100 (dk_at dksX0_best_9 17 rfl rfl)
theorem dX0_best_232 : decode cX0_best 232 = .ok (.iload_n 1, 1) := dk_27 (dk_at dksX0_best_9 18 rfl rfl)
theorem dX0_best_233 : decode cX0_best 233 = .ok (.if_icmp .ge 14, 3) := dk_162 0 14 (dk_at dksX0_best_9 19 rfl rfl)
theorem dX0_best_236 : decode cX0_best 236 = .ok (.aload_n 0, 1) := dk_42 (dk_at dksX0_best_9 22 rfl rfl)
theorem dX0_best_237 : decode cX0_best 237 = .ok (.iload_n 2, 1) := dk_28 (dk_at dksX0_best_9 23 rfl rfl)
theorem dX0_best_238 : decode cX0_best 238 = .ok (.bipush 10, 2) := dk_16 10 (dk_at dksX0_best_10 0 rfl rfl)
theorem dX0_best_240 : decode cX0_best 240 = .ok (.isub, 1) := dk_100 (dk_at dksX0_best_10 2 rfl rfl)
theorem dX0_best_241 : decode cX0_best 241 = .ok (.invokevirtual 235, 3) := dk_182 0 235 (dk_at dksX0_best_10 3 rfl rfl)
theorem dX0_best_244 : decode cX0_best 244 = .ok (.goto 5, 3) := dk_167 0 5 (dk_at dksX0_best_10 6 rfl rfl)
theorem dX0_best_247 : decode cX0_best 247 = .ok (.bipush (-4), 2) := dk_16 252 (dk_at dksX0_best_10 9 rfl rfl)
theorem dX0_best_249 : decode cX0_best 249 = .ok (.ireturn, 1) := dk_172 (dk_at dksX0_best_10 11 rfl rfl)
abbrev cX0_isRowPart : ByteArray := prog_1_method_16_code
def yX0_isRowPart : MethodName := ⟨RX0, "isRowPart", "(II)Z"⟩
def dkwX0_isRowPart_0 : List UInt8 := [26, 133, 20, 0, 181, 16, 10, 27, 96, 4, 100, 133, 184, 0, 142, 172]
abbrev dktX0_isRowPart_0 : List UInt8 := dkwX0_isRowPart_0 ++ []
theorem dksX0_isRowPart_0 : cX0_isRowPart.data.toList.drop 0 = dktX0_isRowPart_0 := by decide +kernel
theorem dX0_isRowPart_0 : decode cX0_isRowPart 0 = .ok (.iload_n 0, 1) := dk_26 (dk_at dksX0_isRowPart_0 0 rfl rfl)
theorem dX0_isRowPart_1 : decode cX0_isRowPart 1 = .ok (.i2l, 1) := dk_133 (dk_at dksX0_isRowPart_0 1 rfl rfl)
theorem dX0_isRowPart_2 : decode cX0_isRowPart 2 = .ok (.ldc2_w 181, 3) := dk_20 0 181 (dk_at dksX0_isRowPart_0 2 rfl rfl)
theorem dX0_isRowPart_5 : decode cX0_isRowPart 5 = .ok (.bipush 10, 2) := dk_16 10 (dk_at dksX0_isRowPart_0 5 rfl rfl)
theorem dX0_isRowPart_7 : decode cX0_isRowPart 7 = .ok (.iload_n 1, 1) := dk_27 (dk_at dksX0_isRowPart_0 7 rfl rfl)
theorem dX0_isRowPart_8 : decode cX0_isRowPart 8 = .ok (.iadd, 1) := dk_96 (dk_at dksX0_isRowPart_0 8 rfl rfl)
theorem dX0_isRowPart_9 : decode cX0_isRowPart 9 = .ok (.iconst 1, 1) := dk_4 (dk_at dksX0_isRowPart_0 9 rfl rfl)
theorem dX0_isRowPart_10 : decode cX0_isRowPart 10 = .ok (.isub, 1) := dk_100 (dk_at dksX0_isRowPart_0 10 rfl rfl)
theorem dX0_isRowPart_11 : decode cX0_isRowPart 11 = .ok (.i2l, 1) := dk_133 (dk_at dksX0_isRowPart_0 11 rfl rfl)
theorem dX0_isRowPart_12 : decode cX0_isRowPart 12 = .ok (.invokestatic 142, 3) := dk_184 0 142 (dk_at dksX0_isRowPart_0 12 rfl rfl)
theorem dX0_isRowPart_15 : decode cX0_isRowPart 15 = .ok (.ireturn, 1) := dk_172 (dk_at dksX0_isRowPart_0 15 rfl rfl)
abbrev cX0_power : ByteArray := prog_1_method_36_code
def yX0_power : MethodName := ⟨RX0, "power", "(II)I"⟩
def dkwX0_power_0 : List UInt8 := [4, 61, 3, 62, 29, 27, 162, 0, 13, 28, 26, 104, 61, 132, 3, 1, 167, 255, 244, 28, 172]
abbrev dktX0_power_0 : List UInt8 := dkwX0_power_0 ++ []
theorem dksX0_power_0 : cX0_power.data.toList.drop 0 = dktX0_power_0 := by decide +kernel
theorem dX0_power_0 : decode cX0_power 0 = .ok (.iconst 1, 1) := dk_4 (dk_at dksX0_power_0 0 rfl rfl)
theorem dX0_power_1 : decode cX0_power 1 = .ok (.istore_n 2, 1) := dk_61 (dk_at dksX0_power_0 1 rfl rfl)
theorem dX0_power_2 : decode cX0_power 2 = .ok (.iconst 0, 1) := dk_3 (dk_at dksX0_power_0 2 rfl rfl)
theorem dX0_power_3 : decode cX0_power 3 = .ok (.istore_n 3, 1) := dk_62 (dk_at dksX0_power_0 3 rfl rfl)
theorem dX0_power_4 : decode cX0_power 4 = .ok (.iload_n 3, 1) := dk_29 (dk_at dksX0_power_0 4 rfl rfl)
theorem dX0_power_5 : decode cX0_power 5 = .ok (.iload_n 1, 1) := dk_27 (dk_at dksX0_power_0 5 rfl rfl)
theorem dX0_power_6 : decode cX0_power 6 = .ok (.if_icmp .ge 13, 3) := dk_162 0 13 (dk_at dksX0_power_0 6 rfl rfl)
theorem dX0_power_9 : decode cX0_power 9 = .ok (.iload_n 2, 1) := dk_28 (dk_at dksX0_power_0 9 rfl rfl)
theorem dX0_power_10 : decode cX0_power 10 = .ok (.iload_n 0, 1) := dk_26 (dk_at dksX0_power_0 10 rfl rfl)
theorem dX0_power_11 : decode cX0_power 11 = .ok (.imul, 1) := dk_104 (dk_at dksX0_power_0 11 rfl rfl)
theorem dX0_power_12 : decode cX0_power 12 = .ok (.istore_n 2, 1) := dk_61 (dk_at dksX0_power_0 12 rfl rfl)
theorem dX0_power_13 : decode cX0_power 13 = .ok (.iinc 3 1, 3) := dk_132 3 1 (dk_at dksX0_power_0 13 rfl rfl)
theorem dX0_power_16 : decode cX0_power 16 = .ok (.goto (-12), 3) := dk_167 255 244 (dk_at dksX0_power_0 16 rfl rfl)
theorem dX0_power_19 : decode cX0_power 19 = .ok (.iload_n 2, 1) := dk_28 (dk_at dksX0_power_0 19 rfl rfl)
theorem dX0_power_20 : decode cX0_power 20 = .ok (.ireturn, 1) := dk_172 (dk_at dksX0_power_0 20 rfl rfl)
abbrev cX0_readRow : ByteArray := prog_1_method_35_code
def yX0_readRow : MethodName := ⟨RX0, "readRow", "(III)V"⟩
def dkwX0_readRow_1 : List UInt8 := [84, 21, 4, 29, 108, 54, 4, 132, 5, 255, 167, 255, 230, 177]
abbrev dktX0_readRow_1 : List UInt8 := dkwX0_readRow_1 ++ []
def dkwX0_readRow_0 : List UInt8 := [27, 54, 4, 28, 4, 100, 54, 5, 21, 5, 155, 0, 27, 42, 180, 0, 130, 21, 5, 21, 4, 29, 112, 145]
abbrev dktX0_readRow_0 : List UInt8 := dkwX0_readRow_0 ++ dktX0_readRow_1
theorem dksX0_readRow_0 : cX0_readRow.data.toList.drop 0 = dktX0_readRow_0 := by decide +kernel
theorem dksX0_readRow_1 : cX0_readRow.data.toList.drop 24 = dktX0_readRow_1 := dk_seg dksX0_readRow_0 24 rfl rfl
theorem dX0_readRow_0 : decode cX0_readRow 0 = .ok (.iload_n 1, 1) := dk_27 (dk_at dksX0_readRow_0 0 rfl rfl)
theorem dX0_readRow_1 : decode cX0_readRow 1 = .ok (.istore 4, 2) := dk_54 4 (dk_at dksX0_readRow_0 1 rfl rfl)
theorem dX0_readRow_3 : decode cX0_readRow 3 = .ok (.iload_n 2, 1) := dk_28 (dk_at dksX0_readRow_0 3 rfl rfl)
theorem dX0_readRow_4 : decode cX0_readRow 4 = .ok (.iconst 1, 1) := dk_4 (dk_at dksX0_readRow_0 4 rfl rfl)
theorem dX0_readRow_5 : decode cX0_readRow 5 = .ok (.isub, 1) := dk_100 (dk_at dksX0_readRow_0 5 rfl rfl)
theorem dX0_readRow_6 : decode cX0_readRow 6 = .ok (.istore 5, 2) := dk_54 5 (dk_at dksX0_readRow_0 6 rfl rfl)
theorem dX0_readRow_8 : decode cX0_readRow 8 = .ok (.iload 5, 2) := dk_21 5 (dk_at dksX0_readRow_0 8 rfl rfl)
theorem dX0_readRow_10 : decode cX0_readRow 10 = .ok (.ifCond .lt 27, 3) := dk_155 0 27 (dk_at dksX0_readRow_0 10 rfl rfl)
theorem dX0_readRow_13 : decode cX0_readRow 13 = .ok (.aload_n 0, 1) := dk_42 (dk_at dksX0_readRow_0 13 rfl rfl)
theorem dX0_readRow_14 : decode cX0_readRow 14 = .ok (.getfield 130, 3) := dk_180 0 130 (dk_at dksX0_readRow_0 14 rfl rfl)
theorem dX0_readRow_17 : decode cX0_readRow 17 = .ok (.iload 5, 2) := dk_21 5 (dk_at dksX0_readRow_0 17 rfl rfl)
theorem dX0_readRow_19 : decode cX0_readRow 19 = .ok (.iload 4, 2) := dk_21 4 (dk_at dksX0_readRow_0 19 rfl rfl)
theorem dX0_readRow_21 : decode cX0_readRow 21 = .ok (.iload_n 3, 1) := dk_29 (dk_at dksX0_readRow_0 21 rfl rfl)
theorem dX0_readRow_22 : decode cX0_readRow 22 = .ok (.irem, 1) := dk_112 (dk_at dksX0_readRow_0 22 rfl rfl)
theorem dX0_readRow_23 : decode cX0_readRow 23 = .ok (.i2b, 1) := dk_145 (dk_at dksX0_readRow_0 23 rfl rfl)
theorem dX0_readRow_24 : decode cX0_readRow 24 = .ok (.bastore, 1) := dk_84 (dk_at dksX0_readRow_1 0 rfl rfl)
theorem dX0_readRow_25 : decode cX0_readRow 25 = .ok (.iload 4, 2) := dk_21 4 (dk_at dksX0_readRow_1 1 rfl rfl)
theorem dX0_readRow_27 : decode cX0_readRow 27 = .ok (.iload_n 3, 1) := dk_29 (dk_at dksX0_readRow_1 3 rfl rfl)
theorem dX0_readRow_28 : decode cX0_readRow 28 = .ok (.idiv, 1) := dk_108 (dk_at dksX0_readRow_1 4 rfl rfl)
theorem dX0_readRow_29 : decode cX0_readRow 29 = .ok (.istore 4, 2) := dk_54 4 (dk_at dksX0_readRow_1 5 rfl rfl)
theorem dX0_readRow_31 : decode cX0_readRow 31 = .ok (.iinc 5 (-1), 3) := dk_132 5 255 (dk_at dksX0_readRow_1 7 rfl rfl)
theorem dX0_readRow_34 : decode cX0_readRow 34 = .ok (.goto (-26), 3) := dk_167 255 230 (dk_at dksX0_readRow_1 10 rfl rfl)
theorem dX0_readRow_37 : decode cX0_readRow 37 = .ok (.return_, 1) := dk_177 (dk_at dksX0_readRow_1 13 rfl rfl)
abbrev cX0_rowAct : ByteArray := prog_1_method_37_code
def yX0_rowAct : MethodName := ⟨RX0, "rowAct", "(I)I"⟩
def dkwX0_rowAct_1 : List UInt8 := [27, 51, 172]
abbrev dktX0_rowAct_1 : List UInt8 := dkwX0_rowAct_1 ++ []
def dkwX0_rowAct_0 : List UInt8 := [42, 180, 0, 130, 27, 51, 42, 180, 0, 113, 180, 0, 19, 160, 0, 7, 8, 167, 0, 9, 42, 180, 0, 130]
abbrev dktX0_rowAct_0 : List UInt8 := dkwX0_rowAct_0 ++ dktX0_rowAct_1
theorem dksX0_rowAct_0 : cX0_rowAct.data.toList.drop 0 = dktX0_rowAct_0 := by decide +kernel
theorem dksX0_rowAct_1 : cX0_rowAct.data.toList.drop 24 = dktX0_rowAct_1 := dk_seg dksX0_rowAct_0 24 rfl rfl
theorem dX0_rowAct_0 : decode cX0_rowAct 0 = .ok (.aload_n 0, 1) := dk_42 (dk_at dksX0_rowAct_0 0 rfl rfl)
theorem dX0_rowAct_1 : decode cX0_rowAct 1 = .ok (.getfield 130, 3) := dk_180 0 130 (dk_at dksX0_rowAct_0 1 rfl rfl)
theorem dX0_rowAct_4 : decode cX0_rowAct 4 = .ok (.iload_n 1, 1) := dk_27 (dk_at dksX0_rowAct_0 4 rfl rfl)
theorem dX0_rowAct_5 : decode cX0_rowAct 5 = .ok (.baload, 1) := dk_51 (dk_at dksX0_rowAct_0 5 rfl rfl)
theorem dX0_rowAct_6 : decode cX0_rowAct 6 = .ok (.aload_n 0, 1) := dk_42 (dk_at dksX0_rowAct_0 6 rfl rfl)
theorem dX0_rowAct_7 : decode cX0_rowAct 7 = .ok (.getfield 113, 3) := dk_180 0 113 (dk_at dksX0_rowAct_0 7 rfl rfl)
theorem dX0_rowAct_10 : decode cX0_rowAct 10 = .ok (.getfield 19, 3) := dk_180 0 19 (dk_at dksX0_rowAct_0 10 rfl rfl)
theorem dX0_rowAct_13 : decode cX0_rowAct 13 = .ok (.if_icmp .ne 7, 3) := dk_160 0 7 (dk_at dksX0_rowAct_0 13 rfl rfl)
theorem dX0_rowAct_16 : decode cX0_rowAct 16 = .ok (.iconst 5, 1) := dk_8 (dk_at dksX0_rowAct_0 16 rfl rfl)
theorem dX0_rowAct_17 : decode cX0_rowAct 17 = .ok (.goto 9, 3) := dk_167 0 9 (dk_at dksX0_rowAct_0 17 rfl rfl)
theorem dX0_rowAct_20 : decode cX0_rowAct 20 = .ok (.aload_n 0, 1) := dk_42 (dk_at dksX0_rowAct_0 20 rfl rfl)
theorem dX0_rowAct_21 : decode cX0_rowAct 21 = .ok (.getfield 130, 3) := dk_180 0 130 (dk_at dksX0_rowAct_0 21 rfl rfl)
theorem dX0_rowAct_24 : decode cX0_rowAct 24 = .ok (.iload_n 1, 1) := dk_27 (dk_at dksX0_rowAct_1 0 rfl rfl)
theorem dX0_rowAct_25 : decode cX0_rowAct 25 = .ok (.baload, 1) := dk_51 (dk_at dksX0_rowAct_1 1 rfl rfl)
theorem dX0_rowAct_26 : decode cX0_rowAct 26 = .ok (.ireturn, 1) := dk_172 (dk_at dksX0_rowAct_1 2 rfl rfl)
abbrev cX0_home : ByteArray := prog_1_method_40_code
def yX0_home : MethodName := ⟨RX0, "home", "(II)I"⟩
def dkwX0_home_5 : List UInt8 := [132, 4, 1, 167, 255, 183, 132, 3, 1, 167, 255, 169, 16, 252, 172]
abbrev dktX0_home_5 : List UInt8 := dkwX0_home_5 ++ []
def dkwX0_home_4 : List UInt8 := [16, 10, 100, 29, 162, 0, 15, 42, 180, 0, 130, 28, 16, 10, 100, 51, 167, 0, 5, 16, 252, 172]
abbrev dktX0_home_4 : List UInt8 := dkwX0_home_4 ++ dktX0_home_5
def dkwX0_home_3 : List UInt8 := [180, 0, 19, 182, 0, 232, 42, 27, 29, 182, 0, 238, 153, 0, 34, 28, 154, 0, 7, 29, 167, 0, 25, 28]
abbrev dktX0_home_3 : List UInt8 := dkwX0_home_3 ++ dktX0_home_4
def dkwX0_home_2 : List UInt8 := [21, 4, 42, 180, 0, 113, 180, 0, 19, 29, 184, 0, 229, 162, 0, 63, 42, 21, 4, 29, 42, 180, 0, 113]
abbrev dktX0_home_2 : List UInt8 := dkwX0_home_2 ++ dktX0_home_3
def dkwX0_home_1 : List UInt8 := [180, 0, 113, 27, 182, 0, 23, 154, 0, 6, 16, 254, 172, 3, 62, 29, 6, 163, 0, 88, 3, 54, 4]
abbrev dktX0_home_1 : List UInt8 := dkwX0_home_1 ++ dktX0_home_2
def dkwX0_home_0 : List UInt8 := [42, 27, 182, 0, 192, 153, 0, 15, 28, 153, 0, 13, 28, 6, 184, 0, 226, 154, 0, 5, 2, 172, 42]
abbrev dktX0_home_0 : List UInt8 := dkwX0_home_0 ++ dktX0_home_1
theorem dksX0_home_0 : cX0_home.data.toList.drop 0 = dktX0_home_0 := by decide +kernel
theorem dksX0_home_1 : cX0_home.data.toList.drop 23 = dktX0_home_1 := dk_seg dksX0_home_0 23 rfl rfl
theorem dksX0_home_2 : cX0_home.data.toList.drop 46 = dktX0_home_2 := dk_seg dksX0_home_1 23 rfl rfl
theorem dksX0_home_3 : cX0_home.data.toList.drop 70 = dktX0_home_3 := dk_seg dksX0_home_2 24 rfl rfl
theorem dksX0_home_4 : cX0_home.data.toList.drop 94 = dktX0_home_4 := dk_seg dksX0_home_3 24 rfl rfl
theorem dksX0_home_5 : cX0_home.data.toList.drop 116 = dktX0_home_5 := dk_seg dksX0_home_4 22 rfl rfl
theorem dX0_home_0 : decode cX0_home 0 = .ok (.aload_n 0, 1) := dk_42 (dk_at dksX0_home_0 0 rfl rfl)
theorem dX0_home_1 : decode cX0_home 1 = .ok (.iload_n 1, 1) := dk_27 (dk_at dksX0_home_0 1 rfl rfl)
theorem dX0_home_2 : decode cX0_home 2 = .ok (.invokevirtual 192, 3) := dk_182 0 192 (dk_at dksX0_home_0 2 rfl rfl)
theorem dX0_home_5 : decode cX0_home 5 = .ok (.ifCond .eq 15, 3) := dk_153 0 15 (dk_at dksX0_home_0 5 rfl rfl)
theorem dX0_home_8 : decode cX0_home 8 = .ok (.iload_n 2, 1) := dk_28 (dk_at dksX0_home_0 8 rfl rfl)
theorem dX0_home_9 : decode cX0_home 9 = .ok (.ifCond .eq 13, 3) := dk_153 0 13 (dk_at dksX0_home_0 9 rfl rfl)
theorem dX0_home_12 : decode cX0_home 12 = .ok (.iload_n 2, 1) := dk_28 (dk_at dksX0_home_0 12 rfl rfl)
theorem dX0_home_13 : decode cX0_home 13 = .ok (.iconst 3, 1) := dk_6 (dk_at dksX0_home_0 13 rfl rfl)
theorem dX0_home_14 : decode cX0_home 14 = .ok (.invokestatic 226, 3) := dk_184 0 226 (dk_at dksX0_home_0 14 rfl rfl)
theorem dX0_home_17 : decode cX0_home 17 = .ok (.ifCond .ne 5, 3) := dk_154 0 5 (dk_at dksX0_home_0 17 rfl rfl)
theorem dX0_home_20 : decode cX0_home 20 = .ok (.iconst (-1), 1) := dk_2 (dk_at dksX0_home_0 20 rfl rfl)
theorem dX0_home_21 : decode cX0_home 21 = .ok (.ireturn, 1) := dk_172 (dk_at dksX0_home_0 21 rfl rfl)
theorem dX0_home_22 : decode cX0_home 22 = .ok (.aload_n 0, 1) := dk_42 (dk_at dksX0_home_0 22 rfl rfl)
theorem dX0_home_23 : decode cX0_home 23 = .ok (.getfield 113, 3) := dk_180 0 113 (dk_at dksX0_home_1 0 rfl rfl)
theorem dX0_home_26 : decode cX0_home 26 = .ok (.iload_n 1, 1) := dk_27 (dk_at dksX0_home_1 3 rfl rfl)
theorem dX0_home_27 : decode cX0_home 27 = .ok (.invokevirtual 23, 3) := dk_182 0 23 (dk_at dksX0_home_1 4 rfl rfl)
theorem dX0_home_30 : decode cX0_home 30 = .ok (.ifCond .ne 6, 3) := dk_154 0 6 (dk_at dksX0_home_1 7 rfl rfl)
theorem dX0_home_33 : decode cX0_home 33 = .ok (.bipush (-2), 2) := dk_16 254 (dk_at dksX0_home_1 10 rfl rfl)
theorem dX0_home_35 : decode cX0_home 35 = .ok (.ireturn, 1) := dk_172 (dk_at dksX0_home_1 12 rfl rfl)
theorem dX0_home_36 : decode cX0_home 36 = .ok (.iconst 0, 1) := dk_3 (dk_at dksX0_home_1 13 rfl rfl)
theorem dX0_home_37 : decode cX0_home 37 = .ok (.istore_n 3, 1) := dk_62 (dk_at dksX0_home_1 14 rfl rfl)
theorem dX0_home_38 : decode cX0_home 38 = .ok (.iload_n 3, 1) := dk_29 (dk_at dksX0_home_1 15 rfl rfl)
theorem dX0_home_39 : decode cX0_home 39 = .ok (.iconst 3, 1) := dk_6 (dk_at dksX0_home_1 16 rfl rfl)
theorem dX0_home_40 : decode cX0_home 40 = .ok (.if_icmp .gt 88, 3) := dk_163 0 88 (dk_at dksX0_home_1 17 rfl rfl)
theorem dX0_home_43 : decode cX0_home 43 = .ok (.iconst 0, 1) := dk_3 (dk_at dksX0_home_1 20 rfl rfl)
theorem dX0_home_44 : decode cX0_home 44 = .ok (.istore 4, 2) := dk_54 4 (dk_at dksX0_home_1 21 rfl rfl)
theorem dX0_home_46 : decode cX0_home 46 = .ok (.iload 4, 2) := dk_21 4 (dk_at dksX0_home_2 0 rfl rfl)
theorem dX0_home_48 : decode cX0_home 48 = .ok (.aload_n 0, 1) := dk_42 (dk_at dksX0_home_2 2 rfl rfl)
theorem dX0_home_49 : decode cX0_home 49 = .ok (.getfield 113, 3) := dk_180 0 113 (dk_at dksX0_home_2 3 rfl rfl)
theorem dX0_home_52 : decode cX0_home 52 = .ok (.getfield 19, 3) := dk_180 0 19 (dk_at dksX0_home_2 6 rfl rfl)
theorem dX0_home_55 : decode cX0_home 55 = .ok (.iload_n 3, 1) := dk_29 (dk_at dksX0_home_2 9 rfl rfl)
theorem dX0_home_56 : decode cX0_home 56 = .ok (.invokestatic 229, 3) := dk_184 0 229 (dk_at dksX0_home_2 10 rfl rfl)
theorem dX0_home_59 : decode cX0_home 59 = .ok (.if_icmp .ge 63, 3) := dk_162 0 63 (dk_at dksX0_home_2 13 rfl rfl)
theorem dX0_home_62 : decode cX0_home 62 = .ok (.aload_n 0, 1) := dk_42 (dk_at dksX0_home_2 16 rfl rfl)
theorem dX0_home_63 : decode cX0_home 63 = .ok (.iload 4, 2) := dk_21 4 (dk_at dksX0_home_2 17 rfl rfl)
theorem dX0_home_65 : decode cX0_home 65 = .ok (.iload_n 3, 1) := dk_29 (dk_at dksX0_home_2 19 rfl rfl)
theorem dX0_home_66 : decode cX0_home 66 = .ok (.aload_n 0, 1) := dk_42 (dk_at dksX0_home_2 20 rfl rfl)
theorem dX0_home_67 : decode cX0_home 67 = .ok (.getfield 113, 3) := dk_180 0 113 (dk_at dksX0_home_2 21 rfl rfl)
theorem dX0_home_70 : decode cX0_home 70 = .ok (.getfield 19, 3) := dk_180 0 19 (dk_at dksX0_home_3 0 rfl rfl)
theorem dX0_home_73 : decode cX0_home 73 = .ok (.invokevirtual 232, 3) := dk_182 0 232 (dk_at dksX0_home_3 3 rfl rfl)
theorem dX0_home_76 : decode cX0_home 76 = .ok (.aload_n 0, 1) := dk_42 (dk_at dksX0_home_3 6 rfl rfl)
theorem dX0_home_77 : decode cX0_home 77 = .ok (.iload_n 1, 1) := dk_27 (dk_at dksX0_home_3 7 rfl rfl)
theorem dX0_home_78 : decode cX0_home 78 = .ok (.iload_n 3, 1) := dk_29 (dk_at dksX0_home_3 8 rfl rfl)
theorem dX0_home_79 : decode cX0_home 79 = .ok (.invokevirtual 238, 3) := dk_182 0 238 (dk_at dksX0_home_3 9 rfl rfl)
theorem dX0_home_82 : decode cX0_home 82 = .ok (.ifCond .eq 34, 3) := dk_153 0 34 (dk_at dksX0_home_3 12 rfl rfl)
theorem dX0_home_85 : decode cX0_home 85 = .ok (.iload_n 2, 1) := dk_28 (dk_at dksX0_home_3 15 rfl rfl)
theorem dX0_home_86 : decode cX0_home 86 = .ok (.ifCond .ne 7, 3) := dk_154 0 7 (dk_at dksX0_home_3 16 rfl rfl)
theorem dX0_home_89 : decode cX0_home 89 = .ok (.iload_n 3, 1) := dk_29 (dk_at dksX0_home_3 19 rfl rfl)
theorem dX0_home_90 : decode cX0_home 90 = .ok (.goto 25, 3) := dk_167 0 25 (dk_at dksX0_home_3 20 rfl rfl)
theorem dX0_home_93 : decode cX0_home 93 = .ok (.iload_n 2, 1) := dk_28 (dk_at dksX0_home_3 23 rfl rfl)
theorem dX0_home_94 : decode cX0_home 94 = .ok (.bipush 10, 2) := dk_16 10 (dk_at dksX0_home_4 0 rfl rfl)
theorem dX0_home_96 : decode cX0_home 96 = .ok (.isub, 1) := dk_100 (dk_at dksX0_home_4 2 rfl rfl)
theorem dX0_home_97 : decode cX0_home 97 = .ok (.iload_n 3, 1) := dk_29 (dk_at dksX0_home_4 3 rfl rfl)
theorem dX0_home_98 : decode cX0_home 98 = .ok (.if_icmp .ge 15, 3) := dk_162 0 15 (dk_at dksX0_home_4 4 rfl rfl)
theorem dX0_home_101 : decode cX0_home 101 = .ok (.aload_n 0, 1) := dk_42 (dk_at dksX0_home_4 7 rfl rfl)
theorem dX0_home_102 : decode cX0_home 102 = .ok (.getfield 130, 3) := dk_180 0 130 (dk_at dksX0_home_4 8 rfl rfl)
theorem dX0_home_105 : decode cX0_home 105 = .ok (.iload_n 2, 1) := dk_28 (dk_at dksX0_home_4 11 rfl rfl)
theorem dX0_home_106 : decode cX0_home 106 = .ok (.bipush 10, 2) := dk_16 10 (dk_at dksX0_home_4 12 rfl rfl)
theorem dX0_home_108 : decode cX0_home 108 = .ok (.isub, 1) := dk_100 (dk_at dksX0_home_4 14 rfl rfl)
theorem dX0_home_109 : decode cX0_home 109 = .ok (.baload, 1) := dk_51 (dk_at dksX0_home_4 15 rfl rfl)
theorem dX0_home_110 : decode cX0_home 110 = .ok (.goto 5, 3) := dk_167 0 5 (dk_at dksX0_home_4 16 rfl rfl)
theorem dX0_home_113 : decode cX0_home 113 = .ok (.bipush (-4), 2) := dk_16 252 (dk_at dksX0_home_4 19 rfl rfl)
theorem dX0_home_115 : decode cX0_home 115 = .ok (.ireturn, 1) := dk_172 (dk_at dksX0_home_4 21 rfl rfl)
theorem dX0_home_116 : decode cX0_home 116 = .ok (.iinc 4 1, 3) := dk_132 4 1 (dk_at dksX0_home_5 0 rfl rfl)
theorem dX0_home_119 : decode cX0_home 119 = .ok (.goto (-73), 3) := dk_167 255 183 (dk_at dksX0_home_5 3 rfl rfl)
theorem dX0_home_122 : decode cX0_home 122 = .ok (.iinc 3 1, 3) := dk_132 3 1 (dk_at dksX0_home_5 6 rfl rfl)
theorem dX0_home_125 : decode cX0_home 125 = .ok (.goto (-87), 3) := dk_167 255 169 (dk_at dksX0_home_5 9 rfl rfl)
theorem dX0_home_128 : decode cX0_home 128 = .ok (.bipush (-4), 2) := dk_16 252 (dk_at dksX0_home_5 12 rfl rfl)
theorem dX0_home_130 : decode cX0_home 130 = .ok (.ireturn, 1) := dk_172 (dk_at dksX0_home_5 14 rfl rfl)
abbrev cX0_isHome : ByteArray := prog_1_method_39_code
def yX0_isHome : MethodName := ⟨RX0, "isHome", "(II)Z"⟩
def dkwX0_isHome_2 : List UInt8 := [184, 0, 27, 172]
abbrev dktX0_isHome_2 : List UInt8 := dkwX0_isHome_2 ++ []
def dkwX0_isHome_1 : List UInt8 := [180, 0, 130, 29, 51, 182, 0, 93, 87, 132, 3, 1, 167, 255, 233, 42, 180, 0, 117, 182, 0, 71, 27]
abbrev dktX0_isHome_1 : List UInt8 := dkwX0_isHome_1 ++ dktX0_isHome_2
def dkwX0_isHome_0 : List UInt8 := [42, 180, 0, 117, 42, 180, 0, 113, 182, 0, 163, 3, 62, 29, 28, 162, 0, 24, 42, 42, 180, 0, 117, 42]
abbrev dktX0_isHome_0 : List UInt8 := dkwX0_isHome_0 ++ dktX0_isHome_1
theorem dksX0_isHome_0 : cX0_isHome.data.toList.drop 0 = dktX0_isHome_0 := by decide +kernel
theorem dksX0_isHome_1 : cX0_isHome.data.toList.drop 24 = dktX0_isHome_1 := dk_seg dksX0_isHome_0 24 rfl rfl
theorem dksX0_isHome_2 : cX0_isHome.data.toList.drop 47 = dktX0_isHome_2 := dk_seg dksX0_isHome_1 23 rfl rfl
theorem dX0_isHome_0 : decode cX0_isHome 0 = .ok (.aload_n 0, 1) := dk_42 (dk_at dksX0_isHome_0 0 rfl rfl)
theorem dX0_isHome_1 : decode cX0_isHome 1 = .ok (.getfield 117, 3) := dk_180 0 117 (dk_at dksX0_isHome_0 1 rfl rfl)
theorem dX0_isHome_4 : decode cX0_isHome 4 = .ok (.aload_n 0, 1) := dk_42 (dk_at dksX0_isHome_0 4 rfl rfl)
theorem dX0_isHome_5 : decode cX0_isHome 5 = .ok (.getfield 113, 3) := dk_180 0 113 (dk_at dksX0_isHome_0 5 rfl rfl)
theorem dX0_isHome_8 : decode cX0_isHome 8 = .ok (.invokevirtual 163, 3) := dk_182 0 163 (dk_at dksX0_isHome_0 8 rfl rfl)
theorem dX0_isHome_11 : decode cX0_isHome 11 = .ok (.iconst 0, 1) := dk_3 (dk_at dksX0_isHome_0 11 rfl rfl)
theorem dX0_isHome_12 : decode cX0_isHome 12 = .ok (.istore_n 3, 1) := dk_62 (dk_at dksX0_isHome_0 12 rfl rfl)
theorem dX0_isHome_13 : decode cX0_isHome 13 = .ok (.iload_n 3, 1) := dk_29 (dk_at dksX0_isHome_0 13 rfl rfl)
theorem dX0_isHome_14 : decode cX0_isHome 14 = .ok (.iload_n 2, 1) := dk_28 (dk_at dksX0_isHome_0 14 rfl rfl)
theorem dX0_isHome_15 : decode cX0_isHome 15 = .ok (.if_icmp .ge 24, 3) := dk_162 0 24 (dk_at dksX0_isHome_0 15 rfl rfl)
theorem dX0_isHome_18 : decode cX0_isHome 18 = .ok (.aload_n 0, 1) := dk_42 (dk_at dksX0_isHome_0 18 rfl rfl)
theorem dX0_isHome_19 : decode cX0_isHome 19 = .ok (.aload_n 0, 1) := dk_42 (dk_at dksX0_isHome_0 19 rfl rfl)
theorem dX0_isHome_20 : decode cX0_isHome 20 = .ok (.getfield 117, 3) := dk_180 0 117 (dk_at dksX0_isHome_0 20 rfl rfl)
theorem dX0_isHome_23 : decode cX0_isHome 23 = .ok (.aload_n 0, 1) := dk_42 (dk_at dksX0_isHome_0 23 rfl rfl)
theorem dX0_isHome_24 : decode cX0_isHome 24 = .ok (.getfield 130, 3) := dk_180 0 130 (dk_at dksX0_isHome_1 0 rfl rfl)
theorem dX0_isHome_27 : decode cX0_isHome 27 = .ok (.iload_n 3, 1) := dk_29 (dk_at dksX0_isHome_1 3 rfl rfl)
theorem dX0_isHome_28 : decode cX0_isHome 28 = .ok (.baload, 1) := dk_51 (dk_at dksX0_isHome_1 4 rfl rfl)
theorem dX0_isHome_29 : decode cX0_isHome 29 = .ok (.invokevirtual 93, 3) := dk_182 0 93 (dk_at dksX0_isHome_1 5 rfl rfl)
theorem dX0_isHome_32 : decode cX0_isHome 32 = .ok (.pop, 1) := dk_87 (dk_at dksX0_isHome_1 8 rfl rfl)
theorem dX0_isHome_33 : decode cX0_isHome 33 = .ok (.iinc 3 1, 3) := dk_132 3 1 (dk_at dksX0_isHome_1 9 rfl rfl)
theorem dX0_isHome_36 : decode cX0_isHome 36 = .ok (.goto (-23), 3) := dk_167 255 233 (dk_at dksX0_isHome_1 12 rfl rfl)
theorem dX0_isHome_39 : decode cX0_isHome 39 = .ok (.aload_n 0, 1) := dk_42 (dk_at dksX0_isHome_1 15 rfl rfl)
theorem dX0_isHome_40 : decode cX0_isHome 40 = .ok (.getfield 117, 3) := dk_180 0 117 (dk_at dksX0_isHome_1 16 rfl rfl)
theorem dX0_isHome_43 : decode cX0_isHome 43 = .ok (.invokevirtual 71, 3) := dk_182 0 71 (dk_at dksX0_isHome_1 19 rfl rfl)
theorem dX0_isHome_46 : decode cX0_isHome 46 = .ok (.iload_n 1, 1) := dk_27 (dk_at dksX0_isHome_1 22 rfl rfl)
theorem dX0_isHome_47 : decode cX0_isHome 47 = .ok (.invokestatic 27, 3) := dk_184 0 27 (dk_at dksX0_isHome_2 0 rfl rfl)
theorem dX0_isHome_50 : decode cX0_isHome 50 = .ok (.ireturn, 1) := dk_172 (dk_at dksX0_isHome_2 3 rfl rfl)
abbrev cX0_swap : ByteArray := prog_1_method_41_code
def yX0_swap : MethodName := ⟨RX0, "swap", "(I)I"⟩
def dkwX0_swap_7 : List UInt8 := [29, 16, 252, 160, 0, 8, 16, 252, 167, 0, 12, 27, 154, 0, 7, 29, 167, 0, 4, 28, 172]
abbrev dktX0_swap_7 : List UInt8 := dkwX0_swap_7 ++ []
def dkwX0_swap_6 : List UInt8 := [167, 0, 4, 29, 62, 28, 21, 6, 184, 0, 244, 61, 132, 5, 1, 167, 255, 143, 132, 4, 1, 167, 255, 119]
abbrev dktX0_swap_6 : List UInt8 := dkwX0_swap_6 ++ dktX0_swap_7
def dkwX0_swap_5 : List UInt8 := [182, 0, 219, 184, 0, 77, 54, 6, 21, 6, 28, 164, 0, 14, 16, 10, 21, 4, 104, 21, 5, 96]
abbrev dktX0_swap_5 : List UInt8 := dkwX0_swap_5 ++ dktX0_swap_6
def dkwX0_swap_4 : List UInt8 := [180, 0, 113, 180, 0, 89, 21, 4, 51, 84, 42, 42, 180, 0, 117, 3, 182, 0, 222, 42, 180, 0, 117]
abbrev dktX0_swap_4 : List UInt8 := dkwX0_swap_4 ++ dktX0_swap_5
def dkwX0_swap_3 : List UInt8 := [21, 4, 42, 180, 0, 113, 180, 0, 89, 21, 5, 51, 84, 42, 180, 0, 117, 180, 0, 89, 21, 5, 42]
abbrev dktX0_swap_3 : List UInt8 := dkwX0_swap_3 ++ dktX0_swap_4
def dkwX0_swap_2 : List UInt8 := [180, 0, 86, 162, 0, 107, 42, 180, 0, 117, 42, 180, 0, 113, 182, 0, 163, 42, 180, 0, 117, 180, 0, 89]
abbrev dktX0_swap_2 : List UInt8 := dkwX0_swap_2 ++ dktX0_swap_3
def dkwX0_swap_1 : List UInt8 := [21, 4, 42, 180, 0, 113, 180, 0, 86, 162, 0, 131, 21, 4, 4, 96, 54, 5, 21, 5, 42, 180, 0, 113]
abbrev dktX0_swap_1 : List UInt8 := dkwX0_swap_1 ++ dktX0_swap_2
def dkwX0_swap_0 : List UInt8 := [27, 184, 0, 203, 154, 0, 5, 2, 172, 42, 3, 182, 0, 241, 184, 0, 77, 61, 16, 252, 62, 3, 54, 4]
abbrev dktX0_swap_0 : List UInt8 := dkwX0_swap_0 ++ dktX0_swap_1
theorem dksX0_swap_0 : cX0_swap.data.toList.drop 0 = dktX0_swap_0 := by decide +kernel
theorem dksX0_swap_1 : cX0_swap.data.toList.drop 24 = dktX0_swap_1 := dk_seg dksX0_swap_0 24 rfl rfl
theorem dksX0_swap_2 : cX0_swap.data.toList.drop 48 = dktX0_swap_2 := dk_seg dksX0_swap_1 24 rfl rfl
theorem dksX0_swap_3 : cX0_swap.data.toList.drop 72 = dktX0_swap_3 := dk_seg dksX0_swap_2 24 rfl rfl
theorem dksX0_swap_4 : cX0_swap.data.toList.drop 95 = dktX0_swap_4 := dk_seg dksX0_swap_3 23 rfl rfl
theorem dksX0_swap_5 : cX0_swap.data.toList.drop 118 = dktX0_swap_5 := dk_seg dksX0_swap_4 23 rfl rfl
theorem dksX0_swap_6 : cX0_swap.data.toList.drop 140 = dktX0_swap_6 := dk_seg dksX0_swap_5 22 rfl rfl
theorem dksX0_swap_7 : cX0_swap.data.toList.drop 164 = dktX0_swap_7 := dk_seg dksX0_swap_6 24 rfl rfl
theorem dX0_swap_0 : decode cX0_swap 0 = .ok (.iload_n 1, 1) := dk_27 (dk_at dksX0_swap_0 0 rfl rfl)
theorem dX0_swap_1 : decode cX0_swap 1 = .ok (.invokestatic 203, 3) := dk_184 0 203 (dk_at dksX0_swap_0 1 rfl rfl)
theorem dX0_swap_4 : decode cX0_swap 4 = .ok (.ifCond .ne 5, 3) := dk_154 0 5 (dk_at dksX0_swap_0 4 rfl rfl)
theorem dX0_swap_7 : decode cX0_swap 7 = .ok (.iconst (-1), 1) := dk_2 (dk_at dksX0_swap_0 7 rfl rfl)
theorem dX0_swap_8 : decode cX0_swap 8 = .ok (.ireturn, 1) := dk_172 (dk_at dksX0_swap_0 8 rfl rfl)
theorem dX0_swap_9 : decode cX0_swap 9 = .ok (.aload_n 0, 1) := dk_42 (dk_at dksX0_swap_0 9 rfl rfl)
theorem dX0_swap_10 : decode cX0_swap 10 = .ok (.iconst 0, 1) := dk_3 (dk_at dksX0_swap_0 10 rfl rfl)
theorem dX0_swap_11 : decode cX0_swap 11 = .ok (.invokevirtual 241, 3) := dk_182 0 241 (dk_at dksX0_swap_0 11 rfl rfl)
theorem dX0_swap_14 : decode cX0_swap 14 = .ok (.invokestatic 77, 3) := dk_184 0 77 (dk_at dksX0_swap_0 14 rfl rfl)
theorem dX0_swap_17 : decode cX0_swap 17 = .ok (.istore_n 2, 1) := dk_61 (dk_at dksX0_swap_0 17 rfl rfl)
theorem dX0_swap_18 : decode cX0_swap 18 = .ok (.bipush (-4), 2) := dk_16 252 (dk_at dksX0_swap_0 18 rfl rfl)
theorem dX0_swap_20 : decode cX0_swap 20 = .ok (.istore_n 3, 1) := dk_62 (dk_at dksX0_swap_0 20 rfl rfl)
theorem dX0_swap_21 : decode cX0_swap 21 = .ok (.iconst 0, 1) := dk_3 (dk_at dksX0_swap_0 21 rfl rfl)
theorem dX0_swap_22 : decode cX0_swap 22 = .ok (.istore 4, 2) := dk_54 4 (dk_at dksX0_swap_0 22 rfl rfl)
theorem dX0_swap_24 : decode cX0_swap 24 = .ok (.iload 4, 2) := dk_21 4 (dk_at dksX0_swap_1 0 rfl rfl)
theorem dX0_swap_26 : decode cX0_swap 26 = .ok (.aload_n 0, 1) := dk_42 (dk_at dksX0_swap_1 2 rfl rfl)
theorem dX0_swap_27 : decode cX0_swap 27 = .ok (.getfield 113, 3) := dk_180 0 113 (dk_at dksX0_swap_1 3 rfl rfl)
theorem dX0_swap_30 : decode cX0_swap 30 = .ok (.getfield 86, 3) := dk_180 0 86 (dk_at dksX0_swap_1 6 rfl rfl)
theorem dX0_swap_33 : decode cX0_swap 33 = .ok (.if_icmp .ge 131, 3) := dk_162 0 131 (dk_at dksX0_swap_1 9 rfl rfl)
theorem dX0_swap_36 : decode cX0_swap 36 = .ok (.iload 4, 2) := dk_21 4 (dk_at dksX0_swap_1 12 rfl rfl)
theorem dX0_swap_38 : decode cX0_swap 38 = .ok (.iconst 1, 1) := dk_4 (dk_at dksX0_swap_1 14 rfl rfl)
theorem dX0_swap_39 : decode cX0_swap 39 = .ok (.iadd, 1) := dk_96 (dk_at dksX0_swap_1 15 rfl rfl)
theorem dX0_swap_40 : decode cX0_swap 40 = .ok (.istore 5, 2) := dk_54 5 (dk_at dksX0_swap_1 16 rfl rfl)
theorem dX0_swap_42 : decode cX0_swap 42 = .ok (.iload 5, 2) := dk_21 5 (dk_at dksX0_swap_1 18 rfl rfl)
theorem dX0_swap_44 : decode cX0_swap 44 = .ok (.aload_n 0, 1) := dk_42 (dk_at dksX0_swap_1 20 rfl rfl)
theorem dX0_swap_45 : decode cX0_swap 45 = .ok (.getfield 113, 3) := dk_180 0 113 (dk_at dksX0_swap_1 21 rfl rfl)
theorem dX0_swap_48 : decode cX0_swap 48 = .ok (.getfield 86, 3) := dk_180 0 86 (dk_at dksX0_swap_2 0 rfl rfl)
theorem dX0_swap_51 : decode cX0_swap 51 = .ok (.if_icmp .ge 107, 3) := dk_162 0 107 (dk_at dksX0_swap_2 3 rfl rfl)
theorem dX0_swap_54 : decode cX0_swap 54 = .ok (.aload_n 0, 1) := dk_42 (dk_at dksX0_swap_2 6 rfl rfl)
theorem dX0_swap_55 : decode cX0_swap 55 = .ok (.getfield 117, 3) := dk_180 0 117 (dk_at dksX0_swap_2 7 rfl rfl)
theorem dX0_swap_58 : decode cX0_swap 58 = .ok (.aload_n 0, 1) := dk_42 (dk_at dksX0_swap_2 10 rfl rfl)
theorem dX0_swap_59 : decode cX0_swap 59 = .ok (.getfield 113, 3) := dk_180 0 113 (dk_at dksX0_swap_2 11 rfl rfl)
theorem dX0_swap_62 : decode cX0_swap 62 = .ok (.invokevirtual 163, 3) := dk_182 0 163 (dk_at dksX0_swap_2 14 rfl rfl)
theorem dX0_swap_65 : decode cX0_swap 65 = .ok (.aload_n 0, 1) := dk_42 (dk_at dksX0_swap_2 17 rfl rfl)
theorem dX0_swap_66 : decode cX0_swap 66 = .ok (.getfield 117, 3) := dk_180 0 117 (dk_at dksX0_swap_2 18 rfl rfl)
theorem dX0_swap_69 : decode cX0_swap 69 = .ok (.getfield 89, 3) := dk_180 0 89 (dk_at dksX0_swap_2 21 rfl rfl)
theorem dX0_swap_72 : decode cX0_swap 72 = .ok (.iload 4, 2) := dk_21 4 (dk_at dksX0_swap_3 0 rfl rfl)
theorem dX0_swap_74 : decode cX0_swap 74 = .ok (.aload_n 0, 1) := dk_42 (dk_at dksX0_swap_3 2 rfl rfl)
theorem dX0_swap_75 : decode cX0_swap 75 = .ok (.getfield 113, 3) := dk_180 0 113 (dk_at dksX0_swap_3 3 rfl rfl)
theorem dX0_swap_78 : decode cX0_swap 78 = .ok (.getfield 89, 3) := dk_180 0 89 (dk_at dksX0_swap_3 6 rfl rfl)
theorem dX0_swap_81 : decode cX0_swap 81 = .ok (.iload 5, 2) := dk_21 5 (dk_at dksX0_swap_3 9 rfl rfl)
theorem dX0_swap_83 : decode cX0_swap 83 = .ok (.baload, 1) := dk_51 (dk_at dksX0_swap_3 11 rfl rfl)
theorem dX0_swap_84 : decode cX0_swap 84 = .ok (.bastore, 1) := dk_84 (dk_at dksX0_swap_3 12 rfl rfl)
theorem dX0_swap_85 : decode cX0_swap 85 = .ok (.aload_n 0, 1) := dk_42 (dk_at dksX0_swap_3 13 rfl rfl)
theorem dX0_swap_86 : decode cX0_swap 86 = .ok (.getfield 117, 3) := dk_180 0 117 (dk_at dksX0_swap_3 14 rfl rfl)
theorem dX0_swap_89 : decode cX0_swap 89 = .ok (.getfield 89, 3) := dk_180 0 89 (dk_at dksX0_swap_3 17 rfl rfl)
theorem dX0_swap_92 : decode cX0_swap 92 = .ok (.iload 5, 2) := dk_21 5 (dk_at dksX0_swap_3 20 rfl rfl)
theorem dX0_swap_94 : decode cX0_swap 94 = .ok (.aload_n 0, 1) := dk_42 (dk_at dksX0_swap_3 22 rfl rfl)
theorem dX0_swap_95 : decode cX0_swap 95 = .ok (.getfield 113, 3) := dk_180 0 113 (dk_at dksX0_swap_4 0 rfl rfl)
theorem dX0_swap_98 : decode cX0_swap 98 = .ok (.getfield 89, 3) := dk_180 0 89 (dk_at dksX0_swap_4 3 rfl rfl)
theorem dX0_swap_101 : decode cX0_swap 101 = .ok (.iload 4, 2) := dk_21 4 (dk_at dksX0_swap_4 6 rfl rfl)
theorem dX0_swap_103 : decode cX0_swap 103 = .ok (.baload, 1) := dk_51 (dk_at dksX0_swap_4 8 rfl rfl)
theorem dX0_swap_104 : decode cX0_swap 104 = .ok (.bastore, 1) := dk_84 (dk_at dksX0_swap_4 9 rfl rfl)
theorem dX0_swap_105 : decode cX0_swap 105 = .ok (.aload_n 0, 1) := dk_42 (dk_at dksX0_swap_4 10 rfl rfl)
theorem dX0_swap_106 : decode cX0_swap 106 = .ok (.aload_n 0, 1) := dk_42 (dk_at dksX0_swap_4 11 rfl rfl)
theorem dX0_swap_107 : decode cX0_swap 107 = .ok (.getfield 117, 3) := dk_180 0 117 (dk_at dksX0_swap_4 12 rfl rfl)
theorem dX0_swap_110 : decode cX0_swap 110 = .ok (.iconst 0, 1) := dk_3 (dk_at dksX0_swap_4 15 rfl rfl)
theorem dX0_swap_111 : decode cX0_swap 111 = .ok (.invokevirtual 222, 3) := dk_182 0 222 (dk_at dksX0_swap_4 16 rfl rfl)
theorem dX0_swap_114 : decode cX0_swap 114 = .ok (.aload_n 0, 1) := dk_42 (dk_at dksX0_swap_4 19 rfl rfl)
theorem dX0_swap_115 : decode cX0_swap 115 = .ok (.getfield 117, 3) := dk_180 0 117 (dk_at dksX0_swap_4 20 rfl rfl)
theorem dX0_swap_118 : decode cX0_swap 118 = .ok (.invokevirtual 219, 3) := dk_182 0 219 (dk_at dksX0_swap_5 0 rfl rfl)
theorem dX0_swap_121 : decode cX0_swap 121 = .ok (.invokestatic 77, 3) := dk_184 0 77 (dk_at dksX0_swap_5 3 rfl rfl)
theorem dX0_swap_124 : decode cX0_swap 124 = .ok (.istore 6, 2) := dk_54 6 (dk_at dksX0_swap_5 6 rfl rfl)
theorem dX0_swap_126 : decode cX0_swap 126 = .ok (.iload 6, 2) := dk_21 6 (dk_at dksX0_swap_5 8 rfl rfl)
theorem dX0_swap_128 : decode cX0_swap 128 = .ok (.iload_n 2, 1) := dk_28 (dk_at dksX0_swap_5 10 rfl rfl)
theorem dX0_swap_129 : decode cX0_swap 129 = .ok (.if_icmp .le 14, 3) := dk_164 0 14 (dk_at dksX0_swap_5 11 rfl rfl)
theorem dX0_swap_132 : decode cX0_swap 132 = .ok (.bipush 10, 2) := dk_16 10 (dk_at dksX0_swap_5 14 rfl rfl)
theorem dX0_swap_134 : decode cX0_swap 134 = .ok (.iload 4, 2) := dk_21 4 (dk_at dksX0_swap_5 16 rfl rfl)
theorem dX0_swap_136 : decode cX0_swap 136 = .ok (.imul, 1) := dk_104 (dk_at dksX0_swap_5 18 rfl rfl)
theorem dX0_swap_137 : decode cX0_swap 137 = .ok (.iload 5, 2) := dk_21 5 (dk_at dksX0_swap_5 19 rfl rfl)
theorem dX0_swap_139 : decode cX0_swap 139 = .ok (.iadd, 1) := dk_96 (dk_at dksX0_swap_5 21 rfl rfl)
theorem dX0_swap_140 : decode cX0_swap 140 = .ok (.goto 4, 3) := dk_167 0 4 (dk_at dksX0_swap_6 0 rfl rfl)
theorem dX0_swap_143 : decode cX0_swap 143 = .ok (.iload_n 3, 1) := dk_29 (dk_at dksX0_swap_6 3 rfl rfl)
theorem dX0_swap_144 : decode cX0_swap 144 = .ok (.istore_n 3, 1) := dk_62 (dk_at dksX0_swap_6 4 rfl rfl)
theorem dX0_swap_145 : decode cX0_swap 145 = .ok (.iload_n 2, 1) := dk_28 (dk_at dksX0_swap_6 5 rfl rfl)
theorem dX0_swap_146 : decode cX0_swap 146 = .ok (.iload 6, 2) := dk_21 6 (dk_at dksX0_swap_6 6 rfl rfl)
theorem dX0_swap_148 : decode cX0_swap 148 = .ok (.invokestatic 244, 3) := dk_184 0 244 (dk_at dksX0_swap_6 8 rfl rfl)
theorem dX0_swap_151 : decode cX0_swap 151 = .ok (.istore_n 2, 1) := dk_61 (dk_at dksX0_swap_6 11 rfl rfl)
theorem dX0_swap_152 : decode cX0_swap 152 = .ok (.iinc 5 1, 3) := dk_132 5 1 (dk_at dksX0_swap_6 12 rfl rfl)
theorem dX0_swap_155 : decode cX0_swap 155 = .ok (.goto (-113), 3) := dk_167 255 143 (dk_at dksX0_swap_6 15 rfl rfl)
theorem dX0_swap_158 : decode cX0_swap 158 = .ok (.iinc 4 1, 3) := dk_132 4 1 (dk_at dksX0_swap_6 18 rfl rfl)
theorem dX0_swap_161 : decode cX0_swap 161 = .ok (.goto (-137), 3) := dk_167 255 119 (dk_at dksX0_swap_6 21 rfl rfl)
theorem dX0_swap_164 : decode cX0_swap 164 = .ok (.iload_n 3, 1) := dk_29 (dk_at dksX0_swap_7 0 rfl rfl)
theorem dX0_swap_165 : decode cX0_swap 165 = .ok (.bipush (-4), 2) := dk_16 252 (dk_at dksX0_swap_7 1 rfl rfl)
theorem dX0_swap_167 : decode cX0_swap 167 = .ok (.if_icmp .ne 8, 3) := dk_160 0 8 (dk_at dksX0_swap_7 3 rfl rfl)
theorem dX0_swap_170 : decode cX0_swap 170 = .ok (.bipush (-4), 2) := dk_16 252 (dk_at dksX0_swap_7 6 rfl rfl)
theorem dX0_swap_172 : decode cX0_swap 172 = .ok (.goto 12, 3) := dk_167 0 12 (dk_at dksX0_swap_7 8 rfl rfl)
theorem dX0_swap_175 : decode cX0_swap 175 = .ok (.iload_n 1, 1) := dk_27 (dk_at dksX0_swap_7 11 rfl rfl)
theorem dX0_swap_176 : decode cX0_swap 176 = .ok (.ifCond .ne 7, 3) := dk_154 0 7 (dk_at dksX0_swap_7 12 rfl rfl)
theorem dX0_swap_179 : decode cX0_swap 179 = .ok (.iload_n 3, 1) := dk_29 (dk_at dksX0_swap_7 15 rfl rfl)
theorem dX0_swap_180 : decode cX0_swap 180 = .ok (.goto 4, 3) := dk_167 0 4 (dk_at dksX0_swap_7 16 rfl rfl)
theorem dX0_swap_183 : decode cX0_swap 183 = .ok (.iload_n 2, 1) := dk_28 (dk_at dksX0_swap_7 19 rfl rfl)
theorem dX0_swap_184 : decode cX0_swap 184 = .ok (.ireturn, 1) := dk_172 (dk_at dksX0_swap_7 20 rfl rfl)
abbrev cX0_enough : ByteArray := prog_1_method_42_code
def yX0_enough : MethodName := ⟨RX0, "enough", "()I"⟩
def dkwX0_enough_2 : List UInt8 := [132, 1, 1, 167, 255, 208, 16, 252, 172]
abbrev dktX0_enough_2 : List UInt8 := dkwX0_enough_2 ++ []
def dkwX0_enough_1 : List UInt8 := [181, 0, 183, 42, 42, 180, 0, 117, 3, 182, 0, 222, 42, 180, 0, 117, 182, 0, 186, 154, 0, 5, 27, 172]
abbrev dktX0_enough_1 : List UInt8 := dkwX0_enough_1 ++ dktX0_enough_2
def dkwX0_enough_0 : List UInt8 := [4, 60, 27, 8, 163, 0, 49, 42, 180, 0, 117, 42, 180, 0, 113, 182, 0, 163, 42, 180, 0, 117, 27]
abbrev dktX0_enough_0 : List UInt8 := dkwX0_enough_0 ++ dktX0_enough_1
theorem dksX0_enough_0 : cX0_enough.data.toList.drop 0 = dktX0_enough_0 := by decide +kernel
theorem dksX0_enough_1 : cX0_enough.data.toList.drop 23 = dktX0_enough_1 := dk_seg dksX0_enough_0 23 rfl rfl
theorem dksX0_enough_2 : cX0_enough.data.toList.drop 47 = dktX0_enough_2 := dk_seg dksX0_enough_1 24 rfl rfl
theorem dX0_enough_0 : decode cX0_enough 0 = .ok (.iconst 1, 1) := dk_4 (dk_at dksX0_enough_0 0 rfl rfl)
theorem dX0_enough_1 : decode cX0_enough 1 = .ok (.istore_n 1, 1) := dk_60 (dk_at dksX0_enough_0 1 rfl rfl)
theorem dX0_enough_2 : decode cX0_enough 2 = .ok (.iload_n 1, 1) := dk_27 (dk_at dksX0_enough_0 2 rfl rfl)
theorem dX0_enough_3 : decode cX0_enough 3 = .ok (.iconst 5, 1) := dk_8 (dk_at dksX0_enough_0 3 rfl rfl)
theorem dX0_enough_4 : decode cX0_enough 4 = .ok (.if_icmp .gt 49, 3) := dk_163 0 49 (dk_at dksX0_enough_0 4 rfl rfl)
theorem dX0_enough_7 : decode cX0_enough 7 = .ok (.aload_n 0, 1) := dk_42 (dk_at dksX0_enough_0 7 rfl rfl)
theorem dX0_enough_8 : decode cX0_enough 8 = .ok (.getfield 117, 3) := dk_180 0 117 (dk_at dksX0_enough_0 8 rfl rfl)
theorem dX0_enough_11 : decode cX0_enough 11 = .ok (.aload_n 0, 1) := dk_42 (dk_at dksX0_enough_0 11 rfl rfl)
theorem dX0_enough_12 : decode cX0_enough 12 = .ok (.getfield 113, 3) := dk_180 0 113 (dk_at dksX0_enough_0 12 rfl rfl)
theorem dX0_enough_15 : decode cX0_enough 15 = .ok (.invokevirtual 163, 3) := dk_182 0 163 (dk_at dksX0_enough_0 15 rfl rfl)
theorem dX0_enough_18 : decode cX0_enough 18 = .ok (.aload_n 0, 1) := dk_42 (dk_at dksX0_enough_0 18 rfl rfl)
theorem dX0_enough_19 : decode cX0_enough 19 = .ok (.getfield 117, 3) := dk_180 0 117 (dk_at dksX0_enough_0 19 rfl rfl)
theorem dX0_enough_22 : decode cX0_enough 22 = .ok (.iload_n 1, 1) := dk_27 (dk_at dksX0_enough_0 22 rfl rfl)
theorem dX0_enough_23 : decode cX0_enough 23 = .ok (.putfield 183, 3) := dk_181 0 183 (dk_at dksX0_enough_1 0 rfl rfl)
theorem dX0_enough_26 : decode cX0_enough 26 = .ok (.aload_n 0, 1) := dk_42 (dk_at dksX0_enough_1 3 rfl rfl)
theorem dX0_enough_27 : decode cX0_enough 27 = .ok (.aload_n 0, 1) := dk_42 (dk_at dksX0_enough_1 4 rfl rfl)
theorem dX0_enough_28 : decode cX0_enough 28 = .ok (.getfield 117, 3) := dk_180 0 117 (dk_at dksX0_enough_1 5 rfl rfl)
theorem dX0_enough_31 : decode cX0_enough 31 = .ok (.iconst 0, 1) := dk_3 (dk_at dksX0_enough_1 8 rfl rfl)
theorem dX0_enough_32 : decode cX0_enough 32 = .ok (.invokevirtual 222, 3) := dk_182 0 222 (dk_at dksX0_enough_1 9 rfl rfl)
theorem dX0_enough_35 : decode cX0_enough 35 = .ok (.aload_n 0, 1) := dk_42 (dk_at dksX0_enough_1 12 rfl rfl)
theorem dX0_enough_36 : decode cX0_enough 36 = .ok (.getfield 117, 3) := dk_180 0 117 (dk_at dksX0_enough_1 13 rfl rfl)
theorem dX0_enough_39 : decode cX0_enough 39 = .ok (.invokevirtual 186, 3) := dk_182 0 186 (dk_at dksX0_enough_1 16 rfl rfl)
theorem dX0_enough_42 : decode cX0_enough 42 = .ok (.ifCond .ne 5, 3) := dk_154 0 5 (dk_at dksX0_enough_1 19 rfl rfl)
theorem dX0_enough_45 : decode cX0_enough 45 = .ok (.iload_n 1, 1) := dk_27 (dk_at dksX0_enough_1 22 rfl rfl)
theorem dX0_enough_46 : decode cX0_enough 46 = .ok (.ireturn, 1) := dk_172 (dk_at dksX0_enough_1 23 rfl rfl)
theorem dX0_enough_47 : decode cX0_enough 47 = .ok (.iinc 1 1, 3) := dk_132 1 1 (dk_at dksX0_enough_2 0 rfl rfl)
theorem dX0_enough_50 : decode cX0_enough 50 = .ok (.goto (-48), 3) := dk_167 255 208 (dk_at dksX0_enough_2 3 rfl rfl)
theorem dX0_enough_53 : decode cX0_enough 53 = .ok (.bipush (-4), 2) := dk_16 252 (dk_at dksX0_enough_2 6 rfl rfl)
theorem dX0_enough_55 : decode cX0_enough 55 = .ok (.ireturn, 1) := dk_172 (dk_at dksX0_enough_2 8 rfl rfl)
abbrev cX0_luck : ByteArray := prog_1_method_45_code
def yX0_luck : MethodName := ⟨RX0, "luck", "(III)J"⟩
def dkwX0_luck_2 : List UInt8 := [184, 1, 8, 173]
abbrev dktX0_luck_2 : List UInt8 := dkwX0_luck_2 ++ []
def dkwX0_luck_1 : List UInt8 := [154, 0, 7, 20, 1, 3, 173, 42, 27, 28, 182, 1, 5, 42, 180, 0, 249, 42, 180, 1, 0, 29]
abbrev dktX0_luck_1 : List UInt8 := dkwX0_luck_1 ++ dktX0_luck_2
def dkwX0_luck_0 : List UInt8 := [27, 133, 9, 20, 0, 181, 184, 0, 142, 153, 0, 18, 42, 28, 182, 0, 192, 153, 0, 10, 29, 184, 0, 203]
abbrev dktX0_luck_0 : List UInt8 := dkwX0_luck_0 ++ dktX0_luck_1
theorem dksX0_luck_0 : cX0_luck.data.toList.drop 0 = dktX0_luck_0 := by decide +kernel
theorem dksX0_luck_1 : cX0_luck.data.toList.drop 24 = dktX0_luck_1 := dk_seg dksX0_luck_0 24 rfl rfl
theorem dksX0_luck_2 : cX0_luck.data.toList.drop 46 = dktX0_luck_2 := dk_seg dksX0_luck_1 22 rfl rfl
theorem dX0_luck_0 : decode cX0_luck 0 = .ok (.iload_n 1, 1) := dk_27 (dk_at dksX0_luck_0 0 rfl rfl)
theorem dX0_luck_1 : decode cX0_luck 1 = .ok (.i2l, 1) := dk_133 (dk_at dksX0_luck_0 1 rfl rfl)
theorem dX0_luck_2 : decode cX0_luck 2 = .ok (.lconst 0, 1) := dk_9 (dk_at dksX0_luck_0 2 rfl rfl)
theorem dX0_luck_3 : decode cX0_luck 3 = .ok (.ldc2_w 181, 3) := dk_20 0 181 (dk_at dksX0_luck_0 3 rfl rfl)
theorem dX0_luck_6 : decode cX0_luck 6 = .ok (.invokestatic 142, 3) := dk_184 0 142 (dk_at dksX0_luck_0 6 rfl rfl)
theorem dX0_luck_9 : decode cX0_luck 9 = .ok (.ifCond .eq 18, 3) := dk_153 0 18 (dk_at dksX0_luck_0 9 rfl rfl)
theorem dX0_luck_12 : decode cX0_luck 12 = .ok (.aload_n 0, 1) := dk_42 (dk_at dksX0_luck_0 12 rfl rfl)
theorem dX0_luck_13 : decode cX0_luck 13 = .ok (.iload_n 2, 1) := dk_28 (dk_at dksX0_luck_0 13 rfl rfl)
theorem dX0_luck_14 : decode cX0_luck 14 = .ok (.invokevirtual 192, 3) := dk_182 0 192 (dk_at dksX0_luck_0 14 rfl rfl)
theorem dX0_luck_17 : decode cX0_luck 17 = .ok (.ifCond .eq 10, 3) := dk_153 0 10 (dk_at dksX0_luck_0 17 rfl rfl)
theorem dX0_luck_20 : decode cX0_luck 20 = .ok (.iload_n 3, 1) := dk_29 (dk_at dksX0_luck_0 20 rfl rfl)
theorem dX0_luck_21 : decode cX0_luck 21 = .ok (.invokestatic 203, 3) := dk_184 0 203 (dk_at dksX0_luck_0 21 rfl rfl)
theorem dX0_luck_24 : decode cX0_luck 24 = .ok (.ifCond .ne 7, 3) := dk_154 0 7 (dk_at dksX0_luck_1 0 rfl rfl)
theorem dX0_luck_27 : decode cX0_luck 27 = .ok (.ldc2_w 259, 3) := dk_20 1 3 (dk_at dksX0_luck_1 3 rfl rfl)
theorem dX0_luck_30 : decode cX0_luck 30 = .ok (.lreturn, 1) := dk_173 (dk_at dksX0_luck_1 6 rfl rfl)
theorem dX0_luck_31 : decode cX0_luck 31 = .ok (.aload_n 0, 1) := dk_42 (dk_at dksX0_luck_1 7 rfl rfl)
theorem dX0_luck_32 : decode cX0_luck 32 = .ok (.iload_n 1, 1) := dk_27 (dk_at dksX0_luck_1 8 rfl rfl)
theorem dX0_luck_33 : decode cX0_luck 33 = .ok (.iload_n 2, 1) := dk_28 (dk_at dksX0_luck_1 9 rfl rfl)
theorem dX0_luck_34 : decode cX0_luck 34 = .ok (.invokevirtual 261, 3) := dk_182 1 5 (dk_at dksX0_luck_1 10 rfl rfl)
theorem dX0_luck_37 : decode cX0_luck 37 = .ok (.aload_n 0, 1) := dk_42 (dk_at dksX0_luck_1 13 rfl rfl)
theorem dX0_luck_38 : decode cX0_luck 38 = .ok (.getfield 249, 3) := dk_180 0 249 (dk_at dksX0_luck_1 14 rfl rfl)
theorem dX0_luck_41 : decode cX0_luck 41 = .ok (.aload_n 0, 1) := dk_42 (dk_at dksX0_luck_1 17 rfl rfl)
theorem dX0_luck_42 : decode cX0_luck 42 = .ok (.getfield 256, 3) := dk_180 1 0 (dk_at dksX0_luck_1 18 rfl rfl)
theorem dX0_luck_45 : decode cX0_luck 45 = .ok (.iload_n 3, 1) := dk_29 (dk_at dksX0_luck_1 21 rfl rfl)
theorem dX0_luck_46 : decode cX0_luck 46 = .ok (.invokestatic 264, 3) := dk_184 1 8 (dk_at dksX0_luck_2 0 rfl rfl)
theorem dX0_luck_49 : decode cX0_luck 49 = .ok (.lreturn, 1) := dk_173 (dk_at dksX0_luck_2 3 rfl rfl)
abbrev cX0_findOdds : ByteArray := prog_1_method_44_code
def yX0_findOdds : MethodName := ⟨RX0, "findOdds", "(II)V"⟩
def dkwX0_findOdds_11 : List UInt8 := [181, 0, 253, 132, 4, 1, 167, 255, 95, 177]
abbrev dktX0_findOdds_11 : List UInt8 := dkwX0_findOdds_11 ++ []
def dkwX0_findOdds_10 : List UInt8 := [181, 0, 249, 42, 89, 180, 0, 253, 22, 5, 42, 180, 0, 117, 182, 0, 219, 184, 0, 77, 133, 105, 97]
abbrev dktX0_findOdds_10 : List UInt8 := dkwX0_findOdds_10 ++ dktX0_findOdds_11
def dkwX0_findOdds_9 : List UInt8 := [180, 0, 249, 42, 180, 0, 117, 182, 0, 219, 28, 184, 0, 27, 153, 0, 8, 22, 5, 167, 0, 4, 9, 97]
abbrev dktX0_findOdds_9 : List UInt8 := dkwX0_findOdds_9 ++ dktX0_findOdds_10
def dkwX0_findOdds_8 : List UInt8 := [180, 0, 117, 42, 180, 0, 113, 182, 0, 163, 42, 42, 180, 0, 117, 21, 4, 182, 0, 222, 42, 89]
abbrev dktX0_findOdds_8 : List UInt8 := dkwX0_findOdds_8 ++ dktX0_findOdds_9
def dkwX0_findOdds_7 : List UInt8 := [153, 0, 8, 27, 133, 167, 0, 8, 16, 10, 27, 100, 133, 105, 55, 5, 132, 7, 1, 167, 255, 203, 42]
abbrev dktX0_findOdds_7 : List UInt8 := dkwX0_findOdds_7 ++ dktX0_findOdds_8
def dkwX0_findOdds_6 : List UInt8 := [22, 5, 29, 21, 7, 184, 0, 27, 154, 0, 7, 10, 167, 0, 23, 21, 4, 21, 7, 184, 0, 27]
abbrev dktX0_findOdds_6 : List UInt8 := dkwX0_findOdds_6 ++ dktX0_findOdds_7
def dkwX0_findOdds_5 : List UInt8 := [130, 126, 154, 0, 138, 10, 55, 5, 3, 54, 7, 21, 7, 42, 180, 0, 113, 180, 0, 86, 162, 0, 47]
abbrev dktX0_findOdds_5 : List UInt8 := dkwX0_findOdds_5 ++ dktX0_findOdds_6
def dkwX0_findOdds_4 : List UInt8 := [167, 255, 183, 3, 54, 4, 21, 4, 4, 42, 180, 0, 113, 180, 0, 86, 120, 162, 0, 153, 21, 4, 29, 2]
abbrev dktX0_findOdds_4 : List UInt8 := dkwX0_findOdds_4 ++ dktX0_findOdds_5
def dkwX0_findOdds_3 : List UInt8 := [180, 1, 0, 21, 5, 153, 0, 9, 20, 0, 181, 167, 0, 4, 10, 105, 181, 1, 0, 132, 4, 1]
abbrev dktX0_findOdds_3 : List UInt8 := dkwX0_findOdds_3 ++ dktX0_findOdds_4
def dkwX0_findOdds_2 : List UInt8 := [167, 0, 4, 3, 54, 5, 29, 21, 5, 153, 0, 10, 4, 21, 4, 120, 167, 0, 4, 3, 128, 62, 42, 89]
abbrev dktX0_findOdds_2 : List UInt8 := dkwX0_findOdds_2 ++ dktX0_findOdds_3
def dkwX0_findOdds_1 : List UInt8 := [180, 0, 113, 180, 0, 86, 162, 0, 67, 42, 180, 0, 113, 180, 0, 89, 21, 4, 51, 8, 162, 0, 7, 4]
abbrev dktX0_findOdds_1 : List UInt8 := dkwX0_findOdds_1 ++ dktX0_findOdds_2
def dkwX0_findOdds_0 : List UInt8 := [3, 62, 42, 9, 181, 0, 249, 42, 9, 181, 0, 253, 42, 10, 181, 1, 0, 3, 54, 4, 21, 4, 42]
abbrev dktX0_findOdds_0 : List UInt8 := dkwX0_findOdds_0 ++ dktX0_findOdds_1
theorem dksX0_findOdds_0 : cX0_findOdds.data.toList.drop 0 = dktX0_findOdds_0 := by decide +kernel
theorem dksX0_findOdds_1 : cX0_findOdds.data.toList.drop 23 = dktX0_findOdds_1 := dk_seg dksX0_findOdds_0 23 rfl rfl
theorem dksX0_findOdds_2 : cX0_findOdds.data.toList.drop 47 = dktX0_findOdds_2 := dk_seg dksX0_findOdds_1 24 rfl rfl
theorem dksX0_findOdds_3 : cX0_findOdds.data.toList.drop 71 = dktX0_findOdds_3 := dk_seg dksX0_findOdds_2 24 rfl rfl
theorem dksX0_findOdds_4 : cX0_findOdds.data.toList.drop 93 = dktX0_findOdds_4 := dk_seg dksX0_findOdds_3 22 rfl rfl
theorem dksX0_findOdds_5 : cX0_findOdds.data.toList.drop 117 = dktX0_findOdds_5 := dk_seg dksX0_findOdds_4 24 rfl rfl
theorem dksX0_findOdds_6 : cX0_findOdds.data.toList.drop 140 = dktX0_findOdds_6 := dk_seg dksX0_findOdds_5 23 rfl rfl
theorem dksX0_findOdds_7 : cX0_findOdds.data.toList.drop 162 = dktX0_findOdds_7 := dk_seg dksX0_findOdds_6 22 rfl rfl
theorem dksX0_findOdds_8 : cX0_findOdds.data.toList.drop 185 = dktX0_findOdds_8 := dk_seg dksX0_findOdds_7 23 rfl rfl
theorem dksX0_findOdds_9 : cX0_findOdds.data.toList.drop 207 = dktX0_findOdds_9 := dk_seg dksX0_findOdds_8 22 rfl rfl
theorem dksX0_findOdds_10 : cX0_findOdds.data.toList.drop 231 = dktX0_findOdds_10 := dk_seg dksX0_findOdds_9 24 rfl rfl
theorem dksX0_findOdds_11 : cX0_findOdds.data.toList.drop 254 = dktX0_findOdds_11 := dk_seg dksX0_findOdds_10 23 rfl rfl
theorem dX0_findOdds_0 : decode cX0_findOdds 0 = .ok (.iconst 0, 1) := dk_3 (dk_at dksX0_findOdds_0 0 rfl rfl)
theorem dX0_findOdds_1 : decode cX0_findOdds 1 = .ok (.istore_n 3, 1) := dk_62 (dk_at dksX0_findOdds_0 1 rfl rfl)
theorem dX0_findOdds_2 : decode cX0_findOdds 2 = .ok (.aload_n 0, 1) := dk_42 (dk_at dksX0_findOdds_0 2 rfl rfl)
theorem dX0_findOdds_3 : decode cX0_findOdds 3 = .ok (.lconst 0, 1) := dk_9 (dk_at dksX0_findOdds_0 3 rfl rfl)
theorem dX0_findOdds_4 : decode cX0_findOdds 4 = .ok (.putfield 249, 3) := dk_181 0 249 (dk_at dksX0_findOdds_0 4 rfl rfl)
theorem dX0_findOdds_7 : decode cX0_findOdds 7 = .ok (.aload_n 0, 1) := dk_42 (dk_at dksX0_findOdds_0 7 rfl rfl)
theorem dX0_findOdds_8 : decode cX0_findOdds 8 = .ok (.lconst 0, 1) := dk_9 (dk_at dksX0_findOdds_0 8 rfl rfl)
theorem dX0_findOdds_9 : decode cX0_findOdds 9 = .ok (.putfield 253, 3) := dk_181 0 253 (dk_at dksX0_findOdds_0 9 rfl rfl)
theorem dX0_findOdds_12 : decode cX0_findOdds 12 = .ok (.aload_n 0, 1) := dk_42 (dk_at dksX0_findOdds_0 12 rfl rfl)
theorem dX0_findOdds_13 : decode cX0_findOdds 13 = .ok (.lconst 1, 1) := dk_10 (dk_at dksX0_findOdds_0 13 rfl rfl)
theorem dX0_findOdds_14 : decode cX0_findOdds 14 = .ok (.putfield 256, 3) := dk_181 1 0 (dk_at dksX0_findOdds_0 14 rfl rfl)
theorem dX0_findOdds_17 : decode cX0_findOdds 17 = .ok (.iconst 0, 1) := dk_3 (dk_at dksX0_findOdds_0 17 rfl rfl)
theorem dX0_findOdds_18 : decode cX0_findOdds 18 = .ok (.istore 4, 2) := dk_54 4 (dk_at dksX0_findOdds_0 18 rfl rfl)
theorem dX0_findOdds_20 : decode cX0_findOdds 20 = .ok (.iload 4, 2) := dk_21 4 (dk_at dksX0_findOdds_0 20 rfl rfl)
theorem dX0_findOdds_22 : decode cX0_findOdds 22 = .ok (.aload_n 0, 1) := dk_42 (dk_at dksX0_findOdds_0 22 rfl rfl)
theorem dX0_findOdds_23 : decode cX0_findOdds 23 = .ok (.getfield 113, 3) := dk_180 0 113 (dk_at dksX0_findOdds_1 0 rfl rfl)
theorem dX0_findOdds_26 : decode cX0_findOdds 26 = .ok (.getfield 86, 3) := dk_180 0 86 (dk_at dksX0_findOdds_1 3 rfl rfl)
theorem dX0_findOdds_29 : decode cX0_findOdds 29 = .ok (.if_icmp .ge 67, 3) := dk_162 0 67 (dk_at dksX0_findOdds_1 6 rfl rfl)
theorem dX0_findOdds_32 : decode cX0_findOdds 32 = .ok (.aload_n 0, 1) := dk_42 (dk_at dksX0_findOdds_1 9 rfl rfl)
theorem dX0_findOdds_33 : decode cX0_findOdds 33 = .ok (.getfield 113, 3) := dk_180 0 113 (dk_at dksX0_findOdds_1 10 rfl rfl)
theorem dX0_findOdds_36 : decode cX0_findOdds 36 = .ok (.getfield 89, 3) := dk_180 0 89 (dk_at dksX0_findOdds_1 13 rfl rfl)
theorem dX0_findOdds_39 : decode cX0_findOdds 39 = .ok (.iload 4, 2) := dk_21 4 (dk_at dksX0_findOdds_1 16 rfl rfl)
theorem dX0_findOdds_41 : decode cX0_findOdds 41 = .ok (.baload, 1) := dk_51 (dk_at dksX0_findOdds_1 18 rfl rfl)
theorem dX0_findOdds_42 : decode cX0_findOdds 42 = .ok (.iconst 5, 1) := dk_8 (dk_at dksX0_findOdds_1 19 rfl rfl)
theorem dX0_findOdds_43 : decode cX0_findOdds 43 = .ok (.if_icmp .ge 7, 3) := dk_162 0 7 (dk_at dksX0_findOdds_1 20 rfl rfl)
theorem dX0_findOdds_46 : decode cX0_findOdds 46 = .ok (.iconst 1, 1) := dk_4 (dk_at dksX0_findOdds_1 23 rfl rfl)
theorem dX0_findOdds_47 : decode cX0_findOdds 47 = .ok (.goto 4, 3) := dk_167 0 4 (dk_at dksX0_findOdds_2 0 rfl rfl)
theorem dX0_findOdds_50 : decode cX0_findOdds 50 = .ok (.iconst 0, 1) := dk_3 (dk_at dksX0_findOdds_2 3 rfl rfl)
theorem dX0_findOdds_51 : decode cX0_findOdds 51 = .ok (.istore 5, 2) := dk_54 5 (dk_at dksX0_findOdds_2 4 rfl rfl)
theorem dX0_findOdds_53 : decode cX0_findOdds 53 = .ok (.iload_n 3, 1) := dk_29 (dk_at dksX0_findOdds_2 6 rfl rfl)
theorem dX0_findOdds_54 : decode cX0_findOdds 54 = .ok (.iload 5, 2) := dk_21 5 (dk_at dksX0_findOdds_2 7 rfl rfl)
theorem dX0_findOdds_56 : decode cX0_findOdds 56 = .ok (.ifCond .eq 10, 3) := dk_153 0 10 (dk_at dksX0_findOdds_2 9 rfl rfl)
theorem dX0_findOdds_59 : decode cX0_findOdds 59 = .ok (.iconst 1, 1) := dk_4 (dk_at dksX0_findOdds_2 12 rfl rfl)
theorem dX0_findOdds_60 : decode cX0_findOdds 60 = .ok (.iload 4, 2) := dk_21 4 (dk_at dksX0_findOdds_2 13 rfl rfl)
theorem dX0_findOdds_62 : decode cX0_findOdds 62 = .ok (.ishl, 1) := dk_120 (dk_at dksX0_findOdds_2 15 rfl rfl)
theorem dX0_findOdds_63 : decode cX0_findOdds 63 = .ok (.goto 4, 3) := dk_167 0 4 (dk_at dksX0_findOdds_2 16 rfl rfl)
theorem dX0_findOdds_66 : decode cX0_findOdds 66 = .ok (.iconst 0, 1) := dk_3 (dk_at dksX0_findOdds_2 19 rfl rfl)
theorem dX0_findOdds_67 : decode cX0_findOdds 67 = .ok (.ior, 1) := dk_128 (dk_at dksX0_findOdds_2 20 rfl rfl)
theorem dX0_findOdds_68 : decode cX0_findOdds 68 = .ok (.istore_n 3, 1) := dk_62 (dk_at dksX0_findOdds_2 21 rfl rfl)
theorem dX0_findOdds_69 : decode cX0_findOdds 69 = .ok (.aload_n 0, 1) := dk_42 (dk_at dksX0_findOdds_2 22 rfl rfl)
theorem dX0_findOdds_70 : decode cX0_findOdds 70 = .ok (.dup, 1) := dk_89 (dk_at dksX0_findOdds_2 23 rfl rfl)
theorem dX0_findOdds_71 : decode cX0_findOdds 71 = .ok (.getfield 256, 3) := dk_180 1 0 (dk_at dksX0_findOdds_3 0 rfl rfl)
theorem dX0_findOdds_74 : decode cX0_findOdds 74 = .ok (.iload 5, 2) := dk_21 5 (dk_at dksX0_findOdds_3 3 rfl rfl)
theorem dX0_findOdds_76 : decode cX0_findOdds 76 = .ok (.ifCond .eq 9, 3) := dk_153 0 9 (dk_at dksX0_findOdds_3 5 rfl rfl)
theorem dX0_findOdds_79 : decode cX0_findOdds 79 = .ok (.ldc2_w 181, 3) := dk_20 0 181 (dk_at dksX0_findOdds_3 8 rfl rfl)
theorem dX0_findOdds_82 : decode cX0_findOdds 82 = .ok (.goto 4, 3) := dk_167 0 4 (dk_at dksX0_findOdds_3 11 rfl rfl)
theorem dX0_findOdds_85 : decode cX0_findOdds 85 = .ok (.lconst 1, 1) := dk_10 (dk_at dksX0_findOdds_3 14 rfl rfl)
theorem dX0_findOdds_86 : decode cX0_findOdds 86 = .ok (.lmul, 1) := dk_105 (dk_at dksX0_findOdds_3 15 rfl rfl)
theorem dX0_findOdds_87 : decode cX0_findOdds 87 = .ok (.putfield 256, 3) := dk_181 1 0 (dk_at dksX0_findOdds_3 16 rfl rfl)
theorem dX0_findOdds_90 : decode cX0_findOdds 90 = .ok (.iinc 4 1, 3) := dk_132 4 1 (dk_at dksX0_findOdds_3 19 rfl rfl)
theorem dX0_findOdds_93 : decode cX0_findOdds 93 = .ok (.goto (-73), 3) := dk_167 255 183 (dk_at dksX0_findOdds_4 0 rfl rfl)
theorem dX0_findOdds_96 : decode cX0_findOdds 96 = .ok (.iconst 0, 1) := dk_3 (dk_at dksX0_findOdds_4 3 rfl rfl)
theorem dX0_findOdds_97 : decode cX0_findOdds 97 = .ok (.istore 4, 2) := dk_54 4 (dk_at dksX0_findOdds_4 4 rfl rfl)
theorem dX0_findOdds_99 : decode cX0_findOdds 99 = .ok (.iload 4, 2) := dk_21 4 (dk_at dksX0_findOdds_4 6 rfl rfl)
theorem dX0_findOdds_101 : decode cX0_findOdds 101 = .ok (.iconst 1, 1) := dk_4 (dk_at dksX0_findOdds_4 8 rfl rfl)
theorem dX0_findOdds_102 : decode cX0_findOdds 102 = .ok (.aload_n 0, 1) := dk_42 (dk_at dksX0_findOdds_4 9 rfl rfl)
theorem dX0_findOdds_103 : decode cX0_findOdds 103 = .ok (.getfield 113, 3) := dk_180 0 113 (dk_at dksX0_findOdds_4 10 rfl rfl)
theorem dX0_findOdds_106 : decode cX0_findOdds 106 = .ok (.getfield 86, 3) := dk_180 0 86 (dk_at dksX0_findOdds_4 13 rfl rfl)
theorem dX0_findOdds_109 : decode cX0_findOdds 109 = .ok (.ishl, 1) := dk_120 (dk_at dksX0_findOdds_4 16 rfl rfl)
theorem dX0_findOdds_110 : decode cX0_findOdds 110 = .ok (.if_icmp .ge 153, 3) := dk_162 0 153 (dk_at dksX0_findOdds_4 17 rfl rfl)
theorem dX0_findOdds_113 : decode cX0_findOdds 113 = .ok (.iload 4, 2) := dk_21 4 (dk_at dksX0_findOdds_4 20 rfl rfl)
theorem dX0_findOdds_115 : decode cX0_findOdds 115 = .ok (.iload_n 3, 1) := dk_29 (dk_at dksX0_findOdds_4 22 rfl rfl)
theorem dX0_findOdds_116 : decode cX0_findOdds 116 = .ok (.iconst (-1), 1) := dk_2 (dk_at dksX0_findOdds_4 23 rfl rfl)
theorem dX0_findOdds_117 : decode cX0_findOdds 117 = .ok (.ixor, 1) := dk_130 (dk_at dksX0_findOdds_5 0 rfl rfl)
theorem dX0_findOdds_118 : decode cX0_findOdds 118 = .ok (.iand, 1) := dk_126 (dk_at dksX0_findOdds_5 1 rfl rfl)
theorem dX0_findOdds_119 : decode cX0_findOdds 119 = .ok (.ifCond .ne 138, 3) := dk_154 0 138 (dk_at dksX0_findOdds_5 2 rfl rfl)
theorem dX0_findOdds_122 : decode cX0_findOdds 122 = .ok (.lconst 1, 1) := dk_10 (dk_at dksX0_findOdds_5 5 rfl rfl)
theorem dX0_findOdds_123 : decode cX0_findOdds 123 = .ok (.lstore 5, 2) := dk_55 5 (dk_at dksX0_findOdds_5 6 rfl rfl)
theorem dX0_findOdds_125 : decode cX0_findOdds 125 = .ok (.iconst 0, 1) := dk_3 (dk_at dksX0_findOdds_5 8 rfl rfl)
theorem dX0_findOdds_126 : decode cX0_findOdds 126 = .ok (.istore 7, 2) := dk_54 7 (dk_at dksX0_findOdds_5 9 rfl rfl)
theorem dX0_findOdds_128 : decode cX0_findOdds 128 = .ok (.iload 7, 2) := dk_21 7 (dk_at dksX0_findOdds_5 11 rfl rfl)
theorem dX0_findOdds_130 : decode cX0_findOdds 130 = .ok (.aload_n 0, 1) := dk_42 (dk_at dksX0_findOdds_5 13 rfl rfl)
theorem dX0_findOdds_131 : decode cX0_findOdds 131 = .ok (.getfield 113, 3) := dk_180 0 113 (dk_at dksX0_findOdds_5 14 rfl rfl)
theorem dX0_findOdds_134 : decode cX0_findOdds 134 = .ok (.getfield 86, 3) := dk_180 0 86 (dk_at dksX0_findOdds_5 17 rfl rfl)
theorem dX0_findOdds_137 : decode cX0_findOdds 137 = .ok (.if_icmp .ge 47, 3) := dk_162 0 47 (dk_at dksX0_findOdds_5 20 rfl rfl)
theorem dX0_findOdds_140 : decode cX0_findOdds 140 = .ok (.lload 5, 2) := dk_22 5 (dk_at dksX0_findOdds_6 0 rfl rfl)
theorem dX0_findOdds_142 : decode cX0_findOdds 142 = .ok (.iload_n 3, 1) := dk_29 (dk_at dksX0_findOdds_6 2 rfl rfl)
theorem dX0_findOdds_143 : decode cX0_findOdds 143 = .ok (.iload 7, 2) := dk_21 7 (dk_at dksX0_findOdds_6 3 rfl rfl)
theorem dX0_findOdds_145 : decode cX0_findOdds 145 = .ok (.invokestatic 27, 3) := dk_184 0 27 (dk_at dksX0_findOdds_6 5 rfl rfl)
theorem dX0_findOdds_148 : decode cX0_findOdds 148 = .ok (.ifCond .ne 7, 3) := dk_154 0 7 (dk_at dksX0_findOdds_6 8 rfl rfl)
theorem dX0_findOdds_151 : decode cX0_findOdds 151 = .ok (.lconst 1, 1) := dk_10 (dk_at dksX0_findOdds_6 11 rfl rfl)
theorem dX0_findOdds_152 : decode cX0_findOdds 152 = .ok (.goto 23, 3) := dk_167 0 23 (dk_at dksX0_findOdds_6 12 rfl rfl)
theorem dX0_findOdds_155 : decode cX0_findOdds 155 = .ok (.iload 4, 2) := dk_21 4 (dk_at dksX0_findOdds_6 15 rfl rfl)
theorem dX0_findOdds_157 : decode cX0_findOdds 157 = .ok (.iload 7, 2) := dk_21 7 (dk_at dksX0_findOdds_6 17 rfl rfl)
theorem dX0_findOdds_159 : decode cX0_findOdds 159 = .ok (.invokestatic 27, 3) := dk_184 0 27 (dk_at dksX0_findOdds_6 19 rfl rfl)
theorem dX0_findOdds_162 : decode cX0_findOdds 162 = .ok (.ifCond .eq 8, 3) := dk_153 0 8 (dk_at dksX0_findOdds_7 0 rfl rfl)
theorem dX0_findOdds_165 : decode cX0_findOdds 165 = .ok (.iload_n 1, 1) := dk_27 (dk_at dksX0_findOdds_7 3 rfl rfl)
theorem dX0_findOdds_166 : decode cX0_findOdds 166 = .ok (.i2l, 1) := dk_133 (dk_at dksX0_findOdds_7 4 rfl rfl)
theorem dX0_findOdds_167 : decode cX0_findOdds 167 = .ok (.goto 8, 3) := dk_167 0 8 (dk_at dksX0_findOdds_7 5 rfl rfl)
theorem dX0_findOdds_170 : decode cX0_findOdds 170 = .ok (.bipush 10, 2) := dk_16 10 (dk_at dksX0_findOdds_7 8 rfl rfl)
theorem dX0_findOdds_172 : decode cX0_findOdds 172 = .ok (.iload_n 1, 1) := dk_27 (dk_at dksX0_findOdds_7 10 rfl rfl)
theorem dX0_findOdds_173 : decode cX0_findOdds 173 = .ok (.isub, 1) := dk_100 (dk_at dksX0_findOdds_7 11 rfl rfl)
theorem dX0_findOdds_174 : decode cX0_findOdds 174 = .ok (.i2l, 1) := dk_133 (dk_at dksX0_findOdds_7 12 rfl rfl)
theorem dX0_findOdds_175 : decode cX0_findOdds 175 = .ok (.lmul, 1) := dk_105 (dk_at dksX0_findOdds_7 13 rfl rfl)
theorem dX0_findOdds_176 : decode cX0_findOdds 176 = .ok (.lstore 5, 2) := dk_55 5 (dk_at dksX0_findOdds_7 14 rfl rfl)
theorem dX0_findOdds_178 : decode cX0_findOdds 178 = .ok (.iinc 7 1, 3) := dk_132 7 1 (dk_at dksX0_findOdds_7 16 rfl rfl)
theorem dX0_findOdds_181 : decode cX0_findOdds 181 = .ok (.goto (-53), 3) := dk_167 255 203 (dk_at dksX0_findOdds_7 19 rfl rfl)
theorem dX0_findOdds_184 : decode cX0_findOdds 184 = .ok (.aload_n 0, 1) := dk_42 (dk_at dksX0_findOdds_7 22 rfl rfl)
theorem dX0_findOdds_185 : decode cX0_findOdds 185 = .ok (.getfield 117, 3) := dk_180 0 117 (dk_at dksX0_findOdds_8 0 rfl rfl)
theorem dX0_findOdds_188 : decode cX0_findOdds 188 = .ok (.aload_n 0, 1) := dk_42 (dk_at dksX0_findOdds_8 3 rfl rfl)
theorem dX0_findOdds_189 : decode cX0_findOdds 189 = .ok (.getfield 113, 3) := dk_180 0 113 (dk_at dksX0_findOdds_8 4 rfl rfl)
theorem dX0_findOdds_192 : decode cX0_findOdds 192 = .ok (.invokevirtual 163, 3) := dk_182 0 163 (dk_at dksX0_findOdds_8 7 rfl rfl)
theorem dX0_findOdds_195 : decode cX0_findOdds 195 = .ok (.aload_n 0, 1) := dk_42 (dk_at dksX0_findOdds_8 10 rfl rfl)
theorem dX0_findOdds_196 : decode cX0_findOdds 196 = .ok (.aload_n 0, 1) := dk_42 (dk_at dksX0_findOdds_8 11 rfl rfl)
theorem dX0_findOdds_197 : decode cX0_findOdds 197 = .ok (.getfield 117, 3) := dk_180 0 117 (dk_at dksX0_findOdds_8 12 rfl rfl)
theorem dX0_findOdds_200 : decode cX0_findOdds 200 = .ok (.iload 4, 2) := dk_21 4 (dk_at dksX0_findOdds_8 15 rfl rfl)
theorem dX0_findOdds_202 : decode cX0_findOdds 202 = .ok (.invokevirtual 222, 3) := dk_182 0 222 (dk_at dksX0_findOdds_8 17 rfl rfl)
theorem dX0_findOdds_205 : decode cX0_findOdds 205 = .ok (.aload_n 0, 1) := dk_42 (dk_at dksX0_findOdds_8 20 rfl rfl)
theorem dX0_findOdds_206 : decode cX0_findOdds 206 = .ok (.dup, 1) := dk_89 (dk_at dksX0_findOdds_8 21 rfl rfl)
theorem dX0_findOdds_207 : decode cX0_findOdds 207 = .ok (.getfield 249, 3) := dk_180 0 249 (dk_at dksX0_findOdds_9 0 rfl rfl)
theorem dX0_findOdds_210 : decode cX0_findOdds 210 = .ok (.aload_n 0, 1) := dk_42 (dk_at dksX0_findOdds_9 3 rfl rfl)
theorem dX0_findOdds_211 : decode cX0_findOdds 211 = .ok (.getfield 117, 3) := dk_180 0 117 (dk_at dksX0_findOdds_9 4 rfl rfl)
theorem dX0_findOdds_214 : decode cX0_findOdds 214 = .ok (.invokevirtual 219, 3) := dk_182 0 219 (dk_at dksX0_findOdds_9 7 rfl rfl)
theorem dX0_findOdds_217 : decode cX0_findOdds 217 = .ok (.iload_n 2, 1) := dk_28 (dk_at dksX0_findOdds_9 10 rfl rfl)
theorem dX0_findOdds_218 : decode cX0_findOdds 218 = .ok (.invokestatic 27, 3) := dk_184 0 27 (dk_at dksX0_findOdds_9 11 rfl rfl)
theorem dX0_findOdds_221 : decode cX0_findOdds 221 = .ok (.ifCond .eq 8, 3) := dk_153 0 8 (dk_at dksX0_findOdds_9 14 rfl rfl)
theorem dX0_findOdds_224 : decode cX0_findOdds 224 = .ok (.lload 5, 2) := dk_22 5 (dk_at dksX0_findOdds_9 17 rfl rfl)
theorem dX0_findOdds_226 : decode cX0_findOdds 226 = .ok (.goto 4, 3) := dk_167 0 4 (dk_at dksX0_findOdds_9 19 rfl rfl)
theorem dX0_findOdds_229 : decode cX0_findOdds 229 = .ok (.lconst 0, 1) := dk_9 (dk_at dksX0_findOdds_9 22 rfl rfl)
theorem dX0_findOdds_230 : decode cX0_findOdds 230 = .ok (.ladd, 1) := dk_97 (dk_at dksX0_findOdds_9 23 rfl rfl)
theorem dX0_findOdds_231 : decode cX0_findOdds 231 = .ok (.putfield 249, 3) := dk_181 0 249 (dk_at dksX0_findOdds_10 0 rfl rfl)
theorem dX0_findOdds_234 : decode cX0_findOdds 234 = .ok (.aload_n 0, 1) := dk_42 (dk_at dksX0_findOdds_10 3 rfl rfl)
theorem dX0_findOdds_235 : decode cX0_findOdds 235 = .ok (.dup, 1) := dk_89 (dk_at dksX0_findOdds_10 4 rfl rfl)
theorem dX0_findOdds_236 : decode cX0_findOdds 236 = .ok (.getfield 253, 3) := dk_180 0 253 (dk_at dksX0_findOdds_10 5 rfl rfl)
theorem dX0_findOdds_239 : decode cX0_findOdds 239 = .ok (.lload 5, 2) := dk_22 5 (dk_at dksX0_findOdds_10 8 rfl rfl)
theorem dX0_findOdds_241 : decode cX0_findOdds 241 = .ok (.aload_n 0, 1) := dk_42 (dk_at dksX0_findOdds_10 10 rfl rfl)
theorem dX0_findOdds_242 : decode cX0_findOdds 242 = .ok (.getfield 117, 3) := dk_180 0 117 (dk_at dksX0_findOdds_10 11 rfl rfl)
theorem dX0_findOdds_245 : decode cX0_findOdds 245 = .ok (.invokevirtual 219, 3) := dk_182 0 219 (dk_at dksX0_findOdds_10 14 rfl rfl)
theorem dX0_findOdds_248 : decode cX0_findOdds 248 = .ok (.invokestatic 77, 3) := dk_184 0 77 (dk_at dksX0_findOdds_10 17 rfl rfl)
theorem dX0_findOdds_251 : decode cX0_findOdds 251 = .ok (.i2l, 1) := dk_133 (dk_at dksX0_findOdds_10 20 rfl rfl)
theorem dX0_findOdds_252 : decode cX0_findOdds 252 = .ok (.lmul, 1) := dk_105 (dk_at dksX0_findOdds_10 21 rfl rfl)
theorem dX0_findOdds_253 : decode cX0_findOdds 253 = .ok (.ladd, 1) := dk_97 (dk_at dksX0_findOdds_10 22 rfl rfl)
theorem dX0_findOdds_254 : decode cX0_findOdds 254 = .ok (.putfield 253, 3) := dk_181 0 253 (dk_at dksX0_findOdds_11 0 rfl rfl)
theorem dX0_findOdds_257 : decode cX0_findOdds 257 = .ok (.iinc 4 1, 3) := dk_132 4 1 (dk_at dksX0_findOdds_11 3 rfl rfl)
theorem dX0_findOdds_260 : decode cX0_findOdds 260 = .ok (.goto (-161), 3) := dk_167 255 95 (dk_at dksX0_findOdds_11 6 rfl rfl)
theorem dX0_findOdds_263 : decode cX0_findOdds 263 = .ok (.return_, 1) := dk_177 (dk_at dksX0_findOdds_11 9 rfl rfl)
abbrev cX0_lowest : ByteArray := prog_1_method_43_code
def yX0_lowest : MethodName := ⟨RX0, "lowest", "(JJI)J"⟩
def dkwX0_lowest_1 : List UInt8 := [22, 9, 55, 7, 167, 255, 234, 21, 4, 154, 0, 10, 30, 22, 5, 109, 167, 0, 7, 32, 22, 5, 109, 173]
abbrev dktX0_lowest_1 : List UInt8 := dkwX0_lowest_1 ++ []
def dkwX0_lowest_0 : List UInt8 := [32, 55, 5, 30, 55, 7, 22, 7, 9, 148, 153, 0, 21, 22, 5, 22, 7, 113, 55, 9, 22, 7, 55, 5]
abbrev dktX0_lowest_0 : List UInt8 := dkwX0_lowest_0 ++ dktX0_lowest_1
theorem dksX0_lowest_0 : cX0_lowest.data.toList.drop 0 = dktX0_lowest_0 := by decide +kernel
theorem dksX0_lowest_1 : cX0_lowest.data.toList.drop 24 = dktX0_lowest_1 := dk_seg dksX0_lowest_0 24 rfl rfl
theorem dX0_lowest_0 : decode cX0_lowest 0 = .ok (.lload_n 2, 1) := dk_32 (dk_at dksX0_lowest_0 0 rfl rfl)
theorem dX0_lowest_1 : decode cX0_lowest 1 = .ok (.lstore 5, 2) := dk_55 5 (dk_at dksX0_lowest_0 1 rfl rfl)
theorem dX0_lowest_3 : decode cX0_lowest 3 = .ok (.lload_n 0, 1) := dk_30 (dk_at dksX0_lowest_0 3 rfl rfl)
theorem dX0_lowest_4 : decode cX0_lowest 4 = .ok (.lstore 7, 2) := dk_55 7 (dk_at dksX0_lowest_0 4 rfl rfl)
theorem dX0_lowest_6 : decode cX0_lowest 6 = .ok (.lload 7, 2) := dk_22 7 (dk_at dksX0_lowest_0 6 rfl rfl)
theorem dX0_lowest_8 : decode cX0_lowest 8 = .ok (.lconst 0, 1) := dk_9 (dk_at dksX0_lowest_0 8 rfl rfl)
theorem dX0_lowest_9 : decode cX0_lowest 9 = .ok (.lcmp, 1) := dk_148 (dk_at dksX0_lowest_0 9 rfl rfl)
theorem dX0_lowest_10 : decode cX0_lowest 10 = .ok (.ifCond .eq 21, 3) := dk_153 0 21 (dk_at dksX0_lowest_0 10 rfl rfl)
theorem dX0_lowest_13 : decode cX0_lowest 13 = .ok (.lload 5, 2) := dk_22 5 (dk_at dksX0_lowest_0 13 rfl rfl)
theorem dX0_lowest_15 : decode cX0_lowest 15 = .ok (.lload 7, 2) := dk_22 7 (dk_at dksX0_lowest_0 15 rfl rfl)
theorem dX0_lowest_17 : decode cX0_lowest 17 = .ok (.lrem, 1) := dk_113 (dk_at dksX0_lowest_0 17 rfl rfl)
theorem dX0_lowest_18 : decode cX0_lowest 18 = .ok (.lstore 9, 2) := dk_55 9 (dk_at dksX0_lowest_0 18 rfl rfl)
theorem dX0_lowest_20 : decode cX0_lowest 20 = .ok (.lload 7, 2) := dk_22 7 (dk_at dksX0_lowest_0 20 rfl rfl)
theorem dX0_lowest_22 : decode cX0_lowest 22 = .ok (.lstore 5, 2) := dk_55 5 (dk_at dksX0_lowest_0 22 rfl rfl)
theorem dX0_lowest_24 : decode cX0_lowest 24 = .ok (.lload 9, 2) := dk_22 9 (dk_at dksX0_lowest_1 0 rfl rfl)
theorem dX0_lowest_26 : decode cX0_lowest 26 = .ok (.lstore 7, 2) := dk_55 7 (dk_at dksX0_lowest_1 2 rfl rfl)
theorem dX0_lowest_28 : decode cX0_lowest 28 = .ok (.goto (-22), 3) := dk_167 255 234 (dk_at dksX0_lowest_1 4 rfl rfl)
theorem dX0_lowest_31 : decode cX0_lowest 31 = .ok (.iload 4, 2) := dk_21 4 (dk_at dksX0_lowest_1 7 rfl rfl)
theorem dX0_lowest_33 : decode cX0_lowest 33 = .ok (.ifCond .ne 10, 3) := dk_154 0 10 (dk_at dksX0_lowest_1 9 rfl rfl)
theorem dX0_lowest_36 : decode cX0_lowest 36 = .ok (.lload_n 0, 1) := dk_30 (dk_at dksX0_lowest_1 12 rfl rfl)
theorem dX0_lowest_37 : decode cX0_lowest 37 = .ok (.lload 5, 2) := dk_22 5 (dk_at dksX0_lowest_1 13 rfl rfl)
theorem dX0_lowest_39 : decode cX0_lowest 39 = .ok (.ldiv, 1) := dk_109 (dk_at dksX0_lowest_1 15 rfl rfl)
theorem dX0_lowest_40 : decode cX0_lowest 40 = .ok (.goto 7, 3) := dk_167 0 7 (dk_at dksX0_lowest_1 16 rfl rfl)
theorem dX0_lowest_43 : decode cX0_lowest 43 = .ok (.lload_n 2, 1) := dk_32 (dk_at dksX0_lowest_1 19 rfl rfl)
theorem dX0_lowest_44 : decode cX0_lowest 44 = .ok (.lload 5, 2) := dk_22 5 (dk_at dksX0_lowest_1 20 rfl rfl)
theorem dX0_lowest_46 : decode cX0_lowest 46 = .ok (.ldiv, 1) := dk_109 (dk_at dksX0_lowest_1 22 rfl rfl)
theorem dX0_lowest_47 : decode cX0_lowest 47 = .ok (.lreturn, 1) := dk_173 (dk_at dksX0_lowest_1 23 rfl rfl)
abbrev cX0_mean : ByteArray := prog_1_method_46_code
def yX0_mean : MethodName := ⟨RX0, "mean", "(II)J"⟩
def dkwX0_mean_1 : List UInt8 := [27, 3, 182, 1, 5, 42, 180, 0, 253, 42, 180, 1, 0, 28, 184, 1, 8, 173]
abbrev dktX0_mean_1 : List UInt8 := dkwX0_mean_1 ++ []
def dkwX0_mean_0 : List UInt8 := [27, 133, 9, 20, 0, 181, 184, 0, 142, 153, 0, 10, 28, 184, 0, 203, 154, 0, 7, 20, 1, 3, 173, 42]
abbrev dktX0_mean_0 : List UInt8 := dkwX0_mean_0 ++ dktX0_mean_1
theorem dksX0_mean_0 : cX0_mean.data.toList.drop 0 = dktX0_mean_0 := by decide +kernel
theorem dksX0_mean_1 : cX0_mean.data.toList.drop 24 = dktX0_mean_1 := dk_seg dksX0_mean_0 24 rfl rfl
theorem dX0_mean_0 : decode cX0_mean 0 = .ok (.iload_n 1, 1) := dk_27 (dk_at dksX0_mean_0 0 rfl rfl)
theorem dX0_mean_1 : decode cX0_mean 1 = .ok (.i2l, 1) := dk_133 (dk_at dksX0_mean_0 1 rfl rfl)
theorem dX0_mean_2 : decode cX0_mean 2 = .ok (.lconst 0, 1) := dk_9 (dk_at dksX0_mean_0 2 rfl rfl)
theorem dX0_mean_3 : decode cX0_mean 3 = .ok (.ldc2_w 181, 3) := dk_20 0 181 (dk_at dksX0_mean_0 3 rfl rfl)
theorem dX0_mean_6 : decode cX0_mean 6 = .ok (.invokestatic 142, 3) := dk_184 0 142 (dk_at dksX0_mean_0 6 rfl rfl)
theorem dX0_mean_9 : decode cX0_mean 9 = .ok (.ifCond .eq 10, 3) := dk_153 0 10 (dk_at dksX0_mean_0 9 rfl rfl)
theorem dX0_mean_12 : decode cX0_mean 12 = .ok (.iload_n 2, 1) := dk_28 (dk_at dksX0_mean_0 12 rfl rfl)
theorem dX0_mean_13 : decode cX0_mean 13 = .ok (.invokestatic 203, 3) := dk_184 0 203 (dk_at dksX0_mean_0 13 rfl rfl)
theorem dX0_mean_16 : decode cX0_mean 16 = .ok (.ifCond .ne 7, 3) := dk_154 0 7 (dk_at dksX0_mean_0 16 rfl rfl)
theorem dX0_mean_19 : decode cX0_mean 19 = .ok (.ldc2_w 259, 3) := dk_20 1 3 (dk_at dksX0_mean_0 19 rfl rfl)
theorem dX0_mean_22 : decode cX0_mean 22 = .ok (.lreturn, 1) := dk_173 (dk_at dksX0_mean_0 22 rfl rfl)
theorem dX0_mean_23 : decode cX0_mean 23 = .ok (.aload_n 0, 1) := dk_42 (dk_at dksX0_mean_0 23 rfl rfl)
theorem dX0_mean_24 : decode cX0_mean 24 = .ok (.iload_n 1, 1) := dk_27 (dk_at dksX0_mean_1 0 rfl rfl)
theorem dX0_mean_25 : decode cX0_mean 25 = .ok (.iconst 0, 1) := dk_3 (dk_at dksX0_mean_1 1 rfl rfl)
theorem dX0_mean_26 : decode cX0_mean 26 = .ok (.invokevirtual 261, 3) := dk_182 1 5 (dk_at dksX0_mean_1 2 rfl rfl)
theorem dX0_mean_29 : decode cX0_mean 29 = .ok (.aload_n 0, 1) := dk_42 (dk_at dksX0_mean_1 5 rfl rfl)
theorem dX0_mean_30 : decode cX0_mean 30 = .ok (.getfield 253, 3) := dk_180 0 253 (dk_at dksX0_mean_1 6 rfl rfl)
theorem dX0_mean_33 : decode cX0_mean 33 = .ok (.aload_n 0, 1) := dk_42 (dk_at dksX0_mean_1 9 rfl rfl)
theorem dX0_mean_34 : decode cX0_mean 34 = .ok (.getfield 256, 3) := dk_180 1 0 (dk_at dksX0_mean_1 10 rfl rfl)
theorem dX0_mean_37 : decode cX0_mean 37 = .ok (.iload_n 2, 1) := dk_28 (dk_at dksX0_mean_1 13 rfl rfl)
theorem dX0_mean_38 : decode cX0_mean 38 = .ok (.invokestatic 264, 3) := dk_184 1 8 (dk_at dksX0_mean_1 14 rfl rfl)
theorem dX0_mean_41 : decode cX0_mean 41 = .ok (.lreturn, 1) := dk_173 (dk_at dksX0_mean_1 17 rfl rfl)
abbrev cX0_see : ByteArray := prog_1_method_47_code
def yX0_see : MethodName := ⟨RX0, "see", "(IZ)I"⟩
def dkwX0_see_3 : List UInt8 := [180, 0, 167, 172]
abbrev dktX0_see_3 : List UInt8 := dkwX0_see_3 ++ []
def dkwX0_see_2 : List UInt8 := [28, 153, 0, 7, 4, 167, 0, 4, 3, 145, 84, 42, 89, 180, 0, 167, 4, 96, 181, 0, 167, 42]
abbrev dktX0_see_2 : List UInt8 := dkwX0_see_2 ++ dktX0_see_3
def dkwX0_see_1 : List UInt8 := [180, 0, 124, 5, 42, 180, 0, 167, 104, 27, 145, 84, 42, 180, 0, 124, 5, 42, 180, 0, 167, 104, 4, 96]
abbrev dktX0_see_1 : List UInt8 := dkwX0_see_1 ++ dktX0_see_2
def dkwX0_see_0 : List UInt8 := [42, 27, 182, 0, 192, 154, 0, 5, 2, 172, 42, 180, 0, 167, 16, 6, 160, 0, 6, 16, 253, 172, 42]
abbrev dktX0_see_0 : List UInt8 := dkwX0_see_0 ++ dktX0_see_1
theorem dksX0_see_0 : cX0_see.data.toList.drop 0 = dktX0_see_0 := by decide +kernel
theorem dksX0_see_1 : cX0_see.data.toList.drop 23 = dktX0_see_1 := dk_seg dksX0_see_0 23 rfl rfl
theorem dksX0_see_2 : cX0_see.data.toList.drop 47 = dktX0_see_2 := dk_seg dksX0_see_1 24 rfl rfl
theorem dksX0_see_3 : cX0_see.data.toList.drop 69 = dktX0_see_3 := dk_seg dksX0_see_2 22 rfl rfl
theorem dX0_see_0 : decode cX0_see 0 = .ok (.aload_n 0, 1) := dk_42 (dk_at dksX0_see_0 0 rfl rfl)
theorem dX0_see_1 : decode cX0_see 1 = .ok (.iload_n 1, 1) := dk_27 (dk_at dksX0_see_0 1 rfl rfl)
theorem dX0_see_2 : decode cX0_see 2 = .ok (.invokevirtual 192, 3) := dk_182 0 192 (dk_at dksX0_see_0 2 rfl rfl)
theorem dX0_see_5 : decode cX0_see 5 = .ok (.ifCond .ne 5, 3) := dk_154 0 5 (dk_at dksX0_see_0 5 rfl rfl)
theorem dX0_see_8 : decode cX0_see 8 = .ok (.iconst (-1), 1) := dk_2 (dk_at dksX0_see_0 8 rfl rfl)
theorem dX0_see_9 : decode cX0_see 9 = .ok (.ireturn, 1) := dk_172 (dk_at dksX0_see_0 9 rfl rfl)
theorem dX0_see_10 : decode cX0_see 10 = .ok (.aload_n 0, 1) := dk_42 (dk_at dksX0_see_0 10 rfl rfl)
theorem dX0_see_11 : decode cX0_see 11 = .ok (.getfield 167, 3) := dk_180 0 167 (dk_at dksX0_see_0 11 rfl rfl)
theorem dX0_see_14 : decode cX0_see 14 = .ok (.bipush 6, 2) := dk_16 6 (dk_at dksX0_see_0 14 rfl rfl)
theorem dX0_see_16 : decode cX0_see 16 = .ok (.if_icmp .ne 6, 3) := dk_160 0 6 (dk_at dksX0_see_0 16 rfl rfl)
theorem dX0_see_19 : decode cX0_see 19 = .ok (.bipush (-3), 2) := dk_16 253 (dk_at dksX0_see_0 19 rfl rfl)
theorem dX0_see_21 : decode cX0_see 21 = .ok (.ireturn, 1) := dk_172 (dk_at dksX0_see_0 21 rfl rfl)
theorem dX0_see_22 : decode cX0_see 22 = .ok (.aload_n 0, 1) := dk_42 (dk_at dksX0_see_0 22 rfl rfl)
theorem dX0_see_23 : decode cX0_see 23 = .ok (.getfield 124, 3) := dk_180 0 124 (dk_at dksX0_see_1 0 rfl rfl)
theorem dX0_see_26 : decode cX0_see 26 = .ok (.iconst 2, 1) := dk_5 (dk_at dksX0_see_1 3 rfl rfl)
theorem dX0_see_27 : decode cX0_see 27 = .ok (.aload_n 0, 1) := dk_42 (dk_at dksX0_see_1 4 rfl rfl)
theorem dX0_see_28 : decode cX0_see 28 = .ok (.getfield 167, 3) := dk_180 0 167 (dk_at dksX0_see_1 5 rfl rfl)
theorem dX0_see_31 : decode cX0_see 31 = .ok (.imul, 1) := dk_104 (dk_at dksX0_see_1 8 rfl rfl)
theorem dX0_see_32 : decode cX0_see 32 = .ok (.iload_n 1, 1) := dk_27 (dk_at dksX0_see_1 9 rfl rfl)
theorem dX0_see_33 : decode cX0_see 33 = .ok (.i2b, 1) := dk_145 (dk_at dksX0_see_1 10 rfl rfl)
theorem dX0_see_34 : decode cX0_see 34 = .ok (.bastore, 1) := dk_84 (dk_at dksX0_see_1 11 rfl rfl)
theorem dX0_see_35 : decode cX0_see 35 = .ok (.aload_n 0, 1) := dk_42 (dk_at dksX0_see_1 12 rfl rfl)
theorem dX0_see_36 : decode cX0_see 36 = .ok (.getfield 124, 3) := dk_180 0 124 (dk_at dksX0_see_1 13 rfl rfl)
theorem dX0_see_39 : decode cX0_see 39 = .ok (.iconst 2, 1) := dk_5 (dk_at dksX0_see_1 16 rfl rfl)
theorem dX0_see_40 : decode cX0_see 40 = .ok (.aload_n 0, 1) := dk_42 (dk_at dksX0_see_1 17 rfl rfl)
theorem dX0_see_41 : decode cX0_see 41 = .ok (.getfield 167, 3) := dk_180 0 167 (dk_at dksX0_see_1 18 rfl rfl)
theorem dX0_see_44 : decode cX0_see 44 = .ok (.imul, 1) := dk_104 (dk_at dksX0_see_1 21 rfl rfl)
theorem dX0_see_45 : decode cX0_see 45 = .ok (.iconst 1, 1) := dk_4 (dk_at dksX0_see_1 22 rfl rfl)
theorem dX0_see_46 : decode cX0_see 46 = .ok (.iadd, 1) := dk_96 (dk_at dksX0_see_1 23 rfl rfl)
theorem dX0_see_47 : decode cX0_see 47 = .ok (.iload_n 2, 1) := dk_28 (dk_at dksX0_see_2 0 rfl rfl)
theorem dX0_see_48 : decode cX0_see 48 = .ok (.ifCond .eq 7, 3) := dk_153 0 7 (dk_at dksX0_see_2 1 rfl rfl)
theorem dX0_see_51 : decode cX0_see 51 = .ok (.iconst 1, 1) := dk_4 (dk_at dksX0_see_2 4 rfl rfl)
theorem dX0_see_52 : decode cX0_see 52 = .ok (.goto 4, 3) := dk_167 0 4 (dk_at dksX0_see_2 5 rfl rfl)
theorem dX0_see_55 : decode cX0_see 55 = .ok (.iconst 0, 1) := dk_3 (dk_at dksX0_see_2 8 rfl rfl)
theorem dX0_see_56 : decode cX0_see 56 = .ok (.i2b, 1) := dk_145 (dk_at dksX0_see_2 9 rfl rfl)
theorem dX0_see_57 : decode cX0_see 57 = .ok (.bastore, 1) := dk_84 (dk_at dksX0_see_2 10 rfl rfl)
theorem dX0_see_58 : decode cX0_see 58 = .ok (.aload_n 0, 1) := dk_42 (dk_at dksX0_see_2 11 rfl rfl)
theorem dX0_see_59 : decode cX0_see 59 = .ok (.dup, 1) := dk_89 (dk_at dksX0_see_2 12 rfl rfl)
theorem dX0_see_60 : decode cX0_see 60 = .ok (.getfield 167, 3) := dk_180 0 167 (dk_at dksX0_see_2 13 rfl rfl)
theorem dX0_see_63 : decode cX0_see 63 = .ok (.iconst 1, 1) := dk_4 (dk_at dksX0_see_2 16 rfl rfl)
theorem dX0_see_64 : decode cX0_see 64 = .ok (.iadd, 1) := dk_96 (dk_at dksX0_see_2 17 rfl rfl)
theorem dX0_see_65 : decode cX0_see 65 = .ok (.putfield 167, 3) := dk_181 0 167 (dk_at dksX0_see_2 18 rfl rfl)
theorem dX0_see_68 : decode cX0_see 68 = .ok (.aload_n 0, 1) := dk_42 (dk_at dksX0_see_2 21 rfl rfl)
theorem dX0_see_69 : decode cX0_see 69 = .ok (.getfield 167, 3) := dk_180 0 167 (dk_at dksX0_see_3 0 rfl rfl)
theorem dX0_see_72 : decode cX0_see 72 = .ok (.ireturn, 1) := dk_172 (dk_at dksX0_see_3 3 rfl rfl)
abbrev cX0_forget : ByteArray := prog_1_method_48_code
def yX0_forget : MethodName := ⟨RX0, "forget", "(I)I"⟩
def dkwX0_forget_1 : List UInt8 := [181, 0, 167, 28, 172]
abbrev dktX0_forget_1 : List UInt8 := dkwX0_forget_1 ++ []
def dkwX0_forget_0 : List UInt8 := [27, 133, 9, 42, 180, 0, 167, 133, 184, 0, 142, 154, 0, 5, 2, 172, 42, 180, 0, 167, 61, 42, 27]
abbrev dktX0_forget_0 : List UInt8 := dkwX0_forget_0 ++ dktX0_forget_1
theorem dksX0_forget_0 : cX0_forget.data.toList.drop 0 = dktX0_forget_0 := by decide +kernel
theorem dksX0_forget_1 : cX0_forget.data.toList.drop 23 = dktX0_forget_1 := dk_seg dksX0_forget_0 23 rfl rfl
theorem dX0_forget_0 : decode cX0_forget 0 = .ok (.iload_n 1, 1) := dk_27 (dk_at dksX0_forget_0 0 rfl rfl)
theorem dX0_forget_1 : decode cX0_forget 1 = .ok (.i2l, 1) := dk_133 (dk_at dksX0_forget_0 1 rfl rfl)
theorem dX0_forget_2 : decode cX0_forget 2 = .ok (.lconst 0, 1) := dk_9 (dk_at dksX0_forget_0 2 rfl rfl)
theorem dX0_forget_3 : decode cX0_forget 3 = .ok (.aload_n 0, 1) := dk_42 (dk_at dksX0_forget_0 3 rfl rfl)
theorem dX0_forget_4 : decode cX0_forget 4 = .ok (.getfield 167, 3) := dk_180 0 167 (dk_at dksX0_forget_0 4 rfl rfl)
theorem dX0_forget_7 : decode cX0_forget 7 = .ok (.i2l, 1) := dk_133 (dk_at dksX0_forget_0 7 rfl rfl)
theorem dX0_forget_8 : decode cX0_forget 8 = .ok (.invokestatic 142, 3) := dk_184 0 142 (dk_at dksX0_forget_0 8 rfl rfl)
theorem dX0_forget_11 : decode cX0_forget 11 = .ok (.ifCond .ne 5, 3) := dk_154 0 5 (dk_at dksX0_forget_0 11 rfl rfl)
theorem dX0_forget_14 : decode cX0_forget 14 = .ok (.iconst (-1), 1) := dk_2 (dk_at dksX0_forget_0 14 rfl rfl)
theorem dX0_forget_15 : decode cX0_forget 15 = .ok (.ireturn, 1) := dk_172 (dk_at dksX0_forget_0 15 rfl rfl)
theorem dX0_forget_16 : decode cX0_forget 16 = .ok (.aload_n 0, 1) := dk_42 (dk_at dksX0_forget_0 16 rfl rfl)
theorem dX0_forget_17 : decode cX0_forget 17 = .ok (.getfield 167, 3) := dk_180 0 167 (dk_at dksX0_forget_0 17 rfl rfl)
theorem dX0_forget_20 : decode cX0_forget 20 = .ok (.istore_n 2, 1) := dk_61 (dk_at dksX0_forget_0 20 rfl rfl)
theorem dX0_forget_21 : decode cX0_forget 21 = .ok (.aload_n 0, 1) := dk_42 (dk_at dksX0_forget_0 21 rfl rfl)
theorem dX0_forget_22 : decode cX0_forget 22 = .ok (.iload_n 1, 1) := dk_27 (dk_at dksX0_forget_0 22 rfl rfl)
theorem dX0_forget_23 : decode cX0_forget 23 = .ok (.putfield 167, 3) := dk_181 0 167 (dk_at dksX0_forget_1 0 rfl rfl)
theorem dX0_forget_26 : decode cX0_forget 26 = .ok (.iload_n 2, 1) := dk_28 (dk_at dksX0_forget_1 3 rfl rfl)
theorem dX0_forget_27 : decode cX0_forget 27 = .ok (.ireturn, 1) := dk_172 (dk_at dksX0_forget_1 4 rfl rfl)
abbrev cX0_kinds : ByteArray := prog_1_method_51_code
def yX0_kinds : MethodName := ⟨RX0, "kinds", "(I)I"⟩
def dkwX0_kinds_0 : List UInt8 := [42, 27, 182, 0, 192, 153, 0, 13, 42, 27, 3, 6, 182, 1, 16, 167, 0, 4, 2, 172]
abbrev dktX0_kinds_0 : List UInt8 := dkwX0_kinds_0 ++ []
theorem dksX0_kinds_0 : cX0_kinds.data.toList.drop 0 = dktX0_kinds_0 := by decide +kernel
theorem dX0_kinds_0 : decode cX0_kinds 0 = .ok (.aload_n 0, 1) := dk_42 (dk_at dksX0_kinds_0 0 rfl rfl)
theorem dX0_kinds_1 : decode cX0_kinds 1 = .ok (.iload_n 1, 1) := dk_27 (dk_at dksX0_kinds_0 1 rfl rfl)
theorem dX0_kinds_2 : decode cX0_kinds 2 = .ok (.invokevirtual 192, 3) := dk_182 0 192 (dk_at dksX0_kinds_0 2 rfl rfl)
theorem dX0_kinds_5 : decode cX0_kinds 5 = .ok (.ifCond .eq 13, 3) := dk_153 0 13 (dk_at dksX0_kinds_0 5 rfl rfl)
theorem dX0_kinds_8 : decode cX0_kinds 8 = .ok (.aload_n 0, 1) := dk_42 (dk_at dksX0_kinds_0 8 rfl rfl)
theorem dX0_kinds_9 : decode cX0_kinds 9 = .ok (.iload_n 1, 1) := dk_27 (dk_at dksX0_kinds_0 9 rfl rfl)
theorem dX0_kinds_10 : decode cX0_kinds 10 = .ok (.iconst 0, 1) := dk_3 (dk_at dksX0_kinds_0 10 rfl rfl)
theorem dX0_kinds_11 : decode cX0_kinds 11 = .ok (.iconst 3, 1) := dk_6 (dk_at dksX0_kinds_0 11 rfl rfl)
theorem dX0_kinds_12 : decode cX0_kinds 12 = .ok (.invokevirtual 272, 3) := dk_182 1 16 (dk_at dksX0_kinds_0 12 rfl rfl)
theorem dX0_kinds_15 : decode cX0_kinds 15 = .ok (.goto 4, 3) := dk_167 0 4 (dk_at dksX0_kinds_0 15 rfl rfl)
theorem dX0_kinds_18 : decode cX0_kinds 18 = .ok (.iconst (-1), 1) := dk_2 (dk_at dksX0_kinds_0 18 rfl rfl)
theorem dX0_kinds_19 : decode cX0_kinds 19 = .ok (.ireturn, 1) := dk_172 (dk_at dksX0_kinds_0 19 rfl rfl)
abbrev cX0_which : ByteArray := prog_1_method_50_code
def yX0_which : MethodName := ⟨RX0, "which", "(III)I"⟩
def dkwX0_which_1 : List UInt8 := [153, 0, 10, 4, 21, 5, 120, 167, 0, 4, 3, 128, 54, 4, 132, 5, 1, 167, 255, 223, 21, 4, 172]
abbrev dktX0_which_1 : List UInt8 := dkwX0_which_1 ++ []
def dkwX0_which_0 : List UInt8 := [3, 54, 4, 3, 54, 5, 21, 5, 29, 163, 0, 33, 21, 4, 42, 27, 28, 21, 5, 182, 1, 12]
abbrev dktX0_which_0 : List UInt8 := dkwX0_which_0 ++ dktX0_which_1
theorem dksX0_which_0 : cX0_which.data.toList.drop 0 = dktX0_which_0 := by decide +kernel
theorem dksX0_which_1 : cX0_which.data.toList.drop 22 = dktX0_which_1 := dk_seg dksX0_which_0 22 rfl rfl
theorem dX0_which_0 : decode cX0_which 0 = .ok (.iconst 0, 1) := dk_3 (dk_at dksX0_which_0 0 rfl rfl)
theorem dX0_which_1 : decode cX0_which 1 = .ok (.istore 4, 2) := dk_54 4 (dk_at dksX0_which_0 1 rfl rfl)
theorem dX0_which_3 : decode cX0_which 3 = .ok (.iconst 0, 1) := dk_3 (dk_at dksX0_which_0 3 rfl rfl)
theorem dX0_which_4 : decode cX0_which 4 = .ok (.istore 5, 2) := dk_54 5 (dk_at dksX0_which_0 4 rfl rfl)
theorem dX0_which_6 : decode cX0_which 6 = .ok (.iload 5, 2) := dk_21 5 (dk_at dksX0_which_0 6 rfl rfl)
theorem dX0_which_8 : decode cX0_which 8 = .ok (.iload_n 3, 1) := dk_29 (dk_at dksX0_which_0 8 rfl rfl)
theorem dX0_which_9 : decode cX0_which 9 = .ok (.if_icmp .gt 33, 3) := dk_163 0 33 (dk_at dksX0_which_0 9 rfl rfl)
theorem dX0_which_12 : decode cX0_which 12 = .ok (.iload 4, 2) := dk_21 4 (dk_at dksX0_which_0 12 rfl rfl)
theorem dX0_which_14 : decode cX0_which 14 = .ok (.aload_n 0, 1) := dk_42 (dk_at dksX0_which_0 14 rfl rfl)
theorem dX0_which_15 : decode cX0_which 15 = .ok (.iload_n 1, 1) := dk_27 (dk_at dksX0_which_0 15 rfl rfl)
theorem dX0_which_16 : decode cX0_which 16 = .ok (.iload_n 2, 1) := dk_28 (dk_at dksX0_which_0 16 rfl rfl)
theorem dX0_which_17 : decode cX0_which 17 = .ok (.iload 5, 2) := dk_21 5 (dk_at dksX0_which_0 17 rfl rfl)
theorem dX0_which_19 : decode cX0_which 19 = .ok (.invokevirtual 268, 3) := dk_182 1 12 (dk_at dksX0_which_0 19 rfl rfl)
theorem dX0_which_22 : decode cX0_which 22 = .ok (.ifCond .eq 10, 3) := dk_153 0 10 (dk_at dksX0_which_1 0 rfl rfl)
theorem dX0_which_25 : decode cX0_which 25 = .ok (.iconst 1, 1) := dk_4 (dk_at dksX0_which_1 3 rfl rfl)
theorem dX0_which_26 : decode cX0_which 26 = .ok (.iload 5, 2) := dk_21 5 (dk_at dksX0_which_1 4 rfl rfl)
theorem dX0_which_28 : decode cX0_which 28 = .ok (.ishl, 1) := dk_120 (dk_at dksX0_which_1 6 rfl rfl)
theorem dX0_which_29 : decode cX0_which 29 = .ok (.goto 4, 3) := dk_167 0 4 (dk_at dksX0_which_1 7 rfl rfl)
theorem dX0_which_32 : decode cX0_which 32 = .ok (.iconst 0, 1) := dk_3 (dk_at dksX0_which_1 10 rfl rfl)
theorem dX0_which_33 : decode cX0_which 33 = .ok (.ior, 1) := dk_128 (dk_at dksX0_which_1 11 rfl rfl)
theorem dX0_which_34 : decode cX0_which 34 = .ok (.istore 4, 2) := dk_54 4 (dk_at dksX0_which_1 12 rfl rfl)
theorem dX0_which_36 : decode cX0_which 36 = .ok (.iinc 5 1, 3) := dk_132 5 1 (dk_at dksX0_which_1 14 rfl rfl)
theorem dX0_which_39 : decode cX0_which 39 = .ok (.goto (-33), 3) := dk_167 255 223 (dk_at dksX0_which_1 17 rfl rfl)
theorem dX0_which_42 : decode cX0_which 42 = .ok (.iload 4, 2) := dk_21 4 (dk_at dksX0_which_1 20 rfl rfl)
theorem dX0_which_44 : decode cX0_which 44 = .ok (.ireturn, 1) := dk_172 (dk_at dksX0_which_1 22 rfl rfl)
abbrev cX0_isSo : ByteArray := prog_1_method_49_code
def yX0_isSo : MethodName := ⟨RX0, "isSo", "(III)Z"⟩
def dkwX0_isSo_3 : List UInt8 := [104, 4, 96, 51, 160, 0, 7, 4, 167, 0, 4, 3, 126, 54, 4, 132, 5, 1, 167, 255, 203, 21, 4, 172]
abbrev dktX0_isSo_3 : List UInt8 := dkwX0_isSo_3 ++ []
def dkwX0_isSo_2 : List UInt8 := [42, 180, 0, 117, 42, 180, 0, 124, 5, 21, 5, 104, 51, 5, 182, 0, 7, 42, 180, 0, 124, 5, 21, 5]
abbrev dktX0_isSo_2 : List UInt8 := dkwX0_isSo_2 ++ dktX0_isSo_3
def dkwX0_isSo_1 : List UInt8 := [180, 0, 117, 3, 182, 0, 222, 4, 54, 4, 3, 54, 5, 21, 5, 42, 180, 0, 167, 162, 0, 50, 21, 4]
abbrev dktX0_isSo_1 : List UInt8 := dkwX0_isSo_1 ++ dktX0_isSo_2
def dkwX0_isSo_0 : List UInt8 := [42, 180, 0, 117, 42, 180, 0, 113, 182, 0, 163, 42, 180, 0, 117, 27, 28, 29, 182, 0, 51, 42, 42]
abbrev dktX0_isSo_0 : List UInt8 := dkwX0_isSo_0 ++ dktX0_isSo_1
theorem dksX0_isSo_0 : cX0_isSo.data.toList.drop 0 = dktX0_isSo_0 := by decide +kernel
theorem dksX0_isSo_1 : cX0_isSo.data.toList.drop 23 = dktX0_isSo_1 := dk_seg dksX0_isSo_0 23 rfl rfl
theorem dksX0_isSo_2 : cX0_isSo.data.toList.drop 47 = dktX0_isSo_2 := dk_seg dksX0_isSo_1 24 rfl rfl
theorem dksX0_isSo_3 : cX0_isSo.data.toList.drop 71 = dktX0_isSo_3 := dk_seg dksX0_isSo_2 24 rfl rfl
theorem dX0_isSo_0 : decode cX0_isSo 0 = .ok (.aload_n 0, 1) := dk_42 (dk_at dksX0_isSo_0 0 rfl rfl)
theorem dX0_isSo_1 : decode cX0_isSo 1 = .ok (.getfield 117, 3) := dk_180 0 117 (dk_at dksX0_isSo_0 1 rfl rfl)
theorem dX0_isSo_4 : decode cX0_isSo 4 = .ok (.aload_n 0, 1) := dk_42 (dk_at dksX0_isSo_0 4 rfl rfl)
theorem dX0_isSo_5 : decode cX0_isSo 5 = .ok (.getfield 113, 3) := dk_180 0 113 (dk_at dksX0_isSo_0 5 rfl rfl)
theorem dX0_isSo_8 : decode cX0_isSo 8 = .ok (.invokevirtual 163, 3) := dk_182 0 163 (dk_at dksX0_isSo_0 8 rfl rfl)
theorem dX0_isSo_11 : decode cX0_isSo 11 = .ok (.aload_n 0, 1) := dk_42 (dk_at dksX0_isSo_0 11 rfl rfl)
theorem dX0_isSo_12 : decode cX0_isSo 12 = .ok (.getfield 117, 3) := dk_180 0 117 (dk_at dksX0_isSo_0 12 rfl rfl)
theorem dX0_isSo_15 : decode cX0_isSo 15 = .ok (.iload_n 1, 1) := dk_27 (dk_at dksX0_isSo_0 15 rfl rfl)
theorem dX0_isSo_16 : decode cX0_isSo 16 = .ok (.iload_n 2, 1) := dk_28 (dk_at dksX0_isSo_0 16 rfl rfl)
theorem dX0_isSo_17 : decode cX0_isSo 17 = .ok (.iload_n 3, 1) := dk_29 (dk_at dksX0_isSo_0 17 rfl rfl)
theorem dX0_isSo_18 : decode cX0_isSo 18 = .ok (.invokevirtual 51, 3) := dk_182 0 51 (dk_at dksX0_isSo_0 18 rfl rfl)
theorem dX0_isSo_21 : decode cX0_isSo 21 = .ok (.aload_n 0, 1) := dk_42 (dk_at dksX0_isSo_0 21 rfl rfl)
theorem dX0_isSo_22 : decode cX0_isSo 22 = .ok (.aload_n 0, 1) := dk_42 (dk_at dksX0_isSo_0 22 rfl rfl)
theorem dX0_isSo_23 : decode cX0_isSo 23 = .ok (.getfield 117, 3) := dk_180 0 117 (dk_at dksX0_isSo_1 0 rfl rfl)
theorem dX0_isSo_26 : decode cX0_isSo 26 = .ok (.iconst 0, 1) := dk_3 (dk_at dksX0_isSo_1 3 rfl rfl)
theorem dX0_isSo_27 : decode cX0_isSo 27 = .ok (.invokevirtual 222, 3) := dk_182 0 222 (dk_at dksX0_isSo_1 4 rfl rfl)
theorem dX0_isSo_30 : decode cX0_isSo 30 = .ok (.iconst 1, 1) := dk_4 (dk_at dksX0_isSo_1 7 rfl rfl)
theorem dX0_isSo_31 : decode cX0_isSo 31 = .ok (.istore 4, 2) := dk_54 4 (dk_at dksX0_isSo_1 8 rfl rfl)
theorem dX0_isSo_33 : decode cX0_isSo 33 = .ok (.iconst 0, 1) := dk_3 (dk_at dksX0_isSo_1 10 rfl rfl)
theorem dX0_isSo_34 : decode cX0_isSo 34 = .ok (.istore 5, 2) := dk_54 5 (dk_at dksX0_isSo_1 11 rfl rfl)
theorem dX0_isSo_36 : decode cX0_isSo 36 = .ok (.iload 5, 2) := dk_21 5 (dk_at dksX0_isSo_1 13 rfl rfl)
theorem dX0_isSo_38 : decode cX0_isSo 38 = .ok (.aload_n 0, 1) := dk_42 (dk_at dksX0_isSo_1 15 rfl rfl)
theorem dX0_isSo_39 : decode cX0_isSo 39 = .ok (.getfield 167, 3) := dk_180 0 167 (dk_at dksX0_isSo_1 16 rfl rfl)
theorem dX0_isSo_42 : decode cX0_isSo 42 = .ok (.if_icmp .ge 50, 3) := dk_162 0 50 (dk_at dksX0_isSo_1 19 rfl rfl)
theorem dX0_isSo_45 : decode cX0_isSo 45 = .ok (.iload 4, 2) := dk_21 4 (dk_at dksX0_isSo_1 22 rfl rfl)
theorem dX0_isSo_47 : decode cX0_isSo 47 = .ok (.aload_n 0, 1) := dk_42 (dk_at dksX0_isSo_2 0 rfl rfl)
theorem dX0_isSo_48 : decode cX0_isSo 48 = .ok (.getfield 117, 3) := dk_180 0 117 (dk_at dksX0_isSo_2 1 rfl rfl)
theorem dX0_isSo_51 : decode cX0_isSo 51 = .ok (.aload_n 0, 1) := dk_42 (dk_at dksX0_isSo_2 4 rfl rfl)
theorem dX0_isSo_52 : decode cX0_isSo 52 = .ok (.getfield 124, 3) := dk_180 0 124 (dk_at dksX0_isSo_2 5 rfl rfl)
theorem dX0_isSo_55 : decode cX0_isSo 55 = .ok (.iconst 2, 1) := dk_5 (dk_at dksX0_isSo_2 8 rfl rfl)
theorem dX0_isSo_56 : decode cX0_isSo 56 = .ok (.iload 5, 2) := dk_21 5 (dk_at dksX0_isSo_2 9 rfl rfl)
theorem dX0_isSo_58 : decode cX0_isSo 58 = .ok (.imul, 1) := dk_104 (dk_at dksX0_isSo_2 11 rfl rfl)
theorem dX0_isSo_59 : decode cX0_isSo 59 = .ok (.baload, 1) := dk_51 (dk_at dksX0_isSo_2 12 rfl rfl)
theorem dX0_isSo_60 : decode cX0_isSo 60 = .ok (.iconst 2, 1) := dk_5 (dk_at dksX0_isSo_2 13 rfl rfl)
theorem dX0_isSo_61 : decode cX0_isSo 61 = .ok (.invokevirtual 7, 3) := dk_182 0 7 (dk_at dksX0_isSo_2 14 rfl rfl)
theorem dX0_isSo_64 : decode cX0_isSo 64 = .ok (.aload_n 0, 1) := dk_42 (dk_at dksX0_isSo_2 17 rfl rfl)
theorem dX0_isSo_65 : decode cX0_isSo 65 = .ok (.getfield 124, 3) := dk_180 0 124 (dk_at dksX0_isSo_2 18 rfl rfl)
theorem dX0_isSo_68 : decode cX0_isSo 68 = .ok (.iconst 2, 1) := dk_5 (dk_at dksX0_isSo_2 21 rfl rfl)
theorem dX0_isSo_69 : decode cX0_isSo 69 = .ok (.iload 5, 2) := dk_21 5 (dk_at dksX0_isSo_2 22 rfl rfl)
theorem dX0_isSo_71 : decode cX0_isSo 71 = .ok (.imul, 1) := dk_104 (dk_at dksX0_isSo_3 0 rfl rfl)
theorem dX0_isSo_72 : decode cX0_isSo 72 = .ok (.iconst 1, 1) := dk_4 (dk_at dksX0_isSo_3 1 rfl rfl)
theorem dX0_isSo_73 : decode cX0_isSo 73 = .ok (.iadd, 1) := dk_96 (dk_at dksX0_isSo_3 2 rfl rfl)
theorem dX0_isSo_74 : decode cX0_isSo 74 = .ok (.baload, 1) := dk_51 (dk_at dksX0_isSo_3 3 rfl rfl)
theorem dX0_isSo_75 : decode cX0_isSo 75 = .ok (.if_icmp .ne 7, 3) := dk_160 0 7 (dk_at dksX0_isSo_3 4 rfl rfl)
theorem dX0_isSo_78 : decode cX0_isSo 78 = .ok (.iconst 1, 1) := dk_4 (dk_at dksX0_isSo_3 7 rfl rfl)
theorem dX0_isSo_79 : decode cX0_isSo 79 = .ok (.goto 4, 3) := dk_167 0 4 (dk_at dksX0_isSo_3 8 rfl rfl)
theorem dX0_isSo_82 : decode cX0_isSo 82 = .ok (.iconst 0, 1) := dk_3 (dk_at dksX0_isSo_3 11 rfl rfl)
theorem dX0_isSo_83 : decode cX0_isSo 83 = .ok (.iand, 1) := dk_126 (dk_at dksX0_isSo_3 12 rfl rfl)
theorem dX0_isSo_84 : decode cX0_isSo 84 = .ok (.istore 4, 2) := dk_54 4 (dk_at dksX0_isSo_3 13 rfl rfl)
theorem dX0_isSo_86 : decode cX0_isSo 86 = .ok (.iinc 5 1, 3) := dk_132 5 1 (dk_at dksX0_isSo_3 15 rfl rfl)
theorem dX0_isSo_89 : decode cX0_isSo 89 = .ok (.goto (-53), 3) := dk_167 255 203 (dk_at dksX0_isSo_3 18 rfl rfl)
theorem dX0_isSo_92 : decode cX0_isSo 92 = .ok (.iload 4, 2) := dk_21 4 (dk_at dksX0_isSo_3 21 rfl rfl)
theorem dX0_isSo_94 : decode cX0_isSo 94 = .ok (.ireturn, 1) := dk_172 (dk_at dksX0_isSo_3 23 rfl rfl)
abbrev cX0_sorrows : ByteArray := prog_1_method_52_code
def yX0_sorrows : MethodName := ⟨RX0, "sorrows", "(I)I"⟩
def dkwX0_sorrows_0 : List UInt8 := [42, 27, 182, 0, 192, 153, 0, 14, 42, 27, 4, 16, 20, 182, 1, 16, 167, 0, 4, 2, 172]
abbrev dktX0_sorrows_0 : List UInt8 := dkwX0_sorrows_0 ++ []
theorem dksX0_sorrows_0 : cX0_sorrows.data.toList.drop 0 = dktX0_sorrows_0 := by decide +kernel
theorem dX0_sorrows_0 : decode cX0_sorrows 0 = .ok (.aload_n 0, 1) := dk_42 (dk_at dksX0_sorrows_0 0 rfl rfl)
theorem dX0_sorrows_1 : decode cX0_sorrows 1 = .ok (.iload_n 1, 1) := dk_27 (dk_at dksX0_sorrows_0 1 rfl rfl)
theorem dX0_sorrows_2 : decode cX0_sorrows 2 = .ok (.invokevirtual 192, 3) := dk_182 0 192 (dk_at dksX0_sorrows_0 2 rfl rfl)
theorem dX0_sorrows_5 : decode cX0_sorrows 5 = .ok (.ifCond .eq 14, 3) := dk_153 0 14 (dk_at dksX0_sorrows_0 5 rfl rfl)
theorem dX0_sorrows_8 : decode cX0_sorrows 8 = .ok (.aload_n 0, 1) := dk_42 (dk_at dksX0_sorrows_0 8 rfl rfl)
theorem dX0_sorrows_9 : decode cX0_sorrows 9 = .ok (.iload_n 1, 1) := dk_27 (dk_at dksX0_sorrows_0 9 rfl rfl)
theorem dX0_sorrows_10 : decode cX0_sorrows 10 = .ok (.iconst 1, 1) := dk_4 (dk_at dksX0_sorrows_0 10 rfl rfl)
theorem dX0_sorrows_11 : decode cX0_sorrows 11 = .ok (.bipush 20, 2) := dk_16 20 (dk_at dksX0_sorrows_0 11 rfl rfl)
theorem dX0_sorrows_13 : decode cX0_sorrows 13 = .ok (.invokevirtual 272, 3) := dk_182 1 16 (dk_at dksX0_sorrows_0 13 rfl rfl)
theorem dX0_sorrows_16 : decode cX0_sorrows 16 = .ok (.goto 4, 3) := dk_167 0 4 (dk_at dksX0_sorrows_0 16 rfl rfl)
theorem dX0_sorrows_19 : decode cX0_sorrows 19 = .ok (.iconst (-1), 1) := dk_2 (dk_at dksX0_sorrows_0 19 rfl rfl)
theorem dX0_sorrows_20 : decode cX0_sorrows 20 = .ok (.ireturn, 1) := dk_172 (dk_at dksX0_sorrows_0 20 rfl rfl)
abbrev cX0_ask : ByteArray := prog_1_method_53_code
def yX0_ask : MethodName := ⟨RX0, "ask", "(II)I"⟩
def dkwX0_ask_7 : List UInt8 := [21, 4, 172]
abbrev dktX0_ask_7 : List UInt8 := dkwX0_ask_7 ++ []
def dkwX0_ask_6 : List UInt8 := [167, 255, 153, 21, 5, 16, 252, 160, 0, 8, 16, 252, 167, 0, 14, 28, 154, 0, 8, 21, 5, 167, 0, 5]
abbrev dktX0_ask_6 : List UInt8 := dkwX0_ask_6 ++ dktX0_ask_7
def dkwX0_ask_5 : List UInt8 := [162, 0, 8, 21, 6, 167, 0, 5, 21, 5, 54, 5, 21, 4, 21, 8, 184, 1, 23, 54, 4, 132, 6, 1]
abbrev dktX0_ask_5 : List UInt8 := dkwX0_ask_5 ++ dktX0_ask_6
def dkwX0_ask_4 : List UInt8 := [54, 7, 132, 8, 1, 167, 255, 213, 21, 7, 29, 21, 7, 100, 184, 0, 244, 54, 8, 21, 8, 21, 4]
abbrev dktX0_ask_4 : List UInt8 := dkwX0_ask_4 ++ dktX0_ask_5
def dkwX0_ask_3 : List UInt8 := [182, 1, 12, 153, 0, 19, 42, 180, 0, 117, 21, 6, 182, 0, 23, 154, 0, 7, 4, 167, 0, 4, 3, 96]
abbrev dktX0_ask_3 : List UInt8 := dkwX0_ask_3 ++ dktX0_ask_4
def dkwX0_ask_2 : List UInt8 := [162, 0, 97, 3, 54, 7, 3, 54, 8, 21, 8, 16, 20, 163, 0, 42, 21, 7, 42, 27, 4, 21, 8]
abbrev dktX0_ask_2 : List UInt8 := dkwX0_ask_2 ++ dktX0_ask_3
def dkwX0_ask_1 : List UInt8 := [184, 0, 77, 62, 29, 54, 4, 16, 252, 54, 5, 3, 54, 6, 21, 6, 42, 180, 0, 113, 180, 0, 19]
abbrev dktX0_ask_1 : List UInt8 := dkwX0_ask_1 ++ dktX0_ask_2
def dkwX0_ask_0 : List UInt8 := [42, 27, 182, 0, 192, 153, 0, 10, 28, 184, 0, 203, 154, 0, 5, 2, 172, 42, 27, 182, 1, 20]
abbrev dktX0_ask_0 : List UInt8 := dkwX0_ask_0 ++ dktX0_ask_1
theorem dksX0_ask_0 : cX0_ask.data.toList.drop 0 = dktX0_ask_0 := by decide +kernel
theorem dksX0_ask_1 : cX0_ask.data.toList.drop 22 = dktX0_ask_1 := dk_seg dksX0_ask_0 22 rfl rfl
theorem dksX0_ask_2 : cX0_ask.data.toList.drop 45 = dktX0_ask_2 := dk_seg dksX0_ask_1 23 rfl rfl
theorem dksX0_ask_3 : cX0_ask.data.toList.drop 68 = dktX0_ask_3 := dk_seg dksX0_ask_2 23 rfl rfl
theorem dksX0_ask_4 : cX0_ask.data.toList.drop 92 = dktX0_ask_4 := dk_seg dksX0_ask_3 24 rfl rfl
theorem dksX0_ask_5 : cX0_ask.data.toList.drop 115 = dktX0_ask_5 := dk_seg dksX0_ask_4 23 rfl rfl
theorem dksX0_ask_6 : cX0_ask.data.toList.drop 139 = dktX0_ask_6 := dk_seg dksX0_ask_5 24 rfl rfl
theorem dksX0_ask_7 : cX0_ask.data.toList.drop 163 = dktX0_ask_7 := dk_seg dksX0_ask_6 24 rfl rfl
theorem dX0_ask_0 : decode cX0_ask 0 = .ok (.aload_n 0, 1) := dk_42 (dk_at dksX0_ask_0 0 rfl rfl)
theorem dX0_ask_1 : decode cX0_ask 1 = .ok (.iload_n 1, 1) := dk_27 (dk_at dksX0_ask_0 1 rfl rfl)
theorem dX0_ask_2 : decode cX0_ask 2 = .ok (.invokevirtual 192, 3) := dk_182 0 192 (dk_at dksX0_ask_0 2 rfl rfl)
theorem dX0_ask_5 : decode cX0_ask 5 = .ok (.ifCond .eq 10, 3) := dk_153 0 10 (dk_at dksX0_ask_0 5 rfl rfl)
theorem dX0_ask_8 : decode cX0_ask 8 = .ok (.iload_n 2, 1) := dk_28 (dk_at dksX0_ask_0 8 rfl rfl)
theorem dX0_ask_9 : decode cX0_ask 9 = .ok (.invokestatic 203, 3) := dk_184 0 203 (dk_at dksX0_ask_0 9 rfl rfl)
theorem dX0_ask_12 : decode cX0_ask 12 = .ok (.ifCond .ne 5, 3) := dk_154 0 5 (dk_at dksX0_ask_0 12 rfl rfl)
theorem dX0_ask_15 : decode cX0_ask 15 = .ok (.iconst (-1), 1) := dk_2 (dk_at dksX0_ask_0 15 rfl rfl)
theorem dX0_ask_16 : decode cX0_ask 16 = .ok (.ireturn, 1) := dk_172 (dk_at dksX0_ask_0 16 rfl rfl)
theorem dX0_ask_17 : decode cX0_ask 17 = .ok (.aload_n 0, 1) := dk_42 (dk_at dksX0_ask_0 17 rfl rfl)
theorem dX0_ask_18 : decode cX0_ask 18 = .ok (.iload_n 1, 1) := dk_27 (dk_at dksX0_ask_0 18 rfl rfl)
theorem dX0_ask_19 : decode cX0_ask 19 = .ok (.invokevirtual 276, 3) := dk_182 1 20 (dk_at dksX0_ask_0 19 rfl rfl)
theorem dX0_ask_22 : decode cX0_ask 22 = .ok (.invokestatic 77, 3) := dk_184 0 77 (dk_at dksX0_ask_1 0 rfl rfl)
theorem dX0_ask_25 : decode cX0_ask 25 = .ok (.istore_n 3, 1) := dk_62 (dk_at dksX0_ask_1 3 rfl rfl)
theorem dX0_ask_26 : decode cX0_ask 26 = .ok (.iload_n 3, 1) := dk_29 (dk_at dksX0_ask_1 4 rfl rfl)
theorem dX0_ask_27 : decode cX0_ask 27 = .ok (.istore 4, 2) := dk_54 4 (dk_at dksX0_ask_1 5 rfl rfl)
theorem dX0_ask_29 : decode cX0_ask 29 = .ok (.bipush (-4), 2) := dk_16 252 (dk_at dksX0_ask_1 7 rfl rfl)
theorem dX0_ask_31 : decode cX0_ask 31 = .ok (.istore 5, 2) := dk_54 5 (dk_at dksX0_ask_1 9 rfl rfl)
theorem dX0_ask_33 : decode cX0_ask 33 = .ok (.iconst 0, 1) := dk_3 (dk_at dksX0_ask_1 11 rfl rfl)
theorem dX0_ask_34 : decode cX0_ask 34 = .ok (.istore 6, 2) := dk_54 6 (dk_at dksX0_ask_1 12 rfl rfl)
theorem dX0_ask_36 : decode cX0_ask 36 = .ok (.iload 6, 2) := dk_21 6 (dk_at dksX0_ask_1 14 rfl rfl)
theorem dX0_ask_38 : decode cX0_ask 38 = .ok (.aload_n 0, 1) := dk_42 (dk_at dksX0_ask_1 16 rfl rfl)
theorem dX0_ask_39 : decode cX0_ask 39 = .ok (.getfield 113, 3) := dk_180 0 113 (dk_at dksX0_ask_1 17 rfl rfl)
theorem dX0_ask_42 : decode cX0_ask 42 = .ok (.getfield 19, 3) := dk_180 0 19 (dk_at dksX0_ask_1 20 rfl rfl)
theorem dX0_ask_45 : decode cX0_ask 45 = .ok (.if_icmp .ge 97, 3) := dk_162 0 97 (dk_at dksX0_ask_2 0 rfl rfl)
theorem dX0_ask_48 : decode cX0_ask 48 = .ok (.iconst 0, 1) := dk_3 (dk_at dksX0_ask_2 3 rfl rfl)
theorem dX0_ask_49 : decode cX0_ask 49 = .ok (.istore 7, 2) := dk_54 7 (dk_at dksX0_ask_2 4 rfl rfl)
theorem dX0_ask_51 : decode cX0_ask 51 = .ok (.iconst 0, 1) := dk_3 (dk_at dksX0_ask_2 6 rfl rfl)
theorem dX0_ask_52 : decode cX0_ask 52 = .ok (.istore 8, 2) := dk_54 8 (dk_at dksX0_ask_2 7 rfl rfl)
theorem dX0_ask_54 : decode cX0_ask 54 = .ok (.iload 8, 2) := dk_21 8 (dk_at dksX0_ask_2 9 rfl rfl)
theorem dX0_ask_56 : decode cX0_ask 56 = .ok (.bipush 20, 2) := dk_16 20 (dk_at dksX0_ask_2 11 rfl rfl)
theorem dX0_ask_58 : decode cX0_ask 58 = .ok (.if_icmp .gt 42, 3) := dk_163 0 42 (dk_at dksX0_ask_2 13 rfl rfl)
theorem dX0_ask_61 : decode cX0_ask 61 = .ok (.iload 7, 2) := dk_21 7 (dk_at dksX0_ask_2 16 rfl rfl)
theorem dX0_ask_63 : decode cX0_ask 63 = .ok (.aload_n 0, 1) := dk_42 (dk_at dksX0_ask_2 18 rfl rfl)
theorem dX0_ask_64 : decode cX0_ask 64 = .ok (.iload_n 1, 1) := dk_27 (dk_at dksX0_ask_2 19 rfl rfl)
theorem dX0_ask_65 : decode cX0_ask 65 = .ok (.iconst 1, 1) := dk_4 (dk_at dksX0_ask_2 20 rfl rfl)
theorem dX0_ask_66 : decode cX0_ask 66 = .ok (.iload 8, 2) := dk_21 8 (dk_at dksX0_ask_2 21 rfl rfl)
theorem dX0_ask_68 : decode cX0_ask 68 = .ok (.invokevirtual 268, 3) := dk_182 1 12 (dk_at dksX0_ask_3 0 rfl rfl)
theorem dX0_ask_71 : decode cX0_ask 71 = .ok (.ifCond .eq 19, 3) := dk_153 0 19 (dk_at dksX0_ask_3 3 rfl rfl)
theorem dX0_ask_74 : decode cX0_ask 74 = .ok (.aload_n 0, 1) := dk_42 (dk_at dksX0_ask_3 6 rfl rfl)
theorem dX0_ask_75 : decode cX0_ask 75 = .ok (.getfield 117, 3) := dk_180 0 117 (dk_at dksX0_ask_3 7 rfl rfl)
theorem dX0_ask_78 : decode cX0_ask 78 = .ok (.iload 6, 2) := dk_21 6 (dk_at dksX0_ask_3 10 rfl rfl)
theorem dX0_ask_80 : decode cX0_ask 80 = .ok (.invokevirtual 23, 3) := dk_182 0 23 (dk_at dksX0_ask_3 12 rfl rfl)
theorem dX0_ask_83 : decode cX0_ask 83 = .ok (.ifCond .ne 7, 3) := dk_154 0 7 (dk_at dksX0_ask_3 15 rfl rfl)
theorem dX0_ask_86 : decode cX0_ask 86 = .ok (.iconst 1, 1) := dk_4 (dk_at dksX0_ask_3 18 rfl rfl)
theorem dX0_ask_87 : decode cX0_ask 87 = .ok (.goto 4, 3) := dk_167 0 4 (dk_at dksX0_ask_3 19 rfl rfl)
theorem dX0_ask_90 : decode cX0_ask 90 = .ok (.iconst 0, 1) := dk_3 (dk_at dksX0_ask_3 22 rfl rfl)
theorem dX0_ask_91 : decode cX0_ask 91 = .ok (.iadd, 1) := dk_96 (dk_at dksX0_ask_3 23 rfl rfl)
theorem dX0_ask_92 : decode cX0_ask 92 = .ok (.istore 7, 2) := dk_54 7 (dk_at dksX0_ask_4 0 rfl rfl)
theorem dX0_ask_94 : decode cX0_ask 94 = .ok (.iinc 8 1, 3) := dk_132 8 1 (dk_at dksX0_ask_4 2 rfl rfl)
theorem dX0_ask_97 : decode cX0_ask 97 = .ok (.goto (-43), 3) := dk_167 255 213 (dk_at dksX0_ask_4 5 rfl rfl)
theorem dX0_ask_100 : decode cX0_ask 100 = .ok (.iload 7, 2) := dk_21 7 (dk_at dksX0_ask_4 8 rfl rfl)
theorem dX0_ask_102 : decode cX0_ask 102 = .ok (.iload_n 3, 1) := dk_29 (dk_at dksX0_ask_4 10 rfl rfl)
theorem dX0_ask_103 : decode cX0_ask 103 = .ok (.iload 7, 2) := dk_21 7 (dk_at dksX0_ask_4 11 rfl rfl)
theorem dX0_ask_105 : decode cX0_ask 105 = .ok (.isub, 1) := dk_100 (dk_at dksX0_ask_4 13 rfl rfl)
theorem dX0_ask_106 : decode cX0_ask 106 = .ok (.invokestatic 244, 3) := dk_184 0 244 (dk_at dksX0_ask_4 14 rfl rfl)
theorem dX0_ask_109 : decode cX0_ask 109 = .ok (.istore 8, 2) := dk_54 8 (dk_at dksX0_ask_4 17 rfl rfl)
theorem dX0_ask_111 : decode cX0_ask 111 = .ok (.iload 8, 2) := dk_21 8 (dk_at dksX0_ask_4 19 rfl rfl)
theorem dX0_ask_113 : decode cX0_ask 113 = .ok (.iload 4, 2) := dk_21 4 (dk_at dksX0_ask_4 21 rfl rfl)
theorem dX0_ask_115 : decode cX0_ask 115 = .ok (.if_icmp .ge 8, 3) := dk_162 0 8 (dk_at dksX0_ask_5 0 rfl rfl)
theorem dX0_ask_118 : decode cX0_ask 118 = .ok (.iload 6, 2) := dk_21 6 (dk_at dksX0_ask_5 3 rfl rfl)
theorem dX0_ask_120 : decode cX0_ask 120 = .ok (.goto 5, 3) := dk_167 0 5 (dk_at dksX0_ask_5 5 rfl rfl)
theorem dX0_ask_123 : decode cX0_ask 123 = .ok (.iload 5, 2) := dk_21 5 (dk_at dksX0_ask_5 8 rfl rfl)
theorem dX0_ask_125 : decode cX0_ask 125 = .ok (.istore 5, 2) := dk_54 5 (dk_at dksX0_ask_5 10 rfl rfl)
theorem dX0_ask_127 : decode cX0_ask 127 = .ok (.iload 4, 2) := dk_21 4 (dk_at dksX0_ask_5 12 rfl rfl)
theorem dX0_ask_129 : decode cX0_ask 129 = .ok (.iload 8, 2) := dk_21 8 (dk_at dksX0_ask_5 14 rfl rfl)
theorem dX0_ask_131 : decode cX0_ask 131 = .ok (.invokestatic 279, 3) := dk_184 1 23 (dk_at dksX0_ask_5 16 rfl rfl)
theorem dX0_ask_134 : decode cX0_ask 134 = .ok (.istore 4, 2) := dk_54 4 (dk_at dksX0_ask_5 19 rfl rfl)
theorem dX0_ask_136 : decode cX0_ask 136 = .ok (.iinc 6 1, 3) := dk_132 6 1 (dk_at dksX0_ask_5 21 rfl rfl)
theorem dX0_ask_139 : decode cX0_ask 139 = .ok (.goto (-103), 3) := dk_167 255 153 (dk_at dksX0_ask_6 0 rfl rfl)
theorem dX0_ask_142 : decode cX0_ask 142 = .ok (.iload 5, 2) := dk_21 5 (dk_at dksX0_ask_6 3 rfl rfl)
theorem dX0_ask_144 : decode cX0_ask 144 = .ok (.bipush (-4), 2) := dk_16 252 (dk_at dksX0_ask_6 5 rfl rfl)
theorem dX0_ask_146 : decode cX0_ask 146 = .ok (.if_icmp .ne 8, 3) := dk_160 0 8 (dk_at dksX0_ask_6 7 rfl rfl)
theorem dX0_ask_149 : decode cX0_ask 149 = .ok (.bipush (-4), 2) := dk_16 252 (dk_at dksX0_ask_6 10 rfl rfl)
theorem dX0_ask_151 : decode cX0_ask 151 = .ok (.goto 14, 3) := dk_167 0 14 (dk_at dksX0_ask_6 12 rfl rfl)
theorem dX0_ask_154 : decode cX0_ask 154 = .ok (.iload_n 2, 1) := dk_28 (dk_at dksX0_ask_6 15 rfl rfl)
theorem dX0_ask_155 : decode cX0_ask 155 = .ok (.ifCond .ne 8, 3) := dk_154 0 8 (dk_at dksX0_ask_6 16 rfl rfl)
theorem dX0_ask_158 : decode cX0_ask 158 = .ok (.iload 5, 2) := dk_21 5 (dk_at dksX0_ask_6 19 rfl rfl)
theorem dX0_ask_160 : decode cX0_ask 160 = .ok (.goto 5, 3) := dk_167 0 5 (dk_at dksX0_ask_6 21 rfl rfl)
theorem dX0_ask_163 : decode cX0_ask 163 = .ok (.iload 4, 2) := dk_21 4 (dk_at dksX0_ask_7 0 rfl rfl)
theorem dX0_ask_165 : decode cX0_ask 165 = .ok (.ireturn, 1) := dk_172 (dk_at dksX0_ask_7 2 rfl rfl)
abbrev cX0_drift : ByteArray := prog_1_method_54_code
def yX0_drift : MethodName := ⟨RX0, "drift", "(III)I"⟩
def dkwX0_drift_6 : List UInt8 := [180, 0, 117, 42, 180, 0, 117, 182, 0, 186, 182, 0, 200, 172]
abbrev dktX0_drift_6 : List UInt8 := dkwX0_drift_6 ++ []
def dkwX0_drift_5 : List UInt8 := [182, 0, 93, 87, 132, 5, 1, 167, 255, 187, 29, 154, 0, 10, 42, 180, 0, 61, 167, 0, 17, 42]
abbrev dktX0_drift_5 : List UInt8 := dkwX0_drift_5 ++ dktX0_drift_6
def dkwX0_drift_4 : List UInt8 := [42, 42, 180, 0, 117, 21, 6, 42, 180, 0, 113, 180, 0, 19, 160, 0, 7, 8, 167, 0, 5, 21, 6]
abbrev dktX0_drift_4 : List UInt8 := dkwX0_drift_4 ++ dktX0_drift_5
def dkwX0_drift_3 : List UInt8 := [96, 54, 4, 21, 4, 16, 16, 124, 17, 127, 255, 126, 42, 180, 0, 113, 180, 0, 19, 4, 96, 112, 54, 6]
abbrev dktX0_drift_3 : List UInt8 := dkwX0_drift_3 ++ dktX0_drift_4
def dkwX0_drift_2 : List UInt8 := [182, 0, 83, 27, 54, 4, 3, 54, 5, 21, 5, 28, 162, 0, 69, 21, 4, 19, 1, 26, 104, 17, 48, 57]
abbrev dktX0_drift_2 : List UInt8 := dkwX0_drift_2 ++ dktX0_drift_3
def dkwX0_drift_1 : List UInt8 := [180, 0, 113, 180, 0, 19, 154, 0, 6, 16, 254, 172, 42, 180, 0, 117, 42, 180, 0, 113, 182, 0, 163, 42]
abbrev dktX0_drift_1 : List UInt8 := dkwX0_drift_1 ++ dktX0_drift_2
def dkwX0_drift_0 : List UInt8 := [28, 133, 10, 20, 0, 217, 184, 0, 142, 153, 0, 10, 29, 184, 0, 203, 154, 0, 5, 2, 172, 42]
abbrev dktX0_drift_0 : List UInt8 := dkwX0_drift_0 ++ dktX0_drift_1
theorem dksX0_drift_0 : cX0_drift.data.toList.drop 0 = dktX0_drift_0 := by decide +kernel
theorem dksX0_drift_1 : cX0_drift.data.toList.drop 22 = dktX0_drift_1 := dk_seg dksX0_drift_0 22 rfl rfl
theorem dksX0_drift_2 : cX0_drift.data.toList.drop 46 = dktX0_drift_2 := dk_seg dksX0_drift_1 24 rfl rfl
theorem dksX0_drift_3 : cX0_drift.data.toList.drop 70 = dktX0_drift_3 := dk_seg dksX0_drift_2 24 rfl rfl
theorem dksX0_drift_4 : cX0_drift.data.toList.drop 94 = dktX0_drift_4 := dk_seg dksX0_drift_3 24 rfl rfl
theorem dksX0_drift_5 : cX0_drift.data.toList.drop 117 = dktX0_drift_5 := dk_seg dksX0_drift_4 23 rfl rfl
theorem dksX0_drift_6 : cX0_drift.data.toList.drop 139 = dktX0_drift_6 := dk_seg dksX0_drift_5 22 rfl rfl
theorem dX0_drift_0 : decode cX0_drift 0 = .ok (.iload_n 2, 1) := dk_28 (dk_at dksX0_drift_0 0 rfl rfl)
theorem dX0_drift_1 : decode cX0_drift 1 = .ok (.i2l, 1) := dk_133 (dk_at dksX0_drift_0 1 rfl rfl)
theorem dX0_drift_2 : decode cX0_drift 2 = .ok (.lconst 1, 1) := dk_10 (dk_at dksX0_drift_0 2 rfl rfl)
theorem dX0_drift_3 : decode cX0_drift 3 = .ok (.ldc2_w 217, 3) := dk_20 0 217 (dk_at dksX0_drift_0 3 rfl rfl)
theorem dX0_drift_6 : decode cX0_drift 6 = .ok (.invokestatic 142, 3) := dk_184 0 142 (dk_at dksX0_drift_0 6 rfl rfl)
theorem dX0_drift_9 : decode cX0_drift 9 = .ok (.ifCond .eq 10, 3) := dk_153 0 10 (dk_at dksX0_drift_0 9 rfl rfl)
theorem dX0_drift_12 : decode cX0_drift 12 = .ok (.iload_n 3, 1) := dk_29 (dk_at dksX0_drift_0 12 rfl rfl)
theorem dX0_drift_13 : decode cX0_drift 13 = .ok (.invokestatic 203, 3) := dk_184 0 203 (dk_at dksX0_drift_0 13 rfl rfl)
theorem dX0_drift_16 : decode cX0_drift 16 = .ok (.ifCond .ne 5, 3) := dk_154 0 5 (dk_at dksX0_drift_0 16 rfl rfl)
theorem dX0_drift_19 : decode cX0_drift 19 = .ok (.iconst (-1), 1) := dk_2 (dk_at dksX0_drift_0 19 rfl rfl)
theorem dX0_drift_20 : decode cX0_drift 20 = .ok (.ireturn, 1) := dk_172 (dk_at dksX0_drift_0 20 rfl rfl)
theorem dX0_drift_21 : decode cX0_drift 21 = .ok (.aload_n 0, 1) := dk_42 (dk_at dksX0_drift_0 21 rfl rfl)
theorem dX0_drift_22 : decode cX0_drift 22 = .ok (.getfield 113, 3) := dk_180 0 113 (dk_at dksX0_drift_1 0 rfl rfl)
theorem dX0_drift_25 : decode cX0_drift 25 = .ok (.getfield 19, 3) := dk_180 0 19 (dk_at dksX0_drift_1 3 rfl rfl)
theorem dX0_drift_28 : decode cX0_drift 28 = .ok (.ifCond .ne 6, 3) := dk_154 0 6 (dk_at dksX0_drift_1 6 rfl rfl)
theorem dX0_drift_31 : decode cX0_drift 31 = .ok (.bipush (-2), 2) := dk_16 254 (dk_at dksX0_drift_1 9 rfl rfl)
theorem dX0_drift_33 : decode cX0_drift 33 = .ok (.ireturn, 1) := dk_172 (dk_at dksX0_drift_1 11 rfl rfl)
theorem dX0_drift_34 : decode cX0_drift 34 = .ok (.aload_n 0, 1) := dk_42 (dk_at dksX0_drift_1 12 rfl rfl)
theorem dX0_drift_35 : decode cX0_drift 35 = .ok (.getfield 117, 3) := dk_180 0 117 (dk_at dksX0_drift_1 13 rfl rfl)
theorem dX0_drift_38 : decode cX0_drift 38 = .ok (.aload_n 0, 1) := dk_42 (dk_at dksX0_drift_1 16 rfl rfl)
theorem dX0_drift_39 : decode cX0_drift 39 = .ok (.getfield 113, 3) := dk_180 0 113 (dk_at dksX0_drift_1 17 rfl rfl)
theorem dX0_drift_42 : decode cX0_drift 42 = .ok (.invokevirtual 163, 3) := dk_182 0 163 (dk_at dksX0_drift_1 20 rfl rfl)
theorem dX0_drift_45 : decode cX0_drift 45 = .ok (.aload_n 0, 1) := dk_42 (dk_at dksX0_drift_1 23 rfl rfl)
theorem dX0_drift_46 : decode cX0_drift 46 = .ok (.invokevirtual 83, 3) := dk_182 0 83 (dk_at dksX0_drift_2 0 rfl rfl)
theorem dX0_drift_49 : decode cX0_drift 49 = .ok (.iload_n 1, 1) := dk_27 (dk_at dksX0_drift_2 3 rfl rfl)
theorem dX0_drift_50 : decode cX0_drift 50 = .ok (.istore 4, 2) := dk_54 4 (dk_at dksX0_drift_2 4 rfl rfl)
theorem dX0_drift_52 : decode cX0_drift 52 = .ok (.iconst 0, 1) := dk_3 (dk_at dksX0_drift_2 6 rfl rfl)
theorem dX0_drift_53 : decode cX0_drift 53 = .ok (.istore 5, 2) := dk_54 5 (dk_at dksX0_drift_2 7 rfl rfl)
theorem dX0_drift_55 : decode cX0_drift 55 = .ok (.iload 5, 2) := dk_21 5 (dk_at dksX0_drift_2 9 rfl rfl)
theorem dX0_drift_57 : decode cX0_drift 57 = .ok (.iload_n 2, 1) := dk_28 (dk_at dksX0_drift_2 11 rfl rfl)
theorem dX0_drift_58 : decode cX0_drift 58 = .ok (.if_icmp .ge 69, 3) := dk_162 0 69 (dk_at dksX0_drift_2 12 rfl rfl)
theorem dX0_drift_61 : decode cX0_drift 61 = .ok (.iload 4, 2) := dk_21 4 (dk_at dksX0_drift_2 15 rfl rfl)
theorem dX0_drift_63 : decode cX0_drift 63 = .ok (.ldc_w 282, 3) := dk_19 1 26 (dk_at dksX0_drift_2 17 rfl rfl)
theorem dX0_drift_66 : decode cX0_drift 66 = .ok (.imul, 1) := dk_104 (dk_at dksX0_drift_2 20 rfl rfl)
theorem dX0_drift_67 : decode cX0_drift 67 = .ok (.sipush 12345, 3) := dk_17 48 57 (dk_at dksX0_drift_2 21 rfl rfl)
theorem dX0_drift_70 : decode cX0_drift 70 = .ok (.iadd, 1) := dk_96 (dk_at dksX0_drift_3 0 rfl rfl)
theorem dX0_drift_71 : decode cX0_drift 71 = .ok (.istore 4, 2) := dk_54 4 (dk_at dksX0_drift_3 1 rfl rfl)
theorem dX0_drift_73 : decode cX0_drift 73 = .ok (.iload 4, 2) := dk_21 4 (dk_at dksX0_drift_3 3 rfl rfl)
theorem dX0_drift_75 : decode cX0_drift 75 = .ok (.bipush 16, 2) := dk_16 16 (dk_at dksX0_drift_3 5 rfl rfl)
theorem dX0_drift_77 : decode cX0_drift 77 = .ok (.iushr, 1) := dk_124 (dk_at dksX0_drift_3 7 rfl rfl)
theorem dX0_drift_78 : decode cX0_drift 78 = .ok (.sipush 32767, 3) := dk_17 127 255 (dk_at dksX0_drift_3 8 rfl rfl)
theorem dX0_drift_81 : decode cX0_drift 81 = .ok (.iand, 1) := dk_126 (dk_at dksX0_drift_3 11 rfl rfl)
theorem dX0_drift_82 : decode cX0_drift 82 = .ok (.aload_n 0, 1) := dk_42 (dk_at dksX0_drift_3 12 rfl rfl)
theorem dX0_drift_83 : decode cX0_drift 83 = .ok (.getfield 113, 3) := dk_180 0 113 (dk_at dksX0_drift_3 13 rfl rfl)
theorem dX0_drift_86 : decode cX0_drift 86 = .ok (.getfield 19, 3) := dk_180 0 19 (dk_at dksX0_drift_3 16 rfl rfl)
theorem dX0_drift_89 : decode cX0_drift 89 = .ok (.iconst 1, 1) := dk_4 (dk_at dksX0_drift_3 19 rfl rfl)
theorem dX0_drift_90 : decode cX0_drift 90 = .ok (.iadd, 1) := dk_96 (dk_at dksX0_drift_3 20 rfl rfl)
theorem dX0_drift_91 : decode cX0_drift 91 = .ok (.irem, 1) := dk_112 (dk_at dksX0_drift_3 21 rfl rfl)
theorem dX0_drift_92 : decode cX0_drift 92 = .ok (.istore 6, 2) := dk_54 6 (dk_at dksX0_drift_3 22 rfl rfl)
theorem dX0_drift_94 : decode cX0_drift 94 = .ok (.aload_n 0, 1) := dk_42 (dk_at dksX0_drift_4 0 rfl rfl)
theorem dX0_drift_95 : decode cX0_drift 95 = .ok (.aload_n 0, 1) := dk_42 (dk_at dksX0_drift_4 1 rfl rfl)
theorem dX0_drift_96 : decode cX0_drift 96 = .ok (.getfield 117, 3) := dk_180 0 117 (dk_at dksX0_drift_4 2 rfl rfl)
theorem dX0_drift_99 : decode cX0_drift 99 = .ok (.iload 6, 2) := dk_21 6 (dk_at dksX0_drift_4 5 rfl rfl)
theorem dX0_drift_101 : decode cX0_drift 101 = .ok (.aload_n 0, 1) := dk_42 (dk_at dksX0_drift_4 7 rfl rfl)
theorem dX0_drift_102 : decode cX0_drift 102 = .ok (.getfield 113, 3) := dk_180 0 113 (dk_at dksX0_drift_4 8 rfl rfl)
theorem dX0_drift_105 : decode cX0_drift 105 = .ok (.getfield 19, 3) := dk_180 0 19 (dk_at dksX0_drift_4 11 rfl rfl)
theorem dX0_drift_108 : decode cX0_drift 108 = .ok (.if_icmp .ne 7, 3) := dk_160 0 7 (dk_at dksX0_drift_4 14 rfl rfl)
theorem dX0_drift_111 : decode cX0_drift 111 = .ok (.iconst 5, 1) := dk_8 (dk_at dksX0_drift_4 17 rfl rfl)
theorem dX0_drift_112 : decode cX0_drift 112 = .ok (.goto 5, 3) := dk_167 0 5 (dk_at dksX0_drift_4 18 rfl rfl)
theorem dX0_drift_115 : decode cX0_drift 115 = .ok (.iload 6, 2) := dk_21 6 (dk_at dksX0_drift_4 21 rfl rfl)
theorem dX0_drift_117 : decode cX0_drift 117 = .ok (.invokevirtual 93, 3) := dk_182 0 93 (dk_at dksX0_drift_5 0 rfl rfl)
theorem dX0_drift_120 : decode cX0_drift 120 = .ok (.pop, 1) := dk_87 (dk_at dksX0_drift_5 3 rfl rfl)
theorem dX0_drift_121 : decode cX0_drift 121 = .ok (.iinc 5 1, 3) := dk_132 5 1 (dk_at dksX0_drift_5 4 rfl rfl)
theorem dX0_drift_124 : decode cX0_drift 124 = .ok (.goto (-69), 3) := dk_167 255 187 (dk_at dksX0_drift_5 7 rfl rfl)
theorem dX0_drift_127 : decode cX0_drift 127 = .ok (.iload_n 3, 1) := dk_29 (dk_at dksX0_drift_5 10 rfl rfl)
theorem dX0_drift_128 : decode cX0_drift 128 = .ok (.ifCond .ne 10, 3) := dk_154 0 10 (dk_at dksX0_drift_5 11 rfl rfl)
theorem dX0_drift_131 : decode cX0_drift 131 = .ok (.aload_n 0, 1) := dk_42 (dk_at dksX0_drift_5 14 rfl rfl)
theorem dX0_drift_132 : decode cX0_drift 132 = .ok (.getfield 61, 3) := dk_180 0 61 (dk_at dksX0_drift_5 15 rfl rfl)
theorem dX0_drift_135 : decode cX0_drift 135 = .ok (.goto 17, 3) := dk_167 0 17 (dk_at dksX0_drift_5 18 rfl rfl)
theorem dX0_drift_138 : decode cX0_drift 138 = .ok (.aload_n 0, 1) := dk_42 (dk_at dksX0_drift_5 21 rfl rfl)
theorem dX0_drift_139 : decode cX0_drift 139 = .ok (.getfield 117, 3) := dk_180 0 117 (dk_at dksX0_drift_6 0 rfl rfl)
theorem dX0_drift_142 : decode cX0_drift 142 = .ok (.aload_n 0, 1) := dk_42 (dk_at dksX0_drift_6 3 rfl rfl)
theorem dX0_drift_143 : decode cX0_drift 143 = .ok (.getfield 117, 3) := dk_180 0 117 (dk_at dksX0_drift_6 4 rfl rfl)
theorem dX0_drift_146 : decode cX0_drift 146 = .ok (.invokevirtual 186, 3) := dk_182 0 186 (dk_at dksX0_drift_6 7 rfl rfl)
theorem dX0_drift_149 : decode cX0_drift 149 = .ok (.invokevirtual 200, 3) := dk_182 0 200 (dk_at dksX0_drift_6 10 rfl rfl)
theorem dX0_drift_152 : decode cX0_drift 152 = .ok (.ireturn, 1) := dk_172 (dk_at dksX0_drift_6 13 rfl rfl)
abbrev cX0_keep : ByteArray := prog_1_method_55_code
def yX0_keep : MethodName := ⟨RX0, "keep", "(I)I"⟩
def dkwX0_keep_2 : List UInt8 := [28, 172]
abbrev dktX0_keep_2 : List UInt8 := dkwX0_keep_2 ++ []
def dkwX0_keep_1 : List UInt8 := [180, 0, 120, 27, 50, 42, 180, 0, 113, 182, 0, 163, 42, 89, 180, 0, 170, 4, 27, 120, 128, 181, 0, 170]
abbrev dktX0_keep_1 : List UInt8 := dkwX0_keep_1 ++ dktX0_keep_2
def dkwX0_keep_0 : List UInt8 := [27, 133, 9, 10, 184, 0, 142, 154, 0, 5, 2, 172, 42, 180, 0, 170, 27, 122, 4, 126, 61, 42]
abbrev dktX0_keep_0 : List UInt8 := dkwX0_keep_0 ++ dktX0_keep_1
theorem dksX0_keep_0 : cX0_keep.data.toList.drop 0 = dktX0_keep_0 := by decide +kernel
theorem dksX0_keep_1 : cX0_keep.data.toList.drop 22 = dktX0_keep_1 := dk_seg dksX0_keep_0 22 rfl rfl
theorem dksX0_keep_2 : cX0_keep.data.toList.drop 46 = dktX0_keep_2 := dk_seg dksX0_keep_1 24 rfl rfl
theorem dX0_keep_0 : decode cX0_keep 0 = .ok (.iload_n 1, 1) := dk_27 (dk_at dksX0_keep_0 0 rfl rfl)
theorem dX0_keep_1 : decode cX0_keep 1 = .ok (.i2l, 1) := dk_133 (dk_at dksX0_keep_0 1 rfl rfl)
theorem dX0_keep_2 : decode cX0_keep 2 = .ok (.lconst 0, 1) := dk_9 (dk_at dksX0_keep_0 2 rfl rfl)
theorem dX0_keep_3 : decode cX0_keep 3 = .ok (.lconst 1, 1) := dk_10 (dk_at dksX0_keep_0 3 rfl rfl)
theorem dX0_keep_4 : decode cX0_keep 4 = .ok (.invokestatic 142, 3) := dk_184 0 142 (dk_at dksX0_keep_0 4 rfl rfl)
theorem dX0_keep_7 : decode cX0_keep 7 = .ok (.ifCond .ne 5, 3) := dk_154 0 5 (dk_at dksX0_keep_0 7 rfl rfl)
theorem dX0_keep_10 : decode cX0_keep 10 = .ok (.iconst (-1), 1) := dk_2 (dk_at dksX0_keep_0 10 rfl rfl)
theorem dX0_keep_11 : decode cX0_keep 11 = .ok (.ireturn, 1) := dk_172 (dk_at dksX0_keep_0 11 rfl rfl)
theorem dX0_keep_12 : decode cX0_keep 12 = .ok (.aload_n 0, 1) := dk_42 (dk_at dksX0_keep_0 12 rfl rfl)
theorem dX0_keep_13 : decode cX0_keep 13 = .ok (.getfield 170, 3) := dk_180 0 170 (dk_at dksX0_keep_0 13 rfl rfl)
theorem dX0_keep_16 : decode cX0_keep 16 = .ok (.iload_n 1, 1) := dk_27 (dk_at dksX0_keep_0 16 rfl rfl)
theorem dX0_keep_17 : decode cX0_keep 17 = .ok (.ishr, 1) := dk_122 (dk_at dksX0_keep_0 17 rfl rfl)
theorem dX0_keep_18 : decode cX0_keep 18 = .ok (.iconst 1, 1) := dk_4 (dk_at dksX0_keep_0 18 rfl rfl)
theorem dX0_keep_19 : decode cX0_keep 19 = .ok (.iand, 1) := dk_126 (dk_at dksX0_keep_0 19 rfl rfl)
theorem dX0_keep_20 : decode cX0_keep 20 = .ok (.istore_n 2, 1) := dk_61 (dk_at dksX0_keep_0 20 rfl rfl)
theorem dX0_keep_21 : decode cX0_keep 21 = .ok (.aload_n 0, 1) := dk_42 (dk_at dksX0_keep_0 21 rfl rfl)
theorem dX0_keep_22 : decode cX0_keep 22 = .ok (.getfield 120, 3) := dk_180 0 120 (dk_at dksX0_keep_1 0 rfl rfl)
theorem dX0_keep_25 : decode cX0_keep 25 = .ok (.iload_n 1, 1) := dk_27 (dk_at dksX0_keep_1 3 rfl rfl)
theorem dX0_keep_26 : decode cX0_keep 26 = .ok (.aaload, 1) := dk_50 (dk_at dksX0_keep_1 4 rfl rfl)
theorem dX0_keep_27 : decode cX0_keep 27 = .ok (.aload_n 0, 1) := dk_42 (dk_at dksX0_keep_1 5 rfl rfl)
theorem dX0_keep_28 : decode cX0_keep 28 = .ok (.getfield 113, 3) := dk_180 0 113 (dk_at dksX0_keep_1 6 rfl rfl)
theorem dX0_keep_31 : decode cX0_keep 31 = .ok (.invokevirtual 163, 3) := dk_182 0 163 (dk_at dksX0_keep_1 9 rfl rfl)
theorem dX0_keep_34 : decode cX0_keep 34 = .ok (.aload_n 0, 1) := dk_42 (dk_at dksX0_keep_1 12 rfl rfl)
theorem dX0_keep_35 : decode cX0_keep 35 = .ok (.dup, 1) := dk_89 (dk_at dksX0_keep_1 13 rfl rfl)
theorem dX0_keep_36 : decode cX0_keep 36 = .ok (.getfield 170, 3) := dk_180 0 170 (dk_at dksX0_keep_1 14 rfl rfl)
theorem dX0_keep_39 : decode cX0_keep 39 = .ok (.iconst 1, 1) := dk_4 (dk_at dksX0_keep_1 17 rfl rfl)
theorem dX0_keep_40 : decode cX0_keep 40 = .ok (.iload_n 1, 1) := dk_27 (dk_at dksX0_keep_1 18 rfl rfl)
theorem dX0_keep_41 : decode cX0_keep 41 = .ok (.ishl, 1) := dk_120 (dk_at dksX0_keep_1 19 rfl rfl)
theorem dX0_keep_42 : decode cX0_keep 42 = .ok (.ior, 1) := dk_128 (dk_at dksX0_keep_1 20 rfl rfl)
theorem dX0_keep_43 : decode cX0_keep 43 = .ok (.putfield 170, 3) := dk_181 0 170 (dk_at dksX0_keep_1 21 rfl rfl)
theorem dX0_keep_46 : decode cX0_keep 46 = .ok (.iload_n 2, 1) := dk_28 (dk_at dksX0_keep_2 0 rfl rfl)
theorem dX0_keep_47 : decode cX0_keep 47 = .ok (.ireturn, 1) := dk_172 (dk_at dksX0_keep_2 1 rfl rfl)
abbrev cX0_back : ByteArray := prog_1_method_56_code
def yX0_back : MethodName := ⟨RX0, "back", "(I)I"⟩
def dkwX0_back_1 : List UInt8 := [16, 254, 172, 42, 180, 0, 113, 42, 180, 0, 120, 27, 50, 182, 0, 163, 42, 180, 0, 113, 180, 0, 48, 172]
abbrev dktX0_back_1 : List UInt8 := dkwX0_back_1 ++ []
def dkwX0_back_0 : List UInt8 := [27, 133, 9, 10, 184, 0, 142, 154, 0, 5, 2, 172, 42, 180, 0, 170, 27, 184, 0, 27, 154, 0, 6]
abbrev dktX0_back_0 : List UInt8 := dkwX0_back_0 ++ dktX0_back_1
theorem dksX0_back_0 : cX0_back.data.toList.drop 0 = dktX0_back_0 := by decide +kernel
theorem dksX0_back_1 : cX0_back.data.toList.drop 23 = dktX0_back_1 := dk_seg dksX0_back_0 23 rfl rfl
theorem dX0_back_0 : decode cX0_back 0 = .ok (.iload_n 1, 1) := dk_27 (dk_at dksX0_back_0 0 rfl rfl)
theorem dX0_back_1 : decode cX0_back 1 = .ok (.i2l, 1) := dk_133 (dk_at dksX0_back_0 1 rfl rfl)
theorem dX0_back_2 : decode cX0_back 2 = .ok (.lconst 0, 1) := dk_9 (dk_at dksX0_back_0 2 rfl rfl)
theorem dX0_back_3 : decode cX0_back 3 = .ok (.lconst 1, 1) := dk_10 (dk_at dksX0_back_0 3 rfl rfl)
theorem dX0_back_4 : decode cX0_back 4 = .ok (.invokestatic 142, 3) := dk_184 0 142 (dk_at dksX0_back_0 4 rfl rfl)
theorem dX0_back_7 : decode cX0_back 7 = .ok (.ifCond .ne 5, 3) := dk_154 0 5 (dk_at dksX0_back_0 7 rfl rfl)
theorem dX0_back_10 : decode cX0_back 10 = .ok (.iconst (-1), 1) := dk_2 (dk_at dksX0_back_0 10 rfl rfl)
theorem dX0_back_11 : decode cX0_back 11 = .ok (.ireturn, 1) := dk_172 (dk_at dksX0_back_0 11 rfl rfl)
theorem dX0_back_12 : decode cX0_back 12 = .ok (.aload_n 0, 1) := dk_42 (dk_at dksX0_back_0 12 rfl rfl)
theorem dX0_back_13 : decode cX0_back 13 = .ok (.getfield 170, 3) := dk_180 0 170 (dk_at dksX0_back_0 13 rfl rfl)
theorem dX0_back_16 : decode cX0_back 16 = .ok (.iload_n 1, 1) := dk_27 (dk_at dksX0_back_0 16 rfl rfl)
theorem dX0_back_17 : decode cX0_back 17 = .ok (.invokestatic 27, 3) := dk_184 0 27 (dk_at dksX0_back_0 17 rfl rfl)
theorem dX0_back_20 : decode cX0_back 20 = .ok (.ifCond .ne 6, 3) := dk_154 0 6 (dk_at dksX0_back_0 20 rfl rfl)
theorem dX0_back_23 : decode cX0_back 23 = .ok (.bipush (-2), 2) := dk_16 254 (dk_at dksX0_back_1 0 rfl rfl)
theorem dX0_back_25 : decode cX0_back 25 = .ok (.ireturn, 1) := dk_172 (dk_at dksX0_back_1 2 rfl rfl)
theorem dX0_back_26 : decode cX0_back 26 = .ok (.aload_n 0, 1) := dk_42 (dk_at dksX0_back_1 3 rfl rfl)
theorem dX0_back_27 : decode cX0_back 27 = .ok (.getfield 113, 3) := dk_180 0 113 (dk_at dksX0_back_1 4 rfl rfl)
theorem dX0_back_30 : decode cX0_back 30 = .ok (.aload_n 0, 1) := dk_42 (dk_at dksX0_back_1 7 rfl rfl)
theorem dX0_back_31 : decode cX0_back 31 = .ok (.getfield 120, 3) := dk_180 0 120 (dk_at dksX0_back_1 8 rfl rfl)
theorem dX0_back_34 : decode cX0_back 34 = .ok (.iload_n 1, 1) := dk_27 (dk_at dksX0_back_1 11 rfl rfl)
theorem dX0_back_35 : decode cX0_back 35 = .ok (.aaload, 1) := dk_50 (dk_at dksX0_back_1 12 rfl rfl)
theorem dX0_back_36 : decode cX0_back 36 = .ok (.invokevirtual 163, 3) := dk_182 0 163 (dk_at dksX0_back_1 13 rfl rfl)
theorem dX0_back_39 : decode cX0_back 39 = .ok (.aload_n 0, 1) := dk_42 (dk_at dksX0_back_1 16 rfl rfl)
theorem dX0_back_40 : decode cX0_back 40 = .ok (.getfield 113, 3) := dk_180 0 113 (dk_at dksX0_back_1 17 rfl rfl)
theorem dX0_back_43 : decode cX0_back 43 = .ok (.getfield 48, 3) := dk_180 0 48 (dk_at dksX0_back_1 20 rfl rfl)
theorem dX0_back_46 : decode cX0_back 46 = .ok (.ireturn, 1) := dk_172 (dk_at dksX0_back_1 23 rfl rfl)
abbrev cX0_sheet : ByteArray := prog_1_method_58_code
def yX0_sheet : MethodName := ⟨RX0, "sheet", "(III)I"⟩
def dkwX0_sheet_2 : List UInt8 := [181, 1, 32, 4, 172, 58, 4, 16, 242, 172]
abbrev dktX0_sheet_2 : List UInt8 := dkwX0_sheet_2 ++ []
def dkwX0_sheet_1 : List UInt8 := [154, 0, 9, 29, 188, 8, 167, 0, 17, 28, 4, 160, 0, 9, 29, 188, 9, 167, 0, 6, 29, 188, 10]
abbrev dktX0_sheet_1 : List UInt8 := dkwX0_sheet_1 ++ dktX0_sheet_2
def dkwX0_sheet_0 : List UInt8 := [27, 28, 184, 1, 29, 153, 0, 9, 29, 16, 40, 164, 0, 5, 2, 172, 42, 180, 0, 135, 27, 50, 28]
abbrev dktX0_sheet_0 : List UInt8 := dkwX0_sheet_0 ++ dktX0_sheet_1
theorem dksX0_sheet_0 : cX0_sheet.data.toList.drop 0 = dktX0_sheet_0 := by decide +kernel
theorem dksX0_sheet_1 : cX0_sheet.data.toList.drop 23 = dktX0_sheet_1 := dk_seg dksX0_sheet_0 23 rfl rfl
theorem dksX0_sheet_2 : cX0_sheet.data.toList.drop 46 = dktX0_sheet_2 := dk_seg dksX0_sheet_1 23 rfl rfl
theorem dX0_sheet_0 : decode cX0_sheet 0 = .ok (.iload_n 1, 1) := dk_27 (dk_at dksX0_sheet_0 0 rfl rfl)
theorem dX0_sheet_1 : decode cX0_sheet 1 = .ok (.iload_n 2, 1) := dk_28 (dk_at dksX0_sheet_0 1 rfl rfl)
theorem dX0_sheet_2 : decode cX0_sheet 2 = .ok (.invokestatic 285, 3) := dk_184 1 29 (dk_at dksX0_sheet_0 2 rfl rfl)
theorem dX0_sheet_5 : decode cX0_sheet 5 = .ok (.ifCond .eq 9, 3) := dk_153 0 9 (dk_at dksX0_sheet_0 5 rfl rfl)
theorem dX0_sheet_8 : decode cX0_sheet 8 = .ok (.iload_n 3, 1) := dk_29 (dk_at dksX0_sheet_0 8 rfl rfl)
theorem dX0_sheet_9 : decode cX0_sheet 9 = .ok (.bipush 40, 2) := dk_16 40 (dk_at dksX0_sheet_0 9 rfl rfl)
theorem dX0_sheet_11 : decode cX0_sheet 11 = .ok (.if_icmp .le 5, 3) := dk_164 0 5 (dk_at dksX0_sheet_0 11 rfl rfl)
theorem dX0_sheet_14 : decode cX0_sheet 14 = .ok (.iconst (-1), 1) := dk_2 (dk_at dksX0_sheet_0 14 rfl rfl)
theorem dX0_sheet_15 : decode cX0_sheet 15 = .ok (.ireturn, 1) := dk_172 (dk_at dksX0_sheet_0 15 rfl rfl)
theorem dX0_sheet_16 : decode cX0_sheet 16 = .ok (.aload_n 0, 1) := dk_42 (dk_at dksX0_sheet_0 16 rfl rfl)
theorem dX0_sheet_17 : decode cX0_sheet 17 = .ok (.getfield 135, 3) := dk_180 0 135 (dk_at dksX0_sheet_0 17 rfl rfl)
theorem dX0_sheet_20 : decode cX0_sheet 20 = .ok (.iload_n 1, 1) := dk_27 (dk_at dksX0_sheet_0 20 rfl rfl)
theorem dX0_sheet_21 : decode cX0_sheet 21 = .ok (.aaload, 1) := dk_50 (dk_at dksX0_sheet_0 21 rfl rfl)
theorem dX0_sheet_22 : decode cX0_sheet 22 = .ok (.iload_n 2, 1) := dk_28 (dk_at dksX0_sheet_0 22 rfl rfl)
theorem dX0_sheet_23 : decode cX0_sheet 23 = .ok (.ifCond .ne 9, 3) := dk_154 0 9 (dk_at dksX0_sheet_1 0 rfl rfl)
theorem dX0_sheet_26 : decode cX0_sheet 26 = .ok (.iload_n 3, 1) := dk_29 (dk_at dksX0_sheet_1 3 rfl rfl)
theorem dX0_sheet_27 : decode cX0_sheet 27 = .ok (.newarray .byte, 2) := dk_188_8 (dk_at dksX0_sheet_1 4 rfl rfl)
theorem dX0_sheet_29 : decode cX0_sheet 29 = .ok (.goto 17, 3) := dk_167 0 17 (dk_at dksX0_sheet_1 6 rfl rfl)
theorem dX0_sheet_32 : decode cX0_sheet 32 = .ok (.iload_n 2, 1) := dk_28 (dk_at dksX0_sheet_1 9 rfl rfl)
theorem dX0_sheet_33 : decode cX0_sheet 33 = .ok (.iconst 1, 1) := dk_4 (dk_at dksX0_sheet_1 10 rfl rfl)
theorem dX0_sheet_34 : decode cX0_sheet 34 = .ok (.if_icmp .ne 9, 3) := dk_160 0 9 (dk_at dksX0_sheet_1 11 rfl rfl)
theorem dX0_sheet_37 : decode cX0_sheet 37 = .ok (.iload_n 3, 1) := dk_29 (dk_at dksX0_sheet_1 14 rfl rfl)
theorem dX0_sheet_38 : decode cX0_sheet 38 = .ok (.newarray .short, 2) := dk_188_9 (dk_at dksX0_sheet_1 15 rfl rfl)
theorem dX0_sheet_40 : decode cX0_sheet 40 = .ok (.goto 6, 3) := dk_167 0 6 (dk_at dksX0_sheet_1 17 rfl rfl)
theorem dX0_sheet_43 : decode cX0_sheet 43 = .ok (.iload_n 3, 1) := dk_29 (dk_at dksX0_sheet_1 20 rfl rfl)
theorem dX0_sheet_44 : decode cX0_sheet 44 = .ok (.newarray .int, 2) := dk_188_10 (dk_at dksX0_sheet_1 21 rfl rfl)
theorem dX0_sheet_46 : decode cX0_sheet 46 = .ok (.putfield 288, 3) := dk_181 1 32 (dk_at dksX0_sheet_2 0 rfl rfl)
theorem dX0_sheet_49 : decode cX0_sheet 49 = .ok (.iconst 1, 1) := dk_4 (dk_at dksX0_sheet_2 3 rfl rfl)
theorem dX0_sheet_50 : decode cX0_sheet 50 = .ok (.ireturn, 1) := dk_172 (dk_at dksX0_sheet_2 4 rfl rfl)
theorem dX0_sheet_51 : decode cX0_sheet 51 = .ok (.astore 4, 2) := dk_58 4 (dk_at dksX0_sheet_2 5 rfl rfl)
theorem dX0_sheet_53 : decode cX0_sheet 53 = .ok (.bipush (-14), 2) := dk_16 242 (dk_at dksX0_sheet_2 7 rfl rfl)
theorem dX0_sheet_55 : decode cX0_sheet 55 = .ok (.ireturn, 1) := dk_172 (dk_at dksX0_sheet_2 9 rfl rfl)
abbrev cX0_isSheet : ByteArray := prog_1_method_57_code
def yX0_isSheet : MethodName := ⟨RX0, "isSheet", "(II)Z"⟩
def dkwX0_isSheet_1 : List UInt8 := [4, 167, 0, 4, 3, 172]
abbrev dktX0_isSheet_1 : List UInt8 := dkwX0_isSheet_1 ++ []
def dkwX0_isSheet_0 : List UInt8 := [26, 133, 9, 20, 0, 206, 184, 0, 142, 153, 0, 19, 27, 133, 9, 20, 1, 27, 184, 0, 142, 153, 0, 7]
abbrev dktX0_isSheet_0 : List UInt8 := dkwX0_isSheet_0 ++ dktX0_isSheet_1
theorem dksX0_isSheet_0 : cX0_isSheet.data.toList.drop 0 = dktX0_isSheet_0 := by decide +kernel
theorem dksX0_isSheet_1 : cX0_isSheet.data.toList.drop 24 = dktX0_isSheet_1 := dk_seg dksX0_isSheet_0 24 rfl rfl
theorem dX0_isSheet_0 : decode cX0_isSheet 0 = .ok (.iload_n 0, 1) := dk_26 (dk_at dksX0_isSheet_0 0 rfl rfl)
theorem dX0_isSheet_1 : decode cX0_isSheet 1 = .ok (.i2l, 1) := dk_133 (dk_at dksX0_isSheet_0 1 rfl rfl)
theorem dX0_isSheet_2 : decode cX0_isSheet 2 = .ok (.lconst 0, 1) := dk_9 (dk_at dksX0_isSheet_0 2 rfl rfl)
theorem dX0_isSheet_3 : decode cX0_isSheet 3 = .ok (.ldc2_w 206, 3) := dk_20 0 206 (dk_at dksX0_isSheet_0 3 rfl rfl)
theorem dX0_isSheet_6 : decode cX0_isSheet 6 = .ok (.invokestatic 142, 3) := dk_184 0 142 (dk_at dksX0_isSheet_0 6 rfl rfl)
theorem dX0_isSheet_9 : decode cX0_isSheet 9 = .ok (.ifCond .eq 19, 3) := dk_153 0 19 (dk_at dksX0_isSheet_0 9 rfl rfl)
theorem dX0_isSheet_12 : decode cX0_isSheet 12 = .ok (.iload_n 1, 1) := dk_27 (dk_at dksX0_isSheet_0 12 rfl rfl)
theorem dX0_isSheet_13 : decode cX0_isSheet 13 = .ok (.i2l, 1) := dk_133 (dk_at dksX0_isSheet_0 13 rfl rfl)
theorem dX0_isSheet_14 : decode cX0_isSheet 14 = .ok (.lconst 0, 1) := dk_9 (dk_at dksX0_isSheet_0 14 rfl rfl)
theorem dX0_isSheet_15 : decode cX0_isSheet 15 = .ok (.ldc2_w 283, 3) := dk_20 1 27 (dk_at dksX0_isSheet_0 15 rfl rfl)
theorem dX0_isSheet_18 : decode cX0_isSheet 18 = .ok (.invokestatic 142, 3) := dk_184 0 142 (dk_at dksX0_isSheet_0 18 rfl rfl)
theorem dX0_isSheet_21 : decode cX0_isSheet 21 = .ok (.ifCond .eq 7, 3) := dk_153 0 7 (dk_at dksX0_isSheet_0 21 rfl rfl)
theorem dX0_isSheet_24 : decode cX0_isSheet 24 = .ok (.iconst 1, 1) := dk_4 (dk_at dksX0_isSheet_1 0 rfl rfl)
theorem dX0_isSheet_25 : decode cX0_isSheet 25 = .ok (.goto 4, 3) := dk_167 0 4 (dk_at dksX0_isSheet_1 1 rfl rfl)
theorem dX0_isSheet_28 : decode cX0_isSheet 28 = .ok (.iconst 0, 1) := dk_3 (dk_at dksX0_isSheet_1 4 rfl rfl)
theorem dX0_isSheet_29 : decode cX0_isSheet 29 = .ok (.ireturn, 1) := dk_172 (dk_at dksX0_isSheet_1 5 rfl rfl)
abbrev cX0_lay : ByteArray := prog_1_method_59_code
def yX0_lay : MethodName := ⟨RX0, "lay", "(III)I"⟩
def dkwX0_lay_3 : List UInt8 := [29, 79, 4, 172, 58, 5, 16, 245, 172, 58, 5, 16, 244, 172]
abbrev dktX0_lay_3 : List UInt8 := dkwX0_lay_3 ++ []
def dkwX0_lay_2 : List UInt8 := [193, 1, 38, 153, 0, 15, 25, 4, 192, 1, 38, 28, 29, 147, 86, 167, 0, 11, 25, 4, 192, 1, 39, 28]
abbrev dktX0_lay_2 : List UInt8 := dkwX0_lay_2 ++ dktX0_lay_3
def dkwX0_lay_1 : List UInt8 := [58, 4, 25, 4, 193, 1, 37, 153, 0, 15, 25, 4, 192, 1, 37, 28, 29, 145, 84, 167, 0, 31, 25, 4]
abbrev dktX0_lay_1 : List UInt8 := dkwX0_lay_1 ++ dktX0_lay_2
def dkwX0_lay_0 : List UInt8 := [27, 133, 9, 20, 0, 206, 184, 0, 142, 154, 0, 5, 2, 172, 42, 180, 0, 135, 27, 50, 180, 1, 32]
abbrev dktX0_lay_0 : List UInt8 := dkwX0_lay_0 ++ dktX0_lay_1
theorem dksX0_lay_0 : cX0_lay.data.toList.drop 0 = dktX0_lay_0 := by decide +kernel
theorem dksX0_lay_1 : cX0_lay.data.toList.drop 23 = dktX0_lay_1 := dk_seg dksX0_lay_0 23 rfl rfl
theorem dksX0_lay_2 : cX0_lay.data.toList.drop 47 = dktX0_lay_2 := dk_seg dksX0_lay_1 24 rfl rfl
theorem dksX0_lay_3 : cX0_lay.data.toList.drop 71 = dktX0_lay_3 := dk_seg dksX0_lay_2 24 rfl rfl
theorem dX0_lay_0 : decode cX0_lay 0 = .ok (.iload_n 1, 1) := dk_27 (dk_at dksX0_lay_0 0 rfl rfl)
theorem dX0_lay_1 : decode cX0_lay 1 = .ok (.i2l, 1) := dk_133 (dk_at dksX0_lay_0 1 rfl rfl)
theorem dX0_lay_2 : decode cX0_lay 2 = .ok (.lconst 0, 1) := dk_9 (dk_at dksX0_lay_0 2 rfl rfl)
theorem dX0_lay_3 : decode cX0_lay 3 = .ok (.ldc2_w 206, 3) := dk_20 0 206 (dk_at dksX0_lay_0 3 rfl rfl)
theorem dX0_lay_6 : decode cX0_lay 6 = .ok (.invokestatic 142, 3) := dk_184 0 142 (dk_at dksX0_lay_0 6 rfl rfl)
theorem dX0_lay_9 : decode cX0_lay 9 = .ok (.ifCond .ne 5, 3) := dk_154 0 5 (dk_at dksX0_lay_0 9 rfl rfl)
theorem dX0_lay_12 : decode cX0_lay 12 = .ok (.iconst (-1), 1) := dk_2 (dk_at dksX0_lay_0 12 rfl rfl)
theorem dX0_lay_13 : decode cX0_lay 13 = .ok (.ireturn, 1) := dk_172 (dk_at dksX0_lay_0 13 rfl rfl)
theorem dX0_lay_14 : decode cX0_lay 14 = .ok (.aload_n 0, 1) := dk_42 (dk_at dksX0_lay_0 14 rfl rfl)
theorem dX0_lay_15 : decode cX0_lay 15 = .ok (.getfield 135, 3) := dk_180 0 135 (dk_at dksX0_lay_0 15 rfl rfl)
theorem dX0_lay_18 : decode cX0_lay 18 = .ok (.iload_n 1, 1) := dk_27 (dk_at dksX0_lay_0 18 rfl rfl)
theorem dX0_lay_19 : decode cX0_lay 19 = .ok (.aaload, 1) := dk_50 (dk_at dksX0_lay_0 19 rfl rfl)
theorem dX0_lay_20 : decode cX0_lay 20 = .ok (.getfield 288, 3) := dk_180 1 32 (dk_at dksX0_lay_0 20 rfl rfl)
theorem dX0_lay_23 : decode cX0_lay 23 = .ok (.astore 4, 2) := dk_58 4 (dk_at dksX0_lay_1 0 rfl rfl)
theorem dX0_lay_25 : decode cX0_lay 25 = .ok (.aload 4, 2) := dk_25 4 (dk_at dksX0_lay_1 2 rfl rfl)
theorem dX0_lay_27 : decode cX0_lay 27 = .ok (.instanceof 293, 3) := dk_193 1 37 (dk_at dksX0_lay_1 4 rfl rfl)
theorem dX0_lay_30 : decode cX0_lay 30 = .ok (.ifCond .eq 15, 3) := dk_153 0 15 (dk_at dksX0_lay_1 7 rfl rfl)
theorem dX0_lay_33 : decode cX0_lay 33 = .ok (.aload 4, 2) := dk_25 4 (dk_at dksX0_lay_1 10 rfl rfl)
theorem dX0_lay_35 : decode cX0_lay 35 = .ok (.checkcast 293, 3) := dk_192 1 37 (dk_at dksX0_lay_1 12 rfl rfl)
theorem dX0_lay_38 : decode cX0_lay 38 = .ok (.iload_n 2, 1) := dk_28 (dk_at dksX0_lay_1 15 rfl rfl)
theorem dX0_lay_39 : decode cX0_lay 39 = .ok (.iload_n 3, 1) := dk_29 (dk_at dksX0_lay_1 16 rfl rfl)
theorem dX0_lay_40 : decode cX0_lay 40 = .ok (.i2b, 1) := dk_145 (dk_at dksX0_lay_1 17 rfl rfl)
theorem dX0_lay_41 : decode cX0_lay 41 = .ok (.bastore, 1) := dk_84 (dk_at dksX0_lay_1 18 rfl rfl)
theorem dX0_lay_42 : decode cX0_lay 42 = .ok (.goto 31, 3) := dk_167 0 31 (dk_at dksX0_lay_1 19 rfl rfl)
theorem dX0_lay_45 : decode cX0_lay 45 = .ok (.aload 4, 2) := dk_25 4 (dk_at dksX0_lay_1 22 rfl rfl)
theorem dX0_lay_47 : decode cX0_lay 47 = .ok (.instanceof 294, 3) := dk_193 1 38 (dk_at dksX0_lay_2 0 rfl rfl)
theorem dX0_lay_50 : decode cX0_lay 50 = .ok (.ifCond .eq 15, 3) := dk_153 0 15 (dk_at dksX0_lay_2 3 rfl rfl)
theorem dX0_lay_53 : decode cX0_lay 53 = .ok (.aload 4, 2) := dk_25 4 (dk_at dksX0_lay_2 6 rfl rfl)
theorem dX0_lay_55 : decode cX0_lay 55 = .ok (.checkcast 294, 3) := dk_192 1 38 (dk_at dksX0_lay_2 8 rfl rfl)
theorem dX0_lay_58 : decode cX0_lay 58 = .ok (.iload_n 2, 1) := dk_28 (dk_at dksX0_lay_2 11 rfl rfl)
theorem dX0_lay_59 : decode cX0_lay 59 = .ok (.iload_n 3, 1) := dk_29 (dk_at dksX0_lay_2 12 rfl rfl)
theorem dX0_lay_60 : decode cX0_lay 60 = .ok (.i2s, 1) := dk_147 (dk_at dksX0_lay_2 13 rfl rfl)
theorem dX0_lay_61 : decode cX0_lay 61 = .ok (.sastore, 1) := dk_86 (dk_at dksX0_lay_2 14 rfl rfl)
theorem dX0_lay_62 : decode cX0_lay 62 = .ok (.goto 11, 3) := dk_167 0 11 (dk_at dksX0_lay_2 15 rfl rfl)
theorem dX0_lay_65 : decode cX0_lay 65 = .ok (.aload 4, 2) := dk_25 4 (dk_at dksX0_lay_2 18 rfl rfl)
theorem dX0_lay_67 : decode cX0_lay 67 = .ok (.checkcast 295, 3) := dk_192 1 39 (dk_at dksX0_lay_2 20 rfl rfl)
theorem dX0_lay_70 : decode cX0_lay 70 = .ok (.iload_n 2, 1) := dk_28 (dk_at dksX0_lay_2 23 rfl rfl)
theorem dX0_lay_71 : decode cX0_lay 71 = .ok (.iload_n 3, 1) := dk_29 (dk_at dksX0_lay_3 0 rfl rfl)
theorem dX0_lay_72 : decode cX0_lay 72 = .ok (.iastore, 1) := dk_79 (dk_at dksX0_lay_3 1 rfl rfl)
theorem dX0_lay_73 : decode cX0_lay 73 = .ok (.iconst 1, 1) := dk_4 (dk_at dksX0_lay_3 2 rfl rfl)
theorem dX0_lay_74 : decode cX0_lay 74 = .ok (.ireturn, 1) := dk_172 (dk_at dksX0_lay_3 3 rfl rfl)
theorem dX0_lay_75 : decode cX0_lay 75 = .ok (.astore 5, 2) := dk_58 5 (dk_at dksX0_lay_3 4 rfl rfl)
theorem dX0_lay_77 : decode cX0_lay 77 = .ok (.bipush (-11), 2) := dk_16 245 (dk_at dksX0_lay_3 6 rfl rfl)
theorem dX0_lay_79 : decode cX0_lay 79 = .ok (.ireturn, 1) := dk_172 (dk_at dksX0_lay_3 8 rfl rfl)
theorem dX0_lay_80 : decode cX0_lay 80 = .ok (.astore 5, 2) := dk_58 5 (dk_at dksX0_lay_3 9 rfl rfl)
theorem dX0_lay_82 : decode cX0_lay 82 = .ok (.bipush (-12), 2) := dk_16 244 (dk_at dksX0_lay_3 11 rfl rfl)
theorem dX0_lay_84 : decode cX0_lay 84 = .ok (.ireturn, 1) := dk_172 (dk_at dksX0_lay_3 13 rfl rfl)
abbrev cX0_read : ByteArray := prog_1_method_61_code
def yX0_read : MethodName := ⟨RX0, "read", "(IIII)I"⟩
def dkwX0_read_5 : List UInt8 := [54, 5, 167, 0, 8, 58, 7, 5, 54, 5, 42, 21, 5, 181, 1, 52, 21, 6, 172]
abbrev dktX0_read_5 : List UInt8 := dkwX0_read_5 ++ []
def dkwX0_read_4 : List UInt8 := [21, 6, 100, 172, 132, 6, 1, 167, 255, 195, 167, 0, 24, 58, 7, 4, 54, 5, 167, 0, 16, 58, 7, 6]
abbrev dktX0_read_4 : List UInt8 := dkwX0_read_4 ++ dktX0_read_5
def dkwX0_read_3 : List UInt8 := [180, 0, 113, 21, 7, 182, 0, 93, 154, 0, 20, 42, 180, 0, 113, 42, 180, 0, 117, 182, 0, 163, 16, 236]
abbrev dktX0_read_3 : List UInt8 := dkwX0_read_3 ++ dktX0_read_4
def dkwX0_read_2 : List UInt8 := [27, 28, 29, 21, 6, 96, 182, 1, 47, 54, 7, 42, 21, 7, 182, 0, 214, 153, 0, 16, 42, 42]
abbrev dktX0_read_2 : List UInt8 := dkwX0_read_2 ++ dktX0_read_3
def dkwX0_read_1 : List UInt8 := [180, 0, 117, 42, 180, 0, 113, 182, 0, 163, 3, 54, 5, 3, 54, 6, 21, 6, 21, 4, 162, 0, 60, 42]
abbrev dktX0_read_1 : List UInt8 := dkwX0_read_1 ++ dktX0_read_2
def dkwX0_read_0 : List UInt8 := [27, 28, 184, 1, 29, 153, 0, 16, 21, 4, 133, 9, 20, 1, 45, 184, 0, 142, 154, 0, 5, 2, 172, 42]
abbrev dktX0_read_0 : List UInt8 := dkwX0_read_0 ++ dktX0_read_1
theorem dksX0_read_0 : cX0_read.data.toList.drop 0 = dktX0_read_0 := by decide +kernel
theorem dksX0_read_1 : cX0_read.data.toList.drop 24 = dktX0_read_1 := dk_seg dksX0_read_0 24 rfl rfl
theorem dksX0_read_2 : cX0_read.data.toList.drop 48 = dktX0_read_2 := dk_seg dksX0_read_1 24 rfl rfl
theorem dksX0_read_3 : cX0_read.data.toList.drop 70 = dktX0_read_3 := dk_seg dksX0_read_2 22 rfl rfl
theorem dksX0_read_4 : cX0_read.data.toList.drop 94 = dktX0_read_4 := dk_seg dksX0_read_3 24 rfl rfl
theorem dksX0_read_5 : cX0_read.data.toList.drop 118 = dktX0_read_5 := dk_seg dksX0_read_4 24 rfl rfl
theorem dX0_read_0 : decode cX0_read 0 = .ok (.iload_n 1, 1) := dk_27 (dk_at dksX0_read_0 0 rfl rfl)
theorem dX0_read_1 : decode cX0_read 1 = .ok (.iload_n 2, 1) := dk_28 (dk_at dksX0_read_0 1 rfl rfl)
theorem dX0_read_2 : decode cX0_read 2 = .ok (.invokestatic 285, 3) := dk_184 1 29 (dk_at dksX0_read_0 2 rfl rfl)
theorem dX0_read_5 : decode cX0_read 5 = .ok (.ifCond .eq 16, 3) := dk_153 0 16 (dk_at dksX0_read_0 5 rfl rfl)
theorem dX0_read_8 : decode cX0_read 8 = .ok (.iload 4, 2) := dk_21 4 (dk_at dksX0_read_0 8 rfl rfl)
theorem dX0_read_10 : decode cX0_read 10 = .ok (.i2l, 1) := dk_133 (dk_at dksX0_read_0 10 rfl rfl)
theorem dX0_read_11 : decode cX0_read 11 = .ok (.lconst 0, 1) := dk_9 (dk_at dksX0_read_0 11 rfl rfl)
theorem dX0_read_12 : decode cX0_read 12 = .ok (.ldc2_w 301, 3) := dk_20 1 45 (dk_at dksX0_read_0 12 rfl rfl)
theorem dX0_read_15 : decode cX0_read 15 = .ok (.invokestatic 142, 3) := dk_184 0 142 (dk_at dksX0_read_0 15 rfl rfl)
theorem dX0_read_18 : decode cX0_read 18 = .ok (.ifCond .ne 5, 3) := dk_154 0 5 (dk_at dksX0_read_0 18 rfl rfl)
theorem dX0_read_21 : decode cX0_read 21 = .ok (.iconst (-1), 1) := dk_2 (dk_at dksX0_read_0 21 rfl rfl)
theorem dX0_read_22 : decode cX0_read 22 = .ok (.ireturn, 1) := dk_172 (dk_at dksX0_read_0 22 rfl rfl)
theorem dX0_read_23 : decode cX0_read 23 = .ok (.aload_n 0, 1) := dk_42 (dk_at dksX0_read_0 23 rfl rfl)
theorem dX0_read_24 : decode cX0_read 24 = .ok (.getfield 117, 3) := dk_180 0 117 (dk_at dksX0_read_1 0 rfl rfl)
theorem dX0_read_27 : decode cX0_read 27 = .ok (.aload_n 0, 1) := dk_42 (dk_at dksX0_read_1 3 rfl rfl)
theorem dX0_read_28 : decode cX0_read 28 = .ok (.getfield 113, 3) := dk_180 0 113 (dk_at dksX0_read_1 4 rfl rfl)
theorem dX0_read_31 : decode cX0_read 31 = .ok (.invokevirtual 163, 3) := dk_182 0 163 (dk_at dksX0_read_1 7 rfl rfl)
theorem dX0_read_34 : decode cX0_read 34 = .ok (.iconst 0, 1) := dk_3 (dk_at dksX0_read_1 10 rfl rfl)
theorem dX0_read_35 : decode cX0_read 35 = .ok (.istore 5, 2) := dk_54 5 (dk_at dksX0_read_1 11 rfl rfl)
theorem dX0_read_37 : decode cX0_read 37 = .ok (.iconst 0, 1) := dk_3 (dk_at dksX0_read_1 13 rfl rfl)
theorem dX0_read_38 : decode cX0_read 38 = .ok (.istore 6, 2) := dk_54 6 (dk_at dksX0_read_1 14 rfl rfl)
theorem dX0_read_40 : decode cX0_read 40 = .ok (.iload 6, 2) := dk_21 6 (dk_at dksX0_read_1 16 rfl rfl)
theorem dX0_read_42 : decode cX0_read 42 = .ok (.iload 4, 2) := dk_21 4 (dk_at dksX0_read_1 18 rfl rfl)
theorem dX0_read_44 : decode cX0_read 44 = .ok (.if_icmp .ge 60, 3) := dk_162 0 60 (dk_at dksX0_read_1 20 rfl rfl)
theorem dX0_read_47 : decode cX0_read 47 = .ok (.aload_n 0, 1) := dk_42 (dk_at dksX0_read_1 23 rfl rfl)
theorem dX0_read_48 : decode cX0_read 48 = .ok (.iload_n 1, 1) := dk_27 (dk_at dksX0_read_2 0 rfl rfl)
theorem dX0_read_49 : decode cX0_read 49 = .ok (.iload_n 2, 1) := dk_28 (dk_at dksX0_read_2 1 rfl rfl)
theorem dX0_read_50 : decode cX0_read 50 = .ok (.iload_n 3, 1) := dk_29 (dk_at dksX0_read_2 2 rfl rfl)
theorem dX0_read_51 : decode cX0_read 51 = .ok (.iload 6, 2) := dk_21 6 (dk_at dksX0_read_2 3 rfl rfl)
theorem dX0_read_53 : decode cX0_read 53 = .ok (.iadd, 1) := dk_96 (dk_at dksX0_read_2 5 rfl rfl)
theorem dX0_read_54 : decode cX0_read 54 = .ok (.invokevirtual 303, 3) := dk_182 1 47 (dk_at dksX0_read_2 6 rfl rfl)
theorem dX0_read_57 : decode cX0_read 57 = .ok (.istore 7, 2) := dk_54 7 (dk_at dksX0_read_2 9 rfl rfl)
theorem dX0_read_59 : decode cX0_read 59 = .ok (.aload_n 0, 1) := dk_42 (dk_at dksX0_read_2 11 rfl rfl)
theorem dX0_read_60 : decode cX0_read 60 = .ok (.iload 7, 2) := dk_21 7 (dk_at dksX0_read_2 12 rfl rfl)
theorem dX0_read_62 : decode cX0_read 62 = .ok (.invokevirtual 214, 3) := dk_182 0 214 (dk_at dksX0_read_2 14 rfl rfl)
theorem dX0_read_65 : decode cX0_read 65 = .ok (.ifCond .eq 16, 3) := dk_153 0 16 (dk_at dksX0_read_2 17 rfl rfl)
theorem dX0_read_68 : decode cX0_read 68 = .ok (.aload_n 0, 1) := dk_42 (dk_at dksX0_read_2 20 rfl rfl)
theorem dX0_read_69 : decode cX0_read 69 = .ok (.aload_n 0, 1) := dk_42 (dk_at dksX0_read_2 21 rfl rfl)
theorem dX0_read_70 : decode cX0_read 70 = .ok (.getfield 113, 3) := dk_180 0 113 (dk_at dksX0_read_3 0 rfl rfl)
theorem dX0_read_73 : decode cX0_read 73 = .ok (.iload 7, 2) := dk_21 7 (dk_at dksX0_read_3 3 rfl rfl)
theorem dX0_read_75 : decode cX0_read 75 = .ok (.invokevirtual 93, 3) := dk_182 0 93 (dk_at dksX0_read_3 5 rfl rfl)
theorem dX0_read_78 : decode cX0_read 78 = .ok (.ifCond .ne 20, 3) := dk_154 0 20 (dk_at dksX0_read_3 8 rfl rfl)
theorem dX0_read_81 : decode cX0_read 81 = .ok (.aload_n 0, 1) := dk_42 (dk_at dksX0_read_3 11 rfl rfl)
theorem dX0_read_82 : decode cX0_read 82 = .ok (.getfield 113, 3) := dk_180 0 113 (dk_at dksX0_read_3 12 rfl rfl)
theorem dX0_read_85 : decode cX0_read 85 = .ok (.aload_n 0, 1) := dk_42 (dk_at dksX0_read_3 15 rfl rfl)
theorem dX0_read_86 : decode cX0_read 86 = .ok (.getfield 117, 3) := dk_180 0 117 (dk_at dksX0_read_3 16 rfl rfl)
theorem dX0_read_89 : decode cX0_read 89 = .ok (.invokevirtual 163, 3) := dk_182 0 163 (dk_at dksX0_read_3 19 rfl rfl)
theorem dX0_read_92 : decode cX0_read 92 = .ok (.bipush (-20), 2) := dk_16 236 (dk_at dksX0_read_3 22 rfl rfl)
theorem dX0_read_94 : decode cX0_read 94 = .ok (.iload 6, 2) := dk_21 6 (dk_at dksX0_read_4 0 rfl rfl)
theorem dX0_read_96 : decode cX0_read 96 = .ok (.isub, 1) := dk_100 (dk_at dksX0_read_4 2 rfl rfl)
theorem dX0_read_97 : decode cX0_read 97 = .ok (.ireturn, 1) := dk_172 (dk_at dksX0_read_4 3 rfl rfl)
theorem dX0_read_98 : decode cX0_read 98 = .ok (.iinc 6 1, 3) := dk_132 6 1 (dk_at dksX0_read_4 4 rfl rfl)
theorem dX0_read_101 : decode cX0_read 101 = .ok (.goto (-61), 3) := dk_167 255 195 (dk_at dksX0_read_4 7 rfl rfl)
theorem dX0_read_104 : decode cX0_read 104 = .ok (.goto 24, 3) := dk_167 0 24 (dk_at dksX0_read_4 10 rfl rfl)
theorem dX0_read_107 : decode cX0_read 107 = .ok (.astore 7, 2) := dk_58 7 (dk_at dksX0_read_4 13 rfl rfl)
theorem dX0_read_109 : decode cX0_read 109 = .ok (.iconst 1, 1) := dk_4 (dk_at dksX0_read_4 15 rfl rfl)
theorem dX0_read_110 : decode cX0_read 110 = .ok (.istore 5, 2) := dk_54 5 (dk_at dksX0_read_4 16 rfl rfl)
theorem dX0_read_112 : decode cX0_read 112 = .ok (.goto 16, 3) := dk_167 0 16 (dk_at dksX0_read_4 18 rfl rfl)
theorem dX0_read_115 : decode cX0_read 115 = .ok (.astore 7, 2) := dk_58 7 (dk_at dksX0_read_4 21 rfl rfl)
theorem dX0_read_117 : decode cX0_read 117 = .ok (.iconst 3, 1) := dk_6 (dk_at dksX0_read_4 23 rfl rfl)
theorem dX0_read_118 : decode cX0_read 118 = .ok (.istore 5, 2) := dk_54 5 (dk_at dksX0_read_5 0 rfl rfl)
theorem dX0_read_120 : decode cX0_read 120 = .ok (.goto 8, 3) := dk_167 0 8 (dk_at dksX0_read_5 2 rfl rfl)
theorem dX0_read_123 : decode cX0_read 123 = .ok (.astore 7, 2) := dk_58 7 (dk_at dksX0_read_5 5 rfl rfl)
theorem dX0_read_125 : decode cX0_read 125 = .ok (.iconst 2, 1) := dk_5 (dk_at dksX0_read_5 7 rfl rfl)
theorem dX0_read_126 : decode cX0_read 126 = .ok (.istore 5, 2) := dk_54 5 (dk_at dksX0_read_5 8 rfl rfl)
theorem dX0_read_128 : decode cX0_read 128 = .ok (.aload_n 0, 1) := dk_42 (dk_at dksX0_read_5 10 rfl rfl)
theorem dX0_read_129 : decode cX0_read 129 = .ok (.iload 5, 2) := dk_21 5 (dk_at dksX0_read_5 11 rfl rfl)
theorem dX0_read_131 : decode cX0_read 131 = .ok (.putfield 308, 3) := dk_181 1 52 (dk_at dksX0_read_5 13 rfl rfl)
theorem dX0_read_134 : decode cX0_read 134 = .ok (.iload 6, 2) := dk_21 6 (dk_at dksX0_read_5 16 rfl rfl)
theorem dX0_read_136 : decode cX0_read 136 = .ok (.ireturn, 1) := dk_172 (dk_at dksX0_read_5 18 rfl rfl)
abbrev cX0_takenOf : ByteArray := prog_1_method_60_code
def yX0_takenOf : MethodName := ⟨RX0, "takenOf", "(III)I"⟩
def dkwX0_takenOf_2 : List UInt8 := [46, 172]
abbrev dktX0_takenOf_2 : List UInt8 := dkwX0_takenOf_2 ++ []
def dkwX0_takenOf_1 : List UInt8 := [167, 0, 25, 28, 4, 160, 0, 13, 25, 4, 192, 1, 38, 29, 53, 167, 0, 10, 25, 4, 192, 1, 39, 29]
abbrev dktX0_takenOf_1 : List UInt8 := dkwX0_takenOf_1 ++ dktX0_takenOf_2
def dkwX0_takenOf_0 : List UInt8 := [42, 180, 0, 135, 27, 50, 180, 1, 32, 58, 4, 28, 154, 0, 13, 25, 4, 192, 1, 37, 29, 51]
abbrev dktX0_takenOf_0 : List UInt8 := dkwX0_takenOf_0 ++ dktX0_takenOf_1
theorem dksX0_takenOf_0 : cX0_takenOf.data.toList.drop 0 = dktX0_takenOf_0 := by decide +kernel
theorem dksX0_takenOf_1 : cX0_takenOf.data.toList.drop 22 = dktX0_takenOf_1 := dk_seg dksX0_takenOf_0 22 rfl rfl
theorem dksX0_takenOf_2 : cX0_takenOf.data.toList.drop 46 = dktX0_takenOf_2 := dk_seg dksX0_takenOf_1 24 rfl rfl
theorem dX0_takenOf_0 : decode cX0_takenOf 0 = .ok (.aload_n 0, 1) := dk_42 (dk_at dksX0_takenOf_0 0 rfl rfl)
theorem dX0_takenOf_1 : decode cX0_takenOf 1 = .ok (.getfield 135, 3) := dk_180 0 135 (dk_at dksX0_takenOf_0 1 rfl rfl)
theorem dX0_takenOf_4 : decode cX0_takenOf 4 = .ok (.iload_n 1, 1) := dk_27 (dk_at dksX0_takenOf_0 4 rfl rfl)
theorem dX0_takenOf_5 : decode cX0_takenOf 5 = .ok (.aaload, 1) := dk_50 (dk_at dksX0_takenOf_0 5 rfl rfl)
theorem dX0_takenOf_6 : decode cX0_takenOf 6 = .ok (.getfield 288, 3) := dk_180 1 32 (dk_at dksX0_takenOf_0 6 rfl rfl)
theorem dX0_takenOf_9 : decode cX0_takenOf 9 = .ok (.astore 4, 2) := dk_58 4 (dk_at dksX0_takenOf_0 9 rfl rfl)
theorem dX0_takenOf_11 : decode cX0_takenOf 11 = .ok (.iload_n 2, 1) := dk_28 (dk_at dksX0_takenOf_0 11 rfl rfl)
theorem dX0_takenOf_12 : decode cX0_takenOf 12 = .ok (.ifCond .ne 13, 3) := dk_154 0 13 (dk_at dksX0_takenOf_0 12 rfl rfl)
theorem dX0_takenOf_15 : decode cX0_takenOf 15 = .ok (.aload 4, 2) := dk_25 4 (dk_at dksX0_takenOf_0 15 rfl rfl)
theorem dX0_takenOf_17 : decode cX0_takenOf 17 = .ok (.checkcast 293, 3) := dk_192 1 37 (dk_at dksX0_takenOf_0 17 rfl rfl)
theorem dX0_takenOf_20 : decode cX0_takenOf 20 = .ok (.iload_n 3, 1) := dk_29 (dk_at dksX0_takenOf_0 20 rfl rfl)
theorem dX0_takenOf_21 : decode cX0_takenOf 21 = .ok (.baload, 1) := dk_51 (dk_at dksX0_takenOf_0 21 rfl rfl)
theorem dX0_takenOf_22 : decode cX0_takenOf 22 = .ok (.goto 25, 3) := dk_167 0 25 (dk_at dksX0_takenOf_1 0 rfl rfl)
theorem dX0_takenOf_25 : decode cX0_takenOf 25 = .ok (.iload_n 2, 1) := dk_28 (dk_at dksX0_takenOf_1 3 rfl rfl)
theorem dX0_takenOf_26 : decode cX0_takenOf 26 = .ok (.iconst 1, 1) := dk_4 (dk_at dksX0_takenOf_1 4 rfl rfl)
theorem dX0_takenOf_27 : decode cX0_takenOf 27 = .ok (.if_icmp .ne 13, 3) := dk_160 0 13 (dk_at dksX0_takenOf_1 5 rfl rfl)
theorem dX0_takenOf_30 : decode cX0_takenOf 30 = .ok (.aload 4, 2) := dk_25 4 (dk_at dksX0_takenOf_1 8 rfl rfl)
theorem dX0_takenOf_32 : decode cX0_takenOf 32 = .ok (.checkcast 294, 3) := dk_192 1 38 (dk_at dksX0_takenOf_1 10 rfl rfl)
theorem dX0_takenOf_35 : decode cX0_takenOf 35 = .ok (.iload_n 3, 1) := dk_29 (dk_at dksX0_takenOf_1 13 rfl rfl)
theorem dX0_takenOf_36 : decode cX0_takenOf 36 = .ok (.saload, 1) := dk_53 (dk_at dksX0_takenOf_1 14 rfl rfl)
theorem dX0_takenOf_37 : decode cX0_takenOf 37 = .ok (.goto 10, 3) := dk_167 0 10 (dk_at dksX0_takenOf_1 15 rfl rfl)
theorem dX0_takenOf_40 : decode cX0_takenOf 40 = .ok (.aload 4, 2) := dk_25 4 (dk_at dksX0_takenOf_1 18 rfl rfl)
theorem dX0_takenOf_42 : decode cX0_takenOf 42 = .ok (.checkcast 295, 3) := dk_192 1 39 (dk_at dksX0_takenOf_1 20 rfl rfl)
theorem dX0_takenOf_45 : decode cX0_takenOf 45 = .ok (.iload_n 3, 1) := dk_29 (dk_at dksX0_takenOf_1 23 rfl rfl)
theorem dX0_takenOf_46 : decode cX0_takenOf 46 = .ok (.iaload, 1) := dk_46 (dk_at dksX0_takenOf_2 0 rfl rfl)
theorem dX0_takenOf_47 : decode cX0_takenOf 47 = .ok (.ireturn, 1) := dk_172 (dk_at dksX0_takenOf_2 1 rfl rfl)
abbrev cX0_torn : ByteArray := prog_1_method_62_code
def yX0_torn : MethodName := ⟨RX0, "torn", "()I"⟩
theorem dX0_torn_0 : decode cX0_torn 0 = .ok (.aload_n 0, 1) := by decide +kernel
theorem dX0_torn_1 : decode cX0_torn 1 = .ok (.getfield 308, 3) := by decide +kernel
theorem dX0_torn_4 : decode cX0_torn 4 = .ok (.ireturn, 1) := by decide +kernel
abbrev cX0_count : ByteArray := prog_1_method_63_code
def yX0_count : MethodName := ⟨RX0, "count", "(I)I"⟩
def dkwX0_count_9 : List UInt8 := [21, 5, 172, 2, 172]
abbrev dktX0_count_9 : List UInt8 := dkwX0_count_9 ++ []
def dkwX0_count_8 : List UInt8 := [42, 180, 0, 167, 172, 42, 180, 0, 170, 184, 0, 77, 172, 42, 180, 0, 146, 172, 29, 172, 21, 4, 172]
abbrev dktX0_count_8 : List UInt8 := dkwX0_count_8 ++ dktX0_count_9
def dkwX0_count_7 : List UInt8 := [170, 0, 0, 0, 0, 0, 65, 0, 0, 0, 0, 0, 0, 0, 5, 0, 0, 0, 39, 0, 0, 0, 44, 0, 0, 0, 52, 0, 0, 0, 57, 0, 0, 0, 59, 0, 0, 0, 62]
abbrev dktX0_count_7 : List UInt8 := dkwX0_count_7 ++ dktX0_count_8
def dkwX0_count_6 : List UInt8 := [160, 0, 7, 4, 167, 0, 4, 3, 96, 54, 5, 132, 6, 1, 167, 255, 216, 27]
abbrev dktX0_count_6 : List UInt8 := dkwX0_count_6 ++ dktX0_count_7
def dkwX0_count_5 : List UInt8 := [42, 180, 0, 113, 180, 0, 86, 162, 0, 34, 21, 5, 42, 180, 0, 113, 180, 0, 89, 21, 6, 51, 16, 6]
abbrev dktX0_count_5 : List UInt8 := dkwX0_count_5 ++ dktX0_count_6
def dkwX0_count_4 : List UInt8 := [16, 252, 160, 0, 7, 3, 167, 0, 4, 4, 96, 54, 4, 132, 6, 1, 167, 255, 216, 3, 54, 6, 21, 6]
abbrev dktX0_count_4 : List UInt8 := dkwX0_count_4 ++ dktX0_count_5
def dkwX0_count_3 : List UInt8 := [21, 6, 42, 180, 0, 113, 180, 0, 19, 162, 0, 34, 21, 4, 42, 180, 0, 113, 180, 0, 44, 21, 6, 53]
abbrev dktX0_count_3 : List UInt8 := dkwX0_count_3 ++ dktX0_count_4
def dkwX0_count_2 : List UInt8 := [153, 0, 11, 44, 192, 1, 39, 190, 167, 0, 5, 16, 252, 62, 3, 54, 4, 3, 54, 5, 3, 54, 6]
abbrev dktX0_count_2 : List UInt8 := dkwX0_count_2 ++ dktX0_count_3
def dkwX0_count_1 : List UInt8 := [167, 0, 35, 44, 193, 1, 38, 153, 0, 11, 44, 192, 1, 38, 190, 167, 0, 20, 44, 193, 1, 39]
abbrev dktX0_count_1 : List UInt8 := dkwX0_count_1 ++ dktX0_count_2
def dkwX0_count_0 : List UInt8 := [42, 180, 0, 135, 3, 50, 180, 1, 32, 77, 44, 193, 1, 37, 153, 0, 11, 44, 192, 1, 37, 190]
abbrev dktX0_count_0 : List UInt8 := dkwX0_count_0 ++ dktX0_count_1
theorem dksX0_count_0 : cX0_count.data.toList.drop 0 = dktX0_count_0 := by decide +kernel
theorem dksX0_count_1 : cX0_count.data.toList.drop 22 = dktX0_count_1 := dk_seg dksX0_count_0 22 rfl rfl
theorem dksX0_count_2 : cX0_count.data.toList.drop 44 = dktX0_count_2 := dk_seg dksX0_count_1 22 rfl rfl
theorem dksX0_count_3 : cX0_count.data.toList.drop 67 = dktX0_count_3 := dk_seg dksX0_count_2 23 rfl rfl
theorem dksX0_count_4 : cX0_count.data.toList.drop 91 = dktX0_count_4 := dk_seg dksX0_count_3 24 rfl rfl
theorem dksX0_count_5 : cX0_count.data.toList.drop 115 = dktX0_count_5 := dk_seg dksX0_count_4 24 rfl rfl
theorem dksX0_count_6 : cX0_count.data.toList.drop 139 = dktX0_count_6 := dk_seg dksX0_count_5 24 rfl rfl
theorem dksX0_count_7 : cX0_count.data.toList.drop 157 = dktX0_count_7 := dk_seg dksX0_count_6 18 rfl rfl
theorem dksX0_count_8 : cX0_count.data.toList.drop 196 = dktX0_count_8 := dk_seg dksX0_count_7 39 rfl rfl
theorem dksX0_count_9 : cX0_count.data.toList.drop 219 = dktX0_count_9 := dk_seg dksX0_count_8 23 rfl rfl
theorem dX0_count_0 : decode cX0_count 0 = .ok (.aload_n 0, 1) := dk_42 (dk_at dksX0_count_0 0 rfl rfl)
theorem dX0_count_1 : decode cX0_count 1 = .ok (.getfield 135, 3) := dk_180 0 135 (dk_at dksX0_count_0 1 rfl rfl)
theorem dX0_count_4 : decode cX0_count 4 = .ok (.iconst 0, 1) := dk_3 (dk_at dksX0_count_0 4 rfl rfl)
theorem dX0_count_5 : decode cX0_count 5 = .ok (.aaload, 1) := dk_50 (dk_at dksX0_count_0 5 rfl rfl)
theorem dX0_count_6 : decode cX0_count 6 = .ok (.getfield 288, 3) := dk_180 1 32 (dk_at dksX0_count_0 6 rfl rfl)
theorem dX0_count_9 : decode cX0_count 9 = .ok (.astore_n 2, 1) := dk_77 (dk_at dksX0_count_0 9 rfl rfl)
theorem dX0_count_10 : decode cX0_count 10 = .ok (.aload_n 2, 1) := dk_44 (dk_at dksX0_count_0 10 rfl rfl)
theorem dX0_count_11 : decode cX0_count 11 = .ok (.instanceof 293, 3) := dk_193 1 37 (dk_at dksX0_count_0 11 rfl rfl)
theorem dX0_count_14 : decode cX0_count 14 = .ok (.ifCond .eq 11, 3) := dk_153 0 11 (dk_at dksX0_count_0 14 rfl rfl)
theorem dX0_count_17 : decode cX0_count 17 = .ok (.aload_n 2, 1) := dk_44 (dk_at dksX0_count_0 17 rfl rfl)
theorem dX0_count_18 : decode cX0_count 18 = .ok (.checkcast 293, 3) := dk_192 1 37 (dk_at dksX0_count_0 18 rfl rfl)
theorem dX0_count_21 : decode cX0_count 21 = .ok (.arraylength, 1) := dk_190 (dk_at dksX0_count_0 21 rfl rfl)
theorem dX0_count_22 : decode cX0_count 22 = .ok (.goto 35, 3) := dk_167 0 35 (dk_at dksX0_count_1 0 rfl rfl)
theorem dX0_count_25 : decode cX0_count 25 = .ok (.aload_n 2, 1) := dk_44 (dk_at dksX0_count_1 3 rfl rfl)
theorem dX0_count_26 : decode cX0_count 26 = .ok (.instanceof 294, 3) := dk_193 1 38 (dk_at dksX0_count_1 4 rfl rfl)
theorem dX0_count_29 : decode cX0_count 29 = .ok (.ifCond .eq 11, 3) := dk_153 0 11 (dk_at dksX0_count_1 7 rfl rfl)
theorem dX0_count_32 : decode cX0_count 32 = .ok (.aload_n 2, 1) := dk_44 (dk_at dksX0_count_1 10 rfl rfl)
theorem dX0_count_33 : decode cX0_count 33 = .ok (.checkcast 294, 3) := dk_192 1 38 (dk_at dksX0_count_1 11 rfl rfl)
theorem dX0_count_36 : decode cX0_count 36 = .ok (.arraylength, 1) := dk_190 (dk_at dksX0_count_1 14 rfl rfl)
theorem dX0_count_37 : decode cX0_count 37 = .ok (.goto 20, 3) := dk_167 0 20 (dk_at dksX0_count_1 15 rfl rfl)
theorem dX0_count_40 : decode cX0_count 40 = .ok (.aload_n 2, 1) := dk_44 (dk_at dksX0_count_1 18 rfl rfl)
theorem dX0_count_41 : decode cX0_count 41 = .ok (.instanceof 295, 3) := dk_193 1 39 (dk_at dksX0_count_1 19 rfl rfl)
theorem dX0_count_44 : decode cX0_count 44 = .ok (.ifCond .eq 11, 3) := dk_153 0 11 (dk_at dksX0_count_2 0 rfl rfl)
theorem dX0_count_47 : decode cX0_count 47 = .ok (.aload_n 2, 1) := dk_44 (dk_at dksX0_count_2 3 rfl rfl)
theorem dX0_count_48 : decode cX0_count 48 = .ok (.checkcast 295, 3) := dk_192 1 39 (dk_at dksX0_count_2 4 rfl rfl)
theorem dX0_count_51 : decode cX0_count 51 = .ok (.arraylength, 1) := dk_190 (dk_at dksX0_count_2 7 rfl rfl)
theorem dX0_count_52 : decode cX0_count 52 = .ok (.goto 5, 3) := dk_167 0 5 (dk_at dksX0_count_2 8 rfl rfl)
theorem dX0_count_55 : decode cX0_count 55 = .ok (.bipush (-4), 2) := dk_16 252 (dk_at dksX0_count_2 11 rfl rfl)
theorem dX0_count_57 : decode cX0_count 57 = .ok (.istore_n 3, 1) := dk_62 (dk_at dksX0_count_2 13 rfl rfl)
theorem dX0_count_58 : decode cX0_count 58 = .ok (.iconst 0, 1) := dk_3 (dk_at dksX0_count_2 14 rfl rfl)
theorem dX0_count_59 : decode cX0_count 59 = .ok (.istore 4, 2) := dk_54 4 (dk_at dksX0_count_2 15 rfl rfl)
theorem dX0_count_61 : decode cX0_count 61 = .ok (.iconst 0, 1) := dk_3 (dk_at dksX0_count_2 17 rfl rfl)
theorem dX0_count_62 : decode cX0_count 62 = .ok (.istore 5, 2) := dk_54 5 (dk_at dksX0_count_2 18 rfl rfl)
theorem dX0_count_64 : decode cX0_count 64 = .ok (.iconst 0, 1) := dk_3 (dk_at dksX0_count_2 20 rfl rfl)
theorem dX0_count_65 : decode cX0_count 65 = .ok (.istore 6, 2) := dk_54 6 (dk_at dksX0_count_2 21 rfl rfl)
theorem dX0_count_67 : decode cX0_count 67 = .ok (.iload 6, 2) := dk_21 6 (dk_at dksX0_count_3 0 rfl rfl)
theorem dX0_count_69 : decode cX0_count 69 = .ok (.aload_n 0, 1) := dk_42 (dk_at dksX0_count_3 2 rfl rfl)
theorem dX0_count_70 : decode cX0_count 70 = .ok (.getfield 113, 3) := dk_180 0 113 (dk_at dksX0_count_3 3 rfl rfl)
theorem dX0_count_73 : decode cX0_count 73 = .ok (.getfield 19, 3) := dk_180 0 19 (dk_at dksX0_count_3 6 rfl rfl)
theorem dX0_count_76 : decode cX0_count 76 = .ok (.if_icmp .ge 34, 3) := dk_162 0 34 (dk_at dksX0_count_3 9 rfl rfl)
theorem dX0_count_79 : decode cX0_count 79 = .ok (.iload 4, 2) := dk_21 4 (dk_at dksX0_count_3 12 rfl rfl)
theorem dX0_count_81 : decode cX0_count 81 = .ok (.aload_n 0, 1) := dk_42 (dk_at dksX0_count_3 14 rfl rfl)
theorem dX0_count_82 : decode cX0_count 82 = .ok (.getfield 113, 3) := dk_180 0 113 (dk_at dksX0_count_3 15 rfl rfl)
theorem dX0_count_85 : decode cX0_count 85 = .ok (.getfield 44, 3) := dk_180 0 44 (dk_at dksX0_count_3 18 rfl rfl)
theorem dX0_count_88 : decode cX0_count 88 = .ok (.iload 6, 2) := dk_21 6 (dk_at dksX0_count_3 21 rfl rfl)
theorem dX0_count_90 : decode cX0_count 90 = .ok (.saload, 1) := dk_53 (dk_at dksX0_count_3 23 rfl rfl)
theorem dX0_count_91 : decode cX0_count 91 = .ok (.bipush (-4), 2) := dk_16 252 (dk_at dksX0_count_4 0 rfl rfl)
theorem dX0_count_93 : decode cX0_count 93 = .ok (.if_icmp .ne 7, 3) := dk_160 0 7 (dk_at dksX0_count_4 2 rfl rfl)
theorem dX0_count_96 : decode cX0_count 96 = .ok (.iconst 0, 1) := dk_3 (dk_at dksX0_count_4 5 rfl rfl)
theorem dX0_count_97 : decode cX0_count 97 = .ok (.goto 4, 3) := dk_167 0 4 (dk_at dksX0_count_4 6 rfl rfl)
theorem dX0_count_100 : decode cX0_count 100 = .ok (.iconst 1, 1) := dk_4 (dk_at dksX0_count_4 9 rfl rfl)
theorem dX0_count_101 : decode cX0_count 101 = .ok (.iadd, 1) := dk_96 (dk_at dksX0_count_4 10 rfl rfl)
theorem dX0_count_102 : decode cX0_count 102 = .ok (.istore 4, 2) := dk_54 4 (dk_at dksX0_count_4 11 rfl rfl)
theorem dX0_count_104 : decode cX0_count 104 = .ok (.iinc 6 1, 3) := dk_132 6 1 (dk_at dksX0_count_4 13 rfl rfl)
theorem dX0_count_107 : decode cX0_count 107 = .ok (.goto (-40), 3) := dk_167 255 216 (dk_at dksX0_count_4 16 rfl rfl)
theorem dX0_count_110 : decode cX0_count 110 = .ok (.iconst 0, 1) := dk_3 (dk_at dksX0_count_4 19 rfl rfl)
theorem dX0_count_111 : decode cX0_count 111 = .ok (.istore 6, 2) := dk_54 6 (dk_at dksX0_count_4 20 rfl rfl)
theorem dX0_count_113 : decode cX0_count 113 = .ok (.iload 6, 2) := dk_21 6 (dk_at dksX0_count_4 22 rfl rfl)
theorem dX0_count_115 : decode cX0_count 115 = .ok (.aload_n 0, 1) := dk_42 (dk_at dksX0_count_5 0 rfl rfl)
theorem dX0_count_116 : decode cX0_count 116 = .ok (.getfield 113, 3) := dk_180 0 113 (dk_at dksX0_count_5 1 rfl rfl)
theorem dX0_count_119 : decode cX0_count 119 = .ok (.getfield 86, 3) := dk_180 0 86 (dk_at dksX0_count_5 4 rfl rfl)
theorem dX0_count_122 : decode cX0_count 122 = .ok (.if_icmp .ge 34, 3) := dk_162 0 34 (dk_at dksX0_count_5 7 rfl rfl)
theorem dX0_count_125 : decode cX0_count 125 = .ok (.iload 5, 2) := dk_21 5 (dk_at dksX0_count_5 10 rfl rfl)
theorem dX0_count_127 : decode cX0_count 127 = .ok (.aload_n 0, 1) := dk_42 (dk_at dksX0_count_5 12 rfl rfl)
theorem dX0_count_128 : decode cX0_count 128 = .ok (.getfield 113, 3) := dk_180 0 113 (dk_at dksX0_count_5 13 rfl rfl)
theorem dX0_count_131 : decode cX0_count 131 = .ok (.getfield 89, 3) := dk_180 0 89 (dk_at dksX0_count_5 16 rfl rfl)
theorem dX0_count_134 : decode cX0_count 134 = .ok (.iload 6, 2) := dk_21 6 (dk_at dksX0_count_5 19 rfl rfl)
theorem dX0_count_136 : decode cX0_count 136 = .ok (.baload, 1) := dk_51 (dk_at dksX0_count_5 21 rfl rfl)
theorem dX0_count_137 : decode cX0_count 137 = .ok (.bipush 6, 2) := dk_16 6 (dk_at dksX0_count_5 22 rfl rfl)
theorem dX0_count_139 : decode cX0_count 139 = .ok (.if_icmp .ne 7, 3) := dk_160 0 7 (dk_at dksX0_count_6 0 rfl rfl)
theorem dX0_count_142 : decode cX0_count 142 = .ok (.iconst 1, 1) := dk_4 (dk_at dksX0_count_6 3 rfl rfl)
theorem dX0_count_143 : decode cX0_count 143 = .ok (.goto 4, 3) := dk_167 0 4 (dk_at dksX0_count_6 4 rfl rfl)
theorem dX0_count_146 : decode cX0_count 146 = .ok (.iconst 0, 1) := dk_3 (dk_at dksX0_count_6 7 rfl rfl)
theorem dX0_count_147 : decode cX0_count 147 = .ok (.iadd, 1) := dk_96 (dk_at dksX0_count_6 8 rfl rfl)
theorem dX0_count_148 : decode cX0_count 148 = .ok (.istore 5, 2) := dk_54 5 (dk_at dksX0_count_6 9 rfl rfl)
theorem dX0_count_150 : decode cX0_count 150 = .ok (.iinc 6 1, 3) := dk_132 6 1 (dk_at dksX0_count_6 11 rfl rfl)
theorem dX0_count_153 : decode cX0_count 153 = .ok (.goto (-40), 3) := dk_167 255 216 (dk_at dksX0_count_6 14 rfl rfl)
theorem dX0_count_156 : decode cX0_count 156 = .ok (.iload_n 1, 1) := dk_27 (dk_at dksX0_count_6 17 rfl rfl)
theorem dX0_count_157 : decode cX0_count 157 = .ok (.tableswitch 65 0 5 #[39, 44, 52, 57, 59, 62], 39) := by decide +kernel
theorem dX0_count_196 : decode cX0_count 196 = .ok (.aload_n 0, 1) := dk_42 (dk_at dksX0_count_8 0 rfl rfl)
theorem dX0_count_197 : decode cX0_count 197 = .ok (.getfield 167, 3) := dk_180 0 167 (dk_at dksX0_count_8 1 rfl rfl)
theorem dX0_count_200 : decode cX0_count 200 = .ok (.ireturn, 1) := dk_172 (dk_at dksX0_count_8 4 rfl rfl)
theorem dX0_count_201 : decode cX0_count 201 = .ok (.aload_n 0, 1) := dk_42 (dk_at dksX0_count_8 5 rfl rfl)
theorem dX0_count_202 : decode cX0_count 202 = .ok (.getfield 170, 3) := dk_180 0 170 (dk_at dksX0_count_8 6 rfl rfl)
theorem dX0_count_205 : decode cX0_count 205 = .ok (.invokestatic 77, 3) := dk_184 0 77 (dk_at dksX0_count_8 9 rfl rfl)
theorem dX0_count_208 : decode cX0_count 208 = .ok (.ireturn, 1) := dk_172 (dk_at dksX0_count_8 12 rfl rfl)
theorem dX0_count_209 : decode cX0_count 209 = .ok (.aload_n 0, 1) := dk_42 (dk_at dksX0_count_8 13 rfl rfl)
theorem dX0_count_210 : decode cX0_count 210 = .ok (.getfield 146, 3) := dk_180 0 146 (dk_at dksX0_count_8 14 rfl rfl)
theorem dX0_count_213 : decode cX0_count 213 = .ok (.ireturn, 1) := dk_172 (dk_at dksX0_count_8 17 rfl rfl)
theorem dX0_count_214 : decode cX0_count 214 = .ok (.iload_n 3, 1) := dk_29 (dk_at dksX0_count_8 18 rfl rfl)
theorem dX0_count_215 : decode cX0_count 215 = .ok (.ireturn, 1) := dk_172 (dk_at dksX0_count_8 19 rfl rfl)
theorem dX0_count_216 : decode cX0_count 216 = .ok (.iload 4, 2) := dk_21 4 (dk_at dksX0_count_8 20 rfl rfl)
theorem dX0_count_218 : decode cX0_count 218 = .ok (.ireturn, 1) := dk_172 (dk_at dksX0_count_8 22 rfl rfl)
theorem dX0_count_219 : decode cX0_count 219 = .ok (.iload 5, 2) := dk_21 5 (dk_at dksX0_count_9 0 rfl rfl)
theorem dX0_count_221 : decode cX0_count 221 = .ok (.ireturn, 1) := dk_172 (dk_at dksX0_count_9 2 rfl rfl)
theorem dX0_count_222 : decode cX0_count 222 = .ok (.iconst (-1), 1) := dk_2 (dk_at dksX0_count_9 3 rfl rfl)
theorem dX0_count_223 : decode cX0_count 223 = .ok (.ireturn, 1) := dk_172 (dk_at dksX0_count_9 4 rfl rfl)
theorem q60 : (Jvm.Cond.initialized "TearsQueue") ∈ lw_all := lw_g (lw_at lw_m1 1 rfl) rfl
theorem q86 : (Jvm.Cond.instantiable "TearsQueue" (19 : Nat)) ∈ lw_all := lw_g (lw_at lw_m1 27 rfl) rfl
theorem q88 : (Jvm.Cond.instanceMethod ({ cls := "TearsQueue", name := "<init>", desc := "()V" } : Jvm.MethodName)) ∈ lw_all := lw_g (lw_at lw_m1 29 rfl) rfl
theorem q89 : (Jvm.Cond.code ({ cls := "TearsQueue", name := "<init>", desc := "()V" } : Jvm.MethodName) prog_1_method_9_code (2 : Nat) (Option.none : Option Jvm.ClassFile.FieldType)) ∈ lw_all := lw_g (lw_at lw_m1 30 rfl) rfl
theorem q90 : (Jvm.Cond.methodLink "TearsQueue" (97 : Nat) ({ cls := "java/lang/Object", name := "<init>", desc := "()V" } : Jvm.MethodName)) ∈ lw_all := lw_g (lw_at lw_m1 31 rfl) rfl
theorem q93 : (Jvm.Cond.classLink "TearsQueue" (14 : Nat) "TearsQueue$Plain") ∈ lw_all := lw_g (lw_at lw_m1 34 rfl) rfl
theorem q96 : (Jvm.Cond.methodLinkNest "TearsQueue" (102 : Nat) ({ cls := "TearsQueue$Plain", name := "<init>", desc := "()V" } : Jvm.MethodName) "TearsQueue") ∈ lw_tbl := lw_at lw_m1 37 rfl
theorem q101 : (Jvm.Cond.classLink "TearsQueue" (103 : Nat) "TearsQueue$Soft") ∈ lw_all := lw_g (lw_at lw_m1 42 rfl) rfl
theorem q103 : (Jvm.Cond.methodLinkNest "TearsQueue" (105 : Nat) ({ cls := "TearsQueue$Soft", name := "<init>", desc := "()V" } : Jvm.MethodName) "TearsQueue") ∈ lw_tbl := lw_at lw_m1 44 rfl
theorem q108 : (Jvm.Cond.classLink "TearsQueue" (106 : Nat) "TearsQueue$Sham") ∈ lw_all := lw_g (lw_at lw_m1 49 rfl) rfl
theorem q110 : (Jvm.Cond.methodLinkNest "TearsQueue" (108 : Nat) ({ cls := "TearsQueue$Sham", name := "<init>", desc := "()V" } : Jvm.MethodName) "TearsQueue") ∈ lw_tbl := lw_at lw_m1 51 rfl
theorem q115 : (Jvm.Cond.classLink "TearsQueue" (109 : Nat) "TearsQueue$Dry") ∈ lw_all := lw_g (lw_at lw_m1 56 rfl) rfl
theorem q117 : (Jvm.Cond.methodLinkNest "TearsQueue" (111 : Nat) ({ cls := "TearsQueue$Dry", name := "<init>", desc := "()V" } : Jvm.MethodName) "TearsQueue") ∈ lw_tbl := lw_at lw_m1 58 rfl
theorem q122 : (Jvm.Cond.classLink "TearsQueue" (8 : Nat) "TearsQueue$Stop") ∈ lw_all := lw_g (lw_at lw_m1 63 rfl) rfl
theorem q124 : (Jvm.Cond.methodLink "TearsQueue" (112 : Nat) ({ cls := "TearsQueue$Stop", name := "<init>", desc := "()V" } : Jvm.MethodName)) ∈ lw_all := lw_g (lw_at lw_m1 65 rfl) rfl
theorem q129 : (Jvm.Cond.fieldLinkNest "TearsQueue" (19 : Nat) "TearsQueue$Stop" "people" "I" "TearsQueue") ∈ lw_tbl := lw_at lw_m1 70 rfl
theorem q133 : (Jvm.Cond.fieldLinkNest "TearsQueue" (44 : Nat) "TearsQueue$Stop" "wept" "[S" "TearsQueue") ∈ lw_tbl := lw_at lw_m1 74 rfl
theorem q135 : (Jvm.Cond.fieldLinkNest "TearsQueue" (48 : Nat) "TearsQueue$Stop" "minute" "I" "TearsQueue") ∈ lw_tbl := lw_at lw_m1 76 rfl
theorem q138 : (Jvm.Cond.fieldLinkNest "TearsQueue" (183 : Nat) "TearsQueue$Stop" "room" "I" "TearsQueue") ∈ lw_tbl := lw_at lw_m1 79 rfl
theorem q140 : (Jvm.Cond.fieldLinkNest "TearsQueue" (34 : Nat) "TearsQueue$Stop" "think" "I" "TearsQueue") ∈ lw_tbl := lw_at lw_m1 81 rfl
theorem q143 : (Jvm.Cond.fieldLinkNest "TearsQueue" (86 : Nat) "TearsQueue$Stop" "planned" "I" "TearsQueue") ∈ lw_tbl := lw_at lw_m1 84 rfl
theorem q146 : (Jvm.Cond.fieldLinkNest "TearsQueue" (89 : Nat) "TearsQueue$Stop" "plan" "[B" "TearsQueue") ∈ lw_tbl := lw_at lw_m1 87 rfl
theorem q168 : (Jvm.Cond.classLink "TearsQueue" (133 : Nat) "TearsQueue$Sheet") ∈ lw_all := lw_g (lw_at lw_m1 109 rfl) rfl
theorem q171 : (Jvm.Cond.methodLinkNest "TearsQueue" (139 : Nat) ({ cls := "TearsQueue$Sheet", name := "<init>", desc := "()V" } : Jvm.MethodName) "TearsQueue") ∈ lw_tbl := lw_at lw_m1 112 rfl
theorem q175 : (Jvm.Cond.fieldLinkNest "TearsQueue" (288 : Nat) "TearsQueue$Sheet" "row" "Ljava/lang/Object;" "TearsQueue") ∈ lw_tbl := lw_at lw_m1 116 rfl
theorem q179 : (Jvm.Cond.fieldLink "TearsQueue" (1 : Nat) "TearsQueue" "kinds" "[LTearsQueue$Plain;") ∈ lw_all := lw_g (lw_at lw_m1 120 rfl) rfl
theorem q180 : (Jvm.Cond.fieldLink "TearsQueue" (113 : Nat) "TearsQueue" "now" "LTearsQueue$Stop;") ∈ lw_all := lw_g (lw_at lw_m1 121 rfl) rfl
theorem q181 : (Jvm.Cond.fieldLink "TearsQueue" (117 : Nat) "TearsQueue" "tried" "LTearsQueue$Stop;") ∈ lw_all := lw_g (lw_at lw_m1 122 rfl) rfl
theorem q182 : (Jvm.Cond.fieldLink "TearsQueue" (120 : Nat) "TearsQueue" "images" "[LTearsQueue$Stop;") ∈ lw_all := lw_g (lw_at lw_m1 123 rfl) rfl
theorem q183 : (Jvm.Cond.fieldLink "TearsQueue" (170 : Nat) "TearsQueue" "kept" "I") ∈ lw_all := lw_g (lw_at lw_m1 124 rfl) rfl
theorem q184 : (Jvm.Cond.fieldLink "TearsQueue" (124 : Nat) "TearsQueue" "seen" "[B") ∈ lw_all := lw_g (lw_at lw_m1 125 rfl) rfl
theorem q185 : (Jvm.Cond.fieldLink "TearsQueue" (167 : Nat) "TearsQueue" "seenMany" "I") ∈ lw_all := lw_g (lw_at lw_m1 126 rfl) rfl
theorem q186 : (Jvm.Cond.fieldLink "TearsQueue" (58 : Nat) "TearsQueue" "weepers" "I") ∈ lw_all := lw_g (lw_at lw_m1 127 rfl) rfl
theorem q187 : (Jvm.Cond.fieldLink "TearsQueue" (61 : Nat) "TearsQueue" "often" "I") ∈ lw_all := lw_g (lw_at lw_m1 128 rfl) rfl
theorem q188 : (Jvm.Cond.fieldLink "TearsQueue" (64 : Nat) "TearsQueue" "firstOver" "I") ∈ lw_all := lw_g (lw_at lw_m1 129 rfl) rfl
theorem q190 : (Jvm.Cond.fieldLink "TearsQueue" (127 : Nat) "TearsQueue" "tape" "[B") ∈ lw_all := lw_g (lw_at lw_m1 131 rfl) rfl
theorem q191 : (Jvm.Cond.fieldLink "TearsQueue" (146 : Nat) "TearsQueue" "taped" "I") ∈ lw_all := lw_g (lw_at lw_m1 132 rfl) rfl
theorem q192 : (Jvm.Cond.fieldLink "TearsQueue" (149 : Nat) "TearsQueue" "fault" "I") ∈ lw_all := lw_g (lw_at lw_m1 133 rfl) rfl
theorem q193 : (Jvm.Cond.fieldLink "TearsQueue" (130 : Nat) "TearsQueue" "row" "[B") ∈ lw_all := lw_g (lw_at lw_m1 134 rfl) rfl
theorem q194 : (Jvm.Cond.fieldLink "TearsQueue" (249 : Nat) "TearsQueue" "goneSum" "J") ∈ lw_all := lw_g (lw_at lw_m1 135 rfl) rfl
theorem q195 : (Jvm.Cond.fieldLink "TearsQueue" (253 : Nat) "TearsQueue" "manySum" "J") ∈ lw_all := lw_g (lw_at lw_m1 136 rfl) rfl
theorem q196 : (Jvm.Cond.fieldLink "TearsQueue" (256 : Nat) "TearsQueue" "allWays" "J") ∈ lw_all := lw_g (lw_at lw_m1 137 rfl) rfl
theorem q197 : (Jvm.Cond.fieldLink "TearsQueue" (135 : Nat) "TearsQueue" "sheets" "[LTearsQueue$Sheet;") ∈ lw_all := lw_g (lw_at lw_m1 138 rfl) rfl
theorem q198 : (Jvm.Cond.fieldLink "TearsQueue" (308 : Nat) "TearsQueue" "torn" "I") ∈ lw_all := lw_g (lw_at lw_m1 139 rfl) rfl
theorem q199 : (Jvm.Cond.laysFinal "TearsQueue" "TearsQueue" "kinds" "[LTearsQueue$Plain;") ∈ lw_all := lw_g (lw_at lw_m1 140 rfl) rfl
theorem q200 : (Jvm.Cond.soleField "TearsQueue" "kinds") ∈ lw_all := lw_g (lw_at lw_m1 141 rfl) rfl
theorem q201 : (Jvm.Cond.laysFinal "TearsQueue" "TearsQueue" "now" "LTearsQueue$Stop;") ∈ lw_all := lw_g (lw_at lw_m1 142 rfl) rfl
theorem q202 : (Jvm.Cond.soleField "TearsQueue" "now") ∈ lw_all := lw_g (lw_at lw_m1 143 rfl) rfl
theorem q203 : (Jvm.Cond.laysFinal "TearsQueue" "TearsQueue" "tried" "LTearsQueue$Stop;") ∈ lw_all := lw_g (lw_at lw_m1 144 rfl) rfl
theorem q204 : (Jvm.Cond.soleField "TearsQueue" "tried") ∈ lw_all := lw_g (lw_at lw_m1 145 rfl) rfl
theorem q205 : (Jvm.Cond.laysFinal "TearsQueue" "TearsQueue" "images" "[LTearsQueue$Stop;") ∈ lw_all := lw_g (lw_at lw_m1 146 rfl) rfl
theorem q206 : (Jvm.Cond.soleField "TearsQueue" "images") ∈ lw_all := lw_g (lw_at lw_m1 147 rfl) rfl
theorem q207 : (Jvm.Cond.lays "TearsQueue" "TearsQueue" "kept" "I") ∈ lw_all := lw_g (lw_at lw_m1 148 rfl) rfl
theorem q208 : (Jvm.Cond.soleField "TearsQueue" "kept") ∈ lw_all := lw_g (lw_at lw_m1 149 rfl) rfl
theorem q209 : (Jvm.Cond.laysFinal "TearsQueue" "TearsQueue" "seen" "[B") ∈ lw_all := lw_g (lw_at lw_m1 150 rfl) rfl
theorem q210 : (Jvm.Cond.soleField "TearsQueue" "seen") ∈ lw_all := lw_g (lw_at lw_m1 151 rfl) rfl
theorem q211 : (Jvm.Cond.lays "TearsQueue" "TearsQueue" "seenMany" "I") ∈ lw_all := lw_g (lw_at lw_m1 152 rfl) rfl
theorem q212 : (Jvm.Cond.soleField "TearsQueue" "seenMany") ∈ lw_all := lw_g (lw_at lw_m1 153 rfl) rfl
theorem q213 : (Jvm.Cond.lays "TearsQueue" "TearsQueue" "weepers" "I") ∈ lw_all := lw_g (lw_at lw_m1 154 rfl) rfl
theorem q214 : (Jvm.Cond.soleField "TearsQueue" "weepers") ∈ lw_all := lw_g (lw_at lw_m1 155 rfl) rfl
theorem q215 : (Jvm.Cond.lays "TearsQueue" "TearsQueue" "often" "I") ∈ lw_all := lw_g (lw_at lw_m1 156 rfl) rfl
theorem q216 : (Jvm.Cond.soleField "TearsQueue" "often") ∈ lw_all := lw_g (lw_at lw_m1 157 rfl) rfl
theorem q217 : (Jvm.Cond.lays "TearsQueue" "TearsQueue" "firstOver" "I") ∈ lw_all := lw_g (lw_at lw_m1 158 rfl) rfl
theorem q218 : (Jvm.Cond.soleField "TearsQueue" "firstOver") ∈ lw_all := lw_g (lw_at lw_m1 159 rfl) rfl
theorem q219 : (Jvm.Cond.laysFinal "TearsQueue" "TearsQueue" "tape" "[B") ∈ lw_all := lw_g (lw_at lw_m1 160 rfl) rfl
theorem q220 : (Jvm.Cond.soleField "TearsQueue" "tape") ∈ lw_all := lw_g (lw_at lw_m1 161 rfl) rfl
theorem q221 : (Jvm.Cond.lays "TearsQueue" "TearsQueue" "taped" "I") ∈ lw_all := lw_g (lw_at lw_m1 162 rfl) rfl
theorem q222 : (Jvm.Cond.soleField "TearsQueue" "taped") ∈ lw_all := lw_g (lw_at lw_m1 163 rfl) rfl
theorem q223 : (Jvm.Cond.lays "TearsQueue" "TearsQueue" "fault" "I") ∈ lw_all := lw_g (lw_at lw_m1 164 rfl) rfl
theorem q224 : (Jvm.Cond.soleField "TearsQueue" "fault") ∈ lw_all := lw_g (lw_at lw_m1 165 rfl) rfl
theorem q225 : (Jvm.Cond.laysFinal "TearsQueue" "TearsQueue" "row" "[B") ∈ lw_all := lw_g (lw_at lw_m1 166 rfl) rfl
theorem q226 : (Jvm.Cond.soleField "TearsQueue" "row") ∈ lw_all := lw_g (lw_at lw_m1 167 rfl) rfl
theorem q227 : (Jvm.Cond.lays "TearsQueue" "TearsQueue" "goneSum" "J") ∈ lw_all := lw_g (lw_at lw_m1 168 rfl) rfl
theorem q228 : (Jvm.Cond.soleField "TearsQueue" "goneSum") ∈ lw_all := lw_g (lw_at lw_m1 169 rfl) rfl
theorem q229 : (Jvm.Cond.lays "TearsQueue" "TearsQueue" "manySum" "J") ∈ lw_all := lw_g (lw_at lw_m1 170 rfl) rfl
theorem q230 : (Jvm.Cond.soleField "TearsQueue" "manySum") ∈ lw_all := lw_g (lw_at lw_m1 171 rfl) rfl
theorem q231 : (Jvm.Cond.lays "TearsQueue" "TearsQueue" "allWays" "J") ∈ lw_all := lw_g (lw_at lw_m1 172 rfl) rfl
theorem q232 : (Jvm.Cond.soleField "TearsQueue" "allWays") ∈ lw_all := lw_g (lw_at lw_m1 173 rfl) rfl
theorem q233 : (Jvm.Cond.laysFinal "TearsQueue" "TearsQueue" "sheets" "[LTearsQueue$Sheet;") ∈ lw_all := lw_g (lw_at lw_m1 174 rfl) rfl
theorem q234 : (Jvm.Cond.soleField "TearsQueue" "sheets") ∈ lw_all := lw_g (lw_at lw_m1 175 rfl) rfl
theorem q235 : (Jvm.Cond.lays "TearsQueue" "TearsQueue" "torn" "I") ∈ lw_all := lw_g (lw_at lw_m1 176 rfl) rfl
theorem q236 : (Jvm.Cond.soleField "TearsQueue" "torn") ∈ lw_all := lw_g (lw_at lw_m1 177 rfl) rfl
theorem q237 : (Jvm.Cond.superclass "TearsQueue" "java/lang/Object") ∈ lw_all := lw_g (lw_at lw_m1 178 rfl) rfl
theorem q239 : (Jvm.Cond.instanceMethod ({ cls := "TearsQueue", name := "feed", desc := "(I)I" } : Jvm.MethodName)) ∈ lw_all := lw_g (lw_at lw_m1 180 rfl) rfl
theorem q240 : (Jvm.Cond.selects "TearsQueue" ({ cls := "TearsQueue", name := "feed", desc := "(I)I" } : Jvm.MethodName) ({ cls := "TearsQueue", name := "feed", desc := "(I)I" } : Jvm.MethodName)) ∈ lw_all := lw_g (lw_at lw_m1 181 rfl) rfl
theorem q241 : (Jvm.Cond.code ({ cls := "TearsQueue", name := "feed", desc := "(I)I" } : Jvm.MethodName) prog_1_method_10_code (2 : Nat) (Option.some Jvm.ClassFile.FieldType.int)) ∈ lw_all := lw_g (lw_at lw_m1 182 rfl) rfl
theorem q242 : (Jvm.Cond.constantLong "TearsQueue" (140 : Nat) (127 : Int64)) ∈ lw_all := lw_g (lw_at lw_m1 183 rfl) rfl
theorem q243 : (Jvm.Cond.methodLink "TearsQueue" (142 : Nat) ({ cls := "TearsQueue", name := "in", desc := "(JJJ)Z" } : Jvm.MethodName)) ∈ lw_all := lw_g (lw_at lw_m1 184 rfl) rfl
theorem q244 : (Jvm.Cond.static ({ cls := "TearsQueue", name := "in", desc := "(JJJ)Z" } : Jvm.MethodName)) ∈ lw_all := lw_g (lw_at lw_m1 185 rfl) rfl
theorem q245 : (Jvm.Cond.code ({ cls := "TearsQueue", name := "in", desc := "(JJJ)Z" } : Jvm.MethodName) prog_1_method_1_code (6 : Nat) (Option.some Jvm.ClassFile.FieldType.boolean)) ∈ lw_all := lw_g (lw_at lw_m1 186 rfl) rfl
theorem q247 : (Jvm.Cond.instanceMethod ({ cls := "TearsQueue", name := "end", desc := "(I)I" } : Jvm.MethodName)) ∈ lw_all := lw_g (lw_at lw_m1 188 rfl) rfl
theorem q248 : (Jvm.Cond.selects "TearsQueue" ({ cls := "TearsQueue", name := "end", desc := "(I)I" } : Jvm.MethodName) ({ cls := "TearsQueue", name := "end", desc := "(I)I" } : Jvm.MethodName)) ∈ lw_all := lw_g (lw_at lw_m1 189 rfl) rfl
theorem q249 : (Jvm.Cond.code ({ cls := "TearsQueue", name := "end", desc := "(I)I" } : Jvm.MethodName) prog_1_method_11_code (3 : Nat) (Option.some Jvm.ClassFile.FieldType.int)) ∈ lw_all := lw_g (lw_at lw_m1 190 rfl) rfl
theorem q251 : (Jvm.Cond.instanceMethod ({ cls := "TearsQueue", name := "text", desc := "()I" } : Jvm.MethodName)) ∈ lw_all := lw_g (lw_at lw_m1 192 rfl) rfl
theorem q252 : (Jvm.Cond.selects "TearsQueue" ({ cls := "TearsQueue", name := "text", desc := "()I" } : Jvm.MethodName) ({ cls := "TearsQueue", name := "text", desc := "()I" } : Jvm.MethodName)) ∈ lw_all := lw_g (lw_at lw_m1 193 rfl) rfl
theorem q253 : (Jvm.Cond.codeWith ({ cls := "TearsQueue", name := "text", desc := "()I" } : Jvm.MethodName) prog_1_method_12_code (4 : Nat) (Option.some Jvm.ClassFile.FieldType.int) [((15 : Nat), (52 : Nat), (53 : Nat), (173 : Nat))]) ∈ lw_all := lw_g (lw_at lw_m1 194 rfl) rfl
theorem q254 : (Jvm.Cond.classLink "TearsQueue" (173 : Nat) "TearsQueue$Fault") ∈ lw_all := lw_g (lw_at lw_m1 195 rfl) rfl
theorem q255 : (Jvm.Cond.classLink "TearsQueue" (152 : Nat) "TearsQueue$Reader") ∈ lw_all := lw_g (lw_at lw_m1 196 rfl) rfl
theorem q257 : (Jvm.Cond.methodLink "TearsQueue" (154 : Nat) ({ cls := "TearsQueue$Reader", name := "<init>", desc := "(LTearsQueue;I)V" } : Jvm.MethodName)) ∈ lw_all := lw_g (lw_at lw_m1 198 rfl) rfl
theorem q339 : (Jvm.Cond.fieldLinkNest "TearsQueue" (175 : Nat) "TearsQueue$Fault" "code" "I" "TearsQueue") ∈ lw_tbl := lw_at lw_m2 40 rfl
theorem q341 : (Jvm.Cond.fieldLinkNest "TearsQueue" (178 : Nat) "TearsQueue$Fault" "place" "I" "TearsQueue") ∈ lw_tbl := lw_at lw_m2 42 rfl
theorem q361 : (Jvm.Cond.fieldLinkNest "TearsQueue" (160 : Nat) "TearsQueue$Reader" "made" "LTearsQueue$Stop;" "TearsQueue") ∈ lw_tbl := lw_at lw_m2 62 rfl
theorem q388 : (Jvm.Cond.methodLink "TearsQueue" (157 : Nat) ({ cls := "TearsQueue$Reader", name := "lines", desc := "()I" } : Jvm.MethodName)) ∈ lw_all := lw_g (lw_at lw_m2 89 rfl) rfl
theorem q460 : (Jvm.Cond.static ({ cls := "TearsQueue", name := "has", desc := "(II)Z" } : Jvm.MethodName)) ∈ lw_all := lw_g (lw_at lw_m2 161 rfl) rfl
theorem q461 : (Jvm.Cond.code ({ cls := "TearsQueue", name := "has", desc := "(II)Z" } : Jvm.MethodName) prog_1_method_2_code (2 : Nat) (Option.some Jvm.ClassFile.FieldType.boolean)) ∈ lw_all := lw_g (lw_at lw_m2 162 rfl) rfl
theorem q486 : (Jvm.Cond.methodLink "TearsQueue" (163 : Nat) ({ cls := "TearsQueue$Stop", name := "as", desc := "(LTearsQueue$Stop;)V" } : Jvm.MethodName)) ∈ lw_all := lw_g (lw_at lw_m2 187 rfl) rfl
theorem q494 : (Jvm.Cond.instanceMethod ({ cls := "TearsQueue", name := "fault", desc := "()I" } : Jvm.MethodName)) ∈ lw_all := lw_g (lw_at lw_m2 195 rfl) rfl
theorem q495 : (Jvm.Cond.selects "TearsQueue" ({ cls := "TearsQueue", name := "fault", desc := "()I" } : Jvm.MethodName) ({ cls := "TearsQueue", name := "fault", desc := "()I" } : Jvm.MethodName)) ∈ lw_all := lw_g (lw_at lw_m2 196 rfl) rfl
theorem q496 : (Jvm.Cond.code ({ cls := "TearsQueue", name := "fault", desc := "()I" } : Jvm.MethodName) prog_1_method_13_code (1 : Nat) (Option.some Jvm.ClassFile.FieldType.int)) ∈ lw_all := lw_g (lw_at lw_m2 197 rfl) rfl
theorem q498 : (Jvm.Cond.instanceMethod ({ cls := "TearsQueue", name := "rule", desc := "(I)I" } : Jvm.MethodName)) ∈ lw_all := lw_g (lw_at lw_m2 199 rfl) rfl
theorem q499 : (Jvm.Cond.selects "TearsQueue" ({ cls := "TearsQueue", name := "rule", desc := "(I)I" } : Jvm.MethodName) ({ cls := "TearsQueue", name := "rule", desc := "(I)I" } : Jvm.MethodName)) ∈ lw_all := lw_g (lw_at lw_m2 200 rfl) rfl
theorem q500 : (Jvm.Cond.code ({ cls := "TearsQueue", name := "rule", desc := "(I)I" } : Jvm.MethodName) prog_1_method_17_code (2 : Nat) (Option.some Jvm.ClassFile.FieldType.int)) ∈ lw_all := lw_g (lw_at lw_m2 201 rfl) rfl
theorem q501 : (Jvm.Cond.methodLink "TearsQueue" (186 : Nat) ({ cls := "TearsQueue$Stop", name := "waiting", desc := "()I" } : Jvm.MethodName)) ∈ lw_all := lw_g (lw_at lw_m2 202 rfl) rfl
theorem q513 : (Jvm.Cond.methodLink "TearsQueue" (189 : Nat) ({ cls := "TearsQueue$Stop", name := "sorrow", desc := "()I" } : Jvm.MethodName)) ∈ lw_all := lw_g (lw_at lw_m2 214 rfl) rfl
theorem q518 : (Jvm.Cond.instanceMethod ({ cls := "TearsQueue", name := "one", desc := "(II)I" } : Jvm.MethodName)) ∈ lw_all := lw_g (lw_at lw_m2 219 rfl) rfl
theorem q519 : (Jvm.Cond.selects "TearsQueue" ({ cls := "TearsQueue", name := "one", desc := "(II)I" } : Jvm.MethodName) ({ cls := "TearsQueue", name := "one", desc := "(II)I" } : Jvm.MethodName)) ∈ lw_all := lw_g (lw_at lw_m2 220 rfl) rfl
theorem q520 : (Jvm.Cond.code ({ cls := "TearsQueue", name := "one", desc := "(II)I" } : Jvm.MethodName) prog_1_method_18_code (3 : Nat) (Option.some Jvm.ClassFile.FieldType.int)) ∈ lw_all := lw_g (lw_at lw_m2 221 rfl) rfl
theorem q521 : (Jvm.Cond.methodLink "TearsQueue" (192 : Nat) ({ cls := "TearsQueue", name := "isOne", desc := "(I)Z" } : Jvm.MethodName)) ∈ lw_all := lw_g (lw_at lw_m2 222 rfl) rfl
theorem q522 : (Jvm.Cond.privateMethod ({ cls := "TearsQueue", name := "isOne", desc := "(I)Z" } : Jvm.MethodName)) ∈ lw_tbl := lw_at lw_m2 223 rfl
theorem q523 : (Jvm.Cond.instanceMethod ({ cls := "TearsQueue", name := "isOne", desc := "(I)Z" } : Jvm.MethodName)) ∈ lw_all := lw_g (lw_at lw_m2 224 rfl) rfl
theorem q524 : (Jvm.Cond.code ({ cls := "TearsQueue", name := "isOne", desc := "(I)Z" } : Jvm.MethodName) prog_1_method_14_code (2 : Nat) (Option.some Jvm.ClassFile.FieldType.boolean)) ∈ lw_all := lw_g (lw_at lw_m2 225 rfl) rfl
theorem q525 : (Jvm.Cond.methodLink "TearsQueue" (7 : Nat) ({ cls := "TearsQueue$Stop", name := "of", desc := "(II)I" } : Jvm.MethodName)) ∈ lw_all := lw_g (lw_at lw_m2 226 rfl) rfl
theorem q526 : (Jvm.Cond.methodLink "TearsQueue" (31 : Nat) ({ cls := "TearsQueue", name := "brim", desc := "(LTearsQueue$Stop;I)I" } : Jvm.MethodName)) ∈ lw_all := lw_g (lw_at lw_m2 227 rfl) rfl
theorem q527 : (Jvm.Cond.privateMethod ({ cls := "TearsQueue", name := "brim", desc := "(LTearsQueue$Stop;I)I" } : Jvm.MethodName)) ∈ lw_tbl := lw_at lw_m2 228 rfl
theorem q528 : (Jvm.Cond.instanceMethod ({ cls := "TearsQueue", name := "brim", desc := "(LTearsQueue$Stop;I)I" } : Jvm.MethodName)) ∈ lw_all := lw_g (lw_at lw_m2 229 rfl) rfl
theorem q529 : (Jvm.Cond.code ({ cls := "TearsQueue", name := "brim", desc := "(LTearsQueue$Stop;I)I" } : Jvm.MethodName) prog_1_method_3_code (3 : Nat) (Option.some Jvm.ClassFile.FieldType.int)) ∈ lw_all := lw_g (lw_at lw_m2 230 rfl) rfl
theorem q530 : (Jvm.Cond.methodLink "TearsQueue" (13 : Nat) ({ cls := "TearsQueue$Plain", name := "brim", desc := "()I" } : Jvm.MethodName)) ∈ lw_all := lw_g (lw_at lw_m2 231 rfl) rfl
theorem q548 : (Jvm.Cond.instanceMethod ({ cls := "TearsQueue", name := "act", desc := "(I)I" } : Jvm.MethodName)) ∈ lw_all := lw_g (lw_at lw_m3 9 rfl) rfl
theorem q549 : (Jvm.Cond.selects "TearsQueue" ({ cls := "TearsQueue", name := "act", desc := "(I)I" } : Jvm.MethodName) ({ cls := "TearsQueue", name := "act", desc := "(I)I" } : Jvm.MethodName)) ∈ lw_all := lw_g (lw_at lw_m3 10 rfl) rfl
theorem q550 : (Jvm.Cond.code ({ cls := "TearsQueue", name := "act", desc := "(I)I" } : Jvm.MethodName) prog_1_method_19_code (2 : Nat) (Option.some Jvm.ClassFile.FieldType.int)) ∈ lw_all := lw_g (lw_at lw_m3 11 rfl) rfl
theorem q552 : (Jvm.Cond.instanceMethod ({ cls := "TearsQueue", name := "queue", desc := "(I)I" } : Jvm.MethodName)) ∈ lw_all := lw_g (lw_at lw_m3 13 rfl) rfl
theorem q553 : (Jvm.Cond.selects "TearsQueue" ({ cls := "TearsQueue", name := "queue", desc := "(I)I" } : Jvm.MethodName) ({ cls := "TearsQueue", name := "queue", desc := "(I)I" } : Jvm.MethodName)) ∈ lw_all := lw_g (lw_at lw_m3 14 rfl) rfl
theorem q554 : (Jvm.Cond.code ({ cls := "TearsQueue", name := "queue", desc := "(I)I" } : Jvm.MethodName) prog_1_method_20_code (2 : Nat) (Option.some Jvm.ClassFile.FieldType.int)) ∈ lw_all := lw_g (lw_at lw_m3 15 rfl) rfl
theorem q555 : (Jvm.Cond.constantLong "TearsQueue" (195 : Nat) (4 : Int64)) ∈ lw_all := lw_g (lw_at lw_m3 16 rfl) rfl
theorem q556 : (Jvm.Cond.methodLink "TearsQueue" (197 : Nat) ({ cls := "TearsQueue$Stop", name := "firstOnes", desc := "(I)I" } : Jvm.MethodName)) ∈ lw_all := lw_g (lw_at lw_m3 17 rfl) rfl
theorem q574 : (Jvm.Cond.methodLink "TearsQueue" (200 : Nat) ({ cls := "TearsQueue$Stop", name := "firstOf", desc := "(I)I" } : Jvm.MethodName)) ∈ lw_all := lw_g (lw_at lw_m3 35 rfl) rfl
theorem q576 : (Jvm.Cond.instanceMethod ({ cls := "TearsQueue", name := "alter", desc := "(III)I" } : Jvm.MethodName)) ∈ lw_all := lw_g (lw_at lw_m3 37 rfl) rfl
theorem q577 : (Jvm.Cond.selects "TearsQueue" ({ cls := "TearsQueue", name := "alter", desc := "(III)I" } : Jvm.MethodName) ({ cls := "TearsQueue", name := "alter", desc := "(III)I" } : Jvm.MethodName)) ∈ lw_all := lw_g (lw_at lw_m3 38 rfl) rfl
theorem q578 : (Jvm.Cond.code ({ cls := "TearsQueue", name := "alter", desc := "(III)I" } : Jvm.MethodName) prog_1_method_21_code (5 : Nat) (Option.some Jvm.ClassFile.FieldType.int)) ∈ lw_all := lw_g (lw_at lw_m3 39 rfl) rfl
theorem q579 : (Jvm.Cond.methodLink "TearsQueue" (203 : Nat) ({ cls := "TearsQueue", name := "isPart", desc := "(I)Z" } : Jvm.MethodName)) ∈ lw_all := lw_g (lw_at lw_m3 40 rfl) rfl
theorem q580 : (Jvm.Cond.static ({ cls := "TearsQueue", name := "isPart", desc := "(I)Z" } : Jvm.MethodName)) ∈ lw_all := lw_g (lw_at lw_m3 41 rfl) rfl
theorem q581 : (Jvm.Cond.code ({ cls := "TearsQueue", name := "isPart", desc := "(I)Z" } : Jvm.MethodName) prog_1_method_15_code (1 : Nat) (Option.some Jvm.ClassFile.FieldType.boolean)) ∈ lw_all := lw_g (lw_at lw_m3 42 rfl) rfl
theorem q582 : (Jvm.Cond.constantLong "TearsQueue" (206 : Nat) (3 : Int64)) ∈ lw_all := lw_g (lw_at lw_m3 43 rfl) rfl
theorem q583 : (Jvm.Cond.constantLong "TearsQueue" (208 : Nat) (40 : Int64)) ∈ lw_all := lw_g (lw_at lw_m3 44 rfl) rfl
theorem q584 : (Jvm.Cond.methodLink "TearsQueue" (51 : Nat) ({ cls := "TearsQueue$Stop", name := "becomes", desc := "(III)V" } : Jvm.MethodName)) ∈ lw_all := lw_g (lw_at lw_m3 45 rfl) rfl
theorem q586 : (Jvm.Cond.instanceMethod ({ cls := "TearsQueue", name := "room", desc := "(I)I" } : Jvm.MethodName)) ∈ lw_all := lw_g (lw_at lw_m3 47 rfl) rfl
theorem q587 : (Jvm.Cond.selects "TearsQueue" ({ cls := "TearsQueue", name := "room", desc := "(I)I" } : Jvm.MethodName) ({ cls := "TearsQueue", name := "room", desc := "(I)I" } : Jvm.MethodName)) ∈ lw_all := lw_g (lw_at lw_m3 48 rfl) rfl
theorem q588 : (Jvm.Cond.code ({ cls := "TearsQueue", name := "room", desc := "(I)I" } : Jvm.MethodName) prog_1_method_22_code (3 : Nat) (Option.some Jvm.ClassFile.FieldType.int)) ∈ lw_all := lw_g (lw_at lw_m3 49 rfl) rfl
theorem q589 : (Jvm.Cond.constantLong "TearsQueue" (210 : Nat) (5 : Int64)) ∈ lw_all := lw_g (lw_at lw_m3 50 rfl) rfl
theorem q591 : (Jvm.Cond.instanceMethod ({ cls := "TearsQueue", name := "think", desc := "(I)I" } : Jvm.MethodName)) ∈ lw_all := lw_g (lw_at lw_m3 52 rfl) rfl
theorem q592 : (Jvm.Cond.selects "TearsQueue" ({ cls := "TearsQueue", name := "think", desc := "(I)I" } : Jvm.MethodName) ({ cls := "TearsQueue", name := "think", desc := "(I)I" } : Jvm.MethodName)) ∈ lw_all := lw_g (lw_at lw_m3 53 rfl) rfl
theorem q593 : (Jvm.Cond.code ({ cls := "TearsQueue", name := "think", desc := "(I)I" } : Jvm.MethodName) prog_1_method_23_code (3 : Nat) (Option.some Jvm.ClassFile.FieldType.int)) ∈ lw_all := lw_g (lw_at lw_m3 54 rfl) rfl
theorem q594 : (Jvm.Cond.constantLong "TearsQueue" (212 : Nat) (9 : Int64)) ∈ lw_all := lw_g (lw_at lw_m3 55 rfl) rfl
theorem q596 : (Jvm.Cond.instanceMethod ({ cls := "TearsQueue", name := "plan", desc := "(I)I" } : Jvm.MethodName)) ∈ lw_all := lw_g (lw_at lw_m3 57 rfl) rfl
theorem q597 : (Jvm.Cond.selects "TearsQueue" ({ cls := "TearsQueue", name := "plan", desc := "(I)I" } : Jvm.MethodName) ({ cls := "TearsQueue", name := "plan", desc := "(I)I" } : Jvm.MethodName)) ∈ lw_all := lw_g (lw_at lw_m3 58 rfl) rfl
theorem q598 : (Jvm.Cond.code ({ cls := "TearsQueue", name := "plan", desc := "(I)I" } : Jvm.MethodName) prog_1_method_25_code (2 : Nat) (Option.some Jvm.ClassFile.FieldType.int)) ∈ lw_all := lw_g (lw_at lw_m3 59 rfl) rfl
theorem q599 : (Jvm.Cond.methodLink "TearsQueue" (214 : Nat) ({ cls := "TearsQueue", name := "isAct", desc := "(I)Z" } : Jvm.MethodName)) ∈ lw_all := lw_g (lw_at lw_m3 60 rfl) rfl
theorem q600 : (Jvm.Cond.privateMethod ({ cls := "TearsQueue", name := "isAct", desc := "(I)Z" } : Jvm.MethodName)) ∈ lw_tbl := lw_at lw_m3 61 rfl
theorem q601 : (Jvm.Cond.instanceMethod ({ cls := "TearsQueue", name := "isAct", desc := "(I)Z" } : Jvm.MethodName)) ∈ lw_all := lw_g (lw_at lw_m3 62 rfl) rfl
theorem q602 : (Jvm.Cond.code ({ cls := "TearsQueue", name := "isAct", desc := "(I)Z" } : Jvm.MethodName) prog_1_method_24_code (2 : Nat) (Option.some Jvm.ClassFile.FieldType.boolean)) ∈ lw_all := lw_g (lw_at lw_m3 63 rfl) rfl
theorem q604 : (Jvm.Cond.instanceMethod ({ cls := "TearsQueue", name := "cut", desc := "(I)I" } : Jvm.MethodName)) ∈ lw_all := lw_g (lw_at lw_m3 65 rfl) rfl
theorem q605 : (Jvm.Cond.selects "TearsQueue" ({ cls := "TearsQueue", name := "cut", desc := "(I)I" } : Jvm.MethodName) ({ cls := "TearsQueue", name := "cut", desc := "(I)I" } : Jvm.MethodName)) ∈ lw_all := lw_g (lw_at lw_m3 66 rfl) rfl
theorem q606 : (Jvm.Cond.code ({ cls := "TearsQueue", name := "cut", desc := "(I)I" } : Jvm.MethodName) prog_1_method_26_code (3 : Nat) (Option.some Jvm.ClassFile.FieldType.int)) ∈ lw_all := lw_g (lw_at lw_m3 67 rfl) rfl
theorem q608 : (Jvm.Cond.instanceMethod ({ cls := "TearsQueue", name := "thinks", desc := "(I)I" } : Jvm.MethodName)) ∈ lw_all := lw_g (lw_at lw_m3 69 rfl) rfl
theorem q609 : (Jvm.Cond.selects "TearsQueue" ({ cls := "TearsQueue", name := "thinks", desc := "(I)I" } : Jvm.MethodName) ({ cls := "TearsQueue", name := "thinks", desc := "(I)I" } : Jvm.MethodName)) ∈ lw_all := lw_g (lw_at lw_m3 70 rfl) rfl
theorem q610 : (Jvm.Cond.code ({ cls := "TearsQueue", name := "thinks", desc := "(I)I" } : Jvm.MethodName) prog_1_method_27_code (2 : Nat) (Option.some Jvm.ClassFile.FieldType.int)) ∈ lw_all := lw_g (lw_at lw_m3 71 rfl) rfl
theorem q611 : (Jvm.Cond.methodLink "TearsQueue" (23 : Nat) ({ cls := "TearsQueue$Stop", name := "waits", desc := "(I)Z" } : Jvm.MethodName)) ∈ lw_all := lw_g (lw_at lw_m3 72 rfl) rfl
theorem q612 : (Jvm.Cond.methodLink "TearsQueue" (74 : Nat) ({ cls := "TearsQueue", name := "thinking", desc := "(LTearsQueue$Stop;I)I" } : Jvm.MethodName)) ∈ lw_all := lw_g (lw_at lw_m3 73 rfl) rfl
theorem q613 : (Jvm.Cond.privateMethod ({ cls := "TearsQueue", name := "thinking", desc := "(LTearsQueue$Stop;I)I" } : Jvm.MethodName)) ∈ lw_tbl := lw_at lw_m3 74 rfl
theorem q614 : (Jvm.Cond.instanceMethod ({ cls := "TearsQueue", name := "thinking", desc := "(LTearsQueue$Stop;I)I" } : Jvm.MethodName)) ∈ lw_all := lw_g (lw_at lw_m3 75 rfl) rfl
theorem q615 : (Jvm.Cond.code ({ cls := "TearsQueue", name := "thinking", desc := "(LTearsQueue$Stop;I)I" } : Jvm.MethodName) prog_1_method_5_code (5 : Nat) (Option.some Jvm.ClassFile.FieldType.int)) ∈ lw_all := lw_g (lw_at lw_m3 76 rfl) rfl
theorem q616 : (Jvm.Cond.methodLink "TearsQueue" (37 : Nat) ({ cls := "TearsQueue$Stop", name := "saddens", desc := "(II)V" } : Jvm.MethodName)) ∈ lw_all := lw_g (lw_at lw_m3 77 rfl) rfl
theorem q624 : (Jvm.Cond.methodLink "TearsQueue" (41 : Nat) ({ cls := "TearsQueue", name := "nextWeeper", desc := "(LTearsQueue$Stop;I)I" } : Jvm.MethodName)) ∈ lw_all := lw_g (lw_at lw_m3 85 rfl) rfl
theorem q625 : (Jvm.Cond.privateMethod ({ cls := "TearsQueue", name := "nextWeeper", desc := "(LTearsQueue$Stop;I)I" } : Jvm.MethodName)) ∈ lw_tbl := lw_at lw_m3 86 rfl
theorem q626 : (Jvm.Cond.instanceMethod ({ cls := "TearsQueue", name := "nextWeeper", desc := "(LTearsQueue$Stop;I)I" } : Jvm.MethodName)) ∈ lw_all := lw_g (lw_at lw_m3 87 rfl) rfl
theorem q627 : (Jvm.Cond.code ({ cls := "TearsQueue", name := "nextWeeper", desc := "(LTearsQueue$Stop;I)I" } : Jvm.MethodName) prog_1_method_4_code (5 : Nat) (Option.some Jvm.ClassFile.FieldType.int)) ∈ lw_all := lw_g (lw_at lw_m3 88 rfl) rfl
theorem q628 : (Jvm.Cond.methodLink "TearsQueue" (27 : Nat) ({ cls := "TearsQueue", name := "has", desc := "(II)Z" } : Jvm.MethodName)) ∈ lw_all := lw_g (lw_at lw_m3 89 rfl) rfl
theorem q629 : (Jvm.Cond.methodLink "TearsQueue" (55 : Nat) ({ cls := "TearsQueue$Stop", name := "tells", desc := "(II)V" } : Jvm.MethodName)) ∈ lw_all := lw_g (lw_at lw_m3 90 rfl) rfl
theorem q635 : (Jvm.Cond.instanceMethod ({ cls := "TearsQueue", name := "minutes", desc := "(I)I" } : Jvm.MethodName)) ∈ lw_all := lw_g (lw_at lw_m3 96 rfl) rfl
theorem q636 : (Jvm.Cond.selects "TearsQueue" ({ cls := "TearsQueue", name := "minutes", desc := "(I)I" } : Jvm.MethodName) ({ cls := "TearsQueue", name := "minutes", desc := "(I)I" } : Jvm.MethodName)) ∈ lw_all := lw_g (lw_at lw_m3 97 rfl) rfl
theorem q637 : (Jvm.Cond.code ({ cls := "TearsQueue", name := "minutes", desc := "(I)I" } : Jvm.MethodName) prog_1_method_28_code (3 : Nat) (Option.some Jvm.ClassFile.FieldType.int)) ∈ lw_all := lw_g (lw_at lw_m3 98 rfl) rfl
theorem q638 : (Jvm.Cond.constantLong "TearsQueue" (217 : Nat) (60 : Int64)) ∈ lw_all := lw_g (lw_at lw_m3 99 rfl) rfl
theorem q639 : (Jvm.Cond.methodLink "TearsQueue" (67 : Nat) ({ cls := "TearsQueue$Stop", name := "minuteGoes", desc := "()V" } : Jvm.MethodName)) ∈ lw_all := lw_g (lw_at lw_m3 100 rfl) rfl
theorem q645 : (Jvm.Cond.instanceMethod ({ cls := "TearsQueue", name := "tram", desc := "()I" } : Jvm.MethodName)) ∈ lw_all := lw_g (lw_at lw_m3 106 rfl) rfl
theorem q646 : (Jvm.Cond.selects "TearsQueue" ({ cls := "TearsQueue", name := "tram", desc := "()I" } : Jvm.MethodName) ({ cls := "TearsQueue", name := "tram", desc := "()I" } : Jvm.MethodName)) ∈ lw_all := lw_g (lw_at lw_m3 107 rfl) rfl
theorem q647 : (Jvm.Cond.code ({ cls := "TearsQueue", name := "tram", desc := "()I" } : Jvm.MethodName) prog_1_method_29_code (1 : Nat) (Option.some Jvm.ClassFile.FieldType.int)) ∈ lw_all := lw_g (lw_at lw_m3 108 rfl) rfl
theorem q648 : (Jvm.Cond.methodLink "TearsQueue" (71 : Nat) ({ cls := "TearsQueue$Stop", name := "tramComes", desc := "()I" } : Jvm.MethodName)) ∈ lw_all := lw_g (lw_at lw_m3 109 rfl) rfl
theorem q654 : (Jvm.Cond.instanceMethod ({ cls := "TearsQueue", name := "joy", desc := "(I)I" } : Jvm.MethodName)) ∈ lw_all := lw_g (lw_at lw_m3 115 rfl) rfl
theorem q655 : (Jvm.Cond.selects "TearsQueue" ({ cls := "TearsQueue", name := "joy", desc := "(I)I" } : Jvm.MethodName) ({ cls := "TearsQueue", name := "joy", desc := "(I)I" } : Jvm.MethodName)) ∈ lw_all := lw_g (lw_at lw_m3 116 rfl) rfl
theorem q656 : (Jvm.Cond.code ({ cls := "TearsQueue", name := "joy", desc := "(I)I" } : Jvm.MethodName) prog_1_method_30_code (3 : Nat) (Option.some Jvm.ClassFile.FieldType.int)) ∈ lw_all := lw_g (lw_at lw_m3 117 rfl) rfl
theorem q658 : (Jvm.Cond.instanceMethod ({ cls := "TearsQueue", name := "second", desc := "()I" } : Jvm.MethodName)) ∈ lw_all := lw_g (lw_at lw_m3 119 rfl) rfl
theorem q659 : (Jvm.Cond.selects "TearsQueue" ({ cls := "TearsQueue", name := "second", desc := "()I" } : Jvm.MethodName) ({ cls := "TearsQueue", name := "second", desc := "()I" } : Jvm.MethodName)) ∈ lw_all := lw_g (lw_at lw_m3 120 rfl) rfl
theorem q660 : (Jvm.Cond.code ({ cls := "TearsQueue", name := "second", desc := "()I" } : Jvm.MethodName) prog_1_method_31_code (3 : Nat) (Option.some Jvm.ClassFile.FieldType.int)) ∈ lw_all := lw_g (lw_at lw_m3 121 rfl) rfl
theorem q661 : (Jvm.Cond.methodLink "TearsQueue" (219 : Nat) ({ cls := "TearsQueue$Stop", name := "gone", desc := "()I" } : Jvm.MethodName)) ∈ lw_all := lw_g (lw_at lw_m3 122 rfl) rfl
theorem q665 : (Jvm.Cond.methodLink "TearsQueue" (77 : Nat) ({ cls := "java/lang/Integer", name := "bitCount", desc := "(I)I" } : Jvm.MethodName)) ∈ lw_all := lw_g (lw_at lw_m3 126 rfl) rfl
theorem q672 : (Jvm.Cond.instanceMethod ({ cls := "TearsQueue", name := "runs", desc := "(I)I" } : Jvm.MethodName)) ∈ lw_all := lw_g (lw_at lw_m3 133 rfl) rfl
theorem q673 : (Jvm.Cond.selects "TearsQueue" ({ cls := "TearsQueue", name := "runs", desc := "(I)I" } : Jvm.MethodName) ({ cls := "TearsQueue", name := "runs", desc := "(I)I" } : Jvm.MethodName)) ∈ lw_all := lw_g (lw_at lw_m3 134 rfl) rfl
theorem q674 : (Jvm.Cond.code ({ cls := "TearsQueue", name := "runs", desc := "(I)I" } : Jvm.MethodName) prog_1_method_32_code (2 : Nat) (Option.some Jvm.ClassFile.FieldType.int)) ∈ lw_all := lw_g (lw_at lw_m3 135 rfl) rfl
theorem q675 : (Jvm.Cond.methodLink "TearsQueue" (222 : Nat) ({ cls := "TearsQueue", name := "goes", desc := "(LTearsQueue$Stop;I)V" } : Jvm.MethodName)) ∈ lw_all := lw_g (lw_at lw_m3 136 rfl) rfl
theorem q676 : (Jvm.Cond.privateMethod ({ cls := "TearsQueue", name := "goes", desc := "(LTearsQueue$Stop;I)V" } : Jvm.MethodName)) ∈ lw_tbl := lw_at lw_m3 137 rfl
theorem q677 : (Jvm.Cond.instanceMethod ({ cls := "TearsQueue", name := "goes", desc := "(LTearsQueue$Stop;I)V" } : Jvm.MethodName)) ∈ lw_all := lw_g (lw_at lw_m3 138 rfl) rfl
theorem q678 : (Jvm.Cond.code ({ cls := "TearsQueue", name := "goes", desc := "(LTearsQueue$Stop;I)V" } : Jvm.MethodName) prog_1_method_8_code (5 : Nat) (Option.none : Option Jvm.ClassFile.FieldType)) ∈ lw_all := lw_g (lw_at lw_m3 139 rfl) rfl
theorem q679 : (Jvm.Cond.methodLink "TearsQueue" (83 : Nat) ({ cls := "TearsQueue", name := "begins", desc := "()V" } : Jvm.MethodName)) ∈ lw_all := lw_g (lw_at lw_m3 140 rfl) rfl
theorem q680 : (Jvm.Cond.privateMethod ({ cls := "TearsQueue", name := "begins", desc := "()V" } : Jvm.MethodName)) ∈ lw_tbl := lw_at lw_m3 141 rfl
theorem q681 : (Jvm.Cond.instanceMethod ({ cls := "TearsQueue", name := "begins", desc := "()V" } : Jvm.MethodName)) ∈ lw_all := lw_g (lw_at lw_m3 142 rfl) rfl
theorem q682 : (Jvm.Cond.code ({ cls := "TearsQueue", name := "begins", desc := "()V" } : Jvm.MethodName) prog_1_method_6_code (1 : Nat) (Option.none : Option Jvm.ClassFile.FieldType)) ∈ lw_all := lw_g (lw_at lw_m3 143 rfl) rfl
theorem q683 : (Jvm.Cond.methodLink "TearsQueue" (93 : Nat) ({ cls := "TearsQueue", name := "acts", desc := "(LTearsQueue$Stop;I)Z" } : Jvm.MethodName)) ∈ lw_all := lw_g (lw_at lw_m3 144 rfl) rfl
theorem q684 : (Jvm.Cond.privateMethod ({ cls := "TearsQueue", name := "acts", desc := "(LTearsQueue$Stop;I)Z" } : Jvm.MethodName)) ∈ lw_tbl := lw_at lw_m3 145 rfl
theorem q685 : (Jvm.Cond.instanceMethod ({ cls := "TearsQueue", name := "acts", desc := "(LTearsQueue$Stop;I)Z" } : Jvm.MethodName)) ∈ lw_all := lw_g (lw_at lw_m3 146 rfl) rfl
theorem q686 : (Jvm.Cond.code ({ cls := "TearsQueue", name := "acts", desc := "(LTearsQueue$Stop;I)Z" } : Jvm.MethodName) prog_1_method_7_code (4 : Nat) (Option.some Jvm.ClassFile.FieldType.boolean)) ∈ lw_all := lw_g (lw_at lw_m3 147 rfl) rfl
theorem q688 : (Jvm.Cond.instanceMethod ({ cls := "TearsQueue", name := "ahead", desc := "(II)I" } : Jvm.MethodName)) ∈ lw_all := lw_g (lw_at lw_m3 149 rfl) rfl
theorem q689 : (Jvm.Cond.selects "TearsQueue" ({ cls := "TearsQueue", name := "ahead", desc := "(II)I" } : Jvm.MethodName) ({ cls := "TearsQueue", name := "ahead", desc := "(II)I" } : Jvm.MethodName)) ∈ lw_all := lw_g (lw_at lw_m3 150 rfl) rfl
theorem q690 : (Jvm.Cond.code ({ cls := "TearsQueue", name := "ahead", desc := "(II)I" } : Jvm.MethodName) prog_1_method_33_code (3 : Nat) (Option.some Jvm.ClassFile.FieldType.int)) ∈ lw_all := lw_g (lw_at lw_m3 151 rfl) rfl
theorem q692 : (Jvm.Cond.instanceMethod ({ cls := "TearsQueue", name := "soon", desc := "(I)I" } : Jvm.MethodName)) ∈ lw_all := lw_g (lw_at lw_m3 153 rfl) rfl
theorem q693 : (Jvm.Cond.selects "TearsQueue" ({ cls := "TearsQueue", name := "soon", desc := "(I)I" } : Jvm.MethodName) ({ cls := "TearsQueue", name := "soon", desc := "(I)I" } : Jvm.MethodName)) ∈ lw_all := lw_g (lw_at lw_m3 154 rfl) rfl
theorem q694 : (Jvm.Cond.code ({ cls := "TearsQueue", name := "soon", desc := "(I)I" } : Jvm.MethodName) prog_1_method_34_code (3 : Nat) (Option.some Jvm.ClassFile.FieldType.int)) ∈ lw_all := lw_g (lw_at lw_m3 155 rfl) rfl
theorem q696 : (Jvm.Cond.instanceMethod ({ cls := "TearsQueue", name := "best", desc := "(II)I" } : Jvm.MethodName)) ∈ lw_all := lw_g (lw_at lw_m3 157 rfl) rfl
theorem q697 : (Jvm.Cond.selects "TearsQueue" ({ cls := "TearsQueue", name := "best", desc := "(II)I" } : Jvm.MethodName) ({ cls := "TearsQueue", name := "best", desc := "(II)I" } : Jvm.MethodName)) ∈ lw_all := lw_g (lw_at lw_m3 158 rfl) rfl
theorem q698 : (Jvm.Cond.code ({ cls := "TearsQueue", name := "best", desc := "(II)I" } : Jvm.MethodName) prog_1_method_38_code (10 : Nat) (Option.some Jvm.ClassFile.FieldType.int)) ∈ lw_all := lw_g (lw_at lw_m3 159 rfl) rfl
theorem q699 : (Jvm.Cond.methodLink "TearsQueue" (226 : Nat) ({ cls := "TearsQueue", name := "isRowPart", desc := "(II)Z" } : Jvm.MethodName)) ∈ lw_all := lw_g (lw_at lw_m3 160 rfl) rfl
theorem q700 : (Jvm.Cond.static ({ cls := "TearsQueue", name := "isRowPart", desc := "(II)Z" } : Jvm.MethodName)) ∈ lw_all := lw_g (lw_at lw_m3 161 rfl) rfl
theorem q701 : (Jvm.Cond.code ({ cls := "TearsQueue", name := "isRowPart", desc := "(II)Z" } : Jvm.MethodName) prog_1_method_16_code (2 : Nat) (Option.some Jvm.ClassFile.FieldType.boolean)) ∈ lw_all := lw_g (lw_at lw_m3 162 rfl) rfl
theorem q702 : (Jvm.Cond.constantLong "TearsQueue" (181 : Nat) (10 : Int64)) ∈ lw_all := lw_g (lw_at lw_m3 163 rfl) rfl
theorem q703 : (Jvm.Cond.methodLink "TearsQueue" (229 : Nat) ({ cls := "TearsQueue", name := "power", desc := "(II)I" } : Jvm.MethodName)) ∈ lw_all := lw_g (lw_at lw_m3 164 rfl) rfl
theorem q704 : (Jvm.Cond.static ({ cls := "TearsQueue", name := "power", desc := "(II)I" } : Jvm.MethodName)) ∈ lw_all := lw_g (lw_at lw_m3 165 rfl) rfl
theorem q705 : (Jvm.Cond.code ({ cls := "TearsQueue", name := "power", desc := "(II)I" } : Jvm.MethodName) prog_1_method_36_code (4 : Nat) (Option.some Jvm.ClassFile.FieldType.int)) ∈ lw_all := lw_g (lw_at lw_m3 166 rfl) rfl
theorem q706 : (Jvm.Cond.methodLink "TearsQueue" (232 : Nat) ({ cls := "TearsQueue", name := "readRow", desc := "(III)V" } : Jvm.MethodName)) ∈ lw_all := lw_g (lw_at lw_m3 167 rfl) rfl
theorem q707 : (Jvm.Cond.privateMethod ({ cls := "TearsQueue", name := "readRow", desc := "(III)V" } : Jvm.MethodName)) ∈ lw_tbl := lw_at lw_m3 168 rfl
theorem q708 : (Jvm.Cond.instanceMethod ({ cls := "TearsQueue", name := "readRow", desc := "(III)V" } : Jvm.MethodName)) ∈ lw_all := lw_g (lw_at lw_m3 169 rfl) rfl
theorem q709 : (Jvm.Cond.code ({ cls := "TearsQueue", name := "readRow", desc := "(III)V" } : Jvm.MethodName) prog_1_method_35_code (6 : Nat) (Option.none : Option Jvm.ClassFile.FieldType)) ∈ lw_all := lw_g (lw_at lw_m3 170 rfl) rfl
theorem q710 : (Jvm.Cond.methodLink "TearsQueue" (235 : Nat) ({ cls := "TearsQueue", name := "rowAct", desc := "(I)I" } : Jvm.MethodName)) ∈ lw_all := lw_g (lw_at lw_m3 171 rfl) rfl
theorem q711 : (Jvm.Cond.privateMethod ({ cls := "TearsQueue", name := "rowAct", desc := "(I)I" } : Jvm.MethodName)) ∈ lw_tbl := lw_at lw_m3 172 rfl
theorem q712 : (Jvm.Cond.instanceMethod ({ cls := "TearsQueue", name := "rowAct", desc := "(I)I" } : Jvm.MethodName)) ∈ lw_all := lw_g (lw_at lw_m3 173 rfl) rfl
theorem q713 : (Jvm.Cond.code ({ cls := "TearsQueue", name := "rowAct", desc := "(I)I" } : Jvm.MethodName) prog_1_method_37_code (2 : Nat) (Option.some Jvm.ClassFile.FieldType.int)) ∈ lw_all := lw_g (lw_at lw_m3 174 rfl) rfl
theorem q715 : (Jvm.Cond.instanceMethod ({ cls := "TearsQueue", name := "home", desc := "(II)I" } : Jvm.MethodName)) ∈ lw_all := lw_g (lw_at lw_m3 176 rfl) rfl
theorem q716 : (Jvm.Cond.selects "TearsQueue" ({ cls := "TearsQueue", name := "home", desc := "(II)I" } : Jvm.MethodName) ({ cls := "TearsQueue", name := "home", desc := "(II)I" } : Jvm.MethodName)) ∈ lw_all := lw_g (lw_at lw_m3 177 rfl) rfl
theorem q717 : (Jvm.Cond.code ({ cls := "TearsQueue", name := "home", desc := "(II)I" } : Jvm.MethodName) prog_1_method_40_code (5 : Nat) (Option.some Jvm.ClassFile.FieldType.int)) ∈ lw_all := lw_g (lw_at lw_m3 178 rfl) rfl
theorem q718 : (Jvm.Cond.methodLink "TearsQueue" (238 : Nat) ({ cls := "TearsQueue", name := "isHome", desc := "(II)Z" } : Jvm.MethodName)) ∈ lw_all := lw_g (lw_at lw_m3 179 rfl) rfl
theorem q719 : (Jvm.Cond.privateMethod ({ cls := "TearsQueue", name := "isHome", desc := "(II)Z" } : Jvm.MethodName)) ∈ lw_tbl := lw_at lw_m3 180 rfl
theorem q720 : (Jvm.Cond.instanceMethod ({ cls := "TearsQueue", name := "isHome", desc := "(II)Z" } : Jvm.MethodName)) ∈ lw_all := lw_g (lw_at lw_m3 181 rfl) rfl
theorem q721 : (Jvm.Cond.code ({ cls := "TearsQueue", name := "isHome", desc := "(II)Z" } : Jvm.MethodName) prog_1_method_39_code (4 : Nat) (Option.some Jvm.ClassFile.FieldType.boolean)) ∈ lw_all := lw_g (lw_at lw_m3 182 rfl) rfl
theorem q723 : (Jvm.Cond.instanceMethod ({ cls := "TearsQueue", name := "swap", desc := "(I)I" } : Jvm.MethodName)) ∈ lw_all := lw_g (lw_at lw_m3 184 rfl) rfl
theorem q724 : (Jvm.Cond.selects "TearsQueue" ({ cls := "TearsQueue", name := "swap", desc := "(I)I" } : Jvm.MethodName) ({ cls := "TearsQueue", name := "swap", desc := "(I)I" } : Jvm.MethodName)) ∈ lw_all := lw_g (lw_at lw_m3 185 rfl) rfl
theorem q725 : (Jvm.Cond.code ({ cls := "TearsQueue", name := "swap", desc := "(I)I" } : Jvm.MethodName) prog_1_method_41_code (7 : Nat) (Option.some Jvm.ClassFile.FieldType.int)) ∈ lw_all := lw_g (lw_at lw_m3 186 rfl) rfl
theorem q726 : (Jvm.Cond.methodLink "TearsQueue" (241 : Nat) ({ cls := "TearsQueue", name := "runs", desc := "(I)I" } : Jvm.MethodName)) ∈ lw_all := lw_g (lw_at lw_m3 187 rfl) rfl
theorem q727 : (Jvm.Cond.methodLink "TearsQueue" (244 : Nat) ({ cls := "java/lang/Math", name := "max", desc := "(II)I" } : Jvm.MethodName)) ∈ lw_all := lw_g (lw_at lw_m3 188 rfl) rfl
theorem q729 : (Jvm.Cond.instanceMethod ({ cls := "TearsQueue", name := "enough", desc := "()I" } : Jvm.MethodName)) ∈ lw_all := lw_g (lw_at lw_m3 190 rfl) rfl
theorem q730 : (Jvm.Cond.selects "TearsQueue" ({ cls := "TearsQueue", name := "enough", desc := "()I" } : Jvm.MethodName) ({ cls := "TearsQueue", name := "enough", desc := "()I" } : Jvm.MethodName)) ∈ lw_all := lw_g (lw_at lw_m3 191 rfl) rfl
theorem q731 : (Jvm.Cond.code ({ cls := "TearsQueue", name := "enough", desc := "()I" } : Jvm.MethodName) prog_1_method_42_code (2 : Nat) (Option.some Jvm.ClassFile.FieldType.int)) ∈ lw_all := lw_g (lw_at lw_m3 192 rfl) rfl
theorem q733 : (Jvm.Cond.instanceMethod ({ cls := "TearsQueue", name := "luck", desc := "(III)J" } : Jvm.MethodName)) ∈ lw_all := lw_g (lw_at lw_m3 194 rfl) rfl
theorem q734 : (Jvm.Cond.selects "TearsQueue" ({ cls := "TearsQueue", name := "luck", desc := "(III)J" } : Jvm.MethodName) ({ cls := "TearsQueue", name := "luck", desc := "(III)J" } : Jvm.MethodName)) ∈ lw_all := lw_g (lw_at lw_m3 195 rfl) rfl
theorem q735 : (Jvm.Cond.code ({ cls := "TearsQueue", name := "luck", desc := "(III)J" } : Jvm.MethodName) prog_1_method_45_code (4 : Nat) (Option.some Jvm.ClassFile.FieldType.long)) ∈ lw_all := lw_g (lw_at lw_m3 196 rfl) rfl
theorem q736 : (Jvm.Cond.constantLong "TearsQueue" (259 : Nat) (-1 : Int64)) ∈ lw_all := lw_g (lw_at lw_m3 197 rfl) rfl
theorem q737 : (Jvm.Cond.methodLink "TearsQueue" (261 : Nat) ({ cls := "TearsQueue", name := "findOdds", desc := "(II)V" } : Jvm.MethodName)) ∈ lw_all := lw_g (lw_at lw_m3 198 rfl) rfl
theorem q738 : (Jvm.Cond.privateMethod ({ cls := "TearsQueue", name := "findOdds", desc := "(II)V" } : Jvm.MethodName)) ∈ lw_tbl := lw_at lw_m3 199 rfl
theorem q739 : (Jvm.Cond.instanceMethod ({ cls := "TearsQueue", name := "findOdds", desc := "(II)V" } : Jvm.MethodName)) ∈ lw_all := lw_g (lw_at lw_m3 200 rfl) rfl
theorem q740 : (Jvm.Cond.code ({ cls := "TearsQueue", name := "findOdds", desc := "(II)V" } : Jvm.MethodName) prog_1_method_44_code (8 : Nat) (Option.none : Option Jvm.ClassFile.FieldType)) ∈ lw_all := lw_g (lw_at lw_m3 201 rfl) rfl
theorem q741 : (Jvm.Cond.methodLink "TearsQueue" (264 : Nat) ({ cls := "TearsQueue", name := "lowest", desc := "(JJI)J" } : Jvm.MethodName)) ∈ lw_all := lw_g (lw_at lw_m3 202 rfl) rfl
theorem q742 : (Jvm.Cond.static ({ cls := "TearsQueue", name := "lowest", desc := "(JJI)J" } : Jvm.MethodName)) ∈ lw_all := lw_g (lw_at lw_m3 203 rfl) rfl
theorem q743 : (Jvm.Cond.code ({ cls := "TearsQueue", name := "lowest", desc := "(JJI)J" } : Jvm.MethodName) prog_1_method_43_code (11 : Nat) (Option.some Jvm.ClassFile.FieldType.long)) ∈ lw_all := lw_g (lw_at lw_m3 204 rfl) rfl
theorem q745 : (Jvm.Cond.instanceMethod ({ cls := "TearsQueue", name := "mean", desc := "(II)J" } : Jvm.MethodName)) ∈ lw_all := lw_g (lw_at lw_m3 206 rfl) rfl
theorem q746 : (Jvm.Cond.selects "TearsQueue" ({ cls := "TearsQueue", name := "mean", desc := "(II)J" } : Jvm.MethodName) ({ cls := "TearsQueue", name := "mean", desc := "(II)J" } : Jvm.MethodName)) ∈ lw_all := lw_g (lw_at lw_m3 207 rfl) rfl
theorem q747 : (Jvm.Cond.code ({ cls := "TearsQueue", name := "mean", desc := "(II)J" } : Jvm.MethodName) prog_1_method_46_code (3 : Nat) (Option.some Jvm.ClassFile.FieldType.long)) ∈ lw_all := lw_g (lw_at lw_m3 208 rfl) rfl
theorem q749 : (Jvm.Cond.instanceMethod ({ cls := "TearsQueue", name := "see", desc := "(IZ)I" } : Jvm.MethodName)) ∈ lw_all := lw_g (lw_at lw_m3 210 rfl) rfl
theorem q750 : (Jvm.Cond.selects "TearsQueue" ({ cls := "TearsQueue", name := "see", desc := "(IZ)I" } : Jvm.MethodName) ({ cls := "TearsQueue", name := "see", desc := "(IZ)I" } : Jvm.MethodName)) ∈ lw_all := lw_g (lw_at lw_m3 211 rfl) rfl
theorem q751 : (Jvm.Cond.code ({ cls := "TearsQueue", name := "see", desc := "(IZ)I" } : Jvm.MethodName) prog_1_method_47_code (3 : Nat) (Option.some Jvm.ClassFile.FieldType.int)) ∈ lw_all := lw_g (lw_at lw_m3 212 rfl) rfl
theorem q753 : (Jvm.Cond.instanceMethod ({ cls := "TearsQueue", name := "forget", desc := "(I)I" } : Jvm.MethodName)) ∈ lw_all := lw_g (lw_at lw_m3 214 rfl) rfl
theorem q754 : (Jvm.Cond.selects "TearsQueue" ({ cls := "TearsQueue", name := "forget", desc := "(I)I" } : Jvm.MethodName) ({ cls := "TearsQueue", name := "forget", desc := "(I)I" } : Jvm.MethodName)) ∈ lw_all := lw_g (lw_at lw_m3 215 rfl) rfl
theorem q755 : (Jvm.Cond.code ({ cls := "TearsQueue", name := "forget", desc := "(I)I" } : Jvm.MethodName) prog_1_method_48_code (3 : Nat) (Option.some Jvm.ClassFile.FieldType.int)) ∈ lw_all := lw_g (lw_at lw_m3 216 rfl) rfl
theorem q757 : (Jvm.Cond.instanceMethod ({ cls := "TearsQueue", name := "kinds", desc := "(I)I" } : Jvm.MethodName)) ∈ lw_all := lw_g (lw_at lw_m3 218 rfl) rfl
theorem q758 : (Jvm.Cond.selects "TearsQueue" ({ cls := "TearsQueue", name := "kinds", desc := "(I)I" } : Jvm.MethodName) ({ cls := "TearsQueue", name := "kinds", desc := "(I)I" } : Jvm.MethodName)) ∈ lw_all := lw_g (lw_at lw_m3 219 rfl) rfl
theorem q759 : (Jvm.Cond.code ({ cls := "TearsQueue", name := "kinds", desc := "(I)I" } : Jvm.MethodName) prog_1_method_51_code (2 : Nat) (Option.some Jvm.ClassFile.FieldType.int)) ∈ lw_all := lw_g (lw_at lw_m3 220 rfl) rfl
theorem q760 : (Jvm.Cond.methodLink "TearsQueue" (272 : Nat) ({ cls := "TearsQueue", name := "which", desc := "(III)I" } : Jvm.MethodName)) ∈ lw_all := lw_g (lw_at lw_m3 221 rfl) rfl
theorem q761 : (Jvm.Cond.privateMethod ({ cls := "TearsQueue", name := "which", desc := "(III)I" } : Jvm.MethodName)) ∈ lw_tbl := lw_at lw_m3 222 rfl
theorem q762 : (Jvm.Cond.instanceMethod ({ cls := "TearsQueue", name := "which", desc := "(III)I" } : Jvm.MethodName)) ∈ lw_all := lw_g (lw_at lw_m3 223 rfl) rfl
theorem q763 : (Jvm.Cond.code ({ cls := "TearsQueue", name := "which", desc := "(III)I" } : Jvm.MethodName) prog_1_method_50_code (6 : Nat) (Option.some Jvm.ClassFile.FieldType.int)) ∈ lw_all := lw_g (lw_at lw_m3 224 rfl) rfl
theorem q764 : (Jvm.Cond.methodLink "TearsQueue" (268 : Nat) ({ cls := "TearsQueue", name := "isSo", desc := "(III)Z" } : Jvm.MethodName)) ∈ lw_all := lw_g (lw_at lw_m3 225 rfl) rfl
theorem q765 : (Jvm.Cond.privateMethod ({ cls := "TearsQueue", name := "isSo", desc := "(III)Z" } : Jvm.MethodName)) ∈ lw_tbl := lw_at lw_m3 226 rfl
theorem q766 : (Jvm.Cond.instanceMethod ({ cls := "TearsQueue", name := "isSo", desc := "(III)Z" } : Jvm.MethodName)) ∈ lw_all := lw_g (lw_at lw_m3 227 rfl) rfl
theorem q767 : (Jvm.Cond.code ({ cls := "TearsQueue", name := "isSo", desc := "(III)Z" } : Jvm.MethodName) prog_1_method_49_code (6 : Nat) (Option.some Jvm.ClassFile.FieldType.boolean)) ∈ lw_all := lw_g (lw_at lw_m3 228 rfl) rfl
theorem q769 : (Jvm.Cond.instanceMethod ({ cls := "TearsQueue", name := "sorrows", desc := "(I)I" } : Jvm.MethodName)) ∈ lw_all := lw_g (lw_at lw_m3 230 rfl) rfl
theorem q770 : (Jvm.Cond.selects "TearsQueue" ({ cls := "TearsQueue", name := "sorrows", desc := "(I)I" } : Jvm.MethodName) ({ cls := "TearsQueue", name := "sorrows", desc := "(I)I" } : Jvm.MethodName)) ∈ lw_all := lw_g (lw_at lw_m3 231 rfl) rfl
theorem q771 : (Jvm.Cond.code ({ cls := "TearsQueue", name := "sorrows", desc := "(I)I" } : Jvm.MethodName) prog_1_method_52_code (2 : Nat) (Option.some Jvm.ClassFile.FieldType.int)) ∈ lw_all := lw_g (lw_at lw_m3 232 rfl) rfl
theorem q773 : (Jvm.Cond.instanceMethod ({ cls := "TearsQueue", name := "ask", desc := "(II)I" } : Jvm.MethodName)) ∈ lw_all := lw_g (lw_at lw_m3 234 rfl) rfl
theorem q774 : (Jvm.Cond.selects "TearsQueue" ({ cls := "TearsQueue", name := "ask", desc := "(II)I" } : Jvm.MethodName) ({ cls := "TearsQueue", name := "ask", desc := "(II)I" } : Jvm.MethodName)) ∈ lw_all := lw_g (lw_at lw_m3 235 rfl) rfl
theorem q775 : (Jvm.Cond.code ({ cls := "TearsQueue", name := "ask", desc := "(II)I" } : Jvm.MethodName) prog_1_method_53_code (9 : Nat) (Option.some Jvm.ClassFile.FieldType.int)) ∈ lw_all := lw_g (lw_at lw_m3 236 rfl) rfl
theorem q776 : (Jvm.Cond.methodLink "TearsQueue" (276 : Nat) ({ cls := "TearsQueue", name := "sorrows", desc := "(I)I" } : Jvm.MethodName)) ∈ lw_all := lw_g (lw_at lw_m3 237 rfl) rfl
theorem q777 : (Jvm.Cond.methodLink "TearsQueue" (279 : Nat) ({ cls := "java/lang/Math", name := "min", desc := "(II)I" } : Jvm.MethodName)) ∈ lw_all := lw_g (lw_at lw_m3 238 rfl) rfl
theorem q779 : (Jvm.Cond.instanceMethod ({ cls := "TearsQueue", name := "drift", desc := "(III)I" } : Jvm.MethodName)) ∈ lw_all := lw_g (lw_at lw_m4 0 rfl) rfl
theorem q780 : (Jvm.Cond.selects "TearsQueue" ({ cls := "TearsQueue", name := "drift", desc := "(III)I" } : Jvm.MethodName) ({ cls := "TearsQueue", name := "drift", desc := "(III)I" } : Jvm.MethodName)) ∈ lw_all := lw_g (lw_at lw_m4 1 rfl) rfl
theorem q781 : (Jvm.Cond.code ({ cls := "TearsQueue", name := "drift", desc := "(III)I" } : Jvm.MethodName) prog_1_method_54_code (7 : Nat) (Option.some Jvm.ClassFile.FieldType.int)) ∈ lw_all := lw_g (lw_at lw_m4 2 rfl) rfl
theorem q782 : (Jvm.Cond.constant "TearsQueue" (282 : Nat) (1103515245 : Int32)) ∈ lw_all := lw_g (lw_at lw_m4 3 rfl) rfl
theorem q784 : (Jvm.Cond.instanceMethod ({ cls := "TearsQueue", name := "keep", desc := "(I)I" } : Jvm.MethodName)) ∈ lw_all := lw_g (lw_at lw_m4 5 rfl) rfl
theorem q785 : (Jvm.Cond.selects "TearsQueue" ({ cls := "TearsQueue", name := "keep", desc := "(I)I" } : Jvm.MethodName) ({ cls := "TearsQueue", name := "keep", desc := "(I)I" } : Jvm.MethodName)) ∈ lw_all := lw_g (lw_at lw_m4 6 rfl) rfl
theorem q786 : (Jvm.Cond.code ({ cls := "TearsQueue", name := "keep", desc := "(I)I" } : Jvm.MethodName) prog_1_method_55_code (3 : Nat) (Option.some Jvm.ClassFile.FieldType.int)) ∈ lw_all := lw_g (lw_at lw_m4 7 rfl) rfl
theorem q788 : (Jvm.Cond.instanceMethod ({ cls := "TearsQueue", name := "back", desc := "(I)I" } : Jvm.MethodName)) ∈ lw_all := lw_g (lw_at lw_m4 9 rfl) rfl
theorem q789 : (Jvm.Cond.selects "TearsQueue" ({ cls := "TearsQueue", name := "back", desc := "(I)I" } : Jvm.MethodName) ({ cls := "TearsQueue", name := "back", desc := "(I)I" } : Jvm.MethodName)) ∈ lw_all := lw_g (lw_at lw_m4 10 rfl) rfl
theorem q790 : (Jvm.Cond.code ({ cls := "TearsQueue", name := "back", desc := "(I)I" } : Jvm.MethodName) prog_1_method_56_code (2 : Nat) (Option.some Jvm.ClassFile.FieldType.int)) ∈ lw_all := lw_g (lw_at lw_m4 11 rfl) rfl
theorem q792 : (Jvm.Cond.instanceMethod ({ cls := "TearsQueue", name := "sheet", desc := "(III)I" } : Jvm.MethodName)) ∈ lw_all := lw_g (lw_at lw_m4 13 rfl) rfl
theorem q793 : (Jvm.Cond.selects "TearsQueue" ({ cls := "TearsQueue", name := "sheet", desc := "(III)I" } : Jvm.MethodName) ({ cls := "TearsQueue", name := "sheet", desc := "(III)I" } : Jvm.MethodName)) ∈ lw_all := lw_g (lw_at lw_m4 14 rfl) rfl
theorem q794 : (Jvm.Cond.codeWith ({ cls := "TearsQueue", name := "sheet", desc := "(III)I" } : Jvm.MethodName) prog_1_method_58_code (5 : Nat) (Option.some Jvm.ClassFile.FieldType.int) [((16 : Nat), (50 : Nat), (51 : Nat), (291 : Nat))]) ∈ lw_all := lw_g (lw_at lw_m4 15 rfl) rfl
theorem q795 : (Jvm.Cond.classLink "TearsQueue" (291 : Nat) "java/lang/NegativeArraySizeException") ∈ lw_all := lw_g (lw_at lw_m4 16 rfl) rfl
theorem q824 : (Jvm.Cond.methodLink "TearsQueue" (285 : Nat) ({ cls := "TearsQueue", name := "isSheet", desc := "(II)Z" } : Jvm.MethodName)) ∈ lw_all := lw_g (lw_at lw_m4 45 rfl) rfl
theorem q825 : (Jvm.Cond.static ({ cls := "TearsQueue", name := "isSheet", desc := "(II)Z" } : Jvm.MethodName)) ∈ lw_all := lw_g (lw_at lw_m4 46 rfl) rfl
theorem q826 : (Jvm.Cond.code ({ cls := "TearsQueue", name := "isSheet", desc := "(II)Z" } : Jvm.MethodName) prog_1_method_57_code (2 : Nat) (Option.some Jvm.ClassFile.FieldType.boolean)) ∈ lw_all := lw_g (lw_at lw_m4 47 rfl) rfl
theorem q827 : (Jvm.Cond.constantLong "TearsQueue" (283 : Nat) (2 : Int64)) ∈ lw_all := lw_g (lw_at lw_m4 48 rfl) rfl
theorem q830 : (Jvm.Cond.instanceMethod ({ cls := "TearsQueue", name := "lay", desc := "(III)I" } : Jvm.MethodName)) ∈ lw_all := lw_g (lw_at lw_m4 51 rfl) rfl
theorem q831 : (Jvm.Cond.selects "TearsQueue" ({ cls := "TearsQueue", name := "lay", desc := "(III)I" } : Jvm.MethodName) ({ cls := "TearsQueue", name := "lay", desc := "(III)I" } : Jvm.MethodName)) ∈ lw_all := lw_g (lw_at lw_m4 52 rfl) rfl
theorem q832 : (Jvm.Cond.codeWith ({ cls := "TearsQueue", name := "lay", desc := "(III)I" } : Jvm.MethodName) prog_1_method_59_code (6 : Nat) (Option.some Jvm.ClassFile.FieldType.int) [((25 : Nat), (74 : Nat), (75 : Nat), (297 : Nat)), ((25 : Nat), (74 : Nat), (80 : Nat), (299 : Nat))]) ∈ lw_all := lw_g (lw_at lw_m4 53 rfl) rfl
theorem q833 : (Jvm.Cond.classLink "TearsQueue" (297 : Nat) "java/lang/NullPointerException") ∈ lw_all := lw_g (lw_at lw_m4 54 rfl) rfl
theorem q858 : (Jvm.Cond.classLink "TearsQueue" (299 : Nat) "java/lang/IndexOutOfBoundsException") ∈ lw_all := lw_g (lw_at lw_m4 79 rfl) rfl
theorem q877 : (Jvm.Cond.classLink "TearsQueue" (293 : Nat) "[B") ∈ lw_all := lw_g (lw_at lw_m4 98 rfl) rfl
theorem q878 : (Jvm.Cond.classLink "TearsQueue" (294 : Nat) "[S") ∈ lw_all := lw_g (lw_at lw_m4 99 rfl) rfl
theorem q879 : (Jvm.Cond.classLink "TearsQueue" (295 : Nat) "[I") ∈ lw_all := lw_g (lw_at lw_m4 100 rfl) rfl
theorem q881 : (Jvm.Cond.instanceMethod ({ cls := "TearsQueue", name := "read", desc := "(IIII)I" } : Jvm.MethodName)) ∈ lw_all := lw_g (lw_at lw_m4 102 rfl) rfl
theorem q882 : (Jvm.Cond.selects "TearsQueue" ({ cls := "TearsQueue", name := "read", desc := "(IIII)I" } : Jvm.MethodName) ({ cls := "TearsQueue", name := "read", desc := "(IIII)I" } : Jvm.MethodName)) ∈ lw_all := lw_g (lw_at lw_m4 103 rfl) rfl
theorem q883 : (Jvm.Cond.codeWith ({ cls := "TearsQueue", name := "read", desc := "(IIII)I" } : Jvm.MethodName) prog_1_method_61_code (8 : Nat) (Option.some Jvm.ClassFile.FieldType.int) [((40 : Nat), (97 : Nat), (107 : Nat), (297 : Nat)), ((98 : Nat), (104 : Nat), (107 : Nat), (297 : Nat)), ((40 : Nat), (97 : Nat), (115 : Nat), (306 : Nat)), ((98 : Nat), (104 : Nat), (115 : Nat), (306 : Nat)), ((40 : Nat), (97 : Nat), (123 : Nat), (299 : Nat)), ((98 : Nat), (104 : Nat), (123 : Nat), (299 : Nat))]) ∈ lw_all := lw_g (lw_at lw_m4 104 rfl) rfl
theorem q884 : (Jvm.Cond.classLink "TearsQueue" (306 : Nat) "java/lang/ClassCastException") ∈ lw_all := lw_g (lw_at lw_m4 105 rfl) rfl
theorem q898 : (Jvm.Cond.constantLong "TearsQueue" (301 : Nat) (20 : Int64)) ∈ lw_all := lw_g (lw_at lw_m4 119 rfl) rfl
theorem q899 : (Jvm.Cond.methodLink "TearsQueue" (303 : Nat) ({ cls := "TearsQueue", name := "takenOf", desc := "(III)I" } : Jvm.MethodName)) ∈ lw_all := lw_g (lw_at lw_m4 120 rfl) rfl
theorem q900 : (Jvm.Cond.privateMethod ({ cls := "TearsQueue", name := "takenOf", desc := "(III)I" } : Jvm.MethodName)) ∈ lw_tbl := lw_at lw_m4 121 rfl
theorem q901 : (Jvm.Cond.instanceMethod ({ cls := "TearsQueue", name := "takenOf", desc := "(III)I" } : Jvm.MethodName)) ∈ lw_all := lw_g (lw_at lw_m4 122 rfl) rfl
theorem q902 : (Jvm.Cond.code ({ cls := "TearsQueue", name := "takenOf", desc := "(III)I" } : Jvm.MethodName) prog_1_method_60_code (5 : Nat) (Option.some Jvm.ClassFile.FieldType.int)) ∈ lw_all := lw_g (lw_at lw_m4 123 rfl) rfl
theorem q904 : (Jvm.Cond.instanceMethod ({ cls := "TearsQueue", name := "torn", desc := "()I" } : Jvm.MethodName)) ∈ lw_all := lw_g (lw_at lw_m4 125 rfl) rfl
theorem q905 : (Jvm.Cond.selects "TearsQueue" ({ cls := "TearsQueue", name := "torn", desc := "()I" } : Jvm.MethodName) ({ cls := "TearsQueue", name := "torn", desc := "()I" } : Jvm.MethodName)) ∈ lw_all := lw_g (lw_at lw_m4 126 rfl) rfl
theorem q906 : (Jvm.Cond.code ({ cls := "TearsQueue", name := "torn", desc := "()I" } : Jvm.MethodName) prog_1_method_62_code (1 : Nat) (Option.some Jvm.ClassFile.FieldType.int)) ∈ lw_all := lw_g (lw_at lw_m4 127 rfl) rfl
theorem q908 : (Jvm.Cond.instanceMethod ({ cls := "TearsQueue", name := "count", desc := "(I)I" } : Jvm.MethodName)) ∈ lw_all := lw_g (lw_at lw_m4 129 rfl) rfl
theorem q909 : (Jvm.Cond.selects "TearsQueue" ({ cls := "TearsQueue", name := "count", desc := "(I)I" } : Jvm.MethodName) ({ cls := "TearsQueue", name := "count", desc := "(I)I" } : Jvm.MethodName)) ∈ lw_all := lw_g (lw_at lw_m4 130 rfl) rfl
theorem q910 : (Jvm.Cond.code ({ cls := "TearsQueue", name := "count", desc := "(I)I" } : Jvm.MethodName) prog_1_method_63_code (7 : Nat) (Option.some Jvm.ClassFile.FieldType.int)) ∈ lw_all := lw_g (lw_at lw_m4 131 rfl) rfl
theorem in_X0 : ∀ w ∈ wsX00, w ∈ lw_all := lw_in wsX00 [199, 201, 203, 205, 207, 209, 211, 213, 215, 217, 219, 221, 223, 225, 227, 229, 231, 233, 235] (by decide +kernel) (by decide +kernel)
