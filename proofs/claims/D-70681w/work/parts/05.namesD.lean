/-! TearsQueue$Reader -/
set_option maxRecDepth 100000
def RX8 : String := "TearsQueue$Reader"
def TX8 : u_T := fun k => match k with
  | 0 => ("TearsQueue$Reader", "size", "I", true)
  | 1 => ("TearsQueue$Reader", "made", "LTearsQueue$Stop;", true)
  | 2 => ("TearsQueue$Reader", "lines", "I", false)
  | 3 => ("TearsQueue$Reader", "highest", "I", false)
  | 4 => ("TearsQueue$Reader", "at", "I", false)
  | 5 => ("TearsQueue$Reader", "from", "I", false)
  | 6 => ("TearsQueue$Reader", "sort", "I", false)
  | 7 => ("TearsQueue$Reader", "value", "I", false)
  | _ => ("TearsQueue$Reader", "this$0", "LTearsQueue;", true)
def tyX8 : Nat → FieldType := fun k => match k with
  | 0 => .int
  | 1 => .object "TearsQueue$Stop"
  | 2 => .int
  | 3 => .int
  | 4 => .int
  | 5 => .int
  | 6 => .int
  | 7 => .int
  | _ => .object "TearsQueue"
abbrev wsX80 : List Cond := u_ws RX8 TX8 9
theorem nmX8 : ∀ a, a < 9 → ∀ b, b < 9 → a ≠ b → (TX8 a).2.1 ≠ (TX8 b).2.1 := by decide +kernel
theorem tyX8_ok : ∀ k, k < 9 → parseFieldDescriptor (TX8 k).2.2.1 = some (tyX8 k) := by decide +kernel
abbrev cX8_init : ByteArray := prog_5_method_1_code
def yX8_init : MethodName := ⟨RX8, "<init>", "(LTearsQueue;I)V"⟩
def dkwX8_init_1 : List UInt8 := [181, 0, 22, 42, 28, 181, 0, 26, 42, 182, 0, 29, 177]
abbrev dktX8_init_1 : List UInt8 := dkwX8_init_1 ++ []
def dkwX8_init_0 : List UInt8 := [42, 43, 181, 0, 3, 42, 183, 0, 9, 42, 187, 0, 15, 89, 183, 0, 17, 181, 0, 18, 42, 16, 252]
abbrev dktX8_init_0 : List UInt8 := dkwX8_init_0 ++ dktX8_init_1
theorem dksX8_init_0 : cX8_init.data.toList.drop 0 = dktX8_init_0 := by decide +kernel
theorem dksX8_init_1 : cX8_init.data.toList.drop 23 = dktX8_init_1 := dk_seg dksX8_init_0 23 rfl rfl
theorem dX8_init_0 : decode cX8_init 0 = .ok (.aload_n 0, 1) := dk_42 (dk_at dksX8_init_0 0 rfl rfl)
theorem dX8_init_1 : decode cX8_init 1 = .ok (.aload_n 1, 1) := dk_43 (dk_at dksX8_init_0 1 rfl rfl)
theorem dX8_init_2 : decode cX8_init 2 = .ok (.putfield 3, 3) := dk_181 0 3 (dk_at dksX8_init_0 2 rfl rfl)
theorem dX8_init_5 : decode cX8_init 5 = .ok (.aload_n 0, 1) := dk_42 (dk_at dksX8_init_0 5 rfl rfl)
theorem dX8_init_6 : decode cX8_init 6 = .ok (.invokespecial 9, 3) := dk_183 0 9 (dk_at dksX8_init_0 6 rfl rfl)
theorem dX8_init_9 : decode cX8_init 9 = .ok (.aload_n 0, 1) := dk_42 (dk_at dksX8_init_0 9 rfl rfl)
theorem dX8_init_10 : decode cX8_init 10 = .ok (.new 15, 3) := dk_187 0 15 (dk_at dksX8_init_0 10 rfl rfl)
theorem dX8_init_13 : decode cX8_init 13 = .ok (.dup, 1) := dk_89 (dk_at dksX8_init_0 13 rfl rfl)
theorem dX8_init_14 : decode cX8_init 14 = .ok (.invokespecial 17, 3) := dk_183 0 17 (dk_at dksX8_init_0 14 rfl rfl)
theorem dX8_init_17 : decode cX8_init 17 = .ok (.putfield 18, 3) := dk_181 0 18 (dk_at dksX8_init_0 17 rfl rfl)
theorem dX8_init_20 : decode cX8_init 20 = .ok (.aload_n 0, 1) := dk_42 (dk_at dksX8_init_0 20 rfl rfl)
theorem dX8_init_21 : decode cX8_init 21 = .ok (.bipush (-4), 2) := dk_16 252 (dk_at dksX8_init_0 21 rfl rfl)
theorem dX8_init_23 : decode cX8_init 23 = .ok (.putfield 22, 3) := dk_181 0 22 (dk_at dksX8_init_1 0 rfl rfl)
theorem dX8_init_26 : decode cX8_init 26 = .ok (.aload_n 0, 1) := dk_42 (dk_at dksX8_init_1 3 rfl rfl)
theorem dX8_init_27 : decode cX8_init 27 = .ok (.iload_n 2, 1) := dk_28 (dk_at dksX8_init_1 4 rfl rfl)
theorem dX8_init_28 : decode cX8_init 28 = .ok (.putfield 26, 3) := dk_181 0 26 (dk_at dksX8_init_1 5 rfl rfl)
theorem dX8_init_31 : decode cX8_init 31 = .ok (.aload_n 0, 1) := dk_42 (dk_at dksX8_init_1 8 rfl rfl)
theorem dX8_init_32 : decode cX8_init 32 = .ok (.invokevirtual 29, 3) := dk_182 0 29 (dk_at dksX8_init_1 9 rfl rfl)
theorem dX8_init_35 : decode cX8_init 35 = .ok (.return_, 1) := dk_177 (dk_at dksX8_init_1 12 rfl rfl)
abbrev cX8_next : ByteArray := prog_5_method_6_code
def yX8_next : MethodName := ⟨RX8, "next", "()V"⟩
def dkwX8_next_10 : List UInt8 := [181, 0, 32, 177]
abbrev dktX8_next_10 : List UInt8 := dkwX8_next_10 ++ []
def dkwX8_next_9 : List UInt8 := [181, 0, 65, 42, 42, 16, 59, 16, 59, 182, 0, 78, 4, 182, 0, 85, 42, 89, 180, 0, 32, 4, 96]
abbrev dktX8_next_9 : List UInt8 := dkwX8_next_9 ++ dktX8_next_10
def dkwX8_next_8 : List UInt8 := [180, 0, 41, 100, 6, 162, 0, 7, 4, 167, 0, 4, 3, 4, 182, 0, 85, 167, 0, 31, 42, 6]
abbrev dktX8_next_8 : List UInt8 := dkwX8_next_8 ++ dktX8_next_9
def dkwX8_next_7 : List UInt8 := [181, 0, 82, 42, 89, 180, 0, 32, 4, 96, 181, 0, 32, 167, 255, 188, 42, 42, 180, 0, 32, 42]
abbrev dktX8_next_7 : List UInt8 := dkwX8_next_7 ++ dktX8_next_8
def dkwX8_next_6 : List UInt8 := [42, 180, 0, 3, 180, 0, 35, 42, 180, 0, 32, 51, 96, 16, 48, 100, 167, 0, 7, 42, 180, 0, 82]
abbrev dktX8_next_6 : List UInt8 := dkwX8_next_6 ++ dktX8_next_7
def dkwX8_next_5 : List UInt8 := [153, 0, 63, 42, 42, 180, 0, 32, 42, 180, 0, 41, 100, 5, 162, 0, 29, 16, 10, 42, 180, 0, 82, 104]
abbrev dktX8_next_5 : List UInt8 := dkwX8_next_5 ++ dktX8_next_6
def dkwX8_next_4 : List UInt8 := [182, 0, 78, 153, 0, 110, 42, 5, 181, 0, 65, 42, 3, 181, 0, 82, 42, 16, 48, 16, 57, 182, 0, 78]
abbrev dktX8_next_4 : List UInt8 := dkwX8_next_4 ++ dktX8_next_5
def dkwX8_next_3 : List UInt8 := [182, 0, 78, 153, 0, 162, 42, 89, 180, 0, 32, 4, 96, 181, 0, 32, 167, 255, 235, 42, 16, 48, 16, 57]
abbrev dktX8_next_3 : List UInt8 := dkwX8_next_3 ++ dktX8_next_4
def dkwX8_next_2 : List UInt8 := [167, 0, 189, 42, 16, 97, 16, 122, 182, 0, 78, 153, 0, 32, 42, 4, 181, 0, 65, 42, 16, 97, 16, 122]
abbrev dktX8_next_2 : List UInt8 := dkwX8_next_2 ++ dktX8_next_3
def dkwX8_next_1 : List UInt8 := [42, 42, 180, 0, 32, 181, 0, 41, 42, 180, 0, 32, 42, 180, 0, 26, 160, 0, 11, 42, 3, 181, 0, 65]
abbrev dktX8_next_1 : List UInt8 := dkwX8_next_1 ++ dktX8_next_2
def dkwX8_next_0 : List UInt8 := [42, 16, 32, 16, 32, 182, 0, 78, 153, 0, 16, 42, 89, 180, 0, 32, 4, 96, 181, 0, 32, 167, 255, 235]
abbrev dktX8_next_0 : List UInt8 := dkwX8_next_0 ++ dktX8_next_1
theorem dksX8_next_0 : cX8_next.data.toList.drop 0 = dktX8_next_0 := by decide +kernel
theorem dksX8_next_1 : cX8_next.data.toList.drop 24 = dktX8_next_1 := dk_seg dksX8_next_0 24 rfl rfl
theorem dksX8_next_2 : cX8_next.data.toList.drop 48 = dktX8_next_2 := dk_seg dksX8_next_1 24 rfl rfl
theorem dksX8_next_3 : cX8_next.data.toList.drop 72 = dktX8_next_3 := dk_seg dksX8_next_2 24 rfl rfl
theorem dksX8_next_4 : cX8_next.data.toList.drop 96 = dktX8_next_4 := dk_seg dksX8_next_3 24 rfl rfl
theorem dksX8_next_5 : cX8_next.data.toList.drop 120 = dktX8_next_5 := dk_seg dksX8_next_4 24 rfl rfl
theorem dksX8_next_6 : cX8_next.data.toList.drop 144 = dktX8_next_6 := dk_seg dksX8_next_5 24 rfl rfl
theorem dksX8_next_7 : cX8_next.data.toList.drop 167 = dktX8_next_7 := dk_seg dksX8_next_6 23 rfl rfl
theorem dksX8_next_8 : cX8_next.data.toList.drop 189 = dktX8_next_8 := dk_seg dksX8_next_7 22 rfl rfl
theorem dksX8_next_9 : cX8_next.data.toList.drop 211 = dktX8_next_9 := dk_seg dksX8_next_8 22 rfl rfl
theorem dksX8_next_10 : cX8_next.data.toList.drop 234 = dktX8_next_10 := dk_seg dksX8_next_9 23 rfl rfl
theorem dX8_next_0 : decode cX8_next 0 = .ok (.aload_n 0, 1) := dk_42 (dk_at dksX8_next_0 0 rfl rfl)
theorem dX8_next_1 : decode cX8_next 1 = .ok (.bipush 32, 2) := dk_16 32 (dk_at dksX8_next_0 1 rfl rfl)
theorem dX8_next_3 : decode cX8_next 3 = .ok (.bipush 32, 2) := dk_16 32 (dk_at dksX8_next_0 3 rfl rfl)
theorem dX8_next_5 : decode cX8_next 5 = .ok (.invokevirtual 78, 3) := dk_182 0 78 (dk_at dksX8_next_0 5 rfl rfl)
theorem dX8_next_8 : decode cX8_next 8 = .ok (.ifCond .eq 16, 3) := dk_153 0 16 (dk_at dksX8_next_0 8 rfl rfl)
theorem dX8_next_11 : decode cX8_next 11 = .ok (.aload_n 0, 1) := dk_42 (dk_at dksX8_next_0 11 rfl rfl)
theorem dX8_next_12 : decode cX8_next 12 = .ok (.dup, 1) := dk_89 (dk_at dksX8_next_0 12 rfl rfl)
theorem dX8_next_13 : decode cX8_next 13 = .ok (.getfield 32, 3) := dk_180 0 32 (dk_at dksX8_next_0 13 rfl rfl)
theorem dX8_next_16 : decode cX8_next 16 = .ok (.iconst 1, 1) := dk_4 (dk_at dksX8_next_0 16 rfl rfl)
theorem dX8_next_17 : decode cX8_next 17 = .ok (.iadd, 1) := dk_96 (dk_at dksX8_next_0 17 rfl rfl)
theorem dX8_next_18 : decode cX8_next 18 = .ok (.putfield 32, 3) := dk_181 0 32 (dk_at dksX8_next_0 18 rfl rfl)
theorem dX8_next_21 : decode cX8_next 21 = .ok (.goto (-21), 3) := dk_167 255 235 (dk_at dksX8_next_0 21 rfl rfl)
theorem dX8_next_24 : decode cX8_next 24 = .ok (.aload_n 0, 1) := dk_42 (dk_at dksX8_next_1 0 rfl rfl)
theorem dX8_next_25 : decode cX8_next 25 = .ok (.aload_n 0, 1) := dk_42 (dk_at dksX8_next_1 1 rfl rfl)
theorem dX8_next_26 : decode cX8_next 26 = .ok (.getfield 32, 3) := dk_180 0 32 (dk_at dksX8_next_1 2 rfl rfl)
theorem dX8_next_29 : decode cX8_next 29 = .ok (.putfield 41, 3) := dk_181 0 41 (dk_at dksX8_next_1 5 rfl rfl)
theorem dX8_next_32 : decode cX8_next 32 = .ok (.aload_n 0, 1) := dk_42 (dk_at dksX8_next_1 8 rfl rfl)
theorem dX8_next_33 : decode cX8_next 33 = .ok (.getfield 32, 3) := dk_180 0 32 (dk_at dksX8_next_1 9 rfl rfl)
theorem dX8_next_36 : decode cX8_next 36 = .ok (.aload_n 0, 1) := dk_42 (dk_at dksX8_next_1 12 rfl rfl)
theorem dX8_next_37 : decode cX8_next 37 = .ok (.getfield 26, 3) := dk_180 0 26 (dk_at dksX8_next_1 13 rfl rfl)
theorem dX8_next_40 : decode cX8_next 40 = .ok (.if_icmp .ne 11, 3) := dk_160 0 11 (dk_at dksX8_next_1 16 rfl rfl)
theorem dX8_next_43 : decode cX8_next 43 = .ok (.aload_n 0, 1) := dk_42 (dk_at dksX8_next_1 19 rfl rfl)
theorem dX8_next_44 : decode cX8_next 44 = .ok (.iconst 0, 1) := dk_3 (dk_at dksX8_next_1 20 rfl rfl)
theorem dX8_next_45 : decode cX8_next 45 = .ok (.putfield 65, 3) := dk_181 0 65 (dk_at dksX8_next_1 21 rfl rfl)
theorem dX8_next_48 : decode cX8_next 48 = .ok (.goto 189, 3) := dk_167 0 189 (dk_at dksX8_next_2 0 rfl rfl)
theorem dX8_next_51 : decode cX8_next 51 = .ok (.aload_n 0, 1) := dk_42 (dk_at dksX8_next_2 3 rfl rfl)
theorem dX8_next_52 : decode cX8_next 52 = .ok (.bipush 97, 2) := dk_16 97 (dk_at dksX8_next_2 4 rfl rfl)
theorem dX8_next_54 : decode cX8_next 54 = .ok (.bipush 122, 2) := dk_16 122 (dk_at dksX8_next_2 6 rfl rfl)
theorem dX8_next_56 : decode cX8_next 56 = .ok (.invokevirtual 78, 3) := dk_182 0 78 (dk_at dksX8_next_2 8 rfl rfl)
theorem dX8_next_59 : decode cX8_next 59 = .ok (.ifCond .eq 32, 3) := dk_153 0 32 (dk_at dksX8_next_2 11 rfl rfl)
theorem dX8_next_62 : decode cX8_next 62 = .ok (.aload_n 0, 1) := dk_42 (dk_at dksX8_next_2 14 rfl rfl)
theorem dX8_next_63 : decode cX8_next 63 = .ok (.iconst 1, 1) := dk_4 (dk_at dksX8_next_2 15 rfl rfl)
theorem dX8_next_64 : decode cX8_next 64 = .ok (.putfield 65, 3) := dk_181 0 65 (dk_at dksX8_next_2 16 rfl rfl)
theorem dX8_next_67 : decode cX8_next 67 = .ok (.aload_n 0, 1) := dk_42 (dk_at dksX8_next_2 19 rfl rfl)
theorem dX8_next_68 : decode cX8_next 68 = .ok (.bipush 97, 2) := dk_16 97 (dk_at dksX8_next_2 20 rfl rfl)
theorem dX8_next_70 : decode cX8_next 70 = .ok (.bipush 122, 2) := dk_16 122 (dk_at dksX8_next_2 22 rfl rfl)
theorem dX8_next_72 : decode cX8_next 72 = .ok (.invokevirtual 78, 3) := dk_182 0 78 (dk_at dksX8_next_3 0 rfl rfl)
theorem dX8_next_75 : decode cX8_next 75 = .ok (.ifCond .eq 162, 3) := dk_153 0 162 (dk_at dksX8_next_3 3 rfl rfl)
theorem dX8_next_78 : decode cX8_next 78 = .ok (.aload_n 0, 1) := dk_42 (dk_at dksX8_next_3 6 rfl rfl)
theorem dX8_next_79 : decode cX8_next 79 = .ok (.dup, 1) := dk_89 (dk_at dksX8_next_3 7 rfl rfl)
theorem dX8_next_80 : decode cX8_next 80 = .ok (.getfield 32, 3) := dk_180 0 32 (dk_at dksX8_next_3 8 rfl rfl)
theorem dX8_next_83 : decode cX8_next 83 = .ok (.iconst 1, 1) := dk_4 (dk_at dksX8_next_3 11 rfl rfl)
theorem dX8_next_84 : decode cX8_next 84 = .ok (.iadd, 1) := dk_96 (dk_at dksX8_next_3 12 rfl rfl)
theorem dX8_next_85 : decode cX8_next 85 = .ok (.putfield 32, 3) := dk_181 0 32 (dk_at dksX8_next_3 13 rfl rfl)
theorem dX8_next_88 : decode cX8_next 88 = .ok (.goto (-21), 3) := dk_167 255 235 (dk_at dksX8_next_3 16 rfl rfl)
theorem dX8_next_91 : decode cX8_next 91 = .ok (.aload_n 0, 1) := dk_42 (dk_at dksX8_next_3 19 rfl rfl)
theorem dX8_next_92 : decode cX8_next 92 = .ok (.bipush 48, 2) := dk_16 48 (dk_at dksX8_next_3 20 rfl rfl)
theorem dX8_next_94 : decode cX8_next 94 = .ok (.bipush 57, 2) := dk_16 57 (dk_at dksX8_next_3 22 rfl rfl)
theorem dX8_next_96 : decode cX8_next 96 = .ok (.invokevirtual 78, 3) := dk_182 0 78 (dk_at dksX8_next_4 0 rfl rfl)
theorem dX8_next_99 : decode cX8_next 99 = .ok (.ifCond .eq 110, 3) := dk_153 0 110 (dk_at dksX8_next_4 3 rfl rfl)
theorem dX8_next_102 : decode cX8_next 102 = .ok (.aload_n 0, 1) := dk_42 (dk_at dksX8_next_4 6 rfl rfl)
theorem dX8_next_103 : decode cX8_next 103 = .ok (.iconst 2, 1) := dk_5 (dk_at dksX8_next_4 7 rfl rfl)
theorem dX8_next_104 : decode cX8_next 104 = .ok (.putfield 65, 3) := dk_181 0 65 (dk_at dksX8_next_4 8 rfl rfl)
theorem dX8_next_107 : decode cX8_next 107 = .ok (.aload_n 0, 1) := dk_42 (dk_at dksX8_next_4 11 rfl rfl)
theorem dX8_next_108 : decode cX8_next 108 = .ok (.iconst 0, 1) := dk_3 (dk_at dksX8_next_4 12 rfl rfl)
theorem dX8_next_109 : decode cX8_next 109 = .ok (.putfield 82, 3) := dk_181 0 82 (dk_at dksX8_next_4 13 rfl rfl)
theorem dX8_next_112 : decode cX8_next 112 = .ok (.aload_n 0, 1) := dk_42 (dk_at dksX8_next_4 16 rfl rfl)
theorem dX8_next_113 : decode cX8_next 113 = .ok (.bipush 48, 2) := dk_16 48 (dk_at dksX8_next_4 17 rfl rfl)
theorem dX8_next_115 : decode cX8_next 115 = .ok (.bipush 57, 2) := dk_16 57 (dk_at dksX8_next_4 19 rfl rfl)
theorem dX8_next_117 : decode cX8_next 117 = .ok (.invokevirtual 78, 3) := dk_182 0 78 (dk_at dksX8_next_4 21 rfl rfl)
theorem dX8_next_120 : decode cX8_next 120 = .ok (.ifCond .eq 63, 3) := dk_153 0 63 (dk_at dksX8_next_5 0 rfl rfl)
theorem dX8_next_123 : decode cX8_next 123 = .ok (.aload_n 0, 1) := dk_42 (dk_at dksX8_next_5 3 rfl rfl)
theorem dX8_next_124 : decode cX8_next 124 = .ok (.aload_n 0, 1) := dk_42 (dk_at dksX8_next_5 4 rfl rfl)
theorem dX8_next_125 : decode cX8_next 125 = .ok (.getfield 32, 3) := dk_180 0 32 (dk_at dksX8_next_5 5 rfl rfl)
theorem dX8_next_128 : decode cX8_next 128 = .ok (.aload_n 0, 1) := dk_42 (dk_at dksX8_next_5 8 rfl rfl)
theorem dX8_next_129 : decode cX8_next 129 = .ok (.getfield 41, 3) := dk_180 0 41 (dk_at dksX8_next_5 9 rfl rfl)
theorem dX8_next_132 : decode cX8_next 132 = .ok (.isub, 1) := dk_100 (dk_at dksX8_next_5 12 rfl rfl)
theorem dX8_next_133 : decode cX8_next 133 = .ok (.iconst 2, 1) := dk_5 (dk_at dksX8_next_5 13 rfl rfl)
theorem dX8_next_134 : decode cX8_next 134 = .ok (.if_icmp .ge 29, 3) := dk_162 0 29 (dk_at dksX8_next_5 14 rfl rfl)
theorem dX8_next_137 : decode cX8_next 137 = .ok (.bipush 10, 2) := dk_16 10 (dk_at dksX8_next_5 17 rfl rfl)
theorem dX8_next_139 : decode cX8_next 139 = .ok (.aload_n 0, 1) := dk_42 (dk_at dksX8_next_5 19 rfl rfl)
theorem dX8_next_140 : decode cX8_next 140 = .ok (.getfield 82, 3) := dk_180 0 82 (dk_at dksX8_next_5 20 rfl rfl)
theorem dX8_next_143 : decode cX8_next 143 = .ok (.imul, 1) := dk_104 (dk_at dksX8_next_5 23 rfl rfl)
theorem dX8_next_144 : decode cX8_next 144 = .ok (.aload_n 0, 1) := dk_42 (dk_at dksX8_next_6 0 rfl rfl)
theorem dX8_next_145 : decode cX8_next 145 = .ok (.getfield 3, 3) := dk_180 0 3 (dk_at dksX8_next_6 1 rfl rfl)
theorem dX8_next_148 : decode cX8_next 148 = .ok (.getfield 35, 3) := dk_180 0 35 (dk_at dksX8_next_6 4 rfl rfl)
theorem dX8_next_151 : decode cX8_next 151 = .ok (.aload_n 0, 1) := dk_42 (dk_at dksX8_next_6 7 rfl rfl)
theorem dX8_next_152 : decode cX8_next 152 = .ok (.getfield 32, 3) := dk_180 0 32 (dk_at dksX8_next_6 8 rfl rfl)
theorem dX8_next_155 : decode cX8_next 155 = .ok (.baload, 1) := dk_51 (dk_at dksX8_next_6 11 rfl rfl)
theorem dX8_next_156 : decode cX8_next 156 = .ok (.iadd, 1) := dk_96 (dk_at dksX8_next_6 12 rfl rfl)
theorem dX8_next_157 : decode cX8_next 157 = .ok (.bipush 48, 2) := dk_16 48 (dk_at dksX8_next_6 13 rfl rfl)
theorem dX8_next_159 : decode cX8_next 159 = .ok (.isub, 1) := dk_100 (dk_at dksX8_next_6 15 rfl rfl)
theorem dX8_next_160 : decode cX8_next 160 = .ok (.goto 7, 3) := dk_167 0 7 (dk_at dksX8_next_6 16 rfl rfl)
theorem dX8_next_163 : decode cX8_next 163 = .ok (.aload_n 0, 1) := dk_42 (dk_at dksX8_next_6 19 rfl rfl)
theorem dX8_next_164 : decode cX8_next 164 = .ok (.getfield 82, 3) := dk_180 0 82 (dk_at dksX8_next_6 20 rfl rfl)
theorem dX8_next_167 : decode cX8_next 167 = .ok (.putfield 82, 3) := dk_181 0 82 (dk_at dksX8_next_7 0 rfl rfl)
theorem dX8_next_170 : decode cX8_next 170 = .ok (.aload_n 0, 1) := dk_42 (dk_at dksX8_next_7 3 rfl rfl)
theorem dX8_next_171 : decode cX8_next 171 = .ok (.dup, 1) := dk_89 (dk_at dksX8_next_7 4 rfl rfl)
theorem dX8_next_172 : decode cX8_next 172 = .ok (.getfield 32, 3) := dk_180 0 32 (dk_at dksX8_next_7 5 rfl rfl)
theorem dX8_next_175 : decode cX8_next 175 = .ok (.iconst 1, 1) := dk_4 (dk_at dksX8_next_7 8 rfl rfl)
theorem dX8_next_176 : decode cX8_next 176 = .ok (.iadd, 1) := dk_96 (dk_at dksX8_next_7 9 rfl rfl)
theorem dX8_next_177 : decode cX8_next 177 = .ok (.putfield 32, 3) := dk_181 0 32 (dk_at dksX8_next_7 10 rfl rfl)
theorem dX8_next_180 : decode cX8_next 180 = .ok (.goto (-68), 3) := dk_167 255 188 (dk_at dksX8_next_7 13 rfl rfl)
theorem dX8_next_183 : decode cX8_next 183 = .ok (.aload_n 0, 1) := dk_42 (dk_at dksX8_next_7 16 rfl rfl)
theorem dX8_next_184 : decode cX8_next 184 = .ok (.aload_n 0, 1) := dk_42 (dk_at dksX8_next_7 17 rfl rfl)
theorem dX8_next_185 : decode cX8_next 185 = .ok (.getfield 32, 3) := dk_180 0 32 (dk_at dksX8_next_7 18 rfl rfl)
theorem dX8_next_188 : decode cX8_next 188 = .ok (.aload_n 0, 1) := dk_42 (dk_at dksX8_next_7 21 rfl rfl)
theorem dX8_next_189 : decode cX8_next 189 = .ok (.getfield 41, 3) := dk_180 0 41 (dk_at dksX8_next_8 0 rfl rfl)
theorem dX8_next_192 : decode cX8_next 192 = .ok (.isub, 1) := dk_100 (dk_at dksX8_next_8 3 rfl rfl)
theorem dX8_next_193 : decode cX8_next 193 = .ok (.iconst 3, 1) := dk_6 (dk_at dksX8_next_8 4 rfl rfl)
theorem dX8_next_194 : decode cX8_next 194 = .ok (.if_icmp .ge 7, 3) := dk_162 0 7 (dk_at dksX8_next_8 5 rfl rfl)
theorem dX8_next_197 : decode cX8_next 197 = .ok (.iconst 1, 1) := dk_4 (dk_at dksX8_next_8 8 rfl rfl)
theorem dX8_next_198 : decode cX8_next 198 = .ok (.goto 4, 3) := dk_167 0 4 (dk_at dksX8_next_8 9 rfl rfl)
theorem dX8_next_201 : decode cX8_next 201 = .ok (.iconst 0, 1) := dk_3 (dk_at dksX8_next_8 12 rfl rfl)
theorem dX8_next_202 : decode cX8_next 202 = .ok (.iconst 1, 1) := dk_4 (dk_at dksX8_next_8 13 rfl rfl)
theorem dX8_next_203 : decode cX8_next 203 = .ok (.invokevirtual 85, 3) := dk_182 0 85 (dk_at dksX8_next_8 14 rfl rfl)
theorem dX8_next_206 : decode cX8_next 206 = .ok (.goto 31, 3) := dk_167 0 31 (dk_at dksX8_next_8 17 rfl rfl)
theorem dX8_next_209 : decode cX8_next 209 = .ok (.aload_n 0, 1) := dk_42 (dk_at dksX8_next_8 20 rfl rfl)
theorem dX8_next_210 : decode cX8_next 210 = .ok (.iconst 3, 1) := dk_6 (dk_at dksX8_next_8 21 rfl rfl)
theorem dX8_next_211 : decode cX8_next 211 = .ok (.putfield 65, 3) := dk_181 0 65 (dk_at dksX8_next_9 0 rfl rfl)
theorem dX8_next_214 : decode cX8_next 214 = .ok (.aload_n 0, 1) := dk_42 (dk_at dksX8_next_9 3 rfl rfl)
theorem dX8_next_215 : decode cX8_next 215 = .ok (.aload_n 0, 1) := dk_42 (dk_at dksX8_next_9 4 rfl rfl)
theorem dX8_next_216 : decode cX8_next 216 = .ok (.bipush 59, 2) := dk_16 59 (dk_at dksX8_next_9 5 rfl rfl)
theorem dX8_next_218 : decode cX8_next 218 = .ok (.bipush 59, 2) := dk_16 59 (dk_at dksX8_next_9 7 rfl rfl)
theorem dX8_next_220 : decode cX8_next 220 = .ok (.invokevirtual 78, 3) := dk_182 0 78 (dk_at dksX8_next_9 9 rfl rfl)
theorem dX8_next_223 : decode cX8_next 223 = .ok (.iconst 1, 1) := dk_4 (dk_at dksX8_next_9 12 rfl rfl)
theorem dX8_next_224 : decode cX8_next 224 = .ok (.invokevirtual 85, 3) := dk_182 0 85 (dk_at dksX8_next_9 13 rfl rfl)
theorem dX8_next_227 : decode cX8_next 227 = .ok (.aload_n 0, 1) := dk_42 (dk_at dksX8_next_9 16 rfl rfl)
theorem dX8_next_228 : decode cX8_next 228 = .ok (.dup, 1) := dk_89 (dk_at dksX8_next_9 17 rfl rfl)
theorem dX8_next_229 : decode cX8_next 229 = .ok (.getfield 32, 3) := dk_180 0 32 (dk_at dksX8_next_9 18 rfl rfl)
theorem dX8_next_232 : decode cX8_next 232 = .ok (.iconst 1, 1) := dk_4 (dk_at dksX8_next_9 21 rfl rfl)
theorem dX8_next_233 : decode cX8_next 233 = .ok (.iadd, 1) := dk_96 (dk_at dksX8_next_9 22 rfl rfl)
theorem dX8_next_234 : decode cX8_next 234 = .ok (.putfield 32, 3) := dk_181 0 32 (dk_at dksX8_next_10 0 rfl rfl)
theorem dX8_next_237 : decode cX8_next 237 = .ok (.return_, 1) := dk_177 (dk_at dksX8_next_10 3 rfl rfl)
abbrev cX8_isIn : ByteArray := prog_5_method_2_code
def yX8_isIn : MethodName := ⟨RX8, "isIn", "(CC)Z"⟩
def dkwX8_isIn_2 : List UInt8 := [172]
abbrev dktX8_isIn_2 : List UInt8 := dkwX8_isIn_2 ++ []
def dkwX8_isIn_1 : List UInt8 := [161, 0, 23, 42, 180, 0, 3, 180, 0, 35, 42, 180, 0, 32, 51, 28, 163, 0, 7, 4, 167, 0, 4, 3]
abbrev dktX8_isIn_1 : List UInt8 := dkwX8_isIn_1 ++ dktX8_isIn_2
def dkwX8_isIn_0 : List UInt8 := [42, 180, 0, 32, 42, 180, 0, 26, 162, 0, 39, 42, 180, 0, 3, 180, 0, 35, 42, 180, 0, 32, 51, 27]
abbrev dktX8_isIn_0 : List UInt8 := dkwX8_isIn_0 ++ dktX8_isIn_1
theorem dksX8_isIn_0 : cX8_isIn.data.toList.drop 0 = dktX8_isIn_0 := by decide +kernel
theorem dksX8_isIn_1 : cX8_isIn.data.toList.drop 24 = dktX8_isIn_1 := dk_seg dksX8_isIn_0 24 rfl rfl
theorem dksX8_isIn_2 : cX8_isIn.data.toList.drop 48 = dktX8_isIn_2 := dk_seg dksX8_isIn_1 24 rfl rfl
theorem dX8_isIn_0 : decode cX8_isIn 0 = .ok (.aload_n 0, 1) := dk_42 (dk_at dksX8_isIn_0 0 rfl rfl)
theorem dX8_isIn_1 : decode cX8_isIn 1 = .ok (.getfield 32, 3) := dk_180 0 32 (dk_at dksX8_isIn_0 1 rfl rfl)
theorem dX8_isIn_4 : decode cX8_isIn 4 = .ok (.aload_n 0, 1) := dk_42 (dk_at dksX8_isIn_0 4 rfl rfl)
theorem dX8_isIn_5 : decode cX8_isIn 5 = .ok (.getfield 26, 3) := dk_180 0 26 (dk_at dksX8_isIn_0 5 rfl rfl)
theorem dX8_isIn_8 : decode cX8_isIn 8 = .ok (.if_icmp .ge 39, 3) := dk_162 0 39 (dk_at dksX8_isIn_0 8 rfl rfl)
theorem dX8_isIn_11 : decode cX8_isIn 11 = .ok (.aload_n 0, 1) := dk_42 (dk_at dksX8_isIn_0 11 rfl rfl)
theorem dX8_isIn_12 : decode cX8_isIn 12 = .ok (.getfield 3, 3) := dk_180 0 3 (dk_at dksX8_isIn_0 12 rfl rfl)
theorem dX8_isIn_15 : decode cX8_isIn 15 = .ok (.getfield 35, 3) := dk_180 0 35 (dk_at dksX8_isIn_0 15 rfl rfl)
theorem dX8_isIn_18 : decode cX8_isIn 18 = .ok (.aload_n 0, 1) := dk_42 (dk_at dksX8_isIn_0 18 rfl rfl)
theorem dX8_isIn_19 : decode cX8_isIn 19 = .ok (.getfield 32, 3) := dk_180 0 32 (dk_at dksX8_isIn_0 19 rfl rfl)
theorem dX8_isIn_22 : decode cX8_isIn 22 = .ok (.baload, 1) := dk_51 (dk_at dksX8_isIn_0 22 rfl rfl)
theorem dX8_isIn_23 : decode cX8_isIn 23 = .ok (.iload_n 1, 1) := dk_27 (dk_at dksX8_isIn_0 23 rfl rfl)
theorem dX8_isIn_24 : decode cX8_isIn 24 = .ok (.if_icmp .lt 23, 3) := dk_161 0 23 (dk_at dksX8_isIn_1 0 rfl rfl)
theorem dX8_isIn_27 : decode cX8_isIn 27 = .ok (.aload_n 0, 1) := dk_42 (dk_at dksX8_isIn_1 3 rfl rfl)
theorem dX8_isIn_28 : decode cX8_isIn 28 = .ok (.getfield 3, 3) := dk_180 0 3 (dk_at dksX8_isIn_1 4 rfl rfl)
theorem dX8_isIn_31 : decode cX8_isIn 31 = .ok (.getfield 35, 3) := dk_180 0 35 (dk_at dksX8_isIn_1 7 rfl rfl)
theorem dX8_isIn_34 : decode cX8_isIn 34 = .ok (.aload_n 0, 1) := dk_42 (dk_at dksX8_isIn_1 10 rfl rfl)
theorem dX8_isIn_35 : decode cX8_isIn 35 = .ok (.getfield 32, 3) := dk_180 0 32 (dk_at dksX8_isIn_1 11 rfl rfl)
theorem dX8_isIn_38 : decode cX8_isIn 38 = .ok (.baload, 1) := dk_51 (dk_at dksX8_isIn_1 14 rfl rfl)
theorem dX8_isIn_39 : decode cX8_isIn 39 = .ok (.iload_n 2, 1) := dk_28 (dk_at dksX8_isIn_1 15 rfl rfl)
theorem dX8_isIn_40 : decode cX8_isIn 40 = .ok (.if_icmp .gt 7, 3) := dk_163 0 7 (dk_at dksX8_isIn_1 16 rfl rfl)
theorem dX8_isIn_43 : decode cX8_isIn 43 = .ok (.iconst 1, 1) := dk_4 (dk_at dksX8_isIn_1 19 rfl rfl)
theorem dX8_isIn_44 : decode cX8_isIn 44 = .ok (.goto 4, 3) := dk_167 0 4 (dk_at dksX8_isIn_1 20 rfl rfl)
theorem dX8_isIn_47 : decode cX8_isIn 47 = .ok (.iconst 0, 1) := dk_3 (dk_at dksX8_isIn_1 23 rfl rfl)
theorem dX8_isIn_48 : decode cX8_isIn 48 = .ok (.ireturn, 1) := dk_172 (dk_at dksX8_isIn_2 0 rfl rfl)
abbrev cX8_need : ByteArray := prog_5_method_3_code
def yX8_need : MethodName := ⟨RX8, "need", "(ZI)V"⟩
def dkwX8_need_0 : List UInt8 := [27, 154, 0, 16, 187, 0, 39, 89, 28, 42, 180, 0, 41, 183, 0, 44, 191, 177]
abbrev dktX8_need_0 : List UInt8 := dkwX8_need_0 ++ []
theorem dksX8_need_0 : cX8_need.data.toList.drop 0 = dktX8_need_0 := by decide +kernel
theorem dX8_need_0 : decode cX8_need 0 = .ok (.iload_n 1, 1) := dk_27 (dk_at dksX8_need_0 0 rfl rfl)
theorem dX8_need_1 : decode cX8_need 1 = .ok (.ifCond .ne 16, 3) := dk_154 0 16 (dk_at dksX8_need_0 1 rfl rfl)
theorem dX8_need_4 : decode cX8_need 4 = .ok (.new 39, 3) := dk_187 0 39 (dk_at dksX8_need_0 4 rfl rfl)
theorem dX8_need_7 : decode cX8_need 7 = .ok (.dup, 1) := dk_89 (dk_at dksX8_need_0 7 rfl rfl)
theorem dX8_need_8 : decode cX8_need 8 = .ok (.iload_n 2, 1) := dk_28 (dk_at dksX8_need_0 8 rfl rfl)
theorem dX8_need_9 : decode cX8_need 9 = .ok (.aload_n 0, 1) := dk_42 (dk_at dksX8_need_0 9 rfl rfl)
theorem dX8_need_10 : decode cX8_need 10 = .ok (.getfield 41, 3) := dk_180 0 41 (dk_at dksX8_need_0 10 rfl rfl)
theorem dX8_need_13 : decode cX8_need 13 = .ok (.invokespecial 44, 3) := dk_183 0 44 (dk_at dksX8_need_0 13 rfl rfl)
theorem dX8_need_16 : decode cX8_need 16 = .ok (.athrow, 1) := dk_191 (dk_at dksX8_need_0 16 rfl rfl)
theorem dX8_need_17 : decode cX8_need 17 = .ok (.return_, 1) := dk_177 (dk_at dksX8_need_0 17 rfl rfl)
abbrev cX8_lines : ByteArray := prog_5_method_12_code
def yX8_lines : MethodName := ⟨RX8, "lines", "()I"⟩
def dkwX8_lines_1 : List UInt8 := [42, 180, 0, 18, 180, 0, 116, 162, 0, 7, 4, 167, 0, 4, 3, 16, 6, 182, 0, 85, 27, 172]
abbrev dktX8_lines_1 : List UInt8 := dkwX8_lines_1 ++ []
def dkwX8_lines_0 : List UInt8 := [3, 60, 42, 180, 0, 65, 153, 0, 13, 42, 182, 0, 138, 132, 1, 1, 167, 255, 242, 42, 42, 180, 0, 22]
abbrev dktX8_lines_0 : List UInt8 := dkwX8_lines_0 ++ dktX8_lines_1
theorem dksX8_lines_0 : cX8_lines.data.toList.drop 0 = dktX8_lines_0 := by decide +kernel
theorem dksX8_lines_1 : cX8_lines.data.toList.drop 24 = dktX8_lines_1 := dk_seg dksX8_lines_0 24 rfl rfl
theorem dX8_lines_0 : decode cX8_lines 0 = .ok (.iconst 0, 1) := dk_3 (dk_at dksX8_lines_0 0 rfl rfl)
theorem dX8_lines_1 : decode cX8_lines 1 = .ok (.istore_n 1, 1) := dk_60 (dk_at dksX8_lines_0 1 rfl rfl)
theorem dX8_lines_2 : decode cX8_lines 2 = .ok (.aload_n 0, 1) := dk_42 (dk_at dksX8_lines_0 2 rfl rfl)
theorem dX8_lines_3 : decode cX8_lines 3 = .ok (.getfield 65, 3) := dk_180 0 65 (dk_at dksX8_lines_0 3 rfl rfl)
theorem dX8_lines_6 : decode cX8_lines 6 = .ok (.ifCond .eq 13, 3) := dk_153 0 13 (dk_at dksX8_lines_0 6 rfl rfl)
theorem dX8_lines_9 : decode cX8_lines 9 = .ok (.aload_n 0, 1) := dk_42 (dk_at dksX8_lines_0 9 rfl rfl)
theorem dX8_lines_10 : decode cX8_lines 10 = .ok (.invokevirtual 138, 3) := dk_182 0 138 (dk_at dksX8_lines_0 10 rfl rfl)
theorem dX8_lines_13 : decode cX8_lines 13 = .ok (.iinc 1 1, 3) := dk_132 1 1 (dk_at dksX8_lines_0 13 rfl rfl)
theorem dX8_lines_16 : decode cX8_lines 16 = .ok (.goto (-14), 3) := dk_167 255 242 (dk_at dksX8_lines_0 16 rfl rfl)
theorem dX8_lines_19 : decode cX8_lines 19 = .ok (.aload_n 0, 1) := dk_42 (dk_at dksX8_lines_0 19 rfl rfl)
theorem dX8_lines_20 : decode cX8_lines 20 = .ok (.aload_n 0, 1) := dk_42 (dk_at dksX8_lines_0 20 rfl rfl)
theorem dX8_lines_21 : decode cX8_lines 21 = .ok (.getfield 22, 3) := dk_180 0 22 (dk_at dksX8_lines_0 21 rfl rfl)
theorem dX8_lines_24 : decode cX8_lines 24 = .ok (.aload_n 0, 1) := dk_42 (dk_at dksX8_lines_1 0 rfl rfl)
theorem dX8_lines_25 : decode cX8_lines 25 = .ok (.getfield 18, 3) := dk_180 0 18 (dk_at dksX8_lines_1 1 rfl rfl)
theorem dX8_lines_28 : decode cX8_lines 28 = .ok (.getfield 116, 3) := dk_180 0 116 (dk_at dksX8_lines_1 4 rfl rfl)
theorem dX8_lines_31 : decode cX8_lines 31 = .ok (.if_icmp .ge 7, 3) := dk_162 0 7 (dk_at dksX8_lines_1 7 rfl rfl)
theorem dX8_lines_34 : decode cX8_lines 34 = .ok (.iconst 1, 1) := dk_4 (dk_at dksX8_lines_1 10 rfl rfl)
theorem dX8_lines_35 : decode cX8_lines 35 = .ok (.goto 4, 3) := dk_167 0 4 (dk_at dksX8_lines_1 11 rfl rfl)
theorem dX8_lines_38 : decode cX8_lines 38 = .ok (.iconst 0, 1) := dk_3 (dk_at dksX8_lines_1 14 rfl rfl)
theorem dX8_lines_39 : decode cX8_lines 39 = .ok (.bipush 6, 2) := dk_16 6 (dk_at dksX8_lines_1 15 rfl rfl)
theorem dX8_lines_41 : decode cX8_lines 41 = .ok (.invokevirtual 85, 3) := dk_182 0 85 (dk_at dksX8_lines_1 17 rfl rfl)
theorem dX8_lines_44 : decode cX8_lines 44 = .ok (.iload_n 1, 1) := dk_27 (dk_at dksX8_lines_1 20 rfl rfl)
theorem dX8_lines_45 : decode cX8_lines 45 = .ok (.ireturn, 1) := dk_172 (dk_at dksX8_lines_1 21 rfl rfl)
abbrev cX8_line : ByteArray := prog_5_method_11_code
def yX8_line : MethodName := ⟨RX8, "line", "()V"⟩
def dkwX8_line_5 : List UInt8 := [160, 0, 7, 4, 167, 0, 4, 3, 5, 182, 0, 85, 42, 182, 0, 29, 177]
abbrev dktX8_line_5 : List UInt8 := dkwX8_line_5 ++ []
def dkwX8_line_4 : List UInt8 := [4, 27, 120, 128, 181, 0, 127, 42, 182, 0, 29, 42, 27, 182, 0, 134, 42, 42, 180, 0, 65, 6]
abbrev dktX8_line_4 : List UInt8 := dkwX8_line_4 ++ dktX8_line_5
def dkwX8_line_3 : List UInt8 := [180, 0, 127, 27, 184, 0, 130, 154, 0, 7, 4, 167, 0, 4, 3, 7, 182, 0, 85, 42, 89, 180, 0, 127]
abbrev dktX8_line_3 : List UInt8 := dkwX8_line_3 ++ dktX8_line_4
def dkwX8_line_2 : List UInt8 := [180, 0, 116, 8, 162, 0, 7, 4, 167, 0, 4, 3, 8, 182, 0, 85, 42, 27, 7, 161, 0, 14, 42]
abbrev dktX8_line_2 : List UInt8 := dkwX8_line_2 ++ dktX8_line_3
def dkwX8_line_1 : List UInt8 := [16, 6, 163, 0, 7, 4, 167, 0, 4, 3, 5, 182, 0, 85, 42, 27, 7, 162, 0, 14, 42, 180, 0, 18]
abbrev dktX8_line_1 : List UInt8 := dkwX8_line_1 ++ dktX8_line_2
def dkwX8_line_0 : List UInt8 := [3, 60, 27, 16, 6, 163, 0, 17, 42, 27, 182, 0, 123, 154, 0, 9, 132, 1, 1, 167, 255, 239, 42, 27]
abbrev dktX8_line_0 : List UInt8 := dkwX8_line_0 ++ dktX8_line_1
theorem dksX8_line_0 : cX8_line.data.toList.drop 0 = dktX8_line_0 := by decide +kernel
theorem dksX8_line_1 : cX8_line.data.toList.drop 24 = dktX8_line_1 := dk_seg dksX8_line_0 24 rfl rfl
theorem dksX8_line_2 : cX8_line.data.toList.drop 48 = dktX8_line_2 := dk_seg dksX8_line_1 24 rfl rfl
theorem dksX8_line_3 : cX8_line.data.toList.drop 71 = dktX8_line_3 := dk_seg dksX8_line_2 23 rfl rfl
theorem dksX8_line_4 : cX8_line.data.toList.drop 95 = dktX8_line_4 := dk_seg dksX8_line_3 24 rfl rfl
theorem dksX8_line_5 : cX8_line.data.toList.drop 117 = dktX8_line_5 := dk_seg dksX8_line_4 22 rfl rfl
theorem dX8_line_0 : decode cX8_line 0 = .ok (.iconst 0, 1) := dk_3 (dk_at dksX8_line_0 0 rfl rfl)
theorem dX8_line_1 : decode cX8_line 1 = .ok (.istore_n 1, 1) := dk_60 (dk_at dksX8_line_0 1 rfl rfl)
theorem dX8_line_2 : decode cX8_line 2 = .ok (.iload_n 1, 1) := dk_27 (dk_at dksX8_line_0 2 rfl rfl)
theorem dX8_line_3 : decode cX8_line 3 = .ok (.bipush 6, 2) := dk_16 6 (dk_at dksX8_line_0 3 rfl rfl)
theorem dX8_line_5 : decode cX8_line 5 = .ok (.if_icmp .gt 17, 3) := dk_163 0 17 (dk_at dksX8_line_0 5 rfl rfl)
theorem dX8_line_8 : decode cX8_line 8 = .ok (.aload_n 0, 1) := dk_42 (dk_at dksX8_line_0 8 rfl rfl)
theorem dX8_line_9 : decode cX8_line 9 = .ok (.iload_n 1, 1) := dk_27 (dk_at dksX8_line_0 9 rfl rfl)
theorem dX8_line_10 : decode cX8_line 10 = .ok (.invokevirtual 123, 3) := dk_182 0 123 (dk_at dksX8_line_0 10 rfl rfl)
theorem dX8_line_13 : decode cX8_line 13 = .ok (.ifCond .ne 9, 3) := dk_154 0 9 (dk_at dksX8_line_0 13 rfl rfl)
theorem dX8_line_16 : decode cX8_line 16 = .ok (.iinc 1 1, 3) := dk_132 1 1 (dk_at dksX8_line_0 16 rfl rfl)
theorem dX8_line_19 : decode cX8_line 19 = .ok (.goto (-17), 3) := dk_167 255 239 (dk_at dksX8_line_0 19 rfl rfl)
theorem dX8_line_22 : decode cX8_line 22 = .ok (.aload_n 0, 1) := dk_42 (dk_at dksX8_line_0 22 rfl rfl)
theorem dX8_line_23 : decode cX8_line 23 = .ok (.iload_n 1, 1) := dk_27 (dk_at dksX8_line_0 23 rfl rfl)
theorem dX8_line_24 : decode cX8_line 24 = .ok (.bipush 6, 2) := dk_16 6 (dk_at dksX8_line_1 0 rfl rfl)
theorem dX8_line_26 : decode cX8_line 26 = .ok (.if_icmp .gt 7, 3) := dk_163 0 7 (dk_at dksX8_line_1 2 rfl rfl)
theorem dX8_line_29 : decode cX8_line 29 = .ok (.iconst 1, 1) := dk_4 (dk_at dksX8_line_1 5 rfl rfl)
theorem dX8_line_30 : decode cX8_line 30 = .ok (.goto 4, 3) := dk_167 0 4 (dk_at dksX8_line_1 6 rfl rfl)
theorem dX8_line_33 : decode cX8_line 33 = .ok (.iconst 0, 1) := dk_3 (dk_at dksX8_line_1 9 rfl rfl)
theorem dX8_line_34 : decode cX8_line 34 = .ok (.iconst 2, 1) := dk_5 (dk_at dksX8_line_1 10 rfl rfl)
theorem dX8_line_35 : decode cX8_line 35 = .ok (.invokevirtual 85, 3) := dk_182 0 85 (dk_at dksX8_line_1 11 rfl rfl)
theorem dX8_line_38 : decode cX8_line 38 = .ok (.aload_n 0, 1) := dk_42 (dk_at dksX8_line_1 14 rfl rfl)
theorem dX8_line_39 : decode cX8_line 39 = .ok (.iload_n 1, 1) := dk_27 (dk_at dksX8_line_1 15 rfl rfl)
theorem dX8_line_40 : decode cX8_line 40 = .ok (.iconst 4, 1) := dk_7 (dk_at dksX8_line_1 16 rfl rfl)
theorem dX8_line_41 : decode cX8_line 41 = .ok (.if_icmp .ge 14, 3) := dk_162 0 14 (dk_at dksX8_line_1 17 rfl rfl)
theorem dX8_line_44 : decode cX8_line 44 = .ok (.aload_n 0, 1) := dk_42 (dk_at dksX8_line_1 20 rfl rfl)
theorem dX8_line_45 : decode cX8_line 45 = .ok (.getfield 18, 3) := dk_180 0 18 (dk_at dksX8_line_1 21 rfl rfl)
theorem dX8_line_48 : decode cX8_line 48 = .ok (.getfield 116, 3) := dk_180 0 116 (dk_at dksX8_line_2 0 rfl rfl)
theorem dX8_line_51 : decode cX8_line 51 = .ok (.iconst 5, 1) := dk_8 (dk_at dksX8_line_2 3 rfl rfl)
theorem dX8_line_52 : decode cX8_line 52 = .ok (.if_icmp .ge 7, 3) := dk_162 0 7 (dk_at dksX8_line_2 4 rfl rfl)
theorem dX8_line_55 : decode cX8_line 55 = .ok (.iconst 1, 1) := dk_4 (dk_at dksX8_line_2 7 rfl rfl)
theorem dX8_line_56 : decode cX8_line 56 = .ok (.goto 4, 3) := dk_167 0 4 (dk_at dksX8_line_2 8 rfl rfl)
theorem dX8_line_59 : decode cX8_line 59 = .ok (.iconst 0, 1) := dk_3 (dk_at dksX8_line_2 11 rfl rfl)
theorem dX8_line_60 : decode cX8_line 60 = .ok (.iconst 5, 1) := dk_8 (dk_at dksX8_line_2 12 rfl rfl)
theorem dX8_line_61 : decode cX8_line 61 = .ok (.invokevirtual 85, 3) := dk_182 0 85 (dk_at dksX8_line_2 13 rfl rfl)
theorem dX8_line_64 : decode cX8_line 64 = .ok (.aload_n 0, 1) := dk_42 (dk_at dksX8_line_2 16 rfl rfl)
theorem dX8_line_65 : decode cX8_line 65 = .ok (.iload_n 1, 1) := dk_27 (dk_at dksX8_line_2 17 rfl rfl)
theorem dX8_line_66 : decode cX8_line 66 = .ok (.iconst 4, 1) := dk_7 (dk_at dksX8_line_2 18 rfl rfl)
theorem dX8_line_67 : decode cX8_line 67 = .ok (.if_icmp .lt 14, 3) := dk_161 0 14 (dk_at dksX8_line_2 19 rfl rfl)
theorem dX8_line_70 : decode cX8_line 70 = .ok (.aload_n 0, 1) := dk_42 (dk_at dksX8_line_2 22 rfl rfl)
theorem dX8_line_71 : decode cX8_line 71 = .ok (.getfield 127, 3) := dk_180 0 127 (dk_at dksX8_line_3 0 rfl rfl)
theorem dX8_line_74 : decode cX8_line 74 = .ok (.iload_n 1, 1) := dk_27 (dk_at dksX8_line_3 3 rfl rfl)
theorem dX8_line_75 : decode cX8_line 75 = .ok (.invokestatic 130, 3) := dk_184 0 130 (dk_at dksX8_line_3 4 rfl rfl)
theorem dX8_line_78 : decode cX8_line 78 = .ok (.ifCond .ne 7, 3) := dk_154 0 7 (dk_at dksX8_line_3 7 rfl rfl)
theorem dX8_line_81 : decode cX8_line 81 = .ok (.iconst 1, 1) := dk_4 (dk_at dksX8_line_3 10 rfl rfl)
theorem dX8_line_82 : decode cX8_line 82 = .ok (.goto 4, 3) := dk_167 0 4 (dk_at dksX8_line_3 11 rfl rfl)
theorem dX8_line_85 : decode cX8_line 85 = .ok (.iconst 0, 1) := dk_3 (dk_at dksX8_line_3 14 rfl rfl)
theorem dX8_line_86 : decode cX8_line 86 = .ok (.iconst 4, 1) := dk_7 (dk_at dksX8_line_3 15 rfl rfl)
theorem dX8_line_87 : decode cX8_line 87 = .ok (.invokevirtual 85, 3) := dk_182 0 85 (dk_at dksX8_line_3 16 rfl rfl)
theorem dX8_line_90 : decode cX8_line 90 = .ok (.aload_n 0, 1) := dk_42 (dk_at dksX8_line_3 19 rfl rfl)
theorem dX8_line_91 : decode cX8_line 91 = .ok (.dup, 1) := dk_89 (dk_at dksX8_line_3 20 rfl rfl)
theorem dX8_line_92 : decode cX8_line 92 = .ok (.getfield 127, 3) := dk_180 0 127 (dk_at dksX8_line_3 21 rfl rfl)
theorem dX8_line_95 : decode cX8_line 95 = .ok (.iconst 1, 1) := dk_4 (dk_at dksX8_line_4 0 rfl rfl)
theorem dX8_line_96 : decode cX8_line 96 = .ok (.iload_n 1, 1) := dk_27 (dk_at dksX8_line_4 1 rfl rfl)
theorem dX8_line_97 : decode cX8_line 97 = .ok (.ishl, 1) := dk_120 (dk_at dksX8_line_4 2 rfl rfl)
theorem dX8_line_98 : decode cX8_line 98 = .ok (.ior, 1) := dk_128 (dk_at dksX8_line_4 3 rfl rfl)
theorem dX8_line_99 : decode cX8_line 99 = .ok (.putfield 127, 3) := dk_181 0 127 (dk_at dksX8_line_4 4 rfl rfl)
theorem dX8_line_102 : decode cX8_line 102 = .ok (.aload_n 0, 1) := dk_42 (dk_at dksX8_line_4 7 rfl rfl)
theorem dX8_line_103 : decode cX8_line 103 = .ok (.invokevirtual 29, 3) := dk_182 0 29 (dk_at dksX8_line_4 8 rfl rfl)
theorem dX8_line_106 : decode cX8_line 106 = .ok (.aload_n 0, 1) := dk_42 (dk_at dksX8_line_4 11 rfl rfl)
theorem dX8_line_107 : decode cX8_line 107 = .ok (.iload_n 1, 1) := dk_27 (dk_at dksX8_line_4 12 rfl rfl)
theorem dX8_line_108 : decode cX8_line 108 = .ok (.invokevirtual 134, 3) := dk_182 0 134 (dk_at dksX8_line_4 13 rfl rfl)
theorem dX8_line_111 : decode cX8_line 111 = .ok (.aload_n 0, 1) := dk_42 (dk_at dksX8_line_4 16 rfl rfl)
theorem dX8_line_112 : decode cX8_line 112 = .ok (.aload_n 0, 1) := dk_42 (dk_at dksX8_line_4 17 rfl rfl)
theorem dX8_line_113 : decode cX8_line 113 = .ok (.getfield 65, 3) := dk_180 0 65 (dk_at dksX8_line_4 18 rfl rfl)
theorem dX8_line_116 : decode cX8_line 116 = .ok (.iconst 3, 1) := dk_6 (dk_at dksX8_line_4 21 rfl rfl)
theorem dX8_line_117 : decode cX8_line 117 = .ok (.if_icmp .ne 7, 3) := dk_160 0 7 (dk_at dksX8_line_5 0 rfl rfl)
theorem dX8_line_120 : decode cX8_line 120 = .ok (.iconst 1, 1) := dk_4 (dk_at dksX8_line_5 3 rfl rfl)
theorem dX8_line_121 : decode cX8_line 121 = .ok (.goto 4, 3) := dk_167 0 4 (dk_at dksX8_line_5 4 rfl rfl)
theorem dX8_line_124 : decode cX8_line 124 = .ok (.iconst 0, 1) := dk_3 (dk_at dksX8_line_5 7 rfl rfl)
theorem dX8_line_125 : decode cX8_line 125 = .ok (.iconst 2, 1) := dk_5 (dk_at dksX8_line_5 8 rfl rfl)
theorem dX8_line_126 : decode cX8_line 126 = .ok (.invokevirtual 85, 3) := dk_182 0 85 (dk_at dksX8_line_5 9 rfl rfl)
theorem dX8_line_129 : decode cX8_line 129 = .ok (.aload_n 0, 1) := dk_42 (dk_at dksX8_line_5 12 rfl rfl)
theorem dX8_line_130 : decode cX8_line 130 = .ok (.invokevirtual 29, 3) := dk_182 0 29 (dk_at dksX8_line_5 13 rfl rfl)
theorem dX8_line_133 : decode cX8_line 133 = .ok (.return_, 1) := dk_177 (dk_at dksX8_line_5 16 rfl rfl)
abbrev cX8_is : ByteArray := prog_5_method_5_code
def yX8_is : MethodName := ⟨RX8, "is", "(I)Z"⟩
def dkwX8_is_3 : List UInt8 := [182, 0, 74, 160, 0, 7, 4, 167, 0, 4, 3, 62, 132, 4, 1, 167, 255, 210, 29, 172]
abbrev dktX8_is_3 : List UInt8 := dkwX8_is_3 ++ []
def dkwX8_is_2 : List UInt8 := [182, 0, 68, 162, 0, 39, 42, 180, 0, 3, 180, 0, 35, 42, 180, 0, 41, 21, 4, 96, 51, 44, 21, 4]
abbrev dktX8_is_2 : List UInt8 := dkwX8_is_2 ++ dktX8_is_3
def dkwX8_is_1 : List UInt8 := [182, 0, 68, 160, 0, 7, 4, 167, 0, 4, 3, 62, 3, 54, 4, 29, 153, 0, 48, 21, 4, 44]
abbrev dktX8_is_1 : List UInt8 := dkwX8_is_1 ++ dktX8_is_2
def dkwX8_is_0 : List UInt8 := [42, 27, 182, 0, 61, 77, 42, 180, 0, 65, 4, 160, 0, 23, 42, 180, 0, 32, 42, 180, 0, 41, 100, 44]
abbrev dktX8_is_0 : List UInt8 := dkwX8_is_0 ++ dktX8_is_1
theorem dksX8_is_0 : cX8_is.data.toList.drop 0 = dktX8_is_0 := by decide +kernel
theorem dksX8_is_1 : cX8_is.data.toList.drop 24 = dktX8_is_1 := dk_seg dksX8_is_0 24 rfl rfl
theorem dksX8_is_2 : cX8_is.data.toList.drop 46 = dktX8_is_2 := dk_seg dksX8_is_1 22 rfl rfl
theorem dksX8_is_3 : cX8_is.data.toList.drop 70 = dktX8_is_3 := dk_seg dksX8_is_2 24 rfl rfl
theorem dX8_is_0 : decode cX8_is 0 = .ok (.aload_n 0, 1) := dk_42 (dk_at dksX8_is_0 0 rfl rfl)
theorem dX8_is_1 : decode cX8_is 1 = .ok (.iload_n 1, 1) := dk_27 (dk_at dksX8_is_0 1 rfl rfl)
theorem dX8_is_2 : decode cX8_is 2 = .ok (.invokevirtual 61, 3) := dk_182 0 61 (dk_at dksX8_is_0 2 rfl rfl)
theorem dX8_is_5 : decode cX8_is 5 = .ok (.astore_n 2, 1) := dk_77 (dk_at dksX8_is_0 5 rfl rfl)
theorem dX8_is_6 : decode cX8_is 6 = .ok (.aload_n 0, 1) := dk_42 (dk_at dksX8_is_0 6 rfl rfl)
theorem dX8_is_7 : decode cX8_is 7 = .ok (.getfield 65, 3) := dk_180 0 65 (dk_at dksX8_is_0 7 rfl rfl)
theorem dX8_is_10 : decode cX8_is 10 = .ok (.iconst 1, 1) := dk_4 (dk_at dksX8_is_0 10 rfl rfl)
theorem dX8_is_11 : decode cX8_is 11 = .ok (.if_icmp .ne 23, 3) := dk_160 0 23 (dk_at dksX8_is_0 11 rfl rfl)
theorem dX8_is_14 : decode cX8_is 14 = .ok (.aload_n 0, 1) := dk_42 (dk_at dksX8_is_0 14 rfl rfl)
theorem dX8_is_15 : decode cX8_is 15 = .ok (.getfield 32, 3) := dk_180 0 32 (dk_at dksX8_is_0 15 rfl rfl)
theorem dX8_is_18 : decode cX8_is 18 = .ok (.aload_n 0, 1) := dk_42 (dk_at dksX8_is_0 18 rfl rfl)
theorem dX8_is_19 : decode cX8_is 19 = .ok (.getfield 41, 3) := dk_180 0 41 (dk_at dksX8_is_0 19 rfl rfl)
theorem dX8_is_22 : decode cX8_is 22 = .ok (.isub, 1) := dk_100 (dk_at dksX8_is_0 22 rfl rfl)
theorem dX8_is_23 : decode cX8_is 23 = .ok (.aload_n 2, 1) := dk_44 (dk_at dksX8_is_0 23 rfl rfl)
theorem dX8_is_24 : decode cX8_is 24 = .ok (.invokevirtual 68, 3) := dk_182 0 68 (dk_at dksX8_is_1 0 rfl rfl)
theorem dX8_is_27 : decode cX8_is 27 = .ok (.if_icmp .ne 7, 3) := dk_160 0 7 (dk_at dksX8_is_1 3 rfl rfl)
theorem dX8_is_30 : decode cX8_is 30 = .ok (.iconst 1, 1) := dk_4 (dk_at dksX8_is_1 6 rfl rfl)
theorem dX8_is_31 : decode cX8_is 31 = .ok (.goto 4, 3) := dk_167 0 4 (dk_at dksX8_is_1 7 rfl rfl)
theorem dX8_is_34 : decode cX8_is 34 = .ok (.iconst 0, 1) := dk_3 (dk_at dksX8_is_1 10 rfl rfl)
theorem dX8_is_35 : decode cX8_is 35 = .ok (.istore_n 3, 1) := dk_62 (dk_at dksX8_is_1 11 rfl rfl)
theorem dX8_is_36 : decode cX8_is 36 = .ok (.iconst 0, 1) := dk_3 (dk_at dksX8_is_1 12 rfl rfl)
theorem dX8_is_37 : decode cX8_is 37 = .ok (.istore 4, 2) := dk_54 4 (dk_at dksX8_is_1 13 rfl rfl)
theorem dX8_is_39 : decode cX8_is 39 = .ok (.iload_n 3, 1) := dk_29 (dk_at dksX8_is_1 15 rfl rfl)
theorem dX8_is_40 : decode cX8_is 40 = .ok (.ifCond .eq 48, 3) := dk_153 0 48 (dk_at dksX8_is_1 16 rfl rfl)
theorem dX8_is_43 : decode cX8_is 43 = .ok (.iload 4, 2) := dk_21 4 (dk_at dksX8_is_1 19 rfl rfl)
theorem dX8_is_45 : decode cX8_is 45 = .ok (.aload_n 2, 1) := dk_44 (dk_at dksX8_is_1 21 rfl rfl)
theorem dX8_is_46 : decode cX8_is 46 = .ok (.invokevirtual 68, 3) := dk_182 0 68 (dk_at dksX8_is_2 0 rfl rfl)
theorem dX8_is_49 : decode cX8_is 49 = .ok (.if_icmp .ge 39, 3) := dk_162 0 39 (dk_at dksX8_is_2 3 rfl rfl)
theorem dX8_is_52 : decode cX8_is 52 = .ok (.aload_n 0, 1) := dk_42 (dk_at dksX8_is_2 6 rfl rfl)
theorem dX8_is_53 : decode cX8_is 53 = .ok (.getfield 3, 3) := dk_180 0 3 (dk_at dksX8_is_2 7 rfl rfl)
theorem dX8_is_56 : decode cX8_is 56 = .ok (.getfield 35, 3) := dk_180 0 35 (dk_at dksX8_is_2 10 rfl rfl)
theorem dX8_is_59 : decode cX8_is 59 = .ok (.aload_n 0, 1) := dk_42 (dk_at dksX8_is_2 13 rfl rfl)
theorem dX8_is_60 : decode cX8_is 60 = .ok (.getfield 41, 3) := dk_180 0 41 (dk_at dksX8_is_2 14 rfl rfl)
theorem dX8_is_63 : decode cX8_is 63 = .ok (.iload 4, 2) := dk_21 4 (dk_at dksX8_is_2 17 rfl rfl)
theorem dX8_is_65 : decode cX8_is 65 = .ok (.iadd, 1) := dk_96 (dk_at dksX8_is_2 19 rfl rfl)
theorem dX8_is_66 : decode cX8_is 66 = .ok (.baload, 1) := dk_51 (dk_at dksX8_is_2 20 rfl rfl)
theorem dX8_is_67 : decode cX8_is 67 = .ok (.aload_n 2, 1) := dk_44 (dk_at dksX8_is_2 21 rfl rfl)
theorem dX8_is_68 : decode cX8_is 68 = .ok (.iload 4, 2) := dk_21 4 (dk_at dksX8_is_2 22 rfl rfl)
theorem dX8_is_70 : decode cX8_is 70 = .ok (.invokevirtual 74, 3) := dk_182 0 74 (dk_at dksX8_is_3 0 rfl rfl)
theorem dX8_is_73 : decode cX8_is 73 = .ok (.if_icmp .ne 7, 3) := dk_160 0 7 (dk_at dksX8_is_3 3 rfl rfl)
theorem dX8_is_76 : decode cX8_is 76 = .ok (.iconst 1, 1) := dk_4 (dk_at dksX8_is_3 6 rfl rfl)
theorem dX8_is_77 : decode cX8_is 77 = .ok (.goto 4, 3) := dk_167 0 4 (dk_at dksX8_is_3 7 rfl rfl)
theorem dX8_is_80 : decode cX8_is 80 = .ok (.iconst 0, 1) := dk_3 (dk_at dksX8_is_3 10 rfl rfl)
theorem dX8_is_81 : decode cX8_is 81 = .ok (.istore_n 3, 1) := dk_62 (dk_at dksX8_is_3 11 rfl rfl)
theorem dX8_is_82 : decode cX8_is 82 = .ok (.iinc 4 1, 3) := dk_132 4 1 (dk_at dksX8_is_3 12 rfl rfl)
theorem dX8_is_85 : decode cX8_is 85 = .ok (.goto (-46), 3) := dk_167 255 210 (dk_at dksX8_is_3 15 rfl rfl)
theorem dX8_is_88 : decode cX8_is 88 = .ok (.iload_n 3, 1) := dk_29 (dk_at dksX8_is_3 18 rfl rfl)
theorem dX8_is_89 : decode cX8_is 89 = .ok (.ireturn, 1) := dk_172 (dk_at dksX8_is_3 19 rfl rfl)
abbrev cX8_name : ByteArray := prog_5_method_4_code
def yX8_name : MethodName := ⟨RX8, "name", "(I)Ljava/lang/String;"⟩
def dkwX8_name_2 : List UInt8 := [18, 47, 176, 18, 49, 176, 18, 51, 176, 18, 53, 176, 18, 55, 176, 18, 57, 176, 18, 59, 176]
abbrev dktX8_name_2 : List UInt8 := dkwX8_name_2 ++ []
def dkwX8_name_1 : List UInt8 := [170, 0, 0, 0, 0, 0, 57, 0, 0, 0, 0, 0, 0, 0, 5, 0, 0, 0, 39, 0, 0, 0, 42, 0, 0, 0, 45, 0, 0, 0, 48, 0, 0, 0, 51, 0, 0, 0, 54]
abbrev dktX8_name_1 : List UInt8 := dkwX8_name_1 ++ dktX8_name_2
def dkwX8_name_0 : List UInt8 := [27]
abbrev dktX8_name_0 : List UInt8 := dkwX8_name_0 ++ dktX8_name_1
theorem dksX8_name_0 : cX8_name.data.toList.drop 0 = dktX8_name_0 := by decide +kernel
theorem dksX8_name_1 : cX8_name.data.toList.drop 1 = dktX8_name_1 := dk_seg dksX8_name_0 1 rfl rfl
theorem dksX8_name_2 : cX8_name.data.toList.drop 40 = dktX8_name_2 := dk_seg dksX8_name_1 39 rfl rfl
theorem dX8_name_0 : decode cX8_name 0 = .ok (.iload_n 1, 1) := dk_27 (dk_at dksX8_name_0 0 rfl rfl)
theorem dX8_name_1 : decode cX8_name 1 = .ok (.tableswitch 57 0 5 #[39, 42, 45, 48, 51, 54], 39) := by decide +kernel
theorem dX8_name_40 : decode cX8_name 40 = .ok (.ldc 47, 2) := dk_18 47 (dk_at dksX8_name_2 0 rfl rfl)
theorem dX8_name_42 : decode cX8_name 42 = .ok (.areturn, 1) := dk_176 (dk_at dksX8_name_2 2 rfl rfl)
theorem dX8_name_43 : decode cX8_name 43 = .ok (.ldc 49, 2) := dk_18 49 (dk_at dksX8_name_2 3 rfl rfl)
theorem dX8_name_45 : decode cX8_name 45 = .ok (.areturn, 1) := dk_176 (dk_at dksX8_name_2 5 rfl rfl)
theorem dX8_name_46 : decode cX8_name 46 = .ok (.ldc 51, 2) := dk_18 51 (dk_at dksX8_name_2 6 rfl rfl)
theorem dX8_name_48 : decode cX8_name 48 = .ok (.areturn, 1) := dk_176 (dk_at dksX8_name_2 8 rfl rfl)
theorem dX8_name_49 : decode cX8_name 49 = .ok (.ldc 53, 2) := dk_18 53 (dk_at dksX8_name_2 9 rfl rfl)
theorem dX8_name_51 : decode cX8_name 51 = .ok (.areturn, 1) := dk_176 (dk_at dksX8_name_2 11 rfl rfl)
theorem dX8_name_52 : decode cX8_name 52 = .ok (.ldc 55, 2) := dk_18 55 (dk_at dksX8_name_2 12 rfl rfl)
theorem dX8_name_54 : decode cX8_name 54 = .ok (.areturn, 1) := dk_176 (dk_at dksX8_name_2 14 rfl rfl)
theorem dX8_name_55 : decode cX8_name 55 = .ok (.ldc 57, 2) := dk_18 57 (dk_at dksX8_name_2 15 rfl rfl)
theorem dX8_name_57 : decode cX8_name 57 = .ok (.areturn, 1) := dk_176 (dk_at dksX8_name_2 17 rfl rfl)
theorem dX8_name_58 : decode cX8_name 58 = .ok (.ldc 59, 2) := dk_18 59 (dk_at dksX8_name_2 18 rfl rfl)
theorem dX8_name_60 : decode cX8_name 60 = .ok (.areturn, 1) := dk_176 (dk_at dksX8_name_2 20 rfl rfl)
abbrev cX8_told : ByteArray := prog_5_method_10_code
def yX8_told : MethodName := ⟨RX8, "told", "(I)V"⟩
def dkwX8_told_6 : List UInt8 := [180, 0, 116, 4, 96, 181, 0, 116, 177]
abbrev dktX8_told_6 : List UInt8 := dkwX8_told_6 ++ []
def dkwX8_told_5 : List UInt8 := [5, 160, 0, 13, 42, 3, 16, 40, 182, 0, 107, 167, 0, 4, 3, 182, 0, 119, 42, 180, 0, 18, 89]
abbrev dktX8_told_5 : List UInt8 := dkwX8_told_5 ++ dktX8_told_6
def dkwX8_told_4 : List UInt8 := [180, 0, 116, 3, 27, 182, 0, 119, 42, 180, 0, 18, 42, 180, 0, 18, 180, 0, 116, 4, 42, 180, 0, 65]
abbrev dktX8_told_4 : List UInt8 := dkwX8_told_4 ++ dktX8_told_5
def dkwX8_told_3 : List UInt8 := [182, 0, 107, 181, 0, 112, 167, 0, 73, 42, 182, 0, 114, 167, 0, 66, 42, 180, 0, 18, 42, 180, 0, 18]
abbrev dktX8_told_3 : List UInt8 := dkwX8_told_3 ++ dktX8_told_4
def dkwX8_told_2 : List UInt8 := [42, 180, 0, 18, 42, 4, 8, 182, 0, 107, 181, 0, 110, 167, 0, 90, 42, 180, 0, 18, 42, 4, 16, 9]
abbrev dktX8_told_2 : List UInt8 := dkwX8_told_2 ++ dktX8_told_3
def dkwX8_told_1 : List UInt8 := [170, 0, 0, 0, 0, 0, 67, 0, 0, 0, 4, 0, 0, 0, 6, 0, 0, 0, 27, 0, 0, 0, 43, 0, 0, 0, 60]
abbrev dktX8_told_1 : List UInt8 := dkwX8_told_1 ++ dktX8_told_2
def dkwX8_told_0 : List UInt8 := [27]
abbrev dktX8_told_0 : List UInt8 := dkwX8_told_0 ++ dktX8_told_1
theorem dksX8_told_0 : cX8_told.data.toList.drop 0 = dktX8_told_0 := by decide +kernel
theorem dksX8_told_1 : cX8_told.data.toList.drop 1 = dktX8_told_1 := dk_seg dksX8_told_0 1 rfl rfl
theorem dksX8_told_2 : cX8_told.data.toList.drop 28 = dktX8_told_2 := dk_seg dksX8_told_1 27 rfl rfl
theorem dksX8_told_3 : cX8_told.data.toList.drop 52 = dktX8_told_3 := dk_seg dksX8_told_2 24 rfl rfl
theorem dksX8_told_4 : cX8_told.data.toList.drop 76 = dktX8_told_4 := dk_seg dksX8_told_3 24 rfl rfl
theorem dksX8_told_5 : cX8_told.data.toList.drop 100 = dktX8_told_5 := dk_seg dksX8_told_4 24 rfl rfl
theorem dksX8_told_6 : cX8_told.data.toList.drop 123 = dktX8_told_6 := dk_seg dksX8_told_5 23 rfl rfl
theorem dX8_told_0 : decode cX8_told 0 = .ok (.iload_n 1, 1) := dk_27 (dk_at dksX8_told_0 0 rfl rfl)
theorem dX8_told_1 : decode cX8_told 1 = .ok (.tableswitch 67 4 6 #[27, 43, 60], 27) := by decide +kernel
theorem dX8_told_28 : decode cX8_told 28 = .ok (.aload_n 0, 1) := dk_42 (dk_at dksX8_told_2 0 rfl rfl)
theorem dX8_told_29 : decode cX8_told 29 = .ok (.getfield 18, 3) := dk_180 0 18 (dk_at dksX8_told_2 1 rfl rfl)
theorem dX8_told_32 : decode cX8_told 32 = .ok (.aload_n 0, 1) := dk_42 (dk_at dksX8_told_2 4 rfl rfl)
theorem dX8_told_33 : decode cX8_told 33 = .ok (.iconst 1, 1) := dk_4 (dk_at dksX8_told_2 5 rfl rfl)
theorem dX8_told_34 : decode cX8_told 34 = .ok (.iconst 5, 1) := dk_8 (dk_at dksX8_told_2 6 rfl rfl)
theorem dX8_told_35 : decode cX8_told 35 = .ok (.invokevirtual 107, 3) := dk_182 0 107 (dk_at dksX8_told_2 7 rfl rfl)
theorem dX8_told_38 : decode cX8_told 38 = .ok (.putfield 110, 3) := dk_181 0 110 (dk_at dksX8_told_2 10 rfl rfl)
theorem dX8_told_41 : decode cX8_told 41 = .ok (.goto 90, 3) := dk_167 0 90 (dk_at dksX8_told_2 13 rfl rfl)
theorem dX8_told_44 : decode cX8_told 44 = .ok (.aload_n 0, 1) := dk_42 (dk_at dksX8_told_2 16 rfl rfl)
theorem dX8_told_45 : decode cX8_told 45 = .ok (.getfield 18, 3) := dk_180 0 18 (dk_at dksX8_told_2 17 rfl rfl)
theorem dX8_told_48 : decode cX8_told 48 = .ok (.aload_n 0, 1) := dk_42 (dk_at dksX8_told_2 20 rfl rfl)
theorem dX8_told_49 : decode cX8_told 49 = .ok (.iconst 1, 1) := dk_4 (dk_at dksX8_told_2 21 rfl rfl)
theorem dX8_told_50 : decode cX8_told 50 = .ok (.bipush 9, 2) := dk_16 9 (dk_at dksX8_told_2 22 rfl rfl)
theorem dX8_told_52 : decode cX8_told 52 = .ok (.invokevirtual 107, 3) := dk_182 0 107 (dk_at dksX8_told_3 0 rfl rfl)
theorem dX8_told_55 : decode cX8_told 55 = .ok (.putfield 112, 3) := dk_181 0 112 (dk_at dksX8_told_3 3 rfl rfl)
theorem dX8_told_58 : decode cX8_told 58 = .ok (.goto 73, 3) := dk_167 0 73 (dk_at dksX8_told_3 6 rfl rfl)
theorem dX8_told_61 : decode cX8_told 61 = .ok (.aload_n 0, 1) := dk_42 (dk_at dksX8_told_3 9 rfl rfl)
theorem dX8_told_62 : decode cX8_told 62 = .ok (.invokevirtual 114, 3) := dk_182 0 114 (dk_at dksX8_told_3 10 rfl rfl)
theorem dX8_told_65 : decode cX8_told 65 = .ok (.goto 66, 3) := dk_167 0 66 (dk_at dksX8_told_3 13 rfl rfl)
theorem dX8_told_68 : decode cX8_told 68 = .ok (.aload_n 0, 1) := dk_42 (dk_at dksX8_told_3 16 rfl rfl)
theorem dX8_told_69 : decode cX8_told 69 = .ok (.getfield 18, 3) := dk_180 0 18 (dk_at dksX8_told_3 17 rfl rfl)
theorem dX8_told_72 : decode cX8_told 72 = .ok (.aload_n 0, 1) := dk_42 (dk_at dksX8_told_3 20 rfl rfl)
theorem dX8_told_73 : decode cX8_told 73 = .ok (.getfield 18, 3) := dk_180 0 18 (dk_at dksX8_told_3 21 rfl rfl)
theorem dX8_told_76 : decode cX8_told 76 = .ok (.getfield 116, 3) := dk_180 0 116 (dk_at dksX8_told_4 0 rfl rfl)
theorem dX8_told_79 : decode cX8_told 79 = .ok (.iconst 0, 1) := dk_3 (dk_at dksX8_told_4 3 rfl rfl)
theorem dX8_told_80 : decode cX8_told 80 = .ok (.iload_n 1, 1) := dk_27 (dk_at dksX8_told_4 4 rfl rfl)
theorem dX8_told_81 : decode cX8_told 81 = .ok (.invokevirtual 119, 3) := dk_182 0 119 (dk_at dksX8_told_4 5 rfl rfl)
theorem dX8_told_84 : decode cX8_told 84 = .ok (.aload_n 0, 1) := dk_42 (dk_at dksX8_told_4 8 rfl rfl)
theorem dX8_told_85 : decode cX8_told 85 = .ok (.getfield 18, 3) := dk_180 0 18 (dk_at dksX8_told_4 9 rfl rfl)
theorem dX8_told_88 : decode cX8_told 88 = .ok (.aload_n 0, 1) := dk_42 (dk_at dksX8_told_4 12 rfl rfl)
theorem dX8_told_89 : decode cX8_told 89 = .ok (.getfield 18, 3) := dk_180 0 18 (dk_at dksX8_told_4 13 rfl rfl)
theorem dX8_told_92 : decode cX8_told 92 = .ok (.getfield 116, 3) := dk_180 0 116 (dk_at dksX8_told_4 16 rfl rfl)
theorem dX8_told_95 : decode cX8_told 95 = .ok (.iconst 1, 1) := dk_4 (dk_at dksX8_told_4 19 rfl rfl)
theorem dX8_told_96 : decode cX8_told 96 = .ok (.aload_n 0, 1) := dk_42 (dk_at dksX8_told_4 20 rfl rfl)
theorem dX8_told_97 : decode cX8_told 97 = .ok (.getfield 65, 3) := dk_180 0 65 (dk_at dksX8_told_4 21 rfl rfl)
theorem dX8_told_100 : decode cX8_told 100 = .ok (.iconst 2, 1) := dk_5 (dk_at dksX8_told_5 0 rfl rfl)
theorem dX8_told_101 : decode cX8_told 101 = .ok (.if_icmp .ne 13, 3) := dk_160 0 13 (dk_at dksX8_told_5 1 rfl rfl)
theorem dX8_told_104 : decode cX8_told 104 = .ok (.aload_n 0, 1) := dk_42 (dk_at dksX8_told_5 4 rfl rfl)
theorem dX8_told_105 : decode cX8_told 105 = .ok (.iconst 0, 1) := dk_3 (dk_at dksX8_told_5 5 rfl rfl)
theorem dX8_told_106 : decode cX8_told 106 = .ok (.bipush 40, 2) := dk_16 40 (dk_at dksX8_told_5 6 rfl rfl)
theorem dX8_told_108 : decode cX8_told 108 = .ok (.invokevirtual 107, 3) := dk_182 0 107 (dk_at dksX8_told_5 8 rfl rfl)
theorem dX8_told_111 : decode cX8_told 111 = .ok (.goto 4, 3) := dk_167 0 4 (dk_at dksX8_told_5 11 rfl rfl)
theorem dX8_told_114 : decode cX8_told 114 = .ok (.iconst 0, 1) := dk_3 (dk_at dksX8_told_5 14 rfl rfl)
theorem dX8_told_115 : decode cX8_told 115 = .ok (.invokevirtual 119, 3) := dk_182 0 119 (dk_at dksX8_told_5 15 rfl rfl)
theorem dX8_told_118 : decode cX8_told 118 = .ok (.aload_n 0, 1) := dk_42 (dk_at dksX8_told_5 18 rfl rfl)
theorem dX8_told_119 : decode cX8_told 119 = .ok (.getfield 18, 3) := dk_180 0 18 (dk_at dksX8_told_5 19 rfl rfl)
theorem dX8_told_122 : decode cX8_told 122 = .ok (.dup, 1) := dk_89 (dk_at dksX8_told_5 22 rfl rfl)
theorem dX8_told_123 : decode cX8_told 123 = .ok (.getfield 116, 3) := dk_180 0 116 (dk_at dksX8_told_6 0 rfl rfl)
theorem dX8_told_126 : decode cX8_told 126 = .ok (.iconst 1, 1) := dk_4 (dk_at dksX8_told_6 3 rfl rfl)
theorem dX8_told_127 : decode cX8_told 127 = .ok (.iadd, 1) := dk_96 (dk_at dksX8_told_6 4 rfl rfl)
theorem dX8_told_128 : decode cX8_told 128 = .ok (.putfield 116, 3) := dk_181 0 116 (dk_at dksX8_told_6 5 rfl rfl)
theorem dX8_told_131 : decode cX8_told 131 = .ok (.return_, 1) := dk_177 (dk_at dksX8_told_6 8 rfl rfl)
abbrev cX8_taken : ByteArray := prog_5_method_8_code
def yX8_taken : MethodName := ⟨RX8, "taken", "(II)I"⟩
def dkwX8_taken_0 : List UInt8 := [42, 27, 28, 182, 0, 93, 62, 42, 182, 0, 29, 29, 172]
abbrev dktX8_taken_0 : List UInt8 := dkwX8_taken_0 ++ []
theorem dksX8_taken_0 : cX8_taken.data.toList.drop 0 = dktX8_taken_0 := by decide +kernel
theorem dX8_taken_0 : decode cX8_taken 0 = .ok (.aload_n 0, 1) := dk_42 (dk_at dksX8_taken_0 0 rfl rfl)
theorem dX8_taken_1 : decode cX8_taken 1 = .ok (.iload_n 1, 1) := dk_27 (dk_at dksX8_taken_0 1 rfl rfl)
theorem dX8_taken_2 : decode cX8_taken 2 = .ok (.iload_n 2, 1) := dk_28 (dk_at dksX8_taken_0 2 rfl rfl)
theorem dX8_taken_3 : decode cX8_taken 3 = .ok (.invokevirtual 93, 3) := dk_182 0 93 (dk_at dksX8_taken_0 3 rfl rfl)
theorem dX8_taken_6 : decode cX8_taken 6 = .ok (.istore_n 3, 1) := dk_62 (dk_at dksX8_taken_0 6 rfl rfl)
theorem dX8_taken_7 : decode cX8_taken 7 = .ok (.aload_n 0, 1) := dk_42 (dk_at dksX8_taken_0 7 rfl rfl)
theorem dX8_taken_8 : decode cX8_taken 8 = .ok (.invokevirtual 29, 3) := dk_182 0 29 (dk_at dksX8_taken_0 8 rfl rfl)
theorem dX8_taken_11 : decode cX8_taken 11 = .ok (.iload_n 3, 1) := dk_29 (dk_at dksX8_taken_0 11 rfl rfl)
theorem dX8_taken_12 : decode cX8_taken 12 = .ok (.ireturn, 1) := dk_172 (dk_at dksX8_taken_0 12 rfl rfl)
abbrev cX8_looked : ByteArray := prog_5_method_7_code
def yX8_looked : MethodName := ⟨RX8, "looked", "(II)I"⟩
def dkwX8_looked_1 : List UInt8 := [27, 133, 28, 133, 184, 0, 89, 6, 182, 0, 85, 42, 180, 0, 82, 172]
abbrev dktX8_looked_1 : List UInt8 := dkwX8_looked_1 ++ []
def dkwX8_looked_0 : List UInt8 := [42, 42, 180, 0, 65, 5, 160, 0, 7, 4, 167, 0, 4, 3, 5, 182, 0, 85, 42, 42, 180, 0, 82, 133]
abbrev dktX8_looked_0 : List UInt8 := dkwX8_looked_0 ++ dktX8_looked_1
theorem dksX8_looked_0 : cX8_looked.data.toList.drop 0 = dktX8_looked_0 := by decide +kernel
theorem dksX8_looked_1 : cX8_looked.data.toList.drop 24 = dktX8_looked_1 := dk_seg dksX8_looked_0 24 rfl rfl
theorem dX8_looked_0 : decode cX8_looked 0 = .ok (.aload_n 0, 1) := dk_42 (dk_at dksX8_looked_0 0 rfl rfl)
theorem dX8_looked_1 : decode cX8_looked 1 = .ok (.aload_n 0, 1) := dk_42 (dk_at dksX8_looked_0 1 rfl rfl)
theorem dX8_looked_2 : decode cX8_looked 2 = .ok (.getfield 65, 3) := dk_180 0 65 (dk_at dksX8_looked_0 2 rfl rfl)
theorem dX8_looked_5 : decode cX8_looked 5 = .ok (.iconst 2, 1) := dk_5 (dk_at dksX8_looked_0 5 rfl rfl)
theorem dX8_looked_6 : decode cX8_looked 6 = .ok (.if_icmp .ne 7, 3) := dk_160 0 7 (dk_at dksX8_looked_0 6 rfl rfl)
theorem dX8_looked_9 : decode cX8_looked 9 = .ok (.iconst 1, 1) := dk_4 (dk_at dksX8_looked_0 9 rfl rfl)
theorem dX8_looked_10 : decode cX8_looked 10 = .ok (.goto 4, 3) := dk_167 0 4 (dk_at dksX8_looked_0 10 rfl rfl)
theorem dX8_looked_13 : decode cX8_looked 13 = .ok (.iconst 0, 1) := dk_3 (dk_at dksX8_looked_0 13 rfl rfl)
theorem dX8_looked_14 : decode cX8_looked 14 = .ok (.iconst 2, 1) := dk_5 (dk_at dksX8_looked_0 14 rfl rfl)
theorem dX8_looked_15 : decode cX8_looked 15 = .ok (.invokevirtual 85, 3) := dk_182 0 85 (dk_at dksX8_looked_0 15 rfl rfl)
theorem dX8_looked_18 : decode cX8_looked 18 = .ok (.aload_n 0, 1) := dk_42 (dk_at dksX8_looked_0 18 rfl rfl)
theorem dX8_looked_19 : decode cX8_looked 19 = .ok (.aload_n 0, 1) := dk_42 (dk_at dksX8_looked_0 19 rfl rfl)
theorem dX8_looked_20 : decode cX8_looked 20 = .ok (.getfield 82, 3) := dk_180 0 82 (dk_at dksX8_looked_0 20 rfl rfl)
theorem dX8_looked_23 : decode cX8_looked 23 = .ok (.i2l, 1) := dk_133 (dk_at dksX8_looked_0 23 rfl rfl)
theorem dX8_looked_24 : decode cX8_looked 24 = .ok (.iload_n 1, 1) := dk_27 (dk_at dksX8_looked_1 0 rfl rfl)
theorem dX8_looked_25 : decode cX8_looked 25 = .ok (.i2l, 1) := dk_133 (dk_at dksX8_looked_1 1 rfl rfl)
theorem dX8_looked_26 : decode cX8_looked 26 = .ok (.iload_n 2, 1) := dk_28 (dk_at dksX8_looked_1 2 rfl rfl)
theorem dX8_looked_27 : decode cX8_looked 27 = .ok (.i2l, 1) := dk_133 (dk_at dksX8_looked_1 3 rfl rfl)
theorem dX8_looked_28 : decode cX8_looked 28 = .ok (.invokestatic 89, 3) := dk_184 0 89 (dk_at dksX8_looked_1 4 rfl rfl)
theorem dX8_looked_31 : decode cX8_looked 31 = .ok (.iconst 3, 1) := dk_6 (dk_at dksX8_looked_1 7 rfl rfl)
theorem dX8_looked_32 : decode cX8_looked 32 = .ok (.invokevirtual 85, 3) := dk_182 0 85 (dk_at dksX8_looked_1 8 rfl rfl)
theorem dX8_looked_35 : decode cX8_looked 35 = .ok (.aload_n 0, 1) := dk_42 (dk_at dksX8_looked_1 11 rfl rfl)
theorem dX8_looked_36 : decode cX8_looked 36 = .ok (.getfield 82, 3) := dk_180 0 82 (dk_at dksX8_looked_1 12 rfl rfl)
theorem dX8_looked_39 : decode cX8_looked 39 = .ok (.ireturn, 1) := dk_172 (dk_at dksX8_looked_1 15 rfl rfl)
abbrev cX8_plan : ByteArray := prog_5_method_9_code
def yX8_plan : MethodName := ⟨RX8, "plan", "()V"⟩
def dkwX8_plan_4 : List UInt8 := [182, 0, 29, 167, 255, 162, 177]
abbrev dktX8_plan_4 : List UInt8 := dkwX8_plan_4 ++ []
def dkwX8_plan_3 : List UInt8 := [180, 0, 18, 180, 0, 97, 27, 145, 84, 42, 180, 0, 18, 89, 180, 0, 97, 4, 96, 181, 0, 97, 42]
abbrev dktX8_plan_3 : List UInt8 := dkwX8_plan_3 ++ dktX8_plan_4
def dkwX8_plan_2 : List UInt8 := [162, 0, 7, 27, 167, 0, 5, 16, 252, 184, 0, 100, 181, 0, 22, 42, 180, 0, 18, 180, 0, 105, 42]
abbrev dktX8_plan_2 : List UInt8 := dkwX8_plan_2 ++ dktX8_plan_3
def dkwX8_plan_1 : List UInt8 := [167, 0, 4, 3, 8, 182, 0, 85, 42, 3, 16, 6, 182, 0, 93, 60, 42, 42, 180, 0, 22, 27, 8]
abbrev dktX8_plan_1 : List UInt8 := dkwX8_plan_1 ++ dktX8_plan_2
def dkwX8_plan_0 : List UInt8 := [42, 180, 0, 65, 5, 160, 0, 92, 42, 42, 180, 0, 18, 180, 0, 97, 16, 8, 162, 0, 7, 4]
abbrev dktX8_plan_0 : List UInt8 := dkwX8_plan_0 ++ dktX8_plan_1
theorem dksX8_plan_0 : cX8_plan.data.toList.drop 0 = dktX8_plan_0 := by decide +kernel
theorem dksX8_plan_1 : cX8_plan.data.toList.drop 22 = dktX8_plan_1 := dk_seg dksX8_plan_0 22 rfl rfl
theorem dksX8_plan_2 : cX8_plan.data.toList.drop 45 = dktX8_plan_2 := dk_seg dksX8_plan_1 23 rfl rfl
theorem dksX8_plan_3 : cX8_plan.data.toList.drop 68 = dktX8_plan_3 := dk_seg dksX8_plan_2 23 rfl rfl
theorem dksX8_plan_4 : cX8_plan.data.toList.drop 91 = dktX8_plan_4 := dk_seg dksX8_plan_3 23 rfl rfl
theorem dX8_plan_0 : decode cX8_plan 0 = .ok (.aload_n 0, 1) := dk_42 (dk_at dksX8_plan_0 0 rfl rfl)
theorem dX8_plan_1 : decode cX8_plan 1 = .ok (.getfield 65, 3) := dk_180 0 65 (dk_at dksX8_plan_0 1 rfl rfl)
theorem dX8_plan_4 : decode cX8_plan 4 = .ok (.iconst 2, 1) := dk_5 (dk_at dksX8_plan_0 4 rfl rfl)
theorem dX8_plan_5 : decode cX8_plan 5 = .ok (.if_icmp .ne 92, 3) := dk_160 0 92 (dk_at dksX8_plan_0 5 rfl rfl)
theorem dX8_plan_8 : decode cX8_plan 8 = .ok (.aload_n 0, 1) := dk_42 (dk_at dksX8_plan_0 8 rfl rfl)
theorem dX8_plan_9 : decode cX8_plan 9 = .ok (.aload_n 0, 1) := dk_42 (dk_at dksX8_plan_0 9 rfl rfl)
theorem dX8_plan_10 : decode cX8_plan 10 = .ok (.getfield 18, 3) := dk_180 0 18 (dk_at dksX8_plan_0 10 rfl rfl)
theorem dX8_plan_13 : decode cX8_plan 13 = .ok (.getfield 97, 3) := dk_180 0 97 (dk_at dksX8_plan_0 13 rfl rfl)
theorem dX8_plan_16 : decode cX8_plan 16 = .ok (.bipush 8, 2) := dk_16 8 (dk_at dksX8_plan_0 16 rfl rfl)
theorem dX8_plan_18 : decode cX8_plan 18 = .ok (.if_icmp .ge 7, 3) := dk_162 0 7 (dk_at dksX8_plan_0 18 rfl rfl)
theorem dX8_plan_21 : decode cX8_plan 21 = .ok (.iconst 1, 1) := dk_4 (dk_at dksX8_plan_0 21 rfl rfl)
theorem dX8_plan_22 : decode cX8_plan 22 = .ok (.goto 4, 3) := dk_167 0 4 (dk_at dksX8_plan_1 0 rfl rfl)
theorem dX8_plan_25 : decode cX8_plan 25 = .ok (.iconst 0, 1) := dk_3 (dk_at dksX8_plan_1 3 rfl rfl)
theorem dX8_plan_26 : decode cX8_plan 26 = .ok (.iconst 5, 1) := dk_8 (dk_at dksX8_plan_1 4 rfl rfl)
theorem dX8_plan_27 : decode cX8_plan 27 = .ok (.invokevirtual 85, 3) := dk_182 0 85 (dk_at dksX8_plan_1 5 rfl rfl)
theorem dX8_plan_30 : decode cX8_plan 30 = .ok (.aload_n 0, 1) := dk_42 (dk_at dksX8_plan_1 8 rfl rfl)
theorem dX8_plan_31 : decode cX8_plan 31 = .ok (.iconst 0, 1) := dk_3 (dk_at dksX8_plan_1 9 rfl rfl)
theorem dX8_plan_32 : decode cX8_plan 32 = .ok (.bipush 6, 2) := dk_16 6 (dk_at dksX8_plan_1 10 rfl rfl)
theorem dX8_plan_34 : decode cX8_plan 34 = .ok (.invokevirtual 93, 3) := dk_182 0 93 (dk_at dksX8_plan_1 12 rfl rfl)
theorem dX8_plan_37 : decode cX8_plan 37 = .ok (.istore_n 1, 1) := dk_60 (dk_at dksX8_plan_1 15 rfl rfl)
theorem dX8_plan_38 : decode cX8_plan 38 = .ok (.aload_n 0, 1) := dk_42 (dk_at dksX8_plan_1 16 rfl rfl)
theorem dX8_plan_39 : decode cX8_plan 39 = .ok (.aload_n 0, 1) := dk_42 (dk_at dksX8_plan_1 17 rfl rfl)
theorem dX8_plan_40 : decode cX8_plan 40 = .ok (.getfield 22, 3) := dk_180 0 22 (dk_at dksX8_plan_1 18 rfl rfl)
theorem dX8_plan_43 : decode cX8_plan 43 = .ok (.iload_n 1, 1) := dk_27 (dk_at dksX8_plan_1 21 rfl rfl)
theorem dX8_plan_44 : decode cX8_plan 44 = .ok (.iconst 5, 1) := dk_8 (dk_at dksX8_plan_1 22 rfl rfl)
theorem dX8_plan_45 : decode cX8_plan 45 = .ok (.if_icmp .ge 7, 3) := dk_162 0 7 (dk_at dksX8_plan_2 0 rfl rfl)
theorem dX8_plan_48 : decode cX8_plan 48 = .ok (.iload_n 1, 1) := dk_27 (dk_at dksX8_plan_2 3 rfl rfl)
theorem dX8_plan_49 : decode cX8_plan 49 = .ok (.goto 5, 3) := dk_167 0 5 (dk_at dksX8_plan_2 4 rfl rfl)
theorem dX8_plan_52 : decode cX8_plan 52 = .ok (.bipush (-4), 2) := dk_16 252 (dk_at dksX8_plan_2 7 rfl rfl)
theorem dX8_plan_54 : decode cX8_plan 54 = .ok (.invokestatic 100, 3) := dk_184 0 100 (dk_at dksX8_plan_2 9 rfl rfl)
theorem dX8_plan_57 : decode cX8_plan 57 = .ok (.putfield 22, 3) := dk_181 0 22 (dk_at dksX8_plan_2 12 rfl rfl)
theorem dX8_plan_60 : decode cX8_plan 60 = .ok (.aload_n 0, 1) := dk_42 (dk_at dksX8_plan_2 15 rfl rfl)
theorem dX8_plan_61 : decode cX8_plan 61 = .ok (.getfield 18, 3) := dk_180 0 18 (dk_at dksX8_plan_2 16 rfl rfl)
theorem dX8_plan_64 : decode cX8_plan 64 = .ok (.getfield 105, 3) := dk_180 0 105 (dk_at dksX8_plan_2 19 rfl rfl)
theorem dX8_plan_67 : decode cX8_plan 67 = .ok (.aload_n 0, 1) := dk_42 (dk_at dksX8_plan_2 22 rfl rfl)
theorem dX8_plan_68 : decode cX8_plan 68 = .ok (.getfield 18, 3) := dk_180 0 18 (dk_at dksX8_plan_3 0 rfl rfl)
theorem dX8_plan_71 : decode cX8_plan 71 = .ok (.getfield 97, 3) := dk_180 0 97 (dk_at dksX8_plan_3 3 rfl rfl)
theorem dX8_plan_74 : decode cX8_plan 74 = .ok (.iload_n 1, 1) := dk_27 (dk_at dksX8_plan_3 6 rfl rfl)
theorem dX8_plan_75 : decode cX8_plan 75 = .ok (.i2b, 1) := dk_145 (dk_at dksX8_plan_3 7 rfl rfl)
theorem dX8_plan_76 : decode cX8_plan 76 = .ok (.bastore, 1) := dk_84 (dk_at dksX8_plan_3 8 rfl rfl)
theorem dX8_plan_77 : decode cX8_plan 77 = .ok (.aload_n 0, 1) := dk_42 (dk_at dksX8_plan_3 9 rfl rfl)
theorem dX8_plan_78 : decode cX8_plan 78 = .ok (.getfield 18, 3) := dk_180 0 18 (dk_at dksX8_plan_3 10 rfl rfl)
theorem dX8_plan_81 : decode cX8_plan 81 = .ok (.dup, 1) := dk_89 (dk_at dksX8_plan_3 13 rfl rfl)
theorem dX8_plan_82 : decode cX8_plan 82 = .ok (.getfield 97, 3) := dk_180 0 97 (dk_at dksX8_plan_3 14 rfl rfl)
theorem dX8_plan_85 : decode cX8_plan 85 = .ok (.iconst 1, 1) := dk_4 (dk_at dksX8_plan_3 17 rfl rfl)
theorem dX8_plan_86 : decode cX8_plan 86 = .ok (.iadd, 1) := dk_96 (dk_at dksX8_plan_3 18 rfl rfl)
theorem dX8_plan_87 : decode cX8_plan 87 = .ok (.putfield 97, 3) := dk_181 0 97 (dk_at dksX8_plan_3 19 rfl rfl)
theorem dX8_plan_90 : decode cX8_plan 90 = .ok (.aload_n 0, 1) := dk_42 (dk_at dksX8_plan_3 22 rfl rfl)
theorem dX8_plan_91 : decode cX8_plan 91 = .ok (.invokevirtual 29, 3) := dk_182 0 29 (dk_at dksX8_plan_4 0 rfl rfl)
theorem dX8_plan_94 : decode cX8_plan 94 = .ok (.goto (-94), 3) := dk_167 255 162 (dk_at dksX8_plan_4 3 rfl rfl)
theorem dX8_plan_97 : decode cX8_plan 97 = .ok (.return_, 1) := dk_177 (dk_at dksX8_plan_4 6 rfl rfl)
theorem q68 : (Jvm.Cond.initialized "TearsQueue$Reader") ∈ lw_all := lw_g (lw_at lw_m1 9 rfl) rfl
theorem q130 : (Jvm.Cond.fieldLinkNest "TearsQueue$Reader" (116 : Nat) "TearsQueue$Stop" "people" "I" "TearsQueue") ∈ lw_tbl := lw_at lw_m1 71 rfl
theorem q137 : (Jvm.Cond.fieldLinkNest "TearsQueue$Reader" (110 : Nat) "TearsQueue$Stop" "room" "I" "TearsQueue") ∈ lw_tbl := lw_at lw_m1 78 rfl
theorem q141 : (Jvm.Cond.fieldLinkNest "TearsQueue$Reader" (112 : Nat) "TearsQueue$Stop" "think" "I" "TearsQueue") ∈ lw_tbl := lw_at lw_m1 82 rfl
theorem q144 : (Jvm.Cond.fieldLinkNest "TearsQueue$Reader" (97 : Nat) "TearsQueue$Stop" "planned" "I" "TearsQueue") ∈ lw_tbl := lw_at lw_m1 85 rfl
theorem q147 : (Jvm.Cond.fieldLinkNest "TearsQueue$Reader" (105 : Nat) "TearsQueue$Stop" "plan" "[B" "TearsQueue") ∈ lw_tbl := lw_at lw_m1 88 rfl
theorem q189 : (Jvm.Cond.fieldLinkNest "TearsQueue$Reader" (35 : Nat) "TearsQueue" "tape" "[B" "TearsQueue") ∈ lw_tbl := lw_at lw_m1 130 rfl
theorem q256 : (Jvm.Cond.instantiable "TearsQueue$Reader" (9 : Nat)) ∈ lw_all := lw_g (lw_at lw_m1 197 rfl) rfl
theorem q258 : (Jvm.Cond.instanceMethod ({ cls := "TearsQueue$Reader", name := "<init>", desc := "(LTearsQueue;I)V" } : Jvm.MethodName)) ∈ lw_all := lw_g (lw_at lw_m1 199 rfl) rfl
theorem q259 : (Jvm.Cond.code ({ cls := "TearsQueue$Reader", name := "<init>", desc := "(LTearsQueue;I)V" } : Jvm.MethodName) prog_5_method_1_code (3 : Nat) (Option.none : Option Jvm.ClassFile.FieldType)) ∈ lw_all := lw_g (lw_at lw_m1 200 rfl) rfl
theorem q260 : (Jvm.Cond.methodLink "TearsQueue$Reader" (9 : Nat) ({ cls := "java/lang/Object", name := "<init>", desc := "()V" } : Jvm.MethodName)) ∈ lw_all := lw_g (lw_at lw_m1 201 rfl) rfl
theorem q261 : (Jvm.Cond.classLink "TearsQueue$Reader" (15 : Nat) "TearsQueue$Stop") ∈ lw_all := lw_g (lw_at lw_m1 202 rfl) rfl
theorem q262 : (Jvm.Cond.methodLink "TearsQueue$Reader" (17 : Nat) ({ cls := "TearsQueue$Stop", name := "<init>", desc := "()V" } : Jvm.MethodName)) ∈ lw_all := lw_g (lw_at lw_m1 203 rfl) rfl
theorem q263 : (Jvm.Cond.methodLink "TearsQueue$Reader" (29 : Nat) ({ cls := "TearsQueue$Reader", name := "next", desc := "()V" } : Jvm.MethodName)) ∈ lw_all := lw_g (lw_at lw_m1 204 rfl) rfl
theorem q264 : (Jvm.Cond.privateMethod ({ cls := "TearsQueue$Reader", name := "next", desc := "()V" } : Jvm.MethodName)) ∈ lw_tbl := lw_at lw_m1 205 rfl
theorem q265 : (Jvm.Cond.instanceMethod ({ cls := "TearsQueue$Reader", name := "next", desc := "()V" } : Jvm.MethodName)) ∈ lw_all := lw_g (lw_at lw_m1 206 rfl) rfl
theorem q266 : (Jvm.Cond.code ({ cls := "TearsQueue$Reader", name := "next", desc := "()V" } : Jvm.MethodName) prog_5_method_6_code (1 : Nat) (Option.none : Option Jvm.ClassFile.FieldType)) ∈ lw_all := lw_g (lw_at lw_m1 207 rfl) rfl
theorem q267 : (Jvm.Cond.methodLink "TearsQueue$Reader" (78 : Nat) ({ cls := "TearsQueue$Reader", name := "isIn", desc := "(CC)Z" } : Jvm.MethodName)) ∈ lw_all := lw_g (lw_at lw_m1 208 rfl) rfl
theorem q268 : (Jvm.Cond.privateMethod ({ cls := "TearsQueue$Reader", name := "isIn", desc := "(CC)Z" } : Jvm.MethodName)) ∈ lw_tbl := lw_at lw_m1 209 rfl
theorem q269 : (Jvm.Cond.instanceMethod ({ cls := "TearsQueue$Reader", name := "isIn", desc := "(CC)Z" } : Jvm.MethodName)) ∈ lw_all := lw_g (lw_at lw_m1 210 rfl) rfl
theorem q270 : (Jvm.Cond.code ({ cls := "TearsQueue$Reader", name := "isIn", desc := "(CC)Z" } : Jvm.MethodName) prog_5_method_2_code (3 : Nat) (Option.some Jvm.ClassFile.FieldType.boolean)) ∈ lw_all := lw_g (lw_at lw_m1 211 rfl) rfl
theorem q271 : (Jvm.Cond.methodLink "TearsQueue$Reader" (85 : Nat) ({ cls := "TearsQueue$Reader", name := "need", desc := "(ZI)V" } : Jvm.MethodName)) ∈ lw_all := lw_g (lw_at lw_m1 212 rfl) rfl
theorem q272 : (Jvm.Cond.privateMethod ({ cls := "TearsQueue$Reader", name := "need", desc := "(ZI)V" } : Jvm.MethodName)) ∈ lw_tbl := lw_at lw_m1 213 rfl
theorem q273 : (Jvm.Cond.instanceMethod ({ cls := "TearsQueue$Reader", name := "need", desc := "(ZI)V" } : Jvm.MethodName)) ∈ lw_all := lw_g (lw_at lw_m1 214 rfl) rfl
theorem q274 : (Jvm.Cond.code ({ cls := "TearsQueue$Reader", name := "need", desc := "(ZI)V" } : Jvm.MethodName) prog_5_method_3_code (3 : Nat) (Option.none : Option Jvm.ClassFile.FieldType)) ∈ lw_all := lw_g (lw_at lw_m1 215 rfl) rfl
theorem q275 : (Jvm.Cond.classLink "TearsQueue$Reader" (39 : Nat) "TearsQueue$Fault") ∈ lw_all := lw_g (lw_at lw_m1 216 rfl) rfl
theorem q329 : (Jvm.Cond.methodLink "TearsQueue$Reader" (44 : Nat) ({ cls := "TearsQueue$Fault", name := "<init>", desc := "(II)V" } : Jvm.MethodName)) ∈ lw_all := lw_g (lw_at lw_m2 30 rfl) rfl
theorem q359 : (Jvm.Cond.fieldLink "TearsQueue$Reader" (26 : Nat) "TearsQueue$Reader" "size" "I") ∈ lw_all := lw_g (lw_at lw_m2 60 rfl) rfl
theorem q360 : (Jvm.Cond.fieldLink "TearsQueue$Reader" (18 : Nat) "TearsQueue$Reader" "made" "LTearsQueue$Stop;") ∈ lw_all := lw_g (lw_at lw_m2 61 rfl) rfl
theorem q362 : (Jvm.Cond.fieldLink "TearsQueue$Reader" (127 : Nat) "TearsQueue$Reader" "lines" "I") ∈ lw_all := lw_g (lw_at lw_m2 63 rfl) rfl
theorem q363 : (Jvm.Cond.fieldLink "TearsQueue$Reader" (22 : Nat) "TearsQueue$Reader" "highest" "I") ∈ lw_all := lw_g (lw_at lw_m2 64 rfl) rfl
theorem q364 : (Jvm.Cond.fieldLink "TearsQueue$Reader" (32 : Nat) "TearsQueue$Reader" "at" "I") ∈ lw_all := lw_g (lw_at lw_m2 65 rfl) rfl
theorem q365 : (Jvm.Cond.fieldLink "TearsQueue$Reader" (41 : Nat) "TearsQueue$Reader" "from" "I") ∈ lw_all := lw_g (lw_at lw_m2 66 rfl) rfl
theorem q366 : (Jvm.Cond.fieldLink "TearsQueue$Reader" (65 : Nat) "TearsQueue$Reader" "sort" "I") ∈ lw_all := lw_g (lw_at lw_m2 67 rfl) rfl
theorem q367 : (Jvm.Cond.fieldLink "TearsQueue$Reader" (82 : Nat) "TearsQueue$Reader" "value" "I") ∈ lw_all := lw_g (lw_at lw_m2 68 rfl) rfl
theorem q368 : (Jvm.Cond.fieldLink "TearsQueue$Reader" (3 : Nat) "TearsQueue$Reader" "this$0" "LTearsQueue;") ∈ lw_all := lw_g (lw_at lw_m2 69 rfl) rfl
theorem q369 : (Jvm.Cond.laysFinal "TearsQueue$Reader" "TearsQueue$Reader" "size" "I") ∈ lw_all := lw_g (lw_at lw_m2 70 rfl) rfl
theorem q370 : (Jvm.Cond.soleField "TearsQueue$Reader" "size") ∈ lw_all := lw_g (lw_at lw_m2 71 rfl) rfl
theorem q371 : (Jvm.Cond.laysFinal "TearsQueue$Reader" "TearsQueue$Reader" "made" "LTearsQueue$Stop;") ∈ lw_all := lw_g (lw_at lw_m2 72 rfl) rfl
theorem q372 : (Jvm.Cond.soleField "TearsQueue$Reader" "made") ∈ lw_all := lw_g (lw_at lw_m2 73 rfl) rfl
theorem q373 : (Jvm.Cond.lays "TearsQueue$Reader" "TearsQueue$Reader" "lines" "I") ∈ lw_all := lw_g (lw_at lw_m2 74 rfl) rfl
theorem q374 : (Jvm.Cond.soleField "TearsQueue$Reader" "lines") ∈ lw_all := lw_g (lw_at lw_m2 75 rfl) rfl
theorem q375 : (Jvm.Cond.lays "TearsQueue$Reader" "TearsQueue$Reader" "highest" "I") ∈ lw_all := lw_g (lw_at lw_m2 76 rfl) rfl
theorem q376 : (Jvm.Cond.soleField "TearsQueue$Reader" "highest") ∈ lw_all := lw_g (lw_at lw_m2 77 rfl) rfl
theorem q377 : (Jvm.Cond.lays "TearsQueue$Reader" "TearsQueue$Reader" "at" "I") ∈ lw_all := lw_g (lw_at lw_m2 78 rfl) rfl
theorem q378 : (Jvm.Cond.soleField "TearsQueue$Reader" "at") ∈ lw_all := lw_g (lw_at lw_m2 79 rfl) rfl
theorem q379 : (Jvm.Cond.lays "TearsQueue$Reader" "TearsQueue$Reader" "from" "I") ∈ lw_all := lw_g (lw_at lw_m2 80 rfl) rfl
theorem q380 : (Jvm.Cond.soleField "TearsQueue$Reader" "from") ∈ lw_all := lw_g (lw_at lw_m2 81 rfl) rfl
theorem q381 : (Jvm.Cond.lays "TearsQueue$Reader" "TearsQueue$Reader" "sort" "I") ∈ lw_all := lw_g (lw_at lw_m2 82 rfl) rfl
theorem q382 : (Jvm.Cond.soleField "TearsQueue$Reader" "sort") ∈ lw_all := lw_g (lw_at lw_m2 83 rfl) rfl
theorem q383 : (Jvm.Cond.lays "TearsQueue$Reader" "TearsQueue$Reader" "value" "I") ∈ lw_all := lw_g (lw_at lw_m2 84 rfl) rfl
theorem q384 : (Jvm.Cond.soleField "TearsQueue$Reader" "value") ∈ lw_all := lw_g (lw_at lw_m2 85 rfl) rfl
theorem q385 : (Jvm.Cond.laysFinal "TearsQueue$Reader" "TearsQueue$Reader" "this$0" "LTearsQueue;") ∈ lw_all := lw_g (lw_at lw_m2 86 rfl) rfl
theorem q386 : (Jvm.Cond.soleField "TearsQueue$Reader" "this$0") ∈ lw_all := lw_g (lw_at lw_m2 87 rfl) rfl
theorem q387 : (Jvm.Cond.superclass "TearsQueue$Reader" "java/lang/Object") ∈ lw_all := lw_g (lw_at lw_m2 88 rfl) rfl
theorem q389 : (Jvm.Cond.instanceMethod ({ cls := "TearsQueue$Reader", name := "lines", desc := "()I" } : Jvm.MethodName)) ∈ lw_all := lw_g (lw_at lw_m2 90 rfl) rfl
theorem q390 : (Jvm.Cond.selects "TearsQueue$Reader" ({ cls := "TearsQueue$Reader", name := "lines", desc := "()I" } : Jvm.MethodName) ({ cls := "TearsQueue$Reader", name := "lines", desc := "()I" } : Jvm.MethodName)) ∈ lw_all := lw_g (lw_at lw_m2 91 rfl) rfl
theorem q391 : (Jvm.Cond.code ({ cls := "TearsQueue$Reader", name := "lines", desc := "()I" } : Jvm.MethodName) prog_5_method_12_code (2 : Nat) (Option.some Jvm.ClassFile.FieldType.int)) ∈ lw_all := lw_g (lw_at lw_m2 92 rfl) rfl
theorem q392 : (Jvm.Cond.methodLink "TearsQueue$Reader" (138 : Nat) ({ cls := "TearsQueue$Reader", name := "line", desc := "()V" } : Jvm.MethodName)) ∈ lw_all := lw_g (lw_at lw_m2 93 rfl) rfl
theorem q393 : (Jvm.Cond.privateMethod ({ cls := "TearsQueue$Reader", name := "line", desc := "()V" } : Jvm.MethodName)) ∈ lw_tbl := lw_at lw_m2 94 rfl
theorem q394 : (Jvm.Cond.instanceMethod ({ cls := "TearsQueue$Reader", name := "line", desc := "()V" } : Jvm.MethodName)) ∈ lw_all := lw_g (lw_at lw_m2 95 rfl) rfl
theorem q395 : (Jvm.Cond.code ({ cls := "TearsQueue$Reader", name := "line", desc := "()V" } : Jvm.MethodName) prog_5_method_11_code (2 : Nat) (Option.none : Option Jvm.ClassFile.FieldType)) ∈ lw_all := lw_g (lw_at lw_m2 96 rfl) rfl
theorem q396 : (Jvm.Cond.methodLink "TearsQueue$Reader" (123 : Nat) ({ cls := "TearsQueue$Reader", name := "is", desc := "(I)Z" } : Jvm.MethodName)) ∈ lw_all := lw_g (lw_at lw_m2 97 rfl) rfl
theorem q397 : (Jvm.Cond.privateMethod ({ cls := "TearsQueue$Reader", name := "is", desc := "(I)Z" } : Jvm.MethodName)) ∈ lw_tbl := lw_at lw_m2 98 rfl
theorem q398 : (Jvm.Cond.instanceMethod ({ cls := "TearsQueue$Reader", name := "is", desc := "(I)Z" } : Jvm.MethodName)) ∈ lw_all := lw_g (lw_at lw_m2 99 rfl) rfl
theorem q399 : (Jvm.Cond.code ({ cls := "TearsQueue$Reader", name := "is", desc := "(I)Z" } : Jvm.MethodName) prog_5_method_5_code (5 : Nat) (Option.some Jvm.ClassFile.FieldType.boolean)) ∈ lw_all := lw_g (lw_at lw_m2 100 rfl) rfl
theorem q400 : (Jvm.Cond.methodLink "TearsQueue$Reader" (61 : Nat) ({ cls := "TearsQueue$Reader", name := "name", desc := "(I)Ljava/lang/String;" } : Jvm.MethodName)) ∈ lw_all := lw_g (lw_at lw_m2 101 rfl) rfl
theorem q401 : (Jvm.Cond.privateMethod ({ cls := "TearsQueue$Reader", name := "name", desc := "(I)Ljava/lang/String;" } : Jvm.MethodName)) ∈ lw_tbl := lw_at lw_m2 102 rfl
theorem q402 : (Jvm.Cond.instanceMethod ({ cls := "TearsQueue$Reader", name := "name", desc := "(I)Ljava/lang/String;" } : Jvm.MethodName)) ∈ lw_all := lw_g (lw_at lw_m2 103 rfl) rfl
theorem q403 : (Jvm.Cond.code ({ cls := "TearsQueue$Reader", name := "name", desc := "(I)Ljava/lang/String;" } : Jvm.MethodName) prog_5_method_4_code (2 : Nat) (Option.some (Jvm.ClassFile.FieldType.object "java/lang/String"))) ∈ lw_all := lw_g (lw_at lw_m2 104 rfl) rfl
theorem q404 : (Jvm.Cond.stringRef "TearsQueue$Reader" (47 : Nat) "plain") ∈ lw_tbl := lw_at lw_m2 105 rfl
theorem q405 : (Jvm.Cond.stringRef "TearsQueue$Reader" (49 : Nat) "soft") ∈ lw_tbl := lw_at lw_m2 106 rfl
theorem q406 : (Jvm.Cond.stringRef "TearsQueue$Reader" (51 : Nat) "sham") ∈ lw_tbl := lw_at lw_m2 107 rfl
theorem q407 : (Jvm.Cond.stringRef "TearsQueue$Reader" (53 : Nat) "dry") ∈ lw_tbl := lw_at lw_m2 108 rfl
theorem q408 : (Jvm.Cond.stringRef "TearsQueue$Reader" (55 : Nat) "room") ∈ lw_tbl := lw_at lw_m2 109 rfl
theorem q409 : (Jvm.Cond.stringRef "TearsQueue$Reader" (57 : Nat) "think") ∈ lw_tbl := lw_at lw_m2 110 rfl
theorem q410 : (Jvm.Cond.stringRef "TearsQueue$Reader" (59 : Nat) "plan") ∈ lw_tbl := lw_at lw_m2 111 rfl
theorem q411 : (Jvm.Cond.methodLink "TearsQueue$Reader" (68 : Nat) ({ cls := "java/lang/String", name := "length", desc := "()I" } : Jvm.MethodName)) ∈ lw_all := lw_g (lw_at lw_m2 112 rfl) rfl
theorem q421 : (Jvm.Cond.methodLink "TearsQueue$Reader" (74 : Nat) ({ cls := "java/lang/String", name := "charAt", desc := "(I)C" } : Jvm.MethodName)) ∈ lw_all := lw_g (lw_at lw_m2 122 rfl) rfl
theorem q459 : (Jvm.Cond.methodLinkNest "TearsQueue$Reader" (130 : Nat) ({ cls := "TearsQueue", name := "has", desc := "(II)Z" } : Jvm.MethodName) "TearsQueue") ∈ lw_tbl := lw_at lw_m2 160 rfl
theorem q462 : (Jvm.Cond.methodLink "TearsQueue$Reader" (134 : Nat) ({ cls := "TearsQueue$Reader", name := "told", desc := "(I)V" } : Jvm.MethodName)) ∈ lw_all := lw_g (lw_at lw_m2 163 rfl) rfl
theorem q463 : (Jvm.Cond.privateMethod ({ cls := "TearsQueue$Reader", name := "told", desc := "(I)V" } : Jvm.MethodName)) ∈ lw_tbl := lw_at lw_m2 164 rfl
theorem q464 : (Jvm.Cond.instanceMethod ({ cls := "TearsQueue$Reader", name := "told", desc := "(I)V" } : Jvm.MethodName)) ∈ lw_all := lw_g (lw_at lw_m2 165 rfl) rfl
theorem q465 : (Jvm.Cond.code ({ cls := "TearsQueue$Reader", name := "told", desc := "(I)V" } : Jvm.MethodName) prog_5_method_10_code (2 : Nat) (Option.none : Option Jvm.ClassFile.FieldType)) ∈ lw_all := lw_g (lw_at lw_m2 166 rfl) rfl
theorem q466 : (Jvm.Cond.methodLink "TearsQueue$Reader" (107 : Nat) ({ cls := "TearsQueue$Reader", name := "taken", desc := "(II)I" } : Jvm.MethodName)) ∈ lw_all := lw_g (lw_at lw_m2 167 rfl) rfl
theorem q467 : (Jvm.Cond.privateMethod ({ cls := "TearsQueue$Reader", name := "taken", desc := "(II)I" } : Jvm.MethodName)) ∈ lw_tbl := lw_at lw_m2 168 rfl
theorem q468 : (Jvm.Cond.instanceMethod ({ cls := "TearsQueue$Reader", name := "taken", desc := "(II)I" } : Jvm.MethodName)) ∈ lw_all := lw_g (lw_at lw_m2 169 rfl) rfl
theorem q469 : (Jvm.Cond.code ({ cls := "TearsQueue$Reader", name := "taken", desc := "(II)I" } : Jvm.MethodName) prog_5_method_8_code (4 : Nat) (Option.some Jvm.ClassFile.FieldType.int)) ∈ lw_all := lw_g (lw_at lw_m2 170 rfl) rfl
theorem q470 : (Jvm.Cond.methodLink "TearsQueue$Reader" (93 : Nat) ({ cls := "TearsQueue$Reader", name := "looked", desc := "(II)I" } : Jvm.MethodName)) ∈ lw_all := lw_g (lw_at lw_m2 171 rfl) rfl
theorem q471 : (Jvm.Cond.privateMethod ({ cls := "TearsQueue$Reader", name := "looked", desc := "(II)I" } : Jvm.MethodName)) ∈ lw_tbl := lw_at lw_m2 172 rfl
theorem q472 : (Jvm.Cond.instanceMethod ({ cls := "TearsQueue$Reader", name := "looked", desc := "(II)I" } : Jvm.MethodName)) ∈ lw_all := lw_g (lw_at lw_m2 173 rfl) rfl
theorem q473 : (Jvm.Cond.code ({ cls := "TearsQueue$Reader", name := "looked", desc := "(II)I" } : Jvm.MethodName) prog_5_method_7_code (3 : Nat) (Option.some Jvm.ClassFile.FieldType.int)) ∈ lw_all := lw_g (lw_at lw_m2 174 rfl) rfl
theorem q474 : (Jvm.Cond.methodLinkNest "TearsQueue$Reader" (89 : Nat) ({ cls := "TearsQueue", name := "in", desc := "(JJJ)Z" } : Jvm.MethodName) "TearsQueue") ∈ lw_tbl := lw_at lw_m2 175 rfl
theorem q475 : (Jvm.Cond.methodLink "TearsQueue$Reader" (114 : Nat) ({ cls := "TearsQueue$Reader", name := "plan", desc := "()V" } : Jvm.MethodName)) ∈ lw_all := lw_g (lw_at lw_m2 176 rfl) rfl
theorem q476 : (Jvm.Cond.privateMethod ({ cls := "TearsQueue$Reader", name := "plan", desc := "()V" } : Jvm.MethodName)) ∈ lw_tbl := lw_at lw_m2 177 rfl
theorem q477 : (Jvm.Cond.instanceMethod ({ cls := "TearsQueue$Reader", name := "plan", desc := "()V" } : Jvm.MethodName)) ∈ lw_all := lw_g (lw_at lw_m2 178 rfl) rfl
theorem q478 : (Jvm.Cond.code ({ cls := "TearsQueue$Reader", name := "plan", desc := "()V" } : Jvm.MethodName) prog_5_method_9_code (2 : Nat) (Option.none : Option Jvm.ClassFile.FieldType)) ∈ lw_all := lw_g (lw_at lw_m2 179 rfl) rfl
theorem q479 : (Jvm.Cond.methodLink "TearsQueue$Reader" (100 : Nat) ({ cls := "java/lang/Math", name := "max", desc := "(II)I" } : Jvm.MethodName)) ∈ lw_all := lw_g (lw_at lw_m2 180 rfl) rfl
theorem q482 : (Jvm.Cond.methodLink "TearsQueue$Reader" (119 : Nat) ({ cls := "TearsQueue$Stop", name := "becomes", desc := "(III)V" } : Jvm.MethodName)) ∈ lw_all := lw_g (lw_at lw_m2 183 rfl) rfl
theorem in_X8 : ∀ w ∈ wsX80, w ∈ lw_all := lw_in wsX80 [369, 371, 373, 375, 377, 379, 381, 383, 385] (by decide +kernel) (by decide +kernel)
/-! TearsQueue$Fault -/
set_option maxRecDepth 100000
def RX9 : String := "TearsQueue$Fault"
def TX9 : u_T := fun k => match k with
  | 0 => ("java/lang/Throwable", "cause", "Ljava/lang/Throwable;", false)
  | 1 => ("java/lang/Throwable", "stackTrace", "[Ljava/lang/StackTraceElement;", false)
  | 2 => ("java/lang/Throwable", "suppressedExceptions", "Ljava/util/List;", false)
  | 3 => ("java/lang/Throwable", "detailMessage", "Ljava/lang/String;", false)
  | 4 => ("java/lang/Throwable", "backtrace", "Ljava/lang/Object;", false)
  | 5 => ("java/lang/Throwable", "depth", "I", false)
  | 6 => ("TearsQueue$Fault", "code", "I", true)
  | _ => ("TearsQueue$Fault", "place", "I", true)
def tyX9 : Nat → FieldType := fun k => match k with
  | 0 => .object "java/lang/Throwable"
  | 1 => .array (.object "java/lang/StackTraceElement")
  | 2 => .object "java/util/List"
  | 3 => .object "java/lang/String"
  | 4 => .object "java/lang/Object"
  | 5 => .int
  | 6 => .int
  | _ => .int
abbrev wsX90 : List Cond := u_ws RX9 TX9 8
theorem nmX9 : ∀ a, a < 8 → ∀ b, b < 8 → a ≠ b → (TX9 a).2.1 ≠ (TX9 b).2.1 := by decide +kernel
theorem tyX9_ok : ∀ k, k < 8 → parseFieldDescriptor (TX9 k).2.2.1 = some (tyX9 k) := by decide +kernel
abbrev cX9_init : ByteArray := prog_3_method_1_code
def yX9_init : MethodName := ⟨RX9, "<init>", "(II)V"⟩
def dkwX9_init_0 : List UInt8 := [42, 1, 1, 3, 3, 183, 0, 1, 42, 27, 181, 0, 7, 42, 28, 181, 0, 13, 177]
abbrev dktX9_init_0 : List UInt8 := dkwX9_init_0 ++ []
theorem dksX9_init_0 : cX9_init.data.toList.drop 0 = dktX9_init_0 := by decide +kernel
theorem dX9_init_0 : decode cX9_init 0 = .ok (.aload_n 0, 1) := dk_42 (dk_at dksX9_init_0 0 rfl rfl)
theorem dX9_init_1 : decode cX9_init 1 = .ok (.aconst_null, 1) := dk_1 (dk_at dksX9_init_0 1 rfl rfl)
theorem dX9_init_2 : decode cX9_init 2 = .ok (.aconst_null, 1) := dk_1 (dk_at dksX9_init_0 2 rfl rfl)
theorem dX9_init_3 : decode cX9_init 3 = .ok (.iconst 0, 1) := dk_3 (dk_at dksX9_init_0 3 rfl rfl)
theorem dX9_init_4 : decode cX9_init 4 = .ok (.iconst 0, 1) := dk_3 (dk_at dksX9_init_0 4 rfl rfl)
theorem dX9_init_5 : decode cX9_init 5 = .ok (.invokespecial 1, 3) := dk_183 0 1 (dk_at dksX9_init_0 5 rfl rfl)
theorem dX9_init_8 : decode cX9_init 8 = .ok (.aload_n 0, 1) := dk_42 (dk_at dksX9_init_0 8 rfl rfl)
theorem dX9_init_9 : decode cX9_init 9 = .ok (.iload_n 1, 1) := dk_27 (dk_at dksX9_init_0 9 rfl rfl)
theorem dX9_init_10 : decode cX9_init 10 = .ok (.putfield 7, 3) := dk_181 0 7 (dk_at dksX9_init_0 10 rfl rfl)
theorem dX9_init_13 : decode cX9_init 13 = .ok (.aload_n 0, 1) := dk_42 (dk_at dksX9_init_0 13 rfl rfl)
theorem dX9_init_14 : decode cX9_init 14 = .ok (.iload_n 2, 1) := dk_28 (dk_at dksX9_init_0 14 rfl rfl)
theorem dX9_init_15 : decode cX9_init 15 = .ok (.putfield 13, 3) := dk_181 0 13 (dk_at dksX9_init_0 15 rfl rfl)
theorem dX9_init_18 : decode cX9_init 18 = .ok (.return_, 1) := dk_177 (dk_at dksX9_init_0 18 rfl rfl)
theorem q71 : (Jvm.Cond.initialized "TearsQueue$Fault") ∈ lw_all := lw_g (lw_at lw_m1 12 rfl) rfl
theorem q276 : (Jvm.Cond.instantiable "TearsQueue$Fault" (8 : Nat)) ∈ lw_all := lw_g (lw_at lw_m1 217 rfl) rfl
theorem q277 : (Jvm.Cond.castable "TearsQueue$Fault" "TearsQueue$Fault") ∈ lw_tbl := lw_at lw_m1 218 rfl
theorem q282 : (Jvm.Cond.selects "TearsQueue$Fault" ({ cls := "java/lang/Throwable", name := "fillInStackTrace", desc := "(I)Ljava/lang/Throwable;" } : Jvm.MethodName) ({ cls := "java/lang/Throwable", name := "fillInStackTrace", desc := "(I)Ljava/lang/Throwable;" } : Jvm.MethodName)) ∈ lw_all := lw_g (lw_at lw_m1 223 rfl) rfl
theorem q283 : (Jvm.Cond.selects "TearsQueue$Fault" ({ cls := "java/lang/Throwable", name := "fillInStackTrace", desc := "()Ljava/lang/Throwable;" } : Jvm.MethodName) ({ cls := "java/lang/Throwable", name := "fillInStackTrace", desc := "()Ljava/lang/Throwable;" } : Jvm.MethodName)) ∈ lw_all := lw_g (lw_at lw_m1 224 rfl) rfl
theorem q284 : (Jvm.Cond.lays "TearsQueue$Fault" "java/lang/Throwable" "cause" "Ljava/lang/Throwable;") ∈ lw_all := lw_g (lw_at lw_m1 225 rfl) rfl
theorem q286 : (Jvm.Cond.lays "TearsQueue$Fault" "java/lang/Throwable" "stackTrace" "[Ljava/lang/StackTraceElement;") ∈ lw_all := lw_g (lw_at lw_m1 227 rfl) rfl
theorem q288 : (Jvm.Cond.lays "TearsQueue$Fault" "java/lang/Throwable" "suppressedExceptions" "Ljava/util/List;") ∈ lw_all := lw_g (lw_at lw_m1 229 rfl) rfl
theorem q290 : (Jvm.Cond.lays "TearsQueue$Fault" "java/lang/Throwable" "detailMessage" "Ljava/lang/String;") ∈ lw_all := lw_g (lw_at lw_m1 231 rfl) rfl
theorem q292 : (Jvm.Cond.lays "TearsQueue$Fault" "java/lang/Throwable" "backtrace" "Ljava/lang/Object;") ∈ lw_all := lw_g (lw_at lw_m1 233 rfl) rfl
theorem q330 : (Jvm.Cond.instanceMethod ({ cls := "TearsQueue$Fault", name := "<init>", desc := "(II)V" } : Jvm.MethodName)) ∈ lw_all := lw_g (lw_at lw_m2 31 rfl) rfl
theorem q331 : (Jvm.Cond.code ({ cls := "TearsQueue$Fault", name := "<init>", desc := "(II)V" } : Jvm.MethodName) prog_3_method_1_code (3 : Nat) (Option.none : Option Jvm.ClassFile.FieldType)) ∈ lw_all := lw_g (lw_at lw_m2 32 rfl) rfl
theorem q332 : (Jvm.Cond.methodLink "TearsQueue$Fault" (1 : Nat) ({ cls := "java/lang/Exception", name := "<init>", desc := "(Ljava/lang/String;Ljava/lang/Throwable;ZZ)V" } : Jvm.MethodName)) ∈ lw_all := lw_g (lw_at lw_m2 33 rfl) rfl
theorem q338 : (Jvm.Cond.fieldLink "TearsQueue$Fault" (7 : Nat) "TearsQueue$Fault" "code" "I") ∈ lw_all := lw_g (lw_at lw_m2 39 rfl) rfl
theorem q340 : (Jvm.Cond.fieldLink "TearsQueue$Fault" (13 : Nat) "TearsQueue$Fault" "place" "I") ∈ lw_all := lw_g (lw_at lw_m2 41 rfl) rfl
theorem q347 : (Jvm.Cond.laysFinal "TearsQueue$Fault" "TearsQueue$Fault" "code" "I") ∈ lw_all := lw_g (lw_at lw_m2 48 rfl) rfl
theorem q348 : (Jvm.Cond.soleField "TearsQueue$Fault" "code") ∈ lw_all := lw_g (lw_at lw_m2 49 rfl) rfl
theorem q349 : (Jvm.Cond.laysFinal "TearsQueue$Fault" "TearsQueue$Fault" "place" "I") ∈ lw_all := lw_g (lw_at lw_m2 50 rfl) rfl
theorem q350 : (Jvm.Cond.soleField "TearsQueue$Fault" "place") ∈ lw_all := lw_g (lw_at lw_m2 51 rfl) rfl
theorem q355 : (Jvm.Cond.lays "TearsQueue$Fault" "java/lang/Throwable" "depth" "I") ∈ lw_all := lw_g (lw_at lw_m2 56 rfl) rfl
theorem q358 : (Jvm.Cond.superclass "TearsQueue$Fault" "java/lang/Exception") ∈ lw_all := lw_g (lw_at lw_m2 59 rfl) rfl
theorem in_X9 : ∀ w ∈ wsX90, w ∈ lw_all := lw_in wsX90 [284, 286, 288, 290, 292, 355, 347, 349] (by decide +kernel) (by decide +kernel)
/-! java/lang/Throwable -/
set_option maxRecDepth 100000
def RJ0 : String := "java/lang/Throwable"
def TJ0 : u_T := fun k => match k with
  | 0 => ("java/lang/Throwable", "cause", "Ljava/lang/Throwable;", false)
  | 1 => ("java/lang/Throwable", "stackTrace", "[Ljava/lang/StackTraceElement;", false)
  | 2 => ("java/lang/Throwable", "suppressedExceptions", "Ljava/util/List;", false)
  | 3 => ("java/lang/Throwable", "detailMessage", "Ljava/lang/String;", false)
  | _ => ("java/lang/Throwable", "backtrace", "Ljava/lang/Object;", false)
def tyJ0 : Nat → FieldType := fun k => match k with
  | 0 => .object "java/lang/Throwable"
  | 1 => .array (.object "java/lang/StackTraceElement")
  | 2 => .object "java/util/List"
  | 3 => .object "java/lang/String"
  | _ => .object "java/lang/Object"
abbrev wsJ00 : List Cond := u_ws RJ0 TJ0 5
theorem nmJ0 : ∀ a, a < 5 → ∀ b, b < 5 → a ≠ b → (TJ0 a).2.1 ≠ (TJ0 b).2.1 := by decide +kernel
theorem tyJ0_ok : ∀ k, k < 5 → parseFieldDescriptor (TJ0 k).2.2.1 = some (tyJ0 k) := by decide +kernel
abbrev cJ0_init : ByteArray := prog_25_method_1_code
def yJ0_init : MethodName := ⟨RJ0, "<init>", "()V"⟩
def dkwJ0_init_1 : List UInt8 := [182, 0, 27, 87, 177]
abbrev dktJ0_init_1 : List UInt8 := dkwJ0_init_1 ++ []
def dkwJ0_init_0 : List UInt8 := [42, 183, 0, 1, 42, 42, 181, 0, 7, 42, 178, 0, 13, 181, 0, 17, 42, 178, 0, 20, 181, 0, 24, 42]
abbrev dktJ0_init_0 : List UInt8 := dkwJ0_init_0 ++ dktJ0_init_1
theorem dksJ0_init_0 : cJ0_init.data.toList.drop 0 = dktJ0_init_0 := by decide +kernel
theorem dksJ0_init_1 : cJ0_init.data.toList.drop 24 = dktJ0_init_1 := dk_seg dksJ0_init_0 24 rfl rfl
theorem dJ0_init_0 : decode cJ0_init 0 = .ok (.aload_n 0, 1) := dk_42 (dk_at dksJ0_init_0 0 rfl rfl)
theorem dJ0_init_1 : decode cJ0_init 1 = .ok (.invokespecial 1, 3) := dk_183 0 1 (dk_at dksJ0_init_0 1 rfl rfl)
theorem dJ0_init_4 : decode cJ0_init 4 = .ok (.aload_n 0, 1) := dk_42 (dk_at dksJ0_init_0 4 rfl rfl)
theorem dJ0_init_5 : decode cJ0_init 5 = .ok (.aload_n 0, 1) := dk_42 (dk_at dksJ0_init_0 5 rfl rfl)
theorem dJ0_init_6 : decode cJ0_init 6 = .ok (.putfield 7, 3) := dk_181 0 7 (dk_at dksJ0_init_0 6 rfl rfl)
theorem dJ0_init_9 : decode cJ0_init 9 = .ok (.aload_n 0, 1) := dk_42 (dk_at dksJ0_init_0 9 rfl rfl)
theorem dJ0_init_10 : decode cJ0_init 10 = .ok (.getstatic 13, 3) := dk_178 0 13 (dk_at dksJ0_init_0 10 rfl rfl)
theorem dJ0_init_13 : decode cJ0_init 13 = .ok (.putfield 17, 3) := dk_181 0 17 (dk_at dksJ0_init_0 13 rfl rfl)
theorem dJ0_init_16 : decode cJ0_init 16 = .ok (.aload_n 0, 1) := dk_42 (dk_at dksJ0_init_0 16 rfl rfl)
theorem dJ0_init_17 : decode cJ0_init 17 = .ok (.getstatic 20, 3) := dk_178 0 20 (dk_at dksJ0_init_0 17 rfl rfl)
theorem dJ0_init_20 : decode cJ0_init 20 = .ok (.putfield 24, 3) := dk_181 0 24 (dk_at dksJ0_init_0 20 rfl rfl)
theorem dJ0_init_23 : decode cJ0_init 23 = .ok (.aload_n 0, 1) := dk_42 (dk_at dksJ0_init_0 23 rfl rfl)
theorem dJ0_init_24 : decode cJ0_init 24 = .ok (.invokevirtual 27, 3) := dk_182 0 27 (dk_at dksJ0_init_1 0 rfl rfl)
theorem dJ0_init_27 : decode cJ0_init 27 = .ok (.pop, 1) := dk_87 (dk_at dksJ0_init_1 3 rfl rfl)
theorem dJ0_init_28 : decode cJ0_init 28 = .ok (.return_, 1) := dk_177 (dk_at dksJ0_init_1 4 rfl rfl)
abbrev cJ0_init_2 : ByteArray := prog_25_method_5_code
def yJ0_init_2 : MethodName := ⟨RJ0, "<init>", "(Ljava/lang/String;Ljava/lang/Throwable;ZZ)V"⟩
def dkwJ0_init_2_2 : List UInt8 := [44, 181, 0, 7, 29, 154, 0, 8, 42, 1, 181, 0, 24, 177]
abbrev dktJ0_init_2_2 : List UInt8 := dkwJ0_init_2_2 ++ []
def dkwJ0_init_2_1 : List UInt8 := [21, 4, 153, 0, 11, 42, 182, 0, 27, 87, 167, 0, 8, 42, 1, 181, 0, 17, 42, 43, 181, 0, 31, 42]
abbrev dktJ0_init_2_1 : List UInt8 := dkwJ0_init_2_1 ++ dktJ0_init_2_2
def dkwJ0_init_2_0 : List UInt8 := [42, 183, 0, 1, 42, 42, 181, 0, 7, 42, 178, 0, 13, 181, 0, 17, 42, 178, 0, 20, 181, 0, 24]
abbrev dktJ0_init_2_0 : List UInt8 := dkwJ0_init_2_0 ++ dktJ0_init_2_1
theorem dksJ0_init_2_0 : cJ0_init_2.data.toList.drop 0 = dktJ0_init_2_0 := by decide +kernel
theorem dksJ0_init_2_1 : cJ0_init_2.data.toList.drop 23 = dktJ0_init_2_1 := dk_seg dksJ0_init_2_0 23 rfl rfl
theorem dksJ0_init_2_2 : cJ0_init_2.data.toList.drop 47 = dktJ0_init_2_2 := dk_seg dksJ0_init_2_1 24 rfl rfl
theorem dJ0_init_2_0 : decode cJ0_init_2 0 = .ok (.aload_n 0, 1) := dk_42 (dk_at dksJ0_init_2_0 0 rfl rfl)
theorem dJ0_init_2_1 : decode cJ0_init_2 1 = .ok (.invokespecial 1, 3) := dk_183 0 1 (dk_at dksJ0_init_2_0 1 rfl rfl)
theorem dJ0_init_2_4 : decode cJ0_init_2 4 = .ok (.aload_n 0, 1) := dk_42 (dk_at dksJ0_init_2_0 4 rfl rfl)
theorem dJ0_init_2_5 : decode cJ0_init_2 5 = .ok (.aload_n 0, 1) := dk_42 (dk_at dksJ0_init_2_0 5 rfl rfl)
theorem dJ0_init_2_6 : decode cJ0_init_2 6 = .ok (.putfield 7, 3) := dk_181 0 7 (dk_at dksJ0_init_2_0 6 rfl rfl)
theorem dJ0_init_2_9 : decode cJ0_init_2 9 = .ok (.aload_n 0, 1) := dk_42 (dk_at dksJ0_init_2_0 9 rfl rfl)
theorem dJ0_init_2_10 : decode cJ0_init_2 10 = .ok (.getstatic 13, 3) := dk_178 0 13 (dk_at dksJ0_init_2_0 10 rfl rfl)
theorem dJ0_init_2_13 : decode cJ0_init_2 13 = .ok (.putfield 17, 3) := dk_181 0 17 (dk_at dksJ0_init_2_0 13 rfl rfl)
theorem dJ0_init_2_16 : decode cJ0_init_2 16 = .ok (.aload_n 0, 1) := dk_42 (dk_at dksJ0_init_2_0 16 rfl rfl)
theorem dJ0_init_2_17 : decode cJ0_init_2 17 = .ok (.getstatic 20, 3) := dk_178 0 20 (dk_at dksJ0_init_2_0 17 rfl rfl)
theorem dJ0_init_2_20 : decode cJ0_init_2 20 = .ok (.putfield 24, 3) := dk_181 0 24 (dk_at dksJ0_init_2_0 20 rfl rfl)
theorem dJ0_init_2_23 : decode cJ0_init_2 23 = .ok (.iload 4, 2) := dk_21 4 (dk_at dksJ0_init_2_1 0 rfl rfl)
theorem dJ0_init_2_25 : decode cJ0_init_2 25 = .ok (.ifCond .eq 11, 3) := dk_153 0 11 (dk_at dksJ0_init_2_1 2 rfl rfl)
theorem dJ0_init_2_28 : decode cJ0_init_2 28 = .ok (.aload_n 0, 1) := dk_42 (dk_at dksJ0_init_2_1 5 rfl rfl)
theorem dJ0_init_2_29 : decode cJ0_init_2 29 = .ok (.invokevirtual 27, 3) := dk_182 0 27 (dk_at dksJ0_init_2_1 6 rfl rfl)
theorem dJ0_init_2_32 : decode cJ0_init_2 32 = .ok (.pop, 1) := dk_87 (dk_at dksJ0_init_2_1 9 rfl rfl)
theorem dJ0_init_2_33 : decode cJ0_init_2 33 = .ok (.goto 8, 3) := dk_167 0 8 (dk_at dksJ0_init_2_1 10 rfl rfl)
theorem dJ0_init_2_36 : decode cJ0_init_2 36 = .ok (.aload_n 0, 1) := dk_42 (dk_at dksJ0_init_2_1 13 rfl rfl)
theorem dJ0_init_2_37 : decode cJ0_init_2 37 = .ok (.aconst_null, 1) := dk_1 (dk_at dksJ0_init_2_1 14 rfl rfl)
theorem dJ0_init_2_38 : decode cJ0_init_2 38 = .ok (.putfield 17, 3) := dk_181 0 17 (dk_at dksJ0_init_2_1 15 rfl rfl)
theorem dJ0_init_2_41 : decode cJ0_init_2 41 = .ok (.aload_n 0, 1) := dk_42 (dk_at dksJ0_init_2_1 18 rfl rfl)
theorem dJ0_init_2_42 : decode cJ0_init_2 42 = .ok (.aload_n 1, 1) := dk_43 (dk_at dksJ0_init_2_1 19 rfl rfl)
theorem dJ0_init_2_43 : decode cJ0_init_2 43 = .ok (.putfield 31, 3) := dk_181 0 31 (dk_at dksJ0_init_2_1 20 rfl rfl)
theorem dJ0_init_2_46 : decode cJ0_init_2 46 = .ok (.aload_n 0, 1) := dk_42 (dk_at dksJ0_init_2_1 23 rfl rfl)
theorem dJ0_init_2_47 : decode cJ0_init_2 47 = .ok (.aload_n 2, 1) := dk_44 (dk_at dksJ0_init_2_2 0 rfl rfl)
theorem dJ0_init_2_48 : decode cJ0_init_2 48 = .ok (.putfield 7, 3) := dk_181 0 7 (dk_at dksJ0_init_2_2 1 rfl rfl)
theorem dJ0_init_2_51 : decode cJ0_init_2 51 = .ok (.iload_n 3, 1) := dk_29 (dk_at dksJ0_init_2_2 4 rfl rfl)
theorem dJ0_init_2_52 : decode cJ0_init_2 52 = .ok (.ifCond .ne 8, 3) := dk_154 0 8 (dk_at dksJ0_init_2_2 5 rfl rfl)
theorem dJ0_init_2_55 : decode cJ0_init_2 55 = .ok (.aload_n 0, 1) := dk_42 (dk_at dksJ0_init_2_2 8 rfl rfl)
theorem dJ0_init_2_56 : decode cJ0_init_2 56 = .ok (.aconst_null, 1) := dk_1 (dk_at dksJ0_init_2_2 9 rfl rfl)
theorem dJ0_init_2_57 : decode cJ0_init_2 57 = .ok (.putfield 24, 3) := dk_181 0 24 (dk_at dksJ0_init_2_2 10 rfl rfl)
theorem dJ0_init_2_60 : decode cJ0_init_2 60 = .ok (.return_, 1) := dk_177 (dk_at dksJ0_init_2_2 13 rfl rfl)
abbrev cJ0_init_3 : ByteArray := prog_25_method_2_code
def yJ0_init_3 : MethodName := ⟨RJ0, "<init>", "(Ljava/lang/String;)V"⟩
def dkwJ0_init_3_1 : List UInt8 := [182, 0, 27, 87, 42, 43, 181, 0, 31, 177]
abbrev dktJ0_init_3_1 : List UInt8 := dkwJ0_init_3_1 ++ []
def dkwJ0_init_3_0 : List UInt8 := [42, 183, 0, 1, 42, 42, 181, 0, 7, 42, 178, 0, 13, 181, 0, 17, 42, 178, 0, 20, 181, 0, 24, 42]
abbrev dktJ0_init_3_0 : List UInt8 := dkwJ0_init_3_0 ++ dktJ0_init_3_1
theorem dksJ0_init_3_0 : cJ0_init_3.data.toList.drop 0 = dktJ0_init_3_0 := by decide +kernel
theorem dksJ0_init_3_1 : cJ0_init_3.data.toList.drop 24 = dktJ0_init_3_1 := dk_seg dksJ0_init_3_0 24 rfl rfl
theorem dJ0_init_3_0 : decode cJ0_init_3 0 = .ok (.aload_n 0, 1) := dk_42 (dk_at dksJ0_init_3_0 0 rfl rfl)
theorem dJ0_init_3_1 : decode cJ0_init_3 1 = .ok (.invokespecial 1, 3) := dk_183 0 1 (dk_at dksJ0_init_3_0 1 rfl rfl)
theorem dJ0_init_3_4 : decode cJ0_init_3 4 = .ok (.aload_n 0, 1) := dk_42 (dk_at dksJ0_init_3_0 4 rfl rfl)
theorem dJ0_init_3_5 : decode cJ0_init_3 5 = .ok (.aload_n 0, 1) := dk_42 (dk_at dksJ0_init_3_0 5 rfl rfl)
theorem dJ0_init_3_6 : decode cJ0_init_3 6 = .ok (.putfield 7, 3) := dk_181 0 7 (dk_at dksJ0_init_3_0 6 rfl rfl)
theorem dJ0_init_3_9 : decode cJ0_init_3 9 = .ok (.aload_n 0, 1) := dk_42 (dk_at dksJ0_init_3_0 9 rfl rfl)
theorem dJ0_init_3_10 : decode cJ0_init_3 10 = .ok (.getstatic 13, 3) := dk_178 0 13 (dk_at dksJ0_init_3_0 10 rfl rfl)
theorem dJ0_init_3_13 : decode cJ0_init_3 13 = .ok (.putfield 17, 3) := dk_181 0 17 (dk_at dksJ0_init_3_0 13 rfl rfl)
theorem dJ0_init_3_16 : decode cJ0_init_3 16 = .ok (.aload_n 0, 1) := dk_42 (dk_at dksJ0_init_3_0 16 rfl rfl)
theorem dJ0_init_3_17 : decode cJ0_init_3 17 = .ok (.getstatic 20, 3) := dk_178 0 20 (dk_at dksJ0_init_3_0 17 rfl rfl)
theorem dJ0_init_3_20 : decode cJ0_init_3 20 = .ok (.putfield 24, 3) := dk_181 0 24 (dk_at dksJ0_init_3_0 20 rfl rfl)
theorem dJ0_init_3_23 : decode cJ0_init_3 23 = .ok (.aload_n 0, 1) := dk_42 (dk_at dksJ0_init_3_0 23 rfl rfl)
theorem dJ0_init_3_24 : decode cJ0_init_3 24 = .ok (.invokevirtual 27, 3) := dk_182 0 27 (dk_at dksJ0_init_3_1 0 rfl rfl)
theorem dJ0_init_3_27 : decode cJ0_init_3 27 = .ok (.pop, 1) := dk_87 (dk_at dksJ0_init_3_1 3 rfl rfl)
theorem dJ0_init_3_28 : decode cJ0_init_3 28 = .ok (.aload_n 0, 1) := dk_42 (dk_at dksJ0_init_3_1 4 rfl rfl)
theorem dJ0_init_3_29 : decode cJ0_init_3 29 = .ok (.aload_n 1, 1) := dk_43 (dk_at dksJ0_init_3_1 5 rfl rfl)
theorem dJ0_init_3_30 : decode cJ0_init_3 30 = .ok (.putfield 31, 3) := dk_181 0 31 (dk_at dksJ0_init_3_1 6 rfl rfl)
theorem dJ0_init_3_33 : decode cJ0_init_3 33 = .ok (.return_, 1) := dk_177 (dk_at dksJ0_init_3_1 9 rfl rfl)
theorem q69 : (Jvm.Cond.initialized "java/lang/Throwable") ∈ lw_all := lw_g (lw_at lw_m1 10 rfl) rfl
theorem q280 : (Jvm.Cond.declares ({ cls := "java/lang/Throwable", name := "<init>", desc := "()V" } : Jvm.MethodName)) ∈ lw_tbl := lw_at lw_m1 221 rfl
theorem q281 : (Jvm.Cond.declares ({ cls := "java/lang/Throwable", name := "<init>", desc := "(Ljava/lang/String;)V" } : Jvm.MethodName)) ∈ lw_tbl := lw_at lw_m1 222 rfl
theorem q285 : (Jvm.Cond.lays "java/lang/Throwable" "java/lang/Throwable" "cause" "Ljava/lang/Throwable;") ∈ lw_all := lw_g (lw_at lw_m1 226 rfl) rfl
theorem q287 : (Jvm.Cond.lays "java/lang/Throwable" "java/lang/Throwable" "stackTrace" "[Ljava/lang/StackTraceElement;") ∈ lw_all := lw_g (lw_at lw_m1 228 rfl) rfl
theorem q289 : (Jvm.Cond.lays "java/lang/Throwable" "java/lang/Throwable" "suppressedExceptions" "Ljava/util/List;") ∈ lw_all := lw_g (lw_at lw_m1 230 rfl) rfl
theorem q291 : (Jvm.Cond.lays "java/lang/Throwable" "java/lang/Throwable" "detailMessage" "Ljava/lang/String;") ∈ lw_all := lw_g (lw_at lw_m1 232 rfl) rfl
theorem q293 : (Jvm.Cond.lays "java/lang/Throwable" "java/lang/Throwable" "backtrace" "Ljava/lang/Object;") ∈ lw_all := lw_g (lw_at lw_m1 234 rfl) rfl
theorem q294 : (Jvm.Cond.fieldLink "java/lang/Throwable" (198 : Nat) "java/lang/Throwable" "backtrace" "Ljava/lang/Object;") ∈ lw_all := lw_g (lw_at lw_m1 235 rfl) rfl
theorem q295 : (Jvm.Cond.superclass "java/lang/Throwable" "java/lang/Object") ∈ lw_all := lw_g (lw_at lw_m1 236 rfl) rfl
theorem q296 : (Jvm.Cond.instanceMethod ({ cls := "java/lang/Throwable", name := "<init>", desc := "()V" } : Jvm.MethodName)) ∈ lw_all := lw_g (lw_at lw_m1 237 rfl) rfl
theorem q297 : (Jvm.Cond.code ({ cls := "java/lang/Throwable", name := "<init>", desc := "()V" } : Jvm.MethodName) prog_25_method_1_code (1 : Nat) (Option.none : Option Jvm.ClassFile.FieldType)) ∈ lw_all := lw_g (lw_at lw_m1 238 rfl) rfl
theorem q298 : (Jvm.Cond.methodLink "java/lang/Throwable" (1 : Nat) ({ cls := "java/lang/Object", name := "<init>", desc := "()V" } : Jvm.MethodName)) ∈ lw_all := lw_g (lw_at lw_m1 239 rfl) rfl
theorem q299 : (Jvm.Cond.fieldLink "java/lang/Throwable" (13 : Nat) "java/lang/Throwable" "UNASSIGNED_STACK" "[Ljava/lang/StackTraceElement;") ∈ lw_all := lw_g (lw_at lw_m2 0 rfl) rfl
theorem q300 : (Jvm.Cond.laysStatic "java/lang/Throwable" "UNASSIGNED_STACK" "[Ljava/lang/StackTraceElement;") ∈ lw_tbl := lw_at lw_m2 1 rfl
theorem q301 : (Jvm.Cond.fieldLink "java/lang/Throwable" (20 : Nat) "java/lang/Throwable" "SUPPRESSED_SENTINEL" "Ljava/util/List;") ∈ lw_all := lw_g (lw_at lw_m2 2 rfl) rfl
theorem q302 : (Jvm.Cond.laysStatic "java/lang/Throwable" "SUPPRESSED_SENTINEL" "Ljava/util/List;") ∈ lw_tbl := lw_at lw_m2 3 rfl
theorem q303 : (Jvm.Cond.methodLink "java/lang/Throwable" (27 : Nat) ({ cls := "java/lang/Throwable", name := "fillInStackTrace", desc := "()Ljava/lang/Throwable;" } : Jvm.MethodName)) ∈ lw_all := lw_g (lw_at lw_m2 4 rfl) rfl
theorem q304 : (Jvm.Cond.instanceMethod ({ cls := "java/lang/Throwable", name := "fillInStackTrace", desc := "()Ljava/lang/Throwable;" } : Jvm.MethodName)) ∈ lw_all := lw_g (lw_at lw_m2 5 rfl) rfl
theorem q305 : (Jvm.Cond.sameMethod "java/lang/Throwable" "java/lang/Throwable" "fillInStackTrace" "()Ljava/lang/Throwable;") ∈ lw_all := lw_g (lw_at lw_m2 6 rfl) rfl
theorem q319 : (Jvm.Cond.declares ({ cls := "java/lang/Throwable", name := "fillInStackTrace", desc := "()Ljava/lang/Throwable;" } : Jvm.MethodName)) ∈ lw_tbl := lw_at lw_m2 20 rfl
theorem q323 : (Jvm.Cond.codeSync ({ cls := "java/lang/Throwable", name := "fillInStackTrace", desc := "()Ljava/lang/Throwable;" } : Jvm.MethodName) prog_25_method_18_code (1 : Nat) (Option.some (Jvm.ClassFile.FieldType.object "java/lang/Throwable"))) ∈ lw_all := lw_g (lw_at lw_m2 24 rfl) rfl
theorem q324 : (Jvm.Cond.methodLink "java/lang/Throwable" (202 : Nat) ({ cls := "java/lang/Throwable", name := "fillInStackTrace", desc := "(I)Ljava/lang/Throwable;" } : Jvm.MethodName)) ∈ lw_all := lw_g (lw_at lw_m2 25 rfl) rfl
theorem q325 : (Jvm.Cond.privateMethod ({ cls := "java/lang/Throwable", name := "fillInStackTrace", desc := "(I)Ljava/lang/Throwable;" } : Jvm.MethodName)) ∈ lw_tbl := lw_at lw_m2 26 rfl
theorem q326 : (Jvm.Cond.instanceMethod ({ cls := "java/lang/Throwable", name := "fillInStackTrace", desc := "(I)Ljava/lang/Throwable;" } : Jvm.MethodName)) ∈ lw_all := lw_g (lw_at lw_m2 27 rfl) rfl
theorem q327 : (Jvm.Cond.instantiable "java/lang/Throwable" (6 : Nat)) ∈ lw_all := lw_g (lw_at lw_m2 28 rfl) rfl
theorem q328 : (Jvm.Cond.native ({ cls := "java/lang/Throwable", name := "fillInStackTrace", desc := "(I)Ljava/lang/Throwable;" } : Jvm.MethodName)) ∈ lw_all := lw_g (lw_at lw_m2 29 rfl) rfl
theorem q336 : (Jvm.Cond.instanceMethod ({ cls := "java/lang/Throwable", name := "<init>", desc := "(Ljava/lang/String;Ljava/lang/Throwable;ZZ)V" } : Jvm.MethodName)) ∈ lw_all := lw_g (lw_at lw_m2 37 rfl) rfl
theorem q337 : (Jvm.Cond.code ({ cls := "java/lang/Throwable", name := "<init>", desc := "(Ljava/lang/String;Ljava/lang/Throwable;ZZ)V" } : Jvm.MethodName) prog_25_method_5_code (5 : Nat) (Option.none : Option Jvm.ClassFile.FieldType)) ∈ lw_all := lw_g (lw_at lw_m2 38 rfl) rfl
theorem q342 : (Jvm.Cond.fieldLink "java/lang/Throwable" (198 : Nat) "java/lang/Throwable" "backtrace" "Ljava/lang/Object;") ∈ lw_all := lw_g (lw_at lw_m2 43 rfl) rfl
theorem q343 : (Jvm.Cond.fieldLink "java/lang/Throwable" (31 : Nat) "java/lang/Throwable" "detailMessage" "Ljava/lang/String;") ∈ lw_all := lw_g (lw_at lw_m2 44 rfl) rfl
theorem q344 : (Jvm.Cond.fieldLink "java/lang/Throwable" (7 : Nat) "java/lang/Throwable" "cause" "Ljava/lang/Throwable;") ∈ lw_all := lw_g (lw_at lw_m2 45 rfl) rfl
theorem q345 : (Jvm.Cond.fieldLink "java/lang/Throwable" (17 : Nat) "java/lang/Throwable" "stackTrace" "[Ljava/lang/StackTraceElement;") ∈ lw_all := lw_g (lw_at lw_m2 46 rfl) rfl
theorem q346 : (Jvm.Cond.fieldLink "java/lang/Throwable" (24 : Nat) "java/lang/Throwable" "suppressedExceptions" "Ljava/util/List;") ∈ lw_all := lw_g (lw_at lw_m2 47 rfl) rfl
theorem q351 : (Jvm.Cond.soleField "java/lang/Throwable" "backtrace") ∈ lw_all := lw_g (lw_at lw_m2 52 rfl) rfl
theorem q352 : (Jvm.Cond.soleField "java/lang/Throwable" "detailMessage") ∈ lw_all := lw_g (lw_at lw_m2 53 rfl) rfl
theorem q353 : (Jvm.Cond.soleField "java/lang/Throwable" "cause") ∈ lw_all := lw_g (lw_at lw_m2 54 rfl) rfl
theorem q354 : (Jvm.Cond.soleField "java/lang/Throwable" "stackTrace") ∈ lw_all := lw_g (lw_at lw_m2 55 rfl) rfl
theorem q356 : (Jvm.Cond.soleField "java/lang/Throwable" "depth") ∈ lw_all := lw_g (lw_at lw_m2 57 rfl) rfl
theorem q357 : (Jvm.Cond.soleField "java/lang/Throwable" "suppressedExceptions") ∈ lw_all := lw_g (lw_at lw_m2 58 rfl) rfl
theorem q806 : (Jvm.Cond.instanceMethod ({ cls := "java/lang/Throwable", name := "<init>", desc := "(Ljava/lang/String;)V" } : Jvm.MethodName)) ∈ lw_all := lw_g (lw_at lw_m4 27 rfl) rfl
theorem q807 : (Jvm.Cond.code ({ cls := "java/lang/Throwable", name := "<init>", desc := "(Ljava/lang/String;)V" } : Jvm.MethodName) prog_25_method_2_code (2 : Nat) (Option.none : Option Jvm.ClassFile.FieldType)) ∈ lw_all := lw_g (lw_at lw_m4 28 rfl) rfl
theorem q1331 : (Jvm.Cond.sameMethod "java/lang/Throwable" "java/lang/Throwable" "fillInStackTrace" "(I)Ljava/lang/Throwable;") ∈ lw_all := lw_g (lw_at lw_m6 72 rfl) rfl
theorem in_J0 : ∀ w ∈ wsJ00, w ∈ lw_all := lw_in wsJ00 [285, 287, 289, 291, 293] (by decide +kernel) (by decide +kernel)
/-! java/lang/Exception -/
set_option maxRecDepth 100000
def RJ1 : String := "java/lang/Exception"
abbrev cJ1_init : ByteArray := prog_14_method_5_code
def yJ1_init : MethodName := ⟨RJ1, "<init>", "(Ljava/lang/String;Ljava/lang/Throwable;ZZ)V"⟩
def dkwJ1_init_0 : List UInt8 := [42, 43, 44, 29, 21, 4, 183, 0, 16, 177]
abbrev dktJ1_init_0 : List UInt8 := dkwJ1_init_0 ++ []
theorem dksJ1_init_0 : cJ1_init.data.toList.drop 0 = dktJ1_init_0 := by decide +kernel
theorem dJ1_init_0 : decode cJ1_init 0 = .ok (.aload_n 0, 1) := dk_42 (dk_at dksJ1_init_0 0 rfl rfl)
theorem dJ1_init_1 : decode cJ1_init 1 = .ok (.aload_n 1, 1) := dk_43 (dk_at dksJ1_init_0 1 rfl rfl)
theorem dJ1_init_2 : decode cJ1_init 2 = .ok (.aload_n 2, 1) := dk_44 (dk_at dksJ1_init_0 2 rfl rfl)
theorem dJ1_init_3 : decode cJ1_init 3 = .ok (.iload_n 3, 1) := dk_29 (dk_at dksJ1_init_0 3 rfl rfl)
theorem dJ1_init_4 : decode cJ1_init 4 = .ok (.iload 4, 2) := dk_21 4 (dk_at dksJ1_init_0 4 rfl rfl)
theorem dJ1_init_6 : decode cJ1_init 6 = .ok (.invokespecial 16, 3) := dk_183 0 16 (dk_at dksJ1_init_0 6 rfl rfl)
theorem dJ1_init_9 : decode cJ1_init 9 = .ok (.return_, 1) := dk_177 (dk_at dksJ1_init_0 9 rfl rfl)
abbrev cJ1_init_2 : ByteArray := prog_14_method_2_code
def yJ1_init_2 : MethodName := ⟨RJ1, "<init>", "(Ljava/lang/String;)V"⟩
def dkwJ1_init_2_0 : List UInt8 := [42, 43, 183, 0, 7, 177]
abbrev dktJ1_init_2_0 : List UInt8 := dkwJ1_init_2_0 ++ []
theorem dksJ1_init_2_0 : cJ1_init_2.data.toList.drop 0 = dktJ1_init_2_0 := by decide +kernel
theorem dJ1_init_2_0 : decode cJ1_init_2 0 = .ok (.aload_n 0, 1) := dk_42 (dk_at dksJ1_init_2_0 0 rfl rfl)
theorem dJ1_init_2_1 : decode cJ1_init_2 1 = .ok (.aload_n 1, 1) := dk_43 (dk_at dksJ1_init_2_0 1 rfl rfl)
theorem dJ1_init_2_2 : decode cJ1_init_2 2 = .ok (.invokespecial 7, 3) := dk_183 0 7 (dk_at dksJ1_init_2_0 2 rfl rfl)
theorem dJ1_init_2_5 : decode cJ1_init_2 5 = .ok (.return_, 1) := dk_177 (dk_at dksJ1_init_2_0 5 rfl rfl)
abbrev cJ1_init_3 : ByteArray := prog_14_method_1_code
def yJ1_init_3 : MethodName := ⟨RJ1, "<init>", "()V"⟩
theorem dJ1_init_3_0 : decode cJ1_init_3 0 = .ok (.aload_n 0, 1) := by decide +kernel
theorem dJ1_init_3_1 : decode cJ1_init_3 1 = .ok (.invokespecial 1, 3) := by decide +kernel
theorem dJ1_init_3_4 : decode cJ1_init_3 4 = .ok (.return_, 1) := by decide +kernel
theorem q70 : (Jvm.Cond.initialized "java/lang/Exception") ∈ lw_all := lw_g (lw_at lw_m1 11 rfl) rfl
theorem q278 : (Jvm.Cond.declares ({ cls := "java/lang/Exception", name := "<init>", desc := "()V" } : Jvm.MethodName)) ∈ lw_tbl := lw_at lw_m1 219 rfl
theorem q279 : (Jvm.Cond.declares ({ cls := "java/lang/Exception", name := "<init>", desc := "(Ljava/lang/String;)V" } : Jvm.MethodName)) ∈ lw_tbl := lw_at lw_m1 220 rfl
theorem q322 : (Jvm.Cond.superclass "java/lang/Exception" "java/lang/Throwable") ∈ lw_all := lw_g (lw_at lw_m2 23 rfl) rfl
theorem q333 : (Jvm.Cond.instanceMethod ({ cls := "java/lang/Exception", name := "<init>", desc := "(Ljava/lang/String;Ljava/lang/Throwable;ZZ)V" } : Jvm.MethodName)) ∈ lw_all := lw_g (lw_at lw_m2 34 rfl) rfl
theorem q334 : (Jvm.Cond.code ({ cls := "java/lang/Exception", name := "<init>", desc := "(Ljava/lang/String;Ljava/lang/Throwable;ZZ)V" } : Jvm.MethodName) prog_14_method_5_code (5 : Nat) (Option.none : Option Jvm.ClassFile.FieldType)) ∈ lw_all := lw_g (lw_at lw_m2 35 rfl) rfl
theorem q335 : (Jvm.Cond.methodLink "java/lang/Exception" (16 : Nat) ({ cls := "java/lang/Throwable", name := "<init>", desc := "(Ljava/lang/String;Ljava/lang/Throwable;ZZ)V" } : Jvm.MethodName)) ∈ lw_all := lw_g (lw_at lw_m2 36 rfl) rfl
theorem q803 : (Jvm.Cond.instanceMethod ({ cls := "java/lang/Exception", name := "<init>", desc := "(Ljava/lang/String;)V" } : Jvm.MethodName)) ∈ lw_all := lw_g (lw_at lw_m4 24 rfl) rfl
theorem q804 : (Jvm.Cond.code ({ cls := "java/lang/Exception", name := "<init>", desc := "(Ljava/lang/String;)V" } : Jvm.MethodName) prog_14_method_2_code (2 : Nat) (Option.none : Option Jvm.ClassFile.FieldType)) ∈ lw_all := lw_g (lw_at lw_m4 25 rfl) rfl
theorem q805 : (Jvm.Cond.methodLink "java/lang/Exception" (7 : Nat) ({ cls := "java/lang/Throwable", name := "<init>", desc := "(Ljava/lang/String;)V" } : Jvm.MethodName)) ∈ lw_all := lw_g (lw_at lw_m4 26 rfl) rfl
theorem q840 : (Jvm.Cond.instanceMethod ({ cls := "java/lang/Exception", name := "<init>", desc := "()V" } : Jvm.MethodName)) ∈ lw_all := lw_g (lw_at lw_m4 61 rfl) rfl
theorem q841 : (Jvm.Cond.code ({ cls := "java/lang/Exception", name := "<init>", desc := "()V" } : Jvm.MethodName) prog_14_method_1_code (1 : Nat) (Option.none : Option Jvm.ClassFile.FieldType)) ∈ lw_all := lw_g (lw_at lw_m4 62 rfl) rfl
theorem q842 : (Jvm.Cond.methodLink "java/lang/Exception" (1 : Nat) ({ cls := "java/lang/Throwable", name := "<init>", desc := "()V" } : Jvm.MethodName)) ∈ lw_all := lw_g (lw_at lw_m4 63 rfl) rfl
/-! java/lang/String -/
set_option maxRecDepth 100000
def RJ2 : String := "java/lang/String"
def TJ2 : u_T := fun k => match k with
  | 0 => ("java/lang/String", "value", "[B", true)
  | _ => ("java/lang/String", "coder", "B", true)
def tyJ2 : Nat → FieldType := fun k => match k with
  | 0 => .array .byte
  | _ => .byte
abbrev wsJ20 : List Cond := u_ws RJ2 TJ2 2
theorem nmJ2 : ∀ a, a < 2 → ∀ b, b < 2 → a ≠ b → (TJ2 a).2.1 ≠ (TJ2 b).2.1 := by decide +kernel
theorem tyJ2_ok : ∀ k, k < 2 → parseFieldDescriptor (TJ2 k).2.2.1 = some (tyJ2 k) := by decide +kernel
abbrev cJ2_length : ByteArray := prog_21_method_54_code
def yJ2_length : MethodName := ⟨RJ2, "length", "()I"⟩
def dkwJ2_length_0 : List UInt8 := [42, 180, 0, 9, 190, 42, 182, 1, 79, 122, 172]
abbrev dktJ2_length_0 : List UInt8 := dkwJ2_length_0 ++ []
theorem dksJ2_length_0 : cJ2_length.data.toList.drop 0 = dktJ2_length_0 := by decide +kernel
theorem dJ2_length_0 : decode cJ2_length 0 = .ok (.aload_n 0, 1) := dk_42 (dk_at dksJ2_length_0 0 rfl rfl)
theorem dJ2_length_1 : decode cJ2_length 1 = .ok (.getfield 9, 3) := dk_180 0 9 (dk_at dksJ2_length_0 1 rfl rfl)
theorem dJ2_length_4 : decode cJ2_length 4 = .ok (.arraylength, 1) := dk_190 (dk_at dksJ2_length_0 4 rfl rfl)
theorem dJ2_length_5 : decode cJ2_length 5 = .ok (.aload_n 0, 1) := dk_42 (dk_at dksJ2_length_0 5 rfl rfl)
theorem dJ2_length_6 : decode cJ2_length 6 = .ok (.invokevirtual 335, 3) := dk_182 1 79 (dk_at dksJ2_length_0 6 rfl rfl)
theorem dJ2_length_9 : decode cJ2_length 9 = .ok (.ishr, 1) := dk_122 (dk_at dksJ2_length_0 9 rfl rfl)
theorem dJ2_length_10 : decode cJ2_length 10 = .ok (.ireturn, 1) := dk_172 (dk_at dksJ2_length_0 10 rfl rfl)
abbrev cJ2_coder : ByteArray := prog_21_method_152_code
def yJ2_coder : MethodName := ⟨RJ2, "coder", "()B"⟩
def dkwJ2_coder_0 : List UInt8 := [178, 0, 38, 153, 0, 10, 42, 180, 0, 15, 167, 0, 4, 4, 172]
abbrev dktJ2_coder_0 : List UInt8 := dkwJ2_coder_0 ++ []
theorem dksJ2_coder_0 : cJ2_coder.data.toList.drop 0 = dktJ2_coder_0 := by decide +kernel
theorem dJ2_coder_0 : decode cJ2_coder 0 = .ok (.getstatic 38, 3) := dk_178 0 38 (dk_at dksJ2_coder_0 0 rfl rfl)
theorem dJ2_coder_3 : decode cJ2_coder 3 = .ok (.ifCond .eq 10, 3) := dk_153 0 10 (dk_at dksJ2_coder_0 3 rfl rfl)
theorem dJ2_coder_6 : decode cJ2_coder 6 = .ok (.aload_n 0, 1) := dk_42 (dk_at dksJ2_coder_0 6 rfl rfl)
theorem dJ2_coder_7 : decode cJ2_coder 7 = .ok (.getfield 15, 3) := dk_180 0 15 (dk_at dksJ2_coder_0 7 rfl rfl)
theorem dJ2_coder_10 : decode cJ2_coder 10 = .ok (.goto 4, 3) := dk_167 0 4 (dk_at dksJ2_coder_0 10 rfl rfl)
theorem dJ2_coder_13 : decode cJ2_coder 13 = .ok (.iconst 1, 1) := dk_4 (dk_at dksJ2_coder_0 13 rfl rfl)
theorem dJ2_coder_14 : decode cJ2_coder 14 = .ok (.ireturn, 1) := dk_172 (dk_at dksJ2_coder_0 14 rfl rfl)
abbrev cJ2_charAt : ByteArray := prog_21_method_56_code
def yJ2_charAt : MethodName := ⟨RJ2, "charAt", "(I)C"⟩
def dkwJ2_charAt_1 : List UInt8 := [172]
abbrev dktJ2_charAt_1 : List UInt8 := dkwJ2_charAt_1 ++ []
def dkwJ2_charAt_0 : List UInt8 := [42, 182, 1, 236, 153, 0, 12, 42, 180, 0, 9, 27, 184, 1, 239, 172, 42, 180, 0, 9, 27, 184, 1, 242]
abbrev dktJ2_charAt_0 : List UInt8 := dkwJ2_charAt_0 ++ dktJ2_charAt_1
theorem dksJ2_charAt_0 : cJ2_charAt.data.toList.drop 0 = dktJ2_charAt_0 := by decide +kernel
theorem dksJ2_charAt_1 : cJ2_charAt.data.toList.drop 24 = dktJ2_charAt_1 := dk_seg dksJ2_charAt_0 24 rfl rfl
theorem dJ2_charAt_0 : decode cJ2_charAt 0 = .ok (.aload_n 0, 1) := dk_42 (dk_at dksJ2_charAt_0 0 rfl rfl)
theorem dJ2_charAt_1 : decode cJ2_charAt 1 = .ok (.invokevirtual 492, 3) := dk_182 1 236 (dk_at dksJ2_charAt_0 1 rfl rfl)
theorem dJ2_charAt_4 : decode cJ2_charAt 4 = .ok (.ifCond .eq 12, 3) := dk_153 0 12 (dk_at dksJ2_charAt_0 4 rfl rfl)
theorem dJ2_charAt_7 : decode cJ2_charAt 7 = .ok (.aload_n 0, 1) := dk_42 (dk_at dksJ2_charAt_0 7 rfl rfl)
theorem dJ2_charAt_8 : decode cJ2_charAt 8 = .ok (.getfield 9, 3) := dk_180 0 9 (dk_at dksJ2_charAt_0 8 rfl rfl)
theorem dJ2_charAt_11 : decode cJ2_charAt 11 = .ok (.iload_n 1, 1) := dk_27 (dk_at dksJ2_charAt_0 11 rfl rfl)
theorem dJ2_charAt_12 : decode cJ2_charAt 12 = .ok (.invokestatic 495, 3) := dk_184 1 239 (dk_at dksJ2_charAt_0 12 rfl rfl)
theorem dJ2_charAt_15 : decode cJ2_charAt 15 = .ok (.ireturn, 1) := dk_172 (dk_at dksJ2_charAt_0 15 rfl rfl)
theorem dJ2_charAt_16 : decode cJ2_charAt 16 = .ok (.aload_n 0, 1) := dk_42 (dk_at dksJ2_charAt_0 16 rfl rfl)
theorem dJ2_charAt_17 : decode cJ2_charAt 17 = .ok (.getfield 9, 3) := dk_180 0 9 (dk_at dksJ2_charAt_0 17 rfl rfl)
theorem dJ2_charAt_20 : decode cJ2_charAt 20 = .ok (.iload_n 1, 1) := dk_27 (dk_at dksJ2_charAt_0 20 rfl rfl)
theorem dJ2_charAt_21 : decode cJ2_charAt 21 = .ok (.invokestatic 498, 3) := dk_184 1 242 (dk_at dksJ2_charAt_0 21 rfl rfl)
theorem dJ2_charAt_24 : decode cJ2_charAt 24 = .ok (.ireturn, 1) := dk_172 (dk_at dksJ2_charAt_1 0 rfl rfl)
abbrev cJ2_isLatin1 : ByteArray := prog_21_method_154_code
def yJ2_isLatin1 : MethodName := ⟨RJ2, "isLatin1", "()Z"⟩
def dkwJ2_isLatin1_0 : List UInt8 := [178, 0, 38, 153, 0, 14, 42, 180, 0, 15, 154, 0, 7, 4, 167, 0, 4, 3, 172]
abbrev dktJ2_isLatin1_0 : List UInt8 := dkwJ2_isLatin1_0 ++ []
theorem dksJ2_isLatin1_0 : cJ2_isLatin1.data.toList.drop 0 = dktJ2_isLatin1_0 := by decide +kernel
theorem dJ2_isLatin1_0 : decode cJ2_isLatin1 0 = .ok (.getstatic 38, 3) := dk_178 0 38 (dk_at dksJ2_isLatin1_0 0 rfl rfl)
theorem dJ2_isLatin1_3 : decode cJ2_isLatin1 3 = .ok (.ifCond .eq 14, 3) := dk_153 0 14 (dk_at dksJ2_isLatin1_0 3 rfl rfl)
theorem dJ2_isLatin1_6 : decode cJ2_isLatin1 6 = .ok (.aload_n 0, 1) := dk_42 (dk_at dksJ2_isLatin1_0 6 rfl rfl)
theorem dJ2_isLatin1_7 : decode cJ2_isLatin1 7 = .ok (.getfield 15, 3) := dk_180 0 15 (dk_at dksJ2_isLatin1_0 7 rfl rfl)
theorem dJ2_isLatin1_10 : decode cJ2_isLatin1 10 = .ok (.ifCond .ne 7, 3) := dk_154 0 7 (dk_at dksJ2_isLatin1_0 10 rfl rfl)
theorem dJ2_isLatin1_13 : decode cJ2_isLatin1 13 = .ok (.iconst 1, 1) := dk_4 (dk_at dksJ2_isLatin1_0 13 rfl rfl)
theorem dJ2_isLatin1_14 : decode cJ2_isLatin1 14 = .ok (.goto 4, 3) := dk_167 0 4 (dk_at dksJ2_isLatin1_0 14 rfl rfl)
theorem dJ2_isLatin1_17 : decode cJ2_isLatin1 17 = .ok (.iconst 0, 1) := dk_3 (dk_at dksJ2_isLatin1_0 17 rfl rfl)
theorem dJ2_isLatin1_18 : decode cJ2_isLatin1 18 = .ok (.ireturn, 1) := dk_172 (dk_at dksJ2_isLatin1_0 18 rfl rfl)
abbrev cJ2_checkIndex : ByteArray := prog_21_method_155_code
def yJ2_checkIndex : MethodName := ⟨RJ2, "checkIndex", "(II)V"⟩
def dkwJ2_checkIndex_0 : List UInt8 := [26, 27, 178, 4, 29, 184, 4, 35, 87, 177]
abbrev dktJ2_checkIndex_0 : List UInt8 := dkwJ2_checkIndex_0 ++ []
theorem dksJ2_checkIndex_0 : cJ2_checkIndex.data.toList.drop 0 = dktJ2_checkIndex_0 := by decide +kernel
theorem dJ2_checkIndex_0 : decode cJ2_checkIndex 0 = .ok (.iload_n 0, 1) := dk_26 (dk_at dksJ2_checkIndex_0 0 rfl rfl)
theorem dJ2_checkIndex_1 : decode cJ2_checkIndex 1 = .ok (.iload_n 1, 1) := dk_27 (dk_at dksJ2_checkIndex_0 1 rfl rfl)
theorem dJ2_checkIndex_2 : decode cJ2_checkIndex 2 = .ok (.getstatic 1053, 3) := dk_178 4 29 (dk_at dksJ2_checkIndex_0 2 rfl rfl)
theorem dJ2_checkIndex_5 : decode cJ2_checkIndex 5 = .ok (.invokestatic 1059, 3) := dk_184 4 35 (dk_at dksJ2_checkIndex_0 5 rfl rfl)
theorem dJ2_checkIndex_8 : decode cJ2_checkIndex 8 = .ok (.pop, 1) := dk_87 (dk_at dksJ2_checkIndex_0 8 rfl rfl)
theorem dJ2_checkIndex_9 : decode cJ2_checkIndex 9 = .ok (.return_, 1) := dk_177 (dk_at dksJ2_checkIndex_0 9 rfl rfl)
theorem q72 : (Jvm.Cond.initialized "java/lang/String") ∈ lw_all := lw_g (lw_at lw_m1 13 rfl) rfl
theorem q412 : (Jvm.Cond.instanceMethod ({ cls := "java/lang/String", name := "length", desc := "()I" } : Jvm.MethodName)) ∈ lw_all := lw_g (lw_at lw_m2 113 rfl) rfl
theorem q413 : (Jvm.Cond.selects "java/lang/String" ({ cls := "java/lang/String", name := "length", desc := "()I" } : Jvm.MethodName) ({ cls := "java/lang/String", name := "length", desc := "()I" } : Jvm.MethodName)) ∈ lw_all := lw_g (lw_at lw_m2 114 rfl) rfl
theorem q414 : (Jvm.Cond.code ({ cls := "java/lang/String", name := "length", desc := "()I" } : Jvm.MethodName) prog_21_method_54_code (1 : Nat) (Option.some Jvm.ClassFile.FieldType.int)) ∈ lw_all := lw_g (lw_at lw_m2 115 rfl) rfl
theorem q415 : (Jvm.Cond.methodLink "java/lang/String" (335 : Nat) ({ cls := "java/lang/String", name := "coder", desc := "()B" } : Jvm.MethodName)) ∈ lw_all := lw_g (lw_at lw_m2 116 rfl) rfl
theorem q416 : (Jvm.Cond.instanceMethod ({ cls := "java/lang/String", name := "coder", desc := "()B" } : Jvm.MethodName)) ∈ lw_all := lw_g (lw_at lw_m2 117 rfl) rfl
theorem q417 : (Jvm.Cond.selects "java/lang/String" ({ cls := "java/lang/String", name := "coder", desc := "()B" } : Jvm.MethodName) ({ cls := "java/lang/String", name := "coder", desc := "()B" } : Jvm.MethodName)) ∈ lw_all := lw_g (lw_at lw_m2 118 rfl) rfl
theorem q418 : (Jvm.Cond.code ({ cls := "java/lang/String", name := "coder", desc := "()B" } : Jvm.MethodName) prog_21_method_152_code (1 : Nat) (Option.some Jvm.ClassFile.FieldType.byte)) ∈ lw_all := lw_g (lw_at lw_m2 119 rfl) rfl
theorem q419 : (Jvm.Cond.fieldLink "java/lang/String" (38 : Nat) "java/lang/String" "COMPACT_STRINGS" "Z") ∈ lw_all := lw_g (lw_at lw_m2 120 rfl) rfl
theorem q420 : (Jvm.Cond.laysStatic "java/lang/String" "COMPACT_STRINGS" "Z") ∈ lw_tbl := lw_at lw_m2 121 rfl
theorem q422 : (Jvm.Cond.instanceMethod ({ cls := "java/lang/String", name := "charAt", desc := "(I)C" } : Jvm.MethodName)) ∈ lw_all := lw_g (lw_at lw_m2 123 rfl) rfl
theorem q423 : (Jvm.Cond.selects "java/lang/String" ({ cls := "java/lang/String", name := "charAt", desc := "(I)C" } : Jvm.MethodName) ({ cls := "java/lang/String", name := "charAt", desc := "(I)C" } : Jvm.MethodName)) ∈ lw_all := lw_g (lw_at lw_m2 124 rfl) rfl
theorem q424 : (Jvm.Cond.code ({ cls := "java/lang/String", name := "charAt", desc := "(I)C" } : Jvm.MethodName) prog_21_method_56_code (2 : Nat) (Option.some Jvm.ClassFile.FieldType.char)) ∈ lw_all := lw_g (lw_at lw_m2 125 rfl) rfl
theorem q425 : (Jvm.Cond.methodLink "java/lang/String" (492 : Nat) ({ cls := "java/lang/String", name := "isLatin1", desc := "()Z" } : Jvm.MethodName)) ∈ lw_all := lw_g (lw_at lw_m2 126 rfl) rfl
theorem q426 : (Jvm.Cond.instanceMethod ({ cls := "java/lang/String", name := "isLatin1", desc := "()Z" } : Jvm.MethodName)) ∈ lw_all := lw_g (lw_at lw_m2 127 rfl) rfl
theorem q427 : (Jvm.Cond.selects "java/lang/String" ({ cls := "java/lang/String", name := "isLatin1", desc := "()Z" } : Jvm.MethodName) ({ cls := "java/lang/String", name := "isLatin1", desc := "()Z" } : Jvm.MethodName)) ∈ lw_all := lw_g (lw_at lw_m2 128 rfl) rfl
theorem q428 : (Jvm.Cond.code ({ cls := "java/lang/String", name := "isLatin1", desc := "()Z" } : Jvm.MethodName) prog_21_method_154_code (1 : Nat) (Option.some Jvm.ClassFile.FieldType.boolean)) ∈ lw_all := lw_g (lw_at lw_m2 129 rfl) rfl
theorem q429 : (Jvm.Cond.methodLink "java/lang/String" (495 : Nat) ({ cls := "java/lang/StringLatin1", name := "charAt", desc := "([BI)C" } : Jvm.MethodName)) ∈ lw_all := lw_g (lw_at lw_m2 130 rfl) rfl
theorem q433 : (Jvm.Cond.static ({ cls := "java/lang/String", name := "checkIndex", desc := "(II)V" } : Jvm.MethodName)) ∈ lw_all := lw_g (lw_at lw_m2 134 rfl) rfl
theorem q434 : (Jvm.Cond.code ({ cls := "java/lang/String", name := "checkIndex", desc := "(II)V" } : Jvm.MethodName) prog_21_method_155_code (2 : Nat) (Option.none : Option Jvm.ClassFile.FieldType)) ∈ lw_all := lw_g (lw_at lw_m2 135 rfl) rfl
theorem q435 : (Jvm.Cond.fieldLink "java/lang/String" (1053 : Nat) "jdk/internal/util/Preconditions" "SIOOBE_FORMATTER" "Ljava/util/function/BiFunction;") ∈ lw_all := lw_g (lw_at lw_m2 136 rfl) rfl
theorem q437 : (Jvm.Cond.methodLink "java/lang/String" (1059 : Nat) ({ cls := "jdk/internal/util/Preconditions", name := "checkIndex", desc := "(IILjava/util/function/BiFunction;)I" } : Jvm.MethodName)) ∈ lw_all := lw_g (lw_at lw_m2 138 rfl) rfl
theorem q440 : (Jvm.Cond.methodLink "java/lang/String" (498 : Nat) ({ cls := "java/lang/StringUTF16", name := "charAt", desc := "([BI)C" } : Jvm.MethodName)) ∈ lw_all := lw_g (lw_at lw_m2 141 rfl) rfl
theorem q819 : (Jvm.Cond.instantiable "java/lang/String" (4 : Nat)) ∈ lw_all := lw_g (lw_at lw_m4 40 rfl) rfl
theorem q820 : (Jvm.Cond.laysFinal "java/lang/String" "java/lang/String" "value" "[B") ∈ lw_all := lw_g (lw_at lw_m4 41 rfl) rfl
theorem q821 : (Jvm.Cond.soleField "java/lang/String" "value") ∈ lw_all := lw_g (lw_at lw_m4 42 rfl) rfl
theorem q822 : (Jvm.Cond.laysFinal "java/lang/String" "java/lang/String" "coder" "B") ∈ lw_all := lw_g (lw_at lw_m4 43 rfl) rfl
theorem q823 : (Jvm.Cond.soleField "java/lang/String" "coder") ∈ lw_all := lw_g (lw_at lw_m4 44 rfl) rfl
theorem q1337 : (Jvm.Cond.fieldLink "java/lang/String" (9 : Nat) "java/lang/String" "value" "[B") ∈ lw_all := lw_g (lw_at lw_m6 78 rfl) rfl
theorem q1338 : (Jvm.Cond.fieldLink "java/lang/String" (15 : Nat) "java/lang/String" "coder" "B") ∈ lw_all := lw_g (lw_at lw_m6 79 rfl) rfl
theorem in_J2 : ∀ w ∈ wsJ20, w ∈ lw_all := lw_in wsJ20 [820, 822] (by decide +kernel) (by decide +kernel)
/-! java/lang/StringLatin1 -/
set_option maxRecDepth 100000
def RJ3 : String := "java/lang/StringLatin1"
abbrev cJ3_charAt : ByteArray := prog_22_method_2_code
def yJ3_charAt : MethodName := ⟨RJ3, "charAt", "([BI)C"⟩
def dkwJ3_charAt_0 : List UInt8 := [27, 42, 190, 184, 0, 9, 42, 27, 51, 17, 0, 255, 126, 146, 172]
abbrev dktJ3_charAt_0 : List UInt8 := dkwJ3_charAt_0 ++ []
theorem dksJ3_charAt_0 : cJ3_charAt.data.toList.drop 0 = dktJ3_charAt_0 := by decide +kernel
theorem dJ3_charAt_0 : decode cJ3_charAt 0 = .ok (.iload_n 1, 1) := dk_27 (dk_at dksJ3_charAt_0 0 rfl rfl)
theorem dJ3_charAt_1 : decode cJ3_charAt 1 = .ok (.aload_n 0, 1) := dk_42 (dk_at dksJ3_charAt_0 1 rfl rfl)
theorem dJ3_charAt_2 : decode cJ3_charAt 2 = .ok (.arraylength, 1) := dk_190 (dk_at dksJ3_charAt_0 2 rfl rfl)
theorem dJ3_charAt_3 : decode cJ3_charAt 3 = .ok (.invokestatic 9, 3) := dk_184 0 9 (dk_at dksJ3_charAt_0 3 rfl rfl)
theorem dJ3_charAt_6 : decode cJ3_charAt 6 = .ok (.aload_n 0, 1) := dk_42 (dk_at dksJ3_charAt_0 6 rfl rfl)
theorem dJ3_charAt_7 : decode cJ3_charAt 7 = .ok (.iload_n 1, 1) := dk_27 (dk_at dksJ3_charAt_0 7 rfl rfl)
theorem dJ3_charAt_8 : decode cJ3_charAt 8 = .ok (.baload, 1) := dk_51 (dk_at dksJ3_charAt_0 8 rfl rfl)
theorem dJ3_charAt_9 : decode cJ3_charAt 9 = .ok (.sipush 255, 3) := dk_17 0 255 (dk_at dksJ3_charAt_0 9 rfl rfl)
theorem dJ3_charAt_12 : decode cJ3_charAt 12 = .ok (.iand, 1) := dk_126 (dk_at dksJ3_charAt_0 12 rfl rfl)
theorem dJ3_charAt_13 : decode cJ3_charAt 13 = .ok (.i2c, 1) := dk_146 (dk_at dksJ3_charAt_0 13 rfl rfl)
theorem dJ3_charAt_14 : decode cJ3_charAt 14 = .ok (.ireturn, 1) := dk_172 (dk_at dksJ3_charAt_0 14 rfl rfl)
theorem q73 : (Jvm.Cond.initialized "java/lang/StringLatin1") ∈ lw_all := lw_g (lw_at lw_m1 14 rfl) rfl
theorem q430 : (Jvm.Cond.static ({ cls := "java/lang/StringLatin1", name := "charAt", desc := "([BI)C" } : Jvm.MethodName)) ∈ lw_all := lw_g (lw_at lw_m2 131 rfl) rfl
theorem q431 : (Jvm.Cond.code ({ cls := "java/lang/StringLatin1", name := "charAt", desc := "([BI)C" } : Jvm.MethodName) prog_22_method_2_code (2 : Nat) (Option.some Jvm.ClassFile.FieldType.char)) ∈ lw_all := lw_g (lw_at lw_m2 132 rfl) rfl
theorem q432 : (Jvm.Cond.methodLink "java/lang/StringLatin1" (9 : Nat) ({ cls := "java/lang/String", name := "checkIndex", desc := "(II)V" } : Jvm.MethodName)) ∈ lw_all := lw_g (lw_at lw_m2 133 rfl) rfl
/-! jdk/internal/util/Preconditions -/
set_option maxRecDepth 100000
def RJ4 : String := "jdk/internal/util/Preconditions"
abbrev cJ4_checkIndex : ByteArray := prog_26_method_11_code
def yJ4_checkIndex : MethodName := ⟨RJ4, "checkIndex", "(IILjava/util/function/BiFunction;)I"⟩
def dkwJ4_checkIndex_0 : List UInt8 := [26, 155, 0, 8, 26, 27, 161, 0, 10, 44, 26, 27, 184, 0, 95, 191, 26, 172]
abbrev dktJ4_checkIndex_0 : List UInt8 := dkwJ4_checkIndex_0 ++ []
theorem dksJ4_checkIndex_0 : cJ4_checkIndex.data.toList.drop 0 = dktJ4_checkIndex_0 := by decide +kernel
theorem dJ4_checkIndex_0 : decode cJ4_checkIndex 0 = .ok (.iload_n 0, 1) := dk_26 (dk_at dksJ4_checkIndex_0 0 rfl rfl)
theorem dJ4_checkIndex_1 : decode cJ4_checkIndex 1 = .ok (.ifCond .lt 8, 3) := dk_155 0 8 (dk_at dksJ4_checkIndex_0 1 rfl rfl)
theorem dJ4_checkIndex_4 : decode cJ4_checkIndex 4 = .ok (.iload_n 0, 1) := dk_26 (dk_at dksJ4_checkIndex_0 4 rfl rfl)
theorem dJ4_checkIndex_5 : decode cJ4_checkIndex 5 = .ok (.iload_n 1, 1) := dk_27 (dk_at dksJ4_checkIndex_0 5 rfl rfl)
theorem dJ4_checkIndex_6 : decode cJ4_checkIndex 6 = .ok (.if_icmp .lt 10, 3) := dk_161 0 10 (dk_at dksJ4_checkIndex_0 6 rfl rfl)
theorem dJ4_checkIndex_9 : decode cJ4_checkIndex 9 = .ok (.aload_n 2, 1) := dk_44 (dk_at dksJ4_checkIndex_0 9 rfl rfl)
theorem dJ4_checkIndex_10 : decode cJ4_checkIndex 10 = .ok (.iload_n 0, 1) := dk_26 (dk_at dksJ4_checkIndex_0 10 rfl rfl)
theorem dJ4_checkIndex_11 : decode cJ4_checkIndex 11 = .ok (.iload_n 1, 1) := dk_27 (dk_at dksJ4_checkIndex_0 11 rfl rfl)
theorem dJ4_checkIndex_12 : decode cJ4_checkIndex 12 = .ok (.invokestatic 95, 3) := dk_184 0 95 (dk_at dksJ4_checkIndex_0 12 rfl rfl)
theorem dJ4_checkIndex_15 : decode cJ4_checkIndex 15 = .ok (.athrow, 1) := dk_191 (dk_at dksJ4_checkIndex_0 15 rfl rfl)
theorem dJ4_checkIndex_16 : decode cJ4_checkIndex 16 = .ok (.iload_n 0, 1) := dk_26 (dk_at dksJ4_checkIndex_0 16 rfl rfl)
theorem dJ4_checkIndex_17 : decode cJ4_checkIndex 17 = .ok (.ireturn, 1) := dk_172 (dk_at dksJ4_checkIndex_0 17 rfl rfl)
theorem q74 : (Jvm.Cond.initialized "jdk/internal/util/Preconditions") ∈ lw_all := lw_g (lw_at lw_m1 15 rfl) rfl
theorem q436 : (Jvm.Cond.laysStatic "jdk/internal/util/Preconditions" "SIOOBE_FORMATTER" "Ljava/util/function/BiFunction;") ∈ lw_tbl := lw_at lw_m2 137 rfl
theorem q438 : (Jvm.Cond.static ({ cls := "jdk/internal/util/Preconditions", name := "checkIndex", desc := "(IILjava/util/function/BiFunction;)I" } : Jvm.MethodName)) ∈ lw_all := lw_g (lw_at lw_m2 139 rfl) rfl
theorem q439 : (Jvm.Cond.code ({ cls := "jdk/internal/util/Preconditions", name := "checkIndex", desc := "(IILjava/util/function/BiFunction;)I" } : Jvm.MethodName) prog_26_method_11_code (3 : Nat) (Option.some Jvm.ClassFile.FieldType.int)) ∈ lw_all := lw_g (lw_at lw_m2 140 rfl) rfl
/-! java/lang/StringUTF16 -/
set_option maxRecDepth 100000
def RJ5 : String := "java/lang/StringUTF16"
abbrev cJ5_charAt : ByteArray := prog_23_method_83_code
def yJ5_charAt : MethodName := ⟨RJ5, "charAt", "([BI)C"⟩
def dkwJ5_charAt_0 : List UInt8 := [27, 42, 184, 0, 67, 42, 27, 184, 0, 71, 172]
abbrev dktJ5_charAt_0 : List UInt8 := dkwJ5_charAt_0 ++ []
theorem dksJ5_charAt_0 : cJ5_charAt.data.toList.drop 0 = dktJ5_charAt_0 := by decide +kernel
theorem dJ5_charAt_0 : decode cJ5_charAt 0 = .ok (.iload_n 1, 1) := dk_27 (dk_at dksJ5_charAt_0 0 rfl rfl)
theorem dJ5_charAt_1 : decode cJ5_charAt 1 = .ok (.aload_n 0, 1) := dk_42 (dk_at dksJ5_charAt_0 1 rfl rfl)
theorem dJ5_charAt_2 : decode cJ5_charAt 2 = .ok (.invokestatic 67, 3) := dk_184 0 67 (dk_at dksJ5_charAt_0 2 rfl rfl)
theorem dJ5_charAt_5 : decode cJ5_charAt 5 = .ok (.aload_n 0, 1) := dk_42 (dk_at dksJ5_charAt_0 5 rfl rfl)
theorem dJ5_charAt_6 : decode cJ5_charAt 6 = .ok (.iload_n 1, 1) := dk_27 (dk_at dksJ5_charAt_0 6 rfl rfl)
theorem dJ5_charAt_7 : decode cJ5_charAt 7 = .ok (.invokestatic 71, 3) := dk_184 0 71 (dk_at dksJ5_charAt_0 7 rfl rfl)
theorem dJ5_charAt_10 : decode cJ5_charAt 10 = .ok (.ireturn, 1) := dk_172 (dk_at dksJ5_charAt_0 10 rfl rfl)
abbrev cJ5_checkIndex : ByteArray := prog_23_method_91_code
def yJ5_checkIndex : MethodName := ⟨RJ5, "checkIndex", "(I[B)V"⟩
def dkwJ5_checkIndex_0 : List UInt8 := [26, 43, 184, 0, 48, 184, 1, 158, 177]
abbrev dktJ5_checkIndex_0 : List UInt8 := dkwJ5_checkIndex_0 ++ []
theorem dksJ5_checkIndex_0 : cJ5_checkIndex.data.toList.drop 0 = dktJ5_checkIndex_0 := by decide +kernel
theorem dJ5_checkIndex_0 : decode cJ5_checkIndex 0 = .ok (.iload_n 0, 1) := dk_26 (dk_at dksJ5_checkIndex_0 0 rfl rfl)
theorem dJ5_checkIndex_1 : decode cJ5_checkIndex 1 = .ok (.aload_n 1, 1) := dk_43 (dk_at dksJ5_checkIndex_0 1 rfl rfl)
theorem dJ5_checkIndex_2 : decode cJ5_checkIndex 2 = .ok (.invokestatic 48, 3) := dk_184 0 48 (dk_at dksJ5_checkIndex_0 2 rfl rfl)
theorem dJ5_checkIndex_5 : decode cJ5_checkIndex 5 = .ok (.invokestatic 414, 3) := dk_184 1 158 (dk_at dksJ5_checkIndex_0 5 rfl rfl)
theorem dJ5_checkIndex_8 : decode cJ5_checkIndex 8 = .ok (.return_, 1) := dk_177 (dk_at dksJ5_checkIndex_0 8 rfl rfl)
abbrev cJ5_length : ByteArray := prog_23_method_6_code
def yJ5_length : MethodName := ⟨RJ5, "length", "([B)I"⟩
def dkwJ5_length_0 : List UInt8 := [42, 190, 4, 122, 172]
abbrev dktJ5_length_0 : List UInt8 := dkwJ5_length_0 ++ []
theorem dksJ5_length_0 : cJ5_length.data.toList.drop 0 = dktJ5_length_0 := by decide +kernel
theorem dJ5_length_0 : decode cJ5_length 0 = .ok (.aload_n 0, 1) := dk_42 (dk_at dksJ5_length_0 0 rfl rfl)
theorem dJ5_length_1 : decode cJ5_length 1 = .ok (.arraylength, 1) := dk_190 (dk_at dksJ5_length_0 1 rfl rfl)
theorem dJ5_length_2 : decode cJ5_length 2 = .ok (.iconst 1, 1) := dk_4 (dk_at dksJ5_length_0 2 rfl rfl)
theorem dJ5_length_3 : decode cJ5_length 3 = .ok (.ishr, 1) := dk_122 (dk_at dksJ5_length_0 3 rfl rfl)
theorem dJ5_length_4 : decode cJ5_length 4 = .ok (.ireturn, 1) := dk_172 (dk_at dksJ5_length_0 4 rfl rfl)
abbrev cJ5_getChar : ByteArray := prog_23_method_5_code
def yJ5_getChar : MethodName := ⟨RJ5, "getChar", "([BI)C"⟩
def dkwJ5_getChar_2 : List UInt8 := [51, 17, 0, 255, 126, 178, 0, 63, 120, 128, 146, 172]
abbrev dktJ5_getChar_2 : List UInt8 := dkwJ5_getChar_2 ++ []
def dkwJ5_getChar_1 : List UInt8 := [183, 0, 56, 191, 27, 4, 120, 60, 42, 27, 132, 1, 1, 51, 17, 0, 255, 126, 178, 0, 59, 120, 42, 27]
abbrev dktJ5_getChar_1 : List UInt8 := dkwJ5_getChar_1 ++ dktJ5_getChar_2
def dkwJ5_getChar_0 : List UInt8 := [178, 0, 44, 154, 0, 25, 27, 155, 0, 11, 27, 42, 184, 0, 48, 161, 0, 13, 187, 0, 52, 89, 18, 54]
abbrev dktJ5_getChar_0 : List UInt8 := dkwJ5_getChar_0 ++ dktJ5_getChar_1
theorem dksJ5_getChar_0 : cJ5_getChar.data.toList.drop 0 = dktJ5_getChar_0 := by decide +kernel
theorem dksJ5_getChar_1 : cJ5_getChar.data.toList.drop 24 = dktJ5_getChar_1 := dk_seg dksJ5_getChar_0 24 rfl rfl
theorem dksJ5_getChar_2 : cJ5_getChar.data.toList.drop 48 = dktJ5_getChar_2 := dk_seg dksJ5_getChar_1 24 rfl rfl
theorem dJ5_getChar_0 : decode cJ5_getChar 0 = .ok (.getstatic 44, 3) := dk_178 0 44 (dk_at dksJ5_getChar_0 0 rfl rfl)
theorem dJ5_getChar_3 : decode cJ5_getChar 3 = .ok (.ifCond .ne 25, 3) := dk_154 0 25 (dk_at dksJ5_getChar_0 3 rfl rfl)
theorem dJ5_getChar_6 : decode cJ5_getChar 6 = .ok (.iload_n 1, 1) := dk_27 (dk_at dksJ5_getChar_0 6 rfl rfl)
theorem dJ5_getChar_7 : decode cJ5_getChar 7 = .ok (.ifCond .lt 11, 3) := dk_155 0 11 (dk_at dksJ5_getChar_0 7 rfl rfl)
theorem dJ5_getChar_10 : decode cJ5_getChar 10 = .ok (.iload_n 1, 1) := dk_27 (dk_at dksJ5_getChar_0 10 rfl rfl)
theorem dJ5_getChar_11 : decode cJ5_getChar 11 = .ok (.aload_n 0, 1) := dk_42 (dk_at dksJ5_getChar_0 11 rfl rfl)
theorem dJ5_getChar_12 : decode cJ5_getChar 12 = .ok (.invokestatic 48, 3) := dk_184 0 48 (dk_at dksJ5_getChar_0 12 rfl rfl)
theorem dJ5_getChar_15 : decode cJ5_getChar 15 = .ok (.if_icmp .lt 13, 3) := dk_161 0 13 (dk_at dksJ5_getChar_0 15 rfl rfl)
theorem dJ5_getChar_18 : decode cJ5_getChar 18 = .ok (.new 52, 3) := dk_187 0 52 (dk_at dksJ5_getChar_0 18 rfl rfl)
theorem dJ5_getChar_21 : decode cJ5_getChar 21 = .ok (.dup, 1) := dk_89 (dk_at dksJ5_getChar_0 21 rfl rfl)
theorem dJ5_getChar_22 : decode cJ5_getChar 22 = .ok (.ldc 54, 2) := dk_18 54 (dk_at dksJ5_getChar_0 22 rfl rfl)
theorem dJ5_getChar_24 : decode cJ5_getChar 24 = .ok (.invokespecial 56, 3) := dk_183 0 56 (dk_at dksJ5_getChar_1 0 rfl rfl)
theorem dJ5_getChar_27 : decode cJ5_getChar 27 = .ok (.athrow, 1) := dk_191 (dk_at dksJ5_getChar_1 3 rfl rfl)
theorem dJ5_getChar_28 : decode cJ5_getChar 28 = .ok (.iload_n 1, 1) := dk_27 (dk_at dksJ5_getChar_1 4 rfl rfl)
theorem dJ5_getChar_29 : decode cJ5_getChar 29 = .ok (.iconst 1, 1) := dk_4 (dk_at dksJ5_getChar_1 5 rfl rfl)
theorem dJ5_getChar_30 : decode cJ5_getChar 30 = .ok (.ishl, 1) := dk_120 (dk_at dksJ5_getChar_1 6 rfl rfl)
theorem dJ5_getChar_31 : decode cJ5_getChar 31 = .ok (.istore_n 1, 1) := dk_60 (dk_at dksJ5_getChar_1 7 rfl rfl)
theorem dJ5_getChar_32 : decode cJ5_getChar 32 = .ok (.aload_n 0, 1) := dk_42 (dk_at dksJ5_getChar_1 8 rfl rfl)
theorem dJ5_getChar_33 : decode cJ5_getChar 33 = .ok (.iload_n 1, 1) := dk_27 (dk_at dksJ5_getChar_1 9 rfl rfl)
theorem dJ5_getChar_34 : decode cJ5_getChar 34 = .ok (.iinc 1 1, 3) := dk_132 1 1 (dk_at dksJ5_getChar_1 10 rfl rfl)
theorem dJ5_getChar_37 : decode cJ5_getChar 37 = .ok (.baload, 1) := dk_51 (dk_at dksJ5_getChar_1 13 rfl rfl)
theorem dJ5_getChar_38 : decode cJ5_getChar 38 = .ok (.sipush 255, 3) := dk_17 0 255 (dk_at dksJ5_getChar_1 14 rfl rfl)
theorem dJ5_getChar_41 : decode cJ5_getChar 41 = .ok (.iand, 1) := dk_126 (dk_at dksJ5_getChar_1 17 rfl rfl)
theorem dJ5_getChar_42 : decode cJ5_getChar 42 = .ok (.getstatic 59, 3) := dk_178 0 59 (dk_at dksJ5_getChar_1 18 rfl rfl)
theorem dJ5_getChar_45 : decode cJ5_getChar 45 = .ok (.ishl, 1) := dk_120 (dk_at dksJ5_getChar_1 21 rfl rfl)
theorem dJ5_getChar_46 : decode cJ5_getChar 46 = .ok (.aload_n 0, 1) := dk_42 (dk_at dksJ5_getChar_1 22 rfl rfl)
theorem dJ5_getChar_47 : decode cJ5_getChar 47 = .ok (.iload_n 1, 1) := dk_27 (dk_at dksJ5_getChar_1 23 rfl rfl)
theorem dJ5_getChar_48 : decode cJ5_getChar 48 = .ok (.baload, 1) := dk_51 (dk_at dksJ5_getChar_2 0 rfl rfl)
theorem dJ5_getChar_49 : decode cJ5_getChar 49 = .ok (.sipush 255, 3) := dk_17 0 255 (dk_at dksJ5_getChar_2 1 rfl rfl)
theorem dJ5_getChar_52 : decode cJ5_getChar 52 = .ok (.iand, 1) := dk_126 (dk_at dksJ5_getChar_2 4 rfl rfl)
theorem dJ5_getChar_53 : decode cJ5_getChar 53 = .ok (.getstatic 63, 3) := dk_178 0 63 (dk_at dksJ5_getChar_2 5 rfl rfl)
theorem dJ5_getChar_56 : decode cJ5_getChar 56 = .ok (.ishl, 1) := dk_120 (dk_at dksJ5_getChar_2 8 rfl rfl)
theorem dJ5_getChar_57 : decode cJ5_getChar 57 = .ok (.ior, 1) := dk_128 (dk_at dksJ5_getChar_2 9 rfl rfl)
theorem dJ5_getChar_58 : decode cJ5_getChar 58 = .ok (.i2c, 1) := dk_146 (dk_at dksJ5_getChar_2 10 rfl rfl)
theorem dJ5_getChar_59 : decode cJ5_getChar 59 = .ok (.ireturn, 1) := dk_172 (dk_at dksJ5_getChar_2 11 rfl rfl)
theorem q75 : (Jvm.Cond.initialized "java/lang/StringUTF16") ∈ lw_all := lw_g (lw_at lw_m1 16 rfl) rfl
theorem q441 : (Jvm.Cond.static ({ cls := "java/lang/StringUTF16", name := "charAt", desc := "([BI)C" } : Jvm.MethodName)) ∈ lw_all := lw_g (lw_at lw_m2 142 rfl) rfl
theorem q442 : (Jvm.Cond.code ({ cls := "java/lang/StringUTF16", name := "charAt", desc := "([BI)C" } : Jvm.MethodName) prog_23_method_83_code (2 : Nat) (Option.some Jvm.ClassFile.FieldType.char)) ∈ lw_all := lw_g (lw_at lw_m2 143 rfl) rfl
theorem q443 : (Jvm.Cond.methodLink "java/lang/StringUTF16" (67 : Nat) ({ cls := "java/lang/StringUTF16", name := "checkIndex", desc := "(I[B)V" } : Jvm.MethodName)) ∈ lw_all := lw_g (lw_at lw_m2 144 rfl) rfl
theorem q444 : (Jvm.Cond.static ({ cls := "java/lang/StringUTF16", name := "checkIndex", desc := "(I[B)V" } : Jvm.MethodName)) ∈ lw_all := lw_g (lw_at lw_m2 145 rfl) rfl
theorem q445 : (Jvm.Cond.code ({ cls := "java/lang/StringUTF16", name := "checkIndex", desc := "(I[B)V" } : Jvm.MethodName) prog_23_method_91_code (2 : Nat) (Option.none : Option Jvm.ClassFile.FieldType)) ∈ lw_all := lw_g (lw_at lw_m2 146 rfl) rfl
theorem q446 : (Jvm.Cond.methodLink "java/lang/StringUTF16" (48 : Nat) ({ cls := "java/lang/StringUTF16", name := "length", desc := "([B)I" } : Jvm.MethodName)) ∈ lw_all := lw_g (lw_at lw_m2 147 rfl) rfl
theorem q447 : (Jvm.Cond.static ({ cls := "java/lang/StringUTF16", name := "length", desc := "([B)I" } : Jvm.MethodName)) ∈ lw_all := lw_g (lw_at lw_m2 148 rfl) rfl
theorem q448 : (Jvm.Cond.code ({ cls := "java/lang/StringUTF16", name := "length", desc := "([B)I" } : Jvm.MethodName) prog_23_method_6_code (1 : Nat) (Option.some Jvm.ClassFile.FieldType.int)) ∈ lw_all := lw_g (lw_at lw_m2 149 rfl) rfl
theorem q449 : (Jvm.Cond.methodLink "java/lang/StringUTF16" (414 : Nat) ({ cls := "java/lang/String", name := "checkIndex", desc := "(II)V" } : Jvm.MethodName)) ∈ lw_all := lw_g (lw_at lw_m2 150 rfl) rfl
theorem q450 : (Jvm.Cond.methodLink "java/lang/StringUTF16" (71 : Nat) ({ cls := "java/lang/StringUTF16", name := "getChar", desc := "([BI)C" } : Jvm.MethodName)) ∈ lw_all := lw_g (lw_at lw_m2 151 rfl) rfl
theorem q451 : (Jvm.Cond.static ({ cls := "java/lang/StringUTF16", name := "getChar", desc := "([BI)C" } : Jvm.MethodName)) ∈ lw_all := lw_g (lw_at lw_m2 152 rfl) rfl
theorem q452 : (Jvm.Cond.code ({ cls := "java/lang/StringUTF16", name := "getChar", desc := "([BI)C" } : Jvm.MethodName) prog_23_method_5_code (2 : Nat) (Option.some Jvm.ClassFile.FieldType.char)) ∈ lw_all := lw_g (lw_at lw_m2 153 rfl) rfl
theorem q453 : (Jvm.Cond.fieldLink "java/lang/StringUTF16" (44 : Nat) "java/lang/StringUTF16" "$assertionsDisabled" "Z") ∈ lw_all := lw_g (lw_at lw_m2 154 rfl) rfl
theorem q454 : (Jvm.Cond.laysStatic "java/lang/StringUTF16" "$assertionsDisabled" "Z") ∈ lw_tbl := lw_at lw_m2 155 rfl
theorem q455 : (Jvm.Cond.fieldLink "java/lang/StringUTF16" (59 : Nat) "java/lang/StringUTF16" "HI_BYTE_SHIFT" "I") ∈ lw_all := lw_g (lw_at lw_m2 156 rfl) rfl
theorem q456 : (Jvm.Cond.laysStatic "java/lang/StringUTF16" "HI_BYTE_SHIFT" "I") ∈ lw_tbl := lw_at lw_m2 157 rfl
theorem q457 : (Jvm.Cond.fieldLink "java/lang/StringUTF16" (63 : Nat) "java/lang/StringUTF16" "LO_BYTE_SHIFT" "I") ∈ lw_all := lw_g (lw_at lw_m2 158 rfl) rfl
theorem q458 : (Jvm.Cond.laysStatic "java/lang/StringUTF16" "LO_BYTE_SHIFT" "I") ∈ lw_tbl := lw_at lw_m2 159 rfl
/-! java/lang/RuntimeException -/
set_option maxRecDepth 100000
def RJ8 : String := "java/lang/RuntimeException"
abbrev cJ8_init : ByteArray := prog_20_method_2_code
def yJ8_init : MethodName := ⟨RJ8, "<init>", "(Ljava/lang/String;)V"⟩
def dkwJ8_init_0 : List UInt8 := [42, 43, 183, 0, 7, 177]
abbrev dktJ8_init_0 : List UInt8 := dkwJ8_init_0 ++ []
theorem dksJ8_init_0 : cJ8_init.data.toList.drop 0 = dktJ8_init_0 := by decide +kernel
theorem dJ8_init_0 : decode cJ8_init 0 = .ok (.aload_n 0, 1) := dk_42 (dk_at dksJ8_init_0 0 rfl rfl)
theorem dJ8_init_1 : decode cJ8_init 1 = .ok (.aload_n 1, 1) := dk_43 (dk_at dksJ8_init_0 1 rfl rfl)
theorem dJ8_init_2 : decode cJ8_init 2 = .ok (.invokespecial 7, 3) := dk_183 0 7 (dk_at dksJ8_init_0 2 rfl rfl)
theorem dJ8_init_5 : decode cJ8_init 5 = .ok (.return_, 1) := dk_177 (dk_at dksJ8_init_0 5 rfl rfl)
abbrev cJ8_init_2 : ByteArray := prog_20_method_1_code
def yJ8_init_2 : MethodName := ⟨RJ8, "<init>", "()V"⟩
theorem dJ8_init_2_0 : decode cJ8_init_2 0 = .ok (.aload_n 0, 1) := by decide +kernel
theorem dJ8_init_2_1 : decode cJ8_init_2 1 = .ok (.invokespecial 1, 3) := by decide +kernel
theorem dJ8_init_2_4 : decode cJ8_init_2 4 = .ok (.return_, 1) := by decide +kernel
theorem q79 : (Jvm.Cond.initialized "java/lang/RuntimeException") ∈ lw_all := lw_g (lw_at lw_m1 20 rfl) rfl
theorem q318 : (Jvm.Cond.sameMethod "java/lang/RuntimeException" "java/lang/Throwable" "fillInStackTrace" "()Ljava/lang/Throwable;") ∈ lw_all := lw_g (lw_at lw_m2 19 rfl) rfl
theorem q321 : (Jvm.Cond.superclass "java/lang/RuntimeException" "java/lang/Exception") ∈ lw_all := lw_g (lw_at lw_m2 22 rfl) rfl
theorem q800 : (Jvm.Cond.instanceMethod ({ cls := "java/lang/RuntimeException", name := "<init>", desc := "(Ljava/lang/String;)V" } : Jvm.MethodName)) ∈ lw_all := lw_g (lw_at lw_m4 21 rfl) rfl
theorem q801 : (Jvm.Cond.code ({ cls := "java/lang/RuntimeException", name := "<init>", desc := "(Ljava/lang/String;)V" } : Jvm.MethodName) prog_20_method_2_code (2 : Nat) (Option.none : Option Jvm.ClassFile.FieldType)) ∈ lw_all := lw_g (lw_at lw_m4 22 rfl) rfl
theorem q802 : (Jvm.Cond.methodLink "java/lang/RuntimeException" (7 : Nat) ({ cls := "java/lang/Exception", name := "<init>", desc := "(Ljava/lang/String;)V" } : Jvm.MethodName)) ∈ lw_all := lw_g (lw_at lw_m4 23 rfl) rfl
theorem q816 : (Jvm.Cond.declares ({ cls := "java/lang/RuntimeException", name := "<init>", desc := "()V" } : Jvm.MethodName)) ∈ lw_tbl := lw_at lw_m4 37 rfl
theorem q817 : (Jvm.Cond.declares ({ cls := "java/lang/RuntimeException", name := "<init>", desc := "(Ljava/lang/String;)V" } : Jvm.MethodName)) ∈ lw_tbl := lw_at lw_m4 38 rfl
theorem q837 : (Jvm.Cond.instanceMethod ({ cls := "java/lang/RuntimeException", name := "<init>", desc := "()V" } : Jvm.MethodName)) ∈ lw_all := lw_g (lw_at lw_m4 58 rfl) rfl
theorem q838 : (Jvm.Cond.code ({ cls := "java/lang/RuntimeException", name := "<init>", desc := "()V" } : Jvm.MethodName) prog_20_method_1_code (1 : Nat) (Option.none : Option Jvm.ClassFile.FieldType)) ∈ lw_all := lw_g (lw_at lw_m4 59 rfl) rfl
theorem q839 : (Jvm.Cond.methodLink "java/lang/RuntimeException" (1 : Nat) ({ cls := "java/lang/Exception", name := "<init>", desc := "()V" } : Jvm.MethodName)) ∈ lw_all := lw_g (lw_at lw_m4 60 rfl) rfl
theorem q857 : (Jvm.Cond.castable "java/lang/RuntimeException" "java/lang/Throwable") ∈ lw_tbl := lw_at lw_m4 78 rfl
/-! java/lang/NegativeArraySizeException -/
set_option maxRecDepth 100000
def RJ9 : String := "java/lang/NegativeArraySizeException"
def TJ9 : u_T := fun k => match k with
  | 0 => ("java/lang/Throwable", "backtrace", "Ljava/lang/Object;", false)
  | 1 => ("java/lang/Throwable", "detailMessage", "Ljava/lang/String;", false)
  | 2 => ("java/lang/Throwable", "cause", "Ljava/lang/Throwable;", false)
  | 3 => ("java/lang/Throwable", "stackTrace", "[Ljava/lang/StackTraceElement;", false)
  | 4 => ("java/lang/Throwable", "depth", "I", false)
  | _ => ("java/lang/Throwable", "suppressedExceptions", "Ljava/util/List;", false)
def tyJ9 : Nat → FieldType := fun k => match k with
  | 0 => .object "java/lang/Object"
  | 1 => .object "java/lang/String"
  | 2 => .object "java/lang/Throwable"
  | 3 => .array (.object "java/lang/StackTraceElement")
  | 4 => .int
  | _ => .object "java/util/List"
abbrev wsJ90 : List Cond := u_ws RJ9 TJ9 6
theorem nmJ9 : ∀ a, a < 6 → ∀ b, b < 6 → a ≠ b → (TJ9 a).2.1 ≠ (TJ9 b).2.1 := by decide +kernel
theorem tyJ9_ok : ∀ k, k < 6 → parseFieldDescriptor (TJ9 k).2.2.1 = some (tyJ9 k) := by decide +kernel
abbrev cJ9_init : ByteArray := prog_18_method_2_code
def yJ9_init : MethodName := ⟨RJ9, "<init>", "(Ljava/lang/String;)V"⟩
def dkwJ9_init_0 : List UInt8 := [42, 43, 183, 0, 7, 177]
abbrev dktJ9_init_0 : List UInt8 := dkwJ9_init_0 ++ []
theorem dksJ9_init_0 : cJ9_init.data.toList.drop 0 = dktJ9_init_0 := by decide +kernel
theorem dJ9_init_0 : decode cJ9_init 0 = .ok (.aload_n 0, 1) := dk_42 (dk_at dksJ9_init_0 0 rfl rfl)
theorem dJ9_init_1 : decode cJ9_init 1 = .ok (.aload_n 1, 1) := dk_43 (dk_at dksJ9_init_0 1 rfl rfl)
theorem dJ9_init_2 : decode cJ9_init 2 = .ok (.invokespecial 7, 3) := dk_183 0 7 (dk_at dksJ9_init_0 2 rfl rfl)
theorem dJ9_init_5 : decode cJ9_init 5 = .ok (.return_, 1) := dk_177 (dk_at dksJ9_init_0 5 rfl rfl)
theorem q80 : (Jvm.Cond.initialized "java/lang/NegativeArraySizeException") ∈ lw_all := lw_g (lw_at lw_m1 21 rfl) rfl
theorem q308 : (Jvm.Cond.selects "java/lang/NegativeArraySizeException" ({ cls := "java/lang/Throwable", name := "fillInStackTrace", desc := "()Ljava/lang/Throwable;" } : Jvm.MethodName) ({ cls := "java/lang/Throwable", name := "fillInStackTrace", desc := "()Ljava/lang/Throwable;" } : Jvm.MethodName)) ∈ lw_all := lw_g (lw_at lw_m2 9 rfl) rfl
theorem q796 : (Jvm.Cond.instantiable "java/lang/NegativeArraySizeException" (6 : Nat)) ∈ lw_all := lw_g (lw_at lw_m4 17 rfl) rfl
theorem q797 : (Jvm.Cond.instanceMethod ({ cls := "java/lang/NegativeArraySizeException", name := "<init>", desc := "(Ljava/lang/String;)V" } : Jvm.MethodName)) ∈ lw_all := lw_g (lw_at lw_m4 18 rfl) rfl
theorem q798 : (Jvm.Cond.code ({ cls := "java/lang/NegativeArraySizeException", name := "<init>", desc := "(Ljava/lang/String;)V" } : Jvm.MethodName) prog_18_method_2_code (2 : Nat) (Option.none : Option Jvm.ClassFile.FieldType)) ∈ lw_all := lw_g (lw_at lw_m4 19 rfl) rfl
theorem q799 : (Jvm.Cond.methodLink "java/lang/NegativeArraySizeException" (7 : Nat) ({ cls := "java/lang/RuntimeException", name := "<init>", desc := "(Ljava/lang/String;)V" } : Jvm.MethodName)) ∈ lw_all := lw_g (lw_at lw_m4 20 rfl) rfl
theorem q808 : (Jvm.Cond.lays "java/lang/NegativeArraySizeException" "java/lang/Throwable" "backtrace" "Ljava/lang/Object;") ∈ lw_all := lw_g (lw_at lw_m4 29 rfl) rfl
theorem q809 : (Jvm.Cond.lays "java/lang/NegativeArraySizeException" "java/lang/Throwable" "detailMessage" "Ljava/lang/String;") ∈ lw_all := lw_g (lw_at lw_m4 30 rfl) rfl
theorem q810 : (Jvm.Cond.lays "java/lang/NegativeArraySizeException" "java/lang/Throwable" "cause" "Ljava/lang/Throwable;") ∈ lw_all := lw_g (lw_at lw_m4 31 rfl) rfl
theorem q811 : (Jvm.Cond.lays "java/lang/NegativeArraySizeException" "java/lang/Throwable" "stackTrace" "[Ljava/lang/StackTraceElement;") ∈ lw_all := lw_g (lw_at lw_m4 32 rfl) rfl
theorem q812 : (Jvm.Cond.lays "java/lang/NegativeArraySizeException" "java/lang/Throwable" "depth" "I") ∈ lw_all := lw_g (lw_at lw_m4 33 rfl) rfl
theorem q813 : (Jvm.Cond.lays "java/lang/NegativeArraySizeException" "java/lang/Throwable" "suppressedExceptions" "Ljava/util/List;") ∈ lw_all := lw_g (lw_at lw_m4 34 rfl) rfl
theorem q814 : (Jvm.Cond.superclass "java/lang/NegativeArraySizeException" "java/lang/RuntimeException") ∈ lw_all := lw_g (lw_at lw_m4 35 rfl) rfl
theorem q815 : (Jvm.Cond.castable "java/lang/NegativeArraySizeException" "java/lang/NegativeArraySizeException") ∈ lw_tbl := lw_at lw_m4 36 rfl
theorem q818 : (Jvm.Cond.selects "java/lang/NegativeArraySizeException" ({ cls := "java/lang/Throwable", name := "fillInStackTrace", desc := "(I)Ljava/lang/Throwable;" } : Jvm.MethodName) ({ cls := "java/lang/Throwable", name := "fillInStackTrace", desc := "(I)Ljava/lang/Throwable;" } : Jvm.MethodName)) ∈ lw_all := lw_g (lw_at lw_m4 39 rfl) rfl
theorem in_J9 : ∀ w ∈ wsJ90, w ∈ lw_all := lw_in wsJ90 [808, 809, 810, 811, 812, 813] (by decide +kernel) (by decide +kernel)
/-! java/lang/NullPointerException -/
set_option maxRecDepth 100000
def RJ10 : String := "java/lang/NullPointerException"
def TJ10 : u_T := fun k => match k with
  | 0 => ("java/lang/Throwable", "backtrace", "Ljava/lang/Object;", false)
  | 1 => ("java/lang/Throwable", "detailMessage", "Ljava/lang/String;", false)
  | 2 => ("java/lang/Throwable", "cause", "Ljava/lang/Throwable;", false)
  | 3 => ("java/lang/Throwable", "stackTrace", "[Ljava/lang/StackTraceElement;", false)
  | 4 => ("java/lang/Throwable", "depth", "I", false)
  | 5 => ("java/lang/Throwable", "suppressedExceptions", "Ljava/util/List;", false)
  | 6 => ("java/lang/NullPointerException", "extendedMessageState", "I", false)
  | _ => ("java/lang/NullPointerException", "extendedMessage", "Ljava/lang/String;", false)
def tyJ10 : Nat → FieldType := fun k => match k with
  | 0 => .object "java/lang/Object"
  | 1 => .object "java/lang/String"
  | 2 => .object "java/lang/Throwable"
  | 3 => .array (.object "java/lang/StackTraceElement")
  | 4 => .int
  | 5 => .object "java/util/List"
  | 6 => .int
  | _ => .object "java/lang/String"
abbrev wsJ100 : List Cond := u_ws RJ10 TJ10 8
theorem nmJ10 : ∀ a, a < 8 → ∀ b, b < 8 → a ≠ b → (TJ10 a).2.1 ≠ (TJ10 b).2.1 := by decide +kernel
theorem tyJ10_ok : ∀ k, k < 8 → parseFieldDescriptor (TJ10 k).2.2.1 = some (tyJ10 k) := by decide +kernel
abbrev cJ10_init : ByteArray := prog_19_method_1_code
def yJ10_init : MethodName := ⟨RJ10, "<init>", "()V"⟩
theorem dJ10_init_0 : decode cJ10_init 0 = .ok (.aload_n 0, 1) := by decide +kernel
theorem dJ10_init_1 : decode cJ10_init 1 = .ok (.invokespecial 1, 3) := by decide +kernel
theorem dJ10_init_4 : decode cJ10_init 4 = .ok (.return_, 1) := by decide +kernel
theorem q81 : (Jvm.Cond.initialized "java/lang/NullPointerException") ∈ lw_all := lw_g (lw_at lw_m1 22 rfl) rfl
theorem q309 : (Jvm.Cond.selects "java/lang/NullPointerException" ({ cls := "java/lang/Throwable", name := "fillInStackTrace", desc := "()Ljava/lang/Throwable;" } : Jvm.MethodName) ({ cls := "java/lang/NullPointerException", name := "fillInStackTrace", desc := "()Ljava/lang/Throwable;" } : Jvm.MethodName)) ∈ lw_all := lw_g (lw_at lw_m2 10 rfl) rfl
theorem q310 : (Jvm.Cond.instanceMethod ({ cls := "java/lang/NullPointerException", name := "fillInStackTrace", desc := "()Ljava/lang/Throwable;" } : Jvm.MethodName)) ∈ lw_all := lw_g (lw_at lw_m2 11 rfl) rfl
theorem q311 : (Jvm.Cond.codeSync ({ cls := "java/lang/NullPointerException", name := "fillInStackTrace", desc := "()Ljava/lang/Throwable;" } : Jvm.MethodName) prog_19_method_3_code (1 : Nat) (Option.some (Jvm.ClassFile.FieldType.object "java/lang/Throwable"))) ∈ lw_all := lw_g (lw_at lw_m2 12 rfl) rfl
theorem q312 : (Jvm.Cond.methodLink "java/lang/NullPointerException" (16 : Nat) ({ cls := "java/lang/NullPointerException", name := "getExtendedNPEMessage", desc := "()Ljava/lang/String;" } : Jvm.MethodName)) ∈ lw_all := lw_g (lw_at lw_m2 13 rfl) rfl
theorem q313 : (Jvm.Cond.privateMethod ({ cls := "java/lang/NullPointerException", name := "getExtendedNPEMessage", desc := "()Ljava/lang/String;" } : Jvm.MethodName)) ∈ lw_tbl := lw_at lw_m2 14 rfl
theorem q314 : (Jvm.Cond.instanceMethod ({ cls := "java/lang/NullPointerException", name := "getExtendedNPEMessage", desc := "()Ljava/lang/String;" } : Jvm.MethodName)) ∈ lw_all := lw_g (lw_at lw_m2 15 rfl) rfl
theorem q315 : (Jvm.Cond.instantiable "java/lang/NullPointerException" (8 : Nat)) ∈ lw_all := lw_g (lw_at lw_m2 16 rfl) rfl
theorem q316 : (Jvm.Cond.native ({ cls := "java/lang/NullPointerException", name := "getExtendedNPEMessage", desc := "()Ljava/lang/String;" } : Jvm.MethodName)) ∈ lw_all := lw_g (lw_at lw_m2 17 rfl) rfl
theorem q317 : (Jvm.Cond.methodLink "java/lang/NullPointerException" (24 : Nat) ({ cls := "java/lang/RuntimeException", name := "fillInStackTrace", desc := "()Ljava/lang/Throwable;" } : Jvm.MethodName)) ∈ lw_all := lw_g (lw_at lw_m2 18 rfl) rfl
theorem q320 : (Jvm.Cond.superclass "java/lang/NullPointerException" "java/lang/RuntimeException") ∈ lw_all := lw_g (lw_at lw_m2 21 rfl) rfl
theorem q834 : (Jvm.Cond.instanceMethod ({ cls := "java/lang/NullPointerException", name := "<init>", desc := "()V" } : Jvm.MethodName)) ∈ lw_all := lw_g (lw_at lw_m4 55 rfl) rfl
theorem q835 : (Jvm.Cond.code ({ cls := "java/lang/NullPointerException", name := "<init>", desc := "()V" } : Jvm.MethodName) prog_19_method_1_code (1 : Nat) (Option.none : Option Jvm.ClassFile.FieldType)) ∈ lw_all := lw_g (lw_at lw_m4 56 rfl) rfl
theorem q836 : (Jvm.Cond.methodLink "java/lang/NullPointerException" (1 : Nat) ({ cls := "java/lang/RuntimeException", name := "<init>", desc := "()V" } : Jvm.MethodName)) ∈ lw_all := lw_g (lw_at lw_m4 57 rfl) rfl
theorem q843 : (Jvm.Cond.fieldLink "java/lang/NullPointerException" (10 : Nat) "java/lang/NullPointerException" "extendedMessageState" "I") ∈ lw_all := lw_g (lw_at lw_m4 64 rfl) rfl
theorem q844 : (Jvm.Cond.fieldLink "java/lang/NullPointerException" (20 : Nat) "java/lang/NullPointerException" "extendedMessage" "Ljava/lang/String;") ∈ lw_all := lw_g (lw_at lw_m4 65 rfl) rfl
theorem q845 : (Jvm.Cond.lays "java/lang/NullPointerException" "java/lang/NullPointerException" "extendedMessageState" "I") ∈ lw_all := lw_g (lw_at lw_m4 66 rfl) rfl
theorem q846 : (Jvm.Cond.soleField "java/lang/NullPointerException" "extendedMessageState") ∈ lw_all := lw_g (lw_at lw_m4 67 rfl) rfl
theorem q847 : (Jvm.Cond.lays "java/lang/NullPointerException" "java/lang/NullPointerException" "extendedMessage" "Ljava/lang/String;") ∈ lw_all := lw_g (lw_at lw_m4 68 rfl) rfl
theorem q848 : (Jvm.Cond.soleField "java/lang/NullPointerException" "extendedMessage") ∈ lw_all := lw_g (lw_at lw_m4 69 rfl) rfl
theorem q849 : (Jvm.Cond.lays "java/lang/NullPointerException" "java/lang/Throwable" "backtrace" "Ljava/lang/Object;") ∈ lw_all := lw_g (lw_at lw_m4 70 rfl) rfl
theorem q850 : (Jvm.Cond.lays "java/lang/NullPointerException" "java/lang/Throwable" "detailMessage" "Ljava/lang/String;") ∈ lw_all := lw_g (lw_at lw_m4 71 rfl) rfl
theorem q851 : (Jvm.Cond.lays "java/lang/NullPointerException" "java/lang/Throwable" "cause" "Ljava/lang/Throwable;") ∈ lw_all := lw_g (lw_at lw_m4 72 rfl) rfl
theorem q852 : (Jvm.Cond.lays "java/lang/NullPointerException" "java/lang/Throwable" "stackTrace" "[Ljava/lang/StackTraceElement;") ∈ lw_all := lw_g (lw_at lw_m4 73 rfl) rfl
theorem q853 : (Jvm.Cond.lays "java/lang/NullPointerException" "java/lang/Throwable" "depth" "I") ∈ lw_all := lw_g (lw_at lw_m4 74 rfl) rfl
theorem q854 : (Jvm.Cond.lays "java/lang/NullPointerException" "java/lang/Throwable" "suppressedExceptions" "Ljava/util/List;") ∈ lw_all := lw_g (lw_at lw_m4 75 rfl) rfl
theorem q855 : (Jvm.Cond.castable "java/lang/NullPointerException" "java/lang/NullPointerException") ∈ lw_tbl := lw_at lw_m4 76 rfl
theorem q856 : (Jvm.Cond.selects "java/lang/NullPointerException" ({ cls := "java/lang/Throwable", name := "fillInStackTrace", desc := "(I)Ljava/lang/Throwable;" } : Jvm.MethodName) ({ cls := "java/lang/Throwable", name := "fillInStackTrace", desc := "(I)Ljava/lang/Throwable;" } : Jvm.MethodName)) ∈ lw_all := lw_g (lw_at lw_m4 77 rfl) rfl
theorem in_J10 : ∀ w ∈ wsJ100, w ∈ lw_all := lw_in wsJ100 [849, 850, 851, 852, 853, 854, 845, 847] (by decide +kernel) (by decide +kernel)
/-! java/lang/IndexOutOfBoundsException -/
set_option maxRecDepth 100000
def RJ11 : String := "java/lang/IndexOutOfBoundsException"
abbrev cJ11_init : ByteArray := prog_15_method_2_code
def yJ11_init : MethodName := ⟨RJ11, "<init>", "(Ljava/lang/String;)V"⟩
def dkwJ11_init_0 : List UInt8 := [42, 43, 183, 0, 7, 177]
abbrev dktJ11_init_0 : List UInt8 := dkwJ11_init_0 ++ []
theorem dksJ11_init_0 : cJ11_init.data.toList.drop 0 = dktJ11_init_0 := by decide +kernel
theorem dJ11_init_0 : decode cJ11_init 0 = .ok (.aload_n 0, 1) := dk_42 (dk_at dksJ11_init_0 0 rfl rfl)
theorem dJ11_init_1 : decode cJ11_init 1 = .ok (.aload_n 1, 1) := dk_43 (dk_at dksJ11_init_0 1 rfl rfl)
theorem dJ11_init_2 : decode cJ11_init 2 = .ok (.invokespecial 7, 3) := dk_183 0 7 (dk_at dksJ11_init_0 2 rfl rfl)
theorem dJ11_init_5 : decode cJ11_init 5 = .ok (.return_, 1) := dk_177 (dk_at dksJ11_init_0 5 rfl rfl)
theorem q82 : (Jvm.Cond.initialized "java/lang/IndexOutOfBoundsException") ∈ lw_all := lw_g (lw_at lw_m1 23 rfl) rfl
theorem q863 : (Jvm.Cond.instanceMethod ({ cls := "java/lang/IndexOutOfBoundsException", name := "<init>", desc := "(Ljava/lang/String;)V" } : Jvm.MethodName)) ∈ lw_all := lw_g (lw_at lw_m4 84 rfl) rfl
theorem q864 : (Jvm.Cond.code ({ cls := "java/lang/IndexOutOfBoundsException", name := "<init>", desc := "(Ljava/lang/String;)V" } : Jvm.MethodName) prog_15_method_2_code (2 : Nat) (Option.none : Option Jvm.ClassFile.FieldType)) ∈ lw_all := lw_g (lw_at lw_m4 85 rfl) rfl
theorem q865 : (Jvm.Cond.methodLink "java/lang/IndexOutOfBoundsException" (7 : Nat) ({ cls := "java/lang/RuntimeException", name := "<init>", desc := "(Ljava/lang/String;)V" } : Jvm.MethodName)) ∈ lw_all := lw_g (lw_at lw_m4 86 rfl) rfl
theorem q874 : (Jvm.Cond.declares ({ cls := "java/lang/IndexOutOfBoundsException", name := "<init>", desc := "()V" } : Jvm.MethodName)) ∈ lw_tbl := lw_at lw_m4 95 rfl
theorem q875 : (Jvm.Cond.declares ({ cls := "java/lang/IndexOutOfBoundsException", name := "<init>", desc := "(Ljava/lang/String;)V" } : Jvm.MethodName)) ∈ lw_tbl := lw_at lw_m4 96 rfl
/-! java/lang/ArrayIndexOutOfBoundsException -/
set_option maxRecDepth 100000
def RJ12 : String := "java/lang/ArrayIndexOutOfBoundsException"
def TJ12 : u_T := fun k => match k with
  | 0 => ("java/lang/Throwable", "backtrace", "Ljava/lang/Object;", false)
  | 1 => ("java/lang/Throwable", "detailMessage", "Ljava/lang/String;", false)
  | 2 => ("java/lang/Throwable", "cause", "Ljava/lang/Throwable;", false)
  | 3 => ("java/lang/Throwable", "stackTrace", "[Ljava/lang/StackTraceElement;", false)
  | 4 => ("java/lang/Throwable", "depth", "I", false)
  | _ => ("java/lang/Throwable", "suppressedExceptions", "Ljava/util/List;", false)
def tyJ12 : Nat → FieldType := fun k => match k with
  | 0 => .object "java/lang/Object"
  | 1 => .object "java/lang/String"
  | 2 => .object "java/lang/Throwable"
  | 3 => .array (.object "java/lang/StackTraceElement")
  | 4 => .int
  | _ => .object "java/util/List"
abbrev wsJ120 : List Cond := u_ws RJ12 TJ12 6
theorem nmJ12 : ∀ a, a < 6 → ∀ b, b < 6 → a ≠ b → (TJ12 a).2.1 ≠ (TJ12 b).2.1 := by decide +kernel
theorem tyJ12_ok : ∀ k, k < 6 → parseFieldDescriptor (TJ12 k).2.2.1 = some (tyJ12 k) := by decide +kernel
abbrev cJ12_init : ByteArray := prog_12_method_2_code
def yJ12_init : MethodName := ⟨RJ12, "<init>", "(Ljava/lang/String;)V"⟩
def dkwJ12_init_0 : List UInt8 := [42, 43, 183, 0, 7, 177]
abbrev dktJ12_init_0 : List UInt8 := dkwJ12_init_0 ++ []
theorem dksJ12_init_0 : cJ12_init.data.toList.drop 0 = dktJ12_init_0 := by decide +kernel
theorem dJ12_init_0 : decode cJ12_init 0 = .ok (.aload_n 0, 1) := dk_42 (dk_at dksJ12_init_0 0 rfl rfl)
theorem dJ12_init_1 : decode cJ12_init 1 = .ok (.aload_n 1, 1) := dk_43 (dk_at dksJ12_init_0 1 rfl rfl)
theorem dJ12_init_2 : decode cJ12_init 2 = .ok (.invokespecial 7, 3) := dk_183 0 7 (dk_at dksJ12_init_0 2 rfl rfl)
theorem dJ12_init_5 : decode cJ12_init 5 = .ok (.return_, 1) := dk_177 (dk_at dksJ12_init_0 5 rfl rfl)
theorem q83 : (Jvm.Cond.initialized "java/lang/ArrayIndexOutOfBoundsException") ∈ lw_all := lw_g (lw_at lw_m1 24 rfl) rfl
theorem q306 : (Jvm.Cond.selects "java/lang/ArrayIndexOutOfBoundsException" ({ cls := "java/lang/Throwable", name := "fillInStackTrace", desc := "()Ljava/lang/Throwable;" } : Jvm.MethodName) ({ cls := "java/lang/Throwable", name := "fillInStackTrace", desc := "()Ljava/lang/Throwable;" } : Jvm.MethodName)) ∈ lw_all := lw_g (lw_at lw_m2 7 rfl) rfl
theorem q859 : (Jvm.Cond.instantiable "java/lang/ArrayIndexOutOfBoundsException" (6 : Nat)) ∈ lw_all := lw_g (lw_at lw_m4 80 rfl) rfl
theorem q860 : (Jvm.Cond.instanceMethod ({ cls := "java/lang/ArrayIndexOutOfBoundsException", name := "<init>", desc := "(Ljava/lang/String;)V" } : Jvm.MethodName)) ∈ lw_all := lw_g (lw_at lw_m4 81 rfl) rfl
theorem q861 : (Jvm.Cond.code ({ cls := "java/lang/ArrayIndexOutOfBoundsException", name := "<init>", desc := "(Ljava/lang/String;)V" } : Jvm.MethodName) prog_12_method_2_code (2 : Nat) (Option.none : Option Jvm.ClassFile.FieldType)) ∈ lw_all := lw_g (lw_at lw_m4 82 rfl) rfl
theorem q862 : (Jvm.Cond.methodLink "java/lang/ArrayIndexOutOfBoundsException" (7 : Nat) ({ cls := "java/lang/IndexOutOfBoundsException", name := "<init>", desc := "(Ljava/lang/String;)V" } : Jvm.MethodName)) ∈ lw_all := lw_g (lw_at lw_m4 83 rfl) rfl
theorem q866 : (Jvm.Cond.lays "java/lang/ArrayIndexOutOfBoundsException" "java/lang/Throwable" "backtrace" "Ljava/lang/Object;") ∈ lw_all := lw_g (lw_at lw_m4 87 rfl) rfl
theorem q867 : (Jvm.Cond.lays "java/lang/ArrayIndexOutOfBoundsException" "java/lang/Throwable" "detailMessage" "Ljava/lang/String;") ∈ lw_all := lw_g (lw_at lw_m4 88 rfl) rfl
theorem q868 : (Jvm.Cond.lays "java/lang/ArrayIndexOutOfBoundsException" "java/lang/Throwable" "cause" "Ljava/lang/Throwable;") ∈ lw_all := lw_g (lw_at lw_m4 89 rfl) rfl
theorem q869 : (Jvm.Cond.lays "java/lang/ArrayIndexOutOfBoundsException" "java/lang/Throwable" "stackTrace" "[Ljava/lang/StackTraceElement;") ∈ lw_all := lw_g (lw_at lw_m4 90 rfl) rfl
theorem q870 : (Jvm.Cond.lays "java/lang/ArrayIndexOutOfBoundsException" "java/lang/Throwable" "depth" "I") ∈ lw_all := lw_g (lw_at lw_m4 91 rfl) rfl
theorem q871 : (Jvm.Cond.lays "java/lang/ArrayIndexOutOfBoundsException" "java/lang/Throwable" "suppressedExceptions" "Ljava/util/List;") ∈ lw_all := lw_g (lw_at lw_m4 92 rfl) rfl
theorem q872 : (Jvm.Cond.superclass "java/lang/ArrayIndexOutOfBoundsException" "java/lang/IndexOutOfBoundsException") ∈ lw_all := lw_g (lw_at lw_m4 93 rfl) rfl
theorem q873 : (Jvm.Cond.castable "java/lang/ArrayIndexOutOfBoundsException" "java/lang/ArrayIndexOutOfBoundsException") ∈ lw_tbl := lw_at lw_m4 94 rfl
theorem q876 : (Jvm.Cond.selects "java/lang/ArrayIndexOutOfBoundsException" ({ cls := "java/lang/Throwable", name := "fillInStackTrace", desc := "(I)Ljava/lang/Throwable;" } : Jvm.MethodName) ({ cls := "java/lang/Throwable", name := "fillInStackTrace", desc := "(I)Ljava/lang/Throwable;" } : Jvm.MethodName)) ∈ lw_all := lw_g (lw_at lw_m4 97 rfl) rfl
theorem q1333 : (Jvm.Cond.castable "java/lang/ArrayIndexOutOfBoundsException" "java/lang/IndexOutOfBoundsException") ∈ lw_tbl := lw_at lw_m6 74 rfl
theorem in_J12 : ∀ w ∈ wsJ120, w ∈ lw_all := lw_in wsJ120 [866, 867, 868, 869, 870, 871] (by decide +kernel) (by decide +kernel)
/-! java/lang/ClassCastException -/
set_option maxRecDepth 100000
def RJ13 : String := "java/lang/ClassCastException"
def TJ13 : u_T := fun k => match k with
  | 0 => ("java/lang/Throwable", "backtrace", "Ljava/lang/Object;", false)
  | 1 => ("java/lang/Throwable", "detailMessage", "Ljava/lang/String;", false)
  | 2 => ("java/lang/Throwable", "cause", "Ljava/lang/Throwable;", false)
  | 3 => ("java/lang/Throwable", "stackTrace", "[Ljava/lang/StackTraceElement;", false)
  | 4 => ("java/lang/Throwable", "depth", "I", false)
  | _ => ("java/lang/Throwable", "suppressedExceptions", "Ljava/util/List;", false)
def tyJ13 : Nat → FieldType := fun k => match k with
  | 0 => .object "java/lang/Object"
  | 1 => .object "java/lang/String"
  | 2 => .object "java/lang/Throwable"
  | 3 => .array (.object "java/lang/StackTraceElement")
  | 4 => .int
  | _ => .object "java/util/List"
abbrev wsJ130 : List Cond := u_ws RJ13 TJ13 6
theorem nmJ13 : ∀ a, a < 6 → ∀ b, b < 6 → a ≠ b → (TJ13 a).2.1 ≠ (TJ13 b).2.1 := by decide +kernel
theorem tyJ13_ok : ∀ k, k < 6 → parseFieldDescriptor (TJ13 k).2.2.1 = some (tyJ13 k) := by decide +kernel
abbrev cJ13_init : ByteArray := prog_13_method_2_code
def yJ13_init : MethodName := ⟨RJ13, "<init>", "(Ljava/lang/String;)V"⟩
def dkwJ13_init_0 : List UInt8 := [42, 43, 183, 0, 7, 177]
abbrev dktJ13_init_0 : List UInt8 := dkwJ13_init_0 ++ []
theorem dksJ13_init_0 : cJ13_init.data.toList.drop 0 = dktJ13_init_0 := by decide +kernel
theorem dJ13_init_0 : decode cJ13_init 0 = .ok (.aload_n 0, 1) := dk_42 (dk_at dksJ13_init_0 0 rfl rfl)
theorem dJ13_init_1 : decode cJ13_init 1 = .ok (.aload_n 1, 1) := dk_43 (dk_at dksJ13_init_0 1 rfl rfl)
theorem dJ13_init_2 : decode cJ13_init 2 = .ok (.invokespecial 7, 3) := dk_183 0 7 (dk_at dksJ13_init_0 2 rfl rfl)
theorem dJ13_init_5 : decode cJ13_init 5 = .ok (.return_, 1) := dk_177 (dk_at dksJ13_init_0 5 rfl rfl)
theorem q84 : (Jvm.Cond.initialized "java/lang/ClassCastException") ∈ lw_all := lw_g (lw_at lw_m1 25 rfl) rfl
theorem q307 : (Jvm.Cond.selects "java/lang/ClassCastException" ({ cls := "java/lang/Throwable", name := "fillInStackTrace", desc := "()Ljava/lang/Throwable;" } : Jvm.MethodName) ({ cls := "java/lang/Throwable", name := "fillInStackTrace", desc := "()Ljava/lang/Throwable;" } : Jvm.MethodName)) ∈ lw_all := lw_g (lw_at lw_m2 8 rfl) rfl
theorem q885 : (Jvm.Cond.instantiable "java/lang/ClassCastException" (6 : Nat)) ∈ lw_all := lw_g (lw_at lw_m4 106 rfl) rfl
theorem q886 : (Jvm.Cond.instanceMethod ({ cls := "java/lang/ClassCastException", name := "<init>", desc := "(Ljava/lang/String;)V" } : Jvm.MethodName)) ∈ lw_all := lw_g (lw_at lw_m4 107 rfl) rfl
theorem q887 : (Jvm.Cond.code ({ cls := "java/lang/ClassCastException", name := "<init>", desc := "(Ljava/lang/String;)V" } : Jvm.MethodName) prog_13_method_2_code (2 : Nat) (Option.none : Option Jvm.ClassFile.FieldType)) ∈ lw_all := lw_g (lw_at lw_m4 108 rfl) rfl
theorem q888 : (Jvm.Cond.methodLink "java/lang/ClassCastException" (7 : Nat) ({ cls := "java/lang/RuntimeException", name := "<init>", desc := "(Ljava/lang/String;)V" } : Jvm.MethodName)) ∈ lw_all := lw_g (lw_at lw_m4 109 rfl) rfl
theorem q889 : (Jvm.Cond.lays "java/lang/ClassCastException" "java/lang/Throwable" "backtrace" "Ljava/lang/Object;") ∈ lw_all := lw_g (lw_at lw_m4 110 rfl) rfl
theorem q890 : (Jvm.Cond.lays "java/lang/ClassCastException" "java/lang/Throwable" "detailMessage" "Ljava/lang/String;") ∈ lw_all := lw_g (lw_at lw_m4 111 rfl) rfl
theorem q891 : (Jvm.Cond.lays "java/lang/ClassCastException" "java/lang/Throwable" "cause" "Ljava/lang/Throwable;") ∈ lw_all := lw_g (lw_at lw_m4 112 rfl) rfl
theorem q892 : (Jvm.Cond.lays "java/lang/ClassCastException" "java/lang/Throwable" "stackTrace" "[Ljava/lang/StackTraceElement;") ∈ lw_all := lw_g (lw_at lw_m4 113 rfl) rfl
theorem q893 : (Jvm.Cond.lays "java/lang/ClassCastException" "java/lang/Throwable" "depth" "I") ∈ lw_all := lw_g (lw_at lw_m4 114 rfl) rfl
theorem q894 : (Jvm.Cond.lays "java/lang/ClassCastException" "java/lang/Throwable" "suppressedExceptions" "Ljava/util/List;") ∈ lw_all := lw_g (lw_at lw_m4 115 rfl) rfl
theorem q895 : (Jvm.Cond.superclass "java/lang/ClassCastException" "java/lang/RuntimeException") ∈ lw_all := lw_g (lw_at lw_m4 116 rfl) rfl
theorem q896 : (Jvm.Cond.castable "java/lang/ClassCastException" "java/lang/ClassCastException") ∈ lw_tbl := lw_at lw_m4 117 rfl
theorem q897 : (Jvm.Cond.selects "java/lang/ClassCastException" ({ cls := "java/lang/Throwable", name := "fillInStackTrace", desc := "(I)Ljava/lang/Throwable;" } : Jvm.MethodName) ({ cls := "java/lang/Throwable", name := "fillInStackTrace", desc := "(I)Ljava/lang/Throwable;" } : Jvm.MethodName)) ∈ lw_all := lw_g (lw_at lw_m4 118 rfl) rfl
theorem in_J13 : ∀ w ∈ wsJ130, w ∈ lw_all := lw_in wsJ130 [889, 890, 891, 892, 893, 894] (by decide +kernel) (by decide +kernel)
/-! the law's own entry -/
set_option maxRecDepth 100000
abbrev cL_law : ByteArray := code
def dkwL_law_49 : List UInt8 := [172]
abbrev dktL_law_49 : List UInt8 := dkwL_law_49 ++ []
def dkwL_law_48 : List UInt8 := [182, 0, 177, 44, 42, 29, 4, 96, 46, 182, 0, 180, 159, 0, 5, 3, 172, 132, 3, 5, 167, 251, 9, 4]
abbrev dktL_law_48 : List UInt8 := dkwL_law_48 ++ dktL_law_49
def dkwL_law_47 : List UInt8 := [159, 0, 41, 3, 172, 43, 182, 0, 173, 44, 182, 0, 176, 159, 0, 28, 3, 172, 43, 42, 29, 4, 96, 46]
abbrev dktL_law_47 : List UInt8 := dkwL_law_47 ++ dktL_law_48
def dkwL_law_46 : List UInt8 := [44, 42, 29, 4, 96, 46, 42, 29, 5, 96, 46, 42, 29, 6, 96, 46, 42, 29, 7, 96, 46, 182, 0, 172]
abbrev dktL_law_46 : List UInt8 := dkwL_law_46 ++ dktL_law_47
def dkwL_law_45 : List UInt8 := [43, 42, 29, 4, 96, 46, 42, 29, 5, 96, 46, 42, 29, 6, 96, 46, 42, 29, 7, 96, 46, 182, 0, 168]
abbrev dktL_law_45 : List UInt8 := dkwL_law_45 ++ dktL_law_46
def dkwL_law_44 : List UInt8 := [44, 42, 29, 4, 96, 46, 42, 29, 5, 96, 46, 42, 29, 6, 96, 46, 182, 0, 167, 159, 0, 94, 3, 172]
abbrev dktL_law_44 : List UInt8 := dkwL_law_44 ++ dktL_law_45
def dkwL_law_43 : List UInt8 := [159, 0, 137, 3, 172, 43, 42, 29, 4, 96, 46, 42, 29, 5, 96, 46, 42, 29, 6, 96, 46, 182, 0, 164]
abbrev dktL_law_43 : List UInt8 := dkwL_law_43 ++ dktL_law_44
def dkwL_law_42 : List UInt8 := [96, 46, 182, 0, 160, 44, 42, 29, 4, 96, 46, 42, 29, 5, 96, 46, 42, 29, 6, 96, 46, 182, 0, 163]
abbrev dktL_law_42 : List UInt8 := dkwL_law_42 ++ dktL_law_43
def dkwL_law_41 : List UInt8 := [96, 46, 182, 0, 159, 159, 0, 180, 3, 172, 43, 42, 29, 4, 96, 46, 42, 29, 5, 96, 46, 42, 29, 6]
abbrev dktL_law_41 : List UInt8 := dkwL_law_41 ++ dktL_law_42
def dkwL_law_40 : List UInt8 := [4, 96, 46, 182, 0, 155, 159, 0, 203, 3, 172, 43, 42, 29, 4, 96, 46, 182, 0, 156, 44, 42, 29, 4]
abbrev dktL_law_40 : List UInt8 := dkwL_law_40 ++ dktL_law_41
def dkwL_law_39 : List UInt8 := [29, 6, 96, 46, 182, 0, 151, 159, 0, 226, 3, 172, 43, 42, 29, 4, 96, 46, 182, 0, 152, 44, 42, 29]
abbrev dktL_law_39 : List UInt8 := dkwL_law_39 ++ dktL_law_40
def dkwL_law_38 : List UInt8 := [29, 5, 96, 46, 42, 29, 6, 96, 46, 182, 0, 148, 44, 42, 29, 4, 96, 46, 42, 29, 5, 96, 46, 42]
abbrev dktL_law_38 : List UInt8 := dkwL_law_38 ++ dktL_law_39
def dkwL_law_37 : List UInt8 := [29, 4, 96, 46, 42, 29, 5, 96, 46, 182, 0, 147, 159, 1, 13, 3, 172, 43, 42, 29, 4, 96, 46, 42]
abbrev dktL_law_37 : List UInt8 := dkwL_law_37 ++ dktL_law_38
def dkwL_law_36 : List UInt8 := [182, 0, 143, 159, 1, 46, 3, 172, 43, 42, 29, 4, 96, 46, 42, 29, 5, 96, 46, 182, 0, 144, 44, 42]
abbrev dktL_law_36 : List UInt8 := dkwL_law_36 ++ dktL_law_37
def dkwL_law_35 : List UInt8 := [182, 0, 139, 159, 1, 69, 3, 172, 43, 42, 29, 4, 96, 46, 182, 0, 140, 44, 42, 29, 4, 96, 46]
abbrev dktL_law_35 : List UInt8 := dkwL_law_35 ++ dktL_law_36
def dkwL_law_34 : List UInt8 := [182, 0, 135, 159, 1, 92, 3, 172, 43, 42, 29, 4, 96, 46, 182, 0, 136, 44, 42, 29, 4, 96, 46]
abbrev dktL_law_34 : List UInt8 := dkwL_law_34 ++ dktL_law_35
def dkwL_law_33 : List UInt8 := [182, 0, 131, 159, 1, 115, 3, 172, 43, 42, 29, 4, 96, 46, 182, 0, 132, 44, 42, 29, 4, 96, 46]
abbrev dktL_law_33 : List UInt8 := dkwL_law_33 ++ dktL_law_34
def dkwL_law_32 : List UInt8 := [182, 0, 127, 44, 42, 29, 4, 96, 46, 42, 29, 5, 96, 46, 153, 0, 7, 4, 167, 0, 4, 3]
abbrev dktL_law_32 : List UInt8 := dkwL_law_32 ++ dktL_law_33
def dkwL_law_31 : List UInt8 := [153, 1, 164, 3, 172, 43, 42, 29, 4, 96, 46, 42, 29, 5, 96, 46, 153, 0, 7, 4, 167, 0, 4, 3]
abbrev dktL_law_31 : List UInt8 := dkwL_law_31 ++ dktL_law_32
def dkwL_law_30 : List UInt8 := [46, 42, 29, 5, 96, 46, 182, 0, 122, 44, 42, 29, 4, 96, 46, 42, 29, 5, 96, 46, 182, 0, 126, 148]
abbrev dktL_law_30 : List UInt8 := dkwL_law_30 ++ dktL_law_31
def dkwL_law_29 : List UInt8 := [42, 29, 5, 96, 46, 42, 29, 6, 96, 46, 182, 0, 121, 148, 153, 1, 198, 3, 172, 43, 42, 29, 4, 96]
abbrev dktL_law_29 : List UInt8 := dkwL_law_29 ++ dktL_law_30
def dkwL_law_28 : List UInt8 := [42, 29, 4, 96, 46, 42, 29, 5, 96, 46, 42, 29, 6, 96, 46, 182, 0, 117, 44, 42, 29, 4, 96, 46]
abbrev dktL_law_28 : List UInt8 := dkwL_law_28 ++ dktL_law_29
def dkwL_law_27 : List UInt8 := [96, 46, 182, 0, 112, 159, 1, 255, 3, 172, 43, 182, 0, 113, 44, 182, 0, 116, 159, 1, 242, 3, 172, 43]
abbrev dktL_law_27 : List UInt8 := dkwL_law_27 ++ dktL_law_28
def dkwL_law_26 : List UInt8 := [5, 96, 46, 182, 0, 108, 159, 2, 22, 3, 172, 43, 42, 29, 4, 96, 46, 182, 0, 109, 44, 42, 29, 4]
abbrev dktL_law_26 : List UInt8 := dkwL_law_26 ++ dktL_law_27
def dkwL_law_25 : List UInt8 := [3, 172, 43, 42, 29, 4, 96, 46, 42, 29, 5, 96, 46, 182, 0, 105, 44, 42, 29, 4, 96, 46, 42, 29]
abbrev dktL_law_25 : List UInt8 := dkwL_law_25 ++ dktL_law_26
def dkwL_law_24 : List UInt8 := [29, 5, 96, 46, 182, 0, 101, 44, 42, 29, 4, 96, 46, 42, 29, 5, 96, 46, 182, 0, 104, 159, 2, 55]
abbrev dktL_law_24 : List UInt8 := dkwL_law_24 ++ dktL_law_25
def dkwL_law_23 : List UInt8 := [182, 0, 97, 44, 42, 29, 4, 96, 46, 182, 0, 100, 159, 2, 88, 3, 172, 43, 42, 29, 4, 96, 46, 42]
abbrev dktL_law_23 : List UInt8 := dkwL_law_23 ++ dktL_law_24
def dkwL_law_22 : List UInt8 := [29, 4, 96, 46, 42, 29, 5, 96, 46, 182, 0, 96, 159, 2, 111, 3, 172, 43, 42, 29, 4, 96, 46]
abbrev dktL_law_22 : List UInt8 := dkwL_law_22 ++ dktL_law_23
def dkwL_law_21 : List UInt8 := [182, 0, 92, 159, 2, 144, 3, 172, 43, 42, 29, 4, 96, 46, 42, 29, 5, 96, 46, 182, 0, 93, 44, 42]
abbrev dktL_law_21 : List UInt8 := dkwL_law_21 ++ dktL_law_22
def dkwL_law_20 : List UInt8 := [182, 0, 88, 159, 2, 167, 3, 172, 43, 42, 29, 4, 96, 46, 182, 0, 89, 44, 42, 29, 4, 96, 46]
abbrev dktL_law_20 : List UInt8 := dkwL_law_20 ++ dktL_law_21
def dkwL_law_19 : List UInt8 := [182, 0, 81, 44, 42, 29, 4, 96, 46, 182, 0, 84, 159, 2, 180, 3, 172, 43, 182, 0, 85, 44]
abbrev dktL_law_19 : List UInt8 := dkwL_law_19 ++ dktL_law_20
def dkwL_law_18 : List UInt8 := [159, 2, 216, 3, 172, 43, 182, 0, 77, 44, 182, 0, 80, 159, 2, 203, 3, 172, 43, 42, 29, 4, 96, 46]
abbrev dktL_law_18 : List UInt8 := dkwL_law_18 ++ dktL_law_19
def dkwL_law_17 : List UInt8 := [159, 2, 239, 3, 172, 43, 42, 29, 4, 96, 46, 182, 0, 73, 44, 42, 29, 4, 96, 46, 182, 0, 76]
abbrev dktL_law_17 : List UInt8 := dkwL_law_17 ++ dktL_law_18
def dkwL_law_16 : List UInt8 := [159, 3, 6, 3, 172, 43, 42, 29, 4, 96, 46, 182, 0, 69, 44, 42, 29, 4, 96, 46, 182, 0, 72]
abbrev dktL_law_16 : List UInt8 := dkwL_law_16 ++ dktL_law_17
def dkwL_law_15 : List UInt8 := [159, 3, 29, 3, 172, 43, 42, 29, 4, 96, 46, 182, 0, 65, 44, 42, 29, 4, 96, 46, 182, 0, 68]
abbrev dktL_law_15 : List UInt8 := dkwL_law_15 ++ dktL_law_16
def dkwL_law_14 : List UInt8 := [159, 3, 52, 3, 172, 43, 42, 29, 4, 96, 46, 182, 0, 61, 44, 42, 29, 4, 96, 46, 182, 0, 64]
abbrev dktL_law_14 : List UInt8 := dkwL_law_14 ++ dktL_law_15
def dkwL_law_13 : List UInt8 := [159, 3, 75, 3, 172, 43, 42, 29, 4, 96, 46, 182, 0, 57, 44, 42, 29, 4, 96, 46, 182, 0, 60]
abbrev dktL_law_13 : List UInt8 := dkwL_law_13 ++ dktL_law_14
def dkwL_law_12 : List UInt8 := [159, 3, 98, 3, 172, 43, 42, 29, 4, 96, 46, 182, 0, 53, 44, 42, 29, 4, 96, 46, 182, 0, 56]
abbrev dktL_law_12 : List UInt8 := dkwL_law_12 ++ dktL_law_13
def dkwL_law_11 : List UInt8 := [182, 0, 48, 44, 42, 29, 4, 96, 46, 42, 29, 5, 96, 46, 42, 29, 6, 96, 46, 182, 0, 52]
abbrev dktL_law_11 : List UInt8 := dkwL_law_11 ++ dktL_law_12
def dkwL_law_10 : List UInt8 := [182, 0, 47, 159, 3, 141, 3, 172, 43, 42, 29, 4, 96, 46, 42, 29, 5, 96, 46, 42, 29, 6, 96, 46]
abbrev dktL_law_10 : List UInt8 := dkwL_law_10 ++ dktL_law_11
def dkwL_law_9 : List UInt8 := [182, 0, 43, 159, 3, 164, 3, 172, 43, 42, 29, 4, 96, 46, 182, 0, 44, 44, 42, 29, 4, 96, 46]
abbrev dktL_law_9 : List UInt8 := dkwL_law_9 ++ dktL_law_10
def dkwL_law_8 : List UInt8 := [46, 182, 0, 39, 159, 3, 187, 3, 172, 43, 42, 29, 4, 96, 46, 182, 0, 40, 44, 42, 29, 4, 96, 46]
abbrev dktL_law_8 : List UInt8 := dkwL_law_8 ++ dktL_law_9
def dkwL_law_7 : List UInt8 := [43, 42, 29, 4, 96, 46, 42, 29, 5, 96, 46, 182, 0, 35, 44, 42, 29, 4, 96, 46, 42, 29, 5, 96]
abbrev dktL_law_7 : List UInt8 := dkwL_law_7 ++ dktL_law_8
def dkwL_law_6 : List UInt8 := [172, 43, 42, 29, 4, 96, 46, 182, 0, 31, 44, 42, 29, 4, 96, 46, 182, 0, 34, 159, 3, 220, 3, 172]
abbrev dktL_law_6 : List UInt8 := dkwL_law_6 ++ dktL_law_7
def dkwL_law_5 : List UInt8 := [182, 0, 22, 44, 182, 0, 26, 159, 4, 0, 3, 172, 43, 182, 0, 27, 44, 182, 0, 30, 159, 3, 243, 3]
abbrev dktL_law_5 : List UInt8 := dkwL_law_5 ++ dktL_law_6
def dkwL_law_4 : List UInt8 := [42, 29, 4, 96, 46, 182, 0, 18, 44, 42, 29, 4, 96, 46, 182, 0, 21, 159, 4, 13, 3, 172, 43]
abbrev dktL_law_4 : List UInt8 := dkwL_law_4 ++ dktL_law_5
def dkwL_law_3 : List UInt8 := [43, 42, 29, 4, 96, 46, 182, 0, 13, 44, 42, 29, 4, 96, 46, 182, 0, 17, 159, 4, 36, 3, 172, 43]
abbrev dktL_law_3 : List UInt8 := dkwL_law_3 ++ dktL_law_4
def dkwL_law_2 : List UInt8 := [170, 0, 0, 0, 0, 0, 4, 230, 0, 0, 0, 0, 0, 0, 0, 39, 0, 0, 0, 176, 0, 0, 0, 199, 0, 0, 0, 222, 0, 0, 0, 235, 0, 0, 0, 248, 0, 0, 1, 15, 0, 0, 1, 48, 0, 0, 1, 71, 0, 0, 1, 94, 0, 0, 1, 137, 0, 0, 1, 160, 0, 0, 1, 183, 0, 0, 1, 206, 0, 0, 1, 229, 0, 0, 1, 252, 0, 0, 2, 19, 0, 0, 2, 32, 0, 0, 2, 55, 0, 0, 2, 68, 0, 0, 2, 91, 0, 0, 2, 124, 0, 0, 2, 147, 0, 0, 2, 180, 0, 0, 2, 213, 0, 0, 2, 236, 0, 0, 2, 249, 0, 0, 3, 37, 0, 0, 3, 71, 0, 0, 3, 120, 0, 0, 3, 143, 0, 0, 3, 166, 0, 0, 3, 189, 0, 0, 3, 222, 0, 0, 4, 9, 0, 0, 4, 32, 0, 0, 4, 55, 0, 0, 4, 98, 0, 0, 4, 141, 0, 0, 4, 194, 0, 0, 4, 207]
abbrev dktL_law_2 : List UInt8 := dkwL_law_2 ++ dktL_law_3
def dkwL_law_1 : List UInt8 := [163, 4, 245, 42, 29, 46, 16, 63, 126]
abbrev dktL_law_1 : List UInt8 := dkwL_law_1 ++ dktL_law_2
def dkwL_law_0 : List UInt8 := [187, 0, 7, 89, 183, 0, 9, 76, 187, 0, 10, 89, 183, 0, 12, 77, 3, 62, 29, 42, 190, 8, 100]
abbrev dktL_law_0 : List UInt8 := dkwL_law_0 ++ dktL_law_1
theorem dksL_law_0 : cL_law.data.toList.drop 0 = dktL_law_0 := by decide +kernel
theorem dksL_law_1 : cL_law.data.toList.drop 23 = dktL_law_1 := dk_seg dksL_law_0 23 rfl rfl
theorem dksL_law_2 : cL_law.data.toList.drop 32 = dktL_law_2 := dk_seg dksL_law_1 9 rfl rfl
theorem dksL_law_3 : cL_law.data.toList.drop 208 = dktL_law_3 := dk_seg dksL_law_2 176 rfl rfl
theorem dksL_law_4 : cL_law.data.toList.drop 232 = dktL_law_4 := dk_seg dksL_law_3 24 rfl rfl
theorem dksL_law_5 : cL_law.data.toList.drop 255 = dktL_law_5 := dk_seg dksL_law_4 23 rfl rfl
theorem dksL_law_6 : cL_law.data.toList.drop 279 = dktL_law_6 := dk_seg dksL_law_5 24 rfl rfl
theorem dksL_law_7 : cL_law.data.toList.drop 303 = dktL_law_7 := dk_seg dksL_law_6 24 rfl rfl
theorem dksL_law_8 : cL_law.data.toList.drop 327 = dktL_law_8 := dk_seg dksL_law_7 24 rfl rfl
theorem dksL_law_9 : cL_law.data.toList.drop 351 = dktL_law_9 := dk_seg dksL_law_8 24 rfl rfl
theorem dksL_law_10 : cL_law.data.toList.drop 374 = dktL_law_10 := dk_seg dksL_law_9 23 rfl rfl
theorem dksL_law_11 : cL_law.data.toList.drop 398 = dktL_law_11 := dk_seg dksL_law_10 24 rfl rfl
theorem dksL_law_12 : cL_law.data.toList.drop 420 = dktL_law_12 := dk_seg dksL_law_11 22 rfl rfl
theorem dksL_law_13 : cL_law.data.toList.drop 443 = dktL_law_13 := dk_seg dksL_law_12 23 rfl rfl
theorem dksL_law_14 : cL_law.data.toList.drop 466 = dktL_law_14 := dk_seg dksL_law_13 23 rfl rfl
theorem dksL_law_15 : cL_law.data.toList.drop 489 = dktL_law_15 := dk_seg dksL_law_14 23 rfl rfl
theorem dksL_law_16 : cL_law.data.toList.drop 512 = dktL_law_16 := dk_seg dksL_law_15 23 rfl rfl
theorem dksL_law_17 : cL_law.data.toList.drop 535 = dktL_law_17 := dk_seg dksL_law_16 23 rfl rfl
theorem dksL_law_18 : cL_law.data.toList.drop 558 = dktL_law_18 := dk_seg dksL_law_17 23 rfl rfl
theorem dksL_law_19 : cL_law.data.toList.drop 582 = dktL_law_19 := dk_seg dksL_law_18 24 rfl rfl
theorem dksL_law_20 : cL_law.data.toList.drop 604 = dktL_law_20 := dk_seg dksL_law_19 22 rfl rfl
theorem dksL_law_21 : cL_law.data.toList.drop 627 = dktL_law_21 := dk_seg dksL_law_20 23 rfl rfl
theorem dksL_law_22 : cL_law.data.toList.drop 651 = dktL_law_22 := dk_seg dksL_law_21 24 rfl rfl
theorem dksL_law_23 : cL_law.data.toList.drop 674 = dktL_law_23 := dk_seg dksL_law_22 23 rfl rfl
theorem dksL_law_24 : cL_law.data.toList.drop 698 = dktL_law_24 := dk_seg dksL_law_23 24 rfl rfl
theorem dksL_law_25 : cL_law.data.toList.drop 722 = dktL_law_25 := dk_seg dksL_law_24 24 rfl rfl
theorem dksL_law_26 : cL_law.data.toList.drop 746 = dktL_law_26 := dk_seg dksL_law_25 24 rfl rfl
theorem dksL_law_27 : cL_law.data.toList.drop 770 = dktL_law_27 := dk_seg dksL_law_26 24 rfl rfl
theorem dksL_law_28 : cL_law.data.toList.drop 794 = dktL_law_28 := dk_seg dksL_law_27 24 rfl rfl
theorem dksL_law_29 : cL_law.data.toList.drop 818 = dktL_law_29 := dk_seg dksL_law_28 24 rfl rfl
theorem dksL_law_30 : cL_law.data.toList.drop 842 = dktL_law_30 := dk_seg dksL_law_29 24 rfl rfl
theorem dksL_law_31 : cL_law.data.toList.drop 866 = dktL_law_31 := dk_seg dksL_law_30 24 rfl rfl
theorem dksL_law_32 : cL_law.data.toList.drop 890 = dktL_law_32 := dk_seg dksL_law_31 24 rfl rfl
theorem dksL_law_33 : cL_law.data.toList.drop 912 = dktL_law_33 := dk_seg dksL_law_32 22 rfl rfl
theorem dksL_law_34 : cL_law.data.toList.drop 935 = dktL_law_34 := dk_seg dksL_law_33 23 rfl rfl
theorem dksL_law_35 : cL_law.data.toList.drop 958 = dktL_law_35 := dk_seg dksL_law_34 23 rfl rfl
theorem dksL_law_36 : cL_law.data.toList.drop 981 = dktL_law_36 := dk_seg dksL_law_35 23 rfl rfl
theorem dksL_law_37 : cL_law.data.toList.drop 1005 = dktL_law_37 := dk_seg dksL_law_36 24 rfl rfl
theorem dksL_law_38 : cL_law.data.toList.drop 1029 = dktL_law_38 := dk_seg dksL_law_37 24 rfl rfl
theorem dksL_law_39 : cL_law.data.toList.drop 1053 = dktL_law_39 := dk_seg dksL_law_38 24 rfl rfl
theorem dksL_law_40 : cL_law.data.toList.drop 1077 = dktL_law_40 := dk_seg dksL_law_39 24 rfl rfl
theorem dksL_law_41 : cL_law.data.toList.drop 1101 = dktL_law_41 := dk_seg dksL_law_40 24 rfl rfl
theorem dksL_law_42 : cL_law.data.toList.drop 1125 = dktL_law_42 := dk_seg dksL_law_41 24 rfl rfl
theorem dksL_law_43 : cL_law.data.toList.drop 1149 = dktL_law_43 := dk_seg dksL_law_42 24 rfl rfl
theorem dksL_law_44 : cL_law.data.toList.drop 1173 = dktL_law_44 := dk_seg dksL_law_43 24 rfl rfl
theorem dksL_law_45 : cL_law.data.toList.drop 1197 = dktL_law_45 := dk_seg dksL_law_44 24 rfl rfl
theorem dksL_law_46 : cL_law.data.toList.drop 1221 = dktL_law_46 := dk_seg dksL_law_45 24 rfl rfl
theorem dksL_law_47 : cL_law.data.toList.drop 1245 = dktL_law_47 := dk_seg dksL_law_46 24 rfl rfl
theorem dksL_law_48 : cL_law.data.toList.drop 1269 = dktL_law_48 := dk_seg dksL_law_47 24 rfl rfl
theorem dksL_law_49 : cL_law.data.toList.drop 1293 = dktL_law_49 := dk_seg dksL_law_48 24 rfl rfl
theorem dL_law_0 : decode cL_law 0 = .ok (.new 7, 3) := dk_187 0 7 (dk_at dksL_law_0 0 rfl rfl)
theorem dL_law_3 : decode cL_law 3 = .ok (.dup, 1) := dk_89 (dk_at dksL_law_0 3 rfl rfl)
theorem dL_law_4 : decode cL_law 4 = .ok (.invokespecial 9, 3) := dk_183 0 9 (dk_at dksL_law_0 4 rfl rfl)
theorem dL_law_7 : decode cL_law 7 = .ok (.astore_n 1, 1) := dk_76 (dk_at dksL_law_0 7 rfl rfl)
theorem dL_law_8 : decode cL_law 8 = .ok (.new 10, 3) := dk_187 0 10 (dk_at dksL_law_0 8 rfl rfl)
theorem dL_law_11 : decode cL_law 11 = .ok (.dup, 1) := dk_89 (dk_at dksL_law_0 11 rfl rfl)
theorem dL_law_12 : decode cL_law 12 = .ok (.invokespecial 12, 3) := dk_183 0 12 (dk_at dksL_law_0 12 rfl rfl)
theorem dL_law_15 : decode cL_law 15 = .ok (.astore_n 2, 1) := dk_77 (dk_at dksL_law_0 15 rfl rfl)
theorem dL_law_16 : decode cL_law 16 = .ok (.iconst 0, 1) := dk_3 (dk_at dksL_law_0 16 rfl rfl)
theorem dL_law_17 : decode cL_law 17 = .ok (.istore_n 3, 1) := dk_62 (dk_at dksL_law_0 17 rfl rfl)
theorem dL_law_18 : decode cL_law 18 = .ok (.iload_n 3, 1) := dk_29 (dk_at dksL_law_0 18 rfl rfl)
theorem dL_law_19 : decode cL_law 19 = .ok (.aload_n 0, 1) := dk_42 (dk_at dksL_law_0 19 rfl rfl)
theorem dL_law_20 : decode cL_law 20 = .ok (.arraylength, 1) := dk_190 (dk_at dksL_law_0 20 rfl rfl)
theorem dL_law_21 : decode cL_law 21 = .ok (.iconst 5, 1) := dk_8 (dk_at dksL_law_0 21 rfl rfl)
theorem dL_law_22 : decode cL_law 22 = .ok (.isub, 1) := dk_100 (dk_at dksL_law_0 22 rfl rfl)
theorem dL_law_23 : decode cL_law 23 = .ok (.if_icmp .gt 1269, 3) := dk_163 4 245 (dk_at dksL_law_1 0 rfl rfl)
theorem dL_law_26 : decode cL_law 26 = .ok (.aload_n 0, 1) := dk_42 (dk_at dksL_law_1 3 rfl rfl)
theorem dL_law_27 : decode cL_law 27 = .ok (.iload_n 3, 1) := dk_29 (dk_at dksL_law_1 4 rfl rfl)
theorem dL_law_28 : decode cL_law 28 = .ok (.iaload, 1) := dk_46 (dk_at dksL_law_1 5 rfl rfl)
theorem dL_law_29 : decode cL_law 29 = .ok (.bipush 63, 2) := dk_16 63 (dk_at dksL_law_1 6 rfl rfl)
theorem dL_law_31 : decode cL_law 31 = .ok (.iand, 1) := dk_126 (dk_at dksL_law_1 8 rfl rfl)
theorem dL_law_32 : decode cL_law 32 = .ok (.tableswitch 1254 0 39 #[176, 199, 222, 235, 248, 271, 304, 327, 350, 393, 416, 439, 462, 485, 508, 531, 544, 567, 580, 603, 636, 659, 692, 725, 748, 761, 805, 839, 888, 911, 934, 957, 990, 1033, 1056, 1079, 1122, 1165, 1218, 1231], 176) := by decide +kernel
theorem dL_law_208 : decode cL_law 208 = .ok (.aload_n 1, 1) := dk_43 (dk_at dksL_law_3 0 rfl rfl)
theorem dL_law_209 : decode cL_law 209 = .ok (.aload_n 0, 1) := dk_42 (dk_at dksL_law_3 1 rfl rfl)
theorem dL_law_210 : decode cL_law 210 = .ok (.iload_n 3, 1) := dk_29 (dk_at dksL_law_3 2 rfl rfl)
theorem dL_law_211 : decode cL_law 211 = .ok (.iconst 1, 1) := dk_4 (dk_at dksL_law_3 3 rfl rfl)
theorem dL_law_212 : decode cL_law 212 = .ok (.iadd, 1) := dk_96 (dk_at dksL_law_3 4 rfl rfl)
theorem dL_law_213 : decode cL_law 213 = .ok (.iaload, 1) := dk_46 (dk_at dksL_law_3 5 rfl rfl)
theorem dL_law_214 : decode cL_law 214 = .ok (.invokevirtual 13, 3) := dk_182 0 13 (dk_at dksL_law_3 6 rfl rfl)
theorem dL_law_217 : decode cL_law 217 = .ok (.aload_n 2, 1) := dk_44 (dk_at dksL_law_3 9 rfl rfl)
theorem dL_law_218 : decode cL_law 218 = .ok (.aload_n 0, 1) := dk_42 (dk_at dksL_law_3 10 rfl rfl)
theorem dL_law_219 : decode cL_law 219 = .ok (.iload_n 3, 1) := dk_29 (dk_at dksL_law_3 11 rfl rfl)
theorem dL_law_220 : decode cL_law 220 = .ok (.iconst 1, 1) := dk_4 (dk_at dksL_law_3 12 rfl rfl)
theorem dL_law_221 : decode cL_law 221 = .ok (.iadd, 1) := dk_96 (dk_at dksL_law_3 13 rfl rfl)
theorem dL_law_222 : decode cL_law 222 = .ok (.iaload, 1) := dk_46 (dk_at dksL_law_3 14 rfl rfl)
theorem dL_law_223 : decode cL_law 223 = .ok (.invokevirtual 17, 3) := dk_182 0 17 (dk_at dksL_law_3 15 rfl rfl)
theorem dL_law_226 : decode cL_law 226 = .ok (.if_icmp .eq 1060, 3) := dk_159 4 36 (dk_at dksL_law_3 18 rfl rfl)
theorem dL_law_229 : decode cL_law 229 = .ok (.iconst 0, 1) := dk_3 (dk_at dksL_law_3 21 rfl rfl)
theorem dL_law_230 : decode cL_law 230 = .ok (.ireturn, 1) := dk_172 (dk_at dksL_law_3 22 rfl rfl)
theorem dL_law_231 : decode cL_law 231 = .ok (.aload_n 1, 1) := dk_43 (dk_at dksL_law_3 23 rfl rfl)
theorem dL_law_232 : decode cL_law 232 = .ok (.aload_n 0, 1) := dk_42 (dk_at dksL_law_4 0 rfl rfl)
theorem dL_law_233 : decode cL_law 233 = .ok (.iload_n 3, 1) := dk_29 (dk_at dksL_law_4 1 rfl rfl)
theorem dL_law_234 : decode cL_law 234 = .ok (.iconst 1, 1) := dk_4 (dk_at dksL_law_4 2 rfl rfl)
theorem dL_law_235 : decode cL_law 235 = .ok (.iadd, 1) := dk_96 (dk_at dksL_law_4 3 rfl rfl)
theorem dL_law_236 : decode cL_law 236 = .ok (.iaload, 1) := dk_46 (dk_at dksL_law_4 4 rfl rfl)
theorem dL_law_237 : decode cL_law 237 = .ok (.invokevirtual 18, 3) := dk_182 0 18 (dk_at dksL_law_4 5 rfl rfl)
theorem dL_law_240 : decode cL_law 240 = .ok (.aload_n 2, 1) := dk_44 (dk_at dksL_law_4 8 rfl rfl)
theorem dL_law_241 : decode cL_law 241 = .ok (.aload_n 0, 1) := dk_42 (dk_at dksL_law_4 9 rfl rfl)
theorem dL_law_242 : decode cL_law 242 = .ok (.iload_n 3, 1) := dk_29 (dk_at dksL_law_4 10 rfl rfl)
theorem dL_law_243 : decode cL_law 243 = .ok (.iconst 1, 1) := dk_4 (dk_at dksL_law_4 11 rfl rfl)
theorem dL_law_244 : decode cL_law 244 = .ok (.iadd, 1) := dk_96 (dk_at dksL_law_4 12 rfl rfl)
theorem dL_law_245 : decode cL_law 245 = .ok (.iaload, 1) := dk_46 (dk_at dksL_law_4 13 rfl rfl)
theorem dL_law_246 : decode cL_law 246 = .ok (.invokevirtual 21, 3) := dk_182 0 21 (dk_at dksL_law_4 14 rfl rfl)
theorem dL_law_249 : decode cL_law 249 = .ok (.if_icmp .eq 1037, 3) := dk_159 4 13 (dk_at dksL_law_4 17 rfl rfl)
theorem dL_law_252 : decode cL_law 252 = .ok (.iconst 0, 1) := dk_3 (dk_at dksL_law_4 20 rfl rfl)
theorem dL_law_253 : decode cL_law 253 = .ok (.ireturn, 1) := dk_172 (dk_at dksL_law_4 21 rfl rfl)
theorem dL_law_254 : decode cL_law 254 = .ok (.aload_n 1, 1) := dk_43 (dk_at dksL_law_4 22 rfl rfl)
theorem dL_law_255 : decode cL_law 255 = .ok (.invokevirtual 22, 3) := dk_182 0 22 (dk_at dksL_law_5 0 rfl rfl)
theorem dL_law_258 : decode cL_law 258 = .ok (.aload_n 2, 1) := dk_44 (dk_at dksL_law_5 3 rfl rfl)
theorem dL_law_259 : decode cL_law 259 = .ok (.invokevirtual 26, 3) := dk_182 0 26 (dk_at dksL_law_5 4 rfl rfl)
theorem dL_law_262 : decode cL_law 262 = .ok (.if_icmp .eq 1024, 3) := dk_159 4 0 (dk_at dksL_law_5 7 rfl rfl)
theorem dL_law_265 : decode cL_law 265 = .ok (.iconst 0, 1) := dk_3 (dk_at dksL_law_5 10 rfl rfl)
theorem dL_law_266 : decode cL_law 266 = .ok (.ireturn, 1) := dk_172 (dk_at dksL_law_5 11 rfl rfl)
theorem dL_law_267 : decode cL_law 267 = .ok (.aload_n 1, 1) := dk_43 (dk_at dksL_law_5 12 rfl rfl)
theorem dL_law_268 : decode cL_law 268 = .ok (.invokevirtual 27, 3) := dk_182 0 27 (dk_at dksL_law_5 13 rfl rfl)
theorem dL_law_271 : decode cL_law 271 = .ok (.aload_n 2, 1) := dk_44 (dk_at dksL_law_5 16 rfl rfl)
theorem dL_law_272 : decode cL_law 272 = .ok (.invokevirtual 30, 3) := dk_182 0 30 (dk_at dksL_law_5 17 rfl rfl)
theorem dL_law_275 : decode cL_law 275 = .ok (.if_icmp .eq 1011, 3) := dk_159 3 243 (dk_at dksL_law_5 20 rfl rfl)
theorem dL_law_278 : decode cL_law 278 = .ok (.iconst 0, 1) := dk_3 (dk_at dksL_law_5 23 rfl rfl)
theorem dL_law_279 : decode cL_law 279 = .ok (.ireturn, 1) := dk_172 (dk_at dksL_law_6 0 rfl rfl)
theorem dL_law_280 : decode cL_law 280 = .ok (.aload_n 1, 1) := dk_43 (dk_at dksL_law_6 1 rfl rfl)
theorem dL_law_281 : decode cL_law 281 = .ok (.aload_n 0, 1) := dk_42 (dk_at dksL_law_6 2 rfl rfl)
theorem dL_law_282 : decode cL_law 282 = .ok (.iload_n 3, 1) := dk_29 (dk_at dksL_law_6 3 rfl rfl)
theorem dL_law_283 : decode cL_law 283 = .ok (.iconst 1, 1) := dk_4 (dk_at dksL_law_6 4 rfl rfl)
theorem dL_law_284 : decode cL_law 284 = .ok (.iadd, 1) := dk_96 (dk_at dksL_law_6 5 rfl rfl)
theorem dL_law_285 : decode cL_law 285 = .ok (.iaload, 1) := dk_46 (dk_at dksL_law_6 6 rfl rfl)
theorem dL_law_286 : decode cL_law 286 = .ok (.invokevirtual 31, 3) := dk_182 0 31 (dk_at dksL_law_6 7 rfl rfl)
theorem dL_law_289 : decode cL_law 289 = .ok (.aload_n 2, 1) := dk_44 (dk_at dksL_law_6 10 rfl rfl)
theorem dL_law_290 : decode cL_law 290 = .ok (.aload_n 0, 1) := dk_42 (dk_at dksL_law_6 11 rfl rfl)
theorem dL_law_291 : decode cL_law 291 = .ok (.iload_n 3, 1) := dk_29 (dk_at dksL_law_6 12 rfl rfl)
theorem dL_law_292 : decode cL_law 292 = .ok (.iconst 1, 1) := dk_4 (dk_at dksL_law_6 13 rfl rfl)
theorem dL_law_293 : decode cL_law 293 = .ok (.iadd, 1) := dk_96 (dk_at dksL_law_6 14 rfl rfl)
theorem dL_law_294 : decode cL_law 294 = .ok (.iaload, 1) := dk_46 (dk_at dksL_law_6 15 rfl rfl)
theorem dL_law_295 : decode cL_law 295 = .ok (.invokevirtual 34, 3) := dk_182 0 34 (dk_at dksL_law_6 16 rfl rfl)
theorem dL_law_298 : decode cL_law 298 = .ok (.if_icmp .eq 988, 3) := dk_159 3 220 (dk_at dksL_law_6 19 rfl rfl)
theorem dL_law_301 : decode cL_law 301 = .ok (.iconst 0, 1) := dk_3 (dk_at dksL_law_6 22 rfl rfl)
theorem dL_law_302 : decode cL_law 302 = .ok (.ireturn, 1) := dk_172 (dk_at dksL_law_6 23 rfl rfl)
theorem dL_law_303 : decode cL_law 303 = .ok (.aload_n 1, 1) := dk_43 (dk_at dksL_law_7 0 rfl rfl)
theorem dL_law_304 : decode cL_law 304 = .ok (.aload_n 0, 1) := dk_42 (dk_at dksL_law_7 1 rfl rfl)
theorem dL_law_305 : decode cL_law 305 = .ok (.iload_n 3, 1) := dk_29 (dk_at dksL_law_7 2 rfl rfl)
theorem dL_law_306 : decode cL_law 306 = .ok (.iconst 1, 1) := dk_4 (dk_at dksL_law_7 3 rfl rfl)
theorem dL_law_307 : decode cL_law 307 = .ok (.iadd, 1) := dk_96 (dk_at dksL_law_7 4 rfl rfl)
theorem dL_law_308 : decode cL_law 308 = .ok (.iaload, 1) := dk_46 (dk_at dksL_law_7 5 rfl rfl)
theorem dL_law_309 : decode cL_law 309 = .ok (.aload_n 0, 1) := dk_42 (dk_at dksL_law_7 6 rfl rfl)
theorem dL_law_310 : decode cL_law 310 = .ok (.iload_n 3, 1) := dk_29 (dk_at dksL_law_7 7 rfl rfl)
theorem dL_law_311 : decode cL_law 311 = .ok (.iconst 2, 1) := dk_5 (dk_at dksL_law_7 8 rfl rfl)
theorem dL_law_312 : decode cL_law 312 = .ok (.iadd, 1) := dk_96 (dk_at dksL_law_7 9 rfl rfl)
theorem dL_law_313 : decode cL_law 313 = .ok (.iaload, 1) := dk_46 (dk_at dksL_law_7 10 rfl rfl)
theorem dL_law_314 : decode cL_law 314 = .ok (.invokevirtual 35, 3) := dk_182 0 35 (dk_at dksL_law_7 11 rfl rfl)
theorem dL_law_317 : decode cL_law 317 = .ok (.aload_n 2, 1) := dk_44 (dk_at dksL_law_7 14 rfl rfl)
theorem dL_law_318 : decode cL_law 318 = .ok (.aload_n 0, 1) := dk_42 (dk_at dksL_law_7 15 rfl rfl)
theorem dL_law_319 : decode cL_law 319 = .ok (.iload_n 3, 1) := dk_29 (dk_at dksL_law_7 16 rfl rfl)
theorem dL_law_320 : decode cL_law 320 = .ok (.iconst 1, 1) := dk_4 (dk_at dksL_law_7 17 rfl rfl)
theorem dL_law_321 : decode cL_law 321 = .ok (.iadd, 1) := dk_96 (dk_at dksL_law_7 18 rfl rfl)
theorem dL_law_322 : decode cL_law 322 = .ok (.iaload, 1) := dk_46 (dk_at dksL_law_7 19 rfl rfl)
theorem dL_law_323 : decode cL_law 323 = .ok (.aload_n 0, 1) := dk_42 (dk_at dksL_law_7 20 rfl rfl)
theorem dL_law_324 : decode cL_law 324 = .ok (.iload_n 3, 1) := dk_29 (dk_at dksL_law_7 21 rfl rfl)
theorem dL_law_325 : decode cL_law 325 = .ok (.iconst 2, 1) := dk_5 (dk_at dksL_law_7 22 rfl rfl)
theorem dL_law_326 : decode cL_law 326 = .ok (.iadd, 1) := dk_96 (dk_at dksL_law_7 23 rfl rfl)
theorem dL_law_327 : decode cL_law 327 = .ok (.iaload, 1) := dk_46 (dk_at dksL_law_8 0 rfl rfl)
theorem dL_law_328 : decode cL_law 328 = .ok (.invokevirtual 39, 3) := dk_182 0 39 (dk_at dksL_law_8 1 rfl rfl)
theorem dL_law_331 : decode cL_law 331 = .ok (.if_icmp .eq 955, 3) := dk_159 3 187 (dk_at dksL_law_8 4 rfl rfl)
theorem dL_law_334 : decode cL_law 334 = .ok (.iconst 0, 1) := dk_3 (dk_at dksL_law_8 7 rfl rfl)
theorem dL_law_335 : decode cL_law 335 = .ok (.ireturn, 1) := dk_172 (dk_at dksL_law_8 8 rfl rfl)
theorem dL_law_336 : decode cL_law 336 = .ok (.aload_n 1, 1) := dk_43 (dk_at dksL_law_8 9 rfl rfl)
theorem dL_law_337 : decode cL_law 337 = .ok (.aload_n 0, 1) := dk_42 (dk_at dksL_law_8 10 rfl rfl)
theorem dL_law_338 : decode cL_law 338 = .ok (.iload_n 3, 1) := dk_29 (dk_at dksL_law_8 11 rfl rfl)
theorem dL_law_339 : decode cL_law 339 = .ok (.iconst 1, 1) := dk_4 (dk_at dksL_law_8 12 rfl rfl)
theorem dL_law_340 : decode cL_law 340 = .ok (.iadd, 1) := dk_96 (dk_at dksL_law_8 13 rfl rfl)
theorem dL_law_341 : decode cL_law 341 = .ok (.iaload, 1) := dk_46 (dk_at dksL_law_8 14 rfl rfl)
theorem dL_law_342 : decode cL_law 342 = .ok (.invokevirtual 40, 3) := dk_182 0 40 (dk_at dksL_law_8 15 rfl rfl)
theorem dL_law_345 : decode cL_law 345 = .ok (.aload_n 2, 1) := dk_44 (dk_at dksL_law_8 18 rfl rfl)
theorem dL_law_346 : decode cL_law 346 = .ok (.aload_n 0, 1) := dk_42 (dk_at dksL_law_8 19 rfl rfl)
theorem dL_law_347 : decode cL_law 347 = .ok (.iload_n 3, 1) := dk_29 (dk_at dksL_law_8 20 rfl rfl)
theorem dL_law_348 : decode cL_law 348 = .ok (.iconst 1, 1) := dk_4 (dk_at dksL_law_8 21 rfl rfl)
theorem dL_law_349 : decode cL_law 349 = .ok (.iadd, 1) := dk_96 (dk_at dksL_law_8 22 rfl rfl)
theorem dL_law_350 : decode cL_law 350 = .ok (.iaload, 1) := dk_46 (dk_at dksL_law_8 23 rfl rfl)
theorem dL_law_351 : decode cL_law 351 = .ok (.invokevirtual 43, 3) := dk_182 0 43 (dk_at dksL_law_9 0 rfl rfl)
theorem dL_law_354 : decode cL_law 354 = .ok (.if_icmp .eq 932, 3) := dk_159 3 164 (dk_at dksL_law_9 3 rfl rfl)
theorem dL_law_357 : decode cL_law 357 = .ok (.iconst 0, 1) := dk_3 (dk_at dksL_law_9 6 rfl rfl)
theorem dL_law_358 : decode cL_law 358 = .ok (.ireturn, 1) := dk_172 (dk_at dksL_law_9 7 rfl rfl)
theorem dL_law_359 : decode cL_law 359 = .ok (.aload_n 1, 1) := dk_43 (dk_at dksL_law_9 8 rfl rfl)
theorem dL_law_360 : decode cL_law 360 = .ok (.aload_n 0, 1) := dk_42 (dk_at dksL_law_9 9 rfl rfl)
theorem dL_law_361 : decode cL_law 361 = .ok (.iload_n 3, 1) := dk_29 (dk_at dksL_law_9 10 rfl rfl)
theorem dL_law_362 : decode cL_law 362 = .ok (.iconst 1, 1) := dk_4 (dk_at dksL_law_9 11 rfl rfl)
theorem dL_law_363 : decode cL_law 363 = .ok (.iadd, 1) := dk_96 (dk_at dksL_law_9 12 rfl rfl)
theorem dL_law_364 : decode cL_law 364 = .ok (.iaload, 1) := dk_46 (dk_at dksL_law_9 13 rfl rfl)
theorem dL_law_365 : decode cL_law 365 = .ok (.invokevirtual 44, 3) := dk_182 0 44 (dk_at dksL_law_9 14 rfl rfl)
theorem dL_law_368 : decode cL_law 368 = .ok (.aload_n 2, 1) := dk_44 (dk_at dksL_law_9 17 rfl rfl)
theorem dL_law_369 : decode cL_law 369 = .ok (.aload_n 0, 1) := dk_42 (dk_at dksL_law_9 18 rfl rfl)
theorem dL_law_370 : decode cL_law 370 = .ok (.iload_n 3, 1) := dk_29 (dk_at dksL_law_9 19 rfl rfl)
theorem dL_law_371 : decode cL_law 371 = .ok (.iconst 1, 1) := dk_4 (dk_at dksL_law_9 20 rfl rfl)
theorem dL_law_372 : decode cL_law 372 = .ok (.iadd, 1) := dk_96 (dk_at dksL_law_9 21 rfl rfl)
theorem dL_law_373 : decode cL_law 373 = .ok (.iaload, 1) := dk_46 (dk_at dksL_law_9 22 rfl rfl)
theorem dL_law_374 : decode cL_law 374 = .ok (.invokevirtual 47, 3) := dk_182 0 47 (dk_at dksL_law_10 0 rfl rfl)
theorem dL_law_377 : decode cL_law 377 = .ok (.if_icmp .eq 909, 3) := dk_159 3 141 (dk_at dksL_law_10 3 rfl rfl)
theorem dL_law_380 : decode cL_law 380 = .ok (.iconst 0, 1) := dk_3 (dk_at dksL_law_10 6 rfl rfl)
theorem dL_law_381 : decode cL_law 381 = .ok (.ireturn, 1) := dk_172 (dk_at dksL_law_10 7 rfl rfl)
theorem dL_law_382 : decode cL_law 382 = .ok (.aload_n 1, 1) := dk_43 (dk_at dksL_law_10 8 rfl rfl)
theorem dL_law_383 : decode cL_law 383 = .ok (.aload_n 0, 1) := dk_42 (dk_at dksL_law_10 9 rfl rfl)
theorem dL_law_384 : decode cL_law 384 = .ok (.iload_n 3, 1) := dk_29 (dk_at dksL_law_10 10 rfl rfl)
theorem dL_law_385 : decode cL_law 385 = .ok (.iconst 1, 1) := dk_4 (dk_at dksL_law_10 11 rfl rfl)
theorem dL_law_386 : decode cL_law 386 = .ok (.iadd, 1) := dk_96 (dk_at dksL_law_10 12 rfl rfl)
theorem dL_law_387 : decode cL_law 387 = .ok (.iaload, 1) := dk_46 (dk_at dksL_law_10 13 rfl rfl)
theorem dL_law_388 : decode cL_law 388 = .ok (.aload_n 0, 1) := dk_42 (dk_at dksL_law_10 14 rfl rfl)
theorem dL_law_389 : decode cL_law 389 = .ok (.iload_n 3, 1) := dk_29 (dk_at dksL_law_10 15 rfl rfl)
theorem dL_law_390 : decode cL_law 390 = .ok (.iconst 2, 1) := dk_5 (dk_at dksL_law_10 16 rfl rfl)
theorem dL_law_391 : decode cL_law 391 = .ok (.iadd, 1) := dk_96 (dk_at dksL_law_10 17 rfl rfl)
theorem dL_law_392 : decode cL_law 392 = .ok (.iaload, 1) := dk_46 (dk_at dksL_law_10 18 rfl rfl)
theorem dL_law_393 : decode cL_law 393 = .ok (.aload_n 0, 1) := dk_42 (dk_at dksL_law_10 19 rfl rfl)
theorem dL_law_394 : decode cL_law 394 = .ok (.iload_n 3, 1) := dk_29 (dk_at dksL_law_10 20 rfl rfl)
theorem dL_law_395 : decode cL_law 395 = .ok (.iconst 3, 1) := dk_6 (dk_at dksL_law_10 21 rfl rfl)
theorem dL_law_396 : decode cL_law 396 = .ok (.iadd, 1) := dk_96 (dk_at dksL_law_10 22 rfl rfl)
theorem dL_law_397 : decode cL_law 397 = .ok (.iaload, 1) := dk_46 (dk_at dksL_law_10 23 rfl rfl)
theorem dL_law_398 : decode cL_law 398 = .ok (.invokevirtual 48, 3) := dk_182 0 48 (dk_at dksL_law_11 0 rfl rfl)
theorem dL_law_401 : decode cL_law 401 = .ok (.aload_n 2, 1) := dk_44 (dk_at dksL_law_11 3 rfl rfl)
theorem dL_law_402 : decode cL_law 402 = .ok (.aload_n 0, 1) := dk_42 (dk_at dksL_law_11 4 rfl rfl)
theorem dL_law_403 : decode cL_law 403 = .ok (.iload_n 3, 1) := dk_29 (dk_at dksL_law_11 5 rfl rfl)
theorem dL_law_404 : decode cL_law 404 = .ok (.iconst 1, 1) := dk_4 (dk_at dksL_law_11 6 rfl rfl)
theorem dL_law_405 : decode cL_law 405 = .ok (.iadd, 1) := dk_96 (dk_at dksL_law_11 7 rfl rfl)
theorem dL_law_406 : decode cL_law 406 = .ok (.iaload, 1) := dk_46 (dk_at dksL_law_11 8 rfl rfl)
theorem dL_law_407 : decode cL_law 407 = .ok (.aload_n 0, 1) := dk_42 (dk_at dksL_law_11 9 rfl rfl)
theorem dL_law_408 : decode cL_law 408 = .ok (.iload_n 3, 1) := dk_29 (dk_at dksL_law_11 10 rfl rfl)
theorem dL_law_409 : decode cL_law 409 = .ok (.iconst 2, 1) := dk_5 (dk_at dksL_law_11 11 rfl rfl)
theorem dL_law_410 : decode cL_law 410 = .ok (.iadd, 1) := dk_96 (dk_at dksL_law_11 12 rfl rfl)
theorem dL_law_411 : decode cL_law 411 = .ok (.iaload, 1) := dk_46 (dk_at dksL_law_11 13 rfl rfl)
theorem dL_law_412 : decode cL_law 412 = .ok (.aload_n 0, 1) := dk_42 (dk_at dksL_law_11 14 rfl rfl)
theorem dL_law_413 : decode cL_law 413 = .ok (.iload_n 3, 1) := dk_29 (dk_at dksL_law_11 15 rfl rfl)
theorem dL_law_414 : decode cL_law 414 = .ok (.iconst 3, 1) := dk_6 (dk_at dksL_law_11 16 rfl rfl)
theorem dL_law_415 : decode cL_law 415 = .ok (.iadd, 1) := dk_96 (dk_at dksL_law_11 17 rfl rfl)
theorem dL_law_416 : decode cL_law 416 = .ok (.iaload, 1) := dk_46 (dk_at dksL_law_11 18 rfl rfl)
theorem dL_law_417 : decode cL_law 417 = .ok (.invokevirtual 52, 3) := dk_182 0 52 (dk_at dksL_law_11 19 rfl rfl)
theorem dL_law_420 : decode cL_law 420 = .ok (.if_icmp .eq 866, 3) := dk_159 3 98 (dk_at dksL_law_12 0 rfl rfl)
theorem dL_law_423 : decode cL_law 423 = .ok (.iconst 0, 1) := dk_3 (dk_at dksL_law_12 3 rfl rfl)
theorem dL_law_424 : decode cL_law 424 = .ok (.ireturn, 1) := dk_172 (dk_at dksL_law_12 4 rfl rfl)
theorem dL_law_425 : decode cL_law 425 = .ok (.aload_n 1, 1) := dk_43 (dk_at dksL_law_12 5 rfl rfl)
theorem dL_law_426 : decode cL_law 426 = .ok (.aload_n 0, 1) := dk_42 (dk_at dksL_law_12 6 rfl rfl)
theorem dL_law_427 : decode cL_law 427 = .ok (.iload_n 3, 1) := dk_29 (dk_at dksL_law_12 7 rfl rfl)
theorem dL_law_428 : decode cL_law 428 = .ok (.iconst 1, 1) := dk_4 (dk_at dksL_law_12 8 rfl rfl)
theorem dL_law_429 : decode cL_law 429 = .ok (.iadd, 1) := dk_96 (dk_at dksL_law_12 9 rfl rfl)
theorem dL_law_430 : decode cL_law 430 = .ok (.iaload, 1) := dk_46 (dk_at dksL_law_12 10 rfl rfl)
theorem dL_law_431 : decode cL_law 431 = .ok (.invokevirtual 53, 3) := dk_182 0 53 (dk_at dksL_law_12 11 rfl rfl)
theorem dL_law_434 : decode cL_law 434 = .ok (.aload_n 2, 1) := dk_44 (dk_at dksL_law_12 14 rfl rfl)
theorem dL_law_435 : decode cL_law 435 = .ok (.aload_n 0, 1) := dk_42 (dk_at dksL_law_12 15 rfl rfl)
theorem dL_law_436 : decode cL_law 436 = .ok (.iload_n 3, 1) := dk_29 (dk_at dksL_law_12 16 rfl rfl)
theorem dL_law_437 : decode cL_law 437 = .ok (.iconst 1, 1) := dk_4 (dk_at dksL_law_12 17 rfl rfl)
theorem dL_law_438 : decode cL_law 438 = .ok (.iadd, 1) := dk_96 (dk_at dksL_law_12 18 rfl rfl)
theorem dL_law_439 : decode cL_law 439 = .ok (.iaload, 1) := dk_46 (dk_at dksL_law_12 19 rfl rfl)
theorem dL_law_440 : decode cL_law 440 = .ok (.invokevirtual 56, 3) := dk_182 0 56 (dk_at dksL_law_12 20 rfl rfl)
theorem dL_law_443 : decode cL_law 443 = .ok (.if_icmp .eq 843, 3) := dk_159 3 75 (dk_at dksL_law_13 0 rfl rfl)
theorem dL_law_446 : decode cL_law 446 = .ok (.iconst 0, 1) := dk_3 (dk_at dksL_law_13 3 rfl rfl)
theorem dL_law_447 : decode cL_law 447 = .ok (.ireturn, 1) := dk_172 (dk_at dksL_law_13 4 rfl rfl)
theorem dL_law_448 : decode cL_law 448 = .ok (.aload_n 1, 1) := dk_43 (dk_at dksL_law_13 5 rfl rfl)
theorem dL_law_449 : decode cL_law 449 = .ok (.aload_n 0, 1) := dk_42 (dk_at dksL_law_13 6 rfl rfl)
theorem dL_law_450 : decode cL_law 450 = .ok (.iload_n 3, 1) := dk_29 (dk_at dksL_law_13 7 rfl rfl)
theorem dL_law_451 : decode cL_law 451 = .ok (.iconst 1, 1) := dk_4 (dk_at dksL_law_13 8 rfl rfl)
theorem dL_law_452 : decode cL_law 452 = .ok (.iadd, 1) := dk_96 (dk_at dksL_law_13 9 rfl rfl)
theorem dL_law_453 : decode cL_law 453 = .ok (.iaload, 1) := dk_46 (dk_at dksL_law_13 10 rfl rfl)
theorem dL_law_454 : decode cL_law 454 = .ok (.invokevirtual 57, 3) := dk_182 0 57 (dk_at dksL_law_13 11 rfl rfl)
theorem dL_law_457 : decode cL_law 457 = .ok (.aload_n 2, 1) := dk_44 (dk_at dksL_law_13 14 rfl rfl)
theorem dL_law_458 : decode cL_law 458 = .ok (.aload_n 0, 1) := dk_42 (dk_at dksL_law_13 15 rfl rfl)
theorem dL_law_459 : decode cL_law 459 = .ok (.iload_n 3, 1) := dk_29 (dk_at dksL_law_13 16 rfl rfl)
theorem dL_law_460 : decode cL_law 460 = .ok (.iconst 1, 1) := dk_4 (dk_at dksL_law_13 17 rfl rfl)
theorem dL_law_461 : decode cL_law 461 = .ok (.iadd, 1) := dk_96 (dk_at dksL_law_13 18 rfl rfl)
theorem dL_law_462 : decode cL_law 462 = .ok (.iaload, 1) := dk_46 (dk_at dksL_law_13 19 rfl rfl)
theorem dL_law_463 : decode cL_law 463 = .ok (.invokevirtual 60, 3) := dk_182 0 60 (dk_at dksL_law_13 20 rfl rfl)
theorem dL_law_466 : decode cL_law 466 = .ok (.if_icmp .eq 820, 3) := dk_159 3 52 (dk_at dksL_law_14 0 rfl rfl)
theorem dL_law_469 : decode cL_law 469 = .ok (.iconst 0, 1) := dk_3 (dk_at dksL_law_14 3 rfl rfl)
theorem dL_law_470 : decode cL_law 470 = .ok (.ireturn, 1) := dk_172 (dk_at dksL_law_14 4 rfl rfl)
theorem dL_law_471 : decode cL_law 471 = .ok (.aload_n 1, 1) := dk_43 (dk_at dksL_law_14 5 rfl rfl)
theorem dL_law_472 : decode cL_law 472 = .ok (.aload_n 0, 1) := dk_42 (dk_at dksL_law_14 6 rfl rfl)
theorem dL_law_473 : decode cL_law 473 = .ok (.iload_n 3, 1) := dk_29 (dk_at dksL_law_14 7 rfl rfl)
theorem dL_law_474 : decode cL_law 474 = .ok (.iconst 1, 1) := dk_4 (dk_at dksL_law_14 8 rfl rfl)
theorem dL_law_475 : decode cL_law 475 = .ok (.iadd, 1) := dk_96 (dk_at dksL_law_14 9 rfl rfl)
theorem dL_law_476 : decode cL_law 476 = .ok (.iaload, 1) := dk_46 (dk_at dksL_law_14 10 rfl rfl)
theorem dL_law_477 : decode cL_law 477 = .ok (.invokevirtual 61, 3) := dk_182 0 61 (dk_at dksL_law_14 11 rfl rfl)
theorem dL_law_480 : decode cL_law 480 = .ok (.aload_n 2, 1) := dk_44 (dk_at dksL_law_14 14 rfl rfl)
theorem dL_law_481 : decode cL_law 481 = .ok (.aload_n 0, 1) := dk_42 (dk_at dksL_law_14 15 rfl rfl)
theorem dL_law_482 : decode cL_law 482 = .ok (.iload_n 3, 1) := dk_29 (dk_at dksL_law_14 16 rfl rfl)
theorem dL_law_483 : decode cL_law 483 = .ok (.iconst 1, 1) := dk_4 (dk_at dksL_law_14 17 rfl rfl)
theorem dL_law_484 : decode cL_law 484 = .ok (.iadd, 1) := dk_96 (dk_at dksL_law_14 18 rfl rfl)
theorem dL_law_485 : decode cL_law 485 = .ok (.iaload, 1) := dk_46 (dk_at dksL_law_14 19 rfl rfl)
theorem dL_law_486 : decode cL_law 486 = .ok (.invokevirtual 64, 3) := dk_182 0 64 (dk_at dksL_law_14 20 rfl rfl)
theorem dL_law_489 : decode cL_law 489 = .ok (.if_icmp .eq 797, 3) := dk_159 3 29 (dk_at dksL_law_15 0 rfl rfl)
theorem dL_law_492 : decode cL_law 492 = .ok (.iconst 0, 1) := dk_3 (dk_at dksL_law_15 3 rfl rfl)
theorem dL_law_493 : decode cL_law 493 = .ok (.ireturn, 1) := dk_172 (dk_at dksL_law_15 4 rfl rfl)
theorem dL_law_494 : decode cL_law 494 = .ok (.aload_n 1, 1) := dk_43 (dk_at dksL_law_15 5 rfl rfl)
theorem dL_law_495 : decode cL_law 495 = .ok (.aload_n 0, 1) := dk_42 (dk_at dksL_law_15 6 rfl rfl)
theorem dL_law_496 : decode cL_law 496 = .ok (.iload_n 3, 1) := dk_29 (dk_at dksL_law_15 7 rfl rfl)
theorem dL_law_497 : decode cL_law 497 = .ok (.iconst 1, 1) := dk_4 (dk_at dksL_law_15 8 rfl rfl)
theorem dL_law_498 : decode cL_law 498 = .ok (.iadd, 1) := dk_96 (dk_at dksL_law_15 9 rfl rfl)
theorem dL_law_499 : decode cL_law 499 = .ok (.iaload, 1) := dk_46 (dk_at dksL_law_15 10 rfl rfl)
theorem dL_law_500 : decode cL_law 500 = .ok (.invokevirtual 65, 3) := dk_182 0 65 (dk_at dksL_law_15 11 rfl rfl)
theorem dL_law_503 : decode cL_law 503 = .ok (.aload_n 2, 1) := dk_44 (dk_at dksL_law_15 14 rfl rfl)
theorem dL_law_504 : decode cL_law 504 = .ok (.aload_n 0, 1) := dk_42 (dk_at dksL_law_15 15 rfl rfl)
theorem dL_law_505 : decode cL_law 505 = .ok (.iload_n 3, 1) := dk_29 (dk_at dksL_law_15 16 rfl rfl)
theorem dL_law_506 : decode cL_law 506 = .ok (.iconst 1, 1) := dk_4 (dk_at dksL_law_15 17 rfl rfl)
theorem dL_law_507 : decode cL_law 507 = .ok (.iadd, 1) := dk_96 (dk_at dksL_law_15 18 rfl rfl)
theorem dL_law_508 : decode cL_law 508 = .ok (.iaload, 1) := dk_46 (dk_at dksL_law_15 19 rfl rfl)
theorem dL_law_509 : decode cL_law 509 = .ok (.invokevirtual 68, 3) := dk_182 0 68 (dk_at dksL_law_15 20 rfl rfl)
theorem dL_law_512 : decode cL_law 512 = .ok (.if_icmp .eq 774, 3) := dk_159 3 6 (dk_at dksL_law_16 0 rfl rfl)
theorem dL_law_515 : decode cL_law 515 = .ok (.iconst 0, 1) := dk_3 (dk_at dksL_law_16 3 rfl rfl)
theorem dL_law_516 : decode cL_law 516 = .ok (.ireturn, 1) := dk_172 (dk_at dksL_law_16 4 rfl rfl)
theorem dL_law_517 : decode cL_law 517 = .ok (.aload_n 1, 1) := dk_43 (dk_at dksL_law_16 5 rfl rfl)
theorem dL_law_518 : decode cL_law 518 = .ok (.aload_n 0, 1) := dk_42 (dk_at dksL_law_16 6 rfl rfl)
theorem dL_law_519 : decode cL_law 519 = .ok (.iload_n 3, 1) := dk_29 (dk_at dksL_law_16 7 rfl rfl)
theorem dL_law_520 : decode cL_law 520 = .ok (.iconst 1, 1) := dk_4 (dk_at dksL_law_16 8 rfl rfl)
theorem dL_law_521 : decode cL_law 521 = .ok (.iadd, 1) := dk_96 (dk_at dksL_law_16 9 rfl rfl)
theorem dL_law_522 : decode cL_law 522 = .ok (.iaload, 1) := dk_46 (dk_at dksL_law_16 10 rfl rfl)
theorem dL_law_523 : decode cL_law 523 = .ok (.invokevirtual 69, 3) := dk_182 0 69 (dk_at dksL_law_16 11 rfl rfl)
theorem dL_law_526 : decode cL_law 526 = .ok (.aload_n 2, 1) := dk_44 (dk_at dksL_law_16 14 rfl rfl)
theorem dL_law_527 : decode cL_law 527 = .ok (.aload_n 0, 1) := dk_42 (dk_at dksL_law_16 15 rfl rfl)
theorem dL_law_528 : decode cL_law 528 = .ok (.iload_n 3, 1) := dk_29 (dk_at dksL_law_16 16 rfl rfl)
theorem dL_law_529 : decode cL_law 529 = .ok (.iconst 1, 1) := dk_4 (dk_at dksL_law_16 17 rfl rfl)
theorem dL_law_530 : decode cL_law 530 = .ok (.iadd, 1) := dk_96 (dk_at dksL_law_16 18 rfl rfl)
theorem dL_law_531 : decode cL_law 531 = .ok (.iaload, 1) := dk_46 (dk_at dksL_law_16 19 rfl rfl)
theorem dL_law_532 : decode cL_law 532 = .ok (.invokevirtual 72, 3) := dk_182 0 72 (dk_at dksL_law_16 20 rfl rfl)
theorem dL_law_535 : decode cL_law 535 = .ok (.if_icmp .eq 751, 3) := dk_159 2 239 (dk_at dksL_law_17 0 rfl rfl)
theorem dL_law_538 : decode cL_law 538 = .ok (.iconst 0, 1) := dk_3 (dk_at dksL_law_17 3 rfl rfl)
theorem dL_law_539 : decode cL_law 539 = .ok (.ireturn, 1) := dk_172 (dk_at dksL_law_17 4 rfl rfl)
theorem dL_law_540 : decode cL_law 540 = .ok (.aload_n 1, 1) := dk_43 (dk_at dksL_law_17 5 rfl rfl)
theorem dL_law_541 : decode cL_law 541 = .ok (.aload_n 0, 1) := dk_42 (dk_at dksL_law_17 6 rfl rfl)
theorem dL_law_542 : decode cL_law 542 = .ok (.iload_n 3, 1) := dk_29 (dk_at dksL_law_17 7 rfl rfl)
theorem dL_law_543 : decode cL_law 543 = .ok (.iconst 1, 1) := dk_4 (dk_at dksL_law_17 8 rfl rfl)
theorem dL_law_544 : decode cL_law 544 = .ok (.iadd, 1) := dk_96 (dk_at dksL_law_17 9 rfl rfl)
theorem dL_law_545 : decode cL_law 545 = .ok (.iaload, 1) := dk_46 (dk_at dksL_law_17 10 rfl rfl)
theorem dL_law_546 : decode cL_law 546 = .ok (.invokevirtual 73, 3) := dk_182 0 73 (dk_at dksL_law_17 11 rfl rfl)
theorem dL_law_549 : decode cL_law 549 = .ok (.aload_n 2, 1) := dk_44 (dk_at dksL_law_17 14 rfl rfl)
theorem dL_law_550 : decode cL_law 550 = .ok (.aload_n 0, 1) := dk_42 (dk_at dksL_law_17 15 rfl rfl)
theorem dL_law_551 : decode cL_law 551 = .ok (.iload_n 3, 1) := dk_29 (dk_at dksL_law_17 16 rfl rfl)
theorem dL_law_552 : decode cL_law 552 = .ok (.iconst 1, 1) := dk_4 (dk_at dksL_law_17 17 rfl rfl)
theorem dL_law_553 : decode cL_law 553 = .ok (.iadd, 1) := dk_96 (dk_at dksL_law_17 18 rfl rfl)
theorem dL_law_554 : decode cL_law 554 = .ok (.iaload, 1) := dk_46 (dk_at dksL_law_17 19 rfl rfl)
theorem dL_law_555 : decode cL_law 555 = .ok (.invokevirtual 76, 3) := dk_182 0 76 (dk_at dksL_law_17 20 rfl rfl)
theorem dL_law_558 : decode cL_law 558 = .ok (.if_icmp .eq 728, 3) := dk_159 2 216 (dk_at dksL_law_18 0 rfl rfl)
theorem dL_law_561 : decode cL_law 561 = .ok (.iconst 0, 1) := dk_3 (dk_at dksL_law_18 3 rfl rfl)
theorem dL_law_562 : decode cL_law 562 = .ok (.ireturn, 1) := dk_172 (dk_at dksL_law_18 4 rfl rfl)
theorem dL_law_563 : decode cL_law 563 = .ok (.aload_n 1, 1) := dk_43 (dk_at dksL_law_18 5 rfl rfl)
theorem dL_law_564 : decode cL_law 564 = .ok (.invokevirtual 77, 3) := dk_182 0 77 (dk_at dksL_law_18 6 rfl rfl)
theorem dL_law_567 : decode cL_law 567 = .ok (.aload_n 2, 1) := dk_44 (dk_at dksL_law_18 9 rfl rfl)
theorem dL_law_568 : decode cL_law 568 = .ok (.invokevirtual 80, 3) := dk_182 0 80 (dk_at dksL_law_18 10 rfl rfl)
theorem dL_law_571 : decode cL_law 571 = .ok (.if_icmp .eq 715, 3) := dk_159 2 203 (dk_at dksL_law_18 13 rfl rfl)
theorem dL_law_574 : decode cL_law 574 = .ok (.iconst 0, 1) := dk_3 (dk_at dksL_law_18 16 rfl rfl)
theorem dL_law_575 : decode cL_law 575 = .ok (.ireturn, 1) := dk_172 (dk_at dksL_law_18 17 rfl rfl)
theorem dL_law_576 : decode cL_law 576 = .ok (.aload_n 1, 1) := dk_43 (dk_at dksL_law_18 18 rfl rfl)
theorem dL_law_577 : decode cL_law 577 = .ok (.aload_n 0, 1) := dk_42 (dk_at dksL_law_18 19 rfl rfl)
theorem dL_law_578 : decode cL_law 578 = .ok (.iload_n 3, 1) := dk_29 (dk_at dksL_law_18 20 rfl rfl)
theorem dL_law_579 : decode cL_law 579 = .ok (.iconst 1, 1) := dk_4 (dk_at dksL_law_18 21 rfl rfl)
theorem dL_law_580 : decode cL_law 580 = .ok (.iadd, 1) := dk_96 (dk_at dksL_law_18 22 rfl rfl)
theorem dL_law_581 : decode cL_law 581 = .ok (.iaload, 1) := dk_46 (dk_at dksL_law_18 23 rfl rfl)
theorem dL_law_582 : decode cL_law 582 = .ok (.invokevirtual 81, 3) := dk_182 0 81 (dk_at dksL_law_19 0 rfl rfl)
theorem dL_law_585 : decode cL_law 585 = .ok (.aload_n 2, 1) := dk_44 (dk_at dksL_law_19 3 rfl rfl)
theorem dL_law_586 : decode cL_law 586 = .ok (.aload_n 0, 1) := dk_42 (dk_at dksL_law_19 4 rfl rfl)
theorem dL_law_587 : decode cL_law 587 = .ok (.iload_n 3, 1) := dk_29 (dk_at dksL_law_19 5 rfl rfl)
theorem dL_law_588 : decode cL_law 588 = .ok (.iconst 1, 1) := dk_4 (dk_at dksL_law_19 6 rfl rfl)
theorem dL_law_589 : decode cL_law 589 = .ok (.iadd, 1) := dk_96 (dk_at dksL_law_19 7 rfl rfl)
theorem dL_law_590 : decode cL_law 590 = .ok (.iaload, 1) := dk_46 (dk_at dksL_law_19 8 rfl rfl)
theorem dL_law_591 : decode cL_law 591 = .ok (.invokevirtual 84, 3) := dk_182 0 84 (dk_at dksL_law_19 9 rfl rfl)
theorem dL_law_594 : decode cL_law 594 = .ok (.if_icmp .eq 692, 3) := dk_159 2 180 (dk_at dksL_law_19 12 rfl rfl)
theorem dL_law_597 : decode cL_law 597 = .ok (.iconst 0, 1) := dk_3 (dk_at dksL_law_19 15 rfl rfl)
theorem dL_law_598 : decode cL_law 598 = .ok (.ireturn, 1) := dk_172 (dk_at dksL_law_19 16 rfl rfl)
theorem dL_law_599 : decode cL_law 599 = .ok (.aload_n 1, 1) := dk_43 (dk_at dksL_law_19 17 rfl rfl)
theorem dL_law_600 : decode cL_law 600 = .ok (.invokevirtual 85, 3) := dk_182 0 85 (dk_at dksL_law_19 18 rfl rfl)
theorem dL_law_603 : decode cL_law 603 = .ok (.aload_n 2, 1) := dk_44 (dk_at dksL_law_19 21 rfl rfl)
theorem dL_law_604 : decode cL_law 604 = .ok (.invokevirtual 88, 3) := dk_182 0 88 (dk_at dksL_law_20 0 rfl rfl)
theorem dL_law_607 : decode cL_law 607 = .ok (.if_icmp .eq 679, 3) := dk_159 2 167 (dk_at dksL_law_20 3 rfl rfl)
theorem dL_law_610 : decode cL_law 610 = .ok (.iconst 0, 1) := dk_3 (dk_at dksL_law_20 6 rfl rfl)
theorem dL_law_611 : decode cL_law 611 = .ok (.ireturn, 1) := dk_172 (dk_at dksL_law_20 7 rfl rfl)
theorem dL_law_612 : decode cL_law 612 = .ok (.aload_n 1, 1) := dk_43 (dk_at dksL_law_20 8 rfl rfl)
theorem dL_law_613 : decode cL_law 613 = .ok (.aload_n 0, 1) := dk_42 (dk_at dksL_law_20 9 rfl rfl)
theorem dL_law_614 : decode cL_law 614 = .ok (.iload_n 3, 1) := dk_29 (dk_at dksL_law_20 10 rfl rfl)
theorem dL_law_615 : decode cL_law 615 = .ok (.iconst 1, 1) := dk_4 (dk_at dksL_law_20 11 rfl rfl)
theorem dL_law_616 : decode cL_law 616 = .ok (.iadd, 1) := dk_96 (dk_at dksL_law_20 12 rfl rfl)
theorem dL_law_617 : decode cL_law 617 = .ok (.iaload, 1) := dk_46 (dk_at dksL_law_20 13 rfl rfl)
theorem dL_law_618 : decode cL_law 618 = .ok (.invokevirtual 89, 3) := dk_182 0 89 (dk_at dksL_law_20 14 rfl rfl)
theorem dL_law_621 : decode cL_law 621 = .ok (.aload_n 2, 1) := dk_44 (dk_at dksL_law_20 17 rfl rfl)
theorem dL_law_622 : decode cL_law 622 = .ok (.aload_n 0, 1) := dk_42 (dk_at dksL_law_20 18 rfl rfl)
theorem dL_law_623 : decode cL_law 623 = .ok (.iload_n 3, 1) := dk_29 (dk_at dksL_law_20 19 rfl rfl)
theorem dL_law_624 : decode cL_law 624 = .ok (.iconst 1, 1) := dk_4 (dk_at dksL_law_20 20 rfl rfl)
theorem dL_law_625 : decode cL_law 625 = .ok (.iadd, 1) := dk_96 (dk_at dksL_law_20 21 rfl rfl)
theorem dL_law_626 : decode cL_law 626 = .ok (.iaload, 1) := dk_46 (dk_at dksL_law_20 22 rfl rfl)
theorem dL_law_627 : decode cL_law 627 = .ok (.invokevirtual 92, 3) := dk_182 0 92 (dk_at dksL_law_21 0 rfl rfl)
theorem dL_law_630 : decode cL_law 630 = .ok (.if_icmp .eq 656, 3) := dk_159 2 144 (dk_at dksL_law_21 3 rfl rfl)
theorem dL_law_633 : decode cL_law 633 = .ok (.iconst 0, 1) := dk_3 (dk_at dksL_law_21 6 rfl rfl)
theorem dL_law_634 : decode cL_law 634 = .ok (.ireturn, 1) := dk_172 (dk_at dksL_law_21 7 rfl rfl)
theorem dL_law_635 : decode cL_law 635 = .ok (.aload_n 1, 1) := dk_43 (dk_at dksL_law_21 8 rfl rfl)
theorem dL_law_636 : decode cL_law 636 = .ok (.aload_n 0, 1) := dk_42 (dk_at dksL_law_21 9 rfl rfl)
theorem dL_law_637 : decode cL_law 637 = .ok (.iload_n 3, 1) := dk_29 (dk_at dksL_law_21 10 rfl rfl)
theorem dL_law_638 : decode cL_law 638 = .ok (.iconst 1, 1) := dk_4 (dk_at dksL_law_21 11 rfl rfl)
theorem dL_law_639 : decode cL_law 639 = .ok (.iadd, 1) := dk_96 (dk_at dksL_law_21 12 rfl rfl)
theorem dL_law_640 : decode cL_law 640 = .ok (.iaload, 1) := dk_46 (dk_at dksL_law_21 13 rfl rfl)
theorem dL_law_641 : decode cL_law 641 = .ok (.aload_n 0, 1) := dk_42 (dk_at dksL_law_21 14 rfl rfl)
theorem dL_law_642 : decode cL_law 642 = .ok (.iload_n 3, 1) := dk_29 (dk_at dksL_law_21 15 rfl rfl)
theorem dL_law_643 : decode cL_law 643 = .ok (.iconst 2, 1) := dk_5 (dk_at dksL_law_21 16 rfl rfl)
theorem dL_law_644 : decode cL_law 644 = .ok (.iadd, 1) := dk_96 (dk_at dksL_law_21 17 rfl rfl)
theorem dL_law_645 : decode cL_law 645 = .ok (.iaload, 1) := dk_46 (dk_at dksL_law_21 18 rfl rfl)
theorem dL_law_646 : decode cL_law 646 = .ok (.invokevirtual 93, 3) := dk_182 0 93 (dk_at dksL_law_21 19 rfl rfl)
theorem dL_law_649 : decode cL_law 649 = .ok (.aload_n 2, 1) := dk_44 (dk_at dksL_law_21 22 rfl rfl)
theorem dL_law_650 : decode cL_law 650 = .ok (.aload_n 0, 1) := dk_42 (dk_at dksL_law_21 23 rfl rfl)
theorem dL_law_651 : decode cL_law 651 = .ok (.iload_n 3, 1) := dk_29 (dk_at dksL_law_22 0 rfl rfl)
theorem dL_law_652 : decode cL_law 652 = .ok (.iconst 1, 1) := dk_4 (dk_at dksL_law_22 1 rfl rfl)
theorem dL_law_653 : decode cL_law 653 = .ok (.iadd, 1) := dk_96 (dk_at dksL_law_22 2 rfl rfl)
theorem dL_law_654 : decode cL_law 654 = .ok (.iaload, 1) := dk_46 (dk_at dksL_law_22 3 rfl rfl)
theorem dL_law_655 : decode cL_law 655 = .ok (.aload_n 0, 1) := dk_42 (dk_at dksL_law_22 4 rfl rfl)
theorem dL_law_656 : decode cL_law 656 = .ok (.iload_n 3, 1) := dk_29 (dk_at dksL_law_22 5 rfl rfl)
theorem dL_law_657 : decode cL_law 657 = .ok (.iconst 2, 1) := dk_5 (dk_at dksL_law_22 6 rfl rfl)
theorem dL_law_658 : decode cL_law 658 = .ok (.iadd, 1) := dk_96 (dk_at dksL_law_22 7 rfl rfl)
theorem dL_law_659 : decode cL_law 659 = .ok (.iaload, 1) := dk_46 (dk_at dksL_law_22 8 rfl rfl)
theorem dL_law_660 : decode cL_law 660 = .ok (.invokevirtual 96, 3) := dk_182 0 96 (dk_at dksL_law_22 9 rfl rfl)
theorem dL_law_663 : decode cL_law 663 = .ok (.if_icmp .eq 623, 3) := dk_159 2 111 (dk_at dksL_law_22 12 rfl rfl)
theorem dL_law_666 : decode cL_law 666 = .ok (.iconst 0, 1) := dk_3 (dk_at dksL_law_22 15 rfl rfl)
theorem dL_law_667 : decode cL_law 667 = .ok (.ireturn, 1) := dk_172 (dk_at dksL_law_22 16 rfl rfl)
theorem dL_law_668 : decode cL_law 668 = .ok (.aload_n 1, 1) := dk_43 (dk_at dksL_law_22 17 rfl rfl)
theorem dL_law_669 : decode cL_law 669 = .ok (.aload_n 0, 1) := dk_42 (dk_at dksL_law_22 18 rfl rfl)
theorem dL_law_670 : decode cL_law 670 = .ok (.iload_n 3, 1) := dk_29 (dk_at dksL_law_22 19 rfl rfl)
theorem dL_law_671 : decode cL_law 671 = .ok (.iconst 1, 1) := dk_4 (dk_at dksL_law_22 20 rfl rfl)
theorem dL_law_672 : decode cL_law 672 = .ok (.iadd, 1) := dk_96 (dk_at dksL_law_22 21 rfl rfl)
theorem dL_law_673 : decode cL_law 673 = .ok (.iaload, 1) := dk_46 (dk_at dksL_law_22 22 rfl rfl)
theorem dL_law_674 : decode cL_law 674 = .ok (.invokevirtual 97, 3) := dk_182 0 97 (dk_at dksL_law_23 0 rfl rfl)
theorem dL_law_677 : decode cL_law 677 = .ok (.aload_n 2, 1) := dk_44 (dk_at dksL_law_23 3 rfl rfl)
theorem dL_law_678 : decode cL_law 678 = .ok (.aload_n 0, 1) := dk_42 (dk_at dksL_law_23 4 rfl rfl)
theorem dL_law_679 : decode cL_law 679 = .ok (.iload_n 3, 1) := dk_29 (dk_at dksL_law_23 5 rfl rfl)
theorem dL_law_680 : decode cL_law 680 = .ok (.iconst 1, 1) := dk_4 (dk_at dksL_law_23 6 rfl rfl)
theorem dL_law_681 : decode cL_law 681 = .ok (.iadd, 1) := dk_96 (dk_at dksL_law_23 7 rfl rfl)
theorem dL_law_682 : decode cL_law 682 = .ok (.iaload, 1) := dk_46 (dk_at dksL_law_23 8 rfl rfl)
theorem dL_law_683 : decode cL_law 683 = .ok (.invokevirtual 100, 3) := dk_182 0 100 (dk_at dksL_law_23 9 rfl rfl)
theorem dL_law_686 : decode cL_law 686 = .ok (.if_icmp .eq 600, 3) := dk_159 2 88 (dk_at dksL_law_23 12 rfl rfl)
theorem dL_law_689 : decode cL_law 689 = .ok (.iconst 0, 1) := dk_3 (dk_at dksL_law_23 15 rfl rfl)
theorem dL_law_690 : decode cL_law 690 = .ok (.ireturn, 1) := dk_172 (dk_at dksL_law_23 16 rfl rfl)
theorem dL_law_691 : decode cL_law 691 = .ok (.aload_n 1, 1) := dk_43 (dk_at dksL_law_23 17 rfl rfl)
theorem dL_law_692 : decode cL_law 692 = .ok (.aload_n 0, 1) := dk_42 (dk_at dksL_law_23 18 rfl rfl)
theorem dL_law_693 : decode cL_law 693 = .ok (.iload_n 3, 1) := dk_29 (dk_at dksL_law_23 19 rfl rfl)
theorem dL_law_694 : decode cL_law 694 = .ok (.iconst 1, 1) := dk_4 (dk_at dksL_law_23 20 rfl rfl)
theorem dL_law_695 : decode cL_law 695 = .ok (.iadd, 1) := dk_96 (dk_at dksL_law_23 21 rfl rfl)
theorem dL_law_696 : decode cL_law 696 = .ok (.iaload, 1) := dk_46 (dk_at dksL_law_23 22 rfl rfl)
theorem dL_law_697 : decode cL_law 697 = .ok (.aload_n 0, 1) := dk_42 (dk_at dksL_law_23 23 rfl rfl)
theorem dL_law_698 : decode cL_law 698 = .ok (.iload_n 3, 1) := dk_29 (dk_at dksL_law_24 0 rfl rfl)
theorem dL_law_699 : decode cL_law 699 = .ok (.iconst 2, 1) := dk_5 (dk_at dksL_law_24 1 rfl rfl)
theorem dL_law_700 : decode cL_law 700 = .ok (.iadd, 1) := dk_96 (dk_at dksL_law_24 2 rfl rfl)
theorem dL_law_701 : decode cL_law 701 = .ok (.iaload, 1) := dk_46 (dk_at dksL_law_24 3 rfl rfl)
theorem dL_law_702 : decode cL_law 702 = .ok (.invokevirtual 101, 3) := dk_182 0 101 (dk_at dksL_law_24 4 rfl rfl)
theorem dL_law_705 : decode cL_law 705 = .ok (.aload_n 2, 1) := dk_44 (dk_at dksL_law_24 7 rfl rfl)
theorem dL_law_706 : decode cL_law 706 = .ok (.aload_n 0, 1) := dk_42 (dk_at dksL_law_24 8 rfl rfl)
theorem dL_law_707 : decode cL_law 707 = .ok (.iload_n 3, 1) := dk_29 (dk_at dksL_law_24 9 rfl rfl)
theorem dL_law_708 : decode cL_law 708 = .ok (.iconst 1, 1) := dk_4 (dk_at dksL_law_24 10 rfl rfl)
theorem dL_law_709 : decode cL_law 709 = .ok (.iadd, 1) := dk_96 (dk_at dksL_law_24 11 rfl rfl)
theorem dL_law_710 : decode cL_law 710 = .ok (.iaload, 1) := dk_46 (dk_at dksL_law_24 12 rfl rfl)
theorem dL_law_711 : decode cL_law 711 = .ok (.aload_n 0, 1) := dk_42 (dk_at dksL_law_24 13 rfl rfl)
theorem dL_law_712 : decode cL_law 712 = .ok (.iload_n 3, 1) := dk_29 (dk_at dksL_law_24 14 rfl rfl)
theorem dL_law_713 : decode cL_law 713 = .ok (.iconst 2, 1) := dk_5 (dk_at dksL_law_24 15 rfl rfl)
theorem dL_law_714 : decode cL_law 714 = .ok (.iadd, 1) := dk_96 (dk_at dksL_law_24 16 rfl rfl)
theorem dL_law_715 : decode cL_law 715 = .ok (.iaload, 1) := dk_46 (dk_at dksL_law_24 17 rfl rfl)
theorem dL_law_716 : decode cL_law 716 = .ok (.invokevirtual 104, 3) := dk_182 0 104 (dk_at dksL_law_24 18 rfl rfl)
theorem dL_law_719 : decode cL_law 719 = .ok (.if_icmp .eq 567, 3) := dk_159 2 55 (dk_at dksL_law_24 21 rfl rfl)
theorem dL_law_722 : decode cL_law 722 = .ok (.iconst 0, 1) := dk_3 (dk_at dksL_law_25 0 rfl rfl)
theorem dL_law_723 : decode cL_law 723 = .ok (.ireturn, 1) := dk_172 (dk_at dksL_law_25 1 rfl rfl)
theorem dL_law_724 : decode cL_law 724 = .ok (.aload_n 1, 1) := dk_43 (dk_at dksL_law_25 2 rfl rfl)
theorem dL_law_725 : decode cL_law 725 = .ok (.aload_n 0, 1) := dk_42 (dk_at dksL_law_25 3 rfl rfl)
theorem dL_law_726 : decode cL_law 726 = .ok (.iload_n 3, 1) := dk_29 (dk_at dksL_law_25 4 rfl rfl)
theorem dL_law_727 : decode cL_law 727 = .ok (.iconst 1, 1) := dk_4 (dk_at dksL_law_25 5 rfl rfl)
theorem dL_law_728 : decode cL_law 728 = .ok (.iadd, 1) := dk_96 (dk_at dksL_law_25 6 rfl rfl)
theorem dL_law_729 : decode cL_law 729 = .ok (.iaload, 1) := dk_46 (dk_at dksL_law_25 7 rfl rfl)
theorem dL_law_730 : decode cL_law 730 = .ok (.aload_n 0, 1) := dk_42 (dk_at dksL_law_25 8 rfl rfl)
theorem dL_law_731 : decode cL_law 731 = .ok (.iload_n 3, 1) := dk_29 (dk_at dksL_law_25 9 rfl rfl)
theorem dL_law_732 : decode cL_law 732 = .ok (.iconst 2, 1) := dk_5 (dk_at dksL_law_25 10 rfl rfl)
theorem dL_law_733 : decode cL_law 733 = .ok (.iadd, 1) := dk_96 (dk_at dksL_law_25 11 rfl rfl)
theorem dL_law_734 : decode cL_law 734 = .ok (.iaload, 1) := dk_46 (dk_at dksL_law_25 12 rfl rfl)
theorem dL_law_735 : decode cL_law 735 = .ok (.invokevirtual 105, 3) := dk_182 0 105 (dk_at dksL_law_25 13 rfl rfl)
theorem dL_law_738 : decode cL_law 738 = .ok (.aload_n 2, 1) := dk_44 (dk_at dksL_law_25 16 rfl rfl)
theorem dL_law_739 : decode cL_law 739 = .ok (.aload_n 0, 1) := dk_42 (dk_at dksL_law_25 17 rfl rfl)
theorem dL_law_740 : decode cL_law 740 = .ok (.iload_n 3, 1) := dk_29 (dk_at dksL_law_25 18 rfl rfl)
theorem dL_law_741 : decode cL_law 741 = .ok (.iconst 1, 1) := dk_4 (dk_at dksL_law_25 19 rfl rfl)
theorem dL_law_742 : decode cL_law 742 = .ok (.iadd, 1) := dk_96 (dk_at dksL_law_25 20 rfl rfl)
theorem dL_law_743 : decode cL_law 743 = .ok (.iaload, 1) := dk_46 (dk_at dksL_law_25 21 rfl rfl)
theorem dL_law_744 : decode cL_law 744 = .ok (.aload_n 0, 1) := dk_42 (dk_at dksL_law_25 22 rfl rfl)
theorem dL_law_745 : decode cL_law 745 = .ok (.iload_n 3, 1) := dk_29 (dk_at dksL_law_25 23 rfl rfl)
theorem dL_law_746 : decode cL_law 746 = .ok (.iconst 2, 1) := dk_5 (dk_at dksL_law_26 0 rfl rfl)
theorem dL_law_747 : decode cL_law 747 = .ok (.iadd, 1) := dk_96 (dk_at dksL_law_26 1 rfl rfl)
theorem dL_law_748 : decode cL_law 748 = .ok (.iaload, 1) := dk_46 (dk_at dksL_law_26 2 rfl rfl)
theorem dL_law_749 : decode cL_law 749 = .ok (.invokevirtual 108, 3) := dk_182 0 108 (dk_at dksL_law_26 3 rfl rfl)
theorem dL_law_752 : decode cL_law 752 = .ok (.if_icmp .eq 534, 3) := dk_159 2 22 (dk_at dksL_law_26 6 rfl rfl)
theorem dL_law_755 : decode cL_law 755 = .ok (.iconst 0, 1) := dk_3 (dk_at dksL_law_26 9 rfl rfl)
theorem dL_law_756 : decode cL_law 756 = .ok (.ireturn, 1) := dk_172 (dk_at dksL_law_26 10 rfl rfl)
theorem dL_law_757 : decode cL_law 757 = .ok (.aload_n 1, 1) := dk_43 (dk_at dksL_law_26 11 rfl rfl)
theorem dL_law_758 : decode cL_law 758 = .ok (.aload_n 0, 1) := dk_42 (dk_at dksL_law_26 12 rfl rfl)
theorem dL_law_759 : decode cL_law 759 = .ok (.iload_n 3, 1) := dk_29 (dk_at dksL_law_26 13 rfl rfl)
theorem dL_law_760 : decode cL_law 760 = .ok (.iconst 1, 1) := dk_4 (dk_at dksL_law_26 14 rfl rfl)
theorem dL_law_761 : decode cL_law 761 = .ok (.iadd, 1) := dk_96 (dk_at dksL_law_26 15 rfl rfl)
theorem dL_law_762 : decode cL_law 762 = .ok (.iaload, 1) := dk_46 (dk_at dksL_law_26 16 rfl rfl)
theorem dL_law_763 : decode cL_law 763 = .ok (.invokevirtual 109, 3) := dk_182 0 109 (dk_at dksL_law_26 17 rfl rfl)
theorem dL_law_766 : decode cL_law 766 = .ok (.aload_n 2, 1) := dk_44 (dk_at dksL_law_26 20 rfl rfl)
theorem dL_law_767 : decode cL_law 767 = .ok (.aload_n 0, 1) := dk_42 (dk_at dksL_law_26 21 rfl rfl)
theorem dL_law_768 : decode cL_law 768 = .ok (.iload_n 3, 1) := dk_29 (dk_at dksL_law_26 22 rfl rfl)
theorem dL_law_769 : decode cL_law 769 = .ok (.iconst 1, 1) := dk_4 (dk_at dksL_law_26 23 rfl rfl)
theorem dL_law_770 : decode cL_law 770 = .ok (.iadd, 1) := dk_96 (dk_at dksL_law_27 0 rfl rfl)
theorem dL_law_771 : decode cL_law 771 = .ok (.iaload, 1) := dk_46 (dk_at dksL_law_27 1 rfl rfl)
theorem dL_law_772 : decode cL_law 772 = .ok (.invokevirtual 112, 3) := dk_182 0 112 (dk_at dksL_law_27 2 rfl rfl)
theorem dL_law_775 : decode cL_law 775 = .ok (.if_icmp .eq 511, 3) := dk_159 1 255 (dk_at dksL_law_27 5 rfl rfl)
theorem dL_law_778 : decode cL_law 778 = .ok (.iconst 0, 1) := dk_3 (dk_at dksL_law_27 8 rfl rfl)
theorem dL_law_779 : decode cL_law 779 = .ok (.ireturn, 1) := dk_172 (dk_at dksL_law_27 9 rfl rfl)
theorem dL_law_780 : decode cL_law 780 = .ok (.aload_n 1, 1) := dk_43 (dk_at dksL_law_27 10 rfl rfl)
theorem dL_law_781 : decode cL_law 781 = .ok (.invokevirtual 113, 3) := dk_182 0 113 (dk_at dksL_law_27 11 rfl rfl)
theorem dL_law_784 : decode cL_law 784 = .ok (.aload_n 2, 1) := dk_44 (dk_at dksL_law_27 14 rfl rfl)
theorem dL_law_785 : decode cL_law 785 = .ok (.invokevirtual 116, 3) := dk_182 0 116 (dk_at dksL_law_27 15 rfl rfl)
theorem dL_law_788 : decode cL_law 788 = .ok (.if_icmp .eq 498, 3) := dk_159 1 242 (dk_at dksL_law_27 18 rfl rfl)
theorem dL_law_791 : decode cL_law 791 = .ok (.iconst 0, 1) := dk_3 (dk_at dksL_law_27 21 rfl rfl)
theorem dL_law_792 : decode cL_law 792 = .ok (.ireturn, 1) := dk_172 (dk_at dksL_law_27 22 rfl rfl)
theorem dL_law_793 : decode cL_law 793 = .ok (.aload_n 1, 1) := dk_43 (dk_at dksL_law_27 23 rfl rfl)
theorem dL_law_794 : decode cL_law 794 = .ok (.aload_n 0, 1) := dk_42 (dk_at dksL_law_28 0 rfl rfl)
theorem dL_law_795 : decode cL_law 795 = .ok (.iload_n 3, 1) := dk_29 (dk_at dksL_law_28 1 rfl rfl)
theorem dL_law_796 : decode cL_law 796 = .ok (.iconst 1, 1) := dk_4 (dk_at dksL_law_28 2 rfl rfl)
theorem dL_law_797 : decode cL_law 797 = .ok (.iadd, 1) := dk_96 (dk_at dksL_law_28 3 rfl rfl)
theorem dL_law_798 : decode cL_law 798 = .ok (.iaload, 1) := dk_46 (dk_at dksL_law_28 4 rfl rfl)
theorem dL_law_799 : decode cL_law 799 = .ok (.aload_n 0, 1) := dk_42 (dk_at dksL_law_28 5 rfl rfl)
theorem dL_law_800 : decode cL_law 800 = .ok (.iload_n 3, 1) := dk_29 (dk_at dksL_law_28 6 rfl rfl)
theorem dL_law_801 : decode cL_law 801 = .ok (.iconst 2, 1) := dk_5 (dk_at dksL_law_28 7 rfl rfl)
theorem dL_law_802 : decode cL_law 802 = .ok (.iadd, 1) := dk_96 (dk_at dksL_law_28 8 rfl rfl)
theorem dL_law_803 : decode cL_law 803 = .ok (.iaload, 1) := dk_46 (dk_at dksL_law_28 9 rfl rfl)
theorem dL_law_804 : decode cL_law 804 = .ok (.aload_n 0, 1) := dk_42 (dk_at dksL_law_28 10 rfl rfl)
theorem dL_law_805 : decode cL_law 805 = .ok (.iload_n 3, 1) := dk_29 (dk_at dksL_law_28 11 rfl rfl)
theorem dL_law_806 : decode cL_law 806 = .ok (.iconst 3, 1) := dk_6 (dk_at dksL_law_28 12 rfl rfl)
theorem dL_law_807 : decode cL_law 807 = .ok (.iadd, 1) := dk_96 (dk_at dksL_law_28 13 rfl rfl)
theorem dL_law_808 : decode cL_law 808 = .ok (.iaload, 1) := dk_46 (dk_at dksL_law_28 14 rfl rfl)
theorem dL_law_809 : decode cL_law 809 = .ok (.invokevirtual 117, 3) := dk_182 0 117 (dk_at dksL_law_28 15 rfl rfl)
theorem dL_law_812 : decode cL_law 812 = .ok (.aload_n 2, 1) := dk_44 (dk_at dksL_law_28 18 rfl rfl)
theorem dL_law_813 : decode cL_law 813 = .ok (.aload_n 0, 1) := dk_42 (dk_at dksL_law_28 19 rfl rfl)
theorem dL_law_814 : decode cL_law 814 = .ok (.iload_n 3, 1) := dk_29 (dk_at dksL_law_28 20 rfl rfl)
theorem dL_law_815 : decode cL_law 815 = .ok (.iconst 1, 1) := dk_4 (dk_at dksL_law_28 21 rfl rfl)
theorem dL_law_816 : decode cL_law 816 = .ok (.iadd, 1) := dk_96 (dk_at dksL_law_28 22 rfl rfl)
theorem dL_law_817 : decode cL_law 817 = .ok (.iaload, 1) := dk_46 (dk_at dksL_law_28 23 rfl rfl)
theorem dL_law_818 : decode cL_law 818 = .ok (.aload_n 0, 1) := dk_42 (dk_at dksL_law_29 0 rfl rfl)
theorem dL_law_819 : decode cL_law 819 = .ok (.iload_n 3, 1) := dk_29 (dk_at dksL_law_29 1 rfl rfl)
theorem dL_law_820 : decode cL_law 820 = .ok (.iconst 2, 1) := dk_5 (dk_at dksL_law_29 2 rfl rfl)
theorem dL_law_821 : decode cL_law 821 = .ok (.iadd, 1) := dk_96 (dk_at dksL_law_29 3 rfl rfl)
theorem dL_law_822 : decode cL_law 822 = .ok (.iaload, 1) := dk_46 (dk_at dksL_law_29 4 rfl rfl)
theorem dL_law_823 : decode cL_law 823 = .ok (.aload_n 0, 1) := dk_42 (dk_at dksL_law_29 5 rfl rfl)
theorem dL_law_824 : decode cL_law 824 = .ok (.iload_n 3, 1) := dk_29 (dk_at dksL_law_29 6 rfl rfl)
theorem dL_law_825 : decode cL_law 825 = .ok (.iconst 3, 1) := dk_6 (dk_at dksL_law_29 7 rfl rfl)
theorem dL_law_826 : decode cL_law 826 = .ok (.iadd, 1) := dk_96 (dk_at dksL_law_29 8 rfl rfl)
theorem dL_law_827 : decode cL_law 827 = .ok (.iaload, 1) := dk_46 (dk_at dksL_law_29 9 rfl rfl)
theorem dL_law_828 : decode cL_law 828 = .ok (.invokevirtual 121, 3) := dk_182 0 121 (dk_at dksL_law_29 10 rfl rfl)
theorem dL_law_831 : decode cL_law 831 = .ok (.lcmp, 1) := dk_148 (dk_at dksL_law_29 13 rfl rfl)
theorem dL_law_832 : decode cL_law 832 = .ok (.ifCond .eq 454, 3) := dk_153 1 198 (dk_at dksL_law_29 14 rfl rfl)
theorem dL_law_835 : decode cL_law 835 = .ok (.iconst 0, 1) := dk_3 (dk_at dksL_law_29 17 rfl rfl)
theorem dL_law_836 : decode cL_law 836 = .ok (.ireturn, 1) := dk_172 (dk_at dksL_law_29 18 rfl rfl)
theorem dL_law_837 : decode cL_law 837 = .ok (.aload_n 1, 1) := dk_43 (dk_at dksL_law_29 19 rfl rfl)
theorem dL_law_838 : decode cL_law 838 = .ok (.aload_n 0, 1) := dk_42 (dk_at dksL_law_29 20 rfl rfl)
theorem dL_law_839 : decode cL_law 839 = .ok (.iload_n 3, 1) := dk_29 (dk_at dksL_law_29 21 rfl rfl)
theorem dL_law_840 : decode cL_law 840 = .ok (.iconst 1, 1) := dk_4 (dk_at dksL_law_29 22 rfl rfl)
theorem dL_law_841 : decode cL_law 841 = .ok (.iadd, 1) := dk_96 (dk_at dksL_law_29 23 rfl rfl)
theorem dL_law_842 : decode cL_law 842 = .ok (.iaload, 1) := dk_46 (dk_at dksL_law_30 0 rfl rfl)
theorem dL_law_843 : decode cL_law 843 = .ok (.aload_n 0, 1) := dk_42 (dk_at dksL_law_30 1 rfl rfl)
theorem dL_law_844 : decode cL_law 844 = .ok (.iload_n 3, 1) := dk_29 (dk_at dksL_law_30 2 rfl rfl)
theorem dL_law_845 : decode cL_law 845 = .ok (.iconst 2, 1) := dk_5 (dk_at dksL_law_30 3 rfl rfl)
theorem dL_law_846 : decode cL_law 846 = .ok (.iadd, 1) := dk_96 (dk_at dksL_law_30 4 rfl rfl)
theorem dL_law_847 : decode cL_law 847 = .ok (.iaload, 1) := dk_46 (dk_at dksL_law_30 5 rfl rfl)
theorem dL_law_848 : decode cL_law 848 = .ok (.invokevirtual 122, 3) := dk_182 0 122 (dk_at dksL_law_30 6 rfl rfl)
theorem dL_law_851 : decode cL_law 851 = .ok (.aload_n 2, 1) := dk_44 (dk_at dksL_law_30 9 rfl rfl)
theorem dL_law_852 : decode cL_law 852 = .ok (.aload_n 0, 1) := dk_42 (dk_at dksL_law_30 10 rfl rfl)
theorem dL_law_853 : decode cL_law 853 = .ok (.iload_n 3, 1) := dk_29 (dk_at dksL_law_30 11 rfl rfl)
theorem dL_law_854 : decode cL_law 854 = .ok (.iconst 1, 1) := dk_4 (dk_at dksL_law_30 12 rfl rfl)
theorem dL_law_855 : decode cL_law 855 = .ok (.iadd, 1) := dk_96 (dk_at dksL_law_30 13 rfl rfl)
theorem dL_law_856 : decode cL_law 856 = .ok (.iaload, 1) := dk_46 (dk_at dksL_law_30 14 rfl rfl)
theorem dL_law_857 : decode cL_law 857 = .ok (.aload_n 0, 1) := dk_42 (dk_at dksL_law_30 15 rfl rfl)
theorem dL_law_858 : decode cL_law 858 = .ok (.iload_n 3, 1) := dk_29 (dk_at dksL_law_30 16 rfl rfl)
theorem dL_law_859 : decode cL_law 859 = .ok (.iconst 2, 1) := dk_5 (dk_at dksL_law_30 17 rfl rfl)
theorem dL_law_860 : decode cL_law 860 = .ok (.iadd, 1) := dk_96 (dk_at dksL_law_30 18 rfl rfl)
theorem dL_law_861 : decode cL_law 861 = .ok (.iaload, 1) := dk_46 (dk_at dksL_law_30 19 rfl rfl)
theorem dL_law_862 : decode cL_law 862 = .ok (.invokevirtual 126, 3) := dk_182 0 126 (dk_at dksL_law_30 20 rfl rfl)
theorem dL_law_865 : decode cL_law 865 = .ok (.lcmp, 1) := dk_148 (dk_at dksL_law_30 23 rfl rfl)
theorem dL_law_866 : decode cL_law 866 = .ok (.ifCond .eq 420, 3) := dk_153 1 164 (dk_at dksL_law_31 0 rfl rfl)
theorem dL_law_869 : decode cL_law 869 = .ok (.iconst 0, 1) := dk_3 (dk_at dksL_law_31 3 rfl rfl)
theorem dL_law_870 : decode cL_law 870 = .ok (.ireturn, 1) := dk_172 (dk_at dksL_law_31 4 rfl rfl)
theorem dL_law_871 : decode cL_law 871 = .ok (.aload_n 1, 1) := dk_43 (dk_at dksL_law_31 5 rfl rfl)
theorem dL_law_872 : decode cL_law 872 = .ok (.aload_n 0, 1) := dk_42 (dk_at dksL_law_31 6 rfl rfl)
theorem dL_law_873 : decode cL_law 873 = .ok (.iload_n 3, 1) := dk_29 (dk_at dksL_law_31 7 rfl rfl)
theorem dL_law_874 : decode cL_law 874 = .ok (.iconst 1, 1) := dk_4 (dk_at dksL_law_31 8 rfl rfl)
theorem dL_law_875 : decode cL_law 875 = .ok (.iadd, 1) := dk_96 (dk_at dksL_law_31 9 rfl rfl)
theorem dL_law_876 : decode cL_law 876 = .ok (.iaload, 1) := dk_46 (dk_at dksL_law_31 10 rfl rfl)
theorem dL_law_877 : decode cL_law 877 = .ok (.aload_n 0, 1) := dk_42 (dk_at dksL_law_31 11 rfl rfl)
theorem dL_law_878 : decode cL_law 878 = .ok (.iload_n 3, 1) := dk_29 (dk_at dksL_law_31 12 rfl rfl)
theorem dL_law_879 : decode cL_law 879 = .ok (.iconst 2, 1) := dk_5 (dk_at dksL_law_31 13 rfl rfl)
theorem dL_law_880 : decode cL_law 880 = .ok (.iadd, 1) := dk_96 (dk_at dksL_law_31 14 rfl rfl)
theorem dL_law_881 : decode cL_law 881 = .ok (.iaload, 1) := dk_46 (dk_at dksL_law_31 15 rfl rfl)
theorem dL_law_882 : decode cL_law 882 = .ok (.ifCond .eq 7, 3) := dk_153 0 7 (dk_at dksL_law_31 16 rfl rfl)
theorem dL_law_885 : decode cL_law 885 = .ok (.iconst 1, 1) := dk_4 (dk_at dksL_law_31 19 rfl rfl)
theorem dL_law_886 : decode cL_law 886 = .ok (.goto 4, 3) := dk_167 0 4 (dk_at dksL_law_31 20 rfl rfl)
theorem dL_law_889 : decode cL_law 889 = .ok (.iconst 0, 1) := dk_3 (dk_at dksL_law_31 23 rfl rfl)
theorem dL_law_890 : decode cL_law 890 = .ok (.invokevirtual 127, 3) := dk_182 0 127 (dk_at dksL_law_32 0 rfl rfl)
theorem dL_law_893 : decode cL_law 893 = .ok (.aload_n 2, 1) := dk_44 (dk_at dksL_law_32 3 rfl rfl)
theorem dL_law_894 : decode cL_law 894 = .ok (.aload_n 0, 1) := dk_42 (dk_at dksL_law_32 4 rfl rfl)
theorem dL_law_895 : decode cL_law 895 = .ok (.iload_n 3, 1) := dk_29 (dk_at dksL_law_32 5 rfl rfl)
theorem dL_law_896 : decode cL_law 896 = .ok (.iconst 1, 1) := dk_4 (dk_at dksL_law_32 6 rfl rfl)
theorem dL_law_897 : decode cL_law 897 = .ok (.iadd, 1) := dk_96 (dk_at dksL_law_32 7 rfl rfl)
theorem dL_law_898 : decode cL_law 898 = .ok (.iaload, 1) := dk_46 (dk_at dksL_law_32 8 rfl rfl)
theorem dL_law_899 : decode cL_law 899 = .ok (.aload_n 0, 1) := dk_42 (dk_at dksL_law_32 9 rfl rfl)
theorem dL_law_900 : decode cL_law 900 = .ok (.iload_n 3, 1) := dk_29 (dk_at dksL_law_32 10 rfl rfl)
theorem dL_law_901 : decode cL_law 901 = .ok (.iconst 2, 1) := dk_5 (dk_at dksL_law_32 11 rfl rfl)
theorem dL_law_902 : decode cL_law 902 = .ok (.iadd, 1) := dk_96 (dk_at dksL_law_32 12 rfl rfl)
theorem dL_law_903 : decode cL_law 903 = .ok (.iaload, 1) := dk_46 (dk_at dksL_law_32 13 rfl rfl)
theorem dL_law_904 : decode cL_law 904 = .ok (.ifCond .eq 7, 3) := dk_153 0 7 (dk_at dksL_law_32 14 rfl rfl)
theorem dL_law_907 : decode cL_law 907 = .ok (.iconst 1, 1) := dk_4 (dk_at dksL_law_32 17 rfl rfl)
theorem dL_law_908 : decode cL_law 908 = .ok (.goto 4, 3) := dk_167 0 4 (dk_at dksL_law_32 18 rfl rfl)
theorem dL_law_911 : decode cL_law 911 = .ok (.iconst 0, 1) := dk_3 (dk_at dksL_law_32 21 rfl rfl)
theorem dL_law_912 : decode cL_law 912 = .ok (.invokevirtual 131, 3) := dk_182 0 131 (dk_at dksL_law_33 0 rfl rfl)
theorem dL_law_915 : decode cL_law 915 = .ok (.if_icmp .eq 371, 3) := dk_159 1 115 (dk_at dksL_law_33 3 rfl rfl)
theorem dL_law_918 : decode cL_law 918 = .ok (.iconst 0, 1) := dk_3 (dk_at dksL_law_33 6 rfl rfl)
theorem dL_law_919 : decode cL_law 919 = .ok (.ireturn, 1) := dk_172 (dk_at dksL_law_33 7 rfl rfl)
theorem dL_law_920 : decode cL_law 920 = .ok (.aload_n 1, 1) := dk_43 (dk_at dksL_law_33 8 rfl rfl)
theorem dL_law_921 : decode cL_law 921 = .ok (.aload_n 0, 1) := dk_42 (dk_at dksL_law_33 9 rfl rfl)
theorem dL_law_922 : decode cL_law 922 = .ok (.iload_n 3, 1) := dk_29 (dk_at dksL_law_33 10 rfl rfl)
theorem dL_law_923 : decode cL_law 923 = .ok (.iconst 1, 1) := dk_4 (dk_at dksL_law_33 11 rfl rfl)
theorem dL_law_924 : decode cL_law 924 = .ok (.iadd, 1) := dk_96 (dk_at dksL_law_33 12 rfl rfl)
theorem dL_law_925 : decode cL_law 925 = .ok (.iaload, 1) := dk_46 (dk_at dksL_law_33 13 rfl rfl)
theorem dL_law_926 : decode cL_law 926 = .ok (.invokevirtual 132, 3) := dk_182 0 132 (dk_at dksL_law_33 14 rfl rfl)
theorem dL_law_929 : decode cL_law 929 = .ok (.aload_n 2, 1) := dk_44 (dk_at dksL_law_33 17 rfl rfl)
theorem dL_law_930 : decode cL_law 930 = .ok (.aload_n 0, 1) := dk_42 (dk_at dksL_law_33 18 rfl rfl)
theorem dL_law_931 : decode cL_law 931 = .ok (.iload_n 3, 1) := dk_29 (dk_at dksL_law_33 19 rfl rfl)
theorem dL_law_932 : decode cL_law 932 = .ok (.iconst 1, 1) := dk_4 (dk_at dksL_law_33 20 rfl rfl)
theorem dL_law_933 : decode cL_law 933 = .ok (.iadd, 1) := dk_96 (dk_at dksL_law_33 21 rfl rfl)
theorem dL_law_934 : decode cL_law 934 = .ok (.iaload, 1) := dk_46 (dk_at dksL_law_33 22 rfl rfl)
theorem dL_law_935 : decode cL_law 935 = .ok (.invokevirtual 135, 3) := dk_182 0 135 (dk_at dksL_law_34 0 rfl rfl)
theorem dL_law_938 : decode cL_law 938 = .ok (.if_icmp .eq 348, 3) := dk_159 1 92 (dk_at dksL_law_34 3 rfl rfl)
theorem dL_law_941 : decode cL_law 941 = .ok (.iconst 0, 1) := dk_3 (dk_at dksL_law_34 6 rfl rfl)
theorem dL_law_942 : decode cL_law 942 = .ok (.ireturn, 1) := dk_172 (dk_at dksL_law_34 7 rfl rfl)
theorem dL_law_943 : decode cL_law 943 = .ok (.aload_n 1, 1) := dk_43 (dk_at dksL_law_34 8 rfl rfl)
theorem dL_law_944 : decode cL_law 944 = .ok (.aload_n 0, 1) := dk_42 (dk_at dksL_law_34 9 rfl rfl)
theorem dL_law_945 : decode cL_law 945 = .ok (.iload_n 3, 1) := dk_29 (dk_at dksL_law_34 10 rfl rfl)
theorem dL_law_946 : decode cL_law 946 = .ok (.iconst 1, 1) := dk_4 (dk_at dksL_law_34 11 rfl rfl)
theorem dL_law_947 : decode cL_law 947 = .ok (.iadd, 1) := dk_96 (dk_at dksL_law_34 12 rfl rfl)
theorem dL_law_948 : decode cL_law 948 = .ok (.iaload, 1) := dk_46 (dk_at dksL_law_34 13 rfl rfl)
theorem dL_law_949 : decode cL_law 949 = .ok (.invokevirtual 136, 3) := dk_182 0 136 (dk_at dksL_law_34 14 rfl rfl)
theorem dL_law_952 : decode cL_law 952 = .ok (.aload_n 2, 1) := dk_44 (dk_at dksL_law_34 17 rfl rfl)
theorem dL_law_953 : decode cL_law 953 = .ok (.aload_n 0, 1) := dk_42 (dk_at dksL_law_34 18 rfl rfl)
theorem dL_law_954 : decode cL_law 954 = .ok (.iload_n 3, 1) := dk_29 (dk_at dksL_law_34 19 rfl rfl)
theorem dL_law_955 : decode cL_law 955 = .ok (.iconst 1, 1) := dk_4 (dk_at dksL_law_34 20 rfl rfl)
theorem dL_law_956 : decode cL_law 956 = .ok (.iadd, 1) := dk_96 (dk_at dksL_law_34 21 rfl rfl)
theorem dL_law_957 : decode cL_law 957 = .ok (.iaload, 1) := dk_46 (dk_at dksL_law_34 22 rfl rfl)
theorem dL_law_958 : decode cL_law 958 = .ok (.invokevirtual 139, 3) := dk_182 0 139 (dk_at dksL_law_35 0 rfl rfl)
theorem dL_law_961 : decode cL_law 961 = .ok (.if_icmp .eq 325, 3) := dk_159 1 69 (dk_at dksL_law_35 3 rfl rfl)
theorem dL_law_964 : decode cL_law 964 = .ok (.iconst 0, 1) := dk_3 (dk_at dksL_law_35 6 rfl rfl)
theorem dL_law_965 : decode cL_law 965 = .ok (.ireturn, 1) := dk_172 (dk_at dksL_law_35 7 rfl rfl)
theorem dL_law_966 : decode cL_law 966 = .ok (.aload_n 1, 1) := dk_43 (dk_at dksL_law_35 8 rfl rfl)
theorem dL_law_967 : decode cL_law 967 = .ok (.aload_n 0, 1) := dk_42 (dk_at dksL_law_35 9 rfl rfl)
theorem dL_law_968 : decode cL_law 968 = .ok (.iload_n 3, 1) := dk_29 (dk_at dksL_law_35 10 rfl rfl)
theorem dL_law_969 : decode cL_law 969 = .ok (.iconst 1, 1) := dk_4 (dk_at dksL_law_35 11 rfl rfl)
theorem dL_law_970 : decode cL_law 970 = .ok (.iadd, 1) := dk_96 (dk_at dksL_law_35 12 rfl rfl)
theorem dL_law_971 : decode cL_law 971 = .ok (.iaload, 1) := dk_46 (dk_at dksL_law_35 13 rfl rfl)
theorem dL_law_972 : decode cL_law 972 = .ok (.invokevirtual 140, 3) := dk_182 0 140 (dk_at dksL_law_35 14 rfl rfl)
theorem dL_law_975 : decode cL_law 975 = .ok (.aload_n 2, 1) := dk_44 (dk_at dksL_law_35 17 rfl rfl)
theorem dL_law_976 : decode cL_law 976 = .ok (.aload_n 0, 1) := dk_42 (dk_at dksL_law_35 18 rfl rfl)
theorem dL_law_977 : decode cL_law 977 = .ok (.iload_n 3, 1) := dk_29 (dk_at dksL_law_35 19 rfl rfl)
theorem dL_law_978 : decode cL_law 978 = .ok (.iconst 1, 1) := dk_4 (dk_at dksL_law_35 20 rfl rfl)
theorem dL_law_979 : decode cL_law 979 = .ok (.iadd, 1) := dk_96 (dk_at dksL_law_35 21 rfl rfl)
theorem dL_law_980 : decode cL_law 980 = .ok (.iaload, 1) := dk_46 (dk_at dksL_law_35 22 rfl rfl)
theorem dL_law_981 : decode cL_law 981 = .ok (.invokevirtual 143, 3) := dk_182 0 143 (dk_at dksL_law_36 0 rfl rfl)
theorem dL_law_984 : decode cL_law 984 = .ok (.if_icmp .eq 302, 3) := dk_159 1 46 (dk_at dksL_law_36 3 rfl rfl)
theorem dL_law_987 : decode cL_law 987 = .ok (.iconst 0, 1) := dk_3 (dk_at dksL_law_36 6 rfl rfl)
theorem dL_law_988 : decode cL_law 988 = .ok (.ireturn, 1) := dk_172 (dk_at dksL_law_36 7 rfl rfl)
theorem dL_law_989 : decode cL_law 989 = .ok (.aload_n 1, 1) := dk_43 (dk_at dksL_law_36 8 rfl rfl)
theorem dL_law_990 : decode cL_law 990 = .ok (.aload_n 0, 1) := dk_42 (dk_at dksL_law_36 9 rfl rfl)
theorem dL_law_991 : decode cL_law 991 = .ok (.iload_n 3, 1) := dk_29 (dk_at dksL_law_36 10 rfl rfl)
theorem dL_law_992 : decode cL_law 992 = .ok (.iconst 1, 1) := dk_4 (dk_at dksL_law_36 11 rfl rfl)
theorem dL_law_993 : decode cL_law 993 = .ok (.iadd, 1) := dk_96 (dk_at dksL_law_36 12 rfl rfl)
theorem dL_law_994 : decode cL_law 994 = .ok (.iaload, 1) := dk_46 (dk_at dksL_law_36 13 rfl rfl)
theorem dL_law_995 : decode cL_law 995 = .ok (.aload_n 0, 1) := dk_42 (dk_at dksL_law_36 14 rfl rfl)
theorem dL_law_996 : decode cL_law 996 = .ok (.iload_n 3, 1) := dk_29 (dk_at dksL_law_36 15 rfl rfl)
theorem dL_law_997 : decode cL_law 997 = .ok (.iconst 2, 1) := dk_5 (dk_at dksL_law_36 16 rfl rfl)
theorem dL_law_998 : decode cL_law 998 = .ok (.iadd, 1) := dk_96 (dk_at dksL_law_36 17 rfl rfl)
theorem dL_law_999 : decode cL_law 999 = .ok (.iaload, 1) := dk_46 (dk_at dksL_law_36 18 rfl rfl)
theorem dL_law_1000 : decode cL_law 1000 = .ok (.invokevirtual 144, 3) := dk_182 0 144 (dk_at dksL_law_36 19 rfl rfl)
theorem dL_law_1003 : decode cL_law 1003 = .ok (.aload_n 2, 1) := dk_44 (dk_at dksL_law_36 22 rfl rfl)
theorem dL_law_1004 : decode cL_law 1004 = .ok (.aload_n 0, 1) := dk_42 (dk_at dksL_law_36 23 rfl rfl)
theorem dL_law_1005 : decode cL_law 1005 = .ok (.iload_n 3, 1) := dk_29 (dk_at dksL_law_37 0 rfl rfl)
theorem dL_law_1006 : decode cL_law 1006 = .ok (.iconst 1, 1) := dk_4 (dk_at dksL_law_37 1 rfl rfl)
theorem dL_law_1007 : decode cL_law 1007 = .ok (.iadd, 1) := dk_96 (dk_at dksL_law_37 2 rfl rfl)
theorem dL_law_1008 : decode cL_law 1008 = .ok (.iaload, 1) := dk_46 (dk_at dksL_law_37 3 rfl rfl)
theorem dL_law_1009 : decode cL_law 1009 = .ok (.aload_n 0, 1) := dk_42 (dk_at dksL_law_37 4 rfl rfl)
theorem dL_law_1010 : decode cL_law 1010 = .ok (.iload_n 3, 1) := dk_29 (dk_at dksL_law_37 5 rfl rfl)
theorem dL_law_1011 : decode cL_law 1011 = .ok (.iconst 2, 1) := dk_5 (dk_at dksL_law_37 6 rfl rfl)
theorem dL_law_1012 : decode cL_law 1012 = .ok (.iadd, 1) := dk_96 (dk_at dksL_law_37 7 rfl rfl)
theorem dL_law_1013 : decode cL_law 1013 = .ok (.iaload, 1) := dk_46 (dk_at dksL_law_37 8 rfl rfl)
theorem dL_law_1014 : decode cL_law 1014 = .ok (.invokevirtual 147, 3) := dk_182 0 147 (dk_at dksL_law_37 9 rfl rfl)
theorem dL_law_1017 : decode cL_law 1017 = .ok (.if_icmp .eq 269, 3) := dk_159 1 13 (dk_at dksL_law_37 12 rfl rfl)
theorem dL_law_1020 : decode cL_law 1020 = .ok (.iconst 0, 1) := dk_3 (dk_at dksL_law_37 15 rfl rfl)
theorem dL_law_1021 : decode cL_law 1021 = .ok (.ireturn, 1) := dk_172 (dk_at dksL_law_37 16 rfl rfl)
theorem dL_law_1022 : decode cL_law 1022 = .ok (.aload_n 1, 1) := dk_43 (dk_at dksL_law_37 17 rfl rfl)
theorem dL_law_1023 : decode cL_law 1023 = .ok (.aload_n 0, 1) := dk_42 (dk_at dksL_law_37 18 rfl rfl)
theorem dL_law_1024 : decode cL_law 1024 = .ok (.iload_n 3, 1) := dk_29 (dk_at dksL_law_37 19 rfl rfl)
theorem dL_law_1025 : decode cL_law 1025 = .ok (.iconst 1, 1) := dk_4 (dk_at dksL_law_37 20 rfl rfl)
theorem dL_law_1026 : decode cL_law 1026 = .ok (.iadd, 1) := dk_96 (dk_at dksL_law_37 21 rfl rfl)
theorem dL_law_1027 : decode cL_law 1027 = .ok (.iaload, 1) := dk_46 (dk_at dksL_law_37 22 rfl rfl)
theorem dL_law_1028 : decode cL_law 1028 = .ok (.aload_n 0, 1) := dk_42 (dk_at dksL_law_37 23 rfl rfl)
theorem dL_law_1029 : decode cL_law 1029 = .ok (.iload_n 3, 1) := dk_29 (dk_at dksL_law_38 0 rfl rfl)
theorem dL_law_1030 : decode cL_law 1030 = .ok (.iconst 2, 1) := dk_5 (dk_at dksL_law_38 1 rfl rfl)
theorem dL_law_1031 : decode cL_law 1031 = .ok (.iadd, 1) := dk_96 (dk_at dksL_law_38 2 rfl rfl)
theorem dL_law_1032 : decode cL_law 1032 = .ok (.iaload, 1) := dk_46 (dk_at dksL_law_38 3 rfl rfl)
theorem dL_law_1033 : decode cL_law 1033 = .ok (.aload_n 0, 1) := dk_42 (dk_at dksL_law_38 4 rfl rfl)
theorem dL_law_1034 : decode cL_law 1034 = .ok (.iload_n 3, 1) := dk_29 (dk_at dksL_law_38 5 rfl rfl)
theorem dL_law_1035 : decode cL_law 1035 = .ok (.iconst 3, 1) := dk_6 (dk_at dksL_law_38 6 rfl rfl)
theorem dL_law_1036 : decode cL_law 1036 = .ok (.iadd, 1) := dk_96 (dk_at dksL_law_38 7 rfl rfl)
theorem dL_law_1037 : decode cL_law 1037 = .ok (.iaload, 1) := dk_46 (dk_at dksL_law_38 8 rfl rfl)
theorem dL_law_1038 : decode cL_law 1038 = .ok (.invokevirtual 148, 3) := dk_182 0 148 (dk_at dksL_law_38 9 rfl rfl)
theorem dL_law_1041 : decode cL_law 1041 = .ok (.aload_n 2, 1) := dk_44 (dk_at dksL_law_38 12 rfl rfl)
theorem dL_law_1042 : decode cL_law 1042 = .ok (.aload_n 0, 1) := dk_42 (dk_at dksL_law_38 13 rfl rfl)
theorem dL_law_1043 : decode cL_law 1043 = .ok (.iload_n 3, 1) := dk_29 (dk_at dksL_law_38 14 rfl rfl)
theorem dL_law_1044 : decode cL_law 1044 = .ok (.iconst 1, 1) := dk_4 (dk_at dksL_law_38 15 rfl rfl)
theorem dL_law_1045 : decode cL_law 1045 = .ok (.iadd, 1) := dk_96 (dk_at dksL_law_38 16 rfl rfl)
theorem dL_law_1046 : decode cL_law 1046 = .ok (.iaload, 1) := dk_46 (dk_at dksL_law_38 17 rfl rfl)
theorem dL_law_1047 : decode cL_law 1047 = .ok (.aload_n 0, 1) := dk_42 (dk_at dksL_law_38 18 rfl rfl)
theorem dL_law_1048 : decode cL_law 1048 = .ok (.iload_n 3, 1) := dk_29 (dk_at dksL_law_38 19 rfl rfl)
theorem dL_law_1049 : decode cL_law 1049 = .ok (.iconst 2, 1) := dk_5 (dk_at dksL_law_38 20 rfl rfl)
theorem dL_law_1050 : decode cL_law 1050 = .ok (.iadd, 1) := dk_96 (dk_at dksL_law_38 21 rfl rfl)
theorem dL_law_1051 : decode cL_law 1051 = .ok (.iaload, 1) := dk_46 (dk_at dksL_law_38 22 rfl rfl)
theorem dL_law_1052 : decode cL_law 1052 = .ok (.aload_n 0, 1) := dk_42 (dk_at dksL_law_38 23 rfl rfl)
theorem dL_law_1053 : decode cL_law 1053 = .ok (.iload_n 3, 1) := dk_29 (dk_at dksL_law_39 0 rfl rfl)
theorem dL_law_1054 : decode cL_law 1054 = .ok (.iconst 3, 1) := dk_6 (dk_at dksL_law_39 1 rfl rfl)
theorem dL_law_1055 : decode cL_law 1055 = .ok (.iadd, 1) := dk_96 (dk_at dksL_law_39 2 rfl rfl)
theorem dL_law_1056 : decode cL_law 1056 = .ok (.iaload, 1) := dk_46 (dk_at dksL_law_39 3 rfl rfl)
theorem dL_law_1057 : decode cL_law 1057 = .ok (.invokevirtual 151, 3) := dk_182 0 151 (dk_at dksL_law_39 4 rfl rfl)
theorem dL_law_1060 : decode cL_law 1060 = .ok (.if_icmp .eq 226, 3) := dk_159 0 226 (dk_at dksL_law_39 7 rfl rfl)
theorem dL_law_1063 : decode cL_law 1063 = .ok (.iconst 0, 1) := dk_3 (dk_at dksL_law_39 10 rfl rfl)
theorem dL_law_1064 : decode cL_law 1064 = .ok (.ireturn, 1) := dk_172 (dk_at dksL_law_39 11 rfl rfl)
theorem dL_law_1065 : decode cL_law 1065 = .ok (.aload_n 1, 1) := dk_43 (dk_at dksL_law_39 12 rfl rfl)
theorem dL_law_1066 : decode cL_law 1066 = .ok (.aload_n 0, 1) := dk_42 (dk_at dksL_law_39 13 rfl rfl)
theorem dL_law_1067 : decode cL_law 1067 = .ok (.iload_n 3, 1) := dk_29 (dk_at dksL_law_39 14 rfl rfl)
theorem dL_law_1068 : decode cL_law 1068 = .ok (.iconst 1, 1) := dk_4 (dk_at dksL_law_39 15 rfl rfl)
theorem dL_law_1069 : decode cL_law 1069 = .ok (.iadd, 1) := dk_96 (dk_at dksL_law_39 16 rfl rfl)
theorem dL_law_1070 : decode cL_law 1070 = .ok (.iaload, 1) := dk_46 (dk_at dksL_law_39 17 rfl rfl)
theorem dL_law_1071 : decode cL_law 1071 = .ok (.invokevirtual 152, 3) := dk_182 0 152 (dk_at dksL_law_39 18 rfl rfl)
theorem dL_law_1074 : decode cL_law 1074 = .ok (.aload_n 2, 1) := dk_44 (dk_at dksL_law_39 21 rfl rfl)
theorem dL_law_1075 : decode cL_law 1075 = .ok (.aload_n 0, 1) := dk_42 (dk_at dksL_law_39 22 rfl rfl)
theorem dL_law_1076 : decode cL_law 1076 = .ok (.iload_n 3, 1) := dk_29 (dk_at dksL_law_39 23 rfl rfl)
theorem dL_law_1077 : decode cL_law 1077 = .ok (.iconst 1, 1) := dk_4 (dk_at dksL_law_40 0 rfl rfl)
theorem dL_law_1078 : decode cL_law 1078 = .ok (.iadd, 1) := dk_96 (dk_at dksL_law_40 1 rfl rfl)
theorem dL_law_1079 : decode cL_law 1079 = .ok (.iaload, 1) := dk_46 (dk_at dksL_law_40 2 rfl rfl)
theorem dL_law_1080 : decode cL_law 1080 = .ok (.invokevirtual 155, 3) := dk_182 0 155 (dk_at dksL_law_40 3 rfl rfl)
theorem dL_law_1083 : decode cL_law 1083 = .ok (.if_icmp .eq 203, 3) := dk_159 0 203 (dk_at dksL_law_40 6 rfl rfl)
theorem dL_law_1086 : decode cL_law 1086 = .ok (.iconst 0, 1) := dk_3 (dk_at dksL_law_40 9 rfl rfl)
theorem dL_law_1087 : decode cL_law 1087 = .ok (.ireturn, 1) := dk_172 (dk_at dksL_law_40 10 rfl rfl)
theorem dL_law_1088 : decode cL_law 1088 = .ok (.aload_n 1, 1) := dk_43 (dk_at dksL_law_40 11 rfl rfl)
theorem dL_law_1089 : decode cL_law 1089 = .ok (.aload_n 0, 1) := dk_42 (dk_at dksL_law_40 12 rfl rfl)
theorem dL_law_1090 : decode cL_law 1090 = .ok (.iload_n 3, 1) := dk_29 (dk_at dksL_law_40 13 rfl rfl)
theorem dL_law_1091 : decode cL_law 1091 = .ok (.iconst 1, 1) := dk_4 (dk_at dksL_law_40 14 rfl rfl)
theorem dL_law_1092 : decode cL_law 1092 = .ok (.iadd, 1) := dk_96 (dk_at dksL_law_40 15 rfl rfl)
theorem dL_law_1093 : decode cL_law 1093 = .ok (.iaload, 1) := dk_46 (dk_at dksL_law_40 16 rfl rfl)
theorem dL_law_1094 : decode cL_law 1094 = .ok (.invokevirtual 156, 3) := dk_182 0 156 (dk_at dksL_law_40 17 rfl rfl)
theorem dL_law_1097 : decode cL_law 1097 = .ok (.aload_n 2, 1) := dk_44 (dk_at dksL_law_40 20 rfl rfl)
theorem dL_law_1098 : decode cL_law 1098 = .ok (.aload_n 0, 1) := dk_42 (dk_at dksL_law_40 21 rfl rfl)
theorem dL_law_1099 : decode cL_law 1099 = .ok (.iload_n 3, 1) := dk_29 (dk_at dksL_law_40 22 rfl rfl)
theorem dL_law_1100 : decode cL_law 1100 = .ok (.iconst 1, 1) := dk_4 (dk_at dksL_law_40 23 rfl rfl)
theorem dL_law_1101 : decode cL_law 1101 = .ok (.iadd, 1) := dk_96 (dk_at dksL_law_41 0 rfl rfl)
theorem dL_law_1102 : decode cL_law 1102 = .ok (.iaload, 1) := dk_46 (dk_at dksL_law_41 1 rfl rfl)
theorem dL_law_1103 : decode cL_law 1103 = .ok (.invokevirtual 159, 3) := dk_182 0 159 (dk_at dksL_law_41 2 rfl rfl)
theorem dL_law_1106 : decode cL_law 1106 = .ok (.if_icmp .eq 180, 3) := dk_159 0 180 (dk_at dksL_law_41 5 rfl rfl)
theorem dL_law_1109 : decode cL_law 1109 = .ok (.iconst 0, 1) := dk_3 (dk_at dksL_law_41 8 rfl rfl)
theorem dL_law_1110 : decode cL_law 1110 = .ok (.ireturn, 1) := dk_172 (dk_at dksL_law_41 9 rfl rfl)
theorem dL_law_1111 : decode cL_law 1111 = .ok (.aload_n 1, 1) := dk_43 (dk_at dksL_law_41 10 rfl rfl)
theorem dL_law_1112 : decode cL_law 1112 = .ok (.aload_n 0, 1) := dk_42 (dk_at dksL_law_41 11 rfl rfl)
theorem dL_law_1113 : decode cL_law 1113 = .ok (.iload_n 3, 1) := dk_29 (dk_at dksL_law_41 12 rfl rfl)
theorem dL_law_1114 : decode cL_law 1114 = .ok (.iconst 1, 1) := dk_4 (dk_at dksL_law_41 13 rfl rfl)
theorem dL_law_1115 : decode cL_law 1115 = .ok (.iadd, 1) := dk_96 (dk_at dksL_law_41 14 rfl rfl)
theorem dL_law_1116 : decode cL_law 1116 = .ok (.iaload, 1) := dk_46 (dk_at dksL_law_41 15 rfl rfl)
theorem dL_law_1117 : decode cL_law 1117 = .ok (.aload_n 0, 1) := dk_42 (dk_at dksL_law_41 16 rfl rfl)
theorem dL_law_1118 : decode cL_law 1118 = .ok (.iload_n 3, 1) := dk_29 (dk_at dksL_law_41 17 rfl rfl)
theorem dL_law_1119 : decode cL_law 1119 = .ok (.iconst 2, 1) := dk_5 (dk_at dksL_law_41 18 rfl rfl)
theorem dL_law_1120 : decode cL_law 1120 = .ok (.iadd, 1) := dk_96 (dk_at dksL_law_41 19 rfl rfl)
theorem dL_law_1121 : decode cL_law 1121 = .ok (.iaload, 1) := dk_46 (dk_at dksL_law_41 20 rfl rfl)
theorem dL_law_1122 : decode cL_law 1122 = .ok (.aload_n 0, 1) := dk_42 (dk_at dksL_law_41 21 rfl rfl)
theorem dL_law_1123 : decode cL_law 1123 = .ok (.iload_n 3, 1) := dk_29 (dk_at dksL_law_41 22 rfl rfl)
theorem dL_law_1124 : decode cL_law 1124 = .ok (.iconst 3, 1) := dk_6 (dk_at dksL_law_41 23 rfl rfl)
theorem dL_law_1125 : decode cL_law 1125 = .ok (.iadd, 1) := dk_96 (dk_at dksL_law_42 0 rfl rfl)
theorem dL_law_1126 : decode cL_law 1126 = .ok (.iaload, 1) := dk_46 (dk_at dksL_law_42 1 rfl rfl)
theorem dL_law_1127 : decode cL_law 1127 = .ok (.invokevirtual 160, 3) := dk_182 0 160 (dk_at dksL_law_42 2 rfl rfl)
theorem dL_law_1130 : decode cL_law 1130 = .ok (.aload_n 2, 1) := dk_44 (dk_at dksL_law_42 5 rfl rfl)
theorem dL_law_1131 : decode cL_law 1131 = .ok (.aload_n 0, 1) := dk_42 (dk_at dksL_law_42 6 rfl rfl)
theorem dL_law_1132 : decode cL_law 1132 = .ok (.iload_n 3, 1) := dk_29 (dk_at dksL_law_42 7 rfl rfl)
theorem dL_law_1133 : decode cL_law 1133 = .ok (.iconst 1, 1) := dk_4 (dk_at dksL_law_42 8 rfl rfl)
theorem dL_law_1134 : decode cL_law 1134 = .ok (.iadd, 1) := dk_96 (dk_at dksL_law_42 9 rfl rfl)
theorem dL_law_1135 : decode cL_law 1135 = .ok (.iaload, 1) := dk_46 (dk_at dksL_law_42 10 rfl rfl)
theorem dL_law_1136 : decode cL_law 1136 = .ok (.aload_n 0, 1) := dk_42 (dk_at dksL_law_42 11 rfl rfl)
theorem dL_law_1137 : decode cL_law 1137 = .ok (.iload_n 3, 1) := dk_29 (dk_at dksL_law_42 12 rfl rfl)
theorem dL_law_1138 : decode cL_law 1138 = .ok (.iconst 2, 1) := dk_5 (dk_at dksL_law_42 13 rfl rfl)
theorem dL_law_1139 : decode cL_law 1139 = .ok (.iadd, 1) := dk_96 (dk_at dksL_law_42 14 rfl rfl)
theorem dL_law_1140 : decode cL_law 1140 = .ok (.iaload, 1) := dk_46 (dk_at dksL_law_42 15 rfl rfl)
theorem dL_law_1141 : decode cL_law 1141 = .ok (.aload_n 0, 1) := dk_42 (dk_at dksL_law_42 16 rfl rfl)
theorem dL_law_1142 : decode cL_law 1142 = .ok (.iload_n 3, 1) := dk_29 (dk_at dksL_law_42 17 rfl rfl)
theorem dL_law_1143 : decode cL_law 1143 = .ok (.iconst 3, 1) := dk_6 (dk_at dksL_law_42 18 rfl rfl)
theorem dL_law_1144 : decode cL_law 1144 = .ok (.iadd, 1) := dk_96 (dk_at dksL_law_42 19 rfl rfl)
theorem dL_law_1145 : decode cL_law 1145 = .ok (.iaload, 1) := dk_46 (dk_at dksL_law_42 20 rfl rfl)
theorem dL_law_1146 : decode cL_law 1146 = .ok (.invokevirtual 163, 3) := dk_182 0 163 (dk_at dksL_law_42 21 rfl rfl)
theorem dL_law_1149 : decode cL_law 1149 = .ok (.if_icmp .eq 137, 3) := dk_159 0 137 (dk_at dksL_law_43 0 rfl rfl)
theorem dL_law_1152 : decode cL_law 1152 = .ok (.iconst 0, 1) := dk_3 (dk_at dksL_law_43 3 rfl rfl)
theorem dL_law_1153 : decode cL_law 1153 = .ok (.ireturn, 1) := dk_172 (dk_at dksL_law_43 4 rfl rfl)
theorem dL_law_1154 : decode cL_law 1154 = .ok (.aload_n 1, 1) := dk_43 (dk_at dksL_law_43 5 rfl rfl)
theorem dL_law_1155 : decode cL_law 1155 = .ok (.aload_n 0, 1) := dk_42 (dk_at dksL_law_43 6 rfl rfl)
theorem dL_law_1156 : decode cL_law 1156 = .ok (.iload_n 3, 1) := dk_29 (dk_at dksL_law_43 7 rfl rfl)
theorem dL_law_1157 : decode cL_law 1157 = .ok (.iconst 1, 1) := dk_4 (dk_at dksL_law_43 8 rfl rfl)
theorem dL_law_1158 : decode cL_law 1158 = .ok (.iadd, 1) := dk_96 (dk_at dksL_law_43 9 rfl rfl)
theorem dL_law_1159 : decode cL_law 1159 = .ok (.iaload, 1) := dk_46 (dk_at dksL_law_43 10 rfl rfl)
theorem dL_law_1160 : decode cL_law 1160 = .ok (.aload_n 0, 1) := dk_42 (dk_at dksL_law_43 11 rfl rfl)
theorem dL_law_1161 : decode cL_law 1161 = .ok (.iload_n 3, 1) := dk_29 (dk_at dksL_law_43 12 rfl rfl)
theorem dL_law_1162 : decode cL_law 1162 = .ok (.iconst 2, 1) := dk_5 (dk_at dksL_law_43 13 rfl rfl)
theorem dL_law_1163 : decode cL_law 1163 = .ok (.iadd, 1) := dk_96 (dk_at dksL_law_43 14 rfl rfl)
theorem dL_law_1164 : decode cL_law 1164 = .ok (.iaload, 1) := dk_46 (dk_at dksL_law_43 15 rfl rfl)
theorem dL_law_1165 : decode cL_law 1165 = .ok (.aload_n 0, 1) := dk_42 (dk_at dksL_law_43 16 rfl rfl)
theorem dL_law_1166 : decode cL_law 1166 = .ok (.iload_n 3, 1) := dk_29 (dk_at dksL_law_43 17 rfl rfl)
theorem dL_law_1167 : decode cL_law 1167 = .ok (.iconst 3, 1) := dk_6 (dk_at dksL_law_43 18 rfl rfl)
theorem dL_law_1168 : decode cL_law 1168 = .ok (.iadd, 1) := dk_96 (dk_at dksL_law_43 19 rfl rfl)
theorem dL_law_1169 : decode cL_law 1169 = .ok (.iaload, 1) := dk_46 (dk_at dksL_law_43 20 rfl rfl)
theorem dL_law_1170 : decode cL_law 1170 = .ok (.invokevirtual 164, 3) := dk_182 0 164 (dk_at dksL_law_43 21 rfl rfl)
theorem dL_law_1173 : decode cL_law 1173 = .ok (.aload_n 2, 1) := dk_44 (dk_at dksL_law_44 0 rfl rfl)
theorem dL_law_1174 : decode cL_law 1174 = .ok (.aload_n 0, 1) := dk_42 (dk_at dksL_law_44 1 rfl rfl)
theorem dL_law_1175 : decode cL_law 1175 = .ok (.iload_n 3, 1) := dk_29 (dk_at dksL_law_44 2 rfl rfl)
theorem dL_law_1176 : decode cL_law 1176 = .ok (.iconst 1, 1) := dk_4 (dk_at dksL_law_44 3 rfl rfl)
theorem dL_law_1177 : decode cL_law 1177 = .ok (.iadd, 1) := dk_96 (dk_at dksL_law_44 4 rfl rfl)
theorem dL_law_1178 : decode cL_law 1178 = .ok (.iaload, 1) := dk_46 (dk_at dksL_law_44 5 rfl rfl)
theorem dL_law_1179 : decode cL_law 1179 = .ok (.aload_n 0, 1) := dk_42 (dk_at dksL_law_44 6 rfl rfl)
theorem dL_law_1180 : decode cL_law 1180 = .ok (.iload_n 3, 1) := dk_29 (dk_at dksL_law_44 7 rfl rfl)
theorem dL_law_1181 : decode cL_law 1181 = .ok (.iconst 2, 1) := dk_5 (dk_at dksL_law_44 8 rfl rfl)
theorem dL_law_1182 : decode cL_law 1182 = .ok (.iadd, 1) := dk_96 (dk_at dksL_law_44 9 rfl rfl)
theorem dL_law_1183 : decode cL_law 1183 = .ok (.iaload, 1) := dk_46 (dk_at dksL_law_44 10 rfl rfl)
theorem dL_law_1184 : decode cL_law 1184 = .ok (.aload_n 0, 1) := dk_42 (dk_at dksL_law_44 11 rfl rfl)
theorem dL_law_1185 : decode cL_law 1185 = .ok (.iload_n 3, 1) := dk_29 (dk_at dksL_law_44 12 rfl rfl)
theorem dL_law_1186 : decode cL_law 1186 = .ok (.iconst 3, 1) := dk_6 (dk_at dksL_law_44 13 rfl rfl)
theorem dL_law_1187 : decode cL_law 1187 = .ok (.iadd, 1) := dk_96 (dk_at dksL_law_44 14 rfl rfl)
theorem dL_law_1188 : decode cL_law 1188 = .ok (.iaload, 1) := dk_46 (dk_at dksL_law_44 15 rfl rfl)
theorem dL_law_1189 : decode cL_law 1189 = .ok (.invokevirtual 167, 3) := dk_182 0 167 (dk_at dksL_law_44 16 rfl rfl)
theorem dL_law_1192 : decode cL_law 1192 = .ok (.if_icmp .eq 94, 3) := dk_159 0 94 (dk_at dksL_law_44 19 rfl rfl)
theorem dL_law_1195 : decode cL_law 1195 = .ok (.iconst 0, 1) := dk_3 (dk_at dksL_law_44 22 rfl rfl)
theorem dL_law_1196 : decode cL_law 1196 = .ok (.ireturn, 1) := dk_172 (dk_at dksL_law_44 23 rfl rfl)
theorem dL_law_1197 : decode cL_law 1197 = .ok (.aload_n 1, 1) := dk_43 (dk_at dksL_law_45 0 rfl rfl)
theorem dL_law_1198 : decode cL_law 1198 = .ok (.aload_n 0, 1) := dk_42 (dk_at dksL_law_45 1 rfl rfl)
theorem dL_law_1199 : decode cL_law 1199 = .ok (.iload_n 3, 1) := dk_29 (dk_at dksL_law_45 2 rfl rfl)
theorem dL_law_1200 : decode cL_law 1200 = .ok (.iconst 1, 1) := dk_4 (dk_at dksL_law_45 3 rfl rfl)
theorem dL_law_1201 : decode cL_law 1201 = .ok (.iadd, 1) := dk_96 (dk_at dksL_law_45 4 rfl rfl)
theorem dL_law_1202 : decode cL_law 1202 = .ok (.iaload, 1) := dk_46 (dk_at dksL_law_45 5 rfl rfl)
theorem dL_law_1203 : decode cL_law 1203 = .ok (.aload_n 0, 1) := dk_42 (dk_at dksL_law_45 6 rfl rfl)
theorem dL_law_1204 : decode cL_law 1204 = .ok (.iload_n 3, 1) := dk_29 (dk_at dksL_law_45 7 rfl rfl)
theorem dL_law_1205 : decode cL_law 1205 = .ok (.iconst 2, 1) := dk_5 (dk_at dksL_law_45 8 rfl rfl)
theorem dL_law_1206 : decode cL_law 1206 = .ok (.iadd, 1) := dk_96 (dk_at dksL_law_45 9 rfl rfl)
theorem dL_law_1207 : decode cL_law 1207 = .ok (.iaload, 1) := dk_46 (dk_at dksL_law_45 10 rfl rfl)
theorem dL_law_1208 : decode cL_law 1208 = .ok (.aload_n 0, 1) := dk_42 (dk_at dksL_law_45 11 rfl rfl)
theorem dL_law_1209 : decode cL_law 1209 = .ok (.iload_n 3, 1) := dk_29 (dk_at dksL_law_45 12 rfl rfl)
theorem dL_law_1210 : decode cL_law 1210 = .ok (.iconst 3, 1) := dk_6 (dk_at dksL_law_45 13 rfl rfl)
theorem dL_law_1211 : decode cL_law 1211 = .ok (.iadd, 1) := dk_96 (dk_at dksL_law_45 14 rfl rfl)
theorem dL_law_1212 : decode cL_law 1212 = .ok (.iaload, 1) := dk_46 (dk_at dksL_law_45 15 rfl rfl)
theorem dL_law_1213 : decode cL_law 1213 = .ok (.aload_n 0, 1) := dk_42 (dk_at dksL_law_45 16 rfl rfl)
theorem dL_law_1214 : decode cL_law 1214 = .ok (.iload_n 3, 1) := dk_29 (dk_at dksL_law_45 17 rfl rfl)
theorem dL_law_1215 : decode cL_law 1215 = .ok (.iconst 4, 1) := dk_7 (dk_at dksL_law_45 18 rfl rfl)
theorem dL_law_1216 : decode cL_law 1216 = .ok (.iadd, 1) := dk_96 (dk_at dksL_law_45 19 rfl rfl)
theorem dL_law_1217 : decode cL_law 1217 = .ok (.iaload, 1) := dk_46 (dk_at dksL_law_45 20 rfl rfl)
theorem dL_law_1218 : decode cL_law 1218 = .ok (.invokevirtual 168, 3) := dk_182 0 168 (dk_at dksL_law_45 21 rfl rfl)
theorem dL_law_1221 : decode cL_law 1221 = .ok (.aload_n 2, 1) := dk_44 (dk_at dksL_law_46 0 rfl rfl)
theorem dL_law_1222 : decode cL_law 1222 = .ok (.aload_n 0, 1) := dk_42 (dk_at dksL_law_46 1 rfl rfl)
theorem dL_law_1223 : decode cL_law 1223 = .ok (.iload_n 3, 1) := dk_29 (dk_at dksL_law_46 2 rfl rfl)
theorem dL_law_1224 : decode cL_law 1224 = .ok (.iconst 1, 1) := dk_4 (dk_at dksL_law_46 3 rfl rfl)
theorem dL_law_1225 : decode cL_law 1225 = .ok (.iadd, 1) := dk_96 (dk_at dksL_law_46 4 rfl rfl)
theorem dL_law_1226 : decode cL_law 1226 = .ok (.iaload, 1) := dk_46 (dk_at dksL_law_46 5 rfl rfl)
theorem dL_law_1227 : decode cL_law 1227 = .ok (.aload_n 0, 1) := dk_42 (dk_at dksL_law_46 6 rfl rfl)
theorem dL_law_1228 : decode cL_law 1228 = .ok (.iload_n 3, 1) := dk_29 (dk_at dksL_law_46 7 rfl rfl)
theorem dL_law_1229 : decode cL_law 1229 = .ok (.iconst 2, 1) := dk_5 (dk_at dksL_law_46 8 rfl rfl)
theorem dL_law_1230 : decode cL_law 1230 = .ok (.iadd, 1) := dk_96 (dk_at dksL_law_46 9 rfl rfl)
theorem dL_law_1231 : decode cL_law 1231 = .ok (.iaload, 1) := dk_46 (dk_at dksL_law_46 10 rfl rfl)
theorem dL_law_1232 : decode cL_law 1232 = .ok (.aload_n 0, 1) := dk_42 (dk_at dksL_law_46 11 rfl rfl)
theorem dL_law_1233 : decode cL_law 1233 = .ok (.iload_n 3, 1) := dk_29 (dk_at dksL_law_46 12 rfl rfl)
theorem dL_law_1234 : decode cL_law 1234 = .ok (.iconst 3, 1) := dk_6 (dk_at dksL_law_46 13 rfl rfl)
theorem dL_law_1235 : decode cL_law 1235 = .ok (.iadd, 1) := dk_96 (dk_at dksL_law_46 14 rfl rfl)
theorem dL_law_1236 : decode cL_law 1236 = .ok (.iaload, 1) := dk_46 (dk_at dksL_law_46 15 rfl rfl)
theorem dL_law_1237 : decode cL_law 1237 = .ok (.aload_n 0, 1) := dk_42 (dk_at dksL_law_46 16 rfl rfl)
theorem dL_law_1238 : decode cL_law 1238 = .ok (.iload_n 3, 1) := dk_29 (dk_at dksL_law_46 17 rfl rfl)
theorem dL_law_1239 : decode cL_law 1239 = .ok (.iconst 4, 1) := dk_7 (dk_at dksL_law_46 18 rfl rfl)
theorem dL_law_1240 : decode cL_law 1240 = .ok (.iadd, 1) := dk_96 (dk_at dksL_law_46 19 rfl rfl)
theorem dL_law_1241 : decode cL_law 1241 = .ok (.iaload, 1) := dk_46 (dk_at dksL_law_46 20 rfl rfl)
theorem dL_law_1242 : decode cL_law 1242 = .ok (.invokevirtual 172, 3) := dk_182 0 172 (dk_at dksL_law_46 21 rfl rfl)
theorem dL_law_1245 : decode cL_law 1245 = .ok (.if_icmp .eq 41, 3) := dk_159 0 41 (dk_at dksL_law_47 0 rfl rfl)
theorem dL_law_1248 : decode cL_law 1248 = .ok (.iconst 0, 1) := dk_3 (dk_at dksL_law_47 3 rfl rfl)
theorem dL_law_1249 : decode cL_law 1249 = .ok (.ireturn, 1) := dk_172 (dk_at dksL_law_47 4 rfl rfl)
theorem dL_law_1250 : decode cL_law 1250 = .ok (.aload_n 1, 1) := dk_43 (dk_at dksL_law_47 5 rfl rfl)
theorem dL_law_1251 : decode cL_law 1251 = .ok (.invokevirtual 173, 3) := dk_182 0 173 (dk_at dksL_law_47 6 rfl rfl)
theorem dL_law_1254 : decode cL_law 1254 = .ok (.aload_n 2, 1) := dk_44 (dk_at dksL_law_47 9 rfl rfl)
theorem dL_law_1255 : decode cL_law 1255 = .ok (.invokevirtual 176, 3) := dk_182 0 176 (dk_at dksL_law_47 10 rfl rfl)
theorem dL_law_1258 : decode cL_law 1258 = .ok (.if_icmp .eq 28, 3) := dk_159 0 28 (dk_at dksL_law_47 13 rfl rfl)
theorem dL_law_1261 : decode cL_law 1261 = .ok (.iconst 0, 1) := dk_3 (dk_at dksL_law_47 16 rfl rfl)
theorem dL_law_1262 : decode cL_law 1262 = .ok (.ireturn, 1) := dk_172 (dk_at dksL_law_47 17 rfl rfl)
theorem dL_law_1263 : decode cL_law 1263 = .ok (.aload_n 1, 1) := dk_43 (dk_at dksL_law_47 18 rfl rfl)
theorem dL_law_1264 : decode cL_law 1264 = .ok (.aload_n 0, 1) := dk_42 (dk_at dksL_law_47 19 rfl rfl)
theorem dL_law_1265 : decode cL_law 1265 = .ok (.iload_n 3, 1) := dk_29 (dk_at dksL_law_47 20 rfl rfl)
theorem dL_law_1266 : decode cL_law 1266 = .ok (.iconst 1, 1) := dk_4 (dk_at dksL_law_47 21 rfl rfl)
theorem dL_law_1267 : decode cL_law 1267 = .ok (.iadd, 1) := dk_96 (dk_at dksL_law_47 22 rfl rfl)
theorem dL_law_1268 : decode cL_law 1268 = .ok (.iaload, 1) := dk_46 (dk_at dksL_law_47 23 rfl rfl)
theorem dL_law_1269 : decode cL_law 1269 = .ok (.invokevirtual 177, 3) := dk_182 0 177 (dk_at dksL_law_48 0 rfl rfl)
theorem dL_law_1272 : decode cL_law 1272 = .ok (.aload_n 2, 1) := dk_44 (dk_at dksL_law_48 3 rfl rfl)
theorem dL_law_1273 : decode cL_law 1273 = .ok (.aload_n 0, 1) := dk_42 (dk_at dksL_law_48 4 rfl rfl)
theorem dL_law_1274 : decode cL_law 1274 = .ok (.iload_n 3, 1) := dk_29 (dk_at dksL_law_48 5 rfl rfl)
theorem dL_law_1275 : decode cL_law 1275 = .ok (.iconst 1, 1) := dk_4 (dk_at dksL_law_48 6 rfl rfl)
theorem dL_law_1276 : decode cL_law 1276 = .ok (.iadd, 1) := dk_96 (dk_at dksL_law_48 7 rfl rfl)
theorem dL_law_1277 : decode cL_law 1277 = .ok (.iaload, 1) := dk_46 (dk_at dksL_law_48 8 rfl rfl)
theorem dL_law_1278 : decode cL_law 1278 = .ok (.invokevirtual 180, 3) := dk_182 0 180 (dk_at dksL_law_48 9 rfl rfl)
theorem dL_law_1281 : decode cL_law 1281 = .ok (.if_icmp .eq 5, 3) := dk_159 0 5 (dk_at dksL_law_48 12 rfl rfl)
theorem dL_law_1284 : decode cL_law 1284 = .ok (.iconst 0, 1) := dk_3 (dk_at dksL_law_48 15 rfl rfl)
theorem dL_law_1285 : decode cL_law 1285 = .ok (.ireturn, 1) := dk_172 (dk_at dksL_law_48 16 rfl rfl)
theorem dL_law_1286 : decode cL_law 1286 = .ok (.iinc 3 5, 3) := dk_132 3 5 (dk_at dksL_law_48 17 rfl rfl)
theorem dL_law_1289 : decode cL_law 1289 = .ok (.goto (-1271), 3) := dk_167 251 9 (dk_at dksL_law_48 20 rfl rfl)
theorem dL_law_1292 : decode cL_law 1292 = .ok (.iconst 1, 1) := dk_4 (dk_at dksL_law_48 23 rfl rfl)
theorem dL_law_1293 : decode cL_law 1293 = .ok (.ireturn, 1) := dk_172 (dk_at dksL_law_49 0 rfl rfl)
