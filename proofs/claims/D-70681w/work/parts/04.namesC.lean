/-! TearsQueueModel -/
set_option maxRecDepth 100000
def RX7 : String := "TearsQueueModel"
def TX7 : u_T := fun k => match k with
  | 0 => ("TearsQueueModel", "state", "[I", true)
  | 1 => ("TearsQueueModel", "brims", "[I", true)
  | 2 => ("TearsQueueModel", "oneMany", "I", false)
  | 3 => ("TearsQueueModel", "readPage", "[I", true)
  | 4 => ("TearsQueueModel", "readOnes", "I", false)
  | 5 => ("TearsQueueModel", "toldOnce", "I", false)
  | 6 => ("TearsQueueModel", "high", "I", false)
  | 7 => ("TearsQueueModel", "tape", "[I", true)
  | 8 => ("TearsQueueModel", "taped", "I", false)
  | 9 => ("TearsQueueModel", "fault", "I", false)
  | 10 => ("TearsQueueModel", "broken", "I", false)
  | 11 => ("TearsQueueModel", "brokenAt", "I", false)
  | 12 => ("TearsQueueModel", "spot", "I", false)
  | 13 => ("TearsQueueModel", "here", "I", false)
  | 14 => ("TearsQueueModel", "token", "I", false)
  | 15 => ("TearsQueueModel", "value", "I", false)
  | 16 => ("TearsQueueModel", "cuts", "[I", true)
  | 17 => ("TearsQueueModel", "letters", "[I", true)
  | 18 => ("TearsQueueModel", "weptBits", "I", false)
  | 19 => ("TearsQueueModel", "weptTimes", "I", false)
  | 20 => ("TearsQueueModel", "firstNot", "I", false)
  | 21 => ("TearsQueueModel", "seen", "[I", true)
  | 22 => ("TearsQueueModel", "seenMany", "I", false)
  | 23 => ("TearsQueueModel", "goneBy", "[I", true)
  | 24 => ("TearsQueueModel", "isKept", "[Z", true)
  | 25 => ("TearsQueueModel", "lanes", "[I", true)
  | 26 => ("TearsQueueModel", "lengths", "[I", true)
  | 27 => ("TearsQueueModel", "cells", "[I", true)
  | _ => ("TearsQueueModel", "torn", "I", false)
def tyX7 : Nat → FieldType := fun k => match k with
  | 0 => .array .int
  | 1 => .array .int
  | 2 => .int
  | 3 => .array .int
  | 4 => .int
  | 5 => .int
  | 6 => .int
  | 7 => .array .int
  | 8 => .int
  | 9 => .int
  | 10 => .int
  | 11 => .int
  | 12 => .int
  | 13 => .int
  | 14 => .int
  | 15 => .int
  | 16 => .array .int
  | 17 => .array .int
  | 18 => .int
  | 19 => .int
  | 20 => .int
  | 21 => .array .int
  | 22 => .int
  | 23 => .array .int
  | 24 => .array .boolean
  | 25 => .array .int
  | 26 => .array .int
  | 27 => .array .int
  | _ => .int
abbrev wsX70 : List Cond := u_ws RX7 TX7 29
set_option maxRecDepth 100000 in
theorem nmX7 : ∀ a, a < 29 → ∀ b, b < 29 → a ≠ b → (TX7 a).2.1 ≠ (TX7 b).2.1 := by decide +kernel
set_option maxRecDepth 100000 in
theorem tyX7_ok : ∀ k, k < 29 → parseFieldDescriptor (TX7 k).2.2.1 = some (tyX7 k) := by decide +kernel
abbrev cX7_init : ByteArray := prog_11_method_1_code
def yX7_init : MethodName := ⟨RX7, "<init>", "()V"⟩
def dkwX7_init_14 : List UInt8 := [188, 10, 181, 0, 41, 42, 17, 0, 160, 188, 10, 181, 0, 44, 177]
abbrev dktX7_init_14 : List UInt8 := dkwX7_init_14 ++ []
def dkwX7_init_13 : List UInt8 := [16, 252, 79, 89, 4, 16, 252, 79, 89, 5, 16, 252, 79, 89, 6, 16, 252, 79, 181, 0, 38, 42, 7]
abbrev dktX7_init_13 : List UInt8 := dkwX7_init_13 ++ dktX7_init_14
def dkwX7_init_12 : List UInt8 := [181, 0, 28, 42, 16, 21, 188, 10, 181, 0, 31, 42, 5, 188, 4, 181, 0, 34, 42, 7, 188, 10, 89, 3]
abbrev dktX7_init_12 : List UInt8 := dkwX7_init_12 ++ dktX7_init_13
def dkwX7_init_11 : List UInt8 := [16, 108, 79, 89, 16, 27, 16, 97, 79, 89, 16, 28, 16, 110, 79, 181, 0, 25, 42, 16, 12, 188, 10]
abbrev dktX7_init_11 : List UInt8 := dkwX7_init_11 ++ dktX7_init_12
def dkwX7_init_10 : List UInt8 := [16, 105, 79, 89, 16, 23, 16, 110, 79, 89, 16, 24, 16, 107, 79, 89, 16, 25, 16, 112, 79, 89, 16, 26]
abbrev dktX7_init_10 : List UInt8 := dkwX7_init_10 ++ dktX7_init_11
def dkwX7_init_9 : List UInt8 := [16, 111, 79, 89, 16, 19, 16, 109, 79, 89, 16, 20, 16, 116, 79, 89, 16, 21, 16, 104, 79, 89, 16, 22]
abbrev dktX7_init_9 : List UInt8 := dkwX7_init_9 ++ dktX7_init_10
def dkwX7_init_8 : List UInt8 := [16, 114, 79, 89, 16, 15, 16, 121, 79, 89, 16, 16, 16, 114, 79, 89, 16, 17, 16, 111, 79, 89, 16, 18]
abbrev dktX7_init_8 : List UInt8 := dkwX7_init_8 ++ dktX7_init_9
def dkwX7_init_7 : List UInt8 := [16, 104, 79, 89, 16, 11, 16, 97, 79, 89, 16, 12, 16, 109, 79, 89, 16, 13, 16, 100, 79, 89, 16, 14]
abbrev dktX7_init_7 : List UInt8 := dkwX7_init_7 ++ dktX7_init_8
def dkwX7_init_6 : List UInt8 := [16, 111, 79, 89, 16, 7, 16, 102, 79, 89, 16, 8, 16, 116, 79, 89, 16, 9, 16, 115, 79, 89, 16, 10]
abbrev dktX7_init_6 : List UInt8 := dkwX7_init_6 ++ dktX7_init_7
def dkwX7_init_5 : List UInt8 := [89, 5, 16, 97, 79, 89, 6, 16, 105, 79, 89, 7, 16, 110, 79, 89, 8, 16, 115, 79, 89, 16, 6]
abbrev dktX7_init_5 : List UInt8 := dkwX7_init_5 ++ dktX7_init_6
def dkwX7_init_4 : List UInt8 := [89, 16, 7, 16, 29, 79, 181, 0, 22, 42, 16, 29, 188, 10, 89, 3, 16, 112, 79, 89, 4, 16, 108, 79]
abbrev dktX7_init_4 : List UInt8 := dkwX7_init_4 ++ dktX7_init_5
def dkwX7_init_3 : List UInt8 := [16, 9, 79, 89, 6, 16, 13, 79, 89, 7, 16, 16, 79, 89, 8, 16, 20, 79, 89, 16, 6, 16, 25, 79]
abbrev dktX7_init_3 : List UInt8 := dkwX7_init_3 ++ dktX7_init_4
def dkwX7_init_2 : List UInt8 := [17, 0, 160, 188, 10, 181, 0, 19, 42, 16, 8, 188, 10, 89, 3, 3, 79, 89, 4, 8, 79, 89, 5]
abbrev dktX7_init_2 : List UInt8 := dkwX7_init_2 ++ dktX7_init_3
def dkwX7_init_1 : List UInt8 := [8, 79, 89, 5, 7, 79, 89, 6, 16, 20, 79, 181, 0, 13, 42, 16, 28, 188, 10, 181, 0, 16, 42]
abbrev dktX7_init_1 : List UInt8 := dkwX7_init_1 ++ dktX7_init_2
def dkwX7_init_0 : List UInt8 := [42, 183, 0, 1, 42, 17, 0, 168, 188, 10, 181, 0, 7, 42, 7, 188, 10, 89, 3, 16, 10, 79, 89, 4]
abbrev dktX7_init_0 : List UInt8 := dkwX7_init_0 ++ dktX7_init_1
theorem dksX7_init_0 : cX7_init.data.toList.drop 0 = dktX7_init_0 := by decide +kernel
theorem dksX7_init_1 : cX7_init.data.toList.drop 24 = dktX7_init_1 := dk_seg dksX7_init_0 24 rfl rfl
theorem dksX7_init_2 : cX7_init.data.toList.drop 47 = dktX7_init_2 := dk_seg dksX7_init_1 23 rfl rfl
theorem dksX7_init_3 : cX7_init.data.toList.drop 70 = dktX7_init_3 := dk_seg dksX7_init_2 23 rfl rfl
theorem dksX7_init_4 : cX7_init.data.toList.drop 94 = dktX7_init_4 := dk_seg dksX7_init_3 24 rfl rfl
theorem dksX7_init_5 : cX7_init.data.toList.drop 118 = dktX7_init_5 := dk_seg dksX7_init_4 24 rfl rfl
theorem dksX7_init_6 : cX7_init.data.toList.drop 141 = dktX7_init_6 := dk_seg dksX7_init_5 23 rfl rfl
theorem dksX7_init_7 : cX7_init.data.toList.drop 165 = dktX7_init_7 := dk_seg dksX7_init_6 24 rfl rfl
theorem dksX7_init_8 : cX7_init.data.toList.drop 189 = dktX7_init_8 := dk_seg dksX7_init_7 24 rfl rfl
theorem dksX7_init_9 : cX7_init.data.toList.drop 213 = dktX7_init_9 := dk_seg dksX7_init_8 24 rfl rfl
theorem dksX7_init_10 : cX7_init.data.toList.drop 237 = dktX7_init_10 := dk_seg dksX7_init_9 24 rfl rfl
theorem dksX7_init_11 : cX7_init.data.toList.drop 261 = dktX7_init_11 := dk_seg dksX7_init_10 24 rfl rfl
theorem dksX7_init_12 : cX7_init.data.toList.drop 284 = dktX7_init_12 := dk_seg dksX7_init_11 23 rfl rfl
theorem dksX7_init_13 : cX7_init.data.toList.drop 308 = dktX7_init_13 := dk_seg dksX7_init_12 24 rfl rfl
theorem dksX7_init_14 : cX7_init.data.toList.drop 331 = dktX7_init_14 := dk_seg dksX7_init_13 23 rfl rfl
theorem dX7_init_0 : decode cX7_init 0 = .ok (.aload_n 0, 1) := dk_42 (dk_at dksX7_init_0 0 rfl rfl)
theorem dX7_init_1 : decode cX7_init 1 = .ok (.invokespecial 1, 3) := dk_183 0 1 (dk_at dksX7_init_0 1 rfl rfl)
theorem dX7_init_4 : decode cX7_init 4 = .ok (.aload_n 0, 1) := dk_42 (dk_at dksX7_init_0 4 rfl rfl)
theorem dX7_init_5 : decode cX7_init 5 = .ok (.sipush 168, 3) := dk_17 0 168 (dk_at dksX7_init_0 5 rfl rfl)
theorem dX7_init_8 : decode cX7_init 8 = .ok (.newarray .int, 2) := dk_188_10 (dk_at dksX7_init_0 8 rfl rfl)
theorem dX7_init_10 : decode cX7_init 10 = .ok (.putfield 7, 3) := dk_181 0 7 (dk_at dksX7_init_0 10 rfl rfl)
theorem dX7_init_13 : decode cX7_init 13 = .ok (.aload_n 0, 1) := dk_42 (dk_at dksX7_init_0 13 rfl rfl)
theorem dX7_init_14 : decode cX7_init 14 = .ok (.iconst 4, 1) := dk_7 (dk_at dksX7_init_0 14 rfl rfl)
theorem dX7_init_15 : decode cX7_init 15 = .ok (.newarray .int, 2) := dk_188_10 (dk_at dksX7_init_0 15 rfl rfl)
theorem dX7_init_17 : decode cX7_init 17 = .ok (.dup, 1) := dk_89 (dk_at dksX7_init_0 17 rfl rfl)
theorem dX7_init_18 : decode cX7_init 18 = .ok (.iconst 0, 1) := dk_3 (dk_at dksX7_init_0 18 rfl rfl)
theorem dX7_init_19 : decode cX7_init 19 = .ok (.bipush 10, 2) := dk_16 10 (dk_at dksX7_init_0 19 rfl rfl)
theorem dX7_init_21 : decode cX7_init 21 = .ok (.iastore, 1) := dk_79 (dk_at dksX7_init_0 21 rfl rfl)
theorem dX7_init_22 : decode cX7_init 22 = .ok (.dup, 1) := dk_89 (dk_at dksX7_init_0 22 rfl rfl)
theorem dX7_init_23 : decode cX7_init 23 = .ok (.iconst 1, 1) := dk_4 (dk_at dksX7_init_0 23 rfl rfl)
theorem dX7_init_24 : decode cX7_init 24 = .ok (.iconst 5, 1) := dk_8 (dk_at dksX7_init_1 0 rfl rfl)
theorem dX7_init_25 : decode cX7_init 25 = .ok (.iastore, 1) := dk_79 (dk_at dksX7_init_1 1 rfl rfl)
theorem dX7_init_26 : decode cX7_init 26 = .ok (.dup, 1) := dk_89 (dk_at dksX7_init_1 2 rfl rfl)
theorem dX7_init_27 : decode cX7_init 27 = .ok (.iconst 2, 1) := dk_5 (dk_at dksX7_init_1 3 rfl rfl)
theorem dX7_init_28 : decode cX7_init 28 = .ok (.iconst 4, 1) := dk_7 (dk_at dksX7_init_1 4 rfl rfl)
theorem dX7_init_29 : decode cX7_init 29 = .ok (.iastore, 1) := dk_79 (dk_at dksX7_init_1 5 rfl rfl)
theorem dX7_init_30 : decode cX7_init 30 = .ok (.dup, 1) := dk_89 (dk_at dksX7_init_1 6 rfl rfl)
theorem dX7_init_31 : decode cX7_init 31 = .ok (.iconst 3, 1) := dk_6 (dk_at dksX7_init_1 7 rfl rfl)
theorem dX7_init_32 : decode cX7_init 32 = .ok (.bipush 20, 2) := dk_16 20 (dk_at dksX7_init_1 8 rfl rfl)
theorem dX7_init_34 : decode cX7_init 34 = .ok (.iastore, 1) := dk_79 (dk_at dksX7_init_1 10 rfl rfl)
theorem dX7_init_35 : decode cX7_init 35 = .ok (.putfield 13, 3) := dk_181 0 13 (dk_at dksX7_init_1 11 rfl rfl)
theorem dX7_init_38 : decode cX7_init 38 = .ok (.aload_n 0, 1) := dk_42 (dk_at dksX7_init_1 14 rfl rfl)
theorem dX7_init_39 : decode cX7_init 39 = .ok (.bipush 28, 2) := dk_16 28 (dk_at dksX7_init_1 15 rfl rfl)
theorem dX7_init_41 : decode cX7_init 41 = .ok (.newarray .int, 2) := dk_188_10 (dk_at dksX7_init_1 17 rfl rfl)
theorem dX7_init_43 : decode cX7_init 43 = .ok (.putfield 16, 3) := dk_181 0 16 (dk_at dksX7_init_1 19 rfl rfl)
theorem dX7_init_46 : decode cX7_init 46 = .ok (.aload_n 0, 1) := dk_42 (dk_at dksX7_init_1 22 rfl rfl)
theorem dX7_init_47 : decode cX7_init 47 = .ok (.sipush 160, 3) := dk_17 0 160 (dk_at dksX7_init_2 0 rfl rfl)
theorem dX7_init_50 : decode cX7_init 50 = .ok (.newarray .int, 2) := dk_188_10 (dk_at dksX7_init_2 3 rfl rfl)
theorem dX7_init_52 : decode cX7_init 52 = .ok (.putfield 19, 3) := dk_181 0 19 (dk_at dksX7_init_2 5 rfl rfl)
theorem dX7_init_55 : decode cX7_init 55 = .ok (.aload_n 0, 1) := dk_42 (dk_at dksX7_init_2 8 rfl rfl)
theorem dX7_init_56 : decode cX7_init 56 = .ok (.bipush 8, 2) := dk_16 8 (dk_at dksX7_init_2 9 rfl rfl)
theorem dX7_init_58 : decode cX7_init 58 = .ok (.newarray .int, 2) := dk_188_10 (dk_at dksX7_init_2 11 rfl rfl)
theorem dX7_init_60 : decode cX7_init 60 = .ok (.dup, 1) := dk_89 (dk_at dksX7_init_2 13 rfl rfl)
theorem dX7_init_61 : decode cX7_init 61 = .ok (.iconst 0, 1) := dk_3 (dk_at dksX7_init_2 14 rfl rfl)
theorem dX7_init_62 : decode cX7_init 62 = .ok (.iconst 0, 1) := dk_3 (dk_at dksX7_init_2 15 rfl rfl)
theorem dX7_init_63 : decode cX7_init 63 = .ok (.iastore, 1) := dk_79 (dk_at dksX7_init_2 16 rfl rfl)
theorem dX7_init_64 : decode cX7_init 64 = .ok (.dup, 1) := dk_89 (dk_at dksX7_init_2 17 rfl rfl)
theorem dX7_init_65 : decode cX7_init 65 = .ok (.iconst 1, 1) := dk_4 (dk_at dksX7_init_2 18 rfl rfl)
theorem dX7_init_66 : decode cX7_init 66 = .ok (.iconst 5, 1) := dk_8 (dk_at dksX7_init_2 19 rfl rfl)
theorem dX7_init_67 : decode cX7_init 67 = .ok (.iastore, 1) := dk_79 (dk_at dksX7_init_2 20 rfl rfl)
theorem dX7_init_68 : decode cX7_init 68 = .ok (.dup, 1) := dk_89 (dk_at dksX7_init_2 21 rfl rfl)
theorem dX7_init_69 : decode cX7_init 69 = .ok (.iconst 2, 1) := dk_5 (dk_at dksX7_init_2 22 rfl rfl)
theorem dX7_init_70 : decode cX7_init 70 = .ok (.bipush 9, 2) := dk_16 9 (dk_at dksX7_init_3 0 rfl rfl)
theorem dX7_init_72 : decode cX7_init 72 = .ok (.iastore, 1) := dk_79 (dk_at dksX7_init_3 2 rfl rfl)
theorem dX7_init_73 : decode cX7_init 73 = .ok (.dup, 1) := dk_89 (dk_at dksX7_init_3 3 rfl rfl)
theorem dX7_init_74 : decode cX7_init 74 = .ok (.iconst 3, 1) := dk_6 (dk_at dksX7_init_3 4 rfl rfl)
theorem dX7_init_75 : decode cX7_init 75 = .ok (.bipush 13, 2) := dk_16 13 (dk_at dksX7_init_3 5 rfl rfl)
theorem dX7_init_77 : decode cX7_init 77 = .ok (.iastore, 1) := dk_79 (dk_at dksX7_init_3 7 rfl rfl)
theorem dX7_init_78 : decode cX7_init 78 = .ok (.dup, 1) := dk_89 (dk_at dksX7_init_3 8 rfl rfl)
theorem dX7_init_79 : decode cX7_init 79 = .ok (.iconst 4, 1) := dk_7 (dk_at dksX7_init_3 9 rfl rfl)
theorem dX7_init_80 : decode cX7_init 80 = .ok (.bipush 16, 2) := dk_16 16 (dk_at dksX7_init_3 10 rfl rfl)
theorem dX7_init_82 : decode cX7_init 82 = .ok (.iastore, 1) := dk_79 (dk_at dksX7_init_3 12 rfl rfl)
theorem dX7_init_83 : decode cX7_init 83 = .ok (.dup, 1) := dk_89 (dk_at dksX7_init_3 13 rfl rfl)
theorem dX7_init_84 : decode cX7_init 84 = .ok (.iconst 5, 1) := dk_8 (dk_at dksX7_init_3 14 rfl rfl)
theorem dX7_init_85 : decode cX7_init 85 = .ok (.bipush 20, 2) := dk_16 20 (dk_at dksX7_init_3 15 rfl rfl)
theorem dX7_init_87 : decode cX7_init 87 = .ok (.iastore, 1) := dk_79 (dk_at dksX7_init_3 17 rfl rfl)
theorem dX7_init_88 : decode cX7_init 88 = .ok (.dup, 1) := dk_89 (dk_at dksX7_init_3 18 rfl rfl)
theorem dX7_init_89 : decode cX7_init 89 = .ok (.bipush 6, 2) := dk_16 6 (dk_at dksX7_init_3 19 rfl rfl)
theorem dX7_init_91 : decode cX7_init 91 = .ok (.bipush 25, 2) := dk_16 25 (dk_at dksX7_init_3 21 rfl rfl)
theorem dX7_init_93 : decode cX7_init 93 = .ok (.iastore, 1) := dk_79 (dk_at dksX7_init_3 23 rfl rfl)
theorem dX7_init_94 : decode cX7_init 94 = .ok (.dup, 1) := dk_89 (dk_at dksX7_init_4 0 rfl rfl)
theorem dX7_init_95 : decode cX7_init 95 = .ok (.bipush 7, 2) := dk_16 7 (dk_at dksX7_init_4 1 rfl rfl)
theorem dX7_init_97 : decode cX7_init 97 = .ok (.bipush 29, 2) := dk_16 29 (dk_at dksX7_init_4 3 rfl rfl)
theorem dX7_init_99 : decode cX7_init 99 = .ok (.iastore, 1) := dk_79 (dk_at dksX7_init_4 5 rfl rfl)
theorem dX7_init_100 : decode cX7_init 100 = .ok (.putfield 22, 3) := dk_181 0 22 (dk_at dksX7_init_4 6 rfl rfl)
theorem dX7_init_103 : decode cX7_init 103 = .ok (.aload_n 0, 1) := dk_42 (dk_at dksX7_init_4 9 rfl rfl)
theorem dX7_init_104 : decode cX7_init 104 = .ok (.bipush 29, 2) := dk_16 29 (dk_at dksX7_init_4 10 rfl rfl)
theorem dX7_init_106 : decode cX7_init 106 = .ok (.newarray .int, 2) := dk_188_10 (dk_at dksX7_init_4 12 rfl rfl)
theorem dX7_init_108 : decode cX7_init 108 = .ok (.dup, 1) := dk_89 (dk_at dksX7_init_4 14 rfl rfl)
theorem dX7_init_109 : decode cX7_init 109 = .ok (.iconst 0, 1) := dk_3 (dk_at dksX7_init_4 15 rfl rfl)
theorem dX7_init_110 : decode cX7_init 110 = .ok (.bipush 112, 2) := dk_16 112 (dk_at dksX7_init_4 16 rfl rfl)
theorem dX7_init_112 : decode cX7_init 112 = .ok (.iastore, 1) := dk_79 (dk_at dksX7_init_4 18 rfl rfl)
theorem dX7_init_113 : decode cX7_init 113 = .ok (.dup, 1) := dk_89 (dk_at dksX7_init_4 19 rfl rfl)
theorem dX7_init_114 : decode cX7_init 114 = .ok (.iconst 1, 1) := dk_4 (dk_at dksX7_init_4 20 rfl rfl)
theorem dX7_init_115 : decode cX7_init 115 = .ok (.bipush 108, 2) := dk_16 108 (dk_at dksX7_init_4 21 rfl rfl)
theorem dX7_init_117 : decode cX7_init 117 = .ok (.iastore, 1) := dk_79 (dk_at dksX7_init_4 23 rfl rfl)
theorem dX7_init_118 : decode cX7_init 118 = .ok (.dup, 1) := dk_89 (dk_at dksX7_init_5 0 rfl rfl)
theorem dX7_init_119 : decode cX7_init 119 = .ok (.iconst 2, 1) := dk_5 (dk_at dksX7_init_5 1 rfl rfl)
theorem dX7_init_120 : decode cX7_init 120 = .ok (.bipush 97, 2) := dk_16 97 (dk_at dksX7_init_5 2 rfl rfl)
theorem dX7_init_122 : decode cX7_init 122 = .ok (.iastore, 1) := dk_79 (dk_at dksX7_init_5 4 rfl rfl)
theorem dX7_init_123 : decode cX7_init 123 = .ok (.dup, 1) := dk_89 (dk_at dksX7_init_5 5 rfl rfl)
theorem dX7_init_124 : decode cX7_init 124 = .ok (.iconst 3, 1) := dk_6 (dk_at dksX7_init_5 6 rfl rfl)
theorem dX7_init_125 : decode cX7_init 125 = .ok (.bipush 105, 2) := dk_16 105 (dk_at dksX7_init_5 7 rfl rfl)
theorem dX7_init_127 : decode cX7_init 127 = .ok (.iastore, 1) := dk_79 (dk_at dksX7_init_5 9 rfl rfl)
theorem dX7_init_128 : decode cX7_init 128 = .ok (.dup, 1) := dk_89 (dk_at dksX7_init_5 10 rfl rfl)
theorem dX7_init_129 : decode cX7_init 129 = .ok (.iconst 4, 1) := dk_7 (dk_at dksX7_init_5 11 rfl rfl)
theorem dX7_init_130 : decode cX7_init 130 = .ok (.bipush 110, 2) := dk_16 110 (dk_at dksX7_init_5 12 rfl rfl)
theorem dX7_init_132 : decode cX7_init 132 = .ok (.iastore, 1) := dk_79 (dk_at dksX7_init_5 14 rfl rfl)
theorem dX7_init_133 : decode cX7_init 133 = .ok (.dup, 1) := dk_89 (dk_at dksX7_init_5 15 rfl rfl)
theorem dX7_init_134 : decode cX7_init 134 = .ok (.iconst 5, 1) := dk_8 (dk_at dksX7_init_5 16 rfl rfl)
theorem dX7_init_135 : decode cX7_init 135 = .ok (.bipush 115, 2) := dk_16 115 (dk_at dksX7_init_5 17 rfl rfl)
theorem dX7_init_137 : decode cX7_init 137 = .ok (.iastore, 1) := dk_79 (dk_at dksX7_init_5 19 rfl rfl)
theorem dX7_init_138 : decode cX7_init 138 = .ok (.dup, 1) := dk_89 (dk_at dksX7_init_5 20 rfl rfl)
theorem dX7_init_139 : decode cX7_init 139 = .ok (.bipush 6, 2) := dk_16 6 (dk_at dksX7_init_5 21 rfl rfl)
theorem dX7_init_141 : decode cX7_init 141 = .ok (.bipush 111, 2) := dk_16 111 (dk_at dksX7_init_6 0 rfl rfl)
theorem dX7_init_143 : decode cX7_init 143 = .ok (.iastore, 1) := dk_79 (dk_at dksX7_init_6 2 rfl rfl)
theorem dX7_init_144 : decode cX7_init 144 = .ok (.dup, 1) := dk_89 (dk_at dksX7_init_6 3 rfl rfl)
theorem dX7_init_145 : decode cX7_init 145 = .ok (.bipush 7, 2) := dk_16 7 (dk_at dksX7_init_6 4 rfl rfl)
theorem dX7_init_147 : decode cX7_init 147 = .ok (.bipush 102, 2) := dk_16 102 (dk_at dksX7_init_6 6 rfl rfl)
theorem dX7_init_149 : decode cX7_init 149 = .ok (.iastore, 1) := dk_79 (dk_at dksX7_init_6 8 rfl rfl)
theorem dX7_init_150 : decode cX7_init 150 = .ok (.dup, 1) := dk_89 (dk_at dksX7_init_6 9 rfl rfl)
theorem dX7_init_151 : decode cX7_init 151 = .ok (.bipush 8, 2) := dk_16 8 (dk_at dksX7_init_6 10 rfl rfl)
theorem dX7_init_153 : decode cX7_init 153 = .ok (.bipush 116, 2) := dk_16 116 (dk_at dksX7_init_6 12 rfl rfl)
theorem dX7_init_155 : decode cX7_init 155 = .ok (.iastore, 1) := dk_79 (dk_at dksX7_init_6 14 rfl rfl)
theorem dX7_init_156 : decode cX7_init 156 = .ok (.dup, 1) := dk_89 (dk_at dksX7_init_6 15 rfl rfl)
theorem dX7_init_157 : decode cX7_init 157 = .ok (.bipush 9, 2) := dk_16 9 (dk_at dksX7_init_6 16 rfl rfl)
theorem dX7_init_159 : decode cX7_init 159 = .ok (.bipush 115, 2) := dk_16 115 (dk_at dksX7_init_6 18 rfl rfl)
theorem dX7_init_161 : decode cX7_init 161 = .ok (.iastore, 1) := dk_79 (dk_at dksX7_init_6 20 rfl rfl)
theorem dX7_init_162 : decode cX7_init 162 = .ok (.dup, 1) := dk_89 (dk_at dksX7_init_6 21 rfl rfl)
theorem dX7_init_163 : decode cX7_init 163 = .ok (.bipush 10, 2) := dk_16 10 (dk_at dksX7_init_6 22 rfl rfl)
theorem dX7_init_165 : decode cX7_init 165 = .ok (.bipush 104, 2) := dk_16 104 (dk_at dksX7_init_7 0 rfl rfl)
theorem dX7_init_167 : decode cX7_init 167 = .ok (.iastore, 1) := dk_79 (dk_at dksX7_init_7 2 rfl rfl)
theorem dX7_init_168 : decode cX7_init 168 = .ok (.dup, 1) := dk_89 (dk_at dksX7_init_7 3 rfl rfl)
theorem dX7_init_169 : decode cX7_init 169 = .ok (.bipush 11, 2) := dk_16 11 (dk_at dksX7_init_7 4 rfl rfl)
theorem dX7_init_171 : decode cX7_init 171 = .ok (.bipush 97, 2) := dk_16 97 (dk_at dksX7_init_7 6 rfl rfl)
theorem dX7_init_173 : decode cX7_init 173 = .ok (.iastore, 1) := dk_79 (dk_at dksX7_init_7 8 rfl rfl)
theorem dX7_init_174 : decode cX7_init 174 = .ok (.dup, 1) := dk_89 (dk_at dksX7_init_7 9 rfl rfl)
theorem dX7_init_175 : decode cX7_init 175 = .ok (.bipush 12, 2) := dk_16 12 (dk_at dksX7_init_7 10 rfl rfl)
theorem dX7_init_177 : decode cX7_init 177 = .ok (.bipush 109, 2) := dk_16 109 (dk_at dksX7_init_7 12 rfl rfl)
theorem dX7_init_179 : decode cX7_init 179 = .ok (.iastore, 1) := dk_79 (dk_at dksX7_init_7 14 rfl rfl)
theorem dX7_init_180 : decode cX7_init 180 = .ok (.dup, 1) := dk_89 (dk_at dksX7_init_7 15 rfl rfl)
theorem dX7_init_181 : decode cX7_init 181 = .ok (.bipush 13, 2) := dk_16 13 (dk_at dksX7_init_7 16 rfl rfl)
theorem dX7_init_183 : decode cX7_init 183 = .ok (.bipush 100, 2) := dk_16 100 (dk_at dksX7_init_7 18 rfl rfl)
theorem dX7_init_185 : decode cX7_init 185 = .ok (.iastore, 1) := dk_79 (dk_at dksX7_init_7 20 rfl rfl)
theorem dX7_init_186 : decode cX7_init 186 = .ok (.dup, 1) := dk_89 (dk_at dksX7_init_7 21 rfl rfl)
theorem dX7_init_187 : decode cX7_init 187 = .ok (.bipush 14, 2) := dk_16 14 (dk_at dksX7_init_7 22 rfl rfl)
theorem dX7_init_189 : decode cX7_init 189 = .ok (.bipush 114, 2) := dk_16 114 (dk_at dksX7_init_8 0 rfl rfl)
theorem dX7_init_191 : decode cX7_init 191 = .ok (.iastore, 1) := dk_79 (dk_at dksX7_init_8 2 rfl rfl)
theorem dX7_init_192 : decode cX7_init 192 = .ok (.dup, 1) := dk_89 (dk_at dksX7_init_8 3 rfl rfl)
theorem dX7_init_193 : decode cX7_init 193 = .ok (.bipush 15, 2) := dk_16 15 (dk_at dksX7_init_8 4 rfl rfl)
theorem dX7_init_195 : decode cX7_init 195 = .ok (.bipush 121, 2) := dk_16 121 (dk_at dksX7_init_8 6 rfl rfl)
theorem dX7_init_197 : decode cX7_init 197 = .ok (.iastore, 1) := dk_79 (dk_at dksX7_init_8 8 rfl rfl)
theorem dX7_init_198 : decode cX7_init 198 = .ok (.dup, 1) := dk_89 (dk_at dksX7_init_8 9 rfl rfl)
theorem dX7_init_199 : decode cX7_init 199 = .ok (.bipush 16, 2) := dk_16 16 (dk_at dksX7_init_8 10 rfl rfl)
theorem dX7_init_201 : decode cX7_init 201 = .ok (.bipush 114, 2) := dk_16 114 (dk_at dksX7_init_8 12 rfl rfl)
theorem dX7_init_203 : decode cX7_init 203 = .ok (.iastore, 1) := dk_79 (dk_at dksX7_init_8 14 rfl rfl)
theorem dX7_init_204 : decode cX7_init 204 = .ok (.dup, 1) := dk_89 (dk_at dksX7_init_8 15 rfl rfl)
theorem dX7_init_205 : decode cX7_init 205 = .ok (.bipush 17, 2) := dk_16 17 (dk_at dksX7_init_8 16 rfl rfl)
theorem dX7_init_207 : decode cX7_init 207 = .ok (.bipush 111, 2) := dk_16 111 (dk_at dksX7_init_8 18 rfl rfl)
theorem dX7_init_209 : decode cX7_init 209 = .ok (.iastore, 1) := dk_79 (dk_at dksX7_init_8 20 rfl rfl)
theorem dX7_init_210 : decode cX7_init 210 = .ok (.dup, 1) := dk_89 (dk_at dksX7_init_8 21 rfl rfl)
theorem dX7_init_211 : decode cX7_init 211 = .ok (.bipush 18, 2) := dk_16 18 (dk_at dksX7_init_8 22 rfl rfl)
theorem dX7_init_213 : decode cX7_init 213 = .ok (.bipush 111, 2) := dk_16 111 (dk_at dksX7_init_9 0 rfl rfl)
theorem dX7_init_215 : decode cX7_init 215 = .ok (.iastore, 1) := dk_79 (dk_at dksX7_init_9 2 rfl rfl)
theorem dX7_init_216 : decode cX7_init 216 = .ok (.dup, 1) := dk_89 (dk_at dksX7_init_9 3 rfl rfl)
theorem dX7_init_217 : decode cX7_init 217 = .ok (.bipush 19, 2) := dk_16 19 (dk_at dksX7_init_9 4 rfl rfl)
theorem dX7_init_219 : decode cX7_init 219 = .ok (.bipush 109, 2) := dk_16 109 (dk_at dksX7_init_9 6 rfl rfl)
theorem dX7_init_221 : decode cX7_init 221 = .ok (.iastore, 1) := dk_79 (dk_at dksX7_init_9 8 rfl rfl)
theorem dX7_init_222 : decode cX7_init 222 = .ok (.dup, 1) := dk_89 (dk_at dksX7_init_9 9 rfl rfl)
theorem dX7_init_223 : decode cX7_init 223 = .ok (.bipush 20, 2) := dk_16 20 (dk_at dksX7_init_9 10 rfl rfl)
theorem dX7_init_225 : decode cX7_init 225 = .ok (.bipush 116, 2) := dk_16 116 (dk_at dksX7_init_9 12 rfl rfl)
theorem dX7_init_227 : decode cX7_init 227 = .ok (.iastore, 1) := dk_79 (dk_at dksX7_init_9 14 rfl rfl)
theorem dX7_init_228 : decode cX7_init 228 = .ok (.dup, 1) := dk_89 (dk_at dksX7_init_9 15 rfl rfl)
theorem dX7_init_229 : decode cX7_init 229 = .ok (.bipush 21, 2) := dk_16 21 (dk_at dksX7_init_9 16 rfl rfl)
theorem dX7_init_231 : decode cX7_init 231 = .ok (.bipush 104, 2) := dk_16 104 (dk_at dksX7_init_9 18 rfl rfl)
theorem dX7_init_233 : decode cX7_init 233 = .ok (.iastore, 1) := dk_79 (dk_at dksX7_init_9 20 rfl rfl)
theorem dX7_init_234 : decode cX7_init 234 = .ok (.dup, 1) := dk_89 (dk_at dksX7_init_9 21 rfl rfl)
theorem dX7_init_235 : decode cX7_init 235 = .ok (.bipush 22, 2) := dk_16 22 (dk_at dksX7_init_9 22 rfl rfl)
theorem dX7_init_237 : decode cX7_init 237 = .ok (.bipush 105, 2) := dk_16 105 (dk_at dksX7_init_10 0 rfl rfl)
theorem dX7_init_239 : decode cX7_init 239 = .ok (.iastore, 1) := dk_79 (dk_at dksX7_init_10 2 rfl rfl)
theorem dX7_init_240 : decode cX7_init 240 = .ok (.dup, 1) := dk_89 (dk_at dksX7_init_10 3 rfl rfl)
theorem dX7_init_241 : decode cX7_init 241 = .ok (.bipush 23, 2) := dk_16 23 (dk_at dksX7_init_10 4 rfl rfl)
theorem dX7_init_243 : decode cX7_init 243 = .ok (.bipush 110, 2) := dk_16 110 (dk_at dksX7_init_10 6 rfl rfl)
theorem dX7_init_245 : decode cX7_init 245 = .ok (.iastore, 1) := dk_79 (dk_at dksX7_init_10 8 rfl rfl)
theorem dX7_init_246 : decode cX7_init 246 = .ok (.dup, 1) := dk_89 (dk_at dksX7_init_10 9 rfl rfl)
theorem dX7_init_247 : decode cX7_init 247 = .ok (.bipush 24, 2) := dk_16 24 (dk_at dksX7_init_10 10 rfl rfl)
theorem dX7_init_249 : decode cX7_init 249 = .ok (.bipush 107, 2) := dk_16 107 (dk_at dksX7_init_10 12 rfl rfl)
theorem dX7_init_251 : decode cX7_init 251 = .ok (.iastore, 1) := dk_79 (dk_at dksX7_init_10 14 rfl rfl)
theorem dX7_init_252 : decode cX7_init 252 = .ok (.dup, 1) := dk_89 (dk_at dksX7_init_10 15 rfl rfl)
theorem dX7_init_253 : decode cX7_init 253 = .ok (.bipush 25, 2) := dk_16 25 (dk_at dksX7_init_10 16 rfl rfl)
theorem dX7_init_255 : decode cX7_init 255 = .ok (.bipush 112, 2) := dk_16 112 (dk_at dksX7_init_10 18 rfl rfl)
theorem dX7_init_257 : decode cX7_init 257 = .ok (.iastore, 1) := dk_79 (dk_at dksX7_init_10 20 rfl rfl)
theorem dX7_init_258 : decode cX7_init 258 = .ok (.dup, 1) := dk_89 (dk_at dksX7_init_10 21 rfl rfl)
theorem dX7_init_259 : decode cX7_init 259 = .ok (.bipush 26, 2) := dk_16 26 (dk_at dksX7_init_10 22 rfl rfl)
theorem dX7_init_261 : decode cX7_init 261 = .ok (.bipush 108, 2) := dk_16 108 (dk_at dksX7_init_11 0 rfl rfl)
theorem dX7_init_263 : decode cX7_init 263 = .ok (.iastore, 1) := dk_79 (dk_at dksX7_init_11 2 rfl rfl)
theorem dX7_init_264 : decode cX7_init 264 = .ok (.dup, 1) := dk_89 (dk_at dksX7_init_11 3 rfl rfl)
theorem dX7_init_265 : decode cX7_init 265 = .ok (.bipush 27, 2) := dk_16 27 (dk_at dksX7_init_11 4 rfl rfl)
theorem dX7_init_267 : decode cX7_init 267 = .ok (.bipush 97, 2) := dk_16 97 (dk_at dksX7_init_11 6 rfl rfl)
theorem dX7_init_269 : decode cX7_init 269 = .ok (.iastore, 1) := dk_79 (dk_at dksX7_init_11 8 rfl rfl)
theorem dX7_init_270 : decode cX7_init 270 = .ok (.dup, 1) := dk_89 (dk_at dksX7_init_11 9 rfl rfl)
theorem dX7_init_271 : decode cX7_init 271 = .ok (.bipush 28, 2) := dk_16 28 (dk_at dksX7_init_11 10 rfl rfl)
theorem dX7_init_273 : decode cX7_init 273 = .ok (.bipush 110, 2) := dk_16 110 (dk_at dksX7_init_11 12 rfl rfl)
theorem dX7_init_275 : decode cX7_init 275 = .ok (.iastore, 1) := dk_79 (dk_at dksX7_init_11 14 rfl rfl)
theorem dX7_init_276 : decode cX7_init 276 = .ok (.putfield 25, 3) := dk_181 0 25 (dk_at dksX7_init_11 15 rfl rfl)
theorem dX7_init_279 : decode cX7_init 279 = .ok (.aload_n 0, 1) := dk_42 (dk_at dksX7_init_11 18 rfl rfl)
theorem dX7_init_280 : decode cX7_init 280 = .ok (.bipush 12, 2) := dk_16 12 (dk_at dksX7_init_11 19 rfl rfl)
theorem dX7_init_282 : decode cX7_init 282 = .ok (.newarray .int, 2) := dk_188_10 (dk_at dksX7_init_11 21 rfl rfl)
theorem dX7_init_284 : decode cX7_init 284 = .ok (.putfield 28, 3) := dk_181 0 28 (dk_at dksX7_init_12 0 rfl rfl)
theorem dX7_init_287 : decode cX7_init 287 = .ok (.aload_n 0, 1) := dk_42 (dk_at dksX7_init_12 3 rfl rfl)
theorem dX7_init_288 : decode cX7_init 288 = .ok (.bipush 21, 2) := dk_16 21 (dk_at dksX7_init_12 4 rfl rfl)
theorem dX7_init_290 : decode cX7_init 290 = .ok (.newarray .int, 2) := dk_188_10 (dk_at dksX7_init_12 6 rfl rfl)
theorem dX7_init_292 : decode cX7_init 292 = .ok (.putfield 31, 3) := dk_181 0 31 (dk_at dksX7_init_12 8 rfl rfl)
theorem dX7_init_295 : decode cX7_init 295 = .ok (.aload_n 0, 1) := dk_42 (dk_at dksX7_init_12 11 rfl rfl)
theorem dX7_init_296 : decode cX7_init 296 = .ok (.iconst 2, 1) := dk_5 (dk_at dksX7_init_12 12 rfl rfl)
theorem dX7_init_297 : decode cX7_init 297 = .ok (.newarray .boolean, 2) := dk_188_4 (dk_at dksX7_init_12 13 rfl rfl)
theorem dX7_init_299 : decode cX7_init 299 = .ok (.putfield 34, 3) := dk_181 0 34 (dk_at dksX7_init_12 15 rfl rfl)
theorem dX7_init_302 : decode cX7_init 302 = .ok (.aload_n 0, 1) := dk_42 (dk_at dksX7_init_12 18 rfl rfl)
theorem dX7_init_303 : decode cX7_init 303 = .ok (.iconst 4, 1) := dk_7 (dk_at dksX7_init_12 19 rfl rfl)
theorem dX7_init_304 : decode cX7_init 304 = .ok (.newarray .int, 2) := dk_188_10 (dk_at dksX7_init_12 20 rfl rfl)
theorem dX7_init_306 : decode cX7_init 306 = .ok (.dup, 1) := dk_89 (dk_at dksX7_init_12 22 rfl rfl)
theorem dX7_init_307 : decode cX7_init 307 = .ok (.iconst 0, 1) := dk_3 (dk_at dksX7_init_12 23 rfl rfl)
theorem dX7_init_308 : decode cX7_init 308 = .ok (.bipush (-4), 2) := dk_16 252 (dk_at dksX7_init_13 0 rfl rfl)
theorem dX7_init_310 : decode cX7_init 310 = .ok (.iastore, 1) := dk_79 (dk_at dksX7_init_13 2 rfl rfl)
theorem dX7_init_311 : decode cX7_init 311 = .ok (.dup, 1) := dk_89 (dk_at dksX7_init_13 3 rfl rfl)
theorem dX7_init_312 : decode cX7_init 312 = .ok (.iconst 1, 1) := dk_4 (dk_at dksX7_init_13 4 rfl rfl)
theorem dX7_init_313 : decode cX7_init 313 = .ok (.bipush (-4), 2) := dk_16 252 (dk_at dksX7_init_13 5 rfl rfl)
theorem dX7_init_315 : decode cX7_init 315 = .ok (.iastore, 1) := dk_79 (dk_at dksX7_init_13 7 rfl rfl)
theorem dX7_init_316 : decode cX7_init 316 = .ok (.dup, 1) := dk_89 (dk_at dksX7_init_13 8 rfl rfl)
theorem dX7_init_317 : decode cX7_init 317 = .ok (.iconst 2, 1) := dk_5 (dk_at dksX7_init_13 9 rfl rfl)
theorem dX7_init_318 : decode cX7_init 318 = .ok (.bipush (-4), 2) := dk_16 252 (dk_at dksX7_init_13 10 rfl rfl)
theorem dX7_init_320 : decode cX7_init 320 = .ok (.iastore, 1) := dk_79 (dk_at dksX7_init_13 12 rfl rfl)
theorem dX7_init_321 : decode cX7_init 321 = .ok (.dup, 1) := dk_89 (dk_at dksX7_init_13 13 rfl rfl)
theorem dX7_init_322 : decode cX7_init 322 = .ok (.iconst 3, 1) := dk_6 (dk_at dksX7_init_13 14 rfl rfl)
theorem dX7_init_323 : decode cX7_init 323 = .ok (.bipush (-4), 2) := dk_16 252 (dk_at dksX7_init_13 15 rfl rfl)
theorem dX7_init_325 : decode cX7_init 325 = .ok (.iastore, 1) := dk_79 (dk_at dksX7_init_13 17 rfl rfl)
theorem dX7_init_326 : decode cX7_init 326 = .ok (.putfield 38, 3) := dk_181 0 38 (dk_at dksX7_init_13 18 rfl rfl)
theorem dX7_init_329 : decode cX7_init 329 = .ok (.aload_n 0, 1) := dk_42 (dk_at dksX7_init_13 21 rfl rfl)
theorem dX7_init_330 : decode cX7_init 330 = .ok (.iconst 4, 1) := dk_7 (dk_at dksX7_init_13 22 rfl rfl)
theorem dX7_init_331 : decode cX7_init 331 = .ok (.newarray .int, 2) := dk_188_10 (dk_at dksX7_init_14 0 rfl rfl)
theorem dX7_init_333 : decode cX7_init 333 = .ok (.putfield 41, 3) := dk_181 0 41 (dk_at dksX7_init_14 2 rfl rfl)
theorem dX7_init_336 : decode cX7_init 336 = .ok (.aload_n 0, 1) := dk_42 (dk_at dksX7_init_14 5 rfl rfl)
theorem dX7_init_337 : decode cX7_init 337 = .ok (.sipush 160, 3) := dk_17 0 160 (dk_at dksX7_init_14 6 rfl rfl)
theorem dX7_init_340 : decode cX7_init 340 = .ok (.newarray .int, 2) := dk_188_10 (dk_at dksX7_init_14 9 rfl rfl)
theorem dX7_init_342 : decode cX7_init 342 = .ok (.putfield 44, 3) := dk_181 0 44 (dk_at dksX7_init_14 11 rfl rfl)
theorem dX7_init_345 : decode cX7_init 345 = .ok (.return_, 1) := dk_177 (dk_at dksX7_init_14 14 rfl rfl)
abbrev cX7_feed : ByteArray := prog_11_method_4_code
def yX7_feed : MethodName := ⟨RX7, "feed", "(I)I"⟩
def dkwX7_feed_2 : List UInt8 := [180, 0, 53, 172]
abbrev dktX7_feed_2 : List UInt8 := dkwX7_feed_2 ++ []
def dkwX7_feed_1 : List UInt8 := [16, 253, 172, 42, 180, 0, 19, 42, 180, 0, 53, 27, 79, 42, 89, 180, 0, 53, 4, 96, 181, 0, 53, 42]
abbrev dktX7_feed_1 : List UInt8 := dkwX7_feed_1 ++ dktX7_feed_2
def dkwX7_feed_0 : List UInt8 := [27, 133, 9, 20, 0, 47, 184, 0, 49, 154, 0, 5, 2, 172, 42, 180, 0, 53, 17, 0, 160, 160, 0, 6]
abbrev dktX7_feed_0 : List UInt8 := dkwX7_feed_0 ++ dktX7_feed_1
theorem dksX7_feed_0 : cX7_feed.data.toList.drop 0 = dktX7_feed_0 := by decide +kernel
theorem dksX7_feed_1 : cX7_feed.data.toList.drop 24 = dktX7_feed_1 := dk_seg dksX7_feed_0 24 rfl rfl
theorem dksX7_feed_2 : cX7_feed.data.toList.drop 48 = dktX7_feed_2 := dk_seg dksX7_feed_1 24 rfl rfl
theorem dX7_feed_0 : decode cX7_feed 0 = .ok (.iload_n 1, 1) := dk_27 (dk_at dksX7_feed_0 0 rfl rfl)
theorem dX7_feed_1 : decode cX7_feed 1 = .ok (.i2l, 1) := dk_133 (dk_at dksX7_feed_0 1 rfl rfl)
theorem dX7_feed_2 : decode cX7_feed 2 = .ok (.lconst 0, 1) := dk_9 (dk_at dksX7_feed_0 2 rfl rfl)
theorem dX7_feed_3 : decode cX7_feed 3 = .ok (.ldc2_w 47, 3) := dk_20 0 47 (dk_at dksX7_feed_0 3 rfl rfl)
theorem dX7_feed_6 : decode cX7_feed 6 = .ok (.invokestatic 49, 3) := dk_184 0 49 (dk_at dksX7_feed_0 6 rfl rfl)
theorem dX7_feed_9 : decode cX7_feed 9 = .ok (.ifCond .ne 5, 3) := dk_154 0 5 (dk_at dksX7_feed_0 9 rfl rfl)
theorem dX7_feed_12 : decode cX7_feed 12 = .ok (.iconst (-1), 1) := dk_2 (dk_at dksX7_feed_0 12 rfl rfl)
theorem dX7_feed_13 : decode cX7_feed 13 = .ok (.ireturn, 1) := dk_172 (dk_at dksX7_feed_0 13 rfl rfl)
theorem dX7_feed_14 : decode cX7_feed 14 = .ok (.aload_n 0, 1) := dk_42 (dk_at dksX7_feed_0 14 rfl rfl)
theorem dX7_feed_15 : decode cX7_feed 15 = .ok (.getfield 53, 3) := dk_180 0 53 (dk_at dksX7_feed_0 15 rfl rfl)
theorem dX7_feed_18 : decode cX7_feed 18 = .ok (.sipush 160, 3) := dk_17 0 160 (dk_at dksX7_feed_0 18 rfl rfl)
theorem dX7_feed_21 : decode cX7_feed 21 = .ok (.if_icmp .ne 6, 3) := dk_160 0 6 (dk_at dksX7_feed_0 21 rfl rfl)
theorem dX7_feed_24 : decode cX7_feed 24 = .ok (.bipush (-3), 2) := dk_16 253 (dk_at dksX7_feed_1 0 rfl rfl)
theorem dX7_feed_26 : decode cX7_feed 26 = .ok (.ireturn, 1) := dk_172 (dk_at dksX7_feed_1 2 rfl rfl)
theorem dX7_feed_27 : decode cX7_feed 27 = .ok (.aload_n 0, 1) := dk_42 (dk_at dksX7_feed_1 3 rfl rfl)
theorem dX7_feed_28 : decode cX7_feed 28 = .ok (.getfield 19, 3) := dk_180 0 19 (dk_at dksX7_feed_1 4 rfl rfl)
theorem dX7_feed_31 : decode cX7_feed 31 = .ok (.aload_n 0, 1) := dk_42 (dk_at dksX7_feed_1 7 rfl rfl)
theorem dX7_feed_32 : decode cX7_feed 32 = .ok (.getfield 53, 3) := dk_180 0 53 (dk_at dksX7_feed_1 8 rfl rfl)
theorem dX7_feed_35 : decode cX7_feed 35 = .ok (.iload_n 1, 1) := dk_27 (dk_at dksX7_feed_1 11 rfl rfl)
theorem dX7_feed_36 : decode cX7_feed 36 = .ok (.iastore, 1) := dk_79 (dk_at dksX7_feed_1 12 rfl rfl)
theorem dX7_feed_37 : decode cX7_feed 37 = .ok (.aload_n 0, 1) := dk_42 (dk_at dksX7_feed_1 13 rfl rfl)
theorem dX7_feed_38 : decode cX7_feed 38 = .ok (.dup, 1) := dk_89 (dk_at dksX7_feed_1 14 rfl rfl)
theorem dX7_feed_39 : decode cX7_feed 39 = .ok (.getfield 53, 3) := dk_180 0 53 (dk_at dksX7_feed_1 15 rfl rfl)
theorem dX7_feed_42 : decode cX7_feed 42 = .ok (.iconst 1, 1) := dk_4 (dk_at dksX7_feed_1 18 rfl rfl)
theorem dX7_feed_43 : decode cX7_feed 43 = .ok (.iadd, 1) := dk_96 (dk_at dksX7_feed_1 19 rfl rfl)
theorem dX7_feed_44 : decode cX7_feed 44 = .ok (.putfield 53, 3) := dk_181 0 53 (dk_at dksX7_feed_1 20 rfl rfl)
theorem dX7_feed_47 : decode cX7_feed 47 = .ok (.aload_n 0, 1) := dk_42 (dk_at dksX7_feed_1 23 rfl rfl)
theorem dX7_feed_48 : decode cX7_feed 48 = .ok (.getfield 53, 3) := dk_180 0 53 (dk_at dksX7_feed_2 0 rfl rfl)
theorem dX7_feed_51 : decode cX7_feed 51 = .ok (.ireturn, 1) := dk_172 (dk_at dksX7_feed_2 3 rfl rfl)
abbrev cX7_in : ByteArray := prog_11_method_3_code
def yX7_in : MethodName := ⟨RX7, "in", "(JJJ)Z"⟩
def dkwX7_in_0 : List UInt8 := [30, 32, 148, 155, 0, 14, 30, 22, 4, 148, 157, 0, 7, 4, 167, 0, 4, 3, 172]
abbrev dktX7_in_0 : List UInt8 := dkwX7_in_0 ++ []
theorem dksX7_in_0 : cX7_in.data.toList.drop 0 = dktX7_in_0 := by decide +kernel
theorem dX7_in_0 : decode cX7_in 0 = .ok (.lload_n 0, 1) := dk_30 (dk_at dksX7_in_0 0 rfl rfl)
theorem dX7_in_1 : decode cX7_in 1 = .ok (.lload_n 2, 1) := dk_32 (dk_at dksX7_in_0 1 rfl rfl)
theorem dX7_in_2 : decode cX7_in 2 = .ok (.lcmp, 1) := dk_148 (dk_at dksX7_in_0 2 rfl rfl)
theorem dX7_in_3 : decode cX7_in 3 = .ok (.ifCond .lt 14, 3) := dk_155 0 14 (dk_at dksX7_in_0 3 rfl rfl)
theorem dX7_in_6 : decode cX7_in 6 = .ok (.lload_n 0, 1) := dk_30 (dk_at dksX7_in_0 6 rfl rfl)
theorem dX7_in_7 : decode cX7_in 7 = .ok (.lload 4, 2) := dk_22 4 (dk_at dksX7_in_0 7 rfl rfl)
theorem dX7_in_9 : decode cX7_in 9 = .ok (.lcmp, 1) := dk_148 (dk_at dksX7_in_0 9 rfl rfl)
theorem dX7_in_10 : decode cX7_in 10 = .ok (.ifCond .gt 7, 3) := dk_157 0 7 (dk_at dksX7_in_0 10 rfl rfl)
theorem dX7_in_13 : decode cX7_in 13 = .ok (.iconst 1, 1) := dk_4 (dk_at dksX7_in_0 13 rfl rfl)
theorem dX7_in_14 : decode cX7_in 14 = .ok (.goto 4, 3) := dk_167 0 4 (dk_at dksX7_in_0 14 rfl rfl)
theorem dX7_in_17 : decode cX7_in 17 = .ok (.iconst 0, 1) := dk_3 (dk_at dksX7_in_0 17 rfl rfl)
theorem dX7_in_18 : decode cX7_in 18 = .ok (.ireturn, 1) := dk_172 (dk_at dksX7_in_0 18 rfl rfl)
abbrev cX7_end : ByteArray := prog_11_method_5_code
def yX7_end : MethodName := ⟨RX7, "end", "(I)I"⟩
def dkwX7_end_1 : List UInt8 := [181, 0, 53, 28, 172]
abbrev dktX7_end_1 : List UInt8 := dkwX7_end_1 ++ []
def dkwX7_end_0 : List UInt8 := [27, 133, 9, 42, 180, 0, 53, 133, 184, 0, 49, 154, 0, 5, 2, 172, 42, 180, 0, 53, 61, 42, 27]
abbrev dktX7_end_0 : List UInt8 := dkwX7_end_0 ++ dktX7_end_1
theorem dksX7_end_0 : cX7_end.data.toList.drop 0 = dktX7_end_0 := by decide +kernel
theorem dksX7_end_1 : cX7_end.data.toList.drop 23 = dktX7_end_1 := dk_seg dksX7_end_0 23 rfl rfl
theorem dX7_end_0 : decode cX7_end 0 = .ok (.iload_n 1, 1) := dk_27 (dk_at dksX7_end_0 0 rfl rfl)
theorem dX7_end_1 : decode cX7_end 1 = .ok (.i2l, 1) := dk_133 (dk_at dksX7_end_0 1 rfl rfl)
theorem dX7_end_2 : decode cX7_end 2 = .ok (.lconst 0, 1) := dk_9 (dk_at dksX7_end_0 2 rfl rfl)
theorem dX7_end_3 : decode cX7_end 3 = .ok (.aload_n 0, 1) := dk_42 (dk_at dksX7_end_0 3 rfl rfl)
theorem dX7_end_4 : decode cX7_end 4 = .ok (.getfield 53, 3) := dk_180 0 53 (dk_at dksX7_end_0 4 rfl rfl)
theorem dX7_end_7 : decode cX7_end 7 = .ok (.i2l, 1) := dk_133 (dk_at dksX7_end_0 7 rfl rfl)
theorem dX7_end_8 : decode cX7_end 8 = .ok (.invokestatic 49, 3) := dk_184 0 49 (dk_at dksX7_end_0 8 rfl rfl)
theorem dX7_end_11 : decode cX7_end 11 = .ok (.ifCond .ne 5, 3) := dk_154 0 5 (dk_at dksX7_end_0 11 rfl rfl)
theorem dX7_end_14 : decode cX7_end 14 = .ok (.iconst (-1), 1) := dk_2 (dk_at dksX7_end_0 14 rfl rfl)
theorem dX7_end_15 : decode cX7_end 15 = .ok (.ireturn, 1) := dk_172 (dk_at dksX7_end_0 15 rfl rfl)
theorem dX7_end_16 : decode cX7_end 16 = .ok (.aload_n 0, 1) := dk_42 (dk_at dksX7_end_0 16 rfl rfl)
theorem dX7_end_17 : decode cX7_end 17 = .ok (.getfield 53, 3) := dk_180 0 53 (dk_at dksX7_end_0 17 rfl rfl)
theorem dX7_end_20 : decode cX7_end 20 = .ok (.istore_n 2, 1) := dk_61 (dk_at dksX7_end_0 20 rfl rfl)
theorem dX7_end_21 : decode cX7_end 21 = .ok (.aload_n 0, 1) := dk_42 (dk_at dksX7_end_0 21 rfl rfl)
theorem dX7_end_22 : decode cX7_end 22 = .ok (.iload_n 1, 1) := dk_27 (dk_at dksX7_end_0 22 rfl rfl)
theorem dX7_end_23 : decode cX7_end 23 = .ok (.putfield 53, 3) := dk_181 0 53 (dk_at dksX7_end_1 0 rfl rfl)
theorem dX7_end_26 : decode cX7_end 26 = .ok (.iload_n 2, 1) := dk_28 (dk_at dksX7_end_1 3 rfl rfl)
theorem dX7_end_27 : decode cX7_end 27 = .ok (.ireturn, 1) := dk_172 (dk_at dksX7_end_1 4 rfl rfl)
abbrev cX7_text : ByteArray := prog_11_method_14_code
def yX7_text : MethodName := ⟨RX7, "text", "()I"⟩
def dkwX7_text_7 : List UInt8 := [181, 0, 125, 42, 3, 181, 0, 128, 42, 180, 0, 34, 3, 3, 84, 42, 180, 0, 34, 4, 3, 84, 27, 172]
abbrev dktX7_text_7 : List UInt8 := dkwX7_text_7 ++ []
def dkwX7_text_6 : List UInt8 := [180, 0, 7, 28, 42, 180, 0, 16, 28, 46, 79, 132, 2, 1, 167, 255, 235, 42, 42, 180, 0, 101]
abbrev dktX7_text_6 : List UInt8 := dkwX7_text_6 ++ dktX7_text_7
def dkwX7_text_5 : List UInt8 := [180, 0, 57, 158, 0, 11, 16, 246, 42, 180, 0, 63, 100, 172, 3, 61, 28, 16, 28, 162, 0, 21, 42]
abbrev dktX7_text_5 : List UInt8 := dkwX7_text_5 ++ dktX7_text_6
def dkwX7_text_4 : List UInt8 := [161, 0, 9, 42, 16, 6, 182, 0, 87, 42, 3, 181, 0, 53, 42, 42, 180, 0, 57, 181, 0, 122, 42]
abbrev dktX7_text_4 : List UInt8 := dkwX7_text_4 ++ dktX7_text_5
def dkwX7_text_3 : List UInt8 := [182, 0, 119, 132, 1, 1, 167, 255, 235, 42, 180, 0, 57, 154, 0, 20, 42, 180, 0, 98, 42, 180, 0, 101]
abbrev dktX7_text_3 : List UInt8 := dkwX7_text_3 ++ dktX7_text_4
def dkwX7_text_2 : List UInt8 := [167, 255, 240, 42, 182, 0, 91, 42, 180, 0, 57, 154, 0, 20, 42, 180, 0, 66, 153, 0, 13, 42]
abbrev dktX7_text_2 : List UInt8 := dkwX7_text_2 ++ dktX7_text_3
def dkwX7_text_1 : List UInt8 := [181, 0, 98, 3, 60, 3, 61, 28, 16, 28, 162, 0, 16, 42, 180, 0, 16, 28, 3, 79, 132, 2, 1]
abbrev dktX7_text_1 : List UInt8 := dkwX7_text_1 ++ dktX7_text_2
def dkwX7_text_0 : List UInt8 := [42, 3, 181, 0, 57, 42, 3, 181, 0, 69, 42, 3, 181, 0, 101, 42, 3, 181, 0, 113, 42, 2]
abbrev dktX7_text_0 : List UInt8 := dkwX7_text_0 ++ dktX7_text_1
theorem dksX7_text_0 : cX7_text.data.toList.drop 0 = dktX7_text_0 := by decide +kernel
theorem dksX7_text_1 : cX7_text.data.toList.drop 22 = dktX7_text_1 := dk_seg dksX7_text_0 22 rfl rfl
theorem dksX7_text_2 : cX7_text.data.toList.drop 45 = dktX7_text_2 := dk_seg dksX7_text_1 23 rfl rfl
theorem dksX7_text_3 : cX7_text.data.toList.drop 67 = dktX7_text_3 := dk_seg dksX7_text_2 22 rfl rfl
theorem dksX7_text_4 : cX7_text.data.toList.drop 91 = dktX7_text_4 := dk_seg dksX7_text_3 24 rfl rfl
theorem dksX7_text_5 : cX7_text.data.toList.drop 114 = dktX7_text_5 := dk_seg dksX7_text_4 23 rfl rfl
theorem dksX7_text_6 : cX7_text.data.toList.drop 137 = dktX7_text_6 := dk_seg dksX7_text_5 23 rfl rfl
theorem dksX7_text_7 : cX7_text.data.toList.drop 159 = dktX7_text_7 := dk_seg dksX7_text_6 22 rfl rfl
theorem dX7_text_0 : decode cX7_text 0 = .ok (.aload_n 0, 1) := dk_42 (dk_at dksX7_text_0 0 rfl rfl)
theorem dX7_text_1 : decode cX7_text 1 = .ok (.iconst 0, 1) := dk_3 (dk_at dksX7_text_0 1 rfl rfl)
theorem dX7_text_2 : decode cX7_text 2 = .ok (.putfield 57, 3) := dk_181 0 57 (dk_at dksX7_text_0 2 rfl rfl)
theorem dX7_text_5 : decode cX7_text 5 = .ok (.aload_n 0, 1) := dk_42 (dk_at dksX7_text_0 5 rfl rfl)
theorem dX7_text_6 : decode cX7_text 6 = .ok (.iconst 0, 1) := dk_3 (dk_at dksX7_text_0 6 rfl rfl)
theorem dX7_text_7 : decode cX7_text 7 = .ok (.putfield 69, 3) := dk_181 0 69 (dk_at dksX7_text_0 7 rfl rfl)
theorem dX7_text_10 : decode cX7_text 10 = .ok (.aload_n 0, 1) := dk_42 (dk_at dksX7_text_0 10 rfl rfl)
theorem dX7_text_11 : decode cX7_text 11 = .ok (.iconst 0, 1) := dk_3 (dk_at dksX7_text_0 11 rfl rfl)
theorem dX7_text_12 : decode cX7_text 12 = .ok (.putfield 101, 3) := dk_181 0 101 (dk_at dksX7_text_0 12 rfl rfl)
theorem dX7_text_15 : decode cX7_text 15 = .ok (.aload_n 0, 1) := dk_42 (dk_at dksX7_text_0 15 rfl rfl)
theorem dX7_text_16 : decode cX7_text 16 = .ok (.iconst 0, 1) := dk_3 (dk_at dksX7_text_0 16 rfl rfl)
theorem dX7_text_17 : decode cX7_text 17 = .ok (.putfield 113, 3) := dk_181 0 113 (dk_at dksX7_text_0 17 rfl rfl)
theorem dX7_text_20 : decode cX7_text 20 = .ok (.aload_n 0, 1) := dk_42 (dk_at dksX7_text_0 20 rfl rfl)
theorem dX7_text_21 : decode cX7_text 21 = .ok (.iconst (-1), 1) := dk_2 (dk_at dksX7_text_0 21 rfl rfl)
theorem dX7_text_22 : decode cX7_text 22 = .ok (.putfield 98, 3) := dk_181 0 98 (dk_at dksX7_text_1 0 rfl rfl)
theorem dX7_text_25 : decode cX7_text 25 = .ok (.iconst 0, 1) := dk_3 (dk_at dksX7_text_1 3 rfl rfl)
theorem dX7_text_26 : decode cX7_text 26 = .ok (.istore_n 1, 1) := dk_60 (dk_at dksX7_text_1 4 rfl rfl)
theorem dX7_text_27 : decode cX7_text 27 = .ok (.iconst 0, 1) := dk_3 (dk_at dksX7_text_1 5 rfl rfl)
theorem dX7_text_28 : decode cX7_text 28 = .ok (.istore_n 2, 1) := dk_61 (dk_at dksX7_text_1 6 rfl rfl)
theorem dX7_text_29 : decode cX7_text 29 = .ok (.iload_n 2, 1) := dk_28 (dk_at dksX7_text_1 7 rfl rfl)
theorem dX7_text_30 : decode cX7_text 30 = .ok (.bipush 28, 2) := dk_16 28 (dk_at dksX7_text_1 8 rfl rfl)
theorem dX7_text_32 : decode cX7_text 32 = .ok (.if_icmp .ge 16, 3) := dk_162 0 16 (dk_at dksX7_text_1 10 rfl rfl)
theorem dX7_text_35 : decode cX7_text 35 = .ok (.aload_n 0, 1) := dk_42 (dk_at dksX7_text_1 13 rfl rfl)
theorem dX7_text_36 : decode cX7_text 36 = .ok (.getfield 16, 3) := dk_180 0 16 (dk_at dksX7_text_1 14 rfl rfl)
theorem dX7_text_39 : decode cX7_text 39 = .ok (.iload_n 2, 1) := dk_28 (dk_at dksX7_text_1 17 rfl rfl)
theorem dX7_text_40 : decode cX7_text 40 = .ok (.iconst 0, 1) := dk_3 (dk_at dksX7_text_1 18 rfl rfl)
theorem dX7_text_41 : decode cX7_text 41 = .ok (.iastore, 1) := dk_79 (dk_at dksX7_text_1 19 rfl rfl)
theorem dX7_text_42 : decode cX7_text 42 = .ok (.iinc 2 1, 3) := dk_132 2 1 (dk_at dksX7_text_1 20 rfl rfl)
theorem dX7_text_45 : decode cX7_text 45 = .ok (.goto (-16), 3) := dk_167 255 240 (dk_at dksX7_text_2 0 rfl rfl)
theorem dX7_text_48 : decode cX7_text 48 = .ok (.aload_n 0, 1) := dk_42 (dk_at dksX7_text_2 3 rfl rfl)
theorem dX7_text_49 : decode cX7_text 49 = .ok (.invokevirtual 91, 3) := dk_182 0 91 (dk_at dksX7_text_2 4 rfl rfl)
theorem dX7_text_52 : decode cX7_text 52 = .ok (.aload_n 0, 1) := dk_42 (dk_at dksX7_text_2 7 rfl rfl)
theorem dX7_text_53 : decode cX7_text 53 = .ok (.getfield 57, 3) := dk_180 0 57 (dk_at dksX7_text_2 8 rfl rfl)
theorem dX7_text_56 : decode cX7_text 56 = .ok (.ifCond .ne 20, 3) := dk_154 0 20 (dk_at dksX7_text_2 11 rfl rfl)
theorem dX7_text_59 : decode cX7_text 59 = .ok (.aload_n 0, 1) := dk_42 (dk_at dksX7_text_2 14 rfl rfl)
theorem dX7_text_60 : decode cX7_text 60 = .ok (.getfield 66, 3) := dk_180 0 66 (dk_at dksX7_text_2 15 rfl rfl)
theorem dX7_text_63 : decode cX7_text 63 = .ok (.ifCond .eq 13, 3) := dk_153 0 13 (dk_at dksX7_text_2 18 rfl rfl)
theorem dX7_text_66 : decode cX7_text 66 = .ok (.aload_n 0, 1) := dk_42 (dk_at dksX7_text_2 21 rfl rfl)
theorem dX7_text_67 : decode cX7_text 67 = .ok (.invokevirtual 119, 3) := dk_182 0 119 (dk_at dksX7_text_3 0 rfl rfl)
theorem dX7_text_70 : decode cX7_text 70 = .ok (.iinc 1 1, 3) := dk_132 1 1 (dk_at dksX7_text_3 3 rfl rfl)
theorem dX7_text_73 : decode cX7_text 73 = .ok (.goto (-21), 3) := dk_167 255 235 (dk_at dksX7_text_3 6 rfl rfl)
theorem dX7_text_76 : decode cX7_text 76 = .ok (.aload_n 0, 1) := dk_42 (dk_at dksX7_text_3 9 rfl rfl)
theorem dX7_text_77 : decode cX7_text 77 = .ok (.getfield 57, 3) := dk_180 0 57 (dk_at dksX7_text_3 10 rfl rfl)
theorem dX7_text_80 : decode cX7_text 80 = .ok (.ifCond .ne 20, 3) := dk_154 0 20 (dk_at dksX7_text_3 13 rfl rfl)
theorem dX7_text_83 : decode cX7_text 83 = .ok (.aload_n 0, 1) := dk_42 (dk_at dksX7_text_3 16 rfl rfl)
theorem dX7_text_84 : decode cX7_text 84 = .ok (.getfield 98, 3) := dk_180 0 98 (dk_at dksX7_text_3 17 rfl rfl)
theorem dX7_text_87 : decode cX7_text 87 = .ok (.aload_n 0, 1) := dk_42 (dk_at dksX7_text_3 20 rfl rfl)
theorem dX7_text_88 : decode cX7_text 88 = .ok (.getfield 101, 3) := dk_180 0 101 (dk_at dksX7_text_3 21 rfl rfl)
theorem dX7_text_91 : decode cX7_text 91 = .ok (.if_icmp .lt 9, 3) := dk_161 0 9 (dk_at dksX7_text_4 0 rfl rfl)
theorem dX7_text_94 : decode cX7_text 94 = .ok (.aload_n 0, 1) := dk_42 (dk_at dksX7_text_4 3 rfl rfl)
theorem dX7_text_95 : decode cX7_text 95 = .ok (.bipush 6, 2) := dk_16 6 (dk_at dksX7_text_4 4 rfl rfl)
theorem dX7_text_97 : decode cX7_text 97 = .ok (.invokevirtual 87, 3) := dk_182 0 87 (dk_at dksX7_text_4 6 rfl rfl)
theorem dX7_text_100 : decode cX7_text 100 = .ok (.aload_n 0, 1) := dk_42 (dk_at dksX7_text_4 9 rfl rfl)
theorem dX7_text_101 : decode cX7_text 101 = .ok (.iconst 0, 1) := dk_3 (dk_at dksX7_text_4 10 rfl rfl)
theorem dX7_text_102 : decode cX7_text 102 = .ok (.putfield 53, 3) := dk_181 0 53 (dk_at dksX7_text_4 11 rfl rfl)
theorem dX7_text_105 : decode cX7_text 105 = .ok (.aload_n 0, 1) := dk_42 (dk_at dksX7_text_4 14 rfl rfl)
theorem dX7_text_106 : decode cX7_text 106 = .ok (.aload_n 0, 1) := dk_42 (dk_at dksX7_text_4 15 rfl rfl)
theorem dX7_text_107 : decode cX7_text 107 = .ok (.getfield 57, 3) := dk_180 0 57 (dk_at dksX7_text_4 16 rfl rfl)
theorem dX7_text_110 : decode cX7_text 110 = .ok (.putfield 122, 3) := dk_181 0 122 (dk_at dksX7_text_4 19 rfl rfl)
theorem dX7_text_113 : decode cX7_text 113 = .ok (.aload_n 0, 1) := dk_42 (dk_at dksX7_text_4 22 rfl rfl)
theorem dX7_text_114 : decode cX7_text 114 = .ok (.getfield 57, 3) := dk_180 0 57 (dk_at dksX7_text_5 0 rfl rfl)
theorem dX7_text_117 : decode cX7_text 117 = .ok (.ifCond .le 11, 3) := dk_158 0 11 (dk_at dksX7_text_5 3 rfl rfl)
theorem dX7_text_120 : decode cX7_text 120 = .ok (.bipush (-10), 2) := dk_16 246 (dk_at dksX7_text_5 6 rfl rfl)
theorem dX7_text_122 : decode cX7_text 122 = .ok (.aload_n 0, 1) := dk_42 (dk_at dksX7_text_5 8 rfl rfl)
theorem dX7_text_123 : decode cX7_text 123 = .ok (.getfield 63, 3) := dk_180 0 63 (dk_at dksX7_text_5 9 rfl rfl)
theorem dX7_text_126 : decode cX7_text 126 = .ok (.isub, 1) := dk_100 (dk_at dksX7_text_5 12 rfl rfl)
theorem dX7_text_127 : decode cX7_text 127 = .ok (.ireturn, 1) := dk_172 (dk_at dksX7_text_5 13 rfl rfl)
theorem dX7_text_128 : decode cX7_text 128 = .ok (.iconst 0, 1) := dk_3 (dk_at dksX7_text_5 14 rfl rfl)
theorem dX7_text_129 : decode cX7_text 129 = .ok (.istore_n 2, 1) := dk_61 (dk_at dksX7_text_5 15 rfl rfl)
theorem dX7_text_130 : decode cX7_text 130 = .ok (.iload_n 2, 1) := dk_28 (dk_at dksX7_text_5 16 rfl rfl)
theorem dX7_text_131 : decode cX7_text 131 = .ok (.bipush 28, 2) := dk_16 28 (dk_at dksX7_text_5 17 rfl rfl)
theorem dX7_text_133 : decode cX7_text 133 = .ok (.if_icmp .ge 21, 3) := dk_162 0 21 (dk_at dksX7_text_5 19 rfl rfl)
theorem dX7_text_136 : decode cX7_text 136 = .ok (.aload_n 0, 1) := dk_42 (dk_at dksX7_text_5 22 rfl rfl)
theorem dX7_text_137 : decode cX7_text 137 = .ok (.getfield 7, 3) := dk_180 0 7 (dk_at dksX7_text_6 0 rfl rfl)
theorem dX7_text_140 : decode cX7_text 140 = .ok (.iload_n 2, 1) := dk_28 (dk_at dksX7_text_6 3 rfl rfl)
theorem dX7_text_141 : decode cX7_text 141 = .ok (.aload_n 0, 1) := dk_42 (dk_at dksX7_text_6 4 rfl rfl)
theorem dX7_text_142 : decode cX7_text 142 = .ok (.getfield 16, 3) := dk_180 0 16 (dk_at dksX7_text_6 5 rfl rfl)
theorem dX7_text_145 : decode cX7_text 145 = .ok (.iload_n 2, 1) := dk_28 (dk_at dksX7_text_6 8 rfl rfl)
theorem dX7_text_146 : decode cX7_text 146 = .ok (.iaload, 1) := dk_46 (dk_at dksX7_text_6 9 rfl rfl)
theorem dX7_text_147 : decode cX7_text 147 = .ok (.iastore, 1) := dk_79 (dk_at dksX7_text_6 10 rfl rfl)
theorem dX7_text_148 : decode cX7_text 148 = .ok (.iinc 2 1, 3) := dk_132 2 1 (dk_at dksX7_text_6 11 rfl rfl)
theorem dX7_text_151 : decode cX7_text 151 = .ok (.goto (-21), 3) := dk_167 255 235 (dk_at dksX7_text_6 14 rfl rfl)
theorem dX7_text_154 : decode cX7_text 154 = .ok (.aload_n 0, 1) := dk_42 (dk_at dksX7_text_6 17 rfl rfl)
theorem dX7_text_155 : decode cX7_text 155 = .ok (.aload_n 0, 1) := dk_42 (dk_at dksX7_text_6 18 rfl rfl)
theorem dX7_text_156 : decode cX7_text 156 = .ok (.getfield 101, 3) := dk_180 0 101 (dk_at dksX7_text_6 19 rfl rfl)
theorem dX7_text_159 : decode cX7_text 159 = .ok (.putfield 125, 3) := dk_181 0 125 (dk_at dksX7_text_7 0 rfl rfl)
theorem dX7_text_162 : decode cX7_text 162 = .ok (.aload_n 0, 1) := dk_42 (dk_at dksX7_text_7 3 rfl rfl)
theorem dX7_text_163 : decode cX7_text 163 = .ok (.iconst 0, 1) := dk_3 (dk_at dksX7_text_7 4 rfl rfl)
theorem dX7_text_164 : decode cX7_text 164 = .ok (.putfield 128, 3) := dk_181 0 128 (dk_at dksX7_text_7 5 rfl rfl)
theorem dX7_text_167 : decode cX7_text 167 = .ok (.aload_n 0, 1) := dk_42 (dk_at dksX7_text_7 8 rfl rfl)
theorem dX7_text_168 : decode cX7_text 168 = .ok (.getfield 34, 3) := dk_180 0 34 (dk_at dksX7_text_7 9 rfl rfl)
theorem dX7_text_171 : decode cX7_text 171 = .ok (.iconst 0, 1) := dk_3 (dk_at dksX7_text_7 12 rfl rfl)
theorem dX7_text_172 : decode cX7_text 172 = .ok (.iconst 0, 1) := dk_3 (dk_at dksX7_text_7 13 rfl rfl)
theorem dX7_text_173 : decode cX7_text 173 = .ok (.bastore, 1) := dk_84 (dk_at dksX7_text_7 14 rfl rfl)
theorem dX7_text_174 : decode cX7_text 174 = .ok (.aload_n 0, 1) := dk_42 (dk_at dksX7_text_7 15 rfl rfl)
theorem dX7_text_175 : decode cX7_text 175 = .ok (.getfield 34, 3) := dk_180 0 34 (dk_at dksX7_text_7 16 rfl rfl)
theorem dX7_text_178 : decode cX7_text 178 = .ok (.iconst 1, 1) := dk_4 (dk_at dksX7_text_7 19 rfl rfl)
theorem dX7_text_179 : decode cX7_text 179 = .ok (.iconst 0, 1) := dk_3 (dk_at dksX7_text_7 20 rfl rfl)
theorem dX7_text_180 : decode cX7_text 180 = .ok (.bastore, 1) := dk_84 (dk_at dksX7_text_7 21 rfl rfl)
theorem dX7_text_181 : decode cX7_text 181 = .ok (.iload_n 1, 1) := dk_27 (dk_at dksX7_text_7 22 rfl rfl)
theorem dX7_text_182 : decode cX7_text 182 = .ok (.ireturn, 1) := dk_172 (dk_at dksX7_text_7 23 rfl rfl)
abbrev cX7_step : ByteArray := prog_11_method_9_code
def yX7_step : MethodName := ⟨RX7, "step", "()V"⟩
def dkwX7_step_11 : List UInt8 := [96, 181, 0, 69, 27, 16, 59, 159, 0, 8, 42, 4, 182, 0, 87, 177]
abbrev dktX7_step_11 : List UInt8 := dkwX7_step_11 ++ []
def dkwX7_step_10 : List UInt8 := [100, 5, 164, 0, 37, 42, 4, 182, 0, 87, 167, 0, 29, 42, 6, 181, 0, 66, 42, 89, 180, 0, 69, 4]
abbrev dktX7_step_10 : List UInt8 := dkwX7_step_10 ++ dktX7_step_11
def dkwX7_step_9 : List UInt8 := [180, 0, 69, 4, 96, 181, 0, 69, 167, 255, 182, 42, 5, 181, 0, 66, 42, 180, 0, 69, 42, 180, 0, 60]
abbrev dktX7_step_9 : List UInt8 := dkwX7_step_9 ++ dktX7_step_10
def dkwX7_step_8 : List UInt8 := [180, 0, 69, 182, 0, 72, 96, 16, 48, 100, 167, 0, 7, 42, 180, 0, 76, 181, 0, 76, 42, 89]
abbrev dktX7_step_8 : List UInt8 := dkwX7_step_8 ++ dktX7_step_9
def dkwX7_step_7 : List UInt8 := [42, 42, 180, 0, 69, 42, 180, 0, 60, 100, 5, 162, 0, 25, 16, 10, 42, 180, 0, 76, 104, 42, 42]
abbrev dktX7_step_7 : List UInt8 := dkwX7_step_7 ++ dktX7_step_8
def dkwX7_step_6 : List UInt8 := [153, 0, 106, 42, 42, 180, 0, 69, 182, 0, 72, 133, 20, 0, 83, 20, 0, 85, 184, 0, 49, 153, 0, 59]
abbrev dktX7_step_6 : List UInt8 := dkwX7_step_6 ++ dktX7_step_7
def dkwX7_step_5 : List UInt8 := [167, 255, 225, 42, 4, 181, 0, 66, 167, 0, 146, 27, 133, 20, 0, 83, 20, 0, 85, 184, 0, 49]
abbrev dktX7_step_5 : List UInt8 := dkwX7_step_5 ++ dktX7_step_6
def dkwX7_step_4 : List UInt8 := [20, 0, 79, 20, 0, 81, 184, 0, 49, 153, 0, 16, 42, 89, 180, 0, 69, 4, 96, 181, 0, 69]
abbrev dktX7_step_4 : List UInt8 := dkwX7_step_4 ++ dktX7_step_5
def dkwX7_step_3 : List UInt8 := [133, 20, 0, 79, 20, 0, 81, 184, 0, 49, 153, 0, 45, 42, 42, 180, 0, 69, 182, 0, 72, 133]
abbrev dktX7_step_3 : List UInt8 := dkwX7_step_3 ++ dktX7_step_4
def dkwX7_step_2 : List UInt8 := [182, 0, 72, 60, 42, 3, 181, 0, 76, 27, 16, 252, 160, 0, 11, 42, 3, 181, 0, 66, 167, 0, 202, 27]
abbrev dktX7_step_2 : List UInt8 := dkwX7_step_2 ++ dktX7_step_3
def dkwX7_step_1 : List UInt8 := [180, 0, 69, 4, 96, 181, 0, 69, 167, 255, 233, 42, 42, 180, 0, 69, 181, 0, 60, 42, 42, 180, 0, 69]
abbrev dktX7_step_1 : List UInt8 := dkwX7_step_1 ++ dktX7_step_2
def dkwX7_step_0 : List UInt8 := [42, 180, 0, 57, 158, 0, 4, 177, 42, 42, 180, 0, 69, 182, 0, 72, 16, 32, 160, 0, 16, 42, 89]
abbrev dktX7_step_0 : List UInt8 := dkwX7_step_0 ++ dktX7_step_1
theorem dksX7_step_0 : cX7_step.data.toList.drop 0 = dktX7_step_0 := by decide +kernel
theorem dksX7_step_1 : cX7_step.data.toList.drop 23 = dktX7_step_1 := dk_seg dksX7_step_0 23 rfl rfl
theorem dksX7_step_2 : cX7_step.data.toList.drop 47 = dktX7_step_2 := dk_seg dksX7_step_1 24 rfl rfl
theorem dksX7_step_3 : cX7_step.data.toList.drop 71 = dktX7_step_3 := dk_seg dksX7_step_2 24 rfl rfl
theorem dksX7_step_4 : cX7_step.data.toList.drop 93 = dktX7_step_4 := dk_seg dksX7_step_3 22 rfl rfl
theorem dksX7_step_5 : cX7_step.data.toList.drop 115 = dktX7_step_5 := dk_seg dksX7_step_4 22 rfl rfl
theorem dksX7_step_6 : cX7_step.data.toList.drop 137 = dktX7_step_6 := dk_seg dksX7_step_5 22 rfl rfl
theorem dksX7_step_7 : cX7_step.data.toList.drop 161 = dktX7_step_7 := dk_seg dksX7_step_6 24 rfl rfl
theorem dksX7_step_8 : cX7_step.data.toList.drop 184 = dktX7_step_8 := dk_seg dksX7_step_7 23 rfl rfl
theorem dksX7_step_9 : cX7_step.data.toList.drop 206 = dktX7_step_9 := dk_seg dksX7_step_8 22 rfl rfl
theorem dksX7_step_10 : cX7_step.data.toList.drop 230 = dktX7_step_10 := dk_seg dksX7_step_9 24 rfl rfl
theorem dksX7_step_11 : cX7_step.data.toList.drop 254 = dktX7_step_11 := dk_seg dksX7_step_10 24 rfl rfl
theorem dX7_step_0 : decode cX7_step 0 = .ok (.aload_n 0, 1) := dk_42 (dk_at dksX7_step_0 0 rfl rfl)
theorem dX7_step_1 : decode cX7_step 1 = .ok (.getfield 57, 3) := dk_180 0 57 (dk_at dksX7_step_0 1 rfl rfl)
theorem dX7_step_4 : decode cX7_step 4 = .ok (.ifCond .le 4, 3) := dk_158 0 4 (dk_at dksX7_step_0 4 rfl rfl)
theorem dX7_step_7 : decode cX7_step 7 = .ok (.return_, 1) := dk_177 (dk_at dksX7_step_0 7 rfl rfl)
theorem dX7_step_8 : decode cX7_step 8 = .ok (.aload_n 0, 1) := dk_42 (dk_at dksX7_step_0 8 rfl rfl)
theorem dX7_step_9 : decode cX7_step 9 = .ok (.aload_n 0, 1) := dk_42 (dk_at dksX7_step_0 9 rfl rfl)
theorem dX7_step_10 : decode cX7_step 10 = .ok (.getfield 69, 3) := dk_180 0 69 (dk_at dksX7_step_0 10 rfl rfl)
theorem dX7_step_13 : decode cX7_step 13 = .ok (.invokevirtual 72, 3) := dk_182 0 72 (dk_at dksX7_step_0 13 rfl rfl)
theorem dX7_step_16 : decode cX7_step 16 = .ok (.bipush 32, 2) := dk_16 32 (dk_at dksX7_step_0 16 rfl rfl)
theorem dX7_step_18 : decode cX7_step 18 = .ok (.if_icmp .ne 16, 3) := dk_160 0 16 (dk_at dksX7_step_0 18 rfl rfl)
theorem dX7_step_21 : decode cX7_step 21 = .ok (.aload_n 0, 1) := dk_42 (dk_at dksX7_step_0 21 rfl rfl)
theorem dX7_step_22 : decode cX7_step 22 = .ok (.dup, 1) := dk_89 (dk_at dksX7_step_0 22 rfl rfl)
theorem dX7_step_23 : decode cX7_step 23 = .ok (.getfield 69, 3) := dk_180 0 69 (dk_at dksX7_step_1 0 rfl rfl)
theorem dX7_step_26 : decode cX7_step 26 = .ok (.iconst 1, 1) := dk_4 (dk_at dksX7_step_1 3 rfl rfl)
theorem dX7_step_27 : decode cX7_step 27 = .ok (.iadd, 1) := dk_96 (dk_at dksX7_step_1 4 rfl rfl)
theorem dX7_step_28 : decode cX7_step 28 = .ok (.putfield 69, 3) := dk_181 0 69 (dk_at dksX7_step_1 5 rfl rfl)
theorem dX7_step_31 : decode cX7_step 31 = .ok (.goto (-23), 3) := dk_167 255 233 (dk_at dksX7_step_1 8 rfl rfl)
theorem dX7_step_34 : decode cX7_step 34 = .ok (.aload_n 0, 1) := dk_42 (dk_at dksX7_step_1 11 rfl rfl)
theorem dX7_step_35 : decode cX7_step 35 = .ok (.aload_n 0, 1) := dk_42 (dk_at dksX7_step_1 12 rfl rfl)
theorem dX7_step_36 : decode cX7_step 36 = .ok (.getfield 69, 3) := dk_180 0 69 (dk_at dksX7_step_1 13 rfl rfl)
theorem dX7_step_39 : decode cX7_step 39 = .ok (.putfield 60, 3) := dk_181 0 60 (dk_at dksX7_step_1 16 rfl rfl)
theorem dX7_step_42 : decode cX7_step 42 = .ok (.aload_n 0, 1) := dk_42 (dk_at dksX7_step_1 19 rfl rfl)
theorem dX7_step_43 : decode cX7_step 43 = .ok (.aload_n 0, 1) := dk_42 (dk_at dksX7_step_1 20 rfl rfl)
theorem dX7_step_44 : decode cX7_step 44 = .ok (.getfield 69, 3) := dk_180 0 69 (dk_at dksX7_step_1 21 rfl rfl)
theorem dX7_step_47 : decode cX7_step 47 = .ok (.invokevirtual 72, 3) := dk_182 0 72 (dk_at dksX7_step_2 0 rfl rfl)
theorem dX7_step_50 : decode cX7_step 50 = .ok (.istore_n 1, 1) := dk_60 (dk_at dksX7_step_2 3 rfl rfl)
theorem dX7_step_51 : decode cX7_step 51 = .ok (.aload_n 0, 1) := dk_42 (dk_at dksX7_step_2 4 rfl rfl)
theorem dX7_step_52 : decode cX7_step 52 = .ok (.iconst 0, 1) := dk_3 (dk_at dksX7_step_2 5 rfl rfl)
theorem dX7_step_53 : decode cX7_step 53 = .ok (.putfield 76, 3) := dk_181 0 76 (dk_at dksX7_step_2 6 rfl rfl)
theorem dX7_step_56 : decode cX7_step 56 = .ok (.iload_n 1, 1) := dk_27 (dk_at dksX7_step_2 9 rfl rfl)
theorem dX7_step_57 : decode cX7_step 57 = .ok (.bipush (-4), 2) := dk_16 252 (dk_at dksX7_step_2 10 rfl rfl)
theorem dX7_step_59 : decode cX7_step 59 = .ok (.if_icmp .ne 11, 3) := dk_160 0 11 (dk_at dksX7_step_2 12 rfl rfl)
theorem dX7_step_62 : decode cX7_step 62 = .ok (.aload_n 0, 1) := dk_42 (dk_at dksX7_step_2 15 rfl rfl)
theorem dX7_step_63 : decode cX7_step 63 = .ok (.iconst 0, 1) := dk_3 (dk_at dksX7_step_2 16 rfl rfl)
theorem dX7_step_64 : decode cX7_step 64 = .ok (.putfield 66, 3) := dk_181 0 66 (dk_at dksX7_step_2 17 rfl rfl)
theorem dX7_step_67 : decode cX7_step 67 = .ok (.goto 202, 3) := dk_167 0 202 (dk_at dksX7_step_2 20 rfl rfl)
theorem dX7_step_70 : decode cX7_step 70 = .ok (.iload_n 1, 1) := dk_27 (dk_at dksX7_step_2 23 rfl rfl)
theorem dX7_step_71 : decode cX7_step 71 = .ok (.i2l, 1) := dk_133 (dk_at dksX7_step_3 0 rfl rfl)
theorem dX7_step_72 : decode cX7_step 72 = .ok (.ldc2_w 79, 3) := dk_20 0 79 (dk_at dksX7_step_3 1 rfl rfl)
theorem dX7_step_75 : decode cX7_step 75 = .ok (.ldc2_w 81, 3) := dk_20 0 81 (dk_at dksX7_step_3 4 rfl rfl)
theorem dX7_step_78 : decode cX7_step 78 = .ok (.invokestatic 49, 3) := dk_184 0 49 (dk_at dksX7_step_3 7 rfl rfl)
theorem dX7_step_81 : decode cX7_step 81 = .ok (.ifCond .eq 45, 3) := dk_153 0 45 (dk_at dksX7_step_3 10 rfl rfl)
theorem dX7_step_84 : decode cX7_step 84 = .ok (.aload_n 0, 1) := dk_42 (dk_at dksX7_step_3 13 rfl rfl)
theorem dX7_step_85 : decode cX7_step 85 = .ok (.aload_n 0, 1) := dk_42 (dk_at dksX7_step_3 14 rfl rfl)
theorem dX7_step_86 : decode cX7_step 86 = .ok (.getfield 69, 3) := dk_180 0 69 (dk_at dksX7_step_3 15 rfl rfl)
theorem dX7_step_89 : decode cX7_step 89 = .ok (.invokevirtual 72, 3) := dk_182 0 72 (dk_at dksX7_step_3 18 rfl rfl)
theorem dX7_step_92 : decode cX7_step 92 = .ok (.i2l, 1) := dk_133 (dk_at dksX7_step_3 21 rfl rfl)
theorem dX7_step_93 : decode cX7_step 93 = .ok (.ldc2_w 79, 3) := dk_20 0 79 (dk_at dksX7_step_4 0 rfl rfl)
theorem dX7_step_96 : decode cX7_step 96 = .ok (.ldc2_w 81, 3) := dk_20 0 81 (dk_at dksX7_step_4 3 rfl rfl)
theorem dX7_step_99 : decode cX7_step 99 = .ok (.invokestatic 49, 3) := dk_184 0 49 (dk_at dksX7_step_4 6 rfl rfl)
theorem dX7_step_102 : decode cX7_step 102 = .ok (.ifCond .eq 16, 3) := dk_153 0 16 (dk_at dksX7_step_4 9 rfl rfl)
theorem dX7_step_105 : decode cX7_step 105 = .ok (.aload_n 0, 1) := dk_42 (dk_at dksX7_step_4 12 rfl rfl)
theorem dX7_step_106 : decode cX7_step 106 = .ok (.dup, 1) := dk_89 (dk_at dksX7_step_4 13 rfl rfl)
theorem dX7_step_107 : decode cX7_step 107 = .ok (.getfield 69, 3) := dk_180 0 69 (dk_at dksX7_step_4 14 rfl rfl)
theorem dX7_step_110 : decode cX7_step 110 = .ok (.iconst 1, 1) := dk_4 (dk_at dksX7_step_4 17 rfl rfl)
theorem dX7_step_111 : decode cX7_step 111 = .ok (.iadd, 1) := dk_96 (dk_at dksX7_step_4 18 rfl rfl)
theorem dX7_step_112 : decode cX7_step 112 = .ok (.putfield 69, 3) := dk_181 0 69 (dk_at dksX7_step_4 19 rfl rfl)
theorem dX7_step_115 : decode cX7_step 115 = .ok (.goto (-31), 3) := dk_167 255 225 (dk_at dksX7_step_5 0 rfl rfl)
theorem dX7_step_118 : decode cX7_step 118 = .ok (.aload_n 0, 1) := dk_42 (dk_at dksX7_step_5 3 rfl rfl)
theorem dX7_step_119 : decode cX7_step 119 = .ok (.iconst 1, 1) := dk_4 (dk_at dksX7_step_5 4 rfl rfl)
theorem dX7_step_120 : decode cX7_step 120 = .ok (.putfield 66, 3) := dk_181 0 66 (dk_at dksX7_step_5 5 rfl rfl)
theorem dX7_step_123 : decode cX7_step 123 = .ok (.goto 146, 3) := dk_167 0 146 (dk_at dksX7_step_5 8 rfl rfl)
theorem dX7_step_126 : decode cX7_step 126 = .ok (.iload_n 1, 1) := dk_27 (dk_at dksX7_step_5 11 rfl rfl)
theorem dX7_step_127 : decode cX7_step 127 = .ok (.i2l, 1) := dk_133 (dk_at dksX7_step_5 12 rfl rfl)
theorem dX7_step_128 : decode cX7_step 128 = .ok (.ldc2_w 83, 3) := dk_20 0 83 (dk_at dksX7_step_5 13 rfl rfl)
theorem dX7_step_131 : decode cX7_step 131 = .ok (.ldc2_w 85, 3) := dk_20 0 85 (dk_at dksX7_step_5 16 rfl rfl)
theorem dX7_step_134 : decode cX7_step 134 = .ok (.invokestatic 49, 3) := dk_184 0 49 (dk_at dksX7_step_5 19 rfl rfl)
theorem dX7_step_137 : decode cX7_step 137 = .ok (.ifCond .eq 106, 3) := dk_153 0 106 (dk_at dksX7_step_6 0 rfl rfl)
theorem dX7_step_140 : decode cX7_step 140 = .ok (.aload_n 0, 1) := dk_42 (dk_at dksX7_step_6 3 rfl rfl)
theorem dX7_step_141 : decode cX7_step 141 = .ok (.aload_n 0, 1) := dk_42 (dk_at dksX7_step_6 4 rfl rfl)
theorem dX7_step_142 : decode cX7_step 142 = .ok (.getfield 69, 3) := dk_180 0 69 (dk_at dksX7_step_6 5 rfl rfl)
theorem dX7_step_145 : decode cX7_step 145 = .ok (.invokevirtual 72, 3) := dk_182 0 72 (dk_at dksX7_step_6 8 rfl rfl)
theorem dX7_step_148 : decode cX7_step 148 = .ok (.i2l, 1) := dk_133 (dk_at dksX7_step_6 11 rfl rfl)
theorem dX7_step_149 : decode cX7_step 149 = .ok (.ldc2_w 83, 3) := dk_20 0 83 (dk_at dksX7_step_6 12 rfl rfl)
theorem dX7_step_152 : decode cX7_step 152 = .ok (.ldc2_w 85, 3) := dk_20 0 85 (dk_at dksX7_step_6 15 rfl rfl)
theorem dX7_step_155 : decode cX7_step 155 = .ok (.invokestatic 49, 3) := dk_184 0 49 (dk_at dksX7_step_6 18 rfl rfl)
theorem dX7_step_158 : decode cX7_step 158 = .ok (.ifCond .eq 59, 3) := dk_153 0 59 (dk_at dksX7_step_6 21 rfl rfl)
theorem dX7_step_161 : decode cX7_step 161 = .ok (.aload_n 0, 1) := dk_42 (dk_at dksX7_step_7 0 rfl rfl)
theorem dX7_step_162 : decode cX7_step 162 = .ok (.aload_n 0, 1) := dk_42 (dk_at dksX7_step_7 1 rfl rfl)
theorem dX7_step_163 : decode cX7_step 163 = .ok (.getfield 69, 3) := dk_180 0 69 (dk_at dksX7_step_7 2 rfl rfl)
theorem dX7_step_166 : decode cX7_step 166 = .ok (.aload_n 0, 1) := dk_42 (dk_at dksX7_step_7 5 rfl rfl)
theorem dX7_step_167 : decode cX7_step 167 = .ok (.getfield 60, 3) := dk_180 0 60 (dk_at dksX7_step_7 6 rfl rfl)
theorem dX7_step_170 : decode cX7_step 170 = .ok (.isub, 1) := dk_100 (dk_at dksX7_step_7 9 rfl rfl)
theorem dX7_step_171 : decode cX7_step 171 = .ok (.iconst 2, 1) := dk_5 (dk_at dksX7_step_7 10 rfl rfl)
theorem dX7_step_172 : decode cX7_step 172 = .ok (.if_icmp .ge 25, 3) := dk_162 0 25 (dk_at dksX7_step_7 11 rfl rfl)
theorem dX7_step_175 : decode cX7_step 175 = .ok (.bipush 10, 2) := dk_16 10 (dk_at dksX7_step_7 14 rfl rfl)
theorem dX7_step_177 : decode cX7_step 177 = .ok (.aload_n 0, 1) := dk_42 (dk_at dksX7_step_7 16 rfl rfl)
theorem dX7_step_178 : decode cX7_step 178 = .ok (.getfield 76, 3) := dk_180 0 76 (dk_at dksX7_step_7 17 rfl rfl)
theorem dX7_step_181 : decode cX7_step 181 = .ok (.imul, 1) := dk_104 (dk_at dksX7_step_7 20 rfl rfl)
theorem dX7_step_182 : decode cX7_step 182 = .ok (.aload_n 0, 1) := dk_42 (dk_at dksX7_step_7 21 rfl rfl)
theorem dX7_step_183 : decode cX7_step 183 = .ok (.aload_n 0, 1) := dk_42 (dk_at dksX7_step_7 22 rfl rfl)
theorem dX7_step_184 : decode cX7_step 184 = .ok (.getfield 69, 3) := dk_180 0 69 (dk_at dksX7_step_8 0 rfl rfl)
theorem dX7_step_187 : decode cX7_step 187 = .ok (.invokevirtual 72, 3) := dk_182 0 72 (dk_at dksX7_step_8 3 rfl rfl)
theorem dX7_step_190 : decode cX7_step 190 = .ok (.iadd, 1) := dk_96 (dk_at dksX7_step_8 6 rfl rfl)
theorem dX7_step_191 : decode cX7_step 191 = .ok (.bipush 48, 2) := dk_16 48 (dk_at dksX7_step_8 7 rfl rfl)
theorem dX7_step_193 : decode cX7_step 193 = .ok (.isub, 1) := dk_100 (dk_at dksX7_step_8 9 rfl rfl)
theorem dX7_step_194 : decode cX7_step 194 = .ok (.goto 7, 3) := dk_167 0 7 (dk_at dksX7_step_8 10 rfl rfl)
theorem dX7_step_197 : decode cX7_step 197 = .ok (.aload_n 0, 1) := dk_42 (dk_at dksX7_step_8 13 rfl rfl)
theorem dX7_step_198 : decode cX7_step 198 = .ok (.getfield 76, 3) := dk_180 0 76 (dk_at dksX7_step_8 14 rfl rfl)
theorem dX7_step_201 : decode cX7_step 201 = .ok (.putfield 76, 3) := dk_181 0 76 (dk_at dksX7_step_8 17 rfl rfl)
theorem dX7_step_204 : decode cX7_step 204 = .ok (.aload_n 0, 1) := dk_42 (dk_at dksX7_step_8 20 rfl rfl)
theorem dX7_step_205 : decode cX7_step 205 = .ok (.dup, 1) := dk_89 (dk_at dksX7_step_8 21 rfl rfl)
theorem dX7_step_206 : decode cX7_step 206 = .ok (.getfield 69, 3) := dk_180 0 69 (dk_at dksX7_step_9 0 rfl rfl)
theorem dX7_step_209 : decode cX7_step 209 = .ok (.iconst 1, 1) := dk_4 (dk_at dksX7_step_9 3 rfl rfl)
theorem dX7_step_210 : decode cX7_step 210 = .ok (.iadd, 1) := dk_96 (dk_at dksX7_step_9 4 rfl rfl)
theorem dX7_step_211 : decode cX7_step 211 = .ok (.putfield 69, 3) := dk_181 0 69 (dk_at dksX7_step_9 5 rfl rfl)
theorem dX7_step_214 : decode cX7_step 214 = .ok (.goto (-74), 3) := dk_167 255 182 (dk_at dksX7_step_9 8 rfl rfl)
theorem dX7_step_217 : decode cX7_step 217 = .ok (.aload_n 0, 1) := dk_42 (dk_at dksX7_step_9 11 rfl rfl)
theorem dX7_step_218 : decode cX7_step 218 = .ok (.iconst 2, 1) := dk_5 (dk_at dksX7_step_9 12 rfl rfl)
theorem dX7_step_219 : decode cX7_step 219 = .ok (.putfield 66, 3) := dk_181 0 66 (dk_at dksX7_step_9 13 rfl rfl)
theorem dX7_step_222 : decode cX7_step 222 = .ok (.aload_n 0, 1) := dk_42 (dk_at dksX7_step_9 16 rfl rfl)
theorem dX7_step_223 : decode cX7_step 223 = .ok (.getfield 69, 3) := dk_180 0 69 (dk_at dksX7_step_9 17 rfl rfl)
theorem dX7_step_226 : decode cX7_step 226 = .ok (.aload_n 0, 1) := dk_42 (dk_at dksX7_step_9 20 rfl rfl)
theorem dX7_step_227 : decode cX7_step 227 = .ok (.getfield 60, 3) := dk_180 0 60 (dk_at dksX7_step_9 21 rfl rfl)
theorem dX7_step_230 : decode cX7_step 230 = .ok (.isub, 1) := dk_100 (dk_at dksX7_step_10 0 rfl rfl)
theorem dX7_step_231 : decode cX7_step 231 = .ok (.iconst 2, 1) := dk_5 (dk_at dksX7_step_10 1 rfl rfl)
theorem dX7_step_232 : decode cX7_step 232 = .ok (.if_icmp .le 37, 3) := dk_164 0 37 (dk_at dksX7_step_10 2 rfl rfl)
theorem dX7_step_235 : decode cX7_step 235 = .ok (.aload_n 0, 1) := dk_42 (dk_at dksX7_step_10 5 rfl rfl)
theorem dX7_step_236 : decode cX7_step 236 = .ok (.iconst 1, 1) := dk_4 (dk_at dksX7_step_10 6 rfl rfl)
theorem dX7_step_237 : decode cX7_step 237 = .ok (.invokevirtual 87, 3) := dk_182 0 87 (dk_at dksX7_step_10 7 rfl rfl)
theorem dX7_step_240 : decode cX7_step 240 = .ok (.goto 29, 3) := dk_167 0 29 (dk_at dksX7_step_10 10 rfl rfl)
theorem dX7_step_243 : decode cX7_step 243 = .ok (.aload_n 0, 1) := dk_42 (dk_at dksX7_step_10 13 rfl rfl)
theorem dX7_step_244 : decode cX7_step 244 = .ok (.iconst 3, 1) := dk_6 (dk_at dksX7_step_10 14 rfl rfl)
theorem dX7_step_245 : decode cX7_step 245 = .ok (.putfield 66, 3) := dk_181 0 66 (dk_at dksX7_step_10 15 rfl rfl)
theorem dX7_step_248 : decode cX7_step 248 = .ok (.aload_n 0, 1) := dk_42 (dk_at dksX7_step_10 18 rfl rfl)
theorem dX7_step_249 : decode cX7_step 249 = .ok (.dup, 1) := dk_89 (dk_at dksX7_step_10 19 rfl rfl)
theorem dX7_step_250 : decode cX7_step 250 = .ok (.getfield 69, 3) := dk_180 0 69 (dk_at dksX7_step_10 20 rfl rfl)
theorem dX7_step_253 : decode cX7_step 253 = .ok (.iconst 1, 1) := dk_4 (dk_at dksX7_step_10 23 rfl rfl)
theorem dX7_step_254 : decode cX7_step 254 = .ok (.iadd, 1) := dk_96 (dk_at dksX7_step_11 0 rfl rfl)
theorem dX7_step_255 : decode cX7_step 255 = .ok (.putfield 69, 3) := dk_181 0 69 (dk_at dksX7_step_11 1 rfl rfl)
theorem dX7_step_258 : decode cX7_step 258 = .ok (.iload_n 1, 1) := dk_27 (dk_at dksX7_step_11 4 rfl rfl)
theorem dX7_step_259 : decode cX7_step 259 = .ok (.bipush 59, 2) := dk_16 59 (dk_at dksX7_step_11 5 rfl rfl)
theorem dX7_step_261 : decode cX7_step 261 = .ok (.if_icmp .eq 8, 3) := dk_159 0 8 (dk_at dksX7_step_11 7 rfl rfl)
theorem dX7_step_264 : decode cX7_step 264 = .ok (.aload_n 0, 1) := dk_42 (dk_at dksX7_step_11 10 rfl rfl)
theorem dX7_step_265 : decode cX7_step 265 = .ok (.iconst 1, 1) := dk_4 (dk_at dksX7_step_11 11 rfl rfl)
theorem dX7_step_266 : decode cX7_step 266 = .ok (.invokevirtual 87, 3) := dk_182 0 87 (dk_at dksX7_step_11 12 rfl rfl)
theorem dX7_step_269 : decode cX7_step 269 = .ok (.return_, 1) := dk_177 (dk_at dksX7_step_11 15 rfl rfl)
abbrev cX7_byteAt : ByteArray := prog_11_method_6_code
def yX7_byteAt : MethodName := ⟨RX7, "byteAt", "(I)I"⟩
def dkwX7_byteAt_0 : List UInt8 := [27, 42, 180, 0, 53, 162, 0, 12, 42, 180, 0, 19, 27, 46, 167, 0, 5, 16, 252, 172]
abbrev dktX7_byteAt_0 : List UInt8 := dkwX7_byteAt_0 ++ []
theorem dksX7_byteAt_0 : cX7_byteAt.data.toList.drop 0 = dktX7_byteAt_0 := by decide +kernel
theorem dX7_byteAt_0 : decode cX7_byteAt 0 = .ok (.iload_n 1, 1) := dk_27 (dk_at dksX7_byteAt_0 0 rfl rfl)
theorem dX7_byteAt_1 : decode cX7_byteAt 1 = .ok (.aload_n 0, 1) := dk_42 (dk_at dksX7_byteAt_0 1 rfl rfl)
theorem dX7_byteAt_2 : decode cX7_byteAt 2 = .ok (.getfield 53, 3) := dk_180 0 53 (dk_at dksX7_byteAt_0 2 rfl rfl)
theorem dX7_byteAt_5 : decode cX7_byteAt 5 = .ok (.if_icmp .ge 12, 3) := dk_162 0 12 (dk_at dksX7_byteAt_0 5 rfl rfl)
theorem dX7_byteAt_8 : decode cX7_byteAt 8 = .ok (.aload_n 0, 1) := dk_42 (dk_at dksX7_byteAt_0 8 rfl rfl)
theorem dX7_byteAt_9 : decode cX7_byteAt 9 = .ok (.getfield 19, 3) := dk_180 0 19 (dk_at dksX7_byteAt_0 9 rfl rfl)
theorem dX7_byteAt_12 : decode cX7_byteAt 12 = .ok (.iload_n 1, 1) := dk_27 (dk_at dksX7_byteAt_0 12 rfl rfl)
theorem dX7_byteAt_13 : decode cX7_byteAt 13 = .ok (.iaload, 1) := dk_46 (dk_at dksX7_byteAt_0 13 rfl rfl)
theorem dX7_byteAt_14 : decode cX7_byteAt 14 = .ok (.goto 5, 3) := dk_167 0 5 (dk_at dksX7_byteAt_0 14 rfl rfl)
theorem dX7_byteAt_17 : decode cX7_byteAt 17 = .ok (.bipush (-4), 2) := dk_16 252 (dk_at dksX7_byteAt_0 17 rfl rfl)
theorem dX7_byteAt_19 : decode cX7_byteAt 19 = .ok (.ireturn, 1) := dk_172 (dk_at dksX7_byteAt_0 19 rfl rfl)
abbrev cX7_fails : ByteArray := prog_11_method_7_code
def yX7_fails : MethodName := ⟨RX7, "fails", "(I)V"⟩
def dkwX7_fails_0 : List UInt8 := [42, 180, 0, 57, 154, 0, 16, 42, 27, 181, 0, 57, 42, 42, 180, 0, 60, 181, 0, 63, 177]
abbrev dktX7_fails_0 : List UInt8 := dkwX7_fails_0 ++ []
theorem dksX7_fails_0 : cX7_fails.data.toList.drop 0 = dktX7_fails_0 := by decide +kernel
theorem dX7_fails_0 : decode cX7_fails 0 = .ok (.aload_n 0, 1) := dk_42 (dk_at dksX7_fails_0 0 rfl rfl)
theorem dX7_fails_1 : decode cX7_fails 1 = .ok (.getfield 57, 3) := dk_180 0 57 (dk_at dksX7_fails_0 1 rfl rfl)
theorem dX7_fails_4 : decode cX7_fails 4 = .ok (.ifCond .ne 16, 3) := dk_154 0 16 (dk_at dksX7_fails_0 4 rfl rfl)
theorem dX7_fails_7 : decode cX7_fails 7 = .ok (.aload_n 0, 1) := dk_42 (dk_at dksX7_fails_0 7 rfl rfl)
theorem dX7_fails_8 : decode cX7_fails 8 = .ok (.iload_n 1, 1) := dk_27 (dk_at dksX7_fails_0 8 rfl rfl)
theorem dX7_fails_9 : decode cX7_fails 9 = .ok (.putfield 57, 3) := dk_181 0 57 (dk_at dksX7_fails_0 9 rfl rfl)
theorem dX7_fails_12 : decode cX7_fails 12 = .ok (.aload_n 0, 1) := dk_42 (dk_at dksX7_fails_0 12 rfl rfl)
theorem dX7_fails_13 : decode cX7_fails 13 = .ok (.aload_n 0, 1) := dk_42 (dk_at dksX7_fails_0 13 rfl rfl)
theorem dX7_fails_14 : decode cX7_fails 14 = .ok (.getfield 60, 3) := dk_180 0 60 (dk_at dksX7_fails_0 14 rfl rfl)
theorem dX7_fails_17 : decode cX7_fails 17 = .ok (.putfield 63, 3) := dk_181 0 63 (dk_at dksX7_fails_0 17 rfl rfl)
theorem dX7_fails_20 : decode cX7_fails 20 = .ok (.return_, 1) := dk_177 (dk_at dksX7_fails_0 20 rfl rfl)
abbrev cX7_readLine : ByteArray := prog_11_method_13_code
def yX7_readLine : MethodName := ⟨RX7, "readLine", "()V"⟩
def dkwX7_readLine_4 : List UInt8 := [180, 0, 57, 154, 0, 16, 42, 180, 0, 66, 6, 159, 0, 8, 42, 5, 182, 0, 87, 42, 182, 0, 91, 177]
abbrev dktX7_readLine_4 : List UInt8 := dkwX7_readLine_4 ++ []
def dkwX7_readLine_3 : List UInt8 := [128, 181, 0, 113, 42, 182, 0, 91, 42, 180, 0, 57, 158, 0, 4, 177, 42, 27, 182, 0, 116, 42]
abbrev dktX7_readLine_3 : List UInt8 := dkwX7_readLine_3 ++ dktX7_readLine_4
def dkwX7_readLine_2 : List UInt8 := [180, 0, 113, 27, 122, 4, 126, 4, 160, 0, 8, 42, 7, 182, 0, 87, 42, 89, 180, 0, 113, 4, 27, 120]
abbrev dktX7_readLine_2 : List UInt8 := dkwX7_readLine_2 ++ dktX7_readLine_3
def dkwX7_readLine_1 : List UInt8 := [6, 163, 0, 16, 42, 180, 0, 101, 8, 160, 0, 8, 42, 8, 182, 0, 87, 27, 7, 161, 0, 20, 42]
abbrev dktX7_readLine_1 : List UInt8 := dkwX7_readLine_1 ++ dktX7_readLine_2
def dkwX7_readLine_0 : List UInt8 := [42, 182, 0, 107, 60, 27, 133, 9, 20, 0, 111, 184, 0, 49, 154, 0, 9, 42, 5, 182, 0, 87, 177, 27]
abbrev dktX7_readLine_0 : List UInt8 := dkwX7_readLine_0 ++ dktX7_readLine_1
theorem dksX7_readLine_0 : cX7_readLine.data.toList.drop 0 = dktX7_readLine_0 := by decide +kernel
theorem dksX7_readLine_1 : cX7_readLine.data.toList.drop 24 = dktX7_readLine_1 := dk_seg dksX7_readLine_0 24 rfl rfl
theorem dksX7_readLine_2 : cX7_readLine.data.toList.drop 47 = dktX7_readLine_2 := dk_seg dksX7_readLine_1 23 rfl rfl
theorem dksX7_readLine_3 : cX7_readLine.data.toList.drop 71 = dktX7_readLine_3 := dk_seg dksX7_readLine_2 24 rfl rfl
theorem dksX7_readLine_4 : cX7_readLine.data.toList.drop 93 = dktX7_readLine_4 := dk_seg dksX7_readLine_3 22 rfl rfl
theorem dX7_readLine_0 : decode cX7_readLine 0 = .ok (.aload_n 0, 1) := dk_42 (dk_at dksX7_readLine_0 0 rfl rfl)
theorem dX7_readLine_1 : decode cX7_readLine 1 = .ok (.invokevirtual 107, 3) := dk_182 0 107 (dk_at dksX7_readLine_0 1 rfl rfl)
theorem dX7_readLine_4 : decode cX7_readLine 4 = .ok (.istore_n 1, 1) := dk_60 (dk_at dksX7_readLine_0 4 rfl rfl)
theorem dX7_readLine_5 : decode cX7_readLine 5 = .ok (.iload_n 1, 1) := dk_27 (dk_at dksX7_readLine_0 5 rfl rfl)
theorem dX7_readLine_6 : decode cX7_readLine 6 = .ok (.i2l, 1) := dk_133 (dk_at dksX7_readLine_0 6 rfl rfl)
theorem dX7_readLine_7 : decode cX7_readLine 7 = .ok (.lconst 0, 1) := dk_9 (dk_at dksX7_readLine_0 7 rfl rfl)
theorem dX7_readLine_8 : decode cX7_readLine 8 = .ok (.ldc2_w 111, 3) := dk_20 0 111 (dk_at dksX7_readLine_0 8 rfl rfl)
theorem dX7_readLine_11 : decode cX7_readLine 11 = .ok (.invokestatic 49, 3) := dk_184 0 49 (dk_at dksX7_readLine_0 11 rfl rfl)
theorem dX7_readLine_14 : decode cX7_readLine 14 = .ok (.ifCond .ne 9, 3) := dk_154 0 9 (dk_at dksX7_readLine_0 14 rfl rfl)
theorem dX7_readLine_17 : decode cX7_readLine 17 = .ok (.aload_n 0, 1) := dk_42 (dk_at dksX7_readLine_0 17 rfl rfl)
theorem dX7_readLine_18 : decode cX7_readLine 18 = .ok (.iconst 2, 1) := dk_5 (dk_at dksX7_readLine_0 18 rfl rfl)
theorem dX7_readLine_19 : decode cX7_readLine 19 = .ok (.invokevirtual 87, 3) := dk_182 0 87 (dk_at dksX7_readLine_0 19 rfl rfl)
theorem dX7_readLine_22 : decode cX7_readLine 22 = .ok (.return_, 1) := dk_177 (dk_at dksX7_readLine_0 22 rfl rfl)
theorem dX7_readLine_23 : decode cX7_readLine 23 = .ok (.iload_n 1, 1) := dk_27 (dk_at dksX7_readLine_0 23 rfl rfl)
theorem dX7_readLine_24 : decode cX7_readLine 24 = .ok (.iconst 3, 1) := dk_6 (dk_at dksX7_readLine_1 0 rfl rfl)
theorem dX7_readLine_25 : decode cX7_readLine 25 = .ok (.if_icmp .gt 16, 3) := dk_163 0 16 (dk_at dksX7_readLine_1 1 rfl rfl)
theorem dX7_readLine_28 : decode cX7_readLine 28 = .ok (.aload_n 0, 1) := dk_42 (dk_at dksX7_readLine_1 4 rfl rfl)
theorem dX7_readLine_29 : decode cX7_readLine 29 = .ok (.getfield 101, 3) := dk_180 0 101 (dk_at dksX7_readLine_1 5 rfl rfl)
theorem dX7_readLine_32 : decode cX7_readLine 32 = .ok (.iconst 5, 1) := dk_8 (dk_at dksX7_readLine_1 8 rfl rfl)
theorem dX7_readLine_33 : decode cX7_readLine 33 = .ok (.if_icmp .ne 8, 3) := dk_160 0 8 (dk_at dksX7_readLine_1 9 rfl rfl)
theorem dX7_readLine_36 : decode cX7_readLine 36 = .ok (.aload_n 0, 1) := dk_42 (dk_at dksX7_readLine_1 12 rfl rfl)
theorem dX7_readLine_37 : decode cX7_readLine 37 = .ok (.iconst 5, 1) := dk_8 (dk_at dksX7_readLine_1 13 rfl rfl)
theorem dX7_readLine_38 : decode cX7_readLine 38 = .ok (.invokevirtual 87, 3) := dk_182 0 87 (dk_at dksX7_readLine_1 14 rfl rfl)
theorem dX7_readLine_41 : decode cX7_readLine 41 = .ok (.iload_n 1, 1) := dk_27 (dk_at dksX7_readLine_1 17 rfl rfl)
theorem dX7_readLine_42 : decode cX7_readLine 42 = .ok (.iconst 4, 1) := dk_7 (dk_at dksX7_readLine_1 18 rfl rfl)
theorem dX7_readLine_43 : decode cX7_readLine 43 = .ok (.if_icmp .lt 20, 3) := dk_161 0 20 (dk_at dksX7_readLine_1 19 rfl rfl)
theorem dX7_readLine_46 : decode cX7_readLine 46 = .ok (.aload_n 0, 1) := dk_42 (dk_at dksX7_readLine_1 22 rfl rfl)
theorem dX7_readLine_47 : decode cX7_readLine 47 = .ok (.getfield 113, 3) := dk_180 0 113 (dk_at dksX7_readLine_2 0 rfl rfl)
theorem dX7_readLine_50 : decode cX7_readLine 50 = .ok (.iload_n 1, 1) := dk_27 (dk_at dksX7_readLine_2 3 rfl rfl)
theorem dX7_readLine_51 : decode cX7_readLine 51 = .ok (.ishr, 1) := dk_122 (dk_at dksX7_readLine_2 4 rfl rfl)
theorem dX7_readLine_52 : decode cX7_readLine 52 = .ok (.iconst 1, 1) := dk_4 (dk_at dksX7_readLine_2 5 rfl rfl)
theorem dX7_readLine_53 : decode cX7_readLine 53 = .ok (.iand, 1) := dk_126 (dk_at dksX7_readLine_2 6 rfl rfl)
theorem dX7_readLine_54 : decode cX7_readLine 54 = .ok (.iconst 1, 1) := dk_4 (dk_at dksX7_readLine_2 7 rfl rfl)
theorem dX7_readLine_55 : decode cX7_readLine 55 = .ok (.if_icmp .ne 8, 3) := dk_160 0 8 (dk_at dksX7_readLine_2 8 rfl rfl)
theorem dX7_readLine_58 : decode cX7_readLine 58 = .ok (.aload_n 0, 1) := dk_42 (dk_at dksX7_readLine_2 11 rfl rfl)
theorem dX7_readLine_59 : decode cX7_readLine 59 = .ok (.iconst 4, 1) := dk_7 (dk_at dksX7_readLine_2 12 rfl rfl)
theorem dX7_readLine_60 : decode cX7_readLine 60 = .ok (.invokevirtual 87, 3) := dk_182 0 87 (dk_at dksX7_readLine_2 13 rfl rfl)
theorem dX7_readLine_63 : decode cX7_readLine 63 = .ok (.aload_n 0, 1) := dk_42 (dk_at dksX7_readLine_2 16 rfl rfl)
theorem dX7_readLine_64 : decode cX7_readLine 64 = .ok (.dup, 1) := dk_89 (dk_at dksX7_readLine_2 17 rfl rfl)
theorem dX7_readLine_65 : decode cX7_readLine 65 = .ok (.getfield 113, 3) := dk_180 0 113 (dk_at dksX7_readLine_2 18 rfl rfl)
theorem dX7_readLine_68 : decode cX7_readLine 68 = .ok (.iconst 1, 1) := dk_4 (dk_at dksX7_readLine_2 21 rfl rfl)
theorem dX7_readLine_69 : decode cX7_readLine 69 = .ok (.iload_n 1, 1) := dk_27 (dk_at dksX7_readLine_2 22 rfl rfl)
theorem dX7_readLine_70 : decode cX7_readLine 70 = .ok (.ishl, 1) := dk_120 (dk_at dksX7_readLine_2 23 rfl rfl)
theorem dX7_readLine_71 : decode cX7_readLine 71 = .ok (.ior, 1) := dk_128 (dk_at dksX7_readLine_3 0 rfl rfl)
theorem dX7_readLine_72 : decode cX7_readLine 72 = .ok (.putfield 113, 3) := dk_181 0 113 (dk_at dksX7_readLine_3 1 rfl rfl)
theorem dX7_readLine_75 : decode cX7_readLine 75 = .ok (.aload_n 0, 1) := dk_42 (dk_at dksX7_readLine_3 4 rfl rfl)
theorem dX7_readLine_76 : decode cX7_readLine 76 = .ok (.invokevirtual 91, 3) := dk_182 0 91 (dk_at dksX7_readLine_3 5 rfl rfl)
theorem dX7_readLine_79 : decode cX7_readLine 79 = .ok (.aload_n 0, 1) := dk_42 (dk_at dksX7_readLine_3 8 rfl rfl)
theorem dX7_readLine_80 : decode cX7_readLine 80 = .ok (.getfield 57, 3) := dk_180 0 57 (dk_at dksX7_readLine_3 9 rfl rfl)
theorem dX7_readLine_83 : decode cX7_readLine 83 = .ok (.ifCond .le 4, 3) := dk_158 0 4 (dk_at dksX7_readLine_3 12 rfl rfl)
theorem dX7_readLine_86 : decode cX7_readLine 86 = .ok (.return_, 1) := dk_177 (dk_at dksX7_readLine_3 15 rfl rfl)
theorem dX7_readLine_87 : decode cX7_readLine 87 = .ok (.aload_n 0, 1) := dk_42 (dk_at dksX7_readLine_3 16 rfl rfl)
theorem dX7_readLine_88 : decode cX7_readLine 88 = .ok (.iload_n 1, 1) := dk_27 (dk_at dksX7_readLine_3 17 rfl rfl)
theorem dX7_readLine_89 : decode cX7_readLine 89 = .ok (.invokevirtual 116, 3) := dk_182 0 116 (dk_at dksX7_readLine_3 18 rfl rfl)
theorem dX7_readLine_92 : decode cX7_readLine 92 = .ok (.aload_n 0, 1) := dk_42 (dk_at dksX7_readLine_3 21 rfl rfl)
theorem dX7_readLine_93 : decode cX7_readLine 93 = .ok (.getfield 57, 3) := dk_180 0 57 (dk_at dksX7_readLine_4 0 rfl rfl)
theorem dX7_readLine_96 : decode cX7_readLine 96 = .ok (.ifCond .ne 16, 3) := dk_154 0 16 (dk_at dksX7_readLine_4 3 rfl rfl)
theorem dX7_readLine_99 : decode cX7_readLine 99 = .ok (.aload_n 0, 1) := dk_42 (dk_at dksX7_readLine_4 6 rfl rfl)
theorem dX7_readLine_100 : decode cX7_readLine 100 = .ok (.getfield 66, 3) := dk_180 0 66 (dk_at dksX7_readLine_4 7 rfl rfl)
theorem dX7_readLine_103 : decode cX7_readLine 103 = .ok (.iconst 3, 1) := dk_6 (dk_at dksX7_readLine_4 10 rfl rfl)
theorem dX7_readLine_104 : decode cX7_readLine 104 = .ok (.if_icmp .eq 8, 3) := dk_159 0 8 (dk_at dksX7_readLine_4 11 rfl rfl)
theorem dX7_readLine_107 : decode cX7_readLine 107 = .ok (.aload_n 0, 1) := dk_42 (dk_at dksX7_readLine_4 14 rfl rfl)
theorem dX7_readLine_108 : decode cX7_readLine 108 = .ok (.iconst 2, 1) := dk_5 (dk_at dksX7_readLine_4 15 rfl rfl)
theorem dX7_readLine_109 : decode cX7_readLine 109 = .ok (.invokevirtual 87, 3) := dk_182 0 87 (dk_at dksX7_readLine_4 16 rfl rfl)
theorem dX7_readLine_112 : decode cX7_readLine 112 = .ok (.aload_n 0, 1) := dk_42 (dk_at dksX7_readLine_4 19 rfl rfl)
theorem dX7_readLine_113 : decode cX7_readLine 113 = .ok (.invokevirtual 91, 3) := dk_182 0 91 (dk_at dksX7_readLine_4 20 rfl rfl)
theorem dX7_readLine_116 : decode cX7_readLine 116 = .ok (.return_, 1) := dk_177 (dk_at dksX7_readLine_4 23 rfl rfl)
abbrev cX7_nameHere : ByteArray := prog_11_method_8_code
def yX7_nameHere : MethodName := ⟨RX7, "nameHere", "()I"⟩
def dkwX7_nameHere_5 : List UInt8 := [16, 252, 172]
abbrev dktX7_nameHere_5 : List UInt8 := dkwX7_nameHere_5 ++ []
def dkwX7_nameHere_4 : List UInt8 := [4, 167, 0, 4, 3, 61, 132, 3, 1, 167, 255, 204, 28, 153, 0, 5, 27, 172, 132, 1, 1, 167, 255, 143]
abbrev dktX7_nameHere_4 : List UInt8 := dkwX7_nameHere_4 ++ dktX7_nameHere_5
def dkwX7_nameHere_3 : List UInt8 := [180, 0, 60, 29, 96, 182, 0, 72, 42, 180, 0, 25, 42, 180, 0, 22, 27, 46, 29, 96, 46, 160, 0, 7]
abbrev dktX7_nameHere_3 : List UInt8 := dkwX7_nameHere_3 ++ dktX7_nameHere_4
def dkwX7_nameHere_2 : List UInt8 := [61, 3, 62, 28, 153, 0, 54, 29, 42, 180, 0, 69, 42, 180, 0, 60, 100, 162, 0, 41, 42, 42]
abbrev dktX7_nameHere_2 : List UInt8 := dkwX7_nameHere_2 ++ dktX7_nameHere_3
def dkwX7_nameHere_1 : List UInt8 := [100, 42, 180, 0, 22, 27, 4, 96, 46, 42, 180, 0, 22, 27, 46, 100, 160, 0, 7, 4, 167, 0, 4, 3]
abbrev dktX7_nameHere_1 : List UInt8 := dkwX7_nameHere_1 ++ dktX7_nameHere_2
def dkwX7_nameHere_0 : List UInt8 := [3, 60, 27, 16, 7, 162, 0, 113, 42, 180, 0, 66, 4, 160, 0, 105, 42, 180, 0, 69, 42, 180, 0, 60]
abbrev dktX7_nameHere_0 : List UInt8 := dkwX7_nameHere_0 ++ dktX7_nameHere_1
theorem dksX7_nameHere_0 : cX7_nameHere.data.toList.drop 0 = dktX7_nameHere_0 := by decide +kernel
theorem dksX7_nameHere_1 : cX7_nameHere.data.toList.drop 24 = dktX7_nameHere_1 := dk_seg dksX7_nameHere_0 24 rfl rfl
theorem dksX7_nameHere_2 : cX7_nameHere.data.toList.drop 48 = dktX7_nameHere_2 := dk_seg dksX7_nameHere_1 24 rfl rfl
theorem dksX7_nameHere_3 : cX7_nameHere.data.toList.drop 70 = dktX7_nameHere_3 := dk_seg dksX7_nameHere_2 22 rfl rfl
theorem dksX7_nameHere_4 : cX7_nameHere.data.toList.drop 94 = dktX7_nameHere_4 := dk_seg dksX7_nameHere_3 24 rfl rfl
theorem dksX7_nameHere_5 : cX7_nameHere.data.toList.drop 118 = dktX7_nameHere_5 := dk_seg dksX7_nameHere_4 24 rfl rfl
theorem dX7_nameHere_0 : decode cX7_nameHere 0 = .ok (.iconst 0, 1) := dk_3 (dk_at dksX7_nameHere_0 0 rfl rfl)
theorem dX7_nameHere_1 : decode cX7_nameHere 1 = .ok (.istore_n 1, 1) := dk_60 (dk_at dksX7_nameHere_0 1 rfl rfl)
theorem dX7_nameHere_2 : decode cX7_nameHere 2 = .ok (.iload_n 1, 1) := dk_27 (dk_at dksX7_nameHere_0 2 rfl rfl)
theorem dX7_nameHere_3 : decode cX7_nameHere 3 = .ok (.bipush 7, 2) := dk_16 7 (dk_at dksX7_nameHere_0 3 rfl rfl)
theorem dX7_nameHere_5 : decode cX7_nameHere 5 = .ok (.if_icmp .ge 113, 3) := dk_162 0 113 (dk_at dksX7_nameHere_0 5 rfl rfl)
theorem dX7_nameHere_8 : decode cX7_nameHere 8 = .ok (.aload_n 0, 1) := dk_42 (dk_at dksX7_nameHere_0 8 rfl rfl)
theorem dX7_nameHere_9 : decode cX7_nameHere 9 = .ok (.getfield 66, 3) := dk_180 0 66 (dk_at dksX7_nameHere_0 9 rfl rfl)
theorem dX7_nameHere_12 : decode cX7_nameHere 12 = .ok (.iconst 1, 1) := dk_4 (dk_at dksX7_nameHere_0 12 rfl rfl)
theorem dX7_nameHere_13 : decode cX7_nameHere 13 = .ok (.if_icmp .ne 105, 3) := dk_160 0 105 (dk_at dksX7_nameHere_0 13 rfl rfl)
theorem dX7_nameHere_16 : decode cX7_nameHere 16 = .ok (.aload_n 0, 1) := dk_42 (dk_at dksX7_nameHere_0 16 rfl rfl)
theorem dX7_nameHere_17 : decode cX7_nameHere 17 = .ok (.getfield 69, 3) := dk_180 0 69 (dk_at dksX7_nameHere_0 17 rfl rfl)
theorem dX7_nameHere_20 : decode cX7_nameHere 20 = .ok (.aload_n 0, 1) := dk_42 (dk_at dksX7_nameHere_0 20 rfl rfl)
theorem dX7_nameHere_21 : decode cX7_nameHere 21 = .ok (.getfield 60, 3) := dk_180 0 60 (dk_at dksX7_nameHere_0 21 rfl rfl)
theorem dX7_nameHere_24 : decode cX7_nameHere 24 = .ok (.isub, 1) := dk_100 (dk_at dksX7_nameHere_1 0 rfl rfl)
theorem dX7_nameHere_25 : decode cX7_nameHere 25 = .ok (.aload_n 0, 1) := dk_42 (dk_at dksX7_nameHere_1 1 rfl rfl)
theorem dX7_nameHere_26 : decode cX7_nameHere 26 = .ok (.getfield 22, 3) := dk_180 0 22 (dk_at dksX7_nameHere_1 2 rfl rfl)
theorem dX7_nameHere_29 : decode cX7_nameHere 29 = .ok (.iload_n 1, 1) := dk_27 (dk_at dksX7_nameHere_1 5 rfl rfl)
theorem dX7_nameHere_30 : decode cX7_nameHere 30 = .ok (.iconst 1, 1) := dk_4 (dk_at dksX7_nameHere_1 6 rfl rfl)
theorem dX7_nameHere_31 : decode cX7_nameHere 31 = .ok (.iadd, 1) := dk_96 (dk_at dksX7_nameHere_1 7 rfl rfl)
theorem dX7_nameHere_32 : decode cX7_nameHere 32 = .ok (.iaload, 1) := dk_46 (dk_at dksX7_nameHere_1 8 rfl rfl)
theorem dX7_nameHere_33 : decode cX7_nameHere 33 = .ok (.aload_n 0, 1) := dk_42 (dk_at dksX7_nameHere_1 9 rfl rfl)
theorem dX7_nameHere_34 : decode cX7_nameHere 34 = .ok (.getfield 22, 3) := dk_180 0 22 (dk_at dksX7_nameHere_1 10 rfl rfl)
theorem dX7_nameHere_37 : decode cX7_nameHere 37 = .ok (.iload_n 1, 1) := dk_27 (dk_at dksX7_nameHere_1 13 rfl rfl)
theorem dX7_nameHere_38 : decode cX7_nameHere 38 = .ok (.iaload, 1) := dk_46 (dk_at dksX7_nameHere_1 14 rfl rfl)
theorem dX7_nameHere_39 : decode cX7_nameHere 39 = .ok (.isub, 1) := dk_100 (dk_at dksX7_nameHere_1 15 rfl rfl)
theorem dX7_nameHere_40 : decode cX7_nameHere 40 = .ok (.if_icmp .ne 7, 3) := dk_160 0 7 (dk_at dksX7_nameHere_1 16 rfl rfl)
theorem dX7_nameHere_43 : decode cX7_nameHere 43 = .ok (.iconst 1, 1) := dk_4 (dk_at dksX7_nameHere_1 19 rfl rfl)
theorem dX7_nameHere_44 : decode cX7_nameHere 44 = .ok (.goto 4, 3) := dk_167 0 4 (dk_at dksX7_nameHere_1 20 rfl rfl)
theorem dX7_nameHere_47 : decode cX7_nameHere 47 = .ok (.iconst 0, 1) := dk_3 (dk_at dksX7_nameHere_1 23 rfl rfl)
theorem dX7_nameHere_48 : decode cX7_nameHere 48 = .ok (.istore_n 2, 1) := dk_61 (dk_at dksX7_nameHere_2 0 rfl rfl)
theorem dX7_nameHere_49 : decode cX7_nameHere 49 = .ok (.iconst 0, 1) := dk_3 (dk_at dksX7_nameHere_2 1 rfl rfl)
theorem dX7_nameHere_50 : decode cX7_nameHere 50 = .ok (.istore_n 3, 1) := dk_62 (dk_at dksX7_nameHere_2 2 rfl rfl)
theorem dX7_nameHere_51 : decode cX7_nameHere 51 = .ok (.iload_n 2, 1) := dk_28 (dk_at dksX7_nameHere_2 3 rfl rfl)
theorem dX7_nameHere_52 : decode cX7_nameHere 52 = .ok (.ifCond .eq 54, 3) := dk_153 0 54 (dk_at dksX7_nameHere_2 4 rfl rfl)
theorem dX7_nameHere_55 : decode cX7_nameHere 55 = .ok (.iload_n 3, 1) := dk_29 (dk_at dksX7_nameHere_2 7 rfl rfl)
theorem dX7_nameHere_56 : decode cX7_nameHere 56 = .ok (.aload_n 0, 1) := dk_42 (dk_at dksX7_nameHere_2 8 rfl rfl)
theorem dX7_nameHere_57 : decode cX7_nameHere 57 = .ok (.getfield 69, 3) := dk_180 0 69 (dk_at dksX7_nameHere_2 9 rfl rfl)
theorem dX7_nameHere_60 : decode cX7_nameHere 60 = .ok (.aload_n 0, 1) := dk_42 (dk_at dksX7_nameHere_2 12 rfl rfl)
theorem dX7_nameHere_61 : decode cX7_nameHere 61 = .ok (.getfield 60, 3) := dk_180 0 60 (dk_at dksX7_nameHere_2 13 rfl rfl)
theorem dX7_nameHere_64 : decode cX7_nameHere 64 = .ok (.isub, 1) := dk_100 (dk_at dksX7_nameHere_2 16 rfl rfl)
theorem dX7_nameHere_65 : decode cX7_nameHere 65 = .ok (.if_icmp .ge 41, 3) := dk_162 0 41 (dk_at dksX7_nameHere_2 17 rfl rfl)
theorem dX7_nameHere_68 : decode cX7_nameHere 68 = .ok (.aload_n 0, 1) := dk_42 (dk_at dksX7_nameHere_2 20 rfl rfl)
theorem dX7_nameHere_69 : decode cX7_nameHere 69 = .ok (.aload_n 0, 1) := dk_42 (dk_at dksX7_nameHere_2 21 rfl rfl)
theorem dX7_nameHere_70 : decode cX7_nameHere 70 = .ok (.getfield 60, 3) := dk_180 0 60 (dk_at dksX7_nameHere_3 0 rfl rfl)
theorem dX7_nameHere_73 : decode cX7_nameHere 73 = .ok (.iload_n 3, 1) := dk_29 (dk_at dksX7_nameHere_3 3 rfl rfl)
theorem dX7_nameHere_74 : decode cX7_nameHere 74 = .ok (.iadd, 1) := dk_96 (dk_at dksX7_nameHere_3 4 rfl rfl)
theorem dX7_nameHere_75 : decode cX7_nameHere 75 = .ok (.invokevirtual 72, 3) := dk_182 0 72 (dk_at dksX7_nameHere_3 5 rfl rfl)
theorem dX7_nameHere_78 : decode cX7_nameHere 78 = .ok (.aload_n 0, 1) := dk_42 (dk_at dksX7_nameHere_3 8 rfl rfl)
theorem dX7_nameHere_79 : decode cX7_nameHere 79 = .ok (.getfield 25, 3) := dk_180 0 25 (dk_at dksX7_nameHere_3 9 rfl rfl)
theorem dX7_nameHere_82 : decode cX7_nameHere 82 = .ok (.aload_n 0, 1) := dk_42 (dk_at dksX7_nameHere_3 12 rfl rfl)
theorem dX7_nameHere_83 : decode cX7_nameHere 83 = .ok (.getfield 22, 3) := dk_180 0 22 (dk_at dksX7_nameHere_3 13 rfl rfl)
theorem dX7_nameHere_86 : decode cX7_nameHere 86 = .ok (.iload_n 1, 1) := dk_27 (dk_at dksX7_nameHere_3 16 rfl rfl)
theorem dX7_nameHere_87 : decode cX7_nameHere 87 = .ok (.iaload, 1) := dk_46 (dk_at dksX7_nameHere_3 17 rfl rfl)
theorem dX7_nameHere_88 : decode cX7_nameHere 88 = .ok (.iload_n 3, 1) := dk_29 (dk_at dksX7_nameHere_3 18 rfl rfl)
theorem dX7_nameHere_89 : decode cX7_nameHere 89 = .ok (.iadd, 1) := dk_96 (dk_at dksX7_nameHere_3 19 rfl rfl)
theorem dX7_nameHere_90 : decode cX7_nameHere 90 = .ok (.iaload, 1) := dk_46 (dk_at dksX7_nameHere_3 20 rfl rfl)
theorem dX7_nameHere_91 : decode cX7_nameHere 91 = .ok (.if_icmp .ne 7, 3) := dk_160 0 7 (dk_at dksX7_nameHere_3 21 rfl rfl)
theorem dX7_nameHere_94 : decode cX7_nameHere 94 = .ok (.iconst 1, 1) := dk_4 (dk_at dksX7_nameHere_4 0 rfl rfl)
theorem dX7_nameHere_95 : decode cX7_nameHere 95 = .ok (.goto 4, 3) := dk_167 0 4 (dk_at dksX7_nameHere_4 1 rfl rfl)
theorem dX7_nameHere_98 : decode cX7_nameHere 98 = .ok (.iconst 0, 1) := dk_3 (dk_at dksX7_nameHere_4 4 rfl rfl)
theorem dX7_nameHere_99 : decode cX7_nameHere 99 = .ok (.istore_n 2, 1) := dk_61 (dk_at dksX7_nameHere_4 5 rfl rfl)
theorem dX7_nameHere_100 : decode cX7_nameHere 100 = .ok (.iinc 3 1, 3) := dk_132 3 1 (dk_at dksX7_nameHere_4 6 rfl rfl)
theorem dX7_nameHere_103 : decode cX7_nameHere 103 = .ok (.goto (-52), 3) := dk_167 255 204 (dk_at dksX7_nameHere_4 9 rfl rfl)
theorem dX7_nameHere_106 : decode cX7_nameHere 106 = .ok (.iload_n 2, 1) := dk_28 (dk_at dksX7_nameHere_4 12 rfl rfl)
theorem dX7_nameHere_107 : decode cX7_nameHere 107 = .ok (.ifCond .eq 5, 3) := dk_153 0 5 (dk_at dksX7_nameHere_4 13 rfl rfl)
theorem dX7_nameHere_110 : decode cX7_nameHere 110 = .ok (.iload_n 1, 1) := dk_27 (dk_at dksX7_nameHere_4 16 rfl rfl)
theorem dX7_nameHere_111 : decode cX7_nameHere 111 = .ok (.ireturn, 1) := dk_172 (dk_at dksX7_nameHere_4 17 rfl rfl)
theorem dX7_nameHere_112 : decode cX7_nameHere 112 = .ok (.iinc 1 1, 3) := dk_132 1 1 (dk_at dksX7_nameHere_4 18 rfl rfl)
theorem dX7_nameHere_115 : decode cX7_nameHere 115 = .ok (.goto (-113), 3) := dk_167 255 143 (dk_at dksX7_nameHere_4 21 rfl rfl)
theorem dX7_nameHere_118 : decode cX7_nameHere 118 = .ok (.bipush (-4), 2) := dk_16 252 (dk_at dksX7_nameHere_5 0 rfl rfl)
theorem dX7_nameHere_120 : decode cX7_nameHere 120 = .ok (.ireturn, 1) := dk_172 (dk_at dksX7_nameHere_5 2 rfl rfl)
abbrev cX7_readMore : ByteArray := prog_11_method_12_code
def yX7_readMore : MethodName := ⟨RX7, "readMore", "(I)V"⟩
def dkwX7_readMore_4 : List UInt8 := [100, 79, 167, 0, 7, 42, 182, 0, 104, 177]
abbrev dktX7_readMore_4 : List UInt8 := dkwX7_readMore_4 ++ []
def dkwX7_readMore_3 : List UInt8 := [100, 79, 167, 0, 31, 27, 8, 160, 0, 22, 42, 180, 0, 16, 16, 18, 42, 4, 16, 9, 182, 0, 94, 7]
abbrev dktX7_readMore_3 : List UInt8 := dkwX7_readMore_3 ++ dktX7_readMore_4
def dkwX7_readMore_2 : List UInt8 := [181, 0, 101, 167, 0, 54, 27, 7, 160, 0, 21, 42, 180, 0, 16, 16, 17, 42, 4, 8, 182, 0, 94, 5]
abbrev dktX7_readMore_2 : List UInt8 := dkwX7_readMore_2 ++ dktX7_readMore_3
def dkwX7_readMore_1 : List UInt8 := [180, 0, 16, 8, 42, 180, 0, 101, 96, 42, 3, 16, 40, 182, 0, 94, 79, 42, 89, 180, 0, 101, 4, 96]
abbrev dktX7_readMore_1 : List UInt8 := dkwX7_readMore_1 ++ dktX7_readMore_2
def dkwX7_readMore_0 : List UInt8 := [27, 6, 163, 0, 52, 42, 180, 0, 16, 42, 180, 0, 101, 27, 79, 42, 180, 0, 66, 5, 160, 0, 21, 42]
abbrev dktX7_readMore_0 : List UInt8 := dkwX7_readMore_0 ++ dktX7_readMore_1
theorem dksX7_readMore_0 : cX7_readMore.data.toList.drop 0 = dktX7_readMore_0 := by decide +kernel
theorem dksX7_readMore_1 : cX7_readMore.data.toList.drop 24 = dktX7_readMore_1 := dk_seg dksX7_readMore_0 24 rfl rfl
theorem dksX7_readMore_2 : cX7_readMore.data.toList.drop 48 = dktX7_readMore_2 := dk_seg dksX7_readMore_1 24 rfl rfl
theorem dksX7_readMore_3 : cX7_readMore.data.toList.drop 72 = dktX7_readMore_3 := dk_seg dksX7_readMore_2 24 rfl rfl
theorem dksX7_readMore_4 : cX7_readMore.data.toList.drop 96 = dktX7_readMore_4 := dk_seg dksX7_readMore_3 24 rfl rfl
theorem dX7_readMore_0 : decode cX7_readMore 0 = .ok (.iload_n 1, 1) := dk_27 (dk_at dksX7_readMore_0 0 rfl rfl)
theorem dX7_readMore_1 : decode cX7_readMore 1 = .ok (.iconst 3, 1) := dk_6 (dk_at dksX7_readMore_0 1 rfl rfl)
theorem dX7_readMore_2 : decode cX7_readMore 2 = .ok (.if_icmp .gt 52, 3) := dk_163 0 52 (dk_at dksX7_readMore_0 2 rfl rfl)
theorem dX7_readMore_5 : decode cX7_readMore 5 = .ok (.aload_n 0, 1) := dk_42 (dk_at dksX7_readMore_0 5 rfl rfl)
theorem dX7_readMore_6 : decode cX7_readMore 6 = .ok (.getfield 16, 3) := dk_180 0 16 (dk_at dksX7_readMore_0 6 rfl rfl)
theorem dX7_readMore_9 : decode cX7_readMore 9 = .ok (.aload_n 0, 1) := dk_42 (dk_at dksX7_readMore_0 9 rfl rfl)
theorem dX7_readMore_10 : decode cX7_readMore 10 = .ok (.getfield 101, 3) := dk_180 0 101 (dk_at dksX7_readMore_0 10 rfl rfl)
theorem dX7_readMore_13 : decode cX7_readMore 13 = .ok (.iload_n 1, 1) := dk_27 (dk_at dksX7_readMore_0 13 rfl rfl)
theorem dX7_readMore_14 : decode cX7_readMore 14 = .ok (.iastore, 1) := dk_79 (dk_at dksX7_readMore_0 14 rfl rfl)
theorem dX7_readMore_15 : decode cX7_readMore 15 = .ok (.aload_n 0, 1) := dk_42 (dk_at dksX7_readMore_0 15 rfl rfl)
theorem dX7_readMore_16 : decode cX7_readMore 16 = .ok (.getfield 66, 3) := dk_180 0 66 (dk_at dksX7_readMore_0 16 rfl rfl)
theorem dX7_readMore_19 : decode cX7_readMore 19 = .ok (.iconst 2, 1) := dk_5 (dk_at dksX7_readMore_0 19 rfl rfl)
theorem dX7_readMore_20 : decode cX7_readMore 20 = .ok (.if_icmp .ne 21, 3) := dk_160 0 21 (dk_at dksX7_readMore_0 20 rfl rfl)
theorem dX7_readMore_23 : decode cX7_readMore 23 = .ok (.aload_n 0, 1) := dk_42 (dk_at dksX7_readMore_0 23 rfl rfl)
theorem dX7_readMore_24 : decode cX7_readMore 24 = .ok (.getfield 16, 3) := dk_180 0 16 (dk_at dksX7_readMore_1 0 rfl rfl)
theorem dX7_readMore_27 : decode cX7_readMore 27 = .ok (.iconst 5, 1) := dk_8 (dk_at dksX7_readMore_1 3 rfl rfl)
theorem dX7_readMore_28 : decode cX7_readMore 28 = .ok (.aload_n 0, 1) := dk_42 (dk_at dksX7_readMore_1 4 rfl rfl)
theorem dX7_readMore_29 : decode cX7_readMore 29 = .ok (.getfield 101, 3) := dk_180 0 101 (dk_at dksX7_readMore_1 5 rfl rfl)
theorem dX7_readMore_32 : decode cX7_readMore 32 = .ok (.iadd, 1) := dk_96 (dk_at dksX7_readMore_1 8 rfl rfl)
theorem dX7_readMore_33 : decode cX7_readMore 33 = .ok (.aload_n 0, 1) := dk_42 (dk_at dksX7_readMore_1 9 rfl rfl)
theorem dX7_readMore_34 : decode cX7_readMore 34 = .ok (.iconst 0, 1) := dk_3 (dk_at dksX7_readMore_1 10 rfl rfl)
theorem dX7_readMore_35 : decode cX7_readMore 35 = .ok (.bipush 40, 2) := dk_16 40 (dk_at dksX7_readMore_1 11 rfl rfl)
theorem dX7_readMore_37 : decode cX7_readMore 37 = .ok (.invokevirtual 94, 3) := dk_182 0 94 (dk_at dksX7_readMore_1 13 rfl rfl)
theorem dX7_readMore_40 : decode cX7_readMore 40 = .ok (.iastore, 1) := dk_79 (dk_at dksX7_readMore_1 16 rfl rfl)
theorem dX7_readMore_41 : decode cX7_readMore 41 = .ok (.aload_n 0, 1) := dk_42 (dk_at dksX7_readMore_1 17 rfl rfl)
theorem dX7_readMore_42 : decode cX7_readMore 42 = .ok (.dup, 1) := dk_89 (dk_at dksX7_readMore_1 18 rfl rfl)
theorem dX7_readMore_43 : decode cX7_readMore 43 = .ok (.getfield 101, 3) := dk_180 0 101 (dk_at dksX7_readMore_1 19 rfl rfl)
theorem dX7_readMore_46 : decode cX7_readMore 46 = .ok (.iconst 1, 1) := dk_4 (dk_at dksX7_readMore_1 22 rfl rfl)
theorem dX7_readMore_47 : decode cX7_readMore 47 = .ok (.iadd, 1) := dk_96 (dk_at dksX7_readMore_1 23 rfl rfl)
theorem dX7_readMore_48 : decode cX7_readMore 48 = .ok (.putfield 101, 3) := dk_181 0 101 (dk_at dksX7_readMore_2 0 rfl rfl)
theorem dX7_readMore_51 : decode cX7_readMore 51 = .ok (.goto 54, 3) := dk_167 0 54 (dk_at dksX7_readMore_2 3 rfl rfl)
theorem dX7_readMore_54 : decode cX7_readMore 54 = .ok (.iload_n 1, 1) := dk_27 (dk_at dksX7_readMore_2 6 rfl rfl)
theorem dX7_readMore_55 : decode cX7_readMore 55 = .ok (.iconst 4, 1) := dk_7 (dk_at dksX7_readMore_2 7 rfl rfl)
theorem dX7_readMore_56 : decode cX7_readMore 56 = .ok (.if_icmp .ne 21, 3) := dk_160 0 21 (dk_at dksX7_readMore_2 8 rfl rfl)
theorem dX7_readMore_59 : decode cX7_readMore 59 = .ok (.aload_n 0, 1) := dk_42 (dk_at dksX7_readMore_2 11 rfl rfl)
theorem dX7_readMore_60 : decode cX7_readMore 60 = .ok (.getfield 16, 3) := dk_180 0 16 (dk_at dksX7_readMore_2 12 rfl rfl)
theorem dX7_readMore_63 : decode cX7_readMore 63 = .ok (.bipush 17, 2) := dk_16 17 (dk_at dksX7_readMore_2 15 rfl rfl)
theorem dX7_readMore_65 : decode cX7_readMore 65 = .ok (.aload_n 0, 1) := dk_42 (dk_at dksX7_readMore_2 17 rfl rfl)
theorem dX7_readMore_66 : decode cX7_readMore 66 = .ok (.iconst 1, 1) := dk_4 (dk_at dksX7_readMore_2 18 rfl rfl)
theorem dX7_readMore_67 : decode cX7_readMore 67 = .ok (.iconst 5, 1) := dk_8 (dk_at dksX7_readMore_2 19 rfl rfl)
theorem dX7_readMore_68 : decode cX7_readMore 68 = .ok (.invokevirtual 94, 3) := dk_182 0 94 (dk_at dksX7_readMore_2 20 rfl rfl)
theorem dX7_readMore_71 : decode cX7_readMore 71 = .ok (.iconst 2, 1) := dk_5 (dk_at dksX7_readMore_2 23 rfl rfl)
theorem dX7_readMore_72 : decode cX7_readMore 72 = .ok (.isub, 1) := dk_100 (dk_at dksX7_readMore_3 0 rfl rfl)
theorem dX7_readMore_73 : decode cX7_readMore 73 = .ok (.iastore, 1) := dk_79 (dk_at dksX7_readMore_3 1 rfl rfl)
theorem dX7_readMore_74 : decode cX7_readMore 74 = .ok (.goto 31, 3) := dk_167 0 31 (dk_at dksX7_readMore_3 2 rfl rfl)
theorem dX7_readMore_77 : decode cX7_readMore 77 = .ok (.iload_n 1, 1) := dk_27 (dk_at dksX7_readMore_3 5 rfl rfl)
theorem dX7_readMore_78 : decode cX7_readMore 78 = .ok (.iconst 5, 1) := dk_8 (dk_at dksX7_readMore_3 6 rfl rfl)
theorem dX7_readMore_79 : decode cX7_readMore 79 = .ok (.if_icmp .ne 22, 3) := dk_160 0 22 (dk_at dksX7_readMore_3 7 rfl rfl)
theorem dX7_readMore_82 : decode cX7_readMore 82 = .ok (.aload_n 0, 1) := dk_42 (dk_at dksX7_readMore_3 10 rfl rfl)
theorem dX7_readMore_83 : decode cX7_readMore 83 = .ok (.getfield 16, 3) := dk_180 0 16 (dk_at dksX7_readMore_3 11 rfl rfl)
theorem dX7_readMore_86 : decode cX7_readMore 86 = .ok (.bipush 18, 2) := dk_16 18 (dk_at dksX7_readMore_3 14 rfl rfl)
theorem dX7_readMore_88 : decode cX7_readMore 88 = .ok (.aload_n 0, 1) := dk_42 (dk_at dksX7_readMore_3 16 rfl rfl)
theorem dX7_readMore_89 : decode cX7_readMore 89 = .ok (.iconst 1, 1) := dk_4 (dk_at dksX7_readMore_3 17 rfl rfl)
theorem dX7_readMore_90 : decode cX7_readMore 90 = .ok (.bipush 9, 2) := dk_16 9 (dk_at dksX7_readMore_3 18 rfl rfl)
theorem dX7_readMore_92 : decode cX7_readMore 92 = .ok (.invokevirtual 94, 3) := dk_182 0 94 (dk_at dksX7_readMore_3 20 rfl rfl)
theorem dX7_readMore_95 : decode cX7_readMore 95 = .ok (.iconst 4, 1) := dk_7 (dk_at dksX7_readMore_3 23 rfl rfl)
theorem dX7_readMore_96 : decode cX7_readMore 96 = .ok (.isub, 1) := dk_100 (dk_at dksX7_readMore_4 0 rfl rfl)
theorem dX7_readMore_97 : decode cX7_readMore 97 = .ok (.iastore, 1) := dk_79 (dk_at dksX7_readMore_4 1 rfl rfl)
theorem dX7_readMore_98 : decode cX7_readMore 98 = .ok (.goto 7, 3) := dk_167 0 7 (dk_at dksX7_readMore_4 2 rfl rfl)
theorem dX7_readMore_101 : decode cX7_readMore 101 = .ok (.aload_n 0, 1) := dk_42 (dk_at dksX7_readMore_4 5 rfl rfl)
theorem dX7_readMore_102 : decode cX7_readMore 102 = .ok (.invokevirtual 104, 3) := dk_182 0 104 (dk_at dksX7_readMore_4 6 rfl rfl)
theorem dX7_readMore_105 : decode cX7_readMore 105 = .ok (.return_, 1) := dk_177 (dk_at dksX7_readMore_4 9 rfl rfl)
abbrev cX7_number : ByteArray := prog_11_method_10_code
def yX7_number : MethodName := ⟨RX7, "number", "(II)I"⟩
def dkwX7_number_2 : List UInt8 := [180, 0, 57, 154, 0, 10, 42, 180, 0, 76, 167, 0, 4, 27, 62, 42, 182, 0, 91, 29, 172]
abbrev dktX7_number_2 : List UInt8 := dkwX7_number_2 ++ []
def dkwX7_number_1 : List UInt8 := [154, 0, 23, 42, 180, 0, 76, 133, 27, 133, 28, 133, 184, 0, 49, 154, 0, 8, 42, 6, 182, 0, 87, 42]
abbrev dktX7_number_1 : List UInt8 := dkwX7_number_1 ++ dktX7_number_2
def dkwX7_number_0 : List UInt8 := [42, 180, 0, 57, 154, 0, 16, 42, 180, 0, 66, 5, 159, 0, 8, 42, 5, 182, 0, 87, 42, 180, 0, 57]
abbrev dktX7_number_0 : List UInt8 := dkwX7_number_0 ++ dktX7_number_1
theorem dksX7_number_0 : cX7_number.data.toList.drop 0 = dktX7_number_0 := by decide +kernel
theorem dksX7_number_1 : cX7_number.data.toList.drop 24 = dktX7_number_1 := dk_seg dksX7_number_0 24 rfl rfl
theorem dksX7_number_2 : cX7_number.data.toList.drop 48 = dktX7_number_2 := dk_seg dksX7_number_1 24 rfl rfl
theorem dX7_number_0 : decode cX7_number 0 = .ok (.aload_n 0, 1) := dk_42 (dk_at dksX7_number_0 0 rfl rfl)
theorem dX7_number_1 : decode cX7_number 1 = .ok (.getfield 57, 3) := dk_180 0 57 (dk_at dksX7_number_0 1 rfl rfl)
theorem dX7_number_4 : decode cX7_number 4 = .ok (.ifCond .ne 16, 3) := dk_154 0 16 (dk_at dksX7_number_0 4 rfl rfl)
theorem dX7_number_7 : decode cX7_number 7 = .ok (.aload_n 0, 1) := dk_42 (dk_at dksX7_number_0 7 rfl rfl)
theorem dX7_number_8 : decode cX7_number 8 = .ok (.getfield 66, 3) := dk_180 0 66 (dk_at dksX7_number_0 8 rfl rfl)
theorem dX7_number_11 : decode cX7_number 11 = .ok (.iconst 2, 1) := dk_5 (dk_at dksX7_number_0 11 rfl rfl)
theorem dX7_number_12 : decode cX7_number 12 = .ok (.if_icmp .eq 8, 3) := dk_159 0 8 (dk_at dksX7_number_0 12 rfl rfl)
theorem dX7_number_15 : decode cX7_number 15 = .ok (.aload_n 0, 1) := dk_42 (dk_at dksX7_number_0 15 rfl rfl)
theorem dX7_number_16 : decode cX7_number 16 = .ok (.iconst 2, 1) := dk_5 (dk_at dksX7_number_0 16 rfl rfl)
theorem dX7_number_17 : decode cX7_number 17 = .ok (.invokevirtual 87, 3) := dk_182 0 87 (dk_at dksX7_number_0 17 rfl rfl)
theorem dX7_number_20 : decode cX7_number 20 = .ok (.aload_n 0, 1) := dk_42 (dk_at dksX7_number_0 20 rfl rfl)
theorem dX7_number_21 : decode cX7_number 21 = .ok (.getfield 57, 3) := dk_180 0 57 (dk_at dksX7_number_0 21 rfl rfl)
theorem dX7_number_24 : decode cX7_number 24 = .ok (.ifCond .ne 23, 3) := dk_154 0 23 (dk_at dksX7_number_1 0 rfl rfl)
theorem dX7_number_27 : decode cX7_number 27 = .ok (.aload_n 0, 1) := dk_42 (dk_at dksX7_number_1 3 rfl rfl)
theorem dX7_number_28 : decode cX7_number 28 = .ok (.getfield 76, 3) := dk_180 0 76 (dk_at dksX7_number_1 4 rfl rfl)
theorem dX7_number_31 : decode cX7_number 31 = .ok (.i2l, 1) := dk_133 (dk_at dksX7_number_1 7 rfl rfl)
theorem dX7_number_32 : decode cX7_number 32 = .ok (.iload_n 1, 1) := dk_27 (dk_at dksX7_number_1 8 rfl rfl)
theorem dX7_number_33 : decode cX7_number 33 = .ok (.i2l, 1) := dk_133 (dk_at dksX7_number_1 9 rfl rfl)
theorem dX7_number_34 : decode cX7_number 34 = .ok (.iload_n 2, 1) := dk_28 (dk_at dksX7_number_1 10 rfl rfl)
theorem dX7_number_35 : decode cX7_number 35 = .ok (.i2l, 1) := dk_133 (dk_at dksX7_number_1 11 rfl rfl)
theorem dX7_number_36 : decode cX7_number 36 = .ok (.invokestatic 49, 3) := dk_184 0 49 (dk_at dksX7_number_1 12 rfl rfl)
theorem dX7_number_39 : decode cX7_number 39 = .ok (.ifCond .ne 8, 3) := dk_154 0 8 (dk_at dksX7_number_1 15 rfl rfl)
theorem dX7_number_42 : decode cX7_number 42 = .ok (.aload_n 0, 1) := dk_42 (dk_at dksX7_number_1 18 rfl rfl)
theorem dX7_number_43 : decode cX7_number 43 = .ok (.iconst 3, 1) := dk_6 (dk_at dksX7_number_1 19 rfl rfl)
theorem dX7_number_44 : decode cX7_number 44 = .ok (.invokevirtual 87, 3) := dk_182 0 87 (dk_at dksX7_number_1 20 rfl rfl)
theorem dX7_number_47 : decode cX7_number 47 = .ok (.aload_n 0, 1) := dk_42 (dk_at dksX7_number_1 23 rfl rfl)
theorem dX7_number_48 : decode cX7_number 48 = .ok (.getfield 57, 3) := dk_180 0 57 (dk_at dksX7_number_2 0 rfl rfl)
theorem dX7_number_51 : decode cX7_number 51 = .ok (.ifCond .ne 10, 3) := dk_154 0 10 (dk_at dksX7_number_2 3 rfl rfl)
theorem dX7_number_54 : decode cX7_number 54 = .ok (.aload_n 0, 1) := dk_42 (dk_at dksX7_number_2 6 rfl rfl)
theorem dX7_number_55 : decode cX7_number 55 = .ok (.getfield 76, 3) := dk_180 0 76 (dk_at dksX7_number_2 7 rfl rfl)
theorem dX7_number_58 : decode cX7_number 58 = .ok (.goto 4, 3) := dk_167 0 4 (dk_at dksX7_number_2 10 rfl rfl)
theorem dX7_number_61 : decode cX7_number 61 = .ok (.iload_n 1, 1) := dk_27 (dk_at dksX7_number_2 13 rfl rfl)
theorem dX7_number_62 : decode cX7_number 62 = .ok (.istore_n 3, 1) := dk_62 (dk_at dksX7_number_2 14 rfl rfl)
theorem dX7_number_63 : decode cX7_number 63 = .ok (.aload_n 0, 1) := dk_42 (dk_at dksX7_number_2 15 rfl rfl)
theorem dX7_number_64 : decode cX7_number 64 = .ok (.invokevirtual 91, 3) := dk_182 0 91 (dk_at dksX7_number_2 16 rfl rfl)
theorem dX7_number_67 : decode cX7_number 67 = .ok (.iload_n 3, 1) := dk_29 (dk_at dksX7_number_2 19 rfl rfl)
theorem dX7_number_68 : decode cX7_number 68 = .ok (.ireturn, 1) := dk_172 (dk_at dksX7_number_2 20 rfl rfl)
abbrev cX7_readPlan : ByteArray := prog_11_method_11_code
def yX7_readPlan : MethodName := ⟨RX7, "readPlan", "()V"⟩
def dkwX7_readPlan_4 : List UInt8 := [96, 79, 167, 255, 161, 177]
abbrev dktX7_readPlan_4 : List UInt8 := dkwX7_readPlan_4 ++ []
def dkwX7_readPlan_3 : List UInt8 := [180, 0, 16, 16, 19, 42, 180, 0, 16, 16, 27, 46, 96, 27, 79, 42, 180, 0, 16, 16, 27, 92, 46, 4]
abbrev dktX7_readPlan_3 : List UInt8 := dkwX7_readPlan_3 ++ dktX7_readPlan_4
def dkwX7_readPlan_2 : List UInt8 := [162, 0, 15, 27, 42, 180, 0, 98, 164, 0, 7, 27, 167, 0, 7, 42, 180, 0, 98, 181, 0, 98, 42]
abbrev dktX7_readPlan_2 : List UInt8 := dkwX7_readPlan_2 ++ dktX7_readPlan_3
def dkwX7_readPlan_1 : List UInt8 := [160, 0, 11, 42, 8, 182, 0, 87, 167, 255, 224, 42, 3, 16, 6, 182, 0, 94, 60, 42, 27, 8]
abbrev dktX7_readPlan_1 : List UInt8 := dkwX7_readPlan_1 ++ dktX7_readPlan_2
def dkwX7_readPlan_0 : List UInt8 := [42, 180, 0, 57, 154, 0, 94, 42, 180, 0, 66, 5, 160, 0, 86, 42, 180, 0, 16, 16, 27, 46, 16, 8]
abbrev dktX7_readPlan_0 : List UInt8 := dkwX7_readPlan_0 ++ dktX7_readPlan_1
theorem dksX7_readPlan_0 : cX7_readPlan.data.toList.drop 0 = dktX7_readPlan_0 := by decide +kernel
theorem dksX7_readPlan_1 : cX7_readPlan.data.toList.drop 24 = dktX7_readPlan_1 := dk_seg dksX7_readPlan_0 24 rfl rfl
theorem dksX7_readPlan_2 : cX7_readPlan.data.toList.drop 46 = dktX7_readPlan_2 := dk_seg dksX7_readPlan_1 22 rfl rfl
theorem dksX7_readPlan_3 : cX7_readPlan.data.toList.drop 69 = dktX7_readPlan_3 := dk_seg dksX7_readPlan_2 23 rfl rfl
theorem dksX7_readPlan_4 : cX7_readPlan.data.toList.drop 93 = dktX7_readPlan_4 := dk_seg dksX7_readPlan_3 24 rfl rfl
theorem dX7_readPlan_0 : decode cX7_readPlan 0 = .ok (.aload_n 0, 1) := dk_42 (dk_at dksX7_readPlan_0 0 rfl rfl)
theorem dX7_readPlan_1 : decode cX7_readPlan 1 = .ok (.getfield 57, 3) := dk_180 0 57 (dk_at dksX7_readPlan_0 1 rfl rfl)
theorem dX7_readPlan_4 : decode cX7_readPlan 4 = .ok (.ifCond .ne 94, 3) := dk_154 0 94 (dk_at dksX7_readPlan_0 4 rfl rfl)
theorem dX7_readPlan_7 : decode cX7_readPlan 7 = .ok (.aload_n 0, 1) := dk_42 (dk_at dksX7_readPlan_0 7 rfl rfl)
theorem dX7_readPlan_8 : decode cX7_readPlan 8 = .ok (.getfield 66, 3) := dk_180 0 66 (dk_at dksX7_readPlan_0 8 rfl rfl)
theorem dX7_readPlan_11 : decode cX7_readPlan 11 = .ok (.iconst 2, 1) := dk_5 (dk_at dksX7_readPlan_0 11 rfl rfl)
theorem dX7_readPlan_12 : decode cX7_readPlan 12 = .ok (.if_icmp .ne 86, 3) := dk_160 0 86 (dk_at dksX7_readPlan_0 12 rfl rfl)
theorem dX7_readPlan_15 : decode cX7_readPlan 15 = .ok (.aload_n 0, 1) := dk_42 (dk_at dksX7_readPlan_0 15 rfl rfl)
theorem dX7_readPlan_16 : decode cX7_readPlan 16 = .ok (.getfield 16, 3) := dk_180 0 16 (dk_at dksX7_readPlan_0 16 rfl rfl)
theorem dX7_readPlan_19 : decode cX7_readPlan 19 = .ok (.bipush 27, 2) := dk_16 27 (dk_at dksX7_readPlan_0 19 rfl rfl)
theorem dX7_readPlan_21 : decode cX7_readPlan 21 = .ok (.iaload, 1) := dk_46 (dk_at dksX7_readPlan_0 21 rfl rfl)
theorem dX7_readPlan_22 : decode cX7_readPlan 22 = .ok (.bipush 8, 2) := dk_16 8 (dk_at dksX7_readPlan_0 22 rfl rfl)
theorem dX7_readPlan_24 : decode cX7_readPlan 24 = .ok (.if_icmp .ne 11, 3) := dk_160 0 11 (dk_at dksX7_readPlan_1 0 rfl rfl)
theorem dX7_readPlan_27 : decode cX7_readPlan 27 = .ok (.aload_n 0, 1) := dk_42 (dk_at dksX7_readPlan_1 3 rfl rfl)
theorem dX7_readPlan_28 : decode cX7_readPlan 28 = .ok (.iconst 5, 1) := dk_8 (dk_at dksX7_readPlan_1 4 rfl rfl)
theorem dX7_readPlan_29 : decode cX7_readPlan 29 = .ok (.invokevirtual 87, 3) := dk_182 0 87 (dk_at dksX7_readPlan_1 5 rfl rfl)
theorem dX7_readPlan_32 : decode cX7_readPlan 32 = .ok (.goto (-32), 3) := dk_167 255 224 (dk_at dksX7_readPlan_1 8 rfl rfl)
theorem dX7_readPlan_35 : decode cX7_readPlan 35 = .ok (.aload_n 0, 1) := dk_42 (dk_at dksX7_readPlan_1 11 rfl rfl)
theorem dX7_readPlan_36 : decode cX7_readPlan 36 = .ok (.iconst 0, 1) := dk_3 (dk_at dksX7_readPlan_1 12 rfl rfl)
theorem dX7_readPlan_37 : decode cX7_readPlan 37 = .ok (.bipush 6, 2) := dk_16 6 (dk_at dksX7_readPlan_1 13 rfl rfl)
theorem dX7_readPlan_39 : decode cX7_readPlan 39 = .ok (.invokevirtual 94, 3) := dk_182 0 94 (dk_at dksX7_readPlan_1 15 rfl rfl)
theorem dX7_readPlan_42 : decode cX7_readPlan 42 = .ok (.istore_n 1, 1) := dk_60 (dk_at dksX7_readPlan_1 18 rfl rfl)
theorem dX7_readPlan_43 : decode cX7_readPlan 43 = .ok (.aload_n 0, 1) := dk_42 (dk_at dksX7_readPlan_1 19 rfl rfl)
theorem dX7_readPlan_44 : decode cX7_readPlan 44 = .ok (.iload_n 1, 1) := dk_27 (dk_at dksX7_readPlan_1 20 rfl rfl)
theorem dX7_readPlan_45 : decode cX7_readPlan 45 = .ok (.iconst 5, 1) := dk_8 (dk_at dksX7_readPlan_1 21 rfl rfl)
theorem dX7_readPlan_46 : decode cX7_readPlan 46 = .ok (.if_icmp .ge 15, 3) := dk_162 0 15 (dk_at dksX7_readPlan_2 0 rfl rfl)
theorem dX7_readPlan_49 : decode cX7_readPlan 49 = .ok (.iload_n 1, 1) := dk_27 (dk_at dksX7_readPlan_2 3 rfl rfl)
theorem dX7_readPlan_50 : decode cX7_readPlan 50 = .ok (.aload_n 0, 1) := dk_42 (dk_at dksX7_readPlan_2 4 rfl rfl)
theorem dX7_readPlan_51 : decode cX7_readPlan 51 = .ok (.getfield 98, 3) := dk_180 0 98 (dk_at dksX7_readPlan_2 5 rfl rfl)
theorem dX7_readPlan_54 : decode cX7_readPlan 54 = .ok (.if_icmp .le 7, 3) := dk_164 0 7 (dk_at dksX7_readPlan_2 8 rfl rfl)
theorem dX7_readPlan_57 : decode cX7_readPlan 57 = .ok (.iload_n 1, 1) := dk_27 (dk_at dksX7_readPlan_2 11 rfl rfl)
theorem dX7_readPlan_58 : decode cX7_readPlan 58 = .ok (.goto 7, 3) := dk_167 0 7 (dk_at dksX7_readPlan_2 12 rfl rfl)
theorem dX7_readPlan_61 : decode cX7_readPlan 61 = .ok (.aload_n 0, 1) := dk_42 (dk_at dksX7_readPlan_2 15 rfl rfl)
theorem dX7_readPlan_62 : decode cX7_readPlan 62 = .ok (.getfield 98, 3) := dk_180 0 98 (dk_at dksX7_readPlan_2 16 rfl rfl)
theorem dX7_readPlan_65 : decode cX7_readPlan 65 = .ok (.putfield 98, 3) := dk_181 0 98 (dk_at dksX7_readPlan_2 19 rfl rfl)
theorem dX7_readPlan_68 : decode cX7_readPlan 68 = .ok (.aload_n 0, 1) := dk_42 (dk_at dksX7_readPlan_2 22 rfl rfl)
theorem dX7_readPlan_69 : decode cX7_readPlan 69 = .ok (.getfield 16, 3) := dk_180 0 16 (dk_at dksX7_readPlan_3 0 rfl rfl)
theorem dX7_readPlan_72 : decode cX7_readPlan 72 = .ok (.bipush 19, 2) := dk_16 19 (dk_at dksX7_readPlan_3 3 rfl rfl)
theorem dX7_readPlan_74 : decode cX7_readPlan 74 = .ok (.aload_n 0, 1) := dk_42 (dk_at dksX7_readPlan_3 5 rfl rfl)
theorem dX7_readPlan_75 : decode cX7_readPlan 75 = .ok (.getfield 16, 3) := dk_180 0 16 (dk_at dksX7_readPlan_3 6 rfl rfl)
theorem dX7_readPlan_78 : decode cX7_readPlan 78 = .ok (.bipush 27, 2) := dk_16 27 (dk_at dksX7_readPlan_3 9 rfl rfl)
theorem dX7_readPlan_80 : decode cX7_readPlan 80 = .ok (.iaload, 1) := dk_46 (dk_at dksX7_readPlan_3 11 rfl rfl)
theorem dX7_readPlan_81 : decode cX7_readPlan 81 = .ok (.iadd, 1) := dk_96 (dk_at dksX7_readPlan_3 12 rfl rfl)
theorem dX7_readPlan_82 : decode cX7_readPlan 82 = .ok (.iload_n 1, 1) := dk_27 (dk_at dksX7_readPlan_3 13 rfl rfl)
theorem dX7_readPlan_83 : decode cX7_readPlan 83 = .ok (.iastore, 1) := dk_79 (dk_at dksX7_readPlan_3 14 rfl rfl)
theorem dX7_readPlan_84 : decode cX7_readPlan 84 = .ok (.aload_n 0, 1) := dk_42 (dk_at dksX7_readPlan_3 15 rfl rfl)
theorem dX7_readPlan_85 : decode cX7_readPlan 85 = .ok (.getfield 16, 3) := dk_180 0 16 (dk_at dksX7_readPlan_3 16 rfl rfl)
theorem dX7_readPlan_88 : decode cX7_readPlan 88 = .ok (.bipush 27, 2) := dk_16 27 (dk_at dksX7_readPlan_3 19 rfl rfl)
theorem dX7_readPlan_90 : decode cX7_readPlan 90 = .ok (.dup2, 1) := dk_92 (dk_at dksX7_readPlan_3 21 rfl rfl)
theorem dX7_readPlan_91 : decode cX7_readPlan 91 = .ok (.iaload, 1) := dk_46 (dk_at dksX7_readPlan_3 22 rfl rfl)
theorem dX7_readPlan_92 : decode cX7_readPlan 92 = .ok (.iconst 1, 1) := dk_4 (dk_at dksX7_readPlan_3 23 rfl rfl)
theorem dX7_readPlan_93 : decode cX7_readPlan 93 = .ok (.iadd, 1) := dk_96 (dk_at dksX7_readPlan_4 0 rfl rfl)
theorem dX7_readPlan_94 : decode cX7_readPlan 94 = .ok (.iastore, 1) := dk_79 (dk_at dksX7_readPlan_4 1 rfl rfl)
theorem dX7_readPlan_95 : decode cX7_readPlan 95 = .ok (.goto (-95), 3) := dk_167 255 161 (dk_at dksX7_readPlan_4 2 rfl rfl)
theorem dX7_readPlan_98 : decode cX7_readPlan 98 = .ok (.return_, 1) := dk_177 (dk_at dksX7_readPlan_4 5 rfl rfl)
abbrev cX7_fault : ByteArray := prog_11_method_15_code
def yX7_fault : MethodName := ⟨RX7, "fault", "()I"⟩
theorem dX7_fault_0 : decode cX7_fault 0 = .ok (.aload_n 0, 1) := by decide +kernel
theorem dX7_fault_1 : decode cX7_fault 1 = .ok (.getfield 122, 3) := by decide +kernel
theorem dX7_fault_4 : decode cX7_fault 4 = .ok (.ireturn, 1) := by decide +kernel
abbrev cX7_rule : ByteArray := prog_11_method_28_code
def yX7_rule : MethodName := ⟨RX7, "rule", "(I)I"⟩
def dkwX7_rule_4 : List UInt8 := [3, 182, 0, 155, 172, 2, 172]
abbrev dktX7_rule_4 : List UInt8 := dkwX7_rule_4 ++ []
def dkwX7_rule_3 : List UInt8 := [180, 0, 7, 16, 18, 46, 7, 96, 172, 42, 180, 0, 7, 16, 27, 46, 172, 42, 3, 182, 0, 152, 172, 42]
abbrev dktX7_rule_3 : List UInt8 := dkwX7_rule_3 ++ dktX7_rule_4
def dkwX7_rule_2 : List UInt8 := [42, 180, 0, 125, 172, 42, 180, 0, 7, 16, 16, 46, 172, 42, 180, 0, 7, 16, 17, 46, 5, 96, 172, 42]
abbrev dktX7_rule_2 : List UInt8 := dkwX7_rule_2 ++ dktX7_rule_3
def dkwX7_rule_1 : List UInt8 := [170, 0, 0, 0, 0, 0, 96, 0, 0, 0, 0, 0, 0, 0, 6, 0, 0, 0, 43, 0, 0, 0, 48, 0, 0, 0, 56, 0, 0, 0, 66, 0, 0, 0, 76, 0, 0, 0, 84, 0, 0, 0, 90]
abbrev dktX7_rule_1 : List UInt8 := dkwX7_rule_1 ++ dktX7_rule_2
def dkwX7_rule_0 : List UInt8 := [27]
abbrev dktX7_rule_0 : List UInt8 := dkwX7_rule_0 ++ dktX7_rule_1
theorem dksX7_rule_0 : cX7_rule.data.toList.drop 0 = dktX7_rule_0 := by decide +kernel
theorem dksX7_rule_1 : cX7_rule.data.toList.drop 1 = dktX7_rule_1 := dk_seg dksX7_rule_0 1 rfl rfl
theorem dksX7_rule_2 : cX7_rule.data.toList.drop 44 = dktX7_rule_2 := dk_seg dksX7_rule_1 43 rfl rfl
theorem dksX7_rule_3 : cX7_rule.data.toList.drop 68 = dktX7_rule_3 := dk_seg dksX7_rule_2 24 rfl rfl
theorem dksX7_rule_4 : cX7_rule.data.toList.drop 92 = dktX7_rule_4 := dk_seg dksX7_rule_3 24 rfl rfl
theorem dX7_rule_0 : decode cX7_rule 0 = .ok (.iload_n 1, 1) := dk_27 (dk_at dksX7_rule_0 0 rfl rfl)
theorem dX7_rule_1 : decode cX7_rule 1 = .ok (.tableswitch 96 0 6 #[43, 48, 56, 66, 76, 84, 90], 43) := by decide +kernel
theorem dX7_rule_44 : decode cX7_rule 44 = .ok (.aload_n 0, 1) := dk_42 (dk_at dksX7_rule_2 0 rfl rfl)
theorem dX7_rule_45 : decode cX7_rule 45 = .ok (.getfield 125, 3) := dk_180 0 125 (dk_at dksX7_rule_2 1 rfl rfl)
theorem dX7_rule_48 : decode cX7_rule 48 = .ok (.ireturn, 1) := dk_172 (dk_at dksX7_rule_2 4 rfl rfl)
theorem dX7_rule_49 : decode cX7_rule 49 = .ok (.aload_n 0, 1) := dk_42 (dk_at dksX7_rule_2 5 rfl rfl)
theorem dX7_rule_50 : decode cX7_rule 50 = .ok (.getfield 7, 3) := dk_180 0 7 (dk_at dksX7_rule_2 6 rfl rfl)
theorem dX7_rule_53 : decode cX7_rule 53 = .ok (.bipush 16, 2) := dk_16 16 (dk_at dksX7_rule_2 9 rfl rfl)
theorem dX7_rule_55 : decode cX7_rule 55 = .ok (.iaload, 1) := dk_46 (dk_at dksX7_rule_2 11 rfl rfl)
theorem dX7_rule_56 : decode cX7_rule 56 = .ok (.ireturn, 1) := dk_172 (dk_at dksX7_rule_2 12 rfl rfl)
theorem dX7_rule_57 : decode cX7_rule 57 = .ok (.aload_n 0, 1) := dk_42 (dk_at dksX7_rule_2 13 rfl rfl)
theorem dX7_rule_58 : decode cX7_rule 58 = .ok (.getfield 7, 3) := dk_180 0 7 (dk_at dksX7_rule_2 14 rfl rfl)
theorem dX7_rule_61 : decode cX7_rule 61 = .ok (.bipush 17, 2) := dk_16 17 (dk_at dksX7_rule_2 17 rfl rfl)
theorem dX7_rule_63 : decode cX7_rule 63 = .ok (.iaload, 1) := dk_46 (dk_at dksX7_rule_2 19 rfl rfl)
theorem dX7_rule_64 : decode cX7_rule 64 = .ok (.iconst 2, 1) := dk_5 (dk_at dksX7_rule_2 20 rfl rfl)
theorem dX7_rule_65 : decode cX7_rule 65 = .ok (.iadd, 1) := dk_96 (dk_at dksX7_rule_2 21 rfl rfl)
theorem dX7_rule_66 : decode cX7_rule 66 = .ok (.ireturn, 1) := dk_172 (dk_at dksX7_rule_2 22 rfl rfl)
theorem dX7_rule_67 : decode cX7_rule 67 = .ok (.aload_n 0, 1) := dk_42 (dk_at dksX7_rule_2 23 rfl rfl)
theorem dX7_rule_68 : decode cX7_rule 68 = .ok (.getfield 7, 3) := dk_180 0 7 (dk_at dksX7_rule_3 0 rfl rfl)
theorem dX7_rule_71 : decode cX7_rule 71 = .ok (.bipush 18, 2) := dk_16 18 (dk_at dksX7_rule_3 3 rfl rfl)
theorem dX7_rule_73 : decode cX7_rule 73 = .ok (.iaload, 1) := dk_46 (dk_at dksX7_rule_3 5 rfl rfl)
theorem dX7_rule_74 : decode cX7_rule 74 = .ok (.iconst 4, 1) := dk_7 (dk_at dksX7_rule_3 6 rfl rfl)
theorem dX7_rule_75 : decode cX7_rule 75 = .ok (.iadd, 1) := dk_96 (dk_at dksX7_rule_3 7 rfl rfl)
theorem dX7_rule_76 : decode cX7_rule 76 = .ok (.ireturn, 1) := dk_172 (dk_at dksX7_rule_3 8 rfl rfl)
theorem dX7_rule_77 : decode cX7_rule 77 = .ok (.aload_n 0, 1) := dk_42 (dk_at dksX7_rule_3 9 rfl rfl)
theorem dX7_rule_78 : decode cX7_rule 78 = .ok (.getfield 7, 3) := dk_180 0 7 (dk_at dksX7_rule_3 10 rfl rfl)
theorem dX7_rule_81 : decode cX7_rule 81 = .ok (.bipush 27, 2) := dk_16 27 (dk_at dksX7_rule_3 13 rfl rfl)
theorem dX7_rule_83 : decode cX7_rule 83 = .ok (.iaload, 1) := dk_46 (dk_at dksX7_rule_3 15 rfl rfl)
theorem dX7_rule_84 : decode cX7_rule 84 = .ok (.ireturn, 1) := dk_172 (dk_at dksX7_rule_3 16 rfl rfl)
theorem dX7_rule_85 : decode cX7_rule 85 = .ok (.aload_n 0, 1) := dk_42 (dk_at dksX7_rule_3 17 rfl rfl)
theorem dX7_rule_86 : decode cX7_rule 86 = .ok (.iconst 0, 1) := dk_3 (dk_at dksX7_rule_3 18 rfl rfl)
theorem dX7_rule_87 : decode cX7_rule 87 = .ok (.invokevirtual 152, 3) := dk_182 0 152 (dk_at dksX7_rule_3 19 rfl rfl)
theorem dX7_rule_90 : decode cX7_rule 90 = .ok (.ireturn, 1) := dk_172 (dk_at dksX7_rule_3 22 rfl rfl)
theorem dX7_rule_91 : decode cX7_rule 91 = .ok (.aload_n 0, 1) := dk_42 (dk_at dksX7_rule_3 23 rfl rfl)
theorem dX7_rule_92 : decode cX7_rule 92 = .ok (.iconst 0, 1) := dk_3 (dk_at dksX7_rule_4 0 rfl rfl)
theorem dX7_rule_93 : decode cX7_rule 93 = .ok (.invokevirtual 155, 3) := dk_182 0 155 (dk_at dksX7_rule_4 1 rfl rfl)
theorem dX7_rule_96 : decode cX7_rule 96 = .ok (.ireturn, 1) := dk_172 (dk_at dksX7_rule_4 4 rfl rfl)
theorem dX7_rule_97 : decode cX7_rule 97 = .ok (.iconst (-1), 1) := dk_2 (dk_at dksX7_rule_4 5 rfl rfl)
theorem dX7_rule_98 : decode cX7_rule 98 = .ok (.ireturn, 1) := dk_172 (dk_at dksX7_rule_4 6 rfl rfl)
abbrev cX7_waitingOn : ByteArray := prog_11_method_18_code
def yX7_waitingOn : MethodName := ⟨RX7, "waitingOn", "(I)I"⟩
def dkwX7_waitingOn_0 : List UInt8 := [4, 42, 180, 0, 125, 120, 4, 100, 42, 180, 0, 7, 27, 16, 15, 96, 46, 2, 130, 126, 172]
abbrev dktX7_waitingOn_0 : List UInt8 := dkwX7_waitingOn_0 ++ []
theorem dksX7_waitingOn_0 : cX7_waitingOn.data.toList.drop 0 = dktX7_waitingOn_0 := by decide +kernel
theorem dX7_waitingOn_0 : decode cX7_waitingOn 0 = .ok (.iconst 1, 1) := dk_4 (dk_at dksX7_waitingOn_0 0 rfl rfl)
theorem dX7_waitingOn_1 : decode cX7_waitingOn 1 = .ok (.aload_n 0, 1) := dk_42 (dk_at dksX7_waitingOn_0 1 rfl rfl)
theorem dX7_waitingOn_2 : decode cX7_waitingOn 2 = .ok (.getfield 125, 3) := dk_180 0 125 (dk_at dksX7_waitingOn_0 2 rfl rfl)
theorem dX7_waitingOn_5 : decode cX7_waitingOn 5 = .ok (.ishl, 1) := dk_120 (dk_at dksX7_waitingOn_0 5 rfl rfl)
theorem dX7_waitingOn_6 : decode cX7_waitingOn 6 = .ok (.iconst 1, 1) := dk_4 (dk_at dksX7_waitingOn_0 6 rfl rfl)
theorem dX7_waitingOn_7 : decode cX7_waitingOn 7 = .ok (.isub, 1) := dk_100 (dk_at dksX7_waitingOn_0 7 rfl rfl)
theorem dX7_waitingOn_8 : decode cX7_waitingOn 8 = .ok (.aload_n 0, 1) := dk_42 (dk_at dksX7_waitingOn_0 8 rfl rfl)
theorem dX7_waitingOn_9 : decode cX7_waitingOn 9 = .ok (.getfield 7, 3) := dk_180 0 7 (dk_at dksX7_waitingOn_0 9 rfl rfl)
theorem dX7_waitingOn_12 : decode cX7_waitingOn 12 = .ok (.iload_n 1, 1) := dk_27 (dk_at dksX7_waitingOn_0 12 rfl rfl)
theorem dX7_waitingOn_13 : decode cX7_waitingOn 13 = .ok (.bipush 15, 2) := dk_16 15 (dk_at dksX7_waitingOn_0 13 rfl rfl)
theorem dX7_waitingOn_15 : decode cX7_waitingOn 15 = .ok (.iadd, 1) := dk_96 (dk_at dksX7_waitingOn_0 15 rfl rfl)
theorem dX7_waitingOn_16 : decode cX7_waitingOn 16 = .ok (.iaload, 1) := dk_46 (dk_at dksX7_waitingOn_0 16 rfl rfl)
theorem dX7_waitingOn_17 : decode cX7_waitingOn 17 = .ok (.iconst (-1), 1) := dk_2 (dk_at dksX7_waitingOn_0 17 rfl rfl)
theorem dX7_waitingOn_18 : decode cX7_waitingOn 18 = .ok (.ixor, 1) := dk_130 (dk_at dksX7_waitingOn_0 18 rfl rfl)
theorem dX7_waitingOn_19 : decode cX7_waitingOn 19 = .ok (.iand, 1) := dk_126 (dk_at dksX7_waitingOn_0 19 rfl rfl)
theorem dX7_waitingOn_20 : decode cX7_waitingOn 20 = .ok (.ireturn, 1) := dk_172 (dk_at dksX7_waitingOn_0 20 rfl rfl)
abbrev cX7_sorrowOn : ByteArray := prog_11_method_19_code
def yX7_sorrowOn : MethodName := ⟨RX7, "sorrowOn", "(I)I"⟩
def dkwX7_sorrowOn_1 : List UInt8 := [180, 0, 7, 27, 8, 96, 29, 96, 46, 167, 0, 4, 3, 96, 61, 132, 3, 1, 167, 255, 219, 28, 172]
abbrev dktX7_sorrowOn_1 : List UInt8 := dkwX7_sorrowOn_1 ++ []
def dkwX7_sorrowOn_0 : List UInt8 := [3, 61, 3, 62, 29, 42, 180, 0, 125, 162, 0, 35, 28, 42, 27, 29, 182, 0, 131, 153, 0, 16, 42]
abbrev dktX7_sorrowOn_0 : List UInt8 := dkwX7_sorrowOn_0 ++ dktX7_sorrowOn_1
theorem dksX7_sorrowOn_0 : cX7_sorrowOn.data.toList.drop 0 = dktX7_sorrowOn_0 := by decide +kernel
theorem dksX7_sorrowOn_1 : cX7_sorrowOn.data.toList.drop 23 = dktX7_sorrowOn_1 := dk_seg dksX7_sorrowOn_0 23 rfl rfl
theorem dX7_sorrowOn_0 : decode cX7_sorrowOn 0 = .ok (.iconst 0, 1) := dk_3 (dk_at dksX7_sorrowOn_0 0 rfl rfl)
theorem dX7_sorrowOn_1 : decode cX7_sorrowOn 1 = .ok (.istore_n 2, 1) := dk_61 (dk_at dksX7_sorrowOn_0 1 rfl rfl)
theorem dX7_sorrowOn_2 : decode cX7_sorrowOn 2 = .ok (.iconst 0, 1) := dk_3 (dk_at dksX7_sorrowOn_0 2 rfl rfl)
theorem dX7_sorrowOn_3 : decode cX7_sorrowOn 3 = .ok (.istore_n 3, 1) := dk_62 (dk_at dksX7_sorrowOn_0 3 rfl rfl)
theorem dX7_sorrowOn_4 : decode cX7_sorrowOn 4 = .ok (.iload_n 3, 1) := dk_29 (dk_at dksX7_sorrowOn_0 4 rfl rfl)
theorem dX7_sorrowOn_5 : decode cX7_sorrowOn 5 = .ok (.aload_n 0, 1) := dk_42 (dk_at dksX7_sorrowOn_0 5 rfl rfl)
theorem dX7_sorrowOn_6 : decode cX7_sorrowOn 6 = .ok (.getfield 125, 3) := dk_180 0 125 (dk_at dksX7_sorrowOn_0 6 rfl rfl)
theorem dX7_sorrowOn_9 : decode cX7_sorrowOn 9 = .ok (.if_icmp .ge 35, 3) := dk_162 0 35 (dk_at dksX7_sorrowOn_0 9 rfl rfl)
theorem dX7_sorrowOn_12 : decode cX7_sorrowOn 12 = .ok (.iload_n 2, 1) := dk_28 (dk_at dksX7_sorrowOn_0 12 rfl rfl)
theorem dX7_sorrowOn_13 : decode cX7_sorrowOn 13 = .ok (.aload_n 0, 1) := dk_42 (dk_at dksX7_sorrowOn_0 13 rfl rfl)
theorem dX7_sorrowOn_14 : decode cX7_sorrowOn 14 = .ok (.iload_n 1, 1) := dk_27 (dk_at dksX7_sorrowOn_0 14 rfl rfl)
theorem dX7_sorrowOn_15 : decode cX7_sorrowOn 15 = .ok (.iload_n 3, 1) := dk_29 (dk_at dksX7_sorrowOn_0 15 rfl rfl)
theorem dX7_sorrowOn_16 : decode cX7_sorrowOn 16 = .ok (.invokevirtual 131, 3) := dk_182 0 131 (dk_at dksX7_sorrowOn_0 16 rfl rfl)
theorem dX7_sorrowOn_19 : decode cX7_sorrowOn 19 = .ok (.ifCond .eq 16, 3) := dk_153 0 16 (dk_at dksX7_sorrowOn_0 19 rfl rfl)
theorem dX7_sorrowOn_22 : decode cX7_sorrowOn 22 = .ok (.aload_n 0, 1) := dk_42 (dk_at dksX7_sorrowOn_0 22 rfl rfl)
theorem dX7_sorrowOn_23 : decode cX7_sorrowOn 23 = .ok (.getfield 7, 3) := dk_180 0 7 (dk_at dksX7_sorrowOn_1 0 rfl rfl)
theorem dX7_sorrowOn_26 : decode cX7_sorrowOn 26 = .ok (.iload_n 1, 1) := dk_27 (dk_at dksX7_sorrowOn_1 3 rfl rfl)
theorem dX7_sorrowOn_27 : decode cX7_sorrowOn 27 = .ok (.iconst 5, 1) := dk_8 (dk_at dksX7_sorrowOn_1 4 rfl rfl)
theorem dX7_sorrowOn_28 : decode cX7_sorrowOn 28 = .ok (.iadd, 1) := dk_96 (dk_at dksX7_sorrowOn_1 5 rfl rfl)
theorem dX7_sorrowOn_29 : decode cX7_sorrowOn 29 = .ok (.iload_n 3, 1) := dk_29 (dk_at dksX7_sorrowOn_1 6 rfl rfl)
theorem dX7_sorrowOn_30 : decode cX7_sorrowOn 30 = .ok (.iadd, 1) := dk_96 (dk_at dksX7_sorrowOn_1 7 rfl rfl)
theorem dX7_sorrowOn_31 : decode cX7_sorrowOn 31 = .ok (.iaload, 1) := dk_46 (dk_at dksX7_sorrowOn_1 8 rfl rfl)
theorem dX7_sorrowOn_32 : decode cX7_sorrowOn 32 = .ok (.goto 4, 3) := dk_167 0 4 (dk_at dksX7_sorrowOn_1 9 rfl rfl)
theorem dX7_sorrowOn_35 : decode cX7_sorrowOn 35 = .ok (.iconst 0, 1) := dk_3 (dk_at dksX7_sorrowOn_1 12 rfl rfl)
theorem dX7_sorrowOn_36 : decode cX7_sorrowOn 36 = .ok (.iadd, 1) := dk_96 (dk_at dksX7_sorrowOn_1 13 rfl rfl)
theorem dX7_sorrowOn_37 : decode cX7_sorrowOn 37 = .ok (.istore_n 2, 1) := dk_61 (dk_at dksX7_sorrowOn_1 14 rfl rfl)
theorem dX7_sorrowOn_38 : decode cX7_sorrowOn 38 = .ok (.iinc 3 1, 3) := dk_132 3 1 (dk_at dksX7_sorrowOn_1 15 rfl rfl)
theorem dX7_sorrowOn_41 : decode cX7_sorrowOn 41 = .ok (.goto (-37), 3) := dk_167 255 219 (dk_at dksX7_sorrowOn_1 18 rfl rfl)
theorem dX7_sorrowOn_44 : decode cX7_sorrowOn 44 = .ok (.iload_n 2, 1) := dk_28 (dk_at dksX7_sorrowOn_1 21 rfl rfl)
theorem dX7_sorrowOn_45 : decode cX7_sorrowOn 45 = .ok (.ireturn, 1) := dk_172 (dk_at dksX7_sorrowOn_1 22 rfl rfl)
abbrev cX7_waits : ByteArray := prog_11_method_17_code
def yX7_waits : MethodName := ⟨RX7, "waits", "(II)Z"⟩
def dkwX7_waits_0 : List UInt8 := [42, 180, 0, 7, 27, 16, 15, 96, 46, 28, 122, 4, 126, 154, 0, 7, 4, 167, 0, 4, 3, 172]
abbrev dktX7_waits_0 : List UInt8 := dkwX7_waits_0 ++ []
theorem dksX7_waits_0 : cX7_waits.data.toList.drop 0 = dktX7_waits_0 := by decide +kernel
theorem dX7_waits_0 : decode cX7_waits 0 = .ok (.aload_n 0, 1) := dk_42 (dk_at dksX7_waits_0 0 rfl rfl)
theorem dX7_waits_1 : decode cX7_waits 1 = .ok (.getfield 7, 3) := dk_180 0 7 (dk_at dksX7_waits_0 1 rfl rfl)
theorem dX7_waits_4 : decode cX7_waits 4 = .ok (.iload_n 1, 1) := dk_27 (dk_at dksX7_waits_0 4 rfl rfl)
theorem dX7_waits_5 : decode cX7_waits 5 = .ok (.bipush 15, 2) := dk_16 15 (dk_at dksX7_waits_0 5 rfl rfl)
theorem dX7_waits_7 : decode cX7_waits 7 = .ok (.iadd, 1) := dk_96 (dk_at dksX7_waits_0 7 rfl rfl)
theorem dX7_waits_8 : decode cX7_waits 8 = .ok (.iaload, 1) := dk_46 (dk_at dksX7_waits_0 8 rfl rfl)
theorem dX7_waits_9 : decode cX7_waits 9 = .ok (.iload_n 2, 1) := dk_28 (dk_at dksX7_waits_0 9 rfl rfl)
theorem dX7_waits_10 : decode cX7_waits 10 = .ok (.ishr, 1) := dk_122 (dk_at dksX7_waits_0 10 rfl rfl)
theorem dX7_waits_11 : decode cX7_waits 11 = .ok (.iconst 1, 1) := dk_4 (dk_at dksX7_waits_0 11 rfl rfl)
theorem dX7_waits_12 : decode cX7_waits 12 = .ok (.iand, 1) := dk_126 (dk_at dksX7_waits_0 12 rfl rfl)
theorem dX7_waits_13 : decode cX7_waits 13 = .ok (.ifCond .ne 7, 3) := dk_154 0 7 (dk_at dksX7_waits_0 13 rfl rfl)
theorem dX7_waits_16 : decode cX7_waits 16 = .ok (.iconst 1, 1) := dk_4 (dk_at dksX7_waits_0 16 rfl rfl)
theorem dX7_waits_17 : decode cX7_waits 17 = .ok (.goto 4, 3) := dk_167 0 4 (dk_at dksX7_waits_0 17 rfl rfl)
theorem dX7_waits_20 : decode cX7_waits 20 = .ok (.iconst 0, 1) := dk_3 (dk_at dksX7_waits_0 20 rfl rfl)
theorem dX7_waits_21 : decode cX7_waits 21 = .ok (.ireturn, 1) := dk_172 (dk_at dksX7_waits_0 21 rfl rfl)
abbrev cX7_one : ByteArray := prog_11_method_30_code
def yX7_one : MethodName := ⟨RX7, "one", "(II)I"⟩
def dkwX7_one_4 : List UInt8 := [2, 172]
abbrev dktX7_one_4 : List UInt8 := dkwX7_one_4 ++ []
def dkwX7_one_3 : List UInt8 := [42, 180, 0, 13, 42, 180, 0, 7, 27, 46, 46, 172, 42, 180, 0, 7, 16, 15, 46, 27, 122, 4, 126, 172]
abbrev dktX7_one_3 : List UInt8 := dkwX7_one_3 ++ dktX7_one_4
def dkwX7_one_2 : List UInt8 := [42, 180, 0, 7, 8, 28, 104, 27, 96, 46, 172, 42, 180, 0, 7, 16, 10, 27, 96, 46, 184, 0, 162, 172]
abbrev dktX7_one_2 : List UInt8 := dkwX7_one_2 ++ dktX7_one_3
def dkwX7_one_1 : List UInt8 := [170, 0, 0, 0, 81, 0, 0, 0, 0, 0, 0, 0, 4, 0, 0, 0, 33, 0, 0, 0, 33, 0, 0, 0, 44, 0, 0, 0, 57, 0, 0, 0, 69]
abbrev dktX7_one_1 : List UInt8 := dkwX7_one_1 ++ dktX7_one_2
def dkwX7_one_0 : List UInt8 := [42, 27, 182, 0, 158, 154, 0, 5, 2, 172, 28]
abbrev dktX7_one_0 : List UInt8 := dkwX7_one_0 ++ dktX7_one_1
theorem dksX7_one_0 : cX7_one.data.toList.drop 0 = dktX7_one_0 := by decide +kernel
theorem dksX7_one_1 : cX7_one.data.toList.drop 11 = dktX7_one_1 := dk_seg dksX7_one_0 11 rfl rfl
theorem dksX7_one_2 : cX7_one.data.toList.drop 44 = dktX7_one_2 := dk_seg dksX7_one_1 33 rfl rfl
theorem dksX7_one_3 : cX7_one.data.toList.drop 68 = dktX7_one_3 := dk_seg dksX7_one_2 24 rfl rfl
theorem dksX7_one_4 : cX7_one.data.toList.drop 92 = dktX7_one_4 := dk_seg dksX7_one_3 24 rfl rfl
theorem dX7_one_0 : decode cX7_one 0 = .ok (.aload_n 0, 1) := dk_42 (dk_at dksX7_one_0 0 rfl rfl)
theorem dX7_one_1 : decode cX7_one 1 = .ok (.iload_n 1, 1) := dk_27 (dk_at dksX7_one_0 1 rfl rfl)
theorem dX7_one_2 : decode cX7_one 2 = .ok (.invokevirtual 158, 3) := dk_182 0 158 (dk_at dksX7_one_0 2 rfl rfl)
theorem dX7_one_5 : decode cX7_one 5 = .ok (.ifCond .ne 5, 3) := dk_154 0 5 (dk_at dksX7_one_0 5 rfl rfl)
theorem dX7_one_8 : decode cX7_one 8 = .ok (.iconst (-1), 1) := dk_2 (dk_at dksX7_one_0 8 rfl rfl)
theorem dX7_one_9 : decode cX7_one 9 = .ok (.ireturn, 1) := dk_172 (dk_at dksX7_one_0 9 rfl rfl)
theorem dX7_one_10 : decode cX7_one 10 = .ok (.iload_n 2, 1) := dk_28 (dk_at dksX7_one_0 10 rfl rfl)
theorem dX7_one_11 : decode cX7_one 11 = .ok (.tableswitch 81 0 4 #[33, 33, 44, 57, 69], 33) := by decide +kernel
theorem dX7_one_44 : decode cX7_one 44 = .ok (.aload_n 0, 1) := dk_42 (dk_at dksX7_one_2 0 rfl rfl)
theorem dX7_one_45 : decode cX7_one 45 = .ok (.getfield 7, 3) := dk_180 0 7 (dk_at dksX7_one_2 1 rfl rfl)
theorem dX7_one_48 : decode cX7_one 48 = .ok (.iconst 5, 1) := dk_8 (dk_at dksX7_one_2 4 rfl rfl)
theorem dX7_one_49 : decode cX7_one 49 = .ok (.iload_n 2, 1) := dk_28 (dk_at dksX7_one_2 5 rfl rfl)
theorem dX7_one_50 : decode cX7_one 50 = .ok (.imul, 1) := dk_104 (dk_at dksX7_one_2 6 rfl rfl)
theorem dX7_one_51 : decode cX7_one 51 = .ok (.iload_n 1, 1) := dk_27 (dk_at dksX7_one_2 7 rfl rfl)
theorem dX7_one_52 : decode cX7_one 52 = .ok (.iadd, 1) := dk_96 (dk_at dksX7_one_2 8 rfl rfl)
theorem dX7_one_53 : decode cX7_one 53 = .ok (.iaload, 1) := dk_46 (dk_at dksX7_one_2 9 rfl rfl)
theorem dX7_one_54 : decode cX7_one 54 = .ok (.ireturn, 1) := dk_172 (dk_at dksX7_one_2 10 rfl rfl)
theorem dX7_one_55 : decode cX7_one 55 = .ok (.aload_n 0, 1) := dk_42 (dk_at dksX7_one_2 11 rfl rfl)
theorem dX7_one_56 : decode cX7_one 56 = .ok (.getfield 7, 3) := dk_180 0 7 (dk_at dksX7_one_2 12 rfl rfl)
theorem dX7_one_59 : decode cX7_one 59 = .ok (.bipush 10, 2) := dk_16 10 (dk_at dksX7_one_2 15 rfl rfl)
theorem dX7_one_61 : decode cX7_one 61 = .ok (.iload_n 1, 1) := dk_27 (dk_at dksX7_one_2 17 rfl rfl)
theorem dX7_one_62 : decode cX7_one 62 = .ok (.iadd, 1) := dk_96 (dk_at dksX7_one_2 18 rfl rfl)
theorem dX7_one_63 : decode cX7_one 63 = .ok (.iaload, 1) := dk_46 (dk_at dksX7_one_2 19 rfl rfl)
theorem dX7_one_64 : decode cX7_one 64 = .ok (.invokestatic 162, 3) := dk_184 0 162 (dk_at dksX7_one_2 20 rfl rfl)
theorem dX7_one_67 : decode cX7_one 67 = .ok (.ireturn, 1) := dk_172 (dk_at dksX7_one_2 23 rfl rfl)
theorem dX7_one_68 : decode cX7_one 68 = .ok (.aload_n 0, 1) := dk_42 (dk_at dksX7_one_3 0 rfl rfl)
theorem dX7_one_69 : decode cX7_one 69 = .ok (.getfield 13, 3) := dk_180 0 13 (dk_at dksX7_one_3 1 rfl rfl)
theorem dX7_one_72 : decode cX7_one 72 = .ok (.aload_n 0, 1) := dk_42 (dk_at dksX7_one_3 4 rfl rfl)
theorem dX7_one_73 : decode cX7_one 73 = .ok (.getfield 7, 3) := dk_180 0 7 (dk_at dksX7_one_3 5 rfl rfl)
theorem dX7_one_76 : decode cX7_one 76 = .ok (.iload_n 1, 1) := dk_27 (dk_at dksX7_one_3 8 rfl rfl)
theorem dX7_one_77 : decode cX7_one 77 = .ok (.iaload, 1) := dk_46 (dk_at dksX7_one_3 9 rfl rfl)
theorem dX7_one_78 : decode cX7_one 78 = .ok (.iaload, 1) := dk_46 (dk_at dksX7_one_3 10 rfl rfl)
theorem dX7_one_79 : decode cX7_one 79 = .ok (.ireturn, 1) := dk_172 (dk_at dksX7_one_3 11 rfl rfl)
theorem dX7_one_80 : decode cX7_one 80 = .ok (.aload_n 0, 1) := dk_42 (dk_at dksX7_one_3 12 rfl rfl)
theorem dX7_one_81 : decode cX7_one 81 = .ok (.getfield 7, 3) := dk_180 0 7 (dk_at dksX7_one_3 13 rfl rfl)
theorem dX7_one_84 : decode cX7_one 84 = .ok (.bipush 15, 2) := dk_16 15 (dk_at dksX7_one_3 16 rfl rfl)
theorem dX7_one_86 : decode cX7_one 86 = .ok (.iaload, 1) := dk_46 (dk_at dksX7_one_3 18 rfl rfl)
theorem dX7_one_87 : decode cX7_one 87 = .ok (.iload_n 1, 1) := dk_27 (dk_at dksX7_one_3 19 rfl rfl)
theorem dX7_one_88 : decode cX7_one 88 = .ok (.ishr, 1) := dk_122 (dk_at dksX7_one_3 20 rfl rfl)
theorem dX7_one_89 : decode cX7_one 89 = .ok (.iconst 1, 1) := dk_4 (dk_at dksX7_one_3 21 rfl rfl)
theorem dX7_one_90 : decode cX7_one 90 = .ok (.iand, 1) := dk_126 (dk_at dksX7_one_3 22 rfl rfl)
theorem dX7_one_91 : decode cX7_one 91 = .ok (.ireturn, 1) := dk_172 (dk_at dksX7_one_3 23 rfl rfl)
theorem dX7_one_92 : decode cX7_one 92 = .ok (.iconst (-1), 1) := dk_2 (dk_at dksX7_one_4 0 rfl rfl)
theorem dX7_one_93 : decode cX7_one 93 = .ok (.ireturn, 1) := dk_172 (dk_at dksX7_one_4 1 rfl rfl)
abbrev cX7_isOne : ByteArray := prog_11_method_16_code
def yX7_isOne : MethodName := ⟨RX7, "isOne", "(I)Z"⟩
def dkwX7_isOne_0 : List UInt8 := [27, 133, 9, 42, 180, 0, 125, 4, 100, 133, 184, 0, 49, 172]
abbrev dktX7_isOne_0 : List UInt8 := dkwX7_isOne_0 ++ []
theorem dksX7_isOne_0 : cX7_isOne.data.toList.drop 0 = dktX7_isOne_0 := by decide +kernel
theorem dX7_isOne_0 : decode cX7_isOne 0 = .ok (.iload_n 1, 1) := dk_27 (dk_at dksX7_isOne_0 0 rfl rfl)
theorem dX7_isOne_1 : decode cX7_isOne 1 = .ok (.i2l, 1) := dk_133 (dk_at dksX7_isOne_0 1 rfl rfl)
theorem dX7_isOne_2 : decode cX7_isOne 2 = .ok (.lconst 0, 1) := dk_9 (dk_at dksX7_isOne_0 2 rfl rfl)
theorem dX7_isOne_3 : decode cX7_isOne 3 = .ok (.aload_n 0, 1) := dk_42 (dk_at dksX7_isOne_0 3 rfl rfl)
theorem dX7_isOne_4 : decode cX7_isOne 4 = .ok (.getfield 125, 3) := dk_180 0 125 (dk_at dksX7_isOne_0 4 rfl rfl)
theorem dX7_isOne_7 : decode cX7_isOne 7 = .ok (.iconst 1, 1) := dk_4 (dk_at dksX7_isOne_0 7 rfl rfl)
theorem dX7_isOne_8 : decode cX7_isOne 8 = .ok (.isub, 1) := dk_100 (dk_at dksX7_isOne_0 8 rfl rfl)
theorem dX7_isOne_9 : decode cX7_isOne 9 = .ok (.i2l, 1) := dk_133 (dk_at dksX7_isOne_0 9 rfl rfl)
theorem dX7_isOne_10 : decode cX7_isOne 10 = .ok (.invokestatic 49, 3) := dk_184 0 49 (dk_at dksX7_isOne_0 10 rfl rfl)
theorem dX7_isOne_13 : decode cX7_isOne 13 = .ok (.ireturn, 1) := dk_172 (dk_at dksX7_isOne_0 13 rfl rfl)
abbrev cX7_orNone : ByteArray := prog_11_method_29_code
def yX7_orNone : MethodName := ⟨RX7, "orNone", "(I)I"⟩
def dkwX7_orNone_0 : List UInt8 := [26, 154, 0, 8, 16, 252, 167, 0, 6, 26, 4, 100, 172]
abbrev dktX7_orNone_0 : List UInt8 := dkwX7_orNone_0 ++ []
theorem dksX7_orNone_0 : cX7_orNone.data.toList.drop 0 = dktX7_orNone_0 := by decide +kernel
theorem dX7_orNone_0 : decode cX7_orNone 0 = .ok (.iload_n 0, 1) := dk_26 (dk_at dksX7_orNone_0 0 rfl rfl)
theorem dX7_orNone_1 : decode cX7_orNone 1 = .ok (.ifCond .ne 8, 3) := dk_154 0 8 (dk_at dksX7_orNone_0 1 rfl rfl)
theorem dX7_orNone_4 : decode cX7_orNone 4 = .ok (.bipush (-4), 2) := dk_16 252 (dk_at dksX7_orNone_0 4 rfl rfl)
theorem dX7_orNone_6 : decode cX7_orNone 6 = .ok (.goto 6, 3) := dk_167 0 6 (dk_at dksX7_orNone_0 6 rfl rfl)
theorem dX7_orNone_9 : decode cX7_orNone 9 = .ok (.iload_n 0, 1) := dk_26 (dk_at dksX7_orNone_0 9 rfl rfl)
theorem dX7_orNone_10 : decode cX7_orNone 10 = .ok (.iconst 1, 1) := dk_4 (dk_at dksX7_orNone_0 10 rfl rfl)
theorem dX7_orNone_11 : decode cX7_orNone 11 = .ok (.isub, 1) := dk_100 (dk_at dksX7_orNone_0 11 rfl rfl)
theorem dX7_orNone_12 : decode cX7_orNone 12 = .ok (.ireturn, 1) := dk_172 (dk_at dksX7_orNone_0 12 rfl rfl)
abbrev cX7_act : ByteArray := prog_11_method_31_code
def yX7_act : MethodName := ⟨RX7, "act", "(I)I"⟩
def dkwX7_act_1 : List UInt8 := [16, 19, 27, 96, 46, 167, 0, 4, 2, 172]
abbrev dktX7_act_1 : List UInt8 := dkwX7_act_1 ++ []
def dkwX7_act_0 : List UInt8 := [27, 133, 9, 42, 180, 0, 7, 16, 27, 46, 4, 100, 133, 184, 0, 49, 153, 0, 15, 42, 180, 0, 7]
abbrev dktX7_act_0 : List UInt8 := dkwX7_act_0 ++ dktX7_act_1
theorem dksX7_act_0 : cX7_act.data.toList.drop 0 = dktX7_act_0 := by decide +kernel
theorem dksX7_act_1 : cX7_act.data.toList.drop 23 = dktX7_act_1 := dk_seg dksX7_act_0 23 rfl rfl
theorem dX7_act_0 : decode cX7_act 0 = .ok (.iload_n 1, 1) := dk_27 (dk_at dksX7_act_0 0 rfl rfl)
theorem dX7_act_1 : decode cX7_act 1 = .ok (.i2l, 1) := dk_133 (dk_at dksX7_act_0 1 rfl rfl)
theorem dX7_act_2 : decode cX7_act 2 = .ok (.lconst 0, 1) := dk_9 (dk_at dksX7_act_0 2 rfl rfl)
theorem dX7_act_3 : decode cX7_act 3 = .ok (.aload_n 0, 1) := dk_42 (dk_at dksX7_act_0 3 rfl rfl)
theorem dX7_act_4 : decode cX7_act 4 = .ok (.getfield 7, 3) := dk_180 0 7 (dk_at dksX7_act_0 4 rfl rfl)
theorem dX7_act_7 : decode cX7_act 7 = .ok (.bipush 27, 2) := dk_16 27 (dk_at dksX7_act_0 7 rfl rfl)
theorem dX7_act_9 : decode cX7_act 9 = .ok (.iaload, 1) := dk_46 (dk_at dksX7_act_0 9 rfl rfl)
theorem dX7_act_10 : decode cX7_act 10 = .ok (.iconst 1, 1) := dk_4 (dk_at dksX7_act_0 10 rfl rfl)
theorem dX7_act_11 : decode cX7_act 11 = .ok (.isub, 1) := dk_100 (dk_at dksX7_act_0 11 rfl rfl)
theorem dX7_act_12 : decode cX7_act 12 = .ok (.i2l, 1) := dk_133 (dk_at dksX7_act_0 12 rfl rfl)
theorem dX7_act_13 : decode cX7_act 13 = .ok (.invokestatic 49, 3) := dk_184 0 49 (dk_at dksX7_act_0 13 rfl rfl)
theorem dX7_act_16 : decode cX7_act 16 = .ok (.ifCond .eq 15, 3) := dk_153 0 15 (dk_at dksX7_act_0 16 rfl rfl)
theorem dX7_act_19 : decode cX7_act 19 = .ok (.aload_n 0, 1) := dk_42 (dk_at dksX7_act_0 19 rfl rfl)
theorem dX7_act_20 : decode cX7_act 20 = .ok (.getfield 7, 3) := dk_180 0 7 (dk_at dksX7_act_0 20 rfl rfl)
theorem dX7_act_23 : decode cX7_act 23 = .ok (.bipush 19, 2) := dk_16 19 (dk_at dksX7_act_1 0 rfl rfl)
theorem dX7_act_25 : decode cX7_act 25 = .ok (.iload_n 1, 1) := dk_27 (dk_at dksX7_act_1 2 rfl rfl)
theorem dX7_act_26 : decode cX7_act 26 = .ok (.iadd, 1) := dk_96 (dk_at dksX7_act_1 3 rfl rfl)
theorem dX7_act_27 : decode cX7_act 27 = .ok (.iaload, 1) := dk_46 (dk_at dksX7_act_1 4 rfl rfl)
theorem dX7_act_28 : decode cX7_act 28 = .ok (.goto 4, 3) := dk_167 0 4 (dk_at dksX7_act_1 5 rfl rfl)
theorem dX7_act_31 : decode cX7_act 31 = .ok (.iconst (-1), 1) := dk_2 (dk_at dksX7_act_1 8 rfl rfl)
theorem dX7_act_32 : decode cX7_act 32 = .ok (.ireturn, 1) := dk_172 (dk_at dksX7_act_1 9 rfl rfl)
abbrev cX7_queue : ByteArray := prog_11_method_32_code
def yX7_queue : MethodName := ⟨RX7, "queue", "(I)I"⟩
def dkwX7_queue_2 : List UInt8 := [182, 0, 149, 62, 132, 4, 1, 167, 255, 228, 29, 172]
abbrev dktX7_queue_2 : List UInt8 := dkwX7_queue_2 ++ []
def dkwX7_queue_1 : List UInt8 := [54, 4, 21, 4, 27, 162, 0, 28, 29, 16, 252, 159, 0, 22, 28, 4, 29, 120, 128, 61, 42, 3, 28]
abbrev dktX7_queue_1 : List UInt8 := dkwX7_queue_1 ++ dktX7_queue_2
def dkwX7_queue_0 : List UInt8 := [27, 133, 9, 20, 0, 165, 184, 0, 49, 154, 0, 5, 2, 172, 3, 61, 42, 3, 28, 182, 0, 149, 62, 3]
abbrev dktX7_queue_0 : List UInt8 := dkwX7_queue_0 ++ dktX7_queue_1
theorem dksX7_queue_0 : cX7_queue.data.toList.drop 0 = dktX7_queue_0 := by decide +kernel
theorem dksX7_queue_1 : cX7_queue.data.toList.drop 24 = dktX7_queue_1 := dk_seg dksX7_queue_0 24 rfl rfl
theorem dksX7_queue_2 : cX7_queue.data.toList.drop 47 = dktX7_queue_2 := dk_seg dksX7_queue_1 23 rfl rfl
theorem dX7_queue_0 : decode cX7_queue 0 = .ok (.iload_n 1, 1) := dk_27 (dk_at dksX7_queue_0 0 rfl rfl)
theorem dX7_queue_1 : decode cX7_queue 1 = .ok (.i2l, 1) := dk_133 (dk_at dksX7_queue_0 1 rfl rfl)
theorem dX7_queue_2 : decode cX7_queue 2 = .ok (.lconst 0, 1) := dk_9 (dk_at dksX7_queue_0 2 rfl rfl)
theorem dX7_queue_3 : decode cX7_queue 3 = .ok (.ldc2_w 165, 3) := dk_20 0 165 (dk_at dksX7_queue_0 3 rfl rfl)
theorem dX7_queue_6 : decode cX7_queue 6 = .ok (.invokestatic 49, 3) := dk_184 0 49 (dk_at dksX7_queue_0 6 rfl rfl)
theorem dX7_queue_9 : decode cX7_queue 9 = .ok (.ifCond .ne 5, 3) := dk_154 0 5 (dk_at dksX7_queue_0 9 rfl rfl)
theorem dX7_queue_12 : decode cX7_queue 12 = .ok (.iconst (-1), 1) := dk_2 (dk_at dksX7_queue_0 12 rfl rfl)
theorem dX7_queue_13 : decode cX7_queue 13 = .ok (.ireturn, 1) := dk_172 (dk_at dksX7_queue_0 13 rfl rfl)
theorem dX7_queue_14 : decode cX7_queue 14 = .ok (.iconst 0, 1) := dk_3 (dk_at dksX7_queue_0 14 rfl rfl)
theorem dX7_queue_15 : decode cX7_queue 15 = .ok (.istore_n 2, 1) := dk_61 (dk_at dksX7_queue_0 15 rfl rfl)
theorem dX7_queue_16 : decode cX7_queue 16 = .ok (.aload_n 0, 1) := dk_42 (dk_at dksX7_queue_0 16 rfl rfl)
theorem dX7_queue_17 : decode cX7_queue 17 = .ok (.iconst 0, 1) := dk_3 (dk_at dksX7_queue_0 17 rfl rfl)
theorem dX7_queue_18 : decode cX7_queue 18 = .ok (.iload_n 2, 1) := dk_28 (dk_at dksX7_queue_0 18 rfl rfl)
theorem dX7_queue_19 : decode cX7_queue 19 = .ok (.invokevirtual 149, 3) := dk_182 0 149 (dk_at dksX7_queue_0 19 rfl rfl)
theorem dX7_queue_22 : decode cX7_queue 22 = .ok (.istore_n 3, 1) := dk_62 (dk_at dksX7_queue_0 22 rfl rfl)
theorem dX7_queue_23 : decode cX7_queue 23 = .ok (.iconst 0, 1) := dk_3 (dk_at dksX7_queue_0 23 rfl rfl)
theorem dX7_queue_24 : decode cX7_queue 24 = .ok (.istore 4, 2) := dk_54 4 (dk_at dksX7_queue_1 0 rfl rfl)
theorem dX7_queue_26 : decode cX7_queue 26 = .ok (.iload 4, 2) := dk_21 4 (dk_at dksX7_queue_1 2 rfl rfl)
theorem dX7_queue_28 : decode cX7_queue 28 = .ok (.iload_n 1, 1) := dk_27 (dk_at dksX7_queue_1 4 rfl rfl)
theorem dX7_queue_29 : decode cX7_queue 29 = .ok (.if_icmp .ge 28, 3) := dk_162 0 28 (dk_at dksX7_queue_1 5 rfl rfl)
theorem dX7_queue_32 : decode cX7_queue 32 = .ok (.iload_n 3, 1) := dk_29 (dk_at dksX7_queue_1 8 rfl rfl)
theorem dX7_queue_33 : decode cX7_queue 33 = .ok (.bipush (-4), 2) := dk_16 252 (dk_at dksX7_queue_1 9 rfl rfl)
theorem dX7_queue_35 : decode cX7_queue 35 = .ok (.if_icmp .eq 22, 3) := dk_159 0 22 (dk_at dksX7_queue_1 11 rfl rfl)
theorem dX7_queue_38 : decode cX7_queue 38 = .ok (.iload_n 2, 1) := dk_28 (dk_at dksX7_queue_1 14 rfl rfl)
theorem dX7_queue_39 : decode cX7_queue 39 = .ok (.iconst 1, 1) := dk_4 (dk_at dksX7_queue_1 15 rfl rfl)
theorem dX7_queue_40 : decode cX7_queue 40 = .ok (.iload_n 3, 1) := dk_29 (dk_at dksX7_queue_1 16 rfl rfl)
theorem dX7_queue_41 : decode cX7_queue 41 = .ok (.ishl, 1) := dk_120 (dk_at dksX7_queue_1 17 rfl rfl)
theorem dX7_queue_42 : decode cX7_queue 42 = .ok (.ior, 1) := dk_128 (dk_at dksX7_queue_1 18 rfl rfl)
theorem dX7_queue_43 : decode cX7_queue 43 = .ok (.istore_n 2, 1) := dk_61 (dk_at dksX7_queue_1 19 rfl rfl)
theorem dX7_queue_44 : decode cX7_queue 44 = .ok (.aload_n 0, 1) := dk_42 (dk_at dksX7_queue_1 20 rfl rfl)
theorem dX7_queue_45 : decode cX7_queue 45 = .ok (.iconst 0, 1) := dk_3 (dk_at dksX7_queue_1 21 rfl rfl)
theorem dX7_queue_46 : decode cX7_queue 46 = .ok (.iload_n 2, 1) := dk_28 (dk_at dksX7_queue_1 22 rfl rfl)
theorem dX7_queue_47 : decode cX7_queue 47 = .ok (.invokevirtual 149, 3) := dk_182 0 149 (dk_at dksX7_queue_2 0 rfl rfl)
theorem dX7_queue_50 : decode cX7_queue 50 = .ok (.istore_n 3, 1) := dk_62 (dk_at dksX7_queue_2 3 rfl rfl)
theorem dX7_queue_51 : decode cX7_queue 51 = .ok (.iinc 4 1, 3) := dk_132 4 1 (dk_at dksX7_queue_2 4 rfl rfl)
theorem dX7_queue_54 : decode cX7_queue 54 = .ok (.goto (-28), 3) := dk_167 255 228 (dk_at dksX7_queue_2 7 rfl rfl)
theorem dX7_queue_57 : decode cX7_queue 57 = .ok (.iload_n 3, 1) := dk_29 (dk_at dksX7_queue_2 10 rfl rfl)
theorem dX7_queue_58 : decode cX7_queue 58 = .ok (.ireturn, 1) := dk_172 (dk_at dksX7_queue_2 11 rfl rfl)
abbrev cX7_nextOn : ByteArray := prog_11_method_26_code
def yX7_nextOn : MethodName := ⟨RX7, "nextOn", "(II)I"⟩
def dkwX7_nextOn_3 : List UInt8 := [167, 0, 4, 29, 62, 132, 4, 1, 167, 255, 184, 29, 172]
abbrev dktX7_nextOn_3 : List UInt8 := dkwX7_nextOn_3 ++ []
def dkwX7_nextOn_2 : List UInt8 := [29, 16, 252, 159, 0, 19, 42, 27, 21, 4, 182, 0, 146, 42, 27, 29, 182, 0, 146, 164, 0, 8, 21, 4]
abbrev dktX7_nextOn_2 : List UInt8 := dkwX7_nextOn_2 ++ dktX7_nextOn_3
def dkwX7_nextOn_1 : List UInt8 := [153, 0, 16, 28, 21, 4, 122, 4, 126, 154, 0, 7, 4, 167, 0, 4, 3, 54, 5, 21, 5, 153, 0, 30]
abbrev dktX7_nextOn_1 : List UInt8 := dkwX7_nextOn_1 ++ dktX7_nextOn_2
def dkwX7_nextOn_0 : List UInt8 := [16, 252, 62, 3, 54, 4, 21, 4, 42, 180, 0, 125, 162, 0, 69, 42, 27, 21, 4, 182, 0, 131]
abbrev dktX7_nextOn_0 : List UInt8 := dkwX7_nextOn_0 ++ dktX7_nextOn_1
theorem dksX7_nextOn_0 : cX7_nextOn.data.toList.drop 0 = dktX7_nextOn_0 := by decide +kernel
theorem dksX7_nextOn_1 : cX7_nextOn.data.toList.drop 22 = dktX7_nextOn_1 := dk_seg dksX7_nextOn_0 22 rfl rfl
theorem dksX7_nextOn_2 : cX7_nextOn.data.toList.drop 46 = dktX7_nextOn_2 := dk_seg dksX7_nextOn_1 24 rfl rfl
theorem dksX7_nextOn_3 : cX7_nextOn.data.toList.drop 70 = dktX7_nextOn_3 := dk_seg dksX7_nextOn_2 24 rfl rfl
theorem dX7_nextOn_0 : decode cX7_nextOn 0 = .ok (.bipush (-4), 2) := dk_16 252 (dk_at dksX7_nextOn_0 0 rfl rfl)
theorem dX7_nextOn_2 : decode cX7_nextOn 2 = .ok (.istore_n 3, 1) := dk_62 (dk_at dksX7_nextOn_0 2 rfl rfl)
theorem dX7_nextOn_3 : decode cX7_nextOn 3 = .ok (.iconst 0, 1) := dk_3 (dk_at dksX7_nextOn_0 3 rfl rfl)
theorem dX7_nextOn_4 : decode cX7_nextOn 4 = .ok (.istore 4, 2) := dk_54 4 (dk_at dksX7_nextOn_0 4 rfl rfl)
theorem dX7_nextOn_6 : decode cX7_nextOn 6 = .ok (.iload 4, 2) := dk_21 4 (dk_at dksX7_nextOn_0 6 rfl rfl)
theorem dX7_nextOn_8 : decode cX7_nextOn 8 = .ok (.aload_n 0, 1) := dk_42 (dk_at dksX7_nextOn_0 8 rfl rfl)
theorem dX7_nextOn_9 : decode cX7_nextOn 9 = .ok (.getfield 125, 3) := dk_180 0 125 (dk_at dksX7_nextOn_0 9 rfl rfl)
theorem dX7_nextOn_12 : decode cX7_nextOn 12 = .ok (.if_icmp .ge 69, 3) := dk_162 0 69 (dk_at dksX7_nextOn_0 12 rfl rfl)
theorem dX7_nextOn_15 : decode cX7_nextOn 15 = .ok (.aload_n 0, 1) := dk_42 (dk_at dksX7_nextOn_0 15 rfl rfl)
theorem dX7_nextOn_16 : decode cX7_nextOn 16 = .ok (.iload_n 1, 1) := dk_27 (dk_at dksX7_nextOn_0 16 rfl rfl)
theorem dX7_nextOn_17 : decode cX7_nextOn 17 = .ok (.iload 4, 2) := dk_21 4 (dk_at dksX7_nextOn_0 17 rfl rfl)
theorem dX7_nextOn_19 : decode cX7_nextOn 19 = .ok (.invokevirtual 131, 3) := dk_182 0 131 (dk_at dksX7_nextOn_0 19 rfl rfl)
theorem dX7_nextOn_22 : decode cX7_nextOn 22 = .ok (.ifCond .eq 16, 3) := dk_153 0 16 (dk_at dksX7_nextOn_1 0 rfl rfl)
theorem dX7_nextOn_25 : decode cX7_nextOn 25 = .ok (.iload_n 2, 1) := dk_28 (dk_at dksX7_nextOn_1 3 rfl rfl)
theorem dX7_nextOn_26 : decode cX7_nextOn 26 = .ok (.iload 4, 2) := dk_21 4 (dk_at dksX7_nextOn_1 4 rfl rfl)
theorem dX7_nextOn_28 : decode cX7_nextOn 28 = .ok (.ishr, 1) := dk_122 (dk_at dksX7_nextOn_1 6 rfl rfl)
theorem dX7_nextOn_29 : decode cX7_nextOn 29 = .ok (.iconst 1, 1) := dk_4 (dk_at dksX7_nextOn_1 7 rfl rfl)
theorem dX7_nextOn_30 : decode cX7_nextOn 30 = .ok (.iand, 1) := dk_126 (dk_at dksX7_nextOn_1 8 rfl rfl)
theorem dX7_nextOn_31 : decode cX7_nextOn 31 = .ok (.ifCond .ne 7, 3) := dk_154 0 7 (dk_at dksX7_nextOn_1 9 rfl rfl)
theorem dX7_nextOn_34 : decode cX7_nextOn 34 = .ok (.iconst 1, 1) := dk_4 (dk_at dksX7_nextOn_1 12 rfl rfl)
theorem dX7_nextOn_35 : decode cX7_nextOn 35 = .ok (.goto 4, 3) := dk_167 0 4 (dk_at dksX7_nextOn_1 13 rfl rfl)
theorem dX7_nextOn_38 : decode cX7_nextOn 38 = .ok (.iconst 0, 1) := dk_3 (dk_at dksX7_nextOn_1 16 rfl rfl)
theorem dX7_nextOn_39 : decode cX7_nextOn 39 = .ok (.istore 5, 2) := dk_54 5 (dk_at dksX7_nextOn_1 17 rfl rfl)
theorem dX7_nextOn_41 : decode cX7_nextOn 41 = .ok (.iload 5, 2) := dk_21 5 (dk_at dksX7_nextOn_1 19 rfl rfl)
theorem dX7_nextOn_43 : decode cX7_nextOn 43 = .ok (.ifCond .eq 30, 3) := dk_153 0 30 (dk_at dksX7_nextOn_1 21 rfl rfl)
theorem dX7_nextOn_46 : decode cX7_nextOn 46 = .ok (.iload_n 3, 1) := dk_29 (dk_at dksX7_nextOn_2 0 rfl rfl)
theorem dX7_nextOn_47 : decode cX7_nextOn 47 = .ok (.bipush (-4), 2) := dk_16 252 (dk_at dksX7_nextOn_2 1 rfl rfl)
theorem dX7_nextOn_49 : decode cX7_nextOn 49 = .ok (.if_icmp .eq 19, 3) := dk_159 0 19 (dk_at dksX7_nextOn_2 3 rfl rfl)
theorem dX7_nextOn_52 : decode cX7_nextOn 52 = .ok (.aload_n 0, 1) := dk_42 (dk_at dksX7_nextOn_2 6 rfl rfl)
theorem dX7_nextOn_53 : decode cX7_nextOn 53 = .ok (.iload_n 1, 1) := dk_27 (dk_at dksX7_nextOn_2 7 rfl rfl)
theorem dX7_nextOn_54 : decode cX7_nextOn 54 = .ok (.iload 4, 2) := dk_21 4 (dk_at dksX7_nextOn_2 8 rfl rfl)
theorem dX7_nextOn_56 : decode cX7_nextOn 56 = .ok (.invokevirtual 146, 3) := dk_182 0 146 (dk_at dksX7_nextOn_2 10 rfl rfl)
theorem dX7_nextOn_59 : decode cX7_nextOn 59 = .ok (.aload_n 0, 1) := dk_42 (dk_at dksX7_nextOn_2 13 rfl rfl)
theorem dX7_nextOn_60 : decode cX7_nextOn 60 = .ok (.iload_n 1, 1) := dk_27 (dk_at dksX7_nextOn_2 14 rfl rfl)
theorem dX7_nextOn_61 : decode cX7_nextOn 61 = .ok (.iload_n 3, 1) := dk_29 (dk_at dksX7_nextOn_2 15 rfl rfl)
theorem dX7_nextOn_62 : decode cX7_nextOn 62 = .ok (.invokevirtual 146, 3) := dk_182 0 146 (dk_at dksX7_nextOn_2 16 rfl rfl)
theorem dX7_nextOn_65 : decode cX7_nextOn 65 = .ok (.if_icmp .le 8, 3) := dk_164 0 8 (dk_at dksX7_nextOn_2 19 rfl rfl)
theorem dX7_nextOn_68 : decode cX7_nextOn 68 = .ok (.iload 4, 2) := dk_21 4 (dk_at dksX7_nextOn_2 22 rfl rfl)
theorem dX7_nextOn_70 : decode cX7_nextOn 70 = .ok (.goto 4, 3) := dk_167 0 4 (dk_at dksX7_nextOn_3 0 rfl rfl)
theorem dX7_nextOn_73 : decode cX7_nextOn 73 = .ok (.iload_n 3, 1) := dk_29 (dk_at dksX7_nextOn_3 3 rfl rfl)
theorem dX7_nextOn_74 : decode cX7_nextOn 74 = .ok (.istore_n 3, 1) := dk_62 (dk_at dksX7_nextOn_3 4 rfl rfl)
theorem dX7_nextOn_75 : decode cX7_nextOn 75 = .ok (.iinc 4 1, 3) := dk_132 4 1 (dk_at dksX7_nextOn_3 5 rfl rfl)
theorem dX7_nextOn_78 : decode cX7_nextOn 78 = .ok (.goto (-72), 3) := dk_167 255 184 (dk_at dksX7_nextOn_3 8 rfl rfl)
theorem dX7_nextOn_81 : decode cX7_nextOn 81 = .ok (.iload_n 3, 1) := dk_29 (dk_at dksX7_nextOn_3 11 rfl rfl)
theorem dX7_nextOn_82 : decode cX7_nextOn 82 = .ok (.ireturn, 1) := dk_172 (dk_at dksX7_nextOn_3 12 rfl rfl)
abbrev cX7_placeOn : ByteArray := prog_11_method_25_code
def yX7_placeOn : MethodName := ⟨RX7, "placeOn", "(II)I"⟩
def dkwX7_placeOn_2 : List UInt8 := [96, 28, 96, 46, 172]
abbrev dktX7_placeOn_2 : List UInt8 := dkwX7_placeOn_2 ++ []
def dkwX7_placeOn_1 : List UInt8 := [154, 0, 7, 4, 167, 0, 4, 3, 62, 29, 153, 0, 7, 2, 167, 0, 14, 42, 180, 0, 7, 27, 16, 10]
abbrev dktX7_placeOn_1 : List UInt8 := dkwX7_placeOn_1 ++ dktX7_placeOn_2
def dkwX7_placeOn_0 : List UInt8 := [42, 180, 0, 7, 27, 28, 96, 46, 5, 160, 0, 20, 42, 180, 0, 7, 27, 8, 96, 28, 96, 46]
abbrev dktX7_placeOn_0 : List UInt8 := dkwX7_placeOn_0 ++ dktX7_placeOn_1
theorem dksX7_placeOn_0 : cX7_placeOn.data.toList.drop 0 = dktX7_placeOn_0 := by decide +kernel
theorem dksX7_placeOn_1 : cX7_placeOn.data.toList.drop 22 = dktX7_placeOn_1 := dk_seg dksX7_placeOn_0 22 rfl rfl
theorem dksX7_placeOn_2 : cX7_placeOn.data.toList.drop 46 = dktX7_placeOn_2 := dk_seg dksX7_placeOn_1 24 rfl rfl
theorem dX7_placeOn_0 : decode cX7_placeOn 0 = .ok (.aload_n 0, 1) := dk_42 (dk_at dksX7_placeOn_0 0 rfl rfl)
theorem dX7_placeOn_1 : decode cX7_placeOn 1 = .ok (.getfield 7, 3) := dk_180 0 7 (dk_at dksX7_placeOn_0 1 rfl rfl)
theorem dX7_placeOn_4 : decode cX7_placeOn 4 = .ok (.iload_n 1, 1) := dk_27 (dk_at dksX7_placeOn_0 4 rfl rfl)
theorem dX7_placeOn_5 : decode cX7_placeOn 5 = .ok (.iload_n 2, 1) := dk_28 (dk_at dksX7_placeOn_0 5 rfl rfl)
theorem dX7_placeOn_6 : decode cX7_placeOn 6 = .ok (.iadd, 1) := dk_96 (dk_at dksX7_placeOn_0 6 rfl rfl)
theorem dX7_placeOn_7 : decode cX7_placeOn 7 = .ok (.iaload, 1) := dk_46 (dk_at dksX7_placeOn_0 7 rfl rfl)
theorem dX7_placeOn_8 : decode cX7_placeOn 8 = .ok (.iconst 2, 1) := dk_5 (dk_at dksX7_placeOn_0 8 rfl rfl)
theorem dX7_placeOn_9 : decode cX7_placeOn 9 = .ok (.if_icmp .ne 20, 3) := dk_160 0 20 (dk_at dksX7_placeOn_0 9 rfl rfl)
theorem dX7_placeOn_12 : decode cX7_placeOn 12 = .ok (.aload_n 0, 1) := dk_42 (dk_at dksX7_placeOn_0 12 rfl rfl)
theorem dX7_placeOn_13 : decode cX7_placeOn 13 = .ok (.getfield 7, 3) := dk_180 0 7 (dk_at dksX7_placeOn_0 13 rfl rfl)
theorem dX7_placeOn_16 : decode cX7_placeOn 16 = .ok (.iload_n 1, 1) := dk_27 (dk_at dksX7_placeOn_0 16 rfl rfl)
theorem dX7_placeOn_17 : decode cX7_placeOn 17 = .ok (.iconst 5, 1) := dk_8 (dk_at dksX7_placeOn_0 17 rfl rfl)
theorem dX7_placeOn_18 : decode cX7_placeOn 18 = .ok (.iadd, 1) := dk_96 (dk_at dksX7_placeOn_0 18 rfl rfl)
theorem dX7_placeOn_19 : decode cX7_placeOn 19 = .ok (.iload_n 2, 1) := dk_28 (dk_at dksX7_placeOn_0 19 rfl rfl)
theorem dX7_placeOn_20 : decode cX7_placeOn 20 = .ok (.iadd, 1) := dk_96 (dk_at dksX7_placeOn_0 20 rfl rfl)
theorem dX7_placeOn_21 : decode cX7_placeOn 21 = .ok (.iaload, 1) := dk_46 (dk_at dksX7_placeOn_0 21 rfl rfl)
theorem dX7_placeOn_22 : decode cX7_placeOn 22 = .ok (.ifCond .ne 7, 3) := dk_154 0 7 (dk_at dksX7_placeOn_1 0 rfl rfl)
theorem dX7_placeOn_25 : decode cX7_placeOn 25 = .ok (.iconst 1, 1) := dk_4 (dk_at dksX7_placeOn_1 3 rfl rfl)
theorem dX7_placeOn_26 : decode cX7_placeOn 26 = .ok (.goto 4, 3) := dk_167 0 4 (dk_at dksX7_placeOn_1 4 rfl rfl)
theorem dX7_placeOn_29 : decode cX7_placeOn 29 = .ok (.iconst 0, 1) := dk_3 (dk_at dksX7_placeOn_1 7 rfl rfl)
theorem dX7_placeOn_30 : decode cX7_placeOn 30 = .ok (.istore_n 3, 1) := dk_62 (dk_at dksX7_placeOn_1 8 rfl rfl)
theorem dX7_placeOn_31 : decode cX7_placeOn 31 = .ok (.iload_n 3, 1) := dk_29 (dk_at dksX7_placeOn_1 9 rfl rfl)
theorem dX7_placeOn_32 : decode cX7_placeOn 32 = .ok (.ifCond .eq 7, 3) := dk_153 0 7 (dk_at dksX7_placeOn_1 10 rfl rfl)
theorem dX7_placeOn_35 : decode cX7_placeOn 35 = .ok (.iconst (-1), 1) := dk_2 (dk_at dksX7_placeOn_1 13 rfl rfl)
theorem dX7_placeOn_36 : decode cX7_placeOn 36 = .ok (.goto 14, 3) := dk_167 0 14 (dk_at dksX7_placeOn_1 14 rfl rfl)
theorem dX7_placeOn_39 : decode cX7_placeOn 39 = .ok (.aload_n 0, 1) := dk_42 (dk_at dksX7_placeOn_1 17 rfl rfl)
theorem dX7_placeOn_40 : decode cX7_placeOn 40 = .ok (.getfield 7, 3) := dk_180 0 7 (dk_at dksX7_placeOn_1 18 rfl rfl)
theorem dX7_placeOn_43 : decode cX7_placeOn 43 = .ok (.iload_n 1, 1) := dk_27 (dk_at dksX7_placeOn_1 21 rfl rfl)
theorem dX7_placeOn_44 : decode cX7_placeOn 44 = .ok (.bipush 10, 2) := dk_16 10 (dk_at dksX7_placeOn_1 22 rfl rfl)
theorem dX7_placeOn_46 : decode cX7_placeOn 46 = .ok (.iadd, 1) := dk_96 (dk_at dksX7_placeOn_2 0 rfl rfl)
theorem dX7_placeOn_47 : decode cX7_placeOn 47 = .ok (.iload_n 2, 1) := dk_28 (dk_at dksX7_placeOn_2 1 rfl rfl)
theorem dX7_placeOn_48 : decode cX7_placeOn 48 = .ok (.iadd, 1) := dk_96 (dk_at dksX7_placeOn_2 2 rfl rfl)
theorem dX7_placeOn_49 : decode cX7_placeOn 49 = .ok (.iaload, 1) := dk_46 (dk_at dksX7_placeOn_2 3 rfl rfl)
theorem dX7_placeOn_50 : decode cX7_placeOn 50 = .ok (.ireturn, 1) := dk_172 (dk_at dksX7_placeOn_2 4 rfl rfl)
abbrev cX7_alter : ByteArray := prog_11_method_34_code
def yX7_alter : MethodName := ⟨RX7, "alter", "(III)I"⟩
def dkwX7_alter_2 : List UInt8 := [3, 8, 28, 104, 27, 96, 29, 3, 182, 0, 171, 172]
abbrev dktX7_alter_2 : List UInt8 := dkwX7_alter_2 ++ []
def dkwX7_alter_1 : List UInt8 := [154, 0, 20, 28, 4, 160, 0, 19, 29, 133, 9, 20, 0, 169, 184, 0, 49, 153, 0, 7, 4, 167, 0, 4]
abbrev dktX7_alter_1 : List UInt8 := dkwX7_alter_1 ++ dktX7_alter_2
def dkwX7_alter_0 : List UInt8 := [42, 42, 27, 182, 0, 158, 153, 0, 40, 28, 154, 0, 15, 29, 133, 9, 20, 0, 167, 184, 0, 49]
abbrev dktX7_alter_0 : List UInt8 := dkwX7_alter_0 ++ dktX7_alter_1
theorem dksX7_alter_0 : cX7_alter.data.toList.drop 0 = dktX7_alter_0 := by decide +kernel
theorem dksX7_alter_1 : cX7_alter.data.toList.drop 22 = dktX7_alter_1 := dk_seg dksX7_alter_0 22 rfl rfl
theorem dksX7_alter_2 : cX7_alter.data.toList.drop 46 = dktX7_alter_2 := dk_seg dksX7_alter_1 24 rfl rfl
theorem dX7_alter_0 : decode cX7_alter 0 = .ok (.aload_n 0, 1) := dk_42 (dk_at dksX7_alter_0 0 rfl rfl)
theorem dX7_alter_1 : decode cX7_alter 1 = .ok (.aload_n 0, 1) := dk_42 (dk_at dksX7_alter_0 1 rfl rfl)
theorem dX7_alter_2 : decode cX7_alter 2 = .ok (.iload_n 1, 1) := dk_27 (dk_at dksX7_alter_0 2 rfl rfl)
theorem dX7_alter_3 : decode cX7_alter 3 = .ok (.invokevirtual 158, 3) := dk_182 0 158 (dk_at dksX7_alter_0 3 rfl rfl)
theorem dX7_alter_6 : decode cX7_alter 6 = .ok (.ifCond .eq 40, 3) := dk_153 0 40 (dk_at dksX7_alter_0 6 rfl rfl)
theorem dX7_alter_9 : decode cX7_alter 9 = .ok (.iload_n 2, 1) := dk_28 (dk_at dksX7_alter_0 9 rfl rfl)
theorem dX7_alter_10 : decode cX7_alter 10 = .ok (.ifCond .ne 15, 3) := dk_154 0 15 (dk_at dksX7_alter_0 10 rfl rfl)
theorem dX7_alter_13 : decode cX7_alter 13 = .ok (.iload_n 3, 1) := dk_29 (dk_at dksX7_alter_0 13 rfl rfl)
theorem dX7_alter_14 : decode cX7_alter 14 = .ok (.i2l, 1) := dk_133 (dk_at dksX7_alter_0 14 rfl rfl)
theorem dX7_alter_15 : decode cX7_alter 15 = .ok (.lconst 0, 1) := dk_9 (dk_at dksX7_alter_0 15 rfl rfl)
theorem dX7_alter_16 : decode cX7_alter 16 = .ok (.ldc2_w 167, 3) := dk_20 0 167 (dk_at dksX7_alter_0 16 rfl rfl)
theorem dX7_alter_19 : decode cX7_alter 19 = .ok (.invokestatic 49, 3) := dk_184 0 49 (dk_at dksX7_alter_0 19 rfl rfl)
theorem dX7_alter_22 : decode cX7_alter 22 = .ok (.ifCond .ne 20, 3) := dk_154 0 20 (dk_at dksX7_alter_1 0 rfl rfl)
theorem dX7_alter_25 : decode cX7_alter 25 = .ok (.iload_n 2, 1) := dk_28 (dk_at dksX7_alter_1 3 rfl rfl)
theorem dX7_alter_26 : decode cX7_alter 26 = .ok (.iconst 1, 1) := dk_4 (dk_at dksX7_alter_1 4 rfl rfl)
theorem dX7_alter_27 : decode cX7_alter 27 = .ok (.if_icmp .ne 19, 3) := dk_160 0 19 (dk_at dksX7_alter_1 5 rfl rfl)
theorem dX7_alter_30 : decode cX7_alter 30 = .ok (.iload_n 3, 1) := dk_29 (dk_at dksX7_alter_1 8 rfl rfl)
theorem dX7_alter_31 : decode cX7_alter 31 = .ok (.i2l, 1) := dk_133 (dk_at dksX7_alter_1 9 rfl rfl)
theorem dX7_alter_32 : decode cX7_alter 32 = .ok (.lconst 0, 1) := dk_9 (dk_at dksX7_alter_1 10 rfl rfl)
theorem dX7_alter_33 : decode cX7_alter 33 = .ok (.ldc2_w 169, 3) := dk_20 0 169 (dk_at dksX7_alter_1 11 rfl rfl)
theorem dX7_alter_36 : decode cX7_alter 36 = .ok (.invokestatic 49, 3) := dk_184 0 49 (dk_at dksX7_alter_1 14 rfl rfl)
theorem dX7_alter_39 : decode cX7_alter 39 = .ok (.ifCond .eq 7, 3) := dk_153 0 7 (dk_at dksX7_alter_1 17 rfl rfl)
theorem dX7_alter_42 : decode cX7_alter 42 = .ok (.iconst 1, 1) := dk_4 (dk_at dksX7_alter_1 20 rfl rfl)
theorem dX7_alter_43 : decode cX7_alter 43 = .ok (.goto 4, 3) := dk_167 0 4 (dk_at dksX7_alter_1 21 rfl rfl)
theorem dX7_alter_46 : decode cX7_alter 46 = .ok (.iconst 0, 1) := dk_3 (dk_at dksX7_alter_2 0 rfl rfl)
theorem dX7_alter_47 : decode cX7_alter 47 = .ok (.iconst 5, 1) := dk_8 (dk_at dksX7_alter_2 1 rfl rfl)
theorem dX7_alter_48 : decode cX7_alter 48 = .ok (.iload_n 2, 1) := dk_28 (dk_at dksX7_alter_2 2 rfl rfl)
theorem dX7_alter_49 : decode cX7_alter 49 = .ok (.imul, 1) := dk_104 (dk_at dksX7_alter_2 3 rfl rfl)
theorem dX7_alter_50 : decode cX7_alter 50 = .ok (.iload_n 1, 1) := dk_27 (dk_at dksX7_alter_2 4 rfl rfl)
theorem dX7_alter_51 : decode cX7_alter 51 = .ok (.iadd, 1) := dk_96 (dk_at dksX7_alter_2 5 rfl rfl)
theorem dX7_alter_52 : decode cX7_alter 52 = .ok (.iload_n 3, 1) := dk_29 (dk_at dksX7_alter_2 6 rfl rfl)
theorem dX7_alter_53 : decode cX7_alter 53 = .ok (.iconst 0, 1) := dk_3 (dk_at dksX7_alter_2 7 rfl rfl)
theorem dX7_alter_54 : decode cX7_alter 54 = .ok (.invokevirtual 171, 3) := dk_182 0 171 (dk_at dksX7_alter_2 8 rfl rfl)
theorem dX7_alter_57 : decode cX7_alter 57 = .ok (.ireturn, 1) := dk_172 (dk_at dksX7_alter_2 11 rfl rfl)
abbrev cX7_puts : ByteArray := prog_11_method_33_code
def yX7_puts : MethodName := ⟨RX7, "puts", "(ZIII)I"⟩
def dkwX7_puts_1 : List UInt8 := [21, 4, 100, 79, 21, 5, 172]
abbrev dktX7_puts_1 : List UInt8 := dkwX7_puts_1 ++ []
def dkwX7_puts_0 : List UInt8 := [27, 154, 0, 5, 2, 172, 42, 180, 0, 7, 28, 46, 21, 4, 96, 54, 5, 42, 180, 0, 7, 28, 29]
abbrev dktX7_puts_0 : List UInt8 := dkwX7_puts_0 ++ dktX7_puts_1
theorem dksX7_puts_0 : cX7_puts.data.toList.drop 0 = dktX7_puts_0 := by decide +kernel
theorem dksX7_puts_1 : cX7_puts.data.toList.drop 23 = dktX7_puts_1 := dk_seg dksX7_puts_0 23 rfl rfl
theorem dX7_puts_0 : decode cX7_puts 0 = .ok (.iload_n 1, 1) := dk_27 (dk_at dksX7_puts_0 0 rfl rfl)
theorem dX7_puts_1 : decode cX7_puts 1 = .ok (.ifCond .ne 5, 3) := dk_154 0 5 (dk_at dksX7_puts_0 1 rfl rfl)
theorem dX7_puts_4 : decode cX7_puts 4 = .ok (.iconst (-1), 1) := dk_2 (dk_at dksX7_puts_0 4 rfl rfl)
theorem dX7_puts_5 : decode cX7_puts 5 = .ok (.ireturn, 1) := dk_172 (dk_at dksX7_puts_0 5 rfl rfl)
theorem dX7_puts_6 : decode cX7_puts 6 = .ok (.aload_n 0, 1) := dk_42 (dk_at dksX7_puts_0 6 rfl rfl)
theorem dX7_puts_7 : decode cX7_puts 7 = .ok (.getfield 7, 3) := dk_180 0 7 (dk_at dksX7_puts_0 7 rfl rfl)
theorem dX7_puts_10 : decode cX7_puts 10 = .ok (.iload_n 2, 1) := dk_28 (dk_at dksX7_puts_0 10 rfl rfl)
theorem dX7_puts_11 : decode cX7_puts 11 = .ok (.iaload, 1) := dk_46 (dk_at dksX7_puts_0 11 rfl rfl)
theorem dX7_puts_12 : decode cX7_puts 12 = .ok (.iload 4, 2) := dk_21 4 (dk_at dksX7_puts_0 12 rfl rfl)
theorem dX7_puts_14 : decode cX7_puts 14 = .ok (.iadd, 1) := dk_96 (dk_at dksX7_puts_0 14 rfl rfl)
theorem dX7_puts_15 : decode cX7_puts 15 = .ok (.istore 5, 2) := dk_54 5 (dk_at dksX7_puts_0 15 rfl rfl)
theorem dX7_puts_17 : decode cX7_puts 17 = .ok (.aload_n 0, 1) := dk_42 (dk_at dksX7_puts_0 17 rfl rfl)
theorem dX7_puts_18 : decode cX7_puts 18 = .ok (.getfield 7, 3) := dk_180 0 7 (dk_at dksX7_puts_0 18 rfl rfl)
theorem dX7_puts_21 : decode cX7_puts 21 = .ok (.iload_n 2, 1) := dk_28 (dk_at dksX7_puts_0 21 rfl rfl)
theorem dX7_puts_22 : decode cX7_puts 22 = .ok (.iload_n 3, 1) := dk_29 (dk_at dksX7_puts_0 22 rfl rfl)
theorem dX7_puts_23 : decode cX7_puts 23 = .ok (.iload 4, 2) := dk_21 4 (dk_at dksX7_puts_1 0 rfl rfl)
theorem dX7_puts_25 : decode cX7_puts 25 = .ok (.isub, 1) := dk_100 (dk_at dksX7_puts_1 2 rfl rfl)
theorem dX7_puts_26 : decode cX7_puts 26 = .ok (.iastore, 1) := dk_79 (dk_at dksX7_puts_1 3 rfl rfl)
theorem dX7_puts_27 : decode cX7_puts 27 = .ok (.iload 5, 2) := dk_21 5 (dk_at dksX7_puts_1 4 rfl rfl)
theorem dX7_puts_29 : decode cX7_puts 29 = .ok (.ireturn, 1) := dk_172 (dk_at dksX7_puts_1 6 rfl rfl)
abbrev cX7_room : ByteArray := prog_11_method_35_code
def yX7_room : MethodName := ⟨RX7, "room", "(I)I"⟩
def dkwX7_room_0 : List UInt8 := [42, 27, 133, 10, 20, 0, 175, 184, 0, 49, 16, 17, 27, 5, 182, 0, 171, 172]
abbrev dktX7_room_0 : List UInt8 := dkwX7_room_0 ++ []
theorem dksX7_room_0 : cX7_room.data.toList.drop 0 = dktX7_room_0 := by decide +kernel
theorem dX7_room_0 : decode cX7_room 0 = .ok (.aload_n 0, 1) := dk_42 (dk_at dksX7_room_0 0 rfl rfl)
theorem dX7_room_1 : decode cX7_room 1 = .ok (.iload_n 1, 1) := dk_27 (dk_at dksX7_room_0 1 rfl rfl)
theorem dX7_room_2 : decode cX7_room 2 = .ok (.i2l, 1) := dk_133 (dk_at dksX7_room_0 2 rfl rfl)
theorem dX7_room_3 : decode cX7_room 3 = .ok (.lconst 1, 1) := dk_10 (dk_at dksX7_room_0 3 rfl rfl)
theorem dX7_room_4 : decode cX7_room 4 = .ok (.ldc2_w 175, 3) := dk_20 0 175 (dk_at dksX7_room_0 4 rfl rfl)
theorem dX7_room_7 : decode cX7_room 7 = .ok (.invokestatic 49, 3) := dk_184 0 49 (dk_at dksX7_room_0 7 rfl rfl)
theorem dX7_room_10 : decode cX7_room 10 = .ok (.bipush 17, 2) := dk_16 17 (dk_at dksX7_room_0 10 rfl rfl)
theorem dX7_room_12 : decode cX7_room 12 = .ok (.iload_n 1, 1) := dk_27 (dk_at dksX7_room_0 12 rfl rfl)
theorem dX7_room_13 : decode cX7_room 13 = .ok (.iconst 2, 1) := dk_5 (dk_at dksX7_room_0 13 rfl rfl)
theorem dX7_room_14 : decode cX7_room 14 = .ok (.invokevirtual 171, 3) := dk_182 0 171 (dk_at dksX7_room_0 14 rfl rfl)
theorem dX7_room_17 : decode cX7_room 17 = .ok (.ireturn, 1) := dk_172 (dk_at dksX7_room_0 17 rfl rfl)
abbrev cX7_think : ByteArray := prog_11_method_36_code
def yX7_think : MethodName := ⟨RX7, "think", "(I)I"⟩
def dkwX7_think_0 : List UInt8 := [42, 27, 133, 10, 20, 0, 177, 184, 0, 49, 16, 18, 27, 7, 182, 0, 171, 172]
abbrev dktX7_think_0 : List UInt8 := dkwX7_think_0 ++ []
theorem dksX7_think_0 : cX7_think.data.toList.drop 0 = dktX7_think_0 := by decide +kernel
theorem dX7_think_0 : decode cX7_think 0 = .ok (.aload_n 0, 1) := dk_42 (dk_at dksX7_think_0 0 rfl rfl)
theorem dX7_think_1 : decode cX7_think 1 = .ok (.iload_n 1, 1) := dk_27 (dk_at dksX7_think_0 1 rfl rfl)
theorem dX7_think_2 : decode cX7_think 2 = .ok (.i2l, 1) := dk_133 (dk_at dksX7_think_0 2 rfl rfl)
theorem dX7_think_3 : decode cX7_think 3 = .ok (.lconst 1, 1) := dk_10 (dk_at dksX7_think_0 3 rfl rfl)
theorem dX7_think_4 : decode cX7_think 4 = .ok (.ldc2_w 177, 3) := dk_20 0 177 (dk_at dksX7_think_0 4 rfl rfl)
theorem dX7_think_7 : decode cX7_think 7 = .ok (.invokestatic 49, 3) := dk_184 0 49 (dk_at dksX7_think_0 7 rfl rfl)
theorem dX7_think_10 : decode cX7_think 10 = .ok (.bipush 18, 2) := dk_16 18 (dk_at dksX7_think_0 10 rfl rfl)
theorem dX7_think_12 : decode cX7_think 12 = .ok (.iload_n 1, 1) := dk_27 (dk_at dksX7_think_0 12 rfl rfl)
theorem dX7_think_13 : decode cX7_think 13 = .ok (.iconst 4, 1) := dk_7 (dk_at dksX7_think_0 13 rfl rfl)
theorem dX7_think_14 : decode cX7_think 14 = .ok (.invokevirtual 171, 3) := dk_182 0 171 (dk_at dksX7_think_0 14 rfl rfl)
theorem dX7_think_17 : decode cX7_think 17 = .ok (.ireturn, 1) := dk_172 (dk_at dksX7_think_0 17 rfl rfl)
abbrev cX7_plan : ByteArray := prog_11_method_38_code
def yX7_plan : MethodName := ⟨RX7, "plan", "(I)I"⟩
def dkwX7_plan_2 : List UInt8 := [46, 4, 96, 79, 42, 180, 0, 7, 16, 27, 46, 172]
abbrev dktX7_plan_2 : List UInt8 := dkwX7_plan_2 ++ []
def dkwX7_plan_1 : List UInt8 := [172, 42, 180, 0, 7, 16, 19, 42, 180, 0, 7, 16, 27, 46, 96, 27, 79, 42, 180, 0, 7, 16, 27, 92]
abbrev dktX7_plan_1 : List UInt8 := dkwX7_plan_1 ++ dktX7_plan_2
def dkwX7_plan_0 : List UInt8 := [42, 27, 182, 0, 179, 154, 0, 5, 2, 172, 42, 180, 0, 7, 16, 27, 46, 16, 8, 160, 0, 6, 16, 253]
abbrev dktX7_plan_0 : List UInt8 := dkwX7_plan_0 ++ dktX7_plan_1
theorem dksX7_plan_0 : cX7_plan.data.toList.drop 0 = dktX7_plan_0 := by decide +kernel
theorem dksX7_plan_1 : cX7_plan.data.toList.drop 24 = dktX7_plan_1 := dk_seg dksX7_plan_0 24 rfl rfl
theorem dksX7_plan_2 : cX7_plan.data.toList.drop 48 = dktX7_plan_2 := dk_seg dksX7_plan_1 24 rfl rfl
theorem dX7_plan_0 : decode cX7_plan 0 = .ok (.aload_n 0, 1) := dk_42 (dk_at dksX7_plan_0 0 rfl rfl)
theorem dX7_plan_1 : decode cX7_plan 1 = .ok (.iload_n 1, 1) := dk_27 (dk_at dksX7_plan_0 1 rfl rfl)
theorem dX7_plan_2 : decode cX7_plan 2 = .ok (.invokevirtual 179, 3) := dk_182 0 179 (dk_at dksX7_plan_0 2 rfl rfl)
theorem dX7_plan_5 : decode cX7_plan 5 = .ok (.ifCond .ne 5, 3) := dk_154 0 5 (dk_at dksX7_plan_0 5 rfl rfl)
theorem dX7_plan_8 : decode cX7_plan 8 = .ok (.iconst (-1), 1) := dk_2 (dk_at dksX7_plan_0 8 rfl rfl)
theorem dX7_plan_9 : decode cX7_plan 9 = .ok (.ireturn, 1) := dk_172 (dk_at dksX7_plan_0 9 rfl rfl)
theorem dX7_plan_10 : decode cX7_plan 10 = .ok (.aload_n 0, 1) := dk_42 (dk_at dksX7_plan_0 10 rfl rfl)
theorem dX7_plan_11 : decode cX7_plan 11 = .ok (.getfield 7, 3) := dk_180 0 7 (dk_at dksX7_plan_0 11 rfl rfl)
theorem dX7_plan_14 : decode cX7_plan 14 = .ok (.bipush 27, 2) := dk_16 27 (dk_at dksX7_plan_0 14 rfl rfl)
theorem dX7_plan_16 : decode cX7_plan 16 = .ok (.iaload, 1) := dk_46 (dk_at dksX7_plan_0 16 rfl rfl)
theorem dX7_plan_17 : decode cX7_plan 17 = .ok (.bipush 8, 2) := dk_16 8 (dk_at dksX7_plan_0 17 rfl rfl)
theorem dX7_plan_19 : decode cX7_plan 19 = .ok (.if_icmp .ne 6, 3) := dk_160 0 6 (dk_at dksX7_plan_0 19 rfl rfl)
theorem dX7_plan_22 : decode cX7_plan 22 = .ok (.bipush (-3), 2) := dk_16 253 (dk_at dksX7_plan_0 22 rfl rfl)
theorem dX7_plan_24 : decode cX7_plan 24 = .ok (.ireturn, 1) := dk_172 (dk_at dksX7_plan_1 0 rfl rfl)
theorem dX7_plan_25 : decode cX7_plan 25 = .ok (.aload_n 0, 1) := dk_42 (dk_at dksX7_plan_1 1 rfl rfl)
theorem dX7_plan_26 : decode cX7_plan 26 = .ok (.getfield 7, 3) := dk_180 0 7 (dk_at dksX7_plan_1 2 rfl rfl)
theorem dX7_plan_29 : decode cX7_plan 29 = .ok (.bipush 19, 2) := dk_16 19 (dk_at dksX7_plan_1 5 rfl rfl)
theorem dX7_plan_31 : decode cX7_plan 31 = .ok (.aload_n 0, 1) := dk_42 (dk_at dksX7_plan_1 7 rfl rfl)
theorem dX7_plan_32 : decode cX7_plan 32 = .ok (.getfield 7, 3) := dk_180 0 7 (dk_at dksX7_plan_1 8 rfl rfl)
theorem dX7_plan_35 : decode cX7_plan 35 = .ok (.bipush 27, 2) := dk_16 27 (dk_at dksX7_plan_1 11 rfl rfl)
theorem dX7_plan_37 : decode cX7_plan 37 = .ok (.iaload, 1) := dk_46 (dk_at dksX7_plan_1 13 rfl rfl)
theorem dX7_plan_38 : decode cX7_plan 38 = .ok (.iadd, 1) := dk_96 (dk_at dksX7_plan_1 14 rfl rfl)
theorem dX7_plan_39 : decode cX7_plan 39 = .ok (.iload_n 1, 1) := dk_27 (dk_at dksX7_plan_1 15 rfl rfl)
theorem dX7_plan_40 : decode cX7_plan 40 = .ok (.iastore, 1) := dk_79 (dk_at dksX7_plan_1 16 rfl rfl)
theorem dX7_plan_41 : decode cX7_plan 41 = .ok (.aload_n 0, 1) := dk_42 (dk_at dksX7_plan_1 17 rfl rfl)
theorem dX7_plan_42 : decode cX7_plan 42 = .ok (.getfield 7, 3) := dk_180 0 7 (dk_at dksX7_plan_1 18 rfl rfl)
theorem dX7_plan_45 : decode cX7_plan 45 = .ok (.bipush 27, 2) := dk_16 27 (dk_at dksX7_plan_1 21 rfl rfl)
theorem dX7_plan_47 : decode cX7_plan 47 = .ok (.dup2, 1) := dk_92 (dk_at dksX7_plan_1 23 rfl rfl)
theorem dX7_plan_48 : decode cX7_plan 48 = .ok (.iaload, 1) := dk_46 (dk_at dksX7_plan_2 0 rfl rfl)
theorem dX7_plan_49 : decode cX7_plan 49 = .ok (.iconst 1, 1) := dk_4 (dk_at dksX7_plan_2 1 rfl rfl)
theorem dX7_plan_50 : decode cX7_plan 50 = .ok (.iadd, 1) := dk_96 (dk_at dksX7_plan_2 2 rfl rfl)
theorem dX7_plan_51 : decode cX7_plan 51 = .ok (.iastore, 1) := dk_79 (dk_at dksX7_plan_2 3 rfl rfl)
theorem dX7_plan_52 : decode cX7_plan 52 = .ok (.aload_n 0, 1) := dk_42 (dk_at dksX7_plan_2 4 rfl rfl)
theorem dX7_plan_53 : decode cX7_plan 53 = .ok (.getfield 7, 3) := dk_180 0 7 (dk_at dksX7_plan_2 5 rfl rfl)
theorem dX7_plan_56 : decode cX7_plan 56 = .ok (.bipush 27, 2) := dk_16 27 (dk_at dksX7_plan_2 8 rfl rfl)
theorem dX7_plan_58 : decode cX7_plan 58 = .ok (.iaload, 1) := dk_46 (dk_at dksX7_plan_2 10 rfl rfl)
theorem dX7_plan_59 : decode cX7_plan 59 = .ok (.ireturn, 1) := dk_172 (dk_at dksX7_plan_2 11 rfl rfl)
abbrev cX7_isAct : ByteArray := prog_11_method_37_code
def yX7_isAct : MethodName := ⟨RX7, "isAct", "(I)Z"⟩
def dkwX7_isAct_1 : List UInt8 := [172]
abbrev dktX7_isAct_1 : List UInt8 := dkwX7_isAct_1 ++ []
def dkwX7_isAct_0 : List UInt8 := [42, 27, 182, 0, 158, 154, 0, 14, 27, 8, 159, 0, 9, 27, 16, 6, 160, 0, 7, 4, 167, 0, 4, 3]
abbrev dktX7_isAct_0 : List UInt8 := dkwX7_isAct_0 ++ dktX7_isAct_1
theorem dksX7_isAct_0 : cX7_isAct.data.toList.drop 0 = dktX7_isAct_0 := by decide +kernel
theorem dksX7_isAct_1 : cX7_isAct.data.toList.drop 24 = dktX7_isAct_1 := dk_seg dksX7_isAct_0 24 rfl rfl
theorem dX7_isAct_0 : decode cX7_isAct 0 = .ok (.aload_n 0, 1) := dk_42 (dk_at dksX7_isAct_0 0 rfl rfl)
theorem dX7_isAct_1 : decode cX7_isAct 1 = .ok (.iload_n 1, 1) := dk_27 (dk_at dksX7_isAct_0 1 rfl rfl)
theorem dX7_isAct_2 : decode cX7_isAct 2 = .ok (.invokevirtual 158, 3) := dk_182 0 158 (dk_at dksX7_isAct_0 2 rfl rfl)
theorem dX7_isAct_5 : decode cX7_isAct 5 = .ok (.ifCond .ne 14, 3) := dk_154 0 14 (dk_at dksX7_isAct_0 5 rfl rfl)
theorem dX7_isAct_8 : decode cX7_isAct 8 = .ok (.iload_n 1, 1) := dk_27 (dk_at dksX7_isAct_0 8 rfl rfl)
theorem dX7_isAct_9 : decode cX7_isAct 9 = .ok (.iconst 5, 1) := dk_8 (dk_at dksX7_isAct_0 9 rfl rfl)
theorem dX7_isAct_10 : decode cX7_isAct 10 = .ok (.if_icmp .eq 9, 3) := dk_159 0 9 (dk_at dksX7_isAct_0 10 rfl rfl)
theorem dX7_isAct_13 : decode cX7_isAct 13 = .ok (.iload_n 1, 1) := dk_27 (dk_at dksX7_isAct_0 13 rfl rfl)
theorem dX7_isAct_14 : decode cX7_isAct 14 = .ok (.bipush 6, 2) := dk_16 6 (dk_at dksX7_isAct_0 14 rfl rfl)
theorem dX7_isAct_16 : decode cX7_isAct 16 = .ok (.if_icmp .ne 7, 3) := dk_160 0 7 (dk_at dksX7_isAct_0 16 rfl rfl)
theorem dX7_isAct_19 : decode cX7_isAct 19 = .ok (.iconst 1, 1) := dk_4 (dk_at dksX7_isAct_0 19 rfl rfl)
theorem dX7_isAct_20 : decode cX7_isAct 20 = .ok (.goto 4, 3) := dk_167 0 4 (dk_at dksX7_isAct_0 20 rfl rfl)
theorem dX7_isAct_23 : decode cX7_isAct 23 = .ok (.iconst 0, 1) := dk_3 (dk_at dksX7_isAct_0 23 rfl rfl)
theorem dX7_isAct_24 : decode cX7_isAct 24 = .ok (.ireturn, 1) := dk_172 (dk_at dksX7_isAct_1 0 rfl rfl)
abbrev cX7_cut : ByteArray := prog_11_method_39_code
def yX7_cut : MethodName := ⟨RX7, "cut", "(I)I"⟩
def dkwX7_cut_0 : List UInt8 := [42, 27, 133, 9, 42, 180, 0, 7, 16, 27, 46, 133, 184, 0, 49, 16, 27, 27, 3, 182, 0, 171, 172]
abbrev dktX7_cut_0 : List UInt8 := dkwX7_cut_0 ++ []
theorem dksX7_cut_0 : cX7_cut.data.toList.drop 0 = dktX7_cut_0 := by decide +kernel
theorem dX7_cut_0 : decode cX7_cut 0 = .ok (.aload_n 0, 1) := dk_42 (dk_at dksX7_cut_0 0 rfl rfl)
theorem dX7_cut_1 : decode cX7_cut 1 = .ok (.iload_n 1, 1) := dk_27 (dk_at dksX7_cut_0 1 rfl rfl)
theorem dX7_cut_2 : decode cX7_cut 2 = .ok (.i2l, 1) := dk_133 (dk_at dksX7_cut_0 2 rfl rfl)
theorem dX7_cut_3 : decode cX7_cut 3 = .ok (.lconst 0, 1) := dk_9 (dk_at dksX7_cut_0 3 rfl rfl)
theorem dX7_cut_4 : decode cX7_cut 4 = .ok (.aload_n 0, 1) := dk_42 (dk_at dksX7_cut_0 4 rfl rfl)
theorem dX7_cut_5 : decode cX7_cut 5 = .ok (.getfield 7, 3) := dk_180 0 7 (dk_at dksX7_cut_0 5 rfl rfl)
theorem dX7_cut_8 : decode cX7_cut 8 = .ok (.bipush 27, 2) := dk_16 27 (dk_at dksX7_cut_0 8 rfl rfl)
theorem dX7_cut_10 : decode cX7_cut 10 = .ok (.iaload, 1) := dk_46 (dk_at dksX7_cut_0 10 rfl rfl)
theorem dX7_cut_11 : decode cX7_cut 11 = .ok (.i2l, 1) := dk_133 (dk_at dksX7_cut_0 11 rfl rfl)
theorem dX7_cut_12 : decode cX7_cut 12 = .ok (.invokestatic 49, 3) := dk_184 0 49 (dk_at dksX7_cut_0 12 rfl rfl)
theorem dX7_cut_15 : decode cX7_cut 15 = .ok (.bipush 27, 2) := dk_16 27 (dk_at dksX7_cut_0 15 rfl rfl)
theorem dX7_cut_17 : decode cX7_cut 17 = .ok (.iload_n 1, 1) := dk_27 (dk_at dksX7_cut_0 17 rfl rfl)
theorem dX7_cut_18 : decode cX7_cut 18 = .ok (.iconst 0, 1) := dk_3 (dk_at dksX7_cut_0 18 rfl rfl)
theorem dX7_cut_19 : decode cX7_cut 19 = .ok (.invokevirtual 171, 3) := dk_182 0 171 (dk_at dksX7_cut_0 19 rfl rfl)
theorem dX7_cut_22 : decode cX7_cut 22 = .ok (.ireturn, 1) := dk_172 (dk_at dksX7_cut_0 22 rfl rfl)
abbrev cX7_thinks : ByteArray := prog_11_method_40_code
def yX7_thinks : MethodName := ⟨RX7, "thinks", "(I)I"⟩
def dkwX7_thinks_1 : List UInt8 := [182, 0, 182, 167, 0, 5, 16, 254, 172]
abbrev dktX7_thinks_1 : List UInt8 := dkwX7_thinks_1 ++ []
def dkwX7_thinks_0 : List UInt8 := [42, 27, 182, 0, 158, 154, 0, 5, 2, 172, 42, 3, 27, 182, 0, 131, 153, 0, 12, 42, 3, 27]
abbrev dktX7_thinks_0 : List UInt8 := dkwX7_thinks_0 ++ dktX7_thinks_1
theorem dksX7_thinks_0 : cX7_thinks.data.toList.drop 0 = dktX7_thinks_0 := by decide +kernel
theorem dksX7_thinks_1 : cX7_thinks.data.toList.drop 22 = dktX7_thinks_1 := dk_seg dksX7_thinks_0 22 rfl rfl
theorem dX7_thinks_0 : decode cX7_thinks 0 = .ok (.aload_n 0, 1) := dk_42 (dk_at dksX7_thinks_0 0 rfl rfl)
theorem dX7_thinks_1 : decode cX7_thinks 1 = .ok (.iload_n 1, 1) := dk_27 (dk_at dksX7_thinks_0 1 rfl rfl)
theorem dX7_thinks_2 : decode cX7_thinks 2 = .ok (.invokevirtual 158, 3) := dk_182 0 158 (dk_at dksX7_thinks_0 2 rfl rfl)
theorem dX7_thinks_5 : decode cX7_thinks 5 = .ok (.ifCond .ne 5, 3) := dk_154 0 5 (dk_at dksX7_thinks_0 5 rfl rfl)
theorem dX7_thinks_8 : decode cX7_thinks 8 = .ok (.iconst (-1), 1) := dk_2 (dk_at dksX7_thinks_0 8 rfl rfl)
theorem dX7_thinks_9 : decode cX7_thinks 9 = .ok (.ireturn, 1) := dk_172 (dk_at dksX7_thinks_0 9 rfl rfl)
theorem dX7_thinks_10 : decode cX7_thinks 10 = .ok (.aload_n 0, 1) := dk_42 (dk_at dksX7_thinks_0 10 rfl rfl)
theorem dX7_thinks_11 : decode cX7_thinks 11 = .ok (.iconst 0, 1) := dk_3 (dk_at dksX7_thinks_0 11 rfl rfl)
theorem dX7_thinks_12 : decode cX7_thinks 12 = .ok (.iload_n 1, 1) := dk_27 (dk_at dksX7_thinks_0 12 rfl rfl)
theorem dX7_thinks_13 : decode cX7_thinks 13 = .ok (.invokevirtual 131, 3) := dk_182 0 131 (dk_at dksX7_thinks_0 13 rfl rfl)
theorem dX7_thinks_16 : decode cX7_thinks 16 = .ok (.ifCond .eq 12, 3) := dk_153 0 12 (dk_at dksX7_thinks_0 16 rfl rfl)
theorem dX7_thinks_19 : decode cX7_thinks 19 = .ok (.aload_n 0, 1) := dk_42 (dk_at dksX7_thinks_0 19 rfl rfl)
theorem dX7_thinks_20 : decode cX7_thinks 20 = .ok (.iconst 0, 1) := dk_3 (dk_at dksX7_thinks_0 20 rfl rfl)
theorem dX7_thinks_21 : decode cX7_thinks 21 = .ok (.iload_n 1, 1) := dk_27 (dk_at dksX7_thinks_0 21 rfl rfl)
theorem dX7_thinks_22 : decode cX7_thinks 22 = .ok (.invokevirtual 182, 3) := dk_182 0 182 (dk_at dksX7_thinks_1 0 rfl rfl)
theorem dX7_thinks_25 : decode cX7_thinks 25 = .ok (.goto 5, 3) := dk_167 0 5 (dk_at dksX7_thinks_1 3 rfl rfl)
theorem dX7_thinks_28 : decode cX7_thinks 28 = .ok (.bipush (-2), 2) := dk_16 254 (dk_at dksX7_thinks_1 6 rfl rfl)
theorem dX7_thinks_30 : decode cX7_thinks 30 = .ok (.ireturn, 1) := dk_172 (dk_at dksX7_thinks_1 8 rfl rfl)
abbrev cX7_thinksOn : ByteArray := prog_11_method_23_code
def yX7_thinksOn : MethodName := ⟨RX7, "thinksOn", "(II)I"⟩
def dkwX7_thinksOn_4 : List UInt8 := [29, 172]
abbrev dktX7_thinksOn_4 : List UInt8 := dkwX7_thinksOn_4 ++ []
def dkwX7_thinksOn_3 : List UInt8 := [96, 21, 4, 96, 3, 79, 42, 27, 21, 4, 182, 0, 142, 42, 27, 29, 182, 0, 139, 54, 4, 167, 255, 192]
abbrev dktX7_thinksOn_3 : List UInt8 := dkwX7_thinksOn_3 ++ dktX7_thinksOn_4
def dkwX7_thinksOn_2 : List UInt8 := [16, 10, 96, 21, 4, 96, 42, 180, 0, 7, 27, 16, 16, 96, 46, 4, 96, 79, 42, 180, 0, 7, 27, 8]
abbrev dktX7_thinksOn_2 : List UInt8 := dkwX7_thinksOn_2 ++ dktX7_thinksOn_3
def dkwX7_thinksOn_1 : List UInt8 := [182, 0, 139, 54, 4, 21, 4, 16, 252, 159, 0, 63, 29, 4, 21, 4, 120, 128, 62, 42, 180, 0, 7, 27]
abbrev dktX7_thinksOn_1 : List UInt8 := dkwX7_thinksOn_1 ++ dktX7_thinksOn_2
def dkwX7_thinksOn_0 : List UInt8 := [42, 27, 28, 42, 180, 0, 7, 27, 16, 18, 96, 46, 7, 96, 182, 0, 135, 3, 62, 42, 27, 29]
abbrev dktX7_thinksOn_0 : List UInt8 := dkwX7_thinksOn_0 ++ dktX7_thinksOn_1
theorem dksX7_thinksOn_0 : cX7_thinksOn.data.toList.drop 0 = dktX7_thinksOn_0 := by decide +kernel
theorem dksX7_thinksOn_1 : cX7_thinksOn.data.toList.drop 22 = dktX7_thinksOn_1 := dk_seg dksX7_thinksOn_0 22 rfl rfl
theorem dksX7_thinksOn_2 : cX7_thinksOn.data.toList.drop 46 = dktX7_thinksOn_2 := dk_seg dksX7_thinksOn_1 24 rfl rfl
theorem dksX7_thinksOn_3 : cX7_thinksOn.data.toList.drop 70 = dktX7_thinksOn_3 := dk_seg dksX7_thinksOn_2 24 rfl rfl
theorem dksX7_thinksOn_4 : cX7_thinksOn.data.toList.drop 94 = dktX7_thinksOn_4 := dk_seg dksX7_thinksOn_3 24 rfl rfl
theorem dX7_thinksOn_0 : decode cX7_thinksOn 0 = .ok (.aload_n 0, 1) := dk_42 (dk_at dksX7_thinksOn_0 0 rfl rfl)
theorem dX7_thinksOn_1 : decode cX7_thinksOn 1 = .ok (.iload_n 1, 1) := dk_27 (dk_at dksX7_thinksOn_0 1 rfl rfl)
theorem dX7_thinksOn_2 : decode cX7_thinksOn 2 = .ok (.iload_n 2, 1) := dk_28 (dk_at dksX7_thinksOn_0 2 rfl rfl)
theorem dX7_thinksOn_3 : decode cX7_thinksOn 3 = .ok (.aload_n 0, 1) := dk_42 (dk_at dksX7_thinksOn_0 3 rfl rfl)
theorem dX7_thinksOn_4 : decode cX7_thinksOn 4 = .ok (.getfield 7, 3) := dk_180 0 7 (dk_at dksX7_thinksOn_0 4 rfl rfl)
theorem dX7_thinksOn_7 : decode cX7_thinksOn 7 = .ok (.iload_n 1, 1) := dk_27 (dk_at dksX7_thinksOn_0 7 rfl rfl)
theorem dX7_thinksOn_8 : decode cX7_thinksOn 8 = .ok (.bipush 18, 2) := dk_16 18 (dk_at dksX7_thinksOn_0 8 rfl rfl)
theorem dX7_thinksOn_10 : decode cX7_thinksOn 10 = .ok (.iadd, 1) := dk_96 (dk_at dksX7_thinksOn_0 10 rfl rfl)
theorem dX7_thinksOn_11 : decode cX7_thinksOn 11 = .ok (.iaload, 1) := dk_46 (dk_at dksX7_thinksOn_0 11 rfl rfl)
theorem dX7_thinksOn_12 : decode cX7_thinksOn 12 = .ok (.iconst 4, 1) := dk_7 (dk_at dksX7_thinksOn_0 12 rfl rfl)
theorem dX7_thinksOn_13 : decode cX7_thinksOn 13 = .ok (.iadd, 1) := dk_96 (dk_at dksX7_thinksOn_0 13 rfl rfl)
theorem dX7_thinksOn_14 : decode cX7_thinksOn 14 = .ok (.invokevirtual 135, 3) := dk_182 0 135 (dk_at dksX7_thinksOn_0 14 rfl rfl)
theorem dX7_thinksOn_17 : decode cX7_thinksOn 17 = .ok (.iconst 0, 1) := dk_3 (dk_at dksX7_thinksOn_0 17 rfl rfl)
theorem dX7_thinksOn_18 : decode cX7_thinksOn 18 = .ok (.istore_n 3, 1) := dk_62 (dk_at dksX7_thinksOn_0 18 rfl rfl)
theorem dX7_thinksOn_19 : decode cX7_thinksOn 19 = .ok (.aload_n 0, 1) := dk_42 (dk_at dksX7_thinksOn_0 19 rfl rfl)
theorem dX7_thinksOn_20 : decode cX7_thinksOn 20 = .ok (.iload_n 1, 1) := dk_27 (dk_at dksX7_thinksOn_0 20 rfl rfl)
theorem dX7_thinksOn_21 : decode cX7_thinksOn 21 = .ok (.iload_n 3, 1) := dk_29 (dk_at dksX7_thinksOn_0 21 rfl rfl)
theorem dX7_thinksOn_22 : decode cX7_thinksOn 22 = .ok (.invokevirtual 139, 3) := dk_182 0 139 (dk_at dksX7_thinksOn_1 0 rfl rfl)
theorem dX7_thinksOn_25 : decode cX7_thinksOn 25 = .ok (.istore 4, 2) := dk_54 4 (dk_at dksX7_thinksOn_1 3 rfl rfl)
theorem dX7_thinksOn_27 : decode cX7_thinksOn 27 = .ok (.iload 4, 2) := dk_21 4 (dk_at dksX7_thinksOn_1 5 rfl rfl)
theorem dX7_thinksOn_29 : decode cX7_thinksOn 29 = .ok (.bipush (-4), 2) := dk_16 252 (dk_at dksX7_thinksOn_1 7 rfl rfl)
theorem dX7_thinksOn_31 : decode cX7_thinksOn 31 = .ok (.if_icmp .eq 63, 3) := dk_159 0 63 (dk_at dksX7_thinksOn_1 9 rfl rfl)
theorem dX7_thinksOn_34 : decode cX7_thinksOn 34 = .ok (.iload_n 3, 1) := dk_29 (dk_at dksX7_thinksOn_1 12 rfl rfl)
theorem dX7_thinksOn_35 : decode cX7_thinksOn 35 = .ok (.iconst 1, 1) := dk_4 (dk_at dksX7_thinksOn_1 13 rfl rfl)
theorem dX7_thinksOn_36 : decode cX7_thinksOn 36 = .ok (.iload 4, 2) := dk_21 4 (dk_at dksX7_thinksOn_1 14 rfl rfl)
theorem dX7_thinksOn_38 : decode cX7_thinksOn 38 = .ok (.ishl, 1) := dk_120 (dk_at dksX7_thinksOn_1 16 rfl rfl)
theorem dX7_thinksOn_39 : decode cX7_thinksOn 39 = .ok (.ior, 1) := dk_128 (dk_at dksX7_thinksOn_1 17 rfl rfl)
theorem dX7_thinksOn_40 : decode cX7_thinksOn 40 = .ok (.istore_n 3, 1) := dk_62 (dk_at dksX7_thinksOn_1 18 rfl rfl)
theorem dX7_thinksOn_41 : decode cX7_thinksOn 41 = .ok (.aload_n 0, 1) := dk_42 (dk_at dksX7_thinksOn_1 19 rfl rfl)
theorem dX7_thinksOn_42 : decode cX7_thinksOn 42 = .ok (.getfield 7, 3) := dk_180 0 7 (dk_at dksX7_thinksOn_1 20 rfl rfl)
theorem dX7_thinksOn_45 : decode cX7_thinksOn 45 = .ok (.iload_n 1, 1) := dk_27 (dk_at dksX7_thinksOn_1 23 rfl rfl)
theorem dX7_thinksOn_46 : decode cX7_thinksOn 46 = .ok (.bipush 10, 2) := dk_16 10 (dk_at dksX7_thinksOn_2 0 rfl rfl)
theorem dX7_thinksOn_48 : decode cX7_thinksOn 48 = .ok (.iadd, 1) := dk_96 (dk_at dksX7_thinksOn_2 2 rfl rfl)
theorem dX7_thinksOn_49 : decode cX7_thinksOn 49 = .ok (.iload 4, 2) := dk_21 4 (dk_at dksX7_thinksOn_2 3 rfl rfl)
theorem dX7_thinksOn_51 : decode cX7_thinksOn 51 = .ok (.iadd, 1) := dk_96 (dk_at dksX7_thinksOn_2 5 rfl rfl)
theorem dX7_thinksOn_52 : decode cX7_thinksOn 52 = .ok (.aload_n 0, 1) := dk_42 (dk_at dksX7_thinksOn_2 6 rfl rfl)
theorem dX7_thinksOn_53 : decode cX7_thinksOn 53 = .ok (.getfield 7, 3) := dk_180 0 7 (dk_at dksX7_thinksOn_2 7 rfl rfl)
theorem dX7_thinksOn_56 : decode cX7_thinksOn 56 = .ok (.iload_n 1, 1) := dk_27 (dk_at dksX7_thinksOn_2 10 rfl rfl)
theorem dX7_thinksOn_57 : decode cX7_thinksOn 57 = .ok (.bipush 16, 2) := dk_16 16 (dk_at dksX7_thinksOn_2 11 rfl rfl)
theorem dX7_thinksOn_59 : decode cX7_thinksOn 59 = .ok (.iadd, 1) := dk_96 (dk_at dksX7_thinksOn_2 13 rfl rfl)
theorem dX7_thinksOn_60 : decode cX7_thinksOn 60 = .ok (.iaload, 1) := dk_46 (dk_at dksX7_thinksOn_2 14 rfl rfl)
theorem dX7_thinksOn_61 : decode cX7_thinksOn 61 = .ok (.iconst 1, 1) := dk_4 (dk_at dksX7_thinksOn_2 15 rfl rfl)
theorem dX7_thinksOn_62 : decode cX7_thinksOn 62 = .ok (.iadd, 1) := dk_96 (dk_at dksX7_thinksOn_2 16 rfl rfl)
theorem dX7_thinksOn_63 : decode cX7_thinksOn 63 = .ok (.iastore, 1) := dk_79 (dk_at dksX7_thinksOn_2 17 rfl rfl)
theorem dX7_thinksOn_64 : decode cX7_thinksOn 64 = .ok (.aload_n 0, 1) := dk_42 (dk_at dksX7_thinksOn_2 18 rfl rfl)
theorem dX7_thinksOn_65 : decode cX7_thinksOn 65 = .ok (.getfield 7, 3) := dk_180 0 7 (dk_at dksX7_thinksOn_2 19 rfl rfl)
theorem dX7_thinksOn_68 : decode cX7_thinksOn 68 = .ok (.iload_n 1, 1) := dk_27 (dk_at dksX7_thinksOn_2 22 rfl rfl)
theorem dX7_thinksOn_69 : decode cX7_thinksOn 69 = .ok (.iconst 5, 1) := dk_8 (dk_at dksX7_thinksOn_2 23 rfl rfl)
theorem dX7_thinksOn_70 : decode cX7_thinksOn 70 = .ok (.iadd, 1) := dk_96 (dk_at dksX7_thinksOn_3 0 rfl rfl)
theorem dX7_thinksOn_71 : decode cX7_thinksOn 71 = .ok (.iload 4, 2) := dk_21 4 (dk_at dksX7_thinksOn_3 1 rfl rfl)
theorem dX7_thinksOn_73 : decode cX7_thinksOn 73 = .ok (.iadd, 1) := dk_96 (dk_at dksX7_thinksOn_3 3 rfl rfl)
theorem dX7_thinksOn_74 : decode cX7_thinksOn 74 = .ok (.iconst 0, 1) := dk_3 (dk_at dksX7_thinksOn_3 4 rfl rfl)
theorem dX7_thinksOn_75 : decode cX7_thinksOn 75 = .ok (.iastore, 1) := dk_79 (dk_at dksX7_thinksOn_3 5 rfl rfl)
theorem dX7_thinksOn_76 : decode cX7_thinksOn 76 = .ok (.aload_n 0, 1) := dk_42 (dk_at dksX7_thinksOn_3 6 rfl rfl)
theorem dX7_thinksOn_77 : decode cX7_thinksOn 77 = .ok (.iload_n 1, 1) := dk_27 (dk_at dksX7_thinksOn_3 7 rfl rfl)
theorem dX7_thinksOn_78 : decode cX7_thinksOn 78 = .ok (.iload 4, 2) := dk_21 4 (dk_at dksX7_thinksOn_3 8 rfl rfl)
theorem dX7_thinksOn_80 : decode cX7_thinksOn 80 = .ok (.invokevirtual 142, 3) := dk_182 0 142 (dk_at dksX7_thinksOn_3 10 rfl rfl)
theorem dX7_thinksOn_83 : decode cX7_thinksOn 83 = .ok (.aload_n 0, 1) := dk_42 (dk_at dksX7_thinksOn_3 13 rfl rfl)
theorem dX7_thinksOn_84 : decode cX7_thinksOn 84 = .ok (.iload_n 1, 1) := dk_27 (dk_at dksX7_thinksOn_3 14 rfl rfl)
theorem dX7_thinksOn_85 : decode cX7_thinksOn 85 = .ok (.iload_n 3, 1) := dk_29 (dk_at dksX7_thinksOn_3 15 rfl rfl)
theorem dX7_thinksOn_86 : decode cX7_thinksOn 86 = .ok (.invokevirtual 139, 3) := dk_182 0 139 (dk_at dksX7_thinksOn_3 16 rfl rfl)
theorem dX7_thinksOn_89 : decode cX7_thinksOn 89 = .ok (.istore 4, 2) := dk_54 4 (dk_at dksX7_thinksOn_3 19 rfl rfl)
theorem dX7_thinksOn_91 : decode cX7_thinksOn 91 = .ok (.goto (-64), 3) := dk_167 255 192 (dk_at dksX7_thinksOn_3 21 rfl rfl)
theorem dX7_thinksOn_94 : decode cX7_thinksOn 94 = .ok (.iload_n 3, 1) := dk_29 (dk_at dksX7_thinksOn_4 0 rfl rfl)
theorem dX7_thinksOn_95 : decode cX7_thinksOn 95 = .ok (.ireturn, 1) := dk_172 (dk_at dksX7_thinksOn_4 1 rfl rfl)
abbrev cX7_grieves : ByteArray := prog_11_method_20_code
def yX7_grieves : MethodName := ⟨RX7, "grieves", "(III)V"⟩
def dkwX7_grieves_1 : List UInt8 := [21, 4, 16, 40, 164, 0, 8, 16, 40, 167, 0, 5, 21, 4, 79, 177]
abbrev dktX7_grieves_1 : List UInt8 := dkwX7_grieves_1 ++ []
def dkwX7_grieves_0 : List UInt8 := [42, 180, 0, 7, 27, 8, 96, 28, 96, 46, 29, 96, 54, 4, 42, 180, 0, 7, 27, 8, 96, 28, 96]
abbrev dktX7_grieves_0 : List UInt8 := dkwX7_grieves_0 ++ dktX7_grieves_1
theorem dksX7_grieves_0 : cX7_grieves.data.toList.drop 0 = dktX7_grieves_0 := by decide +kernel
theorem dksX7_grieves_1 : cX7_grieves.data.toList.drop 23 = dktX7_grieves_1 := dk_seg dksX7_grieves_0 23 rfl rfl
theorem dX7_grieves_0 : decode cX7_grieves 0 = .ok (.aload_n 0, 1) := dk_42 (dk_at dksX7_grieves_0 0 rfl rfl)
theorem dX7_grieves_1 : decode cX7_grieves 1 = .ok (.getfield 7, 3) := dk_180 0 7 (dk_at dksX7_grieves_0 1 rfl rfl)
theorem dX7_grieves_4 : decode cX7_grieves 4 = .ok (.iload_n 1, 1) := dk_27 (dk_at dksX7_grieves_0 4 rfl rfl)
theorem dX7_grieves_5 : decode cX7_grieves 5 = .ok (.iconst 5, 1) := dk_8 (dk_at dksX7_grieves_0 5 rfl rfl)
theorem dX7_grieves_6 : decode cX7_grieves 6 = .ok (.iadd, 1) := dk_96 (dk_at dksX7_grieves_0 6 rfl rfl)
theorem dX7_grieves_7 : decode cX7_grieves 7 = .ok (.iload_n 2, 1) := dk_28 (dk_at dksX7_grieves_0 7 rfl rfl)
theorem dX7_grieves_8 : decode cX7_grieves 8 = .ok (.iadd, 1) := dk_96 (dk_at dksX7_grieves_0 8 rfl rfl)
theorem dX7_grieves_9 : decode cX7_grieves 9 = .ok (.iaload, 1) := dk_46 (dk_at dksX7_grieves_0 9 rfl rfl)
theorem dX7_grieves_10 : decode cX7_grieves 10 = .ok (.iload_n 3, 1) := dk_29 (dk_at dksX7_grieves_0 10 rfl rfl)
theorem dX7_grieves_11 : decode cX7_grieves 11 = .ok (.iadd, 1) := dk_96 (dk_at dksX7_grieves_0 11 rfl rfl)
theorem dX7_grieves_12 : decode cX7_grieves 12 = .ok (.istore 4, 2) := dk_54 4 (dk_at dksX7_grieves_0 12 rfl rfl)
theorem dX7_grieves_14 : decode cX7_grieves 14 = .ok (.aload_n 0, 1) := dk_42 (dk_at dksX7_grieves_0 14 rfl rfl)
theorem dX7_grieves_15 : decode cX7_grieves 15 = .ok (.getfield 7, 3) := dk_180 0 7 (dk_at dksX7_grieves_0 15 rfl rfl)
theorem dX7_grieves_18 : decode cX7_grieves 18 = .ok (.iload_n 1, 1) := dk_27 (dk_at dksX7_grieves_0 18 rfl rfl)
theorem dX7_grieves_19 : decode cX7_grieves 19 = .ok (.iconst 5, 1) := dk_8 (dk_at dksX7_grieves_0 19 rfl rfl)
theorem dX7_grieves_20 : decode cX7_grieves 20 = .ok (.iadd, 1) := dk_96 (dk_at dksX7_grieves_0 20 rfl rfl)
theorem dX7_grieves_21 : decode cX7_grieves 21 = .ok (.iload_n 2, 1) := dk_28 (dk_at dksX7_grieves_0 21 rfl rfl)
theorem dX7_grieves_22 : decode cX7_grieves 22 = .ok (.iadd, 1) := dk_96 (dk_at dksX7_grieves_0 22 rfl rfl)
theorem dX7_grieves_23 : decode cX7_grieves 23 = .ok (.iload 4, 2) := dk_21 4 (dk_at dksX7_grieves_1 0 rfl rfl)
theorem dX7_grieves_25 : decode cX7_grieves 25 = .ok (.bipush 40, 2) := dk_16 40 (dk_at dksX7_grieves_1 2 rfl rfl)
theorem dX7_grieves_27 : decode cX7_grieves 27 = .ok (.if_icmp .le 8, 3) := dk_164 0 8 (dk_at dksX7_grieves_1 4 rfl rfl)
theorem dX7_grieves_30 : decode cX7_grieves 30 = .ok (.bipush 40, 2) := dk_16 40 (dk_at dksX7_grieves_1 7 rfl rfl)
theorem dX7_grieves_32 : decode cX7_grieves 32 = .ok (.goto 5, 3) := dk_167 0 5 (dk_at dksX7_grieves_1 9 rfl rfl)
theorem dX7_grieves_35 : decode cX7_grieves 35 = .ok (.iload 4, 2) := dk_21 4 (dk_at dksX7_grieves_1 12 rfl rfl)
theorem dX7_grieves_37 : decode cX7_grieves 37 = .ok (.iastore, 1) := dk_79 (dk_at dksX7_grieves_1 14 rfl rfl)
theorem dX7_grieves_38 : decode cX7_grieves 38 = .ok (.return_, 1) := dk_177 (dk_at dksX7_grieves_1 15 rfl rfl)
abbrev cX7_nextToWeep : ByteArray := prog_11_method_22_code
def yX7_nextToWeep : MethodName := ⟨RX7, "nextToWeep", "(II)I"⟩
def dkwX7_nextToWeep_2 : List UInt8 := [46, 46, 161, 0, 5, 29, 172, 132, 3, 1, 167, 255, 200, 16, 252, 172]
abbrev dktX7_nextToWeep_2 : List UInt8 := dkwX7_nextToWeep_2 ++ []
def dkwX7_nextToWeep_1 : List UInt8 := [154, 0, 31, 42, 180, 0, 7, 27, 8, 96, 29, 96, 46, 42, 180, 0, 13, 42, 180, 0, 7, 27, 29, 96]
abbrev dktX7_nextToWeep_1 : List UInt8 := dkwX7_nextToWeep_1 ++ dktX7_nextToWeep_2
def dkwX7_nextToWeep_0 : List UInt8 := [3, 62, 29, 42, 180, 0, 125, 162, 0, 54, 42, 27, 29, 182, 0, 131, 153, 0, 39, 28, 29, 122, 4, 126]
abbrev dktX7_nextToWeep_0 : List UInt8 := dkwX7_nextToWeep_0 ++ dktX7_nextToWeep_1
theorem dksX7_nextToWeep_0 : cX7_nextToWeep.data.toList.drop 0 = dktX7_nextToWeep_0 := by decide +kernel
theorem dksX7_nextToWeep_1 : cX7_nextToWeep.data.toList.drop 24 = dktX7_nextToWeep_1 := dk_seg dksX7_nextToWeep_0 24 rfl rfl
theorem dksX7_nextToWeep_2 : cX7_nextToWeep.data.toList.drop 48 = dktX7_nextToWeep_2 := dk_seg dksX7_nextToWeep_1 24 rfl rfl
theorem dX7_nextToWeep_0 : decode cX7_nextToWeep 0 = .ok (.iconst 0, 1) := dk_3 (dk_at dksX7_nextToWeep_0 0 rfl rfl)
theorem dX7_nextToWeep_1 : decode cX7_nextToWeep 1 = .ok (.istore_n 3, 1) := dk_62 (dk_at dksX7_nextToWeep_0 1 rfl rfl)
theorem dX7_nextToWeep_2 : decode cX7_nextToWeep 2 = .ok (.iload_n 3, 1) := dk_29 (dk_at dksX7_nextToWeep_0 2 rfl rfl)
theorem dX7_nextToWeep_3 : decode cX7_nextToWeep 3 = .ok (.aload_n 0, 1) := dk_42 (dk_at dksX7_nextToWeep_0 3 rfl rfl)
theorem dX7_nextToWeep_4 : decode cX7_nextToWeep 4 = .ok (.getfield 125, 3) := dk_180 0 125 (dk_at dksX7_nextToWeep_0 4 rfl rfl)
theorem dX7_nextToWeep_7 : decode cX7_nextToWeep 7 = .ok (.if_icmp .ge 54, 3) := dk_162 0 54 (dk_at dksX7_nextToWeep_0 7 rfl rfl)
theorem dX7_nextToWeep_10 : decode cX7_nextToWeep 10 = .ok (.aload_n 0, 1) := dk_42 (dk_at dksX7_nextToWeep_0 10 rfl rfl)
theorem dX7_nextToWeep_11 : decode cX7_nextToWeep 11 = .ok (.iload_n 1, 1) := dk_27 (dk_at dksX7_nextToWeep_0 11 rfl rfl)
theorem dX7_nextToWeep_12 : decode cX7_nextToWeep 12 = .ok (.iload_n 3, 1) := dk_29 (dk_at dksX7_nextToWeep_0 12 rfl rfl)
theorem dX7_nextToWeep_13 : decode cX7_nextToWeep 13 = .ok (.invokevirtual 131, 3) := dk_182 0 131 (dk_at dksX7_nextToWeep_0 13 rfl rfl)
theorem dX7_nextToWeep_16 : decode cX7_nextToWeep 16 = .ok (.ifCond .eq 39, 3) := dk_153 0 39 (dk_at dksX7_nextToWeep_0 16 rfl rfl)
theorem dX7_nextToWeep_19 : decode cX7_nextToWeep 19 = .ok (.iload_n 2, 1) := dk_28 (dk_at dksX7_nextToWeep_0 19 rfl rfl)
theorem dX7_nextToWeep_20 : decode cX7_nextToWeep 20 = .ok (.iload_n 3, 1) := dk_29 (dk_at dksX7_nextToWeep_0 20 rfl rfl)
theorem dX7_nextToWeep_21 : decode cX7_nextToWeep 21 = .ok (.ishr, 1) := dk_122 (dk_at dksX7_nextToWeep_0 21 rfl rfl)
theorem dX7_nextToWeep_22 : decode cX7_nextToWeep 22 = .ok (.iconst 1, 1) := dk_4 (dk_at dksX7_nextToWeep_0 22 rfl rfl)
theorem dX7_nextToWeep_23 : decode cX7_nextToWeep 23 = .ok (.iand, 1) := dk_126 (dk_at dksX7_nextToWeep_0 23 rfl rfl)
theorem dX7_nextToWeep_24 : decode cX7_nextToWeep 24 = .ok (.ifCond .ne 31, 3) := dk_154 0 31 (dk_at dksX7_nextToWeep_1 0 rfl rfl)
theorem dX7_nextToWeep_27 : decode cX7_nextToWeep 27 = .ok (.aload_n 0, 1) := dk_42 (dk_at dksX7_nextToWeep_1 3 rfl rfl)
theorem dX7_nextToWeep_28 : decode cX7_nextToWeep 28 = .ok (.getfield 7, 3) := dk_180 0 7 (dk_at dksX7_nextToWeep_1 4 rfl rfl)
theorem dX7_nextToWeep_31 : decode cX7_nextToWeep 31 = .ok (.iload_n 1, 1) := dk_27 (dk_at dksX7_nextToWeep_1 7 rfl rfl)
theorem dX7_nextToWeep_32 : decode cX7_nextToWeep 32 = .ok (.iconst 5, 1) := dk_8 (dk_at dksX7_nextToWeep_1 8 rfl rfl)
theorem dX7_nextToWeep_33 : decode cX7_nextToWeep 33 = .ok (.iadd, 1) := dk_96 (dk_at dksX7_nextToWeep_1 9 rfl rfl)
theorem dX7_nextToWeep_34 : decode cX7_nextToWeep 34 = .ok (.iload_n 3, 1) := dk_29 (dk_at dksX7_nextToWeep_1 10 rfl rfl)
theorem dX7_nextToWeep_35 : decode cX7_nextToWeep 35 = .ok (.iadd, 1) := dk_96 (dk_at dksX7_nextToWeep_1 11 rfl rfl)
theorem dX7_nextToWeep_36 : decode cX7_nextToWeep 36 = .ok (.iaload, 1) := dk_46 (dk_at dksX7_nextToWeep_1 12 rfl rfl)
theorem dX7_nextToWeep_37 : decode cX7_nextToWeep 37 = .ok (.aload_n 0, 1) := dk_42 (dk_at dksX7_nextToWeep_1 13 rfl rfl)
theorem dX7_nextToWeep_38 : decode cX7_nextToWeep 38 = .ok (.getfield 13, 3) := dk_180 0 13 (dk_at dksX7_nextToWeep_1 14 rfl rfl)
theorem dX7_nextToWeep_41 : decode cX7_nextToWeep 41 = .ok (.aload_n 0, 1) := dk_42 (dk_at dksX7_nextToWeep_1 17 rfl rfl)
theorem dX7_nextToWeep_42 : decode cX7_nextToWeep 42 = .ok (.getfield 7, 3) := dk_180 0 7 (dk_at dksX7_nextToWeep_1 18 rfl rfl)
theorem dX7_nextToWeep_45 : decode cX7_nextToWeep 45 = .ok (.iload_n 1, 1) := dk_27 (dk_at dksX7_nextToWeep_1 21 rfl rfl)
theorem dX7_nextToWeep_46 : decode cX7_nextToWeep 46 = .ok (.iload_n 3, 1) := dk_29 (dk_at dksX7_nextToWeep_1 22 rfl rfl)
theorem dX7_nextToWeep_47 : decode cX7_nextToWeep 47 = .ok (.iadd, 1) := dk_96 (dk_at dksX7_nextToWeep_1 23 rfl rfl)
theorem dX7_nextToWeep_48 : decode cX7_nextToWeep 48 = .ok (.iaload, 1) := dk_46 (dk_at dksX7_nextToWeep_2 0 rfl rfl)
theorem dX7_nextToWeep_49 : decode cX7_nextToWeep 49 = .ok (.iaload, 1) := dk_46 (dk_at dksX7_nextToWeep_2 1 rfl rfl)
theorem dX7_nextToWeep_50 : decode cX7_nextToWeep 50 = .ok (.if_icmp .lt 5, 3) := dk_161 0 5 (dk_at dksX7_nextToWeep_2 2 rfl rfl)
theorem dX7_nextToWeep_53 : decode cX7_nextToWeep 53 = .ok (.iload_n 3, 1) := dk_29 (dk_at dksX7_nextToWeep_2 5 rfl rfl)
theorem dX7_nextToWeep_54 : decode cX7_nextToWeep 54 = .ok (.ireturn, 1) := dk_172 (dk_at dksX7_nextToWeep_2 6 rfl rfl)
theorem dX7_nextToWeep_55 : decode cX7_nextToWeep 55 = .ok (.iinc 3 1, 3) := dk_132 3 1 (dk_at dksX7_nextToWeep_2 7 rfl rfl)
theorem dX7_nextToWeep_58 : decode cX7_nextToWeep 58 = .ok (.goto (-56), 3) := dk_167 255 200 (dk_at dksX7_nextToWeep_2 10 rfl rfl)
theorem dX7_nextToWeep_61 : decode cX7_nextToWeep 61 = .ok (.bipush (-4), 2) := dk_16 252 (dk_at dksX7_nextToWeep_2 13 rfl rfl)
theorem dX7_nextToWeep_63 : decode cX7_nextToWeep 63 = .ok (.ireturn, 1) := dk_172 (dk_at dksX7_nextToWeep_2 15 rfl rfl)
abbrev cX7_setsOff : ByteArray := prog_11_method_21_code
def yX7_setsOff : MethodName := ⟨RX7, "setsOff", "(II)V"⟩
def dkwX7_setsOff_3 : List UInt8 := [162, 0, 11, 42, 27, 21, 4, 5, 182, 0, 135, 177]
abbrev dktX7_setsOff_3 : List UInt8 := dkwX7_setsOff_3 ++ []
def dkwX7_setsOff_2 : List UInt8 := [132, 4, 1, 167, 255, 234, 29, 155, 0, 10, 42, 27, 29, 5, 182, 0, 135, 21, 4, 42, 180, 0, 125]
abbrev dktX7_setsOff_2 : List UInt8 := dkwX7_setsOff_2 ++ dktX7_setsOff_3
def dkwX7_setsOff_1 : List UInt8 := [4, 96, 54, 4, 21, 4, 42, 180, 0, 125, 162, 0, 19, 42, 27, 21, 4, 182, 0, 131, 154, 0, 9]
abbrev dktX7_setsOff_1 : List UInt8 := dkwX7_setsOff_1 ++ dktX7_setsOff_2
def dkwX7_setsOff_0 : List UInt8 := [28, 4, 100, 62, 29, 155, 0, 18, 42, 27, 29, 182, 0, 131, 154, 0, 9, 132, 3, 255, 167, 255, 240, 28]
abbrev dktX7_setsOff_0 : List UInt8 := dkwX7_setsOff_0 ++ dktX7_setsOff_1
theorem dksX7_setsOff_0 : cX7_setsOff.data.toList.drop 0 = dktX7_setsOff_0 := by decide +kernel
theorem dksX7_setsOff_1 : cX7_setsOff.data.toList.drop 24 = dktX7_setsOff_1 := dk_seg dksX7_setsOff_0 24 rfl rfl
theorem dksX7_setsOff_2 : cX7_setsOff.data.toList.drop 47 = dktX7_setsOff_2 := dk_seg dksX7_setsOff_1 23 rfl rfl
theorem dksX7_setsOff_3 : cX7_setsOff.data.toList.drop 70 = dktX7_setsOff_3 := dk_seg dksX7_setsOff_2 23 rfl rfl
theorem dX7_setsOff_0 : decode cX7_setsOff 0 = .ok (.iload_n 2, 1) := dk_28 (dk_at dksX7_setsOff_0 0 rfl rfl)
theorem dX7_setsOff_1 : decode cX7_setsOff 1 = .ok (.iconst 1, 1) := dk_4 (dk_at dksX7_setsOff_0 1 rfl rfl)
theorem dX7_setsOff_2 : decode cX7_setsOff 2 = .ok (.isub, 1) := dk_100 (dk_at dksX7_setsOff_0 2 rfl rfl)
theorem dX7_setsOff_3 : decode cX7_setsOff 3 = .ok (.istore_n 3, 1) := dk_62 (dk_at dksX7_setsOff_0 3 rfl rfl)
theorem dX7_setsOff_4 : decode cX7_setsOff 4 = .ok (.iload_n 3, 1) := dk_29 (dk_at dksX7_setsOff_0 4 rfl rfl)
theorem dX7_setsOff_5 : decode cX7_setsOff 5 = .ok (.ifCond .lt 18, 3) := dk_155 0 18 (dk_at dksX7_setsOff_0 5 rfl rfl)
theorem dX7_setsOff_8 : decode cX7_setsOff 8 = .ok (.aload_n 0, 1) := dk_42 (dk_at dksX7_setsOff_0 8 rfl rfl)
theorem dX7_setsOff_9 : decode cX7_setsOff 9 = .ok (.iload_n 1, 1) := dk_27 (dk_at dksX7_setsOff_0 9 rfl rfl)
theorem dX7_setsOff_10 : decode cX7_setsOff 10 = .ok (.iload_n 3, 1) := dk_29 (dk_at dksX7_setsOff_0 10 rfl rfl)
theorem dX7_setsOff_11 : decode cX7_setsOff 11 = .ok (.invokevirtual 131, 3) := dk_182 0 131 (dk_at dksX7_setsOff_0 11 rfl rfl)
theorem dX7_setsOff_14 : decode cX7_setsOff 14 = .ok (.ifCond .ne 9, 3) := dk_154 0 9 (dk_at dksX7_setsOff_0 14 rfl rfl)
theorem dX7_setsOff_17 : decode cX7_setsOff 17 = .ok (.iinc 3 (-1), 3) := dk_132 3 255 (dk_at dksX7_setsOff_0 17 rfl rfl)
theorem dX7_setsOff_20 : decode cX7_setsOff 20 = .ok (.goto (-16), 3) := dk_167 255 240 (dk_at dksX7_setsOff_0 20 rfl rfl)
theorem dX7_setsOff_23 : decode cX7_setsOff 23 = .ok (.iload_n 2, 1) := dk_28 (dk_at dksX7_setsOff_0 23 rfl rfl)
theorem dX7_setsOff_24 : decode cX7_setsOff 24 = .ok (.iconst 1, 1) := dk_4 (dk_at dksX7_setsOff_1 0 rfl rfl)
theorem dX7_setsOff_25 : decode cX7_setsOff 25 = .ok (.iadd, 1) := dk_96 (dk_at dksX7_setsOff_1 1 rfl rfl)
theorem dX7_setsOff_26 : decode cX7_setsOff 26 = .ok (.istore 4, 2) := dk_54 4 (dk_at dksX7_setsOff_1 2 rfl rfl)
theorem dX7_setsOff_28 : decode cX7_setsOff 28 = .ok (.iload 4, 2) := dk_21 4 (dk_at dksX7_setsOff_1 4 rfl rfl)
theorem dX7_setsOff_30 : decode cX7_setsOff 30 = .ok (.aload_n 0, 1) := dk_42 (dk_at dksX7_setsOff_1 6 rfl rfl)
theorem dX7_setsOff_31 : decode cX7_setsOff 31 = .ok (.getfield 125, 3) := dk_180 0 125 (dk_at dksX7_setsOff_1 7 rfl rfl)
theorem dX7_setsOff_34 : decode cX7_setsOff 34 = .ok (.if_icmp .ge 19, 3) := dk_162 0 19 (dk_at dksX7_setsOff_1 10 rfl rfl)
theorem dX7_setsOff_37 : decode cX7_setsOff 37 = .ok (.aload_n 0, 1) := dk_42 (dk_at dksX7_setsOff_1 13 rfl rfl)
theorem dX7_setsOff_38 : decode cX7_setsOff 38 = .ok (.iload_n 1, 1) := dk_27 (dk_at dksX7_setsOff_1 14 rfl rfl)
theorem dX7_setsOff_39 : decode cX7_setsOff 39 = .ok (.iload 4, 2) := dk_21 4 (dk_at dksX7_setsOff_1 15 rfl rfl)
theorem dX7_setsOff_41 : decode cX7_setsOff 41 = .ok (.invokevirtual 131, 3) := dk_182 0 131 (dk_at dksX7_setsOff_1 17 rfl rfl)
theorem dX7_setsOff_44 : decode cX7_setsOff 44 = .ok (.ifCond .ne 9, 3) := dk_154 0 9 (dk_at dksX7_setsOff_1 20 rfl rfl)
theorem dX7_setsOff_47 : decode cX7_setsOff 47 = .ok (.iinc 4 1, 3) := dk_132 4 1 (dk_at dksX7_setsOff_2 0 rfl rfl)
theorem dX7_setsOff_50 : decode cX7_setsOff 50 = .ok (.goto (-22), 3) := dk_167 255 234 (dk_at dksX7_setsOff_2 3 rfl rfl)
theorem dX7_setsOff_53 : decode cX7_setsOff 53 = .ok (.iload_n 3, 1) := dk_29 (dk_at dksX7_setsOff_2 6 rfl rfl)
theorem dX7_setsOff_54 : decode cX7_setsOff 54 = .ok (.ifCond .lt 10, 3) := dk_155 0 10 (dk_at dksX7_setsOff_2 7 rfl rfl)
theorem dX7_setsOff_57 : decode cX7_setsOff 57 = .ok (.aload_n 0, 1) := dk_42 (dk_at dksX7_setsOff_2 10 rfl rfl)
theorem dX7_setsOff_58 : decode cX7_setsOff 58 = .ok (.iload_n 1, 1) := dk_27 (dk_at dksX7_setsOff_2 11 rfl rfl)
theorem dX7_setsOff_59 : decode cX7_setsOff 59 = .ok (.iload_n 3, 1) := dk_29 (dk_at dksX7_setsOff_2 12 rfl rfl)
theorem dX7_setsOff_60 : decode cX7_setsOff 60 = .ok (.iconst 2, 1) := dk_5 (dk_at dksX7_setsOff_2 13 rfl rfl)
theorem dX7_setsOff_61 : decode cX7_setsOff 61 = .ok (.invokevirtual 135, 3) := dk_182 0 135 (dk_at dksX7_setsOff_2 14 rfl rfl)
theorem dX7_setsOff_64 : decode cX7_setsOff 64 = .ok (.iload 4, 2) := dk_21 4 (dk_at dksX7_setsOff_2 17 rfl rfl)
theorem dX7_setsOff_66 : decode cX7_setsOff 66 = .ok (.aload_n 0, 1) := dk_42 (dk_at dksX7_setsOff_2 19 rfl rfl)
theorem dX7_setsOff_67 : decode cX7_setsOff 67 = .ok (.getfield 125, 3) := dk_180 0 125 (dk_at dksX7_setsOff_2 20 rfl rfl)
theorem dX7_setsOff_70 : decode cX7_setsOff 70 = .ok (.if_icmp .ge 11, 3) := dk_162 0 11 (dk_at dksX7_setsOff_3 0 rfl rfl)
theorem dX7_setsOff_73 : decode cX7_setsOff 73 = .ok (.aload_n 0, 1) := dk_42 (dk_at dksX7_setsOff_3 3 rfl rfl)
theorem dX7_setsOff_74 : decode cX7_setsOff 74 = .ok (.iload_n 1, 1) := dk_27 (dk_at dksX7_setsOff_3 4 rfl rfl)
theorem dX7_setsOff_75 : decode cX7_setsOff 75 = .ok (.iload 4, 2) := dk_21 4 (dk_at dksX7_setsOff_3 5 rfl rfl)
theorem dX7_setsOff_77 : decode cX7_setsOff 77 = .ok (.iconst 2, 1) := dk_5 (dk_at dksX7_setsOff_3 7 rfl rfl)
theorem dX7_setsOff_78 : decode cX7_setsOff 78 = .ok (.invokevirtual 135, 3) := dk_182 0 135 (dk_at dksX7_setsOff_3 8 rfl rfl)
theorem dX7_setsOff_81 : decode cX7_setsOff 81 = .ok (.return_, 1) := dk_177 (dk_at dksX7_setsOff_3 11 rfl rfl)
abbrev cX7_minutes : ByteArray := prog_11_method_41_code
def yX7_minutes : MethodName := ⟨RX7, "minutes", "(I)I"⟩
def dkwX7_minutes_1 : List UInt8 := [182, 0, 187, 132, 2, 1, 167, 255, 243, 42, 3, 182, 0, 155, 172]
abbrev dktX7_minutes_1 : List UInt8 := dkwX7_minutes_1 ++ []
def dkwX7_minutes_0 : List UInt8 := [27, 133, 9, 20, 0, 185, 184, 0, 49, 154, 0, 5, 2, 172, 3, 61, 28, 27, 162, 0, 14, 42, 3]
abbrev dktX7_minutes_0 : List UInt8 := dkwX7_minutes_0 ++ dktX7_minutes_1
theorem dksX7_minutes_0 : cX7_minutes.data.toList.drop 0 = dktX7_minutes_0 := by decide +kernel
theorem dksX7_minutes_1 : cX7_minutes.data.toList.drop 23 = dktX7_minutes_1 := dk_seg dksX7_minutes_0 23 rfl rfl
theorem dX7_minutes_0 : decode cX7_minutes 0 = .ok (.iload_n 1, 1) := dk_27 (dk_at dksX7_minutes_0 0 rfl rfl)
theorem dX7_minutes_1 : decode cX7_minutes 1 = .ok (.i2l, 1) := dk_133 (dk_at dksX7_minutes_0 1 rfl rfl)
theorem dX7_minutes_2 : decode cX7_minutes 2 = .ok (.lconst 0, 1) := dk_9 (dk_at dksX7_minutes_0 2 rfl rfl)
theorem dX7_minutes_3 : decode cX7_minutes 3 = .ok (.ldc2_w 185, 3) := dk_20 0 185 (dk_at dksX7_minutes_0 3 rfl rfl)
theorem dX7_minutes_6 : decode cX7_minutes 6 = .ok (.invokestatic 49, 3) := dk_184 0 49 (dk_at dksX7_minutes_0 6 rfl rfl)
theorem dX7_minutes_9 : decode cX7_minutes 9 = .ok (.ifCond .ne 5, 3) := dk_154 0 5 (dk_at dksX7_minutes_0 9 rfl rfl)
theorem dX7_minutes_12 : decode cX7_minutes 12 = .ok (.iconst (-1), 1) := dk_2 (dk_at dksX7_minutes_0 12 rfl rfl)
theorem dX7_minutes_13 : decode cX7_minutes 13 = .ok (.ireturn, 1) := dk_172 (dk_at dksX7_minutes_0 13 rfl rfl)
theorem dX7_minutes_14 : decode cX7_minutes 14 = .ok (.iconst 0, 1) := dk_3 (dk_at dksX7_minutes_0 14 rfl rfl)
theorem dX7_minutes_15 : decode cX7_minutes 15 = .ok (.istore_n 2, 1) := dk_61 (dk_at dksX7_minutes_0 15 rfl rfl)
theorem dX7_minutes_16 : decode cX7_minutes 16 = .ok (.iload_n 2, 1) := dk_28 (dk_at dksX7_minutes_0 16 rfl rfl)
theorem dX7_minutes_17 : decode cX7_minutes 17 = .ok (.iload_n 1, 1) := dk_27 (dk_at dksX7_minutes_0 17 rfl rfl)
theorem dX7_minutes_18 : decode cX7_minutes 18 = .ok (.if_icmp .ge 14, 3) := dk_162 0 14 (dk_at dksX7_minutes_0 18 rfl rfl)
theorem dX7_minutes_21 : decode cX7_minutes 21 = .ok (.aload_n 0, 1) := dk_42 (dk_at dksX7_minutes_0 21 rfl rfl)
theorem dX7_minutes_22 : decode cX7_minutes 22 = .ok (.iconst 0, 1) := dk_3 (dk_at dksX7_minutes_0 22 rfl rfl)
theorem dX7_minutes_23 : decode cX7_minutes 23 = .ok (.invokevirtual 187, 3) := dk_182 0 187 (dk_at dksX7_minutes_1 0 rfl rfl)
theorem dX7_minutes_26 : decode cX7_minutes 26 = .ok (.iinc 2 1, 3) := dk_132 2 1 (dk_at dksX7_minutes_1 3 rfl rfl)
theorem dX7_minutes_29 : decode cX7_minutes 29 = .ok (.goto (-13), 3) := dk_167 255 243 (dk_at dksX7_minutes_1 6 rfl rfl)
theorem dX7_minutes_32 : decode cX7_minutes 32 = .ok (.aload_n 0, 1) := dk_42 (dk_at dksX7_minutes_1 9 rfl rfl)
theorem dX7_minutes_33 : decode cX7_minutes 33 = .ok (.iconst 0, 1) := dk_3 (dk_at dksX7_minutes_1 10 rfl rfl)
theorem dX7_minutes_34 : decode cX7_minutes 34 = .ok (.invokevirtual 155, 3) := dk_182 0 155 (dk_at dksX7_minutes_1 11 rfl rfl)
theorem dX7_minutes_37 : decode cX7_minutes 37 = .ok (.ireturn, 1) := dk_172 (dk_at dksX7_minutes_1 14 rfl rfl)
abbrev cX7_minuteOn : ByteArray := prog_11_method_24_code
def yX7_minuteOn : MethodName := ⟨RX7, "minuteOn", "(I)V"⟩
def dkwX7_minuteOn_3 : List UInt8 := [16, 16, 96, 46, 17, 3, 231, 162, 0, 7, 4, 167, 0, 4, 3, 96, 79, 177]
abbrev dktX7_minuteOn_3 : List UInt8 := dkwX7_minuteOn_3 ++ []
def dkwX7_minuteOn_2 : List UInt8 := [100, 79, 132, 2, 1, 167, 255, 205, 42, 180, 0, 7, 27, 16, 16, 96, 92, 46, 42, 180, 0, 7, 27]
abbrev dktX7_minuteOn_2 : List UInt8 := dkwX7_minuteOn_2 ++ dktX7_minuteOn_3
def dkwX7_minuteOn_1 : List UInt8 := [182, 0, 131, 153, 0, 20, 42, 180, 0, 7, 27, 8, 96, 28, 96, 46, 158, 0, 7, 4, 167, 0, 4, 3]
abbrev dktX7_minuteOn_1 : List UInt8 := dkwX7_minuteOn_1 ++ dktX7_minuteOn_2
def dkwX7_minuteOn_0 : List UInt8 := [3, 61, 28, 42, 180, 0, 125, 162, 0, 49, 42, 180, 0, 7, 27, 8, 96, 28, 96, 92, 46, 42, 27, 28]
abbrev dktX7_minuteOn_0 : List UInt8 := dkwX7_minuteOn_0 ++ dktX7_minuteOn_1
theorem dksX7_minuteOn_0 : cX7_minuteOn.data.toList.drop 0 = dktX7_minuteOn_0 := by decide +kernel
theorem dksX7_minuteOn_1 : cX7_minuteOn.data.toList.drop 24 = dktX7_minuteOn_1 := dk_seg dksX7_minuteOn_0 24 rfl rfl
theorem dksX7_minuteOn_2 : cX7_minuteOn.data.toList.drop 48 = dktX7_minuteOn_2 := dk_seg dksX7_minuteOn_1 24 rfl rfl
theorem dksX7_minuteOn_3 : cX7_minuteOn.data.toList.drop 71 = dktX7_minuteOn_3 := dk_seg dksX7_minuteOn_2 23 rfl rfl
theorem dX7_minuteOn_0 : decode cX7_minuteOn 0 = .ok (.iconst 0, 1) := dk_3 (dk_at dksX7_minuteOn_0 0 rfl rfl)
theorem dX7_minuteOn_1 : decode cX7_minuteOn 1 = .ok (.istore_n 2, 1) := dk_61 (dk_at dksX7_minuteOn_0 1 rfl rfl)
theorem dX7_minuteOn_2 : decode cX7_minuteOn 2 = .ok (.iload_n 2, 1) := dk_28 (dk_at dksX7_minuteOn_0 2 rfl rfl)
theorem dX7_minuteOn_3 : decode cX7_minuteOn 3 = .ok (.aload_n 0, 1) := dk_42 (dk_at dksX7_minuteOn_0 3 rfl rfl)
theorem dX7_minuteOn_4 : decode cX7_minuteOn 4 = .ok (.getfield 125, 3) := dk_180 0 125 (dk_at dksX7_minuteOn_0 4 rfl rfl)
theorem dX7_minuteOn_7 : decode cX7_minuteOn 7 = .ok (.if_icmp .ge 49, 3) := dk_162 0 49 (dk_at dksX7_minuteOn_0 7 rfl rfl)
theorem dX7_minuteOn_10 : decode cX7_minuteOn 10 = .ok (.aload_n 0, 1) := dk_42 (dk_at dksX7_minuteOn_0 10 rfl rfl)
theorem dX7_minuteOn_11 : decode cX7_minuteOn 11 = .ok (.getfield 7, 3) := dk_180 0 7 (dk_at dksX7_minuteOn_0 11 rfl rfl)
theorem dX7_minuteOn_14 : decode cX7_minuteOn 14 = .ok (.iload_n 1, 1) := dk_27 (dk_at dksX7_minuteOn_0 14 rfl rfl)
theorem dX7_minuteOn_15 : decode cX7_minuteOn 15 = .ok (.iconst 5, 1) := dk_8 (dk_at dksX7_minuteOn_0 15 rfl rfl)
theorem dX7_minuteOn_16 : decode cX7_minuteOn 16 = .ok (.iadd, 1) := dk_96 (dk_at dksX7_minuteOn_0 16 rfl rfl)
theorem dX7_minuteOn_17 : decode cX7_minuteOn 17 = .ok (.iload_n 2, 1) := dk_28 (dk_at dksX7_minuteOn_0 17 rfl rfl)
theorem dX7_minuteOn_18 : decode cX7_minuteOn 18 = .ok (.iadd, 1) := dk_96 (dk_at dksX7_minuteOn_0 18 rfl rfl)
theorem dX7_minuteOn_19 : decode cX7_minuteOn 19 = .ok (.dup2, 1) := dk_92 (dk_at dksX7_minuteOn_0 19 rfl rfl)
theorem dX7_minuteOn_20 : decode cX7_minuteOn 20 = .ok (.iaload, 1) := dk_46 (dk_at dksX7_minuteOn_0 20 rfl rfl)
theorem dX7_minuteOn_21 : decode cX7_minuteOn 21 = .ok (.aload_n 0, 1) := dk_42 (dk_at dksX7_minuteOn_0 21 rfl rfl)
theorem dX7_minuteOn_22 : decode cX7_minuteOn 22 = .ok (.iload_n 1, 1) := dk_27 (dk_at dksX7_minuteOn_0 22 rfl rfl)
theorem dX7_minuteOn_23 : decode cX7_minuteOn 23 = .ok (.iload_n 2, 1) := dk_28 (dk_at dksX7_minuteOn_0 23 rfl rfl)
theorem dX7_minuteOn_24 : decode cX7_minuteOn 24 = .ok (.invokevirtual 131, 3) := dk_182 0 131 (dk_at dksX7_minuteOn_1 0 rfl rfl)
theorem dX7_minuteOn_27 : decode cX7_minuteOn 27 = .ok (.ifCond .eq 20, 3) := dk_153 0 20 (dk_at dksX7_minuteOn_1 3 rfl rfl)
theorem dX7_minuteOn_30 : decode cX7_minuteOn 30 = .ok (.aload_n 0, 1) := dk_42 (dk_at dksX7_minuteOn_1 6 rfl rfl)
theorem dX7_minuteOn_31 : decode cX7_minuteOn 31 = .ok (.getfield 7, 3) := dk_180 0 7 (dk_at dksX7_minuteOn_1 7 rfl rfl)
theorem dX7_minuteOn_34 : decode cX7_minuteOn 34 = .ok (.iload_n 1, 1) := dk_27 (dk_at dksX7_minuteOn_1 10 rfl rfl)
theorem dX7_minuteOn_35 : decode cX7_minuteOn 35 = .ok (.iconst 5, 1) := dk_8 (dk_at dksX7_minuteOn_1 11 rfl rfl)
theorem dX7_minuteOn_36 : decode cX7_minuteOn 36 = .ok (.iadd, 1) := dk_96 (dk_at dksX7_minuteOn_1 12 rfl rfl)
theorem dX7_minuteOn_37 : decode cX7_minuteOn 37 = .ok (.iload_n 2, 1) := dk_28 (dk_at dksX7_minuteOn_1 13 rfl rfl)
theorem dX7_minuteOn_38 : decode cX7_minuteOn 38 = .ok (.iadd, 1) := dk_96 (dk_at dksX7_minuteOn_1 14 rfl rfl)
theorem dX7_minuteOn_39 : decode cX7_minuteOn 39 = .ok (.iaload, 1) := dk_46 (dk_at dksX7_minuteOn_1 15 rfl rfl)
theorem dX7_minuteOn_40 : decode cX7_minuteOn 40 = .ok (.ifCond .le 7, 3) := dk_158 0 7 (dk_at dksX7_minuteOn_1 16 rfl rfl)
theorem dX7_minuteOn_43 : decode cX7_minuteOn 43 = .ok (.iconst 1, 1) := dk_4 (dk_at dksX7_minuteOn_1 19 rfl rfl)
theorem dX7_minuteOn_44 : decode cX7_minuteOn 44 = .ok (.goto 4, 3) := dk_167 0 4 (dk_at dksX7_minuteOn_1 20 rfl rfl)
theorem dX7_minuteOn_47 : decode cX7_minuteOn 47 = .ok (.iconst 0, 1) := dk_3 (dk_at dksX7_minuteOn_1 23 rfl rfl)
theorem dX7_minuteOn_48 : decode cX7_minuteOn 48 = .ok (.isub, 1) := dk_100 (dk_at dksX7_minuteOn_2 0 rfl rfl)
theorem dX7_minuteOn_49 : decode cX7_minuteOn 49 = .ok (.iastore, 1) := dk_79 (dk_at dksX7_minuteOn_2 1 rfl rfl)
theorem dX7_minuteOn_50 : decode cX7_minuteOn 50 = .ok (.iinc 2 1, 3) := dk_132 2 1 (dk_at dksX7_minuteOn_2 2 rfl rfl)
theorem dX7_minuteOn_53 : decode cX7_minuteOn 53 = .ok (.goto (-51), 3) := dk_167 255 205 (dk_at dksX7_minuteOn_2 5 rfl rfl)
theorem dX7_minuteOn_56 : decode cX7_minuteOn 56 = .ok (.aload_n 0, 1) := dk_42 (dk_at dksX7_minuteOn_2 8 rfl rfl)
theorem dX7_minuteOn_57 : decode cX7_minuteOn 57 = .ok (.getfield 7, 3) := dk_180 0 7 (dk_at dksX7_minuteOn_2 9 rfl rfl)
theorem dX7_minuteOn_60 : decode cX7_minuteOn 60 = .ok (.iload_n 1, 1) := dk_27 (dk_at dksX7_minuteOn_2 12 rfl rfl)
theorem dX7_minuteOn_61 : decode cX7_minuteOn 61 = .ok (.bipush 16, 2) := dk_16 16 (dk_at dksX7_minuteOn_2 13 rfl rfl)
theorem dX7_minuteOn_63 : decode cX7_minuteOn 63 = .ok (.iadd, 1) := dk_96 (dk_at dksX7_minuteOn_2 15 rfl rfl)
theorem dX7_minuteOn_64 : decode cX7_minuteOn 64 = .ok (.dup2, 1) := dk_92 (dk_at dksX7_minuteOn_2 16 rfl rfl)
theorem dX7_minuteOn_65 : decode cX7_minuteOn 65 = .ok (.iaload, 1) := dk_46 (dk_at dksX7_minuteOn_2 17 rfl rfl)
theorem dX7_minuteOn_66 : decode cX7_minuteOn 66 = .ok (.aload_n 0, 1) := dk_42 (dk_at dksX7_minuteOn_2 18 rfl rfl)
theorem dX7_minuteOn_67 : decode cX7_minuteOn 67 = .ok (.getfield 7, 3) := dk_180 0 7 (dk_at dksX7_minuteOn_2 19 rfl rfl)
theorem dX7_minuteOn_70 : decode cX7_minuteOn 70 = .ok (.iload_n 1, 1) := dk_27 (dk_at dksX7_minuteOn_2 22 rfl rfl)
theorem dX7_minuteOn_71 : decode cX7_minuteOn 71 = .ok (.bipush 16, 2) := dk_16 16 (dk_at dksX7_minuteOn_3 0 rfl rfl)
theorem dX7_minuteOn_73 : decode cX7_minuteOn 73 = .ok (.iadd, 1) := dk_96 (dk_at dksX7_minuteOn_3 2 rfl rfl)
theorem dX7_minuteOn_74 : decode cX7_minuteOn 74 = .ok (.iaload, 1) := dk_46 (dk_at dksX7_minuteOn_3 3 rfl rfl)
theorem dX7_minuteOn_75 : decode cX7_minuteOn 75 = .ok (.sipush 999, 3) := dk_17 3 231 (dk_at dksX7_minuteOn_3 4 rfl rfl)
theorem dX7_minuteOn_78 : decode cX7_minuteOn 78 = .ok (.if_icmp .ge 7, 3) := dk_162 0 7 (dk_at dksX7_minuteOn_3 7 rfl rfl)
theorem dX7_minuteOn_81 : decode cX7_minuteOn 81 = .ok (.iconst 1, 1) := dk_4 (dk_at dksX7_minuteOn_3 10 rfl rfl)
theorem dX7_minuteOn_82 : decode cX7_minuteOn 82 = .ok (.goto 4, 3) := dk_167 0 4 (dk_at dksX7_minuteOn_3 11 rfl rfl)
theorem dX7_minuteOn_85 : decode cX7_minuteOn 85 = .ok (.iconst 0, 1) := dk_3 (dk_at dksX7_minuteOn_3 14 rfl rfl)
theorem dX7_minuteOn_86 : decode cX7_minuteOn 86 = .ok (.iadd, 1) := dk_96 (dk_at dksX7_minuteOn_3 15 rfl rfl)
theorem dX7_minuteOn_87 : decode cX7_minuteOn 87 = .ok (.iastore, 1) := dk_79 (dk_at dksX7_minuteOn_3 16 rfl rfl)
theorem dX7_minuteOn_88 : decode cX7_minuteOn 88 = .ok (.return_, 1) := dk_177 (dk_at dksX7_minuteOn_3 17 rfl rfl)
abbrev cX7_tram : ByteArray := prog_11_method_42_code
def yX7_tram : MethodName := ⟨RX7, "tram", "()I"⟩
def dkwX7_tram_0 : List UInt8 := [42, 3, 182, 0, 190, 172]
abbrev dktX7_tram_0 : List UInt8 := dkwX7_tram_0 ++ []
theorem dksX7_tram_0 : cX7_tram.data.toList.drop 0 = dktX7_tram_0 := by decide +kernel
theorem dX7_tram_0 : decode cX7_tram 0 = .ok (.aload_n 0, 1) := dk_42 (dk_at dksX7_tram_0 0 rfl rfl)
theorem dX7_tram_1 : decode cX7_tram 1 = .ok (.iconst 0, 1) := dk_3 (dk_at dksX7_tram_0 1 rfl rfl)
theorem dX7_tram_2 : decode cX7_tram 2 = .ok (.invokevirtual 190, 3) := dk_182 0 190 (dk_at dksX7_tram_0 2 rfl rfl)
theorem dX7_tram_5 : decode cX7_tram 5 = .ok (.ireturn, 1) := dk_172 (dk_at dksX7_tram_0 5 rfl rfl)
abbrev cX7_tramOn : ByteArray := prog_11_method_27_code
def yX7_tramOn : MethodName := ⟨RX7, "tramOn", "(I)I"⟩
def dkwX7_tramOn_2 : List UInt8 := [132, 3, 1, 167, 255, 212, 42, 180, 0, 7, 27, 16, 15, 96, 92, 46, 28, 128, 79, 28, 172]
abbrev dktX7_tramOn_2 : List UInt8 := dkwX7_tramOn_2 ++ []
def dkwX7_tramOn_1 : List UInt8 := [182, 0, 149, 54, 4, 28, 21, 4, 16, 252, 160, 0, 7, 3, 167, 0, 7, 4, 21, 4, 120, 128, 61]
abbrev dktX7_tramOn_1 : List UInt8 := dkwX7_tramOn_1 ++ dktX7_tramOn_2
def dkwX7_tramOn_0 : List UInt8 := [3, 61, 3, 62, 29, 42, 180, 0, 7, 27, 16, 17, 96, 46, 5, 96, 162, 0, 35, 42, 27, 28]
abbrev dktX7_tramOn_0 : List UInt8 := dkwX7_tramOn_0 ++ dktX7_tramOn_1
theorem dksX7_tramOn_0 : cX7_tramOn.data.toList.drop 0 = dktX7_tramOn_0 := by decide +kernel
theorem dksX7_tramOn_1 : cX7_tramOn.data.toList.drop 22 = dktX7_tramOn_1 := dk_seg dksX7_tramOn_0 22 rfl rfl
theorem dksX7_tramOn_2 : cX7_tramOn.data.toList.drop 45 = dktX7_tramOn_2 := dk_seg dksX7_tramOn_1 23 rfl rfl
theorem dX7_tramOn_0 : decode cX7_tramOn 0 = .ok (.iconst 0, 1) := dk_3 (dk_at dksX7_tramOn_0 0 rfl rfl)
theorem dX7_tramOn_1 : decode cX7_tramOn 1 = .ok (.istore_n 2, 1) := dk_61 (dk_at dksX7_tramOn_0 1 rfl rfl)
theorem dX7_tramOn_2 : decode cX7_tramOn 2 = .ok (.iconst 0, 1) := dk_3 (dk_at dksX7_tramOn_0 2 rfl rfl)
theorem dX7_tramOn_3 : decode cX7_tramOn 3 = .ok (.istore_n 3, 1) := dk_62 (dk_at dksX7_tramOn_0 3 rfl rfl)
theorem dX7_tramOn_4 : decode cX7_tramOn 4 = .ok (.iload_n 3, 1) := dk_29 (dk_at dksX7_tramOn_0 4 rfl rfl)
theorem dX7_tramOn_5 : decode cX7_tramOn 5 = .ok (.aload_n 0, 1) := dk_42 (dk_at dksX7_tramOn_0 5 rfl rfl)
theorem dX7_tramOn_6 : decode cX7_tramOn 6 = .ok (.getfield 7, 3) := dk_180 0 7 (dk_at dksX7_tramOn_0 6 rfl rfl)
theorem dX7_tramOn_9 : decode cX7_tramOn 9 = .ok (.iload_n 1, 1) := dk_27 (dk_at dksX7_tramOn_0 9 rfl rfl)
theorem dX7_tramOn_10 : decode cX7_tramOn 10 = .ok (.bipush 17, 2) := dk_16 17 (dk_at dksX7_tramOn_0 10 rfl rfl)
theorem dX7_tramOn_12 : decode cX7_tramOn 12 = .ok (.iadd, 1) := dk_96 (dk_at dksX7_tramOn_0 12 rfl rfl)
theorem dX7_tramOn_13 : decode cX7_tramOn 13 = .ok (.iaload, 1) := dk_46 (dk_at dksX7_tramOn_0 13 rfl rfl)
theorem dX7_tramOn_14 : decode cX7_tramOn 14 = .ok (.iconst 2, 1) := dk_5 (dk_at dksX7_tramOn_0 14 rfl rfl)
theorem dX7_tramOn_15 : decode cX7_tramOn 15 = .ok (.iadd, 1) := dk_96 (dk_at dksX7_tramOn_0 15 rfl rfl)
theorem dX7_tramOn_16 : decode cX7_tramOn 16 = .ok (.if_icmp .ge 35, 3) := dk_162 0 35 (dk_at dksX7_tramOn_0 16 rfl rfl)
theorem dX7_tramOn_19 : decode cX7_tramOn 19 = .ok (.aload_n 0, 1) := dk_42 (dk_at dksX7_tramOn_0 19 rfl rfl)
theorem dX7_tramOn_20 : decode cX7_tramOn 20 = .ok (.iload_n 1, 1) := dk_27 (dk_at dksX7_tramOn_0 20 rfl rfl)
theorem dX7_tramOn_21 : decode cX7_tramOn 21 = .ok (.iload_n 2, 1) := dk_28 (dk_at dksX7_tramOn_0 21 rfl rfl)
theorem dX7_tramOn_22 : decode cX7_tramOn 22 = .ok (.invokevirtual 149, 3) := dk_182 0 149 (dk_at dksX7_tramOn_1 0 rfl rfl)
theorem dX7_tramOn_25 : decode cX7_tramOn 25 = .ok (.istore 4, 2) := dk_54 4 (dk_at dksX7_tramOn_1 3 rfl rfl)
theorem dX7_tramOn_27 : decode cX7_tramOn 27 = .ok (.iload_n 2, 1) := dk_28 (dk_at dksX7_tramOn_1 5 rfl rfl)
theorem dX7_tramOn_28 : decode cX7_tramOn 28 = .ok (.iload 4, 2) := dk_21 4 (dk_at dksX7_tramOn_1 6 rfl rfl)
theorem dX7_tramOn_30 : decode cX7_tramOn 30 = .ok (.bipush (-4), 2) := dk_16 252 (dk_at dksX7_tramOn_1 8 rfl rfl)
theorem dX7_tramOn_32 : decode cX7_tramOn 32 = .ok (.if_icmp .ne 7, 3) := dk_160 0 7 (dk_at dksX7_tramOn_1 10 rfl rfl)
theorem dX7_tramOn_35 : decode cX7_tramOn 35 = .ok (.iconst 0, 1) := dk_3 (dk_at dksX7_tramOn_1 13 rfl rfl)
theorem dX7_tramOn_36 : decode cX7_tramOn 36 = .ok (.goto 7, 3) := dk_167 0 7 (dk_at dksX7_tramOn_1 14 rfl rfl)
theorem dX7_tramOn_39 : decode cX7_tramOn 39 = .ok (.iconst 1, 1) := dk_4 (dk_at dksX7_tramOn_1 17 rfl rfl)
theorem dX7_tramOn_40 : decode cX7_tramOn 40 = .ok (.iload 4, 2) := dk_21 4 (dk_at dksX7_tramOn_1 18 rfl rfl)
theorem dX7_tramOn_42 : decode cX7_tramOn 42 = .ok (.ishl, 1) := dk_120 (dk_at dksX7_tramOn_1 20 rfl rfl)
theorem dX7_tramOn_43 : decode cX7_tramOn 43 = .ok (.ior, 1) := dk_128 (dk_at dksX7_tramOn_1 21 rfl rfl)
theorem dX7_tramOn_44 : decode cX7_tramOn 44 = .ok (.istore_n 2, 1) := dk_61 (dk_at dksX7_tramOn_1 22 rfl rfl)
theorem dX7_tramOn_45 : decode cX7_tramOn 45 = .ok (.iinc 3 1, 3) := dk_132 3 1 (dk_at dksX7_tramOn_2 0 rfl rfl)
theorem dX7_tramOn_48 : decode cX7_tramOn 48 = .ok (.goto (-44), 3) := dk_167 255 212 (dk_at dksX7_tramOn_2 3 rfl rfl)
theorem dX7_tramOn_51 : decode cX7_tramOn 51 = .ok (.aload_n 0, 1) := dk_42 (dk_at dksX7_tramOn_2 6 rfl rfl)
theorem dX7_tramOn_52 : decode cX7_tramOn 52 = .ok (.getfield 7, 3) := dk_180 0 7 (dk_at dksX7_tramOn_2 7 rfl rfl)
theorem dX7_tramOn_55 : decode cX7_tramOn 55 = .ok (.iload_n 1, 1) := dk_27 (dk_at dksX7_tramOn_2 10 rfl rfl)
theorem dX7_tramOn_56 : decode cX7_tramOn 56 = .ok (.bipush 15, 2) := dk_16 15 (dk_at dksX7_tramOn_2 11 rfl rfl)
theorem dX7_tramOn_58 : decode cX7_tramOn 58 = .ok (.iadd, 1) := dk_96 (dk_at dksX7_tramOn_2 13 rfl rfl)
theorem dX7_tramOn_59 : decode cX7_tramOn 59 = .ok (.dup2, 1) := dk_92 (dk_at dksX7_tramOn_2 14 rfl rfl)
theorem dX7_tramOn_60 : decode cX7_tramOn 60 = .ok (.iaload, 1) := dk_46 (dk_at dksX7_tramOn_2 15 rfl rfl)
theorem dX7_tramOn_61 : decode cX7_tramOn 61 = .ok (.iload_n 2, 1) := dk_28 (dk_at dksX7_tramOn_2 16 rfl rfl)
theorem dX7_tramOn_62 : decode cX7_tramOn 62 = .ok (.ior, 1) := dk_128 (dk_at dksX7_tramOn_2 17 rfl rfl)
theorem dX7_tramOn_63 : decode cX7_tramOn 63 = .ok (.iastore, 1) := dk_79 (dk_at dksX7_tramOn_2 18 rfl rfl)
theorem dX7_tramOn_64 : decode cX7_tramOn 64 = .ok (.iload_n 2, 1) := dk_28 (dk_at dksX7_tramOn_2 19 rfl rfl)
theorem dX7_tramOn_65 : decode cX7_tramOn 65 = .ok (.ireturn, 1) := dk_172 (dk_at dksX7_tramOn_2 20 rfl rfl)
abbrev cX7_joy : ByteArray := prog_11_method_43_code
def yX7_joy : MethodName := ⟨RX7, "joy", "(I)I"⟩
def dkwX7_joy_2 : List UInt8 := [96, 3, 79, 28, 172]
abbrev dktX7_joy_2 : List UInt8 := dkwX7_joy_2 ++ []
def dkwX7_joy_1 : List UInt8 := [180, 0, 7, 8, 27, 96, 46, 61, 42, 180, 0, 7, 8, 27, 96, 3, 79, 42, 180, 0, 7, 16, 10, 27]
abbrev dktX7_joy_1 : List UInt8 := dkwX7_joy_1 ++ dktX7_joy_2
def dkwX7_joy_0 : List UInt8 := [42, 27, 182, 0, 158, 154, 0, 5, 2, 172, 42, 3, 27, 182, 0, 131, 154, 0, 6, 16, 254, 172, 42]
abbrev dktX7_joy_0 : List UInt8 := dkwX7_joy_0 ++ dktX7_joy_1
theorem dksX7_joy_0 : cX7_joy.data.toList.drop 0 = dktX7_joy_0 := by decide +kernel
theorem dksX7_joy_1 : cX7_joy.data.toList.drop 23 = dktX7_joy_1 := dk_seg dksX7_joy_0 23 rfl rfl
theorem dksX7_joy_2 : cX7_joy.data.toList.drop 47 = dktX7_joy_2 := dk_seg dksX7_joy_1 24 rfl rfl
theorem dX7_joy_0 : decode cX7_joy 0 = .ok (.aload_n 0, 1) := dk_42 (dk_at dksX7_joy_0 0 rfl rfl)
theorem dX7_joy_1 : decode cX7_joy 1 = .ok (.iload_n 1, 1) := dk_27 (dk_at dksX7_joy_0 1 rfl rfl)
theorem dX7_joy_2 : decode cX7_joy 2 = .ok (.invokevirtual 158, 3) := dk_182 0 158 (dk_at dksX7_joy_0 2 rfl rfl)
theorem dX7_joy_5 : decode cX7_joy 5 = .ok (.ifCond .ne 5, 3) := dk_154 0 5 (dk_at dksX7_joy_0 5 rfl rfl)
theorem dX7_joy_8 : decode cX7_joy 8 = .ok (.iconst (-1), 1) := dk_2 (dk_at dksX7_joy_0 8 rfl rfl)
theorem dX7_joy_9 : decode cX7_joy 9 = .ok (.ireturn, 1) := dk_172 (dk_at dksX7_joy_0 9 rfl rfl)
theorem dX7_joy_10 : decode cX7_joy 10 = .ok (.aload_n 0, 1) := dk_42 (dk_at dksX7_joy_0 10 rfl rfl)
theorem dX7_joy_11 : decode cX7_joy 11 = .ok (.iconst 0, 1) := dk_3 (dk_at dksX7_joy_0 11 rfl rfl)
theorem dX7_joy_12 : decode cX7_joy 12 = .ok (.iload_n 1, 1) := dk_27 (dk_at dksX7_joy_0 12 rfl rfl)
theorem dX7_joy_13 : decode cX7_joy 13 = .ok (.invokevirtual 131, 3) := dk_182 0 131 (dk_at dksX7_joy_0 13 rfl rfl)
theorem dX7_joy_16 : decode cX7_joy 16 = .ok (.ifCond .ne 6, 3) := dk_154 0 6 (dk_at dksX7_joy_0 16 rfl rfl)
theorem dX7_joy_19 : decode cX7_joy 19 = .ok (.bipush (-2), 2) := dk_16 254 (dk_at dksX7_joy_0 19 rfl rfl)
theorem dX7_joy_21 : decode cX7_joy 21 = .ok (.ireturn, 1) := dk_172 (dk_at dksX7_joy_0 21 rfl rfl)
theorem dX7_joy_22 : decode cX7_joy 22 = .ok (.aload_n 0, 1) := dk_42 (dk_at dksX7_joy_0 22 rfl rfl)
theorem dX7_joy_23 : decode cX7_joy 23 = .ok (.getfield 7, 3) := dk_180 0 7 (dk_at dksX7_joy_1 0 rfl rfl)
theorem dX7_joy_26 : decode cX7_joy 26 = .ok (.iconst 5, 1) := dk_8 (dk_at dksX7_joy_1 3 rfl rfl)
theorem dX7_joy_27 : decode cX7_joy 27 = .ok (.iload_n 1, 1) := dk_27 (dk_at dksX7_joy_1 4 rfl rfl)
theorem dX7_joy_28 : decode cX7_joy 28 = .ok (.iadd, 1) := dk_96 (dk_at dksX7_joy_1 5 rfl rfl)
theorem dX7_joy_29 : decode cX7_joy 29 = .ok (.iaload, 1) := dk_46 (dk_at dksX7_joy_1 6 rfl rfl)
theorem dX7_joy_30 : decode cX7_joy 30 = .ok (.istore_n 2, 1) := dk_61 (dk_at dksX7_joy_1 7 rfl rfl)
theorem dX7_joy_31 : decode cX7_joy 31 = .ok (.aload_n 0, 1) := dk_42 (dk_at dksX7_joy_1 8 rfl rfl)
theorem dX7_joy_32 : decode cX7_joy 32 = .ok (.getfield 7, 3) := dk_180 0 7 (dk_at dksX7_joy_1 9 rfl rfl)
theorem dX7_joy_35 : decode cX7_joy 35 = .ok (.iconst 5, 1) := dk_8 (dk_at dksX7_joy_1 12 rfl rfl)
theorem dX7_joy_36 : decode cX7_joy 36 = .ok (.iload_n 1, 1) := dk_27 (dk_at dksX7_joy_1 13 rfl rfl)
theorem dX7_joy_37 : decode cX7_joy 37 = .ok (.iadd, 1) := dk_96 (dk_at dksX7_joy_1 14 rfl rfl)
theorem dX7_joy_38 : decode cX7_joy 38 = .ok (.iconst 0, 1) := dk_3 (dk_at dksX7_joy_1 15 rfl rfl)
theorem dX7_joy_39 : decode cX7_joy 39 = .ok (.iastore, 1) := dk_79 (dk_at dksX7_joy_1 16 rfl rfl)
theorem dX7_joy_40 : decode cX7_joy 40 = .ok (.aload_n 0, 1) := dk_42 (dk_at dksX7_joy_1 17 rfl rfl)
theorem dX7_joy_41 : decode cX7_joy 41 = .ok (.getfield 7, 3) := dk_180 0 7 (dk_at dksX7_joy_1 18 rfl rfl)
theorem dX7_joy_44 : decode cX7_joy 44 = .ok (.bipush 10, 2) := dk_16 10 (dk_at dksX7_joy_1 21 rfl rfl)
theorem dX7_joy_46 : decode cX7_joy 46 = .ok (.iload_n 1, 1) := dk_27 (dk_at dksX7_joy_1 23 rfl rfl)
theorem dX7_joy_47 : decode cX7_joy 47 = .ok (.iadd, 1) := dk_96 (dk_at dksX7_joy_2 0 rfl rfl)
theorem dX7_joy_48 : decode cX7_joy 48 = .ok (.iconst 0, 1) := dk_3 (dk_at dksX7_joy_2 1 rfl rfl)
theorem dX7_joy_49 : decode cX7_joy 49 = .ok (.iastore, 1) := dk_79 (dk_at dksX7_joy_2 2 rfl rfl)
theorem dX7_joy_50 : decode cX7_joy 50 = .ok (.iload_n 2, 1) := dk_28 (dk_at dksX7_joy_2 3 rfl rfl)
theorem dX7_joy_51 : decode cX7_joy 51 = .ok (.ireturn, 1) := dk_172 (dk_at dksX7_joy_2 4 rfl rfl)
abbrev cX7_second : ByteArray := prog_11_method_44_code
def yX7_second : MethodName := ⟨RX7, "second", "()I"⟩
def dkwX7_second_0 : List UInt8 := [42, 180, 0, 7, 16, 15, 46, 184, 0, 193, 60, 42, 180, 0, 7, 16, 15, 3, 79, 27, 172]
abbrev dktX7_second_0 : List UInt8 := dkwX7_second_0 ++ []
theorem dksX7_second_0 : cX7_second.data.toList.drop 0 = dktX7_second_0 := by decide +kernel
theorem dX7_second_0 : decode cX7_second 0 = .ok (.aload_n 0, 1) := dk_42 (dk_at dksX7_second_0 0 rfl rfl)
theorem dX7_second_1 : decode cX7_second 1 = .ok (.getfield 7, 3) := dk_180 0 7 (dk_at dksX7_second_0 1 rfl rfl)
theorem dX7_second_4 : decode cX7_second 4 = .ok (.bipush 15, 2) := dk_16 15 (dk_at dksX7_second_0 4 rfl rfl)
theorem dX7_second_6 : decode cX7_second 6 = .ok (.iaload, 1) := dk_46 (dk_at dksX7_second_0 6 rfl rfl)
theorem dX7_second_7 : decode cX7_second 7 = .ok (.invokestatic 193, 3) := dk_184 0 193 (dk_at dksX7_second_0 7 rfl rfl)
theorem dX7_second_10 : decode cX7_second 10 = .ok (.istore_n 1, 1) := dk_60 (dk_at dksX7_second_0 10 rfl rfl)
theorem dX7_second_11 : decode cX7_second 11 = .ok (.aload_n 0, 1) := dk_42 (dk_at dksX7_second_0 11 rfl rfl)
theorem dX7_second_12 : decode cX7_second 12 = .ok (.getfield 7, 3) := dk_180 0 7 (dk_at dksX7_second_0 12 rfl rfl)
theorem dX7_second_15 : decode cX7_second 15 = .ok (.bipush 15, 2) := dk_16 15 (dk_at dksX7_second_0 15 rfl rfl)
theorem dX7_second_17 : decode cX7_second 17 = .ok (.iconst 0, 1) := dk_3 (dk_at dksX7_second_0 17 rfl rfl)
theorem dX7_second_18 : decode cX7_second 18 = .ok (.iastore, 1) := dk_79 (dk_at dksX7_second_0 18 rfl rfl)
theorem dX7_second_19 : decode cX7_second 19 = .ok (.iload_n 1, 1) := dk_27 (dk_at dksX7_second_0 19 rfl rfl)
theorem dX7_second_20 : decode cX7_second 20 = .ok (.ireturn, 1) := dk_172 (dk_at dksX7_second_0 20 rfl rfl)
abbrev cX7_bitsOf : ByteArray := prog_11_method_45_code
def yX7_bitsOf : MethodName := ⟨RX7, "bitsOf", "(I)I"⟩
def dkwX7_bitsOf_0 : List UInt8 := [3, 60, 26, 61, 28, 158, 0, 16, 27, 28, 4, 126, 96, 60, 28, 4, 122, 61, 167, 255, 242, 27, 172]
abbrev dktX7_bitsOf_0 : List UInt8 := dkwX7_bitsOf_0 ++ []
theorem dksX7_bitsOf_0 : cX7_bitsOf.data.toList.drop 0 = dktX7_bitsOf_0 := by decide +kernel
theorem dX7_bitsOf_0 : decode cX7_bitsOf 0 = .ok (.iconst 0, 1) := dk_3 (dk_at dksX7_bitsOf_0 0 rfl rfl)
theorem dX7_bitsOf_1 : decode cX7_bitsOf 1 = .ok (.istore_n 1, 1) := dk_60 (dk_at dksX7_bitsOf_0 1 rfl rfl)
theorem dX7_bitsOf_2 : decode cX7_bitsOf 2 = .ok (.iload_n 0, 1) := dk_26 (dk_at dksX7_bitsOf_0 2 rfl rfl)
theorem dX7_bitsOf_3 : decode cX7_bitsOf 3 = .ok (.istore_n 2, 1) := dk_61 (dk_at dksX7_bitsOf_0 3 rfl rfl)
theorem dX7_bitsOf_4 : decode cX7_bitsOf 4 = .ok (.iload_n 2, 1) := dk_28 (dk_at dksX7_bitsOf_0 4 rfl rfl)
theorem dX7_bitsOf_5 : decode cX7_bitsOf 5 = .ok (.ifCond .le 16, 3) := dk_158 0 16 (dk_at dksX7_bitsOf_0 5 rfl rfl)
theorem dX7_bitsOf_8 : decode cX7_bitsOf 8 = .ok (.iload_n 1, 1) := dk_27 (dk_at dksX7_bitsOf_0 8 rfl rfl)
theorem dX7_bitsOf_9 : decode cX7_bitsOf 9 = .ok (.iload_n 2, 1) := dk_28 (dk_at dksX7_bitsOf_0 9 rfl rfl)
theorem dX7_bitsOf_10 : decode cX7_bitsOf 10 = .ok (.iconst 1, 1) := dk_4 (dk_at dksX7_bitsOf_0 10 rfl rfl)
theorem dX7_bitsOf_11 : decode cX7_bitsOf 11 = .ok (.iand, 1) := dk_126 (dk_at dksX7_bitsOf_0 11 rfl rfl)
theorem dX7_bitsOf_12 : decode cX7_bitsOf 12 = .ok (.iadd, 1) := dk_96 (dk_at dksX7_bitsOf_0 12 rfl rfl)
theorem dX7_bitsOf_13 : decode cX7_bitsOf 13 = .ok (.istore_n 1, 1) := dk_60 (dk_at dksX7_bitsOf_0 13 rfl rfl)
theorem dX7_bitsOf_14 : decode cX7_bitsOf 14 = .ok (.iload_n 2, 1) := dk_28 (dk_at dksX7_bitsOf_0 14 rfl rfl)
theorem dX7_bitsOf_15 : decode cX7_bitsOf 15 = .ok (.iconst 1, 1) := dk_4 (dk_at dksX7_bitsOf_0 15 rfl rfl)
theorem dX7_bitsOf_16 : decode cX7_bitsOf 16 = .ok (.ishr, 1) := dk_122 (dk_at dksX7_bitsOf_0 16 rfl rfl)
theorem dX7_bitsOf_17 : decode cX7_bitsOf 17 = .ok (.istore_n 2, 1) := dk_61 (dk_at dksX7_bitsOf_0 17 rfl rfl)
theorem dX7_bitsOf_18 : decode cX7_bitsOf 18 = .ok (.goto (-14), 3) := dk_167 255 242 (dk_at dksX7_bitsOf_0 18 rfl rfl)
theorem dX7_bitsOf_21 : decode cX7_bitsOf 21 = .ok (.iload_n 1, 1) := dk_27 (dk_at dksX7_bitsOf_0 21 rfl rfl)
theorem dX7_bitsOf_22 : decode cX7_bitsOf 22 = .ok (.ireturn, 1) := dk_172 (dk_at dksX7_bitsOf_0 22 rfl rfl)
abbrev cX7_runs : ByteArray := prog_11_method_51_code
def yX7_runs : MethodName := ⟨RX7, "runs", "(I)I"⟩
def dkwX7_runs_3 : List UInt8 := [16, 112, 182, 0, 155, 172]
abbrev dktX7_runs_3 : List UInt8 := dkwX7_runs_3 ++ []
def dkwX7_runs_2 : List UInt8 := [42, 180, 0, 7, 16, 127, 46, 172, 42, 180, 0, 199, 172, 42, 180, 0, 202, 172, 42, 180, 0, 205, 172, 42]
abbrev dktX7_runs_2 : List UInt8 := dkwX7_runs_2 ++ dktX7_runs_3
def dkwX7_runs_1 : List UInt8 := [170, 0, 0, 0, 0, 0, 54, 0, 0, 0, 0, 0, 0, 0, 3, 0, 0, 0, 31, 0, 0, 0, 39, 0, 0, 0, 44, 0, 0, 0, 49]
abbrev dktX7_runs_1 : List UInt8 := dkwX7_runs_1 ++ dktX7_runs_2
def dkwX7_runs_0 : List UInt8 := [27, 133, 9, 20, 0, 165, 184, 0, 49, 154, 0, 5, 2, 172, 42, 3, 3, 182, 0, 214, 27]
abbrev dktX7_runs_0 : List UInt8 := dkwX7_runs_0 ++ dktX7_runs_1
theorem dksX7_runs_0 : cX7_runs.data.toList.drop 0 = dktX7_runs_0 := by decide +kernel
theorem dksX7_runs_1 : cX7_runs.data.toList.drop 21 = dktX7_runs_1 := dk_seg dksX7_runs_0 21 rfl rfl
theorem dksX7_runs_2 : cX7_runs.data.toList.drop 52 = dktX7_runs_2 := dk_seg dksX7_runs_1 31 rfl rfl
theorem dksX7_runs_3 : cX7_runs.data.toList.drop 76 = dktX7_runs_3 := dk_seg dksX7_runs_2 24 rfl rfl
theorem dX7_runs_0 : decode cX7_runs 0 = .ok (.iload_n 1, 1) := dk_27 (dk_at dksX7_runs_0 0 rfl rfl)
theorem dX7_runs_1 : decode cX7_runs 1 = .ok (.i2l, 1) := dk_133 (dk_at dksX7_runs_0 1 rfl rfl)
theorem dX7_runs_2 : decode cX7_runs 2 = .ok (.lconst 0, 1) := dk_9 (dk_at dksX7_runs_0 2 rfl rfl)
theorem dX7_runs_3 : decode cX7_runs 3 = .ok (.ldc2_w 165, 3) := dk_20 0 165 (dk_at dksX7_runs_0 3 rfl rfl)
theorem dX7_runs_6 : decode cX7_runs 6 = .ok (.invokestatic 49, 3) := dk_184 0 49 (dk_at dksX7_runs_0 6 rfl rfl)
theorem dX7_runs_9 : decode cX7_runs 9 = .ok (.ifCond .ne 5, 3) := dk_154 0 5 (dk_at dksX7_runs_0 9 rfl rfl)
theorem dX7_runs_12 : decode cX7_runs 12 = .ok (.iconst (-1), 1) := dk_2 (dk_at dksX7_runs_0 12 rfl rfl)
theorem dX7_runs_13 : decode cX7_runs 13 = .ok (.ireturn, 1) := dk_172 (dk_at dksX7_runs_0 13 rfl rfl)
theorem dX7_runs_14 : decode cX7_runs 14 = .ok (.aload_n 0, 1) := dk_42 (dk_at dksX7_runs_0 14 rfl rfl)
theorem dX7_runs_15 : decode cX7_runs 15 = .ok (.iconst 0, 1) := dk_3 (dk_at dksX7_runs_0 15 rfl rfl)
theorem dX7_runs_16 : decode cX7_runs 16 = .ok (.iconst 0, 1) := dk_3 (dk_at dksX7_runs_0 16 rfl rfl)
theorem dX7_runs_17 : decode cX7_runs 17 = .ok (.invokevirtual 214, 3) := dk_182 0 214 (dk_at dksX7_runs_0 17 rfl rfl)
theorem dX7_runs_20 : decode cX7_runs 20 = .ok (.iload_n 1, 1) := dk_27 (dk_at dksX7_runs_0 20 rfl rfl)
theorem dX7_runs_21 : decode cX7_runs 21 = .ok (.tableswitch 54 0 3 #[31, 39, 44, 49], 31) := by decide +kernel
theorem dX7_runs_52 : decode cX7_runs 52 = .ok (.aload_n 0, 1) := dk_42 (dk_at dksX7_runs_2 0 rfl rfl)
theorem dX7_runs_53 : decode cX7_runs 53 = .ok (.getfield 7, 3) := dk_180 0 7 (dk_at dksX7_runs_2 1 rfl rfl)
theorem dX7_runs_56 : decode cX7_runs 56 = .ok (.bipush 127, 2) := dk_16 127 (dk_at dksX7_runs_2 4 rfl rfl)
theorem dX7_runs_58 : decode cX7_runs 58 = .ok (.iaload, 1) := dk_46 (dk_at dksX7_runs_2 6 rfl rfl)
theorem dX7_runs_59 : decode cX7_runs 59 = .ok (.ireturn, 1) := dk_172 (dk_at dksX7_runs_2 7 rfl rfl)
theorem dX7_runs_60 : decode cX7_runs 60 = .ok (.aload_n 0, 1) := dk_42 (dk_at dksX7_runs_2 8 rfl rfl)
theorem dX7_runs_61 : decode cX7_runs 61 = .ok (.getfield 199, 3) := dk_180 0 199 (dk_at dksX7_runs_2 9 rfl rfl)
theorem dX7_runs_64 : decode cX7_runs 64 = .ok (.ireturn, 1) := dk_172 (dk_at dksX7_runs_2 12 rfl rfl)
theorem dX7_runs_65 : decode cX7_runs 65 = .ok (.aload_n 0, 1) := dk_42 (dk_at dksX7_runs_2 13 rfl rfl)
theorem dX7_runs_66 : decode cX7_runs 66 = .ok (.getfield 202, 3) := dk_180 0 202 (dk_at dksX7_runs_2 14 rfl rfl)
theorem dX7_runs_69 : decode cX7_runs 69 = .ok (.ireturn, 1) := dk_172 (dk_at dksX7_runs_2 17 rfl rfl)
theorem dX7_runs_70 : decode cX7_runs 70 = .ok (.aload_n 0, 1) := dk_42 (dk_at dksX7_runs_2 18 rfl rfl)
theorem dX7_runs_71 : decode cX7_runs 71 = .ok (.getfield 205, 3) := dk_180 0 205 (dk_at dksX7_runs_2 19 rfl rfl)
theorem dX7_runs_74 : decode cX7_runs 74 = .ok (.ireturn, 1) := dk_172 (dk_at dksX7_runs_2 22 rfl rfl)
theorem dX7_runs_75 : decode cX7_runs 75 = .ok (.aload_n 0, 1) := dk_42 (dk_at dksX7_runs_2 23 rfl rfl)
theorem dX7_runs_76 : decode cX7_runs 76 = .ok (.bipush 112, 2) := dk_16 112 (dk_at dksX7_runs_3 0 rfl rfl)
theorem dX7_runs_78 : decode cX7_runs 78 = .ok (.invokevirtual 155, 3) := dk_182 0 155 (dk_at dksX7_runs_3 2 rfl rfl)
theorem dX7_runs_81 : decode cX7_runs 81 = .ok (.ireturn, 1) := dk_172 (dk_at dksX7_runs_3 5 rfl rfl)
abbrev cX7_planGoes : ByteArray := prog_11_method_49_code
def yX7_planGoes : MethodName := ⟨RX7, "planGoes", "(II)V"⟩
def dkwX7_planGoes_3 : List UInt8 := [167, 255, 193, 177]
abbrev dktX7_planGoes_3 : List UInt8 := dkwX7_planGoes_3 ++ []
def dkwX7_planGoes_2 : List UInt8 := [180, 0, 205, 16, 252, 160, 0, 7, 29, 167, 0, 7, 42, 180, 0, 205, 181, 0, 205, 132, 3, 1]
abbrev dktX7_planGoes_2 : List UInt8 := dkwX7_planGoes_2 ++ dktX7_planGoes_3
def dkwX7_planGoes_1 : List UInt8 := [126, 154, 0, 42, 42, 42, 180, 0, 7, 27, 16, 19, 96, 29, 96, 46, 182, 0, 211, 154, 0, 24, 42, 42]
abbrev dktX7_planGoes_1 : List UInt8 := dkwX7_planGoes_1 ++ dktX7_planGoes_2
def dkwX7_planGoes_0 : List UInt8 := [42, 27, 182, 0, 208, 3, 62, 29, 42, 180, 0, 7, 27, 16, 27, 96, 46, 162, 0, 56, 28, 29, 122, 4]
abbrev dktX7_planGoes_0 : List UInt8 := dkwX7_planGoes_0 ++ dktX7_planGoes_1
theorem dksX7_planGoes_0 : cX7_planGoes.data.toList.drop 0 = dktX7_planGoes_0 := by decide +kernel
theorem dksX7_planGoes_1 : cX7_planGoes.data.toList.drop 24 = dktX7_planGoes_1 := dk_seg dksX7_planGoes_0 24 rfl rfl
theorem dksX7_planGoes_2 : cX7_planGoes.data.toList.drop 48 = dktX7_planGoes_2 := dk_seg dksX7_planGoes_1 24 rfl rfl
theorem dksX7_planGoes_3 : cX7_planGoes.data.toList.drop 70 = dktX7_planGoes_3 := dk_seg dksX7_planGoes_2 22 rfl rfl
theorem dX7_planGoes_0 : decode cX7_planGoes 0 = .ok (.aload_n 0, 1) := dk_42 (dk_at dksX7_planGoes_0 0 rfl rfl)
theorem dX7_planGoes_1 : decode cX7_planGoes 1 = .ok (.iload_n 1, 1) := dk_27 (dk_at dksX7_planGoes_0 1 rfl rfl)
theorem dX7_planGoes_2 : decode cX7_planGoes 2 = .ok (.invokevirtual 208, 3) := dk_182 0 208 (dk_at dksX7_planGoes_0 2 rfl rfl)
theorem dX7_planGoes_5 : decode cX7_planGoes 5 = .ok (.iconst 0, 1) := dk_3 (dk_at dksX7_planGoes_0 5 rfl rfl)
theorem dX7_planGoes_6 : decode cX7_planGoes 6 = .ok (.istore_n 3, 1) := dk_62 (dk_at dksX7_planGoes_0 6 rfl rfl)
theorem dX7_planGoes_7 : decode cX7_planGoes 7 = .ok (.iload_n 3, 1) := dk_29 (dk_at dksX7_planGoes_0 7 rfl rfl)
theorem dX7_planGoes_8 : decode cX7_planGoes 8 = .ok (.aload_n 0, 1) := dk_42 (dk_at dksX7_planGoes_0 8 rfl rfl)
theorem dX7_planGoes_9 : decode cX7_planGoes 9 = .ok (.getfield 7, 3) := dk_180 0 7 (dk_at dksX7_planGoes_0 9 rfl rfl)
theorem dX7_planGoes_12 : decode cX7_planGoes 12 = .ok (.iload_n 1, 1) := dk_27 (dk_at dksX7_planGoes_0 12 rfl rfl)
theorem dX7_planGoes_13 : decode cX7_planGoes 13 = .ok (.bipush 27, 2) := dk_16 27 (dk_at dksX7_planGoes_0 13 rfl rfl)
theorem dX7_planGoes_15 : decode cX7_planGoes 15 = .ok (.iadd, 1) := dk_96 (dk_at dksX7_planGoes_0 15 rfl rfl)
theorem dX7_planGoes_16 : decode cX7_planGoes 16 = .ok (.iaload, 1) := dk_46 (dk_at dksX7_planGoes_0 16 rfl rfl)
theorem dX7_planGoes_17 : decode cX7_planGoes 17 = .ok (.if_icmp .ge 56, 3) := dk_162 0 56 (dk_at dksX7_planGoes_0 17 rfl rfl)
theorem dX7_planGoes_20 : decode cX7_planGoes 20 = .ok (.iload_n 2, 1) := dk_28 (dk_at dksX7_planGoes_0 20 rfl rfl)
theorem dX7_planGoes_21 : decode cX7_planGoes 21 = .ok (.iload_n 3, 1) := dk_29 (dk_at dksX7_planGoes_0 21 rfl rfl)
theorem dX7_planGoes_22 : decode cX7_planGoes 22 = .ok (.ishr, 1) := dk_122 (dk_at dksX7_planGoes_0 22 rfl rfl)
theorem dX7_planGoes_23 : decode cX7_planGoes 23 = .ok (.iconst 1, 1) := dk_4 (dk_at dksX7_planGoes_0 23 rfl rfl)
theorem dX7_planGoes_24 : decode cX7_planGoes 24 = .ok (.iand, 1) := dk_126 (dk_at dksX7_planGoes_1 0 rfl rfl)
theorem dX7_planGoes_25 : decode cX7_planGoes 25 = .ok (.ifCond .ne 42, 3) := dk_154 0 42 (dk_at dksX7_planGoes_1 1 rfl rfl)
theorem dX7_planGoes_28 : decode cX7_planGoes 28 = .ok (.aload_n 0, 1) := dk_42 (dk_at dksX7_planGoes_1 4 rfl rfl)
theorem dX7_planGoes_29 : decode cX7_planGoes 29 = .ok (.aload_n 0, 1) := dk_42 (dk_at dksX7_planGoes_1 5 rfl rfl)
theorem dX7_planGoes_30 : decode cX7_planGoes 30 = .ok (.getfield 7, 3) := dk_180 0 7 (dk_at dksX7_planGoes_1 6 rfl rfl)
theorem dX7_planGoes_33 : decode cX7_planGoes 33 = .ok (.iload_n 1, 1) := dk_27 (dk_at dksX7_planGoes_1 9 rfl rfl)
theorem dX7_planGoes_34 : decode cX7_planGoes 34 = .ok (.bipush 19, 2) := dk_16 19 (dk_at dksX7_planGoes_1 10 rfl rfl)
theorem dX7_planGoes_36 : decode cX7_planGoes 36 = .ok (.iadd, 1) := dk_96 (dk_at dksX7_planGoes_1 12 rfl rfl)
theorem dX7_planGoes_37 : decode cX7_planGoes 37 = .ok (.iload_n 3, 1) := dk_29 (dk_at dksX7_planGoes_1 13 rfl rfl)
theorem dX7_planGoes_38 : decode cX7_planGoes 38 = .ok (.iadd, 1) := dk_96 (dk_at dksX7_planGoes_1 14 rfl rfl)
theorem dX7_planGoes_39 : decode cX7_planGoes 39 = .ok (.iaload, 1) := dk_46 (dk_at dksX7_planGoes_1 15 rfl rfl)
theorem dX7_planGoes_40 : decode cX7_planGoes 40 = .ok (.invokevirtual 211, 3) := dk_182 0 211 (dk_at dksX7_planGoes_1 16 rfl rfl)
theorem dX7_planGoes_43 : decode cX7_planGoes 43 = .ok (.ifCond .ne 24, 3) := dk_154 0 24 (dk_at dksX7_planGoes_1 19 rfl rfl)
theorem dX7_planGoes_46 : decode cX7_planGoes 46 = .ok (.aload_n 0, 1) := dk_42 (dk_at dksX7_planGoes_1 22 rfl rfl)
theorem dX7_planGoes_47 : decode cX7_planGoes 47 = .ok (.aload_n 0, 1) := dk_42 (dk_at dksX7_planGoes_1 23 rfl rfl)
theorem dX7_planGoes_48 : decode cX7_planGoes 48 = .ok (.getfield 205, 3) := dk_180 0 205 (dk_at dksX7_planGoes_2 0 rfl rfl)
theorem dX7_planGoes_51 : decode cX7_planGoes 51 = .ok (.bipush (-4), 2) := dk_16 252 (dk_at dksX7_planGoes_2 3 rfl rfl)
theorem dX7_planGoes_53 : decode cX7_planGoes 53 = .ok (.if_icmp .ne 7, 3) := dk_160 0 7 (dk_at dksX7_planGoes_2 5 rfl rfl)
theorem dX7_planGoes_56 : decode cX7_planGoes 56 = .ok (.iload_n 3, 1) := dk_29 (dk_at dksX7_planGoes_2 8 rfl rfl)
theorem dX7_planGoes_57 : decode cX7_planGoes 57 = .ok (.goto 7, 3) := dk_167 0 7 (dk_at dksX7_planGoes_2 9 rfl rfl)
theorem dX7_planGoes_60 : decode cX7_planGoes 60 = .ok (.aload_n 0, 1) := dk_42 (dk_at dksX7_planGoes_2 12 rfl rfl)
theorem dX7_planGoes_61 : decode cX7_planGoes 61 = .ok (.getfield 205, 3) := dk_180 0 205 (dk_at dksX7_planGoes_2 13 rfl rfl)
theorem dX7_planGoes_64 : decode cX7_planGoes 64 = .ok (.putfield 205, 3) := dk_181 0 205 (dk_at dksX7_planGoes_2 16 rfl rfl)
theorem dX7_planGoes_67 : decode cX7_planGoes 67 = .ok (.iinc 3 1, 3) := dk_132 3 1 (dk_at dksX7_planGoes_2 19 rfl rfl)
theorem dX7_planGoes_70 : decode cX7_planGoes 70 = .ok (.goto (-63), 3) := dk_167 255 193 (dk_at dksX7_planGoes_3 0 rfl rfl)
theorem dX7_planGoes_73 : decode cX7_planGoes 73 = .ok (.return_, 1) := dk_177 (dk_at dksX7_planGoes_3 3 rfl rfl)
abbrev cX7_begins : ByteArray := prog_11_method_47_code
def yX7_begins : MethodName := ⟨RX7, "begins", "(I)V"⟩
def dkwX7_begins_0 : List UInt8 := [42, 27, 16, 112, 182, 0, 196, 42, 3, 181, 0, 199, 42, 3, 181, 0, 202, 42, 16, 252, 181, 0, 205, 177]
abbrev dktX7_begins_0 : List UInt8 := dkwX7_begins_0 ++ []
theorem dksX7_begins_0 : cX7_begins.data.toList.drop 0 = dktX7_begins_0 := by decide +kernel
theorem dX7_begins_0 : decode cX7_begins 0 = .ok (.aload_n 0, 1) := dk_42 (dk_at dksX7_begins_0 0 rfl rfl)
theorem dX7_begins_1 : decode cX7_begins 1 = .ok (.iload_n 1, 1) := dk_27 (dk_at dksX7_begins_0 1 rfl rfl)
theorem dX7_begins_2 : decode cX7_begins 2 = .ok (.bipush 112, 2) := dk_16 112 (dk_at dksX7_begins_0 2 rfl rfl)
theorem dX7_begins_4 : decode cX7_begins 4 = .ok (.invokevirtual 196, 3) := dk_182 0 196 (dk_at dksX7_begins_0 4 rfl rfl)
theorem dX7_begins_7 : decode cX7_begins 7 = .ok (.aload_n 0, 1) := dk_42 (dk_at dksX7_begins_0 7 rfl rfl)
theorem dX7_begins_8 : decode cX7_begins 8 = .ok (.iconst 0, 1) := dk_3 (dk_at dksX7_begins_0 8 rfl rfl)
theorem dX7_begins_9 : decode cX7_begins 9 = .ok (.putfield 199, 3) := dk_181 0 199 (dk_at dksX7_begins_0 9 rfl rfl)
theorem dX7_begins_12 : decode cX7_begins 12 = .ok (.aload_n 0, 1) := dk_42 (dk_at dksX7_begins_0 12 rfl rfl)
theorem dX7_begins_13 : decode cX7_begins 13 = .ok (.iconst 0, 1) := dk_3 (dk_at dksX7_begins_0 13 rfl rfl)
theorem dX7_begins_14 : decode cX7_begins 14 = .ok (.putfield 202, 3) := dk_181 0 202 (dk_at dksX7_begins_0 14 rfl rfl)
theorem dX7_begins_17 : decode cX7_begins 17 = .ok (.aload_n 0, 1) := dk_42 (dk_at dksX7_begins_0 17 rfl rfl)
theorem dX7_begins_18 : decode cX7_begins 18 = .ok (.bipush (-4), 2) := dk_16 252 (dk_at dksX7_begins_0 18 rfl rfl)
theorem dX7_begins_20 : decode cX7_begins 20 = .ok (.putfield 205, 3) := dk_181 0 205 (dk_at dksX7_begins_0 20 rfl rfl)
theorem dX7_begins_23 : decode cX7_begins 23 = .ok (.return_, 1) := dk_177 (dk_at dksX7_begins_0 23 rfl rfl)
abbrev cX7_copies : ByteArray := prog_11_method_46_code
def yX7_copies : MethodName := ⟨RX7, "copies", "(II)V"⟩
def dkwX7_copies_1 : List UInt8 := [132, 3, 1, 167, 255, 231, 177]
abbrev dktX7_copies_1 : List UInt8 := dkwX7_copies_1 ++ []
def dkwX7_copies_0 : List UInt8 := [3, 62, 29, 16, 28, 162, 0, 25, 42, 180, 0, 7, 28, 29, 96, 42, 180, 0, 7, 27, 29, 96, 46, 79]
abbrev dktX7_copies_0 : List UInt8 := dkwX7_copies_0 ++ dktX7_copies_1
theorem dksX7_copies_0 : cX7_copies.data.toList.drop 0 = dktX7_copies_0 := by decide +kernel
theorem dksX7_copies_1 : cX7_copies.data.toList.drop 24 = dktX7_copies_1 := dk_seg dksX7_copies_0 24 rfl rfl
theorem dX7_copies_0 : decode cX7_copies 0 = .ok (.iconst 0, 1) := dk_3 (dk_at dksX7_copies_0 0 rfl rfl)
theorem dX7_copies_1 : decode cX7_copies 1 = .ok (.istore_n 3, 1) := dk_62 (dk_at dksX7_copies_0 1 rfl rfl)
theorem dX7_copies_2 : decode cX7_copies 2 = .ok (.iload_n 3, 1) := dk_29 (dk_at dksX7_copies_0 2 rfl rfl)
theorem dX7_copies_3 : decode cX7_copies 3 = .ok (.bipush 28, 2) := dk_16 28 (dk_at dksX7_copies_0 3 rfl rfl)
theorem dX7_copies_5 : decode cX7_copies 5 = .ok (.if_icmp .ge 25, 3) := dk_162 0 25 (dk_at dksX7_copies_0 5 rfl rfl)
theorem dX7_copies_8 : decode cX7_copies 8 = .ok (.aload_n 0, 1) := dk_42 (dk_at dksX7_copies_0 8 rfl rfl)
theorem dX7_copies_9 : decode cX7_copies 9 = .ok (.getfield 7, 3) := dk_180 0 7 (dk_at dksX7_copies_0 9 rfl rfl)
theorem dX7_copies_12 : decode cX7_copies 12 = .ok (.iload_n 2, 1) := dk_28 (dk_at dksX7_copies_0 12 rfl rfl)
theorem dX7_copies_13 : decode cX7_copies 13 = .ok (.iload_n 3, 1) := dk_29 (dk_at dksX7_copies_0 13 rfl rfl)
theorem dX7_copies_14 : decode cX7_copies 14 = .ok (.iadd, 1) := dk_96 (dk_at dksX7_copies_0 14 rfl rfl)
theorem dX7_copies_15 : decode cX7_copies 15 = .ok (.aload_n 0, 1) := dk_42 (dk_at dksX7_copies_0 15 rfl rfl)
theorem dX7_copies_16 : decode cX7_copies 16 = .ok (.getfield 7, 3) := dk_180 0 7 (dk_at dksX7_copies_0 16 rfl rfl)
theorem dX7_copies_19 : decode cX7_copies 19 = .ok (.iload_n 1, 1) := dk_27 (dk_at dksX7_copies_0 19 rfl rfl)
theorem dX7_copies_20 : decode cX7_copies 20 = .ok (.iload_n 3, 1) := dk_29 (dk_at dksX7_copies_0 20 rfl rfl)
theorem dX7_copies_21 : decode cX7_copies 21 = .ok (.iadd, 1) := dk_96 (dk_at dksX7_copies_0 21 rfl rfl)
theorem dX7_copies_22 : decode cX7_copies 22 = .ok (.iaload, 1) := dk_46 (dk_at dksX7_copies_0 22 rfl rfl)
theorem dX7_copies_23 : decode cX7_copies 23 = .ok (.iastore, 1) := dk_79 (dk_at dksX7_copies_0 23 rfl rfl)
theorem dX7_copies_24 : decode cX7_copies 24 = .ok (.iinc 3 1, 3) := dk_132 3 1 (dk_at dksX7_copies_1 0 rfl rfl)
theorem dX7_copies_27 : decode cX7_copies 27 = .ok (.goto (-25), 3) := dk_167 255 231 (dk_at dksX7_copies_1 3 rfl rfl)
theorem dX7_copies_30 : decode cX7_copies 30 = .ok (.return_, 1) := dk_177 (dk_at dksX7_copies_1 6 rfl rfl)
abbrev cX7_acts : ByteArray := prog_11_method_48_code
def yX7_acts : MethodName := ⟨RX7, "acts", "(I)Z"⟩
def dkwX7_acts_3 : List UInt8 := [167, 0, 5, 3, 172, 4, 172]
abbrev dktX7_acts_3 : List UInt8 := dkwX7_acts_3 ++ []
def dkwX7_acts_2 : List UInt8 := [61, 42, 89, 180, 0, 199, 28, 128, 181, 0, 199, 42, 89, 180, 0, 202, 28, 184, 0, 193, 96, 181, 0, 202]
abbrev dktX7_acts_2 : List UInt8 := dkwX7_acts_2 ++ dktX7_acts_3
def dkwX7_acts_1 : List UInt8 := [182, 0, 190, 87, 167, 0, 49, 42, 16, 112, 27, 182, 0, 131, 153, 0, 37, 42, 16, 112, 27, 182, 0, 182]
abbrev dktX7_acts_1 : List UInt8 := dkwX7_acts_1 ++ dktX7_acts_2
def dkwX7_acts_0 : List UInt8 := [27, 8, 160, 0, 12, 42, 16, 112, 182, 0, 187, 167, 0, 65, 27, 16, 6, 160, 0, 13, 42, 16, 112]
abbrev dktX7_acts_0 : List UInt8 := dkwX7_acts_0 ++ dktX7_acts_1
theorem dksX7_acts_0 : cX7_acts.data.toList.drop 0 = dktX7_acts_0 := by decide +kernel
theorem dksX7_acts_1 : cX7_acts.data.toList.drop 23 = dktX7_acts_1 := dk_seg dksX7_acts_0 23 rfl rfl
theorem dksX7_acts_2 : cX7_acts.data.toList.drop 47 = dktX7_acts_2 := dk_seg dksX7_acts_1 24 rfl rfl
theorem dksX7_acts_3 : cX7_acts.data.toList.drop 71 = dktX7_acts_3 := dk_seg dksX7_acts_2 24 rfl rfl
theorem dX7_acts_0 : decode cX7_acts 0 = .ok (.iload_n 1, 1) := dk_27 (dk_at dksX7_acts_0 0 rfl rfl)
theorem dX7_acts_1 : decode cX7_acts 1 = .ok (.iconst 5, 1) := dk_8 (dk_at dksX7_acts_0 1 rfl rfl)
theorem dX7_acts_2 : decode cX7_acts 2 = .ok (.if_icmp .ne 12, 3) := dk_160 0 12 (dk_at dksX7_acts_0 2 rfl rfl)
theorem dX7_acts_5 : decode cX7_acts 5 = .ok (.aload_n 0, 1) := dk_42 (dk_at dksX7_acts_0 5 rfl rfl)
theorem dX7_acts_6 : decode cX7_acts 6 = .ok (.bipush 112, 2) := dk_16 112 (dk_at dksX7_acts_0 6 rfl rfl)
theorem dX7_acts_8 : decode cX7_acts 8 = .ok (.invokevirtual 187, 3) := dk_182 0 187 (dk_at dksX7_acts_0 8 rfl rfl)
theorem dX7_acts_11 : decode cX7_acts 11 = .ok (.goto 65, 3) := dk_167 0 65 (dk_at dksX7_acts_0 11 rfl rfl)
theorem dX7_acts_14 : decode cX7_acts 14 = .ok (.iload_n 1, 1) := dk_27 (dk_at dksX7_acts_0 14 rfl rfl)
theorem dX7_acts_15 : decode cX7_acts 15 = .ok (.bipush 6, 2) := dk_16 6 (dk_at dksX7_acts_0 15 rfl rfl)
theorem dX7_acts_17 : decode cX7_acts 17 = .ok (.if_icmp .ne 13, 3) := dk_160 0 13 (dk_at dksX7_acts_0 17 rfl rfl)
theorem dX7_acts_20 : decode cX7_acts 20 = .ok (.aload_n 0, 1) := dk_42 (dk_at dksX7_acts_0 20 rfl rfl)
theorem dX7_acts_21 : decode cX7_acts 21 = .ok (.bipush 112, 2) := dk_16 112 (dk_at dksX7_acts_0 21 rfl rfl)
theorem dX7_acts_23 : decode cX7_acts 23 = .ok (.invokevirtual 190, 3) := dk_182 0 190 (dk_at dksX7_acts_1 0 rfl rfl)
theorem dX7_acts_26 : decode cX7_acts 26 = .ok (.pop, 1) := dk_87 (dk_at dksX7_acts_1 3 rfl rfl)
theorem dX7_acts_27 : decode cX7_acts 27 = .ok (.goto 49, 3) := dk_167 0 49 (dk_at dksX7_acts_1 4 rfl rfl)
theorem dX7_acts_30 : decode cX7_acts 30 = .ok (.aload_n 0, 1) := dk_42 (dk_at dksX7_acts_1 7 rfl rfl)
theorem dX7_acts_31 : decode cX7_acts 31 = .ok (.bipush 112, 2) := dk_16 112 (dk_at dksX7_acts_1 8 rfl rfl)
theorem dX7_acts_33 : decode cX7_acts 33 = .ok (.iload_n 1, 1) := dk_27 (dk_at dksX7_acts_1 10 rfl rfl)
theorem dX7_acts_34 : decode cX7_acts 34 = .ok (.invokevirtual 131, 3) := dk_182 0 131 (dk_at dksX7_acts_1 11 rfl rfl)
theorem dX7_acts_37 : decode cX7_acts 37 = .ok (.ifCond .eq 37, 3) := dk_153 0 37 (dk_at dksX7_acts_1 14 rfl rfl)
theorem dX7_acts_40 : decode cX7_acts 40 = .ok (.aload_n 0, 1) := dk_42 (dk_at dksX7_acts_1 17 rfl rfl)
theorem dX7_acts_41 : decode cX7_acts 41 = .ok (.bipush 112, 2) := dk_16 112 (dk_at dksX7_acts_1 18 rfl rfl)
theorem dX7_acts_43 : decode cX7_acts 43 = .ok (.iload_n 1, 1) := dk_27 (dk_at dksX7_acts_1 20 rfl rfl)
theorem dX7_acts_44 : decode cX7_acts 44 = .ok (.invokevirtual 182, 3) := dk_182 0 182 (dk_at dksX7_acts_1 21 rfl rfl)
theorem dX7_acts_47 : decode cX7_acts 47 = .ok (.istore_n 2, 1) := dk_61 (dk_at dksX7_acts_2 0 rfl rfl)
theorem dX7_acts_48 : decode cX7_acts 48 = .ok (.aload_n 0, 1) := dk_42 (dk_at dksX7_acts_2 1 rfl rfl)
theorem dX7_acts_49 : decode cX7_acts 49 = .ok (.dup, 1) := dk_89 (dk_at dksX7_acts_2 2 rfl rfl)
theorem dX7_acts_50 : decode cX7_acts 50 = .ok (.getfield 199, 3) := dk_180 0 199 (dk_at dksX7_acts_2 3 rfl rfl)
theorem dX7_acts_53 : decode cX7_acts 53 = .ok (.iload_n 2, 1) := dk_28 (dk_at dksX7_acts_2 6 rfl rfl)
theorem dX7_acts_54 : decode cX7_acts 54 = .ok (.ior, 1) := dk_128 (dk_at dksX7_acts_2 7 rfl rfl)
theorem dX7_acts_55 : decode cX7_acts 55 = .ok (.putfield 199, 3) := dk_181 0 199 (dk_at dksX7_acts_2 8 rfl rfl)
theorem dX7_acts_58 : decode cX7_acts 58 = .ok (.aload_n 0, 1) := dk_42 (dk_at dksX7_acts_2 11 rfl rfl)
theorem dX7_acts_59 : decode cX7_acts 59 = .ok (.dup, 1) := dk_89 (dk_at dksX7_acts_2 12 rfl rfl)
theorem dX7_acts_60 : decode cX7_acts 60 = .ok (.getfield 202, 3) := dk_180 0 202 (dk_at dksX7_acts_2 13 rfl rfl)
theorem dX7_acts_63 : decode cX7_acts 63 = .ok (.iload_n 2, 1) := dk_28 (dk_at dksX7_acts_2 16 rfl rfl)
theorem dX7_acts_64 : decode cX7_acts 64 = .ok (.invokestatic 193, 3) := dk_184 0 193 (dk_at dksX7_acts_2 17 rfl rfl)
theorem dX7_acts_67 : decode cX7_acts 67 = .ok (.iadd, 1) := dk_96 (dk_at dksX7_acts_2 20 rfl rfl)
theorem dX7_acts_68 : decode cX7_acts 68 = .ok (.putfield 202, 3) := dk_181 0 202 (dk_at dksX7_acts_2 21 rfl rfl)
theorem dX7_acts_71 : decode cX7_acts 71 = .ok (.goto 5, 3) := dk_167 0 5 (dk_at dksX7_acts_3 0 rfl rfl)
theorem dX7_acts_74 : decode cX7_acts 74 = .ok (.iconst 0, 1) := dk_3 (dk_at dksX7_acts_3 3 rfl rfl)
theorem dX7_acts_75 : decode cX7_acts 75 = .ok (.ireturn, 1) := dk_172 (dk_at dksX7_acts_3 4 rfl rfl)
theorem dX7_acts_76 : decode cX7_acts 76 = .ok (.iconst 1, 1) := dk_4 (dk_at dksX7_acts_3 5 rfl rfl)
theorem dX7_acts_77 : decode cX7_acts 77 = .ok (.ireturn, 1) := dk_172 (dk_at dksX7_acts_3 6 rfl rfl)
abbrev cX7_ahead : ByteArray := prog_11_method_52_code
def yX7_ahead : MethodName := ⟨RX7, "ahead", "(II)I"⟩
def dkwX7_ahead_2 : List UInt8 := [16, 122, 27, 96, 46, 184, 0, 162, 172]
abbrev dktX7_ahead_2 : List UInt8 := dkwX7_ahead_2 ++ []
def dkwX7_ahead_1 : List UInt8 := [182, 0, 214, 28, 154, 0, 15, 42, 180, 0, 7, 16, 117, 27, 96, 46, 167, 0, 15, 42, 180, 0, 7]
abbrev dktX7_ahead_1 : List UInt8 := dkwX7_ahead_1 ++ dktX7_ahead_2
def dkwX7_ahead_0 : List UInt8 := [42, 27, 182, 0, 158, 153, 0, 13, 28, 133, 9, 10, 184, 0, 49, 154, 0, 5, 2, 172, 42, 3, 3]
abbrev dktX7_ahead_0 : List UInt8 := dkwX7_ahead_0 ++ dktX7_ahead_1
theorem dksX7_ahead_0 : cX7_ahead.data.toList.drop 0 = dktX7_ahead_0 := by decide +kernel
theorem dksX7_ahead_1 : cX7_ahead.data.toList.drop 23 = dktX7_ahead_1 := dk_seg dksX7_ahead_0 23 rfl rfl
theorem dksX7_ahead_2 : cX7_ahead.data.toList.drop 46 = dktX7_ahead_2 := dk_seg dksX7_ahead_1 23 rfl rfl
theorem dX7_ahead_0 : decode cX7_ahead 0 = .ok (.aload_n 0, 1) := dk_42 (dk_at dksX7_ahead_0 0 rfl rfl)
theorem dX7_ahead_1 : decode cX7_ahead 1 = .ok (.iload_n 1, 1) := dk_27 (dk_at dksX7_ahead_0 1 rfl rfl)
theorem dX7_ahead_2 : decode cX7_ahead 2 = .ok (.invokevirtual 158, 3) := dk_182 0 158 (dk_at dksX7_ahead_0 2 rfl rfl)
theorem dX7_ahead_5 : decode cX7_ahead 5 = .ok (.ifCond .eq 13, 3) := dk_153 0 13 (dk_at dksX7_ahead_0 5 rfl rfl)
theorem dX7_ahead_8 : decode cX7_ahead 8 = .ok (.iload_n 2, 1) := dk_28 (dk_at dksX7_ahead_0 8 rfl rfl)
theorem dX7_ahead_9 : decode cX7_ahead 9 = .ok (.i2l, 1) := dk_133 (dk_at dksX7_ahead_0 9 rfl rfl)
theorem dX7_ahead_10 : decode cX7_ahead 10 = .ok (.lconst 0, 1) := dk_9 (dk_at dksX7_ahead_0 10 rfl rfl)
theorem dX7_ahead_11 : decode cX7_ahead 11 = .ok (.lconst 1, 1) := dk_10 (dk_at dksX7_ahead_0 11 rfl rfl)
theorem dX7_ahead_12 : decode cX7_ahead 12 = .ok (.invokestatic 49, 3) := dk_184 0 49 (dk_at dksX7_ahead_0 12 rfl rfl)
theorem dX7_ahead_15 : decode cX7_ahead 15 = .ok (.ifCond .ne 5, 3) := dk_154 0 5 (dk_at dksX7_ahead_0 15 rfl rfl)
theorem dX7_ahead_18 : decode cX7_ahead 18 = .ok (.iconst (-1), 1) := dk_2 (dk_at dksX7_ahead_0 18 rfl rfl)
theorem dX7_ahead_19 : decode cX7_ahead 19 = .ok (.ireturn, 1) := dk_172 (dk_at dksX7_ahead_0 19 rfl rfl)
theorem dX7_ahead_20 : decode cX7_ahead 20 = .ok (.aload_n 0, 1) := dk_42 (dk_at dksX7_ahead_0 20 rfl rfl)
theorem dX7_ahead_21 : decode cX7_ahead 21 = .ok (.iconst 0, 1) := dk_3 (dk_at dksX7_ahead_0 21 rfl rfl)
theorem dX7_ahead_22 : decode cX7_ahead 22 = .ok (.iconst 0, 1) := dk_3 (dk_at dksX7_ahead_0 22 rfl rfl)
theorem dX7_ahead_23 : decode cX7_ahead 23 = .ok (.invokevirtual 214, 3) := dk_182 0 214 (dk_at dksX7_ahead_1 0 rfl rfl)
theorem dX7_ahead_26 : decode cX7_ahead 26 = .ok (.iload_n 2, 1) := dk_28 (dk_at dksX7_ahead_1 3 rfl rfl)
theorem dX7_ahead_27 : decode cX7_ahead 27 = .ok (.ifCond .ne 15, 3) := dk_154 0 15 (dk_at dksX7_ahead_1 4 rfl rfl)
theorem dX7_ahead_30 : decode cX7_ahead 30 = .ok (.aload_n 0, 1) := dk_42 (dk_at dksX7_ahead_1 7 rfl rfl)
theorem dX7_ahead_31 : decode cX7_ahead 31 = .ok (.getfield 7, 3) := dk_180 0 7 (dk_at dksX7_ahead_1 8 rfl rfl)
theorem dX7_ahead_34 : decode cX7_ahead 34 = .ok (.bipush 117, 2) := dk_16 117 (dk_at dksX7_ahead_1 11 rfl rfl)
theorem dX7_ahead_36 : decode cX7_ahead 36 = .ok (.iload_n 1, 1) := dk_27 (dk_at dksX7_ahead_1 13 rfl rfl)
theorem dX7_ahead_37 : decode cX7_ahead 37 = .ok (.iadd, 1) := dk_96 (dk_at dksX7_ahead_1 14 rfl rfl)
theorem dX7_ahead_38 : decode cX7_ahead 38 = .ok (.iaload, 1) := dk_46 (dk_at dksX7_ahead_1 15 rfl rfl)
theorem dX7_ahead_39 : decode cX7_ahead 39 = .ok (.goto 15, 3) := dk_167 0 15 (dk_at dksX7_ahead_1 16 rfl rfl)
theorem dX7_ahead_42 : decode cX7_ahead 42 = .ok (.aload_n 0, 1) := dk_42 (dk_at dksX7_ahead_1 19 rfl rfl)
theorem dX7_ahead_43 : decode cX7_ahead 43 = .ok (.getfield 7, 3) := dk_180 0 7 (dk_at dksX7_ahead_1 20 rfl rfl)
theorem dX7_ahead_46 : decode cX7_ahead 46 = .ok (.bipush 122, 2) := dk_16 122 (dk_at dksX7_ahead_2 0 rfl rfl)
theorem dX7_ahead_48 : decode cX7_ahead 48 = .ok (.iload_n 1, 1) := dk_27 (dk_at dksX7_ahead_2 2 rfl rfl)
theorem dX7_ahead_49 : decode cX7_ahead 49 = .ok (.iadd, 1) := dk_96 (dk_at dksX7_ahead_2 3 rfl rfl)
theorem dX7_ahead_50 : decode cX7_ahead 50 = .ok (.iaload, 1) := dk_46 (dk_at dksX7_ahead_2 4 rfl rfl)
theorem dX7_ahead_51 : decode cX7_ahead 51 = .ok (.invokestatic 162, 3) := dk_184 0 162 (dk_at dksX7_ahead_2 5 rfl rfl)
theorem dX7_ahead_54 : decode cX7_ahead 54 = .ok (.ireturn, 1) := dk_172 (dk_at dksX7_ahead_2 8 rfl rfl)
abbrev cX7_soon : ByteArray := prog_11_method_53_code
def yX7_soon : MethodName := ⟨RX7, "soon", "(I)I"⟩
def dkwX7_soon_2 : List UInt8 := [182, 0, 211, 87, 132, 2, 1, 167, 255, 219, 16, 252, 172]
abbrev dktX7_soon_2 : List UInt8 := dkwX7_soon_2 ++ []
def dkwX7_soon_1 : List UInt8 := [3, 27, 182, 0, 131, 153, 0, 28, 42, 16, 112, 3, 182, 0, 149, 27, 160, 0, 5, 28, 172, 42, 27]
abbrev dktX7_soon_1 : List UInt8 := dkwX7_soon_1 ++ dktX7_soon_2
def dkwX7_soon_0 : List UInt8 := [42, 27, 182, 0, 158, 154, 0, 5, 2, 172, 42, 3, 182, 0, 208, 3, 61, 28, 16, 9, 163, 0, 37, 42]
abbrev dktX7_soon_0 : List UInt8 := dkwX7_soon_0 ++ dktX7_soon_1
theorem dksX7_soon_0 : cX7_soon.data.toList.drop 0 = dktX7_soon_0 := by decide +kernel
theorem dksX7_soon_1 : cX7_soon.data.toList.drop 24 = dktX7_soon_1 := dk_seg dksX7_soon_0 24 rfl rfl
theorem dksX7_soon_2 : cX7_soon.data.toList.drop 47 = dktX7_soon_2 := dk_seg dksX7_soon_1 23 rfl rfl
theorem dX7_soon_0 : decode cX7_soon 0 = .ok (.aload_n 0, 1) := dk_42 (dk_at dksX7_soon_0 0 rfl rfl)
theorem dX7_soon_1 : decode cX7_soon 1 = .ok (.iload_n 1, 1) := dk_27 (dk_at dksX7_soon_0 1 rfl rfl)
theorem dX7_soon_2 : decode cX7_soon 2 = .ok (.invokevirtual 158, 3) := dk_182 0 158 (dk_at dksX7_soon_0 2 rfl rfl)
theorem dX7_soon_5 : decode cX7_soon 5 = .ok (.ifCond .ne 5, 3) := dk_154 0 5 (dk_at dksX7_soon_0 5 rfl rfl)
theorem dX7_soon_8 : decode cX7_soon 8 = .ok (.iconst (-1), 1) := dk_2 (dk_at dksX7_soon_0 8 rfl rfl)
theorem dX7_soon_9 : decode cX7_soon 9 = .ok (.ireturn, 1) := dk_172 (dk_at dksX7_soon_0 9 rfl rfl)
theorem dX7_soon_10 : decode cX7_soon 10 = .ok (.aload_n 0, 1) := dk_42 (dk_at dksX7_soon_0 10 rfl rfl)
theorem dX7_soon_11 : decode cX7_soon 11 = .ok (.iconst 0, 1) := dk_3 (dk_at dksX7_soon_0 11 rfl rfl)
theorem dX7_soon_12 : decode cX7_soon 12 = .ok (.invokevirtual 208, 3) := dk_182 0 208 (dk_at dksX7_soon_0 12 rfl rfl)
theorem dX7_soon_15 : decode cX7_soon 15 = .ok (.iconst 0, 1) := dk_3 (dk_at dksX7_soon_0 15 rfl rfl)
theorem dX7_soon_16 : decode cX7_soon 16 = .ok (.istore_n 2, 1) := dk_61 (dk_at dksX7_soon_0 16 rfl rfl)
theorem dX7_soon_17 : decode cX7_soon 17 = .ok (.iload_n 2, 1) := dk_28 (dk_at dksX7_soon_0 17 rfl rfl)
theorem dX7_soon_18 : decode cX7_soon 18 = .ok (.bipush 9, 2) := dk_16 9 (dk_at dksX7_soon_0 18 rfl rfl)
theorem dX7_soon_20 : decode cX7_soon 20 = .ok (.if_icmp .gt 37, 3) := dk_163 0 37 (dk_at dksX7_soon_0 20 rfl rfl)
theorem dX7_soon_23 : decode cX7_soon 23 = .ok (.aload_n 0, 1) := dk_42 (dk_at dksX7_soon_0 23 rfl rfl)
theorem dX7_soon_24 : decode cX7_soon 24 = .ok (.iconst 0, 1) := dk_3 (dk_at dksX7_soon_1 0 rfl rfl)
theorem dX7_soon_25 : decode cX7_soon 25 = .ok (.iload_n 1, 1) := dk_27 (dk_at dksX7_soon_1 1 rfl rfl)
theorem dX7_soon_26 : decode cX7_soon 26 = .ok (.invokevirtual 131, 3) := dk_182 0 131 (dk_at dksX7_soon_1 2 rfl rfl)
theorem dX7_soon_29 : decode cX7_soon 29 = .ok (.ifCond .eq 28, 3) := dk_153 0 28 (dk_at dksX7_soon_1 5 rfl rfl)
theorem dX7_soon_32 : decode cX7_soon 32 = .ok (.aload_n 0, 1) := dk_42 (dk_at dksX7_soon_1 8 rfl rfl)
theorem dX7_soon_33 : decode cX7_soon 33 = .ok (.bipush 112, 2) := dk_16 112 (dk_at dksX7_soon_1 9 rfl rfl)
theorem dX7_soon_35 : decode cX7_soon 35 = .ok (.iconst 0, 1) := dk_3 (dk_at dksX7_soon_1 11 rfl rfl)
theorem dX7_soon_36 : decode cX7_soon 36 = .ok (.invokevirtual 149, 3) := dk_182 0 149 (dk_at dksX7_soon_1 12 rfl rfl)
theorem dX7_soon_39 : decode cX7_soon 39 = .ok (.iload_n 1, 1) := dk_27 (dk_at dksX7_soon_1 15 rfl rfl)
theorem dX7_soon_40 : decode cX7_soon 40 = .ok (.if_icmp .ne 5, 3) := dk_160 0 5 (dk_at dksX7_soon_1 16 rfl rfl)
theorem dX7_soon_43 : decode cX7_soon 43 = .ok (.iload_n 2, 1) := dk_28 (dk_at dksX7_soon_1 19 rfl rfl)
theorem dX7_soon_44 : decode cX7_soon 44 = .ok (.ireturn, 1) := dk_172 (dk_at dksX7_soon_1 20 rfl rfl)
theorem dX7_soon_45 : decode cX7_soon 45 = .ok (.aload_n 0, 1) := dk_42 (dk_at dksX7_soon_1 21 rfl rfl)
theorem dX7_soon_46 : decode cX7_soon 46 = .ok (.iload_n 1, 1) := dk_27 (dk_at dksX7_soon_1 22 rfl rfl)
theorem dX7_soon_47 : decode cX7_soon 47 = .ok (.invokevirtual 211, 3) := dk_182 0 211 (dk_at dksX7_soon_2 0 rfl rfl)
theorem dX7_soon_50 : decode cX7_soon 50 = .ok (.pop, 1) := dk_87 (dk_at dksX7_soon_2 3 rfl rfl)
theorem dX7_soon_51 : decode cX7_soon 51 = .ok (.iinc 2 1, 3) := dk_132 2 1 (dk_at dksX7_soon_2 4 rfl rfl)
theorem dX7_soon_54 : decode cX7_soon 54 = .ok (.goto (-37), 3) := dk_167 255 219 (dk_at dksX7_soon_2 7 rfl rfl)
theorem dX7_soon_57 : decode cX7_soon 57 = .ok (.bipush (-4), 2) := dk_16 252 (dk_at dksX7_soon_2 10 rfl rfl)
theorem dX7_soon_59 : decode cX7_soon 59 = .ok (.ireturn, 1) := dk_172 (dk_at dksX7_soon_2 12 rfl rfl)
abbrev cX7_best : ByteArray := prog_11_method_57_code
def yX7_best : MethodName := ⟨RX7, "best", "(II)I"⟩
def dkwX7_best_8 : List UInt8 := [16, 6, 27, 28, 16, 10, 100, 184, 0, 220, 167, 0, 5, 16, 252, 172]
abbrev dktX7_best_8 : List UInt8 := dkwX7_best_8 ++ []
def dkwX7_best_7 : List UInt8 := [167, 0, 38, 28, 4, 160, 0, 8, 21, 4, 167, 0, 28, 28, 16, 10, 100, 27, 162, 0, 18, 21, 5]
abbrev dktX7_best_7 : List UInt8 := dkwX7_best_7 ++ dktX7_best_8
def dkwX7_best_6 : List UInt8 := [42, 180, 0, 202, 167, 0, 5, 21, 4, 54, 4, 132, 6, 1, 167, 255, 151, 28, 154, 0, 7, 29]
abbrev dktX7_best_6 : List UInt8 := dkwX7_best_6 ++ dktX7_best_7
def dkwX7_best_5 : List UInt8 := [167, 0, 5, 21, 5, 54, 5, 21, 8, 153, 0, 8, 21, 7, 167, 0, 4, 29, 62, 21, 8, 153, 0, 10]
abbrev dktX7_best_5 : List UInt8 := dkwX7_best_5 ++ dktX7_best_6
def dkwX7_best_4 : List UInt8 := [42, 180, 0, 202, 21, 4, 164, 0, 7, 4, 167, 0, 4, 3, 54, 8, 21, 8, 153, 0, 8, 21, 6]
abbrev dktX7_best_4 : List UInt8 := dkwX7_best_4 ++ dktX7_best_5
def dkwX7_best_3 : List UInt8 := [153, 0, 82, 42, 180, 0, 199, 184, 0, 193, 54, 7, 21, 7, 29, 163, 0, 18, 21, 7, 29, 160, 0, 16]
abbrev dktX7_best_3 : List UInt8 := dkwX7_best_3 ++ dktX7_best_4
def dkwX7_best_2 : List UInt8 := [54, 6, 21, 6, 16, 6, 27, 184, 0, 217, 162, 0, 100, 42, 21, 6, 16, 6, 27, 182, 0, 228]
abbrev dktX7_best_2 : List UInt8 := dkwX7_best_2 ++ dktX7_best_3
def dkwX7_best_1 : List UInt8 := [20, 0, 224, 20, 0, 226, 184, 0, 49, 154, 0, 5, 2, 172, 2, 62, 2, 54, 4, 3, 54, 5, 3]
abbrev dktX7_best_1 : List UInt8 := dkwX7_best_1 ++ dktX7_best_2
def dkwX7_best_0 : List UInt8 := [27, 133, 9, 20, 0, 165, 184, 0, 49, 153, 0, 27, 28, 133, 9, 10, 184, 0, 49, 154, 0, 19, 28, 133]
abbrev dktX7_best_0 : List UInt8 := dkwX7_best_0 ++ dktX7_best_1
theorem dksX7_best_0 : cX7_best.data.toList.drop 0 = dktX7_best_0 := by decide +kernel
theorem dksX7_best_1 : cX7_best.data.toList.drop 24 = dktX7_best_1 := dk_seg dksX7_best_0 24 rfl rfl
theorem dksX7_best_2 : cX7_best.data.toList.drop 47 = dktX7_best_2 := dk_seg dksX7_best_1 23 rfl rfl
theorem dksX7_best_3 : cX7_best.data.toList.drop 69 = dktX7_best_3 := dk_seg dksX7_best_2 22 rfl rfl
theorem dksX7_best_4 : cX7_best.data.toList.drop 93 = dktX7_best_4 := dk_seg dksX7_best_3 24 rfl rfl
theorem dksX7_best_5 : cX7_best.data.toList.drop 116 = dktX7_best_5 := dk_seg dksX7_best_4 23 rfl rfl
theorem dksX7_best_6 : cX7_best.data.toList.drop 140 = dktX7_best_6 := dk_seg dksX7_best_5 24 rfl rfl
theorem dksX7_best_7 : cX7_best.data.toList.drop 162 = dktX7_best_7 := dk_seg dksX7_best_6 22 rfl rfl
theorem dksX7_best_8 : cX7_best.data.toList.drop 185 = dktX7_best_8 := dk_seg dksX7_best_7 23 rfl rfl
theorem dX7_best_0 : decode cX7_best 0 = .ok (.iload_n 1, 1) := dk_27 (dk_at dksX7_best_0 0 rfl rfl)
theorem dX7_best_1 : decode cX7_best 1 = .ok (.i2l, 1) := dk_133 (dk_at dksX7_best_0 1 rfl rfl)
theorem dX7_best_2 : decode cX7_best 2 = .ok (.lconst 0, 1) := dk_9 (dk_at dksX7_best_0 2 rfl rfl)
theorem dX7_best_3 : decode cX7_best 3 = .ok (.ldc2_w 165, 3) := dk_20 0 165 (dk_at dksX7_best_0 3 rfl rfl)
theorem dX7_best_6 : decode cX7_best 6 = .ok (.invokestatic 49, 3) := dk_184 0 49 (dk_at dksX7_best_0 6 rfl rfl)
theorem dX7_best_9 : decode cX7_best 9 = .ok (.ifCond .eq 27, 3) := dk_153 0 27 (dk_at dksX7_best_0 9 rfl rfl)
theorem dX7_best_12 : decode cX7_best 12 = .ok (.iload_n 2, 1) := dk_28 (dk_at dksX7_best_0 12 rfl rfl)
theorem dX7_best_13 : decode cX7_best 13 = .ok (.i2l, 1) := dk_133 (dk_at dksX7_best_0 13 rfl rfl)
theorem dX7_best_14 : decode cX7_best 14 = .ok (.lconst 0, 1) := dk_9 (dk_at dksX7_best_0 14 rfl rfl)
theorem dX7_best_15 : decode cX7_best 15 = .ok (.lconst 1, 1) := dk_10 (dk_at dksX7_best_0 15 rfl rfl)
theorem dX7_best_16 : decode cX7_best 16 = .ok (.invokestatic 49, 3) := dk_184 0 49 (dk_at dksX7_best_0 16 rfl rfl)
theorem dX7_best_19 : decode cX7_best 19 = .ok (.ifCond .ne 19, 3) := dk_154 0 19 (dk_at dksX7_best_0 19 rfl rfl)
theorem dX7_best_22 : decode cX7_best 22 = .ok (.iload_n 2, 1) := dk_28 (dk_at dksX7_best_0 22 rfl rfl)
theorem dX7_best_23 : decode cX7_best 23 = .ok (.i2l, 1) := dk_133 (dk_at dksX7_best_0 23 rfl rfl)
theorem dX7_best_24 : decode cX7_best 24 = .ok (.ldc2_w 224, 3) := dk_20 0 224 (dk_at dksX7_best_1 0 rfl rfl)
theorem dX7_best_27 : decode cX7_best 27 = .ok (.ldc2_w 226, 3) := dk_20 0 226 (dk_at dksX7_best_1 3 rfl rfl)
theorem dX7_best_30 : decode cX7_best 30 = .ok (.invokestatic 49, 3) := dk_184 0 49 (dk_at dksX7_best_1 6 rfl rfl)
theorem dX7_best_33 : decode cX7_best 33 = .ok (.ifCond .ne 5, 3) := dk_154 0 5 (dk_at dksX7_best_1 9 rfl rfl)
theorem dX7_best_36 : decode cX7_best 36 = .ok (.iconst (-1), 1) := dk_2 (dk_at dksX7_best_1 12 rfl rfl)
theorem dX7_best_37 : decode cX7_best 37 = .ok (.ireturn, 1) := dk_172 (dk_at dksX7_best_1 13 rfl rfl)
theorem dX7_best_38 : decode cX7_best 38 = .ok (.iconst (-1), 1) := dk_2 (dk_at dksX7_best_1 14 rfl rfl)
theorem dX7_best_39 : decode cX7_best 39 = .ok (.istore_n 3, 1) := dk_62 (dk_at dksX7_best_1 15 rfl rfl)
theorem dX7_best_40 : decode cX7_best 40 = .ok (.iconst (-1), 1) := dk_2 (dk_at dksX7_best_1 16 rfl rfl)
theorem dX7_best_41 : decode cX7_best 41 = .ok (.istore 4, 2) := dk_54 4 (dk_at dksX7_best_1 17 rfl rfl)
theorem dX7_best_43 : decode cX7_best 43 = .ok (.iconst 0, 1) := dk_3 (dk_at dksX7_best_1 19 rfl rfl)
theorem dX7_best_44 : decode cX7_best 44 = .ok (.istore 5, 2) := dk_54 5 (dk_at dksX7_best_1 20 rfl rfl)
theorem dX7_best_46 : decode cX7_best 46 = .ok (.iconst 0, 1) := dk_3 (dk_at dksX7_best_1 22 rfl rfl)
theorem dX7_best_47 : decode cX7_best 47 = .ok (.istore 6, 2) := dk_54 6 (dk_at dksX7_best_2 0 rfl rfl)
theorem dX7_best_49 : decode cX7_best 49 = .ok (.iload 6, 2) := dk_21 6 (dk_at dksX7_best_2 2 rfl rfl)
theorem dX7_best_51 : decode cX7_best 51 = .ok (.bipush 6, 2) := dk_16 6 (dk_at dksX7_best_2 4 rfl rfl)
theorem dX7_best_53 : decode cX7_best 53 = .ok (.iload_n 1, 1) := dk_27 (dk_at dksX7_best_2 6 rfl rfl)
theorem dX7_best_54 : decode cX7_best 54 = .ok (.invokestatic 217, 3) := dk_184 0 217 (dk_at dksX7_best_2 7 rfl rfl)
theorem dX7_best_57 : decode cX7_best 57 = .ok (.if_icmp .ge 100, 3) := dk_162 0 100 (dk_at dksX7_best_2 10 rfl rfl)
theorem dX7_best_60 : decode cX7_best 60 = .ok (.aload_n 0, 1) := dk_42 (dk_at dksX7_best_2 13 rfl rfl)
theorem dX7_best_61 : decode cX7_best 61 = .ok (.iload 6, 2) := dk_21 6 (dk_at dksX7_best_2 14 rfl rfl)
theorem dX7_best_63 : decode cX7_best 63 = .ok (.bipush 6, 2) := dk_16 6 (dk_at dksX7_best_2 16 rfl rfl)
theorem dX7_best_65 : decode cX7_best 65 = .ok (.iload_n 1, 1) := dk_27 (dk_at dksX7_best_2 18 rfl rfl)
theorem dX7_best_66 : decode cX7_best 66 = .ok (.invokevirtual 228, 3) := dk_182 0 228 (dk_at dksX7_best_2 19 rfl rfl)
theorem dX7_best_69 : decode cX7_best 69 = .ok (.ifCond .eq 82, 3) := dk_153 0 82 (dk_at dksX7_best_3 0 rfl rfl)
theorem dX7_best_72 : decode cX7_best 72 = .ok (.aload_n 0, 1) := dk_42 (dk_at dksX7_best_3 3 rfl rfl)
theorem dX7_best_73 : decode cX7_best 73 = .ok (.getfield 199, 3) := dk_180 0 199 (dk_at dksX7_best_3 4 rfl rfl)
theorem dX7_best_76 : decode cX7_best 76 = .ok (.invokestatic 193, 3) := dk_184 0 193 (dk_at dksX7_best_3 7 rfl rfl)
theorem dX7_best_79 : decode cX7_best 79 = .ok (.istore 7, 2) := dk_54 7 (dk_at dksX7_best_3 10 rfl rfl)
theorem dX7_best_81 : decode cX7_best 81 = .ok (.iload 7, 2) := dk_21 7 (dk_at dksX7_best_3 12 rfl rfl)
theorem dX7_best_83 : decode cX7_best 83 = .ok (.iload_n 3, 1) := dk_29 (dk_at dksX7_best_3 14 rfl rfl)
theorem dX7_best_84 : decode cX7_best 84 = .ok (.if_icmp .gt 18, 3) := dk_163 0 18 (dk_at dksX7_best_3 15 rfl rfl)
theorem dX7_best_87 : decode cX7_best 87 = .ok (.iload 7, 2) := dk_21 7 (dk_at dksX7_best_3 18 rfl rfl)
theorem dX7_best_89 : decode cX7_best 89 = .ok (.iload_n 3, 1) := dk_29 (dk_at dksX7_best_3 20 rfl rfl)
theorem dX7_best_90 : decode cX7_best 90 = .ok (.if_icmp .ne 16, 3) := dk_160 0 16 (dk_at dksX7_best_3 21 rfl rfl)
theorem dX7_best_93 : decode cX7_best 93 = .ok (.aload_n 0, 1) := dk_42 (dk_at dksX7_best_4 0 rfl rfl)
theorem dX7_best_94 : decode cX7_best 94 = .ok (.getfield 202, 3) := dk_180 0 202 (dk_at dksX7_best_4 1 rfl rfl)
theorem dX7_best_97 : decode cX7_best 97 = .ok (.iload 4, 2) := dk_21 4 (dk_at dksX7_best_4 4 rfl rfl)
theorem dX7_best_99 : decode cX7_best 99 = .ok (.if_icmp .le 7, 3) := dk_164 0 7 (dk_at dksX7_best_4 6 rfl rfl)
theorem dX7_best_102 : decode cX7_best 102 = .ok (.iconst 1, 1) := dk_4 (dk_at dksX7_best_4 9 rfl rfl)
theorem dX7_best_103 : decode cX7_best 103 = .ok (.goto 4, 3) := dk_167 0 4 (dk_at dksX7_best_4 10 rfl rfl)
theorem dX7_best_106 : decode cX7_best 106 = .ok (.iconst 0, 1) := dk_3 (dk_at dksX7_best_4 13 rfl rfl)
theorem dX7_best_107 : decode cX7_best 107 = .ok (.istore 8, 2) := dk_54 8 (dk_at dksX7_best_4 14 rfl rfl)
theorem dX7_best_109 : decode cX7_best 109 = .ok (.iload 8, 2) := dk_21 8 (dk_at dksX7_best_4 16 rfl rfl)
theorem dX7_best_111 : decode cX7_best 111 = .ok (.ifCond .eq 8, 3) := dk_153 0 8 (dk_at dksX7_best_4 18 rfl rfl)
theorem dX7_best_114 : decode cX7_best 114 = .ok (.iload 6, 2) := dk_21 6 (dk_at dksX7_best_4 21 rfl rfl)
theorem dX7_best_116 : decode cX7_best 116 = .ok (.goto 5, 3) := dk_167 0 5 (dk_at dksX7_best_5 0 rfl rfl)
theorem dX7_best_119 : decode cX7_best 119 = .ok (.iload 5, 2) := dk_21 5 (dk_at dksX7_best_5 3 rfl rfl)
theorem dX7_best_121 : decode cX7_best 121 = .ok (.istore 5, 2) := dk_54 5 (dk_at dksX7_best_5 5 rfl rfl)
theorem dX7_best_123 : decode cX7_best 123 = .ok (.iload 8, 2) := dk_21 8 (dk_at dksX7_best_5 7 rfl rfl)
theorem dX7_best_125 : decode cX7_best 125 = .ok (.ifCond .eq 8, 3) := dk_153 0 8 (dk_at dksX7_best_5 9 rfl rfl)
theorem dX7_best_128 : decode cX7_best 128 = .ok (.iload 7, 2) := dk_21 7 (dk_at dksX7_best_5 12 rfl rfl)
theorem dX7_best_130 : decode cX7_best 130 = .ok (.goto 4, 3) := dk_167 0 4 (dk_at dksX7_best_5 14 rfl rfl)
theorem dX7_best_133 : decode cX7_best 133 = .ok (.iload_n 3, 1) := dk_29 (dk_at dksX7_best_5 17 rfl rfl)
theorem dX7_best_134 : decode cX7_best 134 = .ok (.istore_n 3, 1) := dk_62 (dk_at dksX7_best_5 18 rfl rfl)
theorem dX7_best_135 : decode cX7_best 135 = .ok (.iload 8, 2) := dk_21 8 (dk_at dksX7_best_5 19 rfl rfl)
theorem dX7_best_137 : decode cX7_best 137 = .ok (.ifCond .eq 10, 3) := dk_153 0 10 (dk_at dksX7_best_5 21 rfl rfl)
theorem dX7_best_140 : decode cX7_best 140 = .ok (.aload_n 0, 1) := dk_42 (dk_at dksX7_best_6 0 rfl rfl)
theorem dX7_best_141 : decode cX7_best 141 = .ok (.getfield 202, 3) := dk_180 0 202 (dk_at dksX7_best_6 1 rfl rfl)
theorem dX7_best_144 : decode cX7_best 144 = .ok (.goto 5, 3) := dk_167 0 5 (dk_at dksX7_best_6 4 rfl rfl)
theorem dX7_best_147 : decode cX7_best 147 = .ok (.iload 4, 2) := dk_21 4 (dk_at dksX7_best_6 7 rfl rfl)
theorem dX7_best_149 : decode cX7_best 149 = .ok (.istore 4, 2) := dk_54 4 (dk_at dksX7_best_6 9 rfl rfl)
theorem dX7_best_151 : decode cX7_best 151 = .ok (.iinc 6 1, 3) := dk_132 6 1 (dk_at dksX7_best_6 11 rfl rfl)
theorem dX7_best_154 : decode cX7_best 154 = .ok (.goto (-105), 3) := dk_167 255 151 (dk_at dksX7_best_6 14 rfl rfl)
theorem dX7_best_157 : decode cX7_best 157 = .ok (.iload_n 2, 1) := dk_28 (dk_at dksX7_best_6 17 rfl rfl)
theorem dX7_best_158 : decode cX7_best 158 = .ok (.ifCond .ne 7, 3) := dk_154 0 7 (dk_at dksX7_best_6 18 rfl rfl)
theorem dX7_best_161 : decode cX7_best 161 = .ok (.iload_n 3, 1) := dk_29 (dk_at dksX7_best_6 21 rfl rfl)
theorem dX7_best_162 : decode cX7_best 162 = .ok (.goto 38, 3) := dk_167 0 38 (dk_at dksX7_best_7 0 rfl rfl)
theorem dX7_best_165 : decode cX7_best 165 = .ok (.iload_n 2, 1) := dk_28 (dk_at dksX7_best_7 3 rfl rfl)
theorem dX7_best_166 : decode cX7_best 166 = .ok (.iconst 1, 1) := dk_4 (dk_at dksX7_best_7 4 rfl rfl)
theorem dX7_best_167 : decode cX7_best 167 = .ok (.if_icmp .ne 8, 3) := dk_160 0 8 (dk_at dksX7_best_7 5 rfl rfl)
theorem dX7_best_170 : decode cX7_best 170 = .ok (.iload 4, 2) := dk_21 4 (dk_at dksX7_best_7 8 rfl rfl)
theorem dX7_best_172 : decode cX7_best 172 = .ok (.goto 28, 3) := dk_167 0 28 (dk_at dksX7_best_7 10 rfl rfl)
theorem dX7_best_175 : decode cX7_best 175 = .ok (.iload_n 2, 1) := dk_28 (dk_at dksX7_best_7 13 rfl rfl)
theorem dX7_best_176 : decode cX7_best 176 = .ok (.bipush 10, 2) := dk_16 10 (dk_at dksX7_best_7 14 rfl rfl)
theorem dX7_best_178 : decode cX7_best 178 = .ok (.isub, 1) := dk_100 (dk_at dksX7_best_7 16 rfl rfl)
theorem dX7_best_179 : decode cX7_best 179 = .ok (.iload_n 1, 1) := dk_27 (dk_at dksX7_best_7 17 rfl rfl)
theorem dX7_best_180 : decode cX7_best 180 = .ok (.if_icmp .ge 18, 3) := dk_162 0 18 (dk_at dksX7_best_7 18 rfl rfl)
theorem dX7_best_183 : decode cX7_best 183 = .ok (.iload 5, 2) := dk_21 5 (dk_at dksX7_best_7 21 rfl rfl)
theorem dX7_best_185 : decode cX7_best 185 = .ok (.bipush 6, 2) := dk_16 6 (dk_at dksX7_best_8 0 rfl rfl)
theorem dX7_best_187 : decode cX7_best 187 = .ok (.iload_n 1, 1) := dk_27 (dk_at dksX7_best_8 2 rfl rfl)
theorem dX7_best_188 : decode cX7_best 188 = .ok (.iload_n 2, 1) := dk_28 (dk_at dksX7_best_8 3 rfl rfl)
theorem dX7_best_189 : decode cX7_best 189 = .ok (.bipush 10, 2) := dk_16 10 (dk_at dksX7_best_8 4 rfl rfl)
theorem dX7_best_191 : decode cX7_best 191 = .ok (.isub, 1) := dk_100 (dk_at dksX7_best_8 6 rfl rfl)
theorem dX7_best_192 : decode cX7_best 192 = .ok (.invokestatic 220, 3) := dk_184 0 220 (dk_at dksX7_best_8 7 rfl rfl)
theorem dX7_best_195 : decode cX7_best 195 = .ok (.goto 5, 3) := dk_167 0 5 (dk_at dksX7_best_8 10 rfl rfl)
theorem dX7_best_198 : decode cX7_best 198 = .ok (.bipush (-4), 2) := dk_16 252 (dk_at dksX7_best_8 13 rfl rfl)
theorem dX7_best_200 : decode cX7_best 200 = .ok (.ireturn, 1) := dk_172 (dk_at dksX7_best_8 15 rfl rfl)
abbrev cX7_powerOf : ByteArray := prog_11_method_54_code
def yX7_powerOf : MethodName := ⟨RX7, "powerOf", "(II)I"⟩
def dkwX7_powerOf_0 : List UInt8 := [4, 61, 3, 62, 29, 27, 162, 0, 13, 28, 26, 104, 61, 132, 3, 1, 167, 255, 244, 28, 172]
abbrev dktX7_powerOf_0 : List UInt8 := dkwX7_powerOf_0 ++ []
theorem dksX7_powerOf_0 : cX7_powerOf.data.toList.drop 0 = dktX7_powerOf_0 := by decide +kernel
theorem dX7_powerOf_0 : decode cX7_powerOf 0 = .ok (.iconst 1, 1) := dk_4 (dk_at dksX7_powerOf_0 0 rfl rfl)
theorem dX7_powerOf_1 : decode cX7_powerOf 1 = .ok (.istore_n 2, 1) := dk_61 (dk_at dksX7_powerOf_0 1 rfl rfl)
theorem dX7_powerOf_2 : decode cX7_powerOf 2 = .ok (.iconst 0, 1) := dk_3 (dk_at dksX7_powerOf_0 2 rfl rfl)
theorem dX7_powerOf_3 : decode cX7_powerOf 3 = .ok (.istore_n 3, 1) := dk_62 (dk_at dksX7_powerOf_0 3 rfl rfl)
theorem dX7_powerOf_4 : decode cX7_powerOf 4 = .ok (.iload_n 3, 1) := dk_29 (dk_at dksX7_powerOf_0 4 rfl rfl)
theorem dX7_powerOf_5 : decode cX7_powerOf 5 = .ok (.iload_n 1, 1) := dk_27 (dk_at dksX7_powerOf_0 5 rfl rfl)
theorem dX7_powerOf_6 : decode cX7_powerOf 6 = .ok (.if_icmp .ge 13, 3) := dk_162 0 13 (dk_at dksX7_powerOf_0 6 rfl rfl)
theorem dX7_powerOf_9 : decode cX7_powerOf 9 = .ok (.iload_n 2, 1) := dk_28 (dk_at dksX7_powerOf_0 9 rfl rfl)
theorem dX7_powerOf_10 : decode cX7_powerOf 10 = .ok (.iload_n 0, 1) := dk_26 (dk_at dksX7_powerOf_0 10 rfl rfl)
theorem dX7_powerOf_11 : decode cX7_powerOf 11 = .ok (.imul, 1) := dk_104 (dk_at dksX7_powerOf_0 11 rfl rfl)
theorem dX7_powerOf_12 : decode cX7_powerOf 12 = .ok (.istore_n 2, 1) := dk_61 (dk_at dksX7_powerOf_0 12 rfl rfl)
theorem dX7_powerOf_13 : decode cX7_powerOf 13 = .ok (.iinc 3 1, 3) := dk_132 3 1 (dk_at dksX7_powerOf_0 13 rfl rfl)
theorem dX7_powerOf_16 : decode cX7_powerOf 16 = .ok (.goto (-12), 3) := dk_167 255 244 (dk_at dksX7_powerOf_0 16 rfl rfl)
theorem dX7_powerOf_19 : decode cX7_powerOf 19 = .ok (.iload_n 2, 1) := dk_28 (dk_at dksX7_powerOf_0 19 rfl rfl)
theorem dX7_powerOf_20 : decode cX7_powerOf 20 = .ok (.ireturn, 1) := dk_172 (dk_at dksX7_powerOf_0 20 rfl rfl)
abbrev cX7_rowGoes : ByteArray := prog_11_method_56_code
def yX7_rowGoes : MethodName := ⟨RX7, "rowGoes", "(III)Z"⟩
def dkwX7_rowGoes_2 : List UInt8 := [4, 172]
abbrev dktX7_rowGoes_2 : List UInt8 := dkwX7_rowGoes_2 ++ []
def dkwX7_rowGoes_1 : List UInt8 := [42, 21, 5, 182, 0, 179, 154, 0, 5, 3, 172, 42, 21, 5, 182, 0, 211, 87, 132, 4, 1, 167, 255, 219]
abbrev dktX7_rowGoes_1 : List UInt8 := dkwX7_rowGoes_1 ++ dktX7_rowGoes_2
def dkwX7_rowGoes_0 : List UInt8 := [42, 3, 182, 0, 208, 3, 54, 4, 21, 4, 29, 162, 0, 37, 27, 28, 29, 21, 4, 184, 0, 220, 54, 5]
abbrev dktX7_rowGoes_0 : List UInt8 := dkwX7_rowGoes_0 ++ dktX7_rowGoes_1
theorem dksX7_rowGoes_0 : cX7_rowGoes.data.toList.drop 0 = dktX7_rowGoes_0 := by decide +kernel
theorem dksX7_rowGoes_1 : cX7_rowGoes.data.toList.drop 24 = dktX7_rowGoes_1 := dk_seg dksX7_rowGoes_0 24 rfl rfl
theorem dksX7_rowGoes_2 : cX7_rowGoes.data.toList.drop 48 = dktX7_rowGoes_2 := dk_seg dksX7_rowGoes_1 24 rfl rfl
theorem dX7_rowGoes_0 : decode cX7_rowGoes 0 = .ok (.aload_n 0, 1) := dk_42 (dk_at dksX7_rowGoes_0 0 rfl rfl)
theorem dX7_rowGoes_1 : decode cX7_rowGoes 1 = .ok (.iconst 0, 1) := dk_3 (dk_at dksX7_rowGoes_0 1 rfl rfl)
theorem dX7_rowGoes_2 : decode cX7_rowGoes 2 = .ok (.invokevirtual 208, 3) := dk_182 0 208 (dk_at dksX7_rowGoes_0 2 rfl rfl)
theorem dX7_rowGoes_5 : decode cX7_rowGoes 5 = .ok (.iconst 0, 1) := dk_3 (dk_at dksX7_rowGoes_0 5 rfl rfl)
theorem dX7_rowGoes_6 : decode cX7_rowGoes 6 = .ok (.istore 4, 2) := dk_54 4 (dk_at dksX7_rowGoes_0 6 rfl rfl)
theorem dX7_rowGoes_8 : decode cX7_rowGoes 8 = .ok (.iload 4, 2) := dk_21 4 (dk_at dksX7_rowGoes_0 8 rfl rfl)
theorem dX7_rowGoes_10 : decode cX7_rowGoes 10 = .ok (.iload_n 3, 1) := dk_29 (dk_at dksX7_rowGoes_0 10 rfl rfl)
theorem dX7_rowGoes_11 : decode cX7_rowGoes 11 = .ok (.if_icmp .ge 37, 3) := dk_162 0 37 (dk_at dksX7_rowGoes_0 11 rfl rfl)
theorem dX7_rowGoes_14 : decode cX7_rowGoes 14 = .ok (.iload_n 1, 1) := dk_27 (dk_at dksX7_rowGoes_0 14 rfl rfl)
theorem dX7_rowGoes_15 : decode cX7_rowGoes 15 = .ok (.iload_n 2, 1) := dk_28 (dk_at dksX7_rowGoes_0 15 rfl rfl)
theorem dX7_rowGoes_16 : decode cX7_rowGoes 16 = .ok (.iload_n 3, 1) := dk_29 (dk_at dksX7_rowGoes_0 16 rfl rfl)
theorem dX7_rowGoes_17 : decode cX7_rowGoes 17 = .ok (.iload 4, 2) := dk_21 4 (dk_at dksX7_rowGoes_0 17 rfl rfl)
theorem dX7_rowGoes_19 : decode cX7_rowGoes 19 = .ok (.invokestatic 220, 3) := dk_184 0 220 (dk_at dksX7_rowGoes_0 19 rfl rfl)
theorem dX7_rowGoes_22 : decode cX7_rowGoes 22 = .ok (.istore 5, 2) := dk_54 5 (dk_at dksX7_rowGoes_0 22 rfl rfl)
theorem dX7_rowGoes_24 : decode cX7_rowGoes 24 = .ok (.aload_n 0, 1) := dk_42 (dk_at dksX7_rowGoes_1 0 rfl rfl)
theorem dX7_rowGoes_25 : decode cX7_rowGoes 25 = .ok (.iload 5, 2) := dk_21 5 (dk_at dksX7_rowGoes_1 1 rfl rfl)
theorem dX7_rowGoes_27 : decode cX7_rowGoes 27 = .ok (.invokevirtual 179, 3) := dk_182 0 179 (dk_at dksX7_rowGoes_1 3 rfl rfl)
theorem dX7_rowGoes_30 : decode cX7_rowGoes 30 = .ok (.ifCond .ne 5, 3) := dk_154 0 5 (dk_at dksX7_rowGoes_1 6 rfl rfl)
theorem dX7_rowGoes_33 : decode cX7_rowGoes 33 = .ok (.iconst 0, 1) := dk_3 (dk_at dksX7_rowGoes_1 9 rfl rfl)
theorem dX7_rowGoes_34 : decode cX7_rowGoes 34 = .ok (.ireturn, 1) := dk_172 (dk_at dksX7_rowGoes_1 10 rfl rfl)
theorem dX7_rowGoes_35 : decode cX7_rowGoes 35 = .ok (.aload_n 0, 1) := dk_42 (dk_at dksX7_rowGoes_1 11 rfl rfl)
theorem dX7_rowGoes_36 : decode cX7_rowGoes 36 = .ok (.iload 5, 2) := dk_21 5 (dk_at dksX7_rowGoes_1 12 rfl rfl)
theorem dX7_rowGoes_38 : decode cX7_rowGoes 38 = .ok (.invokevirtual 211, 3) := dk_182 0 211 (dk_at dksX7_rowGoes_1 14 rfl rfl)
theorem dX7_rowGoes_41 : decode cX7_rowGoes 41 = .ok (.pop, 1) := dk_87 (dk_at dksX7_rowGoes_1 17 rfl rfl)
theorem dX7_rowGoes_42 : decode cX7_rowGoes 42 = .ok (.iinc 4 1, 3) := dk_132 4 1 (dk_at dksX7_rowGoes_1 18 rfl rfl)
theorem dX7_rowGoes_45 : decode cX7_rowGoes 45 = .ok (.goto (-37), 3) := dk_167 255 219 (dk_at dksX7_rowGoes_1 21 rfl rfl)
theorem dX7_rowGoes_48 : decode cX7_rowGoes 48 = .ok (.iconst 1, 1) := dk_4 (dk_at dksX7_rowGoes_2 0 rfl rfl)
theorem dX7_rowGoes_49 : decode cX7_rowGoes 49 = .ok (.ireturn, 1) := dk_172 (dk_at dksX7_rowGoes_2 1 rfl rfl)
abbrev cX7_figureOf : ByteArray := prog_11_method_55_code
def yX7_figureOf : MethodName := ⟨RX7, "figureOf", "(IIII)I"⟩
def dkwX7_figureOf_0 : List UInt8 := [26, 27, 28, 4, 100, 29, 100, 184, 0, 217, 108, 27, 112, 172]
abbrev dktX7_figureOf_0 : List UInt8 := dkwX7_figureOf_0 ++ []
theorem dksX7_figureOf_0 : cX7_figureOf.data.toList.drop 0 = dktX7_figureOf_0 := by decide +kernel
theorem dX7_figureOf_0 : decode cX7_figureOf 0 = .ok (.iload_n 0, 1) := dk_26 (dk_at dksX7_figureOf_0 0 rfl rfl)
theorem dX7_figureOf_1 : decode cX7_figureOf 1 = .ok (.iload_n 1, 1) := dk_27 (dk_at dksX7_figureOf_0 1 rfl rfl)
theorem dX7_figureOf_2 : decode cX7_figureOf 2 = .ok (.iload_n 2, 1) := dk_28 (dk_at dksX7_figureOf_0 2 rfl rfl)
theorem dX7_figureOf_3 : decode cX7_figureOf 3 = .ok (.iconst 1, 1) := dk_4 (dk_at dksX7_figureOf_0 3 rfl rfl)
theorem dX7_figureOf_4 : decode cX7_figureOf 4 = .ok (.isub, 1) := dk_100 (dk_at dksX7_figureOf_0 4 rfl rfl)
theorem dX7_figureOf_5 : decode cX7_figureOf 5 = .ok (.iload_n 3, 1) := dk_29 (dk_at dksX7_figureOf_0 5 rfl rfl)
theorem dX7_figureOf_6 : decode cX7_figureOf 6 = .ok (.isub, 1) := dk_100 (dk_at dksX7_figureOf_0 6 rfl rfl)
theorem dX7_figureOf_7 : decode cX7_figureOf 7 = .ok (.invokestatic 217, 3) := dk_184 0 217 (dk_at dksX7_figureOf_0 7 rfl rfl)
theorem dX7_figureOf_10 : decode cX7_figureOf 10 = .ok (.idiv, 1) := dk_108 (dk_at dksX7_figureOf_0 10 rfl rfl)
theorem dX7_figureOf_11 : decode cX7_figureOf 11 = .ok (.iload_n 1, 1) := dk_27 (dk_at dksX7_figureOf_0 11 rfl rfl)
theorem dX7_figureOf_12 : decode cX7_figureOf 12 = .ok (.irem, 1) := dk_112 (dk_at dksX7_figureOf_0 12 rfl rfl)
theorem dX7_figureOf_13 : decode cX7_figureOf 13 = .ok (.ireturn, 1) := dk_172 (dk_at dksX7_figureOf_0 13 rfl rfl)
abbrev cX7_home : ByteArray := prog_11_method_58_code
def yX7_home : MethodName := ⟨RX7, "home", "(II)I"⟩
def dkwX7_home_5 : List UInt8 := [132, 4, 1, 167, 255, 185, 132, 3, 1, 167, 255, 171, 16, 252, 172]
abbrev dktX7_home_5 : List UInt8 := dkwX7_home_5 ++ []
def dkwX7_home_4 : List UInt8 := [16, 10, 100, 29, 162, 0, 17, 21, 4, 8, 29, 28, 16, 10, 100, 184, 0, 220, 167, 0, 5, 16, 252, 172]
abbrev dktX7_home_4 : List UInt8 := dkwX7_home_4 ++ dktX7_home_5
def dkwX7_home_3 : List UInt8 := [42, 16, 112, 182, 0, 190, 27, 122, 4, 126, 4, 160, 0, 36, 28, 154, 0, 7, 29, 167, 0, 27, 28]
abbrev dktX7_home_3 : List UInt8 := dkwX7_home_3 ++ dktX7_home_4
def dkwX7_home_2 : List UInt8 := [3, 54, 4, 21, 4, 8, 29, 184, 0, 217, 162, 0, 67, 42, 21, 4, 8, 29, 182, 0, 228, 153, 0, 50]
abbrev dktX7_home_2 : List UInt8 := dkwX7_home_2 ++ dktX7_home_3
def dkwX7_home_1 : List UInt8 := [154, 0, 5, 2, 172, 42, 3, 27, 182, 0, 131, 154, 0, 6, 16, 254, 172, 3, 62, 29, 7, 162, 0, 86]
abbrev dktX7_home_1 : List UInt8 := dkwX7_home_1 ++ dktX7_home_2
def dkwX7_home_0 : List UInt8 := [42, 27, 182, 0, 158, 153, 0, 21, 28, 153, 0, 19, 28, 133, 20, 0, 224, 20, 0, 232, 184, 0, 49]
abbrev dktX7_home_0 : List UInt8 := dkwX7_home_0 ++ dktX7_home_1
theorem dksX7_home_0 : cX7_home.data.toList.drop 0 = dktX7_home_0 := by decide +kernel
theorem dksX7_home_1 : cX7_home.data.toList.drop 23 = dktX7_home_1 := dk_seg dksX7_home_0 23 rfl rfl
theorem dksX7_home_2 : cX7_home.data.toList.drop 47 = dktX7_home_2 := dk_seg dksX7_home_1 24 rfl rfl
theorem dksX7_home_3 : cX7_home.data.toList.drop 71 = dktX7_home_3 := dk_seg dksX7_home_2 24 rfl rfl
theorem dksX7_home_4 : cX7_home.data.toList.drop 94 = dktX7_home_4 := dk_seg dksX7_home_3 23 rfl rfl
theorem dksX7_home_5 : cX7_home.data.toList.drop 118 = dktX7_home_5 := dk_seg dksX7_home_4 24 rfl rfl
theorem dX7_home_0 : decode cX7_home 0 = .ok (.aload_n 0, 1) := dk_42 (dk_at dksX7_home_0 0 rfl rfl)
theorem dX7_home_1 : decode cX7_home 1 = .ok (.iload_n 1, 1) := dk_27 (dk_at dksX7_home_0 1 rfl rfl)
theorem dX7_home_2 : decode cX7_home 2 = .ok (.invokevirtual 158, 3) := dk_182 0 158 (dk_at dksX7_home_0 2 rfl rfl)
theorem dX7_home_5 : decode cX7_home 5 = .ok (.ifCond .eq 21, 3) := dk_153 0 21 (dk_at dksX7_home_0 5 rfl rfl)
theorem dX7_home_8 : decode cX7_home 8 = .ok (.iload_n 2, 1) := dk_28 (dk_at dksX7_home_0 8 rfl rfl)
theorem dX7_home_9 : decode cX7_home 9 = .ok (.ifCond .eq 19, 3) := dk_153 0 19 (dk_at dksX7_home_0 9 rfl rfl)
theorem dX7_home_12 : decode cX7_home 12 = .ok (.iload_n 2, 1) := dk_28 (dk_at dksX7_home_0 12 rfl rfl)
theorem dX7_home_13 : decode cX7_home 13 = .ok (.i2l, 1) := dk_133 (dk_at dksX7_home_0 13 rfl rfl)
theorem dX7_home_14 : decode cX7_home 14 = .ok (.ldc2_w 224, 3) := dk_20 0 224 (dk_at dksX7_home_0 14 rfl rfl)
theorem dX7_home_17 : decode cX7_home 17 = .ok (.ldc2_w 232, 3) := dk_20 0 232 (dk_at dksX7_home_0 17 rfl rfl)
theorem dX7_home_20 : decode cX7_home 20 = .ok (.invokestatic 49, 3) := dk_184 0 49 (dk_at dksX7_home_0 20 rfl rfl)
theorem dX7_home_23 : decode cX7_home 23 = .ok (.ifCond .ne 5, 3) := dk_154 0 5 (dk_at dksX7_home_1 0 rfl rfl)
theorem dX7_home_26 : decode cX7_home 26 = .ok (.iconst (-1), 1) := dk_2 (dk_at dksX7_home_1 3 rfl rfl)
theorem dX7_home_27 : decode cX7_home 27 = .ok (.ireturn, 1) := dk_172 (dk_at dksX7_home_1 4 rfl rfl)
theorem dX7_home_28 : decode cX7_home 28 = .ok (.aload_n 0, 1) := dk_42 (dk_at dksX7_home_1 5 rfl rfl)
theorem dX7_home_29 : decode cX7_home 29 = .ok (.iconst 0, 1) := dk_3 (dk_at dksX7_home_1 6 rfl rfl)
theorem dX7_home_30 : decode cX7_home 30 = .ok (.iload_n 1, 1) := dk_27 (dk_at dksX7_home_1 7 rfl rfl)
theorem dX7_home_31 : decode cX7_home 31 = .ok (.invokevirtual 131, 3) := dk_182 0 131 (dk_at dksX7_home_1 8 rfl rfl)
theorem dX7_home_34 : decode cX7_home 34 = .ok (.ifCond .ne 6, 3) := dk_154 0 6 (dk_at dksX7_home_1 11 rfl rfl)
theorem dX7_home_37 : decode cX7_home 37 = .ok (.bipush (-2), 2) := dk_16 254 (dk_at dksX7_home_1 14 rfl rfl)
theorem dX7_home_39 : decode cX7_home 39 = .ok (.ireturn, 1) := dk_172 (dk_at dksX7_home_1 16 rfl rfl)
theorem dX7_home_40 : decode cX7_home 40 = .ok (.iconst 0, 1) := dk_3 (dk_at dksX7_home_1 17 rfl rfl)
theorem dX7_home_41 : decode cX7_home 41 = .ok (.istore_n 3, 1) := dk_62 (dk_at dksX7_home_1 18 rfl rfl)
theorem dX7_home_42 : decode cX7_home 42 = .ok (.iload_n 3, 1) := dk_29 (dk_at dksX7_home_1 19 rfl rfl)
theorem dX7_home_43 : decode cX7_home 43 = .ok (.iconst 4, 1) := dk_7 (dk_at dksX7_home_1 20 rfl rfl)
theorem dX7_home_44 : decode cX7_home 44 = .ok (.if_icmp .ge 86, 3) := dk_162 0 86 (dk_at dksX7_home_1 21 rfl rfl)
theorem dX7_home_47 : decode cX7_home 47 = .ok (.iconst 0, 1) := dk_3 (dk_at dksX7_home_2 0 rfl rfl)
theorem dX7_home_48 : decode cX7_home 48 = .ok (.istore 4, 2) := dk_54 4 (dk_at dksX7_home_2 1 rfl rfl)
theorem dX7_home_50 : decode cX7_home 50 = .ok (.iload 4, 2) := dk_21 4 (dk_at dksX7_home_2 3 rfl rfl)
theorem dX7_home_52 : decode cX7_home 52 = .ok (.iconst 5, 1) := dk_8 (dk_at dksX7_home_2 5 rfl rfl)
theorem dX7_home_53 : decode cX7_home 53 = .ok (.iload_n 3, 1) := dk_29 (dk_at dksX7_home_2 6 rfl rfl)
theorem dX7_home_54 : decode cX7_home 54 = .ok (.invokestatic 217, 3) := dk_184 0 217 (dk_at dksX7_home_2 7 rfl rfl)
theorem dX7_home_57 : decode cX7_home 57 = .ok (.if_icmp .ge 67, 3) := dk_162 0 67 (dk_at dksX7_home_2 10 rfl rfl)
theorem dX7_home_60 : decode cX7_home 60 = .ok (.aload_n 0, 1) := dk_42 (dk_at dksX7_home_2 13 rfl rfl)
theorem dX7_home_61 : decode cX7_home 61 = .ok (.iload 4, 2) := dk_21 4 (dk_at dksX7_home_2 14 rfl rfl)
theorem dX7_home_63 : decode cX7_home 63 = .ok (.iconst 5, 1) := dk_8 (dk_at dksX7_home_2 16 rfl rfl)
theorem dX7_home_64 : decode cX7_home 64 = .ok (.iload_n 3, 1) := dk_29 (dk_at dksX7_home_2 17 rfl rfl)
theorem dX7_home_65 : decode cX7_home 65 = .ok (.invokevirtual 228, 3) := dk_182 0 228 (dk_at dksX7_home_2 18 rfl rfl)
theorem dX7_home_68 : decode cX7_home 68 = .ok (.ifCond .eq 50, 3) := dk_153 0 50 (dk_at dksX7_home_2 21 rfl rfl)
theorem dX7_home_71 : decode cX7_home 71 = .ok (.aload_n 0, 1) := dk_42 (dk_at dksX7_home_3 0 rfl rfl)
theorem dX7_home_72 : decode cX7_home 72 = .ok (.bipush 112, 2) := dk_16 112 (dk_at dksX7_home_3 1 rfl rfl)
theorem dX7_home_74 : decode cX7_home 74 = .ok (.invokevirtual 190, 3) := dk_182 0 190 (dk_at dksX7_home_3 3 rfl rfl)
theorem dX7_home_77 : decode cX7_home 77 = .ok (.iload_n 1, 1) := dk_27 (dk_at dksX7_home_3 6 rfl rfl)
theorem dX7_home_78 : decode cX7_home 78 = .ok (.ishr, 1) := dk_122 (dk_at dksX7_home_3 7 rfl rfl)
theorem dX7_home_79 : decode cX7_home 79 = .ok (.iconst 1, 1) := dk_4 (dk_at dksX7_home_3 8 rfl rfl)
theorem dX7_home_80 : decode cX7_home 80 = .ok (.iand, 1) := dk_126 (dk_at dksX7_home_3 9 rfl rfl)
theorem dX7_home_81 : decode cX7_home 81 = .ok (.iconst 1, 1) := dk_4 (dk_at dksX7_home_3 10 rfl rfl)
theorem dX7_home_82 : decode cX7_home 82 = .ok (.if_icmp .ne 36, 3) := dk_160 0 36 (dk_at dksX7_home_3 11 rfl rfl)
theorem dX7_home_85 : decode cX7_home 85 = .ok (.iload_n 2, 1) := dk_28 (dk_at dksX7_home_3 14 rfl rfl)
theorem dX7_home_86 : decode cX7_home 86 = .ok (.ifCond .ne 7, 3) := dk_154 0 7 (dk_at dksX7_home_3 15 rfl rfl)
theorem dX7_home_89 : decode cX7_home 89 = .ok (.iload_n 3, 1) := dk_29 (dk_at dksX7_home_3 18 rfl rfl)
theorem dX7_home_90 : decode cX7_home 90 = .ok (.goto 27, 3) := dk_167 0 27 (dk_at dksX7_home_3 19 rfl rfl)
theorem dX7_home_93 : decode cX7_home 93 = .ok (.iload_n 2, 1) := dk_28 (dk_at dksX7_home_3 22 rfl rfl)
theorem dX7_home_94 : decode cX7_home 94 = .ok (.bipush 10, 2) := dk_16 10 (dk_at dksX7_home_4 0 rfl rfl)
theorem dX7_home_96 : decode cX7_home 96 = .ok (.isub, 1) := dk_100 (dk_at dksX7_home_4 2 rfl rfl)
theorem dX7_home_97 : decode cX7_home 97 = .ok (.iload_n 3, 1) := dk_29 (dk_at dksX7_home_4 3 rfl rfl)
theorem dX7_home_98 : decode cX7_home 98 = .ok (.if_icmp .ge 17, 3) := dk_162 0 17 (dk_at dksX7_home_4 4 rfl rfl)
theorem dX7_home_101 : decode cX7_home 101 = .ok (.iload 4, 2) := dk_21 4 (dk_at dksX7_home_4 7 rfl rfl)
theorem dX7_home_103 : decode cX7_home 103 = .ok (.iconst 5, 1) := dk_8 (dk_at dksX7_home_4 9 rfl rfl)
theorem dX7_home_104 : decode cX7_home 104 = .ok (.iload_n 3, 1) := dk_29 (dk_at dksX7_home_4 10 rfl rfl)
theorem dX7_home_105 : decode cX7_home 105 = .ok (.iload_n 2, 1) := dk_28 (dk_at dksX7_home_4 11 rfl rfl)
theorem dX7_home_106 : decode cX7_home 106 = .ok (.bipush 10, 2) := dk_16 10 (dk_at dksX7_home_4 12 rfl rfl)
theorem dX7_home_108 : decode cX7_home 108 = .ok (.isub, 1) := dk_100 (dk_at dksX7_home_4 14 rfl rfl)
theorem dX7_home_109 : decode cX7_home 109 = .ok (.invokestatic 220, 3) := dk_184 0 220 (dk_at dksX7_home_4 15 rfl rfl)
theorem dX7_home_112 : decode cX7_home 112 = .ok (.goto 5, 3) := dk_167 0 5 (dk_at dksX7_home_4 18 rfl rfl)
theorem dX7_home_115 : decode cX7_home 115 = .ok (.bipush (-4), 2) := dk_16 252 (dk_at dksX7_home_4 21 rfl rfl)
theorem dX7_home_117 : decode cX7_home 117 = .ok (.ireturn, 1) := dk_172 (dk_at dksX7_home_4 23 rfl rfl)
theorem dX7_home_118 : decode cX7_home 118 = .ok (.iinc 4 1, 3) := dk_132 4 1 (dk_at dksX7_home_5 0 rfl rfl)
theorem dX7_home_121 : decode cX7_home 121 = .ok (.goto (-71), 3) := dk_167 255 185 (dk_at dksX7_home_5 3 rfl rfl)
theorem dX7_home_124 : decode cX7_home 124 = .ok (.iinc 3 1, 3) := dk_132 3 1 (dk_at dksX7_home_5 6 rfl rfl)
theorem dX7_home_127 : decode cX7_home 127 = .ok (.goto (-85), 3) := dk_167 255 171 (dk_at dksX7_home_5 9 rfl rfl)
theorem dX7_home_130 : decode cX7_home 130 = .ok (.bipush (-4), 2) := dk_16 252 (dk_at dksX7_home_5 12 rfl rfl)
theorem dX7_home_132 : decode cX7_home 132 = .ok (.ireturn, 1) := dk_172 (dk_at dksX7_home_5 14 rfl rfl)
abbrev cX7_swap : ByteArray := prog_11_method_59_code
def yX7_swap : MethodName := ⟨RX7, "swap", "(I)I"⟩
def dkwX7_swap_7 : List UInt8 := [167, 255, 121, 29, 16, 252, 159, 0, 7, 27, 154, 0, 7, 29, 167, 0, 4, 28, 172]
abbrev dktX7_swap_7 : List UInt8 := dkwX7_swap_7 ++ []
def dkwX7_swap_6 : List UInt8 := [28, 164, 0, 10, 42, 182, 0, 234, 167, 0, 4, 28, 61, 132, 5, 1, 167, 255, 145, 132, 4, 1]
abbrev dktX7_swap_6 : List UInt8 := dkwX7_swap_6 ++ dktX7_swap_7
def dkwX7_swap_5 : List UInt8 := [182, 0, 234, 28, 164, 0, 14, 16, 10, 21, 4, 104, 21, 5, 96, 167, 0, 4, 29, 62, 42, 182, 0, 234]
abbrev dktX7_swap_5 : List UInt8 := dkwX7_swap_5 ++ dktX7_swap_6
def dkwX7_swap_4 : List UInt8 := [21, 5, 96, 42, 180, 0, 7, 16, 19, 21, 4, 96, 46, 79, 42, 17, 0, 140, 3, 182, 0, 214, 42]
abbrev dktX7_swap_4 : List UInt8 := dkwX7_swap_4 ++ dktX7_swap_5
def dkwX7_swap_3 : List UInt8 := [17, 0, 159, 21, 4, 96, 42, 180, 0, 7, 16, 19, 21, 5, 96, 46, 79, 42, 180, 0, 7, 17, 0, 159]
abbrev dktX7_swap_3 : List UInt8 := dkwX7_swap_3 ++ dktX7_swap_4
def dkwX7_swap_2 : List UInt8 := [21, 5, 42, 180, 0, 7, 16, 27, 46, 162, 0, 105, 42, 3, 17, 0, 140, 182, 0, 196, 42, 180, 0, 7]
abbrev dktX7_swap_2 : List UInt8 := dkwX7_swap_2 ++ dktX7_swap_3
def dkwX7_swap_1 : List UInt8 := [16, 252, 62, 3, 54, 4, 21, 4, 42, 180, 0, 7, 16, 27, 46, 162, 0, 129, 21, 4, 4, 96, 54, 5]
abbrev dktX7_swap_1 : List UInt8 := dkwX7_swap_1 ++ dktX7_swap_2
def dkwX7_swap_0 : List UInt8 := [27, 133, 9, 10, 184, 0, 49, 154, 0, 5, 2, 172, 42, 3, 3, 182, 0, 214, 42, 182, 0, 234, 61]
abbrev dktX7_swap_0 : List UInt8 := dkwX7_swap_0 ++ dktX7_swap_1
theorem dksX7_swap_0 : cX7_swap.data.toList.drop 0 = dktX7_swap_0 := by decide +kernel
theorem dksX7_swap_1 : cX7_swap.data.toList.drop 23 = dktX7_swap_1 := dk_seg dksX7_swap_0 23 rfl rfl
theorem dksX7_swap_2 : cX7_swap.data.toList.drop 47 = dktX7_swap_2 := dk_seg dksX7_swap_1 24 rfl rfl
theorem dksX7_swap_3 : cX7_swap.data.toList.drop 71 = dktX7_swap_3 := dk_seg dksX7_swap_2 24 rfl rfl
theorem dksX7_swap_4 : cX7_swap.data.toList.drop 95 = dktX7_swap_4 := dk_seg dksX7_swap_3 24 rfl rfl
theorem dksX7_swap_5 : cX7_swap.data.toList.drop 118 = dktX7_swap_5 := dk_seg dksX7_swap_4 23 rfl rfl
theorem dksX7_swap_6 : cX7_swap.data.toList.drop 142 = dktX7_swap_6 := dk_seg dksX7_swap_5 24 rfl rfl
theorem dksX7_swap_7 : cX7_swap.data.toList.drop 164 = dktX7_swap_7 := dk_seg dksX7_swap_6 22 rfl rfl
theorem dX7_swap_0 : decode cX7_swap 0 = .ok (.iload_n 1, 1) := dk_27 (dk_at dksX7_swap_0 0 rfl rfl)
theorem dX7_swap_1 : decode cX7_swap 1 = .ok (.i2l, 1) := dk_133 (dk_at dksX7_swap_0 1 rfl rfl)
theorem dX7_swap_2 : decode cX7_swap 2 = .ok (.lconst 0, 1) := dk_9 (dk_at dksX7_swap_0 2 rfl rfl)
theorem dX7_swap_3 : decode cX7_swap 3 = .ok (.lconst 1, 1) := dk_10 (dk_at dksX7_swap_0 3 rfl rfl)
theorem dX7_swap_4 : decode cX7_swap 4 = .ok (.invokestatic 49, 3) := dk_184 0 49 (dk_at dksX7_swap_0 4 rfl rfl)
theorem dX7_swap_7 : decode cX7_swap 7 = .ok (.ifCond .ne 5, 3) := dk_154 0 5 (dk_at dksX7_swap_0 7 rfl rfl)
theorem dX7_swap_10 : decode cX7_swap 10 = .ok (.iconst (-1), 1) := dk_2 (dk_at dksX7_swap_0 10 rfl rfl)
theorem dX7_swap_11 : decode cX7_swap 11 = .ok (.ireturn, 1) := dk_172 (dk_at dksX7_swap_0 11 rfl rfl)
theorem dX7_swap_12 : decode cX7_swap 12 = .ok (.aload_n 0, 1) := dk_42 (dk_at dksX7_swap_0 12 rfl rfl)
theorem dX7_swap_13 : decode cX7_swap 13 = .ok (.iconst 0, 1) := dk_3 (dk_at dksX7_swap_0 13 rfl rfl)
theorem dX7_swap_14 : decode cX7_swap 14 = .ok (.iconst 0, 1) := dk_3 (dk_at dksX7_swap_0 14 rfl rfl)
theorem dX7_swap_15 : decode cX7_swap 15 = .ok (.invokevirtual 214, 3) := dk_182 0 214 (dk_at dksX7_swap_0 15 rfl rfl)
theorem dX7_swap_18 : decode cX7_swap 18 = .ok (.aload_n 0, 1) := dk_42 (dk_at dksX7_swap_0 18 rfl rfl)
theorem dX7_swap_19 : decode cX7_swap 19 = .ok (.invokevirtual 234, 3) := dk_182 0 234 (dk_at dksX7_swap_0 19 rfl rfl)
theorem dX7_swap_22 : decode cX7_swap 22 = .ok (.istore_n 2, 1) := dk_61 (dk_at dksX7_swap_0 22 rfl rfl)
theorem dX7_swap_23 : decode cX7_swap 23 = .ok (.bipush (-4), 2) := dk_16 252 (dk_at dksX7_swap_1 0 rfl rfl)
theorem dX7_swap_25 : decode cX7_swap 25 = .ok (.istore_n 3, 1) := dk_62 (dk_at dksX7_swap_1 2 rfl rfl)
theorem dX7_swap_26 : decode cX7_swap 26 = .ok (.iconst 0, 1) := dk_3 (dk_at dksX7_swap_1 3 rfl rfl)
theorem dX7_swap_27 : decode cX7_swap 27 = .ok (.istore 4, 2) := dk_54 4 (dk_at dksX7_swap_1 4 rfl rfl)
theorem dX7_swap_29 : decode cX7_swap 29 = .ok (.iload 4, 2) := dk_21 4 (dk_at dksX7_swap_1 6 rfl rfl)
theorem dX7_swap_31 : decode cX7_swap 31 = .ok (.aload_n 0, 1) := dk_42 (dk_at dksX7_swap_1 8 rfl rfl)
theorem dX7_swap_32 : decode cX7_swap 32 = .ok (.getfield 7, 3) := dk_180 0 7 (dk_at dksX7_swap_1 9 rfl rfl)
theorem dX7_swap_35 : decode cX7_swap 35 = .ok (.bipush 27, 2) := dk_16 27 (dk_at dksX7_swap_1 12 rfl rfl)
theorem dX7_swap_37 : decode cX7_swap 37 = .ok (.iaload, 1) := dk_46 (dk_at dksX7_swap_1 14 rfl rfl)
theorem dX7_swap_38 : decode cX7_swap 38 = .ok (.if_icmp .ge 129, 3) := dk_162 0 129 (dk_at dksX7_swap_1 15 rfl rfl)
theorem dX7_swap_41 : decode cX7_swap 41 = .ok (.iload 4, 2) := dk_21 4 (dk_at dksX7_swap_1 18 rfl rfl)
theorem dX7_swap_43 : decode cX7_swap 43 = .ok (.iconst 1, 1) := dk_4 (dk_at dksX7_swap_1 20 rfl rfl)
theorem dX7_swap_44 : decode cX7_swap 44 = .ok (.iadd, 1) := dk_96 (dk_at dksX7_swap_1 21 rfl rfl)
theorem dX7_swap_45 : decode cX7_swap 45 = .ok (.istore 5, 2) := dk_54 5 (dk_at dksX7_swap_1 22 rfl rfl)
theorem dX7_swap_47 : decode cX7_swap 47 = .ok (.iload 5, 2) := dk_21 5 (dk_at dksX7_swap_2 0 rfl rfl)
theorem dX7_swap_49 : decode cX7_swap 49 = .ok (.aload_n 0, 1) := dk_42 (dk_at dksX7_swap_2 2 rfl rfl)
theorem dX7_swap_50 : decode cX7_swap 50 = .ok (.getfield 7, 3) := dk_180 0 7 (dk_at dksX7_swap_2 3 rfl rfl)
theorem dX7_swap_53 : decode cX7_swap 53 = .ok (.bipush 27, 2) := dk_16 27 (dk_at dksX7_swap_2 6 rfl rfl)
theorem dX7_swap_55 : decode cX7_swap 55 = .ok (.iaload, 1) := dk_46 (dk_at dksX7_swap_2 8 rfl rfl)
theorem dX7_swap_56 : decode cX7_swap 56 = .ok (.if_icmp .ge 105, 3) := dk_162 0 105 (dk_at dksX7_swap_2 9 rfl rfl)
theorem dX7_swap_59 : decode cX7_swap 59 = .ok (.aload_n 0, 1) := dk_42 (dk_at dksX7_swap_2 12 rfl rfl)
theorem dX7_swap_60 : decode cX7_swap 60 = .ok (.iconst 0, 1) := dk_3 (dk_at dksX7_swap_2 13 rfl rfl)
theorem dX7_swap_61 : decode cX7_swap 61 = .ok (.sipush 140, 3) := dk_17 0 140 (dk_at dksX7_swap_2 14 rfl rfl)
theorem dX7_swap_64 : decode cX7_swap 64 = .ok (.invokevirtual 196, 3) := dk_182 0 196 (dk_at dksX7_swap_2 17 rfl rfl)
theorem dX7_swap_67 : decode cX7_swap 67 = .ok (.aload_n 0, 1) := dk_42 (dk_at dksX7_swap_2 20 rfl rfl)
theorem dX7_swap_68 : decode cX7_swap 68 = .ok (.getfield 7, 3) := dk_180 0 7 (dk_at dksX7_swap_2 21 rfl rfl)
theorem dX7_swap_71 : decode cX7_swap 71 = .ok (.sipush 159, 3) := dk_17 0 159 (dk_at dksX7_swap_3 0 rfl rfl)
theorem dX7_swap_74 : decode cX7_swap 74 = .ok (.iload 4, 2) := dk_21 4 (dk_at dksX7_swap_3 3 rfl rfl)
theorem dX7_swap_76 : decode cX7_swap 76 = .ok (.iadd, 1) := dk_96 (dk_at dksX7_swap_3 5 rfl rfl)
theorem dX7_swap_77 : decode cX7_swap 77 = .ok (.aload_n 0, 1) := dk_42 (dk_at dksX7_swap_3 6 rfl rfl)
theorem dX7_swap_78 : decode cX7_swap 78 = .ok (.getfield 7, 3) := dk_180 0 7 (dk_at dksX7_swap_3 7 rfl rfl)
theorem dX7_swap_81 : decode cX7_swap 81 = .ok (.bipush 19, 2) := dk_16 19 (dk_at dksX7_swap_3 10 rfl rfl)
theorem dX7_swap_83 : decode cX7_swap 83 = .ok (.iload 5, 2) := dk_21 5 (dk_at dksX7_swap_3 12 rfl rfl)
theorem dX7_swap_85 : decode cX7_swap 85 = .ok (.iadd, 1) := dk_96 (dk_at dksX7_swap_3 14 rfl rfl)
theorem dX7_swap_86 : decode cX7_swap 86 = .ok (.iaload, 1) := dk_46 (dk_at dksX7_swap_3 15 rfl rfl)
theorem dX7_swap_87 : decode cX7_swap 87 = .ok (.iastore, 1) := dk_79 (dk_at dksX7_swap_3 16 rfl rfl)
theorem dX7_swap_88 : decode cX7_swap 88 = .ok (.aload_n 0, 1) := dk_42 (dk_at dksX7_swap_3 17 rfl rfl)
theorem dX7_swap_89 : decode cX7_swap 89 = .ok (.getfield 7, 3) := dk_180 0 7 (dk_at dksX7_swap_3 18 rfl rfl)
theorem dX7_swap_92 : decode cX7_swap 92 = .ok (.sipush 159, 3) := dk_17 0 159 (dk_at dksX7_swap_3 21 rfl rfl)
theorem dX7_swap_95 : decode cX7_swap 95 = .ok (.iload 5, 2) := dk_21 5 (dk_at dksX7_swap_4 0 rfl rfl)
theorem dX7_swap_97 : decode cX7_swap 97 = .ok (.iadd, 1) := dk_96 (dk_at dksX7_swap_4 2 rfl rfl)
theorem dX7_swap_98 : decode cX7_swap 98 = .ok (.aload_n 0, 1) := dk_42 (dk_at dksX7_swap_4 3 rfl rfl)
theorem dX7_swap_99 : decode cX7_swap 99 = .ok (.getfield 7, 3) := dk_180 0 7 (dk_at dksX7_swap_4 4 rfl rfl)
theorem dX7_swap_102 : decode cX7_swap 102 = .ok (.bipush 19, 2) := dk_16 19 (dk_at dksX7_swap_4 7 rfl rfl)
theorem dX7_swap_104 : decode cX7_swap 104 = .ok (.iload 4, 2) := dk_21 4 (dk_at dksX7_swap_4 9 rfl rfl)
theorem dX7_swap_106 : decode cX7_swap 106 = .ok (.iadd, 1) := dk_96 (dk_at dksX7_swap_4 11 rfl rfl)
theorem dX7_swap_107 : decode cX7_swap 107 = .ok (.iaload, 1) := dk_46 (dk_at dksX7_swap_4 12 rfl rfl)
theorem dX7_swap_108 : decode cX7_swap 108 = .ok (.iastore, 1) := dk_79 (dk_at dksX7_swap_4 13 rfl rfl)
theorem dX7_swap_109 : decode cX7_swap 109 = .ok (.aload_n 0, 1) := dk_42 (dk_at dksX7_swap_4 14 rfl rfl)
theorem dX7_swap_110 : decode cX7_swap 110 = .ok (.sipush 140, 3) := dk_17 0 140 (dk_at dksX7_swap_4 15 rfl rfl)
theorem dX7_swap_113 : decode cX7_swap 113 = .ok (.iconst 0, 1) := dk_3 (dk_at dksX7_swap_4 18 rfl rfl)
theorem dX7_swap_114 : decode cX7_swap 114 = .ok (.invokevirtual 214, 3) := dk_182 0 214 (dk_at dksX7_swap_4 19 rfl rfl)
theorem dX7_swap_117 : decode cX7_swap 117 = .ok (.aload_n 0, 1) := dk_42 (dk_at dksX7_swap_4 22 rfl rfl)
theorem dX7_swap_118 : decode cX7_swap 118 = .ok (.invokevirtual 234, 3) := dk_182 0 234 (dk_at dksX7_swap_5 0 rfl rfl)
theorem dX7_swap_121 : decode cX7_swap 121 = .ok (.iload_n 2, 1) := dk_28 (dk_at dksX7_swap_5 3 rfl rfl)
theorem dX7_swap_122 : decode cX7_swap 122 = .ok (.if_icmp .le 14, 3) := dk_164 0 14 (dk_at dksX7_swap_5 4 rfl rfl)
theorem dX7_swap_125 : decode cX7_swap 125 = .ok (.bipush 10, 2) := dk_16 10 (dk_at dksX7_swap_5 7 rfl rfl)
theorem dX7_swap_127 : decode cX7_swap 127 = .ok (.iload 4, 2) := dk_21 4 (dk_at dksX7_swap_5 9 rfl rfl)
theorem dX7_swap_129 : decode cX7_swap 129 = .ok (.imul, 1) := dk_104 (dk_at dksX7_swap_5 11 rfl rfl)
theorem dX7_swap_130 : decode cX7_swap 130 = .ok (.iload 5, 2) := dk_21 5 (dk_at dksX7_swap_5 12 rfl rfl)
theorem dX7_swap_132 : decode cX7_swap 132 = .ok (.iadd, 1) := dk_96 (dk_at dksX7_swap_5 14 rfl rfl)
theorem dX7_swap_133 : decode cX7_swap 133 = .ok (.goto 4, 3) := dk_167 0 4 (dk_at dksX7_swap_5 15 rfl rfl)
theorem dX7_swap_136 : decode cX7_swap 136 = .ok (.iload_n 3, 1) := dk_29 (dk_at dksX7_swap_5 18 rfl rfl)
theorem dX7_swap_137 : decode cX7_swap 137 = .ok (.istore_n 3, 1) := dk_62 (dk_at dksX7_swap_5 19 rfl rfl)
theorem dX7_swap_138 : decode cX7_swap 138 = .ok (.aload_n 0, 1) := dk_42 (dk_at dksX7_swap_5 20 rfl rfl)
theorem dX7_swap_139 : decode cX7_swap 139 = .ok (.invokevirtual 234, 3) := dk_182 0 234 (dk_at dksX7_swap_5 21 rfl rfl)
theorem dX7_swap_142 : decode cX7_swap 142 = .ok (.iload_n 2, 1) := dk_28 (dk_at dksX7_swap_6 0 rfl rfl)
theorem dX7_swap_143 : decode cX7_swap 143 = .ok (.if_icmp .le 10, 3) := dk_164 0 10 (dk_at dksX7_swap_6 1 rfl rfl)
theorem dX7_swap_146 : decode cX7_swap 146 = .ok (.aload_n 0, 1) := dk_42 (dk_at dksX7_swap_6 4 rfl rfl)
theorem dX7_swap_147 : decode cX7_swap 147 = .ok (.invokevirtual 234, 3) := dk_182 0 234 (dk_at dksX7_swap_6 5 rfl rfl)
theorem dX7_swap_150 : decode cX7_swap 150 = .ok (.goto 4, 3) := dk_167 0 4 (dk_at dksX7_swap_6 8 rfl rfl)
theorem dX7_swap_153 : decode cX7_swap 153 = .ok (.iload_n 2, 1) := dk_28 (dk_at dksX7_swap_6 11 rfl rfl)
theorem dX7_swap_154 : decode cX7_swap 154 = .ok (.istore_n 2, 1) := dk_61 (dk_at dksX7_swap_6 12 rfl rfl)
theorem dX7_swap_155 : decode cX7_swap 155 = .ok (.iinc 5 1, 3) := dk_132 5 1 (dk_at dksX7_swap_6 13 rfl rfl)
theorem dX7_swap_158 : decode cX7_swap 158 = .ok (.goto (-111), 3) := dk_167 255 145 (dk_at dksX7_swap_6 16 rfl rfl)
theorem dX7_swap_161 : decode cX7_swap 161 = .ok (.iinc 4 1, 3) := dk_132 4 1 (dk_at dksX7_swap_6 19 rfl rfl)
theorem dX7_swap_164 : decode cX7_swap 164 = .ok (.goto (-135), 3) := dk_167 255 121 (dk_at dksX7_swap_7 0 rfl rfl)
theorem dX7_swap_167 : decode cX7_swap 167 = .ok (.iload_n 3, 1) := dk_29 (dk_at dksX7_swap_7 3 rfl rfl)
theorem dX7_swap_168 : decode cX7_swap 168 = .ok (.bipush (-4), 2) := dk_16 252 (dk_at dksX7_swap_7 4 rfl rfl)
theorem dX7_swap_170 : decode cX7_swap 170 = .ok (.if_icmp .eq 7, 3) := dk_159 0 7 (dk_at dksX7_swap_7 6 rfl rfl)
theorem dX7_swap_173 : decode cX7_swap 173 = .ok (.iload_n 1, 1) := dk_27 (dk_at dksX7_swap_7 9 rfl rfl)
theorem dX7_swap_174 : decode cX7_swap 174 = .ok (.ifCond .ne 7, 3) := dk_154 0 7 (dk_at dksX7_swap_7 10 rfl rfl)
theorem dX7_swap_177 : decode cX7_swap 177 = .ok (.iload_n 3, 1) := dk_29 (dk_at dksX7_swap_7 13 rfl rfl)
theorem dX7_swap_178 : decode cX7_swap 178 = .ok (.goto 4, 3) := dk_167 0 4 (dk_at dksX7_swap_7 14 rfl rfl)
theorem dX7_swap_181 : decode cX7_swap 181 = .ok (.iload_n 2, 1) := dk_28 (dk_at dksX7_swap_7 17 rfl rfl)
theorem dX7_swap_182 : decode cX7_swap 182 = .ok (.ireturn, 1) := dk_172 (dk_at dksX7_swap_7 18 rfl rfl)
abbrev cX7_goneThen : ByteArray := prog_11_method_50_code
def yX7_goneThen : MethodName := ⟨RX7, "goneThen", "()I"⟩
def dkwX7_goneThen_0 : List UInt8 := [42, 180, 0, 7, 16, 127, 46, 184, 0, 193, 172]
abbrev dktX7_goneThen_0 : List UInt8 := dkwX7_goneThen_0 ++ []
theorem dksX7_goneThen_0 : cX7_goneThen.data.toList.drop 0 = dktX7_goneThen_0 := by decide +kernel
theorem dX7_goneThen_0 : decode cX7_goneThen 0 = .ok (.aload_n 0, 1) := dk_42 (dk_at dksX7_goneThen_0 0 rfl rfl)
theorem dX7_goneThen_1 : decode cX7_goneThen 1 = .ok (.getfield 7, 3) := dk_180 0 7 (dk_at dksX7_goneThen_0 1 rfl rfl)
theorem dX7_goneThen_4 : decode cX7_goneThen 4 = .ok (.bipush 127, 2) := dk_16 127 (dk_at dksX7_goneThen_0 4 rfl rfl)
theorem dX7_goneThen_6 : decode cX7_goneThen 6 = .ok (.iaload, 1) := dk_46 (dk_at dksX7_goneThen_0 6 rfl rfl)
theorem dX7_goneThen_7 : decode cX7_goneThen 7 = .ok (.invokestatic 193, 3) := dk_184 0 193 (dk_at dksX7_goneThen_0 7 rfl rfl)
theorem dX7_goneThen_10 : decode cX7_goneThen 10 = .ok (.ireturn, 1) := dk_172 (dk_at dksX7_goneThen_0 10 rfl rfl)
abbrev cX7_enough : ByteArray := prog_11_method_60_code
def yX7_enough : MethodName := ⟨RX7, "enough", "()I"⟩
def dkwX7_enough_2 : List UInt8 := [167, 255, 210, 16, 252, 172]
abbrev dktX7_enough_2 : List UInt8 := dkwX7_enough_2 ++ []
def dkwX7_enough_1 : List UInt8 := [100, 79, 42, 17, 0, 140, 3, 182, 0, 214, 42, 16, 112, 182, 0, 152, 154, 0, 5, 27, 172, 132, 1, 1]
abbrev dktX7_enough_1 : List UInt8 := dkwX7_enough_1 ++ dktX7_enough_2
def dkwX7_enough_0 : List UInt8 := [4, 60, 27, 8, 163, 0, 47, 42, 3, 17, 0, 140, 182, 0, 196, 42, 180, 0, 7, 17, 0, 157, 27, 5]
abbrev dktX7_enough_0 : List UInt8 := dkwX7_enough_0 ++ dktX7_enough_1
theorem dksX7_enough_0 : cX7_enough.data.toList.drop 0 = dktX7_enough_0 := by decide +kernel
theorem dksX7_enough_1 : cX7_enough.data.toList.drop 24 = dktX7_enough_1 := dk_seg dksX7_enough_0 24 rfl rfl
theorem dksX7_enough_2 : cX7_enough.data.toList.drop 48 = dktX7_enough_2 := dk_seg dksX7_enough_1 24 rfl rfl
theorem dX7_enough_0 : decode cX7_enough 0 = .ok (.iconst 1, 1) := dk_4 (dk_at dksX7_enough_0 0 rfl rfl)
theorem dX7_enough_1 : decode cX7_enough 1 = .ok (.istore_n 1, 1) := dk_60 (dk_at dksX7_enough_0 1 rfl rfl)
theorem dX7_enough_2 : decode cX7_enough 2 = .ok (.iload_n 1, 1) := dk_27 (dk_at dksX7_enough_0 2 rfl rfl)
theorem dX7_enough_3 : decode cX7_enough 3 = .ok (.iconst 5, 1) := dk_8 (dk_at dksX7_enough_0 3 rfl rfl)
theorem dX7_enough_4 : decode cX7_enough 4 = .ok (.if_icmp .gt 47, 3) := dk_163 0 47 (dk_at dksX7_enough_0 4 rfl rfl)
theorem dX7_enough_7 : decode cX7_enough 7 = .ok (.aload_n 0, 1) := dk_42 (dk_at dksX7_enough_0 7 rfl rfl)
theorem dX7_enough_8 : decode cX7_enough 8 = .ok (.iconst 0, 1) := dk_3 (dk_at dksX7_enough_0 8 rfl rfl)
theorem dX7_enough_9 : decode cX7_enough 9 = .ok (.sipush 140, 3) := dk_17 0 140 (dk_at dksX7_enough_0 9 rfl rfl)
theorem dX7_enough_12 : decode cX7_enough 12 = .ok (.invokevirtual 196, 3) := dk_182 0 196 (dk_at dksX7_enough_0 12 rfl rfl)
theorem dX7_enough_15 : decode cX7_enough 15 = .ok (.aload_n 0, 1) := dk_42 (dk_at dksX7_enough_0 15 rfl rfl)
theorem dX7_enough_16 : decode cX7_enough 16 = .ok (.getfield 7, 3) := dk_180 0 7 (dk_at dksX7_enough_0 16 rfl rfl)
theorem dX7_enough_19 : decode cX7_enough 19 = .ok (.sipush 157, 3) := dk_17 0 157 (dk_at dksX7_enough_0 19 rfl rfl)
theorem dX7_enough_22 : decode cX7_enough 22 = .ok (.iload_n 1, 1) := dk_27 (dk_at dksX7_enough_0 22 rfl rfl)
theorem dX7_enough_23 : decode cX7_enough 23 = .ok (.iconst 2, 1) := dk_5 (dk_at dksX7_enough_0 23 rfl rfl)
theorem dX7_enough_24 : decode cX7_enough 24 = .ok (.isub, 1) := dk_100 (dk_at dksX7_enough_1 0 rfl rfl)
theorem dX7_enough_25 : decode cX7_enough 25 = .ok (.iastore, 1) := dk_79 (dk_at dksX7_enough_1 1 rfl rfl)
theorem dX7_enough_26 : decode cX7_enough 26 = .ok (.aload_n 0, 1) := dk_42 (dk_at dksX7_enough_1 2 rfl rfl)
theorem dX7_enough_27 : decode cX7_enough 27 = .ok (.sipush 140, 3) := dk_17 0 140 (dk_at dksX7_enough_1 3 rfl rfl)
theorem dX7_enough_30 : decode cX7_enough 30 = .ok (.iconst 0, 1) := dk_3 (dk_at dksX7_enough_1 6 rfl rfl)
theorem dX7_enough_31 : decode cX7_enough 31 = .ok (.invokevirtual 214, 3) := dk_182 0 214 (dk_at dksX7_enough_1 7 rfl rfl)
theorem dX7_enough_34 : decode cX7_enough 34 = .ok (.aload_n 0, 1) := dk_42 (dk_at dksX7_enough_1 10 rfl rfl)
theorem dX7_enough_35 : decode cX7_enough 35 = .ok (.bipush 112, 2) := dk_16 112 (dk_at dksX7_enough_1 11 rfl rfl)
theorem dX7_enough_37 : decode cX7_enough 37 = .ok (.invokevirtual 152, 3) := dk_182 0 152 (dk_at dksX7_enough_1 13 rfl rfl)
theorem dX7_enough_40 : decode cX7_enough 40 = .ok (.ifCond .ne 5, 3) := dk_154 0 5 (dk_at dksX7_enough_1 16 rfl rfl)
theorem dX7_enough_43 : decode cX7_enough 43 = .ok (.iload_n 1, 1) := dk_27 (dk_at dksX7_enough_1 19 rfl rfl)
theorem dX7_enough_44 : decode cX7_enough 44 = .ok (.ireturn, 1) := dk_172 (dk_at dksX7_enough_1 20 rfl rfl)
theorem dX7_enough_45 : decode cX7_enough 45 = .ok (.iinc 1 1, 3) := dk_132 1 1 (dk_at dksX7_enough_1 21 rfl rfl)
theorem dX7_enough_48 : decode cX7_enough 48 = .ok (.goto (-46), 3) := dk_167 255 210 (dk_at dksX7_enough_2 0 rfl rfl)
theorem dX7_enough_51 : decode cX7_enough 51 = .ok (.bipush (-4), 2) := dk_16 252 (dk_at dksX7_enough_2 3 rfl rfl)
theorem dX7_enough_53 : decode cX7_enough 53 = .ok (.ireturn, 1) := dk_172 (dk_at dksX7_enough_2 5 rfl rfl)
abbrev cX7_luck : ByteArray := prog_11_method_63_code
def yX7_luck : MethodName := ⟨RX7, "luck", "(III)J"⟩
def dkwX7_luck_1 : List UInt8 := [184, 0, 49, 153, 0, 13, 42, 27, 28, 29, 182, 0, 241, 167, 0, 6, 20, 0, 245, 173]
abbrev dktX7_luck_1 : List UInt8 := dkwX7_luck_1 ++ []
def dkwX7_luck_0 : List UInt8 := [27, 133, 9, 20, 0, 224, 184, 0, 49, 153, 0, 31, 42, 28, 182, 0, 158, 153, 0, 23, 29, 133, 9, 10]
abbrev dktX7_luck_0 : List UInt8 := dkwX7_luck_0 ++ dktX7_luck_1
theorem dksX7_luck_0 : cX7_luck.data.toList.drop 0 = dktX7_luck_0 := by decide +kernel
theorem dksX7_luck_1 : cX7_luck.data.toList.drop 24 = dktX7_luck_1 := dk_seg dksX7_luck_0 24 rfl rfl
theorem dX7_luck_0 : decode cX7_luck 0 = .ok (.iload_n 1, 1) := dk_27 (dk_at dksX7_luck_0 0 rfl rfl)
theorem dX7_luck_1 : decode cX7_luck 1 = .ok (.i2l, 1) := dk_133 (dk_at dksX7_luck_0 1 rfl rfl)
theorem dX7_luck_2 : decode cX7_luck 2 = .ok (.lconst 0, 1) := dk_9 (dk_at dksX7_luck_0 2 rfl rfl)
theorem dX7_luck_3 : decode cX7_luck 3 = .ok (.ldc2_w 224, 3) := dk_20 0 224 (dk_at dksX7_luck_0 3 rfl rfl)
theorem dX7_luck_6 : decode cX7_luck 6 = .ok (.invokestatic 49, 3) := dk_184 0 49 (dk_at dksX7_luck_0 6 rfl rfl)
theorem dX7_luck_9 : decode cX7_luck 9 = .ok (.ifCond .eq 31, 3) := dk_153 0 31 (dk_at dksX7_luck_0 9 rfl rfl)
theorem dX7_luck_12 : decode cX7_luck 12 = .ok (.aload_n 0, 1) := dk_42 (dk_at dksX7_luck_0 12 rfl rfl)
theorem dX7_luck_13 : decode cX7_luck 13 = .ok (.iload_n 2, 1) := dk_28 (dk_at dksX7_luck_0 13 rfl rfl)
theorem dX7_luck_14 : decode cX7_luck 14 = .ok (.invokevirtual 158, 3) := dk_182 0 158 (dk_at dksX7_luck_0 14 rfl rfl)
theorem dX7_luck_17 : decode cX7_luck 17 = .ok (.ifCond .eq 23, 3) := dk_153 0 23 (dk_at dksX7_luck_0 17 rfl rfl)
theorem dX7_luck_20 : decode cX7_luck 20 = .ok (.iload_n 3, 1) := dk_29 (dk_at dksX7_luck_0 20 rfl rfl)
theorem dX7_luck_21 : decode cX7_luck 21 = .ok (.i2l, 1) := dk_133 (dk_at dksX7_luck_0 21 rfl rfl)
theorem dX7_luck_22 : decode cX7_luck 22 = .ok (.lconst 0, 1) := dk_9 (dk_at dksX7_luck_0 22 rfl rfl)
theorem dX7_luck_23 : decode cX7_luck 23 = .ok (.lconst 1, 1) := dk_10 (dk_at dksX7_luck_0 23 rfl rfl)
theorem dX7_luck_24 : decode cX7_luck 24 = .ok (.invokestatic 49, 3) := dk_184 0 49 (dk_at dksX7_luck_1 0 rfl rfl)
theorem dX7_luck_27 : decode cX7_luck 27 = .ok (.ifCond .eq 13, 3) := dk_153 0 13 (dk_at dksX7_luck_1 3 rfl rfl)
theorem dX7_luck_30 : decode cX7_luck 30 = .ok (.aload_n 0, 1) := dk_42 (dk_at dksX7_luck_1 6 rfl rfl)
theorem dX7_luck_31 : decode cX7_luck 31 = .ok (.iload_n 1, 1) := dk_27 (dk_at dksX7_luck_1 7 rfl rfl)
theorem dX7_luck_32 : decode cX7_luck 32 = .ok (.iload_n 2, 1) := dk_28 (dk_at dksX7_luck_1 8 rfl rfl)
theorem dX7_luck_33 : decode cX7_luck 33 = .ok (.iload_n 3, 1) := dk_29 (dk_at dksX7_luck_1 9 rfl rfl)
theorem dX7_luck_34 : decode cX7_luck 34 = .ok (.invokevirtual 241, 3) := dk_182 0 241 (dk_at dksX7_luck_1 10 rfl rfl)
theorem dX7_luck_37 : decode cX7_luck 37 = .ok (.goto 6, 3) := dk_167 0 6 (dk_at dksX7_luck_1 13 rfl rfl)
theorem dX7_luck_40 : decode cX7_luck 40 = .ok (.ldc2_w 245, 3) := dk_20 0 245 (dk_at dksX7_luck_1 16 rfl rfl)
theorem dX7_luck_43 : decode cX7_luck 43 = .ok (.lreturn, 1) := dk_173 (dk_at dksX7_luck_1 19 rfl rfl)
abbrev cX7_byFails : ByteArray := prog_11_method_62_code
def yX7_byFails : MethodName := ⟨RX7, "byFails", "(III)J"⟩
def dkwX7_byFails_9 : List UInt8 := [4, 126, 133, 105, 97, 55, 5, 132, 9, 1, 167, 255, 136, 22, 5, 22, 7, 29, 184, 0, 237, 173]
abbrev dktX7_byFails_9 : List UInt8 := dkwX7_byFails_9 ++ []
def dkwX7_byFails_8 : List UInt8 := [22, 10, 28, 16, 252, 160, 0, 10, 42, 182, 0, 234, 167, 0, 14, 42, 180, 0, 7, 16, 127, 46, 28, 122]
abbrev dktX7_byFails_8 : List UInt8 := dkwX7_byFails_8 ++ dktX7_byFails_9
def dkwX7_byFails_7 : List UInt8 := [16, 10, 27, 100, 133, 105, 55, 10, 132, 12, 1, 167, 255, 206, 42, 3, 21, 9, 182, 0, 214, 22, 5]
abbrev dktX7_byFails_7 : List UInt8 := dkwX7_byFails_7 ++ dktX7_byFails_8
def dkwX7_byFails_6 : List UInt8 := [154, 0, 7, 10, 167, 0, 24, 21, 9, 21, 12, 122, 4, 126, 4, 160, 0, 8, 27, 133, 167, 0, 8]
abbrev dktX7_byFails_6 : List UInt8 := dkwX7_byFails_6 ++ dktX7_byFails_7
def dkwX7_byFails_5 : List UInt8 := [10, 55, 10, 3, 54, 12, 21, 12, 16, 8, 162, 0, 49, 22, 10, 21, 4, 21, 12, 122, 4, 126]
abbrev dktX7_byFails_5 : List UInt8 := dkwX7_byFails_5 ++ dktX7_byFails_6
def dkwX7_byFails_4 : List UInt8 := [167, 255, 223, 3, 54, 9, 21, 9, 17, 1, 0, 162, 0, 118, 21, 9, 21, 4, 2, 130, 126, 154, 0, 102]
abbrev dktX7_byFails_4 : List UInt8 := dkwX7_byFails_4 ++ dktX7_byFails_5
def dkwX7_byFails_3 : List UInt8 := [21, 9, 122, 4, 126, 4, 160, 0, 9, 20, 0, 224, 167, 0, 4, 10, 105, 55, 7, 132, 9, 1]
abbrev dktX7_byFails_3 : List UInt8 := dkwX7_byFails_3 ++ dktX7_byFails_4
def dkwX7_byFails_2 : List UInt8 := [167, 255, 214, 9, 55, 5, 10, 55, 7, 3, 54, 9, 21, 9, 16, 8, 162, 0, 32, 22, 7, 21, 4]
abbrev dktX7_byFails_2 : List UInt8 := dkwX7_byFails_2 ++ dktX7_byFails_3
def dkwX7_byFails_1 : List UInt8 := [16, 19, 21, 5, 96, 46, 8, 162, 0, 10, 4, 21, 5, 120, 167, 0, 4, 3, 128, 54, 4, 132, 5, 1]
abbrev dktX7_byFails_1 : List UInt8 := dkwX7_byFails_1 ++ dktX7_byFails_2
def dkwX7_byFails_0 : List UInt8 := [3, 54, 4, 3, 54, 5, 21, 5, 42, 180, 0, 7, 16, 27, 46, 162, 0, 36, 21, 4, 42, 180, 0, 7]
abbrev dktX7_byFails_0 : List UInt8 := dkwX7_byFails_0 ++ dktX7_byFails_1
theorem dksX7_byFails_0 : cX7_byFails.data.toList.drop 0 = dktX7_byFails_0 := by decide +kernel
theorem dksX7_byFails_1 : cX7_byFails.data.toList.drop 24 = dktX7_byFails_1 := dk_seg dksX7_byFails_0 24 rfl rfl
theorem dksX7_byFails_2 : cX7_byFails.data.toList.drop 48 = dktX7_byFails_2 := dk_seg dksX7_byFails_1 24 rfl rfl
theorem dksX7_byFails_3 : cX7_byFails.data.toList.drop 71 = dktX7_byFails_3 := dk_seg dksX7_byFails_2 23 rfl rfl
theorem dksX7_byFails_4 : cX7_byFails.data.toList.drop 93 = dktX7_byFails_4 := dk_seg dksX7_byFails_3 22 rfl rfl
theorem dksX7_byFails_5 : cX7_byFails.data.toList.drop 117 = dktX7_byFails_5 := dk_seg dksX7_byFails_4 24 rfl rfl
theorem dksX7_byFails_6 : cX7_byFails.data.toList.drop 139 = dktX7_byFails_6 := dk_seg dksX7_byFails_5 22 rfl rfl
theorem dksX7_byFails_7 : cX7_byFails.data.toList.drop 162 = dktX7_byFails_7 := dk_seg dksX7_byFails_6 23 rfl rfl
theorem dksX7_byFails_8 : cX7_byFails.data.toList.drop 185 = dktX7_byFails_8 := dk_seg dksX7_byFails_7 23 rfl rfl
theorem dksX7_byFails_9 : cX7_byFails.data.toList.drop 209 = dktX7_byFails_9 := dk_seg dksX7_byFails_8 24 rfl rfl
theorem dX7_byFails_0 : decode cX7_byFails 0 = .ok (.iconst 0, 1) := dk_3 (dk_at dksX7_byFails_0 0 rfl rfl)
theorem dX7_byFails_1 : decode cX7_byFails 1 = .ok (.istore 4, 2) := dk_54 4 (dk_at dksX7_byFails_0 1 rfl rfl)
theorem dX7_byFails_3 : decode cX7_byFails 3 = .ok (.iconst 0, 1) := dk_3 (dk_at dksX7_byFails_0 3 rfl rfl)
theorem dX7_byFails_4 : decode cX7_byFails 4 = .ok (.istore 5, 2) := dk_54 5 (dk_at dksX7_byFails_0 4 rfl rfl)
theorem dX7_byFails_6 : decode cX7_byFails 6 = .ok (.iload 5, 2) := dk_21 5 (dk_at dksX7_byFails_0 6 rfl rfl)
theorem dX7_byFails_8 : decode cX7_byFails 8 = .ok (.aload_n 0, 1) := dk_42 (dk_at dksX7_byFails_0 8 rfl rfl)
theorem dX7_byFails_9 : decode cX7_byFails 9 = .ok (.getfield 7, 3) := dk_180 0 7 (dk_at dksX7_byFails_0 9 rfl rfl)
theorem dX7_byFails_12 : decode cX7_byFails 12 = .ok (.bipush 27, 2) := dk_16 27 (dk_at dksX7_byFails_0 12 rfl rfl)
theorem dX7_byFails_14 : decode cX7_byFails 14 = .ok (.iaload, 1) := dk_46 (dk_at dksX7_byFails_0 14 rfl rfl)
theorem dX7_byFails_15 : decode cX7_byFails 15 = .ok (.if_icmp .ge 36, 3) := dk_162 0 36 (dk_at dksX7_byFails_0 15 rfl rfl)
theorem dX7_byFails_18 : decode cX7_byFails 18 = .ok (.iload 4, 2) := dk_21 4 (dk_at dksX7_byFails_0 18 rfl rfl)
theorem dX7_byFails_20 : decode cX7_byFails 20 = .ok (.aload_n 0, 1) := dk_42 (dk_at dksX7_byFails_0 20 rfl rfl)
theorem dX7_byFails_21 : decode cX7_byFails 21 = .ok (.getfield 7, 3) := dk_180 0 7 (dk_at dksX7_byFails_0 21 rfl rfl)
theorem dX7_byFails_24 : decode cX7_byFails 24 = .ok (.bipush 19, 2) := dk_16 19 (dk_at dksX7_byFails_1 0 rfl rfl)
theorem dX7_byFails_26 : decode cX7_byFails 26 = .ok (.iload 5, 2) := dk_21 5 (dk_at dksX7_byFails_1 2 rfl rfl)
theorem dX7_byFails_28 : decode cX7_byFails 28 = .ok (.iadd, 1) := dk_96 (dk_at dksX7_byFails_1 4 rfl rfl)
theorem dX7_byFails_29 : decode cX7_byFails 29 = .ok (.iaload, 1) := dk_46 (dk_at dksX7_byFails_1 5 rfl rfl)
theorem dX7_byFails_30 : decode cX7_byFails 30 = .ok (.iconst 5, 1) := dk_8 (dk_at dksX7_byFails_1 6 rfl rfl)
theorem dX7_byFails_31 : decode cX7_byFails 31 = .ok (.if_icmp .ge 10, 3) := dk_162 0 10 (dk_at dksX7_byFails_1 7 rfl rfl)
theorem dX7_byFails_34 : decode cX7_byFails 34 = .ok (.iconst 1, 1) := dk_4 (dk_at dksX7_byFails_1 10 rfl rfl)
theorem dX7_byFails_35 : decode cX7_byFails 35 = .ok (.iload 5, 2) := dk_21 5 (dk_at dksX7_byFails_1 11 rfl rfl)
theorem dX7_byFails_37 : decode cX7_byFails 37 = .ok (.ishl, 1) := dk_120 (dk_at dksX7_byFails_1 13 rfl rfl)
theorem dX7_byFails_38 : decode cX7_byFails 38 = .ok (.goto 4, 3) := dk_167 0 4 (dk_at dksX7_byFails_1 14 rfl rfl)
theorem dX7_byFails_41 : decode cX7_byFails 41 = .ok (.iconst 0, 1) := dk_3 (dk_at dksX7_byFails_1 17 rfl rfl)
theorem dX7_byFails_42 : decode cX7_byFails 42 = .ok (.ior, 1) := dk_128 (dk_at dksX7_byFails_1 18 rfl rfl)
theorem dX7_byFails_43 : decode cX7_byFails 43 = .ok (.istore 4, 2) := dk_54 4 (dk_at dksX7_byFails_1 19 rfl rfl)
theorem dX7_byFails_45 : decode cX7_byFails 45 = .ok (.iinc 5 1, 3) := dk_132 5 1 (dk_at dksX7_byFails_1 21 rfl rfl)
theorem dX7_byFails_48 : decode cX7_byFails 48 = .ok (.goto (-42), 3) := dk_167 255 214 (dk_at dksX7_byFails_2 0 rfl rfl)
theorem dX7_byFails_51 : decode cX7_byFails 51 = .ok (.lconst 0, 1) := dk_9 (dk_at dksX7_byFails_2 3 rfl rfl)
theorem dX7_byFails_52 : decode cX7_byFails 52 = .ok (.lstore 5, 2) := dk_55 5 (dk_at dksX7_byFails_2 4 rfl rfl)
theorem dX7_byFails_54 : decode cX7_byFails 54 = .ok (.lconst 1, 1) := dk_10 (dk_at dksX7_byFails_2 6 rfl rfl)
theorem dX7_byFails_55 : decode cX7_byFails 55 = .ok (.lstore 7, 2) := dk_55 7 (dk_at dksX7_byFails_2 7 rfl rfl)
theorem dX7_byFails_57 : decode cX7_byFails 57 = .ok (.iconst 0, 1) := dk_3 (dk_at dksX7_byFails_2 9 rfl rfl)
theorem dX7_byFails_58 : decode cX7_byFails 58 = .ok (.istore 9, 2) := dk_54 9 (dk_at dksX7_byFails_2 10 rfl rfl)
theorem dX7_byFails_60 : decode cX7_byFails 60 = .ok (.iload 9, 2) := dk_21 9 (dk_at dksX7_byFails_2 12 rfl rfl)
theorem dX7_byFails_62 : decode cX7_byFails 62 = .ok (.bipush 8, 2) := dk_16 8 (dk_at dksX7_byFails_2 14 rfl rfl)
theorem dX7_byFails_64 : decode cX7_byFails 64 = .ok (.if_icmp .ge 32, 3) := dk_162 0 32 (dk_at dksX7_byFails_2 16 rfl rfl)
theorem dX7_byFails_67 : decode cX7_byFails 67 = .ok (.lload 7, 2) := dk_22 7 (dk_at dksX7_byFails_2 19 rfl rfl)
theorem dX7_byFails_69 : decode cX7_byFails 69 = .ok (.iload 4, 2) := dk_21 4 (dk_at dksX7_byFails_2 21 rfl rfl)
theorem dX7_byFails_71 : decode cX7_byFails 71 = .ok (.iload 9, 2) := dk_21 9 (dk_at dksX7_byFails_3 0 rfl rfl)
theorem dX7_byFails_73 : decode cX7_byFails 73 = .ok (.ishr, 1) := dk_122 (dk_at dksX7_byFails_3 2 rfl rfl)
theorem dX7_byFails_74 : decode cX7_byFails 74 = .ok (.iconst 1, 1) := dk_4 (dk_at dksX7_byFails_3 3 rfl rfl)
theorem dX7_byFails_75 : decode cX7_byFails 75 = .ok (.iand, 1) := dk_126 (dk_at dksX7_byFails_3 4 rfl rfl)
theorem dX7_byFails_76 : decode cX7_byFails 76 = .ok (.iconst 1, 1) := dk_4 (dk_at dksX7_byFails_3 5 rfl rfl)
theorem dX7_byFails_77 : decode cX7_byFails 77 = .ok (.if_icmp .ne 9, 3) := dk_160 0 9 (dk_at dksX7_byFails_3 6 rfl rfl)
theorem dX7_byFails_80 : decode cX7_byFails 80 = .ok (.ldc2_w 224, 3) := dk_20 0 224 (dk_at dksX7_byFails_3 9 rfl rfl)
theorem dX7_byFails_83 : decode cX7_byFails 83 = .ok (.goto 4, 3) := dk_167 0 4 (dk_at dksX7_byFails_3 12 rfl rfl)
theorem dX7_byFails_86 : decode cX7_byFails 86 = .ok (.lconst 1, 1) := dk_10 (dk_at dksX7_byFails_3 15 rfl rfl)
theorem dX7_byFails_87 : decode cX7_byFails 87 = .ok (.lmul, 1) := dk_105 (dk_at dksX7_byFails_3 16 rfl rfl)
theorem dX7_byFails_88 : decode cX7_byFails 88 = .ok (.lstore 7, 2) := dk_55 7 (dk_at dksX7_byFails_3 17 rfl rfl)
theorem dX7_byFails_90 : decode cX7_byFails 90 = .ok (.iinc 9 1, 3) := dk_132 9 1 (dk_at dksX7_byFails_3 19 rfl rfl)
theorem dX7_byFails_93 : decode cX7_byFails 93 = .ok (.goto (-33), 3) := dk_167 255 223 (dk_at dksX7_byFails_4 0 rfl rfl)
theorem dX7_byFails_96 : decode cX7_byFails 96 = .ok (.iconst 0, 1) := dk_3 (dk_at dksX7_byFails_4 3 rfl rfl)
theorem dX7_byFails_97 : decode cX7_byFails 97 = .ok (.istore 9, 2) := dk_54 9 (dk_at dksX7_byFails_4 4 rfl rfl)
theorem dX7_byFails_99 : decode cX7_byFails 99 = .ok (.iload 9, 2) := dk_21 9 (dk_at dksX7_byFails_4 6 rfl rfl)
theorem dX7_byFails_101 : decode cX7_byFails 101 = .ok (.sipush 256, 3) := dk_17 1 0 (dk_at dksX7_byFails_4 8 rfl rfl)
theorem dX7_byFails_104 : decode cX7_byFails 104 = .ok (.if_icmp .ge 118, 3) := dk_162 0 118 (dk_at dksX7_byFails_4 11 rfl rfl)
theorem dX7_byFails_107 : decode cX7_byFails 107 = .ok (.iload 9, 2) := dk_21 9 (dk_at dksX7_byFails_4 14 rfl rfl)
theorem dX7_byFails_109 : decode cX7_byFails 109 = .ok (.iload 4, 2) := dk_21 4 (dk_at dksX7_byFails_4 16 rfl rfl)
theorem dX7_byFails_111 : decode cX7_byFails 111 = .ok (.iconst (-1), 1) := dk_2 (dk_at dksX7_byFails_4 18 rfl rfl)
theorem dX7_byFails_112 : decode cX7_byFails 112 = .ok (.ixor, 1) := dk_130 (dk_at dksX7_byFails_4 19 rfl rfl)
theorem dX7_byFails_113 : decode cX7_byFails 113 = .ok (.iand, 1) := dk_126 (dk_at dksX7_byFails_4 20 rfl rfl)
theorem dX7_byFails_114 : decode cX7_byFails 114 = .ok (.ifCond .ne 102, 3) := dk_154 0 102 (dk_at dksX7_byFails_4 21 rfl rfl)
theorem dX7_byFails_117 : decode cX7_byFails 117 = .ok (.lconst 1, 1) := dk_10 (dk_at dksX7_byFails_5 0 rfl rfl)
theorem dX7_byFails_118 : decode cX7_byFails 118 = .ok (.lstore 10, 2) := dk_55 10 (dk_at dksX7_byFails_5 1 rfl rfl)
theorem dX7_byFails_120 : decode cX7_byFails 120 = .ok (.iconst 0, 1) := dk_3 (dk_at dksX7_byFails_5 3 rfl rfl)
theorem dX7_byFails_121 : decode cX7_byFails 121 = .ok (.istore 12, 2) := dk_54 12 (dk_at dksX7_byFails_5 4 rfl rfl)
theorem dX7_byFails_123 : decode cX7_byFails 123 = .ok (.iload 12, 2) := dk_21 12 (dk_at dksX7_byFails_5 6 rfl rfl)
theorem dX7_byFails_125 : decode cX7_byFails 125 = .ok (.bipush 8, 2) := dk_16 8 (dk_at dksX7_byFails_5 8 rfl rfl)
theorem dX7_byFails_127 : decode cX7_byFails 127 = .ok (.if_icmp .ge 49, 3) := dk_162 0 49 (dk_at dksX7_byFails_5 10 rfl rfl)
theorem dX7_byFails_130 : decode cX7_byFails 130 = .ok (.lload 10, 2) := dk_22 10 (dk_at dksX7_byFails_5 13 rfl rfl)
theorem dX7_byFails_132 : decode cX7_byFails 132 = .ok (.iload 4, 2) := dk_21 4 (dk_at dksX7_byFails_5 15 rfl rfl)
theorem dX7_byFails_134 : decode cX7_byFails 134 = .ok (.iload 12, 2) := dk_21 12 (dk_at dksX7_byFails_5 17 rfl rfl)
theorem dX7_byFails_136 : decode cX7_byFails 136 = .ok (.ishr, 1) := dk_122 (dk_at dksX7_byFails_5 19 rfl rfl)
theorem dX7_byFails_137 : decode cX7_byFails 137 = .ok (.iconst 1, 1) := dk_4 (dk_at dksX7_byFails_5 20 rfl rfl)
theorem dX7_byFails_138 : decode cX7_byFails 138 = .ok (.iand, 1) := dk_126 (dk_at dksX7_byFails_5 21 rfl rfl)
theorem dX7_byFails_139 : decode cX7_byFails 139 = .ok (.ifCond .ne 7, 3) := dk_154 0 7 (dk_at dksX7_byFails_6 0 rfl rfl)
theorem dX7_byFails_142 : decode cX7_byFails 142 = .ok (.lconst 1, 1) := dk_10 (dk_at dksX7_byFails_6 3 rfl rfl)
theorem dX7_byFails_143 : decode cX7_byFails 143 = .ok (.goto 24, 3) := dk_167 0 24 (dk_at dksX7_byFails_6 4 rfl rfl)
theorem dX7_byFails_146 : decode cX7_byFails 146 = .ok (.iload 9, 2) := dk_21 9 (dk_at dksX7_byFails_6 7 rfl rfl)
theorem dX7_byFails_148 : decode cX7_byFails 148 = .ok (.iload 12, 2) := dk_21 12 (dk_at dksX7_byFails_6 9 rfl rfl)
theorem dX7_byFails_150 : decode cX7_byFails 150 = .ok (.ishr, 1) := dk_122 (dk_at dksX7_byFails_6 11 rfl rfl)
theorem dX7_byFails_151 : decode cX7_byFails 151 = .ok (.iconst 1, 1) := dk_4 (dk_at dksX7_byFails_6 12 rfl rfl)
theorem dX7_byFails_152 : decode cX7_byFails 152 = .ok (.iand, 1) := dk_126 (dk_at dksX7_byFails_6 13 rfl rfl)
theorem dX7_byFails_153 : decode cX7_byFails 153 = .ok (.iconst 1, 1) := dk_4 (dk_at dksX7_byFails_6 14 rfl rfl)
theorem dX7_byFails_154 : decode cX7_byFails 154 = .ok (.if_icmp .ne 8, 3) := dk_160 0 8 (dk_at dksX7_byFails_6 15 rfl rfl)
theorem dX7_byFails_157 : decode cX7_byFails 157 = .ok (.iload_n 1, 1) := dk_27 (dk_at dksX7_byFails_6 18 rfl rfl)
theorem dX7_byFails_158 : decode cX7_byFails 158 = .ok (.i2l, 1) := dk_133 (dk_at dksX7_byFails_6 19 rfl rfl)
theorem dX7_byFails_159 : decode cX7_byFails 159 = .ok (.goto 8, 3) := dk_167 0 8 (dk_at dksX7_byFails_6 20 rfl rfl)
theorem dX7_byFails_162 : decode cX7_byFails 162 = .ok (.bipush 10, 2) := dk_16 10 (dk_at dksX7_byFails_7 0 rfl rfl)
theorem dX7_byFails_164 : decode cX7_byFails 164 = .ok (.iload_n 1, 1) := dk_27 (dk_at dksX7_byFails_7 2 rfl rfl)
theorem dX7_byFails_165 : decode cX7_byFails 165 = .ok (.isub, 1) := dk_100 (dk_at dksX7_byFails_7 3 rfl rfl)
theorem dX7_byFails_166 : decode cX7_byFails 166 = .ok (.i2l, 1) := dk_133 (dk_at dksX7_byFails_7 4 rfl rfl)
theorem dX7_byFails_167 : decode cX7_byFails 167 = .ok (.lmul, 1) := dk_105 (dk_at dksX7_byFails_7 5 rfl rfl)
theorem dX7_byFails_168 : decode cX7_byFails 168 = .ok (.lstore 10, 2) := dk_55 10 (dk_at dksX7_byFails_7 6 rfl rfl)
theorem dX7_byFails_170 : decode cX7_byFails 170 = .ok (.iinc 12 1, 3) := dk_132 12 1 (dk_at dksX7_byFails_7 8 rfl rfl)
theorem dX7_byFails_173 : decode cX7_byFails 173 = .ok (.goto (-50), 3) := dk_167 255 206 (dk_at dksX7_byFails_7 11 rfl rfl)
theorem dX7_byFails_176 : decode cX7_byFails 176 = .ok (.aload_n 0, 1) := dk_42 (dk_at dksX7_byFails_7 14 rfl rfl)
theorem dX7_byFails_177 : decode cX7_byFails 177 = .ok (.iconst 0, 1) := dk_3 (dk_at dksX7_byFails_7 15 rfl rfl)
theorem dX7_byFails_178 : decode cX7_byFails 178 = .ok (.iload 9, 2) := dk_21 9 (dk_at dksX7_byFails_7 16 rfl rfl)
theorem dX7_byFails_180 : decode cX7_byFails 180 = .ok (.invokevirtual 214, 3) := dk_182 0 214 (dk_at dksX7_byFails_7 18 rfl rfl)
theorem dX7_byFails_183 : decode cX7_byFails 183 = .ok (.lload 5, 2) := dk_22 5 (dk_at dksX7_byFails_7 21 rfl rfl)
theorem dX7_byFails_185 : decode cX7_byFails 185 = .ok (.lload 10, 2) := dk_22 10 (dk_at dksX7_byFails_8 0 rfl rfl)
theorem dX7_byFails_187 : decode cX7_byFails 187 = .ok (.iload_n 2, 1) := dk_28 (dk_at dksX7_byFails_8 2 rfl rfl)
theorem dX7_byFails_188 : decode cX7_byFails 188 = .ok (.bipush (-4), 2) := dk_16 252 (dk_at dksX7_byFails_8 3 rfl rfl)
theorem dX7_byFails_190 : decode cX7_byFails 190 = .ok (.if_icmp .ne 10, 3) := dk_160 0 10 (dk_at dksX7_byFails_8 5 rfl rfl)
theorem dX7_byFails_193 : decode cX7_byFails 193 = .ok (.aload_n 0, 1) := dk_42 (dk_at dksX7_byFails_8 8 rfl rfl)
theorem dX7_byFails_194 : decode cX7_byFails 194 = .ok (.invokevirtual 234, 3) := dk_182 0 234 (dk_at dksX7_byFails_8 9 rfl rfl)
theorem dX7_byFails_197 : decode cX7_byFails 197 = .ok (.goto 14, 3) := dk_167 0 14 (dk_at dksX7_byFails_8 12 rfl rfl)
theorem dX7_byFails_200 : decode cX7_byFails 200 = .ok (.aload_n 0, 1) := dk_42 (dk_at dksX7_byFails_8 15 rfl rfl)
theorem dX7_byFails_201 : decode cX7_byFails 201 = .ok (.getfield 7, 3) := dk_180 0 7 (dk_at dksX7_byFails_8 16 rfl rfl)
theorem dX7_byFails_204 : decode cX7_byFails 204 = .ok (.bipush 127, 2) := dk_16 127 (dk_at dksX7_byFails_8 19 rfl rfl)
theorem dX7_byFails_206 : decode cX7_byFails 206 = .ok (.iaload, 1) := dk_46 (dk_at dksX7_byFails_8 21 rfl rfl)
theorem dX7_byFails_207 : decode cX7_byFails 207 = .ok (.iload_n 2, 1) := dk_28 (dk_at dksX7_byFails_8 22 rfl rfl)
theorem dX7_byFails_208 : decode cX7_byFails 208 = .ok (.ishr, 1) := dk_122 (dk_at dksX7_byFails_8 23 rfl rfl)
theorem dX7_byFails_209 : decode cX7_byFails 209 = .ok (.iconst 1, 1) := dk_4 (dk_at dksX7_byFails_9 0 rfl rfl)
theorem dX7_byFails_210 : decode cX7_byFails 210 = .ok (.iand, 1) := dk_126 (dk_at dksX7_byFails_9 1 rfl rfl)
theorem dX7_byFails_211 : decode cX7_byFails 211 = .ok (.i2l, 1) := dk_133 (dk_at dksX7_byFails_9 2 rfl rfl)
theorem dX7_byFails_212 : decode cX7_byFails 212 = .ok (.lmul, 1) := dk_105 (dk_at dksX7_byFails_9 3 rfl rfl)
theorem dX7_byFails_213 : decode cX7_byFails 213 = .ok (.ladd, 1) := dk_97 (dk_at dksX7_byFails_9 4 rfl rfl)
theorem dX7_byFails_214 : decode cX7_byFails 214 = .ok (.lstore 5, 2) := dk_55 5 (dk_at dksX7_byFails_9 5 rfl rfl)
theorem dX7_byFails_216 : decode cX7_byFails 216 = .ok (.iinc 9 1, 3) := dk_132 9 1 (dk_at dksX7_byFails_9 7 rfl rfl)
theorem dX7_byFails_219 : decode cX7_byFails 219 = .ok (.goto (-120), 3) := dk_167 255 136 (dk_at dksX7_byFails_9 10 rfl rfl)
theorem dX7_byFails_222 : decode cX7_byFails 222 = .ok (.lload 5, 2) := dk_22 5 (dk_at dksX7_byFails_9 13 rfl rfl)
theorem dX7_byFails_224 : decode cX7_byFails 224 = .ok (.lload 7, 2) := dk_22 7 (dk_at dksX7_byFails_9 15 rfl rfl)
theorem dX7_byFails_226 : decode cX7_byFails 226 = .ok (.iload_n 3, 1) := dk_29 (dk_at dksX7_byFails_9 17 rfl rfl)
theorem dX7_byFails_227 : decode cX7_byFails 227 = .ok (.invokestatic 237, 3) := dk_184 0 237 (dk_at dksX7_byFails_9 18 rfl rfl)
theorem dX7_byFails_230 : decode cX7_byFails 230 = .ok (.lreturn, 1) := dk_173 (dk_at dksX7_byFails_9 21 rfl rfl)
abbrev cX7_lowest : ByteArray := prog_11_method_61_code
def yX7_lowest : MethodName := ⟨RX7, "lowest", "(JJI)J"⟩
def dkwX7_lowest_1 : List UInt8 := [22, 9, 55, 7, 167, 255, 234, 21, 4, 154, 0, 7, 30, 167, 0, 4, 32, 22, 5, 109, 173]
abbrev dktX7_lowest_1 : List UInt8 := dkwX7_lowest_1 ++ []
def dkwX7_lowest_0 : List UInt8 := [30, 55, 5, 32, 55, 7, 22, 7, 9, 148, 153, 0, 21, 22, 5, 22, 7, 113, 55, 9, 22, 7, 55, 5]
abbrev dktX7_lowest_0 : List UInt8 := dkwX7_lowest_0 ++ dktX7_lowest_1
theorem dksX7_lowest_0 : cX7_lowest.data.toList.drop 0 = dktX7_lowest_0 := by decide +kernel
theorem dksX7_lowest_1 : cX7_lowest.data.toList.drop 24 = dktX7_lowest_1 := dk_seg dksX7_lowest_0 24 rfl rfl
theorem dX7_lowest_0 : decode cX7_lowest 0 = .ok (.lload_n 0, 1) := dk_30 (dk_at dksX7_lowest_0 0 rfl rfl)
theorem dX7_lowest_1 : decode cX7_lowest 1 = .ok (.lstore 5, 2) := dk_55 5 (dk_at dksX7_lowest_0 1 rfl rfl)
theorem dX7_lowest_3 : decode cX7_lowest 3 = .ok (.lload_n 2, 1) := dk_32 (dk_at dksX7_lowest_0 3 rfl rfl)
theorem dX7_lowest_4 : decode cX7_lowest 4 = .ok (.lstore 7, 2) := dk_55 7 (dk_at dksX7_lowest_0 4 rfl rfl)
theorem dX7_lowest_6 : decode cX7_lowest 6 = .ok (.lload 7, 2) := dk_22 7 (dk_at dksX7_lowest_0 6 rfl rfl)
theorem dX7_lowest_8 : decode cX7_lowest 8 = .ok (.lconst 0, 1) := dk_9 (dk_at dksX7_lowest_0 8 rfl rfl)
theorem dX7_lowest_9 : decode cX7_lowest 9 = .ok (.lcmp, 1) := dk_148 (dk_at dksX7_lowest_0 9 rfl rfl)
theorem dX7_lowest_10 : decode cX7_lowest 10 = .ok (.ifCond .eq 21, 3) := dk_153 0 21 (dk_at dksX7_lowest_0 10 rfl rfl)
theorem dX7_lowest_13 : decode cX7_lowest 13 = .ok (.lload 5, 2) := dk_22 5 (dk_at dksX7_lowest_0 13 rfl rfl)
theorem dX7_lowest_15 : decode cX7_lowest 15 = .ok (.lload 7, 2) := dk_22 7 (dk_at dksX7_lowest_0 15 rfl rfl)
theorem dX7_lowest_17 : decode cX7_lowest 17 = .ok (.lrem, 1) := dk_113 (dk_at dksX7_lowest_0 17 rfl rfl)
theorem dX7_lowest_18 : decode cX7_lowest 18 = .ok (.lstore 9, 2) := dk_55 9 (dk_at dksX7_lowest_0 18 rfl rfl)
theorem dX7_lowest_20 : decode cX7_lowest 20 = .ok (.lload 7, 2) := dk_22 7 (dk_at dksX7_lowest_0 20 rfl rfl)
theorem dX7_lowest_22 : decode cX7_lowest 22 = .ok (.lstore 5, 2) := dk_55 5 (dk_at dksX7_lowest_0 22 rfl rfl)
theorem dX7_lowest_24 : decode cX7_lowest 24 = .ok (.lload 9, 2) := dk_22 9 (dk_at dksX7_lowest_1 0 rfl rfl)
theorem dX7_lowest_26 : decode cX7_lowest 26 = .ok (.lstore 7, 2) := dk_55 7 (dk_at dksX7_lowest_1 2 rfl rfl)
theorem dX7_lowest_28 : decode cX7_lowest 28 = .ok (.goto (-22), 3) := dk_167 255 234 (dk_at dksX7_lowest_1 4 rfl rfl)
theorem dX7_lowest_31 : decode cX7_lowest 31 = .ok (.iload 4, 2) := dk_21 4 (dk_at dksX7_lowest_1 7 rfl rfl)
theorem dX7_lowest_33 : decode cX7_lowest 33 = .ok (.ifCond .ne 7, 3) := dk_154 0 7 (dk_at dksX7_lowest_1 9 rfl rfl)
theorem dX7_lowest_36 : decode cX7_lowest 36 = .ok (.lload_n 0, 1) := dk_30 (dk_at dksX7_lowest_1 12 rfl rfl)
theorem dX7_lowest_37 : decode cX7_lowest 37 = .ok (.goto 4, 3) := dk_167 0 4 (dk_at dksX7_lowest_1 13 rfl rfl)
theorem dX7_lowest_40 : decode cX7_lowest 40 = .ok (.lload_n 2, 1) := dk_32 (dk_at dksX7_lowest_1 16 rfl rfl)
theorem dX7_lowest_41 : decode cX7_lowest 41 = .ok (.lload 5, 2) := dk_22 5 (dk_at dksX7_lowest_1 17 rfl rfl)
theorem dX7_lowest_43 : decode cX7_lowest 43 = .ok (.ldiv, 1) := dk_109 (dk_at dksX7_lowest_1 19 rfl rfl)
theorem dX7_lowest_44 : decode cX7_lowest 44 = .ok (.lreturn, 1) := dk_173 (dk_at dksX7_lowest_1 20 rfl rfl)
abbrev cX7_mean : ByteArray := prog_11_method_64_code
def yX7_mean : MethodName := ⟨RX7, "mean", "(II)J"⟩
def dkwX7_mean_1 : List UInt8 := [16, 252, 28, 182, 0, 241, 167, 0, 6, 20, 0, 245, 173]
abbrev dktX7_mean_1 : List UInt8 := dkwX7_mean_1 ++ []
def dkwX7_mean_0 : List UInt8 := [27, 133, 9, 20, 0, 224, 184, 0, 49, 153, 0, 24, 28, 133, 9, 10, 184, 0, 49, 153, 0, 14, 42, 27]
abbrev dktX7_mean_0 : List UInt8 := dkwX7_mean_0 ++ dktX7_mean_1
theorem dksX7_mean_0 : cX7_mean.data.toList.drop 0 = dktX7_mean_0 := by decide +kernel
theorem dksX7_mean_1 : cX7_mean.data.toList.drop 24 = dktX7_mean_1 := dk_seg dksX7_mean_0 24 rfl rfl
theorem dX7_mean_0 : decode cX7_mean 0 = .ok (.iload_n 1, 1) := dk_27 (dk_at dksX7_mean_0 0 rfl rfl)
theorem dX7_mean_1 : decode cX7_mean 1 = .ok (.i2l, 1) := dk_133 (dk_at dksX7_mean_0 1 rfl rfl)
theorem dX7_mean_2 : decode cX7_mean 2 = .ok (.lconst 0, 1) := dk_9 (dk_at dksX7_mean_0 2 rfl rfl)
theorem dX7_mean_3 : decode cX7_mean 3 = .ok (.ldc2_w 224, 3) := dk_20 0 224 (dk_at dksX7_mean_0 3 rfl rfl)
theorem dX7_mean_6 : decode cX7_mean 6 = .ok (.invokestatic 49, 3) := dk_184 0 49 (dk_at dksX7_mean_0 6 rfl rfl)
theorem dX7_mean_9 : decode cX7_mean 9 = .ok (.ifCond .eq 24, 3) := dk_153 0 24 (dk_at dksX7_mean_0 9 rfl rfl)
theorem dX7_mean_12 : decode cX7_mean 12 = .ok (.iload_n 2, 1) := dk_28 (dk_at dksX7_mean_0 12 rfl rfl)
theorem dX7_mean_13 : decode cX7_mean 13 = .ok (.i2l, 1) := dk_133 (dk_at dksX7_mean_0 13 rfl rfl)
theorem dX7_mean_14 : decode cX7_mean 14 = .ok (.lconst 0, 1) := dk_9 (dk_at dksX7_mean_0 14 rfl rfl)
theorem dX7_mean_15 : decode cX7_mean 15 = .ok (.lconst 1, 1) := dk_10 (dk_at dksX7_mean_0 15 rfl rfl)
theorem dX7_mean_16 : decode cX7_mean 16 = .ok (.invokestatic 49, 3) := dk_184 0 49 (dk_at dksX7_mean_0 16 rfl rfl)
theorem dX7_mean_19 : decode cX7_mean 19 = .ok (.ifCond .eq 14, 3) := dk_153 0 14 (dk_at dksX7_mean_0 19 rfl rfl)
theorem dX7_mean_22 : decode cX7_mean 22 = .ok (.aload_n 0, 1) := dk_42 (dk_at dksX7_mean_0 22 rfl rfl)
theorem dX7_mean_23 : decode cX7_mean 23 = .ok (.iload_n 1, 1) := dk_27 (dk_at dksX7_mean_0 23 rfl rfl)
theorem dX7_mean_24 : decode cX7_mean 24 = .ok (.bipush (-4), 2) := dk_16 252 (dk_at dksX7_mean_1 0 rfl rfl)
theorem dX7_mean_26 : decode cX7_mean 26 = .ok (.iload_n 2, 1) := dk_28 (dk_at dksX7_mean_1 2 rfl rfl)
theorem dX7_mean_27 : decode cX7_mean 27 = .ok (.invokevirtual 241, 3) := dk_182 0 241 (dk_at dksX7_mean_1 3 rfl rfl)
theorem dX7_mean_30 : decode cX7_mean 30 = .ok (.goto 6, 3) := dk_167 0 6 (dk_at dksX7_mean_1 6 rfl rfl)
theorem dX7_mean_33 : decode cX7_mean 33 = .ok (.ldc2_w 245, 3) := dk_20 0 245 (dk_at dksX7_mean_1 9 rfl rfl)
theorem dX7_mean_36 : decode cX7_mean 36 = .ok (.lreturn, 1) := dk_173 (dk_at dksX7_mean_1 12 rfl rfl)
abbrev cX7_see : ByteArray := prog_11_method_65_code
def yX7_see : MethodName := ⟨RX7, "see", "(IZ)I"⟩
def dkwX7_see_2 : List UInt8 := [153, 0, 7, 4, 167, 0, 4, 3, 79, 42, 89, 180, 0, 128, 4, 96, 181, 0, 128, 42, 180, 0, 128, 172]
abbrev dktX7_see_2 : List UInt8 := dkwX7_see_2 ++ []
def dkwX7_see_1 : List UInt8 := [180, 0, 28, 5, 42, 180, 0, 128, 104, 27, 79, 42, 180, 0, 28, 5, 42, 180, 0, 128, 104, 4, 96, 28]
abbrev dktX7_see_1 : List UInt8 := dkwX7_see_1 ++ dktX7_see_2
def dkwX7_see_0 : List UInt8 := [42, 27, 182, 0, 158, 154, 0, 5, 2, 172, 42, 180, 0, 128, 16, 6, 160, 0, 6, 16, 253, 172, 42]
abbrev dktX7_see_0 : List UInt8 := dkwX7_see_0 ++ dktX7_see_1
theorem dksX7_see_0 : cX7_see.data.toList.drop 0 = dktX7_see_0 := by decide +kernel
theorem dksX7_see_1 : cX7_see.data.toList.drop 23 = dktX7_see_1 := dk_seg dksX7_see_0 23 rfl rfl
theorem dksX7_see_2 : cX7_see.data.toList.drop 47 = dktX7_see_2 := dk_seg dksX7_see_1 24 rfl rfl
theorem dX7_see_0 : decode cX7_see 0 = .ok (.aload_n 0, 1) := dk_42 (dk_at dksX7_see_0 0 rfl rfl)
theorem dX7_see_1 : decode cX7_see 1 = .ok (.iload_n 1, 1) := dk_27 (dk_at dksX7_see_0 1 rfl rfl)
theorem dX7_see_2 : decode cX7_see 2 = .ok (.invokevirtual 158, 3) := dk_182 0 158 (dk_at dksX7_see_0 2 rfl rfl)
theorem dX7_see_5 : decode cX7_see 5 = .ok (.ifCond .ne 5, 3) := dk_154 0 5 (dk_at dksX7_see_0 5 rfl rfl)
theorem dX7_see_8 : decode cX7_see 8 = .ok (.iconst (-1), 1) := dk_2 (dk_at dksX7_see_0 8 rfl rfl)
theorem dX7_see_9 : decode cX7_see 9 = .ok (.ireturn, 1) := dk_172 (dk_at dksX7_see_0 9 rfl rfl)
theorem dX7_see_10 : decode cX7_see 10 = .ok (.aload_n 0, 1) := dk_42 (dk_at dksX7_see_0 10 rfl rfl)
theorem dX7_see_11 : decode cX7_see 11 = .ok (.getfield 128, 3) := dk_180 0 128 (dk_at dksX7_see_0 11 rfl rfl)
theorem dX7_see_14 : decode cX7_see 14 = .ok (.bipush 6, 2) := dk_16 6 (dk_at dksX7_see_0 14 rfl rfl)
theorem dX7_see_16 : decode cX7_see 16 = .ok (.if_icmp .ne 6, 3) := dk_160 0 6 (dk_at dksX7_see_0 16 rfl rfl)
theorem dX7_see_19 : decode cX7_see 19 = .ok (.bipush (-3), 2) := dk_16 253 (dk_at dksX7_see_0 19 rfl rfl)
theorem dX7_see_21 : decode cX7_see 21 = .ok (.ireturn, 1) := dk_172 (dk_at dksX7_see_0 21 rfl rfl)
theorem dX7_see_22 : decode cX7_see 22 = .ok (.aload_n 0, 1) := dk_42 (dk_at dksX7_see_0 22 rfl rfl)
theorem dX7_see_23 : decode cX7_see 23 = .ok (.getfield 28, 3) := dk_180 0 28 (dk_at dksX7_see_1 0 rfl rfl)
theorem dX7_see_26 : decode cX7_see 26 = .ok (.iconst 2, 1) := dk_5 (dk_at dksX7_see_1 3 rfl rfl)
theorem dX7_see_27 : decode cX7_see 27 = .ok (.aload_n 0, 1) := dk_42 (dk_at dksX7_see_1 4 rfl rfl)
theorem dX7_see_28 : decode cX7_see 28 = .ok (.getfield 128, 3) := dk_180 0 128 (dk_at dksX7_see_1 5 rfl rfl)
theorem dX7_see_31 : decode cX7_see 31 = .ok (.imul, 1) := dk_104 (dk_at dksX7_see_1 8 rfl rfl)
theorem dX7_see_32 : decode cX7_see 32 = .ok (.iload_n 1, 1) := dk_27 (dk_at dksX7_see_1 9 rfl rfl)
theorem dX7_see_33 : decode cX7_see 33 = .ok (.iastore, 1) := dk_79 (dk_at dksX7_see_1 10 rfl rfl)
theorem dX7_see_34 : decode cX7_see 34 = .ok (.aload_n 0, 1) := dk_42 (dk_at dksX7_see_1 11 rfl rfl)
theorem dX7_see_35 : decode cX7_see 35 = .ok (.getfield 28, 3) := dk_180 0 28 (dk_at dksX7_see_1 12 rfl rfl)
theorem dX7_see_38 : decode cX7_see 38 = .ok (.iconst 2, 1) := dk_5 (dk_at dksX7_see_1 15 rfl rfl)
theorem dX7_see_39 : decode cX7_see 39 = .ok (.aload_n 0, 1) := dk_42 (dk_at dksX7_see_1 16 rfl rfl)
theorem dX7_see_40 : decode cX7_see 40 = .ok (.getfield 128, 3) := dk_180 0 128 (dk_at dksX7_see_1 17 rfl rfl)
theorem dX7_see_43 : decode cX7_see 43 = .ok (.imul, 1) := dk_104 (dk_at dksX7_see_1 20 rfl rfl)
theorem dX7_see_44 : decode cX7_see 44 = .ok (.iconst 1, 1) := dk_4 (dk_at dksX7_see_1 21 rfl rfl)
theorem dX7_see_45 : decode cX7_see 45 = .ok (.iadd, 1) := dk_96 (dk_at dksX7_see_1 22 rfl rfl)
theorem dX7_see_46 : decode cX7_see 46 = .ok (.iload_n 2, 1) := dk_28 (dk_at dksX7_see_1 23 rfl rfl)
theorem dX7_see_47 : decode cX7_see 47 = .ok (.ifCond .eq 7, 3) := dk_153 0 7 (dk_at dksX7_see_2 0 rfl rfl)
theorem dX7_see_50 : decode cX7_see 50 = .ok (.iconst 1, 1) := dk_4 (dk_at dksX7_see_2 3 rfl rfl)
theorem dX7_see_51 : decode cX7_see 51 = .ok (.goto 4, 3) := dk_167 0 4 (dk_at dksX7_see_2 4 rfl rfl)
theorem dX7_see_54 : decode cX7_see 54 = .ok (.iconst 0, 1) := dk_3 (dk_at dksX7_see_2 7 rfl rfl)
theorem dX7_see_55 : decode cX7_see 55 = .ok (.iastore, 1) := dk_79 (dk_at dksX7_see_2 8 rfl rfl)
theorem dX7_see_56 : decode cX7_see 56 = .ok (.aload_n 0, 1) := dk_42 (dk_at dksX7_see_2 9 rfl rfl)
theorem dX7_see_57 : decode cX7_see 57 = .ok (.dup, 1) := dk_89 (dk_at dksX7_see_2 10 rfl rfl)
theorem dX7_see_58 : decode cX7_see 58 = .ok (.getfield 128, 3) := dk_180 0 128 (dk_at dksX7_see_2 11 rfl rfl)
theorem dX7_see_61 : decode cX7_see 61 = .ok (.iconst 1, 1) := dk_4 (dk_at dksX7_see_2 14 rfl rfl)
theorem dX7_see_62 : decode cX7_see 62 = .ok (.iadd, 1) := dk_96 (dk_at dksX7_see_2 15 rfl rfl)
theorem dX7_see_63 : decode cX7_see 63 = .ok (.putfield 128, 3) := dk_181 0 128 (dk_at dksX7_see_2 16 rfl rfl)
theorem dX7_see_66 : decode cX7_see 66 = .ok (.aload_n 0, 1) := dk_42 (dk_at dksX7_see_2 19 rfl rfl)
theorem dX7_see_67 : decode cX7_see 67 = .ok (.getfield 128, 3) := dk_180 0 128 (dk_at dksX7_see_2 20 rfl rfl)
theorem dX7_see_70 : decode cX7_see 70 = .ok (.ireturn, 1) := dk_172 (dk_at dksX7_see_2 23 rfl rfl)
abbrev cX7_forget : ByteArray := prog_11_method_66_code
def yX7_forget : MethodName := ⟨RX7, "forget", "(I)I"⟩
def dkwX7_forget_1 : List UInt8 := [181, 0, 128, 28, 172]
abbrev dktX7_forget_1 : List UInt8 := dkwX7_forget_1 ++ []
def dkwX7_forget_0 : List UInt8 := [27, 133, 9, 42, 180, 0, 128, 133, 184, 0, 49, 154, 0, 5, 2, 172, 42, 180, 0, 128, 61, 42, 27]
abbrev dktX7_forget_0 : List UInt8 := dkwX7_forget_0 ++ dktX7_forget_1
theorem dksX7_forget_0 : cX7_forget.data.toList.drop 0 = dktX7_forget_0 := by decide +kernel
theorem dksX7_forget_1 : cX7_forget.data.toList.drop 23 = dktX7_forget_1 := dk_seg dksX7_forget_0 23 rfl rfl
theorem dX7_forget_0 : decode cX7_forget 0 = .ok (.iload_n 1, 1) := dk_27 (dk_at dksX7_forget_0 0 rfl rfl)
theorem dX7_forget_1 : decode cX7_forget 1 = .ok (.i2l, 1) := dk_133 (dk_at dksX7_forget_0 1 rfl rfl)
theorem dX7_forget_2 : decode cX7_forget 2 = .ok (.lconst 0, 1) := dk_9 (dk_at dksX7_forget_0 2 rfl rfl)
theorem dX7_forget_3 : decode cX7_forget 3 = .ok (.aload_n 0, 1) := dk_42 (dk_at dksX7_forget_0 3 rfl rfl)
theorem dX7_forget_4 : decode cX7_forget 4 = .ok (.getfield 128, 3) := dk_180 0 128 (dk_at dksX7_forget_0 4 rfl rfl)
theorem dX7_forget_7 : decode cX7_forget 7 = .ok (.i2l, 1) := dk_133 (dk_at dksX7_forget_0 7 rfl rfl)
theorem dX7_forget_8 : decode cX7_forget 8 = .ok (.invokestatic 49, 3) := dk_184 0 49 (dk_at dksX7_forget_0 8 rfl rfl)
theorem dX7_forget_11 : decode cX7_forget 11 = .ok (.ifCond .ne 5, 3) := dk_154 0 5 (dk_at dksX7_forget_0 11 rfl rfl)
theorem dX7_forget_14 : decode cX7_forget 14 = .ok (.iconst (-1), 1) := dk_2 (dk_at dksX7_forget_0 14 rfl rfl)
theorem dX7_forget_15 : decode cX7_forget 15 = .ok (.ireturn, 1) := dk_172 (dk_at dksX7_forget_0 15 rfl rfl)
theorem dX7_forget_16 : decode cX7_forget 16 = .ok (.aload_n 0, 1) := dk_42 (dk_at dksX7_forget_0 16 rfl rfl)
theorem dX7_forget_17 : decode cX7_forget 17 = .ok (.getfield 128, 3) := dk_180 0 128 (dk_at dksX7_forget_0 17 rfl rfl)
theorem dX7_forget_20 : decode cX7_forget 20 = .ok (.istore_n 2, 1) := dk_61 (dk_at dksX7_forget_0 20 rfl rfl)
theorem dX7_forget_21 : decode cX7_forget 21 = .ok (.aload_n 0, 1) := dk_42 (dk_at dksX7_forget_0 21 rfl rfl)
theorem dX7_forget_22 : decode cX7_forget 22 = .ok (.iload_n 1, 1) := dk_27 (dk_at dksX7_forget_0 22 rfl rfl)
theorem dX7_forget_23 : decode cX7_forget 23 = .ok (.putfield 128, 3) := dk_181 0 128 (dk_at dksX7_forget_1 0 rfl rfl)
theorem dX7_forget_26 : decode cX7_forget 26 = .ok (.iload_n 2, 1) := dk_28 (dk_at dksX7_forget_1 3 rfl rfl)
theorem dX7_forget_27 : decode cX7_forget 27 = .ok (.ireturn, 1) := dk_172 (dk_at dksX7_forget_1 4 rfl rfl)
abbrev cX7_kinds : ByteArray := prog_11_method_68_code
def yX7_kinds : MethodName := ⟨RX7, "kinds", "(I)I"⟩
def dkwX7_kinds_2 : List UInt8 := [167, 0, 4, 3, 128, 62, 132, 4, 1, 167, 255, 221, 42, 180, 0, 7, 27, 28, 79, 29, 172]
abbrev dktX7_kinds_2 : List UInt8 := dkwX7_kinds_2 ++ []
def dkwX7_kinds_1 : List UInt8 := [7, 162, 0, 35, 42, 180, 0, 7, 27, 21, 4, 79, 29, 42, 182, 0, 247, 153, 0, 10, 4, 21, 4, 120]
abbrev dktX7_kinds_1 : List UInt8 := dkwX7_kinds_1 ++ dktX7_kinds_2
def dkwX7_kinds_0 : List UInt8 := [42, 27, 182, 0, 158, 154, 0, 5, 2, 172, 42, 180, 0, 7, 27, 46, 61, 3, 62, 3, 54, 4, 21, 4]
abbrev dktX7_kinds_0 : List UInt8 := dkwX7_kinds_0 ++ dktX7_kinds_1
theorem dksX7_kinds_0 : cX7_kinds.data.toList.drop 0 = dktX7_kinds_0 := by decide +kernel
theorem dksX7_kinds_1 : cX7_kinds.data.toList.drop 24 = dktX7_kinds_1 := dk_seg dksX7_kinds_0 24 rfl rfl
theorem dksX7_kinds_2 : cX7_kinds.data.toList.drop 48 = dktX7_kinds_2 := dk_seg dksX7_kinds_1 24 rfl rfl
theorem dX7_kinds_0 : decode cX7_kinds 0 = .ok (.aload_n 0, 1) := dk_42 (dk_at dksX7_kinds_0 0 rfl rfl)
theorem dX7_kinds_1 : decode cX7_kinds 1 = .ok (.iload_n 1, 1) := dk_27 (dk_at dksX7_kinds_0 1 rfl rfl)
theorem dX7_kinds_2 : decode cX7_kinds 2 = .ok (.invokevirtual 158, 3) := dk_182 0 158 (dk_at dksX7_kinds_0 2 rfl rfl)
theorem dX7_kinds_5 : decode cX7_kinds 5 = .ok (.ifCond .ne 5, 3) := dk_154 0 5 (dk_at dksX7_kinds_0 5 rfl rfl)
theorem dX7_kinds_8 : decode cX7_kinds 8 = .ok (.iconst (-1), 1) := dk_2 (dk_at dksX7_kinds_0 8 rfl rfl)
theorem dX7_kinds_9 : decode cX7_kinds 9 = .ok (.ireturn, 1) := dk_172 (dk_at dksX7_kinds_0 9 rfl rfl)
theorem dX7_kinds_10 : decode cX7_kinds 10 = .ok (.aload_n 0, 1) := dk_42 (dk_at dksX7_kinds_0 10 rfl rfl)
theorem dX7_kinds_11 : decode cX7_kinds 11 = .ok (.getfield 7, 3) := dk_180 0 7 (dk_at dksX7_kinds_0 11 rfl rfl)
theorem dX7_kinds_14 : decode cX7_kinds 14 = .ok (.iload_n 1, 1) := dk_27 (dk_at dksX7_kinds_0 14 rfl rfl)
theorem dX7_kinds_15 : decode cX7_kinds 15 = .ok (.iaload, 1) := dk_46 (dk_at dksX7_kinds_0 15 rfl rfl)
theorem dX7_kinds_16 : decode cX7_kinds 16 = .ok (.istore_n 2, 1) := dk_61 (dk_at dksX7_kinds_0 16 rfl rfl)
theorem dX7_kinds_17 : decode cX7_kinds 17 = .ok (.iconst 0, 1) := dk_3 (dk_at dksX7_kinds_0 17 rfl rfl)
theorem dX7_kinds_18 : decode cX7_kinds 18 = .ok (.istore_n 3, 1) := dk_62 (dk_at dksX7_kinds_0 18 rfl rfl)
theorem dX7_kinds_19 : decode cX7_kinds 19 = .ok (.iconst 0, 1) := dk_3 (dk_at dksX7_kinds_0 19 rfl rfl)
theorem dX7_kinds_20 : decode cX7_kinds 20 = .ok (.istore 4, 2) := dk_54 4 (dk_at dksX7_kinds_0 20 rfl rfl)
theorem dX7_kinds_22 : decode cX7_kinds 22 = .ok (.iload 4, 2) := dk_21 4 (dk_at dksX7_kinds_0 22 rfl rfl)
theorem dX7_kinds_24 : decode cX7_kinds 24 = .ok (.iconst 4, 1) := dk_7 (dk_at dksX7_kinds_1 0 rfl rfl)
theorem dX7_kinds_25 : decode cX7_kinds 25 = .ok (.if_icmp .ge 35, 3) := dk_162 0 35 (dk_at dksX7_kinds_1 1 rfl rfl)
theorem dX7_kinds_28 : decode cX7_kinds 28 = .ok (.aload_n 0, 1) := dk_42 (dk_at dksX7_kinds_1 4 rfl rfl)
theorem dX7_kinds_29 : decode cX7_kinds 29 = .ok (.getfield 7, 3) := dk_180 0 7 (dk_at dksX7_kinds_1 5 rfl rfl)
theorem dX7_kinds_32 : decode cX7_kinds 32 = .ok (.iload_n 1, 1) := dk_27 (dk_at dksX7_kinds_1 8 rfl rfl)
theorem dX7_kinds_33 : decode cX7_kinds 33 = .ok (.iload 4, 2) := dk_21 4 (dk_at dksX7_kinds_1 9 rfl rfl)
theorem dX7_kinds_35 : decode cX7_kinds 35 = .ok (.iastore, 1) := dk_79 (dk_at dksX7_kinds_1 11 rfl rfl)
theorem dX7_kinds_36 : decode cX7_kinds 36 = .ok (.iload_n 3, 1) := dk_29 (dk_at dksX7_kinds_1 12 rfl rfl)
theorem dX7_kinds_37 : decode cX7_kinds 37 = .ok (.aload_n 0, 1) := dk_42 (dk_at dksX7_kinds_1 13 rfl rfl)
theorem dX7_kinds_38 : decode cX7_kinds 38 = .ok (.invokevirtual 247, 3) := dk_182 0 247 (dk_at dksX7_kinds_1 14 rfl rfl)
theorem dX7_kinds_41 : decode cX7_kinds 41 = .ok (.ifCond .eq 10, 3) := dk_153 0 10 (dk_at dksX7_kinds_1 17 rfl rfl)
theorem dX7_kinds_44 : decode cX7_kinds 44 = .ok (.iconst 1, 1) := dk_4 (dk_at dksX7_kinds_1 20 rfl rfl)
theorem dX7_kinds_45 : decode cX7_kinds 45 = .ok (.iload 4, 2) := dk_21 4 (dk_at dksX7_kinds_1 21 rfl rfl)
theorem dX7_kinds_47 : decode cX7_kinds 47 = .ok (.ishl, 1) := dk_120 (dk_at dksX7_kinds_1 23 rfl rfl)
theorem dX7_kinds_48 : decode cX7_kinds 48 = .ok (.goto 4, 3) := dk_167 0 4 (dk_at dksX7_kinds_2 0 rfl rfl)
theorem dX7_kinds_51 : decode cX7_kinds 51 = .ok (.iconst 0, 1) := dk_3 (dk_at dksX7_kinds_2 3 rfl rfl)
theorem dX7_kinds_52 : decode cX7_kinds 52 = .ok (.ior, 1) := dk_128 (dk_at dksX7_kinds_2 4 rfl rfl)
theorem dX7_kinds_53 : decode cX7_kinds 53 = .ok (.istore_n 3, 1) := dk_62 (dk_at dksX7_kinds_2 5 rfl rfl)
theorem dX7_kinds_54 : decode cX7_kinds 54 = .ok (.iinc 4 1, 3) := dk_132 4 1 (dk_at dksX7_kinds_2 6 rfl rfl)
theorem dX7_kinds_57 : decode cX7_kinds 57 = .ok (.goto (-35), 3) := dk_167 255 221 (dk_at dksX7_kinds_2 9 rfl rfl)
theorem dX7_kinds_60 : decode cX7_kinds 60 = .ok (.aload_n 0, 1) := dk_42 (dk_at dksX7_kinds_2 12 rfl rfl)
theorem dX7_kinds_61 : decode cX7_kinds 61 = .ok (.getfield 7, 3) := dk_180 0 7 (dk_at dksX7_kinds_2 13 rfl rfl)
theorem dX7_kinds_64 : decode cX7_kinds 64 = .ok (.iload_n 1, 1) := dk_27 (dk_at dksX7_kinds_2 16 rfl rfl)
theorem dX7_kinds_65 : decode cX7_kinds 65 = .ok (.iload_n 2, 1) := dk_28 (dk_at dksX7_kinds_2 17 rfl rfl)
theorem dX7_kinds_66 : decode cX7_kinds 66 = .ok (.iastore, 1) := dk_79 (dk_at dksX7_kinds_2 18 rfl rfl)
theorem dX7_kinds_67 : decode cX7_kinds 67 = .ok (.iload_n 3, 1) := dk_29 (dk_at dksX7_kinds_2 19 rfl rfl)
theorem dX7_kinds_68 : decode cX7_kinds 68 = .ok (.ireturn, 1) := dk_172 (dk_at dksX7_kinds_2 20 rfl rfl)
abbrev cX7_isAsSeen : ByteArray := prog_11_method_67_code
def yX7_isAsSeen : MethodName := ⟨RX7, "isAsSeen", "()Z"⟩
def dkwX7_isAsSeen_2 : List UInt8 := [4, 96, 46, 160, 0, 7, 4, 167, 0, 4, 3, 60, 132, 2, 1, 167, 255, 204, 27, 172]
abbrev dktX7_isAsSeen_2 : List UInt8 := dkwX7_isAsSeen_2 ++ []
def dkwX7_isAsSeen_1 : List UInt8 := [180, 0, 7, 16, 127, 46, 42, 180, 0, 28, 5, 28, 104, 46, 122, 4, 126, 42, 180, 0, 28, 5, 28, 104]
abbrev dktX7_isAsSeen_1 : List UInt8 := dkwX7_isAsSeen_1 ++ dktX7_isAsSeen_2
def dkwX7_isAsSeen_0 : List UInt8 := [42, 3, 3, 182, 0, 214, 4, 60, 3, 61, 28, 42, 180, 0, 128, 162, 0, 50, 27, 153, 0, 38, 42]
abbrev dktX7_isAsSeen_0 : List UInt8 := dkwX7_isAsSeen_0 ++ dktX7_isAsSeen_1
theorem dksX7_isAsSeen_0 : cX7_isAsSeen.data.toList.drop 0 = dktX7_isAsSeen_0 := by decide +kernel
theorem dksX7_isAsSeen_1 : cX7_isAsSeen.data.toList.drop 23 = dktX7_isAsSeen_1 := dk_seg dksX7_isAsSeen_0 23 rfl rfl
theorem dksX7_isAsSeen_2 : cX7_isAsSeen.data.toList.drop 47 = dktX7_isAsSeen_2 := dk_seg dksX7_isAsSeen_1 24 rfl rfl
theorem dX7_isAsSeen_0 : decode cX7_isAsSeen 0 = .ok (.aload_n 0, 1) := dk_42 (dk_at dksX7_isAsSeen_0 0 rfl rfl)
theorem dX7_isAsSeen_1 : decode cX7_isAsSeen 1 = .ok (.iconst 0, 1) := dk_3 (dk_at dksX7_isAsSeen_0 1 rfl rfl)
theorem dX7_isAsSeen_2 : decode cX7_isAsSeen 2 = .ok (.iconst 0, 1) := dk_3 (dk_at dksX7_isAsSeen_0 2 rfl rfl)
theorem dX7_isAsSeen_3 : decode cX7_isAsSeen 3 = .ok (.invokevirtual 214, 3) := dk_182 0 214 (dk_at dksX7_isAsSeen_0 3 rfl rfl)
theorem dX7_isAsSeen_6 : decode cX7_isAsSeen 6 = .ok (.iconst 1, 1) := dk_4 (dk_at dksX7_isAsSeen_0 6 rfl rfl)
theorem dX7_isAsSeen_7 : decode cX7_isAsSeen 7 = .ok (.istore_n 1, 1) := dk_60 (dk_at dksX7_isAsSeen_0 7 rfl rfl)
theorem dX7_isAsSeen_8 : decode cX7_isAsSeen 8 = .ok (.iconst 0, 1) := dk_3 (dk_at dksX7_isAsSeen_0 8 rfl rfl)
theorem dX7_isAsSeen_9 : decode cX7_isAsSeen 9 = .ok (.istore_n 2, 1) := dk_61 (dk_at dksX7_isAsSeen_0 9 rfl rfl)
theorem dX7_isAsSeen_10 : decode cX7_isAsSeen 10 = .ok (.iload_n 2, 1) := dk_28 (dk_at dksX7_isAsSeen_0 10 rfl rfl)
theorem dX7_isAsSeen_11 : decode cX7_isAsSeen 11 = .ok (.aload_n 0, 1) := dk_42 (dk_at dksX7_isAsSeen_0 11 rfl rfl)
theorem dX7_isAsSeen_12 : decode cX7_isAsSeen 12 = .ok (.getfield 128, 3) := dk_180 0 128 (dk_at dksX7_isAsSeen_0 12 rfl rfl)
theorem dX7_isAsSeen_15 : decode cX7_isAsSeen 15 = .ok (.if_icmp .ge 50, 3) := dk_162 0 50 (dk_at dksX7_isAsSeen_0 15 rfl rfl)
theorem dX7_isAsSeen_18 : decode cX7_isAsSeen 18 = .ok (.iload_n 1, 1) := dk_27 (dk_at dksX7_isAsSeen_0 18 rfl rfl)
theorem dX7_isAsSeen_19 : decode cX7_isAsSeen 19 = .ok (.ifCond .eq 38, 3) := dk_153 0 38 (dk_at dksX7_isAsSeen_0 19 rfl rfl)
theorem dX7_isAsSeen_22 : decode cX7_isAsSeen 22 = .ok (.aload_n 0, 1) := dk_42 (dk_at dksX7_isAsSeen_0 22 rfl rfl)
theorem dX7_isAsSeen_23 : decode cX7_isAsSeen 23 = .ok (.getfield 7, 3) := dk_180 0 7 (dk_at dksX7_isAsSeen_1 0 rfl rfl)
theorem dX7_isAsSeen_26 : decode cX7_isAsSeen 26 = .ok (.bipush 127, 2) := dk_16 127 (dk_at dksX7_isAsSeen_1 3 rfl rfl)
theorem dX7_isAsSeen_28 : decode cX7_isAsSeen 28 = .ok (.iaload, 1) := dk_46 (dk_at dksX7_isAsSeen_1 5 rfl rfl)
theorem dX7_isAsSeen_29 : decode cX7_isAsSeen 29 = .ok (.aload_n 0, 1) := dk_42 (dk_at dksX7_isAsSeen_1 6 rfl rfl)
theorem dX7_isAsSeen_30 : decode cX7_isAsSeen 30 = .ok (.getfield 28, 3) := dk_180 0 28 (dk_at dksX7_isAsSeen_1 7 rfl rfl)
theorem dX7_isAsSeen_33 : decode cX7_isAsSeen 33 = .ok (.iconst 2, 1) := dk_5 (dk_at dksX7_isAsSeen_1 10 rfl rfl)
theorem dX7_isAsSeen_34 : decode cX7_isAsSeen 34 = .ok (.iload_n 2, 1) := dk_28 (dk_at dksX7_isAsSeen_1 11 rfl rfl)
theorem dX7_isAsSeen_35 : decode cX7_isAsSeen 35 = .ok (.imul, 1) := dk_104 (dk_at dksX7_isAsSeen_1 12 rfl rfl)
theorem dX7_isAsSeen_36 : decode cX7_isAsSeen 36 = .ok (.iaload, 1) := dk_46 (dk_at dksX7_isAsSeen_1 13 rfl rfl)
theorem dX7_isAsSeen_37 : decode cX7_isAsSeen 37 = .ok (.ishr, 1) := dk_122 (dk_at dksX7_isAsSeen_1 14 rfl rfl)
theorem dX7_isAsSeen_38 : decode cX7_isAsSeen 38 = .ok (.iconst 1, 1) := dk_4 (dk_at dksX7_isAsSeen_1 15 rfl rfl)
theorem dX7_isAsSeen_39 : decode cX7_isAsSeen 39 = .ok (.iand, 1) := dk_126 (dk_at dksX7_isAsSeen_1 16 rfl rfl)
theorem dX7_isAsSeen_40 : decode cX7_isAsSeen 40 = .ok (.aload_n 0, 1) := dk_42 (dk_at dksX7_isAsSeen_1 17 rfl rfl)
theorem dX7_isAsSeen_41 : decode cX7_isAsSeen 41 = .ok (.getfield 28, 3) := dk_180 0 28 (dk_at dksX7_isAsSeen_1 18 rfl rfl)
theorem dX7_isAsSeen_44 : decode cX7_isAsSeen 44 = .ok (.iconst 2, 1) := dk_5 (dk_at dksX7_isAsSeen_1 21 rfl rfl)
theorem dX7_isAsSeen_45 : decode cX7_isAsSeen 45 = .ok (.iload_n 2, 1) := dk_28 (dk_at dksX7_isAsSeen_1 22 rfl rfl)
theorem dX7_isAsSeen_46 : decode cX7_isAsSeen 46 = .ok (.imul, 1) := dk_104 (dk_at dksX7_isAsSeen_1 23 rfl rfl)
theorem dX7_isAsSeen_47 : decode cX7_isAsSeen 47 = .ok (.iconst 1, 1) := dk_4 (dk_at dksX7_isAsSeen_2 0 rfl rfl)
theorem dX7_isAsSeen_48 : decode cX7_isAsSeen 48 = .ok (.iadd, 1) := dk_96 (dk_at dksX7_isAsSeen_2 1 rfl rfl)
theorem dX7_isAsSeen_49 : decode cX7_isAsSeen 49 = .ok (.iaload, 1) := dk_46 (dk_at dksX7_isAsSeen_2 2 rfl rfl)
theorem dX7_isAsSeen_50 : decode cX7_isAsSeen 50 = .ok (.if_icmp .ne 7, 3) := dk_160 0 7 (dk_at dksX7_isAsSeen_2 3 rfl rfl)
theorem dX7_isAsSeen_53 : decode cX7_isAsSeen 53 = .ok (.iconst 1, 1) := dk_4 (dk_at dksX7_isAsSeen_2 6 rfl rfl)
theorem dX7_isAsSeen_54 : decode cX7_isAsSeen 54 = .ok (.goto 4, 3) := dk_167 0 4 (dk_at dksX7_isAsSeen_2 7 rfl rfl)
theorem dX7_isAsSeen_57 : decode cX7_isAsSeen 57 = .ok (.iconst 0, 1) := dk_3 (dk_at dksX7_isAsSeen_2 10 rfl rfl)
theorem dX7_isAsSeen_58 : decode cX7_isAsSeen 58 = .ok (.istore_n 1, 1) := dk_60 (dk_at dksX7_isAsSeen_2 11 rfl rfl)
theorem dX7_isAsSeen_59 : decode cX7_isAsSeen 59 = .ok (.iinc 2 1, 3) := dk_132 2 1 (dk_at dksX7_isAsSeen_2 12 rfl rfl)
theorem dX7_isAsSeen_62 : decode cX7_isAsSeen 62 = .ok (.goto (-52), 3) := dk_167 255 204 (dk_at dksX7_isAsSeen_2 15 rfl rfl)
theorem dX7_isAsSeen_65 : decode cX7_isAsSeen 65 = .ok (.iload_n 1, 1) := dk_27 (dk_at dksX7_isAsSeen_2 18 rfl rfl)
theorem dX7_isAsSeen_66 : decode cX7_isAsSeen 66 = .ok (.ireturn, 1) := dk_172 (dk_at dksX7_isAsSeen_2 19 rfl rfl)
abbrev cX7_sorrows : ByteArray := prog_11_method_70_code
def yX7_sorrows : MethodName := ⟨RX7, "sorrows", "(I)I"⟩
def dkwX7_sorrows_0 : List UInt8 := [42, 27, 182, 0, 158, 153, 0, 11, 42, 27, 182, 0, 251, 167, 0, 4, 2, 172]
abbrev dktX7_sorrows_0 : List UInt8 := dkwX7_sorrows_0 ++ []
theorem dksX7_sorrows_0 : cX7_sorrows.data.toList.drop 0 = dktX7_sorrows_0 := by decide +kernel
theorem dX7_sorrows_0 : decode cX7_sorrows 0 = .ok (.aload_n 0, 1) := dk_42 (dk_at dksX7_sorrows_0 0 rfl rfl)
theorem dX7_sorrows_1 : decode cX7_sorrows 1 = .ok (.iload_n 1, 1) := dk_27 (dk_at dksX7_sorrows_0 1 rfl rfl)
theorem dX7_sorrows_2 : decode cX7_sorrows 2 = .ok (.invokevirtual 158, 3) := dk_182 0 158 (dk_at dksX7_sorrows_0 2 rfl rfl)
theorem dX7_sorrows_5 : decode cX7_sorrows 5 = .ok (.ifCond .eq 11, 3) := dk_153 0 11 (dk_at dksX7_sorrows_0 5 rfl rfl)
theorem dX7_sorrows_8 : decode cX7_sorrows 8 = .ok (.aload_n 0, 1) := dk_42 (dk_at dksX7_sorrows_0 8 rfl rfl)
theorem dX7_sorrows_9 : decode cX7_sorrows 9 = .ok (.iload_n 1, 1) := dk_27 (dk_at dksX7_sorrows_0 9 rfl rfl)
theorem dX7_sorrows_10 : decode cX7_sorrows 10 = .ok (.invokevirtual 251, 3) := dk_182 0 251 (dk_at dksX7_sorrows_0 10 rfl rfl)
theorem dX7_sorrows_13 : decode cX7_sorrows 13 = .ok (.goto 4, 3) := dk_167 0 4 (dk_at dksX7_sorrows_0 13 rfl rfl)
theorem dX7_sorrows_16 : decode cX7_sorrows 16 = .ok (.iconst (-1), 1) := dk_2 (dk_at dksX7_sorrows_0 16 rfl rfl)
theorem dX7_sorrows_17 : decode cX7_sorrows 17 = .ok (.ireturn, 1) := dk_172 (dk_at dksX7_sorrows_0 17 rfl rfl)
abbrev cX7_sorrowsOf : ByteArray := prog_11_method_69_code
def yX7_sorrowsOf : MethodName := ⟨RX7, "sorrowsOf", "(I)I"⟩
def dkwX7_sorrowsOf_3 : List UInt8 := [180, 0, 7, 8, 27, 96, 28, 79, 29, 172]
abbrev dktX7_sorrowsOf_3 : List UInt8 := dkwX7_sorrowsOf_3 ++ []
def dkwX7_sorrowsOf_2 : List UInt8 := [3, 128, 62, 42, 180, 0, 31, 21, 4, 42, 180, 0, 7, 16, 127, 46, 79, 132, 4, 1, 167, 255, 204, 42]
abbrev dktX7_sorrowsOf_2 : List UInt8 := dkwX7_sorrowsOf_2 ++ dktX7_sorrowsOf_3
def dkwX7_sorrowsOf_1 : List UInt8 := [180, 0, 7, 8, 27, 96, 21, 4, 79, 29, 42, 182, 0, 247, 153, 0, 10, 4, 21, 4, 120, 167, 0, 4]
abbrev dktX7_sorrowsOf_1 : List UInt8 := dkwX7_sorrowsOf_1 ++ dktX7_sorrowsOf_2
def dkwX7_sorrowsOf_0 : List UInt8 := [42, 180, 0, 7, 8, 27, 96, 46, 61, 3, 62, 3, 54, 4, 21, 4, 16, 20, 163, 0, 51, 42]
abbrev dktX7_sorrowsOf_0 : List UInt8 := dkwX7_sorrowsOf_0 ++ dktX7_sorrowsOf_1
theorem dksX7_sorrowsOf_0 : cX7_sorrowsOf.data.toList.drop 0 = dktX7_sorrowsOf_0 := by decide +kernel
theorem dksX7_sorrowsOf_1 : cX7_sorrowsOf.data.toList.drop 22 = dktX7_sorrowsOf_1 := dk_seg dksX7_sorrowsOf_0 22 rfl rfl
theorem dksX7_sorrowsOf_2 : cX7_sorrowsOf.data.toList.drop 46 = dktX7_sorrowsOf_2 := dk_seg dksX7_sorrowsOf_1 24 rfl rfl
theorem dksX7_sorrowsOf_3 : cX7_sorrowsOf.data.toList.drop 70 = dktX7_sorrowsOf_3 := dk_seg dksX7_sorrowsOf_2 24 rfl rfl
theorem dX7_sorrowsOf_0 : decode cX7_sorrowsOf 0 = .ok (.aload_n 0, 1) := dk_42 (dk_at dksX7_sorrowsOf_0 0 rfl rfl)
theorem dX7_sorrowsOf_1 : decode cX7_sorrowsOf 1 = .ok (.getfield 7, 3) := dk_180 0 7 (dk_at dksX7_sorrowsOf_0 1 rfl rfl)
theorem dX7_sorrowsOf_4 : decode cX7_sorrowsOf 4 = .ok (.iconst 5, 1) := dk_8 (dk_at dksX7_sorrowsOf_0 4 rfl rfl)
theorem dX7_sorrowsOf_5 : decode cX7_sorrowsOf 5 = .ok (.iload_n 1, 1) := dk_27 (dk_at dksX7_sorrowsOf_0 5 rfl rfl)
theorem dX7_sorrowsOf_6 : decode cX7_sorrowsOf 6 = .ok (.iadd, 1) := dk_96 (dk_at dksX7_sorrowsOf_0 6 rfl rfl)
theorem dX7_sorrowsOf_7 : decode cX7_sorrowsOf 7 = .ok (.iaload, 1) := dk_46 (dk_at dksX7_sorrowsOf_0 7 rfl rfl)
theorem dX7_sorrowsOf_8 : decode cX7_sorrowsOf 8 = .ok (.istore_n 2, 1) := dk_61 (dk_at dksX7_sorrowsOf_0 8 rfl rfl)
theorem dX7_sorrowsOf_9 : decode cX7_sorrowsOf 9 = .ok (.iconst 0, 1) := dk_3 (dk_at dksX7_sorrowsOf_0 9 rfl rfl)
theorem dX7_sorrowsOf_10 : decode cX7_sorrowsOf 10 = .ok (.istore_n 3, 1) := dk_62 (dk_at dksX7_sorrowsOf_0 10 rfl rfl)
theorem dX7_sorrowsOf_11 : decode cX7_sorrowsOf 11 = .ok (.iconst 0, 1) := dk_3 (dk_at dksX7_sorrowsOf_0 11 rfl rfl)
theorem dX7_sorrowsOf_12 : decode cX7_sorrowsOf 12 = .ok (.istore 4, 2) := dk_54 4 (dk_at dksX7_sorrowsOf_0 12 rfl rfl)
theorem dX7_sorrowsOf_14 : decode cX7_sorrowsOf 14 = .ok (.iload 4, 2) := dk_21 4 (dk_at dksX7_sorrowsOf_0 14 rfl rfl)
theorem dX7_sorrowsOf_16 : decode cX7_sorrowsOf 16 = .ok (.bipush 20, 2) := dk_16 20 (dk_at dksX7_sorrowsOf_0 16 rfl rfl)
theorem dX7_sorrowsOf_18 : decode cX7_sorrowsOf 18 = .ok (.if_icmp .gt 51, 3) := dk_163 0 51 (dk_at dksX7_sorrowsOf_0 18 rfl rfl)
theorem dX7_sorrowsOf_21 : decode cX7_sorrowsOf 21 = .ok (.aload_n 0, 1) := dk_42 (dk_at dksX7_sorrowsOf_0 21 rfl rfl)
theorem dX7_sorrowsOf_22 : decode cX7_sorrowsOf 22 = .ok (.getfield 7, 3) := dk_180 0 7 (dk_at dksX7_sorrowsOf_1 0 rfl rfl)
theorem dX7_sorrowsOf_25 : decode cX7_sorrowsOf 25 = .ok (.iconst 5, 1) := dk_8 (dk_at dksX7_sorrowsOf_1 3 rfl rfl)
theorem dX7_sorrowsOf_26 : decode cX7_sorrowsOf 26 = .ok (.iload_n 1, 1) := dk_27 (dk_at dksX7_sorrowsOf_1 4 rfl rfl)
theorem dX7_sorrowsOf_27 : decode cX7_sorrowsOf 27 = .ok (.iadd, 1) := dk_96 (dk_at dksX7_sorrowsOf_1 5 rfl rfl)
theorem dX7_sorrowsOf_28 : decode cX7_sorrowsOf 28 = .ok (.iload 4, 2) := dk_21 4 (dk_at dksX7_sorrowsOf_1 6 rfl rfl)
theorem dX7_sorrowsOf_30 : decode cX7_sorrowsOf 30 = .ok (.iastore, 1) := dk_79 (dk_at dksX7_sorrowsOf_1 8 rfl rfl)
theorem dX7_sorrowsOf_31 : decode cX7_sorrowsOf 31 = .ok (.iload_n 3, 1) := dk_29 (dk_at dksX7_sorrowsOf_1 9 rfl rfl)
theorem dX7_sorrowsOf_32 : decode cX7_sorrowsOf 32 = .ok (.aload_n 0, 1) := dk_42 (dk_at dksX7_sorrowsOf_1 10 rfl rfl)
theorem dX7_sorrowsOf_33 : decode cX7_sorrowsOf 33 = .ok (.invokevirtual 247, 3) := dk_182 0 247 (dk_at dksX7_sorrowsOf_1 11 rfl rfl)
theorem dX7_sorrowsOf_36 : decode cX7_sorrowsOf 36 = .ok (.ifCond .eq 10, 3) := dk_153 0 10 (dk_at dksX7_sorrowsOf_1 14 rfl rfl)
theorem dX7_sorrowsOf_39 : decode cX7_sorrowsOf 39 = .ok (.iconst 1, 1) := dk_4 (dk_at dksX7_sorrowsOf_1 17 rfl rfl)
theorem dX7_sorrowsOf_40 : decode cX7_sorrowsOf 40 = .ok (.iload 4, 2) := dk_21 4 (dk_at dksX7_sorrowsOf_1 18 rfl rfl)
theorem dX7_sorrowsOf_42 : decode cX7_sorrowsOf 42 = .ok (.ishl, 1) := dk_120 (dk_at dksX7_sorrowsOf_1 20 rfl rfl)
theorem dX7_sorrowsOf_43 : decode cX7_sorrowsOf 43 = .ok (.goto 4, 3) := dk_167 0 4 (dk_at dksX7_sorrowsOf_1 21 rfl rfl)
theorem dX7_sorrowsOf_46 : decode cX7_sorrowsOf 46 = .ok (.iconst 0, 1) := dk_3 (dk_at dksX7_sorrowsOf_2 0 rfl rfl)
theorem dX7_sorrowsOf_47 : decode cX7_sorrowsOf 47 = .ok (.ior, 1) := dk_128 (dk_at dksX7_sorrowsOf_2 1 rfl rfl)
theorem dX7_sorrowsOf_48 : decode cX7_sorrowsOf 48 = .ok (.istore_n 3, 1) := dk_62 (dk_at dksX7_sorrowsOf_2 2 rfl rfl)
theorem dX7_sorrowsOf_49 : decode cX7_sorrowsOf 49 = .ok (.aload_n 0, 1) := dk_42 (dk_at dksX7_sorrowsOf_2 3 rfl rfl)
theorem dX7_sorrowsOf_50 : decode cX7_sorrowsOf 50 = .ok (.getfield 31, 3) := dk_180 0 31 (dk_at dksX7_sorrowsOf_2 4 rfl rfl)
theorem dX7_sorrowsOf_53 : decode cX7_sorrowsOf 53 = .ok (.iload 4, 2) := dk_21 4 (dk_at dksX7_sorrowsOf_2 7 rfl rfl)
theorem dX7_sorrowsOf_55 : decode cX7_sorrowsOf 55 = .ok (.aload_n 0, 1) := dk_42 (dk_at dksX7_sorrowsOf_2 9 rfl rfl)
theorem dX7_sorrowsOf_56 : decode cX7_sorrowsOf 56 = .ok (.getfield 7, 3) := dk_180 0 7 (dk_at dksX7_sorrowsOf_2 10 rfl rfl)
theorem dX7_sorrowsOf_59 : decode cX7_sorrowsOf 59 = .ok (.bipush 127, 2) := dk_16 127 (dk_at dksX7_sorrowsOf_2 13 rfl rfl)
theorem dX7_sorrowsOf_61 : decode cX7_sorrowsOf 61 = .ok (.iaload, 1) := dk_46 (dk_at dksX7_sorrowsOf_2 15 rfl rfl)
theorem dX7_sorrowsOf_62 : decode cX7_sorrowsOf 62 = .ok (.iastore, 1) := dk_79 (dk_at dksX7_sorrowsOf_2 16 rfl rfl)
theorem dX7_sorrowsOf_63 : decode cX7_sorrowsOf 63 = .ok (.iinc 4 1, 3) := dk_132 4 1 (dk_at dksX7_sorrowsOf_2 17 rfl rfl)
theorem dX7_sorrowsOf_66 : decode cX7_sorrowsOf 66 = .ok (.goto (-52), 3) := dk_167 255 204 (dk_at dksX7_sorrowsOf_2 20 rfl rfl)
theorem dX7_sorrowsOf_69 : decode cX7_sorrowsOf 69 = .ok (.aload_n 0, 1) := dk_42 (dk_at dksX7_sorrowsOf_2 23 rfl rfl)
theorem dX7_sorrowsOf_70 : decode cX7_sorrowsOf 70 = .ok (.getfield 7, 3) := dk_180 0 7 (dk_at dksX7_sorrowsOf_3 0 rfl rfl)
theorem dX7_sorrowsOf_73 : decode cX7_sorrowsOf 73 = .ok (.iconst 5, 1) := dk_8 (dk_at dksX7_sorrowsOf_3 3 rfl rfl)
theorem dX7_sorrowsOf_74 : decode cX7_sorrowsOf 74 = .ok (.iload_n 1, 1) := dk_27 (dk_at dksX7_sorrowsOf_3 4 rfl rfl)
theorem dX7_sorrowsOf_75 : decode cX7_sorrowsOf 75 = .ok (.iadd, 1) := dk_96 (dk_at dksX7_sorrowsOf_3 5 rfl rfl)
theorem dX7_sorrowsOf_76 : decode cX7_sorrowsOf 76 = .ok (.iload_n 2, 1) := dk_28 (dk_at dksX7_sorrowsOf_3 6 rfl rfl)
theorem dX7_sorrowsOf_77 : decode cX7_sorrowsOf 77 = .ok (.iastore, 1) := dk_79 (dk_at dksX7_sorrowsOf_3 7 rfl rfl)
theorem dX7_sorrowsOf_78 : decode cX7_sorrowsOf 78 = .ok (.iload_n 3, 1) := dk_29 (dk_at dksX7_sorrowsOf_3 8 rfl rfl)
theorem dX7_sorrowsOf_79 : decode cX7_sorrowsOf 79 = .ok (.ireturn, 1) := dk_172 (dk_at dksX7_sorrowsOf_3 9 rfl rfl)
abbrev cX7_ask : ByteArray := prog_11_method_71_code
def yX7_ask : MethodName := ⟨RX7, "ask", "(II)I"⟩
def dkwX7_ask_7 : List UInt8 := [16, 252, 159, 0, 7, 28, 154, 0, 8, 21, 6, 167, 0, 5, 21, 5, 172]
abbrev dktX7_ask_7 : List UInt8 := dkwX7_ask_7 ++ []
def dkwX7_ask_6 : List UInt8 := [21, 9, 21, 5, 162, 0, 8, 21, 9, 167, 0, 5, 21, 5, 54, 5, 132, 7, 1, 167, 255, 140, 21, 6]
abbrev dktX7_ask_6 : List UInt8 := dkwX7_ask_6 ++ dktX7_ask_7
def dkwX7_ask_5 : List UInt8 := [21, 4, 21, 8, 100, 54, 9, 21, 9, 21, 5, 162, 0, 8, 21, 7, 167, 0, 5, 21, 6, 54, 6]
abbrev dktX7_ask_5 : List UInt8 := dkwX7_ask_5 ++ dktX7_ask_6
def dkwX7_ask_4 : List UInt8 := [54, 8, 132, 9, 1, 167, 255, 215, 21, 8, 21, 4, 21, 8, 100, 164, 0, 8, 21, 8, 167, 0, 8]
abbrev dktX7_ask_4 : List UInt8 := dkwX7_ask_4 ++ dktX7_ask_5
def dkwX7_ask_3 : List UInt8 := [122, 4, 126, 4, 160, 0, 18, 42, 180, 0, 31, 21, 9, 46, 21, 7, 122, 4, 126, 167, 0, 4, 3, 96]
abbrev dktX7_ask_3 : List UInt8 := dkwX7_ask_3 ++ dktX7_ask_4
def dkwX7_ask_2 : List UInt8 := [180, 0, 125, 162, 0, 113, 3, 54, 8, 3, 54, 9, 21, 9, 16, 20, 163, 0, 40, 21, 8, 29, 21, 9]
abbrev dktX7_ask_2 : List UInt8 := dkwX7_ask_2 ++ dktX7_ask_3
def dkwX7_ask_1 : List UInt8 := [182, 0, 251, 62, 29, 184, 0, 193, 54, 4, 21, 4, 54, 5, 16, 252, 54, 6, 3, 54, 7, 21, 7, 42]
abbrev dktX7_ask_1 : List UInt8 := dkwX7_ask_1 ++ dktX7_ask_2
def dkwX7_ask_0 : List UInt8 := [42, 27, 182, 0, 158, 153, 0, 13, 28, 133, 9, 10, 184, 0, 49, 154, 0, 5, 2, 172, 42, 27]
abbrev dktX7_ask_0 : List UInt8 := dkwX7_ask_0 ++ dktX7_ask_1
theorem dksX7_ask_0 : cX7_ask.data.toList.drop 0 = dktX7_ask_0 := by decide +kernel
theorem dksX7_ask_1 : cX7_ask.data.toList.drop 22 = dktX7_ask_1 := dk_seg dksX7_ask_0 22 rfl rfl
theorem dksX7_ask_2 : cX7_ask.data.toList.drop 46 = dktX7_ask_2 := dk_seg dksX7_ask_1 24 rfl rfl
theorem dksX7_ask_3 : cX7_ask.data.toList.drop 70 = dktX7_ask_3 := dk_seg dksX7_ask_2 24 rfl rfl
theorem dksX7_ask_4 : cX7_ask.data.toList.drop 94 = dktX7_ask_4 := dk_seg dksX7_ask_3 24 rfl rfl
theorem dksX7_ask_5 : cX7_ask.data.toList.drop 117 = dktX7_ask_5 := dk_seg dksX7_ask_4 23 rfl rfl
theorem dksX7_ask_6 : cX7_ask.data.toList.drop 140 = dktX7_ask_6 := dk_seg dksX7_ask_5 23 rfl rfl
theorem dksX7_ask_7 : cX7_ask.data.toList.drop 164 = dktX7_ask_7 := dk_seg dksX7_ask_6 24 rfl rfl
theorem dX7_ask_0 : decode cX7_ask 0 = .ok (.aload_n 0, 1) := dk_42 (dk_at dksX7_ask_0 0 rfl rfl)
theorem dX7_ask_1 : decode cX7_ask 1 = .ok (.iload_n 1, 1) := dk_27 (dk_at dksX7_ask_0 1 rfl rfl)
theorem dX7_ask_2 : decode cX7_ask 2 = .ok (.invokevirtual 158, 3) := dk_182 0 158 (dk_at dksX7_ask_0 2 rfl rfl)
theorem dX7_ask_5 : decode cX7_ask 5 = .ok (.ifCond .eq 13, 3) := dk_153 0 13 (dk_at dksX7_ask_0 5 rfl rfl)
theorem dX7_ask_8 : decode cX7_ask 8 = .ok (.iload_n 2, 1) := dk_28 (dk_at dksX7_ask_0 8 rfl rfl)
theorem dX7_ask_9 : decode cX7_ask 9 = .ok (.i2l, 1) := dk_133 (dk_at dksX7_ask_0 9 rfl rfl)
theorem dX7_ask_10 : decode cX7_ask 10 = .ok (.lconst 0, 1) := dk_9 (dk_at dksX7_ask_0 10 rfl rfl)
theorem dX7_ask_11 : decode cX7_ask 11 = .ok (.lconst 1, 1) := dk_10 (dk_at dksX7_ask_0 11 rfl rfl)
theorem dX7_ask_12 : decode cX7_ask 12 = .ok (.invokestatic 49, 3) := dk_184 0 49 (dk_at dksX7_ask_0 12 rfl rfl)
theorem dX7_ask_15 : decode cX7_ask 15 = .ok (.ifCond .ne 5, 3) := dk_154 0 5 (dk_at dksX7_ask_0 15 rfl rfl)
theorem dX7_ask_18 : decode cX7_ask 18 = .ok (.iconst (-1), 1) := dk_2 (dk_at dksX7_ask_0 18 rfl rfl)
theorem dX7_ask_19 : decode cX7_ask 19 = .ok (.ireturn, 1) := dk_172 (dk_at dksX7_ask_0 19 rfl rfl)
theorem dX7_ask_20 : decode cX7_ask 20 = .ok (.aload_n 0, 1) := dk_42 (dk_at dksX7_ask_0 20 rfl rfl)
theorem dX7_ask_21 : decode cX7_ask 21 = .ok (.iload_n 1, 1) := dk_27 (dk_at dksX7_ask_0 21 rfl rfl)
theorem dX7_ask_22 : decode cX7_ask 22 = .ok (.invokevirtual 251, 3) := dk_182 0 251 (dk_at dksX7_ask_1 0 rfl rfl)
theorem dX7_ask_25 : decode cX7_ask 25 = .ok (.istore_n 3, 1) := dk_62 (dk_at dksX7_ask_1 3 rfl rfl)
theorem dX7_ask_26 : decode cX7_ask 26 = .ok (.iload_n 3, 1) := dk_29 (dk_at dksX7_ask_1 4 rfl rfl)
theorem dX7_ask_27 : decode cX7_ask 27 = .ok (.invokestatic 193, 3) := dk_184 0 193 (dk_at dksX7_ask_1 5 rfl rfl)
theorem dX7_ask_30 : decode cX7_ask 30 = .ok (.istore 4, 2) := dk_54 4 (dk_at dksX7_ask_1 8 rfl rfl)
theorem dX7_ask_32 : decode cX7_ask 32 = .ok (.iload 4, 2) := dk_21 4 (dk_at dksX7_ask_1 10 rfl rfl)
theorem dX7_ask_34 : decode cX7_ask 34 = .ok (.istore 5, 2) := dk_54 5 (dk_at dksX7_ask_1 12 rfl rfl)
theorem dX7_ask_36 : decode cX7_ask 36 = .ok (.bipush (-4), 2) := dk_16 252 (dk_at dksX7_ask_1 14 rfl rfl)
theorem dX7_ask_38 : decode cX7_ask 38 = .ok (.istore 6, 2) := dk_54 6 (dk_at dksX7_ask_1 16 rfl rfl)
theorem dX7_ask_40 : decode cX7_ask 40 = .ok (.iconst 0, 1) := dk_3 (dk_at dksX7_ask_1 18 rfl rfl)
theorem dX7_ask_41 : decode cX7_ask 41 = .ok (.istore 7, 2) := dk_54 7 (dk_at dksX7_ask_1 19 rfl rfl)
theorem dX7_ask_43 : decode cX7_ask 43 = .ok (.iload 7, 2) := dk_21 7 (dk_at dksX7_ask_1 21 rfl rfl)
theorem dX7_ask_45 : decode cX7_ask 45 = .ok (.aload_n 0, 1) := dk_42 (dk_at dksX7_ask_1 23 rfl rfl)
theorem dX7_ask_46 : decode cX7_ask 46 = .ok (.getfield 125, 3) := dk_180 0 125 (dk_at dksX7_ask_2 0 rfl rfl)
theorem dX7_ask_49 : decode cX7_ask 49 = .ok (.if_icmp .ge 113, 3) := dk_162 0 113 (dk_at dksX7_ask_2 3 rfl rfl)
theorem dX7_ask_52 : decode cX7_ask 52 = .ok (.iconst 0, 1) := dk_3 (dk_at dksX7_ask_2 6 rfl rfl)
theorem dX7_ask_53 : decode cX7_ask 53 = .ok (.istore 8, 2) := dk_54 8 (dk_at dksX7_ask_2 7 rfl rfl)
theorem dX7_ask_55 : decode cX7_ask 55 = .ok (.iconst 0, 1) := dk_3 (dk_at dksX7_ask_2 9 rfl rfl)
theorem dX7_ask_56 : decode cX7_ask 56 = .ok (.istore 9, 2) := dk_54 9 (dk_at dksX7_ask_2 10 rfl rfl)
theorem dX7_ask_58 : decode cX7_ask 58 = .ok (.iload 9, 2) := dk_21 9 (dk_at dksX7_ask_2 12 rfl rfl)
theorem dX7_ask_60 : decode cX7_ask 60 = .ok (.bipush 20, 2) := dk_16 20 (dk_at dksX7_ask_2 14 rfl rfl)
theorem dX7_ask_62 : decode cX7_ask 62 = .ok (.if_icmp .gt 40, 3) := dk_163 0 40 (dk_at dksX7_ask_2 16 rfl rfl)
theorem dX7_ask_65 : decode cX7_ask 65 = .ok (.iload 8, 2) := dk_21 8 (dk_at dksX7_ask_2 19 rfl rfl)
theorem dX7_ask_67 : decode cX7_ask 67 = .ok (.iload_n 3, 1) := dk_29 (dk_at dksX7_ask_2 21 rfl rfl)
theorem dX7_ask_68 : decode cX7_ask 68 = .ok (.iload 9, 2) := dk_21 9 (dk_at dksX7_ask_2 22 rfl rfl)
theorem dX7_ask_70 : decode cX7_ask 70 = .ok (.ishr, 1) := dk_122 (dk_at dksX7_ask_3 0 rfl rfl)
theorem dX7_ask_71 : decode cX7_ask 71 = .ok (.iconst 1, 1) := dk_4 (dk_at dksX7_ask_3 1 rfl rfl)
theorem dX7_ask_72 : decode cX7_ask 72 = .ok (.iand, 1) := dk_126 (dk_at dksX7_ask_3 2 rfl rfl)
theorem dX7_ask_73 : decode cX7_ask 73 = .ok (.iconst 1, 1) := dk_4 (dk_at dksX7_ask_3 3 rfl rfl)
theorem dX7_ask_74 : decode cX7_ask 74 = .ok (.if_icmp .ne 18, 3) := dk_160 0 18 (dk_at dksX7_ask_3 4 rfl rfl)
theorem dX7_ask_77 : decode cX7_ask 77 = .ok (.aload_n 0, 1) := dk_42 (dk_at dksX7_ask_3 7 rfl rfl)
theorem dX7_ask_78 : decode cX7_ask 78 = .ok (.getfield 31, 3) := dk_180 0 31 (dk_at dksX7_ask_3 8 rfl rfl)
theorem dX7_ask_81 : decode cX7_ask 81 = .ok (.iload 9, 2) := dk_21 9 (dk_at dksX7_ask_3 11 rfl rfl)
theorem dX7_ask_83 : decode cX7_ask 83 = .ok (.iaload, 1) := dk_46 (dk_at dksX7_ask_3 13 rfl rfl)
theorem dX7_ask_84 : decode cX7_ask 84 = .ok (.iload 7, 2) := dk_21 7 (dk_at dksX7_ask_3 14 rfl rfl)
theorem dX7_ask_86 : decode cX7_ask 86 = .ok (.ishr, 1) := dk_122 (dk_at dksX7_ask_3 16 rfl rfl)
theorem dX7_ask_87 : decode cX7_ask 87 = .ok (.iconst 1, 1) := dk_4 (dk_at dksX7_ask_3 17 rfl rfl)
theorem dX7_ask_88 : decode cX7_ask 88 = .ok (.iand, 1) := dk_126 (dk_at dksX7_ask_3 18 rfl rfl)
theorem dX7_ask_89 : decode cX7_ask 89 = .ok (.goto 4, 3) := dk_167 0 4 (dk_at dksX7_ask_3 19 rfl rfl)
theorem dX7_ask_92 : decode cX7_ask 92 = .ok (.iconst 0, 1) := dk_3 (dk_at dksX7_ask_3 22 rfl rfl)
theorem dX7_ask_93 : decode cX7_ask 93 = .ok (.iadd, 1) := dk_96 (dk_at dksX7_ask_3 23 rfl rfl)
theorem dX7_ask_94 : decode cX7_ask 94 = .ok (.istore 8, 2) := dk_54 8 (dk_at dksX7_ask_4 0 rfl rfl)
theorem dX7_ask_96 : decode cX7_ask 96 = .ok (.iinc 9 1, 3) := dk_132 9 1 (dk_at dksX7_ask_4 2 rfl rfl)
theorem dX7_ask_99 : decode cX7_ask 99 = .ok (.goto (-41), 3) := dk_167 255 215 (dk_at dksX7_ask_4 5 rfl rfl)
theorem dX7_ask_102 : decode cX7_ask 102 = .ok (.iload 8, 2) := dk_21 8 (dk_at dksX7_ask_4 8 rfl rfl)
theorem dX7_ask_104 : decode cX7_ask 104 = .ok (.iload 4, 2) := dk_21 4 (dk_at dksX7_ask_4 10 rfl rfl)
theorem dX7_ask_106 : decode cX7_ask 106 = .ok (.iload 8, 2) := dk_21 8 (dk_at dksX7_ask_4 12 rfl rfl)
theorem dX7_ask_108 : decode cX7_ask 108 = .ok (.isub, 1) := dk_100 (dk_at dksX7_ask_4 14 rfl rfl)
theorem dX7_ask_109 : decode cX7_ask 109 = .ok (.if_icmp .le 8, 3) := dk_164 0 8 (dk_at dksX7_ask_4 15 rfl rfl)
theorem dX7_ask_112 : decode cX7_ask 112 = .ok (.iload 8, 2) := dk_21 8 (dk_at dksX7_ask_4 18 rfl rfl)
theorem dX7_ask_114 : decode cX7_ask 114 = .ok (.goto 8, 3) := dk_167 0 8 (dk_at dksX7_ask_4 20 rfl rfl)
theorem dX7_ask_117 : decode cX7_ask 117 = .ok (.iload 4, 2) := dk_21 4 (dk_at dksX7_ask_5 0 rfl rfl)
theorem dX7_ask_119 : decode cX7_ask 119 = .ok (.iload 8, 2) := dk_21 8 (dk_at dksX7_ask_5 2 rfl rfl)
theorem dX7_ask_121 : decode cX7_ask 121 = .ok (.isub, 1) := dk_100 (dk_at dksX7_ask_5 4 rfl rfl)
theorem dX7_ask_122 : decode cX7_ask 122 = .ok (.istore 9, 2) := dk_54 9 (dk_at dksX7_ask_5 5 rfl rfl)
theorem dX7_ask_124 : decode cX7_ask 124 = .ok (.iload 9, 2) := dk_21 9 (dk_at dksX7_ask_5 7 rfl rfl)
theorem dX7_ask_126 : decode cX7_ask 126 = .ok (.iload 5, 2) := dk_21 5 (dk_at dksX7_ask_5 9 rfl rfl)
theorem dX7_ask_128 : decode cX7_ask 128 = .ok (.if_icmp .ge 8, 3) := dk_162 0 8 (dk_at dksX7_ask_5 11 rfl rfl)
theorem dX7_ask_131 : decode cX7_ask 131 = .ok (.iload 7, 2) := dk_21 7 (dk_at dksX7_ask_5 14 rfl rfl)
theorem dX7_ask_133 : decode cX7_ask 133 = .ok (.goto 5, 3) := dk_167 0 5 (dk_at dksX7_ask_5 16 rfl rfl)
theorem dX7_ask_136 : decode cX7_ask 136 = .ok (.iload 6, 2) := dk_21 6 (dk_at dksX7_ask_5 19 rfl rfl)
theorem dX7_ask_138 : decode cX7_ask 138 = .ok (.istore 6, 2) := dk_54 6 (dk_at dksX7_ask_5 21 rfl rfl)
theorem dX7_ask_140 : decode cX7_ask 140 = .ok (.iload 9, 2) := dk_21 9 (dk_at dksX7_ask_6 0 rfl rfl)
theorem dX7_ask_142 : decode cX7_ask 142 = .ok (.iload 5, 2) := dk_21 5 (dk_at dksX7_ask_6 2 rfl rfl)
theorem dX7_ask_144 : decode cX7_ask 144 = .ok (.if_icmp .ge 8, 3) := dk_162 0 8 (dk_at dksX7_ask_6 4 rfl rfl)
theorem dX7_ask_147 : decode cX7_ask 147 = .ok (.iload 9, 2) := dk_21 9 (dk_at dksX7_ask_6 7 rfl rfl)
theorem dX7_ask_149 : decode cX7_ask 149 = .ok (.goto 5, 3) := dk_167 0 5 (dk_at dksX7_ask_6 9 rfl rfl)
theorem dX7_ask_152 : decode cX7_ask 152 = .ok (.iload 5, 2) := dk_21 5 (dk_at dksX7_ask_6 12 rfl rfl)
theorem dX7_ask_154 : decode cX7_ask 154 = .ok (.istore 5, 2) := dk_54 5 (dk_at dksX7_ask_6 14 rfl rfl)
theorem dX7_ask_156 : decode cX7_ask 156 = .ok (.iinc 7 1, 3) := dk_132 7 1 (dk_at dksX7_ask_6 16 rfl rfl)
theorem dX7_ask_159 : decode cX7_ask 159 = .ok (.goto (-116), 3) := dk_167 255 140 (dk_at dksX7_ask_6 19 rfl rfl)
theorem dX7_ask_162 : decode cX7_ask 162 = .ok (.iload 6, 2) := dk_21 6 (dk_at dksX7_ask_6 22 rfl rfl)
theorem dX7_ask_164 : decode cX7_ask 164 = .ok (.bipush (-4), 2) := dk_16 252 (dk_at dksX7_ask_7 0 rfl rfl)
theorem dX7_ask_166 : decode cX7_ask 166 = .ok (.if_icmp .eq 7, 3) := dk_159 0 7 (dk_at dksX7_ask_7 2 rfl rfl)
theorem dX7_ask_169 : decode cX7_ask 169 = .ok (.iload_n 2, 1) := dk_28 (dk_at dksX7_ask_7 5 rfl rfl)
theorem dX7_ask_170 : decode cX7_ask 170 = .ok (.ifCond .ne 8, 3) := dk_154 0 8 (dk_at dksX7_ask_7 6 rfl rfl)
theorem dX7_ask_173 : decode cX7_ask 173 = .ok (.iload 6, 2) := dk_21 6 (dk_at dksX7_ask_7 9 rfl rfl)
theorem dX7_ask_175 : decode cX7_ask 175 = .ok (.goto 5, 3) := dk_167 0 5 (dk_at dksX7_ask_7 11 rfl rfl)
theorem dX7_ask_178 : decode cX7_ask 178 = .ok (.iload 5, 2) := dk_21 5 (dk_at dksX7_ask_7 14 rfl rfl)
theorem dX7_ask_180 : decode cX7_ask 180 = .ok (.ireturn, 1) := dk_172 (dk_at dksX7_ask_7 16 rfl rfl)
abbrev cX7_drift : ByteArray := prog_11_method_72_code
def yX7_drift : MethodName := ⟨RX7, "drift", "(III)I"⟩
def dkwX7_drift_5 : List UInt8 := [3, 182, 0, 149, 172]
abbrev dktX7_drift_5 : List UInt8 := dkwX7_drift_5 ++ []
def dkwX7_drift_4 : List UInt8 := [182, 0, 211, 87, 132, 5, 1, 167, 255, 198, 29, 154, 0, 10, 42, 180, 0, 202, 167, 0, 10, 42, 16, 112]
abbrev dktX7_drift_4 : List UInt8 := dkwX7_drift_4 ++ dktX7_drift_5
def dkwX7_drift_3 : List UInt8 := [180, 0, 125, 4, 96, 112, 54, 6, 42, 21, 6, 42, 180, 0, 125, 160, 0, 7, 8, 167, 0, 5, 21, 6]
abbrev dktX7_drift_3 : List UInt8 := dkwX7_drift_3 ++ dktX7_drift_4
def dkwX7_drift_2 : List UInt8 := [162, 0, 58, 21, 4, 18, 254, 104, 17, 48, 57, 96, 54, 4, 21, 4, 16, 16, 122, 17, 127, 255, 126, 42]
abbrev dktX7_drift_2 : List UInt8 := dkwX7_drift_2 ++ dktX7_drift_3
def dkwX7_drift_1 : List UInt8 := [42, 180, 0, 125, 154, 0, 6, 16, 254, 172, 42, 3, 182, 0, 208, 27, 54, 4, 3, 54, 5, 21, 5, 28]
abbrev dktX7_drift_1 : List UInt8 := dkwX7_drift_1 ++ dktX7_drift_2
def dkwX7_drift_0 : List UInt8 := [28, 133, 10, 20, 0, 185, 184, 0, 49, 153, 0, 13, 29, 133, 9, 10, 184, 0, 49, 154, 0, 5, 2, 172]
abbrev dktX7_drift_0 : List UInt8 := dkwX7_drift_0 ++ dktX7_drift_1
theorem dksX7_drift_0 : cX7_drift.data.toList.drop 0 = dktX7_drift_0 := by decide +kernel
theorem dksX7_drift_1 : cX7_drift.data.toList.drop 24 = dktX7_drift_1 := dk_seg dksX7_drift_0 24 rfl rfl
theorem dksX7_drift_2 : cX7_drift.data.toList.drop 48 = dktX7_drift_2 := dk_seg dksX7_drift_1 24 rfl rfl
theorem dksX7_drift_3 : cX7_drift.data.toList.drop 72 = dktX7_drift_3 := dk_seg dksX7_drift_2 24 rfl rfl
theorem dksX7_drift_4 : cX7_drift.data.toList.drop 96 = dktX7_drift_4 := dk_seg dksX7_drift_3 24 rfl rfl
theorem dksX7_drift_5 : cX7_drift.data.toList.drop 120 = dktX7_drift_5 := dk_seg dksX7_drift_4 24 rfl rfl
theorem dX7_drift_0 : decode cX7_drift 0 = .ok (.iload_n 2, 1) := dk_28 (dk_at dksX7_drift_0 0 rfl rfl)
theorem dX7_drift_1 : decode cX7_drift 1 = .ok (.i2l, 1) := dk_133 (dk_at dksX7_drift_0 1 rfl rfl)
theorem dX7_drift_2 : decode cX7_drift 2 = .ok (.lconst 1, 1) := dk_10 (dk_at dksX7_drift_0 2 rfl rfl)
theorem dX7_drift_3 : decode cX7_drift 3 = .ok (.ldc2_w 185, 3) := dk_20 0 185 (dk_at dksX7_drift_0 3 rfl rfl)
theorem dX7_drift_6 : decode cX7_drift 6 = .ok (.invokestatic 49, 3) := dk_184 0 49 (dk_at dksX7_drift_0 6 rfl rfl)
theorem dX7_drift_9 : decode cX7_drift 9 = .ok (.ifCond .eq 13, 3) := dk_153 0 13 (dk_at dksX7_drift_0 9 rfl rfl)
theorem dX7_drift_12 : decode cX7_drift 12 = .ok (.iload_n 3, 1) := dk_29 (dk_at dksX7_drift_0 12 rfl rfl)
theorem dX7_drift_13 : decode cX7_drift 13 = .ok (.i2l, 1) := dk_133 (dk_at dksX7_drift_0 13 rfl rfl)
theorem dX7_drift_14 : decode cX7_drift 14 = .ok (.lconst 0, 1) := dk_9 (dk_at dksX7_drift_0 14 rfl rfl)
theorem dX7_drift_15 : decode cX7_drift 15 = .ok (.lconst 1, 1) := dk_10 (dk_at dksX7_drift_0 15 rfl rfl)
theorem dX7_drift_16 : decode cX7_drift 16 = .ok (.invokestatic 49, 3) := dk_184 0 49 (dk_at dksX7_drift_0 16 rfl rfl)
theorem dX7_drift_19 : decode cX7_drift 19 = .ok (.ifCond .ne 5, 3) := dk_154 0 5 (dk_at dksX7_drift_0 19 rfl rfl)
theorem dX7_drift_22 : decode cX7_drift 22 = .ok (.iconst (-1), 1) := dk_2 (dk_at dksX7_drift_0 22 rfl rfl)
theorem dX7_drift_23 : decode cX7_drift 23 = .ok (.ireturn, 1) := dk_172 (dk_at dksX7_drift_0 23 rfl rfl)
theorem dX7_drift_24 : decode cX7_drift 24 = .ok (.aload_n 0, 1) := dk_42 (dk_at dksX7_drift_1 0 rfl rfl)
theorem dX7_drift_25 : decode cX7_drift 25 = .ok (.getfield 125, 3) := dk_180 0 125 (dk_at dksX7_drift_1 1 rfl rfl)
theorem dX7_drift_28 : decode cX7_drift 28 = .ok (.ifCond .ne 6, 3) := dk_154 0 6 (dk_at dksX7_drift_1 4 rfl rfl)
theorem dX7_drift_31 : decode cX7_drift 31 = .ok (.bipush (-2), 2) := dk_16 254 (dk_at dksX7_drift_1 7 rfl rfl)
theorem dX7_drift_33 : decode cX7_drift 33 = .ok (.ireturn, 1) := dk_172 (dk_at dksX7_drift_1 9 rfl rfl)
theorem dX7_drift_34 : decode cX7_drift 34 = .ok (.aload_n 0, 1) := dk_42 (dk_at dksX7_drift_1 10 rfl rfl)
theorem dX7_drift_35 : decode cX7_drift 35 = .ok (.iconst 0, 1) := dk_3 (dk_at dksX7_drift_1 11 rfl rfl)
theorem dX7_drift_36 : decode cX7_drift 36 = .ok (.invokevirtual 208, 3) := dk_182 0 208 (dk_at dksX7_drift_1 12 rfl rfl)
theorem dX7_drift_39 : decode cX7_drift 39 = .ok (.iload_n 1, 1) := dk_27 (dk_at dksX7_drift_1 15 rfl rfl)
theorem dX7_drift_40 : decode cX7_drift 40 = .ok (.istore 4, 2) := dk_54 4 (dk_at dksX7_drift_1 16 rfl rfl)
theorem dX7_drift_42 : decode cX7_drift 42 = .ok (.iconst 0, 1) := dk_3 (dk_at dksX7_drift_1 18 rfl rfl)
theorem dX7_drift_43 : decode cX7_drift 43 = .ok (.istore 5, 2) := dk_54 5 (dk_at dksX7_drift_1 19 rfl rfl)
theorem dX7_drift_45 : decode cX7_drift 45 = .ok (.iload 5, 2) := dk_21 5 (dk_at dksX7_drift_1 21 rfl rfl)
theorem dX7_drift_47 : decode cX7_drift 47 = .ok (.iload_n 2, 1) := dk_28 (dk_at dksX7_drift_1 23 rfl rfl)
theorem dX7_drift_48 : decode cX7_drift 48 = .ok (.if_icmp .ge 58, 3) := dk_162 0 58 (dk_at dksX7_drift_2 0 rfl rfl)
theorem dX7_drift_51 : decode cX7_drift 51 = .ok (.iload 4, 2) := dk_21 4 (dk_at dksX7_drift_2 3 rfl rfl)
theorem dX7_drift_53 : decode cX7_drift 53 = .ok (.ldc 254, 2) := dk_18 254 (dk_at dksX7_drift_2 5 rfl rfl)
theorem dX7_drift_55 : decode cX7_drift 55 = .ok (.imul, 1) := dk_104 (dk_at dksX7_drift_2 7 rfl rfl)
theorem dX7_drift_56 : decode cX7_drift 56 = .ok (.sipush 12345, 3) := dk_17 48 57 (dk_at dksX7_drift_2 8 rfl rfl)
theorem dX7_drift_59 : decode cX7_drift 59 = .ok (.iadd, 1) := dk_96 (dk_at dksX7_drift_2 11 rfl rfl)
theorem dX7_drift_60 : decode cX7_drift 60 = .ok (.istore 4, 2) := dk_54 4 (dk_at dksX7_drift_2 12 rfl rfl)
theorem dX7_drift_62 : decode cX7_drift 62 = .ok (.iload 4, 2) := dk_21 4 (dk_at dksX7_drift_2 14 rfl rfl)
theorem dX7_drift_64 : decode cX7_drift 64 = .ok (.bipush 16, 2) := dk_16 16 (dk_at dksX7_drift_2 16 rfl rfl)
theorem dX7_drift_66 : decode cX7_drift 66 = .ok (.ishr, 1) := dk_122 (dk_at dksX7_drift_2 18 rfl rfl)
theorem dX7_drift_67 : decode cX7_drift 67 = .ok (.sipush 32767, 3) := dk_17 127 255 (dk_at dksX7_drift_2 19 rfl rfl)
theorem dX7_drift_70 : decode cX7_drift 70 = .ok (.iand, 1) := dk_126 (dk_at dksX7_drift_2 22 rfl rfl)
theorem dX7_drift_71 : decode cX7_drift 71 = .ok (.aload_n 0, 1) := dk_42 (dk_at dksX7_drift_2 23 rfl rfl)
theorem dX7_drift_72 : decode cX7_drift 72 = .ok (.getfield 125, 3) := dk_180 0 125 (dk_at dksX7_drift_3 0 rfl rfl)
theorem dX7_drift_75 : decode cX7_drift 75 = .ok (.iconst 1, 1) := dk_4 (dk_at dksX7_drift_3 3 rfl rfl)
theorem dX7_drift_76 : decode cX7_drift 76 = .ok (.iadd, 1) := dk_96 (dk_at dksX7_drift_3 4 rfl rfl)
theorem dX7_drift_77 : decode cX7_drift 77 = .ok (.irem, 1) := dk_112 (dk_at dksX7_drift_3 5 rfl rfl)
theorem dX7_drift_78 : decode cX7_drift 78 = .ok (.istore 6, 2) := dk_54 6 (dk_at dksX7_drift_3 6 rfl rfl)
theorem dX7_drift_80 : decode cX7_drift 80 = .ok (.aload_n 0, 1) := dk_42 (dk_at dksX7_drift_3 8 rfl rfl)
theorem dX7_drift_81 : decode cX7_drift 81 = .ok (.iload 6, 2) := dk_21 6 (dk_at dksX7_drift_3 9 rfl rfl)
theorem dX7_drift_83 : decode cX7_drift 83 = .ok (.aload_n 0, 1) := dk_42 (dk_at dksX7_drift_3 11 rfl rfl)
theorem dX7_drift_84 : decode cX7_drift 84 = .ok (.getfield 125, 3) := dk_180 0 125 (dk_at dksX7_drift_3 12 rfl rfl)
theorem dX7_drift_87 : decode cX7_drift 87 = .ok (.if_icmp .ne 7, 3) := dk_160 0 7 (dk_at dksX7_drift_3 15 rfl rfl)
theorem dX7_drift_90 : decode cX7_drift 90 = .ok (.iconst 5, 1) := dk_8 (dk_at dksX7_drift_3 18 rfl rfl)
theorem dX7_drift_91 : decode cX7_drift 91 = .ok (.goto 5, 3) := dk_167 0 5 (dk_at dksX7_drift_3 19 rfl rfl)
theorem dX7_drift_94 : decode cX7_drift 94 = .ok (.iload 6, 2) := dk_21 6 (dk_at dksX7_drift_3 22 rfl rfl)
theorem dX7_drift_96 : decode cX7_drift 96 = .ok (.invokevirtual 211, 3) := dk_182 0 211 (dk_at dksX7_drift_4 0 rfl rfl)
theorem dX7_drift_99 : decode cX7_drift 99 = .ok (.pop, 1) := dk_87 (dk_at dksX7_drift_4 3 rfl rfl)
theorem dX7_drift_100 : decode cX7_drift 100 = .ok (.iinc 5 1, 3) := dk_132 5 1 (dk_at dksX7_drift_4 4 rfl rfl)
theorem dX7_drift_103 : decode cX7_drift 103 = .ok (.goto (-58), 3) := dk_167 255 198 (dk_at dksX7_drift_4 7 rfl rfl)
theorem dX7_drift_106 : decode cX7_drift 106 = .ok (.iload_n 3, 1) := dk_29 (dk_at dksX7_drift_4 10 rfl rfl)
theorem dX7_drift_107 : decode cX7_drift 107 = .ok (.ifCond .ne 10, 3) := dk_154 0 10 (dk_at dksX7_drift_4 11 rfl rfl)
theorem dX7_drift_110 : decode cX7_drift 110 = .ok (.aload_n 0, 1) := dk_42 (dk_at dksX7_drift_4 14 rfl rfl)
theorem dX7_drift_111 : decode cX7_drift 111 = .ok (.getfield 202, 3) := dk_180 0 202 (dk_at dksX7_drift_4 15 rfl rfl)
theorem dX7_drift_114 : decode cX7_drift 114 = .ok (.goto 10, 3) := dk_167 0 10 (dk_at dksX7_drift_4 18 rfl rfl)
theorem dX7_drift_117 : decode cX7_drift 117 = .ok (.aload_n 0, 1) := dk_42 (dk_at dksX7_drift_4 21 rfl rfl)
theorem dX7_drift_118 : decode cX7_drift 118 = .ok (.bipush 112, 2) := dk_16 112 (dk_at dksX7_drift_4 22 rfl rfl)
theorem dX7_drift_120 : decode cX7_drift 120 = .ok (.iconst 0, 1) := dk_3 (dk_at dksX7_drift_5 0 rfl rfl)
theorem dX7_drift_121 : decode cX7_drift 121 = .ok (.invokevirtual 149, 3) := dk_182 0 149 (dk_at dksX7_drift_5 1 rfl rfl)
theorem dX7_drift_124 : decode cX7_drift 124 = .ok (.ireturn, 1) := dk_172 (dk_at dksX7_drift_5 4 rfl rfl)
abbrev cX7_keep : ByteArray := prog_11_method_73_code
def yX7_keep : MethodName := ⟨RX7, "keep", "(I)I"⟩
def dkwX7_keep_1 : List UInt8 := [180, 0, 34, 27, 51, 153, 0, 7, 4, 167, 0, 4, 3, 61, 42, 180, 0, 34, 27, 4, 84, 28, 172]
abbrev dktX7_keep_1 : List UInt8 := dkwX7_keep_1 ++ []
def dkwX7_keep_0 : List UInt8 := [27, 133, 9, 10, 184, 0, 49, 154, 0, 5, 2, 172, 42, 3, 16, 28, 27, 4, 96, 104, 182, 0, 196, 42]
abbrev dktX7_keep_0 : List UInt8 := dkwX7_keep_0 ++ dktX7_keep_1
theorem dksX7_keep_0 : cX7_keep.data.toList.drop 0 = dktX7_keep_0 := by decide +kernel
theorem dksX7_keep_1 : cX7_keep.data.toList.drop 24 = dktX7_keep_1 := dk_seg dksX7_keep_0 24 rfl rfl
theorem dX7_keep_0 : decode cX7_keep 0 = .ok (.iload_n 1, 1) := dk_27 (dk_at dksX7_keep_0 0 rfl rfl)
theorem dX7_keep_1 : decode cX7_keep 1 = .ok (.i2l, 1) := dk_133 (dk_at dksX7_keep_0 1 rfl rfl)
theorem dX7_keep_2 : decode cX7_keep 2 = .ok (.lconst 0, 1) := dk_9 (dk_at dksX7_keep_0 2 rfl rfl)
theorem dX7_keep_3 : decode cX7_keep 3 = .ok (.lconst 1, 1) := dk_10 (dk_at dksX7_keep_0 3 rfl rfl)
theorem dX7_keep_4 : decode cX7_keep 4 = .ok (.invokestatic 49, 3) := dk_184 0 49 (dk_at dksX7_keep_0 4 rfl rfl)
theorem dX7_keep_7 : decode cX7_keep 7 = .ok (.ifCond .ne 5, 3) := dk_154 0 5 (dk_at dksX7_keep_0 7 rfl rfl)
theorem dX7_keep_10 : decode cX7_keep 10 = .ok (.iconst (-1), 1) := dk_2 (dk_at dksX7_keep_0 10 rfl rfl)
theorem dX7_keep_11 : decode cX7_keep 11 = .ok (.ireturn, 1) := dk_172 (dk_at dksX7_keep_0 11 rfl rfl)
theorem dX7_keep_12 : decode cX7_keep 12 = .ok (.aload_n 0, 1) := dk_42 (dk_at dksX7_keep_0 12 rfl rfl)
theorem dX7_keep_13 : decode cX7_keep 13 = .ok (.iconst 0, 1) := dk_3 (dk_at dksX7_keep_0 13 rfl rfl)
theorem dX7_keep_14 : decode cX7_keep 14 = .ok (.bipush 28, 2) := dk_16 28 (dk_at dksX7_keep_0 14 rfl rfl)
theorem dX7_keep_16 : decode cX7_keep 16 = .ok (.iload_n 1, 1) := dk_27 (dk_at dksX7_keep_0 16 rfl rfl)
theorem dX7_keep_17 : decode cX7_keep 17 = .ok (.iconst 1, 1) := dk_4 (dk_at dksX7_keep_0 17 rfl rfl)
theorem dX7_keep_18 : decode cX7_keep 18 = .ok (.iadd, 1) := dk_96 (dk_at dksX7_keep_0 18 rfl rfl)
theorem dX7_keep_19 : decode cX7_keep 19 = .ok (.imul, 1) := dk_104 (dk_at dksX7_keep_0 19 rfl rfl)
theorem dX7_keep_20 : decode cX7_keep 20 = .ok (.invokevirtual 196, 3) := dk_182 0 196 (dk_at dksX7_keep_0 20 rfl rfl)
theorem dX7_keep_23 : decode cX7_keep 23 = .ok (.aload_n 0, 1) := dk_42 (dk_at dksX7_keep_0 23 rfl rfl)
theorem dX7_keep_24 : decode cX7_keep 24 = .ok (.getfield 34, 3) := dk_180 0 34 (dk_at dksX7_keep_1 0 rfl rfl)
theorem dX7_keep_27 : decode cX7_keep 27 = .ok (.iload_n 1, 1) := dk_27 (dk_at dksX7_keep_1 3 rfl rfl)
theorem dX7_keep_28 : decode cX7_keep 28 = .ok (.baload, 1) := dk_51 (dk_at dksX7_keep_1 4 rfl rfl)
theorem dX7_keep_29 : decode cX7_keep 29 = .ok (.ifCond .eq 7, 3) := dk_153 0 7 (dk_at dksX7_keep_1 5 rfl rfl)
theorem dX7_keep_32 : decode cX7_keep 32 = .ok (.iconst 1, 1) := dk_4 (dk_at dksX7_keep_1 8 rfl rfl)
theorem dX7_keep_33 : decode cX7_keep 33 = .ok (.goto 4, 3) := dk_167 0 4 (dk_at dksX7_keep_1 9 rfl rfl)
theorem dX7_keep_36 : decode cX7_keep 36 = .ok (.iconst 0, 1) := dk_3 (dk_at dksX7_keep_1 12 rfl rfl)
theorem dX7_keep_37 : decode cX7_keep 37 = .ok (.istore_n 2, 1) := dk_61 (dk_at dksX7_keep_1 13 rfl rfl)
theorem dX7_keep_38 : decode cX7_keep 38 = .ok (.aload_n 0, 1) := dk_42 (dk_at dksX7_keep_1 14 rfl rfl)
theorem dX7_keep_39 : decode cX7_keep 39 = .ok (.getfield 34, 3) := dk_180 0 34 (dk_at dksX7_keep_1 15 rfl rfl)
theorem dX7_keep_42 : decode cX7_keep 42 = .ok (.iload_n 1, 1) := dk_27 (dk_at dksX7_keep_1 18 rfl rfl)
theorem dX7_keep_43 : decode cX7_keep 43 = .ok (.iconst 1, 1) := dk_4 (dk_at dksX7_keep_1 19 rfl rfl)
theorem dX7_keep_44 : decode cX7_keep 44 = .ok (.bastore, 1) := dk_84 (dk_at dksX7_keep_1 20 rfl rfl)
theorem dX7_keep_45 : decode cX7_keep 45 = .ok (.iload_n 2, 1) := dk_28 (dk_at dksX7_keep_1 21 rfl rfl)
theorem dX7_keep_46 : decode cX7_keep 46 = .ok (.ireturn, 1) := dk_172 (dk_at dksX7_keep_1 22 rfl rfl)
abbrev cX7_back : ByteArray := prog_11_method_74_code
def yX7_back : MethodName := ⟨RX7, "back", "(I)I"⟩
def dkwX7_back_1 : List UInt8 := [42, 16, 28, 27, 4, 96, 104, 3, 182, 0, 196, 42, 180, 0, 7, 16, 16, 46, 172]
abbrev dktX7_back_1 : List UInt8 := dkwX7_back_1 ++ []
def dkwX7_back_0 : List UInt8 := [27, 133, 9, 10, 184, 0, 49, 154, 0, 5, 2, 172, 42, 180, 0, 34, 27, 51, 154, 0, 6, 16, 254, 172]
abbrev dktX7_back_0 : List UInt8 := dkwX7_back_0 ++ dktX7_back_1
theorem dksX7_back_0 : cX7_back.data.toList.drop 0 = dktX7_back_0 := by decide +kernel
theorem dksX7_back_1 : cX7_back.data.toList.drop 24 = dktX7_back_1 := dk_seg dksX7_back_0 24 rfl rfl
theorem dX7_back_0 : decode cX7_back 0 = .ok (.iload_n 1, 1) := dk_27 (dk_at dksX7_back_0 0 rfl rfl)
theorem dX7_back_1 : decode cX7_back 1 = .ok (.i2l, 1) := dk_133 (dk_at dksX7_back_0 1 rfl rfl)
theorem dX7_back_2 : decode cX7_back 2 = .ok (.lconst 0, 1) := dk_9 (dk_at dksX7_back_0 2 rfl rfl)
theorem dX7_back_3 : decode cX7_back 3 = .ok (.lconst 1, 1) := dk_10 (dk_at dksX7_back_0 3 rfl rfl)
theorem dX7_back_4 : decode cX7_back 4 = .ok (.invokestatic 49, 3) := dk_184 0 49 (dk_at dksX7_back_0 4 rfl rfl)
theorem dX7_back_7 : decode cX7_back 7 = .ok (.ifCond .ne 5, 3) := dk_154 0 5 (dk_at dksX7_back_0 7 rfl rfl)
theorem dX7_back_10 : decode cX7_back 10 = .ok (.iconst (-1), 1) := dk_2 (dk_at dksX7_back_0 10 rfl rfl)
theorem dX7_back_11 : decode cX7_back 11 = .ok (.ireturn, 1) := dk_172 (dk_at dksX7_back_0 11 rfl rfl)
theorem dX7_back_12 : decode cX7_back 12 = .ok (.aload_n 0, 1) := dk_42 (dk_at dksX7_back_0 12 rfl rfl)
theorem dX7_back_13 : decode cX7_back 13 = .ok (.getfield 34, 3) := dk_180 0 34 (dk_at dksX7_back_0 13 rfl rfl)
theorem dX7_back_16 : decode cX7_back 16 = .ok (.iload_n 1, 1) := dk_27 (dk_at dksX7_back_0 16 rfl rfl)
theorem dX7_back_17 : decode cX7_back 17 = .ok (.baload, 1) := dk_51 (dk_at dksX7_back_0 17 rfl rfl)
theorem dX7_back_18 : decode cX7_back 18 = .ok (.ifCond .ne 6, 3) := dk_154 0 6 (dk_at dksX7_back_0 18 rfl rfl)
theorem dX7_back_21 : decode cX7_back 21 = .ok (.bipush (-2), 2) := dk_16 254 (dk_at dksX7_back_0 21 rfl rfl)
theorem dX7_back_23 : decode cX7_back 23 = .ok (.ireturn, 1) := dk_172 (dk_at dksX7_back_0 23 rfl rfl)
theorem dX7_back_24 : decode cX7_back 24 = .ok (.aload_n 0, 1) := dk_42 (dk_at dksX7_back_1 0 rfl rfl)
theorem dX7_back_25 : decode cX7_back 25 = .ok (.bipush 28, 2) := dk_16 28 (dk_at dksX7_back_1 1 rfl rfl)
theorem dX7_back_27 : decode cX7_back 27 = .ok (.iload_n 1, 1) := dk_27 (dk_at dksX7_back_1 3 rfl rfl)
theorem dX7_back_28 : decode cX7_back 28 = .ok (.iconst 1, 1) := dk_4 (dk_at dksX7_back_1 4 rfl rfl)
theorem dX7_back_29 : decode cX7_back 29 = .ok (.iadd, 1) := dk_96 (dk_at dksX7_back_1 5 rfl rfl)
theorem dX7_back_30 : decode cX7_back 30 = .ok (.imul, 1) := dk_104 (dk_at dksX7_back_1 6 rfl rfl)
theorem dX7_back_31 : decode cX7_back 31 = .ok (.iconst 0, 1) := dk_3 (dk_at dksX7_back_1 7 rfl rfl)
theorem dX7_back_32 : decode cX7_back 32 = .ok (.invokevirtual 196, 3) := dk_182 0 196 (dk_at dksX7_back_1 8 rfl rfl)
theorem dX7_back_35 : decode cX7_back 35 = .ok (.aload_n 0, 1) := dk_42 (dk_at dksX7_back_1 11 rfl rfl)
theorem dX7_back_36 : decode cX7_back 36 = .ok (.getfield 7, 3) := dk_180 0 7 (dk_at dksX7_back_1 12 rfl rfl)
theorem dX7_back_39 : decode cX7_back 39 = .ok (.bipush 16, 2) := dk_16 16 (dk_at dksX7_back_1 15 rfl rfl)
theorem dX7_back_41 : decode cX7_back 41 = .ok (.iaload, 1) := dk_46 (dk_at dksX7_back_1 17 rfl rfl)
theorem dX7_back_42 : decode cX7_back 42 = .ok (.ireturn, 1) := dk_172 (dk_at dksX7_back_1 18 rfl rfl)
abbrev cX7_sheet : ByteArray := prog_11_method_75_code
def yX7_sheet : MethodName := ⟨RX7, "sheet", "(III)I"⟩
def dkwX7_sheet_3 : List UInt8 := [21, 4, 96, 3, 79, 132, 4, 1, 167, 255, 233, 4, 172]
abbrev dktX7_sheet_3 : List UInt8 := dkwX7_sheet_3 ++ []
def dkwX7_sheet_2 : List UInt8 := [180, 0, 41, 27, 29, 79, 3, 54, 4, 21, 4, 16, 40, 162, 0, 22, 42, 180, 0, 44, 16, 40, 27, 104]
abbrev dktX7_sheet_2 : List UInt8 := dkwX7_sheet_2 ++ dktX7_sheet_3
def dkwX7_sheet_1 : List UInt8 := [29, 16, 40, 164, 0, 5, 2, 172, 29, 156, 0, 6, 16, 242, 172, 42, 180, 0, 38, 27, 28, 79, 42]
abbrev dktX7_sheet_1 : List UInt8 := dkwX7_sheet_1 ++ dktX7_sheet_2
def dkwX7_sheet_0 : List UInt8 := [27, 133, 9, 20, 0, 167, 184, 0, 49, 153, 0, 21, 28, 133, 9, 20, 0, 255, 184, 0, 49, 153, 0, 9]
abbrev dktX7_sheet_0 : List UInt8 := dkwX7_sheet_0 ++ dktX7_sheet_1
theorem dksX7_sheet_0 : cX7_sheet.data.toList.drop 0 = dktX7_sheet_0 := by decide +kernel
theorem dksX7_sheet_1 : cX7_sheet.data.toList.drop 24 = dktX7_sheet_1 := dk_seg dksX7_sheet_0 24 rfl rfl
theorem dksX7_sheet_2 : cX7_sheet.data.toList.drop 47 = dktX7_sheet_2 := dk_seg dksX7_sheet_1 23 rfl rfl
theorem dksX7_sheet_3 : cX7_sheet.data.toList.drop 71 = dktX7_sheet_3 := dk_seg dksX7_sheet_2 24 rfl rfl
theorem dX7_sheet_0 : decode cX7_sheet 0 = .ok (.iload_n 1, 1) := dk_27 (dk_at dksX7_sheet_0 0 rfl rfl)
theorem dX7_sheet_1 : decode cX7_sheet 1 = .ok (.i2l, 1) := dk_133 (dk_at dksX7_sheet_0 1 rfl rfl)
theorem dX7_sheet_2 : decode cX7_sheet 2 = .ok (.lconst 0, 1) := dk_9 (dk_at dksX7_sheet_0 2 rfl rfl)
theorem dX7_sheet_3 : decode cX7_sheet 3 = .ok (.ldc2_w 167, 3) := dk_20 0 167 (dk_at dksX7_sheet_0 3 rfl rfl)
theorem dX7_sheet_6 : decode cX7_sheet 6 = .ok (.invokestatic 49, 3) := dk_184 0 49 (dk_at dksX7_sheet_0 6 rfl rfl)
theorem dX7_sheet_9 : decode cX7_sheet 9 = .ok (.ifCond .eq 21, 3) := dk_153 0 21 (dk_at dksX7_sheet_0 9 rfl rfl)
theorem dX7_sheet_12 : decode cX7_sheet 12 = .ok (.iload_n 2, 1) := dk_28 (dk_at dksX7_sheet_0 12 rfl rfl)
theorem dX7_sheet_13 : decode cX7_sheet 13 = .ok (.i2l, 1) := dk_133 (dk_at dksX7_sheet_0 13 rfl rfl)
theorem dX7_sheet_14 : decode cX7_sheet 14 = .ok (.lconst 0, 1) := dk_9 (dk_at dksX7_sheet_0 14 rfl rfl)
theorem dX7_sheet_15 : decode cX7_sheet 15 = .ok (.ldc2_w 255, 3) := dk_20 0 255 (dk_at dksX7_sheet_0 15 rfl rfl)
theorem dX7_sheet_18 : decode cX7_sheet 18 = .ok (.invokestatic 49, 3) := dk_184 0 49 (dk_at dksX7_sheet_0 18 rfl rfl)
theorem dX7_sheet_21 : decode cX7_sheet 21 = .ok (.ifCond .eq 9, 3) := dk_153 0 9 (dk_at dksX7_sheet_0 21 rfl rfl)
theorem dX7_sheet_24 : decode cX7_sheet 24 = .ok (.iload_n 3, 1) := dk_29 (dk_at dksX7_sheet_1 0 rfl rfl)
theorem dX7_sheet_25 : decode cX7_sheet 25 = .ok (.bipush 40, 2) := dk_16 40 (dk_at dksX7_sheet_1 1 rfl rfl)
theorem dX7_sheet_27 : decode cX7_sheet 27 = .ok (.if_icmp .le 5, 3) := dk_164 0 5 (dk_at dksX7_sheet_1 3 rfl rfl)
theorem dX7_sheet_30 : decode cX7_sheet 30 = .ok (.iconst (-1), 1) := dk_2 (dk_at dksX7_sheet_1 6 rfl rfl)
theorem dX7_sheet_31 : decode cX7_sheet 31 = .ok (.ireturn, 1) := dk_172 (dk_at dksX7_sheet_1 7 rfl rfl)
theorem dX7_sheet_32 : decode cX7_sheet 32 = .ok (.iload_n 3, 1) := dk_29 (dk_at dksX7_sheet_1 8 rfl rfl)
theorem dX7_sheet_33 : decode cX7_sheet 33 = .ok (.ifCond .ge 6, 3) := dk_156 0 6 (dk_at dksX7_sheet_1 9 rfl rfl)
theorem dX7_sheet_36 : decode cX7_sheet 36 = .ok (.bipush (-14), 2) := dk_16 242 (dk_at dksX7_sheet_1 12 rfl rfl)
theorem dX7_sheet_38 : decode cX7_sheet 38 = .ok (.ireturn, 1) := dk_172 (dk_at dksX7_sheet_1 14 rfl rfl)
theorem dX7_sheet_39 : decode cX7_sheet 39 = .ok (.aload_n 0, 1) := dk_42 (dk_at dksX7_sheet_1 15 rfl rfl)
theorem dX7_sheet_40 : decode cX7_sheet 40 = .ok (.getfield 38, 3) := dk_180 0 38 (dk_at dksX7_sheet_1 16 rfl rfl)
theorem dX7_sheet_43 : decode cX7_sheet 43 = .ok (.iload_n 1, 1) := dk_27 (dk_at dksX7_sheet_1 19 rfl rfl)
theorem dX7_sheet_44 : decode cX7_sheet 44 = .ok (.iload_n 2, 1) := dk_28 (dk_at dksX7_sheet_1 20 rfl rfl)
theorem dX7_sheet_45 : decode cX7_sheet 45 = .ok (.iastore, 1) := dk_79 (dk_at dksX7_sheet_1 21 rfl rfl)
theorem dX7_sheet_46 : decode cX7_sheet 46 = .ok (.aload_n 0, 1) := dk_42 (dk_at dksX7_sheet_1 22 rfl rfl)
theorem dX7_sheet_47 : decode cX7_sheet 47 = .ok (.getfield 41, 3) := dk_180 0 41 (dk_at dksX7_sheet_2 0 rfl rfl)
theorem dX7_sheet_50 : decode cX7_sheet 50 = .ok (.iload_n 1, 1) := dk_27 (dk_at dksX7_sheet_2 3 rfl rfl)
theorem dX7_sheet_51 : decode cX7_sheet 51 = .ok (.iload_n 3, 1) := dk_29 (dk_at dksX7_sheet_2 4 rfl rfl)
theorem dX7_sheet_52 : decode cX7_sheet 52 = .ok (.iastore, 1) := dk_79 (dk_at dksX7_sheet_2 5 rfl rfl)
theorem dX7_sheet_53 : decode cX7_sheet 53 = .ok (.iconst 0, 1) := dk_3 (dk_at dksX7_sheet_2 6 rfl rfl)
theorem dX7_sheet_54 : decode cX7_sheet 54 = .ok (.istore 4, 2) := dk_54 4 (dk_at dksX7_sheet_2 7 rfl rfl)
theorem dX7_sheet_56 : decode cX7_sheet 56 = .ok (.iload 4, 2) := dk_21 4 (dk_at dksX7_sheet_2 9 rfl rfl)
theorem dX7_sheet_58 : decode cX7_sheet 58 = .ok (.bipush 40, 2) := dk_16 40 (dk_at dksX7_sheet_2 11 rfl rfl)
theorem dX7_sheet_60 : decode cX7_sheet 60 = .ok (.if_icmp .ge 22, 3) := dk_162 0 22 (dk_at dksX7_sheet_2 13 rfl rfl)
theorem dX7_sheet_63 : decode cX7_sheet 63 = .ok (.aload_n 0, 1) := dk_42 (dk_at dksX7_sheet_2 16 rfl rfl)
theorem dX7_sheet_64 : decode cX7_sheet 64 = .ok (.getfield 44, 3) := dk_180 0 44 (dk_at dksX7_sheet_2 17 rfl rfl)
theorem dX7_sheet_67 : decode cX7_sheet 67 = .ok (.bipush 40, 2) := dk_16 40 (dk_at dksX7_sheet_2 20 rfl rfl)
theorem dX7_sheet_69 : decode cX7_sheet 69 = .ok (.iload_n 1, 1) := dk_27 (dk_at dksX7_sheet_2 22 rfl rfl)
theorem dX7_sheet_70 : decode cX7_sheet 70 = .ok (.imul, 1) := dk_104 (dk_at dksX7_sheet_2 23 rfl rfl)
theorem dX7_sheet_71 : decode cX7_sheet 71 = .ok (.iload 4, 2) := dk_21 4 (dk_at dksX7_sheet_3 0 rfl rfl)
theorem dX7_sheet_73 : decode cX7_sheet 73 = .ok (.iadd, 1) := dk_96 (dk_at dksX7_sheet_3 2 rfl rfl)
theorem dX7_sheet_74 : decode cX7_sheet 74 = .ok (.iconst 0, 1) := dk_3 (dk_at dksX7_sheet_3 3 rfl rfl)
theorem dX7_sheet_75 : decode cX7_sheet 75 = .ok (.iastore, 1) := dk_79 (dk_at dksX7_sheet_3 4 rfl rfl)
theorem dX7_sheet_76 : decode cX7_sheet 76 = .ok (.iinc 4 1, 3) := dk_132 4 1 (dk_at dksX7_sheet_3 5 rfl rfl)
theorem dX7_sheet_79 : decode cX7_sheet 79 = .ok (.goto (-23), 3) := dk_167 255 233 (dk_at dksX7_sheet_3 8 rfl rfl)
theorem dX7_sheet_82 : decode cX7_sheet 82 = .ok (.iconst 1, 1) := dk_4 (dk_at dksX7_sheet_3 11 rfl rfl)
theorem dX7_sheet_83 : decode cX7_sheet 83 = .ok (.ireturn, 1) := dk_172 (dk_at dksX7_sheet_3 12 rfl rfl)
abbrev cX7_lay : ByteArray := prog_11_method_76_code
def yX7_lay : MethodName := ⟨RX7, "lay", "(III)I"⟩
def dkwX7_lay_4 : List UInt8 := [16, 16, 122, 167, 0, 4, 29, 79, 4, 172]
abbrev dktX7_lay_4 : List UInt8 := dkwX7_lay_4 ++ []
def dkwX7_lay_3 : List UInt8 := [16, 24, 120, 16, 24, 122, 167, 0, 24, 42, 180, 0, 38, 27, 46, 4, 160, 0, 13, 29, 16, 16, 120]
abbrev dktX7_lay_3 : List UInt8 := dkwX7_lay_3 ++ dktX7_lay_4
def dkwX7_lay_2 : List UInt8 := [16, 244, 172, 42, 180, 0, 44, 16, 40, 27, 104, 28, 96, 42, 180, 0, 38, 27, 46, 154, 0, 13, 29]
abbrev dktX7_lay_2 : List UInt8 := dkwX7_lay_2 ++ dktX7_lay_3
def dkwX7_lay_1 : List UInt8 := [160, 0, 6, 16, 245, 172, 28, 133, 9, 42, 180, 0, 41, 27, 46, 4, 100, 133, 184, 0, 49, 154, 0, 6]
abbrev dktX7_lay_1 : List UInt8 := dkwX7_lay_1 ++ dktX7_lay_2
def dkwX7_lay_0 : List UInt8 := [27, 133, 9, 20, 0, 167, 184, 0, 49, 154, 0, 5, 2, 172, 42, 180, 0, 38, 27, 46, 16, 252]
abbrev dktX7_lay_0 : List UInt8 := dkwX7_lay_0 ++ dktX7_lay_1
theorem dksX7_lay_0 : cX7_lay.data.toList.drop 0 = dktX7_lay_0 := by decide +kernel
theorem dksX7_lay_1 : cX7_lay.data.toList.drop 22 = dktX7_lay_1 := dk_seg dksX7_lay_0 22 rfl rfl
theorem dksX7_lay_2 : cX7_lay.data.toList.drop 46 = dktX7_lay_2 := dk_seg dksX7_lay_1 24 rfl rfl
theorem dksX7_lay_3 : cX7_lay.data.toList.drop 69 = dktX7_lay_3 := dk_seg dksX7_lay_2 23 rfl rfl
theorem dksX7_lay_4 : cX7_lay.data.toList.drop 92 = dktX7_lay_4 := dk_seg dksX7_lay_3 23 rfl rfl
theorem dX7_lay_0 : decode cX7_lay 0 = .ok (.iload_n 1, 1) := dk_27 (dk_at dksX7_lay_0 0 rfl rfl)
theorem dX7_lay_1 : decode cX7_lay 1 = .ok (.i2l, 1) := dk_133 (dk_at dksX7_lay_0 1 rfl rfl)
theorem dX7_lay_2 : decode cX7_lay 2 = .ok (.lconst 0, 1) := dk_9 (dk_at dksX7_lay_0 2 rfl rfl)
theorem dX7_lay_3 : decode cX7_lay 3 = .ok (.ldc2_w 167, 3) := dk_20 0 167 (dk_at dksX7_lay_0 3 rfl rfl)
theorem dX7_lay_6 : decode cX7_lay 6 = .ok (.invokestatic 49, 3) := dk_184 0 49 (dk_at dksX7_lay_0 6 rfl rfl)
theorem dX7_lay_9 : decode cX7_lay 9 = .ok (.ifCond .ne 5, 3) := dk_154 0 5 (dk_at dksX7_lay_0 9 rfl rfl)
theorem dX7_lay_12 : decode cX7_lay 12 = .ok (.iconst (-1), 1) := dk_2 (dk_at dksX7_lay_0 12 rfl rfl)
theorem dX7_lay_13 : decode cX7_lay 13 = .ok (.ireturn, 1) := dk_172 (dk_at dksX7_lay_0 13 rfl rfl)
theorem dX7_lay_14 : decode cX7_lay 14 = .ok (.aload_n 0, 1) := dk_42 (dk_at dksX7_lay_0 14 rfl rfl)
theorem dX7_lay_15 : decode cX7_lay 15 = .ok (.getfield 38, 3) := dk_180 0 38 (dk_at dksX7_lay_0 15 rfl rfl)
theorem dX7_lay_18 : decode cX7_lay 18 = .ok (.iload_n 1, 1) := dk_27 (dk_at dksX7_lay_0 18 rfl rfl)
theorem dX7_lay_19 : decode cX7_lay 19 = .ok (.iaload, 1) := dk_46 (dk_at dksX7_lay_0 19 rfl rfl)
theorem dX7_lay_20 : decode cX7_lay 20 = .ok (.bipush (-4), 2) := dk_16 252 (dk_at dksX7_lay_0 20 rfl rfl)
theorem dX7_lay_22 : decode cX7_lay 22 = .ok (.if_icmp .ne 6, 3) := dk_160 0 6 (dk_at dksX7_lay_1 0 rfl rfl)
theorem dX7_lay_25 : decode cX7_lay 25 = .ok (.bipush (-11), 2) := dk_16 245 (dk_at dksX7_lay_1 3 rfl rfl)
theorem dX7_lay_27 : decode cX7_lay 27 = .ok (.ireturn, 1) := dk_172 (dk_at dksX7_lay_1 5 rfl rfl)
theorem dX7_lay_28 : decode cX7_lay 28 = .ok (.iload_n 2, 1) := dk_28 (dk_at dksX7_lay_1 6 rfl rfl)
theorem dX7_lay_29 : decode cX7_lay 29 = .ok (.i2l, 1) := dk_133 (dk_at dksX7_lay_1 7 rfl rfl)
theorem dX7_lay_30 : decode cX7_lay 30 = .ok (.lconst 0, 1) := dk_9 (dk_at dksX7_lay_1 8 rfl rfl)
theorem dX7_lay_31 : decode cX7_lay 31 = .ok (.aload_n 0, 1) := dk_42 (dk_at dksX7_lay_1 9 rfl rfl)
theorem dX7_lay_32 : decode cX7_lay 32 = .ok (.getfield 41, 3) := dk_180 0 41 (dk_at dksX7_lay_1 10 rfl rfl)
theorem dX7_lay_35 : decode cX7_lay 35 = .ok (.iload_n 1, 1) := dk_27 (dk_at dksX7_lay_1 13 rfl rfl)
theorem dX7_lay_36 : decode cX7_lay 36 = .ok (.iaload, 1) := dk_46 (dk_at dksX7_lay_1 14 rfl rfl)
theorem dX7_lay_37 : decode cX7_lay 37 = .ok (.iconst 1, 1) := dk_4 (dk_at dksX7_lay_1 15 rfl rfl)
theorem dX7_lay_38 : decode cX7_lay 38 = .ok (.isub, 1) := dk_100 (dk_at dksX7_lay_1 16 rfl rfl)
theorem dX7_lay_39 : decode cX7_lay 39 = .ok (.i2l, 1) := dk_133 (dk_at dksX7_lay_1 17 rfl rfl)
theorem dX7_lay_40 : decode cX7_lay 40 = .ok (.invokestatic 49, 3) := dk_184 0 49 (dk_at dksX7_lay_1 18 rfl rfl)
theorem dX7_lay_43 : decode cX7_lay 43 = .ok (.ifCond .ne 6, 3) := dk_154 0 6 (dk_at dksX7_lay_1 21 rfl rfl)
theorem dX7_lay_46 : decode cX7_lay 46 = .ok (.bipush (-12), 2) := dk_16 244 (dk_at dksX7_lay_2 0 rfl rfl)
theorem dX7_lay_48 : decode cX7_lay 48 = .ok (.ireturn, 1) := dk_172 (dk_at dksX7_lay_2 2 rfl rfl)
theorem dX7_lay_49 : decode cX7_lay 49 = .ok (.aload_n 0, 1) := dk_42 (dk_at dksX7_lay_2 3 rfl rfl)
theorem dX7_lay_50 : decode cX7_lay 50 = .ok (.getfield 44, 3) := dk_180 0 44 (dk_at dksX7_lay_2 4 rfl rfl)
theorem dX7_lay_53 : decode cX7_lay 53 = .ok (.bipush 40, 2) := dk_16 40 (dk_at dksX7_lay_2 7 rfl rfl)
theorem dX7_lay_55 : decode cX7_lay 55 = .ok (.iload_n 1, 1) := dk_27 (dk_at dksX7_lay_2 9 rfl rfl)
theorem dX7_lay_56 : decode cX7_lay 56 = .ok (.imul, 1) := dk_104 (dk_at dksX7_lay_2 10 rfl rfl)
theorem dX7_lay_57 : decode cX7_lay 57 = .ok (.iload_n 2, 1) := dk_28 (dk_at dksX7_lay_2 11 rfl rfl)
theorem dX7_lay_58 : decode cX7_lay 58 = .ok (.iadd, 1) := dk_96 (dk_at dksX7_lay_2 12 rfl rfl)
theorem dX7_lay_59 : decode cX7_lay 59 = .ok (.aload_n 0, 1) := dk_42 (dk_at dksX7_lay_2 13 rfl rfl)
theorem dX7_lay_60 : decode cX7_lay 60 = .ok (.getfield 38, 3) := dk_180 0 38 (dk_at dksX7_lay_2 14 rfl rfl)
theorem dX7_lay_63 : decode cX7_lay 63 = .ok (.iload_n 1, 1) := dk_27 (dk_at dksX7_lay_2 17 rfl rfl)
theorem dX7_lay_64 : decode cX7_lay 64 = .ok (.iaload, 1) := dk_46 (dk_at dksX7_lay_2 18 rfl rfl)
theorem dX7_lay_65 : decode cX7_lay 65 = .ok (.ifCond .ne 13, 3) := dk_154 0 13 (dk_at dksX7_lay_2 19 rfl rfl)
theorem dX7_lay_68 : decode cX7_lay 68 = .ok (.iload_n 3, 1) := dk_29 (dk_at dksX7_lay_2 22 rfl rfl)
theorem dX7_lay_69 : decode cX7_lay 69 = .ok (.bipush 24, 2) := dk_16 24 (dk_at dksX7_lay_3 0 rfl rfl)
theorem dX7_lay_71 : decode cX7_lay 71 = .ok (.ishl, 1) := dk_120 (dk_at dksX7_lay_3 2 rfl rfl)
theorem dX7_lay_72 : decode cX7_lay 72 = .ok (.bipush 24, 2) := dk_16 24 (dk_at dksX7_lay_3 3 rfl rfl)
theorem dX7_lay_74 : decode cX7_lay 74 = .ok (.ishr, 1) := dk_122 (dk_at dksX7_lay_3 5 rfl rfl)
theorem dX7_lay_75 : decode cX7_lay 75 = .ok (.goto 24, 3) := dk_167 0 24 (dk_at dksX7_lay_3 6 rfl rfl)
theorem dX7_lay_78 : decode cX7_lay 78 = .ok (.aload_n 0, 1) := dk_42 (dk_at dksX7_lay_3 9 rfl rfl)
theorem dX7_lay_79 : decode cX7_lay 79 = .ok (.getfield 38, 3) := dk_180 0 38 (dk_at dksX7_lay_3 10 rfl rfl)
theorem dX7_lay_82 : decode cX7_lay 82 = .ok (.iload_n 1, 1) := dk_27 (dk_at dksX7_lay_3 13 rfl rfl)
theorem dX7_lay_83 : decode cX7_lay 83 = .ok (.iaload, 1) := dk_46 (dk_at dksX7_lay_3 14 rfl rfl)
theorem dX7_lay_84 : decode cX7_lay 84 = .ok (.iconst 1, 1) := dk_4 (dk_at dksX7_lay_3 15 rfl rfl)
theorem dX7_lay_85 : decode cX7_lay 85 = .ok (.if_icmp .ne 13, 3) := dk_160 0 13 (dk_at dksX7_lay_3 16 rfl rfl)
theorem dX7_lay_88 : decode cX7_lay 88 = .ok (.iload_n 3, 1) := dk_29 (dk_at dksX7_lay_3 19 rfl rfl)
theorem dX7_lay_89 : decode cX7_lay 89 = .ok (.bipush 16, 2) := dk_16 16 (dk_at dksX7_lay_3 20 rfl rfl)
theorem dX7_lay_91 : decode cX7_lay 91 = .ok (.ishl, 1) := dk_120 (dk_at dksX7_lay_3 22 rfl rfl)
theorem dX7_lay_92 : decode cX7_lay 92 = .ok (.bipush 16, 2) := dk_16 16 (dk_at dksX7_lay_4 0 rfl rfl)
theorem dX7_lay_94 : decode cX7_lay 94 = .ok (.ishr, 1) := dk_122 (dk_at dksX7_lay_4 2 rfl rfl)
theorem dX7_lay_95 : decode cX7_lay 95 = .ok (.goto 4, 3) := dk_167 0 4 (dk_at dksX7_lay_4 3 rfl rfl)
theorem dX7_lay_98 : decode cX7_lay 98 = .ok (.iload_n 3, 1) := dk_29 (dk_at dksX7_lay_4 6 rfl rfl)
theorem dX7_lay_99 : decode cX7_lay 99 = .ok (.iastore, 1) := dk_79 (dk_at dksX7_lay_4 7 rfl rfl)
theorem dX7_lay_100 : decode cX7_lay 100 = .ok (.iconst 1, 1) := dk_4 (dk_at dksX7_lay_4 8 rfl rfl)
theorem dX7_lay_101 : decode cX7_lay 101 = .ok (.ireturn, 1) := dk_172 (dk_at dksX7_lay_4 9 rfl rfl)
abbrev cX7_read : ByteArray := prog_11_method_78_code
def yX7_read : MethodName := ⟨RX7, "read", "(IIII)I"⟩
def dkwX7_read_7 : List UInt8 := [172, 132, 6, 1, 132, 7, 1, 167, 255, 141, 42, 21, 5, 181, 1, 6, 21, 6, 172]
abbrev dktX7_read_7 : List UInt8 := dkwX7_read_7 ++ []
def dkwX7_read_6 : List UInt8 := [29, 96, 21, 7, 96, 46, 182, 1, 3, 154, 0, 16, 42, 16, 84, 3, 182, 0, 196, 16, 236, 21, 6, 100]
abbrev dktX7_read_6 : List UInt8 := dkwX7_read_6 ++ dktX7_read_7
def dkwX7_read_5 : List UInt8 := [154, 0, 7, 5, 167, 0, 4, 3, 54, 5, 21, 5, 154, 0, 40, 42, 42, 180, 0, 44, 16, 40, 27, 104]
abbrev dktX7_read_5 : List UInt8 := dkwX7_read_5 ++ dktX7_read_6
def dkwX7_read_4 : List UInt8 := [167, 0, 30, 29, 133, 21, 7, 133, 97, 9, 42, 180, 0, 41, 27, 46, 4, 100, 133, 184, 0, 49]
abbrev dktX7_read_4 : List UInt8 := dkwX7_read_4 ++ dktX7_read_5
def dkwX7_read_3 : List UInt8 := [27, 46, 16, 252, 160, 0, 7, 4, 167, 0, 44, 42, 180, 0, 38, 27, 46, 28, 159, 0, 7, 6]
abbrev dktX7_read_3 : List UInt8 := dkwX7_read_3 ++ dktX7_read_4
def dkwX7_read_2 : List UInt8 := [54, 5, 3, 54, 6, 3, 54, 7, 21, 7, 21, 4, 162, 0, 114, 21, 5, 154, 0, 109, 42, 180, 0, 38]
abbrev dktX7_read_2 : List UInt8 := dkwX7_read_2 ++ dktX7_read_3
def dkwX7_read_1 : List UInt8 := [21, 4, 133, 9, 20, 1, 1, 184, 0, 49, 154, 0, 5, 2, 172, 42, 3, 16, 84, 182, 0, 196, 3]
abbrev dktX7_read_1 : List UInt8 := dkwX7_read_1 ++ dktX7_read_2
def dkwX7_read_0 : List UInt8 := [27, 133, 9, 20, 0, 167, 184, 0, 49, 153, 0, 28, 28, 133, 9, 20, 0, 255, 184, 0, 49, 153, 0, 16]
abbrev dktX7_read_0 : List UInt8 := dkwX7_read_0 ++ dktX7_read_1
theorem dksX7_read_0 : cX7_read.data.toList.drop 0 = dktX7_read_0 := by decide +kernel
theorem dksX7_read_1 : cX7_read.data.toList.drop 24 = dktX7_read_1 := dk_seg dksX7_read_0 24 rfl rfl
theorem dksX7_read_2 : cX7_read.data.toList.drop 47 = dktX7_read_2 := dk_seg dksX7_read_1 23 rfl rfl
theorem dksX7_read_3 : cX7_read.data.toList.drop 71 = dktX7_read_3 := dk_seg dksX7_read_2 24 rfl rfl
theorem dksX7_read_4 : cX7_read.data.toList.drop 93 = dktX7_read_4 := dk_seg dksX7_read_3 22 rfl rfl
theorem dksX7_read_5 : cX7_read.data.toList.drop 115 = dktX7_read_5 := dk_seg dksX7_read_4 22 rfl rfl
theorem dksX7_read_6 : cX7_read.data.toList.drop 139 = dktX7_read_6 := dk_seg dksX7_read_5 24 rfl rfl
theorem dksX7_read_7 : cX7_read.data.toList.drop 163 = dktX7_read_7 := dk_seg dksX7_read_6 24 rfl rfl
theorem dX7_read_0 : decode cX7_read 0 = .ok (.iload_n 1, 1) := dk_27 (dk_at dksX7_read_0 0 rfl rfl)
theorem dX7_read_1 : decode cX7_read 1 = .ok (.i2l, 1) := dk_133 (dk_at dksX7_read_0 1 rfl rfl)
theorem dX7_read_2 : decode cX7_read 2 = .ok (.lconst 0, 1) := dk_9 (dk_at dksX7_read_0 2 rfl rfl)
theorem dX7_read_3 : decode cX7_read 3 = .ok (.ldc2_w 167, 3) := dk_20 0 167 (dk_at dksX7_read_0 3 rfl rfl)
theorem dX7_read_6 : decode cX7_read 6 = .ok (.invokestatic 49, 3) := dk_184 0 49 (dk_at dksX7_read_0 6 rfl rfl)
theorem dX7_read_9 : decode cX7_read 9 = .ok (.ifCond .eq 28, 3) := dk_153 0 28 (dk_at dksX7_read_0 9 rfl rfl)
theorem dX7_read_12 : decode cX7_read 12 = .ok (.iload_n 2, 1) := dk_28 (dk_at dksX7_read_0 12 rfl rfl)
theorem dX7_read_13 : decode cX7_read 13 = .ok (.i2l, 1) := dk_133 (dk_at dksX7_read_0 13 rfl rfl)
theorem dX7_read_14 : decode cX7_read 14 = .ok (.lconst 0, 1) := dk_9 (dk_at dksX7_read_0 14 rfl rfl)
theorem dX7_read_15 : decode cX7_read 15 = .ok (.ldc2_w 255, 3) := dk_20 0 255 (dk_at dksX7_read_0 15 rfl rfl)
theorem dX7_read_18 : decode cX7_read 18 = .ok (.invokestatic 49, 3) := dk_184 0 49 (dk_at dksX7_read_0 18 rfl rfl)
theorem dX7_read_21 : decode cX7_read 21 = .ok (.ifCond .eq 16, 3) := dk_153 0 16 (dk_at dksX7_read_0 21 rfl rfl)
theorem dX7_read_24 : decode cX7_read 24 = .ok (.iload 4, 2) := dk_21 4 (dk_at dksX7_read_1 0 rfl rfl)
theorem dX7_read_26 : decode cX7_read 26 = .ok (.i2l, 1) := dk_133 (dk_at dksX7_read_1 2 rfl rfl)
theorem dX7_read_27 : decode cX7_read 27 = .ok (.lconst 0, 1) := dk_9 (dk_at dksX7_read_1 3 rfl rfl)
theorem dX7_read_28 : decode cX7_read 28 = .ok (.ldc2_w 257, 3) := dk_20 1 1 (dk_at dksX7_read_1 4 rfl rfl)
theorem dX7_read_31 : decode cX7_read 31 = .ok (.invokestatic 49, 3) := dk_184 0 49 (dk_at dksX7_read_1 7 rfl rfl)
theorem dX7_read_34 : decode cX7_read 34 = .ok (.ifCond .ne 5, 3) := dk_154 0 5 (dk_at dksX7_read_1 10 rfl rfl)
theorem dX7_read_37 : decode cX7_read 37 = .ok (.iconst (-1), 1) := dk_2 (dk_at dksX7_read_1 13 rfl rfl)
theorem dX7_read_38 : decode cX7_read 38 = .ok (.ireturn, 1) := dk_172 (dk_at dksX7_read_1 14 rfl rfl)
theorem dX7_read_39 : decode cX7_read 39 = .ok (.aload_n 0, 1) := dk_42 (dk_at dksX7_read_1 15 rfl rfl)
theorem dX7_read_40 : decode cX7_read 40 = .ok (.iconst 0, 1) := dk_3 (dk_at dksX7_read_1 16 rfl rfl)
theorem dX7_read_41 : decode cX7_read 41 = .ok (.bipush 84, 2) := dk_16 84 (dk_at dksX7_read_1 17 rfl rfl)
theorem dX7_read_43 : decode cX7_read 43 = .ok (.invokevirtual 196, 3) := dk_182 0 196 (dk_at dksX7_read_1 19 rfl rfl)
theorem dX7_read_46 : decode cX7_read 46 = .ok (.iconst 0, 1) := dk_3 (dk_at dksX7_read_1 22 rfl rfl)
theorem dX7_read_47 : decode cX7_read 47 = .ok (.istore 5, 2) := dk_54 5 (dk_at dksX7_read_2 0 rfl rfl)
theorem dX7_read_49 : decode cX7_read 49 = .ok (.iconst 0, 1) := dk_3 (dk_at dksX7_read_2 2 rfl rfl)
theorem dX7_read_50 : decode cX7_read 50 = .ok (.istore 6, 2) := dk_54 6 (dk_at dksX7_read_2 3 rfl rfl)
theorem dX7_read_52 : decode cX7_read 52 = .ok (.iconst 0, 1) := dk_3 (dk_at dksX7_read_2 5 rfl rfl)
theorem dX7_read_53 : decode cX7_read 53 = .ok (.istore 7, 2) := dk_54 7 (dk_at dksX7_read_2 6 rfl rfl)
theorem dX7_read_55 : decode cX7_read 55 = .ok (.iload 7, 2) := dk_21 7 (dk_at dksX7_read_2 8 rfl rfl)
theorem dX7_read_57 : decode cX7_read 57 = .ok (.iload 4, 2) := dk_21 4 (dk_at dksX7_read_2 10 rfl rfl)
theorem dX7_read_59 : decode cX7_read 59 = .ok (.if_icmp .ge 114, 3) := dk_162 0 114 (dk_at dksX7_read_2 12 rfl rfl)
theorem dX7_read_62 : decode cX7_read 62 = .ok (.iload 5, 2) := dk_21 5 (dk_at dksX7_read_2 15 rfl rfl)
theorem dX7_read_64 : decode cX7_read 64 = .ok (.ifCond .ne 109, 3) := dk_154 0 109 (dk_at dksX7_read_2 17 rfl rfl)
theorem dX7_read_67 : decode cX7_read 67 = .ok (.aload_n 0, 1) := dk_42 (dk_at dksX7_read_2 20 rfl rfl)
theorem dX7_read_68 : decode cX7_read 68 = .ok (.getfield 38, 3) := dk_180 0 38 (dk_at dksX7_read_2 21 rfl rfl)
theorem dX7_read_71 : decode cX7_read 71 = .ok (.iload_n 1, 1) := dk_27 (dk_at dksX7_read_3 0 rfl rfl)
theorem dX7_read_72 : decode cX7_read 72 = .ok (.iaload, 1) := dk_46 (dk_at dksX7_read_3 1 rfl rfl)
theorem dX7_read_73 : decode cX7_read 73 = .ok (.bipush (-4), 2) := dk_16 252 (dk_at dksX7_read_3 2 rfl rfl)
theorem dX7_read_75 : decode cX7_read 75 = .ok (.if_icmp .ne 7, 3) := dk_160 0 7 (dk_at dksX7_read_3 4 rfl rfl)
theorem dX7_read_78 : decode cX7_read 78 = .ok (.iconst 1, 1) := dk_4 (dk_at dksX7_read_3 7 rfl rfl)
theorem dX7_read_79 : decode cX7_read 79 = .ok (.goto 44, 3) := dk_167 0 44 (dk_at dksX7_read_3 8 rfl rfl)
theorem dX7_read_82 : decode cX7_read 82 = .ok (.aload_n 0, 1) := dk_42 (dk_at dksX7_read_3 11 rfl rfl)
theorem dX7_read_83 : decode cX7_read 83 = .ok (.getfield 38, 3) := dk_180 0 38 (dk_at dksX7_read_3 12 rfl rfl)
theorem dX7_read_86 : decode cX7_read 86 = .ok (.iload_n 1, 1) := dk_27 (dk_at dksX7_read_3 15 rfl rfl)
theorem dX7_read_87 : decode cX7_read 87 = .ok (.iaload, 1) := dk_46 (dk_at dksX7_read_3 16 rfl rfl)
theorem dX7_read_88 : decode cX7_read 88 = .ok (.iload_n 2, 1) := dk_28 (dk_at dksX7_read_3 17 rfl rfl)
theorem dX7_read_89 : decode cX7_read 89 = .ok (.if_icmp .eq 7, 3) := dk_159 0 7 (dk_at dksX7_read_3 18 rfl rfl)
theorem dX7_read_92 : decode cX7_read 92 = .ok (.iconst 3, 1) := dk_6 (dk_at dksX7_read_3 21 rfl rfl)
theorem dX7_read_93 : decode cX7_read 93 = .ok (.goto 30, 3) := dk_167 0 30 (dk_at dksX7_read_4 0 rfl rfl)
theorem dX7_read_96 : decode cX7_read 96 = .ok (.iload_n 3, 1) := dk_29 (dk_at dksX7_read_4 3 rfl rfl)
theorem dX7_read_97 : decode cX7_read 97 = .ok (.i2l, 1) := dk_133 (dk_at dksX7_read_4 4 rfl rfl)
theorem dX7_read_98 : decode cX7_read 98 = .ok (.iload 7, 2) := dk_21 7 (dk_at dksX7_read_4 5 rfl rfl)
theorem dX7_read_100 : decode cX7_read 100 = .ok (.i2l, 1) := dk_133 (dk_at dksX7_read_4 7 rfl rfl)
theorem dX7_read_101 : decode cX7_read 101 = .ok (.ladd, 1) := dk_97 (dk_at dksX7_read_4 8 rfl rfl)
theorem dX7_read_102 : decode cX7_read 102 = .ok (.lconst 0, 1) := dk_9 (dk_at dksX7_read_4 9 rfl rfl)
theorem dX7_read_103 : decode cX7_read 103 = .ok (.aload_n 0, 1) := dk_42 (dk_at dksX7_read_4 10 rfl rfl)
theorem dX7_read_104 : decode cX7_read 104 = .ok (.getfield 41, 3) := dk_180 0 41 (dk_at dksX7_read_4 11 rfl rfl)
theorem dX7_read_107 : decode cX7_read 107 = .ok (.iload_n 1, 1) := dk_27 (dk_at dksX7_read_4 14 rfl rfl)
theorem dX7_read_108 : decode cX7_read 108 = .ok (.iaload, 1) := dk_46 (dk_at dksX7_read_4 15 rfl rfl)
theorem dX7_read_109 : decode cX7_read 109 = .ok (.iconst 1, 1) := dk_4 (dk_at dksX7_read_4 16 rfl rfl)
theorem dX7_read_110 : decode cX7_read 110 = .ok (.isub, 1) := dk_100 (dk_at dksX7_read_4 17 rfl rfl)
theorem dX7_read_111 : decode cX7_read 111 = .ok (.i2l, 1) := dk_133 (dk_at dksX7_read_4 18 rfl rfl)
theorem dX7_read_112 : decode cX7_read 112 = .ok (.invokestatic 49, 3) := dk_184 0 49 (dk_at dksX7_read_4 19 rfl rfl)
theorem dX7_read_115 : decode cX7_read 115 = .ok (.ifCond .ne 7, 3) := dk_154 0 7 (dk_at dksX7_read_5 0 rfl rfl)
theorem dX7_read_118 : decode cX7_read 118 = .ok (.iconst 2, 1) := dk_5 (dk_at dksX7_read_5 3 rfl rfl)
theorem dX7_read_119 : decode cX7_read 119 = .ok (.goto 4, 3) := dk_167 0 4 (dk_at dksX7_read_5 4 rfl rfl)
theorem dX7_read_122 : decode cX7_read 122 = .ok (.iconst 0, 1) := dk_3 (dk_at dksX7_read_5 7 rfl rfl)
theorem dX7_read_123 : decode cX7_read 123 = .ok (.istore 5, 2) := dk_54 5 (dk_at dksX7_read_5 8 rfl rfl)
theorem dX7_read_125 : decode cX7_read 125 = .ok (.iload 5, 2) := dk_21 5 (dk_at dksX7_read_5 10 rfl rfl)
theorem dX7_read_127 : decode cX7_read 127 = .ok (.ifCond .ne 40, 3) := dk_154 0 40 (dk_at dksX7_read_5 12 rfl rfl)
theorem dX7_read_130 : decode cX7_read 130 = .ok (.aload_n 0, 1) := dk_42 (dk_at dksX7_read_5 15 rfl rfl)
theorem dX7_read_131 : decode cX7_read 131 = .ok (.aload_n 0, 1) := dk_42 (dk_at dksX7_read_5 16 rfl rfl)
theorem dX7_read_132 : decode cX7_read 132 = .ok (.getfield 44, 3) := dk_180 0 44 (dk_at dksX7_read_5 17 rfl rfl)
theorem dX7_read_135 : decode cX7_read 135 = .ok (.bipush 40, 2) := dk_16 40 (dk_at dksX7_read_5 20 rfl rfl)
theorem dX7_read_137 : decode cX7_read 137 = .ok (.iload_n 1, 1) := dk_27 (dk_at dksX7_read_5 22 rfl rfl)
theorem dX7_read_138 : decode cX7_read 138 = .ok (.imul, 1) := dk_104 (dk_at dksX7_read_5 23 rfl rfl)
theorem dX7_read_139 : decode cX7_read 139 = .ok (.iload_n 3, 1) := dk_29 (dk_at dksX7_read_6 0 rfl rfl)
theorem dX7_read_140 : decode cX7_read 140 = .ok (.iadd, 1) := dk_96 (dk_at dksX7_read_6 1 rfl rfl)
theorem dX7_read_141 : decode cX7_read 141 = .ok (.iload 7, 2) := dk_21 7 (dk_at dksX7_read_6 2 rfl rfl)
theorem dX7_read_143 : decode cX7_read 143 = .ok (.iadd, 1) := dk_96 (dk_at dksX7_read_6 4 rfl rfl)
theorem dX7_read_144 : decode cX7_read 144 = .ok (.iaload, 1) := dk_46 (dk_at dksX7_read_6 5 rfl rfl)
theorem dX7_read_145 : decode cX7_read 145 = .ok (.invokevirtual 259, 3) := dk_182 1 3 (dk_at dksX7_read_6 6 rfl rfl)
theorem dX7_read_148 : decode cX7_read 148 = .ok (.ifCond .ne 16, 3) := dk_154 0 16 (dk_at dksX7_read_6 9 rfl rfl)
theorem dX7_read_151 : decode cX7_read 151 = .ok (.aload_n 0, 1) := dk_42 (dk_at dksX7_read_6 12 rfl rfl)
theorem dX7_read_152 : decode cX7_read 152 = .ok (.bipush 84, 2) := dk_16 84 (dk_at dksX7_read_6 13 rfl rfl)
theorem dX7_read_154 : decode cX7_read 154 = .ok (.iconst 0, 1) := dk_3 (dk_at dksX7_read_6 15 rfl rfl)
theorem dX7_read_155 : decode cX7_read 155 = .ok (.invokevirtual 196, 3) := dk_182 0 196 (dk_at dksX7_read_6 16 rfl rfl)
theorem dX7_read_158 : decode cX7_read 158 = .ok (.bipush (-20), 2) := dk_16 236 (dk_at dksX7_read_6 19 rfl rfl)
theorem dX7_read_160 : decode cX7_read 160 = .ok (.iload 6, 2) := dk_21 6 (dk_at dksX7_read_6 21 rfl rfl)
theorem dX7_read_162 : decode cX7_read 162 = .ok (.isub, 1) := dk_100 (dk_at dksX7_read_6 23 rfl rfl)
theorem dX7_read_163 : decode cX7_read 163 = .ok (.ireturn, 1) := dk_172 (dk_at dksX7_read_7 0 rfl rfl)
theorem dX7_read_164 : decode cX7_read 164 = .ok (.iinc 6 1, 3) := dk_132 6 1 (dk_at dksX7_read_7 1 rfl rfl)
theorem dX7_read_167 : decode cX7_read 167 = .ok (.iinc 7 1, 3) := dk_132 7 1 (dk_at dksX7_read_7 4 rfl rfl)
theorem dX7_read_170 : decode cX7_read 170 = .ok (.goto (-115), 3) := dk_167 255 141 (dk_at dksX7_read_7 7 rfl rfl)
theorem dX7_read_173 : decode cX7_read 173 = .ok (.aload_n 0, 1) := dk_42 (dk_at dksX7_read_7 10 rfl rfl)
theorem dX7_read_174 : decode cX7_read 174 = .ok (.iload 5, 2) := dk_21 5 (dk_at dksX7_read_7 11 rfl rfl)
theorem dX7_read_176 : decode cX7_read 176 = .ok (.putfield 262, 3) := dk_181 1 6 (dk_at dksX7_read_7 13 rfl rfl)
theorem dX7_read_179 : decode cX7_read 179 = .ok (.iload 6, 2) := dk_21 6 (dk_at dksX7_read_7 16 rfl rfl)
theorem dX7_read_181 : decode cX7_read 181 = .ok (.ireturn, 1) := dk_172 (dk_at dksX7_read_7 18 rfl rfl)
abbrev cX7_does : ByteArray := prog_11_method_77_code
def yX7_does : MethodName := ⟨RX7, "does", "(I)Z"⟩
def dkwX7_does_2 : List UInt8 := [87, 167, 0, 10, 42, 3, 27, 182, 0, 182, 87, 4, 172]
abbrev dktX7_does_2 : List UInt8 := dkwX7_does_2 ++ []
def dkwX7_does_1 : List UInt8 := [27, 8, 160, 0, 11, 42, 3, 182, 0, 187, 167, 0, 25, 27, 16, 6, 160, 0, 12, 42, 3, 182, 0, 190]
abbrev dktX7_does_1 : List UInt8 := dkwX7_does_1 ++ dktX7_does_2
def dkwX7_does_0 : List UInt8 := [42, 27, 182, 0, 179, 153, 0, 17, 27, 8, 162, 0, 14, 42, 3, 27, 182, 0, 131, 154, 0, 5, 3, 172]
abbrev dktX7_does_0 : List UInt8 := dkwX7_does_0 ++ dktX7_does_1
theorem dksX7_does_0 : cX7_does.data.toList.drop 0 = dktX7_does_0 := by decide +kernel
theorem dksX7_does_1 : cX7_does.data.toList.drop 24 = dktX7_does_1 := dk_seg dksX7_does_0 24 rfl rfl
theorem dksX7_does_2 : cX7_does.data.toList.drop 48 = dktX7_does_2 := dk_seg dksX7_does_1 24 rfl rfl
theorem dX7_does_0 : decode cX7_does 0 = .ok (.aload_n 0, 1) := dk_42 (dk_at dksX7_does_0 0 rfl rfl)
theorem dX7_does_1 : decode cX7_does 1 = .ok (.iload_n 1, 1) := dk_27 (dk_at dksX7_does_0 1 rfl rfl)
theorem dX7_does_2 : decode cX7_does 2 = .ok (.invokevirtual 179, 3) := dk_182 0 179 (dk_at dksX7_does_0 2 rfl rfl)
theorem dX7_does_5 : decode cX7_does 5 = .ok (.ifCond .eq 17, 3) := dk_153 0 17 (dk_at dksX7_does_0 5 rfl rfl)
theorem dX7_does_8 : decode cX7_does 8 = .ok (.iload_n 1, 1) := dk_27 (dk_at dksX7_does_0 8 rfl rfl)
theorem dX7_does_9 : decode cX7_does 9 = .ok (.iconst 5, 1) := dk_8 (dk_at dksX7_does_0 9 rfl rfl)
theorem dX7_does_10 : decode cX7_does 10 = .ok (.if_icmp .ge 14, 3) := dk_162 0 14 (dk_at dksX7_does_0 10 rfl rfl)
theorem dX7_does_13 : decode cX7_does 13 = .ok (.aload_n 0, 1) := dk_42 (dk_at dksX7_does_0 13 rfl rfl)
theorem dX7_does_14 : decode cX7_does 14 = .ok (.iconst 0, 1) := dk_3 (dk_at dksX7_does_0 14 rfl rfl)
theorem dX7_does_15 : decode cX7_does 15 = .ok (.iload_n 1, 1) := dk_27 (dk_at dksX7_does_0 15 rfl rfl)
theorem dX7_does_16 : decode cX7_does 16 = .ok (.invokevirtual 131, 3) := dk_182 0 131 (dk_at dksX7_does_0 16 rfl rfl)
theorem dX7_does_19 : decode cX7_does 19 = .ok (.ifCond .ne 5, 3) := dk_154 0 5 (dk_at dksX7_does_0 19 rfl rfl)
theorem dX7_does_22 : decode cX7_does 22 = .ok (.iconst 0, 1) := dk_3 (dk_at dksX7_does_0 22 rfl rfl)
theorem dX7_does_23 : decode cX7_does 23 = .ok (.ireturn, 1) := dk_172 (dk_at dksX7_does_0 23 rfl rfl)
theorem dX7_does_24 : decode cX7_does 24 = .ok (.iload_n 1, 1) := dk_27 (dk_at dksX7_does_1 0 rfl rfl)
theorem dX7_does_25 : decode cX7_does 25 = .ok (.iconst 5, 1) := dk_8 (dk_at dksX7_does_1 1 rfl rfl)
theorem dX7_does_26 : decode cX7_does 26 = .ok (.if_icmp .ne 11, 3) := dk_160 0 11 (dk_at dksX7_does_1 2 rfl rfl)
theorem dX7_does_29 : decode cX7_does 29 = .ok (.aload_n 0, 1) := dk_42 (dk_at dksX7_does_1 5 rfl rfl)
theorem dX7_does_30 : decode cX7_does 30 = .ok (.iconst 0, 1) := dk_3 (dk_at dksX7_does_1 6 rfl rfl)
theorem dX7_does_31 : decode cX7_does 31 = .ok (.invokevirtual 187, 3) := dk_182 0 187 (dk_at dksX7_does_1 7 rfl rfl)
theorem dX7_does_34 : decode cX7_does 34 = .ok (.goto 25, 3) := dk_167 0 25 (dk_at dksX7_does_1 10 rfl rfl)
theorem dX7_does_37 : decode cX7_does 37 = .ok (.iload_n 1, 1) := dk_27 (dk_at dksX7_does_1 13 rfl rfl)
theorem dX7_does_38 : decode cX7_does 38 = .ok (.bipush 6, 2) := dk_16 6 (dk_at dksX7_does_1 14 rfl rfl)
theorem dX7_does_40 : decode cX7_does 40 = .ok (.if_icmp .ne 12, 3) := dk_160 0 12 (dk_at dksX7_does_1 16 rfl rfl)
theorem dX7_does_43 : decode cX7_does 43 = .ok (.aload_n 0, 1) := dk_42 (dk_at dksX7_does_1 19 rfl rfl)
theorem dX7_does_44 : decode cX7_does 44 = .ok (.iconst 0, 1) := dk_3 (dk_at dksX7_does_1 20 rfl rfl)
theorem dX7_does_45 : decode cX7_does 45 = .ok (.invokevirtual 190, 3) := dk_182 0 190 (dk_at dksX7_does_1 21 rfl rfl)
theorem dX7_does_48 : decode cX7_does 48 = .ok (.pop, 1) := dk_87 (dk_at dksX7_does_2 0 rfl rfl)
theorem dX7_does_49 : decode cX7_does 49 = .ok (.goto 10, 3) := dk_167 0 10 (dk_at dksX7_does_2 1 rfl rfl)
theorem dX7_does_52 : decode cX7_does 52 = .ok (.aload_n 0, 1) := dk_42 (dk_at dksX7_does_2 4 rfl rfl)
theorem dX7_does_53 : decode cX7_does 53 = .ok (.iconst 0, 1) := dk_3 (dk_at dksX7_does_2 5 rfl rfl)
theorem dX7_does_54 : decode cX7_does 54 = .ok (.iload_n 1, 1) := dk_27 (dk_at dksX7_does_2 6 rfl rfl)
theorem dX7_does_55 : decode cX7_does 55 = .ok (.invokevirtual 182, 3) := dk_182 0 182 (dk_at dksX7_does_2 7 rfl rfl)
theorem dX7_does_58 : decode cX7_does 58 = .ok (.pop, 1) := dk_87 (dk_at dksX7_does_2 10 rfl rfl)
theorem dX7_does_59 : decode cX7_does 59 = .ok (.iconst 1, 1) := dk_4 (dk_at dksX7_does_2 11 rfl rfl)
theorem dX7_does_60 : decode cX7_does 60 = .ok (.ireturn, 1) := dk_172 (dk_at dksX7_does_2 12 rfl rfl)
abbrev cX7_torn : ByteArray := prog_11_method_79_code
def yX7_torn : MethodName := ⟨RX7, "torn", "()I"⟩
theorem dX7_torn_0 : decode cX7_torn 0 = .ok (.aload_n 0, 1) := by decide +kernel
theorem dX7_torn_1 : decode cX7_torn 1 = .ok (.getfield 262, 3) := by decide +kernel
theorem dX7_torn_4 : decode cX7_torn 4 = .ok (.ireturn, 1) := by decide +kernel
abbrev cX7_count : ByteArray := prog_11_method_80_code
def yX7_count : MethodName := ⟨RX7, "count", "(I)I"⟩
def dkwX7_count_7 : List UInt8 := [160, 0, 8, 16, 252, 167, 0, 9, 42, 180, 0, 41, 3, 46, 172, 28, 172, 29, 172, 2, 172]
abbrev dktX7_count_7 : List UInt8 := dkwX7_count_7 ++ []
def dkwX7_count_6 : List UInt8 := [51, 153, 0, 7, 4, 167, 0, 4, 3, 96, 172, 42, 180, 0, 53, 172, 42, 180, 0, 38, 3, 46, 16, 252]
abbrev dktX7_count_6 : List UInt8 := dkwX7_count_6 ++ dktX7_count_7
def dkwX7_count_5 : List UInt8 := [42, 180, 0, 128, 172, 42, 180, 0, 34, 3, 51, 153, 0, 7, 4, 167, 0, 4, 3, 42, 180, 0, 34, 4]
abbrev dktX7_count_5 : List UInt8 := dkwX7_count_5 ++ dktX7_count_6
def dkwX7_count_4 : List UInt8 := [170, 0, 0, 0, 0, 0, 0, 107, 0, 0, 0, 0, 0, 0, 0, 5, 0, 0, 0, 40, 0, 0, 0, 45, 0, 0, 0, 75, 0, 0, 0, 80, 0, 0, 0, 103, 0, 0, 0, 105]
abbrev dktX7_count_4 : List UInt8 := dkwX7_count_4 ++ dktX7_count_5
def dkwX7_count_3 : List UInt8 := [16, 6, 160, 0, 7, 4, 167, 0, 4, 3, 96, 62, 132, 4, 1, 167, 255, 218, 27]
abbrev dktX7_count_3 : List UInt8 := dkwX7_count_3 ++ dktX7_count_4
def dkwX7_count_2 : List UInt8 := [21, 4, 42, 180, 0, 7, 16, 27, 46, 162, 0, 32, 29, 42, 180, 0, 7, 16, 19, 21, 4, 96, 46]
abbrev dktX7_count_2 : List UInt8 := dkwX7_count_2 ++ dktX7_count_3
def dkwX7_count_1 : List UInt8 := [21, 4, 96, 46, 158, 0, 7, 4, 167, 0, 4, 3, 96, 61, 132, 4, 1, 167, 255, 223, 3, 54, 4]
abbrev dktX7_count_1 : List UInt8 := dkwX7_count_1 ++ dktX7_count_2
def dkwX7_count_0 : List UInt8 := [3, 61, 3, 62, 3, 54, 4, 21, 4, 42, 180, 0, 125, 162, 0, 30, 28, 42, 180, 0, 7, 16, 10]
abbrev dktX7_count_0 : List UInt8 := dkwX7_count_0 ++ dktX7_count_1
theorem dksX7_count_0 : cX7_count.data.toList.drop 0 = dktX7_count_0 := by decide +kernel
theorem dksX7_count_1 : cX7_count.data.toList.drop 23 = dktX7_count_1 := dk_seg dksX7_count_0 23 rfl rfl
theorem dksX7_count_2 : cX7_count.data.toList.drop 46 = dktX7_count_2 := dk_seg dksX7_count_1 23 rfl rfl
theorem dksX7_count_3 : cX7_count.data.toList.drop 69 = dktX7_count_3 := dk_seg dksX7_count_2 23 rfl rfl
theorem dksX7_count_4 : cX7_count.data.toList.drop 88 = dktX7_count_4 := dk_seg dksX7_count_3 19 rfl rfl
theorem dksX7_count_5 : cX7_count.data.toList.drop 128 = dktX7_count_5 := dk_seg dksX7_count_4 40 rfl rfl
theorem dksX7_count_6 : cX7_count.data.toList.drop 152 = dktX7_count_6 := dk_seg dksX7_count_5 24 rfl rfl
theorem dksX7_count_7 : cX7_count.data.toList.drop 176 = dktX7_count_7 := dk_seg dksX7_count_6 24 rfl rfl
theorem dX7_count_0 : decode cX7_count 0 = .ok (.iconst 0, 1) := dk_3 (dk_at dksX7_count_0 0 rfl rfl)
theorem dX7_count_1 : decode cX7_count 1 = .ok (.istore_n 2, 1) := dk_61 (dk_at dksX7_count_0 1 rfl rfl)
theorem dX7_count_2 : decode cX7_count 2 = .ok (.iconst 0, 1) := dk_3 (dk_at dksX7_count_0 2 rfl rfl)
theorem dX7_count_3 : decode cX7_count 3 = .ok (.istore_n 3, 1) := dk_62 (dk_at dksX7_count_0 3 rfl rfl)
theorem dX7_count_4 : decode cX7_count 4 = .ok (.iconst 0, 1) := dk_3 (dk_at dksX7_count_0 4 rfl rfl)
theorem dX7_count_5 : decode cX7_count 5 = .ok (.istore 4, 2) := dk_54 4 (dk_at dksX7_count_0 5 rfl rfl)
theorem dX7_count_7 : decode cX7_count 7 = .ok (.iload 4, 2) := dk_21 4 (dk_at dksX7_count_0 7 rfl rfl)
theorem dX7_count_9 : decode cX7_count 9 = .ok (.aload_n 0, 1) := dk_42 (dk_at dksX7_count_0 9 rfl rfl)
theorem dX7_count_10 : decode cX7_count 10 = .ok (.getfield 125, 3) := dk_180 0 125 (dk_at dksX7_count_0 10 rfl rfl)
theorem dX7_count_13 : decode cX7_count 13 = .ok (.if_icmp .ge 30, 3) := dk_162 0 30 (dk_at dksX7_count_0 13 rfl rfl)
theorem dX7_count_16 : decode cX7_count 16 = .ok (.iload_n 2, 1) := dk_28 (dk_at dksX7_count_0 16 rfl rfl)
theorem dX7_count_17 : decode cX7_count 17 = .ok (.aload_n 0, 1) := dk_42 (dk_at dksX7_count_0 17 rfl rfl)
theorem dX7_count_18 : decode cX7_count 18 = .ok (.getfield 7, 3) := dk_180 0 7 (dk_at dksX7_count_0 18 rfl rfl)
theorem dX7_count_21 : decode cX7_count 21 = .ok (.bipush 10, 2) := dk_16 10 (dk_at dksX7_count_0 21 rfl rfl)
theorem dX7_count_23 : decode cX7_count 23 = .ok (.iload 4, 2) := dk_21 4 (dk_at dksX7_count_1 0 rfl rfl)
theorem dX7_count_25 : decode cX7_count 25 = .ok (.iadd, 1) := dk_96 (dk_at dksX7_count_1 2 rfl rfl)
theorem dX7_count_26 : decode cX7_count 26 = .ok (.iaload, 1) := dk_46 (dk_at dksX7_count_1 3 rfl rfl)
theorem dX7_count_27 : decode cX7_count 27 = .ok (.ifCond .le 7, 3) := dk_158 0 7 (dk_at dksX7_count_1 4 rfl rfl)
theorem dX7_count_30 : decode cX7_count 30 = .ok (.iconst 1, 1) := dk_4 (dk_at dksX7_count_1 7 rfl rfl)
theorem dX7_count_31 : decode cX7_count 31 = .ok (.goto 4, 3) := dk_167 0 4 (dk_at dksX7_count_1 8 rfl rfl)
theorem dX7_count_34 : decode cX7_count 34 = .ok (.iconst 0, 1) := dk_3 (dk_at dksX7_count_1 11 rfl rfl)
theorem dX7_count_35 : decode cX7_count 35 = .ok (.iadd, 1) := dk_96 (dk_at dksX7_count_1 12 rfl rfl)
theorem dX7_count_36 : decode cX7_count 36 = .ok (.istore_n 2, 1) := dk_61 (dk_at dksX7_count_1 13 rfl rfl)
theorem dX7_count_37 : decode cX7_count 37 = .ok (.iinc 4 1, 3) := dk_132 4 1 (dk_at dksX7_count_1 14 rfl rfl)
theorem dX7_count_40 : decode cX7_count 40 = .ok (.goto (-33), 3) := dk_167 255 223 (dk_at dksX7_count_1 17 rfl rfl)
theorem dX7_count_43 : decode cX7_count 43 = .ok (.iconst 0, 1) := dk_3 (dk_at dksX7_count_1 20 rfl rfl)
theorem dX7_count_44 : decode cX7_count 44 = .ok (.istore 4, 2) := dk_54 4 (dk_at dksX7_count_1 21 rfl rfl)
theorem dX7_count_46 : decode cX7_count 46 = .ok (.iload 4, 2) := dk_21 4 (dk_at dksX7_count_2 0 rfl rfl)
theorem dX7_count_48 : decode cX7_count 48 = .ok (.aload_n 0, 1) := dk_42 (dk_at dksX7_count_2 2 rfl rfl)
theorem dX7_count_49 : decode cX7_count 49 = .ok (.getfield 7, 3) := dk_180 0 7 (dk_at dksX7_count_2 3 rfl rfl)
theorem dX7_count_52 : decode cX7_count 52 = .ok (.bipush 27, 2) := dk_16 27 (dk_at dksX7_count_2 6 rfl rfl)
theorem dX7_count_54 : decode cX7_count 54 = .ok (.iaload, 1) := dk_46 (dk_at dksX7_count_2 8 rfl rfl)
theorem dX7_count_55 : decode cX7_count 55 = .ok (.if_icmp .ge 32, 3) := dk_162 0 32 (dk_at dksX7_count_2 9 rfl rfl)
theorem dX7_count_58 : decode cX7_count 58 = .ok (.iload_n 3, 1) := dk_29 (dk_at dksX7_count_2 12 rfl rfl)
theorem dX7_count_59 : decode cX7_count 59 = .ok (.aload_n 0, 1) := dk_42 (dk_at dksX7_count_2 13 rfl rfl)
theorem dX7_count_60 : decode cX7_count 60 = .ok (.getfield 7, 3) := dk_180 0 7 (dk_at dksX7_count_2 14 rfl rfl)
theorem dX7_count_63 : decode cX7_count 63 = .ok (.bipush 19, 2) := dk_16 19 (dk_at dksX7_count_2 17 rfl rfl)
theorem dX7_count_65 : decode cX7_count 65 = .ok (.iload 4, 2) := dk_21 4 (dk_at dksX7_count_2 19 rfl rfl)
theorem dX7_count_67 : decode cX7_count 67 = .ok (.iadd, 1) := dk_96 (dk_at dksX7_count_2 21 rfl rfl)
theorem dX7_count_68 : decode cX7_count 68 = .ok (.iaload, 1) := dk_46 (dk_at dksX7_count_2 22 rfl rfl)
theorem dX7_count_69 : decode cX7_count 69 = .ok (.bipush 6, 2) := dk_16 6 (dk_at dksX7_count_3 0 rfl rfl)
theorem dX7_count_71 : decode cX7_count 71 = .ok (.if_icmp .ne 7, 3) := dk_160 0 7 (dk_at dksX7_count_3 2 rfl rfl)
theorem dX7_count_74 : decode cX7_count 74 = .ok (.iconst 1, 1) := dk_4 (dk_at dksX7_count_3 5 rfl rfl)
theorem dX7_count_75 : decode cX7_count 75 = .ok (.goto 4, 3) := dk_167 0 4 (dk_at dksX7_count_3 6 rfl rfl)
theorem dX7_count_78 : decode cX7_count 78 = .ok (.iconst 0, 1) := dk_3 (dk_at dksX7_count_3 9 rfl rfl)
theorem dX7_count_79 : decode cX7_count 79 = .ok (.iadd, 1) := dk_96 (dk_at dksX7_count_3 10 rfl rfl)
theorem dX7_count_80 : decode cX7_count 80 = .ok (.istore_n 3, 1) := dk_62 (dk_at dksX7_count_3 11 rfl rfl)
theorem dX7_count_81 : decode cX7_count 81 = .ok (.iinc 4 1, 3) := dk_132 4 1 (dk_at dksX7_count_3 12 rfl rfl)
theorem dX7_count_84 : decode cX7_count 84 = .ok (.goto (-38), 3) := dk_167 255 218 (dk_at dksX7_count_3 15 rfl rfl)
theorem dX7_count_87 : decode cX7_count 87 = .ok (.iload_n 1, 1) := dk_27 (dk_at dksX7_count_3 18 rfl rfl)
theorem dX7_count_88 : decode cX7_count 88 = .ok (.tableswitch 107 0 5 #[40, 45, 75, 80, 103, 105], 40) := by decide +kernel
theorem dX7_count_128 : decode cX7_count 128 = .ok (.aload_n 0, 1) := dk_42 (dk_at dksX7_count_5 0 rfl rfl)
theorem dX7_count_129 : decode cX7_count 129 = .ok (.getfield 128, 3) := dk_180 0 128 (dk_at dksX7_count_5 1 rfl rfl)
theorem dX7_count_132 : decode cX7_count 132 = .ok (.ireturn, 1) := dk_172 (dk_at dksX7_count_5 4 rfl rfl)
theorem dX7_count_133 : decode cX7_count 133 = .ok (.aload_n 0, 1) := dk_42 (dk_at dksX7_count_5 5 rfl rfl)
theorem dX7_count_134 : decode cX7_count 134 = .ok (.getfield 34, 3) := dk_180 0 34 (dk_at dksX7_count_5 6 rfl rfl)
theorem dX7_count_137 : decode cX7_count 137 = .ok (.iconst 0, 1) := dk_3 (dk_at dksX7_count_5 9 rfl rfl)
theorem dX7_count_138 : decode cX7_count 138 = .ok (.baload, 1) := dk_51 (dk_at dksX7_count_5 10 rfl rfl)
theorem dX7_count_139 : decode cX7_count 139 = .ok (.ifCond .eq 7, 3) := dk_153 0 7 (dk_at dksX7_count_5 11 rfl rfl)
theorem dX7_count_142 : decode cX7_count 142 = .ok (.iconst 1, 1) := dk_4 (dk_at dksX7_count_5 14 rfl rfl)
theorem dX7_count_143 : decode cX7_count 143 = .ok (.goto 4, 3) := dk_167 0 4 (dk_at dksX7_count_5 15 rfl rfl)
theorem dX7_count_146 : decode cX7_count 146 = .ok (.iconst 0, 1) := dk_3 (dk_at dksX7_count_5 18 rfl rfl)
theorem dX7_count_147 : decode cX7_count 147 = .ok (.aload_n 0, 1) := dk_42 (dk_at dksX7_count_5 19 rfl rfl)
theorem dX7_count_148 : decode cX7_count 148 = .ok (.getfield 34, 3) := dk_180 0 34 (dk_at dksX7_count_5 20 rfl rfl)
theorem dX7_count_151 : decode cX7_count 151 = .ok (.iconst 1, 1) := dk_4 (dk_at dksX7_count_5 23 rfl rfl)
theorem dX7_count_152 : decode cX7_count 152 = .ok (.baload, 1) := dk_51 (dk_at dksX7_count_6 0 rfl rfl)
theorem dX7_count_153 : decode cX7_count 153 = .ok (.ifCond .eq 7, 3) := dk_153 0 7 (dk_at dksX7_count_6 1 rfl rfl)
theorem dX7_count_156 : decode cX7_count 156 = .ok (.iconst 1, 1) := dk_4 (dk_at dksX7_count_6 4 rfl rfl)
theorem dX7_count_157 : decode cX7_count 157 = .ok (.goto 4, 3) := dk_167 0 4 (dk_at dksX7_count_6 5 rfl rfl)
theorem dX7_count_160 : decode cX7_count 160 = .ok (.iconst 0, 1) := dk_3 (dk_at dksX7_count_6 8 rfl rfl)
theorem dX7_count_161 : decode cX7_count 161 = .ok (.iadd, 1) := dk_96 (dk_at dksX7_count_6 9 rfl rfl)
theorem dX7_count_162 : decode cX7_count 162 = .ok (.ireturn, 1) := dk_172 (dk_at dksX7_count_6 10 rfl rfl)
theorem dX7_count_163 : decode cX7_count 163 = .ok (.aload_n 0, 1) := dk_42 (dk_at dksX7_count_6 11 rfl rfl)
theorem dX7_count_164 : decode cX7_count 164 = .ok (.getfield 53, 3) := dk_180 0 53 (dk_at dksX7_count_6 12 rfl rfl)
theorem dX7_count_167 : decode cX7_count 167 = .ok (.ireturn, 1) := dk_172 (dk_at dksX7_count_6 15 rfl rfl)
theorem dX7_count_168 : decode cX7_count 168 = .ok (.aload_n 0, 1) := dk_42 (dk_at dksX7_count_6 16 rfl rfl)
theorem dX7_count_169 : decode cX7_count 169 = .ok (.getfield 38, 3) := dk_180 0 38 (dk_at dksX7_count_6 17 rfl rfl)
theorem dX7_count_172 : decode cX7_count 172 = .ok (.iconst 0, 1) := dk_3 (dk_at dksX7_count_6 20 rfl rfl)
theorem dX7_count_173 : decode cX7_count 173 = .ok (.iaload, 1) := dk_46 (dk_at dksX7_count_6 21 rfl rfl)
theorem dX7_count_174 : decode cX7_count 174 = .ok (.bipush (-4), 2) := dk_16 252 (dk_at dksX7_count_6 22 rfl rfl)
theorem dX7_count_176 : decode cX7_count 176 = .ok (.if_icmp .ne 8, 3) := dk_160 0 8 (dk_at dksX7_count_7 0 rfl rfl)
theorem dX7_count_179 : decode cX7_count 179 = .ok (.bipush (-4), 2) := dk_16 252 (dk_at dksX7_count_7 3 rfl rfl)
theorem dX7_count_181 : decode cX7_count 181 = .ok (.goto 9, 3) := dk_167 0 9 (dk_at dksX7_count_7 5 rfl rfl)
theorem dX7_count_184 : decode cX7_count 184 = .ok (.aload_n 0, 1) := dk_42 (dk_at dksX7_count_7 8 rfl rfl)
theorem dX7_count_185 : decode cX7_count 185 = .ok (.getfield 41, 3) := dk_180 0 41 (dk_at dksX7_count_7 9 rfl rfl)
theorem dX7_count_188 : decode cX7_count 188 = .ok (.iconst 0, 1) := dk_3 (dk_at dksX7_count_7 12 rfl rfl)
theorem dX7_count_189 : decode cX7_count 189 = .ok (.iaload, 1) := dk_46 (dk_at dksX7_count_7 13 rfl rfl)
theorem dX7_count_190 : decode cX7_count 190 = .ok (.ireturn, 1) := dk_172 (dk_at dksX7_count_7 14 rfl rfl)
theorem dX7_count_191 : decode cX7_count 191 = .ok (.iload_n 2, 1) := dk_28 (dk_at dksX7_count_7 15 rfl rfl)
theorem dX7_count_192 : decode cX7_count 192 = .ok (.ireturn, 1) := dk_172 (dk_at dksX7_count_7 16 rfl rfl)
theorem dX7_count_193 : decode cX7_count 193 = .ok (.iload_n 3, 1) := dk_29 (dk_at dksX7_count_7 17 rfl rfl)
theorem dX7_count_194 : decode cX7_count 194 = .ok (.ireturn, 1) := dk_172 (dk_at dksX7_count_7 18 rfl rfl)
theorem dX7_count_195 : decode cX7_count 195 = .ok (.iconst (-1), 1) := dk_2 (dk_at dksX7_count_7 19 rfl rfl)
theorem dX7_count_196 : decode cX7_count 196 = .ok (.ireturn, 1) := dk_172 (dk_at dksX7_count_7 20 rfl rfl)
theorem q67 : (Jvm.Cond.initialized "TearsQueueModel") ∈ lw_all := lw_g (lw_at lw_m1 8 rfl) rfl
theorem q912 : (Jvm.Cond.instantiable "TearsQueueModel" (29 : Nat)) ∈ lw_all := lw_g (lw_at lw_m4 133 rfl) rfl
theorem q914 : (Jvm.Cond.instanceMethod ({ cls := "TearsQueueModel", name := "<init>", desc := "()V" } : Jvm.MethodName)) ∈ lw_all := lw_g (lw_at lw_m4 135 rfl) rfl
theorem q915 : (Jvm.Cond.code ({ cls := "TearsQueueModel", name := "<init>", desc := "()V" } : Jvm.MethodName) prog_11_method_1_code (1 : Nat) (Option.none : Option Jvm.ClassFile.FieldType)) ∈ lw_all := lw_g (lw_at lw_m4 136 rfl) rfl
theorem q916 : (Jvm.Cond.methodLink "TearsQueueModel" (1 : Nat) ({ cls := "java/lang/Object", name := "<init>", desc := "()V" } : Jvm.MethodName)) ∈ lw_all := lw_g (lw_at lw_m4 137 rfl) rfl
theorem q917 : (Jvm.Cond.fieldLink "TearsQueueModel" (7 : Nat) "TearsQueueModel" "state" "[I") ∈ lw_all := lw_g (lw_at lw_m4 138 rfl) rfl
theorem q918 : (Jvm.Cond.fieldLink "TearsQueueModel" (13 : Nat) "TearsQueueModel" "brims" "[I") ∈ lw_all := lw_g (lw_at lw_m4 139 rfl) rfl
theorem q919 : (Jvm.Cond.fieldLink "TearsQueueModel" (125 : Nat) "TearsQueueModel" "oneMany" "I") ∈ lw_all := lw_g (lw_at lw_m4 140 rfl) rfl
theorem q920 : (Jvm.Cond.fieldLink "TearsQueueModel" (16 : Nat) "TearsQueueModel" "readPage" "[I") ∈ lw_all := lw_g (lw_at lw_m4 141 rfl) rfl
theorem q921 : (Jvm.Cond.fieldLink "TearsQueueModel" (101 : Nat) "TearsQueueModel" "readOnes" "I") ∈ lw_all := lw_g (lw_at lw_m4 142 rfl) rfl
theorem q922 : (Jvm.Cond.fieldLink "TearsQueueModel" (113 : Nat) "TearsQueueModel" "toldOnce" "I") ∈ lw_all := lw_g (lw_at lw_m4 143 rfl) rfl
theorem q923 : (Jvm.Cond.fieldLink "TearsQueueModel" (98 : Nat) "TearsQueueModel" "high" "I") ∈ lw_all := lw_g (lw_at lw_m4 144 rfl) rfl
theorem q924 : (Jvm.Cond.fieldLink "TearsQueueModel" (19 : Nat) "TearsQueueModel" "tape" "[I") ∈ lw_all := lw_g (lw_at lw_m4 145 rfl) rfl
theorem q925 : (Jvm.Cond.fieldLink "TearsQueueModel" (53 : Nat) "TearsQueueModel" "taped" "I") ∈ lw_all := lw_g (lw_at lw_m4 146 rfl) rfl
theorem q926 : (Jvm.Cond.fieldLink "TearsQueueModel" (122 : Nat) "TearsQueueModel" "fault" "I") ∈ lw_all := lw_g (lw_at lw_m4 147 rfl) rfl
theorem q927 : (Jvm.Cond.fieldLink "TearsQueueModel" (57 : Nat) "TearsQueueModel" "broken" "I") ∈ lw_all := lw_g (lw_at lw_m4 148 rfl) rfl
theorem q928 : (Jvm.Cond.fieldLink "TearsQueueModel" (63 : Nat) "TearsQueueModel" "brokenAt" "I") ∈ lw_all := lw_g (lw_at lw_m4 149 rfl) rfl
theorem q929 : (Jvm.Cond.fieldLink "TearsQueueModel" (69 : Nat) "TearsQueueModel" "spot" "I") ∈ lw_all := lw_g (lw_at lw_m4 150 rfl) rfl
theorem q930 : (Jvm.Cond.fieldLink "TearsQueueModel" (60 : Nat) "TearsQueueModel" "here" "I") ∈ lw_all := lw_g (lw_at lw_m4 151 rfl) rfl
theorem q931 : (Jvm.Cond.fieldLink "TearsQueueModel" (66 : Nat) "TearsQueueModel" "token" "I") ∈ lw_all := lw_g (lw_at lw_m4 152 rfl) rfl
theorem q932 : (Jvm.Cond.fieldLink "TearsQueueModel" (76 : Nat) "TearsQueueModel" "value" "I") ∈ lw_all := lw_g (lw_at lw_m4 153 rfl) rfl
theorem q933 : (Jvm.Cond.fieldLink "TearsQueueModel" (22 : Nat) "TearsQueueModel" "cuts" "[I") ∈ lw_all := lw_g (lw_at lw_m4 154 rfl) rfl
theorem q934 : (Jvm.Cond.fieldLink "TearsQueueModel" (25 : Nat) "TearsQueueModel" "letters" "[I") ∈ lw_all := lw_g (lw_at lw_m4 155 rfl) rfl
theorem q935 : (Jvm.Cond.fieldLink "TearsQueueModel" (199 : Nat) "TearsQueueModel" "weptBits" "I") ∈ lw_all := lw_g (lw_at lw_m4 156 rfl) rfl
theorem q936 : (Jvm.Cond.fieldLink "TearsQueueModel" (202 : Nat) "TearsQueueModel" "weptTimes" "I") ∈ lw_all := lw_g (lw_at lw_m4 157 rfl) rfl
theorem q937 : (Jvm.Cond.fieldLink "TearsQueueModel" (205 : Nat) "TearsQueueModel" "firstNot" "I") ∈ lw_all := lw_g (lw_at lw_m4 158 rfl) rfl
theorem q938 : (Jvm.Cond.fieldLink "TearsQueueModel" (28 : Nat) "TearsQueueModel" "seen" "[I") ∈ lw_all := lw_g (lw_at lw_m4 159 rfl) rfl
theorem q939 : (Jvm.Cond.fieldLink "TearsQueueModel" (128 : Nat) "TearsQueueModel" "seenMany" "I") ∈ lw_all := lw_g (lw_at lw_m4 160 rfl) rfl
theorem q940 : (Jvm.Cond.fieldLink "TearsQueueModel" (31 : Nat) "TearsQueueModel" "goneBy" "[I") ∈ lw_all := lw_g (lw_at lw_m4 161 rfl) rfl
theorem q941 : (Jvm.Cond.fieldLink "TearsQueueModel" (34 : Nat) "TearsQueueModel" "isKept" "[Z") ∈ lw_all := lw_g (lw_at lw_m4 162 rfl) rfl
theorem q942 : (Jvm.Cond.fieldLink "TearsQueueModel" (38 : Nat) "TearsQueueModel" "lanes" "[I") ∈ lw_all := lw_g (lw_at lw_m4 163 rfl) rfl
theorem q943 : (Jvm.Cond.fieldLink "TearsQueueModel" (41 : Nat) "TearsQueueModel" "lengths" "[I") ∈ lw_all := lw_g (lw_at lw_m4 164 rfl) rfl
theorem q944 : (Jvm.Cond.fieldLink "TearsQueueModel" (44 : Nat) "TearsQueueModel" "cells" "[I") ∈ lw_all := lw_g (lw_at lw_m4 165 rfl) rfl
theorem q945 : (Jvm.Cond.fieldLink "TearsQueueModel" (262 : Nat) "TearsQueueModel" "torn" "I") ∈ lw_all := lw_g (lw_at lw_m4 166 rfl) rfl
theorem q946 : (Jvm.Cond.laysFinal "TearsQueueModel" "TearsQueueModel" "state" "[I") ∈ lw_all := lw_g (lw_at lw_m4 167 rfl) rfl
theorem q947 : (Jvm.Cond.soleField "TearsQueueModel" "state") ∈ lw_all := lw_g (lw_at lw_m4 168 rfl) rfl
theorem q948 : (Jvm.Cond.laysFinal "TearsQueueModel" "TearsQueueModel" "brims" "[I") ∈ lw_all := lw_g (lw_at lw_m4 169 rfl) rfl
theorem q949 : (Jvm.Cond.soleField "TearsQueueModel" "brims") ∈ lw_all := lw_g (lw_at lw_m4 170 rfl) rfl
theorem q950 : (Jvm.Cond.lays "TearsQueueModel" "TearsQueueModel" "oneMany" "I") ∈ lw_all := lw_g (lw_at lw_m4 171 rfl) rfl
theorem q951 : (Jvm.Cond.soleField "TearsQueueModel" "oneMany") ∈ lw_all := lw_g (lw_at lw_m4 172 rfl) rfl
theorem q952 : (Jvm.Cond.laysFinal "TearsQueueModel" "TearsQueueModel" "readPage" "[I") ∈ lw_all := lw_g (lw_at lw_m4 173 rfl) rfl
theorem q953 : (Jvm.Cond.soleField "TearsQueueModel" "readPage") ∈ lw_all := lw_g (lw_at lw_m4 174 rfl) rfl
theorem q954 : (Jvm.Cond.lays "TearsQueueModel" "TearsQueueModel" "readOnes" "I") ∈ lw_all := lw_g (lw_at lw_m4 175 rfl) rfl
theorem q955 : (Jvm.Cond.soleField "TearsQueueModel" "readOnes") ∈ lw_all := lw_g (lw_at lw_m4 176 rfl) rfl
theorem q956 : (Jvm.Cond.lays "TearsQueueModel" "TearsQueueModel" "toldOnce" "I") ∈ lw_all := lw_g (lw_at lw_m4 177 rfl) rfl
theorem q957 : (Jvm.Cond.soleField "TearsQueueModel" "toldOnce") ∈ lw_all := lw_g (lw_at lw_m4 178 rfl) rfl
theorem q958 : (Jvm.Cond.lays "TearsQueueModel" "TearsQueueModel" "high" "I") ∈ lw_all := lw_g (lw_at lw_m4 179 rfl) rfl
theorem q959 : (Jvm.Cond.soleField "TearsQueueModel" "high") ∈ lw_all := lw_g (lw_at lw_m4 180 rfl) rfl
theorem q960 : (Jvm.Cond.laysFinal "TearsQueueModel" "TearsQueueModel" "tape" "[I") ∈ lw_all := lw_g (lw_at lw_m4 181 rfl) rfl
theorem q961 : (Jvm.Cond.soleField "TearsQueueModel" "tape") ∈ lw_all := lw_g (lw_at lw_m4 182 rfl) rfl
theorem q962 : (Jvm.Cond.lays "TearsQueueModel" "TearsQueueModel" "taped" "I") ∈ lw_all := lw_g (lw_at lw_m4 183 rfl) rfl
theorem q963 : (Jvm.Cond.soleField "TearsQueueModel" "taped") ∈ lw_all := lw_g (lw_at lw_m4 184 rfl) rfl
theorem q964 : (Jvm.Cond.lays "TearsQueueModel" "TearsQueueModel" "fault" "I") ∈ lw_all := lw_g (lw_at lw_m4 185 rfl) rfl
theorem q965 : (Jvm.Cond.soleField "TearsQueueModel" "fault") ∈ lw_all := lw_g (lw_at lw_m4 186 rfl) rfl
theorem q966 : (Jvm.Cond.lays "TearsQueueModel" "TearsQueueModel" "broken" "I") ∈ lw_all := lw_g (lw_at lw_m4 187 rfl) rfl
theorem q967 : (Jvm.Cond.soleField "TearsQueueModel" "broken") ∈ lw_all := lw_g (lw_at lw_m4 188 rfl) rfl
theorem q968 : (Jvm.Cond.lays "TearsQueueModel" "TearsQueueModel" "brokenAt" "I") ∈ lw_all := lw_g (lw_at lw_m4 189 rfl) rfl
theorem q969 : (Jvm.Cond.soleField "TearsQueueModel" "brokenAt") ∈ lw_all := lw_g (lw_at lw_m4 190 rfl) rfl
theorem q970 : (Jvm.Cond.lays "TearsQueueModel" "TearsQueueModel" "spot" "I") ∈ lw_all := lw_g (lw_at lw_m4 191 rfl) rfl
theorem q971 : (Jvm.Cond.soleField "TearsQueueModel" "spot") ∈ lw_all := lw_g (lw_at lw_m4 192 rfl) rfl
theorem q972 : (Jvm.Cond.lays "TearsQueueModel" "TearsQueueModel" "here" "I") ∈ lw_all := lw_g (lw_at lw_m4 193 rfl) rfl
theorem q973 : (Jvm.Cond.soleField "TearsQueueModel" "here") ∈ lw_all := lw_g (lw_at lw_m4 194 rfl) rfl
theorem q974 : (Jvm.Cond.lays "TearsQueueModel" "TearsQueueModel" "token" "I") ∈ lw_all := lw_g (lw_at lw_m4 195 rfl) rfl
theorem q975 : (Jvm.Cond.soleField "TearsQueueModel" "token") ∈ lw_all := lw_g (lw_at lw_m4 196 rfl) rfl
theorem q976 : (Jvm.Cond.lays "TearsQueueModel" "TearsQueueModel" "value" "I") ∈ lw_all := lw_g (lw_at lw_m4 197 rfl) rfl
theorem q977 : (Jvm.Cond.soleField "TearsQueueModel" "value") ∈ lw_all := lw_g (lw_at lw_m4 198 rfl) rfl
theorem q978 : (Jvm.Cond.laysFinal "TearsQueueModel" "TearsQueueModel" "cuts" "[I") ∈ lw_all := lw_g (lw_at lw_m4 199 rfl) rfl
theorem q979 : (Jvm.Cond.soleField "TearsQueueModel" "cuts") ∈ lw_all := lw_g (lw_at lw_m4 200 rfl) rfl
theorem q980 : (Jvm.Cond.laysFinal "TearsQueueModel" "TearsQueueModel" "letters" "[I") ∈ lw_all := lw_g (lw_at lw_m4 201 rfl) rfl
theorem q981 : (Jvm.Cond.soleField "TearsQueueModel" "letters") ∈ lw_all := lw_g (lw_at lw_m4 202 rfl) rfl
theorem q982 : (Jvm.Cond.lays "TearsQueueModel" "TearsQueueModel" "weptBits" "I") ∈ lw_all := lw_g (lw_at lw_m4 203 rfl) rfl
theorem q983 : (Jvm.Cond.soleField "TearsQueueModel" "weptBits") ∈ lw_all := lw_g (lw_at lw_m4 204 rfl) rfl
theorem q984 : (Jvm.Cond.lays "TearsQueueModel" "TearsQueueModel" "weptTimes" "I") ∈ lw_all := lw_g (lw_at lw_m4 205 rfl) rfl
theorem q985 : (Jvm.Cond.soleField "TearsQueueModel" "weptTimes") ∈ lw_all := lw_g (lw_at lw_m4 206 rfl) rfl
theorem q986 : (Jvm.Cond.lays "TearsQueueModel" "TearsQueueModel" "firstNot" "I") ∈ lw_all := lw_g (lw_at lw_m4 207 rfl) rfl
theorem q987 : (Jvm.Cond.soleField "TearsQueueModel" "firstNot") ∈ lw_all := lw_g (lw_at lw_m4 208 rfl) rfl
theorem q988 : (Jvm.Cond.laysFinal "TearsQueueModel" "TearsQueueModel" "seen" "[I") ∈ lw_all := lw_g (lw_at lw_m4 209 rfl) rfl
theorem q989 : (Jvm.Cond.soleField "TearsQueueModel" "seen") ∈ lw_all := lw_g (lw_at lw_m4 210 rfl) rfl
theorem q990 : (Jvm.Cond.lays "TearsQueueModel" "TearsQueueModel" "seenMany" "I") ∈ lw_all := lw_g (lw_at lw_m4 211 rfl) rfl
theorem q991 : (Jvm.Cond.soleField "TearsQueueModel" "seenMany") ∈ lw_all := lw_g (lw_at lw_m4 212 rfl) rfl
theorem q992 : (Jvm.Cond.laysFinal "TearsQueueModel" "TearsQueueModel" "goneBy" "[I") ∈ lw_all := lw_g (lw_at lw_m4 213 rfl) rfl
theorem q993 : (Jvm.Cond.soleField "TearsQueueModel" "goneBy") ∈ lw_all := lw_g (lw_at lw_m4 214 rfl) rfl
theorem q994 : (Jvm.Cond.laysFinal "TearsQueueModel" "TearsQueueModel" "isKept" "[Z") ∈ lw_all := lw_g (lw_at lw_m4 215 rfl) rfl
theorem q995 : (Jvm.Cond.soleField "TearsQueueModel" "isKept") ∈ lw_all := lw_g (lw_at lw_m4 216 rfl) rfl
theorem q996 : (Jvm.Cond.laysFinal "TearsQueueModel" "TearsQueueModel" "lanes" "[I") ∈ lw_all := lw_g (lw_at lw_m4 217 rfl) rfl
theorem q997 : (Jvm.Cond.soleField "TearsQueueModel" "lanes") ∈ lw_all := lw_g (lw_at lw_m4 218 rfl) rfl
theorem q998 : (Jvm.Cond.laysFinal "TearsQueueModel" "TearsQueueModel" "lengths" "[I") ∈ lw_all := lw_g (lw_at lw_m4 219 rfl) rfl
theorem q999 : (Jvm.Cond.soleField "TearsQueueModel" "lengths") ∈ lw_all := lw_g (lw_at lw_m4 220 rfl) rfl
theorem q1000 : (Jvm.Cond.laysFinal "TearsQueueModel" "TearsQueueModel" "cells" "[I") ∈ lw_all := lw_g (lw_at lw_m4 221 rfl) rfl
theorem q1001 : (Jvm.Cond.soleField "TearsQueueModel" "cells") ∈ lw_all := lw_g (lw_at lw_m4 222 rfl) rfl
theorem q1002 : (Jvm.Cond.lays "TearsQueueModel" "TearsQueueModel" "torn" "I") ∈ lw_all := lw_g (lw_at lw_m4 223 rfl) rfl
theorem q1003 : (Jvm.Cond.soleField "TearsQueueModel" "torn") ∈ lw_all := lw_g (lw_at lw_m4 224 rfl) rfl
theorem q1004 : (Jvm.Cond.superclass "TearsQueueModel" "java/lang/Object") ∈ lw_all := lw_g (lw_at lw_m4 225 rfl) rfl
theorem q1007 : (Jvm.Cond.instanceMethod ({ cls := "TearsQueueModel", name := "feed", desc := "(I)I" } : Jvm.MethodName)) ∈ lw_all := lw_g (lw_at lw_m4 228 rfl) rfl
theorem q1008 : (Jvm.Cond.selects "TearsQueueModel" ({ cls := "TearsQueueModel", name := "feed", desc := "(I)I" } : Jvm.MethodName) ({ cls := "TearsQueueModel", name := "feed", desc := "(I)I" } : Jvm.MethodName)) ∈ lw_all := lw_g (lw_at lw_m4 229 rfl) rfl
theorem q1009 : (Jvm.Cond.code ({ cls := "TearsQueueModel", name := "feed", desc := "(I)I" } : Jvm.MethodName) prog_11_method_4_code (2 : Nat) (Option.some Jvm.ClassFile.FieldType.int)) ∈ lw_all := lw_g (lw_at lw_m4 230 rfl) rfl
theorem q1010 : (Jvm.Cond.constantLong "TearsQueueModel" (47 : Nat) (127 : Int64)) ∈ lw_all := lw_g (lw_at lw_m4 231 rfl) rfl
theorem q1011 : (Jvm.Cond.methodLink "TearsQueueModel" (49 : Nat) ({ cls := "TearsQueueModel", name := "in", desc := "(JJJ)Z" } : Jvm.MethodName)) ∈ lw_all := lw_g (lw_at lw_m4 232 rfl) rfl
theorem q1012 : (Jvm.Cond.static ({ cls := "TearsQueueModel", name := "in", desc := "(JJJ)Z" } : Jvm.MethodName)) ∈ lw_all := lw_g (lw_at lw_m4 233 rfl) rfl
theorem q1013 : (Jvm.Cond.code ({ cls := "TearsQueueModel", name := "in", desc := "(JJJ)Z" } : Jvm.MethodName) prog_11_method_3_code (6 : Nat) (Option.some Jvm.ClassFile.FieldType.boolean)) ∈ lw_all := lw_g (lw_at lw_m4 234 rfl) rfl
theorem q1015 : (Jvm.Cond.instanceMethod ({ cls := "TearsQueueModel", name := "end", desc := "(I)I" } : Jvm.MethodName)) ∈ lw_all := lw_g (lw_at lw_m4 236 rfl) rfl
theorem q1016 : (Jvm.Cond.selects "TearsQueueModel" ({ cls := "TearsQueueModel", name := "end", desc := "(I)I" } : Jvm.MethodName) ({ cls := "TearsQueueModel", name := "end", desc := "(I)I" } : Jvm.MethodName)) ∈ lw_all := lw_g (lw_at lw_m4 237 rfl) rfl
theorem q1017 : (Jvm.Cond.code ({ cls := "TearsQueueModel", name := "end", desc := "(I)I" } : Jvm.MethodName) prog_11_method_5_code (3 : Nat) (Option.some Jvm.ClassFile.FieldType.int)) ∈ lw_all := lw_g (lw_at lw_m4 238 rfl) rfl
theorem q1019 : (Jvm.Cond.instanceMethod ({ cls := "TearsQueueModel", name := "text", desc := "()I" } : Jvm.MethodName)) ∈ lw_all := lw_g (lw_at lw_m5 0 rfl) rfl
theorem q1020 : (Jvm.Cond.selects "TearsQueueModel" ({ cls := "TearsQueueModel", name := "text", desc := "()I" } : Jvm.MethodName) ({ cls := "TearsQueueModel", name := "text", desc := "()I" } : Jvm.MethodName)) ∈ lw_all := lw_g (lw_at lw_m5 1 rfl) rfl
theorem q1021 : (Jvm.Cond.code ({ cls := "TearsQueueModel", name := "text", desc := "()I" } : Jvm.MethodName) prog_11_method_14_code (3 : Nat) (Option.some Jvm.ClassFile.FieldType.int)) ∈ lw_all := lw_g (lw_at lw_m5 2 rfl) rfl
theorem q1022 : (Jvm.Cond.methodLink "TearsQueueModel" (91 : Nat) ({ cls := "TearsQueueModel", name := "step", desc := "()V" } : Jvm.MethodName)) ∈ lw_all := lw_g (lw_at lw_m5 3 rfl) rfl
theorem q1023 : (Jvm.Cond.privateMethod ({ cls := "TearsQueueModel", name := "step", desc := "()V" } : Jvm.MethodName)) ∈ lw_tbl := lw_at lw_m5 4 rfl
theorem q1024 : (Jvm.Cond.instanceMethod ({ cls := "TearsQueueModel", name := "step", desc := "()V" } : Jvm.MethodName)) ∈ lw_all := lw_g (lw_at lw_m5 5 rfl) rfl
theorem q1025 : (Jvm.Cond.code ({ cls := "TearsQueueModel", name := "step", desc := "()V" } : Jvm.MethodName) prog_11_method_9_code (2 : Nat) (Option.none : Option Jvm.ClassFile.FieldType)) ∈ lw_all := lw_g (lw_at lw_m5 6 rfl) rfl
theorem q1026 : (Jvm.Cond.methodLink "TearsQueueModel" (72 : Nat) ({ cls := "TearsQueueModel", name := "byteAt", desc := "(I)I" } : Jvm.MethodName)) ∈ lw_all := lw_g (lw_at lw_m5 7 rfl) rfl
theorem q1027 : (Jvm.Cond.privateMethod ({ cls := "TearsQueueModel", name := "byteAt", desc := "(I)I" } : Jvm.MethodName)) ∈ lw_tbl := lw_at lw_m5 8 rfl
theorem q1028 : (Jvm.Cond.instanceMethod ({ cls := "TearsQueueModel", name := "byteAt", desc := "(I)I" } : Jvm.MethodName)) ∈ lw_all := lw_g (lw_at lw_m5 9 rfl) rfl
theorem q1029 : (Jvm.Cond.code ({ cls := "TearsQueueModel", name := "byteAt", desc := "(I)I" } : Jvm.MethodName) prog_11_method_6_code (2 : Nat) (Option.some Jvm.ClassFile.FieldType.int)) ∈ lw_all := lw_g (lw_at lw_m5 10 rfl) rfl
theorem q1030 : (Jvm.Cond.constantLong "TearsQueueModel" (79 : Nat) (97 : Int64)) ∈ lw_all := lw_g (lw_at lw_m5 11 rfl) rfl
theorem q1031 : (Jvm.Cond.constantLong "TearsQueueModel" (81 : Nat) (122 : Int64)) ∈ lw_all := lw_g (lw_at lw_m5 12 rfl) rfl
theorem q1032 : (Jvm.Cond.constantLong "TearsQueueModel" (83 : Nat) (48 : Int64)) ∈ lw_all := lw_g (lw_at lw_m5 13 rfl) rfl
theorem q1033 : (Jvm.Cond.constantLong "TearsQueueModel" (85 : Nat) (57 : Int64)) ∈ lw_all := lw_g (lw_at lw_m5 14 rfl) rfl
theorem q1034 : (Jvm.Cond.methodLink "TearsQueueModel" (87 : Nat) ({ cls := "TearsQueueModel", name := "fails", desc := "(I)V" } : Jvm.MethodName)) ∈ lw_all := lw_g (lw_at lw_m5 15 rfl) rfl
theorem q1035 : (Jvm.Cond.privateMethod ({ cls := "TearsQueueModel", name := "fails", desc := "(I)V" } : Jvm.MethodName)) ∈ lw_tbl := lw_at lw_m5 16 rfl
theorem q1036 : (Jvm.Cond.instanceMethod ({ cls := "TearsQueueModel", name := "fails", desc := "(I)V" } : Jvm.MethodName)) ∈ lw_all := lw_g (lw_at lw_m5 17 rfl) rfl
theorem q1037 : (Jvm.Cond.code ({ cls := "TearsQueueModel", name := "fails", desc := "(I)V" } : Jvm.MethodName) prog_11_method_7_code (2 : Nat) (Option.none : Option Jvm.ClassFile.FieldType)) ∈ lw_all := lw_g (lw_at lw_m5 18 rfl) rfl
theorem q1038 : (Jvm.Cond.methodLink "TearsQueueModel" (119 : Nat) ({ cls := "TearsQueueModel", name := "readLine", desc := "()V" } : Jvm.MethodName)) ∈ lw_all := lw_g (lw_at lw_m5 19 rfl) rfl
theorem q1039 : (Jvm.Cond.privateMethod ({ cls := "TearsQueueModel", name := "readLine", desc := "()V" } : Jvm.MethodName)) ∈ lw_tbl := lw_at lw_m5 20 rfl
theorem q1040 : (Jvm.Cond.instanceMethod ({ cls := "TearsQueueModel", name := "readLine", desc := "()V" } : Jvm.MethodName)) ∈ lw_all := lw_g (lw_at lw_m5 21 rfl) rfl
theorem q1041 : (Jvm.Cond.code ({ cls := "TearsQueueModel", name := "readLine", desc := "()V" } : Jvm.MethodName) prog_11_method_13_code (2 : Nat) (Option.none : Option Jvm.ClassFile.FieldType)) ∈ lw_all := lw_g (lw_at lw_m5 22 rfl) rfl
theorem q1042 : (Jvm.Cond.methodLink "TearsQueueModel" (107 : Nat) ({ cls := "TearsQueueModel", name := "nameHere", desc := "()I" } : Jvm.MethodName)) ∈ lw_all := lw_g (lw_at lw_m5 23 rfl) rfl
theorem q1043 : (Jvm.Cond.privateMethod ({ cls := "TearsQueueModel", name := "nameHere", desc := "()I" } : Jvm.MethodName)) ∈ lw_tbl := lw_at lw_m5 24 rfl
theorem q1044 : (Jvm.Cond.instanceMethod ({ cls := "TearsQueueModel", name := "nameHere", desc := "()I" } : Jvm.MethodName)) ∈ lw_all := lw_g (lw_at lw_m5 25 rfl) rfl
theorem q1045 : (Jvm.Cond.code ({ cls := "TearsQueueModel", name := "nameHere", desc := "()I" } : Jvm.MethodName) prog_11_method_8_code (4 : Nat) (Option.some Jvm.ClassFile.FieldType.int)) ∈ lw_all := lw_g (lw_at lw_m5 26 rfl) rfl
theorem q1046 : (Jvm.Cond.constantLong "TearsQueueModel" (111 : Nat) (6 : Int64)) ∈ lw_all := lw_g (lw_at lw_m5 27 rfl) rfl
theorem q1047 : (Jvm.Cond.methodLink "TearsQueueModel" (116 : Nat) ({ cls := "TearsQueueModel", name := "readMore", desc := "(I)V" } : Jvm.MethodName)) ∈ lw_all := lw_g (lw_at lw_m5 28 rfl) rfl
theorem q1048 : (Jvm.Cond.privateMethod ({ cls := "TearsQueueModel", name := "readMore", desc := "(I)V" } : Jvm.MethodName)) ∈ lw_tbl := lw_at lw_m5 29 rfl
theorem q1049 : (Jvm.Cond.instanceMethod ({ cls := "TearsQueueModel", name := "readMore", desc := "(I)V" } : Jvm.MethodName)) ∈ lw_all := lw_g (lw_at lw_m5 30 rfl) rfl
theorem q1050 : (Jvm.Cond.code ({ cls := "TearsQueueModel", name := "readMore", desc := "(I)V" } : Jvm.MethodName) prog_11_method_12_code (2 : Nat) (Option.none : Option Jvm.ClassFile.FieldType)) ∈ lw_all := lw_g (lw_at lw_m5 31 rfl) rfl
theorem q1051 : (Jvm.Cond.methodLink "TearsQueueModel" (94 : Nat) ({ cls := "TearsQueueModel", name := "number", desc := "(II)I" } : Jvm.MethodName)) ∈ lw_all := lw_g (lw_at lw_m5 32 rfl) rfl
theorem q1052 : (Jvm.Cond.privateMethod ({ cls := "TearsQueueModel", name := "number", desc := "(II)I" } : Jvm.MethodName)) ∈ lw_tbl := lw_at lw_m5 33 rfl
theorem q1053 : (Jvm.Cond.instanceMethod ({ cls := "TearsQueueModel", name := "number", desc := "(II)I" } : Jvm.MethodName)) ∈ lw_all := lw_g (lw_at lw_m5 34 rfl) rfl
theorem q1054 : (Jvm.Cond.code ({ cls := "TearsQueueModel", name := "number", desc := "(II)I" } : Jvm.MethodName) prog_11_method_10_code (4 : Nat) (Option.some Jvm.ClassFile.FieldType.int)) ∈ lw_all := lw_g (lw_at lw_m5 35 rfl) rfl
theorem q1055 : (Jvm.Cond.methodLink "TearsQueueModel" (104 : Nat) ({ cls := "TearsQueueModel", name := "readPlan", desc := "()V" } : Jvm.MethodName)) ∈ lw_all := lw_g (lw_at lw_m5 36 rfl) rfl
theorem q1056 : (Jvm.Cond.privateMethod ({ cls := "TearsQueueModel", name := "readPlan", desc := "()V" } : Jvm.MethodName)) ∈ lw_tbl := lw_at lw_m5 37 rfl
theorem q1057 : (Jvm.Cond.instanceMethod ({ cls := "TearsQueueModel", name := "readPlan", desc := "()V" } : Jvm.MethodName)) ∈ lw_all := lw_g (lw_at lw_m5 38 rfl) rfl
theorem q1058 : (Jvm.Cond.code ({ cls := "TearsQueueModel", name := "readPlan", desc := "()V" } : Jvm.MethodName) prog_11_method_11_code (2 : Nat) (Option.none : Option Jvm.ClassFile.FieldType)) ∈ lw_all := lw_g (lw_at lw_m5 39 rfl) rfl
theorem q1060 : (Jvm.Cond.instanceMethod ({ cls := "TearsQueueModel", name := "fault", desc := "()I" } : Jvm.MethodName)) ∈ lw_all := lw_g (lw_at lw_m5 41 rfl) rfl
theorem q1061 : (Jvm.Cond.selects "TearsQueueModel" ({ cls := "TearsQueueModel", name := "fault", desc := "()I" } : Jvm.MethodName) ({ cls := "TearsQueueModel", name := "fault", desc := "()I" } : Jvm.MethodName)) ∈ lw_all := lw_g (lw_at lw_m5 42 rfl) rfl
theorem q1062 : (Jvm.Cond.code ({ cls := "TearsQueueModel", name := "fault", desc := "()I" } : Jvm.MethodName) prog_11_method_15_code (1 : Nat) (Option.some Jvm.ClassFile.FieldType.int)) ∈ lw_all := lw_g (lw_at lw_m5 43 rfl) rfl
theorem q1064 : (Jvm.Cond.instanceMethod ({ cls := "TearsQueueModel", name := "rule", desc := "(I)I" } : Jvm.MethodName)) ∈ lw_all := lw_g (lw_at lw_m5 45 rfl) rfl
theorem q1065 : (Jvm.Cond.selects "TearsQueueModel" ({ cls := "TearsQueueModel", name := "rule", desc := "(I)I" } : Jvm.MethodName) ({ cls := "TearsQueueModel", name := "rule", desc := "(I)I" } : Jvm.MethodName)) ∈ lw_all := lw_g (lw_at lw_m5 46 rfl) rfl
theorem q1066 : (Jvm.Cond.code ({ cls := "TearsQueueModel", name := "rule", desc := "(I)I" } : Jvm.MethodName) prog_11_method_28_code (2 : Nat) (Option.some Jvm.ClassFile.FieldType.int)) ∈ lw_all := lw_g (lw_at lw_m5 47 rfl) rfl
theorem q1067 : (Jvm.Cond.methodLink "TearsQueueModel" (152 : Nat) ({ cls := "TearsQueueModel", name := "waitingOn", desc := "(I)I" } : Jvm.MethodName)) ∈ lw_all := lw_g (lw_at lw_m5 48 rfl) rfl
theorem q1068 : (Jvm.Cond.privateMethod ({ cls := "TearsQueueModel", name := "waitingOn", desc := "(I)I" } : Jvm.MethodName)) ∈ lw_tbl := lw_at lw_m5 49 rfl
theorem q1069 : (Jvm.Cond.instanceMethod ({ cls := "TearsQueueModel", name := "waitingOn", desc := "(I)I" } : Jvm.MethodName)) ∈ lw_all := lw_g (lw_at lw_m5 50 rfl) rfl
theorem q1070 : (Jvm.Cond.code ({ cls := "TearsQueueModel", name := "waitingOn", desc := "(I)I" } : Jvm.MethodName) prog_11_method_18_code (2 : Nat) (Option.some Jvm.ClassFile.FieldType.int)) ∈ lw_all := lw_g (lw_at lw_m5 51 rfl) rfl
theorem q1071 : (Jvm.Cond.methodLink "TearsQueueModel" (155 : Nat) ({ cls := "TearsQueueModel", name := "sorrowOn", desc := "(I)I" } : Jvm.MethodName)) ∈ lw_all := lw_g (lw_at lw_m5 52 rfl) rfl
theorem q1072 : (Jvm.Cond.privateMethod ({ cls := "TearsQueueModel", name := "sorrowOn", desc := "(I)I" } : Jvm.MethodName)) ∈ lw_tbl := lw_at lw_m5 53 rfl
theorem q1073 : (Jvm.Cond.instanceMethod ({ cls := "TearsQueueModel", name := "sorrowOn", desc := "(I)I" } : Jvm.MethodName)) ∈ lw_all := lw_g (lw_at lw_m5 54 rfl) rfl
theorem q1074 : (Jvm.Cond.code ({ cls := "TearsQueueModel", name := "sorrowOn", desc := "(I)I" } : Jvm.MethodName) prog_11_method_19_code (4 : Nat) (Option.some Jvm.ClassFile.FieldType.int)) ∈ lw_all := lw_g (lw_at lw_m5 55 rfl) rfl
theorem q1075 : (Jvm.Cond.methodLink "TearsQueueModel" (131 : Nat) ({ cls := "TearsQueueModel", name := "waits", desc := "(II)Z" } : Jvm.MethodName)) ∈ lw_all := lw_g (lw_at lw_m5 56 rfl) rfl
theorem q1076 : (Jvm.Cond.privateMethod ({ cls := "TearsQueueModel", name := "waits", desc := "(II)Z" } : Jvm.MethodName)) ∈ lw_tbl := lw_at lw_m5 57 rfl
theorem q1077 : (Jvm.Cond.instanceMethod ({ cls := "TearsQueueModel", name := "waits", desc := "(II)Z" } : Jvm.MethodName)) ∈ lw_all := lw_g (lw_at lw_m5 58 rfl) rfl
theorem q1078 : (Jvm.Cond.code ({ cls := "TearsQueueModel", name := "waits", desc := "(II)Z" } : Jvm.MethodName) prog_11_method_17_code (3 : Nat) (Option.some Jvm.ClassFile.FieldType.boolean)) ∈ lw_all := lw_g (lw_at lw_m5 59 rfl) rfl
theorem q1080 : (Jvm.Cond.instanceMethod ({ cls := "TearsQueueModel", name := "one", desc := "(II)I" } : Jvm.MethodName)) ∈ lw_all := lw_g (lw_at lw_m5 61 rfl) rfl
theorem q1081 : (Jvm.Cond.selects "TearsQueueModel" ({ cls := "TearsQueueModel", name := "one", desc := "(II)I" } : Jvm.MethodName) ({ cls := "TearsQueueModel", name := "one", desc := "(II)I" } : Jvm.MethodName)) ∈ lw_all := lw_g (lw_at lw_m5 62 rfl) rfl
theorem q1082 : (Jvm.Cond.code ({ cls := "TearsQueueModel", name := "one", desc := "(II)I" } : Jvm.MethodName) prog_11_method_30_code (3 : Nat) (Option.some Jvm.ClassFile.FieldType.int)) ∈ lw_all := lw_g (lw_at lw_m5 63 rfl) rfl
theorem q1083 : (Jvm.Cond.methodLink "TearsQueueModel" (158 : Nat) ({ cls := "TearsQueueModel", name := "isOne", desc := "(I)Z" } : Jvm.MethodName)) ∈ lw_all := lw_g (lw_at lw_m5 64 rfl) rfl
theorem q1084 : (Jvm.Cond.privateMethod ({ cls := "TearsQueueModel", name := "isOne", desc := "(I)Z" } : Jvm.MethodName)) ∈ lw_tbl := lw_at lw_m5 65 rfl
theorem q1085 : (Jvm.Cond.instanceMethod ({ cls := "TearsQueueModel", name := "isOne", desc := "(I)Z" } : Jvm.MethodName)) ∈ lw_all := lw_g (lw_at lw_m5 66 rfl) rfl
theorem q1086 : (Jvm.Cond.code ({ cls := "TearsQueueModel", name := "isOne", desc := "(I)Z" } : Jvm.MethodName) prog_11_method_16_code (2 : Nat) (Option.some Jvm.ClassFile.FieldType.boolean)) ∈ lw_all := lw_g (lw_at lw_m5 67 rfl) rfl
theorem q1087 : (Jvm.Cond.methodLink "TearsQueueModel" (162 : Nat) ({ cls := "TearsQueueModel", name := "orNone", desc := "(I)I" } : Jvm.MethodName)) ∈ lw_all := lw_g (lw_at lw_m5 68 rfl) rfl
theorem q1088 : (Jvm.Cond.static ({ cls := "TearsQueueModel", name := "orNone", desc := "(I)I" } : Jvm.MethodName)) ∈ lw_all := lw_g (lw_at lw_m5 69 rfl) rfl
theorem q1089 : (Jvm.Cond.code ({ cls := "TearsQueueModel", name := "orNone", desc := "(I)I" } : Jvm.MethodName) prog_11_method_29_code (1 : Nat) (Option.some Jvm.ClassFile.FieldType.int)) ∈ lw_all := lw_g (lw_at lw_m5 70 rfl) rfl
theorem q1091 : (Jvm.Cond.instanceMethod ({ cls := "TearsQueueModel", name := "act", desc := "(I)I" } : Jvm.MethodName)) ∈ lw_all := lw_g (lw_at lw_m5 72 rfl) rfl
theorem q1092 : (Jvm.Cond.selects "TearsQueueModel" ({ cls := "TearsQueueModel", name := "act", desc := "(I)I" } : Jvm.MethodName) ({ cls := "TearsQueueModel", name := "act", desc := "(I)I" } : Jvm.MethodName)) ∈ lw_all := lw_g (lw_at lw_m5 73 rfl) rfl
theorem q1093 : (Jvm.Cond.code ({ cls := "TearsQueueModel", name := "act", desc := "(I)I" } : Jvm.MethodName) prog_11_method_31_code (2 : Nat) (Option.some Jvm.ClassFile.FieldType.int)) ∈ lw_all := lw_g (lw_at lw_m5 74 rfl) rfl
theorem q1095 : (Jvm.Cond.instanceMethod ({ cls := "TearsQueueModel", name := "queue", desc := "(I)I" } : Jvm.MethodName)) ∈ lw_all := lw_g (lw_at lw_m5 76 rfl) rfl
theorem q1096 : (Jvm.Cond.selects "TearsQueueModel" ({ cls := "TearsQueueModel", name := "queue", desc := "(I)I" } : Jvm.MethodName) ({ cls := "TearsQueueModel", name := "queue", desc := "(I)I" } : Jvm.MethodName)) ∈ lw_all := lw_g (lw_at lw_m5 77 rfl) rfl
theorem q1097 : (Jvm.Cond.code ({ cls := "TearsQueueModel", name := "queue", desc := "(I)I" } : Jvm.MethodName) prog_11_method_32_code (5 : Nat) (Option.some Jvm.ClassFile.FieldType.int)) ∈ lw_all := lw_g (lw_at lw_m5 78 rfl) rfl
theorem q1098 : (Jvm.Cond.constantLong "TearsQueueModel" (165 : Nat) (4 : Int64)) ∈ lw_all := lw_g (lw_at lw_m5 79 rfl) rfl
theorem q1099 : (Jvm.Cond.methodLink "TearsQueueModel" (149 : Nat) ({ cls := "TearsQueueModel", name := "nextOn", desc := "(II)I" } : Jvm.MethodName)) ∈ lw_all := lw_g (lw_at lw_m5 80 rfl) rfl
theorem q1100 : (Jvm.Cond.privateMethod ({ cls := "TearsQueueModel", name := "nextOn", desc := "(II)I" } : Jvm.MethodName)) ∈ lw_tbl := lw_at lw_m5 81 rfl
theorem q1101 : (Jvm.Cond.instanceMethod ({ cls := "TearsQueueModel", name := "nextOn", desc := "(II)I" } : Jvm.MethodName)) ∈ lw_all := lw_g (lw_at lw_m5 82 rfl) rfl
theorem q1102 : (Jvm.Cond.code ({ cls := "TearsQueueModel", name := "nextOn", desc := "(II)I" } : Jvm.MethodName) prog_11_method_26_code (6 : Nat) (Option.some Jvm.ClassFile.FieldType.int)) ∈ lw_all := lw_g (lw_at lw_m5 83 rfl) rfl
theorem q1103 : (Jvm.Cond.methodLink "TearsQueueModel" (146 : Nat) ({ cls := "TearsQueueModel", name := "placeOn", desc := "(II)I" } : Jvm.MethodName)) ∈ lw_all := lw_g (lw_at lw_m5 84 rfl) rfl
theorem q1104 : (Jvm.Cond.privateMethod ({ cls := "TearsQueueModel", name := "placeOn", desc := "(II)I" } : Jvm.MethodName)) ∈ lw_tbl := lw_at lw_m5 85 rfl
theorem q1105 : (Jvm.Cond.instanceMethod ({ cls := "TearsQueueModel", name := "placeOn", desc := "(II)I" } : Jvm.MethodName)) ∈ lw_all := lw_g (lw_at lw_m5 86 rfl) rfl
theorem q1106 : (Jvm.Cond.code ({ cls := "TearsQueueModel", name := "placeOn", desc := "(II)I" } : Jvm.MethodName) prog_11_method_25_code (4 : Nat) (Option.some Jvm.ClassFile.FieldType.int)) ∈ lw_all := lw_g (lw_at lw_m5 87 rfl) rfl
theorem q1108 : (Jvm.Cond.instanceMethod ({ cls := "TearsQueueModel", name := "alter", desc := "(III)I" } : Jvm.MethodName)) ∈ lw_all := lw_g (lw_at lw_m5 89 rfl) rfl
theorem q1109 : (Jvm.Cond.selects "TearsQueueModel" ({ cls := "TearsQueueModel", name := "alter", desc := "(III)I" } : Jvm.MethodName) ({ cls := "TearsQueueModel", name := "alter", desc := "(III)I" } : Jvm.MethodName)) ∈ lw_all := lw_g (lw_at lw_m5 90 rfl) rfl
theorem q1110 : (Jvm.Cond.code ({ cls := "TearsQueueModel", name := "alter", desc := "(III)I" } : Jvm.MethodName) prog_11_method_34_code (4 : Nat) (Option.some Jvm.ClassFile.FieldType.int)) ∈ lw_all := lw_g (lw_at lw_m5 91 rfl) rfl
theorem q1111 : (Jvm.Cond.constantLong "TearsQueueModel" (167 : Nat) (3 : Int64)) ∈ lw_all := lw_g (lw_at lw_m5 92 rfl) rfl
theorem q1112 : (Jvm.Cond.constantLong "TearsQueueModel" (169 : Nat) (40 : Int64)) ∈ lw_all := lw_g (lw_at lw_m5 93 rfl) rfl
theorem q1113 : (Jvm.Cond.methodLink "TearsQueueModel" (171 : Nat) ({ cls := "TearsQueueModel", name := "puts", desc := "(ZIII)I" } : Jvm.MethodName)) ∈ lw_all := lw_g (lw_at lw_m5 94 rfl) rfl
theorem q1114 : (Jvm.Cond.privateMethod ({ cls := "TearsQueueModel", name := "puts", desc := "(ZIII)I" } : Jvm.MethodName)) ∈ lw_tbl := lw_at lw_m5 95 rfl
theorem q1115 : (Jvm.Cond.instanceMethod ({ cls := "TearsQueueModel", name := "puts", desc := "(ZIII)I" } : Jvm.MethodName)) ∈ lw_all := lw_g (lw_at lw_m5 96 rfl) rfl
theorem q1116 : (Jvm.Cond.code ({ cls := "TearsQueueModel", name := "puts", desc := "(ZIII)I" } : Jvm.MethodName) prog_11_method_33_code (6 : Nat) (Option.some Jvm.ClassFile.FieldType.int)) ∈ lw_all := lw_g (lw_at lw_m5 97 rfl) rfl
theorem q1118 : (Jvm.Cond.instanceMethod ({ cls := "TearsQueueModel", name := "room", desc := "(I)I" } : Jvm.MethodName)) ∈ lw_all := lw_g (lw_at lw_m5 99 rfl) rfl
theorem q1119 : (Jvm.Cond.selects "TearsQueueModel" ({ cls := "TearsQueueModel", name := "room", desc := "(I)I" } : Jvm.MethodName) ({ cls := "TearsQueueModel", name := "room", desc := "(I)I" } : Jvm.MethodName)) ∈ lw_all := lw_g (lw_at lw_m5 100 rfl) rfl
theorem q1120 : (Jvm.Cond.code ({ cls := "TearsQueueModel", name := "room", desc := "(I)I" } : Jvm.MethodName) prog_11_method_35_code (2 : Nat) (Option.some Jvm.ClassFile.FieldType.int)) ∈ lw_all := lw_g (lw_at lw_m5 101 rfl) rfl
theorem q1121 : (Jvm.Cond.constantLong "TearsQueueModel" (175 : Nat) (5 : Int64)) ∈ lw_all := lw_g (lw_at lw_m5 102 rfl) rfl
theorem q1123 : (Jvm.Cond.instanceMethod ({ cls := "TearsQueueModel", name := "think", desc := "(I)I" } : Jvm.MethodName)) ∈ lw_all := lw_g (lw_at lw_m5 104 rfl) rfl
theorem q1124 : (Jvm.Cond.selects "TearsQueueModel" ({ cls := "TearsQueueModel", name := "think", desc := "(I)I" } : Jvm.MethodName) ({ cls := "TearsQueueModel", name := "think", desc := "(I)I" } : Jvm.MethodName)) ∈ lw_all := lw_g (lw_at lw_m5 105 rfl) rfl
theorem q1125 : (Jvm.Cond.code ({ cls := "TearsQueueModel", name := "think", desc := "(I)I" } : Jvm.MethodName) prog_11_method_36_code (2 : Nat) (Option.some Jvm.ClassFile.FieldType.int)) ∈ lw_all := lw_g (lw_at lw_m5 106 rfl) rfl
theorem q1126 : (Jvm.Cond.constantLong "TearsQueueModel" (177 : Nat) (9 : Int64)) ∈ lw_all := lw_g (lw_at lw_m5 107 rfl) rfl
theorem q1128 : (Jvm.Cond.instanceMethod ({ cls := "TearsQueueModel", name := "plan", desc := "(I)I" } : Jvm.MethodName)) ∈ lw_all := lw_g (lw_at lw_m5 109 rfl) rfl
theorem q1129 : (Jvm.Cond.selects "TearsQueueModel" ({ cls := "TearsQueueModel", name := "plan", desc := "(I)I" } : Jvm.MethodName) ({ cls := "TearsQueueModel", name := "plan", desc := "(I)I" } : Jvm.MethodName)) ∈ lw_all := lw_g (lw_at lw_m5 110 rfl) rfl
theorem q1130 : (Jvm.Cond.code ({ cls := "TearsQueueModel", name := "plan", desc := "(I)I" } : Jvm.MethodName) prog_11_method_38_code (2 : Nat) (Option.some Jvm.ClassFile.FieldType.int)) ∈ lw_all := lw_g (lw_at lw_m5 111 rfl) rfl
theorem q1131 : (Jvm.Cond.methodLink "TearsQueueModel" (179 : Nat) ({ cls := "TearsQueueModel", name := "isAct", desc := "(I)Z" } : Jvm.MethodName)) ∈ lw_all := lw_g (lw_at lw_m5 112 rfl) rfl
theorem q1132 : (Jvm.Cond.privateMethod ({ cls := "TearsQueueModel", name := "isAct", desc := "(I)Z" } : Jvm.MethodName)) ∈ lw_tbl := lw_at lw_m5 113 rfl
theorem q1133 : (Jvm.Cond.instanceMethod ({ cls := "TearsQueueModel", name := "isAct", desc := "(I)Z" } : Jvm.MethodName)) ∈ lw_all := lw_g (lw_at lw_m5 114 rfl) rfl
theorem q1134 : (Jvm.Cond.code ({ cls := "TearsQueueModel", name := "isAct", desc := "(I)Z" } : Jvm.MethodName) prog_11_method_37_code (2 : Nat) (Option.some Jvm.ClassFile.FieldType.boolean)) ∈ lw_all := lw_g (lw_at lw_m5 115 rfl) rfl
theorem q1136 : (Jvm.Cond.instanceMethod ({ cls := "TearsQueueModel", name := "cut", desc := "(I)I" } : Jvm.MethodName)) ∈ lw_all := lw_g (lw_at lw_m5 117 rfl) rfl
theorem q1137 : (Jvm.Cond.selects "TearsQueueModel" ({ cls := "TearsQueueModel", name := "cut", desc := "(I)I" } : Jvm.MethodName) ({ cls := "TearsQueueModel", name := "cut", desc := "(I)I" } : Jvm.MethodName)) ∈ lw_all := lw_g (lw_at lw_m5 118 rfl) rfl
theorem q1138 : (Jvm.Cond.code ({ cls := "TearsQueueModel", name := "cut", desc := "(I)I" } : Jvm.MethodName) prog_11_method_39_code (2 : Nat) (Option.some Jvm.ClassFile.FieldType.int)) ∈ lw_all := lw_g (lw_at lw_m5 119 rfl) rfl
theorem q1140 : (Jvm.Cond.instanceMethod ({ cls := "TearsQueueModel", name := "thinks", desc := "(I)I" } : Jvm.MethodName)) ∈ lw_all := lw_g (lw_at lw_m5 121 rfl) rfl
theorem q1141 : (Jvm.Cond.selects "TearsQueueModel" ({ cls := "TearsQueueModel", name := "thinks", desc := "(I)I" } : Jvm.MethodName) ({ cls := "TearsQueueModel", name := "thinks", desc := "(I)I" } : Jvm.MethodName)) ∈ lw_all := lw_g (lw_at lw_m5 122 rfl) rfl
theorem q1142 : (Jvm.Cond.code ({ cls := "TearsQueueModel", name := "thinks", desc := "(I)I" } : Jvm.MethodName) prog_11_method_40_code (2 : Nat) (Option.some Jvm.ClassFile.FieldType.int)) ∈ lw_all := lw_g (lw_at lw_m5 123 rfl) rfl
theorem q1143 : (Jvm.Cond.methodLink "TearsQueueModel" (182 : Nat) ({ cls := "TearsQueueModel", name := "thinksOn", desc := "(II)I" } : Jvm.MethodName)) ∈ lw_all := lw_g (lw_at lw_m5 124 rfl) rfl
theorem q1144 : (Jvm.Cond.privateMethod ({ cls := "TearsQueueModel", name := "thinksOn", desc := "(II)I" } : Jvm.MethodName)) ∈ lw_tbl := lw_at lw_m5 125 rfl
theorem q1145 : (Jvm.Cond.instanceMethod ({ cls := "TearsQueueModel", name := "thinksOn", desc := "(II)I" } : Jvm.MethodName)) ∈ lw_all := lw_g (lw_at lw_m5 126 rfl) rfl
theorem q1146 : (Jvm.Cond.code ({ cls := "TearsQueueModel", name := "thinksOn", desc := "(II)I" } : Jvm.MethodName) prog_11_method_23_code (5 : Nat) (Option.some Jvm.ClassFile.FieldType.int)) ∈ lw_all := lw_g (lw_at lw_m5 127 rfl) rfl
theorem q1147 : (Jvm.Cond.methodLink "TearsQueueModel" (135 : Nat) ({ cls := "TearsQueueModel", name := "grieves", desc := "(III)V" } : Jvm.MethodName)) ∈ lw_all := lw_g (lw_at lw_m5 128 rfl) rfl
theorem q1148 : (Jvm.Cond.privateMethod ({ cls := "TearsQueueModel", name := "grieves", desc := "(III)V" } : Jvm.MethodName)) ∈ lw_tbl := lw_at lw_m5 129 rfl
theorem q1149 : (Jvm.Cond.instanceMethod ({ cls := "TearsQueueModel", name := "grieves", desc := "(III)V" } : Jvm.MethodName)) ∈ lw_all := lw_g (lw_at lw_m5 130 rfl) rfl
theorem q1150 : (Jvm.Cond.code ({ cls := "TearsQueueModel", name := "grieves", desc := "(III)V" } : Jvm.MethodName) prog_11_method_20_code (5 : Nat) (Option.none : Option Jvm.ClassFile.FieldType)) ∈ lw_all := lw_g (lw_at lw_m5 131 rfl) rfl
theorem q1151 : (Jvm.Cond.methodLink "TearsQueueModel" (139 : Nat) ({ cls := "TearsQueueModel", name := "nextToWeep", desc := "(II)I" } : Jvm.MethodName)) ∈ lw_all := lw_g (lw_at lw_m5 132 rfl) rfl
theorem q1152 : (Jvm.Cond.privateMethod ({ cls := "TearsQueueModel", name := "nextToWeep", desc := "(II)I" } : Jvm.MethodName)) ∈ lw_tbl := lw_at lw_m5 133 rfl
theorem q1153 : (Jvm.Cond.instanceMethod ({ cls := "TearsQueueModel", name := "nextToWeep", desc := "(II)I" } : Jvm.MethodName)) ∈ lw_all := lw_g (lw_at lw_m5 134 rfl) rfl
theorem q1154 : (Jvm.Cond.code ({ cls := "TearsQueueModel", name := "nextToWeep", desc := "(II)I" } : Jvm.MethodName) prog_11_method_22_code (4 : Nat) (Option.some Jvm.ClassFile.FieldType.int)) ∈ lw_all := lw_g (lw_at lw_m5 135 rfl) rfl
theorem q1155 : (Jvm.Cond.methodLink "TearsQueueModel" (142 : Nat) ({ cls := "TearsQueueModel", name := "setsOff", desc := "(II)V" } : Jvm.MethodName)) ∈ lw_all := lw_g (lw_at lw_m5 136 rfl) rfl
theorem q1156 : (Jvm.Cond.privateMethod ({ cls := "TearsQueueModel", name := "setsOff", desc := "(II)V" } : Jvm.MethodName)) ∈ lw_tbl := lw_at lw_m5 137 rfl
theorem q1157 : (Jvm.Cond.instanceMethod ({ cls := "TearsQueueModel", name := "setsOff", desc := "(II)V" } : Jvm.MethodName)) ∈ lw_all := lw_g (lw_at lw_m5 138 rfl) rfl
theorem q1158 : (Jvm.Cond.code ({ cls := "TearsQueueModel", name := "setsOff", desc := "(II)V" } : Jvm.MethodName) prog_11_method_21_code (5 : Nat) (Option.none : Option Jvm.ClassFile.FieldType)) ∈ lw_all := lw_g (lw_at lw_m5 139 rfl) rfl
theorem q1160 : (Jvm.Cond.instanceMethod ({ cls := "TearsQueueModel", name := "minutes", desc := "(I)I" } : Jvm.MethodName)) ∈ lw_all := lw_g (lw_at lw_m5 141 rfl) rfl
theorem q1161 : (Jvm.Cond.selects "TearsQueueModel" ({ cls := "TearsQueueModel", name := "minutes", desc := "(I)I" } : Jvm.MethodName) ({ cls := "TearsQueueModel", name := "minutes", desc := "(I)I" } : Jvm.MethodName)) ∈ lw_all := lw_g (lw_at lw_m5 142 rfl) rfl
theorem q1162 : (Jvm.Cond.code ({ cls := "TearsQueueModel", name := "minutes", desc := "(I)I" } : Jvm.MethodName) prog_11_method_41_code (3 : Nat) (Option.some Jvm.ClassFile.FieldType.int)) ∈ lw_all := lw_g (lw_at lw_m5 143 rfl) rfl
theorem q1163 : (Jvm.Cond.constantLong "TearsQueueModel" (185 : Nat) (60 : Int64)) ∈ lw_all := lw_g (lw_at lw_m5 144 rfl) rfl
theorem q1164 : (Jvm.Cond.methodLink "TearsQueueModel" (187 : Nat) ({ cls := "TearsQueueModel", name := "minuteOn", desc := "(I)V" } : Jvm.MethodName)) ∈ lw_all := lw_g (lw_at lw_m5 145 rfl) rfl
theorem q1165 : (Jvm.Cond.privateMethod ({ cls := "TearsQueueModel", name := "minuteOn", desc := "(I)V" } : Jvm.MethodName)) ∈ lw_tbl := lw_at lw_m5 146 rfl
theorem q1166 : (Jvm.Cond.instanceMethod ({ cls := "TearsQueueModel", name := "minuteOn", desc := "(I)V" } : Jvm.MethodName)) ∈ lw_all := lw_g (lw_at lw_m5 147 rfl) rfl
theorem q1167 : (Jvm.Cond.code ({ cls := "TearsQueueModel", name := "minuteOn", desc := "(I)V" } : Jvm.MethodName) prog_11_method_24_code (3 : Nat) (Option.none : Option Jvm.ClassFile.FieldType)) ∈ lw_all := lw_g (lw_at lw_m5 148 rfl) rfl
theorem q1169 : (Jvm.Cond.instanceMethod ({ cls := "TearsQueueModel", name := "tram", desc := "()I" } : Jvm.MethodName)) ∈ lw_all := lw_g (lw_at lw_m5 150 rfl) rfl
theorem q1170 : (Jvm.Cond.selects "TearsQueueModel" ({ cls := "TearsQueueModel", name := "tram", desc := "()I" } : Jvm.MethodName) ({ cls := "TearsQueueModel", name := "tram", desc := "()I" } : Jvm.MethodName)) ∈ lw_all := lw_g (lw_at lw_m5 151 rfl) rfl
theorem q1171 : (Jvm.Cond.code ({ cls := "TearsQueueModel", name := "tram", desc := "()I" } : Jvm.MethodName) prog_11_method_42_code (1 : Nat) (Option.some Jvm.ClassFile.FieldType.int)) ∈ lw_all := lw_g (lw_at lw_m5 152 rfl) rfl
theorem q1172 : (Jvm.Cond.methodLink "TearsQueueModel" (190 : Nat) ({ cls := "TearsQueueModel", name := "tramOn", desc := "(I)I" } : Jvm.MethodName)) ∈ lw_all := lw_g (lw_at lw_m5 153 rfl) rfl
theorem q1173 : (Jvm.Cond.privateMethod ({ cls := "TearsQueueModel", name := "tramOn", desc := "(I)I" } : Jvm.MethodName)) ∈ lw_tbl := lw_at lw_m5 154 rfl
theorem q1174 : (Jvm.Cond.instanceMethod ({ cls := "TearsQueueModel", name := "tramOn", desc := "(I)I" } : Jvm.MethodName)) ∈ lw_all := lw_g (lw_at lw_m5 155 rfl) rfl
theorem q1175 : (Jvm.Cond.code ({ cls := "TearsQueueModel", name := "tramOn", desc := "(I)I" } : Jvm.MethodName) prog_11_method_27_code (5 : Nat) (Option.some Jvm.ClassFile.FieldType.int)) ∈ lw_all := lw_g (lw_at lw_m5 156 rfl) rfl
theorem q1177 : (Jvm.Cond.instanceMethod ({ cls := "TearsQueueModel", name := "joy", desc := "(I)I" } : Jvm.MethodName)) ∈ lw_all := lw_g (lw_at lw_m5 158 rfl) rfl
theorem q1178 : (Jvm.Cond.selects "TearsQueueModel" ({ cls := "TearsQueueModel", name := "joy", desc := "(I)I" } : Jvm.MethodName) ({ cls := "TearsQueueModel", name := "joy", desc := "(I)I" } : Jvm.MethodName)) ∈ lw_all := lw_g (lw_at lw_m5 159 rfl) rfl
theorem q1179 : (Jvm.Cond.code ({ cls := "TearsQueueModel", name := "joy", desc := "(I)I" } : Jvm.MethodName) prog_11_method_43_code (3 : Nat) (Option.some Jvm.ClassFile.FieldType.int)) ∈ lw_all := lw_g (lw_at lw_m5 160 rfl) rfl
theorem q1181 : (Jvm.Cond.instanceMethod ({ cls := "TearsQueueModel", name := "second", desc := "()I" } : Jvm.MethodName)) ∈ lw_all := lw_g (lw_at lw_m5 162 rfl) rfl
theorem q1182 : (Jvm.Cond.selects "TearsQueueModel" ({ cls := "TearsQueueModel", name := "second", desc := "()I" } : Jvm.MethodName) ({ cls := "TearsQueueModel", name := "second", desc := "()I" } : Jvm.MethodName)) ∈ lw_all := lw_g (lw_at lw_m5 163 rfl) rfl
theorem q1183 : (Jvm.Cond.code ({ cls := "TearsQueueModel", name := "second", desc := "()I" } : Jvm.MethodName) prog_11_method_44_code (2 : Nat) (Option.some Jvm.ClassFile.FieldType.int)) ∈ lw_all := lw_g (lw_at lw_m5 164 rfl) rfl
theorem q1184 : (Jvm.Cond.methodLink "TearsQueueModel" (193 : Nat) ({ cls := "TearsQueueModel", name := "bitsOf", desc := "(I)I" } : Jvm.MethodName)) ∈ lw_all := lw_g (lw_at lw_m5 165 rfl) rfl
theorem q1185 : (Jvm.Cond.static ({ cls := "TearsQueueModel", name := "bitsOf", desc := "(I)I" } : Jvm.MethodName)) ∈ lw_all := lw_g (lw_at lw_m5 166 rfl) rfl
theorem q1186 : (Jvm.Cond.code ({ cls := "TearsQueueModel", name := "bitsOf", desc := "(I)I" } : Jvm.MethodName) prog_11_method_45_code (3 : Nat) (Option.some Jvm.ClassFile.FieldType.int)) ∈ lw_all := lw_g (lw_at lw_m5 167 rfl) rfl
theorem q1188 : (Jvm.Cond.instanceMethod ({ cls := "TearsQueueModel", name := "runs", desc := "(I)I" } : Jvm.MethodName)) ∈ lw_all := lw_g (lw_at lw_m5 169 rfl) rfl
theorem q1189 : (Jvm.Cond.selects "TearsQueueModel" ({ cls := "TearsQueueModel", name := "runs", desc := "(I)I" } : Jvm.MethodName) ({ cls := "TearsQueueModel", name := "runs", desc := "(I)I" } : Jvm.MethodName)) ∈ lw_all := lw_g (lw_at lw_m5 170 rfl) rfl
theorem q1190 : (Jvm.Cond.code ({ cls := "TearsQueueModel", name := "runs", desc := "(I)I" } : Jvm.MethodName) prog_11_method_51_code (2 : Nat) (Option.some Jvm.ClassFile.FieldType.int)) ∈ lw_all := lw_g (lw_at lw_m5 171 rfl) rfl
theorem q1191 : (Jvm.Cond.methodLink "TearsQueueModel" (214 : Nat) ({ cls := "TearsQueueModel", name := "planGoes", desc := "(II)V" } : Jvm.MethodName)) ∈ lw_all := lw_g (lw_at lw_m5 172 rfl) rfl
theorem q1192 : (Jvm.Cond.privateMethod ({ cls := "TearsQueueModel", name := "planGoes", desc := "(II)V" } : Jvm.MethodName)) ∈ lw_tbl := lw_at lw_m5 173 rfl
theorem q1193 : (Jvm.Cond.instanceMethod ({ cls := "TearsQueueModel", name := "planGoes", desc := "(II)V" } : Jvm.MethodName)) ∈ lw_all := lw_g (lw_at lw_m5 174 rfl) rfl
theorem q1194 : (Jvm.Cond.code ({ cls := "TearsQueueModel", name := "planGoes", desc := "(II)V" } : Jvm.MethodName) prog_11_method_49_code (4 : Nat) (Option.none : Option Jvm.ClassFile.FieldType)) ∈ lw_all := lw_g (lw_at lw_m5 175 rfl) rfl
theorem q1195 : (Jvm.Cond.methodLink "TearsQueueModel" (208 : Nat) ({ cls := "TearsQueueModel", name := "begins", desc := "(I)V" } : Jvm.MethodName)) ∈ lw_all := lw_g (lw_at lw_m5 176 rfl) rfl
theorem q1196 : (Jvm.Cond.privateMethod ({ cls := "TearsQueueModel", name := "begins", desc := "(I)V" } : Jvm.MethodName)) ∈ lw_tbl := lw_at lw_m5 177 rfl
theorem q1197 : (Jvm.Cond.instanceMethod ({ cls := "TearsQueueModel", name := "begins", desc := "(I)V" } : Jvm.MethodName)) ∈ lw_all := lw_g (lw_at lw_m5 178 rfl) rfl
theorem q1198 : (Jvm.Cond.code ({ cls := "TearsQueueModel", name := "begins", desc := "(I)V" } : Jvm.MethodName) prog_11_method_47_code (2 : Nat) (Option.none : Option Jvm.ClassFile.FieldType)) ∈ lw_all := lw_g (lw_at lw_m5 179 rfl) rfl
theorem q1199 : (Jvm.Cond.methodLink "TearsQueueModel" (196 : Nat) ({ cls := "TearsQueueModel", name := "copies", desc := "(II)V" } : Jvm.MethodName)) ∈ lw_all := lw_g (lw_at lw_m5 180 rfl) rfl
theorem q1200 : (Jvm.Cond.privateMethod ({ cls := "TearsQueueModel", name := "copies", desc := "(II)V" } : Jvm.MethodName)) ∈ lw_tbl := lw_at lw_m5 181 rfl
theorem q1201 : (Jvm.Cond.instanceMethod ({ cls := "TearsQueueModel", name := "copies", desc := "(II)V" } : Jvm.MethodName)) ∈ lw_all := lw_g (lw_at lw_m5 182 rfl) rfl
theorem q1202 : (Jvm.Cond.code ({ cls := "TearsQueueModel", name := "copies", desc := "(II)V" } : Jvm.MethodName) prog_11_method_46_code (4 : Nat) (Option.none : Option Jvm.ClassFile.FieldType)) ∈ lw_all := lw_g (lw_at lw_m5 183 rfl) rfl
theorem q1203 : (Jvm.Cond.methodLink "TearsQueueModel" (211 : Nat) ({ cls := "TearsQueueModel", name := "acts", desc := "(I)Z" } : Jvm.MethodName)) ∈ lw_all := lw_g (lw_at lw_m5 184 rfl) rfl
theorem q1204 : (Jvm.Cond.privateMethod ({ cls := "TearsQueueModel", name := "acts", desc := "(I)Z" } : Jvm.MethodName)) ∈ lw_tbl := lw_at lw_m5 185 rfl
theorem q1205 : (Jvm.Cond.instanceMethod ({ cls := "TearsQueueModel", name := "acts", desc := "(I)Z" } : Jvm.MethodName)) ∈ lw_all := lw_g (lw_at lw_m5 186 rfl) rfl
theorem q1206 : (Jvm.Cond.code ({ cls := "TearsQueueModel", name := "acts", desc := "(I)Z" } : Jvm.MethodName) prog_11_method_48_code (3 : Nat) (Option.some Jvm.ClassFile.FieldType.boolean)) ∈ lw_all := lw_g (lw_at lw_m5 187 rfl) rfl
theorem q1208 : (Jvm.Cond.instanceMethod ({ cls := "TearsQueueModel", name := "ahead", desc := "(II)I" } : Jvm.MethodName)) ∈ lw_all := lw_g (lw_at lw_m5 189 rfl) rfl
theorem q1209 : (Jvm.Cond.selects "TearsQueueModel" ({ cls := "TearsQueueModel", name := "ahead", desc := "(II)I" } : Jvm.MethodName) ({ cls := "TearsQueueModel", name := "ahead", desc := "(II)I" } : Jvm.MethodName)) ∈ lw_all := lw_g (lw_at lw_m5 190 rfl) rfl
theorem q1210 : (Jvm.Cond.code ({ cls := "TearsQueueModel", name := "ahead", desc := "(II)I" } : Jvm.MethodName) prog_11_method_52_code (3 : Nat) (Option.some Jvm.ClassFile.FieldType.int)) ∈ lw_all := lw_g (lw_at lw_m5 191 rfl) rfl
theorem q1212 : (Jvm.Cond.instanceMethod ({ cls := "TearsQueueModel", name := "soon", desc := "(I)I" } : Jvm.MethodName)) ∈ lw_all := lw_g (lw_at lw_m5 193 rfl) rfl
theorem q1213 : (Jvm.Cond.selects "TearsQueueModel" ({ cls := "TearsQueueModel", name := "soon", desc := "(I)I" } : Jvm.MethodName) ({ cls := "TearsQueueModel", name := "soon", desc := "(I)I" } : Jvm.MethodName)) ∈ lw_all := lw_g (lw_at lw_m5 194 rfl) rfl
theorem q1214 : (Jvm.Cond.code ({ cls := "TearsQueueModel", name := "soon", desc := "(I)I" } : Jvm.MethodName) prog_11_method_53_code (3 : Nat) (Option.some Jvm.ClassFile.FieldType.int)) ∈ lw_all := lw_g (lw_at lw_m5 195 rfl) rfl
theorem q1216 : (Jvm.Cond.instanceMethod ({ cls := "TearsQueueModel", name := "best", desc := "(II)I" } : Jvm.MethodName)) ∈ lw_all := lw_g (lw_at lw_m5 197 rfl) rfl
theorem q1217 : (Jvm.Cond.selects "TearsQueueModel" ({ cls := "TearsQueueModel", name := "best", desc := "(II)I" } : Jvm.MethodName) ({ cls := "TearsQueueModel", name := "best", desc := "(II)I" } : Jvm.MethodName)) ∈ lw_all := lw_g (lw_at lw_m5 198 rfl) rfl
theorem q1218 : (Jvm.Cond.code ({ cls := "TearsQueueModel", name := "best", desc := "(II)I" } : Jvm.MethodName) prog_11_method_57_code (9 : Nat) (Option.some Jvm.ClassFile.FieldType.int)) ∈ lw_all := lw_g (lw_at lw_m5 199 rfl) rfl
theorem q1219 : (Jvm.Cond.constantLong "TearsQueueModel" (224 : Nat) (10 : Int64)) ∈ lw_all := lw_g (lw_at lw_m5 200 rfl) rfl
theorem q1220 : (Jvm.Cond.constantLong "TearsQueueModel" (226 : Nat) (13 : Int64)) ∈ lw_all := lw_g (lw_at lw_m5 201 rfl) rfl
theorem q1221 : (Jvm.Cond.methodLink "TearsQueueModel" (217 : Nat) ({ cls := "TearsQueueModel", name := "powerOf", desc := "(II)I" } : Jvm.MethodName)) ∈ lw_all := lw_g (lw_at lw_m5 202 rfl) rfl
theorem q1222 : (Jvm.Cond.static ({ cls := "TearsQueueModel", name := "powerOf", desc := "(II)I" } : Jvm.MethodName)) ∈ lw_all := lw_g (lw_at lw_m5 203 rfl) rfl
theorem q1223 : (Jvm.Cond.code ({ cls := "TearsQueueModel", name := "powerOf", desc := "(II)I" } : Jvm.MethodName) prog_11_method_54_code (4 : Nat) (Option.some Jvm.ClassFile.FieldType.int)) ∈ lw_all := lw_g (lw_at lw_m5 204 rfl) rfl
theorem q1224 : (Jvm.Cond.methodLink "TearsQueueModel" (228 : Nat) ({ cls := "TearsQueueModel", name := "rowGoes", desc := "(III)Z" } : Jvm.MethodName)) ∈ lw_all := lw_g (lw_at lw_m5 205 rfl) rfl
theorem q1225 : (Jvm.Cond.privateMethod ({ cls := "TearsQueueModel", name := "rowGoes", desc := "(III)Z" } : Jvm.MethodName)) ∈ lw_tbl := lw_at lw_m5 206 rfl
theorem q1226 : (Jvm.Cond.instanceMethod ({ cls := "TearsQueueModel", name := "rowGoes", desc := "(III)Z" } : Jvm.MethodName)) ∈ lw_all := lw_g (lw_at lw_m5 207 rfl) rfl
theorem q1227 : (Jvm.Cond.code ({ cls := "TearsQueueModel", name := "rowGoes", desc := "(III)Z" } : Jvm.MethodName) prog_11_method_56_code (6 : Nat) (Option.some Jvm.ClassFile.FieldType.boolean)) ∈ lw_all := lw_g (lw_at lw_m5 208 rfl) rfl
theorem q1228 : (Jvm.Cond.methodLink "TearsQueueModel" (220 : Nat) ({ cls := "TearsQueueModel", name := "figureOf", desc := "(IIII)I" } : Jvm.MethodName)) ∈ lw_all := lw_g (lw_at lw_m5 209 rfl) rfl
theorem q1229 : (Jvm.Cond.static ({ cls := "TearsQueueModel", name := "figureOf", desc := "(IIII)I" } : Jvm.MethodName)) ∈ lw_all := lw_g (lw_at lw_m5 210 rfl) rfl
theorem q1230 : (Jvm.Cond.code ({ cls := "TearsQueueModel", name := "figureOf", desc := "(IIII)I" } : Jvm.MethodName) prog_11_method_55_code (4 : Nat) (Option.some Jvm.ClassFile.FieldType.int)) ∈ lw_all := lw_g (lw_at lw_m5 211 rfl) rfl
theorem q1232 : (Jvm.Cond.instanceMethod ({ cls := "TearsQueueModel", name := "home", desc := "(II)I" } : Jvm.MethodName)) ∈ lw_all := lw_g (lw_at lw_m5 213 rfl) rfl
theorem q1233 : (Jvm.Cond.selects "TearsQueueModel" ({ cls := "TearsQueueModel", name := "home", desc := "(II)I" } : Jvm.MethodName) ({ cls := "TearsQueueModel", name := "home", desc := "(II)I" } : Jvm.MethodName)) ∈ lw_all := lw_g (lw_at lw_m5 214 rfl) rfl
theorem q1234 : (Jvm.Cond.code ({ cls := "TearsQueueModel", name := "home", desc := "(II)I" } : Jvm.MethodName) prog_11_method_58_code (5 : Nat) (Option.some Jvm.ClassFile.FieldType.int)) ∈ lw_all := lw_g (lw_at lw_m5 215 rfl) rfl
theorem q1235 : (Jvm.Cond.constantLong "TearsQueueModel" (232 : Nat) (12 : Int64)) ∈ lw_all := lw_g (lw_at lw_m5 216 rfl) rfl
theorem q1237 : (Jvm.Cond.instanceMethod ({ cls := "TearsQueueModel", name := "swap", desc := "(I)I" } : Jvm.MethodName)) ∈ lw_all := lw_g (lw_at lw_m5 218 rfl) rfl
theorem q1238 : (Jvm.Cond.selects "TearsQueueModel" ({ cls := "TearsQueueModel", name := "swap", desc := "(I)I" } : Jvm.MethodName) ({ cls := "TearsQueueModel", name := "swap", desc := "(I)I" } : Jvm.MethodName)) ∈ lw_all := lw_g (lw_at lw_m5 219 rfl) rfl
theorem q1239 : (Jvm.Cond.code ({ cls := "TearsQueueModel", name := "swap", desc := "(I)I" } : Jvm.MethodName) prog_11_method_59_code (6 : Nat) (Option.some Jvm.ClassFile.FieldType.int)) ∈ lw_all := lw_g (lw_at lw_m5 220 rfl) rfl
theorem q1240 : (Jvm.Cond.methodLink "TearsQueueModel" (234 : Nat) ({ cls := "TearsQueueModel", name := "goneThen", desc := "()I" } : Jvm.MethodName)) ∈ lw_all := lw_g (lw_at lw_m5 221 rfl) rfl
theorem q1241 : (Jvm.Cond.privateMethod ({ cls := "TearsQueueModel", name := "goneThen", desc := "()I" } : Jvm.MethodName)) ∈ lw_tbl := lw_at lw_m5 222 rfl
theorem q1242 : (Jvm.Cond.instanceMethod ({ cls := "TearsQueueModel", name := "goneThen", desc := "()I" } : Jvm.MethodName)) ∈ lw_all := lw_g (lw_at lw_m5 223 rfl) rfl
theorem q1243 : (Jvm.Cond.code ({ cls := "TearsQueueModel", name := "goneThen", desc := "()I" } : Jvm.MethodName) prog_11_method_50_code (1 : Nat) (Option.some Jvm.ClassFile.FieldType.int)) ∈ lw_all := lw_g (lw_at lw_m5 224 rfl) rfl
theorem q1245 : (Jvm.Cond.instanceMethod ({ cls := "TearsQueueModel", name := "enough", desc := "()I" } : Jvm.MethodName)) ∈ lw_all := lw_g (lw_at lw_m5 226 rfl) rfl
theorem q1246 : (Jvm.Cond.selects "TearsQueueModel" ({ cls := "TearsQueueModel", name := "enough", desc := "()I" } : Jvm.MethodName) ({ cls := "TearsQueueModel", name := "enough", desc := "()I" } : Jvm.MethodName)) ∈ lw_all := lw_g (lw_at lw_m5 227 rfl) rfl
theorem q1247 : (Jvm.Cond.code ({ cls := "TearsQueueModel", name := "enough", desc := "()I" } : Jvm.MethodName) prog_11_method_60_code (2 : Nat) (Option.some Jvm.ClassFile.FieldType.int)) ∈ lw_all := lw_g (lw_at lw_m5 228 rfl) rfl
theorem q1249 : (Jvm.Cond.instanceMethod ({ cls := "TearsQueueModel", name := "luck", desc := "(III)J" } : Jvm.MethodName)) ∈ lw_all := lw_g (lw_at lw_m5 230 rfl) rfl
theorem q1250 : (Jvm.Cond.selects "TearsQueueModel" ({ cls := "TearsQueueModel", name := "luck", desc := "(III)J" } : Jvm.MethodName) ({ cls := "TearsQueueModel", name := "luck", desc := "(III)J" } : Jvm.MethodName)) ∈ lw_all := lw_g (lw_at lw_m5 231 rfl) rfl
theorem q1251 : (Jvm.Cond.code ({ cls := "TearsQueueModel", name := "luck", desc := "(III)J" } : Jvm.MethodName) prog_11_method_63_code (4 : Nat) (Option.some Jvm.ClassFile.FieldType.long)) ∈ lw_all := lw_g (lw_at lw_m5 232 rfl) rfl
theorem q1252 : (Jvm.Cond.methodLink "TearsQueueModel" (241 : Nat) ({ cls := "TearsQueueModel", name := "byFails", desc := "(III)J" } : Jvm.MethodName)) ∈ lw_all := lw_g (lw_at lw_m5 233 rfl) rfl
theorem q1253 : (Jvm.Cond.privateMethod ({ cls := "TearsQueueModel", name := "byFails", desc := "(III)J" } : Jvm.MethodName)) ∈ lw_tbl := lw_at lw_m5 234 rfl
theorem q1254 : (Jvm.Cond.instanceMethod ({ cls := "TearsQueueModel", name := "byFails", desc := "(III)J" } : Jvm.MethodName)) ∈ lw_all := lw_g (lw_at lw_m5 235 rfl) rfl
theorem q1255 : (Jvm.Cond.code ({ cls := "TearsQueueModel", name := "byFails", desc := "(III)J" } : Jvm.MethodName) prog_11_method_62_code (13 : Nat) (Option.some Jvm.ClassFile.FieldType.long)) ∈ lw_all := lw_g (lw_at lw_m5 236 rfl) rfl
theorem q1256 : (Jvm.Cond.methodLink "TearsQueueModel" (237 : Nat) ({ cls := "TearsQueueModel", name := "lowest", desc := "(JJI)J" } : Jvm.MethodName)) ∈ lw_all := lw_g (lw_at lw_m5 237 rfl) rfl
theorem q1257 : (Jvm.Cond.static ({ cls := "TearsQueueModel", name := "lowest", desc := "(JJI)J" } : Jvm.MethodName)) ∈ lw_all := lw_g (lw_at lw_m5 238 rfl) rfl
theorem q1258 : (Jvm.Cond.code ({ cls := "TearsQueueModel", name := "lowest", desc := "(JJI)J" } : Jvm.MethodName) prog_11_method_61_code (11 : Nat) (Option.some Jvm.ClassFile.FieldType.long)) ∈ lw_all := lw_g (lw_at lw_m5 239 rfl) rfl
theorem q1259 : (Jvm.Cond.constantLong "TearsQueueModel" (245 : Nat) (-1 : Int64)) ∈ lw_all := lw_g (lw_at lw_m6 0 rfl) rfl
theorem q1261 : (Jvm.Cond.instanceMethod ({ cls := "TearsQueueModel", name := "mean", desc := "(II)J" } : Jvm.MethodName)) ∈ lw_all := lw_g (lw_at lw_m6 2 rfl) rfl
theorem q1262 : (Jvm.Cond.selects "TearsQueueModel" ({ cls := "TearsQueueModel", name := "mean", desc := "(II)J" } : Jvm.MethodName) ({ cls := "TearsQueueModel", name := "mean", desc := "(II)J" } : Jvm.MethodName)) ∈ lw_all := lw_g (lw_at lw_m6 3 rfl) rfl
theorem q1263 : (Jvm.Cond.code ({ cls := "TearsQueueModel", name := "mean", desc := "(II)J" } : Jvm.MethodName) prog_11_method_64_code (3 : Nat) (Option.some Jvm.ClassFile.FieldType.long)) ∈ lw_all := lw_g (lw_at lw_m6 4 rfl) rfl
theorem q1265 : (Jvm.Cond.instanceMethod ({ cls := "TearsQueueModel", name := "see", desc := "(IZ)I" } : Jvm.MethodName)) ∈ lw_all := lw_g (lw_at lw_m6 6 rfl) rfl
theorem q1266 : (Jvm.Cond.selects "TearsQueueModel" ({ cls := "TearsQueueModel", name := "see", desc := "(IZ)I" } : Jvm.MethodName) ({ cls := "TearsQueueModel", name := "see", desc := "(IZ)I" } : Jvm.MethodName)) ∈ lw_all := lw_g (lw_at lw_m6 7 rfl) rfl
theorem q1267 : (Jvm.Cond.code ({ cls := "TearsQueueModel", name := "see", desc := "(IZ)I" } : Jvm.MethodName) prog_11_method_65_code (3 : Nat) (Option.some Jvm.ClassFile.FieldType.int)) ∈ lw_all := lw_g (lw_at lw_m6 8 rfl) rfl
theorem q1269 : (Jvm.Cond.instanceMethod ({ cls := "TearsQueueModel", name := "forget", desc := "(I)I" } : Jvm.MethodName)) ∈ lw_all := lw_g (lw_at lw_m6 10 rfl) rfl
theorem q1270 : (Jvm.Cond.selects "TearsQueueModel" ({ cls := "TearsQueueModel", name := "forget", desc := "(I)I" } : Jvm.MethodName) ({ cls := "TearsQueueModel", name := "forget", desc := "(I)I" } : Jvm.MethodName)) ∈ lw_all := lw_g (lw_at lw_m6 11 rfl) rfl
theorem q1271 : (Jvm.Cond.code ({ cls := "TearsQueueModel", name := "forget", desc := "(I)I" } : Jvm.MethodName) prog_11_method_66_code (3 : Nat) (Option.some Jvm.ClassFile.FieldType.int)) ∈ lw_all := lw_g (lw_at lw_m6 12 rfl) rfl
theorem q1273 : (Jvm.Cond.instanceMethod ({ cls := "TearsQueueModel", name := "kinds", desc := "(I)I" } : Jvm.MethodName)) ∈ lw_all := lw_g (lw_at lw_m6 14 rfl) rfl
theorem q1274 : (Jvm.Cond.selects "TearsQueueModel" ({ cls := "TearsQueueModel", name := "kinds", desc := "(I)I" } : Jvm.MethodName) ({ cls := "TearsQueueModel", name := "kinds", desc := "(I)I" } : Jvm.MethodName)) ∈ lw_all := lw_g (lw_at lw_m6 15 rfl) rfl
theorem q1275 : (Jvm.Cond.code ({ cls := "TearsQueueModel", name := "kinds", desc := "(I)I" } : Jvm.MethodName) prog_11_method_68_code (5 : Nat) (Option.some Jvm.ClassFile.FieldType.int)) ∈ lw_all := lw_g (lw_at lw_m6 16 rfl) rfl
theorem q1276 : (Jvm.Cond.methodLink "TearsQueueModel" (247 : Nat) ({ cls := "TearsQueueModel", name := "isAsSeen", desc := "()Z" } : Jvm.MethodName)) ∈ lw_all := lw_g (lw_at lw_m6 17 rfl) rfl
theorem q1277 : (Jvm.Cond.privateMethod ({ cls := "TearsQueueModel", name := "isAsSeen", desc := "()Z" } : Jvm.MethodName)) ∈ lw_tbl := lw_at lw_m6 18 rfl
theorem q1278 : (Jvm.Cond.instanceMethod ({ cls := "TearsQueueModel", name := "isAsSeen", desc := "()Z" } : Jvm.MethodName)) ∈ lw_all := lw_g (lw_at lw_m6 19 rfl) rfl
theorem q1279 : (Jvm.Cond.code ({ cls := "TearsQueueModel", name := "isAsSeen", desc := "()Z" } : Jvm.MethodName) prog_11_method_67_code (3 : Nat) (Option.some Jvm.ClassFile.FieldType.boolean)) ∈ lw_all := lw_g (lw_at lw_m6 20 rfl) rfl
theorem q1281 : (Jvm.Cond.instanceMethod ({ cls := "TearsQueueModel", name := "sorrows", desc := "(I)I" } : Jvm.MethodName)) ∈ lw_all := lw_g (lw_at lw_m6 22 rfl) rfl
theorem q1282 : (Jvm.Cond.selects "TearsQueueModel" ({ cls := "TearsQueueModel", name := "sorrows", desc := "(I)I" } : Jvm.MethodName) ({ cls := "TearsQueueModel", name := "sorrows", desc := "(I)I" } : Jvm.MethodName)) ∈ lw_all := lw_g (lw_at lw_m6 23 rfl) rfl
theorem q1283 : (Jvm.Cond.code ({ cls := "TearsQueueModel", name := "sorrows", desc := "(I)I" } : Jvm.MethodName) prog_11_method_70_code (2 : Nat) (Option.some Jvm.ClassFile.FieldType.int)) ∈ lw_all := lw_g (lw_at lw_m6 24 rfl) rfl
theorem q1284 : (Jvm.Cond.methodLink "TearsQueueModel" (251 : Nat) ({ cls := "TearsQueueModel", name := "sorrowsOf", desc := "(I)I" } : Jvm.MethodName)) ∈ lw_all := lw_g (lw_at lw_m6 25 rfl) rfl
theorem q1285 : (Jvm.Cond.privateMethod ({ cls := "TearsQueueModel", name := "sorrowsOf", desc := "(I)I" } : Jvm.MethodName)) ∈ lw_tbl := lw_at lw_m6 26 rfl
theorem q1286 : (Jvm.Cond.instanceMethod ({ cls := "TearsQueueModel", name := "sorrowsOf", desc := "(I)I" } : Jvm.MethodName)) ∈ lw_all := lw_g (lw_at lw_m6 27 rfl) rfl
theorem q1287 : (Jvm.Cond.code ({ cls := "TearsQueueModel", name := "sorrowsOf", desc := "(I)I" } : Jvm.MethodName) prog_11_method_69_code (5 : Nat) (Option.some Jvm.ClassFile.FieldType.int)) ∈ lw_all := lw_g (lw_at lw_m6 28 rfl) rfl
theorem q1289 : (Jvm.Cond.instanceMethod ({ cls := "TearsQueueModel", name := "ask", desc := "(II)I" } : Jvm.MethodName)) ∈ lw_all := lw_g (lw_at lw_m6 30 rfl) rfl
theorem q1290 : (Jvm.Cond.selects "TearsQueueModel" ({ cls := "TearsQueueModel", name := "ask", desc := "(II)I" } : Jvm.MethodName) ({ cls := "TearsQueueModel", name := "ask", desc := "(II)I" } : Jvm.MethodName)) ∈ lw_all := lw_g (lw_at lw_m6 31 rfl) rfl
theorem q1291 : (Jvm.Cond.code ({ cls := "TearsQueueModel", name := "ask", desc := "(II)I" } : Jvm.MethodName) prog_11_method_71_code (10 : Nat) (Option.some Jvm.ClassFile.FieldType.int)) ∈ lw_all := lw_g (lw_at lw_m6 32 rfl) rfl
theorem q1293 : (Jvm.Cond.instanceMethod ({ cls := "TearsQueueModel", name := "drift", desc := "(III)I" } : Jvm.MethodName)) ∈ lw_all := lw_g (lw_at lw_m6 34 rfl) rfl
theorem q1294 : (Jvm.Cond.selects "TearsQueueModel" ({ cls := "TearsQueueModel", name := "drift", desc := "(III)I" } : Jvm.MethodName) ({ cls := "TearsQueueModel", name := "drift", desc := "(III)I" } : Jvm.MethodName)) ∈ lw_all := lw_g (lw_at lw_m6 35 rfl) rfl
theorem q1295 : (Jvm.Cond.code ({ cls := "TearsQueueModel", name := "drift", desc := "(III)I" } : Jvm.MethodName) prog_11_method_72_code (7 : Nat) (Option.some Jvm.ClassFile.FieldType.int)) ∈ lw_all := lw_g (lw_at lw_m6 36 rfl) rfl
theorem q1296 : (Jvm.Cond.constant "TearsQueueModel" (254 : Nat) (1103515245 : Int32)) ∈ lw_all := lw_g (lw_at lw_m6 37 rfl) rfl
theorem q1298 : (Jvm.Cond.instanceMethod ({ cls := "TearsQueueModel", name := "keep", desc := "(I)I" } : Jvm.MethodName)) ∈ lw_all := lw_g (lw_at lw_m6 39 rfl) rfl
theorem q1299 : (Jvm.Cond.selects "TearsQueueModel" ({ cls := "TearsQueueModel", name := "keep", desc := "(I)I" } : Jvm.MethodName) ({ cls := "TearsQueueModel", name := "keep", desc := "(I)I" } : Jvm.MethodName)) ∈ lw_all := lw_g (lw_at lw_m6 40 rfl) rfl
theorem q1300 : (Jvm.Cond.code ({ cls := "TearsQueueModel", name := "keep", desc := "(I)I" } : Jvm.MethodName) prog_11_method_73_code (3 : Nat) (Option.some Jvm.ClassFile.FieldType.int)) ∈ lw_all := lw_g (lw_at lw_m6 41 rfl) rfl
theorem q1302 : (Jvm.Cond.instanceMethod ({ cls := "TearsQueueModel", name := "back", desc := "(I)I" } : Jvm.MethodName)) ∈ lw_all := lw_g (lw_at lw_m6 43 rfl) rfl
theorem q1303 : (Jvm.Cond.selects "TearsQueueModel" ({ cls := "TearsQueueModel", name := "back", desc := "(I)I" } : Jvm.MethodName) ({ cls := "TearsQueueModel", name := "back", desc := "(I)I" } : Jvm.MethodName)) ∈ lw_all := lw_g (lw_at lw_m6 44 rfl) rfl
theorem q1304 : (Jvm.Cond.code ({ cls := "TearsQueueModel", name := "back", desc := "(I)I" } : Jvm.MethodName) prog_11_method_74_code (2 : Nat) (Option.some Jvm.ClassFile.FieldType.int)) ∈ lw_all := lw_g (lw_at lw_m6 45 rfl) rfl
theorem q1306 : (Jvm.Cond.instanceMethod ({ cls := "TearsQueueModel", name := "sheet", desc := "(III)I" } : Jvm.MethodName)) ∈ lw_all := lw_g (lw_at lw_m6 47 rfl) rfl
theorem q1307 : (Jvm.Cond.selects "TearsQueueModel" ({ cls := "TearsQueueModel", name := "sheet", desc := "(III)I" } : Jvm.MethodName) ({ cls := "TearsQueueModel", name := "sheet", desc := "(III)I" } : Jvm.MethodName)) ∈ lw_all := lw_g (lw_at lw_m6 48 rfl) rfl
theorem q1308 : (Jvm.Cond.code ({ cls := "TearsQueueModel", name := "sheet", desc := "(III)I" } : Jvm.MethodName) prog_11_method_75_code (5 : Nat) (Option.some Jvm.ClassFile.FieldType.int)) ∈ lw_all := lw_g (lw_at lw_m6 49 rfl) rfl
theorem q1309 : (Jvm.Cond.constantLong "TearsQueueModel" (255 : Nat) (2 : Int64)) ∈ lw_all := lw_g (lw_at lw_m6 50 rfl) rfl
theorem q1311 : (Jvm.Cond.instanceMethod ({ cls := "TearsQueueModel", name := "lay", desc := "(III)I" } : Jvm.MethodName)) ∈ lw_all := lw_g (lw_at lw_m6 52 rfl) rfl
theorem q1312 : (Jvm.Cond.selects "TearsQueueModel" ({ cls := "TearsQueueModel", name := "lay", desc := "(III)I" } : Jvm.MethodName) ({ cls := "TearsQueueModel", name := "lay", desc := "(III)I" } : Jvm.MethodName)) ∈ lw_all := lw_g (lw_at lw_m6 53 rfl) rfl
theorem q1313 : (Jvm.Cond.code ({ cls := "TearsQueueModel", name := "lay", desc := "(III)I" } : Jvm.MethodName) prog_11_method_76_code (4 : Nat) (Option.some Jvm.ClassFile.FieldType.int)) ∈ lw_all := lw_g (lw_at lw_m6 54 rfl) rfl
theorem q1315 : (Jvm.Cond.instanceMethod ({ cls := "TearsQueueModel", name := "read", desc := "(IIII)I" } : Jvm.MethodName)) ∈ lw_all := lw_g (lw_at lw_m6 56 rfl) rfl
theorem q1316 : (Jvm.Cond.selects "TearsQueueModel" ({ cls := "TearsQueueModel", name := "read", desc := "(IIII)I" } : Jvm.MethodName) ({ cls := "TearsQueueModel", name := "read", desc := "(IIII)I" } : Jvm.MethodName)) ∈ lw_all := lw_g (lw_at lw_m6 57 rfl) rfl
theorem q1317 : (Jvm.Cond.code ({ cls := "TearsQueueModel", name := "read", desc := "(IIII)I" } : Jvm.MethodName) prog_11_method_78_code (8 : Nat) (Option.some Jvm.ClassFile.FieldType.int)) ∈ lw_all := lw_g (lw_at lw_m6 58 rfl) rfl
theorem q1318 : (Jvm.Cond.constantLong "TearsQueueModel" (257 : Nat) (20 : Int64)) ∈ lw_all := lw_g (lw_at lw_m6 59 rfl) rfl
theorem q1319 : (Jvm.Cond.methodLink "TearsQueueModel" (259 : Nat) ({ cls := "TearsQueueModel", name := "does", desc := "(I)Z" } : Jvm.MethodName)) ∈ lw_all := lw_g (lw_at lw_m6 60 rfl) rfl
theorem q1320 : (Jvm.Cond.privateMethod ({ cls := "TearsQueueModel", name := "does", desc := "(I)Z" } : Jvm.MethodName)) ∈ lw_tbl := lw_at lw_m6 61 rfl
theorem q1321 : (Jvm.Cond.instanceMethod ({ cls := "TearsQueueModel", name := "does", desc := "(I)Z" } : Jvm.MethodName)) ∈ lw_all := lw_g (lw_at lw_m6 62 rfl) rfl
theorem q1322 : (Jvm.Cond.code ({ cls := "TearsQueueModel", name := "does", desc := "(I)Z" } : Jvm.MethodName) prog_11_method_77_code (2 : Nat) (Option.some Jvm.ClassFile.FieldType.boolean)) ∈ lw_all := lw_g (lw_at lw_m6 63 rfl) rfl
theorem q1324 : (Jvm.Cond.instanceMethod ({ cls := "TearsQueueModel", name := "torn", desc := "()I" } : Jvm.MethodName)) ∈ lw_all := lw_g (lw_at lw_m6 65 rfl) rfl
theorem q1325 : (Jvm.Cond.selects "TearsQueueModel" ({ cls := "TearsQueueModel", name := "torn", desc := "()I" } : Jvm.MethodName) ({ cls := "TearsQueueModel", name := "torn", desc := "()I" } : Jvm.MethodName)) ∈ lw_all := lw_g (lw_at lw_m6 66 rfl) rfl
theorem q1326 : (Jvm.Cond.code ({ cls := "TearsQueueModel", name := "torn", desc := "()I" } : Jvm.MethodName) prog_11_method_79_code (1 : Nat) (Option.some Jvm.ClassFile.FieldType.int)) ∈ lw_all := lw_g (lw_at lw_m6 67 rfl) rfl
theorem q1328 : (Jvm.Cond.instanceMethod ({ cls := "TearsQueueModel", name := "count", desc := "(I)I" } : Jvm.MethodName)) ∈ lw_all := lw_g (lw_at lw_m6 69 rfl) rfl
theorem q1329 : (Jvm.Cond.selects "TearsQueueModel" ({ cls := "TearsQueueModel", name := "count", desc := "(I)I" } : Jvm.MethodName) ({ cls := "TearsQueueModel", name := "count", desc := "(I)I" } : Jvm.MethodName)) ∈ lw_all := lw_g (lw_at lw_m6 70 rfl) rfl
theorem q1330 : (Jvm.Cond.code ({ cls := "TearsQueueModel", name := "count", desc := "(I)I" } : Jvm.MethodName) prog_11_method_80_code (5 : Nat) (Option.some Jvm.ClassFile.FieldType.int)) ∈ lw_all := lw_g (lw_at lw_m6 71 rfl) rfl
theorem in_X7 : ∀ w ∈ wsX70, w ∈ lw_all := lw_in wsX70 [946, 948, 950, 952, 954, 956, 958, 960, 962, 964, 966, 968, 970, 972, 974, 976, 978, 980, 982, 984, 986, 988, 990, 992, 994, 996, 998, 1000, 1002] (by decide +kernel) (by decide +kernel)
