/-! SagMemory -/
set_option maxRecDepth 100000
def RX0 : String := "SagMemory"
def TX0 : u_T := fun k => match k with
  | 0 => ("SagMemory", "valley", "LSagMemory$Valley;", false)
  | 1 => ("SagMemory", "tape", "[B", true)
  | 2 => ("SagMemory", "taped", "I", false)
  | 3 => ("SagMemory", "faultKind", "I", false)
  | 4 => ("SagMemory", "faultPlace", "I", false)
  | 5 => ("SagMemory", "kept", "[I", true)
  | 6 => ("SagMemory", "from", "[I", true)
  | 7 => ("SagMemory", "many", "[I", true)
  | 8 => ("SagMemory", "wiped", "I", false)
  | 9 => ("SagMemory", "laws", "[LSagMemory$Wiping;", true)
  | 10 => ("SagMemory", "law", "LSagMemory$Wiping;", false)
  | 11 => ("SagMemory", "load", "[I", true)
  | 12 => ("SagMemory", "by", "[I", true)
  | 13 => ("SagMemory", "row", "[I", true)
  | 14 => ("SagMemory", "went", "[I", true)
  | 15 => ("SagMemory", "came", "[I", true)
  | 16 => ("SagMemory", "gave", "[I", true)
  | 17 => ("SagMemory", "creaked", "[I", true)
  | 18 => ("SagMemory", "paid", "[I", true)
  | 19 => ("SagMemory", "wipedBy", "[I", true)
  | 20 => ("SagMemory", "brokeBy", "[I", true)
  | 21 => ("SagMemory", "keptBy", "[I", true)
  | 22 => ("SagMemory", "manyBy", "[I", true)
  | 23 => ("SagMemory", "sagBy", "[I", true)
  | 24 => ("SagMemory", "colds", "I", false)
  | 25 => ("SagMemory", "absent", "I", false)
  | 26 => ("SagMemory", "firstRow", "[I", true)
  | 27 => ("SagMemory", "rowLeast", "I", false)
  | 28 => ("SagMemory", "rowMany", "I", false)
  | 29 => ("SagMemory", "rowAcross", "I", false)
  | 30 => ("SagMemory", "backSets", "[I", true)
  | 31 => ("SagMemory", "backMany", "I", false)
  | 32 => ("SagMemory", "askWorst", "I", false)
  | 33 => ("SagMemory", "loadMany", "I", false)
  | 34 => ("SagMemory", "loadLeast", "I", false)
  | 35 => ("SagMemory", "loadMost", "I", false)
  | 36 => ("SagMemory", "sagOfSet", "[I", true)
  | 37 => ("SagMemory", "losesBy", "[I", true)
  | 38 => ("SagMemory", "restMany", "I", false)
  | 39 => ("SagMemory", "restFirst", "I", false)
  | 40 => ("SagMemory", "oftenAll", "J", false)
  | 41 => ("SagMemory", "oftenBreaks", "J", false)
  | 42 => ("SagMemory", "oftenSag", "J", false)
  | 43 => ("SagMemory", "slots", "[LSagMemory$Slot;", true)
  | _ => ("SagMemory", "images", "Ljava/util/ArrayList;", true)
def tyX0 : Nat → FieldType := fun k => match k with
  | 0 => .object "SagMemory$Valley"
  | 1 => .array .byte
  | 2 => .int
  | 3 => .int
  | 4 => .int
  | 5 => .array .int
  | 6 => .array .int
  | 7 => .array .int
  | 8 => .int
  | 9 => .array (.object "SagMemory$Wiping")
  | 10 => .object "SagMemory$Wiping"
  | 11 => .array .int
  | 12 => .array .int
  | 13 => .array .int
  | 14 => .array .int
  | 15 => .array .int
  | 16 => .array .int
  | 17 => .array .int
  | 18 => .array .int
  | 19 => .array .int
  | 20 => .array .int
  | 21 => .array .int
  | 22 => .array .int
  | 23 => .array .int
  | 24 => .int
  | 25 => .int
  | 26 => .array .int
  | 27 => .int
  | 28 => .int
  | 29 => .int
  | 30 => .array .int
  | 31 => .int
  | 32 => .int
  | 33 => .int
  | 34 => .int
  | 35 => .int
  | 36 => .array .int
  | 37 => .array .int
  | 38 => .int
  | 39 => .int
  | 40 => .long
  | 41 => .long
  | 42 => .long
  | 43 => .array (.object "SagMemory$Slot")
  | _ => .object "java/util/ArrayList"
abbrev wsX00 : List Cond := u_ws RX0 TX0 45
set_option maxRecDepth 100000 in
theorem nmX0 : ∀ a, a < 45 → ∀ b, b < 45 → a ≠ b → (TX0 a).2.1 ≠ (TX0 b).2.1 := by decide +kernel
set_option maxRecDepth 100000 in
theorem tyX0_ok : ∀ k, k < 45 → parseFieldDescriptor (TX0 k).2.2.1 = some (tyX0 k) := by decide +kernel
abbrev cX0_init : ByteArray := prog_1_method_3_code
def yX0_init : MethodName := ⟨RX0, "<init>", "()V"⟩
def dkwX0_init_13 : List UInt8 := [183, 0, 116, 181, 0, 117, 177]
abbrev dktX0_init_13 : List UInt8 := dkwX0_init_13 ++ []
def dkwX0_init_12 : List UInt8 := [183, 0, 109, 83, 89, 6, 187, 0, 107, 89, 183, 0, 109, 83, 181, 0, 110, 42, 187, 0, 114, 89]
abbrev dktX0_init_12 : List UInt8 := dkwX0_init_12 ++ dktX0_init_13
def dkwX0_init_11 : List UInt8 := [187, 0, 107, 89, 183, 0, 109, 83, 89, 4, 187, 0, 107, 89, 183, 0, 109, 83, 89, 5, 187, 0, 107, 89]
abbrev dktX0_init_11 : List UInt8 := dkwX0_init_11 ++ dktX0_init_12
def dkwX0_init_10 : List UInt8 := [42, 17, 0, 128, 188, 10, 181, 0, 101, 42, 16, 18, 188, 10, 181, 0, 104, 42, 7, 189, 0, 107, 89, 3]
abbrev dktX0_init_10 : List UInt8 := dkwX0_init_10 ++ dktX0_init_11
def dkwX0_init_9 : List UInt8 := [16, 21, 188, 10, 181, 0, 92, 42, 16, 7, 188, 10, 181, 0, 95, 42, 17, 0, 128, 188, 10, 181, 0, 98]
abbrev dktX0_init_9 : List UInt8 := dkwX0_init_9 ++ dktX0_init_10
def dkwX0_init_8 : List UInt8 := [6, 188, 10, 181, 0, 83, 42, 17, 0, 168, 188, 10, 181, 0, 86, 42, 16, 21, 188, 10, 181, 0, 89, 42]
abbrev dktX0_init_8 : List UInt8 := dkwX0_init_8 ++ dktX0_init_9
def dkwX0_init_7 : List UInt8 := [16, 7, 188, 10, 181, 0, 74, 42, 16, 7, 188, 10, 181, 0, 77, 42, 16, 7, 188, 10, 181, 0, 80, 42]
abbrev dktX0_init_7 : List UInt8 := dkwX0_init_7 ++ dktX0_init_8
def dkwX0_init_6 : List UInt8 := [16, 7, 188, 10, 181, 0, 65, 42, 16, 7, 188, 10, 181, 0, 68, 42, 16, 7, 188, 10, 181, 0, 71, 42]
abbrev dktX0_init_6 : List UInt8 := dkwX0_init_6 ++ dktX0_init_7
def dkwX0_init_5 : List UInt8 := [16, 7, 188, 10, 181, 0, 56, 42, 16, 7, 188, 10, 181, 0, 59, 42, 16, 7, 188, 10, 181, 0, 62, 42]
abbrev dktX0_init_5 : List UInt8 := dkwX0_init_5 ++ dktX0_init_6
def dkwX0_init_4 : List UInt8 := [187, 0, 45, 89, 42, 183, 0, 47, 83, 181, 0, 48, 42, 42, 180, 0, 48, 3, 50, 181, 0, 52, 42]
abbrev dktX0_init_4 : List UInt8 := dkwX0_init_4 ++ dktX0_init_5
def dkwX0_init_3 : List UInt8 := [187, 0, 39, 89, 42, 183, 0, 41, 83, 89, 5, 187, 0, 42, 89, 42, 183, 0, 44, 83, 89, 6]
abbrev dktX0_init_3 : List UInt8 := dkwX0_init_3 ++ dktX0_init_4
def dkwX0_init_2 : List UInt8 := [188, 10, 181, 0, 31, 42, 7, 189, 0, 34, 89, 3, 187, 0, 34, 89, 42, 183, 0, 36, 83, 89, 4]
abbrev dktX0_init_2 : List UInt8 := dkwX0_init_2 ++ dktX0_init_3
def dkwX0_init_1 : List UInt8 := [42, 2, 181, 0, 20, 42, 16, 24, 188, 10, 181, 0, 24, 42, 16, 24, 188, 10, 181, 0, 28, 42, 6]
abbrev dktX0_init_1 : List UInt8 := dkwX0_init_1 ++ dktX0_init_2
def dkwX0_init_0 : List UInt8 := [42, 183, 0, 1, 42, 187, 0, 7, 89, 183, 0, 9, 181, 0, 10, 42, 17, 2, 188, 188, 8, 181, 0, 16]
abbrev dktX0_init_0 : List UInt8 := dkwX0_init_0 ++ dktX0_init_1
theorem dksX0_init_0 : cX0_init.data.toList.drop 0 = dktX0_init_0 := by decide +kernel
theorem dksX0_init_1 : cX0_init.data.toList.drop 24 = dktX0_init_1 := dk_seg dksX0_init_0 24 rfl rfl
theorem dksX0_init_2 : cX0_init.data.toList.drop 47 = dktX0_init_2 := dk_seg dksX0_init_1 23 rfl rfl
theorem dksX0_init_3 : cX0_init.data.toList.drop 70 = dktX0_init_3 := dk_seg dksX0_init_2 23 rfl rfl
theorem dksX0_init_4 : cX0_init.data.toList.drop 92 = dktX0_init_4 := dk_seg dksX0_init_3 22 rfl rfl
theorem dksX0_init_5 : cX0_init.data.toList.drop 115 = dktX0_init_5 := dk_seg dksX0_init_4 23 rfl rfl
theorem dksX0_init_6 : cX0_init.data.toList.drop 139 = dktX0_init_6 := dk_seg dksX0_init_5 24 rfl rfl
theorem dksX0_init_7 : cX0_init.data.toList.drop 163 = dktX0_init_7 := dk_seg dksX0_init_6 24 rfl rfl
theorem dksX0_init_8 : cX0_init.data.toList.drop 187 = dktX0_init_8 := dk_seg dksX0_init_7 24 rfl rfl
theorem dksX0_init_9 : cX0_init.data.toList.drop 211 = dktX0_init_9 := dk_seg dksX0_init_8 24 rfl rfl
theorem dksX0_init_10 : cX0_init.data.toList.drop 235 = dktX0_init_10 := dk_seg dksX0_init_9 24 rfl rfl
theorem dksX0_init_11 : cX0_init.data.toList.drop 259 = dktX0_init_11 := dk_seg dksX0_init_10 24 rfl rfl
theorem dksX0_init_12 : cX0_init.data.toList.drop 283 = dktX0_init_12 := dk_seg dksX0_init_11 24 rfl rfl
theorem dksX0_init_13 : cX0_init.data.toList.drop 305 = dktX0_init_13 := dk_seg dksX0_init_12 22 rfl rfl
theorem dX0_init_0 : decode cX0_init 0 = .ok (.aload_n 0, 1) := dk_42 (dk_at dksX0_init_0 0 rfl rfl)
theorem dX0_init_1 : decode cX0_init 1 = .ok (.invokespecial 1, 3) := dk_183 0 1 (dk_at dksX0_init_0 1 rfl rfl)
theorem dX0_init_4 : decode cX0_init 4 = .ok (.aload_n 0, 1) := dk_42 (dk_at dksX0_init_0 4 rfl rfl)
theorem dX0_init_5 : decode cX0_init 5 = .ok (.new 7, 3) := dk_187 0 7 (dk_at dksX0_init_0 5 rfl rfl)
theorem dX0_init_8 : decode cX0_init 8 = .ok (.dup, 1) := dk_89 (dk_at dksX0_init_0 8 rfl rfl)
theorem dX0_init_9 : decode cX0_init 9 = .ok (.invokespecial 9, 3) := dk_183 0 9 (dk_at dksX0_init_0 9 rfl rfl)
theorem dX0_init_12 : decode cX0_init 12 = .ok (.putfield 10, 3) := dk_181 0 10 (dk_at dksX0_init_0 12 rfl rfl)
theorem dX0_init_15 : decode cX0_init 15 = .ok (.aload_n 0, 1) := dk_42 (dk_at dksX0_init_0 15 rfl rfl)
theorem dX0_init_16 : decode cX0_init 16 = .ok (.sipush 700, 3) := dk_17 2 188 (dk_at dksX0_init_0 16 rfl rfl)
theorem dX0_init_19 : decode cX0_init 19 = .ok (.newarray .byte, 2) := dk_188_8 (dk_at dksX0_init_0 19 rfl rfl)
theorem dX0_init_21 : decode cX0_init 21 = .ok (.putfield 16, 3) := dk_181 0 16 (dk_at dksX0_init_0 21 rfl rfl)
theorem dX0_init_24 : decode cX0_init 24 = .ok (.aload_n 0, 1) := dk_42 (dk_at dksX0_init_1 0 rfl rfl)
theorem dX0_init_25 : decode cX0_init 25 = .ok (.iconst (-1), 1) := dk_2 (dk_at dksX0_init_1 1 rfl rfl)
theorem dX0_init_26 : decode cX0_init 26 = .ok (.putfield 20, 3) := dk_181 0 20 (dk_at dksX0_init_1 2 rfl rfl)
theorem dX0_init_29 : decode cX0_init 29 = .ok (.aload_n 0, 1) := dk_42 (dk_at dksX0_init_1 5 rfl rfl)
theorem dX0_init_30 : decode cX0_init 30 = .ok (.bipush 24, 2) := dk_16 24 (dk_at dksX0_init_1 6 rfl rfl)
theorem dX0_init_32 : decode cX0_init 32 = .ok (.newarray .int, 2) := dk_188_10 (dk_at dksX0_init_1 8 rfl rfl)
theorem dX0_init_34 : decode cX0_init 34 = .ok (.putfield 24, 3) := dk_181 0 24 (dk_at dksX0_init_1 10 rfl rfl)
theorem dX0_init_37 : decode cX0_init 37 = .ok (.aload_n 0, 1) := dk_42 (dk_at dksX0_init_1 13 rfl rfl)
theorem dX0_init_38 : decode cX0_init 38 = .ok (.bipush 24, 2) := dk_16 24 (dk_at dksX0_init_1 14 rfl rfl)
theorem dX0_init_40 : decode cX0_init 40 = .ok (.newarray .int, 2) := dk_188_10 (dk_at dksX0_init_1 16 rfl rfl)
theorem dX0_init_42 : decode cX0_init 42 = .ok (.putfield 28, 3) := dk_181 0 28 (dk_at dksX0_init_1 18 rfl rfl)
theorem dX0_init_45 : decode cX0_init 45 = .ok (.aload_n 0, 1) := dk_42 (dk_at dksX0_init_1 21 rfl rfl)
theorem dX0_init_46 : decode cX0_init 46 = .ok (.iconst 3, 1) := dk_6 (dk_at dksX0_init_1 22 rfl rfl)
theorem dX0_init_47 : decode cX0_init 47 = .ok (.newarray .int, 2) := dk_188_10 (dk_at dksX0_init_2 0 rfl rfl)
theorem dX0_init_49 : decode cX0_init 49 = .ok (.putfield 31, 3) := dk_181 0 31 (dk_at dksX0_init_2 2 rfl rfl)
theorem dX0_init_52 : decode cX0_init 52 = .ok (.aload_n 0, 1) := dk_42 (dk_at dksX0_init_2 5 rfl rfl)
theorem dX0_init_53 : decode cX0_init 53 = .ok (.iconst 4, 1) := dk_7 (dk_at dksX0_init_2 6 rfl rfl)
theorem dX0_init_54 : decode cX0_init 54 = .ok (.anewarray 34, 3) := dk_189 0 34 (dk_at dksX0_init_2 7 rfl rfl)
theorem dX0_init_57 : decode cX0_init 57 = .ok (.dup, 1) := dk_89 (dk_at dksX0_init_2 10 rfl rfl)
theorem dX0_init_58 : decode cX0_init 58 = .ok (.iconst 0, 1) := dk_3 (dk_at dksX0_init_2 11 rfl rfl)
theorem dX0_init_59 : decode cX0_init 59 = .ok (.new 34, 3) := dk_187 0 34 (dk_at dksX0_init_2 12 rfl rfl)
theorem dX0_init_62 : decode cX0_init 62 = .ok (.dup, 1) := dk_89 (dk_at dksX0_init_2 15 rfl rfl)
theorem dX0_init_63 : decode cX0_init 63 = .ok (.aload_n 0, 1) := dk_42 (dk_at dksX0_init_2 16 rfl rfl)
theorem dX0_init_64 : decode cX0_init 64 = .ok (.invokespecial 36, 3) := dk_183 0 36 (dk_at dksX0_init_2 17 rfl rfl)
theorem dX0_init_67 : decode cX0_init 67 = .ok (.aastore, 1) := dk_83 (dk_at dksX0_init_2 20 rfl rfl)
theorem dX0_init_68 : decode cX0_init 68 = .ok (.dup, 1) := dk_89 (dk_at dksX0_init_2 21 rfl rfl)
theorem dX0_init_69 : decode cX0_init 69 = .ok (.iconst 1, 1) := dk_4 (dk_at dksX0_init_2 22 rfl rfl)
theorem dX0_init_70 : decode cX0_init 70 = .ok (.new 39, 3) := dk_187 0 39 (dk_at dksX0_init_3 0 rfl rfl)
theorem dX0_init_73 : decode cX0_init 73 = .ok (.dup, 1) := dk_89 (dk_at dksX0_init_3 3 rfl rfl)
theorem dX0_init_74 : decode cX0_init 74 = .ok (.aload_n 0, 1) := dk_42 (dk_at dksX0_init_3 4 rfl rfl)
theorem dX0_init_75 : decode cX0_init 75 = .ok (.invokespecial 41, 3) := dk_183 0 41 (dk_at dksX0_init_3 5 rfl rfl)
theorem dX0_init_78 : decode cX0_init 78 = .ok (.aastore, 1) := dk_83 (dk_at dksX0_init_3 8 rfl rfl)
theorem dX0_init_79 : decode cX0_init 79 = .ok (.dup, 1) := dk_89 (dk_at dksX0_init_3 9 rfl rfl)
theorem dX0_init_80 : decode cX0_init 80 = .ok (.iconst 2, 1) := dk_5 (dk_at dksX0_init_3 10 rfl rfl)
theorem dX0_init_81 : decode cX0_init 81 = .ok (.new 42, 3) := dk_187 0 42 (dk_at dksX0_init_3 11 rfl rfl)
theorem dX0_init_84 : decode cX0_init 84 = .ok (.dup, 1) := dk_89 (dk_at dksX0_init_3 14 rfl rfl)
theorem dX0_init_85 : decode cX0_init 85 = .ok (.aload_n 0, 1) := dk_42 (dk_at dksX0_init_3 15 rfl rfl)
theorem dX0_init_86 : decode cX0_init 86 = .ok (.invokespecial 44, 3) := dk_183 0 44 (dk_at dksX0_init_3 16 rfl rfl)
theorem dX0_init_89 : decode cX0_init 89 = .ok (.aastore, 1) := dk_83 (dk_at dksX0_init_3 19 rfl rfl)
theorem dX0_init_90 : decode cX0_init 90 = .ok (.dup, 1) := dk_89 (dk_at dksX0_init_3 20 rfl rfl)
theorem dX0_init_91 : decode cX0_init 91 = .ok (.iconst 3, 1) := dk_6 (dk_at dksX0_init_3 21 rfl rfl)
theorem dX0_init_92 : decode cX0_init 92 = .ok (.new 45, 3) := dk_187 0 45 (dk_at dksX0_init_4 0 rfl rfl)
theorem dX0_init_95 : decode cX0_init 95 = .ok (.dup, 1) := dk_89 (dk_at dksX0_init_4 3 rfl rfl)
theorem dX0_init_96 : decode cX0_init 96 = .ok (.aload_n 0, 1) := dk_42 (dk_at dksX0_init_4 4 rfl rfl)
theorem dX0_init_97 : decode cX0_init 97 = .ok (.invokespecial 47, 3) := dk_183 0 47 (dk_at dksX0_init_4 5 rfl rfl)
theorem dX0_init_100 : decode cX0_init 100 = .ok (.aastore, 1) := dk_83 (dk_at dksX0_init_4 8 rfl rfl)
theorem dX0_init_101 : decode cX0_init 101 = .ok (.putfield 48, 3) := dk_181 0 48 (dk_at dksX0_init_4 9 rfl rfl)
theorem dX0_init_104 : decode cX0_init 104 = .ok (.aload_n 0, 1) := dk_42 (dk_at dksX0_init_4 12 rfl rfl)
theorem dX0_init_105 : decode cX0_init 105 = .ok (.aload_n 0, 1) := dk_42 (dk_at dksX0_init_4 13 rfl rfl)
theorem dX0_init_106 : decode cX0_init 106 = .ok (.getfield 48, 3) := dk_180 0 48 (dk_at dksX0_init_4 14 rfl rfl)
theorem dX0_init_109 : decode cX0_init 109 = .ok (.iconst 0, 1) := dk_3 (dk_at dksX0_init_4 17 rfl rfl)
theorem dX0_init_110 : decode cX0_init 110 = .ok (.aaload, 1) := dk_50 (dk_at dksX0_init_4 18 rfl rfl)
theorem dX0_init_111 : decode cX0_init 111 = .ok (.putfield 52, 3) := dk_181 0 52 (dk_at dksX0_init_4 19 rfl rfl)
theorem dX0_init_114 : decode cX0_init 114 = .ok (.aload_n 0, 1) := dk_42 (dk_at dksX0_init_4 22 rfl rfl)
theorem dX0_init_115 : decode cX0_init 115 = .ok (.bipush 7, 2) := dk_16 7 (dk_at dksX0_init_5 0 rfl rfl)
theorem dX0_init_117 : decode cX0_init 117 = .ok (.newarray .int, 2) := dk_188_10 (dk_at dksX0_init_5 2 rfl rfl)
theorem dX0_init_119 : decode cX0_init 119 = .ok (.putfield 56, 3) := dk_181 0 56 (dk_at dksX0_init_5 4 rfl rfl)
theorem dX0_init_122 : decode cX0_init 122 = .ok (.aload_n 0, 1) := dk_42 (dk_at dksX0_init_5 7 rfl rfl)
theorem dX0_init_123 : decode cX0_init 123 = .ok (.bipush 7, 2) := dk_16 7 (dk_at dksX0_init_5 8 rfl rfl)
theorem dX0_init_125 : decode cX0_init 125 = .ok (.newarray .int, 2) := dk_188_10 (dk_at dksX0_init_5 10 rfl rfl)
theorem dX0_init_127 : decode cX0_init 127 = .ok (.putfield 59, 3) := dk_181 0 59 (dk_at dksX0_init_5 12 rfl rfl)
theorem dX0_init_130 : decode cX0_init 130 = .ok (.aload_n 0, 1) := dk_42 (dk_at dksX0_init_5 15 rfl rfl)
theorem dX0_init_131 : decode cX0_init 131 = .ok (.bipush 7, 2) := dk_16 7 (dk_at dksX0_init_5 16 rfl rfl)
theorem dX0_init_133 : decode cX0_init 133 = .ok (.newarray .int, 2) := dk_188_10 (dk_at dksX0_init_5 18 rfl rfl)
theorem dX0_init_135 : decode cX0_init 135 = .ok (.putfield 62, 3) := dk_181 0 62 (dk_at dksX0_init_5 20 rfl rfl)
theorem dX0_init_138 : decode cX0_init 138 = .ok (.aload_n 0, 1) := dk_42 (dk_at dksX0_init_5 23 rfl rfl)
theorem dX0_init_139 : decode cX0_init 139 = .ok (.bipush 7, 2) := dk_16 7 (dk_at dksX0_init_6 0 rfl rfl)
theorem dX0_init_141 : decode cX0_init 141 = .ok (.newarray .int, 2) := dk_188_10 (dk_at dksX0_init_6 2 rfl rfl)
theorem dX0_init_143 : decode cX0_init 143 = .ok (.putfield 65, 3) := dk_181 0 65 (dk_at dksX0_init_6 4 rfl rfl)
theorem dX0_init_146 : decode cX0_init 146 = .ok (.aload_n 0, 1) := dk_42 (dk_at dksX0_init_6 7 rfl rfl)
theorem dX0_init_147 : decode cX0_init 147 = .ok (.bipush 7, 2) := dk_16 7 (dk_at dksX0_init_6 8 rfl rfl)
theorem dX0_init_149 : decode cX0_init 149 = .ok (.newarray .int, 2) := dk_188_10 (dk_at dksX0_init_6 10 rfl rfl)
theorem dX0_init_151 : decode cX0_init 151 = .ok (.putfield 68, 3) := dk_181 0 68 (dk_at dksX0_init_6 12 rfl rfl)
theorem dX0_init_154 : decode cX0_init 154 = .ok (.aload_n 0, 1) := dk_42 (dk_at dksX0_init_6 15 rfl rfl)
theorem dX0_init_155 : decode cX0_init 155 = .ok (.bipush 7, 2) := dk_16 7 (dk_at dksX0_init_6 16 rfl rfl)
theorem dX0_init_157 : decode cX0_init 157 = .ok (.newarray .int, 2) := dk_188_10 (dk_at dksX0_init_6 18 rfl rfl)
theorem dX0_init_159 : decode cX0_init 159 = .ok (.putfield 71, 3) := dk_181 0 71 (dk_at dksX0_init_6 20 rfl rfl)
theorem dX0_init_162 : decode cX0_init 162 = .ok (.aload_n 0, 1) := dk_42 (dk_at dksX0_init_6 23 rfl rfl)
theorem dX0_init_163 : decode cX0_init 163 = .ok (.bipush 7, 2) := dk_16 7 (dk_at dksX0_init_7 0 rfl rfl)
theorem dX0_init_165 : decode cX0_init 165 = .ok (.newarray .int, 2) := dk_188_10 (dk_at dksX0_init_7 2 rfl rfl)
theorem dX0_init_167 : decode cX0_init 167 = .ok (.putfield 74, 3) := dk_181 0 74 (dk_at dksX0_init_7 4 rfl rfl)
theorem dX0_init_170 : decode cX0_init 170 = .ok (.aload_n 0, 1) := dk_42 (dk_at dksX0_init_7 7 rfl rfl)
theorem dX0_init_171 : decode cX0_init 171 = .ok (.bipush 7, 2) := dk_16 7 (dk_at dksX0_init_7 8 rfl rfl)
theorem dX0_init_173 : decode cX0_init 173 = .ok (.newarray .int, 2) := dk_188_10 (dk_at dksX0_init_7 10 rfl rfl)
theorem dX0_init_175 : decode cX0_init 175 = .ok (.putfield 77, 3) := dk_181 0 77 (dk_at dksX0_init_7 12 rfl rfl)
theorem dX0_init_178 : decode cX0_init 178 = .ok (.aload_n 0, 1) := dk_42 (dk_at dksX0_init_7 15 rfl rfl)
theorem dX0_init_179 : decode cX0_init 179 = .ok (.bipush 7, 2) := dk_16 7 (dk_at dksX0_init_7 16 rfl rfl)
theorem dX0_init_181 : decode cX0_init 181 = .ok (.newarray .int, 2) := dk_188_10 (dk_at dksX0_init_7 18 rfl rfl)
theorem dX0_init_183 : decode cX0_init 183 = .ok (.putfield 80, 3) := dk_181 0 80 (dk_at dksX0_init_7 20 rfl rfl)
theorem dX0_init_186 : decode cX0_init 186 = .ok (.aload_n 0, 1) := dk_42 (dk_at dksX0_init_7 23 rfl rfl)
theorem dX0_init_187 : decode cX0_init 187 = .ok (.iconst 3, 1) := dk_6 (dk_at dksX0_init_8 0 rfl rfl)
theorem dX0_init_188 : decode cX0_init 188 = .ok (.newarray .int, 2) := dk_188_10 (dk_at dksX0_init_8 1 rfl rfl)
theorem dX0_init_190 : decode cX0_init 190 = .ok (.putfield 83, 3) := dk_181 0 83 (dk_at dksX0_init_8 3 rfl rfl)
theorem dX0_init_193 : decode cX0_init 193 = .ok (.aload_n 0, 1) := dk_42 (dk_at dksX0_init_8 6 rfl rfl)
theorem dX0_init_194 : decode cX0_init 194 = .ok (.sipush 168, 3) := dk_17 0 168 (dk_at dksX0_init_8 7 rfl rfl)
theorem dX0_init_197 : decode cX0_init 197 = .ok (.newarray .int, 2) := dk_188_10 (dk_at dksX0_init_8 10 rfl rfl)
theorem dX0_init_199 : decode cX0_init 199 = .ok (.putfield 86, 3) := dk_181 0 86 (dk_at dksX0_init_8 12 rfl rfl)
theorem dX0_init_202 : decode cX0_init 202 = .ok (.aload_n 0, 1) := dk_42 (dk_at dksX0_init_8 15 rfl rfl)
theorem dX0_init_203 : decode cX0_init 203 = .ok (.bipush 21, 2) := dk_16 21 (dk_at dksX0_init_8 16 rfl rfl)
theorem dX0_init_205 : decode cX0_init 205 = .ok (.newarray .int, 2) := dk_188_10 (dk_at dksX0_init_8 18 rfl rfl)
theorem dX0_init_207 : decode cX0_init 207 = .ok (.putfield 89, 3) := dk_181 0 89 (dk_at dksX0_init_8 20 rfl rfl)
theorem dX0_init_210 : decode cX0_init 210 = .ok (.aload_n 0, 1) := dk_42 (dk_at dksX0_init_8 23 rfl rfl)
theorem dX0_init_211 : decode cX0_init 211 = .ok (.bipush 21, 2) := dk_16 21 (dk_at dksX0_init_9 0 rfl rfl)
theorem dX0_init_213 : decode cX0_init 213 = .ok (.newarray .int, 2) := dk_188_10 (dk_at dksX0_init_9 2 rfl rfl)
theorem dX0_init_215 : decode cX0_init 215 = .ok (.putfield 92, 3) := dk_181 0 92 (dk_at dksX0_init_9 4 rfl rfl)
theorem dX0_init_218 : decode cX0_init 218 = .ok (.aload_n 0, 1) := dk_42 (dk_at dksX0_init_9 7 rfl rfl)
theorem dX0_init_219 : decode cX0_init 219 = .ok (.bipush 7, 2) := dk_16 7 (dk_at dksX0_init_9 8 rfl rfl)
theorem dX0_init_221 : decode cX0_init 221 = .ok (.newarray .int, 2) := dk_188_10 (dk_at dksX0_init_9 10 rfl rfl)
theorem dX0_init_223 : decode cX0_init 223 = .ok (.putfield 95, 3) := dk_181 0 95 (dk_at dksX0_init_9 12 rfl rfl)
theorem dX0_init_226 : decode cX0_init 226 = .ok (.aload_n 0, 1) := dk_42 (dk_at dksX0_init_9 15 rfl rfl)
theorem dX0_init_227 : decode cX0_init 227 = .ok (.sipush 128, 3) := dk_17 0 128 (dk_at dksX0_init_9 16 rfl rfl)
theorem dX0_init_230 : decode cX0_init 230 = .ok (.newarray .int, 2) := dk_188_10 (dk_at dksX0_init_9 19 rfl rfl)
theorem dX0_init_232 : decode cX0_init 232 = .ok (.putfield 98, 3) := dk_181 0 98 (dk_at dksX0_init_9 21 rfl rfl)
theorem dX0_init_235 : decode cX0_init 235 = .ok (.aload_n 0, 1) := dk_42 (dk_at dksX0_init_10 0 rfl rfl)
theorem dX0_init_236 : decode cX0_init 236 = .ok (.sipush 128, 3) := dk_17 0 128 (dk_at dksX0_init_10 1 rfl rfl)
theorem dX0_init_239 : decode cX0_init 239 = .ok (.newarray .int, 2) := dk_188_10 (dk_at dksX0_init_10 4 rfl rfl)
theorem dX0_init_241 : decode cX0_init 241 = .ok (.putfield 101, 3) := dk_181 0 101 (dk_at dksX0_init_10 6 rfl rfl)
theorem dX0_init_244 : decode cX0_init 244 = .ok (.aload_n 0, 1) := dk_42 (dk_at dksX0_init_10 9 rfl rfl)
theorem dX0_init_245 : decode cX0_init 245 = .ok (.bipush 18, 2) := dk_16 18 (dk_at dksX0_init_10 10 rfl rfl)
theorem dX0_init_247 : decode cX0_init 247 = .ok (.newarray .int, 2) := dk_188_10 (dk_at dksX0_init_10 12 rfl rfl)
theorem dX0_init_249 : decode cX0_init 249 = .ok (.putfield 104, 3) := dk_181 0 104 (dk_at dksX0_init_10 14 rfl rfl)
theorem dX0_init_252 : decode cX0_init 252 = .ok (.aload_n 0, 1) := dk_42 (dk_at dksX0_init_10 17 rfl rfl)
theorem dX0_init_253 : decode cX0_init 253 = .ok (.iconst 4, 1) := dk_7 (dk_at dksX0_init_10 18 rfl rfl)
theorem dX0_init_254 : decode cX0_init 254 = .ok (.anewarray 107, 3) := dk_189 0 107 (dk_at dksX0_init_10 19 rfl rfl)
theorem dX0_init_257 : decode cX0_init 257 = .ok (.dup, 1) := dk_89 (dk_at dksX0_init_10 22 rfl rfl)
theorem dX0_init_258 : decode cX0_init 258 = .ok (.iconst 0, 1) := dk_3 (dk_at dksX0_init_10 23 rfl rfl)
theorem dX0_init_259 : decode cX0_init 259 = .ok (.new 107, 3) := dk_187 0 107 (dk_at dksX0_init_11 0 rfl rfl)
theorem dX0_init_262 : decode cX0_init 262 = .ok (.dup, 1) := dk_89 (dk_at dksX0_init_11 3 rfl rfl)
theorem dX0_init_263 : decode cX0_init 263 = .ok (.invokespecial 109, 3) := dk_183 0 109 (dk_at dksX0_init_11 4 rfl rfl)
theorem dX0_init_266 : decode cX0_init 266 = .ok (.aastore, 1) := dk_83 (dk_at dksX0_init_11 7 rfl rfl)
theorem dX0_init_267 : decode cX0_init 267 = .ok (.dup, 1) := dk_89 (dk_at dksX0_init_11 8 rfl rfl)
theorem dX0_init_268 : decode cX0_init 268 = .ok (.iconst 1, 1) := dk_4 (dk_at dksX0_init_11 9 rfl rfl)
theorem dX0_init_269 : decode cX0_init 269 = .ok (.new 107, 3) := dk_187 0 107 (dk_at dksX0_init_11 10 rfl rfl)
theorem dX0_init_272 : decode cX0_init 272 = .ok (.dup, 1) := dk_89 (dk_at dksX0_init_11 13 rfl rfl)
theorem dX0_init_273 : decode cX0_init 273 = .ok (.invokespecial 109, 3) := dk_183 0 109 (dk_at dksX0_init_11 14 rfl rfl)
theorem dX0_init_276 : decode cX0_init 276 = .ok (.aastore, 1) := dk_83 (dk_at dksX0_init_11 17 rfl rfl)
theorem dX0_init_277 : decode cX0_init 277 = .ok (.dup, 1) := dk_89 (dk_at dksX0_init_11 18 rfl rfl)
theorem dX0_init_278 : decode cX0_init 278 = .ok (.iconst 2, 1) := dk_5 (dk_at dksX0_init_11 19 rfl rfl)
theorem dX0_init_279 : decode cX0_init 279 = .ok (.new 107, 3) := dk_187 0 107 (dk_at dksX0_init_11 20 rfl rfl)
theorem dX0_init_282 : decode cX0_init 282 = .ok (.dup, 1) := dk_89 (dk_at dksX0_init_11 23 rfl rfl)
theorem dX0_init_283 : decode cX0_init 283 = .ok (.invokespecial 109, 3) := dk_183 0 109 (dk_at dksX0_init_12 0 rfl rfl)
theorem dX0_init_286 : decode cX0_init 286 = .ok (.aastore, 1) := dk_83 (dk_at dksX0_init_12 3 rfl rfl)
theorem dX0_init_287 : decode cX0_init 287 = .ok (.dup, 1) := dk_89 (dk_at dksX0_init_12 4 rfl rfl)
theorem dX0_init_288 : decode cX0_init 288 = .ok (.iconst 3, 1) := dk_6 (dk_at dksX0_init_12 5 rfl rfl)
theorem dX0_init_289 : decode cX0_init 289 = .ok (.new 107, 3) := dk_187 0 107 (dk_at dksX0_init_12 6 rfl rfl)
theorem dX0_init_292 : decode cX0_init 292 = .ok (.dup, 1) := dk_89 (dk_at dksX0_init_12 9 rfl rfl)
theorem dX0_init_293 : decode cX0_init 293 = .ok (.invokespecial 109, 3) := dk_183 0 109 (dk_at dksX0_init_12 10 rfl rfl)
theorem dX0_init_296 : decode cX0_init 296 = .ok (.aastore, 1) := dk_83 (dk_at dksX0_init_12 13 rfl rfl)
theorem dX0_init_297 : decode cX0_init 297 = .ok (.putfield 110, 3) := dk_181 0 110 (dk_at dksX0_init_12 14 rfl rfl)
theorem dX0_init_300 : decode cX0_init 300 = .ok (.aload_n 0, 1) := dk_42 (dk_at dksX0_init_12 17 rfl rfl)
theorem dX0_init_301 : decode cX0_init 301 = .ok (.new 114, 3) := dk_187 0 114 (dk_at dksX0_init_12 18 rfl rfl)
theorem dX0_init_304 : decode cX0_init 304 = .ok (.dup, 1) := dk_89 (dk_at dksX0_init_12 21 rfl rfl)
theorem dX0_init_305 : decode cX0_init 305 = .ok (.invokespecial 116, 3) := dk_183 0 116 (dk_at dksX0_init_13 0 rfl rfl)
theorem dX0_init_308 : decode cX0_init 308 = .ok (.putfield 117, 3) := dk_181 0 117 (dk_at dksX0_init_13 3 rfl rfl)
theorem dX0_init_311 : decode cX0_init 311 = .ok (.return_, 1) := dk_177 (dk_at dksX0_init_13 6 rfl rfl)
abbrev cX0_feed : ByteArray := prog_1_method_5_code
def yX0_feed : MethodName := ⟨RX0, "feed", "(IIIII)I"⟩
def dkwX0_feed_2 : List UInt8 := [172]
abbrev dktX0_feed_2 : List UInt8 := dkwX0_feed_2 ++ []
def dkwX0_feed_1 : List UInt8 := [182, 0, 124, 42, 29, 182, 0, 124, 42, 21, 4, 182, 0, 124, 42, 21, 5, 182, 0, 124, 42, 180, 0, 121]
abbrev dktX0_feed_1 : List UInt8 := dkwX0_feed_1 ++ dktX0_feed_2
def dkwX0_feed_0 : List UInt8 := [42, 180, 0, 121, 16, 20, 96, 17, 2, 188, 164, 0, 5, 2, 172, 42, 27, 182, 0, 124, 42, 28]
abbrev dktX0_feed_0 : List UInt8 := dkwX0_feed_0 ++ dktX0_feed_1
theorem dksX0_feed_0 : cX0_feed.data.toList.drop 0 = dktX0_feed_0 := by decide +kernel
theorem dksX0_feed_1 : cX0_feed.data.toList.drop 22 = dktX0_feed_1 := dk_seg dksX0_feed_0 22 rfl rfl
theorem dksX0_feed_2 : cX0_feed.data.toList.drop 46 = dktX0_feed_2 := dk_seg dksX0_feed_1 24 rfl rfl
theorem dX0_feed_0 : decode cX0_feed 0 = .ok (.aload_n 0, 1) := dk_42 (dk_at dksX0_feed_0 0 rfl rfl)
theorem dX0_feed_1 : decode cX0_feed 1 = .ok (.getfield 121, 3) := dk_180 0 121 (dk_at dksX0_feed_0 1 rfl rfl)
theorem dX0_feed_4 : decode cX0_feed 4 = .ok (.bipush 20, 2) := dk_16 20 (dk_at dksX0_feed_0 4 rfl rfl)
theorem dX0_feed_6 : decode cX0_feed 6 = .ok (.iadd, 1) := dk_96 (dk_at dksX0_feed_0 6 rfl rfl)
theorem dX0_feed_7 : decode cX0_feed 7 = .ok (.sipush 700, 3) := dk_17 2 188 (dk_at dksX0_feed_0 7 rfl rfl)
theorem dX0_feed_10 : decode cX0_feed 10 = .ok (.if_icmp .le 5, 3) := dk_164 0 5 (dk_at dksX0_feed_0 10 rfl rfl)
theorem dX0_feed_13 : decode cX0_feed 13 = .ok (.iconst (-1), 1) := dk_2 (dk_at dksX0_feed_0 13 rfl rfl)
theorem dX0_feed_14 : decode cX0_feed 14 = .ok (.ireturn, 1) := dk_172 (dk_at dksX0_feed_0 14 rfl rfl)
theorem dX0_feed_15 : decode cX0_feed 15 = .ok (.aload_n 0, 1) := dk_42 (dk_at dksX0_feed_0 15 rfl rfl)
theorem dX0_feed_16 : decode cX0_feed 16 = .ok (.iload_n 1, 1) := dk_27 (dk_at dksX0_feed_0 16 rfl rfl)
theorem dX0_feed_17 : decode cX0_feed 17 = .ok (.invokevirtual 124, 3) := dk_182 0 124 (dk_at dksX0_feed_0 17 rfl rfl)
theorem dX0_feed_20 : decode cX0_feed 20 = .ok (.aload_n 0, 1) := dk_42 (dk_at dksX0_feed_0 20 rfl rfl)
theorem dX0_feed_21 : decode cX0_feed 21 = .ok (.iload_n 2, 1) := dk_28 (dk_at dksX0_feed_0 21 rfl rfl)
theorem dX0_feed_22 : decode cX0_feed 22 = .ok (.invokevirtual 124, 3) := dk_182 0 124 (dk_at dksX0_feed_1 0 rfl rfl)
theorem dX0_feed_25 : decode cX0_feed 25 = .ok (.aload_n 0, 1) := dk_42 (dk_at dksX0_feed_1 3 rfl rfl)
theorem dX0_feed_26 : decode cX0_feed 26 = .ok (.iload_n 3, 1) := dk_29 (dk_at dksX0_feed_1 4 rfl rfl)
theorem dX0_feed_27 : decode cX0_feed 27 = .ok (.invokevirtual 124, 3) := dk_182 0 124 (dk_at dksX0_feed_1 5 rfl rfl)
theorem dX0_feed_30 : decode cX0_feed 30 = .ok (.aload_n 0, 1) := dk_42 (dk_at dksX0_feed_1 8 rfl rfl)
theorem dX0_feed_31 : decode cX0_feed 31 = .ok (.iload 4, 2) := dk_21 4 (dk_at dksX0_feed_1 9 rfl rfl)
theorem dX0_feed_33 : decode cX0_feed 33 = .ok (.invokevirtual 124, 3) := dk_182 0 124 (dk_at dksX0_feed_1 11 rfl rfl)
theorem dX0_feed_36 : decode cX0_feed 36 = .ok (.aload_n 0, 1) := dk_42 (dk_at dksX0_feed_1 14 rfl rfl)
theorem dX0_feed_37 : decode cX0_feed 37 = .ok (.iload 5, 2) := dk_21 5 (dk_at dksX0_feed_1 15 rfl rfl)
theorem dX0_feed_39 : decode cX0_feed 39 = .ok (.invokevirtual 124, 3) := dk_182 0 124 (dk_at dksX0_feed_1 17 rfl rfl)
theorem dX0_feed_42 : decode cX0_feed 42 = .ok (.aload_n 0, 1) := dk_42 (dk_at dksX0_feed_1 20 rfl rfl)
theorem dX0_feed_43 : decode cX0_feed 43 = .ok (.getfield 121, 3) := dk_180 0 121 (dk_at dksX0_feed_1 21 rfl rfl)
theorem dX0_feed_46 : decode cX0_feed 46 = .ok (.ireturn, 1) := dk_172 (dk_at dksX0_feed_2 0 rfl rfl)
abbrev cX0_puts : ByteArray := prog_1_method_4_code
def yX0_puts : MethodName := ⟨RX0, "puts", "(I)V"⟩
def dkwX0_puts_1 : List UInt8 := [180, 0, 121, 4, 96, 181, 0, 121, 132, 2, 248, 167, 255, 226, 177]
abbrev dktX0_puts_1 : List UInt8 := dkwX0_puts_1 ++ []
def dkwX0_puts_0 : List UInt8 := [16, 24, 61, 28, 155, 0, 32, 42, 180, 0, 16, 42, 180, 0, 121, 27, 28, 122, 145, 84, 42, 89]
abbrev dktX0_puts_0 : List UInt8 := dkwX0_puts_0 ++ dktX0_puts_1
theorem dksX0_puts_0 : cX0_puts.data.toList.drop 0 = dktX0_puts_0 := by decide +kernel
theorem dksX0_puts_1 : cX0_puts.data.toList.drop 22 = dktX0_puts_1 := dk_seg dksX0_puts_0 22 rfl rfl
theorem dX0_puts_0 : decode cX0_puts 0 = .ok (.bipush 24, 2) := dk_16 24 (dk_at dksX0_puts_0 0 rfl rfl)
theorem dX0_puts_2 : decode cX0_puts 2 = .ok (.istore_n 2, 1) := dk_61 (dk_at dksX0_puts_0 2 rfl rfl)
theorem dX0_puts_3 : decode cX0_puts 3 = .ok (.iload_n 2, 1) := dk_28 (dk_at dksX0_puts_0 3 rfl rfl)
theorem dX0_puts_4 : decode cX0_puts 4 = .ok (.ifCond .lt 32, 3) := dk_155 0 32 (dk_at dksX0_puts_0 4 rfl rfl)
theorem dX0_puts_7 : decode cX0_puts 7 = .ok (.aload_n 0, 1) := dk_42 (dk_at dksX0_puts_0 7 rfl rfl)
theorem dX0_puts_8 : decode cX0_puts 8 = .ok (.getfield 16, 3) := dk_180 0 16 (dk_at dksX0_puts_0 8 rfl rfl)
theorem dX0_puts_11 : decode cX0_puts 11 = .ok (.aload_n 0, 1) := dk_42 (dk_at dksX0_puts_0 11 rfl rfl)
theorem dX0_puts_12 : decode cX0_puts 12 = .ok (.getfield 121, 3) := dk_180 0 121 (dk_at dksX0_puts_0 12 rfl rfl)
theorem dX0_puts_15 : decode cX0_puts 15 = .ok (.iload_n 1, 1) := dk_27 (dk_at dksX0_puts_0 15 rfl rfl)
theorem dX0_puts_16 : decode cX0_puts 16 = .ok (.iload_n 2, 1) := dk_28 (dk_at dksX0_puts_0 16 rfl rfl)
theorem dX0_puts_17 : decode cX0_puts 17 = .ok (.ishr, 1) := dk_122 (dk_at dksX0_puts_0 17 rfl rfl)
theorem dX0_puts_18 : decode cX0_puts 18 = .ok (.i2b, 1) := dk_145 (dk_at dksX0_puts_0 18 rfl rfl)
theorem dX0_puts_19 : decode cX0_puts 19 = .ok (.bastore, 1) := dk_84 (dk_at dksX0_puts_0 19 rfl rfl)
theorem dX0_puts_20 : decode cX0_puts 20 = .ok (.aload_n 0, 1) := dk_42 (dk_at dksX0_puts_0 20 rfl rfl)
theorem dX0_puts_21 : decode cX0_puts 21 = .ok (.dup, 1) := dk_89 (dk_at dksX0_puts_0 21 rfl rfl)
theorem dX0_puts_22 : decode cX0_puts 22 = .ok (.getfield 121, 3) := dk_180 0 121 (dk_at dksX0_puts_1 0 rfl rfl)
theorem dX0_puts_25 : decode cX0_puts 25 = .ok (.iconst 1, 1) := dk_4 (dk_at dksX0_puts_1 3 rfl rfl)
theorem dX0_puts_26 : decode cX0_puts 26 = .ok (.iadd, 1) := dk_96 (dk_at dksX0_puts_1 4 rfl rfl)
theorem dX0_puts_27 : decode cX0_puts 27 = .ok (.putfield 121, 3) := dk_181 0 121 (dk_at dksX0_puts_1 5 rfl rfl)
theorem dX0_puts_30 : decode cX0_puts 30 = .ok (.iinc 2 (-8), 3) := dk_132 2 248 (dk_at dksX0_puts_1 8 rfl rfl)
theorem dX0_puts_33 : decode cX0_puts 33 = .ok (.goto (-30), 3) := dk_167 255 226 (dk_at dksX0_puts_1 11 rfl rfl)
theorem dX0_puts_36 : decode cX0_puts 36 = .ok (.return_, 1) := dk_177 (dk_at dksX0_puts_1 14 rfl rfl)
abbrev cX0_end : ByteArray := prog_1_method_6_code
def yX0_end : MethodName := ⟨RX0, "end", "(I)I"⟩
def dkwX0_end_0 : List UInt8 := [27, 133, 9, 42, 180, 0, 121, 133, 184, 0, 128, 154, 0, 5, 2, 172, 42, 27, 181, 0, 121, 27, 172]
abbrev dktX0_end_0 : List UInt8 := dkwX0_end_0 ++ []
theorem dksX0_end_0 : cX0_end.data.toList.drop 0 = dktX0_end_0 := by decide +kernel
theorem dX0_end_0 : decode cX0_end 0 = .ok (.iload_n 1, 1) := dk_27 (dk_at dksX0_end_0 0 rfl rfl)
theorem dX0_end_1 : decode cX0_end 1 = .ok (.i2l, 1) := dk_133 (dk_at dksX0_end_0 1 rfl rfl)
theorem dX0_end_2 : decode cX0_end 2 = .ok (.lconst 0, 1) := dk_9 (dk_at dksX0_end_0 2 rfl rfl)
theorem dX0_end_3 : decode cX0_end 3 = .ok (.aload_n 0, 1) := dk_42 (dk_at dksX0_end_0 3 rfl rfl)
theorem dX0_end_4 : decode cX0_end 4 = .ok (.getfield 121, 3) := dk_180 0 121 (dk_at dksX0_end_0 4 rfl rfl)
theorem dX0_end_7 : decode cX0_end 7 = .ok (.i2l, 1) := dk_133 (dk_at dksX0_end_0 7 rfl rfl)
theorem dX0_end_8 : decode cX0_end 8 = .ok (.invokestatic 128, 3) := dk_184 0 128 (dk_at dksX0_end_0 8 rfl rfl)
theorem dX0_end_11 : decode cX0_end 11 = .ok (.ifCond .ne 5, 3) := dk_154 0 5 (dk_at dksX0_end_0 11 rfl rfl)
theorem dX0_end_14 : decode cX0_end 14 = .ok (.iconst (-1), 1) := dk_2 (dk_at dksX0_end_0 14 rfl rfl)
theorem dX0_end_15 : decode cX0_end 15 = .ok (.ireturn, 1) := dk_172 (dk_at dksX0_end_0 15 rfl rfl)
theorem dX0_end_16 : decode cX0_end 16 = .ok (.aload_n 0, 1) := dk_42 (dk_at dksX0_end_0 16 rfl rfl)
theorem dX0_end_17 : decode cX0_end 17 = .ok (.iload_n 1, 1) := dk_27 (dk_at dksX0_end_0 17 rfl rfl)
theorem dX0_end_18 : decode cX0_end 18 = .ok (.putfield 121, 3) := dk_181 0 121 (dk_at dksX0_end_0 18 rfl rfl)
theorem dX0_end_21 : decode cX0_end 21 = .ok (.iload_n 1, 1) := dk_27 (dk_at dksX0_end_0 21 rfl rfl)
theorem dX0_end_22 : decode cX0_end 22 = .ok (.ireturn, 1) := dk_172 (dk_at dksX0_end_0 22 rfl rfl)
abbrev cX0_isIn : ByteArray := prog_1_method_1_code
def yX0_isIn : MethodName := ⟨RX0, "isIn", "(JJJ)Z"⟩
def dkwX0_isIn_0 : List UInt8 := [30, 32, 148, 155, 0, 14, 30, 22, 4, 148, 157, 0, 7, 4, 167, 0, 4, 3, 172]
abbrev dktX0_isIn_0 : List UInt8 := dkwX0_isIn_0 ++ []
theorem dksX0_isIn_0 : cX0_isIn.data.toList.drop 0 = dktX0_isIn_0 := by decide +kernel
theorem dX0_isIn_0 : decode cX0_isIn 0 = .ok (.lload_n 0, 1) := dk_30 (dk_at dksX0_isIn_0 0 rfl rfl)
theorem dX0_isIn_1 : decode cX0_isIn 1 = .ok (.lload_n 2, 1) := dk_32 (dk_at dksX0_isIn_0 1 rfl rfl)
theorem dX0_isIn_2 : decode cX0_isIn 2 = .ok (.lcmp, 1) := dk_148 (dk_at dksX0_isIn_0 2 rfl rfl)
theorem dX0_isIn_3 : decode cX0_isIn 3 = .ok (.ifCond .lt 14, 3) := dk_155 0 14 (dk_at dksX0_isIn_0 3 rfl rfl)
theorem dX0_isIn_6 : decode cX0_isIn 6 = .ok (.lload_n 0, 1) := dk_30 (dk_at dksX0_isIn_0 6 rfl rfl)
theorem dX0_isIn_7 : decode cX0_isIn 7 = .ok (.lload 4, 2) := dk_22 4 (dk_at dksX0_isIn_0 7 rfl rfl)
theorem dX0_isIn_9 : decode cX0_isIn 9 = .ok (.lcmp, 1) := dk_148 (dk_at dksX0_isIn_0 9 rfl rfl)
theorem dX0_isIn_10 : decode cX0_isIn 10 = .ok (.ifCond .gt 7, 3) := dk_157 0 7 (dk_at dksX0_isIn_0 10 rfl rfl)
theorem dX0_isIn_13 : decode cX0_isIn 13 = .ok (.iconst 1, 1) := dk_4 (dk_at dksX0_isIn_0 13 rfl rfl)
theorem dX0_isIn_14 : decode cX0_isIn 14 = .ok (.goto 4, 3) := dk_167 0 4 (dk_at dksX0_isIn_0 14 rfl rfl)
theorem dX0_isIn_17 : decode cX0_isIn 17 = .ok (.iconst 0, 1) := dk_3 (dk_at dksX0_isIn_0 17 rfl rfl)
theorem dX0_isIn_18 : decode cX0_isIn 18 = .ok (.ireturn, 1) := dk_172 (dk_at dksX0_isIn_0 18 rfl rfl)
abbrev cX0_valley : ByteArray := prog_1_method_7_code
def yX0_valley : MethodName := ⟨RX0, "valley", "()I"⟩
def dkwX0_valley_3 : List UInt8 := [181, 0, 121, 45, 191]
abbrev dktX0_valley_3 : List UInt8 := dkwX0_valley_3 ++ []
def dkwX0_valley_2 : List UInt8 := [181, 0, 139, 42, 43, 180, 0, 150, 181, 0, 20, 16, 252, 61, 42, 3, 181, 0, 121, 28, 172, 78, 42, 3]
abbrev dktX0_valley_2 : List UInt8 := dkwX0_valley_2 ++ dktX0_valley_3
def dkwX0_valley_1 : List UInt8 := [181, 0, 20, 42, 180, 0, 10, 180, 0, 142, 60, 42, 3, 181, 0, 121, 27, 172, 76, 42, 43, 180, 0, 147]
abbrev dktX0_valley_1 : List UInt8 := dkwX0_valley_1 ++ dktX0_valley_2
def dkwX0_valley_0 : List UInt8 := [42, 187, 0, 132, 89, 42, 183, 0, 134, 182, 0, 135, 181, 0, 10, 42, 3, 181, 0, 139, 42, 2]
abbrev dktX0_valley_0 : List UInt8 := dkwX0_valley_0 ++ dktX0_valley_1
theorem dksX0_valley_0 : cX0_valley.data.toList.drop 0 = dktX0_valley_0 := by decide +kernel
theorem dksX0_valley_1 : cX0_valley.data.toList.drop 22 = dktX0_valley_1 := dk_seg dksX0_valley_0 22 rfl rfl
theorem dksX0_valley_2 : cX0_valley.data.toList.drop 46 = dktX0_valley_2 := dk_seg dksX0_valley_1 24 rfl rfl
theorem dksX0_valley_3 : cX0_valley.data.toList.drop 70 = dktX0_valley_3 := dk_seg dksX0_valley_2 24 rfl rfl
theorem dX0_valley_0 : decode cX0_valley 0 = .ok (.aload_n 0, 1) := dk_42 (dk_at dksX0_valley_0 0 rfl rfl)
theorem dX0_valley_1 : decode cX0_valley 1 = .ok (.new 132, 3) := dk_187 0 132 (dk_at dksX0_valley_0 1 rfl rfl)
theorem dX0_valley_4 : decode cX0_valley 4 = .ok (.dup, 1) := dk_89 (dk_at dksX0_valley_0 4 rfl rfl)
theorem dX0_valley_5 : decode cX0_valley 5 = .ok (.aload_n 0, 1) := dk_42 (dk_at dksX0_valley_0 5 rfl rfl)
theorem dX0_valley_6 : decode cX0_valley 6 = .ok (.invokespecial 134, 3) := dk_183 0 134 (dk_at dksX0_valley_0 6 rfl rfl)
theorem dX0_valley_9 : decode cX0_valley 9 = .ok (.invokevirtual 135, 3) := dk_182 0 135 (dk_at dksX0_valley_0 9 rfl rfl)
theorem dX0_valley_12 : decode cX0_valley 12 = .ok (.putfield 10, 3) := dk_181 0 10 (dk_at dksX0_valley_0 12 rfl rfl)
theorem dX0_valley_15 : decode cX0_valley 15 = .ok (.aload_n 0, 1) := dk_42 (dk_at dksX0_valley_0 15 rfl rfl)
theorem dX0_valley_16 : decode cX0_valley 16 = .ok (.iconst 0, 1) := dk_3 (dk_at dksX0_valley_0 16 rfl rfl)
theorem dX0_valley_17 : decode cX0_valley 17 = .ok (.putfield 139, 3) := dk_181 0 139 (dk_at dksX0_valley_0 17 rfl rfl)
theorem dX0_valley_20 : decode cX0_valley 20 = .ok (.aload_n 0, 1) := dk_42 (dk_at dksX0_valley_0 20 rfl rfl)
theorem dX0_valley_21 : decode cX0_valley 21 = .ok (.iconst (-1), 1) := dk_2 (dk_at dksX0_valley_0 21 rfl rfl)
theorem dX0_valley_22 : decode cX0_valley 22 = .ok (.putfield 20, 3) := dk_181 0 20 (dk_at dksX0_valley_1 0 rfl rfl)
theorem dX0_valley_25 : decode cX0_valley 25 = .ok (.aload_n 0, 1) := dk_42 (dk_at dksX0_valley_1 3 rfl rfl)
theorem dX0_valley_26 : decode cX0_valley 26 = .ok (.getfield 10, 3) := dk_180 0 10 (dk_at dksX0_valley_1 4 rfl rfl)
theorem dX0_valley_29 : decode cX0_valley 29 = .ok (.getfield 142, 3) := dk_180 0 142 (dk_at dksX0_valley_1 7 rfl rfl)
theorem dX0_valley_32 : decode cX0_valley 32 = .ok (.istore_n 1, 1) := dk_60 (dk_at dksX0_valley_1 10 rfl rfl)
theorem dX0_valley_33 : decode cX0_valley 33 = .ok (.aload_n 0, 1) := dk_42 (dk_at dksX0_valley_1 11 rfl rfl)
theorem dX0_valley_34 : decode cX0_valley 34 = .ok (.iconst 0, 1) := dk_3 (dk_at dksX0_valley_1 12 rfl rfl)
theorem dX0_valley_35 : decode cX0_valley 35 = .ok (.putfield 121, 3) := dk_181 0 121 (dk_at dksX0_valley_1 13 rfl rfl)
theorem dX0_valley_38 : decode cX0_valley 38 = .ok (.iload_n 1, 1) := dk_27 (dk_at dksX0_valley_1 16 rfl rfl)
theorem dX0_valley_39 : decode cX0_valley 39 = .ok (.ireturn, 1) := dk_172 (dk_at dksX0_valley_1 17 rfl rfl)
theorem dX0_valley_40 : decode cX0_valley 40 = .ok (.astore_n 1, 1) := dk_76 (dk_at dksX0_valley_1 18 rfl rfl)
theorem dX0_valley_41 : decode cX0_valley 41 = .ok (.aload_n 0, 1) := dk_42 (dk_at dksX0_valley_1 19 rfl rfl)
theorem dX0_valley_42 : decode cX0_valley 42 = .ok (.aload_n 1, 1) := dk_43 (dk_at dksX0_valley_1 20 rfl rfl)
theorem dX0_valley_43 : decode cX0_valley 43 = .ok (.getfield 147, 3) := dk_180 0 147 (dk_at dksX0_valley_1 21 rfl rfl)
theorem dX0_valley_46 : decode cX0_valley 46 = .ok (.putfield 139, 3) := dk_181 0 139 (dk_at dksX0_valley_2 0 rfl rfl)
theorem dX0_valley_49 : decode cX0_valley 49 = .ok (.aload_n 0, 1) := dk_42 (dk_at dksX0_valley_2 3 rfl rfl)
theorem dX0_valley_50 : decode cX0_valley 50 = .ok (.aload_n 1, 1) := dk_43 (dk_at dksX0_valley_2 4 rfl rfl)
theorem dX0_valley_51 : decode cX0_valley 51 = .ok (.getfield 150, 3) := dk_180 0 150 (dk_at dksX0_valley_2 5 rfl rfl)
theorem dX0_valley_54 : decode cX0_valley 54 = .ok (.putfield 20, 3) := dk_181 0 20 (dk_at dksX0_valley_2 8 rfl rfl)
theorem dX0_valley_57 : decode cX0_valley 57 = .ok (.bipush (-4), 2) := dk_16 252 (dk_at dksX0_valley_2 11 rfl rfl)
theorem dX0_valley_59 : decode cX0_valley 59 = .ok (.istore_n 2, 1) := dk_61 (dk_at dksX0_valley_2 13 rfl rfl)
theorem dX0_valley_60 : decode cX0_valley 60 = .ok (.aload_n 0, 1) := dk_42 (dk_at dksX0_valley_2 14 rfl rfl)
theorem dX0_valley_61 : decode cX0_valley 61 = .ok (.iconst 0, 1) := dk_3 (dk_at dksX0_valley_2 15 rfl rfl)
theorem dX0_valley_62 : decode cX0_valley 62 = .ok (.putfield 121, 3) := dk_181 0 121 (dk_at dksX0_valley_2 16 rfl rfl)
theorem dX0_valley_65 : decode cX0_valley 65 = .ok (.iload_n 2, 1) := dk_28 (dk_at dksX0_valley_2 19 rfl rfl)
theorem dX0_valley_66 : decode cX0_valley 66 = .ok (.ireturn, 1) := dk_172 (dk_at dksX0_valley_2 20 rfl rfl)
theorem dX0_valley_67 : decode cX0_valley 67 = .ok (.astore_n 3, 1) := dk_78 (dk_at dksX0_valley_2 21 rfl rfl)
theorem dX0_valley_68 : decode cX0_valley 68 = .ok (.aload_n 0, 1) := dk_42 (dk_at dksX0_valley_2 22 rfl rfl)
theorem dX0_valley_69 : decode cX0_valley 69 = .ok (.iconst 0, 1) := dk_3 (dk_at dksX0_valley_2 23 rfl rfl)
theorem dX0_valley_70 : decode cX0_valley 70 = .ok (.putfield 121, 3) := dk_181 0 121 (dk_at dksX0_valley_3 0 rfl rfl)
theorem dX0_valley_73 : decode cX0_valley 73 = .ok (.aload_n 3, 1) := dk_45 (dk_at dksX0_valley_3 3 rfl rfl)
theorem dX0_valley_74 : decode cX0_valley 74 = .ok (.athrow, 1) := dk_191 (dk_at dksX0_valley_3 4 rfl rfl)
abbrev cX0_fault : ByteArray := prog_1_method_8_code
def yX0_fault : MethodName := ⟨RX0, "fault", "(I)I"⟩
def dkwX0_fault_1 : List UInt8 := [172]
abbrev dktX0_fault_1 : List UInt8 := dkwX0_fault_1 ++ []
def dkwX0_fault_0 : List UInt8 := [27, 154, 0, 10, 42, 180, 0, 139, 167, 0, 16, 27, 4, 160, 0, 10, 42, 180, 0, 20, 167, 0, 4, 2]
abbrev dktX0_fault_0 : List UInt8 := dkwX0_fault_0 ++ dktX0_fault_1
theorem dksX0_fault_0 : cX0_fault.data.toList.drop 0 = dktX0_fault_0 := by decide +kernel
theorem dksX0_fault_1 : cX0_fault.data.toList.drop 24 = dktX0_fault_1 := dk_seg dksX0_fault_0 24 rfl rfl
theorem dX0_fault_0 : decode cX0_fault 0 = .ok (.iload_n 1, 1) := dk_27 (dk_at dksX0_fault_0 0 rfl rfl)
theorem dX0_fault_1 : decode cX0_fault 1 = .ok (.ifCond .ne 10, 3) := dk_154 0 10 (dk_at dksX0_fault_0 1 rfl rfl)
theorem dX0_fault_4 : decode cX0_fault 4 = .ok (.aload_n 0, 1) := dk_42 (dk_at dksX0_fault_0 4 rfl rfl)
theorem dX0_fault_5 : decode cX0_fault 5 = .ok (.getfield 139, 3) := dk_180 0 139 (dk_at dksX0_fault_0 5 rfl rfl)
theorem dX0_fault_8 : decode cX0_fault 8 = .ok (.goto 16, 3) := dk_167 0 16 (dk_at dksX0_fault_0 8 rfl rfl)
theorem dX0_fault_11 : decode cX0_fault 11 = .ok (.iload_n 1, 1) := dk_27 (dk_at dksX0_fault_0 11 rfl rfl)
theorem dX0_fault_12 : decode cX0_fault 12 = .ok (.iconst 1, 1) := dk_4 (dk_at dksX0_fault_0 12 rfl rfl)
theorem dX0_fault_13 : decode cX0_fault 13 = .ok (.if_icmp .ne 10, 3) := dk_160 0 10 (dk_at dksX0_fault_0 13 rfl rfl)
theorem dX0_fault_16 : decode cX0_fault 16 = .ok (.aload_n 0, 1) := dk_42 (dk_at dksX0_fault_0 16 rfl rfl)
theorem dX0_fault_17 : decode cX0_fault 17 = .ok (.getfield 20, 3) := dk_180 0 20 (dk_at dksX0_fault_0 17 rfl rfl)
theorem dX0_fault_20 : decode cX0_fault 20 = .ok (.goto 4, 3) := dk_167 0 4 (dk_at dksX0_fault_0 20 rfl rfl)
theorem dX0_fault_23 : decode cX0_fault 23 = .ok (.iconst (-1), 1) := dk_2 (dk_at dksX0_fault_0 23 rfl rfl)
theorem dX0_fault_24 : decode cX0_fault 24 = .ok (.ireturn, 1) := dk_172 (dk_at dksX0_fault_1 0 rfl rfl)
abbrev cX0_bridge : ByteArray := prog_1_method_17_code
def yX0_bridge : MethodName := ⟨RX0, "bridge", "(II)I"⟩
def dkwX0_bridge_2 : List UInt8 := [16, 254, 172]
abbrev dktX0_bridge_2 : List UInt8 := dkwX0_bridge_2 ++ []
def dkwX0_bridge_1 : List UInt8 := [180, 0, 10, 180, 0, 174, 27, 46, 167, 0, 17, 42, 180, 0, 10, 180, 0, 177, 27, 46, 167, 0, 5]
abbrev dktX0_bridge_1 : List UInt8 := dkwX0_bridge_1 ++ dktX0_bridge_2
def dkwX0_bridge_0 : List UInt8 := [42, 27, 133, 182, 0, 167, 153, 0, 39, 28, 5, 184, 0, 170, 153, 0, 31, 28, 154, 0, 15, 42]
abbrev dktX0_bridge_0 : List UInt8 := dkwX0_bridge_0 ++ dktX0_bridge_1
theorem dksX0_bridge_0 : cX0_bridge.data.toList.drop 0 = dktX0_bridge_0 := by decide +kernel
theorem dksX0_bridge_1 : cX0_bridge.data.toList.drop 22 = dktX0_bridge_1 := dk_seg dksX0_bridge_0 22 rfl rfl
theorem dksX0_bridge_2 : cX0_bridge.data.toList.drop 45 = dktX0_bridge_2 := dk_seg dksX0_bridge_1 23 rfl rfl
theorem dX0_bridge_0 : decode cX0_bridge 0 = .ok (.aload_n 0, 1) := dk_42 (dk_at dksX0_bridge_0 0 rfl rfl)
theorem dX0_bridge_1 : decode cX0_bridge 1 = .ok (.iload_n 1, 1) := dk_27 (dk_at dksX0_bridge_0 1 rfl rfl)
theorem dX0_bridge_2 : decode cX0_bridge 2 = .ok (.i2l, 1) := dk_133 (dk_at dksX0_bridge_0 2 rfl rfl)
theorem dX0_bridge_3 : decode cX0_bridge 3 = .ok (.invokevirtual 167, 3) := dk_182 0 167 (dk_at dksX0_bridge_0 3 rfl rfl)
theorem dX0_bridge_6 : decode cX0_bridge 6 = .ok (.ifCond .eq 39, 3) := dk_153 0 39 (dk_at dksX0_bridge_0 6 rfl rfl)
theorem dX0_bridge_9 : decode cX0_bridge 9 = .ok (.iload_n 2, 1) := dk_28 (dk_at dksX0_bridge_0 9 rfl rfl)
theorem dX0_bridge_10 : decode cX0_bridge 10 = .ok (.iconst 2, 1) := dk_5 (dk_at dksX0_bridge_0 10 rfl rfl)
theorem dX0_bridge_11 : decode cX0_bridge 11 = .ok (.invokestatic 170, 3) := dk_184 0 170 (dk_at dksX0_bridge_0 11 rfl rfl)
theorem dX0_bridge_14 : decode cX0_bridge 14 = .ok (.ifCond .eq 31, 3) := dk_153 0 31 (dk_at dksX0_bridge_0 14 rfl rfl)
theorem dX0_bridge_17 : decode cX0_bridge 17 = .ok (.iload_n 2, 1) := dk_28 (dk_at dksX0_bridge_0 17 rfl rfl)
theorem dX0_bridge_18 : decode cX0_bridge 18 = .ok (.ifCond .ne 15, 3) := dk_154 0 15 (dk_at dksX0_bridge_0 18 rfl rfl)
theorem dX0_bridge_21 : decode cX0_bridge 21 = .ok (.aload_n 0, 1) := dk_42 (dk_at dksX0_bridge_0 21 rfl rfl)
theorem dX0_bridge_22 : decode cX0_bridge 22 = .ok (.getfield 10, 3) := dk_180 0 10 (dk_at dksX0_bridge_1 0 rfl rfl)
theorem dX0_bridge_25 : decode cX0_bridge 25 = .ok (.getfield 174, 3) := dk_180 0 174 (dk_at dksX0_bridge_1 3 rfl rfl)
theorem dX0_bridge_28 : decode cX0_bridge 28 = .ok (.iload_n 1, 1) := dk_27 (dk_at dksX0_bridge_1 6 rfl rfl)
theorem dX0_bridge_29 : decode cX0_bridge 29 = .ok (.iaload, 1) := dk_46 (dk_at dksX0_bridge_1 7 rfl rfl)
theorem dX0_bridge_30 : decode cX0_bridge 30 = .ok (.goto 17, 3) := dk_167 0 17 (dk_at dksX0_bridge_1 8 rfl rfl)
theorem dX0_bridge_33 : decode cX0_bridge 33 = .ok (.aload_n 0, 1) := dk_42 (dk_at dksX0_bridge_1 11 rfl rfl)
theorem dX0_bridge_34 : decode cX0_bridge 34 = .ok (.getfield 10, 3) := dk_180 0 10 (dk_at dksX0_bridge_1 12 rfl rfl)
theorem dX0_bridge_37 : decode cX0_bridge 37 = .ok (.getfield 177, 3) := dk_180 0 177 (dk_at dksX0_bridge_1 15 rfl rfl)
theorem dX0_bridge_40 : decode cX0_bridge 40 = .ok (.iload_n 1, 1) := dk_27 (dk_at dksX0_bridge_1 18 rfl rfl)
theorem dX0_bridge_41 : decode cX0_bridge 41 = .ok (.iaload, 1) := dk_46 (dk_at dksX0_bridge_1 19 rfl rfl)
theorem dX0_bridge_42 : decode cX0_bridge 42 = .ok (.goto 5, 3) := dk_167 0 5 (dk_at dksX0_bridge_1 20 rfl rfl)
theorem dX0_bridge_45 : decode cX0_bridge 45 = .ok (.bipush (-2), 2) := dk_16 254 (dk_at dksX0_bridge_2 0 rfl rfl)
theorem dX0_bridge_47 : decode cX0_bridge 47 = .ok (.ireturn, 1) := dk_172 (dk_at dksX0_bridge_2 2 rfl rfl)
abbrev cX0_isBridge : ByteArray := prog_1_method_10_code
def yX0_isBridge : MethodName := ⟨RX0, "isBridge", "(J)Z"⟩
def dkwX0_isBridge_0 : List UInt8 := [31, 9, 42, 180, 0, 10, 180, 0, 153, 4, 100, 133, 184, 0, 128, 172]
abbrev dktX0_isBridge_0 : List UInt8 := dkwX0_isBridge_0 ++ []
theorem dksX0_isBridge_0 : cX0_isBridge.data.toList.drop 0 = dktX0_isBridge_0 := by decide +kernel
theorem dX0_isBridge_0 : decode cX0_isBridge 0 = .ok (.lload_n 1, 1) := dk_31 (dk_at dksX0_isBridge_0 0 rfl rfl)
theorem dX0_isBridge_1 : decode cX0_isBridge 1 = .ok (.lconst 0, 1) := dk_9 (dk_at dksX0_isBridge_0 1 rfl rfl)
theorem dX0_isBridge_2 : decode cX0_isBridge 2 = .ok (.aload_n 0, 1) := dk_42 (dk_at dksX0_isBridge_0 2 rfl rfl)
theorem dX0_isBridge_3 : decode cX0_isBridge 3 = .ok (.getfield 10, 3) := dk_180 0 10 (dk_at dksX0_isBridge_0 3 rfl rfl)
theorem dX0_isBridge_6 : decode cX0_isBridge 6 = .ok (.getfield 153, 3) := dk_180 0 153 (dk_at dksX0_isBridge_0 6 rfl rfl)
theorem dX0_isBridge_9 : decode cX0_isBridge 9 = .ok (.iconst 1, 1) := dk_4 (dk_at dksX0_isBridge_0 9 rfl rfl)
theorem dX0_isBridge_10 : decode cX0_isBridge 10 = .ok (.isub, 1) := dk_100 (dk_at dksX0_isBridge_0 10 rfl rfl)
theorem dX0_isBridge_11 : decode cX0_isBridge 11 = .ok (.i2l, 1) := dk_133 (dk_at dksX0_isBridge_0 11 rfl rfl)
theorem dX0_isBridge_12 : decode cX0_isBridge 12 = .ok (.invokestatic 128, 3) := dk_184 0 128 (dk_at dksX0_isBridge_0 12 rfl rfl)
theorem dX0_isBridge_15 : decode cX0_isBridge 15 = .ok (.ireturn, 1) := dk_172 (dk_at dksX0_isBridge_0 15 rfl rfl)
abbrev cX0_isOneOf : ByteArray := prog_1_method_14_code
def yX0_isOneOf : MethodName := ⟨RX0, "isOneOf", "(II)Z"⟩
def dkwX0_isOneOf_0 : List UInt8 := [26, 133, 9, 27, 4, 100, 133, 184, 0, 128, 172]
abbrev dktX0_isOneOf_0 : List UInt8 := dkwX0_isOneOf_0 ++ []
theorem dksX0_isOneOf_0 : cX0_isOneOf.data.toList.drop 0 = dktX0_isOneOf_0 := by decide +kernel
theorem dX0_isOneOf_0 : decode cX0_isOneOf 0 = .ok (.iload_n 0, 1) := dk_26 (dk_at dksX0_isOneOf_0 0 rfl rfl)
theorem dX0_isOneOf_1 : decode cX0_isOneOf 1 = .ok (.i2l, 1) := dk_133 (dk_at dksX0_isOneOf_0 1 rfl rfl)
theorem dX0_isOneOf_2 : decode cX0_isOneOf 2 = .ok (.lconst 0, 1) := dk_9 (dk_at dksX0_isOneOf_0 2 rfl rfl)
theorem dX0_isOneOf_3 : decode cX0_isOneOf 3 = .ok (.iload_n 1, 1) := dk_27 (dk_at dksX0_isOneOf_0 3 rfl rfl)
theorem dX0_isOneOf_4 : decode cX0_isOneOf 4 = .ok (.iconst 1, 1) := dk_4 (dk_at dksX0_isOneOf_0 4 rfl rfl)
theorem dX0_isOneOf_5 : decode cX0_isOneOf 5 = .ok (.isub, 1) := dk_100 (dk_at dksX0_isOneOf_0 5 rfl rfl)
theorem dX0_isOneOf_6 : decode cX0_isOneOf 6 = .ok (.i2l, 1) := dk_133 (dk_at dksX0_isOneOf_0 6 rfl rfl)
theorem dX0_isOneOf_7 : decode cX0_isOneOf 7 = .ok (.invokestatic 128, 3) := dk_184 0 128 (dk_at dksX0_isOneOf_0 7 rfl rfl)
theorem dX0_isOneOf_10 : decode cX0_isOneOf 10 = .ok (.ireturn, 1) := dk_172 (dk_at dksX0_isOneOf_0 10 rfl rfl)
abbrev cX0_cart : ByteArray := prog_1_method_18_code
def yX0_cart : MethodName := ⟨RX0, "cart", "(II)I"⟩
def dkwX0_cart_2 : List UInt8 := [16, 254, 172]
abbrev dktX0_cart_2 : List UInt8 := dkwX0_cart_2 ++ []
def dkwX0_cart_1 : List UInt8 := [180, 0, 10, 180, 0, 180, 27, 46, 167, 0, 17, 42, 180, 0, 10, 180, 0, 181, 27, 46, 167, 0, 5]
abbrev dktX0_cart_1 : List UInt8 := dkwX0_cart_1 ++ dktX0_cart_2
def dkwX0_cart_0 : List UInt8 := [42, 27, 133, 182, 0, 159, 153, 0, 39, 28, 5, 184, 0, 170, 153, 0, 31, 28, 154, 0, 15, 42]
abbrev dktX0_cart_0 : List UInt8 := dkwX0_cart_0 ++ dktX0_cart_1
theorem dksX0_cart_0 : cX0_cart.data.toList.drop 0 = dktX0_cart_0 := by decide +kernel
theorem dksX0_cart_1 : cX0_cart.data.toList.drop 22 = dktX0_cart_1 := dk_seg dksX0_cart_0 22 rfl rfl
theorem dksX0_cart_2 : cX0_cart.data.toList.drop 45 = dktX0_cart_2 := dk_seg dksX0_cart_1 23 rfl rfl
theorem dX0_cart_0 : decode cX0_cart 0 = .ok (.aload_n 0, 1) := dk_42 (dk_at dksX0_cart_0 0 rfl rfl)
theorem dX0_cart_1 : decode cX0_cart 1 = .ok (.iload_n 1, 1) := dk_27 (dk_at dksX0_cart_0 1 rfl rfl)
theorem dX0_cart_2 : decode cX0_cart 2 = .ok (.i2l, 1) := dk_133 (dk_at dksX0_cart_0 2 rfl rfl)
theorem dX0_cart_3 : decode cX0_cart 3 = .ok (.invokevirtual 159, 3) := dk_182 0 159 (dk_at dksX0_cart_0 3 rfl rfl)
theorem dX0_cart_6 : decode cX0_cart 6 = .ok (.ifCond .eq 39, 3) := dk_153 0 39 (dk_at dksX0_cart_0 6 rfl rfl)
theorem dX0_cart_9 : decode cX0_cart 9 = .ok (.iload_n 2, 1) := dk_28 (dk_at dksX0_cart_0 9 rfl rfl)
theorem dX0_cart_10 : decode cX0_cart 10 = .ok (.iconst 2, 1) := dk_5 (dk_at dksX0_cart_0 10 rfl rfl)
theorem dX0_cart_11 : decode cX0_cart 11 = .ok (.invokestatic 170, 3) := dk_184 0 170 (dk_at dksX0_cart_0 11 rfl rfl)
theorem dX0_cart_14 : decode cX0_cart 14 = .ok (.ifCond .eq 31, 3) := dk_153 0 31 (dk_at dksX0_cart_0 14 rfl rfl)
theorem dX0_cart_17 : decode cX0_cart 17 = .ok (.iload_n 2, 1) := dk_28 (dk_at dksX0_cart_0 17 rfl rfl)
theorem dX0_cart_18 : decode cX0_cart 18 = .ok (.ifCond .ne 15, 3) := dk_154 0 15 (dk_at dksX0_cart_0 18 rfl rfl)
theorem dX0_cart_21 : decode cX0_cart 21 = .ok (.aload_n 0, 1) := dk_42 (dk_at dksX0_cart_0 21 rfl rfl)
theorem dX0_cart_22 : decode cX0_cart 22 = .ok (.getfield 10, 3) := dk_180 0 10 (dk_at dksX0_cart_1 0 rfl rfl)
theorem dX0_cart_25 : decode cX0_cart 25 = .ok (.getfield 180, 3) := dk_180 0 180 (dk_at dksX0_cart_1 3 rfl rfl)
theorem dX0_cart_28 : decode cX0_cart 28 = .ok (.iload_n 1, 1) := dk_27 (dk_at dksX0_cart_1 6 rfl rfl)
theorem dX0_cart_29 : decode cX0_cart 29 = .ok (.iaload, 1) := dk_46 (dk_at dksX0_cart_1 7 rfl rfl)
theorem dX0_cart_30 : decode cX0_cart 30 = .ok (.goto 17, 3) := dk_167 0 17 (dk_at dksX0_cart_1 8 rfl rfl)
theorem dX0_cart_33 : decode cX0_cart 33 = .ok (.aload_n 0, 1) := dk_42 (dk_at dksX0_cart_1 11 rfl rfl)
theorem dX0_cart_34 : decode cX0_cart 34 = .ok (.getfield 10, 3) := dk_180 0 10 (dk_at dksX0_cart_1 12 rfl rfl)
theorem dX0_cart_37 : decode cX0_cart 37 = .ok (.getfield 181, 3) := dk_180 0 181 (dk_at dksX0_cart_1 15 rfl rfl)
theorem dX0_cart_40 : decode cX0_cart 40 = .ok (.iload_n 1, 1) := dk_27 (dk_at dksX0_cart_1 18 rfl rfl)
theorem dX0_cart_41 : decode cX0_cart 41 = .ok (.iaload, 1) := dk_46 (dk_at dksX0_cart_1 19 rfl rfl)
theorem dX0_cart_42 : decode cX0_cart 42 = .ok (.goto 5, 3) := dk_167 0 5 (dk_at dksX0_cart_1 20 rfl rfl)
theorem dX0_cart_45 : decode cX0_cart 45 = .ok (.bipush (-2), 2) := dk_16 254 (dk_at dksX0_cart_2 0 rfl rfl)
theorem dX0_cart_47 : decode cX0_cart 47 = .ok (.ireturn, 1) := dk_172 (dk_at dksX0_cart_2 2 rfl rfl)
abbrev cX0_isCart : ByteArray := prog_1_method_11_code
def yX0_isCart : MethodName := ⟨RX0, "isCart", "(J)Z"⟩
def dkwX0_isCart_0 : List UInt8 := [31, 9, 42, 180, 0, 10, 180, 0, 156, 4, 100, 133, 184, 0, 128, 172]
abbrev dktX0_isCart_0 : List UInt8 := dkwX0_isCart_0 ++ []
theorem dksX0_isCart_0 : cX0_isCart.data.toList.drop 0 = dktX0_isCart_0 := by decide +kernel
theorem dX0_isCart_0 : decode cX0_isCart 0 = .ok (.lload_n 1, 1) := dk_31 (dk_at dksX0_isCart_0 0 rfl rfl)
theorem dX0_isCart_1 : decode cX0_isCart 1 = .ok (.lconst 0, 1) := dk_9 (dk_at dksX0_isCart_0 1 rfl rfl)
theorem dX0_isCart_2 : decode cX0_isCart 2 = .ok (.aload_n 0, 1) := dk_42 (dk_at dksX0_isCart_0 2 rfl rfl)
theorem dX0_isCart_3 : decode cX0_isCart 3 = .ok (.getfield 10, 3) := dk_180 0 10 (dk_at dksX0_isCart_0 3 rfl rfl)
theorem dX0_isCart_6 : decode cX0_isCart 6 = .ok (.getfield 156, 3) := dk_180 0 156 (dk_at dksX0_isCart_0 6 rfl rfl)
theorem dX0_isCart_9 : decode cX0_isCart 9 = .ok (.iconst 1, 1) := dk_4 (dk_at dksX0_isCart_0 9 rfl rfl)
theorem dX0_isCart_10 : decode cX0_isCart 10 = .ok (.isub, 1) := dk_100 (dk_at dksX0_isCart_0 10 rfl rfl)
theorem dX0_isCart_11 : decode cX0_isCart 11 = .ok (.i2l, 1) := dk_133 (dk_at dksX0_isCart_0 11 rfl rfl)
theorem dX0_isCart_12 : decode cX0_isCart 12 = .ok (.invokestatic 128, 3) := dk_184 0 128 (dk_at dksX0_isCart_0 12 rfl rfl)
theorem dX0_isCart_15 : decode cX0_isCart 15 = .ok (.ireturn, 1) := dk_172 (dk_at dksX0_isCart_0 15 rfl rfl)
abbrev cX0_ward : ByteArray := prog_1_method_19_code
def yX0_ward : MethodName := ⟨RX0, "ward", "(II)I"⟩
def dkwX0_ward_3 : List UInt8 := [172]
abbrev dktX0_ward_3 : List UInt8 := dkwX0_ward_3 ++ []
def dkwX0_ward_2 : List UInt8 := [160, 0, 15, 42, 180, 0, 10, 180, 0, 188, 27, 46, 167, 0, 12, 42, 180, 0, 10, 180, 0, 191, 27, 46]
abbrev dktX0_ward_2 : List UInt8 := dkwX0_ward_2 ++ dktX0_ward_3
def dkwX0_ward_1 : List UInt8 := [154, 0, 6, 16, 254, 172, 28, 154, 0, 15, 42, 180, 0, 10, 180, 0, 185, 27, 46, 167, 0, 29, 28, 4]
abbrev dktX0_ward_1 : List UInt8 := dkwX0_ward_1 ++ dktX0_ward_2
def dkwX0_ward_0 : List UInt8 := [27, 133, 9, 42, 180, 0, 10, 180, 0, 182, 4, 100, 133, 184, 0, 128, 153, 0, 11, 28, 6, 184, 0, 170]
abbrev dktX0_ward_0 : List UInt8 := dkwX0_ward_0 ++ dktX0_ward_1
theorem dksX0_ward_0 : cX0_ward.data.toList.drop 0 = dktX0_ward_0 := by decide +kernel
theorem dksX0_ward_1 : cX0_ward.data.toList.drop 24 = dktX0_ward_1 := dk_seg dksX0_ward_0 24 rfl rfl
theorem dksX0_ward_2 : cX0_ward.data.toList.drop 48 = dktX0_ward_2 := dk_seg dksX0_ward_1 24 rfl rfl
theorem dksX0_ward_3 : cX0_ward.data.toList.drop 72 = dktX0_ward_3 := dk_seg dksX0_ward_2 24 rfl rfl
theorem dX0_ward_0 : decode cX0_ward 0 = .ok (.iload_n 1, 1) := dk_27 (dk_at dksX0_ward_0 0 rfl rfl)
theorem dX0_ward_1 : decode cX0_ward 1 = .ok (.i2l, 1) := dk_133 (dk_at dksX0_ward_0 1 rfl rfl)
theorem dX0_ward_2 : decode cX0_ward 2 = .ok (.lconst 0, 1) := dk_9 (dk_at dksX0_ward_0 2 rfl rfl)
theorem dX0_ward_3 : decode cX0_ward 3 = .ok (.aload_n 0, 1) := dk_42 (dk_at dksX0_ward_0 3 rfl rfl)
theorem dX0_ward_4 : decode cX0_ward 4 = .ok (.getfield 10, 3) := dk_180 0 10 (dk_at dksX0_ward_0 4 rfl rfl)
theorem dX0_ward_7 : decode cX0_ward 7 = .ok (.getfield 182, 3) := dk_180 0 182 (dk_at dksX0_ward_0 7 rfl rfl)
theorem dX0_ward_10 : decode cX0_ward 10 = .ok (.iconst 1, 1) := dk_4 (dk_at dksX0_ward_0 10 rfl rfl)
theorem dX0_ward_11 : decode cX0_ward 11 = .ok (.isub, 1) := dk_100 (dk_at dksX0_ward_0 11 rfl rfl)
theorem dX0_ward_12 : decode cX0_ward 12 = .ok (.i2l, 1) := dk_133 (dk_at dksX0_ward_0 12 rfl rfl)
theorem dX0_ward_13 : decode cX0_ward 13 = .ok (.invokestatic 128, 3) := dk_184 0 128 (dk_at dksX0_ward_0 13 rfl rfl)
theorem dX0_ward_16 : decode cX0_ward 16 = .ok (.ifCond .eq 11, 3) := dk_153 0 11 (dk_at dksX0_ward_0 16 rfl rfl)
theorem dX0_ward_19 : decode cX0_ward 19 = .ok (.iload_n 2, 1) := dk_28 (dk_at dksX0_ward_0 19 rfl rfl)
theorem dX0_ward_20 : decode cX0_ward 20 = .ok (.iconst 3, 1) := dk_6 (dk_at dksX0_ward_0 20 rfl rfl)
theorem dX0_ward_21 : decode cX0_ward 21 = .ok (.invokestatic 170, 3) := dk_184 0 170 (dk_at dksX0_ward_0 21 rfl rfl)
theorem dX0_ward_24 : decode cX0_ward 24 = .ok (.ifCond .ne 6, 3) := dk_154 0 6 (dk_at dksX0_ward_1 0 rfl rfl)
theorem dX0_ward_27 : decode cX0_ward 27 = .ok (.bipush (-2), 2) := dk_16 254 (dk_at dksX0_ward_1 3 rfl rfl)
theorem dX0_ward_29 : decode cX0_ward 29 = .ok (.ireturn, 1) := dk_172 (dk_at dksX0_ward_1 5 rfl rfl)
theorem dX0_ward_30 : decode cX0_ward 30 = .ok (.iload_n 2, 1) := dk_28 (dk_at dksX0_ward_1 6 rfl rfl)
theorem dX0_ward_31 : decode cX0_ward 31 = .ok (.ifCond .ne 15, 3) := dk_154 0 15 (dk_at dksX0_ward_1 7 rfl rfl)
theorem dX0_ward_34 : decode cX0_ward 34 = .ok (.aload_n 0, 1) := dk_42 (dk_at dksX0_ward_1 10 rfl rfl)
theorem dX0_ward_35 : decode cX0_ward 35 = .ok (.getfield 10, 3) := dk_180 0 10 (dk_at dksX0_ward_1 11 rfl rfl)
theorem dX0_ward_38 : decode cX0_ward 38 = .ok (.getfield 185, 3) := dk_180 0 185 (dk_at dksX0_ward_1 14 rfl rfl)
theorem dX0_ward_41 : decode cX0_ward 41 = .ok (.iload_n 1, 1) := dk_27 (dk_at dksX0_ward_1 17 rfl rfl)
theorem dX0_ward_42 : decode cX0_ward 42 = .ok (.iaload, 1) := dk_46 (dk_at dksX0_ward_1 18 rfl rfl)
theorem dX0_ward_43 : decode cX0_ward 43 = .ok (.goto 29, 3) := dk_167 0 29 (dk_at dksX0_ward_1 19 rfl rfl)
theorem dX0_ward_46 : decode cX0_ward 46 = .ok (.iload_n 2, 1) := dk_28 (dk_at dksX0_ward_1 22 rfl rfl)
theorem dX0_ward_47 : decode cX0_ward 47 = .ok (.iconst 1, 1) := dk_4 (dk_at dksX0_ward_1 23 rfl rfl)
theorem dX0_ward_48 : decode cX0_ward 48 = .ok (.if_icmp .ne 15, 3) := dk_160 0 15 (dk_at dksX0_ward_2 0 rfl rfl)
theorem dX0_ward_51 : decode cX0_ward 51 = .ok (.aload_n 0, 1) := dk_42 (dk_at dksX0_ward_2 3 rfl rfl)
theorem dX0_ward_52 : decode cX0_ward 52 = .ok (.getfield 10, 3) := dk_180 0 10 (dk_at dksX0_ward_2 4 rfl rfl)
theorem dX0_ward_55 : decode cX0_ward 55 = .ok (.getfield 188, 3) := dk_180 0 188 (dk_at dksX0_ward_2 7 rfl rfl)
theorem dX0_ward_58 : decode cX0_ward 58 = .ok (.iload_n 1, 1) := dk_27 (dk_at dksX0_ward_2 10 rfl rfl)
theorem dX0_ward_59 : decode cX0_ward 59 = .ok (.iaload, 1) := dk_46 (dk_at dksX0_ward_2 11 rfl rfl)
theorem dX0_ward_60 : decode cX0_ward 60 = .ok (.goto 12, 3) := dk_167 0 12 (dk_at dksX0_ward_2 12 rfl rfl)
theorem dX0_ward_63 : decode cX0_ward 63 = .ok (.aload_n 0, 1) := dk_42 (dk_at dksX0_ward_2 15 rfl rfl)
theorem dX0_ward_64 : decode cX0_ward 64 = .ok (.getfield 10, 3) := dk_180 0 10 (dk_at dksX0_ward_2 16 rfl rfl)
theorem dX0_ward_67 : decode cX0_ward 67 = .ok (.getfield 191, 3) := dk_180 0 191 (dk_at dksX0_ward_2 19 rfl rfl)
theorem dX0_ward_70 : decode cX0_ward 70 = .ok (.iload_n 1, 1) := dk_27 (dk_at dksX0_ward_2 22 rfl rfl)
theorem dX0_ward_71 : decode cX0_ward 71 = .ok (.iaload, 1) := dk_46 (dk_at dksX0_ward_2 23 rfl rfl)
theorem dX0_ward_72 : decode cX0_ward 72 = .ok (.ireturn, 1) := dk_172 (dk_at dksX0_ward_3 0 rfl rfl)
abbrev cX0_cold : ByteArray := prog_1_method_33_code
def yX0_cold : MethodName := ⟨RX0, "cold", "(I)I"⟩
def dkwX0_cold_1 : List UInt8 := [16, 254, 172]
abbrev dktX0_cold_1 : List UInt8 := dkwX0_cold_1 ++ []
def dkwX0_cold_0 : List UInt8 := [42, 182, 0, 250, 42, 27, 133, 182, 0, 159, 153, 0, 14, 42, 180, 0, 203, 27, 122, 4, 126, 167, 0, 5]
abbrev dktX0_cold_0 : List UInt8 := dkwX0_cold_0 ++ dktX0_cold_1
theorem dksX0_cold_0 : cX0_cold.data.toList.drop 0 = dktX0_cold_0 := by decide +kernel
theorem dksX0_cold_1 : cX0_cold.data.toList.drop 24 = dktX0_cold_1 := dk_seg dksX0_cold_0 24 rfl rfl
theorem dX0_cold_0 : decode cX0_cold 0 = .ok (.aload_n 0, 1) := dk_42 (dk_at dksX0_cold_0 0 rfl rfl)
theorem dX0_cold_1 : decode cX0_cold 1 = .ok (.invokevirtual 250, 3) := dk_182 0 250 (dk_at dksX0_cold_0 1 rfl rfl)
theorem dX0_cold_4 : decode cX0_cold 4 = .ok (.aload_n 0, 1) := dk_42 (dk_at dksX0_cold_0 4 rfl rfl)
theorem dX0_cold_5 : decode cX0_cold 5 = .ok (.iload_n 1, 1) := dk_27 (dk_at dksX0_cold_0 5 rfl rfl)
theorem dX0_cold_6 : decode cX0_cold 6 = .ok (.i2l, 1) := dk_133 (dk_at dksX0_cold_0 6 rfl rfl)
theorem dX0_cold_7 : decode cX0_cold 7 = .ok (.invokevirtual 159, 3) := dk_182 0 159 (dk_at dksX0_cold_0 7 rfl rfl)
theorem dX0_cold_10 : decode cX0_cold 10 = .ok (.ifCond .eq 14, 3) := dk_153 0 14 (dk_at dksX0_cold_0 10 rfl rfl)
theorem dX0_cold_13 : decode cX0_cold 13 = .ok (.aload_n 0, 1) := dk_42 (dk_at dksX0_cold_0 13 rfl rfl)
theorem dX0_cold_14 : decode cX0_cold 14 = .ok (.getfield 203, 3) := dk_180 0 203 (dk_at dksX0_cold_0 14 rfl rfl)
theorem dX0_cold_17 : decode cX0_cold 17 = .ok (.iload_n 1, 1) := dk_27 (dk_at dksX0_cold_0 17 rfl rfl)
theorem dX0_cold_18 : decode cX0_cold 18 = .ok (.ishr, 1) := dk_122 (dk_at dksX0_cold_0 18 rfl rfl)
theorem dX0_cold_19 : decode cX0_cold 19 = .ok (.iconst 1, 1) := dk_4 (dk_at dksX0_cold_0 19 rfl rfl)
theorem dX0_cold_20 : decode cX0_cold 20 = .ok (.iand, 1) := dk_126 (dk_at dksX0_cold_0 20 rfl rfl)
theorem dX0_cold_21 : decode cX0_cold 21 = .ok (.goto 5, 3) := dk_167 0 5 (dk_at dksX0_cold_0 21 rfl rfl)
theorem dX0_cold_24 : decode cX0_cold 24 = .ok (.bipush (-2), 2) := dk_16 254 (dk_at dksX0_cold_1 0 rfl rfl)
theorem dX0_cold_26 : decode cX0_cold 26 = .ok (.ireturn, 1) := dk_172 (dk_at dksX0_cold_1 2 rfl rfl)
abbrev cX0_asItIs : ByteArray := prog_1_method_22_code
def yX0_asItIs : MethodName := ⟨RX0, "asItIs", "()V"⟩
def dkwX0_asItIs_7 : List UInt8 := [167, 0, 13, 42, 180, 0, 203, 4, 29, 120, 2, 130, 126, 181, 0, 203, 132, 1, 1, 167, 255, 167, 177]
abbrev dktX0_asItIs_7 : List UInt8 := dkwX0_asItIs_7 ++ []
def dkwX0_asItIs_6 : List UInt8 := [17, 3, 232, 100, 5, 108, 62, 42, 28, 5, 112, 4, 160, 0, 14, 42, 180, 0, 203, 4, 29, 120, 128]
abbrev dktX0_asItIs_6 : List UInt8 := dkwX0_asItIs_6 ++ dktX0_asItIs_7
def dkwX0_asItIs_5 : List UInt8 := [162, 0, 21, 42, 180, 0, 59, 28, 16, 100, 108, 28, 16, 100, 112, 4, 100, 79, 167, 0, 43, 28]
abbrev dktX0_asItIs_5 : List UInt8 := dkwX0_asItIs_5 ++ dktX0_asItIs_6
def dkwX0_asItIs_4 : List UInt8 := [180, 0, 10, 180, 0, 209, 162, 0, 84, 42, 180, 0, 10, 180, 0, 212, 27, 46, 61, 28, 17, 3, 232]
abbrev dktX0_asItIs_4 : List UInt8 := dkwX0_asItIs_4 ++ dktX0_asItIs_5
def dkwX0_asItIs_3 : List UInt8 := [3, 181, 0, 204, 42, 42, 180, 0, 48, 42, 180, 0, 10, 180, 0, 207, 50, 181, 0, 52, 3, 60, 27, 42]
abbrev dktX0_asItIs_3 : List UInt8 := dkwX0_asItIs_3 ++ dktX0_asItIs_4
def dkwX0_asItIs_2 : List UInt8 := [180, 0, 62, 27, 27, 79, 132, 1, 1, 167, 255, 240, 42, 42, 180, 0, 10, 180, 0, 200, 181, 0, 203, 42]
abbrev dktX0_asItIs_2 : List UInt8 := dkwX0_asItIs_2 ++ dktX0_asItIs_3
def dkwX0_asItIs_1 : List UInt8 := [180, 0, 181, 3, 42, 180, 0, 59, 3, 16, 7, 184, 0, 194, 3, 60, 27, 16, 7, 162, 0, 16, 42]
abbrev dktX0_asItIs_1 : List UInt8 := dkwX0_asItIs_1 ++ dktX0_asItIs_2
def dkwX0_asItIs_0 : List UInt8 := [42, 180, 0, 10, 180, 0, 180, 3, 42, 180, 0, 56, 3, 16, 7, 184, 0, 194, 42, 180, 0, 10]
abbrev dktX0_asItIs_0 : List UInt8 := dkwX0_asItIs_0 ++ dktX0_asItIs_1
theorem dksX0_asItIs_0 : cX0_asItIs.data.toList.drop 0 = dktX0_asItIs_0 := by decide +kernel
theorem dksX0_asItIs_1 : cX0_asItIs.data.toList.drop 22 = dktX0_asItIs_1 := dk_seg dksX0_asItIs_0 22 rfl rfl
theorem dksX0_asItIs_2 : cX0_asItIs.data.toList.drop 45 = dktX0_asItIs_2 := dk_seg dksX0_asItIs_1 23 rfl rfl
theorem dksX0_asItIs_3 : cX0_asItIs.data.toList.drop 69 = dktX0_asItIs_3 := dk_seg dksX0_asItIs_2 24 rfl rfl
theorem dksX0_asItIs_4 : cX0_asItIs.data.toList.drop 93 = dktX0_asItIs_4 := dk_seg dksX0_asItIs_3 24 rfl rfl
theorem dksX0_asItIs_5 : cX0_asItIs.data.toList.drop 116 = dktX0_asItIs_5 := dk_seg dksX0_asItIs_4 23 rfl rfl
theorem dksX0_asItIs_6 : cX0_asItIs.data.toList.drop 138 = dktX0_asItIs_6 := dk_seg dksX0_asItIs_5 22 rfl rfl
theorem dksX0_asItIs_7 : cX0_asItIs.data.toList.drop 161 = dktX0_asItIs_7 := dk_seg dksX0_asItIs_6 23 rfl rfl
theorem dX0_asItIs_0 : decode cX0_asItIs 0 = .ok (.aload_n 0, 1) := dk_42 (dk_at dksX0_asItIs_0 0 rfl rfl)
theorem dX0_asItIs_1 : decode cX0_asItIs 1 = .ok (.getfield 10, 3) := dk_180 0 10 (dk_at dksX0_asItIs_0 1 rfl rfl)
theorem dX0_asItIs_4 : decode cX0_asItIs 4 = .ok (.getfield 180, 3) := dk_180 0 180 (dk_at dksX0_asItIs_0 4 rfl rfl)
theorem dX0_asItIs_7 : decode cX0_asItIs 7 = .ok (.iconst 0, 1) := dk_3 (dk_at dksX0_asItIs_0 7 rfl rfl)
theorem dX0_asItIs_8 : decode cX0_asItIs 8 = .ok (.aload_n 0, 1) := dk_42 (dk_at dksX0_asItIs_0 8 rfl rfl)
theorem dX0_asItIs_9 : decode cX0_asItIs 9 = .ok (.getfield 56, 3) := dk_180 0 56 (dk_at dksX0_asItIs_0 9 rfl rfl)
theorem dX0_asItIs_12 : decode cX0_asItIs 12 = .ok (.iconst 0, 1) := dk_3 (dk_at dksX0_asItIs_0 12 rfl rfl)
theorem dX0_asItIs_13 : decode cX0_asItIs 13 = .ok (.bipush 7, 2) := dk_16 7 (dk_at dksX0_asItIs_0 13 rfl rfl)
theorem dX0_asItIs_15 : decode cX0_asItIs 15 = .ok (.invokestatic 194, 3) := dk_184 0 194 (dk_at dksX0_asItIs_0 15 rfl rfl)
theorem dX0_asItIs_18 : decode cX0_asItIs 18 = .ok (.aload_n 0, 1) := dk_42 (dk_at dksX0_asItIs_0 18 rfl rfl)
theorem dX0_asItIs_19 : decode cX0_asItIs 19 = .ok (.getfield 10, 3) := dk_180 0 10 (dk_at dksX0_asItIs_0 19 rfl rfl)
theorem dX0_asItIs_22 : decode cX0_asItIs 22 = .ok (.getfield 181, 3) := dk_180 0 181 (dk_at dksX0_asItIs_1 0 rfl rfl)
theorem dX0_asItIs_25 : decode cX0_asItIs 25 = .ok (.iconst 0, 1) := dk_3 (dk_at dksX0_asItIs_1 3 rfl rfl)
theorem dX0_asItIs_26 : decode cX0_asItIs 26 = .ok (.aload_n 0, 1) := dk_42 (dk_at dksX0_asItIs_1 4 rfl rfl)
theorem dX0_asItIs_27 : decode cX0_asItIs 27 = .ok (.getfield 59, 3) := dk_180 0 59 (dk_at dksX0_asItIs_1 5 rfl rfl)
theorem dX0_asItIs_30 : decode cX0_asItIs 30 = .ok (.iconst 0, 1) := dk_3 (dk_at dksX0_asItIs_1 8 rfl rfl)
theorem dX0_asItIs_31 : decode cX0_asItIs 31 = .ok (.bipush 7, 2) := dk_16 7 (dk_at dksX0_asItIs_1 9 rfl rfl)
theorem dX0_asItIs_33 : decode cX0_asItIs 33 = .ok (.invokestatic 194, 3) := dk_184 0 194 (dk_at dksX0_asItIs_1 11 rfl rfl)
theorem dX0_asItIs_36 : decode cX0_asItIs 36 = .ok (.iconst 0, 1) := dk_3 (dk_at dksX0_asItIs_1 14 rfl rfl)
theorem dX0_asItIs_37 : decode cX0_asItIs 37 = .ok (.istore_n 1, 1) := dk_60 (dk_at dksX0_asItIs_1 15 rfl rfl)
theorem dX0_asItIs_38 : decode cX0_asItIs 38 = .ok (.iload_n 1, 1) := dk_27 (dk_at dksX0_asItIs_1 16 rfl rfl)
theorem dX0_asItIs_39 : decode cX0_asItIs 39 = .ok (.bipush 7, 2) := dk_16 7 (dk_at dksX0_asItIs_1 17 rfl rfl)
theorem dX0_asItIs_41 : decode cX0_asItIs 41 = .ok (.if_icmp .ge 16, 3) := dk_162 0 16 (dk_at dksX0_asItIs_1 19 rfl rfl)
theorem dX0_asItIs_44 : decode cX0_asItIs 44 = .ok (.aload_n 0, 1) := dk_42 (dk_at dksX0_asItIs_1 22 rfl rfl)
theorem dX0_asItIs_45 : decode cX0_asItIs 45 = .ok (.getfield 62, 3) := dk_180 0 62 (dk_at dksX0_asItIs_2 0 rfl rfl)
theorem dX0_asItIs_48 : decode cX0_asItIs 48 = .ok (.iload_n 1, 1) := dk_27 (dk_at dksX0_asItIs_2 3 rfl rfl)
theorem dX0_asItIs_49 : decode cX0_asItIs 49 = .ok (.iload_n 1, 1) := dk_27 (dk_at dksX0_asItIs_2 4 rfl rfl)
theorem dX0_asItIs_50 : decode cX0_asItIs 50 = .ok (.iastore, 1) := dk_79 (dk_at dksX0_asItIs_2 5 rfl rfl)
theorem dX0_asItIs_51 : decode cX0_asItIs 51 = .ok (.iinc 1 1, 3) := dk_132 1 1 (dk_at dksX0_asItIs_2 6 rfl rfl)
theorem dX0_asItIs_54 : decode cX0_asItIs 54 = .ok (.goto (-16), 3) := dk_167 255 240 (dk_at dksX0_asItIs_2 9 rfl rfl)
theorem dX0_asItIs_57 : decode cX0_asItIs 57 = .ok (.aload_n 0, 1) := dk_42 (dk_at dksX0_asItIs_2 12 rfl rfl)
theorem dX0_asItIs_58 : decode cX0_asItIs 58 = .ok (.aload_n 0, 1) := dk_42 (dk_at dksX0_asItIs_2 13 rfl rfl)
theorem dX0_asItIs_59 : decode cX0_asItIs 59 = .ok (.getfield 10, 3) := dk_180 0 10 (dk_at dksX0_asItIs_2 14 rfl rfl)
theorem dX0_asItIs_62 : decode cX0_asItIs 62 = .ok (.getfield 200, 3) := dk_180 0 200 (dk_at dksX0_asItIs_2 17 rfl rfl)
theorem dX0_asItIs_65 : decode cX0_asItIs 65 = .ok (.putfield 203, 3) := dk_181 0 203 (dk_at dksX0_asItIs_2 20 rfl rfl)
theorem dX0_asItIs_68 : decode cX0_asItIs 68 = .ok (.aload_n 0, 1) := dk_42 (dk_at dksX0_asItIs_2 23 rfl rfl)
theorem dX0_asItIs_69 : decode cX0_asItIs 69 = .ok (.iconst 0, 1) := dk_3 (dk_at dksX0_asItIs_3 0 rfl rfl)
theorem dX0_asItIs_70 : decode cX0_asItIs 70 = .ok (.putfield 204, 3) := dk_181 0 204 (dk_at dksX0_asItIs_3 1 rfl rfl)
theorem dX0_asItIs_73 : decode cX0_asItIs 73 = .ok (.aload_n 0, 1) := dk_42 (dk_at dksX0_asItIs_3 4 rfl rfl)
theorem dX0_asItIs_74 : decode cX0_asItIs 74 = .ok (.aload_n 0, 1) := dk_42 (dk_at dksX0_asItIs_3 5 rfl rfl)
theorem dX0_asItIs_75 : decode cX0_asItIs 75 = .ok (.getfield 48, 3) := dk_180 0 48 (dk_at dksX0_asItIs_3 6 rfl rfl)
theorem dX0_asItIs_78 : decode cX0_asItIs 78 = .ok (.aload_n 0, 1) := dk_42 (dk_at dksX0_asItIs_3 9 rfl rfl)
theorem dX0_asItIs_79 : decode cX0_asItIs 79 = .ok (.getfield 10, 3) := dk_180 0 10 (dk_at dksX0_asItIs_3 10 rfl rfl)
theorem dX0_asItIs_82 : decode cX0_asItIs 82 = .ok (.getfield 207, 3) := dk_180 0 207 (dk_at dksX0_asItIs_3 13 rfl rfl)
theorem dX0_asItIs_85 : decode cX0_asItIs 85 = .ok (.aaload, 1) := dk_50 (dk_at dksX0_asItIs_3 16 rfl rfl)
theorem dX0_asItIs_86 : decode cX0_asItIs 86 = .ok (.putfield 52, 3) := dk_181 0 52 (dk_at dksX0_asItIs_3 17 rfl rfl)
theorem dX0_asItIs_89 : decode cX0_asItIs 89 = .ok (.iconst 0, 1) := dk_3 (dk_at dksX0_asItIs_3 20 rfl rfl)
theorem dX0_asItIs_90 : decode cX0_asItIs 90 = .ok (.istore_n 1, 1) := dk_60 (dk_at dksX0_asItIs_3 21 rfl rfl)
theorem dX0_asItIs_91 : decode cX0_asItIs 91 = .ok (.iload_n 1, 1) := dk_27 (dk_at dksX0_asItIs_3 22 rfl rfl)
theorem dX0_asItIs_92 : decode cX0_asItIs 92 = .ok (.aload_n 0, 1) := dk_42 (dk_at dksX0_asItIs_3 23 rfl rfl)
theorem dX0_asItIs_93 : decode cX0_asItIs 93 = .ok (.getfield 10, 3) := dk_180 0 10 (dk_at dksX0_asItIs_4 0 rfl rfl)
theorem dX0_asItIs_96 : decode cX0_asItIs 96 = .ok (.getfield 209, 3) := dk_180 0 209 (dk_at dksX0_asItIs_4 3 rfl rfl)
theorem dX0_asItIs_99 : decode cX0_asItIs 99 = .ok (.if_icmp .ge 84, 3) := dk_162 0 84 (dk_at dksX0_asItIs_4 6 rfl rfl)
theorem dX0_asItIs_102 : decode cX0_asItIs 102 = .ok (.aload_n 0, 1) := dk_42 (dk_at dksX0_asItIs_4 9 rfl rfl)
theorem dX0_asItIs_103 : decode cX0_asItIs 103 = .ok (.getfield 10, 3) := dk_180 0 10 (dk_at dksX0_asItIs_4 10 rfl rfl)
theorem dX0_asItIs_106 : decode cX0_asItIs 106 = .ok (.getfield 212, 3) := dk_180 0 212 (dk_at dksX0_asItIs_4 13 rfl rfl)
theorem dX0_asItIs_109 : decode cX0_asItIs 109 = .ok (.iload_n 1, 1) := dk_27 (dk_at dksX0_asItIs_4 16 rfl rfl)
theorem dX0_asItIs_110 : decode cX0_asItIs 110 = .ok (.iaload, 1) := dk_46 (dk_at dksX0_asItIs_4 17 rfl rfl)
theorem dX0_asItIs_111 : decode cX0_asItIs 111 = .ok (.istore_n 2, 1) := dk_61 (dk_at dksX0_asItIs_4 18 rfl rfl)
theorem dX0_asItIs_112 : decode cX0_asItIs 112 = .ok (.iload_n 2, 1) := dk_28 (dk_at dksX0_asItIs_4 19 rfl rfl)
theorem dX0_asItIs_113 : decode cX0_asItIs 113 = .ok (.sipush 1000, 3) := dk_17 3 232 (dk_at dksX0_asItIs_4 20 rfl rfl)
theorem dX0_asItIs_116 : decode cX0_asItIs 116 = .ok (.if_icmp .ge 21, 3) := dk_162 0 21 (dk_at dksX0_asItIs_5 0 rfl rfl)
theorem dX0_asItIs_119 : decode cX0_asItIs 119 = .ok (.aload_n 0, 1) := dk_42 (dk_at dksX0_asItIs_5 3 rfl rfl)
theorem dX0_asItIs_120 : decode cX0_asItIs 120 = .ok (.getfield 59, 3) := dk_180 0 59 (dk_at dksX0_asItIs_5 4 rfl rfl)
theorem dX0_asItIs_123 : decode cX0_asItIs 123 = .ok (.iload_n 2, 1) := dk_28 (dk_at dksX0_asItIs_5 7 rfl rfl)
theorem dX0_asItIs_124 : decode cX0_asItIs 124 = .ok (.bipush 100, 2) := dk_16 100 (dk_at dksX0_asItIs_5 8 rfl rfl)
theorem dX0_asItIs_126 : decode cX0_asItIs 126 = .ok (.idiv, 1) := dk_108 (dk_at dksX0_asItIs_5 10 rfl rfl)
theorem dX0_asItIs_127 : decode cX0_asItIs 127 = .ok (.iload_n 2, 1) := dk_28 (dk_at dksX0_asItIs_5 11 rfl rfl)
theorem dX0_asItIs_128 : decode cX0_asItIs 128 = .ok (.bipush 100, 2) := dk_16 100 (dk_at dksX0_asItIs_5 12 rfl rfl)
theorem dX0_asItIs_130 : decode cX0_asItIs 130 = .ok (.irem, 1) := dk_112 (dk_at dksX0_asItIs_5 14 rfl rfl)
theorem dX0_asItIs_131 : decode cX0_asItIs 131 = .ok (.iconst 1, 1) := dk_4 (dk_at dksX0_asItIs_5 15 rfl rfl)
theorem dX0_asItIs_132 : decode cX0_asItIs 132 = .ok (.isub, 1) := dk_100 (dk_at dksX0_asItIs_5 16 rfl rfl)
theorem dX0_asItIs_133 : decode cX0_asItIs 133 = .ok (.iastore, 1) := dk_79 (dk_at dksX0_asItIs_5 17 rfl rfl)
theorem dX0_asItIs_134 : decode cX0_asItIs 134 = .ok (.goto 43, 3) := dk_167 0 43 (dk_at dksX0_asItIs_5 18 rfl rfl)
theorem dX0_asItIs_137 : decode cX0_asItIs 137 = .ok (.iload_n 2, 1) := dk_28 (dk_at dksX0_asItIs_5 21 rfl rfl)
theorem dX0_asItIs_138 : decode cX0_asItIs 138 = .ok (.sipush 1000, 3) := dk_17 3 232 (dk_at dksX0_asItIs_6 0 rfl rfl)
theorem dX0_asItIs_141 : decode cX0_asItIs 141 = .ok (.isub, 1) := dk_100 (dk_at dksX0_asItIs_6 3 rfl rfl)
theorem dX0_asItIs_142 : decode cX0_asItIs 142 = .ok (.iconst 2, 1) := dk_5 (dk_at dksX0_asItIs_6 4 rfl rfl)
theorem dX0_asItIs_143 : decode cX0_asItIs 143 = .ok (.idiv, 1) := dk_108 (dk_at dksX0_asItIs_6 5 rfl rfl)
theorem dX0_asItIs_144 : decode cX0_asItIs 144 = .ok (.istore_n 3, 1) := dk_62 (dk_at dksX0_asItIs_6 6 rfl rfl)
theorem dX0_asItIs_145 : decode cX0_asItIs 145 = .ok (.aload_n 0, 1) := dk_42 (dk_at dksX0_asItIs_6 7 rfl rfl)
theorem dX0_asItIs_146 : decode cX0_asItIs 146 = .ok (.iload_n 2, 1) := dk_28 (dk_at dksX0_asItIs_6 8 rfl rfl)
theorem dX0_asItIs_147 : decode cX0_asItIs 147 = .ok (.iconst 2, 1) := dk_5 (dk_at dksX0_asItIs_6 9 rfl rfl)
theorem dX0_asItIs_148 : decode cX0_asItIs 148 = .ok (.irem, 1) := dk_112 (dk_at dksX0_asItIs_6 10 rfl rfl)
theorem dX0_asItIs_149 : decode cX0_asItIs 149 = .ok (.iconst 1, 1) := dk_4 (dk_at dksX0_asItIs_6 11 rfl rfl)
theorem dX0_asItIs_150 : decode cX0_asItIs 150 = .ok (.if_icmp .ne 14, 3) := dk_160 0 14 (dk_at dksX0_asItIs_6 12 rfl rfl)
theorem dX0_asItIs_153 : decode cX0_asItIs 153 = .ok (.aload_n 0, 1) := dk_42 (dk_at dksX0_asItIs_6 15 rfl rfl)
theorem dX0_asItIs_154 : decode cX0_asItIs 154 = .ok (.getfield 203, 3) := dk_180 0 203 (dk_at dksX0_asItIs_6 16 rfl rfl)
theorem dX0_asItIs_157 : decode cX0_asItIs 157 = .ok (.iconst 1, 1) := dk_4 (dk_at dksX0_asItIs_6 19 rfl rfl)
theorem dX0_asItIs_158 : decode cX0_asItIs 158 = .ok (.iload_n 3, 1) := dk_29 (dk_at dksX0_asItIs_6 20 rfl rfl)
theorem dX0_asItIs_159 : decode cX0_asItIs 159 = .ok (.ishl, 1) := dk_120 (dk_at dksX0_asItIs_6 21 rfl rfl)
theorem dX0_asItIs_160 : decode cX0_asItIs 160 = .ok (.ior, 1) := dk_128 (dk_at dksX0_asItIs_6 22 rfl rfl)
theorem dX0_asItIs_161 : decode cX0_asItIs 161 = .ok (.goto 13, 3) := dk_167 0 13 (dk_at dksX0_asItIs_7 0 rfl rfl)
theorem dX0_asItIs_164 : decode cX0_asItIs 164 = .ok (.aload_n 0, 1) := dk_42 (dk_at dksX0_asItIs_7 3 rfl rfl)
theorem dX0_asItIs_165 : decode cX0_asItIs 165 = .ok (.getfield 203, 3) := dk_180 0 203 (dk_at dksX0_asItIs_7 4 rfl rfl)
theorem dX0_asItIs_168 : decode cX0_asItIs 168 = .ok (.iconst 1, 1) := dk_4 (dk_at dksX0_asItIs_7 7 rfl rfl)
theorem dX0_asItIs_169 : decode cX0_asItIs 169 = .ok (.iload_n 3, 1) := dk_29 (dk_at dksX0_asItIs_7 8 rfl rfl)
theorem dX0_asItIs_170 : decode cX0_asItIs 170 = .ok (.ishl, 1) := dk_120 (dk_at dksX0_asItIs_7 9 rfl rfl)
theorem dX0_asItIs_171 : decode cX0_asItIs 171 = .ok (.iconst (-1), 1) := dk_2 (dk_at dksX0_asItIs_7 10 rfl rfl)
theorem dX0_asItIs_172 : decode cX0_asItIs 172 = .ok (.ixor, 1) := dk_130 (dk_at dksX0_asItIs_7 11 rfl rfl)
theorem dX0_asItIs_173 : decode cX0_asItIs 173 = .ok (.iand, 1) := dk_126 (dk_at dksX0_asItIs_7 12 rfl rfl)
theorem dX0_asItIs_174 : decode cX0_asItIs 174 = .ok (.putfield 203, 3) := dk_181 0 203 (dk_at dksX0_asItIs_7 13 rfl rfl)
theorem dX0_asItIs_177 : decode cX0_asItIs 177 = .ok (.iinc 1 1, 3) := dk_132 1 1 (dk_at dksX0_asItIs_7 16 rfl rfl)
theorem dX0_asItIs_180 : decode cX0_asItIs 180 = .ok (.goto (-89), 3) := dk_167 255 167 (dk_at dksX0_asItIs_7 19 rfl rfl)
theorem dX0_asItIs_183 : decode cX0_asItIs 183 = .ok (.return_, 1) := dk_177 (dk_at dksX0_asItIs_7 22 rfl rfl)
abbrev cX0_goes : ByteArray := prog_1_method_34_code
def yX0_goes : MethodName := ⟨RX0, "goes", "(I)I"⟩
def dkwX0_goes_0 : List UInt8 := [42, 27, 182, 1, 7, 153, 0, 12, 42, 180, 0, 65, 27, 46, 167, 0, 5, 16, 254, 172]
abbrev dktX0_goes_0 : List UInt8 := dkwX0_goes_0 ++ []
theorem dksX0_goes_0 : cX0_goes.data.toList.drop 0 = dktX0_goes_0 := by decide +kernel
theorem dX0_goes_0 : decode cX0_goes 0 = .ok (.aload_n 0, 1) := dk_42 (dk_at dksX0_goes_0 0 rfl rfl)
theorem dX0_goes_1 : decode cX0_goes 1 = .ok (.iload_n 1, 1) := dk_27 (dk_at dksX0_goes_0 1 rfl rfl)
theorem dX0_goes_2 : decode cX0_goes 2 = .ok (.invokevirtual 263, 3) := dk_182 1 7 (dk_at dksX0_goes_0 2 rfl rfl)
theorem dX0_goes_5 : decode cX0_goes 5 = .ok (.ifCond .eq 12, 3) := dk_153 0 12 (dk_at dksX0_goes_0 5 rfl rfl)
theorem dX0_goes_8 : decode cX0_goes 8 = .ok (.aload_n 0, 1) := dk_42 (dk_at dksX0_goes_0 8 rfl rfl)
theorem dX0_goes_9 : decode cX0_goes 9 = .ok (.getfield 65, 3) := dk_180 0 65 (dk_at dksX0_goes_0 9 rfl rfl)
theorem dX0_goes_12 : decode cX0_goes 12 = .ok (.iload_n 1, 1) := dk_27 (dk_at dksX0_goes_0 12 rfl rfl)
theorem dX0_goes_13 : decode cX0_goes 13 = .ok (.iaload, 1) := dk_46 (dk_at dksX0_goes_0 13 rfl rfl)
theorem dX0_goes_14 : decode cX0_goes 14 = .ok (.goto 5, 3) := dk_167 0 5 (dk_at dksX0_goes_0 14 rfl rfl)
theorem dX0_goes_17 : decode cX0_goes 17 = .ok (.bipush (-2), 2) := dk_16 254 (dk_at dksX0_goes_0 17 rfl rfl)
theorem dX0_goes_19 : decode cX0_goes 19 = .ok (.ireturn, 1) := dk_172 (dk_at dksX0_goes_0 19 rfl rfl)
abbrev cX0_asksCart : ByteArray := prog_1_method_28_code
def yX0_asksCart : MethodName := ⟨RX0, "asksCart", "(I)Z"⟩
def dkwX0_asksCart_0 : List UInt8 := [42, 182, 1, 4, 87, 42, 27, 133, 182, 0, 159, 172]
abbrev dktX0_asksCart_0 : List UInt8 := dkwX0_asksCart_0 ++ []
theorem dksX0_asksCart_0 : cX0_asksCart.data.toList.drop 0 = dktX0_asksCart_0 := by decide +kernel
theorem dX0_asksCart_0 : decode cX0_asksCart 0 = .ok (.aload_n 0, 1) := dk_42 (dk_at dksX0_asksCart_0 0 rfl rfl)
theorem dX0_asksCart_1 : decode cX0_asksCart 1 = .ok (.invokevirtual 260, 3) := dk_182 1 4 (dk_at dksX0_asksCart_0 1 rfl rfl)
theorem dX0_asksCart_4 : decode cX0_asksCart 4 = .ok (.pop, 1) := dk_87 (dk_at dksX0_asksCart_0 4 rfl rfl)
theorem dX0_asksCart_5 : decode cX0_asksCart 5 = .ok (.aload_n 0, 1) := dk_42 (dk_at dksX0_asksCart_0 5 rfl rfl)
theorem dX0_asksCart_6 : decode cX0_asksCart 6 = .ok (.iload_n 1, 1) := dk_27 (dk_at dksX0_asksCart_0 6 rfl rfl)
theorem dX0_asksCart_7 : decode cX0_asksCart 7 = .ok (.i2l, 1) := dk_133 (dk_at dksX0_asksCart_0 7 rfl rfl)
theorem dX0_asksCart_8 : decode cX0_asksCart 8 = .ok (.invokevirtual 159, 3) := dk_182 0 159 (dk_at dksX0_asksCart_0 8 rfl rfl)
theorem dX0_asksCart_11 : decode cX0_asksCart 11 = .ok (.ireturn, 1) := dk_172 (dk_at dksX0_asksCart_0 11 rfl rfl)
abbrev cX0_asksValley : ByteArray := prog_1_method_27_code
def yX0_asksValley : MethodName := ⟨RX0, "asksValley", "()Z"⟩
def dkwX0_asksValley_0 : List UInt8 := [42, 182, 0, 250, 42, 182, 0, 253, 42, 182, 1, 0, 172]
abbrev dktX0_asksValley_0 : List UInt8 := dkwX0_asksValley_0 ++ []
theorem dksX0_asksValley_0 : cX0_asksValley.data.toList.drop 0 = dktX0_asksValley_0 := by decide +kernel
theorem dX0_asksValley_0 : decode cX0_asksValley 0 = .ok (.aload_n 0, 1) := dk_42 (dk_at dksX0_asksValley_0 0 rfl rfl)
theorem dX0_asksValley_1 : decode cX0_asksValley 1 = .ok (.invokevirtual 250, 3) := dk_182 0 250 (dk_at dksX0_asksValley_0 1 rfl rfl)
theorem dX0_asksValley_4 : decode cX0_asksValley 4 = .ok (.aload_n 0, 1) := dk_42 (dk_at dksX0_asksValley_0 4 rfl rfl)
theorem dX0_asksValley_5 : decode cX0_asksValley 5 = .ok (.invokevirtual 253, 3) := dk_182 0 253 (dk_at dksX0_asksValley_0 5 rfl rfl)
theorem dX0_asksValley_8 : decode cX0_asksValley 8 = .ok (.aload_n 0, 1) := dk_42 (dk_at dksX0_asksValley_0 8 rfl rfl)
theorem dX0_asksValley_9 : decode cX0_asksValley 9 = .ok (.invokevirtual 256, 3) := dk_182 1 0 (dk_at dksX0_asksValley_0 9 rfl rfl)
theorem dX0_asksValley_12 : decode cX0_asksValley 12 = .ok (.ireturn, 1) := dk_172 (dk_at dksX0_asksValley_0 12 rfl rfl)
abbrev cX0_lays : ByteArray := prog_1_method_26_code
def yX0_lays : MethodName := ⟨RX0, "lays", "()V"⟩
def dkwX0_lays_10 : List UInt8 := [132, 1, 1, 167, 255, 57, 177]
abbrev dktX0_lays_10 : List UInt8 := dkwX0_lays_10 ++ []
def dkwX0_lays_9 : List UInt8 := [180, 0, 86, 16, 8, 6, 27, 104, 29, 96, 104, 16, 8, 184, 0, 194, 132, 3, 1, 167, 255, 186]
abbrev dktX0_lays_9 : List UInt8 := dkwX0_lays_9 ++ dktX0_lays_10
def dkwX0_lays_8 : List UInt8 := [180, 0, 92, 6, 27, 104, 29, 96, 42, 29, 182, 0, 218, 79, 42, 180, 0, 24, 16, 8, 29, 104, 42]
abbrev dktX0_lays_8 : List UInt8 := dkwX0_lays_8 ++ dktX0_lays_9
def dkwX0_lays_7 : List UInt8 := [180, 0, 153, 162, 0, 65, 42, 180, 0, 89, 6, 27, 104, 29, 96, 42, 180, 0, 31, 29, 46, 79, 42]
abbrev dktX0_lays_7 : List UInt8 := dkwX0_lays_7 ++ dktX0_lays_8
def dkwX0_lays_6 : List UInt8 := [42, 180, 0, 68, 28, 46, 46, 2, 160, 0, 9, 42, 28, 27, 182, 0, 247, 3, 62, 29, 42, 180, 0, 10]
abbrev dktX0_lays_6 : List UInt8 := dkwX0_lays_6 ++ dktX0_lays_7
def dkwX0_lays_5 : List UInt8 := [180, 0, 204, 28, 184, 0, 238, 154, 0, 34, 42, 180, 0, 68, 28, 46, 2, 159, 0, 24, 42, 180, 0, 83]
abbrev dktX0_lays_5 : List UInt8 := dkwX0_lays_5 ++ dktX0_lays_6
def dkwX0_lays_4 : List UInt8 := [28, 3, 79, 42, 180, 0, 80, 28, 3, 79, 42, 180, 0, 68, 28, 42, 28, 182, 0, 244, 79, 42]
abbrev dktX0_lays_4 : List UInt8 := dkwX0_lays_4 ++ dktX0_lays_5
def dkwX0_lays_3 : List UInt8 := [180, 0, 65, 28, 2, 79, 42, 180, 0, 71, 28, 3, 79, 42, 180, 0, 74, 28, 3, 79, 42, 180, 0, 77]
abbrev dktX0_lays_3 : List UInt8 := dkwX0_lays_3 ++ dktX0_lays_4
def dkwX0_lays_2 : List UInt8 := [180, 0, 62, 27, 46, 61, 42, 180, 0, 203, 27, 184, 0, 238, 153, 0, 7, 42, 182, 0, 241, 42]
abbrev dktX0_lays_2 : List UInt8 := dkwX0_lays_2 ++ dktX0_lays_3
def dkwX0_lays_1 : List UInt8 := [27, 2, 79, 132, 1, 1, 167, 255, 228, 3, 60, 27, 42, 180, 0, 10, 180, 0, 156, 162, 0, 194, 42]
abbrev dktX0_lays_1 : List UInt8 := dkwX0_lays_1 ++ dktX0_lays_2
def dkwX0_lays_0 : List UInt8 := [3, 60, 27, 42, 180, 0, 10, 180, 0, 153, 162, 0, 23, 42, 180, 0, 31, 27, 3, 79, 42, 180, 0, 83]
abbrev dktX0_lays_0 : List UInt8 := dkwX0_lays_0 ++ dktX0_lays_1
theorem dksX0_lays_0 : cX0_lays.data.toList.drop 0 = dktX0_lays_0 := by decide +kernel
theorem dksX0_lays_1 : cX0_lays.data.toList.drop 24 = dktX0_lays_1 := dk_seg dksX0_lays_0 24 rfl rfl
theorem dksX0_lays_2 : cX0_lays.data.toList.drop 47 = dktX0_lays_2 := dk_seg dksX0_lays_1 23 rfl rfl
theorem dksX0_lays_3 : cX0_lays.data.toList.drop 69 = dktX0_lays_3 := dk_seg dksX0_lays_2 22 rfl rfl
theorem dksX0_lays_4 : cX0_lays.data.toList.drop 93 = dktX0_lays_4 := dk_seg dksX0_lays_3 24 rfl rfl
theorem dksX0_lays_5 : cX0_lays.data.toList.drop 115 = dktX0_lays_5 := dk_seg dksX0_lays_4 22 rfl rfl
theorem dksX0_lays_6 : cX0_lays.data.toList.drop 139 = dktX0_lays_6 := dk_seg dksX0_lays_5 24 rfl rfl
theorem dksX0_lays_7 : cX0_lays.data.toList.drop 163 = dktX0_lays_7 := dk_seg dksX0_lays_6 24 rfl rfl
theorem dksX0_lays_8 : cX0_lays.data.toList.drop 186 = dktX0_lays_8 := dk_seg dksX0_lays_7 23 rfl rfl
theorem dksX0_lays_9 : cX0_lays.data.toList.drop 209 = dktX0_lays_9 := dk_seg dksX0_lays_8 23 rfl rfl
theorem dksX0_lays_10 : cX0_lays.data.toList.drop 231 = dktX0_lays_10 := dk_seg dksX0_lays_9 22 rfl rfl
theorem dX0_lays_0 : decode cX0_lays 0 = .ok (.iconst 0, 1) := dk_3 (dk_at dksX0_lays_0 0 rfl rfl)
theorem dX0_lays_1 : decode cX0_lays 1 = .ok (.istore_n 1, 1) := dk_60 (dk_at dksX0_lays_0 1 rfl rfl)
theorem dX0_lays_2 : decode cX0_lays 2 = .ok (.iload_n 1, 1) := dk_27 (dk_at dksX0_lays_0 2 rfl rfl)
theorem dX0_lays_3 : decode cX0_lays 3 = .ok (.aload_n 0, 1) := dk_42 (dk_at dksX0_lays_0 3 rfl rfl)
theorem dX0_lays_4 : decode cX0_lays 4 = .ok (.getfield 10, 3) := dk_180 0 10 (dk_at dksX0_lays_0 4 rfl rfl)
theorem dX0_lays_7 : decode cX0_lays 7 = .ok (.getfield 153, 3) := dk_180 0 153 (dk_at dksX0_lays_0 7 rfl rfl)
theorem dX0_lays_10 : decode cX0_lays 10 = .ok (.if_icmp .ge 23, 3) := dk_162 0 23 (dk_at dksX0_lays_0 10 rfl rfl)
theorem dX0_lays_13 : decode cX0_lays 13 = .ok (.aload_n 0, 1) := dk_42 (dk_at dksX0_lays_0 13 rfl rfl)
theorem dX0_lays_14 : decode cX0_lays 14 = .ok (.getfield 31, 3) := dk_180 0 31 (dk_at dksX0_lays_0 14 rfl rfl)
theorem dX0_lays_17 : decode cX0_lays 17 = .ok (.iload_n 1, 1) := dk_27 (dk_at dksX0_lays_0 17 rfl rfl)
theorem dX0_lays_18 : decode cX0_lays 18 = .ok (.iconst 0, 1) := dk_3 (dk_at dksX0_lays_0 18 rfl rfl)
theorem dX0_lays_19 : decode cX0_lays 19 = .ok (.iastore, 1) := dk_79 (dk_at dksX0_lays_0 19 rfl rfl)
theorem dX0_lays_20 : decode cX0_lays 20 = .ok (.aload_n 0, 1) := dk_42 (dk_at dksX0_lays_0 20 rfl rfl)
theorem dX0_lays_21 : decode cX0_lays 21 = .ok (.getfield 83, 3) := dk_180 0 83 (dk_at dksX0_lays_0 21 rfl rfl)
theorem dX0_lays_24 : decode cX0_lays 24 = .ok (.iload_n 1, 1) := dk_27 (dk_at dksX0_lays_1 0 rfl rfl)
theorem dX0_lays_25 : decode cX0_lays 25 = .ok (.iconst (-1), 1) := dk_2 (dk_at dksX0_lays_1 1 rfl rfl)
theorem dX0_lays_26 : decode cX0_lays 26 = .ok (.iastore, 1) := dk_79 (dk_at dksX0_lays_1 2 rfl rfl)
theorem dX0_lays_27 : decode cX0_lays 27 = .ok (.iinc 1 1, 3) := dk_132 1 1 (dk_at dksX0_lays_1 3 rfl rfl)
theorem dX0_lays_30 : decode cX0_lays 30 = .ok (.goto (-28), 3) := dk_167 255 228 (dk_at dksX0_lays_1 6 rfl rfl)
theorem dX0_lays_33 : decode cX0_lays 33 = .ok (.iconst 0, 1) := dk_3 (dk_at dksX0_lays_1 9 rfl rfl)
theorem dX0_lays_34 : decode cX0_lays 34 = .ok (.istore_n 1, 1) := dk_60 (dk_at dksX0_lays_1 10 rfl rfl)
theorem dX0_lays_35 : decode cX0_lays 35 = .ok (.iload_n 1, 1) := dk_27 (dk_at dksX0_lays_1 11 rfl rfl)
theorem dX0_lays_36 : decode cX0_lays 36 = .ok (.aload_n 0, 1) := dk_42 (dk_at dksX0_lays_1 12 rfl rfl)
theorem dX0_lays_37 : decode cX0_lays 37 = .ok (.getfield 10, 3) := dk_180 0 10 (dk_at dksX0_lays_1 13 rfl rfl)
theorem dX0_lays_40 : decode cX0_lays 40 = .ok (.getfield 156, 3) := dk_180 0 156 (dk_at dksX0_lays_1 16 rfl rfl)
theorem dX0_lays_43 : decode cX0_lays 43 = .ok (.if_icmp .ge 194, 3) := dk_162 0 194 (dk_at dksX0_lays_1 19 rfl rfl)
theorem dX0_lays_46 : decode cX0_lays 46 = .ok (.aload_n 0, 1) := dk_42 (dk_at dksX0_lays_1 22 rfl rfl)
theorem dX0_lays_47 : decode cX0_lays 47 = .ok (.getfield 62, 3) := dk_180 0 62 (dk_at dksX0_lays_2 0 rfl rfl)
theorem dX0_lays_50 : decode cX0_lays 50 = .ok (.iload_n 1, 1) := dk_27 (dk_at dksX0_lays_2 3 rfl rfl)
theorem dX0_lays_51 : decode cX0_lays 51 = .ok (.iaload, 1) := dk_46 (dk_at dksX0_lays_2 4 rfl rfl)
theorem dX0_lays_52 : decode cX0_lays 52 = .ok (.istore_n 2, 1) := dk_61 (dk_at dksX0_lays_2 5 rfl rfl)
theorem dX0_lays_53 : decode cX0_lays 53 = .ok (.aload_n 0, 1) := dk_42 (dk_at dksX0_lays_2 6 rfl rfl)
theorem dX0_lays_54 : decode cX0_lays 54 = .ok (.getfield 203, 3) := dk_180 0 203 (dk_at dksX0_lays_2 7 rfl rfl)
theorem dX0_lays_57 : decode cX0_lays 57 = .ok (.iload_n 1, 1) := dk_27 (dk_at dksX0_lays_2 10 rfl rfl)
theorem dX0_lays_58 : decode cX0_lays 58 = .ok (.invokestatic 238, 3) := dk_184 0 238 (dk_at dksX0_lays_2 11 rfl rfl)
theorem dX0_lays_61 : decode cX0_lays 61 = .ok (.ifCond .eq 7, 3) := dk_153 0 7 (dk_at dksX0_lays_2 14 rfl rfl)
theorem dX0_lays_64 : decode cX0_lays 64 = .ok (.aload_n 0, 1) := dk_42 (dk_at dksX0_lays_2 17 rfl rfl)
theorem dX0_lays_65 : decode cX0_lays 65 = .ok (.invokevirtual 241, 3) := dk_182 0 241 (dk_at dksX0_lays_2 18 rfl rfl)
theorem dX0_lays_68 : decode cX0_lays 68 = .ok (.aload_n 0, 1) := dk_42 (dk_at dksX0_lays_2 21 rfl rfl)
theorem dX0_lays_69 : decode cX0_lays 69 = .ok (.getfield 65, 3) := dk_180 0 65 (dk_at dksX0_lays_3 0 rfl rfl)
theorem dX0_lays_72 : decode cX0_lays 72 = .ok (.iload_n 2, 1) := dk_28 (dk_at dksX0_lays_3 3 rfl rfl)
theorem dX0_lays_73 : decode cX0_lays 73 = .ok (.iconst (-1), 1) := dk_2 (dk_at dksX0_lays_3 4 rfl rfl)
theorem dX0_lays_74 : decode cX0_lays 74 = .ok (.iastore, 1) := dk_79 (dk_at dksX0_lays_3 5 rfl rfl)
theorem dX0_lays_75 : decode cX0_lays 75 = .ok (.aload_n 0, 1) := dk_42 (dk_at dksX0_lays_3 6 rfl rfl)
theorem dX0_lays_76 : decode cX0_lays 76 = .ok (.getfield 71, 3) := dk_180 0 71 (dk_at dksX0_lays_3 7 rfl rfl)
theorem dX0_lays_79 : decode cX0_lays 79 = .ok (.iload_n 2, 1) := dk_28 (dk_at dksX0_lays_3 10 rfl rfl)
theorem dX0_lays_80 : decode cX0_lays 80 = .ok (.iconst 0, 1) := dk_3 (dk_at dksX0_lays_3 11 rfl rfl)
theorem dX0_lays_81 : decode cX0_lays 81 = .ok (.iastore, 1) := dk_79 (dk_at dksX0_lays_3 12 rfl rfl)
theorem dX0_lays_82 : decode cX0_lays 82 = .ok (.aload_n 0, 1) := dk_42 (dk_at dksX0_lays_3 13 rfl rfl)
theorem dX0_lays_83 : decode cX0_lays 83 = .ok (.getfield 74, 3) := dk_180 0 74 (dk_at dksX0_lays_3 14 rfl rfl)
theorem dX0_lays_86 : decode cX0_lays 86 = .ok (.iload_n 2, 1) := dk_28 (dk_at dksX0_lays_3 17 rfl rfl)
theorem dX0_lays_87 : decode cX0_lays 87 = .ok (.iconst 0, 1) := dk_3 (dk_at dksX0_lays_3 18 rfl rfl)
theorem dX0_lays_88 : decode cX0_lays 88 = .ok (.iastore, 1) := dk_79 (dk_at dksX0_lays_3 19 rfl rfl)
theorem dX0_lays_89 : decode cX0_lays 89 = .ok (.aload_n 0, 1) := dk_42 (dk_at dksX0_lays_3 20 rfl rfl)
theorem dX0_lays_90 : decode cX0_lays 90 = .ok (.getfield 77, 3) := dk_180 0 77 (dk_at dksX0_lays_3 21 rfl rfl)
theorem dX0_lays_93 : decode cX0_lays 93 = .ok (.iload_n 2, 1) := dk_28 (dk_at dksX0_lays_4 0 rfl rfl)
theorem dX0_lays_94 : decode cX0_lays 94 = .ok (.iconst 0, 1) := dk_3 (dk_at dksX0_lays_4 1 rfl rfl)
theorem dX0_lays_95 : decode cX0_lays 95 = .ok (.iastore, 1) := dk_79 (dk_at dksX0_lays_4 2 rfl rfl)
theorem dX0_lays_96 : decode cX0_lays 96 = .ok (.aload_n 0, 1) := dk_42 (dk_at dksX0_lays_4 3 rfl rfl)
theorem dX0_lays_97 : decode cX0_lays 97 = .ok (.getfield 80, 3) := dk_180 0 80 (dk_at dksX0_lays_4 4 rfl rfl)
theorem dX0_lays_100 : decode cX0_lays 100 = .ok (.iload_n 2, 1) := dk_28 (dk_at dksX0_lays_4 7 rfl rfl)
theorem dX0_lays_101 : decode cX0_lays 101 = .ok (.iconst 0, 1) := dk_3 (dk_at dksX0_lays_4 8 rfl rfl)
theorem dX0_lays_102 : decode cX0_lays 102 = .ok (.iastore, 1) := dk_79 (dk_at dksX0_lays_4 9 rfl rfl)
theorem dX0_lays_103 : decode cX0_lays 103 = .ok (.aload_n 0, 1) := dk_42 (dk_at dksX0_lays_4 10 rfl rfl)
theorem dX0_lays_104 : decode cX0_lays 104 = .ok (.getfield 68, 3) := dk_180 0 68 (dk_at dksX0_lays_4 11 rfl rfl)
theorem dX0_lays_107 : decode cX0_lays 107 = .ok (.iload_n 2, 1) := dk_28 (dk_at dksX0_lays_4 14 rfl rfl)
theorem dX0_lays_108 : decode cX0_lays 108 = .ok (.aload_n 0, 1) := dk_42 (dk_at dksX0_lays_4 15 rfl rfl)
theorem dX0_lays_109 : decode cX0_lays 109 = .ok (.iload_n 2, 1) := dk_28 (dk_at dksX0_lays_4 16 rfl rfl)
theorem dX0_lays_110 : decode cX0_lays 110 = .ok (.invokevirtual 244, 3) := dk_182 0 244 (dk_at dksX0_lays_4 17 rfl rfl)
theorem dX0_lays_113 : decode cX0_lays 113 = .ok (.iastore, 1) := dk_79 (dk_at dksX0_lays_4 20 rfl rfl)
theorem dX0_lays_114 : decode cX0_lays 114 = .ok (.aload_n 0, 1) := dk_42 (dk_at dksX0_lays_4 21 rfl rfl)
theorem dX0_lays_115 : decode cX0_lays 115 = .ok (.getfield 204, 3) := dk_180 0 204 (dk_at dksX0_lays_5 0 rfl rfl)
theorem dX0_lays_118 : decode cX0_lays 118 = .ok (.iload_n 2, 1) := dk_28 (dk_at dksX0_lays_5 3 rfl rfl)
theorem dX0_lays_119 : decode cX0_lays 119 = .ok (.invokestatic 238, 3) := dk_184 0 238 (dk_at dksX0_lays_5 4 rfl rfl)
theorem dX0_lays_122 : decode cX0_lays 122 = .ok (.ifCond .ne 34, 3) := dk_154 0 34 (dk_at dksX0_lays_5 7 rfl rfl)
theorem dX0_lays_125 : decode cX0_lays 125 = .ok (.aload_n 0, 1) := dk_42 (dk_at dksX0_lays_5 10 rfl rfl)
theorem dX0_lays_126 : decode cX0_lays 126 = .ok (.getfield 68, 3) := dk_180 0 68 (dk_at dksX0_lays_5 11 rfl rfl)
theorem dX0_lays_129 : decode cX0_lays 129 = .ok (.iload_n 2, 1) := dk_28 (dk_at dksX0_lays_5 14 rfl rfl)
theorem dX0_lays_130 : decode cX0_lays 130 = .ok (.iaload, 1) := dk_46 (dk_at dksX0_lays_5 15 rfl rfl)
theorem dX0_lays_131 : decode cX0_lays 131 = .ok (.iconst (-1), 1) := dk_2 (dk_at dksX0_lays_5 16 rfl rfl)
theorem dX0_lays_132 : decode cX0_lays 132 = .ok (.if_icmp .eq 24, 3) := dk_159 0 24 (dk_at dksX0_lays_5 17 rfl rfl)
theorem dX0_lays_135 : decode cX0_lays 135 = .ok (.aload_n 0, 1) := dk_42 (dk_at dksX0_lays_5 20 rfl rfl)
theorem dX0_lays_136 : decode cX0_lays 136 = .ok (.getfield 83, 3) := dk_180 0 83 (dk_at dksX0_lays_5 21 rfl rfl)
theorem dX0_lays_139 : decode cX0_lays 139 = .ok (.aload_n 0, 1) := dk_42 (dk_at dksX0_lays_6 0 rfl rfl)
theorem dX0_lays_140 : decode cX0_lays 140 = .ok (.getfield 68, 3) := dk_180 0 68 (dk_at dksX0_lays_6 1 rfl rfl)
theorem dX0_lays_143 : decode cX0_lays 143 = .ok (.iload_n 2, 1) := dk_28 (dk_at dksX0_lays_6 4 rfl rfl)
theorem dX0_lays_144 : decode cX0_lays 144 = .ok (.iaload, 1) := dk_46 (dk_at dksX0_lays_6 5 rfl rfl)
theorem dX0_lays_145 : decode cX0_lays 145 = .ok (.iaload, 1) := dk_46 (dk_at dksX0_lays_6 6 rfl rfl)
theorem dX0_lays_146 : decode cX0_lays 146 = .ok (.iconst (-1), 1) := dk_2 (dk_at dksX0_lays_6 7 rfl rfl)
theorem dX0_lays_147 : decode cX0_lays 147 = .ok (.if_icmp .ne 9, 3) := dk_160 0 9 (dk_at dksX0_lays_6 8 rfl rfl)
theorem dX0_lays_150 : decode cX0_lays 150 = .ok (.aload_n 0, 1) := dk_42 (dk_at dksX0_lays_6 11 rfl rfl)
theorem dX0_lays_151 : decode cX0_lays 151 = .ok (.iload_n 2, 1) := dk_28 (dk_at dksX0_lays_6 12 rfl rfl)
theorem dX0_lays_152 : decode cX0_lays 152 = .ok (.iload_n 1, 1) := dk_27 (dk_at dksX0_lays_6 13 rfl rfl)
theorem dX0_lays_153 : decode cX0_lays 153 = .ok (.invokevirtual 247, 3) := dk_182 0 247 (dk_at dksX0_lays_6 14 rfl rfl)
theorem dX0_lays_156 : decode cX0_lays 156 = .ok (.iconst 0, 1) := dk_3 (dk_at dksX0_lays_6 17 rfl rfl)
theorem dX0_lays_157 : decode cX0_lays 157 = .ok (.istore_n 3, 1) := dk_62 (dk_at dksX0_lays_6 18 rfl rfl)
theorem dX0_lays_158 : decode cX0_lays 158 = .ok (.iload_n 3, 1) := dk_29 (dk_at dksX0_lays_6 19 rfl rfl)
theorem dX0_lays_159 : decode cX0_lays 159 = .ok (.aload_n 0, 1) := dk_42 (dk_at dksX0_lays_6 20 rfl rfl)
theorem dX0_lays_160 : decode cX0_lays 160 = .ok (.getfield 10, 3) := dk_180 0 10 (dk_at dksX0_lays_6 21 rfl rfl)
theorem dX0_lays_163 : decode cX0_lays 163 = .ok (.getfield 153, 3) := dk_180 0 153 (dk_at dksX0_lays_7 0 rfl rfl)
theorem dX0_lays_166 : decode cX0_lays 166 = .ok (.if_icmp .ge 65, 3) := dk_162 0 65 (dk_at dksX0_lays_7 3 rfl rfl)
theorem dX0_lays_169 : decode cX0_lays 169 = .ok (.aload_n 0, 1) := dk_42 (dk_at dksX0_lays_7 6 rfl rfl)
theorem dX0_lays_170 : decode cX0_lays 170 = .ok (.getfield 89, 3) := dk_180 0 89 (dk_at dksX0_lays_7 7 rfl rfl)
theorem dX0_lays_173 : decode cX0_lays 173 = .ok (.iconst 3, 1) := dk_6 (dk_at dksX0_lays_7 10 rfl rfl)
theorem dX0_lays_174 : decode cX0_lays 174 = .ok (.iload_n 1, 1) := dk_27 (dk_at dksX0_lays_7 11 rfl rfl)
theorem dX0_lays_175 : decode cX0_lays 175 = .ok (.imul, 1) := dk_104 (dk_at dksX0_lays_7 12 rfl rfl)
theorem dX0_lays_176 : decode cX0_lays 176 = .ok (.iload_n 3, 1) := dk_29 (dk_at dksX0_lays_7 13 rfl rfl)
theorem dX0_lays_177 : decode cX0_lays 177 = .ok (.iadd, 1) := dk_96 (dk_at dksX0_lays_7 14 rfl rfl)
theorem dX0_lays_178 : decode cX0_lays 178 = .ok (.aload_n 0, 1) := dk_42 (dk_at dksX0_lays_7 15 rfl rfl)
theorem dX0_lays_179 : decode cX0_lays 179 = .ok (.getfield 31, 3) := dk_180 0 31 (dk_at dksX0_lays_7 16 rfl rfl)
theorem dX0_lays_182 : decode cX0_lays 182 = .ok (.iload_n 3, 1) := dk_29 (dk_at dksX0_lays_7 19 rfl rfl)
theorem dX0_lays_183 : decode cX0_lays 183 = .ok (.iaload, 1) := dk_46 (dk_at dksX0_lays_7 20 rfl rfl)
theorem dX0_lays_184 : decode cX0_lays 184 = .ok (.iastore, 1) := dk_79 (dk_at dksX0_lays_7 21 rfl rfl)
theorem dX0_lays_185 : decode cX0_lays 185 = .ok (.aload_n 0, 1) := dk_42 (dk_at dksX0_lays_7 22 rfl rfl)
theorem dX0_lays_186 : decode cX0_lays 186 = .ok (.getfield 92, 3) := dk_180 0 92 (dk_at dksX0_lays_8 0 rfl rfl)
theorem dX0_lays_189 : decode cX0_lays 189 = .ok (.iconst 3, 1) := dk_6 (dk_at dksX0_lays_8 3 rfl rfl)
theorem dX0_lays_190 : decode cX0_lays 190 = .ok (.iload_n 1, 1) := dk_27 (dk_at dksX0_lays_8 4 rfl rfl)
theorem dX0_lays_191 : decode cX0_lays 191 = .ok (.imul, 1) := dk_104 (dk_at dksX0_lays_8 5 rfl rfl)
theorem dX0_lays_192 : decode cX0_lays 192 = .ok (.iload_n 3, 1) := dk_29 (dk_at dksX0_lays_8 6 rfl rfl)
theorem dX0_lays_193 : decode cX0_lays 193 = .ok (.iadd, 1) := dk_96 (dk_at dksX0_lays_8 7 rfl rfl)
theorem dX0_lays_194 : decode cX0_lays 194 = .ok (.aload_n 0, 1) := dk_42 (dk_at dksX0_lays_8 8 rfl rfl)
theorem dX0_lays_195 : decode cX0_lays 195 = .ok (.iload_n 3, 1) := dk_29 (dk_at dksX0_lays_8 9 rfl rfl)
theorem dX0_lays_196 : decode cX0_lays 196 = .ok (.invokevirtual 218, 3) := dk_182 0 218 (dk_at dksX0_lays_8 10 rfl rfl)
theorem dX0_lays_199 : decode cX0_lays 199 = .ok (.iastore, 1) := dk_79 (dk_at dksX0_lays_8 13 rfl rfl)
theorem dX0_lays_200 : decode cX0_lays 200 = .ok (.aload_n 0, 1) := dk_42 (dk_at dksX0_lays_8 14 rfl rfl)
theorem dX0_lays_201 : decode cX0_lays 201 = .ok (.getfield 24, 3) := dk_180 0 24 (dk_at dksX0_lays_8 15 rfl rfl)
theorem dX0_lays_204 : decode cX0_lays 204 = .ok (.bipush 8, 2) := dk_16 8 (dk_at dksX0_lays_8 18 rfl rfl)
theorem dX0_lays_206 : decode cX0_lays 206 = .ok (.iload_n 3, 1) := dk_29 (dk_at dksX0_lays_8 20 rfl rfl)
theorem dX0_lays_207 : decode cX0_lays 207 = .ok (.imul, 1) := dk_104 (dk_at dksX0_lays_8 21 rfl rfl)
theorem dX0_lays_208 : decode cX0_lays 208 = .ok (.aload_n 0, 1) := dk_42 (dk_at dksX0_lays_8 22 rfl rfl)
theorem dX0_lays_209 : decode cX0_lays 209 = .ok (.getfield 86, 3) := dk_180 0 86 (dk_at dksX0_lays_9 0 rfl rfl)
theorem dX0_lays_212 : decode cX0_lays 212 = .ok (.bipush 8, 2) := dk_16 8 (dk_at dksX0_lays_9 3 rfl rfl)
theorem dX0_lays_214 : decode cX0_lays 214 = .ok (.iconst 3, 1) := dk_6 (dk_at dksX0_lays_9 5 rfl rfl)
theorem dX0_lays_215 : decode cX0_lays 215 = .ok (.iload_n 1, 1) := dk_27 (dk_at dksX0_lays_9 6 rfl rfl)
theorem dX0_lays_216 : decode cX0_lays 216 = .ok (.imul, 1) := dk_104 (dk_at dksX0_lays_9 7 rfl rfl)
theorem dX0_lays_217 : decode cX0_lays 217 = .ok (.iload_n 3, 1) := dk_29 (dk_at dksX0_lays_9 8 rfl rfl)
theorem dX0_lays_218 : decode cX0_lays 218 = .ok (.iadd, 1) := dk_96 (dk_at dksX0_lays_9 9 rfl rfl)
theorem dX0_lays_219 : decode cX0_lays 219 = .ok (.imul, 1) := dk_104 (dk_at dksX0_lays_9 10 rfl rfl)
theorem dX0_lays_220 : decode cX0_lays 220 = .ok (.bipush 8, 2) := dk_16 8 (dk_at dksX0_lays_9 11 rfl rfl)
theorem dX0_lays_222 : decode cX0_lays 222 = .ok (.invokestatic 194, 3) := dk_184 0 194 (dk_at dksX0_lays_9 13 rfl rfl)
theorem dX0_lays_225 : decode cX0_lays 225 = .ok (.iinc 3 1, 3) := dk_132 3 1 (dk_at dksX0_lays_9 16 rfl rfl)
theorem dX0_lays_228 : decode cX0_lays 228 = .ok (.goto (-70), 3) := dk_167 255 186 (dk_at dksX0_lays_9 19 rfl rfl)
theorem dX0_lays_231 : decode cX0_lays 231 = .ok (.iinc 1 1, 3) := dk_132 1 1 (dk_at dksX0_lays_10 0 rfl rfl)
theorem dX0_lays_234 : decode cX0_lays 234 = .ok (.goto (-199), 3) := dk_167 255 57 (dk_at dksX0_lays_10 3 rfl rfl)
theorem dX0_lays_237 : decode cX0_lays 237 = .ok (.return_, 1) := dk_177 (dk_at dksX0_lays_10 6 rfl rfl)
abbrev cX0_isOf : ByteArray := prog_1_method_2_code
def yX0_isOf : MethodName := ⟨RX0, "isOf", "(II)Z"⟩
def dkwX0_isOf_0 : List UInt8 := [26, 27, 122, 4, 126, 4, 160, 0, 7, 4, 167, 0, 4, 3, 172]
abbrev dktX0_isOf_0 : List UInt8 := dkwX0_isOf_0 ++ []
theorem dksX0_isOf_0 : cX0_isOf.data.toList.drop 0 = dktX0_isOf_0 := by decide +kernel
theorem dX0_isOf_0 : decode cX0_isOf 0 = .ok (.iload_n 0, 1) := dk_26 (dk_at dksX0_isOf_0 0 rfl rfl)
theorem dX0_isOf_1 : decode cX0_isOf 1 = .ok (.iload_n 1, 1) := dk_27 (dk_at dksX0_isOf_0 1 rfl rfl)
theorem dX0_isOf_2 : decode cX0_isOf 2 = .ok (.ishr, 1) := dk_122 (dk_at dksX0_isOf_0 2 rfl rfl)
theorem dX0_isOf_3 : decode cX0_isOf 3 = .ok (.iconst 1, 1) := dk_4 (dk_at dksX0_isOf_0 3 rfl rfl)
theorem dX0_isOf_4 : decode cX0_isOf 4 = .ok (.iand, 1) := dk_126 (dk_at dksX0_isOf_0 4 rfl rfl)
theorem dX0_isOf_5 : decode cX0_isOf 5 = .ok (.iconst 1, 1) := dk_4 (dk_at dksX0_isOf_0 5 rfl rfl)
theorem dX0_isOf_6 : decode cX0_isOf 6 = .ok (.if_icmp .ne 7, 3) := dk_160 0 7 (dk_at dksX0_isOf_0 6 rfl rfl)
theorem dX0_isOf_9 : decode cX0_isOf 9 = .ok (.iconst 1, 1) := dk_4 (dk_at dksX0_isOf_0 9 rfl rfl)
theorem dX0_isOf_10 : decode cX0_isOf 10 = .ok (.goto 4, 3) := dk_167 0 4 (dk_at dksX0_isOf_0 10 rfl rfl)
theorem dX0_isOf_13 : decode cX0_isOf 13 = .ok (.iconst 0, 1) := dk_3 (dk_at dksX0_isOf_0 13 rfl rfl)
theorem dX0_isOf_14 : decode cX0_isOf 14 = .ok (.ireturn, 1) := dk_172 (dk_at dksX0_isOf_0 14 rfl rfl)
abbrev cX0_freezes : ByteArray := prog_1_method_24_code
def yX0_freezes : MethodName := ⟨RX0, "freezes", "()V"⟩
def dkwX0_freezes_4 : List UInt8 := [132, 3, 1, 167, 255, 176, 42, 180, 0, 31, 27, 28, 79, 132, 1, 1, 167, 255, 148, 177]
abbrev dktX0_freezes_4 : List UInt8 := dkwX0_freezes_4 ++ []
def dkwX0_freezes_3 : List UInt8 := [180, 0, 28, 16, 8, 27, 104, 28, 96, 42, 180, 0, 28, 16, 8, 27, 104, 29, 96, 46, 79, 132, 2, 1]
abbrev dktX0_freezes_3 : List UInt8 := dkwX0_freezes_3 ++ dktX0_freezes_4
def dkwX0_freezes_2 : List UInt8 := [21, 4, 157, 0, 6, 167, 0, 41, 42, 180, 0, 24, 16, 8, 27, 104, 28, 96, 21, 4, 79, 42]
abbrev dktX0_freezes_2 : List UInt8 := dkwX0_freezes_2 ++ dktX0_freezes_3
def dkwX0_freezes_1 : List UInt8 := [162, 0, 76, 42, 180, 0, 24, 16, 8, 27, 104, 29, 96, 46, 42, 180, 0, 10, 180, 0, 215, 100, 54, 4]
abbrev dktX0_freezes_1 : List UInt8 := dkwX0_freezes_1 ++ dktX0_freezes_2
def dkwX0_freezes_0 : List UInt8 := [3, 60, 27, 42, 180, 0, 10, 180, 0, 153, 162, 0, 103, 3, 61, 3, 62, 29, 42, 180, 0, 31, 27, 46]
abbrev dktX0_freezes_0 : List UInt8 := dkwX0_freezes_0 ++ dktX0_freezes_1
theorem dksX0_freezes_0 : cX0_freezes.data.toList.drop 0 = dktX0_freezes_0 := by decide +kernel
theorem dksX0_freezes_1 : cX0_freezes.data.toList.drop 24 = dktX0_freezes_1 := dk_seg dksX0_freezes_0 24 rfl rfl
theorem dksX0_freezes_2 : cX0_freezes.data.toList.drop 48 = dktX0_freezes_2 := dk_seg dksX0_freezes_1 24 rfl rfl
theorem dksX0_freezes_3 : cX0_freezes.data.toList.drop 70 = dktX0_freezes_3 := dk_seg dksX0_freezes_2 22 rfl rfl
theorem dksX0_freezes_4 : cX0_freezes.data.toList.drop 94 = dktX0_freezes_4 := dk_seg dksX0_freezes_3 24 rfl rfl
theorem dX0_freezes_0 : decode cX0_freezes 0 = .ok (.iconst 0, 1) := dk_3 (dk_at dksX0_freezes_0 0 rfl rfl)
theorem dX0_freezes_1 : decode cX0_freezes 1 = .ok (.istore_n 1, 1) := dk_60 (dk_at dksX0_freezes_0 1 rfl rfl)
theorem dX0_freezes_2 : decode cX0_freezes 2 = .ok (.iload_n 1, 1) := dk_27 (dk_at dksX0_freezes_0 2 rfl rfl)
theorem dX0_freezes_3 : decode cX0_freezes 3 = .ok (.aload_n 0, 1) := dk_42 (dk_at dksX0_freezes_0 3 rfl rfl)
theorem dX0_freezes_4 : decode cX0_freezes 4 = .ok (.getfield 10, 3) := dk_180 0 10 (dk_at dksX0_freezes_0 4 rfl rfl)
theorem dX0_freezes_7 : decode cX0_freezes 7 = .ok (.getfield 153, 3) := dk_180 0 153 (dk_at dksX0_freezes_0 7 rfl rfl)
theorem dX0_freezes_10 : decode cX0_freezes 10 = .ok (.if_icmp .ge 103, 3) := dk_162 0 103 (dk_at dksX0_freezes_0 10 rfl rfl)
theorem dX0_freezes_13 : decode cX0_freezes 13 = .ok (.iconst 0, 1) := dk_3 (dk_at dksX0_freezes_0 13 rfl rfl)
theorem dX0_freezes_14 : decode cX0_freezes 14 = .ok (.istore_n 2, 1) := dk_61 (dk_at dksX0_freezes_0 14 rfl rfl)
theorem dX0_freezes_15 : decode cX0_freezes 15 = .ok (.iconst 0, 1) := dk_3 (dk_at dksX0_freezes_0 15 rfl rfl)
theorem dX0_freezes_16 : decode cX0_freezes 16 = .ok (.istore_n 3, 1) := dk_62 (dk_at dksX0_freezes_0 16 rfl rfl)
theorem dX0_freezes_17 : decode cX0_freezes 17 = .ok (.iload_n 3, 1) := dk_29 (dk_at dksX0_freezes_0 17 rfl rfl)
theorem dX0_freezes_18 : decode cX0_freezes 18 = .ok (.aload_n 0, 1) := dk_42 (dk_at dksX0_freezes_0 18 rfl rfl)
theorem dX0_freezes_19 : decode cX0_freezes 19 = .ok (.getfield 31, 3) := dk_180 0 31 (dk_at dksX0_freezes_0 19 rfl rfl)
theorem dX0_freezes_22 : decode cX0_freezes 22 = .ok (.iload_n 1, 1) := dk_27 (dk_at dksX0_freezes_0 22 rfl rfl)
theorem dX0_freezes_23 : decode cX0_freezes 23 = .ok (.iaload, 1) := dk_46 (dk_at dksX0_freezes_0 23 rfl rfl)
theorem dX0_freezes_24 : decode cX0_freezes 24 = .ok (.if_icmp .ge 76, 3) := dk_162 0 76 (dk_at dksX0_freezes_1 0 rfl rfl)
theorem dX0_freezes_27 : decode cX0_freezes 27 = .ok (.aload_n 0, 1) := dk_42 (dk_at dksX0_freezes_1 3 rfl rfl)
theorem dX0_freezes_28 : decode cX0_freezes 28 = .ok (.getfield 24, 3) := dk_180 0 24 (dk_at dksX0_freezes_1 4 rfl rfl)
theorem dX0_freezes_31 : decode cX0_freezes 31 = .ok (.bipush 8, 2) := dk_16 8 (dk_at dksX0_freezes_1 7 rfl rfl)
theorem dX0_freezes_33 : decode cX0_freezes 33 = .ok (.iload_n 1, 1) := dk_27 (dk_at dksX0_freezes_1 9 rfl rfl)
theorem dX0_freezes_34 : decode cX0_freezes 34 = .ok (.imul, 1) := dk_104 (dk_at dksX0_freezes_1 10 rfl rfl)
theorem dX0_freezes_35 : decode cX0_freezes 35 = .ok (.iload_n 3, 1) := dk_29 (dk_at dksX0_freezes_1 11 rfl rfl)
theorem dX0_freezes_36 : decode cX0_freezes 36 = .ok (.iadd, 1) := dk_96 (dk_at dksX0_freezes_1 12 rfl rfl)
theorem dX0_freezes_37 : decode cX0_freezes 37 = .ok (.iaload, 1) := dk_46 (dk_at dksX0_freezes_1 13 rfl rfl)
theorem dX0_freezes_38 : decode cX0_freezes 38 = .ok (.aload_n 0, 1) := dk_42 (dk_at dksX0_freezes_1 14 rfl rfl)
theorem dX0_freezes_39 : decode cX0_freezes 39 = .ok (.getfield 10, 3) := dk_180 0 10 (dk_at dksX0_freezes_1 15 rfl rfl)
theorem dX0_freezes_42 : decode cX0_freezes 42 = .ok (.getfield 215, 3) := dk_180 0 215 (dk_at dksX0_freezes_1 18 rfl rfl)
theorem dX0_freezes_45 : decode cX0_freezes 45 = .ok (.isub, 1) := dk_100 (dk_at dksX0_freezes_1 21 rfl rfl)
theorem dX0_freezes_46 : decode cX0_freezes 46 = .ok (.istore 4, 2) := dk_54 4 (dk_at dksX0_freezes_1 22 rfl rfl)
theorem dX0_freezes_48 : decode cX0_freezes 48 = .ok (.iload 4, 2) := dk_21 4 (dk_at dksX0_freezes_2 0 rfl rfl)
theorem dX0_freezes_50 : decode cX0_freezes 50 = .ok (.ifCond .gt 6, 3) := dk_157 0 6 (dk_at dksX0_freezes_2 2 rfl rfl)
theorem dX0_freezes_53 : decode cX0_freezes 53 = .ok (.goto 41, 3) := dk_167 0 41 (dk_at dksX0_freezes_2 5 rfl rfl)
theorem dX0_freezes_56 : decode cX0_freezes 56 = .ok (.aload_n 0, 1) := dk_42 (dk_at dksX0_freezes_2 8 rfl rfl)
theorem dX0_freezes_57 : decode cX0_freezes 57 = .ok (.getfield 24, 3) := dk_180 0 24 (dk_at dksX0_freezes_2 9 rfl rfl)
theorem dX0_freezes_60 : decode cX0_freezes 60 = .ok (.bipush 8, 2) := dk_16 8 (dk_at dksX0_freezes_2 12 rfl rfl)
theorem dX0_freezes_62 : decode cX0_freezes 62 = .ok (.iload_n 1, 1) := dk_27 (dk_at dksX0_freezes_2 14 rfl rfl)
theorem dX0_freezes_63 : decode cX0_freezes 63 = .ok (.imul, 1) := dk_104 (dk_at dksX0_freezes_2 15 rfl rfl)
theorem dX0_freezes_64 : decode cX0_freezes 64 = .ok (.iload_n 2, 1) := dk_28 (dk_at dksX0_freezes_2 16 rfl rfl)
theorem dX0_freezes_65 : decode cX0_freezes 65 = .ok (.iadd, 1) := dk_96 (dk_at dksX0_freezes_2 17 rfl rfl)
theorem dX0_freezes_66 : decode cX0_freezes 66 = .ok (.iload 4, 2) := dk_21 4 (dk_at dksX0_freezes_2 18 rfl rfl)
theorem dX0_freezes_68 : decode cX0_freezes 68 = .ok (.iastore, 1) := dk_79 (dk_at dksX0_freezes_2 20 rfl rfl)
theorem dX0_freezes_69 : decode cX0_freezes 69 = .ok (.aload_n 0, 1) := dk_42 (dk_at dksX0_freezes_2 21 rfl rfl)
theorem dX0_freezes_70 : decode cX0_freezes 70 = .ok (.getfield 28, 3) := dk_180 0 28 (dk_at dksX0_freezes_3 0 rfl rfl)
theorem dX0_freezes_73 : decode cX0_freezes 73 = .ok (.bipush 8, 2) := dk_16 8 (dk_at dksX0_freezes_3 3 rfl rfl)
theorem dX0_freezes_75 : decode cX0_freezes 75 = .ok (.iload_n 1, 1) := dk_27 (dk_at dksX0_freezes_3 5 rfl rfl)
theorem dX0_freezes_76 : decode cX0_freezes 76 = .ok (.imul, 1) := dk_104 (dk_at dksX0_freezes_3 6 rfl rfl)
theorem dX0_freezes_77 : decode cX0_freezes 77 = .ok (.iload_n 2, 1) := dk_28 (dk_at dksX0_freezes_3 7 rfl rfl)
theorem dX0_freezes_78 : decode cX0_freezes 78 = .ok (.iadd, 1) := dk_96 (dk_at dksX0_freezes_3 8 rfl rfl)
theorem dX0_freezes_79 : decode cX0_freezes 79 = .ok (.aload_n 0, 1) := dk_42 (dk_at dksX0_freezes_3 9 rfl rfl)
theorem dX0_freezes_80 : decode cX0_freezes 80 = .ok (.getfield 28, 3) := dk_180 0 28 (dk_at dksX0_freezes_3 10 rfl rfl)
theorem dX0_freezes_83 : decode cX0_freezes 83 = .ok (.bipush 8, 2) := dk_16 8 (dk_at dksX0_freezes_3 13 rfl rfl)
theorem dX0_freezes_85 : decode cX0_freezes 85 = .ok (.iload_n 1, 1) := dk_27 (dk_at dksX0_freezes_3 15 rfl rfl)
theorem dX0_freezes_86 : decode cX0_freezes 86 = .ok (.imul, 1) := dk_104 (dk_at dksX0_freezes_3 16 rfl rfl)
theorem dX0_freezes_87 : decode cX0_freezes 87 = .ok (.iload_n 3, 1) := dk_29 (dk_at dksX0_freezes_3 17 rfl rfl)
theorem dX0_freezes_88 : decode cX0_freezes 88 = .ok (.iadd, 1) := dk_96 (dk_at dksX0_freezes_3 18 rfl rfl)
theorem dX0_freezes_89 : decode cX0_freezes 89 = .ok (.iaload, 1) := dk_46 (dk_at dksX0_freezes_3 19 rfl rfl)
theorem dX0_freezes_90 : decode cX0_freezes 90 = .ok (.iastore, 1) := dk_79 (dk_at dksX0_freezes_3 20 rfl rfl)
theorem dX0_freezes_91 : decode cX0_freezes 91 = .ok (.iinc 2 1, 3) := dk_132 2 1 (dk_at dksX0_freezes_3 21 rfl rfl)
theorem dX0_freezes_94 : decode cX0_freezes 94 = .ok (.iinc 3 1, 3) := dk_132 3 1 (dk_at dksX0_freezes_4 0 rfl rfl)
theorem dX0_freezes_97 : decode cX0_freezes 97 = .ok (.goto (-80), 3) := dk_167 255 176 (dk_at dksX0_freezes_4 3 rfl rfl)
theorem dX0_freezes_100 : decode cX0_freezes 100 = .ok (.aload_n 0, 1) := dk_42 (dk_at dksX0_freezes_4 6 rfl rfl)
theorem dX0_freezes_101 : decode cX0_freezes 101 = .ok (.getfield 31, 3) := dk_180 0 31 (dk_at dksX0_freezes_4 7 rfl rfl)
theorem dX0_freezes_104 : decode cX0_freezes 104 = .ok (.iload_n 1, 1) := dk_27 (dk_at dksX0_freezes_4 10 rfl rfl)
theorem dX0_freezes_105 : decode cX0_freezes 105 = .ok (.iload_n 2, 1) := dk_28 (dk_at dksX0_freezes_4 11 rfl rfl)
theorem dX0_freezes_106 : decode cX0_freezes 106 = .ok (.iastore, 1) := dk_79 (dk_at dksX0_freezes_4 12 rfl rfl)
theorem dX0_freezes_107 : decode cX0_freezes 107 = .ok (.iinc 1 1, 3) := dk_132 1 1 (dk_at dksX0_freezes_4 13 rfl rfl)
theorem dX0_freezes_110 : decode cX0_freezes 110 = .ok (.goto (-108), 3) := dk_167 255 148 (dk_at dksX0_freezes_4 16 rfl rfl)
theorem dX0_freezes_113 : decode cX0_freezes 113 = .ok (.return_, 1) := dk_177 (dk_at dksX0_freezes_4 19 rfl rfl)
abbrev cX0_comesTo : ByteArray := prog_1_method_23_code
def yX0_comesTo : MethodName := ⟨RX0, "comesTo", "(I)I"⟩
def dkwX0_comesTo_3 : List UInt8 := [28, 46, 172, 132, 2, 1, 167, 255, 196, 42, 180, 0, 59, 27, 46, 172]
abbrev dktX0_comesTo_3 : List UInt8 := dkwX0_comesTo_3 ++ []
def dkwX0_comesTo_2 : List UInt8 := [180, 0, 10, 180, 0, 188, 28, 46, 42, 180, 0, 56, 27, 46, 162, 0, 13, 42, 180, 0, 10, 180, 0, 191]
abbrev dktX0_comesTo_2 : List UInt8 := dkwX0_comesTo_2 ++ dktX0_comesTo_3
def dkwX0_comesTo_1 : List UInt8 := [162, 0, 55, 42, 180, 0, 10, 180, 0, 185, 28, 46, 42, 180, 0, 59, 27, 46, 160, 0, 31, 42]
abbrev dktX0_comesTo_1 : List UInt8 := dkwX0_comesTo_1 ++ dktX0_comesTo_2
def dkwX0_comesTo_0 : List UInt8 := [42, 180, 0, 59, 27, 46, 2, 160, 0, 5, 2, 172, 3, 61, 28, 42, 180, 0, 10, 180, 0, 182]
abbrev dktX0_comesTo_0 : List UInt8 := dkwX0_comesTo_0 ++ dktX0_comesTo_1
theorem dksX0_comesTo_0 : cX0_comesTo.data.toList.drop 0 = dktX0_comesTo_0 := by decide +kernel
theorem dksX0_comesTo_1 : cX0_comesTo.data.toList.drop 22 = dktX0_comesTo_1 := dk_seg dksX0_comesTo_0 22 rfl rfl
theorem dksX0_comesTo_2 : cX0_comesTo.data.toList.drop 44 = dktX0_comesTo_2 := dk_seg dksX0_comesTo_1 22 rfl rfl
theorem dksX0_comesTo_3 : cX0_comesTo.data.toList.drop 68 = dktX0_comesTo_3 := dk_seg dksX0_comesTo_2 24 rfl rfl
theorem dX0_comesTo_0 : decode cX0_comesTo 0 = .ok (.aload_n 0, 1) := dk_42 (dk_at dksX0_comesTo_0 0 rfl rfl)
theorem dX0_comesTo_1 : decode cX0_comesTo 1 = .ok (.getfield 59, 3) := dk_180 0 59 (dk_at dksX0_comesTo_0 1 rfl rfl)
theorem dX0_comesTo_4 : decode cX0_comesTo 4 = .ok (.iload_n 1, 1) := dk_27 (dk_at dksX0_comesTo_0 4 rfl rfl)
theorem dX0_comesTo_5 : decode cX0_comesTo 5 = .ok (.iaload, 1) := dk_46 (dk_at dksX0_comesTo_0 5 rfl rfl)
theorem dX0_comesTo_6 : decode cX0_comesTo 6 = .ok (.iconst (-1), 1) := dk_2 (dk_at dksX0_comesTo_0 6 rfl rfl)
theorem dX0_comesTo_7 : decode cX0_comesTo 7 = .ok (.if_icmp .ne 5, 3) := dk_160 0 5 (dk_at dksX0_comesTo_0 7 rfl rfl)
theorem dX0_comesTo_10 : decode cX0_comesTo 10 = .ok (.iconst (-1), 1) := dk_2 (dk_at dksX0_comesTo_0 10 rfl rfl)
theorem dX0_comesTo_11 : decode cX0_comesTo 11 = .ok (.ireturn, 1) := dk_172 (dk_at dksX0_comesTo_0 11 rfl rfl)
theorem dX0_comesTo_12 : decode cX0_comesTo 12 = .ok (.iconst 0, 1) := dk_3 (dk_at dksX0_comesTo_0 12 rfl rfl)
theorem dX0_comesTo_13 : decode cX0_comesTo 13 = .ok (.istore_n 2, 1) := dk_61 (dk_at dksX0_comesTo_0 13 rfl rfl)
theorem dX0_comesTo_14 : decode cX0_comesTo 14 = .ok (.iload_n 2, 1) := dk_28 (dk_at dksX0_comesTo_0 14 rfl rfl)
theorem dX0_comesTo_15 : decode cX0_comesTo 15 = .ok (.aload_n 0, 1) := dk_42 (dk_at dksX0_comesTo_0 15 rfl rfl)
theorem dX0_comesTo_16 : decode cX0_comesTo 16 = .ok (.getfield 10, 3) := dk_180 0 10 (dk_at dksX0_comesTo_0 16 rfl rfl)
theorem dX0_comesTo_19 : decode cX0_comesTo 19 = .ok (.getfield 182, 3) := dk_180 0 182 (dk_at dksX0_comesTo_0 19 rfl rfl)
theorem dX0_comesTo_22 : decode cX0_comesTo 22 = .ok (.if_icmp .ge 55, 3) := dk_162 0 55 (dk_at dksX0_comesTo_1 0 rfl rfl)
theorem dX0_comesTo_25 : decode cX0_comesTo 25 = .ok (.aload_n 0, 1) := dk_42 (dk_at dksX0_comesTo_1 3 rfl rfl)
theorem dX0_comesTo_26 : decode cX0_comesTo 26 = .ok (.getfield 10, 3) := dk_180 0 10 (dk_at dksX0_comesTo_1 4 rfl rfl)
theorem dX0_comesTo_29 : decode cX0_comesTo 29 = .ok (.getfield 185, 3) := dk_180 0 185 (dk_at dksX0_comesTo_1 7 rfl rfl)
theorem dX0_comesTo_32 : decode cX0_comesTo 32 = .ok (.iload_n 2, 1) := dk_28 (dk_at dksX0_comesTo_1 10 rfl rfl)
theorem dX0_comesTo_33 : decode cX0_comesTo 33 = .ok (.iaload, 1) := dk_46 (dk_at dksX0_comesTo_1 11 rfl rfl)
theorem dX0_comesTo_34 : decode cX0_comesTo 34 = .ok (.aload_n 0, 1) := dk_42 (dk_at dksX0_comesTo_1 12 rfl rfl)
theorem dX0_comesTo_35 : decode cX0_comesTo 35 = .ok (.getfield 59, 3) := dk_180 0 59 (dk_at dksX0_comesTo_1 13 rfl rfl)
theorem dX0_comesTo_38 : decode cX0_comesTo 38 = .ok (.iload_n 1, 1) := dk_27 (dk_at dksX0_comesTo_1 16 rfl rfl)
theorem dX0_comesTo_39 : decode cX0_comesTo 39 = .ok (.iaload, 1) := dk_46 (dk_at dksX0_comesTo_1 17 rfl rfl)
theorem dX0_comesTo_40 : decode cX0_comesTo 40 = .ok (.if_icmp .ne 31, 3) := dk_160 0 31 (dk_at dksX0_comesTo_1 18 rfl rfl)
theorem dX0_comesTo_43 : decode cX0_comesTo 43 = .ok (.aload_n 0, 1) := dk_42 (dk_at dksX0_comesTo_1 21 rfl rfl)
theorem dX0_comesTo_44 : decode cX0_comesTo 44 = .ok (.getfield 10, 3) := dk_180 0 10 (dk_at dksX0_comesTo_2 0 rfl rfl)
theorem dX0_comesTo_47 : decode cX0_comesTo 47 = .ok (.getfield 188, 3) := dk_180 0 188 (dk_at dksX0_comesTo_2 3 rfl rfl)
theorem dX0_comesTo_50 : decode cX0_comesTo 50 = .ok (.iload_n 2, 1) := dk_28 (dk_at dksX0_comesTo_2 6 rfl rfl)
theorem dX0_comesTo_51 : decode cX0_comesTo 51 = .ok (.iaload, 1) := dk_46 (dk_at dksX0_comesTo_2 7 rfl rfl)
theorem dX0_comesTo_52 : decode cX0_comesTo 52 = .ok (.aload_n 0, 1) := dk_42 (dk_at dksX0_comesTo_2 8 rfl rfl)
theorem dX0_comesTo_53 : decode cX0_comesTo 53 = .ok (.getfield 56, 3) := dk_180 0 56 (dk_at dksX0_comesTo_2 9 rfl rfl)
theorem dX0_comesTo_56 : decode cX0_comesTo 56 = .ok (.iload_n 1, 1) := dk_27 (dk_at dksX0_comesTo_2 12 rfl rfl)
theorem dX0_comesTo_57 : decode cX0_comesTo 57 = .ok (.iaload, 1) := dk_46 (dk_at dksX0_comesTo_2 13 rfl rfl)
theorem dX0_comesTo_58 : decode cX0_comesTo 58 = .ok (.if_icmp .ge 13, 3) := dk_162 0 13 (dk_at dksX0_comesTo_2 14 rfl rfl)
theorem dX0_comesTo_61 : decode cX0_comesTo 61 = .ok (.aload_n 0, 1) := dk_42 (dk_at dksX0_comesTo_2 17 rfl rfl)
theorem dX0_comesTo_62 : decode cX0_comesTo 62 = .ok (.getfield 10, 3) := dk_180 0 10 (dk_at dksX0_comesTo_2 18 rfl rfl)
theorem dX0_comesTo_65 : decode cX0_comesTo 65 = .ok (.getfield 191, 3) := dk_180 0 191 (dk_at dksX0_comesTo_2 21 rfl rfl)
theorem dX0_comesTo_68 : decode cX0_comesTo 68 = .ok (.iload_n 2, 1) := dk_28 (dk_at dksX0_comesTo_3 0 rfl rfl)
theorem dX0_comesTo_69 : decode cX0_comesTo 69 = .ok (.iaload, 1) := dk_46 (dk_at dksX0_comesTo_3 1 rfl rfl)
theorem dX0_comesTo_70 : decode cX0_comesTo 70 = .ok (.ireturn, 1) := dk_172 (dk_at dksX0_comesTo_3 2 rfl rfl)
theorem dX0_comesTo_71 : decode cX0_comesTo 71 = .ok (.iinc 2 1, 3) := dk_132 2 1 (dk_at dksX0_comesTo_3 3 rfl rfl)
theorem dX0_comesTo_74 : decode cX0_comesTo 74 = .ok (.goto (-60), 3) := dk_167 255 196 (dk_at dksX0_comesTo_3 6 rfl rfl)
theorem dX0_comesTo_77 : decode cX0_comesTo 77 = .ok (.aload_n 0, 1) := dk_42 (dk_at dksX0_comesTo_3 9 rfl rfl)
theorem dX0_comesTo_78 : decode cX0_comesTo 78 = .ok (.getfield 59, 3) := dk_180 0 59 (dk_at dksX0_comesTo_3 10 rfl rfl)
theorem dX0_comesTo_81 : decode cX0_comesTo 81 = .ok (.iload_n 1, 1) := dk_27 (dk_at dksX0_comesTo_3 13 rfl rfl)
theorem dX0_comesTo_82 : decode cX0_comesTo 82 = .ok (.iaload, 1) := dk_46 (dk_at dksX0_comesTo_3 14 rfl rfl)
theorem dX0_comesTo_83 : decode cX0_comesTo 83 = .ok (.ireturn, 1) := dk_172 (dk_at dksX0_comesTo_3 15 rfl rfl)
abbrev cX0_goes_2 : ByteArray := prog_1_method_25_code
def yX0_goes_2 : MethodName := ⟨RX0, "goes", "(II)V"⟩
def dkwX0_goes_2_5 : List UInt8 := [182, 0, 218, 42, 180, 0, 10, 180, 0, 174, 29, 46, 164, 0, 10, 42, 180, 0, 83, 29, 27, 79, 177]
abbrev dktX0_goes_2_5 : List UInt8 := dkwX0_goes_2_5 ++ []
def dkwX0_goes_2_4 : List UInt8 := [180, 0, 10, 180, 0, 177, 29, 46, 3, 42, 180, 0, 71, 27, 46, 184, 0, 225, 104, 79, 42, 29]
abbrev dktX0_goes_2_4 : List UInt8 := dkwX0_goes_2_4 ++ dktX0_goes_2_5
def dkwX0_goes_2_3 : List UInt8 := [180, 0, 231, 79, 42, 180, 0, 71, 27, 42, 29, 182, 0, 218, 21, 4, 100, 79, 42, 180, 0, 77, 27, 42]
abbrev dktX0_goes_2_3 : List UInt8 := dkwX0_goes_2_3 ++ dktX0_goes_2_4
def dkwX0_goes_2_2 : List UInt8 := [181, 0, 231, 42, 180, 0, 52, 29, 42, 180, 0, 56, 27, 46, 28, 182, 0, 234, 42, 180, 0, 80, 27, 42]
abbrev dktX0_goes_2_2 : List UInt8 := dkwX0_goes_2_2 ++ dktX0_goes_2_3
def dkwX0_goes_2_1 : List UInt8 := [180, 0, 74, 27, 3, 42, 180, 0, 56, 27, 46, 42, 29, 182, 0, 222, 100, 184, 0, 225, 79, 42, 3]
abbrev dktX0_goes_2_1 : List UInt8 := dkwX0_goes_2_1 ++ dktX0_goes_2_2
def dkwX0_goes_2_0 : List UInt8 := [42, 180, 0, 68, 27, 46, 62, 42, 29, 182, 0, 218, 54, 4, 42, 180, 0, 65, 27, 29, 79, 42]
abbrev dktX0_goes_2_0 : List UInt8 := dkwX0_goes_2_0 ++ dktX0_goes_2_1
theorem dksX0_goes_2_0 : cX0_goes_2.data.toList.drop 0 = dktX0_goes_2_0 := by decide +kernel
theorem dksX0_goes_2_1 : cX0_goes_2.data.toList.drop 22 = dktX0_goes_2_1 := dk_seg dksX0_goes_2_0 22 rfl rfl
theorem dksX0_goes_2_2 : cX0_goes_2.data.toList.drop 45 = dktX0_goes_2_2 := dk_seg dksX0_goes_2_1 23 rfl rfl
theorem dksX0_goes_2_3 : cX0_goes_2.data.toList.drop 69 = dktX0_goes_2_3 := dk_seg dksX0_goes_2_2 24 rfl rfl
theorem dksX0_goes_2_4 : cX0_goes_2.data.toList.drop 93 = dktX0_goes_2_4 := dk_seg dksX0_goes_2_3 24 rfl rfl
theorem dksX0_goes_2_5 : cX0_goes_2.data.toList.drop 115 = dktX0_goes_2_5 := dk_seg dksX0_goes_2_4 22 rfl rfl
theorem dX0_goes_2_0 : decode cX0_goes_2 0 = .ok (.aload_n 0, 1) := dk_42 (dk_at dksX0_goes_2_0 0 rfl rfl)
theorem dX0_goes_2_1 : decode cX0_goes_2 1 = .ok (.getfield 68, 3) := dk_180 0 68 (dk_at dksX0_goes_2_0 1 rfl rfl)
theorem dX0_goes_2_4 : decode cX0_goes_2 4 = .ok (.iload_n 1, 1) := dk_27 (dk_at dksX0_goes_2_0 4 rfl rfl)
theorem dX0_goes_2_5 : decode cX0_goes_2 5 = .ok (.iaload, 1) := dk_46 (dk_at dksX0_goes_2_0 5 rfl rfl)
theorem dX0_goes_2_6 : decode cX0_goes_2 6 = .ok (.istore_n 3, 1) := dk_62 (dk_at dksX0_goes_2_0 6 rfl rfl)
theorem dX0_goes_2_7 : decode cX0_goes_2 7 = .ok (.aload_n 0, 1) := dk_42 (dk_at dksX0_goes_2_0 7 rfl rfl)
theorem dX0_goes_2_8 : decode cX0_goes_2 8 = .ok (.iload_n 3, 1) := dk_29 (dk_at dksX0_goes_2_0 8 rfl rfl)
theorem dX0_goes_2_9 : decode cX0_goes_2 9 = .ok (.invokevirtual 218, 3) := dk_182 0 218 (dk_at dksX0_goes_2_0 9 rfl rfl)
theorem dX0_goes_2_12 : decode cX0_goes_2 12 = .ok (.istore 4, 2) := dk_54 4 (dk_at dksX0_goes_2_0 12 rfl rfl)
theorem dX0_goes_2_14 : decode cX0_goes_2 14 = .ok (.aload_n 0, 1) := dk_42 (dk_at dksX0_goes_2_0 14 rfl rfl)
theorem dX0_goes_2_15 : decode cX0_goes_2 15 = .ok (.getfield 65, 3) := dk_180 0 65 (dk_at dksX0_goes_2_0 15 rfl rfl)
theorem dX0_goes_2_18 : decode cX0_goes_2 18 = .ok (.iload_n 1, 1) := dk_27 (dk_at dksX0_goes_2_0 18 rfl rfl)
theorem dX0_goes_2_19 : decode cX0_goes_2 19 = .ok (.iload_n 3, 1) := dk_29 (dk_at dksX0_goes_2_0 19 rfl rfl)
theorem dX0_goes_2_20 : decode cX0_goes_2 20 = .ok (.iastore, 1) := dk_79 (dk_at dksX0_goes_2_0 20 rfl rfl)
theorem dX0_goes_2_21 : decode cX0_goes_2 21 = .ok (.aload_n 0, 1) := dk_42 (dk_at dksX0_goes_2_0 21 rfl rfl)
theorem dX0_goes_2_22 : decode cX0_goes_2 22 = .ok (.getfield 74, 3) := dk_180 0 74 (dk_at dksX0_goes_2_1 0 rfl rfl)
theorem dX0_goes_2_25 : decode cX0_goes_2 25 = .ok (.iload_n 1, 1) := dk_27 (dk_at dksX0_goes_2_1 3 rfl rfl)
theorem dX0_goes_2_26 : decode cX0_goes_2 26 = .ok (.iconst 0, 1) := dk_3 (dk_at dksX0_goes_2_1 4 rfl rfl)
theorem dX0_goes_2_27 : decode cX0_goes_2 27 = .ok (.aload_n 0, 1) := dk_42 (dk_at dksX0_goes_2_1 5 rfl rfl)
theorem dX0_goes_2_28 : decode cX0_goes_2 28 = .ok (.getfield 56, 3) := dk_180 0 56 (dk_at dksX0_goes_2_1 6 rfl rfl)
theorem dX0_goes_2_31 : decode cX0_goes_2 31 = .ok (.iload_n 1, 1) := dk_27 (dk_at dksX0_goes_2_1 9 rfl rfl)
theorem dX0_goes_2_32 : decode cX0_goes_2 32 = .ok (.iaload, 1) := dk_46 (dk_at dksX0_goes_2_1 10 rfl rfl)
theorem dX0_goes_2_33 : decode cX0_goes_2 33 = .ok (.aload_n 0, 1) := dk_42 (dk_at dksX0_goes_2_1 11 rfl rfl)
theorem dX0_goes_2_34 : decode cX0_goes_2 34 = .ok (.iload_n 3, 1) := dk_29 (dk_at dksX0_goes_2_1 12 rfl rfl)
theorem dX0_goes_2_35 : decode cX0_goes_2 35 = .ok (.invokevirtual 222, 3) := dk_182 0 222 (dk_at dksX0_goes_2_1 13 rfl rfl)
theorem dX0_goes_2_38 : decode cX0_goes_2 38 = .ok (.isub, 1) := dk_100 (dk_at dksX0_goes_2_1 16 rfl rfl)
theorem dX0_goes_2_39 : decode cX0_goes_2 39 = .ok (.invokestatic 225, 3) := dk_184 0 225 (dk_at dksX0_goes_2_1 17 rfl rfl)
theorem dX0_goes_2_42 : decode cX0_goes_2 42 = .ok (.iastore, 1) := dk_79 (dk_at dksX0_goes_2_1 20 rfl rfl)
theorem dX0_goes_2_43 : decode cX0_goes_2 43 = .ok (.aload_n 0, 1) := dk_42 (dk_at dksX0_goes_2_1 21 rfl rfl)
theorem dX0_goes_2_44 : decode cX0_goes_2 44 = .ok (.iconst 0, 1) := dk_3 (dk_at dksX0_goes_2_1 22 rfl rfl)
theorem dX0_goes_2_45 : decode cX0_goes_2 45 = .ok (.putfield 231, 3) := dk_181 0 231 (dk_at dksX0_goes_2_2 0 rfl rfl)
theorem dX0_goes_2_48 : decode cX0_goes_2 48 = .ok (.aload_n 0, 1) := dk_42 (dk_at dksX0_goes_2_2 3 rfl rfl)
theorem dX0_goes_2_49 : decode cX0_goes_2 49 = .ok (.getfield 52, 3) := dk_180 0 52 (dk_at dksX0_goes_2_2 4 rfl rfl)
theorem dX0_goes_2_52 : decode cX0_goes_2 52 = .ok (.iload_n 3, 1) := dk_29 (dk_at dksX0_goes_2_2 7 rfl rfl)
theorem dX0_goes_2_53 : decode cX0_goes_2 53 = .ok (.aload_n 0, 1) := dk_42 (dk_at dksX0_goes_2_2 8 rfl rfl)
theorem dX0_goes_2_54 : decode cX0_goes_2 54 = .ok (.getfield 56, 3) := dk_180 0 56 (dk_at dksX0_goes_2_2 9 rfl rfl)
theorem dX0_goes_2_57 : decode cX0_goes_2 57 = .ok (.iload_n 1, 1) := dk_27 (dk_at dksX0_goes_2_2 12 rfl rfl)
theorem dX0_goes_2_58 : decode cX0_goes_2 58 = .ok (.iaload, 1) := dk_46 (dk_at dksX0_goes_2_2 13 rfl rfl)
theorem dX0_goes_2_59 : decode cX0_goes_2 59 = .ok (.iload_n 2, 1) := dk_28 (dk_at dksX0_goes_2_2 14 rfl rfl)
theorem dX0_goes_2_60 : decode cX0_goes_2 60 = .ok (.invokevirtual 234, 3) := dk_182 0 234 (dk_at dksX0_goes_2_2 15 rfl rfl)
theorem dX0_goes_2_63 : decode cX0_goes_2 63 = .ok (.aload_n 0, 1) := dk_42 (dk_at dksX0_goes_2_2 18 rfl rfl)
theorem dX0_goes_2_64 : decode cX0_goes_2 64 = .ok (.getfield 80, 3) := dk_180 0 80 (dk_at dksX0_goes_2_2 19 rfl rfl)
theorem dX0_goes_2_67 : decode cX0_goes_2 67 = .ok (.iload_n 1, 1) := dk_27 (dk_at dksX0_goes_2_2 22 rfl rfl)
theorem dX0_goes_2_68 : decode cX0_goes_2 68 = .ok (.aload_n 0, 1) := dk_42 (dk_at dksX0_goes_2_2 23 rfl rfl)
theorem dX0_goes_2_69 : decode cX0_goes_2 69 = .ok (.getfield 231, 3) := dk_180 0 231 (dk_at dksX0_goes_2_3 0 rfl rfl)
theorem dX0_goes_2_72 : decode cX0_goes_2 72 = .ok (.iastore, 1) := dk_79 (dk_at dksX0_goes_2_3 3 rfl rfl)
theorem dX0_goes_2_73 : decode cX0_goes_2 73 = .ok (.aload_n 0, 1) := dk_42 (dk_at dksX0_goes_2_3 4 rfl rfl)
theorem dX0_goes_2_74 : decode cX0_goes_2 74 = .ok (.getfield 71, 3) := dk_180 0 71 (dk_at dksX0_goes_2_3 5 rfl rfl)
theorem dX0_goes_2_77 : decode cX0_goes_2 77 = .ok (.iload_n 1, 1) := dk_27 (dk_at dksX0_goes_2_3 8 rfl rfl)
theorem dX0_goes_2_78 : decode cX0_goes_2 78 = .ok (.aload_n 0, 1) := dk_42 (dk_at dksX0_goes_2_3 9 rfl rfl)
theorem dX0_goes_2_79 : decode cX0_goes_2 79 = .ok (.iload_n 3, 1) := dk_29 (dk_at dksX0_goes_2_3 10 rfl rfl)
theorem dX0_goes_2_80 : decode cX0_goes_2 80 = .ok (.invokevirtual 218, 3) := dk_182 0 218 (dk_at dksX0_goes_2_3 11 rfl rfl)
theorem dX0_goes_2_83 : decode cX0_goes_2 83 = .ok (.iload 4, 2) := dk_21 4 (dk_at dksX0_goes_2_3 14 rfl rfl)
theorem dX0_goes_2_85 : decode cX0_goes_2 85 = .ok (.isub, 1) := dk_100 (dk_at dksX0_goes_2_3 16 rfl rfl)
theorem dX0_goes_2_86 : decode cX0_goes_2 86 = .ok (.iastore, 1) := dk_79 (dk_at dksX0_goes_2_3 17 rfl rfl)
theorem dX0_goes_2_87 : decode cX0_goes_2 87 = .ok (.aload_n 0, 1) := dk_42 (dk_at dksX0_goes_2_3 18 rfl rfl)
theorem dX0_goes_2_88 : decode cX0_goes_2 88 = .ok (.getfield 77, 3) := dk_180 0 77 (dk_at dksX0_goes_2_3 19 rfl rfl)
theorem dX0_goes_2_91 : decode cX0_goes_2 91 = .ok (.iload_n 1, 1) := dk_27 (dk_at dksX0_goes_2_3 22 rfl rfl)
theorem dX0_goes_2_92 : decode cX0_goes_2 92 = .ok (.aload_n 0, 1) := dk_42 (dk_at dksX0_goes_2_3 23 rfl rfl)
theorem dX0_goes_2_93 : decode cX0_goes_2 93 = .ok (.getfield 10, 3) := dk_180 0 10 (dk_at dksX0_goes_2_4 0 rfl rfl)
theorem dX0_goes_2_96 : decode cX0_goes_2 96 = .ok (.getfield 177, 3) := dk_180 0 177 (dk_at dksX0_goes_2_4 3 rfl rfl)
theorem dX0_goes_2_99 : decode cX0_goes_2 99 = .ok (.iload_n 3, 1) := dk_29 (dk_at dksX0_goes_2_4 6 rfl rfl)
theorem dX0_goes_2_100 : decode cX0_goes_2 100 = .ok (.iaload, 1) := dk_46 (dk_at dksX0_goes_2_4 7 rfl rfl)
theorem dX0_goes_2_101 : decode cX0_goes_2 101 = .ok (.iconst 0, 1) := dk_3 (dk_at dksX0_goes_2_4 8 rfl rfl)
theorem dX0_goes_2_102 : decode cX0_goes_2 102 = .ok (.aload_n 0, 1) := dk_42 (dk_at dksX0_goes_2_4 9 rfl rfl)
theorem dX0_goes_2_103 : decode cX0_goes_2 103 = .ok (.getfield 71, 3) := dk_180 0 71 (dk_at dksX0_goes_2_4 10 rfl rfl)
theorem dX0_goes_2_106 : decode cX0_goes_2 106 = .ok (.iload_n 1, 1) := dk_27 (dk_at dksX0_goes_2_4 13 rfl rfl)
theorem dX0_goes_2_107 : decode cX0_goes_2 107 = .ok (.iaload, 1) := dk_46 (dk_at dksX0_goes_2_4 14 rfl rfl)
theorem dX0_goes_2_108 : decode cX0_goes_2 108 = .ok (.invokestatic 225, 3) := dk_184 0 225 (dk_at dksX0_goes_2_4 15 rfl rfl)
theorem dX0_goes_2_111 : decode cX0_goes_2 111 = .ok (.imul, 1) := dk_104 (dk_at dksX0_goes_2_4 18 rfl rfl)
theorem dX0_goes_2_112 : decode cX0_goes_2 112 = .ok (.iastore, 1) := dk_79 (dk_at dksX0_goes_2_4 19 rfl rfl)
theorem dX0_goes_2_113 : decode cX0_goes_2 113 = .ok (.aload_n 0, 1) := dk_42 (dk_at dksX0_goes_2_4 20 rfl rfl)
theorem dX0_goes_2_114 : decode cX0_goes_2 114 = .ok (.iload_n 3, 1) := dk_29 (dk_at dksX0_goes_2_4 21 rfl rfl)
theorem dX0_goes_2_115 : decode cX0_goes_2 115 = .ok (.invokevirtual 218, 3) := dk_182 0 218 (dk_at dksX0_goes_2_5 0 rfl rfl)
theorem dX0_goes_2_118 : decode cX0_goes_2 118 = .ok (.aload_n 0, 1) := dk_42 (dk_at dksX0_goes_2_5 3 rfl rfl)
theorem dX0_goes_2_119 : decode cX0_goes_2 119 = .ok (.getfield 10, 3) := dk_180 0 10 (dk_at dksX0_goes_2_5 4 rfl rfl)
theorem dX0_goes_2_122 : decode cX0_goes_2 122 = .ok (.getfield 174, 3) := dk_180 0 174 (dk_at dksX0_goes_2_5 7 rfl rfl)
theorem dX0_goes_2_125 : decode cX0_goes_2 125 = .ok (.iload_n 3, 1) := dk_29 (dk_at dksX0_goes_2_5 10 rfl rfl)
theorem dX0_goes_2_126 : decode cX0_goes_2 126 = .ok (.iaload, 1) := dk_46 (dk_at dksX0_goes_2_5 11 rfl rfl)
theorem dX0_goes_2_127 : decode cX0_goes_2 127 = .ok (.if_icmp .le 10, 3) := dk_164 0 10 (dk_at dksX0_goes_2_5 12 rfl rfl)
theorem dX0_goes_2_130 : decode cX0_goes_2 130 = .ok (.aload_n 0, 1) := dk_42 (dk_at dksX0_goes_2_5 15 rfl rfl)
theorem dX0_goes_2_131 : decode cX0_goes_2 131 = .ok (.getfield 83, 3) := dk_180 0 83 (dk_at dksX0_goes_2_5 16 rfl rfl)
theorem dX0_goes_2_134 : decode cX0_goes_2 134 = .ok (.iload_n 3, 1) := dk_29 (dk_at dksX0_goes_2_5 19 rfl rfl)
theorem dX0_goes_2_135 : decode cX0_goes_2 135 = .ok (.iload_n 1, 1) := dk_27 (dk_at dksX0_goes_2_5 20 rfl rfl)
theorem dX0_goes_2_136 : decode cX0_goes_2 136 = .ok (.iastore, 1) := dk_79 (dk_at dksX0_goes_2_5 21 rfl rfl)
theorem dX0_goes_2_137 : decode cX0_goes_2 137 = .ok (.return_, 1) := dk_177 (dk_at dksX0_goes_2_5 22 rfl rfl)
abbrev cX0_sagOf : ByteArray := prog_1_method_21_code
def yX0_sagOf : MethodName := ⟨RX0, "sagOf", "(I)I"⟩
def dkwX0_sagOf_1 : List UInt8 := [96, 46, 29, 4, 96, 108, 96, 61, 132, 3, 1, 167, 255, 225, 28, 172]
abbrev dktX0_sagOf_1 : List UInt8 := dkwX0_sagOf_1 ++ []
def dkwX0_sagOf_0 : List UInt8 := [3, 61, 3, 62, 29, 42, 180, 0, 31, 27, 46, 162, 0, 27, 28, 42, 180, 0, 24, 16, 8, 27, 104, 29]
abbrev dktX0_sagOf_0 : List UInt8 := dkwX0_sagOf_0 ++ dktX0_sagOf_1
theorem dksX0_sagOf_0 : cX0_sagOf.data.toList.drop 0 = dktX0_sagOf_0 := by decide +kernel
theorem dksX0_sagOf_1 : cX0_sagOf.data.toList.drop 24 = dktX0_sagOf_1 := dk_seg dksX0_sagOf_0 24 rfl rfl
theorem dX0_sagOf_0 : decode cX0_sagOf 0 = .ok (.iconst 0, 1) := dk_3 (dk_at dksX0_sagOf_0 0 rfl rfl)
theorem dX0_sagOf_1 : decode cX0_sagOf 1 = .ok (.istore_n 2, 1) := dk_61 (dk_at dksX0_sagOf_0 1 rfl rfl)
theorem dX0_sagOf_2 : decode cX0_sagOf 2 = .ok (.iconst 0, 1) := dk_3 (dk_at dksX0_sagOf_0 2 rfl rfl)
theorem dX0_sagOf_3 : decode cX0_sagOf 3 = .ok (.istore_n 3, 1) := dk_62 (dk_at dksX0_sagOf_0 3 rfl rfl)
theorem dX0_sagOf_4 : decode cX0_sagOf 4 = .ok (.iload_n 3, 1) := dk_29 (dk_at dksX0_sagOf_0 4 rfl rfl)
theorem dX0_sagOf_5 : decode cX0_sagOf 5 = .ok (.aload_n 0, 1) := dk_42 (dk_at dksX0_sagOf_0 5 rfl rfl)
theorem dX0_sagOf_6 : decode cX0_sagOf 6 = .ok (.getfield 31, 3) := dk_180 0 31 (dk_at dksX0_sagOf_0 6 rfl rfl)
theorem dX0_sagOf_9 : decode cX0_sagOf 9 = .ok (.iload_n 1, 1) := dk_27 (dk_at dksX0_sagOf_0 9 rfl rfl)
theorem dX0_sagOf_10 : decode cX0_sagOf 10 = .ok (.iaload, 1) := dk_46 (dk_at dksX0_sagOf_0 10 rfl rfl)
theorem dX0_sagOf_11 : decode cX0_sagOf 11 = .ok (.if_icmp .ge 27, 3) := dk_162 0 27 (dk_at dksX0_sagOf_0 11 rfl rfl)
theorem dX0_sagOf_14 : decode cX0_sagOf 14 = .ok (.iload_n 2, 1) := dk_28 (dk_at dksX0_sagOf_0 14 rfl rfl)
theorem dX0_sagOf_15 : decode cX0_sagOf 15 = .ok (.aload_n 0, 1) := dk_42 (dk_at dksX0_sagOf_0 15 rfl rfl)
theorem dX0_sagOf_16 : decode cX0_sagOf 16 = .ok (.getfield 24, 3) := dk_180 0 24 (dk_at dksX0_sagOf_0 16 rfl rfl)
theorem dX0_sagOf_19 : decode cX0_sagOf 19 = .ok (.bipush 8, 2) := dk_16 8 (dk_at dksX0_sagOf_0 19 rfl rfl)
theorem dX0_sagOf_21 : decode cX0_sagOf 21 = .ok (.iload_n 1, 1) := dk_27 (dk_at dksX0_sagOf_0 21 rfl rfl)
theorem dX0_sagOf_22 : decode cX0_sagOf 22 = .ok (.imul, 1) := dk_104 (dk_at dksX0_sagOf_0 22 rfl rfl)
theorem dX0_sagOf_23 : decode cX0_sagOf 23 = .ok (.iload_n 3, 1) := dk_29 (dk_at dksX0_sagOf_0 23 rfl rfl)
theorem dX0_sagOf_24 : decode cX0_sagOf 24 = .ok (.iadd, 1) := dk_96 (dk_at dksX0_sagOf_1 0 rfl rfl)
theorem dX0_sagOf_25 : decode cX0_sagOf 25 = .ok (.iaload, 1) := dk_46 (dk_at dksX0_sagOf_1 1 rfl rfl)
theorem dX0_sagOf_26 : decode cX0_sagOf 26 = .ok (.iload_n 3, 1) := dk_29 (dk_at dksX0_sagOf_1 2 rfl rfl)
theorem dX0_sagOf_27 : decode cX0_sagOf 27 = .ok (.iconst 1, 1) := dk_4 (dk_at dksX0_sagOf_1 3 rfl rfl)
theorem dX0_sagOf_28 : decode cX0_sagOf 28 = .ok (.iadd, 1) := dk_96 (dk_at dksX0_sagOf_1 4 rfl rfl)
theorem dX0_sagOf_29 : decode cX0_sagOf 29 = .ok (.idiv, 1) := dk_108 (dk_at dksX0_sagOf_1 5 rfl rfl)
theorem dX0_sagOf_30 : decode cX0_sagOf 30 = .ok (.iadd, 1) := dk_96 (dk_at dksX0_sagOf_1 6 rfl rfl)
theorem dX0_sagOf_31 : decode cX0_sagOf 31 = .ok (.istore_n 2, 1) := dk_61 (dk_at dksX0_sagOf_1 7 rfl rfl)
theorem dX0_sagOf_32 : decode cX0_sagOf 32 = .ok (.iinc 3 1, 3) := dk_132 3 1 (dk_at dksX0_sagOf_1 8 rfl rfl)
theorem dX0_sagOf_35 : decode cX0_sagOf 35 = .ok (.goto (-31), 3) := dk_167 255 225 (dk_at dksX0_sagOf_1 11 rfl rfl)
theorem dX0_sagOf_38 : decode cX0_sagOf 38 = .ok (.iload_n 2, 1) := dk_28 (dk_at dksX0_sagOf_1 14 rfl rfl)
theorem dX0_sagOf_39 : decode cX0_sagOf 39 = .ok (.ireturn, 1) := dk_172 (dk_at dksX0_sagOf_1 15 rfl rfl)
abbrev cX0_lastOf : ByteArray := prog_1_method_20_code
def yX0_lastOf : MethodName := ⟨RX0, "lastOf", "(I)I"⟩
def dkwX0_lastOf_1 : List UInt8 := [180, 0, 31, 27, 46, 96, 4, 100, 46, 172]
abbrev dktX0_lastOf_1 : List UInt8 := dkwX0_lastOf_1 ++ []
def dkwX0_lastOf_0 : List UInt8 := [42, 180, 0, 31, 27, 46, 154, 0, 7, 3, 167, 0, 21, 42, 180, 0, 24, 16, 8, 27, 104, 42]
abbrev dktX0_lastOf_0 : List UInt8 := dkwX0_lastOf_0 ++ dktX0_lastOf_1
theorem dksX0_lastOf_0 : cX0_lastOf.data.toList.drop 0 = dktX0_lastOf_0 := by decide +kernel
theorem dksX0_lastOf_1 : cX0_lastOf.data.toList.drop 22 = dktX0_lastOf_1 := dk_seg dksX0_lastOf_0 22 rfl rfl
theorem dX0_lastOf_0 : decode cX0_lastOf 0 = .ok (.aload_n 0, 1) := dk_42 (dk_at dksX0_lastOf_0 0 rfl rfl)
theorem dX0_lastOf_1 : decode cX0_lastOf 1 = .ok (.getfield 31, 3) := dk_180 0 31 (dk_at dksX0_lastOf_0 1 rfl rfl)
theorem dX0_lastOf_4 : decode cX0_lastOf 4 = .ok (.iload_n 1, 1) := dk_27 (dk_at dksX0_lastOf_0 4 rfl rfl)
theorem dX0_lastOf_5 : decode cX0_lastOf 5 = .ok (.iaload, 1) := dk_46 (dk_at dksX0_lastOf_0 5 rfl rfl)
theorem dX0_lastOf_6 : decode cX0_lastOf 6 = .ok (.ifCond .ne 7, 3) := dk_154 0 7 (dk_at dksX0_lastOf_0 6 rfl rfl)
theorem dX0_lastOf_9 : decode cX0_lastOf 9 = .ok (.iconst 0, 1) := dk_3 (dk_at dksX0_lastOf_0 9 rfl rfl)
theorem dX0_lastOf_10 : decode cX0_lastOf 10 = .ok (.goto 21, 3) := dk_167 0 21 (dk_at dksX0_lastOf_0 10 rfl rfl)
theorem dX0_lastOf_13 : decode cX0_lastOf 13 = .ok (.aload_n 0, 1) := dk_42 (dk_at dksX0_lastOf_0 13 rfl rfl)
theorem dX0_lastOf_14 : decode cX0_lastOf 14 = .ok (.getfield 24, 3) := dk_180 0 24 (dk_at dksX0_lastOf_0 14 rfl rfl)
theorem dX0_lastOf_17 : decode cX0_lastOf 17 = .ok (.bipush 8, 2) := dk_16 8 (dk_at dksX0_lastOf_0 17 rfl rfl)
theorem dX0_lastOf_19 : decode cX0_lastOf 19 = .ok (.iload_n 1, 1) := dk_27 (dk_at dksX0_lastOf_0 19 rfl rfl)
theorem dX0_lastOf_20 : decode cX0_lastOf 20 = .ok (.imul, 1) := dk_104 (dk_at dksX0_lastOf_0 20 rfl rfl)
theorem dX0_lastOf_21 : decode cX0_lastOf 21 = .ok (.aload_n 0, 1) := dk_42 (dk_at dksX0_lastOf_0 21 rfl rfl)
theorem dX0_lastOf_22 : decode cX0_lastOf 22 = .ok (.getfield 31, 3) := dk_180 0 31 (dk_at dksX0_lastOf_1 0 rfl rfl)
theorem dX0_lastOf_25 : decode cX0_lastOf 25 = .ok (.iload_n 1, 1) := dk_27 (dk_at dksX0_lastOf_1 3 rfl rfl)
theorem dX0_lastOf_26 : decode cX0_lastOf 26 = .ok (.iaload, 1) := dk_46 (dk_at dksX0_lastOf_1 4 rfl rfl)
theorem dX0_lastOf_27 : decode cX0_lastOf 27 = .ok (.iadd, 1) := dk_96 (dk_at dksX0_lastOf_1 5 rfl rfl)
theorem dX0_lastOf_28 : decode cX0_lastOf 28 = .ok (.iconst 1, 1) := dk_4 (dk_at dksX0_lastOf_1 6 rfl rfl)
theorem dX0_lastOf_29 : decode cX0_lastOf 29 = .ok (.isub, 1) := dk_100 (dk_at dksX0_lastOf_1 7 rfl rfl)
theorem dX0_lastOf_30 : decode cX0_lastOf 30 = .ok (.iaload, 1) := dk_46 (dk_at dksX0_lastOf_1 8 rfl rfl)
theorem dX0_lastOf_31 : decode cX0_lastOf 31 = .ok (.ireturn, 1) := dk_172 (dk_at dksX0_lastOf_1 9 rfl rfl)
abbrev cX0_isValley : ByteArray := prog_1_method_9_code
def yX0_isValley : MethodName := ⟨RX0, "isValley", "()Z"⟩
def dkwX0_isValley_0 : List UInt8 := [42, 180, 0, 10, 180, 0, 142, 158, 0, 7, 4, 167, 0, 4, 3, 172]
abbrev dktX0_isValley_0 : List UInt8 := dkwX0_isValley_0 ++ []
theorem dksX0_isValley_0 : cX0_isValley.data.toList.drop 0 = dktX0_isValley_0 := by decide +kernel
theorem dX0_isValley_0 : decode cX0_isValley 0 = .ok (.aload_n 0, 1) := dk_42 (dk_at dksX0_isValley_0 0 rfl rfl)
theorem dX0_isValley_1 : decode cX0_isValley 1 = .ok (.getfield 10, 3) := dk_180 0 10 (dk_at dksX0_isValley_0 1 rfl rfl)
theorem dX0_isValley_4 : decode cX0_isValley 4 = .ok (.getfield 142, 3) := dk_180 0 142 (dk_at dksX0_isValley_0 4 rfl rfl)
theorem dX0_isValley_7 : decode cX0_isValley 7 = .ok (.ifCond .le 7, 3) := dk_158 0 7 (dk_at dksX0_isValley_0 7 rfl rfl)
theorem dX0_isValley_10 : decode cX0_isValley 10 = .ok (.iconst 1, 1) := dk_4 (dk_at dksX0_isValley_0 10 rfl rfl)
theorem dX0_isValley_11 : decode cX0_isValley 11 = .ok (.goto 4, 3) := dk_167 0 4 (dk_at dksX0_isValley_0 11 rfl rfl)
theorem dX0_isValley_14 : decode cX0_isValley 14 = .ok (.iconst 0, 1) := dk_3 (dk_at dksX0_isValley_0 14 rfl rfl)
theorem dX0_isValley_15 : decode cX0_isValley 15 = .ok (.ireturn, 1) := dk_172 (dk_at dksX0_isValley_0 15 rfl rfl)
abbrev cX0_comes : ByteArray := prog_1_method_35_code
def yX0_comes : MethodName := ⟨RX0, "comes", "(I)I"⟩
def dkwX0_comes_0 : List UInt8 := [42, 27, 182, 1, 7, 153, 0, 12, 42, 180, 0, 68, 27, 46, 167, 0, 5, 16, 254, 172]
abbrev dktX0_comes_0 : List UInt8 := dkwX0_comes_0 ++ []
theorem dksX0_comes_0 : cX0_comes.data.toList.drop 0 = dktX0_comes_0 := by decide +kernel
theorem dX0_comes_0 : decode cX0_comes 0 = .ok (.aload_n 0, 1) := dk_42 (dk_at dksX0_comes_0 0 rfl rfl)
theorem dX0_comes_1 : decode cX0_comes 1 = .ok (.iload_n 1, 1) := dk_27 (dk_at dksX0_comes_0 1 rfl rfl)
theorem dX0_comes_2 : decode cX0_comes 2 = .ok (.invokevirtual 263, 3) := dk_182 1 7 (dk_at dksX0_comes_0 2 rfl rfl)
theorem dX0_comes_5 : decode cX0_comes 5 = .ok (.ifCond .eq 12, 3) := dk_153 0 12 (dk_at dksX0_comes_0 5 rfl rfl)
theorem dX0_comes_8 : decode cX0_comes 8 = .ok (.aload_n 0, 1) := dk_42 (dk_at dksX0_comes_0 8 rfl rfl)
theorem dX0_comes_9 : decode cX0_comes 9 = .ok (.getfield 68, 3) := dk_180 0 68 (dk_at dksX0_comes_0 9 rfl rfl)
theorem dX0_comes_12 : decode cX0_comes 12 = .ok (.iload_n 1, 1) := dk_27 (dk_at dksX0_comes_0 12 rfl rfl)
theorem dX0_comes_13 : decode cX0_comes 13 = .ok (.iaload, 1) := dk_46 (dk_at dksX0_comes_0 13 rfl rfl)
theorem dX0_comes_14 : decode cX0_comes 14 = .ok (.goto 5, 3) := dk_167 0 5 (dk_at dksX0_comes_0 14 rfl rfl)
theorem dX0_comes_17 : decode cX0_comes 17 = .ok (.bipush (-2), 2) := dk_16 254 (dk_at dksX0_comes_0 17 rfl rfl)
theorem dX0_comes_19 : decode cX0_comes 19 = .ok (.ireturn, 1) := dk_172 (dk_at dksX0_comes_0 19 rfl rfl)
abbrev cX0_over : ByteArray := prog_1_method_37_code
def yX0_over : MethodName := ⟨RX0, "over", "(I)I"⟩
def dkwX0_over_0 : List UInt8 := [42, 27, 182, 1, 15, 153, 0, 11, 42, 27, 182, 1, 18, 167, 0, 5, 16, 254, 172]
abbrev dktX0_over_0 : List UInt8 := dkwX0_over_0 ++ []
theorem dksX0_over_0 : cX0_over.data.toList.drop 0 = dktX0_over_0 := by decide +kernel
theorem dX0_over_0 : decode cX0_over 0 = .ok (.aload_n 0, 1) := dk_42 (dk_at dksX0_over_0 0 rfl rfl)
theorem dX0_over_1 : decode cX0_over 1 = .ok (.iload_n 1, 1) := dk_27 (dk_at dksX0_over_0 1 rfl rfl)
theorem dX0_over_2 : decode cX0_over 2 = .ok (.invokevirtual 271, 3) := dk_182 1 15 (dk_at dksX0_over_0 2 rfl rfl)
theorem dX0_over_5 : decode cX0_over 5 = .ok (.ifCond .eq 11, 3) := dk_153 0 11 (dk_at dksX0_over_0 5 rfl rfl)
theorem dX0_over_8 : decode cX0_over 8 = .ok (.aload_n 0, 1) := dk_42 (dk_at dksX0_over_0 8 rfl rfl)
theorem dX0_over_9 : decode cX0_over 9 = .ok (.iload_n 1, 1) := dk_27 (dk_at dksX0_over_0 9 rfl rfl)
theorem dX0_over_10 : decode cX0_over 10 = .ok (.invokevirtual 274, 3) := dk_182 1 18 (dk_at dksX0_over_0 10 rfl rfl)
theorem dX0_over_13 : decode cX0_over 13 = .ok (.goto 5, 3) := dk_167 0 5 (dk_at dksX0_over_0 13 rfl rfl)
theorem dX0_over_16 : decode cX0_over 16 = .ok (.bipush (-2), 2) := dk_16 254 (dk_at dksX0_over_0 16 rfl rfl)
theorem dX0_over_18 : decode cX0_over 18 = .ok (.ireturn, 1) := dk_172 (dk_at dksX0_over_0 18 rfl rfl)
abbrev cX0_asksBridge : ByteArray := prog_1_method_29_code
def yX0_asksBridge : MethodName := ⟨RX0, "asksBridge", "(I)Z"⟩
def dkwX0_asksBridge_0 : List UInt8 := [42, 182, 1, 4, 87, 42, 27, 133, 182, 0, 167, 172]
abbrev dktX0_asksBridge_0 : List UInt8 := dkwX0_asksBridge_0 ++ []
theorem dksX0_asksBridge_0 : cX0_asksBridge.data.toList.drop 0 = dktX0_asksBridge_0 := by decide +kernel
theorem dX0_asksBridge_0 : decode cX0_asksBridge 0 = .ok (.aload_n 0, 1) := dk_42 (dk_at dksX0_asksBridge_0 0 rfl rfl)
theorem dX0_asksBridge_1 : decode cX0_asksBridge 1 = .ok (.invokevirtual 260, 3) := dk_182 1 4 (dk_at dksX0_asksBridge_0 1 rfl rfl)
theorem dX0_asksBridge_4 : decode cX0_asksBridge 4 = .ok (.pop, 1) := dk_87 (dk_at dksX0_asksBridge_0 4 rfl rfl)
theorem dX0_asksBridge_5 : decode cX0_asksBridge 5 = .ok (.aload_n 0, 1) := dk_42 (dk_at dksX0_asksBridge_0 5 rfl rfl)
theorem dX0_asksBridge_6 : decode cX0_asksBridge 6 = .ok (.iload_n 1, 1) := dk_27 (dk_at dksX0_asksBridge_0 6 rfl rfl)
theorem dX0_asksBridge_7 : decode cX0_asksBridge 7 = .ok (.i2l, 1) := dk_133 (dk_at dksX0_asksBridge_0 7 rfl rfl)
theorem dX0_asksBridge_8 : decode cX0_asksBridge 8 = .ok (.invokevirtual 167, 3) := dk_182 0 167 (dk_at dksX0_asksBridge_0 8 rfl rfl)
theorem dX0_asksBridge_11 : decode cX0_asksBridge 11 = .ok (.ireturn, 1) := dk_172 (dk_at dksX0_asksBridge_0 11 rfl rfl)
abbrev cX0_overOf : ByteArray := prog_1_method_36_code
def yX0_overOf : MethodName := ⟨RX0, "overOf", "(I)I"⟩
def dkwX0_overOf_1 : List UInt8 := [160, 0, 9, 4, 29, 120, 167, 0, 4, 3, 128, 61, 132, 3, 1, 167, 255, 222, 28, 172]
abbrev dktX0_overOf_1 : List UInt8 := dkwX0_overOf_1 ++ []
def dkwX0_overOf_0 : List UInt8 := [3, 61, 3, 62, 29, 42, 180, 0, 10, 180, 0, 156, 162, 0, 29, 28, 42, 180, 0, 65, 29, 46, 27]
abbrev dktX0_overOf_0 : List UInt8 := dkwX0_overOf_0 ++ dktX0_overOf_1
theorem dksX0_overOf_0 : cX0_overOf.data.toList.drop 0 = dktX0_overOf_0 := by decide +kernel
theorem dksX0_overOf_1 : cX0_overOf.data.toList.drop 23 = dktX0_overOf_1 := dk_seg dksX0_overOf_0 23 rfl rfl
theorem dX0_overOf_0 : decode cX0_overOf 0 = .ok (.iconst 0, 1) := dk_3 (dk_at dksX0_overOf_0 0 rfl rfl)
theorem dX0_overOf_1 : decode cX0_overOf 1 = .ok (.istore_n 2, 1) := dk_61 (dk_at dksX0_overOf_0 1 rfl rfl)
theorem dX0_overOf_2 : decode cX0_overOf 2 = .ok (.iconst 0, 1) := dk_3 (dk_at dksX0_overOf_0 2 rfl rfl)
theorem dX0_overOf_3 : decode cX0_overOf 3 = .ok (.istore_n 3, 1) := dk_62 (dk_at dksX0_overOf_0 3 rfl rfl)
theorem dX0_overOf_4 : decode cX0_overOf 4 = .ok (.iload_n 3, 1) := dk_29 (dk_at dksX0_overOf_0 4 rfl rfl)
theorem dX0_overOf_5 : decode cX0_overOf 5 = .ok (.aload_n 0, 1) := dk_42 (dk_at dksX0_overOf_0 5 rfl rfl)
theorem dX0_overOf_6 : decode cX0_overOf 6 = .ok (.getfield 10, 3) := dk_180 0 10 (dk_at dksX0_overOf_0 6 rfl rfl)
theorem dX0_overOf_9 : decode cX0_overOf 9 = .ok (.getfield 156, 3) := dk_180 0 156 (dk_at dksX0_overOf_0 9 rfl rfl)
theorem dX0_overOf_12 : decode cX0_overOf 12 = .ok (.if_icmp .ge 29, 3) := dk_162 0 29 (dk_at dksX0_overOf_0 12 rfl rfl)
theorem dX0_overOf_15 : decode cX0_overOf 15 = .ok (.iload_n 2, 1) := dk_28 (dk_at dksX0_overOf_0 15 rfl rfl)
theorem dX0_overOf_16 : decode cX0_overOf 16 = .ok (.aload_n 0, 1) := dk_42 (dk_at dksX0_overOf_0 16 rfl rfl)
theorem dX0_overOf_17 : decode cX0_overOf 17 = .ok (.getfield 65, 3) := dk_180 0 65 (dk_at dksX0_overOf_0 17 rfl rfl)
theorem dX0_overOf_20 : decode cX0_overOf 20 = .ok (.iload_n 3, 1) := dk_29 (dk_at dksX0_overOf_0 20 rfl rfl)
theorem dX0_overOf_21 : decode cX0_overOf 21 = .ok (.iaload, 1) := dk_46 (dk_at dksX0_overOf_0 21 rfl rfl)
theorem dX0_overOf_22 : decode cX0_overOf 22 = .ok (.iload_n 1, 1) := dk_27 (dk_at dksX0_overOf_0 22 rfl rfl)
theorem dX0_overOf_23 : decode cX0_overOf 23 = .ok (.if_icmp .ne 9, 3) := dk_160 0 9 (dk_at dksX0_overOf_1 0 rfl rfl)
theorem dX0_overOf_26 : decode cX0_overOf 26 = .ok (.iconst 1, 1) := dk_4 (dk_at dksX0_overOf_1 3 rfl rfl)
theorem dX0_overOf_27 : decode cX0_overOf 27 = .ok (.iload_n 3, 1) := dk_29 (dk_at dksX0_overOf_1 4 rfl rfl)
theorem dX0_overOf_28 : decode cX0_overOf 28 = .ok (.ishl, 1) := dk_120 (dk_at dksX0_overOf_1 5 rfl rfl)
theorem dX0_overOf_29 : decode cX0_overOf 29 = .ok (.goto 4, 3) := dk_167 0 4 (dk_at dksX0_overOf_1 6 rfl rfl)
theorem dX0_overOf_32 : decode cX0_overOf 32 = .ok (.iconst 0, 1) := dk_3 (dk_at dksX0_overOf_1 9 rfl rfl)
theorem dX0_overOf_33 : decode cX0_overOf 33 = .ok (.ior, 1) := dk_128 (dk_at dksX0_overOf_1 10 rfl rfl)
theorem dX0_overOf_34 : decode cX0_overOf 34 = .ok (.istore_n 2, 1) := dk_61 (dk_at dksX0_overOf_1 11 rfl rfl)
theorem dX0_overOf_35 : decode cX0_overOf 35 = .ok (.iinc 3 1, 3) := dk_132 3 1 (dk_at dksX0_overOf_1 12 rfl rfl)
theorem dX0_overOf_38 : decode cX0_overOf 38 = .ok (.goto (-34), 3) := dk_167 255 222 (dk_at dksX0_overOf_1 15 rfl rfl)
theorem dX0_overOf_41 : decode cX0_overOf 41 = .ok (.iload_n 2, 1) := dk_28 (dk_at dksX0_overOf_1 18 rfl rfl)
theorem dX0_overOf_42 : decode cX0_overOf 42 = .ok (.ireturn, 1) := dk_172 (dk_at dksX0_overOf_1 19 rfl rfl)
abbrev cX0_waits : ByteArray := prog_1_method_38_code
def yX0_waits : MethodName := ⟨RX0, "waits", "()I"⟩
def dkwX0_waits_0 : List UInt8 := [42, 182, 1, 4, 153, 0, 11, 42, 2, 182, 1, 18, 167, 0, 5, 16, 254, 172]
abbrev dktX0_waits_0 : List UInt8 := dkwX0_waits_0 ++ []
theorem dksX0_waits_0 : cX0_waits.data.toList.drop 0 = dktX0_waits_0 := by decide +kernel
theorem dX0_waits_0 : decode cX0_waits 0 = .ok (.aload_n 0, 1) := dk_42 (dk_at dksX0_waits_0 0 rfl rfl)
theorem dX0_waits_1 : decode cX0_waits 1 = .ok (.invokevirtual 260, 3) := dk_182 1 4 (dk_at dksX0_waits_0 1 rfl rfl)
theorem dX0_waits_4 : decode cX0_waits 4 = .ok (.ifCond .eq 11, 3) := dk_153 0 11 (dk_at dksX0_waits_0 4 rfl rfl)
theorem dX0_waits_7 : decode cX0_waits 7 = .ok (.aload_n 0, 1) := dk_42 (dk_at dksX0_waits_0 7 rfl rfl)
theorem dX0_waits_8 : decode cX0_waits 8 = .ok (.iconst (-1), 1) := dk_2 (dk_at dksX0_waits_0 8 rfl rfl)
theorem dX0_waits_9 : decode cX0_waits 9 = .ok (.invokevirtual 274, 3) := dk_182 1 18 (dk_at dksX0_waits_0 9 rfl rfl)
theorem dX0_waits_12 : decode cX0_waits 12 = .ok (.goto 5, 3) := dk_167 0 5 (dk_at dksX0_waits_0 12 rfl rfl)
theorem dX0_waits_15 : decode cX0_waits 15 = .ok (.bipush (-2), 2) := dk_16 254 (dk_at dksX0_waits_0 15 rfl rfl)
theorem dX0_waits_17 : decode cX0_waits 17 = .ok (.ireturn, 1) := dk_172 (dk_at dksX0_waits_0 17 rfl rfl)
abbrev cX0_deep : ByteArray := prog_1_method_39_code
def yX0_deep : MethodName := ⟨RX0, "deep", "(II)I"⟩
def dkwX0_deep_1 : List UInt8 := [172]
abbrev dktX0_deep_1 : List UInt8 := dkwX0_deep_1 ++ []
def dkwX0_deep_0 : List UInt8 := [42, 27, 28, 182, 1, 21, 153, 0, 16, 42, 180, 0, 89, 6, 28, 104, 27, 96, 46, 167, 0, 5, 16, 254]
abbrev dktX0_deep_0 : List UInt8 := dkwX0_deep_0 ++ dktX0_deep_1
theorem dksX0_deep_0 : cX0_deep.data.toList.drop 0 = dktX0_deep_0 := by decide +kernel
theorem dksX0_deep_1 : cX0_deep.data.toList.drop 24 = dktX0_deep_1 := dk_seg dksX0_deep_0 24 rfl rfl
theorem dX0_deep_0 : decode cX0_deep 0 = .ok (.aload_n 0, 1) := dk_42 (dk_at dksX0_deep_0 0 rfl rfl)
theorem dX0_deep_1 : decode cX0_deep 1 = .ok (.iload_n 1, 1) := dk_27 (dk_at dksX0_deep_0 1 rfl rfl)
theorem dX0_deep_2 : decode cX0_deep 2 = .ok (.iload_n 2, 1) := dk_28 (dk_at dksX0_deep_0 2 rfl rfl)
theorem dX0_deep_3 : decode cX0_deep 3 = .ok (.invokevirtual 277, 3) := dk_182 1 21 (dk_at dksX0_deep_0 3 rfl rfl)
theorem dX0_deep_6 : decode cX0_deep 6 = .ok (.ifCond .eq 16, 3) := dk_153 0 16 (dk_at dksX0_deep_0 6 rfl rfl)
theorem dX0_deep_9 : decode cX0_deep 9 = .ok (.aload_n 0, 1) := dk_42 (dk_at dksX0_deep_0 9 rfl rfl)
theorem dX0_deep_10 : decode cX0_deep 10 = .ok (.getfield 89, 3) := dk_180 0 89 (dk_at dksX0_deep_0 10 rfl rfl)
theorem dX0_deep_13 : decode cX0_deep 13 = .ok (.iconst 3, 1) := dk_6 (dk_at dksX0_deep_0 13 rfl rfl)
theorem dX0_deep_14 : decode cX0_deep 14 = .ok (.iload_n 2, 1) := dk_28 (dk_at dksX0_deep_0 14 rfl rfl)
theorem dX0_deep_15 : decode cX0_deep 15 = .ok (.imul, 1) := dk_104 (dk_at dksX0_deep_0 15 rfl rfl)
theorem dX0_deep_16 : decode cX0_deep 16 = .ok (.iload_n 1, 1) := dk_27 (dk_at dksX0_deep_0 16 rfl rfl)
theorem dX0_deep_17 : decode cX0_deep 17 = .ok (.iadd, 1) := dk_96 (dk_at dksX0_deep_0 17 rfl rfl)
theorem dX0_deep_18 : decode cX0_deep 18 = .ok (.iaload, 1) := dk_46 (dk_at dksX0_deep_0 18 rfl rfl)
theorem dX0_deep_19 : decode cX0_deep 19 = .ok (.goto 5, 3) := dk_167 0 5 (dk_at dksX0_deep_0 19 rfl rfl)
theorem dX0_deep_22 : decode cX0_deep 22 = .ok (.bipush (-2), 2) := dk_16 254 (dk_at dksX0_deep_0 22 rfl rfl)
theorem dX0_deep_24 : decode cX0_deep 24 = .ok (.ireturn, 1) := dk_172 (dk_at dksX0_deep_1 0 rfl rfl)
abbrev cX0_asks : ByteArray := prog_1_method_30_code
def yX0_asks : MethodName := ⟨RX0, "asks", "(II)Z"⟩
def dkwX0_asks_0 : List UInt8 := [42, 27, 133, 182, 0, 167, 153, 0, 15, 42, 28, 182, 1, 7, 153, 0, 7, 4, 167, 0, 4, 3, 172]
abbrev dktX0_asks_0 : List UInt8 := dkwX0_asks_0 ++ []
theorem dksX0_asks_0 : cX0_asks.data.toList.drop 0 = dktX0_asks_0 := by decide +kernel
theorem dX0_asks_0 : decode cX0_asks 0 = .ok (.aload_n 0, 1) := dk_42 (dk_at dksX0_asks_0 0 rfl rfl)
theorem dX0_asks_1 : decode cX0_asks 1 = .ok (.iload_n 1, 1) := dk_27 (dk_at dksX0_asks_0 1 rfl rfl)
theorem dX0_asks_2 : decode cX0_asks 2 = .ok (.i2l, 1) := dk_133 (dk_at dksX0_asks_0 2 rfl rfl)
theorem dX0_asks_3 : decode cX0_asks 3 = .ok (.invokevirtual 167, 3) := dk_182 0 167 (dk_at dksX0_asks_0 3 rfl rfl)
theorem dX0_asks_6 : decode cX0_asks 6 = .ok (.ifCond .eq 15, 3) := dk_153 0 15 (dk_at dksX0_asks_0 6 rfl rfl)
theorem dX0_asks_9 : decode cX0_asks 9 = .ok (.aload_n 0, 1) := dk_42 (dk_at dksX0_asks_0 9 rfl rfl)
theorem dX0_asks_10 : decode cX0_asks 10 = .ok (.iload_n 2, 1) := dk_28 (dk_at dksX0_asks_0 10 rfl rfl)
theorem dX0_asks_11 : decode cX0_asks 11 = .ok (.invokevirtual 263, 3) := dk_182 1 7 (dk_at dksX0_asks_0 11 rfl rfl)
theorem dX0_asks_14 : decode cX0_asks 14 = .ok (.ifCond .eq 7, 3) := dk_153 0 7 (dk_at dksX0_asks_0 14 rfl rfl)
theorem dX0_asks_17 : decode cX0_asks 17 = .ok (.iconst 1, 1) := dk_4 (dk_at dksX0_asks_0 17 rfl rfl)
theorem dX0_asks_18 : decode cX0_asks 18 = .ok (.goto 4, 3) := dk_167 0 4 (dk_at dksX0_asks_0 18 rfl rfl)
theorem dX0_asks_21 : decode cX0_asks 21 = .ok (.iconst 0, 1) := dk_3 (dk_at dksX0_asks_0 21 rfl rfl)
theorem dX0_asks_22 : decode cX0_asks 22 = .ok (.ireturn, 1) := dk_172 (dk_at dksX0_asks_0 22 rfl rfl)
abbrev cX0_load : ByteArray := prog_1_method_40_code
def yX0_load : MethodName := ⟨RX0, "load", "(III)I"⟩
def dkwX0_load_2 : List UInt8 := [46, 167, 0, 4, 2, 172]
abbrev dktX0_load_2 : List UInt8 := dkwX0_load_2 ++ []
def dkwX0_load_1 : List UInt8 := [46, 4, 100, 133, 184, 0, 128, 153, 0, 21, 42, 180, 0, 86, 16, 8, 6, 28, 104, 27, 96, 104, 29, 96]
abbrev dktX0_load_1 : List UInt8 := dkwX0_load_1 ++ dktX0_load_2
def dkwX0_load_0 : List UInt8 := [42, 27, 28, 182, 1, 21, 154, 0, 6, 16, 254, 172, 29, 133, 9, 42, 180, 0, 89, 6, 28, 104, 27, 96]
abbrev dktX0_load_0 : List UInt8 := dkwX0_load_0 ++ dktX0_load_1
theorem dksX0_load_0 : cX0_load.data.toList.drop 0 = dktX0_load_0 := by decide +kernel
theorem dksX0_load_1 : cX0_load.data.toList.drop 24 = dktX0_load_1 := dk_seg dksX0_load_0 24 rfl rfl
theorem dksX0_load_2 : cX0_load.data.toList.drop 48 = dktX0_load_2 := dk_seg dksX0_load_1 24 rfl rfl
theorem dX0_load_0 : decode cX0_load 0 = .ok (.aload_n 0, 1) := dk_42 (dk_at dksX0_load_0 0 rfl rfl)
theorem dX0_load_1 : decode cX0_load 1 = .ok (.iload_n 1, 1) := dk_27 (dk_at dksX0_load_0 1 rfl rfl)
theorem dX0_load_2 : decode cX0_load 2 = .ok (.iload_n 2, 1) := dk_28 (dk_at dksX0_load_0 2 rfl rfl)
theorem dX0_load_3 : decode cX0_load 3 = .ok (.invokevirtual 277, 3) := dk_182 1 21 (dk_at dksX0_load_0 3 rfl rfl)
theorem dX0_load_6 : decode cX0_load 6 = .ok (.ifCond .ne 6, 3) := dk_154 0 6 (dk_at dksX0_load_0 6 rfl rfl)
theorem dX0_load_9 : decode cX0_load 9 = .ok (.bipush (-2), 2) := dk_16 254 (dk_at dksX0_load_0 9 rfl rfl)
theorem dX0_load_11 : decode cX0_load 11 = .ok (.ireturn, 1) := dk_172 (dk_at dksX0_load_0 11 rfl rfl)
theorem dX0_load_12 : decode cX0_load 12 = .ok (.iload_n 3, 1) := dk_29 (dk_at dksX0_load_0 12 rfl rfl)
theorem dX0_load_13 : decode cX0_load 13 = .ok (.i2l, 1) := dk_133 (dk_at dksX0_load_0 13 rfl rfl)
theorem dX0_load_14 : decode cX0_load 14 = .ok (.lconst 0, 1) := dk_9 (dk_at dksX0_load_0 14 rfl rfl)
theorem dX0_load_15 : decode cX0_load 15 = .ok (.aload_n 0, 1) := dk_42 (dk_at dksX0_load_0 15 rfl rfl)
theorem dX0_load_16 : decode cX0_load 16 = .ok (.getfield 89, 3) := dk_180 0 89 (dk_at dksX0_load_0 16 rfl rfl)
theorem dX0_load_19 : decode cX0_load 19 = .ok (.iconst 3, 1) := dk_6 (dk_at dksX0_load_0 19 rfl rfl)
theorem dX0_load_20 : decode cX0_load 20 = .ok (.iload_n 2, 1) := dk_28 (dk_at dksX0_load_0 20 rfl rfl)
theorem dX0_load_21 : decode cX0_load 21 = .ok (.imul, 1) := dk_104 (dk_at dksX0_load_0 21 rfl rfl)
theorem dX0_load_22 : decode cX0_load 22 = .ok (.iload_n 1, 1) := dk_27 (dk_at dksX0_load_0 22 rfl rfl)
theorem dX0_load_23 : decode cX0_load 23 = .ok (.iadd, 1) := dk_96 (dk_at dksX0_load_0 23 rfl rfl)
theorem dX0_load_24 : decode cX0_load 24 = .ok (.iaload, 1) := dk_46 (dk_at dksX0_load_1 0 rfl rfl)
theorem dX0_load_25 : decode cX0_load 25 = .ok (.iconst 1, 1) := dk_4 (dk_at dksX0_load_1 1 rfl rfl)
theorem dX0_load_26 : decode cX0_load 26 = .ok (.isub, 1) := dk_100 (dk_at dksX0_load_1 2 rfl rfl)
theorem dX0_load_27 : decode cX0_load 27 = .ok (.i2l, 1) := dk_133 (dk_at dksX0_load_1 3 rfl rfl)
theorem dX0_load_28 : decode cX0_load 28 = .ok (.invokestatic 128, 3) := dk_184 0 128 (dk_at dksX0_load_1 4 rfl rfl)
theorem dX0_load_31 : decode cX0_load 31 = .ok (.ifCond .eq 21, 3) := dk_153 0 21 (dk_at dksX0_load_1 7 rfl rfl)
theorem dX0_load_34 : decode cX0_load 34 = .ok (.aload_n 0, 1) := dk_42 (dk_at dksX0_load_1 10 rfl rfl)
theorem dX0_load_35 : decode cX0_load 35 = .ok (.getfield 86, 3) := dk_180 0 86 (dk_at dksX0_load_1 11 rfl rfl)
theorem dX0_load_38 : decode cX0_load 38 = .ok (.bipush 8, 2) := dk_16 8 (dk_at dksX0_load_1 14 rfl rfl)
theorem dX0_load_40 : decode cX0_load 40 = .ok (.iconst 3, 1) := dk_6 (dk_at dksX0_load_1 16 rfl rfl)
theorem dX0_load_41 : decode cX0_load 41 = .ok (.iload_n 2, 1) := dk_28 (dk_at dksX0_load_1 17 rfl rfl)
theorem dX0_load_42 : decode cX0_load 42 = .ok (.imul, 1) := dk_104 (dk_at dksX0_load_1 18 rfl rfl)
theorem dX0_load_43 : decode cX0_load 43 = .ok (.iload_n 1, 1) := dk_27 (dk_at dksX0_load_1 19 rfl rfl)
theorem dX0_load_44 : decode cX0_load 44 = .ok (.iadd, 1) := dk_96 (dk_at dksX0_load_1 20 rfl rfl)
theorem dX0_load_45 : decode cX0_load 45 = .ok (.imul, 1) := dk_104 (dk_at dksX0_load_1 21 rfl rfl)
theorem dX0_load_46 : decode cX0_load 46 = .ok (.iload_n 3, 1) := dk_29 (dk_at dksX0_load_1 22 rfl rfl)
theorem dX0_load_47 : decode cX0_load 47 = .ok (.iadd, 1) := dk_96 (dk_at dksX0_load_1 23 rfl rfl)
theorem dX0_load_48 : decode cX0_load 48 = .ok (.iaload, 1) := dk_46 (dk_at dksX0_load_2 0 rfl rfl)
theorem dX0_load_49 : decode cX0_load 49 = .ok (.goto 4, 3) := dk_167 0 4 (dk_at dksX0_load_2 1 rfl rfl)
theorem dX0_load_52 : decode cX0_load 52 = .ok (.iconst (-1), 1) := dk_2 (dk_at dksX0_load_2 4 rfl rfl)
theorem dX0_load_53 : decode cX0_load 53 = .ok (.ireturn, 1) := dk_172 (dk_at dksX0_load_2 5 rfl rfl)
abbrev cX0_sag : ByteArray := prog_1_method_41_code
def yX0_sag : MethodName := ⟨RX0, "sag", "(II)I"⟩
def dkwX0_sag_1 : List UInt8 := [172]
abbrev dktX0_sag_1 : List UInt8 := dkwX0_sag_1 ++ []
def dkwX0_sag_0 : List UInt8 := [42, 27, 28, 182, 1, 21, 153, 0, 16, 42, 180, 0, 92, 6, 28, 104, 27, 96, 46, 167, 0, 5, 16, 254]
abbrev dktX0_sag_0 : List UInt8 := dkwX0_sag_0 ++ dktX0_sag_1
theorem dksX0_sag_0 : cX0_sag.data.toList.drop 0 = dktX0_sag_0 := by decide +kernel
theorem dksX0_sag_1 : cX0_sag.data.toList.drop 24 = dktX0_sag_1 := dk_seg dksX0_sag_0 24 rfl rfl
theorem dX0_sag_0 : decode cX0_sag 0 = .ok (.aload_n 0, 1) := dk_42 (dk_at dksX0_sag_0 0 rfl rfl)
theorem dX0_sag_1 : decode cX0_sag 1 = .ok (.iload_n 1, 1) := dk_27 (dk_at dksX0_sag_0 1 rfl rfl)
theorem dX0_sag_2 : decode cX0_sag 2 = .ok (.iload_n 2, 1) := dk_28 (dk_at dksX0_sag_0 2 rfl rfl)
theorem dX0_sag_3 : decode cX0_sag 3 = .ok (.invokevirtual 277, 3) := dk_182 1 21 (dk_at dksX0_sag_0 3 rfl rfl)
theorem dX0_sag_6 : decode cX0_sag 6 = .ok (.ifCond .eq 16, 3) := dk_153 0 16 (dk_at dksX0_sag_0 6 rfl rfl)
theorem dX0_sag_9 : decode cX0_sag 9 = .ok (.aload_n 0, 1) := dk_42 (dk_at dksX0_sag_0 9 rfl rfl)
theorem dX0_sag_10 : decode cX0_sag 10 = .ok (.getfield 92, 3) := dk_180 0 92 (dk_at dksX0_sag_0 10 rfl rfl)
theorem dX0_sag_13 : decode cX0_sag 13 = .ok (.iconst 3, 1) := dk_6 (dk_at dksX0_sag_0 13 rfl rfl)
theorem dX0_sag_14 : decode cX0_sag 14 = .ok (.iload_n 2, 1) := dk_28 (dk_at dksX0_sag_0 14 rfl rfl)
theorem dX0_sag_15 : decode cX0_sag 15 = .ok (.imul, 1) := dk_104 (dk_at dksX0_sag_0 15 rfl rfl)
theorem dX0_sag_16 : decode cX0_sag 16 = .ok (.iload_n 1, 1) := dk_27 (dk_at dksX0_sag_0 16 rfl rfl)
theorem dX0_sag_17 : decode cX0_sag 17 = .ok (.iadd, 1) := dk_96 (dk_at dksX0_sag_0 17 rfl rfl)
theorem dX0_sag_18 : decode cX0_sag 18 = .ok (.iaload, 1) := dk_46 (dk_at dksX0_sag_0 18 rfl rfl)
theorem dX0_sag_19 : decode cX0_sag 19 = .ok (.goto 5, 3) := dk_167 0 5 (dk_at dksX0_sag_0 19 rfl rfl)
theorem dX0_sag_22 : decode cX0_sag 22 = .ok (.bipush (-2), 2) := dk_16 254 (dk_at dksX0_sag_0 22 rfl rfl)
theorem dX0_sag_24 : decode cX0_sag 24 = .ok (.ireturn, 1) := dk_172 (dk_at dksX0_sag_1 0 rfl rfl)
abbrev cX0_all : ByteArray := prog_1_method_42_code
def yX0_all : MethodName := ⟨RX0, "all", "(I)I"⟩
def dkwX0_all_1 : List UInt8 := [162, 0, 22, 28, 42, 180, 0, 92, 6, 27, 104, 29, 96, 46, 96, 61, 132, 3, 1, 167, 255, 229, 28, 172]
abbrev dktX0_all_1 : List UInt8 := dkwX0_all_1 ++ []
def dkwX0_all_0 : List UInt8 := [42, 27, 182, 1, 7, 154, 0, 6, 16, 254, 172, 3, 61, 3, 62, 29, 42, 180, 0, 10, 180, 0, 153]
abbrev dktX0_all_0 : List UInt8 := dkwX0_all_0 ++ dktX0_all_1
theorem dksX0_all_0 : cX0_all.data.toList.drop 0 = dktX0_all_0 := by decide +kernel
theorem dksX0_all_1 : cX0_all.data.toList.drop 23 = dktX0_all_1 := dk_seg dksX0_all_0 23 rfl rfl
theorem dX0_all_0 : decode cX0_all 0 = .ok (.aload_n 0, 1) := dk_42 (dk_at dksX0_all_0 0 rfl rfl)
theorem dX0_all_1 : decode cX0_all 1 = .ok (.iload_n 1, 1) := dk_27 (dk_at dksX0_all_0 1 rfl rfl)
theorem dX0_all_2 : decode cX0_all 2 = .ok (.invokevirtual 263, 3) := dk_182 1 7 (dk_at dksX0_all_0 2 rfl rfl)
theorem dX0_all_5 : decode cX0_all 5 = .ok (.ifCond .ne 6, 3) := dk_154 0 6 (dk_at dksX0_all_0 5 rfl rfl)
theorem dX0_all_8 : decode cX0_all 8 = .ok (.bipush (-2), 2) := dk_16 254 (dk_at dksX0_all_0 8 rfl rfl)
theorem dX0_all_10 : decode cX0_all 10 = .ok (.ireturn, 1) := dk_172 (dk_at dksX0_all_0 10 rfl rfl)
theorem dX0_all_11 : decode cX0_all 11 = .ok (.iconst 0, 1) := dk_3 (dk_at dksX0_all_0 11 rfl rfl)
theorem dX0_all_12 : decode cX0_all 12 = .ok (.istore_n 2, 1) := dk_61 (dk_at dksX0_all_0 12 rfl rfl)
theorem dX0_all_13 : decode cX0_all 13 = .ok (.iconst 0, 1) := dk_3 (dk_at dksX0_all_0 13 rfl rfl)
theorem dX0_all_14 : decode cX0_all 14 = .ok (.istore_n 3, 1) := dk_62 (dk_at dksX0_all_0 14 rfl rfl)
theorem dX0_all_15 : decode cX0_all 15 = .ok (.iload_n 3, 1) := dk_29 (dk_at dksX0_all_0 15 rfl rfl)
theorem dX0_all_16 : decode cX0_all 16 = .ok (.aload_n 0, 1) := dk_42 (dk_at dksX0_all_0 16 rfl rfl)
theorem dX0_all_17 : decode cX0_all 17 = .ok (.getfield 10, 3) := dk_180 0 10 (dk_at dksX0_all_0 17 rfl rfl)
theorem dX0_all_20 : decode cX0_all 20 = .ok (.getfield 153, 3) := dk_180 0 153 (dk_at dksX0_all_0 20 rfl rfl)
theorem dX0_all_23 : decode cX0_all 23 = .ok (.if_icmp .ge 22, 3) := dk_162 0 22 (dk_at dksX0_all_1 0 rfl rfl)
theorem dX0_all_26 : decode cX0_all 26 = .ok (.iload_n 2, 1) := dk_28 (dk_at dksX0_all_1 3 rfl rfl)
theorem dX0_all_27 : decode cX0_all 27 = .ok (.aload_n 0, 1) := dk_42 (dk_at dksX0_all_1 4 rfl rfl)
theorem dX0_all_28 : decode cX0_all 28 = .ok (.getfield 92, 3) := dk_180 0 92 (dk_at dksX0_all_1 5 rfl rfl)
theorem dX0_all_31 : decode cX0_all 31 = .ok (.iconst 3, 1) := dk_6 (dk_at dksX0_all_1 8 rfl rfl)
theorem dX0_all_32 : decode cX0_all 32 = .ok (.iload_n 1, 1) := dk_27 (dk_at dksX0_all_1 9 rfl rfl)
theorem dX0_all_33 : decode cX0_all 33 = .ok (.imul, 1) := dk_104 (dk_at dksX0_all_1 10 rfl rfl)
theorem dX0_all_34 : decode cX0_all 34 = .ok (.iload_n 3, 1) := dk_29 (dk_at dksX0_all_1 11 rfl rfl)
theorem dX0_all_35 : decode cX0_all 35 = .ok (.iadd, 1) := dk_96 (dk_at dksX0_all_1 12 rfl rfl)
theorem dX0_all_36 : decode cX0_all 36 = .ok (.iaload, 1) := dk_46 (dk_at dksX0_all_1 13 rfl rfl)
theorem dX0_all_37 : decode cX0_all 37 = .ok (.iadd, 1) := dk_96 (dk_at dksX0_all_1 14 rfl rfl)
theorem dX0_all_38 : decode cX0_all 38 = .ok (.istore_n 2, 1) := dk_61 (dk_at dksX0_all_1 15 rfl rfl)
theorem dX0_all_39 : decode cX0_all 39 = .ok (.iinc 3 1, 3) := dk_132 3 1 (dk_at dksX0_all_1 16 rfl rfl)
theorem dX0_all_42 : decode cX0_all 42 = .ok (.goto (-27), 3) := dk_167 255 229 (dk_at dksX0_all_1 19 rfl rfl)
theorem dX0_all_45 : decode cX0_all 45 = .ok (.iload_n 2, 1) := dk_28 (dk_at dksX0_all_1 22 rfl rfl)
theorem dX0_all_46 : decode cX0_all 46 = .ok (.ireturn, 1) := dk_172 (dk_at dksX0_all_1 23 rfl rfl)
abbrev cX0_deepest : ByteArray := prog_1_method_43_code
def yX0_deepest : MethodName := ⟨RX0, "deepest", "(I)I"⟩
def dkwX0_deepest_2 : List UInt8 := [104, 28, 96, 46, 164, 0, 5, 29, 61, 132, 3, 1, 167, 255, 212, 28, 172]
abbrev dktX0_deepest_2 : List UInt8 := dkwX0_deepest_2 ++ []
def dkwX0_deepest_1 : List UInt8 := [162, 0, 39, 28, 2, 159, 0, 26, 42, 180, 0, 92, 6, 27, 104, 29, 96, 46, 42, 180, 0, 92, 6, 27]
abbrev dktX0_deepest_1 : List UInt8 := dkwX0_deepest_1 ++ dktX0_deepest_2
def dkwX0_deepest_0 : List UInt8 := [42, 27, 182, 1, 7, 154, 0, 6, 16, 254, 172, 2, 61, 3, 62, 29, 42, 180, 0, 10, 180, 0, 153]
abbrev dktX0_deepest_0 : List UInt8 := dkwX0_deepest_0 ++ dktX0_deepest_1
theorem dksX0_deepest_0 : cX0_deepest.data.toList.drop 0 = dktX0_deepest_0 := by decide +kernel
theorem dksX0_deepest_1 : cX0_deepest.data.toList.drop 23 = dktX0_deepest_1 := dk_seg dksX0_deepest_0 23 rfl rfl
theorem dksX0_deepest_2 : cX0_deepest.data.toList.drop 47 = dktX0_deepest_2 := dk_seg dksX0_deepest_1 24 rfl rfl
theorem dX0_deepest_0 : decode cX0_deepest 0 = .ok (.aload_n 0, 1) := dk_42 (dk_at dksX0_deepest_0 0 rfl rfl)
theorem dX0_deepest_1 : decode cX0_deepest 1 = .ok (.iload_n 1, 1) := dk_27 (dk_at dksX0_deepest_0 1 rfl rfl)
theorem dX0_deepest_2 : decode cX0_deepest 2 = .ok (.invokevirtual 263, 3) := dk_182 1 7 (dk_at dksX0_deepest_0 2 rfl rfl)
theorem dX0_deepest_5 : decode cX0_deepest 5 = .ok (.ifCond .ne 6, 3) := dk_154 0 6 (dk_at dksX0_deepest_0 5 rfl rfl)
theorem dX0_deepest_8 : decode cX0_deepest 8 = .ok (.bipush (-2), 2) := dk_16 254 (dk_at dksX0_deepest_0 8 rfl rfl)
theorem dX0_deepest_10 : decode cX0_deepest 10 = .ok (.ireturn, 1) := dk_172 (dk_at dksX0_deepest_0 10 rfl rfl)
theorem dX0_deepest_11 : decode cX0_deepest 11 = .ok (.iconst (-1), 1) := dk_2 (dk_at dksX0_deepest_0 11 rfl rfl)
theorem dX0_deepest_12 : decode cX0_deepest 12 = .ok (.istore_n 2, 1) := dk_61 (dk_at dksX0_deepest_0 12 rfl rfl)
theorem dX0_deepest_13 : decode cX0_deepest 13 = .ok (.iconst 0, 1) := dk_3 (dk_at dksX0_deepest_0 13 rfl rfl)
theorem dX0_deepest_14 : decode cX0_deepest 14 = .ok (.istore_n 3, 1) := dk_62 (dk_at dksX0_deepest_0 14 rfl rfl)
theorem dX0_deepest_15 : decode cX0_deepest 15 = .ok (.iload_n 3, 1) := dk_29 (dk_at dksX0_deepest_0 15 rfl rfl)
theorem dX0_deepest_16 : decode cX0_deepest 16 = .ok (.aload_n 0, 1) := dk_42 (dk_at dksX0_deepest_0 16 rfl rfl)
theorem dX0_deepest_17 : decode cX0_deepest 17 = .ok (.getfield 10, 3) := dk_180 0 10 (dk_at dksX0_deepest_0 17 rfl rfl)
theorem dX0_deepest_20 : decode cX0_deepest 20 = .ok (.getfield 153, 3) := dk_180 0 153 (dk_at dksX0_deepest_0 20 rfl rfl)
theorem dX0_deepest_23 : decode cX0_deepest 23 = .ok (.if_icmp .ge 39, 3) := dk_162 0 39 (dk_at dksX0_deepest_1 0 rfl rfl)
theorem dX0_deepest_26 : decode cX0_deepest 26 = .ok (.iload_n 2, 1) := dk_28 (dk_at dksX0_deepest_1 3 rfl rfl)
theorem dX0_deepest_27 : decode cX0_deepest 27 = .ok (.iconst (-1), 1) := dk_2 (dk_at dksX0_deepest_1 4 rfl rfl)
theorem dX0_deepest_28 : decode cX0_deepest 28 = .ok (.if_icmp .eq 26, 3) := dk_159 0 26 (dk_at dksX0_deepest_1 5 rfl rfl)
theorem dX0_deepest_31 : decode cX0_deepest 31 = .ok (.aload_n 0, 1) := dk_42 (dk_at dksX0_deepest_1 8 rfl rfl)
theorem dX0_deepest_32 : decode cX0_deepest 32 = .ok (.getfield 92, 3) := dk_180 0 92 (dk_at dksX0_deepest_1 9 rfl rfl)
theorem dX0_deepest_35 : decode cX0_deepest 35 = .ok (.iconst 3, 1) := dk_6 (dk_at dksX0_deepest_1 12 rfl rfl)
theorem dX0_deepest_36 : decode cX0_deepest 36 = .ok (.iload_n 1, 1) := dk_27 (dk_at dksX0_deepest_1 13 rfl rfl)
theorem dX0_deepest_37 : decode cX0_deepest 37 = .ok (.imul, 1) := dk_104 (dk_at dksX0_deepest_1 14 rfl rfl)
theorem dX0_deepest_38 : decode cX0_deepest 38 = .ok (.iload_n 3, 1) := dk_29 (dk_at dksX0_deepest_1 15 rfl rfl)
theorem dX0_deepest_39 : decode cX0_deepest 39 = .ok (.iadd, 1) := dk_96 (dk_at dksX0_deepest_1 16 rfl rfl)
theorem dX0_deepest_40 : decode cX0_deepest 40 = .ok (.iaload, 1) := dk_46 (dk_at dksX0_deepest_1 17 rfl rfl)
theorem dX0_deepest_41 : decode cX0_deepest 41 = .ok (.aload_n 0, 1) := dk_42 (dk_at dksX0_deepest_1 18 rfl rfl)
theorem dX0_deepest_42 : decode cX0_deepest 42 = .ok (.getfield 92, 3) := dk_180 0 92 (dk_at dksX0_deepest_1 19 rfl rfl)
theorem dX0_deepest_45 : decode cX0_deepest 45 = .ok (.iconst 3, 1) := dk_6 (dk_at dksX0_deepest_1 22 rfl rfl)
theorem dX0_deepest_46 : decode cX0_deepest 46 = .ok (.iload_n 1, 1) := dk_27 (dk_at dksX0_deepest_1 23 rfl rfl)
theorem dX0_deepest_47 : decode cX0_deepest 47 = .ok (.imul, 1) := dk_104 (dk_at dksX0_deepest_2 0 rfl rfl)
theorem dX0_deepest_48 : decode cX0_deepest 48 = .ok (.iload_n 2, 1) := dk_28 (dk_at dksX0_deepest_2 1 rfl rfl)
theorem dX0_deepest_49 : decode cX0_deepest 49 = .ok (.iadd, 1) := dk_96 (dk_at dksX0_deepest_2 2 rfl rfl)
theorem dX0_deepest_50 : decode cX0_deepest 50 = .ok (.iaload, 1) := dk_46 (dk_at dksX0_deepest_2 3 rfl rfl)
theorem dX0_deepest_51 : decode cX0_deepest 51 = .ok (.if_icmp .le 5, 3) := dk_164 0 5 (dk_at dksX0_deepest_2 4 rfl rfl)
theorem dX0_deepest_54 : decode cX0_deepest 54 = .ok (.iload_n 3, 1) := dk_29 (dk_at dksX0_deepest_2 7 rfl rfl)
theorem dX0_deepest_55 : decode cX0_deepest 55 = .ok (.istore_n 2, 1) := dk_61 (dk_at dksX0_deepest_2 8 rfl rfl)
theorem dX0_deepest_56 : decode cX0_deepest 56 = .ok (.iinc 3 1, 3) := dk_132 3 1 (dk_at dksX0_deepest_2 9 rfl rfl)
theorem dX0_deepest_59 : decode cX0_deepest 59 = .ok (.goto (-44), 3) := dk_167 255 212 (dk_at dksX0_deepest_2 12 rfl rfl)
theorem dX0_deepest_62 : decode cX0_deepest 62 = .ok (.iload_n 2, 1) := dk_28 (dk_at dksX0_deepest_2 15 rfl rfl)
theorem dX0_deepest_63 : decode cX0_deepest 63 = .ok (.ireturn, 1) := dk_172 (dk_at dksX0_deepest_2 16 rfl rfl)
abbrev cX0_gives : ByteArray := prog_1_method_44_code
def yX0_gives : MethodName := ⟨RX0, "gives", "(I)I"⟩
def dkwX0_gives_0 : List UInt8 := [42, 27, 182, 1, 7, 153, 0, 12, 42, 180, 0, 71, 27, 46, 167, 0, 6, 17, 252, 24, 172]
abbrev dktX0_gives_0 : List UInt8 := dkwX0_gives_0 ++ []
theorem dksX0_gives_0 : cX0_gives.data.toList.drop 0 = dktX0_gives_0 := by decide +kernel
theorem dX0_gives_0 : decode cX0_gives 0 = .ok (.aload_n 0, 1) := dk_42 (dk_at dksX0_gives_0 0 rfl rfl)
theorem dX0_gives_1 : decode cX0_gives 1 = .ok (.iload_n 1, 1) := dk_27 (dk_at dksX0_gives_0 1 rfl rfl)
theorem dX0_gives_2 : decode cX0_gives 2 = .ok (.invokevirtual 263, 3) := dk_182 1 7 (dk_at dksX0_gives_0 2 rfl rfl)
theorem dX0_gives_5 : decode cX0_gives 5 = .ok (.ifCond .eq 12, 3) := dk_153 0 12 (dk_at dksX0_gives_0 5 rfl rfl)
theorem dX0_gives_8 : decode cX0_gives 8 = .ok (.aload_n 0, 1) := dk_42 (dk_at dksX0_gives_0 8 rfl rfl)
theorem dX0_gives_9 : decode cX0_gives 9 = .ok (.getfield 71, 3) := dk_180 0 71 (dk_at dksX0_gives_0 9 rfl rfl)
theorem dX0_gives_12 : decode cX0_gives 12 = .ok (.iload_n 1, 1) := dk_27 (dk_at dksX0_gives_0 12 rfl rfl)
theorem dX0_gives_13 : decode cX0_gives 13 = .ok (.iaload, 1) := dk_46 (dk_at dksX0_gives_0 13 rfl rfl)
theorem dX0_gives_14 : decode cX0_gives 14 = .ok (.goto 6, 3) := dk_167 0 6 (dk_at dksX0_gives_0 14 rfl rfl)
theorem dX0_gives_17 : decode cX0_gives 17 = .ok (.sipush (-1000), 3) := dk_17 252 24 (dk_at dksX0_gives_0 17 rfl rfl)
theorem dX0_gives_20 : decode cX0_gives 20 = .ok (.ireturn, 1) := dk_172 (dk_at dksX0_gives_0 20 rfl rfl)
abbrev cX0_creak : ByteArray := prog_1_method_45_code
def yX0_creak : MethodName := ⟨RX0, "creak", "(I)I"⟩
def dkwX0_creak_0 : List UInt8 := [42, 27, 182, 1, 7, 153, 0, 12, 42, 180, 0, 74, 27, 46, 167, 0, 5, 16, 254, 172]
abbrev dktX0_creak_0 : List UInt8 := dkwX0_creak_0 ++ []
theorem dksX0_creak_0 : cX0_creak.data.toList.drop 0 = dktX0_creak_0 := by decide +kernel
theorem dX0_creak_0 : decode cX0_creak 0 = .ok (.aload_n 0, 1) := dk_42 (dk_at dksX0_creak_0 0 rfl rfl)
theorem dX0_creak_1 : decode cX0_creak 1 = .ok (.iload_n 1, 1) := dk_27 (dk_at dksX0_creak_0 1 rfl rfl)
theorem dX0_creak_2 : decode cX0_creak 2 = .ok (.invokevirtual 263, 3) := dk_182 1 7 (dk_at dksX0_creak_0 2 rfl rfl)
theorem dX0_creak_5 : decode cX0_creak 5 = .ok (.ifCond .eq 12, 3) := dk_153 0 12 (dk_at dksX0_creak_0 5 rfl rfl)
theorem dX0_creak_8 : decode cX0_creak 8 = .ok (.aload_n 0, 1) := dk_42 (dk_at dksX0_creak_0 8 rfl rfl)
theorem dX0_creak_9 : decode cX0_creak 9 = .ok (.getfield 74, 3) := dk_180 0 74 (dk_at dksX0_creak_0 9 rfl rfl)
theorem dX0_creak_12 : decode cX0_creak 12 = .ok (.iload_n 1, 1) := dk_27 (dk_at dksX0_creak_0 12 rfl rfl)
theorem dX0_creak_13 : decode cX0_creak 13 = .ok (.iaload, 1) := dk_46 (dk_at dksX0_creak_0 13 rfl rfl)
theorem dX0_creak_14 : decode cX0_creak 14 = .ok (.goto 5, 3) := dk_167 0 5 (dk_at dksX0_creak_0 14 rfl rfl)
theorem dX0_creak_17 : decode cX0_creak 17 = .ok (.bipush (-2), 2) := dk_16 254 (dk_at dksX0_creak_0 17 rfl rfl)
theorem dX0_creak_19 : decode cX0_creak 19 = .ok (.ireturn, 1) := dk_172 (dk_at dksX0_creak_0 19 rfl rfl)
abbrev cX0_loudest : ByteArray := prog_1_method_46_code
def yX0_loudest : MethodName := ⟨RX0, "loudest", "()I"⟩
def dkwX0_loudest_2 : List UInt8 := [164, 0, 5, 28, 60, 132, 2, 1, 167, 255, 216, 27, 172]
abbrev dktX0_loudest_2 : List UInt8 := dkwX0_loudest_2 ++ []
def dkwX0_loudest_1 : List UInt8 := [162, 0, 35, 42, 180, 0, 74, 28, 46, 27, 2, 160, 0, 7, 3, 167, 0, 9, 42, 180, 0, 74, 27, 46]
abbrev dktX0_loudest_1 : List UInt8 := dkwX0_loudest_1 ++ dktX0_loudest_2
def dkwX0_loudest_0 : List UInt8 := [42, 182, 1, 4, 154, 0, 6, 16, 254, 172, 2, 60, 3, 61, 28, 42, 180, 0, 10, 180, 0, 156]
abbrev dktX0_loudest_0 : List UInt8 := dkwX0_loudest_0 ++ dktX0_loudest_1
theorem dksX0_loudest_0 : cX0_loudest.data.toList.drop 0 = dktX0_loudest_0 := by decide +kernel
theorem dksX0_loudest_1 : cX0_loudest.data.toList.drop 22 = dktX0_loudest_1 := dk_seg dksX0_loudest_0 22 rfl rfl
theorem dksX0_loudest_2 : cX0_loudest.data.toList.drop 46 = dktX0_loudest_2 := dk_seg dksX0_loudest_1 24 rfl rfl
theorem dX0_loudest_0 : decode cX0_loudest 0 = .ok (.aload_n 0, 1) := dk_42 (dk_at dksX0_loudest_0 0 rfl rfl)
theorem dX0_loudest_1 : decode cX0_loudest 1 = .ok (.invokevirtual 260, 3) := dk_182 1 4 (dk_at dksX0_loudest_0 1 rfl rfl)
theorem dX0_loudest_4 : decode cX0_loudest 4 = .ok (.ifCond .ne 6, 3) := dk_154 0 6 (dk_at dksX0_loudest_0 4 rfl rfl)
theorem dX0_loudest_7 : decode cX0_loudest 7 = .ok (.bipush (-2), 2) := dk_16 254 (dk_at dksX0_loudest_0 7 rfl rfl)
theorem dX0_loudest_9 : decode cX0_loudest 9 = .ok (.ireturn, 1) := dk_172 (dk_at dksX0_loudest_0 9 rfl rfl)
theorem dX0_loudest_10 : decode cX0_loudest 10 = .ok (.iconst (-1), 1) := dk_2 (dk_at dksX0_loudest_0 10 rfl rfl)
theorem dX0_loudest_11 : decode cX0_loudest 11 = .ok (.istore_n 1, 1) := dk_60 (dk_at dksX0_loudest_0 11 rfl rfl)
theorem dX0_loudest_12 : decode cX0_loudest 12 = .ok (.iconst 0, 1) := dk_3 (dk_at dksX0_loudest_0 12 rfl rfl)
theorem dX0_loudest_13 : decode cX0_loudest 13 = .ok (.istore_n 2, 1) := dk_61 (dk_at dksX0_loudest_0 13 rfl rfl)
theorem dX0_loudest_14 : decode cX0_loudest 14 = .ok (.iload_n 2, 1) := dk_28 (dk_at dksX0_loudest_0 14 rfl rfl)
theorem dX0_loudest_15 : decode cX0_loudest 15 = .ok (.aload_n 0, 1) := dk_42 (dk_at dksX0_loudest_0 15 rfl rfl)
theorem dX0_loudest_16 : decode cX0_loudest 16 = .ok (.getfield 10, 3) := dk_180 0 10 (dk_at dksX0_loudest_0 16 rfl rfl)
theorem dX0_loudest_19 : decode cX0_loudest 19 = .ok (.getfield 156, 3) := dk_180 0 156 (dk_at dksX0_loudest_0 19 rfl rfl)
theorem dX0_loudest_22 : decode cX0_loudest 22 = .ok (.if_icmp .ge 35, 3) := dk_162 0 35 (dk_at dksX0_loudest_1 0 rfl rfl)
theorem dX0_loudest_25 : decode cX0_loudest 25 = .ok (.aload_n 0, 1) := dk_42 (dk_at dksX0_loudest_1 3 rfl rfl)
theorem dX0_loudest_26 : decode cX0_loudest 26 = .ok (.getfield 74, 3) := dk_180 0 74 (dk_at dksX0_loudest_1 4 rfl rfl)
theorem dX0_loudest_29 : decode cX0_loudest 29 = .ok (.iload_n 2, 1) := dk_28 (dk_at dksX0_loudest_1 7 rfl rfl)
theorem dX0_loudest_30 : decode cX0_loudest 30 = .ok (.iaload, 1) := dk_46 (dk_at dksX0_loudest_1 8 rfl rfl)
theorem dX0_loudest_31 : decode cX0_loudest 31 = .ok (.iload_n 1, 1) := dk_27 (dk_at dksX0_loudest_1 9 rfl rfl)
theorem dX0_loudest_32 : decode cX0_loudest 32 = .ok (.iconst (-1), 1) := dk_2 (dk_at dksX0_loudest_1 10 rfl rfl)
theorem dX0_loudest_33 : decode cX0_loudest 33 = .ok (.if_icmp .ne 7, 3) := dk_160 0 7 (dk_at dksX0_loudest_1 11 rfl rfl)
theorem dX0_loudest_36 : decode cX0_loudest 36 = .ok (.iconst 0, 1) := dk_3 (dk_at dksX0_loudest_1 14 rfl rfl)
theorem dX0_loudest_37 : decode cX0_loudest 37 = .ok (.goto 9, 3) := dk_167 0 9 (dk_at dksX0_loudest_1 15 rfl rfl)
theorem dX0_loudest_40 : decode cX0_loudest 40 = .ok (.aload_n 0, 1) := dk_42 (dk_at dksX0_loudest_1 18 rfl rfl)
theorem dX0_loudest_41 : decode cX0_loudest 41 = .ok (.getfield 74, 3) := dk_180 0 74 (dk_at dksX0_loudest_1 19 rfl rfl)
theorem dX0_loudest_44 : decode cX0_loudest 44 = .ok (.iload_n 1, 1) := dk_27 (dk_at dksX0_loudest_1 22 rfl rfl)
theorem dX0_loudest_45 : decode cX0_loudest 45 = .ok (.iaload, 1) := dk_46 (dk_at dksX0_loudest_1 23 rfl rfl)
theorem dX0_loudest_46 : decode cX0_loudest 46 = .ok (.if_icmp .le 5, 3) := dk_164 0 5 (dk_at dksX0_loudest_2 0 rfl rfl)
theorem dX0_loudest_49 : decode cX0_loudest 49 = .ok (.iload_n 2, 1) := dk_28 (dk_at dksX0_loudest_2 3 rfl rfl)
theorem dX0_loudest_50 : decode cX0_loudest 50 = .ok (.istore_n 1, 1) := dk_60 (dk_at dksX0_loudest_2 4 rfl rfl)
theorem dX0_loudest_51 : decode cX0_loudest 51 = .ok (.iinc 2 1, 3) := dk_132 2 1 (dk_at dksX0_loudest_2 5 rfl rfl)
theorem dX0_loudest_54 : decode cX0_loudest 54 = .ok (.goto (-40), 3) := dk_167 255 216 (dk_at dksX0_loudest_2 8 rfl rfl)
theorem dX0_loudest_57 : decode cX0_loudest 57 = .ok (.iload_n 1, 1) := dk_27 (dk_at dksX0_loudest_2 11 rfl rfl)
theorem dX0_loudest_58 : decode cX0_loudest 58 = .ok (.ireturn, 1) := dk_172 (dk_at dksX0_loudest_2 12 rfl rfl)
abbrev cX0_pays : ByteArray := prog_1_method_47_code
def yX0_pays : MethodName := ⟨RX0, "pays", "(I)I"⟩
def dkwX0_pays_0 : List UInt8 := [42, 27, 182, 1, 7, 153, 0, 12, 42, 180, 0, 77, 27, 46, 167, 0, 5, 16, 254, 172]
abbrev dktX0_pays_0 : List UInt8 := dkwX0_pays_0 ++ []
theorem dksX0_pays_0 : cX0_pays.data.toList.drop 0 = dktX0_pays_0 := by decide +kernel
theorem dX0_pays_0 : decode cX0_pays 0 = .ok (.aload_n 0, 1) := dk_42 (dk_at dksX0_pays_0 0 rfl rfl)
theorem dX0_pays_1 : decode cX0_pays 1 = .ok (.iload_n 1, 1) := dk_27 (dk_at dksX0_pays_0 1 rfl rfl)
theorem dX0_pays_2 : decode cX0_pays 2 = .ok (.invokevirtual 263, 3) := dk_182 1 7 (dk_at dksX0_pays_0 2 rfl rfl)
theorem dX0_pays_5 : decode cX0_pays 5 = .ok (.ifCond .eq 12, 3) := dk_153 0 12 (dk_at dksX0_pays_0 5 rfl rfl)
theorem dX0_pays_8 : decode cX0_pays 8 = .ok (.aload_n 0, 1) := dk_42 (dk_at dksX0_pays_0 8 rfl rfl)
theorem dX0_pays_9 : decode cX0_pays 9 = .ok (.getfield 77, 3) := dk_180 0 77 (dk_at dksX0_pays_0 9 rfl rfl)
theorem dX0_pays_12 : decode cX0_pays 12 = .ok (.iload_n 1, 1) := dk_27 (dk_at dksX0_pays_0 12 rfl rfl)
theorem dX0_pays_13 : decode cX0_pays 13 = .ok (.iaload, 1) := dk_46 (dk_at dksX0_pays_0 13 rfl rfl)
theorem dX0_pays_14 : decode cX0_pays 14 = .ok (.goto 5, 3) := dk_167 0 5 (dk_at dksX0_pays_0 14 rfl rfl)
theorem dX0_pays_17 : decode cX0_pays 17 = .ok (.bipush (-2), 2) := dk_16 254 (dk_at dksX0_pays_0 17 rfl rfl)
theorem dX0_pays_19 : decode cX0_pays 19 = .ok (.ireturn, 1) := dk_172 (dk_at dksX0_pays_0 19 rfl rfl)
abbrev cX0_tolls : ByteArray := prog_1_method_48_code
def yX0_tolls : MethodName := ⟨RX0, "tolls", "()I"⟩
def dkwX0_tolls_1 : List UInt8 := [162, 0, 18, 27, 42, 180, 0, 77, 28, 46, 96, 60, 132, 2, 1, 167, 255, 233, 27, 172]
abbrev dktX0_tolls_1 : List UInt8 := dkwX0_tolls_1 ++ []
def dkwX0_tolls_0 : List UInt8 := [42, 182, 1, 4, 154, 0, 6, 16, 254, 172, 3, 60, 3, 61, 28, 42, 180, 0, 10, 180, 0, 156]
abbrev dktX0_tolls_0 : List UInt8 := dkwX0_tolls_0 ++ dktX0_tolls_1
theorem dksX0_tolls_0 : cX0_tolls.data.toList.drop 0 = dktX0_tolls_0 := by decide +kernel
theorem dksX0_tolls_1 : cX0_tolls.data.toList.drop 22 = dktX0_tolls_1 := dk_seg dksX0_tolls_0 22 rfl rfl
theorem dX0_tolls_0 : decode cX0_tolls 0 = .ok (.aload_n 0, 1) := dk_42 (dk_at dksX0_tolls_0 0 rfl rfl)
theorem dX0_tolls_1 : decode cX0_tolls 1 = .ok (.invokevirtual 260, 3) := dk_182 1 4 (dk_at dksX0_tolls_0 1 rfl rfl)
theorem dX0_tolls_4 : decode cX0_tolls 4 = .ok (.ifCond .ne 6, 3) := dk_154 0 6 (dk_at dksX0_tolls_0 4 rfl rfl)
theorem dX0_tolls_7 : decode cX0_tolls 7 = .ok (.bipush (-2), 2) := dk_16 254 (dk_at dksX0_tolls_0 7 rfl rfl)
theorem dX0_tolls_9 : decode cX0_tolls 9 = .ok (.ireturn, 1) := dk_172 (dk_at dksX0_tolls_0 9 rfl rfl)
theorem dX0_tolls_10 : decode cX0_tolls 10 = .ok (.iconst 0, 1) := dk_3 (dk_at dksX0_tolls_0 10 rfl rfl)
theorem dX0_tolls_11 : decode cX0_tolls 11 = .ok (.istore_n 1, 1) := dk_60 (dk_at dksX0_tolls_0 11 rfl rfl)
theorem dX0_tolls_12 : decode cX0_tolls 12 = .ok (.iconst 0, 1) := dk_3 (dk_at dksX0_tolls_0 12 rfl rfl)
theorem dX0_tolls_13 : decode cX0_tolls 13 = .ok (.istore_n 2, 1) := dk_61 (dk_at dksX0_tolls_0 13 rfl rfl)
theorem dX0_tolls_14 : decode cX0_tolls 14 = .ok (.iload_n 2, 1) := dk_28 (dk_at dksX0_tolls_0 14 rfl rfl)
theorem dX0_tolls_15 : decode cX0_tolls 15 = .ok (.aload_n 0, 1) := dk_42 (dk_at dksX0_tolls_0 15 rfl rfl)
theorem dX0_tolls_16 : decode cX0_tolls 16 = .ok (.getfield 10, 3) := dk_180 0 10 (dk_at dksX0_tolls_0 16 rfl rfl)
theorem dX0_tolls_19 : decode cX0_tolls 19 = .ok (.getfield 156, 3) := dk_180 0 156 (dk_at dksX0_tolls_0 19 rfl rfl)
theorem dX0_tolls_22 : decode cX0_tolls 22 = .ok (.if_icmp .ge 18, 3) := dk_162 0 18 (dk_at dksX0_tolls_1 0 rfl rfl)
theorem dX0_tolls_25 : decode cX0_tolls 25 = .ok (.iload_n 1, 1) := dk_27 (dk_at dksX0_tolls_1 3 rfl rfl)
theorem dX0_tolls_26 : decode cX0_tolls 26 = .ok (.aload_n 0, 1) := dk_42 (dk_at dksX0_tolls_1 4 rfl rfl)
theorem dX0_tolls_27 : decode cX0_tolls 27 = .ok (.getfield 77, 3) := dk_180 0 77 (dk_at dksX0_tolls_1 5 rfl rfl)
theorem dX0_tolls_30 : decode cX0_tolls 30 = .ok (.iload_n 2, 1) := dk_28 (dk_at dksX0_tolls_1 8 rfl rfl)
theorem dX0_tolls_31 : decode cX0_tolls 31 = .ok (.iaload, 1) := dk_46 (dk_at dksX0_tolls_1 9 rfl rfl)
theorem dX0_tolls_32 : decode cX0_tolls 32 = .ok (.iadd, 1) := dk_96 (dk_at dksX0_tolls_1 10 rfl rfl)
theorem dX0_tolls_33 : decode cX0_tolls 33 = .ok (.istore_n 1, 1) := dk_60 (dk_at dksX0_tolls_1 11 rfl rfl)
theorem dX0_tolls_34 : decode cX0_tolls 34 = .ok (.iinc 2 1, 3) := dk_132 2 1 (dk_at dksX0_tolls_1 12 rfl rfl)
theorem dX0_tolls_37 : decode cX0_tolls 37 = .ok (.goto (-23), 3) := dk_167 255 233 (dk_at dksX0_tolls_1 15 rfl rfl)
theorem dX0_tolls_40 : decode cX0_tolls 40 = .ok (.iload_n 1, 1) := dk_27 (dk_at dksX0_tolls_1 18 rfl rfl)
theorem dX0_tolls_41 : decode cX0_tolls 41 = .ok (.ireturn, 1) := dk_172 (dk_at dksX0_tolls_1 19 rfl rfl)
abbrev cX0_wipes : ByteArray := prog_1_method_49_code
def yX0_wipes : MethodName := ⟨RX0, "wipes", "(I)I"⟩
def dkwX0_wipes_0 : List UInt8 := [42, 27, 182, 1, 7, 153, 0, 12, 42, 180, 0, 80, 27, 46, 167, 0, 5, 16, 254, 172]
abbrev dktX0_wipes_0 : List UInt8 := dkwX0_wipes_0 ++ []
theorem dksX0_wipes_0 : cX0_wipes.data.toList.drop 0 = dktX0_wipes_0 := by decide +kernel
theorem dX0_wipes_0 : decode cX0_wipes 0 = .ok (.aload_n 0, 1) := dk_42 (dk_at dksX0_wipes_0 0 rfl rfl)
theorem dX0_wipes_1 : decode cX0_wipes 1 = .ok (.iload_n 1, 1) := dk_27 (dk_at dksX0_wipes_0 1 rfl rfl)
theorem dX0_wipes_2 : decode cX0_wipes 2 = .ok (.invokevirtual 263, 3) := dk_182 1 7 (dk_at dksX0_wipes_0 2 rfl rfl)
theorem dX0_wipes_5 : decode cX0_wipes 5 = .ok (.ifCond .eq 12, 3) := dk_153 0 12 (dk_at dksX0_wipes_0 5 rfl rfl)
theorem dX0_wipes_8 : decode cX0_wipes 8 = .ok (.aload_n 0, 1) := dk_42 (dk_at dksX0_wipes_0 8 rfl rfl)
theorem dX0_wipes_9 : decode cX0_wipes 9 = .ok (.getfield 80, 3) := dk_180 0 80 (dk_at dksX0_wipes_0 9 rfl rfl)
theorem dX0_wipes_12 : decode cX0_wipes 12 = .ok (.iload_n 1, 1) := dk_27 (dk_at dksX0_wipes_0 12 rfl rfl)
theorem dX0_wipes_13 : decode cX0_wipes 13 = .ok (.iaload, 1) := dk_46 (dk_at dksX0_wipes_0 13 rfl rfl)
theorem dX0_wipes_14 : decode cX0_wipes 14 = .ok (.goto 5, 3) := dk_167 0 5 (dk_at dksX0_wipes_0 14 rfl rfl)
theorem dX0_wipes_17 : decode cX0_wipes 17 = .ok (.bipush (-2), 2) := dk_16 254 (dk_at dksX0_wipes_0 17 rfl rfl)
theorem dX0_wipes_19 : decode cX0_wipes 19 = .ok (.ireturn, 1) := dk_172 (dk_at dksX0_wipes_0 19 rfl rfl)
abbrev cX0_breaks : ByteArray := prog_1_method_50_code
def yX0_breaks : MethodName := ⟨RX0, "breaks", "(I)I"⟩
def dkwX0_breaks_0 : List UInt8 := [42, 27, 182, 1, 15, 153, 0, 12, 42, 180, 0, 83, 27, 46, 167, 0, 5, 16, 254, 172]
abbrev dktX0_breaks_0 : List UInt8 := dkwX0_breaks_0 ++ []
theorem dksX0_breaks_0 : cX0_breaks.data.toList.drop 0 = dktX0_breaks_0 := by decide +kernel
theorem dX0_breaks_0 : decode cX0_breaks 0 = .ok (.aload_n 0, 1) := dk_42 (dk_at dksX0_breaks_0 0 rfl rfl)
theorem dX0_breaks_1 : decode cX0_breaks 1 = .ok (.iload_n 1, 1) := dk_27 (dk_at dksX0_breaks_0 1 rfl rfl)
theorem dX0_breaks_2 : decode cX0_breaks 2 = .ok (.invokevirtual 271, 3) := dk_182 1 15 (dk_at dksX0_breaks_0 2 rfl rfl)
theorem dX0_breaks_5 : decode cX0_breaks 5 = .ok (.ifCond .eq 12, 3) := dk_153 0 12 (dk_at dksX0_breaks_0 5 rfl rfl)
theorem dX0_breaks_8 : decode cX0_breaks 8 = .ok (.aload_n 0, 1) := dk_42 (dk_at dksX0_breaks_0 8 rfl rfl)
theorem dX0_breaks_9 : decode cX0_breaks 9 = .ok (.getfield 83, 3) := dk_180 0 83 (dk_at dksX0_breaks_0 9 rfl rfl)
theorem dX0_breaks_12 : decode cX0_breaks 12 = .ok (.iload_n 1, 1) := dk_27 (dk_at dksX0_breaks_0 12 rfl rfl)
theorem dX0_breaks_13 : decode cX0_breaks 13 = .ok (.iaload, 1) := dk_46 (dk_at dksX0_breaks_0 13 rfl rfl)
theorem dX0_breaks_14 : decode cX0_breaks 14 = .ok (.goto 5, 3) := dk_167 0 5 (dk_at dksX0_breaks_0 14 rfl rfl)
theorem dX0_breaks_17 : decode cX0_breaks 17 = .ok (.bipush (-2), 2) := dk_16 254 (dk_at dksX0_breaks_0 17 rfl rfl)
theorem dX0_breaks_19 : decode cX0_breaks 19 = .ok (.ireturn, 1) := dk_172 (dk_at dksX0_breaks_0 19 rfl rfl)
abbrev cX0_fails : ByteArray := prog_1_method_51_code
def yX0_fails : MethodName := ⟨RX0, "fails", "()I"⟩
def dkwX0_fails_2 : List UInt8 := [27, 162, 0, 10, 42, 180, 0, 83, 28, 46, 60, 132, 2, 1, 167, 255, 210, 27, 172]
abbrev dktX0_fails_2 : List UInt8 := dkwX0_fails_2 ++ []
def dkwX0_fails_1 : List UInt8 := [162, 0, 41, 42, 180, 0, 83, 28, 46, 2, 159, 0, 25, 27, 2, 159, 0, 13, 42, 180, 0, 83, 28, 46]
abbrev dktX0_fails_1 : List UInt8 := dkwX0_fails_1 ++ dktX0_fails_2
def dkwX0_fails_0 : List UInt8 := [42, 182, 1, 4, 154, 0, 6, 16, 254, 172, 2, 60, 3, 61, 28, 42, 180, 0, 10, 180, 0, 153]
abbrev dktX0_fails_0 : List UInt8 := dkwX0_fails_0 ++ dktX0_fails_1
theorem dksX0_fails_0 : cX0_fails.data.toList.drop 0 = dktX0_fails_0 := by decide +kernel
theorem dksX0_fails_1 : cX0_fails.data.toList.drop 22 = dktX0_fails_1 := dk_seg dksX0_fails_0 22 rfl rfl
theorem dksX0_fails_2 : cX0_fails.data.toList.drop 46 = dktX0_fails_2 := dk_seg dksX0_fails_1 24 rfl rfl
theorem dX0_fails_0 : decode cX0_fails 0 = .ok (.aload_n 0, 1) := dk_42 (dk_at dksX0_fails_0 0 rfl rfl)
theorem dX0_fails_1 : decode cX0_fails 1 = .ok (.invokevirtual 260, 3) := dk_182 1 4 (dk_at dksX0_fails_0 1 rfl rfl)
theorem dX0_fails_4 : decode cX0_fails 4 = .ok (.ifCond .ne 6, 3) := dk_154 0 6 (dk_at dksX0_fails_0 4 rfl rfl)
theorem dX0_fails_7 : decode cX0_fails 7 = .ok (.bipush (-2), 2) := dk_16 254 (dk_at dksX0_fails_0 7 rfl rfl)
theorem dX0_fails_9 : decode cX0_fails 9 = .ok (.ireturn, 1) := dk_172 (dk_at dksX0_fails_0 9 rfl rfl)
theorem dX0_fails_10 : decode cX0_fails 10 = .ok (.iconst (-1), 1) := dk_2 (dk_at dksX0_fails_0 10 rfl rfl)
theorem dX0_fails_11 : decode cX0_fails 11 = .ok (.istore_n 1, 1) := dk_60 (dk_at dksX0_fails_0 11 rfl rfl)
theorem dX0_fails_12 : decode cX0_fails 12 = .ok (.iconst 0, 1) := dk_3 (dk_at dksX0_fails_0 12 rfl rfl)
theorem dX0_fails_13 : decode cX0_fails 13 = .ok (.istore_n 2, 1) := dk_61 (dk_at dksX0_fails_0 13 rfl rfl)
theorem dX0_fails_14 : decode cX0_fails 14 = .ok (.iload_n 2, 1) := dk_28 (dk_at dksX0_fails_0 14 rfl rfl)
theorem dX0_fails_15 : decode cX0_fails 15 = .ok (.aload_n 0, 1) := dk_42 (dk_at dksX0_fails_0 15 rfl rfl)
theorem dX0_fails_16 : decode cX0_fails 16 = .ok (.getfield 10, 3) := dk_180 0 10 (dk_at dksX0_fails_0 16 rfl rfl)
theorem dX0_fails_19 : decode cX0_fails 19 = .ok (.getfield 153, 3) := dk_180 0 153 (dk_at dksX0_fails_0 19 rfl rfl)
theorem dX0_fails_22 : decode cX0_fails 22 = .ok (.if_icmp .ge 41, 3) := dk_162 0 41 (dk_at dksX0_fails_1 0 rfl rfl)
theorem dX0_fails_25 : decode cX0_fails 25 = .ok (.aload_n 0, 1) := dk_42 (dk_at dksX0_fails_1 3 rfl rfl)
theorem dX0_fails_26 : decode cX0_fails 26 = .ok (.getfield 83, 3) := dk_180 0 83 (dk_at dksX0_fails_1 4 rfl rfl)
theorem dX0_fails_29 : decode cX0_fails 29 = .ok (.iload_n 2, 1) := dk_28 (dk_at dksX0_fails_1 7 rfl rfl)
theorem dX0_fails_30 : decode cX0_fails 30 = .ok (.iaload, 1) := dk_46 (dk_at dksX0_fails_1 8 rfl rfl)
theorem dX0_fails_31 : decode cX0_fails 31 = .ok (.iconst (-1), 1) := dk_2 (dk_at dksX0_fails_1 9 rfl rfl)
theorem dX0_fails_32 : decode cX0_fails 32 = .ok (.if_icmp .eq 25, 3) := dk_159 0 25 (dk_at dksX0_fails_1 10 rfl rfl)
theorem dX0_fails_35 : decode cX0_fails 35 = .ok (.iload_n 1, 1) := dk_27 (dk_at dksX0_fails_1 13 rfl rfl)
theorem dX0_fails_36 : decode cX0_fails 36 = .ok (.iconst (-1), 1) := dk_2 (dk_at dksX0_fails_1 14 rfl rfl)
theorem dX0_fails_37 : decode cX0_fails 37 = .ok (.if_icmp .eq 13, 3) := dk_159 0 13 (dk_at dksX0_fails_1 15 rfl rfl)
theorem dX0_fails_40 : decode cX0_fails 40 = .ok (.aload_n 0, 1) := dk_42 (dk_at dksX0_fails_1 18 rfl rfl)
theorem dX0_fails_41 : decode cX0_fails 41 = .ok (.getfield 83, 3) := dk_180 0 83 (dk_at dksX0_fails_1 19 rfl rfl)
theorem dX0_fails_44 : decode cX0_fails 44 = .ok (.iload_n 2, 1) := dk_28 (dk_at dksX0_fails_1 22 rfl rfl)
theorem dX0_fails_45 : decode cX0_fails 45 = .ok (.iaload, 1) := dk_46 (dk_at dksX0_fails_1 23 rfl rfl)
theorem dX0_fails_46 : decode cX0_fails 46 = .ok (.iload_n 1, 1) := dk_27 (dk_at dksX0_fails_2 0 rfl rfl)
theorem dX0_fails_47 : decode cX0_fails 47 = .ok (.if_icmp .ge 10, 3) := dk_162 0 10 (dk_at dksX0_fails_2 1 rfl rfl)
theorem dX0_fails_50 : decode cX0_fails 50 = .ok (.aload_n 0, 1) := dk_42 (dk_at dksX0_fails_2 4 rfl rfl)
theorem dX0_fails_51 : decode cX0_fails 51 = .ok (.getfield 83, 3) := dk_180 0 83 (dk_at dksX0_fails_2 5 rfl rfl)
theorem dX0_fails_54 : decode cX0_fails 54 = .ok (.iload_n 2, 1) := dk_28 (dk_at dksX0_fails_2 8 rfl rfl)
theorem dX0_fails_55 : decode cX0_fails 55 = .ok (.iaload, 1) := dk_46 (dk_at dksX0_fails_2 9 rfl rfl)
theorem dX0_fails_56 : decode cX0_fails 56 = .ok (.istore_n 1, 1) := dk_60 (dk_at dksX0_fails_2 10 rfl rfl)
theorem dX0_fails_57 : decode cX0_fails 57 = .ok (.iinc 2 1, 3) := dk_132 2 1 (dk_at dksX0_fails_2 11 rfl rfl)
theorem dX0_fails_60 : decode cX0_fails 60 = .ok (.goto (-46), 3) := dk_167 255 210 (dk_at dksX0_fails_2 14 rfl rfl)
theorem dX0_fails_63 : decode cX0_fails 63 = .ok (.iload_n 1, 1) := dk_27 (dk_at dksX0_fails_2 17 rfl rfl)
theorem dX0_fails_64 : decode cX0_fails 64 = .ok (.ireturn, 1) := dk_172 (dk_at dksX0_fails_2 18 rfl rfl)
abbrev cX0_spare : ByteArray := prog_1_method_52_code
def yX0_spare : MethodName := ⟨RX0, "spare", "(I)I"⟩
def dkwX0_spare_1 : List UInt8 := [167, 0, 6, 17, 252, 24, 172]
abbrev dktX0_spare_1 : List UInt8 := dkwX0_spare_1 ++ []
def dkwX0_spare_0 : List UInt8 := [42, 27, 182, 1, 15, 153, 0, 21, 42, 180, 0, 10, 180, 0, 174, 27, 46, 42, 27, 182, 0, 218, 100]
abbrev dktX0_spare_0 : List UInt8 := dkwX0_spare_0 ++ dktX0_spare_1
theorem dksX0_spare_0 : cX0_spare.data.toList.drop 0 = dktX0_spare_0 := by decide +kernel
theorem dksX0_spare_1 : cX0_spare.data.toList.drop 23 = dktX0_spare_1 := dk_seg dksX0_spare_0 23 rfl rfl
theorem dX0_spare_0 : decode cX0_spare 0 = .ok (.aload_n 0, 1) := dk_42 (dk_at dksX0_spare_0 0 rfl rfl)
theorem dX0_spare_1 : decode cX0_spare 1 = .ok (.iload_n 1, 1) := dk_27 (dk_at dksX0_spare_0 1 rfl rfl)
theorem dX0_spare_2 : decode cX0_spare 2 = .ok (.invokevirtual 271, 3) := dk_182 1 15 (dk_at dksX0_spare_0 2 rfl rfl)
theorem dX0_spare_5 : decode cX0_spare 5 = .ok (.ifCond .eq 21, 3) := dk_153 0 21 (dk_at dksX0_spare_0 5 rfl rfl)
theorem dX0_spare_8 : decode cX0_spare 8 = .ok (.aload_n 0, 1) := dk_42 (dk_at dksX0_spare_0 8 rfl rfl)
theorem dX0_spare_9 : decode cX0_spare 9 = .ok (.getfield 10, 3) := dk_180 0 10 (dk_at dksX0_spare_0 9 rfl rfl)
theorem dX0_spare_12 : decode cX0_spare 12 = .ok (.getfield 174, 3) := dk_180 0 174 (dk_at dksX0_spare_0 12 rfl rfl)
theorem dX0_spare_15 : decode cX0_spare 15 = .ok (.iload_n 1, 1) := dk_27 (dk_at dksX0_spare_0 15 rfl rfl)
theorem dX0_spare_16 : decode cX0_spare 16 = .ok (.iaload, 1) := dk_46 (dk_at dksX0_spare_0 16 rfl rfl)
theorem dX0_spare_17 : decode cX0_spare 17 = .ok (.aload_n 0, 1) := dk_42 (dk_at dksX0_spare_0 17 rfl rfl)
theorem dX0_spare_18 : decode cX0_spare 18 = .ok (.iload_n 1, 1) := dk_27 (dk_at dksX0_spare_0 18 rfl rfl)
theorem dX0_spare_19 : decode cX0_spare 19 = .ok (.invokevirtual 218, 3) := dk_182 0 218 (dk_at dksX0_spare_0 19 rfl rfl)
theorem dX0_spare_22 : decode cX0_spare 22 = .ok (.isub, 1) := dk_100 (dk_at dksX0_spare_0 22 rfl rfl)
theorem dX0_spare_23 : decode cX0_spare 23 = .ok (.goto 6, 3) := dk_167 0 6 (dk_at dksX0_spare_1 0 rfl rfl)
theorem dX0_spare_26 : decode cX0_spare 26 = .ok (.sipush (-1000), 3) := dk_17 252 24 (dk_at dksX0_spare_1 3 rfl rfl)
theorem dX0_spare_29 : decode cX0_spare 29 = .ok (.ireturn, 1) := dk_172 (dk_at dksX0_spare_1 6 rfl rfl)
abbrev cX0_kept : ByteArray := prog_1_method_53_code
def yX0_kept : MethodName := ⟨RX0, "kept", "(I)I"⟩
def dkwX0_kept_2 : List UInt8 := [167, 255, 227, 28, 172]
abbrev dktX0_kept_2 : List UInt8 := dkwX0_kept_2 ++ []
def dkwX0_kept_1 : List UInt8 := [162, 0, 25, 28, 4, 42, 180, 0, 28, 16, 8, 27, 104, 29, 96, 46, 120, 128, 61, 132, 3, 1]
abbrev dktX0_kept_1 : List UInt8 := dkwX0_kept_1 ++ dktX0_kept_2
def dkwX0_kept_0 : List UInt8 := [42, 27, 182, 1, 15, 154, 0, 6, 16, 254, 172, 3, 61, 3, 62, 29, 42, 180, 0, 31, 27, 46]
abbrev dktX0_kept_0 : List UInt8 := dkwX0_kept_0 ++ dktX0_kept_1
theorem dksX0_kept_0 : cX0_kept.data.toList.drop 0 = dktX0_kept_0 := by decide +kernel
theorem dksX0_kept_1 : cX0_kept.data.toList.drop 22 = dktX0_kept_1 := dk_seg dksX0_kept_0 22 rfl rfl
theorem dksX0_kept_2 : cX0_kept.data.toList.drop 44 = dktX0_kept_2 := dk_seg dksX0_kept_1 22 rfl rfl
theorem dX0_kept_0 : decode cX0_kept 0 = .ok (.aload_n 0, 1) := dk_42 (dk_at dksX0_kept_0 0 rfl rfl)
theorem dX0_kept_1 : decode cX0_kept 1 = .ok (.iload_n 1, 1) := dk_27 (dk_at dksX0_kept_0 1 rfl rfl)
theorem dX0_kept_2 : decode cX0_kept 2 = .ok (.invokevirtual 271, 3) := dk_182 1 15 (dk_at dksX0_kept_0 2 rfl rfl)
theorem dX0_kept_5 : decode cX0_kept 5 = .ok (.ifCond .ne 6, 3) := dk_154 0 6 (dk_at dksX0_kept_0 5 rfl rfl)
theorem dX0_kept_8 : decode cX0_kept 8 = .ok (.bipush (-2), 2) := dk_16 254 (dk_at dksX0_kept_0 8 rfl rfl)
theorem dX0_kept_10 : decode cX0_kept 10 = .ok (.ireturn, 1) := dk_172 (dk_at dksX0_kept_0 10 rfl rfl)
theorem dX0_kept_11 : decode cX0_kept 11 = .ok (.iconst 0, 1) := dk_3 (dk_at dksX0_kept_0 11 rfl rfl)
theorem dX0_kept_12 : decode cX0_kept 12 = .ok (.istore_n 2, 1) := dk_61 (dk_at dksX0_kept_0 12 rfl rfl)
theorem dX0_kept_13 : decode cX0_kept 13 = .ok (.iconst 0, 1) := dk_3 (dk_at dksX0_kept_0 13 rfl rfl)
theorem dX0_kept_14 : decode cX0_kept 14 = .ok (.istore_n 3, 1) := dk_62 (dk_at dksX0_kept_0 14 rfl rfl)
theorem dX0_kept_15 : decode cX0_kept 15 = .ok (.iload_n 3, 1) := dk_29 (dk_at dksX0_kept_0 15 rfl rfl)
theorem dX0_kept_16 : decode cX0_kept 16 = .ok (.aload_n 0, 1) := dk_42 (dk_at dksX0_kept_0 16 rfl rfl)
theorem dX0_kept_17 : decode cX0_kept 17 = .ok (.getfield 31, 3) := dk_180 0 31 (dk_at dksX0_kept_0 17 rfl rfl)
theorem dX0_kept_20 : decode cX0_kept 20 = .ok (.iload_n 1, 1) := dk_27 (dk_at dksX0_kept_0 20 rfl rfl)
theorem dX0_kept_21 : decode cX0_kept 21 = .ok (.iaload, 1) := dk_46 (dk_at dksX0_kept_0 21 rfl rfl)
theorem dX0_kept_22 : decode cX0_kept 22 = .ok (.if_icmp .ge 25, 3) := dk_162 0 25 (dk_at dksX0_kept_1 0 rfl rfl)
theorem dX0_kept_25 : decode cX0_kept 25 = .ok (.iload_n 2, 1) := dk_28 (dk_at dksX0_kept_1 3 rfl rfl)
theorem dX0_kept_26 : decode cX0_kept 26 = .ok (.iconst 1, 1) := dk_4 (dk_at dksX0_kept_1 4 rfl rfl)
theorem dX0_kept_27 : decode cX0_kept 27 = .ok (.aload_n 0, 1) := dk_42 (dk_at dksX0_kept_1 5 rfl rfl)
theorem dX0_kept_28 : decode cX0_kept 28 = .ok (.getfield 28, 3) := dk_180 0 28 (dk_at dksX0_kept_1 6 rfl rfl)
theorem dX0_kept_31 : decode cX0_kept 31 = .ok (.bipush 8, 2) := dk_16 8 (dk_at dksX0_kept_1 9 rfl rfl)
theorem dX0_kept_33 : decode cX0_kept 33 = .ok (.iload_n 1, 1) := dk_27 (dk_at dksX0_kept_1 11 rfl rfl)
theorem dX0_kept_34 : decode cX0_kept 34 = .ok (.imul, 1) := dk_104 (dk_at dksX0_kept_1 12 rfl rfl)
theorem dX0_kept_35 : decode cX0_kept 35 = .ok (.iload_n 3, 1) := dk_29 (dk_at dksX0_kept_1 13 rfl rfl)
theorem dX0_kept_36 : decode cX0_kept 36 = .ok (.iadd, 1) := dk_96 (dk_at dksX0_kept_1 14 rfl rfl)
theorem dX0_kept_37 : decode cX0_kept 37 = .ok (.iaload, 1) := dk_46 (dk_at dksX0_kept_1 15 rfl rfl)
theorem dX0_kept_38 : decode cX0_kept 38 = .ok (.ishl, 1) := dk_120 (dk_at dksX0_kept_1 16 rfl rfl)
theorem dX0_kept_39 : decode cX0_kept 39 = .ok (.ior, 1) := dk_128 (dk_at dksX0_kept_1 17 rfl rfl)
theorem dX0_kept_40 : decode cX0_kept 40 = .ok (.istore_n 2, 1) := dk_61 (dk_at dksX0_kept_1 18 rfl rfl)
theorem dX0_kept_41 : decode cX0_kept 41 = .ok (.iinc 3 1, 3) := dk_132 3 1 (dk_at dksX0_kept_1 19 rfl rfl)
theorem dX0_kept_44 : decode cX0_kept 44 = .ok (.goto (-29), 3) := dk_167 255 227 (dk_at dksX0_kept_2 0 rfl rfl)
theorem dX0_kept_47 : decode cX0_kept 47 = .ok (.iload_n 2, 1) := dk_28 (dk_at dksX0_kept_2 3 rfl rfl)
theorem dX0_kept_48 : decode cX0_kept 48 = .ok (.ireturn, 1) := dk_172 (dk_at dksX0_kept_2 4 rfl rfl)
abbrev cX0_last : ByteArray := prog_1_method_54_code
def yX0_last : MethodName := ⟨RX0, "last", "(II)I"⟩
def dkwX0_last_2 : List UInt8 := [172]
abbrev dktX0_last_2 : List UInt8 := dkwX0_last_2 ++ []
def dkwX0_last_1 : List UInt8 := [154, 0, 7, 2, 167, 0, 20, 42, 180, 0, 86, 16, 8, 6, 28, 104, 27, 96, 104, 29, 96, 4, 100, 46]
abbrev dktX0_last_1 : List UInt8 := dkwX0_last_1 ++ dktX0_last_2
def dkwX0_last_0 : List UInt8 := [42, 27, 28, 182, 1, 21, 154, 0, 6, 16, 254, 172, 42, 180, 0, 89, 6, 28, 104, 27, 96, 46, 62, 29]
abbrev dktX0_last_0 : List UInt8 := dkwX0_last_0 ++ dktX0_last_1
theorem dksX0_last_0 : cX0_last.data.toList.drop 0 = dktX0_last_0 := by decide +kernel
theorem dksX0_last_1 : cX0_last.data.toList.drop 24 = dktX0_last_1 := dk_seg dksX0_last_0 24 rfl rfl
theorem dksX0_last_2 : cX0_last.data.toList.drop 48 = dktX0_last_2 := dk_seg dksX0_last_1 24 rfl rfl
theorem dX0_last_0 : decode cX0_last 0 = .ok (.aload_n 0, 1) := dk_42 (dk_at dksX0_last_0 0 rfl rfl)
theorem dX0_last_1 : decode cX0_last 1 = .ok (.iload_n 1, 1) := dk_27 (dk_at dksX0_last_0 1 rfl rfl)
theorem dX0_last_2 : decode cX0_last 2 = .ok (.iload_n 2, 1) := dk_28 (dk_at dksX0_last_0 2 rfl rfl)
theorem dX0_last_3 : decode cX0_last 3 = .ok (.invokevirtual 277, 3) := dk_182 1 21 (dk_at dksX0_last_0 3 rfl rfl)
theorem dX0_last_6 : decode cX0_last 6 = .ok (.ifCond .ne 6, 3) := dk_154 0 6 (dk_at dksX0_last_0 6 rfl rfl)
theorem dX0_last_9 : decode cX0_last 9 = .ok (.bipush (-2), 2) := dk_16 254 (dk_at dksX0_last_0 9 rfl rfl)
theorem dX0_last_11 : decode cX0_last 11 = .ok (.ireturn, 1) := dk_172 (dk_at dksX0_last_0 11 rfl rfl)
theorem dX0_last_12 : decode cX0_last 12 = .ok (.aload_n 0, 1) := dk_42 (dk_at dksX0_last_0 12 rfl rfl)
theorem dX0_last_13 : decode cX0_last 13 = .ok (.getfield 89, 3) := dk_180 0 89 (dk_at dksX0_last_0 13 rfl rfl)
theorem dX0_last_16 : decode cX0_last 16 = .ok (.iconst 3, 1) := dk_6 (dk_at dksX0_last_0 16 rfl rfl)
theorem dX0_last_17 : decode cX0_last 17 = .ok (.iload_n 2, 1) := dk_28 (dk_at dksX0_last_0 17 rfl rfl)
theorem dX0_last_18 : decode cX0_last 18 = .ok (.imul, 1) := dk_104 (dk_at dksX0_last_0 18 rfl rfl)
theorem dX0_last_19 : decode cX0_last 19 = .ok (.iload_n 1, 1) := dk_27 (dk_at dksX0_last_0 19 rfl rfl)
theorem dX0_last_20 : decode cX0_last 20 = .ok (.iadd, 1) := dk_96 (dk_at dksX0_last_0 20 rfl rfl)
theorem dX0_last_21 : decode cX0_last 21 = .ok (.iaload, 1) := dk_46 (dk_at dksX0_last_0 21 rfl rfl)
theorem dX0_last_22 : decode cX0_last 22 = .ok (.istore_n 3, 1) := dk_62 (dk_at dksX0_last_0 22 rfl rfl)
theorem dX0_last_23 : decode cX0_last 23 = .ok (.iload_n 3, 1) := dk_29 (dk_at dksX0_last_0 23 rfl rfl)
theorem dX0_last_24 : decode cX0_last 24 = .ok (.ifCond .ne 7, 3) := dk_154 0 7 (dk_at dksX0_last_1 0 rfl rfl)
theorem dX0_last_27 : decode cX0_last 27 = .ok (.iconst (-1), 1) := dk_2 (dk_at dksX0_last_1 3 rfl rfl)
theorem dX0_last_28 : decode cX0_last 28 = .ok (.goto 20, 3) := dk_167 0 20 (dk_at dksX0_last_1 4 rfl rfl)
theorem dX0_last_31 : decode cX0_last 31 = .ok (.aload_n 0, 1) := dk_42 (dk_at dksX0_last_1 7 rfl rfl)
theorem dX0_last_32 : decode cX0_last 32 = .ok (.getfield 86, 3) := dk_180 0 86 (dk_at dksX0_last_1 8 rfl rfl)
theorem dX0_last_35 : decode cX0_last 35 = .ok (.bipush 8, 2) := dk_16 8 (dk_at dksX0_last_1 11 rfl rfl)
theorem dX0_last_37 : decode cX0_last 37 = .ok (.iconst 3, 1) := dk_6 (dk_at dksX0_last_1 13 rfl rfl)
theorem dX0_last_38 : decode cX0_last 38 = .ok (.iload_n 2, 1) := dk_28 (dk_at dksX0_last_1 14 rfl rfl)
theorem dX0_last_39 : decode cX0_last 39 = .ok (.imul, 1) := dk_104 (dk_at dksX0_last_1 15 rfl rfl)
theorem dX0_last_40 : decode cX0_last 40 = .ok (.iload_n 1, 1) := dk_27 (dk_at dksX0_last_1 16 rfl rfl)
theorem dX0_last_41 : decode cX0_last 41 = .ok (.iadd, 1) := dk_96 (dk_at dksX0_last_1 17 rfl rfl)
theorem dX0_last_42 : decode cX0_last 42 = .ok (.imul, 1) := dk_104 (dk_at dksX0_last_1 18 rfl rfl)
theorem dX0_last_43 : decode cX0_last 43 = .ok (.iload_n 3, 1) := dk_29 (dk_at dksX0_last_1 19 rfl rfl)
theorem dX0_last_44 : decode cX0_last 44 = .ok (.iadd, 1) := dk_96 (dk_at dksX0_last_1 20 rfl rfl)
theorem dX0_last_45 : decode cX0_last 45 = .ok (.iconst 1, 1) := dk_4 (dk_at dksX0_last_1 21 rfl rfl)
theorem dX0_last_46 : decode cX0_last 46 = .ok (.isub, 1) := dk_100 (dk_at dksX0_last_1 22 rfl rfl)
theorem dX0_last_47 : decode cX0_last 47 = .ok (.iaload, 1) := dk_46 (dk_at dksX0_last_1 23 rfl rfl)
theorem dX0_last_48 : decode cX0_last 48 = .ok (.ireturn, 1) := dk_172 (dk_at dksX0_last_2 0 rfl rfl)
abbrev cX0_broken : ByteArray := prog_1_method_55_code
def yX0_broken : MethodName := ⟨RX0, "broken", "(I)I"⟩
def dkwX0_broken_2 : List UInt8 := [4, 29, 120, 167, 0, 4, 3, 128, 61, 132, 3, 1, 167, 255, 212, 28, 172]
abbrev dktX0_broken_2 : List UInt8 := dkwX0_broken_2 ++ []
def dkwX0_broken_1 : List UInt8 := [162, 0, 39, 28, 42, 180, 0, 83, 29, 46, 2, 159, 0, 19, 42, 180, 0, 83, 29, 46, 27, 163, 0, 9]
abbrev dktX0_broken_1 : List UInt8 := dkwX0_broken_1 ++ dktX0_broken_2
def dkwX0_broken_0 : List UInt8 := [42, 27, 182, 1, 7, 154, 0, 6, 16, 254, 172, 3, 61, 3, 62, 29, 42, 180, 0, 10, 180, 0, 153]
abbrev dktX0_broken_0 : List UInt8 := dkwX0_broken_0 ++ dktX0_broken_1
theorem dksX0_broken_0 : cX0_broken.data.toList.drop 0 = dktX0_broken_0 := by decide +kernel
theorem dksX0_broken_1 : cX0_broken.data.toList.drop 23 = dktX0_broken_1 := dk_seg dksX0_broken_0 23 rfl rfl
theorem dksX0_broken_2 : cX0_broken.data.toList.drop 47 = dktX0_broken_2 := dk_seg dksX0_broken_1 24 rfl rfl
theorem dX0_broken_0 : decode cX0_broken 0 = .ok (.aload_n 0, 1) := dk_42 (dk_at dksX0_broken_0 0 rfl rfl)
theorem dX0_broken_1 : decode cX0_broken 1 = .ok (.iload_n 1, 1) := dk_27 (dk_at dksX0_broken_0 1 rfl rfl)
theorem dX0_broken_2 : decode cX0_broken 2 = .ok (.invokevirtual 263, 3) := dk_182 1 7 (dk_at dksX0_broken_0 2 rfl rfl)
theorem dX0_broken_5 : decode cX0_broken 5 = .ok (.ifCond .ne 6, 3) := dk_154 0 6 (dk_at dksX0_broken_0 5 rfl rfl)
theorem dX0_broken_8 : decode cX0_broken 8 = .ok (.bipush (-2), 2) := dk_16 254 (dk_at dksX0_broken_0 8 rfl rfl)
theorem dX0_broken_10 : decode cX0_broken 10 = .ok (.ireturn, 1) := dk_172 (dk_at dksX0_broken_0 10 rfl rfl)
theorem dX0_broken_11 : decode cX0_broken 11 = .ok (.iconst 0, 1) := dk_3 (dk_at dksX0_broken_0 11 rfl rfl)
theorem dX0_broken_12 : decode cX0_broken 12 = .ok (.istore_n 2, 1) := dk_61 (dk_at dksX0_broken_0 12 rfl rfl)
theorem dX0_broken_13 : decode cX0_broken 13 = .ok (.iconst 0, 1) := dk_3 (dk_at dksX0_broken_0 13 rfl rfl)
theorem dX0_broken_14 : decode cX0_broken 14 = .ok (.istore_n 3, 1) := dk_62 (dk_at dksX0_broken_0 14 rfl rfl)
theorem dX0_broken_15 : decode cX0_broken 15 = .ok (.iload_n 3, 1) := dk_29 (dk_at dksX0_broken_0 15 rfl rfl)
theorem dX0_broken_16 : decode cX0_broken 16 = .ok (.aload_n 0, 1) := dk_42 (dk_at dksX0_broken_0 16 rfl rfl)
theorem dX0_broken_17 : decode cX0_broken 17 = .ok (.getfield 10, 3) := dk_180 0 10 (dk_at dksX0_broken_0 17 rfl rfl)
theorem dX0_broken_20 : decode cX0_broken 20 = .ok (.getfield 153, 3) := dk_180 0 153 (dk_at dksX0_broken_0 20 rfl rfl)
theorem dX0_broken_23 : decode cX0_broken 23 = .ok (.if_icmp .ge 39, 3) := dk_162 0 39 (dk_at dksX0_broken_1 0 rfl rfl)
theorem dX0_broken_26 : decode cX0_broken 26 = .ok (.iload_n 2, 1) := dk_28 (dk_at dksX0_broken_1 3 rfl rfl)
theorem dX0_broken_27 : decode cX0_broken 27 = .ok (.aload_n 0, 1) := dk_42 (dk_at dksX0_broken_1 4 rfl rfl)
theorem dX0_broken_28 : decode cX0_broken 28 = .ok (.getfield 83, 3) := dk_180 0 83 (dk_at dksX0_broken_1 5 rfl rfl)
theorem dX0_broken_31 : decode cX0_broken 31 = .ok (.iload_n 3, 1) := dk_29 (dk_at dksX0_broken_1 8 rfl rfl)
theorem dX0_broken_32 : decode cX0_broken 32 = .ok (.iaload, 1) := dk_46 (dk_at dksX0_broken_1 9 rfl rfl)
theorem dX0_broken_33 : decode cX0_broken 33 = .ok (.iconst (-1), 1) := dk_2 (dk_at dksX0_broken_1 10 rfl rfl)
theorem dX0_broken_34 : decode cX0_broken 34 = .ok (.if_icmp .eq 19, 3) := dk_159 0 19 (dk_at dksX0_broken_1 11 rfl rfl)
theorem dX0_broken_37 : decode cX0_broken 37 = .ok (.aload_n 0, 1) := dk_42 (dk_at dksX0_broken_1 14 rfl rfl)
theorem dX0_broken_38 : decode cX0_broken 38 = .ok (.getfield 83, 3) := dk_180 0 83 (dk_at dksX0_broken_1 15 rfl rfl)
theorem dX0_broken_41 : decode cX0_broken 41 = .ok (.iload_n 3, 1) := dk_29 (dk_at dksX0_broken_1 18 rfl rfl)
theorem dX0_broken_42 : decode cX0_broken 42 = .ok (.iaload, 1) := dk_46 (dk_at dksX0_broken_1 19 rfl rfl)
theorem dX0_broken_43 : decode cX0_broken 43 = .ok (.iload_n 1, 1) := dk_27 (dk_at dksX0_broken_1 20 rfl rfl)
theorem dX0_broken_44 : decode cX0_broken 44 = .ok (.if_icmp .gt 9, 3) := dk_163 0 9 (dk_at dksX0_broken_1 21 rfl rfl)
theorem dX0_broken_47 : decode cX0_broken 47 = .ok (.iconst 1, 1) := dk_4 (dk_at dksX0_broken_2 0 rfl rfl)
theorem dX0_broken_48 : decode cX0_broken 48 = .ok (.iload_n 3, 1) := dk_29 (dk_at dksX0_broken_2 1 rfl rfl)
theorem dX0_broken_49 : decode cX0_broken 49 = .ok (.ishl, 1) := dk_120 (dk_at dksX0_broken_2 2 rfl rfl)
theorem dX0_broken_50 : decode cX0_broken 50 = .ok (.goto 4, 3) := dk_167 0 4 (dk_at dksX0_broken_2 3 rfl rfl)
theorem dX0_broken_53 : decode cX0_broken 53 = .ok (.iconst 0, 1) := dk_3 (dk_at dksX0_broken_2 6 rfl rfl)
theorem dX0_broken_54 : decode cX0_broken 54 = .ok (.ior, 1) := dk_128 (dk_at dksX0_broken_2 7 rfl rfl)
theorem dX0_broken_55 : decode cX0_broken 55 = .ok (.istore_n 2, 1) := dk_61 (dk_at dksX0_broken_2 8 rfl rfl)
theorem dX0_broken_56 : decode cX0_broken 56 = .ok (.iinc 3 1, 3) := dk_132 3 1 (dk_at dksX0_broken_2 9 rfl rfl)
theorem dX0_broken_59 : decode cX0_broken 59 = .ok (.goto (-44), 3) := dk_167 255 212 (dk_at dksX0_broken_2 12 rfl rfl)
theorem dX0_broken_62 : decode cX0_broken 62 = .ok (.iload_n 2, 1) := dk_28 (dk_at dksX0_broken_2 15 rfl rfl)
theorem dX0_broken_63 : decode cX0_broken 63 = .ok (.ireturn, 1) := dk_172 (dk_at dksX0_broken_2 16 rfl rfl)
abbrev cX0_free : ByteArray := prog_1_method_57_code
def yX0_free : MethodName := ⟨RX0, "free", "(II)I"⟩
def dkwX0_free_2 : List UInt8 := [3, 172]
abbrev dktX0_free_2 : List UInt8 := dkwX0_free_2 ++ []
def dkwX0_free_1 : List UInt8 := [182, 1, 24, 42, 180, 0, 92, 6, 28, 104, 27, 96, 46, 163, 0, 5, 29, 172, 132, 3, 255, 167, 255, 227]
abbrev dktX0_free_1 : List UInt8 := dkwX0_free_1 ++ dktX0_free_2
def dkwX0_free_0 : List UInt8 := [42, 27, 28, 182, 1, 21, 154, 0, 6, 16, 254, 172, 16, 99, 62, 29, 158, 0, 31, 42, 27, 28, 29]
abbrev dktX0_free_0 : List UInt8 := dkwX0_free_0 ++ dktX0_free_1
theorem dksX0_free_0 : cX0_free.data.toList.drop 0 = dktX0_free_0 := by decide +kernel
theorem dksX0_free_1 : cX0_free.data.toList.drop 23 = dktX0_free_1 := dk_seg dksX0_free_0 23 rfl rfl
theorem dksX0_free_2 : cX0_free.data.toList.drop 47 = dktX0_free_2 := dk_seg dksX0_free_1 24 rfl rfl
theorem dX0_free_0 : decode cX0_free 0 = .ok (.aload_n 0, 1) := dk_42 (dk_at dksX0_free_0 0 rfl rfl)
theorem dX0_free_1 : decode cX0_free 1 = .ok (.iload_n 1, 1) := dk_27 (dk_at dksX0_free_0 1 rfl rfl)
theorem dX0_free_2 : decode cX0_free 2 = .ok (.iload_n 2, 1) := dk_28 (dk_at dksX0_free_0 2 rfl rfl)
theorem dX0_free_3 : decode cX0_free 3 = .ok (.invokevirtual 277, 3) := dk_182 1 21 (dk_at dksX0_free_0 3 rfl rfl)
theorem dX0_free_6 : decode cX0_free 6 = .ok (.ifCond .ne 6, 3) := dk_154 0 6 (dk_at dksX0_free_0 6 rfl rfl)
theorem dX0_free_9 : decode cX0_free 9 = .ok (.bipush (-2), 2) := dk_16 254 (dk_at dksX0_free_0 9 rfl rfl)
theorem dX0_free_11 : decode cX0_free 11 = .ok (.ireturn, 1) := dk_172 (dk_at dksX0_free_0 11 rfl rfl)
theorem dX0_free_12 : decode cX0_free 12 = .ok (.bipush 99, 2) := dk_16 99 (dk_at dksX0_free_0 12 rfl rfl)
theorem dX0_free_14 : decode cX0_free 14 = .ok (.istore_n 3, 1) := dk_62 (dk_at dksX0_free_0 14 rfl rfl)
theorem dX0_free_15 : decode cX0_free 15 = .ok (.iload_n 3, 1) := dk_29 (dk_at dksX0_free_0 15 rfl rfl)
theorem dX0_free_16 : decode cX0_free 16 = .ok (.ifCond .le 31, 3) := dk_158 0 31 (dk_at dksX0_free_0 16 rfl rfl)
theorem dX0_free_19 : decode cX0_free 19 = .ok (.aload_n 0, 1) := dk_42 (dk_at dksX0_free_0 19 rfl rfl)
theorem dX0_free_20 : decode cX0_free 20 = .ok (.iload_n 1, 1) := dk_27 (dk_at dksX0_free_0 20 rfl rfl)
theorem dX0_free_21 : decode cX0_free 21 = .ok (.iload_n 2, 1) := dk_28 (dk_at dksX0_free_0 21 rfl rfl)
theorem dX0_free_22 : decode cX0_free 22 = .ok (.iload_n 3, 1) := dk_29 (dk_at dksX0_free_0 22 rfl rfl)
theorem dX0_free_23 : decode cX0_free 23 = .ok (.invokevirtual 280, 3) := dk_182 1 24 (dk_at dksX0_free_1 0 rfl rfl)
theorem dX0_free_26 : decode cX0_free 26 = .ok (.aload_n 0, 1) := dk_42 (dk_at dksX0_free_1 3 rfl rfl)
theorem dX0_free_27 : decode cX0_free 27 = .ok (.getfield 92, 3) := dk_180 0 92 (dk_at dksX0_free_1 4 rfl rfl)
theorem dX0_free_30 : decode cX0_free 30 = .ok (.iconst 3, 1) := dk_6 (dk_at dksX0_free_1 7 rfl rfl)
theorem dX0_free_31 : decode cX0_free 31 = .ok (.iload_n 2, 1) := dk_28 (dk_at dksX0_free_1 8 rfl rfl)
theorem dX0_free_32 : decode cX0_free 32 = .ok (.imul, 1) := dk_104 (dk_at dksX0_free_1 9 rfl rfl)
theorem dX0_free_33 : decode cX0_free 33 = .ok (.iload_n 1, 1) := dk_27 (dk_at dksX0_free_1 10 rfl rfl)
theorem dX0_free_34 : decode cX0_free 34 = .ok (.iadd, 1) := dk_96 (dk_at dksX0_free_1 11 rfl rfl)
theorem dX0_free_35 : decode cX0_free 35 = .ok (.iaload, 1) := dk_46 (dk_at dksX0_free_1 12 rfl rfl)
theorem dX0_free_36 : decode cX0_free 36 = .ok (.if_icmp .gt 5, 3) := dk_163 0 5 (dk_at dksX0_free_1 13 rfl rfl)
theorem dX0_free_39 : decode cX0_free 39 = .ok (.iload_n 3, 1) := dk_29 (dk_at dksX0_free_1 16 rfl rfl)
theorem dX0_free_40 : decode cX0_free 40 = .ok (.ireturn, 1) := dk_172 (dk_at dksX0_free_1 17 rfl rfl)
theorem dX0_free_41 : decode cX0_free 41 = .ok (.iinc 3 (-1), 3) := dk_132 3 255 (dk_at dksX0_free_1 18 rfl rfl)
theorem dX0_free_44 : decode cX0_free 44 = .ok (.goto (-29), 3) := dk_167 255 227 (dk_at dksX0_free_1 21 rfl rfl)
theorem dX0_free_47 : decode cX0_free 47 = .ok (.iconst 0, 1) := dk_3 (dk_at dksX0_free_2 0 rfl rfl)
theorem dX0_free_48 : decode cX0_free 48 = .ok (.ireturn, 1) := dk_172 (dk_at dksX0_free_2 1 rfl rfl)
abbrev cX0_sagWith : ByteArray := prog_1_method_56_code
def yX0_sagWith : MethodName := ⟨RX0, "sagWith", "(III)I"⟩
def dkwX0_sagWith_2 : List UInt8 := [182, 0, 234, 42, 27, 182, 0, 218, 172]
abbrev dktX0_sagWith_2 : List UInt8 := dkwX0_sagWith_2 ++ []
def dkwX0_sagWith_1 : List UInt8 := [104, 27, 96, 104, 42, 180, 0, 24, 16, 8, 27, 104, 16, 8, 184, 0, 194, 42, 180, 0, 52, 27, 29, 28]
abbrev dktX0_sagWith_1 : List UInt8 := dkwX0_sagWith_1 ++ dktX0_sagWith_2
def dkwX0_sagWith_0 : List UInt8 := [42, 180, 0, 31, 27, 42, 180, 0, 89, 6, 28, 104, 27, 96, 46, 79, 42, 180, 0, 86, 16, 8, 6, 28]
abbrev dktX0_sagWith_0 : List UInt8 := dkwX0_sagWith_0 ++ dktX0_sagWith_1
theorem dksX0_sagWith_0 : cX0_sagWith.data.toList.drop 0 = dktX0_sagWith_0 := by decide +kernel
theorem dksX0_sagWith_1 : cX0_sagWith.data.toList.drop 24 = dktX0_sagWith_1 := dk_seg dksX0_sagWith_0 24 rfl rfl
theorem dksX0_sagWith_2 : cX0_sagWith.data.toList.drop 48 = dktX0_sagWith_2 := dk_seg dksX0_sagWith_1 24 rfl rfl
theorem dX0_sagWith_0 : decode cX0_sagWith 0 = .ok (.aload_n 0, 1) := dk_42 (dk_at dksX0_sagWith_0 0 rfl rfl)
theorem dX0_sagWith_1 : decode cX0_sagWith 1 = .ok (.getfield 31, 3) := dk_180 0 31 (dk_at dksX0_sagWith_0 1 rfl rfl)
theorem dX0_sagWith_4 : decode cX0_sagWith 4 = .ok (.iload_n 1, 1) := dk_27 (dk_at dksX0_sagWith_0 4 rfl rfl)
theorem dX0_sagWith_5 : decode cX0_sagWith 5 = .ok (.aload_n 0, 1) := dk_42 (dk_at dksX0_sagWith_0 5 rfl rfl)
theorem dX0_sagWith_6 : decode cX0_sagWith 6 = .ok (.getfield 89, 3) := dk_180 0 89 (dk_at dksX0_sagWith_0 6 rfl rfl)
theorem dX0_sagWith_9 : decode cX0_sagWith 9 = .ok (.iconst 3, 1) := dk_6 (dk_at dksX0_sagWith_0 9 rfl rfl)
theorem dX0_sagWith_10 : decode cX0_sagWith 10 = .ok (.iload_n 2, 1) := dk_28 (dk_at dksX0_sagWith_0 10 rfl rfl)
theorem dX0_sagWith_11 : decode cX0_sagWith 11 = .ok (.imul, 1) := dk_104 (dk_at dksX0_sagWith_0 11 rfl rfl)
theorem dX0_sagWith_12 : decode cX0_sagWith 12 = .ok (.iload_n 1, 1) := dk_27 (dk_at dksX0_sagWith_0 12 rfl rfl)
theorem dX0_sagWith_13 : decode cX0_sagWith 13 = .ok (.iadd, 1) := dk_96 (dk_at dksX0_sagWith_0 13 rfl rfl)
theorem dX0_sagWith_14 : decode cX0_sagWith 14 = .ok (.iaload, 1) := dk_46 (dk_at dksX0_sagWith_0 14 rfl rfl)
theorem dX0_sagWith_15 : decode cX0_sagWith 15 = .ok (.iastore, 1) := dk_79 (dk_at dksX0_sagWith_0 15 rfl rfl)
theorem dX0_sagWith_16 : decode cX0_sagWith 16 = .ok (.aload_n 0, 1) := dk_42 (dk_at dksX0_sagWith_0 16 rfl rfl)
theorem dX0_sagWith_17 : decode cX0_sagWith 17 = .ok (.getfield 86, 3) := dk_180 0 86 (dk_at dksX0_sagWith_0 17 rfl rfl)
theorem dX0_sagWith_20 : decode cX0_sagWith 20 = .ok (.bipush 8, 2) := dk_16 8 (dk_at dksX0_sagWith_0 20 rfl rfl)
theorem dX0_sagWith_22 : decode cX0_sagWith 22 = .ok (.iconst 3, 1) := dk_6 (dk_at dksX0_sagWith_0 22 rfl rfl)
theorem dX0_sagWith_23 : decode cX0_sagWith 23 = .ok (.iload_n 2, 1) := dk_28 (dk_at dksX0_sagWith_0 23 rfl rfl)
theorem dX0_sagWith_24 : decode cX0_sagWith 24 = .ok (.imul, 1) := dk_104 (dk_at dksX0_sagWith_1 0 rfl rfl)
theorem dX0_sagWith_25 : decode cX0_sagWith 25 = .ok (.iload_n 1, 1) := dk_27 (dk_at dksX0_sagWith_1 1 rfl rfl)
theorem dX0_sagWith_26 : decode cX0_sagWith 26 = .ok (.iadd, 1) := dk_96 (dk_at dksX0_sagWith_1 2 rfl rfl)
theorem dX0_sagWith_27 : decode cX0_sagWith 27 = .ok (.imul, 1) := dk_104 (dk_at dksX0_sagWith_1 3 rfl rfl)
theorem dX0_sagWith_28 : decode cX0_sagWith 28 = .ok (.aload_n 0, 1) := dk_42 (dk_at dksX0_sagWith_1 4 rfl rfl)
theorem dX0_sagWith_29 : decode cX0_sagWith 29 = .ok (.getfield 24, 3) := dk_180 0 24 (dk_at dksX0_sagWith_1 5 rfl rfl)
theorem dX0_sagWith_32 : decode cX0_sagWith 32 = .ok (.bipush 8, 2) := dk_16 8 (dk_at dksX0_sagWith_1 8 rfl rfl)
theorem dX0_sagWith_34 : decode cX0_sagWith 34 = .ok (.iload_n 1, 1) := dk_27 (dk_at dksX0_sagWith_1 10 rfl rfl)
theorem dX0_sagWith_35 : decode cX0_sagWith 35 = .ok (.imul, 1) := dk_104 (dk_at dksX0_sagWith_1 11 rfl rfl)
theorem dX0_sagWith_36 : decode cX0_sagWith 36 = .ok (.bipush 8, 2) := dk_16 8 (dk_at dksX0_sagWith_1 12 rfl rfl)
theorem dX0_sagWith_38 : decode cX0_sagWith 38 = .ok (.invokestatic 194, 3) := dk_184 0 194 (dk_at dksX0_sagWith_1 14 rfl rfl)
theorem dX0_sagWith_41 : decode cX0_sagWith 41 = .ok (.aload_n 0, 1) := dk_42 (dk_at dksX0_sagWith_1 17 rfl rfl)
theorem dX0_sagWith_42 : decode cX0_sagWith 42 = .ok (.getfield 52, 3) := dk_180 0 52 (dk_at dksX0_sagWith_1 18 rfl rfl)
theorem dX0_sagWith_45 : decode cX0_sagWith 45 = .ok (.iload_n 1, 1) := dk_27 (dk_at dksX0_sagWith_1 21 rfl rfl)
theorem dX0_sagWith_46 : decode cX0_sagWith 46 = .ok (.iload_n 3, 1) := dk_29 (dk_at dksX0_sagWith_1 22 rfl rfl)
theorem dX0_sagWith_47 : decode cX0_sagWith 47 = .ok (.iload_n 2, 1) := dk_28 (dk_at dksX0_sagWith_1 23 rfl rfl)
theorem dX0_sagWith_48 : decode cX0_sagWith 48 = .ok (.invokevirtual 234, 3) := dk_182 0 234 (dk_at dksX0_sagWith_2 0 rfl rfl)
theorem dX0_sagWith_51 : decode cX0_sagWith 51 = .ok (.aload_n 0, 1) := dk_42 (dk_at dksX0_sagWith_2 3 rfl rfl)
theorem dX0_sagWith_52 : decode cX0_sagWith 52 = .ok (.iload_n 1, 1) := dk_27 (dk_at dksX0_sagWith_2 4 rfl rfl)
theorem dX0_sagWith_53 : decode cX0_sagWith 53 = .ok (.invokevirtual 218, 3) := dk_182 0 218 (dk_at dksX0_sagWith_2 5 rfl rfl)
theorem dX0_sagWith_56 : decode cX0_sagWith 56 = .ok (.ireturn, 1) := dk_172 (dk_at dksX0_sagWith_2 8 rfl rfl)
abbrev cX0_most : ByteArray := prog_1_method_58_code
def yX0_most : MethodName := ⟨RX0, "most", "(II)I"⟩
def dkwX0_most_3 : List UInt8 := [164, 0, 6, 21, 4, 172, 132, 4, 1, 167, 255, 219, 2, 172]
abbrev dktX0_most_3 : List UInt8 := dkwX0_most_3 ++ []
def dkwX0_most_2 : List UInt8 := [163, 0, 36, 29, 154, 0, 32, 42, 27, 28, 21, 4, 182, 1, 24, 42, 180, 0, 10, 180, 0, 174, 27, 46]
abbrev dktX0_most_2 : List UInt8 := dkwX0_most_2 ++ dktX0_most_3
def dkwX0_most_1 : List UInt8 := [180, 0, 83, 27, 46, 28, 163, 0, 7, 4, 167, 0, 4, 3, 62, 4, 54, 4, 21, 4, 16, 99]
abbrev dktX0_most_1 : List UInt8 := dkwX0_most_1 ++ dktX0_most_2
def dkwX0_most_0 : List UInt8 := [42, 27, 28, 182, 1, 21, 154, 0, 6, 16, 254, 172, 42, 180, 0, 83, 27, 46, 2, 159, 0, 17, 42]
abbrev dktX0_most_0 : List UInt8 := dkwX0_most_0 ++ dktX0_most_1
theorem dksX0_most_0 : cX0_most.data.toList.drop 0 = dktX0_most_0 := by decide +kernel
theorem dksX0_most_1 : cX0_most.data.toList.drop 23 = dktX0_most_1 := dk_seg dksX0_most_0 23 rfl rfl
theorem dksX0_most_2 : cX0_most.data.toList.drop 45 = dktX0_most_2 := dk_seg dksX0_most_1 22 rfl rfl
theorem dksX0_most_3 : cX0_most.data.toList.drop 69 = dktX0_most_3 := dk_seg dksX0_most_2 24 rfl rfl
theorem dX0_most_0 : decode cX0_most 0 = .ok (.aload_n 0, 1) := dk_42 (dk_at dksX0_most_0 0 rfl rfl)
theorem dX0_most_1 : decode cX0_most 1 = .ok (.iload_n 1, 1) := dk_27 (dk_at dksX0_most_0 1 rfl rfl)
theorem dX0_most_2 : decode cX0_most 2 = .ok (.iload_n 2, 1) := dk_28 (dk_at dksX0_most_0 2 rfl rfl)
theorem dX0_most_3 : decode cX0_most 3 = .ok (.invokevirtual 277, 3) := dk_182 1 21 (dk_at dksX0_most_0 3 rfl rfl)
theorem dX0_most_6 : decode cX0_most 6 = .ok (.ifCond .ne 6, 3) := dk_154 0 6 (dk_at dksX0_most_0 6 rfl rfl)
theorem dX0_most_9 : decode cX0_most 9 = .ok (.bipush (-2), 2) := dk_16 254 (dk_at dksX0_most_0 9 rfl rfl)
theorem dX0_most_11 : decode cX0_most 11 = .ok (.ireturn, 1) := dk_172 (dk_at dksX0_most_0 11 rfl rfl)
theorem dX0_most_12 : decode cX0_most 12 = .ok (.aload_n 0, 1) := dk_42 (dk_at dksX0_most_0 12 rfl rfl)
theorem dX0_most_13 : decode cX0_most 13 = .ok (.getfield 83, 3) := dk_180 0 83 (dk_at dksX0_most_0 13 rfl rfl)
theorem dX0_most_16 : decode cX0_most 16 = .ok (.iload_n 1, 1) := dk_27 (dk_at dksX0_most_0 16 rfl rfl)
theorem dX0_most_17 : decode cX0_most 17 = .ok (.iaload, 1) := dk_46 (dk_at dksX0_most_0 17 rfl rfl)
theorem dX0_most_18 : decode cX0_most 18 = .ok (.iconst (-1), 1) := dk_2 (dk_at dksX0_most_0 18 rfl rfl)
theorem dX0_most_19 : decode cX0_most 19 = .ok (.if_icmp .eq 17, 3) := dk_159 0 17 (dk_at dksX0_most_0 19 rfl rfl)
theorem dX0_most_22 : decode cX0_most 22 = .ok (.aload_n 0, 1) := dk_42 (dk_at dksX0_most_0 22 rfl rfl)
theorem dX0_most_23 : decode cX0_most 23 = .ok (.getfield 83, 3) := dk_180 0 83 (dk_at dksX0_most_1 0 rfl rfl)
theorem dX0_most_26 : decode cX0_most 26 = .ok (.iload_n 1, 1) := dk_27 (dk_at dksX0_most_1 3 rfl rfl)
theorem dX0_most_27 : decode cX0_most 27 = .ok (.iaload, 1) := dk_46 (dk_at dksX0_most_1 4 rfl rfl)
theorem dX0_most_28 : decode cX0_most 28 = .ok (.iload_n 2, 1) := dk_28 (dk_at dksX0_most_1 5 rfl rfl)
theorem dX0_most_29 : decode cX0_most 29 = .ok (.if_icmp .gt 7, 3) := dk_163 0 7 (dk_at dksX0_most_1 6 rfl rfl)
theorem dX0_most_32 : decode cX0_most 32 = .ok (.iconst 1, 1) := dk_4 (dk_at dksX0_most_1 9 rfl rfl)
theorem dX0_most_33 : decode cX0_most 33 = .ok (.goto 4, 3) := dk_167 0 4 (dk_at dksX0_most_1 10 rfl rfl)
theorem dX0_most_36 : decode cX0_most 36 = .ok (.iconst 0, 1) := dk_3 (dk_at dksX0_most_1 13 rfl rfl)
theorem dX0_most_37 : decode cX0_most 37 = .ok (.istore_n 3, 1) := dk_62 (dk_at dksX0_most_1 14 rfl rfl)
theorem dX0_most_38 : decode cX0_most 38 = .ok (.iconst 1, 1) := dk_4 (dk_at dksX0_most_1 15 rfl rfl)
theorem dX0_most_39 : decode cX0_most 39 = .ok (.istore 4, 2) := dk_54 4 (dk_at dksX0_most_1 16 rfl rfl)
theorem dX0_most_41 : decode cX0_most 41 = .ok (.iload 4, 2) := dk_21 4 (dk_at dksX0_most_1 18 rfl rfl)
theorem dX0_most_43 : decode cX0_most 43 = .ok (.bipush 99, 2) := dk_16 99 (dk_at dksX0_most_1 20 rfl rfl)
theorem dX0_most_45 : decode cX0_most 45 = .ok (.if_icmp .gt 36, 3) := dk_163 0 36 (dk_at dksX0_most_2 0 rfl rfl)
theorem dX0_most_48 : decode cX0_most 48 = .ok (.iload_n 3, 1) := dk_29 (dk_at dksX0_most_2 3 rfl rfl)
theorem dX0_most_49 : decode cX0_most 49 = .ok (.ifCond .ne 32, 3) := dk_154 0 32 (dk_at dksX0_most_2 4 rfl rfl)
theorem dX0_most_52 : decode cX0_most 52 = .ok (.aload_n 0, 1) := dk_42 (dk_at dksX0_most_2 7 rfl rfl)
theorem dX0_most_53 : decode cX0_most 53 = .ok (.iload_n 1, 1) := dk_27 (dk_at dksX0_most_2 8 rfl rfl)
theorem dX0_most_54 : decode cX0_most 54 = .ok (.iload_n 2, 1) := dk_28 (dk_at dksX0_most_2 9 rfl rfl)
theorem dX0_most_55 : decode cX0_most 55 = .ok (.iload 4, 2) := dk_21 4 (dk_at dksX0_most_2 10 rfl rfl)
theorem dX0_most_57 : decode cX0_most 57 = .ok (.invokevirtual 280, 3) := dk_182 1 24 (dk_at dksX0_most_2 12 rfl rfl)
theorem dX0_most_60 : decode cX0_most 60 = .ok (.aload_n 0, 1) := dk_42 (dk_at dksX0_most_2 15 rfl rfl)
theorem dX0_most_61 : decode cX0_most 61 = .ok (.getfield 10, 3) := dk_180 0 10 (dk_at dksX0_most_2 16 rfl rfl)
theorem dX0_most_64 : decode cX0_most 64 = .ok (.getfield 174, 3) := dk_180 0 174 (dk_at dksX0_most_2 19 rfl rfl)
theorem dX0_most_67 : decode cX0_most 67 = .ok (.iload_n 1, 1) := dk_27 (dk_at dksX0_most_2 22 rfl rfl)
theorem dX0_most_68 : decode cX0_most 68 = .ok (.iaload, 1) := dk_46 (dk_at dksX0_most_2 23 rfl rfl)
theorem dX0_most_69 : decode cX0_most 69 = .ok (.if_icmp .le 6, 3) := dk_164 0 6 (dk_at dksX0_most_3 0 rfl rfl)
theorem dX0_most_72 : decode cX0_most 72 = .ok (.iload 4, 2) := dk_21 4 (dk_at dksX0_most_3 3 rfl rfl)
theorem dX0_most_74 : decode cX0_most 74 = .ok (.ireturn, 1) := dk_172 (dk_at dksX0_most_3 5 rfl rfl)
theorem dX0_most_75 : decode cX0_most 75 = .ok (.iinc 4 1, 3) := dk_132 4 1 (dk_at dksX0_most_3 6 rfl rfl)
theorem dX0_most_78 : decode cX0_most 78 = .ok (.goto (-37), 3) := dk_167 255 219 (dk_at dksX0_most_3 9 rfl rfl)
theorem dX0_most_81 : decode cX0_most 81 = .ok (.iconst (-1), 1) := dk_2 (dk_at dksX0_most_3 12 rfl rfl)
theorem dX0_most_82 : decode cX0_most 82 = .ok (.ireturn, 1) := dk_172 (dk_at dksX0_most_3 13 rfl rfl)
abbrev cX0_least : ByteArray := prog_1_method_65_code
def yX0_least : MethodName := ⟨RX0, "least", "()I"⟩
def dkwX0_least_0 : List UInt8 := [42, 182, 1, 62, 153, 0, 10, 42, 180, 1, 29, 167, 0, 5, 16, 254, 172]
abbrev dktX0_least_0 : List UInt8 := dkwX0_least_0 ++ []
theorem dksX0_least_0 : cX0_least.data.toList.drop 0 = dktX0_least_0 := by decide +kernel
theorem dX0_least_0 : decode cX0_least 0 = .ok (.aload_n 0, 1) := dk_42 (dk_at dksX0_least_0 0 rfl rfl)
theorem dX0_least_1 : decode cX0_least 1 = .ok (.invokevirtual 318, 3) := dk_182 1 62 (dk_at dksX0_least_0 1 rfl rfl)
theorem dX0_least_4 : decode cX0_least 4 = .ok (.ifCond .eq 10, 3) := dk_153 0 10 (dk_at dksX0_least_0 4 rfl rfl)
theorem dX0_least_7 : decode cX0_least 7 = .ok (.aload_n 0, 1) := dk_42 (dk_at dksX0_least_0 7 rfl rfl)
theorem dX0_least_8 : decode cX0_least 8 = .ok (.getfield 285, 3) := dk_180 1 29 (dk_at dksX0_least_0 8 rfl rfl)
theorem dX0_least_11 : decode cX0_least 11 = .ok (.goto 5, 3) := dk_167 0 5 (dk_at dksX0_least_0 11 rfl rfl)
theorem dX0_least_14 : decode cX0_least 14 = .ok (.bipush (-2), 2) := dk_16 254 (dk_at dksX0_least_0 14 rfl rfl)
theorem dX0_least_16 : decode cX0_least 16 = .ok (.ireturn, 1) := dk_172 (dk_at dksX0_least_0 16 rfl rfl)
abbrev cX0_asksOrders : ByteArray := prog_1_method_62_code
def yX0_asksOrders : MethodName := ⟨RX0, "asksOrders", "()Z"⟩
def dkwX0_asksOrders_0 : List UInt8 := [42, 182, 1, 0, 154, 0, 5, 3, 172, 42, 182, 1, 56, 42, 3, 3, 182, 1, 53, 4, 172]
abbrev dktX0_asksOrders_0 : List UInt8 := dkwX0_asksOrders_0 ++ []
theorem dksX0_asksOrders_0 : cX0_asksOrders.data.toList.drop 0 = dktX0_asksOrders_0 := by decide +kernel
theorem dX0_asksOrders_0 : decode cX0_asksOrders 0 = .ok (.aload_n 0, 1) := dk_42 (dk_at dksX0_asksOrders_0 0 rfl rfl)
theorem dX0_asksOrders_1 : decode cX0_asksOrders 1 = .ok (.invokevirtual 256, 3) := dk_182 1 0 (dk_at dksX0_asksOrders_0 1 rfl rfl)
theorem dX0_asksOrders_4 : decode cX0_asksOrders 4 = .ok (.ifCond .ne 5, 3) := dk_154 0 5 (dk_at dksX0_asksOrders_0 4 rfl rfl)
theorem dX0_asksOrders_7 : decode cX0_asksOrders 7 = .ok (.iconst 0, 1) := dk_3 (dk_at dksX0_asksOrders_0 7 rfl rfl)
theorem dX0_asksOrders_8 : decode cX0_asksOrders 8 = .ok (.ireturn, 1) := dk_172 (dk_at dksX0_asksOrders_0 8 rfl rfl)
theorem dX0_asksOrders_9 : decode cX0_asksOrders 9 = .ok (.aload_n 0, 1) := dk_42 (dk_at dksX0_asksOrders_0 9 rfl rfl)
theorem dX0_asksOrders_10 : decode cX0_asksOrders 10 = .ok (.invokevirtual 312, 3) := dk_182 1 56 (dk_at dksX0_asksOrders_0 10 rfl rfl)
theorem dX0_asksOrders_13 : decode cX0_asksOrders 13 = .ok (.aload_n 0, 1) := dk_42 (dk_at dksX0_asksOrders_0 13 rfl rfl)
theorem dX0_asksOrders_14 : decode cX0_asksOrders 14 = .ok (.iconst 0, 1) := dk_3 (dk_at dksX0_asksOrders_0 14 rfl rfl)
theorem dX0_asksOrders_15 : decode cX0_asksOrders 15 = .ok (.iconst 0, 1) := dk_3 (dk_at dksX0_asksOrders_0 15 rfl rfl)
theorem dX0_asksOrders_16 : decode cX0_asksOrders 16 = .ok (.invokevirtual 309, 3) := dk_182 1 53 (dk_at dksX0_asksOrders_0 16 rfl rfl)
theorem dX0_asksOrders_19 : decode cX0_asksOrders 19 = .ok (.iconst 1, 1) := dk_4 (dk_at dksX0_asksOrders_0 19 rfl rfl)
theorem dX0_asksOrders_20 : decode cX0_asksOrders 20 = .ok (.ireturn, 1) := dk_172 (dk_at dksX0_asksOrders_0 20 rfl rfl)
abbrev cX0_starts : ByteArray := prog_1_method_59_code
def yX0_starts : MethodName := ⟨RX0, "starts", "()V"⟩
def dkwX0_starts_0 : List UInt8 := [42, 182, 0, 250, 42, 19, 1, 28, 181, 1, 29, 42, 3, 181, 1, 32, 42, 3, 181, 1, 35, 177]
abbrev dktX0_starts_0 : List UInt8 := dkwX0_starts_0 ++ []
theorem dksX0_starts_0 : cX0_starts.data.toList.drop 0 = dktX0_starts_0 := by decide +kernel
theorem dX0_starts_0 : decode cX0_starts 0 = .ok (.aload_n 0, 1) := dk_42 (dk_at dksX0_starts_0 0 rfl rfl)
theorem dX0_starts_1 : decode cX0_starts 1 = .ok (.invokevirtual 250, 3) := dk_182 0 250 (dk_at dksX0_starts_0 1 rfl rfl)
theorem dX0_starts_4 : decode cX0_starts 4 = .ok (.aload_n 0, 1) := dk_42 (dk_at dksX0_starts_0 4 rfl rfl)
theorem dX0_starts_5 : decode cX0_starts 5 = .ok (.ldc_w 284, 3) := dk_19 1 28 (dk_at dksX0_starts_0 5 rfl rfl)
theorem dX0_starts_8 : decode cX0_starts 8 = .ok (.putfield 285, 3) := dk_181 1 29 (dk_at dksX0_starts_0 8 rfl rfl)
theorem dX0_starts_11 : decode cX0_starts 11 = .ok (.aload_n 0, 1) := dk_42 (dk_at dksX0_starts_0 11 rfl rfl)
theorem dX0_starts_12 : decode cX0_starts 12 = .ok (.iconst 0, 1) := dk_3 (dk_at dksX0_starts_0 12 rfl rfl)
theorem dX0_starts_13 : decode cX0_starts 13 = .ok (.putfield 288, 3) := dk_181 1 32 (dk_at dksX0_starts_0 13 rfl rfl)
theorem dX0_starts_16 : decode cX0_starts 16 = .ok (.aload_n 0, 1) := dk_42 (dk_at dksX0_starts_0 16 rfl rfl)
theorem dX0_starts_17 : decode cX0_starts 17 = .ok (.iconst 0, 1) := dk_3 (dk_at dksX0_starts_0 17 rfl rfl)
theorem dX0_starts_18 : decode cX0_starts 18 = .ok (.putfield 291, 3) := dk_181 1 35 (dk_at dksX0_starts_0 18 rfl rfl)
theorem dX0_starts_21 : decode cX0_starts 21 = .ok (.return_, 1) := dk_177 (dk_at dksX0_starts_0 21 rfl rfl)
abbrev cX0_orders : ByteArray := prog_1_method_61_code
def yX0_orders : MethodName := ⟨RX0, "orders", "(II)V"⟩
def dkwX0_orders_2 : List UInt8 := [27, 29, 79, 42, 27, 4, 96, 28, 4, 29, 120, 128, 182, 1, 53, 132, 3, 1, 167, 255, 212, 177]
abbrev dktX0_orders_2 : List UInt8 := dkwX0_orders_2 ++ []
def dkwX0_orders_1 : List UInt8 := [180, 0, 10, 180, 0, 156, 162, 0, 39, 28, 29, 184, 0, 238, 153, 0, 6, 167, 0, 22, 42, 180, 0, 62]
abbrev dktX0_orders_1 : List UInt8 := dkwX0_orders_1 ++ dktX0_orders_2
def dkwX0_orders_0 : List UInt8 := [27, 42, 180, 0, 10, 180, 0, 156, 160, 0, 12, 42, 42, 180, 0, 62, 182, 1, 49, 177, 3, 62, 29, 42]
abbrev dktX0_orders_0 : List UInt8 := dkwX0_orders_0 ++ dktX0_orders_1
theorem dksX0_orders_0 : cX0_orders.data.toList.drop 0 = dktX0_orders_0 := by decide +kernel
theorem dksX0_orders_1 : cX0_orders.data.toList.drop 24 = dktX0_orders_1 := dk_seg dksX0_orders_0 24 rfl rfl
theorem dksX0_orders_2 : cX0_orders.data.toList.drop 48 = dktX0_orders_2 := dk_seg dksX0_orders_1 24 rfl rfl
theorem dX0_orders_0 : decode cX0_orders 0 = .ok (.iload_n 1, 1) := dk_27 (dk_at dksX0_orders_0 0 rfl rfl)
theorem dX0_orders_1 : decode cX0_orders 1 = .ok (.aload_n 0, 1) := dk_42 (dk_at dksX0_orders_0 1 rfl rfl)
theorem dX0_orders_2 : decode cX0_orders 2 = .ok (.getfield 10, 3) := dk_180 0 10 (dk_at dksX0_orders_0 2 rfl rfl)
theorem dX0_orders_5 : decode cX0_orders 5 = .ok (.getfield 156, 3) := dk_180 0 156 (dk_at dksX0_orders_0 5 rfl rfl)
theorem dX0_orders_8 : decode cX0_orders 8 = .ok (.if_icmp .ne 12, 3) := dk_160 0 12 (dk_at dksX0_orders_0 8 rfl rfl)
theorem dX0_orders_11 : decode cX0_orders 11 = .ok (.aload_n 0, 1) := dk_42 (dk_at dksX0_orders_0 11 rfl rfl)
theorem dX0_orders_12 : decode cX0_orders 12 = .ok (.aload_n 0, 1) := dk_42 (dk_at dksX0_orders_0 12 rfl rfl)
theorem dX0_orders_13 : decode cX0_orders 13 = .ok (.getfield 62, 3) := dk_180 0 62 (dk_at dksX0_orders_0 13 rfl rfl)
theorem dX0_orders_16 : decode cX0_orders 16 = .ok (.invokevirtual 305, 3) := dk_182 1 49 (dk_at dksX0_orders_0 16 rfl rfl)
theorem dX0_orders_19 : decode cX0_orders 19 = .ok (.return_, 1) := dk_177 (dk_at dksX0_orders_0 19 rfl rfl)
theorem dX0_orders_20 : decode cX0_orders 20 = .ok (.iconst 0, 1) := dk_3 (dk_at dksX0_orders_0 20 rfl rfl)
theorem dX0_orders_21 : decode cX0_orders 21 = .ok (.istore_n 3, 1) := dk_62 (dk_at dksX0_orders_0 21 rfl rfl)
theorem dX0_orders_22 : decode cX0_orders 22 = .ok (.iload_n 3, 1) := dk_29 (dk_at dksX0_orders_0 22 rfl rfl)
theorem dX0_orders_23 : decode cX0_orders 23 = .ok (.aload_n 0, 1) := dk_42 (dk_at dksX0_orders_0 23 rfl rfl)
theorem dX0_orders_24 : decode cX0_orders 24 = .ok (.getfield 10, 3) := dk_180 0 10 (dk_at dksX0_orders_1 0 rfl rfl)
theorem dX0_orders_27 : decode cX0_orders 27 = .ok (.getfield 156, 3) := dk_180 0 156 (dk_at dksX0_orders_1 3 rfl rfl)
theorem dX0_orders_30 : decode cX0_orders 30 = .ok (.if_icmp .ge 39, 3) := dk_162 0 39 (dk_at dksX0_orders_1 6 rfl rfl)
theorem dX0_orders_33 : decode cX0_orders 33 = .ok (.iload_n 2, 1) := dk_28 (dk_at dksX0_orders_1 9 rfl rfl)
theorem dX0_orders_34 : decode cX0_orders 34 = .ok (.iload_n 3, 1) := dk_29 (dk_at dksX0_orders_1 10 rfl rfl)
theorem dX0_orders_35 : decode cX0_orders 35 = .ok (.invokestatic 238, 3) := dk_184 0 238 (dk_at dksX0_orders_1 11 rfl rfl)
theorem dX0_orders_38 : decode cX0_orders 38 = .ok (.ifCond .eq 6, 3) := dk_153 0 6 (dk_at dksX0_orders_1 14 rfl rfl)
theorem dX0_orders_41 : decode cX0_orders 41 = .ok (.goto 22, 3) := dk_167 0 22 (dk_at dksX0_orders_1 17 rfl rfl)
theorem dX0_orders_44 : decode cX0_orders 44 = .ok (.aload_n 0, 1) := dk_42 (dk_at dksX0_orders_1 20 rfl rfl)
theorem dX0_orders_45 : decode cX0_orders 45 = .ok (.getfield 62, 3) := dk_180 0 62 (dk_at dksX0_orders_1 21 rfl rfl)
theorem dX0_orders_48 : decode cX0_orders 48 = .ok (.iload_n 1, 1) := dk_27 (dk_at dksX0_orders_2 0 rfl rfl)
theorem dX0_orders_49 : decode cX0_orders 49 = .ok (.iload_n 3, 1) := dk_29 (dk_at dksX0_orders_2 1 rfl rfl)
theorem dX0_orders_50 : decode cX0_orders 50 = .ok (.iastore, 1) := dk_79 (dk_at dksX0_orders_2 2 rfl rfl)
theorem dX0_orders_51 : decode cX0_orders 51 = .ok (.aload_n 0, 1) := dk_42 (dk_at dksX0_orders_2 3 rfl rfl)
theorem dX0_orders_52 : decode cX0_orders 52 = .ok (.iload_n 1, 1) := dk_27 (dk_at dksX0_orders_2 4 rfl rfl)
theorem dX0_orders_53 : decode cX0_orders 53 = .ok (.iconst 1, 1) := dk_4 (dk_at dksX0_orders_2 5 rfl rfl)
theorem dX0_orders_54 : decode cX0_orders 54 = .ok (.iadd, 1) := dk_96 (dk_at dksX0_orders_2 6 rfl rfl)
theorem dX0_orders_55 : decode cX0_orders 55 = .ok (.iload_n 2, 1) := dk_28 (dk_at dksX0_orders_2 7 rfl rfl)
theorem dX0_orders_56 : decode cX0_orders 56 = .ok (.iconst 1, 1) := dk_4 (dk_at dksX0_orders_2 8 rfl rfl)
theorem dX0_orders_57 : decode cX0_orders 57 = .ok (.iload_n 3, 1) := dk_29 (dk_at dksX0_orders_2 9 rfl rfl)
theorem dX0_orders_58 : decode cX0_orders 58 = .ok (.ishl, 1) := dk_120 (dk_at dksX0_orders_2 10 rfl rfl)
theorem dX0_orders_59 : decode cX0_orders 59 = .ok (.ior, 1) := dk_128 (dk_at dksX0_orders_2 11 rfl rfl)
theorem dX0_orders_60 : decode cX0_orders 60 = .ok (.invokevirtual 309, 3) := dk_182 1 53 (dk_at dksX0_orders_2 12 rfl rfl)
theorem dX0_orders_63 : decode cX0_orders 63 = .ok (.iinc 3 1, 3) := dk_132 3 1 (dk_at dksX0_orders_2 15 rfl rfl)
theorem dX0_orders_66 : decode cX0_orders 66 = .ok (.goto (-44), 3) := dk_167 255 212 (dk_at dksX0_orders_2 18 rfl rfl)
theorem dX0_orders_69 : decode cX0_orders 69 = .ok (.return_, 1) := dk_177 (dk_at dksX0_orders_2 21 rfl rfl)
abbrev cX0_keeps : ByteArray := prog_1_method_60_code
def yX0_keeps : MethodName := ⟨RX0, "keeps", "([I)V"⟩
def dkwX0_keeps_3 : List UInt8 := [180, 0, 10, 180, 0, 156, 42, 2, 182, 1, 18, 184, 1, 44, 100, 184, 0, 225, 181, 1, 35, 177]
abbrev dktX0_keeps_3 : List UInt8 := dkwX0_keeps_3 ++ []
def dkwX0_keeps_2 : List UInt8 := [42, 180, 1, 29, 160, 0, 7, 4, 167, 0, 4, 3, 96, 181, 1, 32, 42, 42, 180, 1, 35, 42]
abbrev dktX0_keeps_2 : List UInt8 := dkwX0_keeps_2 ++ dktX0_keeps_3
def dkwX0_keeps_1 : List UInt8 := [3, 16, 7, 184, 0, 194, 42, 42, 180, 1, 29, 28, 184, 1, 41, 181, 1, 29, 42, 89, 180, 1, 32, 28]
abbrev dktX0_keeps_1 : List UInt8 := dkwX0_keeps_1 ++ dktX0_keeps_2
def dkwX0_keeps_0 : List UInt8 := [42, 182, 1, 38, 61, 28, 42, 180, 1, 29, 162, 0, 20, 42, 3, 181, 1, 32, 43, 3, 42, 180, 0, 95]
abbrev dktX0_keeps_0 : List UInt8 := dkwX0_keeps_0 ++ dktX0_keeps_1
theorem dksX0_keeps_0 : cX0_keeps.data.toList.drop 0 = dktX0_keeps_0 := by decide +kernel
theorem dksX0_keeps_1 : cX0_keeps.data.toList.drop 24 = dktX0_keeps_1 := dk_seg dksX0_keeps_0 24 rfl rfl
theorem dksX0_keeps_2 : cX0_keeps.data.toList.drop 48 = dktX0_keeps_2 := dk_seg dksX0_keeps_1 24 rfl rfl
theorem dksX0_keeps_3 : cX0_keeps.data.toList.drop 70 = dktX0_keeps_3 := dk_seg dksX0_keeps_2 22 rfl rfl
theorem dX0_keeps_0 : decode cX0_keeps 0 = .ok (.aload_n 0, 1) := dk_42 (dk_at dksX0_keeps_0 0 rfl rfl)
theorem dX0_keeps_1 : decode cX0_keeps 1 = .ok (.invokevirtual 294, 3) := dk_182 1 38 (dk_at dksX0_keeps_0 1 rfl rfl)
theorem dX0_keeps_4 : decode cX0_keeps 4 = .ok (.istore_n 2, 1) := dk_61 (dk_at dksX0_keeps_0 4 rfl rfl)
theorem dX0_keeps_5 : decode cX0_keeps 5 = .ok (.iload_n 2, 1) := dk_28 (dk_at dksX0_keeps_0 5 rfl rfl)
theorem dX0_keeps_6 : decode cX0_keeps 6 = .ok (.aload_n 0, 1) := dk_42 (dk_at dksX0_keeps_0 6 rfl rfl)
theorem dX0_keeps_7 : decode cX0_keeps 7 = .ok (.getfield 285, 3) := dk_180 1 29 (dk_at dksX0_keeps_0 7 rfl rfl)
theorem dX0_keeps_10 : decode cX0_keeps 10 = .ok (.if_icmp .ge 20, 3) := dk_162 0 20 (dk_at dksX0_keeps_0 10 rfl rfl)
theorem dX0_keeps_13 : decode cX0_keeps 13 = .ok (.aload_n 0, 1) := dk_42 (dk_at dksX0_keeps_0 13 rfl rfl)
theorem dX0_keeps_14 : decode cX0_keeps 14 = .ok (.iconst 0, 1) := dk_3 (dk_at dksX0_keeps_0 14 rfl rfl)
theorem dX0_keeps_15 : decode cX0_keeps 15 = .ok (.putfield 288, 3) := dk_181 1 32 (dk_at dksX0_keeps_0 15 rfl rfl)
theorem dX0_keeps_18 : decode cX0_keeps 18 = .ok (.aload_n 1, 1) := dk_43 (dk_at dksX0_keeps_0 18 rfl rfl)
theorem dX0_keeps_19 : decode cX0_keeps 19 = .ok (.iconst 0, 1) := dk_3 (dk_at dksX0_keeps_0 19 rfl rfl)
theorem dX0_keeps_20 : decode cX0_keeps 20 = .ok (.aload_n 0, 1) := dk_42 (dk_at dksX0_keeps_0 20 rfl rfl)
theorem dX0_keeps_21 : decode cX0_keeps 21 = .ok (.getfield 95, 3) := dk_180 0 95 (dk_at dksX0_keeps_0 21 rfl rfl)
theorem dX0_keeps_24 : decode cX0_keeps 24 = .ok (.iconst 0, 1) := dk_3 (dk_at dksX0_keeps_1 0 rfl rfl)
theorem dX0_keeps_25 : decode cX0_keeps 25 = .ok (.bipush 7, 2) := dk_16 7 (dk_at dksX0_keeps_1 1 rfl rfl)
theorem dX0_keeps_27 : decode cX0_keeps 27 = .ok (.invokestatic 194, 3) := dk_184 0 194 (dk_at dksX0_keeps_1 3 rfl rfl)
theorem dX0_keeps_30 : decode cX0_keeps 30 = .ok (.aload_n 0, 1) := dk_42 (dk_at dksX0_keeps_1 6 rfl rfl)
theorem dX0_keeps_31 : decode cX0_keeps 31 = .ok (.aload_n 0, 1) := dk_42 (dk_at dksX0_keeps_1 7 rfl rfl)
theorem dX0_keeps_32 : decode cX0_keeps 32 = .ok (.getfield 285, 3) := dk_180 1 29 (dk_at dksX0_keeps_1 8 rfl rfl)
theorem dX0_keeps_35 : decode cX0_keeps 35 = .ok (.iload_n 2, 1) := dk_28 (dk_at dksX0_keeps_1 11 rfl rfl)
theorem dX0_keeps_36 : decode cX0_keeps 36 = .ok (.invokestatic 297, 3) := dk_184 1 41 (dk_at dksX0_keeps_1 12 rfl rfl)
theorem dX0_keeps_39 : decode cX0_keeps 39 = .ok (.putfield 285, 3) := dk_181 1 29 (dk_at dksX0_keeps_1 15 rfl rfl)
theorem dX0_keeps_42 : decode cX0_keeps 42 = .ok (.aload_n 0, 1) := dk_42 (dk_at dksX0_keeps_1 18 rfl rfl)
theorem dX0_keeps_43 : decode cX0_keeps 43 = .ok (.dup, 1) := dk_89 (dk_at dksX0_keeps_1 19 rfl rfl)
theorem dX0_keeps_44 : decode cX0_keeps 44 = .ok (.getfield 288, 3) := dk_180 1 32 (dk_at dksX0_keeps_1 20 rfl rfl)
theorem dX0_keeps_47 : decode cX0_keeps 47 = .ok (.iload_n 2, 1) := dk_28 (dk_at dksX0_keeps_1 23 rfl rfl)
theorem dX0_keeps_48 : decode cX0_keeps 48 = .ok (.aload_n 0, 1) := dk_42 (dk_at dksX0_keeps_2 0 rfl rfl)
theorem dX0_keeps_49 : decode cX0_keeps 49 = .ok (.getfield 285, 3) := dk_180 1 29 (dk_at dksX0_keeps_2 1 rfl rfl)
theorem dX0_keeps_52 : decode cX0_keeps 52 = .ok (.if_icmp .ne 7, 3) := dk_160 0 7 (dk_at dksX0_keeps_2 4 rfl rfl)
theorem dX0_keeps_55 : decode cX0_keeps 55 = .ok (.iconst 1, 1) := dk_4 (dk_at dksX0_keeps_2 7 rfl rfl)
theorem dX0_keeps_56 : decode cX0_keeps 56 = .ok (.goto 4, 3) := dk_167 0 4 (dk_at dksX0_keeps_2 8 rfl rfl)
theorem dX0_keeps_59 : decode cX0_keeps 59 = .ok (.iconst 0, 1) := dk_3 (dk_at dksX0_keeps_2 11 rfl rfl)
theorem dX0_keeps_60 : decode cX0_keeps 60 = .ok (.iadd, 1) := dk_96 (dk_at dksX0_keeps_2 12 rfl rfl)
theorem dX0_keeps_61 : decode cX0_keeps 61 = .ok (.putfield 288, 3) := dk_181 1 32 (dk_at dksX0_keeps_2 13 rfl rfl)
theorem dX0_keeps_64 : decode cX0_keeps 64 = .ok (.aload_n 0, 1) := dk_42 (dk_at dksX0_keeps_2 16 rfl rfl)
theorem dX0_keeps_65 : decode cX0_keeps 65 = .ok (.aload_n 0, 1) := dk_42 (dk_at dksX0_keeps_2 17 rfl rfl)
theorem dX0_keeps_66 : decode cX0_keeps 66 = .ok (.getfield 291, 3) := dk_180 1 35 (dk_at dksX0_keeps_2 18 rfl rfl)
theorem dX0_keeps_69 : decode cX0_keeps 69 = .ok (.aload_n 0, 1) := dk_42 (dk_at dksX0_keeps_2 21 rfl rfl)
theorem dX0_keeps_70 : decode cX0_keeps 70 = .ok (.getfield 10, 3) := dk_180 0 10 (dk_at dksX0_keeps_3 0 rfl rfl)
theorem dX0_keeps_73 : decode cX0_keeps 73 = .ok (.getfield 156, 3) := dk_180 0 156 (dk_at dksX0_keeps_3 3 rfl rfl)
theorem dX0_keeps_76 : decode cX0_keeps 76 = .ok (.aload_n 0, 1) := dk_42 (dk_at dksX0_keeps_3 6 rfl rfl)
theorem dX0_keeps_77 : decode cX0_keeps 77 = .ok (.iconst (-1), 1) := dk_2 (dk_at dksX0_keeps_3 7 rfl rfl)
theorem dX0_keeps_78 : decode cX0_keeps 78 = .ok (.invokevirtual 274, 3) := dk_182 1 18 (dk_at dksX0_keeps_3 8 rfl rfl)
theorem dX0_keeps_81 : decode cX0_keeps 81 = .ok (.invokestatic 300, 3) := dk_184 1 44 (dk_at dksX0_keeps_3 11 rfl rfl)
theorem dX0_keeps_84 : decode cX0_keeps 84 = .ok (.isub, 1) := dk_100 (dk_at dksX0_keeps_3 14 rfl rfl)
theorem dX0_keeps_85 : decode cX0_keeps 85 = .ok (.invokestatic 225, 3) := dk_184 0 225 (dk_at dksX0_keeps_3 15 rfl rfl)
theorem dX0_keeps_88 : decode cX0_keeps 88 = .ok (.putfield 291, 3) := dk_181 1 35 (dk_at dksX0_keeps_3 18 rfl rfl)
theorem dX0_keeps_91 : decode cX0_keeps 91 = .ok (.return_, 1) := dk_177 (dk_at dksX0_keeps_3 21 rfl rfl)
abbrev cX0_laysSag : ByteArray := prog_1_method_32_code
def yX0_laysSag : MethodName := ⟨RX0, "laysSag", "()I"⟩
def dkwX0_laysSag_0 : List UInt8 := [42, 182, 0, 253, 42, 182, 1, 11, 172]
abbrev dktX0_laysSag_0 : List UInt8 := dkwX0_laysSag_0 ++ []
theorem dksX0_laysSag_0 : cX0_laysSag.data.toList.drop 0 = dktX0_laysSag_0 := by decide +kernel
theorem dX0_laysSag_0 : decode cX0_laysSag 0 = .ok (.aload_n 0, 1) := dk_42 (dk_at dksX0_laysSag_0 0 rfl rfl)
theorem dX0_laysSag_1 : decode cX0_laysSag 1 = .ok (.invokevirtual 253, 3) := dk_182 0 253 (dk_at dksX0_laysSag_0 1 rfl rfl)
theorem dX0_laysSag_4 : decode cX0_laysSag 4 = .ok (.aload_n 0, 1) := dk_42 (dk_at dksX0_laysSag_0 4 rfl rfl)
theorem dX0_laysSag_5 : decode cX0_laysSag 5 = .ok (.invokevirtual 267, 3) := dk_182 1 11 (dk_at dksX0_laysSag_0 5 rfl rfl)
theorem dX0_laysSag_8 : decode cX0_laysSag 8 = .ok (.ireturn, 1) := dk_172 (dk_at dksX0_laysSag_0 8 rfl rfl)
abbrev cX0_allSag : ByteArray := prog_1_method_31_code
def yX0_allSag : MethodName := ⟨RX0, "allSag", "()I"⟩
def dkwX0_allSag_1 : List UInt8 := [132, 2, 1, 167, 255, 234, 27, 172]
abbrev dktX0_allSag_1 : List UInt8 := dkwX0_allSag_1 ++ []
def dkwX0_allSag_0 : List UInt8 := [3, 60, 3, 61, 28, 42, 180, 0, 10, 180, 0, 153, 162, 0, 17, 27, 42, 28, 182, 0, 218, 96, 60]
abbrev dktX0_allSag_0 : List UInt8 := dkwX0_allSag_0 ++ dktX0_allSag_1
theorem dksX0_allSag_0 : cX0_allSag.data.toList.drop 0 = dktX0_allSag_0 := by decide +kernel
theorem dksX0_allSag_1 : cX0_allSag.data.toList.drop 23 = dktX0_allSag_1 := dk_seg dksX0_allSag_0 23 rfl rfl
theorem dX0_allSag_0 : decode cX0_allSag 0 = .ok (.iconst 0, 1) := dk_3 (dk_at dksX0_allSag_0 0 rfl rfl)
theorem dX0_allSag_1 : decode cX0_allSag 1 = .ok (.istore_n 1, 1) := dk_60 (dk_at dksX0_allSag_0 1 rfl rfl)
theorem dX0_allSag_2 : decode cX0_allSag 2 = .ok (.iconst 0, 1) := dk_3 (dk_at dksX0_allSag_0 2 rfl rfl)
theorem dX0_allSag_3 : decode cX0_allSag 3 = .ok (.istore_n 2, 1) := dk_61 (dk_at dksX0_allSag_0 3 rfl rfl)
theorem dX0_allSag_4 : decode cX0_allSag 4 = .ok (.iload_n 2, 1) := dk_28 (dk_at dksX0_allSag_0 4 rfl rfl)
theorem dX0_allSag_5 : decode cX0_allSag 5 = .ok (.aload_n 0, 1) := dk_42 (dk_at dksX0_allSag_0 5 rfl rfl)
theorem dX0_allSag_6 : decode cX0_allSag 6 = .ok (.getfield 10, 3) := dk_180 0 10 (dk_at dksX0_allSag_0 6 rfl rfl)
theorem dX0_allSag_9 : decode cX0_allSag 9 = .ok (.getfield 153, 3) := dk_180 0 153 (dk_at dksX0_allSag_0 9 rfl rfl)
theorem dX0_allSag_12 : decode cX0_allSag 12 = .ok (.if_icmp .ge 17, 3) := dk_162 0 17 (dk_at dksX0_allSag_0 12 rfl rfl)
theorem dX0_allSag_15 : decode cX0_allSag 15 = .ok (.iload_n 1, 1) := dk_27 (dk_at dksX0_allSag_0 15 rfl rfl)
theorem dX0_allSag_16 : decode cX0_allSag 16 = .ok (.aload_n 0, 1) := dk_42 (dk_at dksX0_allSag_0 16 rfl rfl)
theorem dX0_allSag_17 : decode cX0_allSag 17 = .ok (.iload_n 2, 1) := dk_28 (dk_at dksX0_allSag_0 17 rfl rfl)
theorem dX0_allSag_18 : decode cX0_allSag 18 = .ok (.invokevirtual 218, 3) := dk_182 0 218 (dk_at dksX0_allSag_0 18 rfl rfl)
theorem dX0_allSag_21 : decode cX0_allSag 21 = .ok (.iadd, 1) := dk_96 (dk_at dksX0_allSag_0 21 rfl rfl)
theorem dX0_allSag_22 : decode cX0_allSag 22 = .ok (.istore_n 1, 1) := dk_60 (dk_at dksX0_allSag_0 22 rfl rfl)
theorem dX0_allSag_23 : decode cX0_allSag 23 = .ok (.iinc 2 1, 3) := dk_132 2 1 (dk_at dksX0_allSag_1 0 rfl rfl)
theorem dX0_allSag_26 : decode cX0_allSag 26 = .ok (.goto (-22), 3) := dk_167 255 234 (dk_at dksX0_allSag_1 3 rfl rfl)
theorem dX0_allSag_29 : decode cX0_allSag 29 = .ok (.iload_n 1, 1) := dk_27 (dk_at dksX0_allSag_1 6 rfl rfl)
theorem dX0_allSag_30 : decode cX0_allSag 30 = .ok (.ireturn, 1) := dk_172 (dk_at dksX0_allSag_1 7 rfl rfl)
abbrev cX0_order : ByteArray := prog_1_method_66_code
def yX0_order : MethodName := ⟨RX0, "order", "(I)I"⟩
def dkwX0_order_1 : List UInt8 := [167, 0, 5, 16, 254, 172]
abbrev dktX0_order_1 : List UInt8 := dkwX0_order_1 ++ []
def dkwX0_order_0 : List UInt8 := [42, 27, 133, 182, 0, 159, 153, 0, 19, 42, 182, 1, 62, 153, 0, 12, 42, 180, 0, 95, 27, 46]
abbrev dktX0_order_0 : List UInt8 := dkwX0_order_0 ++ dktX0_order_1
theorem dksX0_order_0 : cX0_order.data.toList.drop 0 = dktX0_order_0 := by decide +kernel
theorem dksX0_order_1 : cX0_order.data.toList.drop 22 = dktX0_order_1 := dk_seg dksX0_order_0 22 rfl rfl
theorem dX0_order_0 : decode cX0_order 0 = .ok (.aload_n 0, 1) := dk_42 (dk_at dksX0_order_0 0 rfl rfl)
theorem dX0_order_1 : decode cX0_order 1 = .ok (.iload_n 1, 1) := dk_27 (dk_at dksX0_order_0 1 rfl rfl)
theorem dX0_order_2 : decode cX0_order 2 = .ok (.i2l, 1) := dk_133 (dk_at dksX0_order_0 2 rfl rfl)
theorem dX0_order_3 : decode cX0_order 3 = .ok (.invokevirtual 159, 3) := dk_182 0 159 (dk_at dksX0_order_0 3 rfl rfl)
theorem dX0_order_6 : decode cX0_order 6 = .ok (.ifCond .eq 19, 3) := dk_153 0 19 (dk_at dksX0_order_0 6 rfl rfl)
theorem dX0_order_9 : decode cX0_order 9 = .ok (.aload_n 0, 1) := dk_42 (dk_at dksX0_order_0 9 rfl rfl)
theorem dX0_order_10 : decode cX0_order 10 = .ok (.invokevirtual 318, 3) := dk_182 1 62 (dk_at dksX0_order_0 10 rfl rfl)
theorem dX0_order_13 : decode cX0_order 13 = .ok (.ifCond .eq 12, 3) := dk_153 0 12 (dk_at dksX0_order_0 13 rfl rfl)
theorem dX0_order_16 : decode cX0_order 16 = .ok (.aload_n 0, 1) := dk_42 (dk_at dksX0_order_0 16 rfl rfl)
theorem dX0_order_17 : decode cX0_order 17 = .ok (.getfield 95, 3) := dk_180 0 95 (dk_at dksX0_order_0 17 rfl rfl)
theorem dX0_order_20 : decode cX0_order 20 = .ok (.iload_n 1, 1) := dk_27 (dk_at dksX0_order_0 20 rfl rfl)
theorem dX0_order_21 : decode cX0_order 21 = .ok (.iaload, 1) := dk_46 (dk_at dksX0_order_0 21 rfl rfl)
theorem dX0_order_22 : decode cX0_order 22 = .ok (.goto 5, 3) := dk_167 0 5 (dk_at dksX0_order_1 0 rfl rfl)
theorem dX0_order_25 : decode cX0_order 25 = .ok (.bipush (-2), 2) := dk_16 254 (dk_at dksX0_order_1 3 rfl rfl)
theorem dX0_order_27 : decode cX0_order 27 = .ok (.ireturn, 1) := dk_172 (dk_at dksX0_order_1 5 rfl rfl)
abbrev cX0_orders_2 : ByteArray := prog_1_method_67_code
def yX0_orders_2 : MethodName := ⟨RX0, "orders", "()I"⟩
def dkwX0_orders_2_0 : List UInt8 := [42, 182, 1, 62, 153, 0, 10, 42, 180, 1, 32, 167, 0, 5, 16, 254, 172]
abbrev dktX0_orders_2_0 : List UInt8 := dkwX0_orders_2_0 ++ []
theorem dksX0_orders_2_0 : cX0_orders_2.data.toList.drop 0 = dktX0_orders_2_0 := by decide +kernel
theorem dX0_orders_2_0 : decode cX0_orders_2 0 = .ok (.aload_n 0, 1) := dk_42 (dk_at dksX0_orders_2_0 0 rfl rfl)
theorem dX0_orders_2_1 : decode cX0_orders_2 1 = .ok (.invokevirtual 318, 3) := dk_182 1 62 (dk_at dksX0_orders_2_0 1 rfl rfl)
theorem dX0_orders_2_4 : decode cX0_orders_2 4 = .ok (.ifCond .eq 10, 3) := dk_153 0 10 (dk_at dksX0_orders_2_0 4 rfl rfl)
theorem dX0_orders_2_7 : decode cX0_orders_2 7 = .ok (.aload_n 0, 1) := dk_42 (dk_at dksX0_orders_2_0 7 rfl rfl)
theorem dX0_orders_2_8 : decode cX0_orders_2 8 = .ok (.getfield 288, 3) := dk_180 1 32 (dk_at dksX0_orders_2_0 8 rfl rfl)
theorem dX0_orders_2_11 : decode cX0_orders_2 11 = .ok (.goto 5, 3) := dk_167 0 5 (dk_at dksX0_orders_2_0 11 rfl rfl)
theorem dX0_orders_2_14 : decode cX0_orders_2 14 = .ok (.bipush (-2), 2) := dk_16 254 (dk_at dksX0_orders_2_0 14 rfl rfl)
theorem dX0_orders_2_16 : decode cX0_orders_2 16 = .ok (.ireturn, 1) := dk_172 (dk_at dksX0_orders_2_0 16 rfl rfl)
abbrev cX0_across : ByteArray := prog_1_method_68_code
def yX0_across : MethodName := ⟨RX0, "across", "()I"⟩
def dkwX0_across_0 : List UInt8 := [42, 182, 1, 62, 153, 0, 10, 42, 180, 1, 35, 167, 0, 5, 16, 254, 172]
abbrev dktX0_across_0 : List UInt8 := dkwX0_across_0 ++ []
theorem dksX0_across_0 : cX0_across.data.toList.drop 0 = dktX0_across_0 := by decide +kernel
theorem dX0_across_0 : decode cX0_across 0 = .ok (.aload_n 0, 1) := dk_42 (dk_at dksX0_across_0 0 rfl rfl)
theorem dX0_across_1 : decode cX0_across 1 = .ok (.invokevirtual 318, 3) := dk_182 1 62 (dk_at dksX0_across_0 1 rfl rfl)
theorem dX0_across_4 : decode cX0_across 4 = .ok (.ifCond .eq 10, 3) := dk_153 0 10 (dk_at dksX0_across_0 4 rfl rfl)
theorem dX0_across_7 : decode cX0_across 7 = .ok (.aload_n 0, 1) := dk_42 (dk_at dksX0_across_0 7 rfl rfl)
theorem dX0_across_8 : decode cX0_across 8 = .ok (.getfield 291, 3) := dk_180 1 35 (dk_at dksX0_across_0 8 rfl rfl)
theorem dX0_across_11 : decode cX0_across 11 = .ok (.goto 5, 3) := dk_167 0 5 (dk_at dksX0_across_0 11 rfl rfl)
theorem dX0_across_14 : decode cX0_across 14 = .ok (.bipush (-2), 2) := dk_16 254 (dk_at dksX0_across_0 14 rfl rfl)
theorem dX0_across_16 : decode cX0_across 16 = .ok (.ireturn, 1) := dk_172 (dk_at dksX0_across_0 16 rfl rfl)
abbrev cX0_routes : ByteArray := prog_1_method_69_code
def yX0_routes : MethodName := ⟨RX0, "routes", "()I"⟩
def dkwX0_routes_0 : List UInt8 := [42, 182, 1, 65, 153, 0, 10, 42, 180, 1, 29, 167, 0, 5, 16, 254, 172]
abbrev dktX0_routes_0 : List UInt8 := dkwX0_routes_0 ++ []
theorem dksX0_routes_0 : cX0_routes.data.toList.drop 0 = dktX0_routes_0 := by decide +kernel
theorem dX0_routes_0 : decode cX0_routes 0 = .ok (.aload_n 0, 1) := dk_42 (dk_at dksX0_routes_0 0 rfl rfl)
theorem dX0_routes_1 : decode cX0_routes 1 = .ok (.invokevirtual 321, 3) := dk_182 1 65 (dk_at dksX0_routes_0 1 rfl rfl)
theorem dX0_routes_4 : decode cX0_routes 4 = .ok (.ifCond .eq 10, 3) := dk_153 0 10 (dk_at dksX0_routes_0 4 rfl rfl)
theorem dX0_routes_7 : decode cX0_routes 7 = .ok (.aload_n 0, 1) := dk_42 (dk_at dksX0_routes_0 7 rfl rfl)
theorem dX0_routes_8 : decode cX0_routes 8 = .ok (.getfield 285, 3) := dk_180 1 29 (dk_at dksX0_routes_0 8 rfl rfl)
theorem dX0_routes_11 : decode cX0_routes 11 = .ok (.goto 5, 3) := dk_167 0 5 (dk_at dksX0_routes_0 11 rfl rfl)
theorem dX0_routes_14 : decode cX0_routes 14 = .ok (.bipush (-2), 2) := dk_16 254 (dk_at dksX0_routes_0 14 rfl rfl)
theorem dX0_routes_16 : decode cX0_routes 16 = .ok (.ireturn, 1) := dk_172 (dk_at dksX0_routes_0 16 rfl rfl)
abbrev cX0_asksRoutes : ByteArray := prog_1_method_64_code
def yX0_asksRoutes : MethodName := ⟨RX0, "asksRoutes", "()Z"⟩
def dkwX0_asksRoutes_0 : List UInt8 := [42, 182, 1, 0, 154, 0, 5, 3, 172, 42, 182, 1, 56, 42, 3, 182, 1, 59, 4, 172]
abbrev dktX0_asksRoutes_0 : List UInt8 := dkwX0_asksRoutes_0 ++ []
theorem dksX0_asksRoutes_0 : cX0_asksRoutes.data.toList.drop 0 = dktX0_asksRoutes_0 := by decide +kernel
theorem dX0_asksRoutes_0 : decode cX0_asksRoutes 0 = .ok (.aload_n 0, 1) := dk_42 (dk_at dksX0_asksRoutes_0 0 rfl rfl)
theorem dX0_asksRoutes_1 : decode cX0_asksRoutes 1 = .ok (.invokevirtual 256, 3) := dk_182 1 0 (dk_at dksX0_asksRoutes_0 1 rfl rfl)
theorem dX0_asksRoutes_4 : decode cX0_asksRoutes 4 = .ok (.ifCond .ne 5, 3) := dk_154 0 5 (dk_at dksX0_asksRoutes_0 4 rfl rfl)
theorem dX0_asksRoutes_7 : decode cX0_asksRoutes 7 = .ok (.iconst 0, 1) := dk_3 (dk_at dksX0_asksRoutes_0 7 rfl rfl)
theorem dX0_asksRoutes_8 : decode cX0_asksRoutes 8 = .ok (.ireturn, 1) := dk_172 (dk_at dksX0_asksRoutes_0 8 rfl rfl)
theorem dX0_asksRoutes_9 : decode cX0_asksRoutes 9 = .ok (.aload_n 0, 1) := dk_42 (dk_at dksX0_asksRoutes_0 9 rfl rfl)
theorem dX0_asksRoutes_10 : decode cX0_asksRoutes 10 = .ok (.invokevirtual 312, 3) := dk_182 1 56 (dk_at dksX0_asksRoutes_0 10 rfl rfl)
theorem dX0_asksRoutes_13 : decode cX0_asksRoutes 13 = .ok (.aload_n 0, 1) := dk_42 (dk_at dksX0_asksRoutes_0 13 rfl rfl)
theorem dX0_asksRoutes_14 : decode cX0_asksRoutes 14 = .ok (.iconst 0, 1) := dk_3 (dk_at dksX0_asksRoutes_0 14 rfl rfl)
theorem dX0_asksRoutes_15 : decode cX0_asksRoutes 15 = .ok (.invokevirtual 315, 3) := dk_182 1 59 (dk_at dksX0_asksRoutes_0 15 rfl rfl)
theorem dX0_asksRoutes_18 : decode cX0_asksRoutes 18 = .ok (.iconst 1, 1) := dk_4 (dk_at dksX0_asksRoutes_0 18 rfl rfl)
theorem dX0_asksRoutes_19 : decode cX0_asksRoutes 19 = .ok (.ireturn, 1) := dk_172 (dk_at dksX0_asksRoutes_0 19 rfl rfl)
abbrev cX0_routes_2 : ByteArray := prog_1_method_63_code
def yX0_routes_2 : MethodName := ⟨RX0, "routes", "(I)V"⟩
def dkwX0_routes_2_2 : List UInt8 := [132, 2, 1, 167, 255, 228, 177]
abbrev dktX0_routes_2_2 : List UInt8 := dkwX0_routes_2_2 ++ []
def dkwX0_routes_2_1 : List UInt8 := [180, 0, 10, 180, 0, 153, 162, 0, 23, 42, 180, 0, 59, 27, 28, 79, 42, 27, 4, 96, 182, 1, 59]
abbrev dktX0_routes_2_1 : List UInt8 := dkwX0_routes_2_1 ++ dktX0_routes_2_2
def dkwX0_routes_2_0 : List UInt8 := [27, 42, 180, 0, 10, 180, 0, 156, 160, 0, 12, 42, 42, 180, 0, 59, 182, 1, 49, 177, 3, 61, 28, 42]
abbrev dktX0_routes_2_0 : List UInt8 := dkwX0_routes_2_0 ++ dktX0_routes_2_1
theorem dksX0_routes_2_0 : cX0_routes_2.data.toList.drop 0 = dktX0_routes_2_0 := by decide +kernel
theorem dksX0_routes_2_1 : cX0_routes_2.data.toList.drop 24 = dktX0_routes_2_1 := dk_seg dksX0_routes_2_0 24 rfl rfl
theorem dksX0_routes_2_2 : cX0_routes_2.data.toList.drop 47 = dktX0_routes_2_2 := dk_seg dksX0_routes_2_1 23 rfl rfl
theorem dX0_routes_2_0 : decode cX0_routes_2 0 = .ok (.iload_n 1, 1) := dk_27 (dk_at dksX0_routes_2_0 0 rfl rfl)
theorem dX0_routes_2_1 : decode cX0_routes_2 1 = .ok (.aload_n 0, 1) := dk_42 (dk_at dksX0_routes_2_0 1 rfl rfl)
theorem dX0_routes_2_2 : decode cX0_routes_2 2 = .ok (.getfield 10, 3) := dk_180 0 10 (dk_at dksX0_routes_2_0 2 rfl rfl)
theorem dX0_routes_2_5 : decode cX0_routes_2 5 = .ok (.getfield 156, 3) := dk_180 0 156 (dk_at dksX0_routes_2_0 5 rfl rfl)
theorem dX0_routes_2_8 : decode cX0_routes_2 8 = .ok (.if_icmp .ne 12, 3) := dk_160 0 12 (dk_at dksX0_routes_2_0 8 rfl rfl)
theorem dX0_routes_2_11 : decode cX0_routes_2 11 = .ok (.aload_n 0, 1) := dk_42 (dk_at dksX0_routes_2_0 11 rfl rfl)
theorem dX0_routes_2_12 : decode cX0_routes_2 12 = .ok (.aload_n 0, 1) := dk_42 (dk_at dksX0_routes_2_0 12 rfl rfl)
theorem dX0_routes_2_13 : decode cX0_routes_2 13 = .ok (.getfield 59, 3) := dk_180 0 59 (dk_at dksX0_routes_2_0 13 rfl rfl)
theorem dX0_routes_2_16 : decode cX0_routes_2 16 = .ok (.invokevirtual 305, 3) := dk_182 1 49 (dk_at dksX0_routes_2_0 16 rfl rfl)
theorem dX0_routes_2_19 : decode cX0_routes_2 19 = .ok (.return_, 1) := dk_177 (dk_at dksX0_routes_2_0 19 rfl rfl)
theorem dX0_routes_2_20 : decode cX0_routes_2 20 = .ok (.iconst 0, 1) := dk_3 (dk_at dksX0_routes_2_0 20 rfl rfl)
theorem dX0_routes_2_21 : decode cX0_routes_2 21 = .ok (.istore_n 2, 1) := dk_61 (dk_at dksX0_routes_2_0 21 rfl rfl)
theorem dX0_routes_2_22 : decode cX0_routes_2 22 = .ok (.iload_n 2, 1) := dk_28 (dk_at dksX0_routes_2_0 22 rfl rfl)
theorem dX0_routes_2_23 : decode cX0_routes_2 23 = .ok (.aload_n 0, 1) := dk_42 (dk_at dksX0_routes_2_0 23 rfl rfl)
theorem dX0_routes_2_24 : decode cX0_routes_2 24 = .ok (.getfield 10, 3) := dk_180 0 10 (dk_at dksX0_routes_2_1 0 rfl rfl)
theorem dX0_routes_2_27 : decode cX0_routes_2 27 = .ok (.getfield 153, 3) := dk_180 0 153 (dk_at dksX0_routes_2_1 3 rfl rfl)
theorem dX0_routes_2_30 : decode cX0_routes_2 30 = .ok (.if_icmp .ge 23, 3) := dk_162 0 23 (dk_at dksX0_routes_2_1 6 rfl rfl)
theorem dX0_routes_2_33 : decode cX0_routes_2 33 = .ok (.aload_n 0, 1) := dk_42 (dk_at dksX0_routes_2_1 9 rfl rfl)
theorem dX0_routes_2_34 : decode cX0_routes_2 34 = .ok (.getfield 59, 3) := dk_180 0 59 (dk_at dksX0_routes_2_1 10 rfl rfl)
theorem dX0_routes_2_37 : decode cX0_routes_2 37 = .ok (.iload_n 1, 1) := dk_27 (dk_at dksX0_routes_2_1 13 rfl rfl)
theorem dX0_routes_2_38 : decode cX0_routes_2 38 = .ok (.iload_n 2, 1) := dk_28 (dk_at dksX0_routes_2_1 14 rfl rfl)
theorem dX0_routes_2_39 : decode cX0_routes_2 39 = .ok (.iastore, 1) := dk_79 (dk_at dksX0_routes_2_1 15 rfl rfl)
theorem dX0_routes_2_40 : decode cX0_routes_2 40 = .ok (.aload_n 0, 1) := dk_42 (dk_at dksX0_routes_2_1 16 rfl rfl)
theorem dX0_routes_2_41 : decode cX0_routes_2 41 = .ok (.iload_n 1, 1) := dk_27 (dk_at dksX0_routes_2_1 17 rfl rfl)
theorem dX0_routes_2_42 : decode cX0_routes_2 42 = .ok (.iconst 1, 1) := dk_4 (dk_at dksX0_routes_2_1 18 rfl rfl)
theorem dX0_routes_2_43 : decode cX0_routes_2 43 = .ok (.iadd, 1) := dk_96 (dk_at dksX0_routes_2_1 19 rfl rfl)
theorem dX0_routes_2_44 : decode cX0_routes_2 44 = .ok (.invokevirtual 315, 3) := dk_182 1 59 (dk_at dksX0_routes_2_1 20 rfl rfl)
theorem dX0_routes_2_47 : decode cX0_routes_2 47 = .ok (.iinc 2 1, 3) := dk_132 2 1 (dk_at dksX0_routes_2_2 0 rfl rfl)
theorem dX0_routes_2_50 : decode cX0_routes_2 50 = .ok (.goto (-28), 3) := dk_167 255 228 (dk_at dksX0_routes_2_2 3 rfl rfl)
theorem dX0_routes_2_53 : decode cX0_routes_2 53 = .ok (.return_, 1) := dk_177 (dk_at dksX0_routes_2_2 6 rfl rfl)
abbrev cX0_route : ByteArray := prog_1_method_70_code
def yX0_route : MethodName := ⟨RX0, "route", "(I)I"⟩
def dkwX0_route_1 : List UInt8 := [167, 0, 5, 16, 254, 172]
abbrev dktX0_route_1 : List UInt8 := dkwX0_route_1 ++ []
def dkwX0_route_0 : List UInt8 := [42, 27, 133, 182, 0, 159, 153, 0, 19, 42, 182, 1, 65, 153, 0, 12, 42, 180, 0, 95, 27, 46]
abbrev dktX0_route_0 : List UInt8 := dkwX0_route_0 ++ dktX0_route_1
theorem dksX0_route_0 : cX0_route.data.toList.drop 0 = dktX0_route_0 := by decide +kernel
theorem dksX0_route_1 : cX0_route.data.toList.drop 22 = dktX0_route_1 := dk_seg dksX0_route_0 22 rfl rfl
theorem dX0_route_0 : decode cX0_route 0 = .ok (.aload_n 0, 1) := dk_42 (dk_at dksX0_route_0 0 rfl rfl)
theorem dX0_route_1 : decode cX0_route 1 = .ok (.iload_n 1, 1) := dk_27 (dk_at dksX0_route_0 1 rfl rfl)
theorem dX0_route_2 : decode cX0_route 2 = .ok (.i2l, 1) := dk_133 (dk_at dksX0_route_0 2 rfl rfl)
theorem dX0_route_3 : decode cX0_route 3 = .ok (.invokevirtual 159, 3) := dk_182 0 159 (dk_at dksX0_route_0 3 rfl rfl)
theorem dX0_route_6 : decode cX0_route 6 = .ok (.ifCond .eq 19, 3) := dk_153 0 19 (dk_at dksX0_route_0 6 rfl rfl)
theorem dX0_route_9 : decode cX0_route 9 = .ok (.aload_n 0, 1) := dk_42 (dk_at dksX0_route_0 9 rfl rfl)
theorem dX0_route_10 : decode cX0_route 10 = .ok (.invokevirtual 321, 3) := dk_182 1 65 (dk_at dksX0_route_0 10 rfl rfl)
theorem dX0_route_13 : decode cX0_route 13 = .ok (.ifCond .eq 12, 3) := dk_153 0 12 (dk_at dksX0_route_0 13 rfl rfl)
theorem dX0_route_16 : decode cX0_route 16 = .ok (.aload_n 0, 1) := dk_42 (dk_at dksX0_route_0 16 rfl rfl)
theorem dX0_route_17 : decode cX0_route 17 = .ok (.getfield 95, 3) := dk_180 0 95 (dk_at dksX0_route_0 17 rfl rfl)
theorem dX0_route_20 : decode cX0_route 20 = .ok (.iload_n 1, 1) := dk_27 (dk_at dksX0_route_0 20 rfl rfl)
theorem dX0_route_21 : decode cX0_route 21 = .ok (.iaload, 1) := dk_46 (dk_at dksX0_route_0 21 rfl rfl)
theorem dX0_route_22 : decode cX0_route 22 = .ok (.goto 5, 3) := dk_167 0 5 (dk_at dksX0_route_1 0 rfl rfl)
theorem dX0_route_25 : decode cX0_route 25 = .ok (.bipush (-2), 2) := dk_16 254 (dk_at dksX0_route_1 3 rfl rfl)
theorem dX0_route_27 : decode cX0_route 27 = .ok (.ireturn, 1) := dk_172 (dk_at dksX0_route_1 5 rfl rfl)
abbrev cX0_safe : ByteArray := prog_1_method_71_code
def yX0_safe : MethodName := ⟨RX0, "safe", "()I"⟩
def dkwX0_safe_0 : List UInt8 := [42, 182, 1, 65, 153, 0, 10, 42, 180, 1, 35, 167, 0, 5, 16, 254, 172]
abbrev dktX0_safe_0 : List UInt8 := dkwX0_safe_0 ++ []
theorem dksX0_safe_0 : cX0_safe.data.toList.drop 0 = dktX0_safe_0 := by decide +kernel
theorem dX0_safe_0 : decode cX0_safe 0 = .ok (.aload_n 0, 1) := dk_42 (dk_at dksX0_safe_0 0 rfl rfl)
theorem dX0_safe_1 : decode cX0_safe 1 = .ok (.invokevirtual 321, 3) := dk_182 1 65 (dk_at dksX0_safe_0 1 rfl rfl)
theorem dX0_safe_4 : decode cX0_safe 4 = .ok (.ifCond .eq 10, 3) := dk_153 0 10 (dk_at dksX0_safe_0 4 rfl rfl)
theorem dX0_safe_7 : decode cX0_safe 7 = .ok (.aload_n 0, 1) := dk_42 (dk_at dksX0_safe_0 7 rfl rfl)
theorem dX0_safe_8 : decode cX0_safe 8 = .ok (.getfield 291, 3) := dk_180 1 35 (dk_at dksX0_safe_0 8 rfl rfl)
theorem dX0_safe_11 : decode cX0_safe 11 = .ok (.goto 5, 3) := dk_167 0 5 (dk_at dksX0_safe_0 11 rfl rfl)
theorem dX0_safe_14 : decode cX0_safe 14 = .ok (.bipush (-2), 2) := dk_16 254 (dk_at dksX0_safe_0 14 rfl rfl)
theorem dX0_safe_16 : decode cX0_safe 16 = .ok (.ireturn, 1) := dk_172 (dk_at dksX0_safe_0 16 rfl rfl)
abbrev cX0_spared : ByteArray := prog_1_method_72_code
def yX0_spared : MethodName := ⟨RX0, "spared", "(I)I"⟩
def dkwX0_spared_1 : List UInt8 := [28, 42, 182, 1, 38, 100, 172]
abbrev dktX0_spared_1 : List UInt8 := dkwX0_spared_1 ++ []
def dkwX0_spared_0 : List UInt8 := [42, 27, 182, 1, 7, 154, 0, 7, 17, 252, 24, 172, 42, 182, 1, 11, 61, 42, 4, 27, 120, 181, 0, 204]
abbrev dktX0_spared_0 : List UInt8 := dkwX0_spared_0 ++ dktX0_spared_1
theorem dksX0_spared_0 : cX0_spared.data.toList.drop 0 = dktX0_spared_0 := by decide +kernel
theorem dksX0_spared_1 : cX0_spared.data.toList.drop 24 = dktX0_spared_1 := dk_seg dksX0_spared_0 24 rfl rfl
theorem dX0_spared_0 : decode cX0_spared 0 = .ok (.aload_n 0, 1) := dk_42 (dk_at dksX0_spared_0 0 rfl rfl)
theorem dX0_spared_1 : decode cX0_spared 1 = .ok (.iload_n 1, 1) := dk_27 (dk_at dksX0_spared_0 1 rfl rfl)
theorem dX0_spared_2 : decode cX0_spared 2 = .ok (.invokevirtual 263, 3) := dk_182 1 7 (dk_at dksX0_spared_0 2 rfl rfl)
theorem dX0_spared_5 : decode cX0_spared 5 = .ok (.ifCond .ne 7, 3) := dk_154 0 7 (dk_at dksX0_spared_0 5 rfl rfl)
theorem dX0_spared_8 : decode cX0_spared 8 = .ok (.sipush (-1000), 3) := dk_17 252 24 (dk_at dksX0_spared_0 8 rfl rfl)
theorem dX0_spared_11 : decode cX0_spared 11 = .ok (.ireturn, 1) := dk_172 (dk_at dksX0_spared_0 11 rfl rfl)
theorem dX0_spared_12 : decode cX0_spared 12 = .ok (.aload_n 0, 1) := dk_42 (dk_at dksX0_spared_0 12 rfl rfl)
theorem dX0_spared_13 : decode cX0_spared 13 = .ok (.invokevirtual 267, 3) := dk_182 1 11 (dk_at dksX0_spared_0 13 rfl rfl)
theorem dX0_spared_16 : decode cX0_spared 16 = .ok (.istore_n 2, 1) := dk_61 (dk_at dksX0_spared_0 16 rfl rfl)
theorem dX0_spared_17 : decode cX0_spared 17 = .ok (.aload_n 0, 1) := dk_42 (dk_at dksX0_spared_0 17 rfl rfl)
theorem dX0_spared_18 : decode cX0_spared 18 = .ok (.iconst 1, 1) := dk_4 (dk_at dksX0_spared_0 18 rfl rfl)
theorem dX0_spared_19 : decode cX0_spared 19 = .ok (.iload_n 1, 1) := dk_27 (dk_at dksX0_spared_0 19 rfl rfl)
theorem dX0_spared_20 : decode cX0_spared 20 = .ok (.ishl, 1) := dk_120 (dk_at dksX0_spared_0 20 rfl rfl)
theorem dX0_spared_21 : decode cX0_spared 21 = .ok (.putfield 204, 3) := dk_181 0 204 (dk_at dksX0_spared_0 21 rfl rfl)
theorem dX0_spared_24 : decode cX0_spared 24 = .ok (.iload_n 2, 1) := dk_28 (dk_at dksX0_spared_1 0 rfl rfl)
theorem dX0_spared_25 : decode cX0_spared 25 = .ok (.aload_n 0, 1) := dk_42 (dk_at dksX0_spared_1 1 rfl rfl)
theorem dX0_spared_26 : decode cX0_spared 26 = .ok (.invokevirtual 294, 3) := dk_182 1 38 (dk_at dksX0_spared_1 2 rfl rfl)
theorem dX0_spared_29 : decode cX0_spared 29 = .ok (.isub, 1) := dk_100 (dk_at dksX0_spared_1 5 rfl rfl)
theorem dX0_spared_30 : decode cX0_spared 30 = .ok (.ireturn, 1) := dk_172 (dk_at dksX0_spared_1 6 rfl rfl)
abbrev cX0_worst : ByteArray := prog_1_method_73_code
def yX0_worst : MethodName := ⟨RX0, "worst", "()I"⟩
def dkwX0_worst_2 : List UInt8 := [161, 0, 6, 167, 0, 8, 21, 4, 61, 29, 60, 132, 3, 1, 167, 255, 215, 27, 172]
abbrev dktX0_worst_2 : List UInt8 := dkwX0_worst_2 ++ []
def dkwX0_worst_1 : List UInt8 := [180, 0, 156, 162, 0, 36, 42, 4, 29, 120, 181, 0, 204, 42, 182, 1, 38, 54, 4, 21, 4, 28]
abbrev dktX0_worst_1 : List UInt8 := dkwX0_worst_1 ++ dktX0_worst_2
def dkwX0_worst_0 : List UInt8 := [42, 182, 1, 4, 154, 0, 6, 16, 254, 172, 2, 60, 42, 182, 1, 11, 61, 3, 62, 29, 42, 180, 0, 10]
abbrev dktX0_worst_0 : List UInt8 := dkwX0_worst_0 ++ dktX0_worst_1
theorem dksX0_worst_0 : cX0_worst.data.toList.drop 0 = dktX0_worst_0 := by decide +kernel
theorem dksX0_worst_1 : cX0_worst.data.toList.drop 24 = dktX0_worst_1 := dk_seg dksX0_worst_0 24 rfl rfl
theorem dksX0_worst_2 : cX0_worst.data.toList.drop 46 = dktX0_worst_2 := dk_seg dksX0_worst_1 22 rfl rfl
theorem dX0_worst_0 : decode cX0_worst 0 = .ok (.aload_n 0, 1) := dk_42 (dk_at dksX0_worst_0 0 rfl rfl)
theorem dX0_worst_1 : decode cX0_worst 1 = .ok (.invokevirtual 260, 3) := dk_182 1 4 (dk_at dksX0_worst_0 1 rfl rfl)
theorem dX0_worst_4 : decode cX0_worst 4 = .ok (.ifCond .ne 6, 3) := dk_154 0 6 (dk_at dksX0_worst_0 4 rfl rfl)
theorem dX0_worst_7 : decode cX0_worst 7 = .ok (.bipush (-2), 2) := dk_16 254 (dk_at dksX0_worst_0 7 rfl rfl)
theorem dX0_worst_9 : decode cX0_worst 9 = .ok (.ireturn, 1) := dk_172 (dk_at dksX0_worst_0 9 rfl rfl)
theorem dX0_worst_10 : decode cX0_worst 10 = .ok (.iconst (-1), 1) := dk_2 (dk_at dksX0_worst_0 10 rfl rfl)
theorem dX0_worst_11 : decode cX0_worst 11 = .ok (.istore_n 1, 1) := dk_60 (dk_at dksX0_worst_0 11 rfl rfl)
theorem dX0_worst_12 : decode cX0_worst 12 = .ok (.aload_n 0, 1) := dk_42 (dk_at dksX0_worst_0 12 rfl rfl)
theorem dX0_worst_13 : decode cX0_worst 13 = .ok (.invokevirtual 267, 3) := dk_182 1 11 (dk_at dksX0_worst_0 13 rfl rfl)
theorem dX0_worst_16 : decode cX0_worst 16 = .ok (.istore_n 2, 1) := dk_61 (dk_at dksX0_worst_0 16 rfl rfl)
theorem dX0_worst_17 : decode cX0_worst 17 = .ok (.iconst 0, 1) := dk_3 (dk_at dksX0_worst_0 17 rfl rfl)
theorem dX0_worst_18 : decode cX0_worst 18 = .ok (.istore_n 3, 1) := dk_62 (dk_at dksX0_worst_0 18 rfl rfl)
theorem dX0_worst_19 : decode cX0_worst 19 = .ok (.iload_n 3, 1) := dk_29 (dk_at dksX0_worst_0 19 rfl rfl)
theorem dX0_worst_20 : decode cX0_worst 20 = .ok (.aload_n 0, 1) := dk_42 (dk_at dksX0_worst_0 20 rfl rfl)
theorem dX0_worst_21 : decode cX0_worst 21 = .ok (.getfield 10, 3) := dk_180 0 10 (dk_at dksX0_worst_0 21 rfl rfl)
theorem dX0_worst_24 : decode cX0_worst 24 = .ok (.getfield 156, 3) := dk_180 0 156 (dk_at dksX0_worst_1 0 rfl rfl)
theorem dX0_worst_27 : decode cX0_worst 27 = .ok (.if_icmp .ge 36, 3) := dk_162 0 36 (dk_at dksX0_worst_1 3 rfl rfl)
theorem dX0_worst_30 : decode cX0_worst 30 = .ok (.aload_n 0, 1) := dk_42 (dk_at dksX0_worst_1 6 rfl rfl)
theorem dX0_worst_31 : decode cX0_worst 31 = .ok (.iconst 1, 1) := dk_4 (dk_at dksX0_worst_1 7 rfl rfl)
theorem dX0_worst_32 : decode cX0_worst 32 = .ok (.iload_n 3, 1) := dk_29 (dk_at dksX0_worst_1 8 rfl rfl)
theorem dX0_worst_33 : decode cX0_worst 33 = .ok (.ishl, 1) := dk_120 (dk_at dksX0_worst_1 9 rfl rfl)
theorem dX0_worst_34 : decode cX0_worst 34 = .ok (.putfield 204, 3) := dk_181 0 204 (dk_at dksX0_worst_1 10 rfl rfl)
theorem dX0_worst_37 : decode cX0_worst 37 = .ok (.aload_n 0, 1) := dk_42 (dk_at dksX0_worst_1 13 rfl rfl)
theorem dX0_worst_38 : decode cX0_worst 38 = .ok (.invokevirtual 294, 3) := dk_182 1 38 (dk_at dksX0_worst_1 14 rfl rfl)
theorem dX0_worst_41 : decode cX0_worst 41 = .ok (.istore 4, 2) := dk_54 4 (dk_at dksX0_worst_1 17 rfl rfl)
theorem dX0_worst_43 : decode cX0_worst 43 = .ok (.iload 4, 2) := dk_21 4 (dk_at dksX0_worst_1 19 rfl rfl)
theorem dX0_worst_45 : decode cX0_worst 45 = .ok (.iload_n 2, 1) := dk_28 (dk_at dksX0_worst_1 21 rfl rfl)
theorem dX0_worst_46 : decode cX0_worst 46 = .ok (.if_icmp .lt 6, 3) := dk_161 0 6 (dk_at dksX0_worst_2 0 rfl rfl)
theorem dX0_worst_49 : decode cX0_worst 49 = .ok (.goto 8, 3) := dk_167 0 8 (dk_at dksX0_worst_2 3 rfl rfl)
theorem dX0_worst_52 : decode cX0_worst 52 = .ok (.iload 4, 2) := dk_21 4 (dk_at dksX0_worst_2 6 rfl rfl)
theorem dX0_worst_54 : decode cX0_worst 54 = .ok (.istore_n 2, 1) := dk_61 (dk_at dksX0_worst_2 8 rfl rfl)
theorem dX0_worst_55 : decode cX0_worst 55 = .ok (.iload_n 3, 1) := dk_29 (dk_at dksX0_worst_2 9 rfl rfl)
theorem dX0_worst_56 : decode cX0_worst 56 = .ok (.istore_n 1, 1) := dk_60 (dk_at dksX0_worst_2 10 rfl rfl)
theorem dX0_worst_57 : decode cX0_worst 57 = .ok (.iinc 3 1, 3) := dk_132 3 1 (dk_at dksX0_worst_2 11 rfl rfl)
theorem dX0_worst_60 : decode cX0_worst 60 = .ok (.goto (-41), 3) := dk_167 255 215 (dk_at dksX0_worst_2 14 rfl rfl)
theorem dX0_worst_63 : decode cX0_worst 63 = .ok (.iload_n 1, 1) := dk_27 (dk_at dksX0_worst_2 17 rfl rfl)
theorem dX0_worst_64 : decode cX0_worst 64 = .ok (.ireturn, 1) := dk_172 (dk_at dksX0_worst_2 18 rfl rfl)
abbrev cX0_forget : ByteArray := prog_1_method_74_code
def yX0_forget : MethodName := ⟨RX0, "forget", "()I"⟩
def dkwX0_forget_3 : List UInt8 := [167, 255, 210, 27, 172]
abbrev dktX0_forget_3 : List UInt8 := dkwX0_forget_3 ++ []
def dkwX0_forget_2 : List UInt8 := [42, 182, 1, 38, 54, 5, 21, 5, 28, 161, 0, 6, 167, 0, 9, 21, 5, 61, 21, 4, 60, 132, 4, 1]
abbrev dktX0_forget_2 : List UInt8 := dkwX0_forget_2 ++ dktX0_forget_3
def dkwX0_forget_1 : List UInt8 := [54, 4, 21, 4, 42, 180, 0, 10, 180, 0, 156, 162, 0, 40, 42, 29, 4, 21, 4, 120, 128, 181, 0, 203]
abbrev dktX0_forget_1 : List UInt8 := dkwX0_forget_1 ++ dktX0_forget_2
def dkwX0_forget_0 : List UInt8 := [42, 182, 1, 4, 154, 0, 6, 16, 254, 172, 2, 60, 42, 182, 1, 11, 61, 42, 180, 0, 203, 62, 3]
abbrev dktX0_forget_0 : List UInt8 := dkwX0_forget_0 ++ dktX0_forget_1
theorem dksX0_forget_0 : cX0_forget.data.toList.drop 0 = dktX0_forget_0 := by decide +kernel
theorem dksX0_forget_1 : cX0_forget.data.toList.drop 23 = dktX0_forget_1 := dk_seg dksX0_forget_0 23 rfl rfl
theorem dksX0_forget_2 : cX0_forget.data.toList.drop 47 = dktX0_forget_2 := dk_seg dksX0_forget_1 24 rfl rfl
theorem dksX0_forget_3 : cX0_forget.data.toList.drop 71 = dktX0_forget_3 := dk_seg dksX0_forget_2 24 rfl rfl
theorem dX0_forget_0 : decode cX0_forget 0 = .ok (.aload_n 0, 1) := dk_42 (dk_at dksX0_forget_0 0 rfl rfl)
theorem dX0_forget_1 : decode cX0_forget 1 = .ok (.invokevirtual 260, 3) := dk_182 1 4 (dk_at dksX0_forget_0 1 rfl rfl)
theorem dX0_forget_4 : decode cX0_forget 4 = .ok (.ifCond .ne 6, 3) := dk_154 0 6 (dk_at dksX0_forget_0 4 rfl rfl)
theorem dX0_forget_7 : decode cX0_forget 7 = .ok (.bipush (-2), 2) := dk_16 254 (dk_at dksX0_forget_0 7 rfl rfl)
theorem dX0_forget_9 : decode cX0_forget 9 = .ok (.ireturn, 1) := dk_172 (dk_at dksX0_forget_0 9 rfl rfl)
theorem dX0_forget_10 : decode cX0_forget 10 = .ok (.iconst (-1), 1) := dk_2 (dk_at dksX0_forget_0 10 rfl rfl)
theorem dX0_forget_11 : decode cX0_forget 11 = .ok (.istore_n 1, 1) := dk_60 (dk_at dksX0_forget_0 11 rfl rfl)
theorem dX0_forget_12 : decode cX0_forget 12 = .ok (.aload_n 0, 1) := dk_42 (dk_at dksX0_forget_0 12 rfl rfl)
theorem dX0_forget_13 : decode cX0_forget 13 = .ok (.invokevirtual 267, 3) := dk_182 1 11 (dk_at dksX0_forget_0 13 rfl rfl)
theorem dX0_forget_16 : decode cX0_forget 16 = .ok (.istore_n 2, 1) := dk_61 (dk_at dksX0_forget_0 16 rfl rfl)
theorem dX0_forget_17 : decode cX0_forget 17 = .ok (.aload_n 0, 1) := dk_42 (dk_at dksX0_forget_0 17 rfl rfl)
theorem dX0_forget_18 : decode cX0_forget 18 = .ok (.getfield 203, 3) := dk_180 0 203 (dk_at dksX0_forget_0 18 rfl rfl)
theorem dX0_forget_21 : decode cX0_forget 21 = .ok (.istore_n 3, 1) := dk_62 (dk_at dksX0_forget_0 21 rfl rfl)
theorem dX0_forget_22 : decode cX0_forget 22 = .ok (.iconst 0, 1) := dk_3 (dk_at dksX0_forget_0 22 rfl rfl)
theorem dX0_forget_23 : decode cX0_forget 23 = .ok (.istore 4, 2) := dk_54 4 (dk_at dksX0_forget_1 0 rfl rfl)
theorem dX0_forget_25 : decode cX0_forget 25 = .ok (.iload 4, 2) := dk_21 4 (dk_at dksX0_forget_1 2 rfl rfl)
theorem dX0_forget_27 : decode cX0_forget 27 = .ok (.aload_n 0, 1) := dk_42 (dk_at dksX0_forget_1 4 rfl rfl)
theorem dX0_forget_28 : decode cX0_forget 28 = .ok (.getfield 10, 3) := dk_180 0 10 (dk_at dksX0_forget_1 5 rfl rfl)
theorem dX0_forget_31 : decode cX0_forget 31 = .ok (.getfield 156, 3) := dk_180 0 156 (dk_at dksX0_forget_1 8 rfl rfl)
theorem dX0_forget_34 : decode cX0_forget 34 = .ok (.if_icmp .ge 40, 3) := dk_162 0 40 (dk_at dksX0_forget_1 11 rfl rfl)
theorem dX0_forget_37 : decode cX0_forget 37 = .ok (.aload_n 0, 1) := dk_42 (dk_at dksX0_forget_1 14 rfl rfl)
theorem dX0_forget_38 : decode cX0_forget 38 = .ok (.iload_n 3, 1) := dk_29 (dk_at dksX0_forget_1 15 rfl rfl)
theorem dX0_forget_39 : decode cX0_forget 39 = .ok (.iconst 1, 1) := dk_4 (dk_at dksX0_forget_1 16 rfl rfl)
theorem dX0_forget_40 : decode cX0_forget 40 = .ok (.iload 4, 2) := dk_21 4 (dk_at dksX0_forget_1 17 rfl rfl)
theorem dX0_forget_42 : decode cX0_forget 42 = .ok (.ishl, 1) := dk_120 (dk_at dksX0_forget_1 19 rfl rfl)
theorem dX0_forget_43 : decode cX0_forget 43 = .ok (.ior, 1) := dk_128 (dk_at dksX0_forget_1 20 rfl rfl)
theorem dX0_forget_44 : decode cX0_forget 44 = .ok (.putfield 203, 3) := dk_181 0 203 (dk_at dksX0_forget_1 21 rfl rfl)
theorem dX0_forget_47 : decode cX0_forget 47 = .ok (.aload_n 0, 1) := dk_42 (dk_at dksX0_forget_2 0 rfl rfl)
theorem dX0_forget_48 : decode cX0_forget 48 = .ok (.invokevirtual 294, 3) := dk_182 1 38 (dk_at dksX0_forget_2 1 rfl rfl)
theorem dX0_forget_51 : decode cX0_forget 51 = .ok (.istore 5, 2) := dk_54 5 (dk_at dksX0_forget_2 4 rfl rfl)
theorem dX0_forget_53 : decode cX0_forget 53 = .ok (.iload 5, 2) := dk_21 5 (dk_at dksX0_forget_2 6 rfl rfl)
theorem dX0_forget_55 : decode cX0_forget 55 = .ok (.iload_n 2, 1) := dk_28 (dk_at dksX0_forget_2 8 rfl rfl)
theorem dX0_forget_56 : decode cX0_forget 56 = .ok (.if_icmp .lt 6, 3) := dk_161 0 6 (dk_at dksX0_forget_2 9 rfl rfl)
theorem dX0_forget_59 : decode cX0_forget 59 = .ok (.goto 9, 3) := dk_167 0 9 (dk_at dksX0_forget_2 12 rfl rfl)
theorem dX0_forget_62 : decode cX0_forget 62 = .ok (.iload 5, 2) := dk_21 5 (dk_at dksX0_forget_2 15 rfl rfl)
theorem dX0_forget_64 : decode cX0_forget 64 = .ok (.istore_n 2, 1) := dk_61 (dk_at dksX0_forget_2 17 rfl rfl)
theorem dX0_forget_65 : decode cX0_forget 65 = .ok (.iload 4, 2) := dk_21 4 (dk_at dksX0_forget_2 18 rfl rfl)
theorem dX0_forget_67 : decode cX0_forget 67 = .ok (.istore_n 1, 1) := dk_60 (dk_at dksX0_forget_2 20 rfl rfl)
theorem dX0_forget_68 : decode cX0_forget 68 = .ok (.iinc 4 1, 3) := dk_132 4 1 (dk_at dksX0_forget_2 21 rfl rfl)
theorem dX0_forget_71 : decode cX0_forget 71 = .ok (.goto (-46), 3) := dk_167 255 210 (dk_at dksX0_forget_3 0 rfl rfl)
theorem dX0_forget_74 : decode cX0_forget 74 = .ok (.iload_n 1, 1) := dk_27 (dk_at dksX0_forget_3 3 rfl rfl)
theorem dX0_forget_75 : decode cX0_forget 75 = .ok (.ireturn, 1) := dk_172 (dk_at dksX0_forget_3 4 rfl rfl)
abbrev cX0_sets : ByteArray := prog_1_method_78_code
def yX0_sets : MethodName := ⟨RX0, "sets", "(II)I"⟩
def dkwX0_sets_0 : List UInt8 := [42, 27, 28, 182, 1, 91, 62, 29, 156, 0, 7, 29, 167, 0, 7, 42, 180, 1, 77, 172]
abbrev dktX0_sets_0 : List UInt8 := dkwX0_sets_0 ++ []
theorem dksX0_sets_0 : cX0_sets.data.toList.drop 0 = dktX0_sets_0 := by decide +kernel
theorem dX0_sets_0 : decode cX0_sets 0 = .ok (.aload_n 0, 1) := dk_42 (dk_at dksX0_sets_0 0 rfl rfl)
theorem dX0_sets_1 : decode cX0_sets 1 = .ok (.iload_n 1, 1) := dk_27 (dk_at dksX0_sets_0 1 rfl rfl)
theorem dX0_sets_2 : decode cX0_sets 2 = .ok (.iload_n 2, 1) := dk_28 (dk_at dksX0_sets_0 2 rfl rfl)
theorem dX0_sets_3 : decode cX0_sets 3 = .ok (.invokevirtual 347, 3) := dk_182 1 91 (dk_at dksX0_sets_0 3 rfl rfl)
theorem dX0_sets_6 : decode cX0_sets 6 = .ok (.istore_n 3, 1) := dk_62 (dk_at dksX0_sets_0 6 rfl rfl)
theorem dX0_sets_7 : decode cX0_sets 7 = .ok (.iload_n 3, 1) := dk_29 (dk_at dksX0_sets_0 7 rfl rfl)
theorem dX0_sets_8 : decode cX0_sets 8 = .ok (.ifCond .ge 7, 3) := dk_156 0 7 (dk_at dksX0_sets_0 8 rfl rfl)
theorem dX0_sets_11 : decode cX0_sets 11 = .ok (.iload_n 3, 1) := dk_29 (dk_at dksX0_sets_0 11 rfl rfl)
theorem dX0_sets_12 : decode cX0_sets 12 = .ok (.goto 7, 3) := dk_167 0 7 (dk_at dksX0_sets_0 12 rfl rfl)
theorem dX0_sets_15 : decode cX0_sets 15 = .ok (.aload_n 0, 1) := dk_42 (dk_at dksX0_sets_0 15 rfl rfl)
theorem dX0_sets_16 : decode cX0_sets 16 = .ok (.getfield 333, 3) := dk_180 1 77 (dk_at dksX0_sets_0 16 rfl rfl)
theorem dX0_sets_19 : decode cX0_sets 19 = .ok (.ireturn, 1) := dk_172 (dk_at dksX0_sets_0 19 rfl rfl)
abbrev cX0_asksBack : ByteArray := prog_1_method_77_code
def yX0_asksBack : MethodName := ⟨RX0, "asksBack", "(II)I"⟩
def dkwX0_asksBack_3 : List UInt8 := [79, 42, 89, 180, 1, 77, 4, 96, 181, 1, 77, 132, 3, 1, 167, 255, 201, 3, 172, 78, 16, 250, 172]
abbrev dktX0_asksBack_3 : List UInt8 := dkwX0_asksBack_3 ++ []
def dkwX0_asksBack_2 : List UInt8 := [154, 0, 35, 42, 27, 29, 182, 1, 86, 154, 0, 6, 167, 0, 23, 42, 180, 0, 98, 42, 180, 1, 77, 29]
abbrev dktX0_asksBack_2 : List UInt8 := dkwX0_asksBack_2 ++ dktX0_asksBack_3
def dkwX0_asksBack_1 : List UInt8 := [3, 181, 1, 77, 3, 62, 29, 42, 182, 1, 80, 163, 0, 53, 29, 42, 28, 182, 1, 83, 2, 130, 126]
abbrev dktX0_asksBack_1 : List UInt8 := dkwX0_asksBack_1 ++ dktX0_asksBack_2
def dkwX0_asksBack_0 : List UInt8 := [27, 184, 1, 74, 153, 0, 12, 42, 28, 133, 182, 0, 167, 154, 0, 6, 16, 254, 172, 42, 182, 0, 250, 42]
abbrev dktX0_asksBack_0 : List UInt8 := dkwX0_asksBack_0 ++ dktX0_asksBack_1
theorem dksX0_asksBack_0 : cX0_asksBack.data.toList.drop 0 = dktX0_asksBack_0 := by decide +kernel
theorem dksX0_asksBack_1 : cX0_asksBack.data.toList.drop 24 = dktX0_asksBack_1 := dk_seg dksX0_asksBack_0 24 rfl rfl
theorem dksX0_asksBack_2 : cX0_asksBack.data.toList.drop 47 = dktX0_asksBack_2 := dk_seg dksX0_asksBack_1 23 rfl rfl
theorem dksX0_asksBack_3 : cX0_asksBack.data.toList.drop 71 = dktX0_asksBack_3 := dk_seg dksX0_asksBack_2 24 rfl rfl
theorem dX0_asksBack_0 : decode cX0_asksBack 0 = .ok (.iload_n 1, 1) := dk_27 (dk_at dksX0_asksBack_0 0 rfl rfl)
theorem dX0_asksBack_1 : decode cX0_asksBack 1 = .ok (.invokestatic 330, 3) := dk_184 1 74 (dk_at dksX0_asksBack_0 1 rfl rfl)
theorem dX0_asksBack_4 : decode cX0_asksBack 4 = .ok (.ifCond .eq 12, 3) := dk_153 0 12 (dk_at dksX0_asksBack_0 4 rfl rfl)
theorem dX0_asksBack_7 : decode cX0_asksBack 7 = .ok (.aload_n 0, 1) := dk_42 (dk_at dksX0_asksBack_0 7 rfl rfl)
theorem dX0_asksBack_8 : decode cX0_asksBack 8 = .ok (.iload_n 2, 1) := dk_28 (dk_at dksX0_asksBack_0 8 rfl rfl)
theorem dX0_asksBack_9 : decode cX0_asksBack 9 = .ok (.i2l, 1) := dk_133 (dk_at dksX0_asksBack_0 9 rfl rfl)
theorem dX0_asksBack_10 : decode cX0_asksBack 10 = .ok (.invokevirtual 167, 3) := dk_182 0 167 (dk_at dksX0_asksBack_0 10 rfl rfl)
theorem dX0_asksBack_13 : decode cX0_asksBack 13 = .ok (.ifCond .ne 6, 3) := dk_154 0 6 (dk_at dksX0_asksBack_0 13 rfl rfl)
theorem dX0_asksBack_16 : decode cX0_asksBack 16 = .ok (.bipush (-2), 2) := dk_16 254 (dk_at dksX0_asksBack_0 16 rfl rfl)
theorem dX0_asksBack_18 : decode cX0_asksBack 18 = .ok (.ireturn, 1) := dk_172 (dk_at dksX0_asksBack_0 18 rfl rfl)
theorem dX0_asksBack_19 : decode cX0_asksBack 19 = .ok (.aload_n 0, 1) := dk_42 (dk_at dksX0_asksBack_0 19 rfl rfl)
theorem dX0_asksBack_20 : decode cX0_asksBack 20 = .ok (.invokevirtual 250, 3) := dk_182 0 250 (dk_at dksX0_asksBack_0 20 rfl rfl)
theorem dX0_asksBack_23 : decode cX0_asksBack 23 = .ok (.aload_n 0, 1) := dk_42 (dk_at dksX0_asksBack_0 23 rfl rfl)
theorem dX0_asksBack_24 : decode cX0_asksBack 24 = .ok (.iconst 0, 1) := dk_3 (dk_at dksX0_asksBack_1 0 rfl rfl)
theorem dX0_asksBack_25 : decode cX0_asksBack 25 = .ok (.putfield 333, 3) := dk_181 1 77 (dk_at dksX0_asksBack_1 1 rfl rfl)
theorem dX0_asksBack_28 : decode cX0_asksBack 28 = .ok (.iconst 0, 1) := dk_3 (dk_at dksX0_asksBack_1 4 rfl rfl)
theorem dX0_asksBack_29 : decode cX0_asksBack 29 = .ok (.istore_n 3, 1) := dk_62 (dk_at dksX0_asksBack_1 5 rfl rfl)
theorem dX0_asksBack_30 : decode cX0_asksBack 30 = .ok (.iload_n 3, 1) := dk_29 (dk_at dksX0_asksBack_1 6 rfl rfl)
theorem dX0_asksBack_31 : decode cX0_asksBack 31 = .ok (.aload_n 0, 1) := dk_42 (dk_at dksX0_asksBack_1 7 rfl rfl)
theorem dX0_asksBack_32 : decode cX0_asksBack 32 = .ok (.invokevirtual 336, 3) := dk_182 1 80 (dk_at dksX0_asksBack_1 8 rfl rfl)
theorem dX0_asksBack_35 : decode cX0_asksBack 35 = .ok (.if_icmp .gt 53, 3) := dk_163 0 53 (dk_at dksX0_asksBack_1 11 rfl rfl)
theorem dX0_asksBack_38 : decode cX0_asksBack 38 = .ok (.iload_n 3, 1) := dk_29 (dk_at dksX0_asksBack_1 14 rfl rfl)
theorem dX0_asksBack_39 : decode cX0_asksBack 39 = .ok (.aload_n 0, 1) := dk_42 (dk_at dksX0_asksBack_1 15 rfl rfl)
theorem dX0_asksBack_40 : decode cX0_asksBack 40 = .ok (.iload_n 2, 1) := dk_28 (dk_at dksX0_asksBack_1 16 rfl rfl)
theorem dX0_asksBack_41 : decode cX0_asksBack 41 = .ok (.invokevirtual 339, 3) := dk_182 1 83 (dk_at dksX0_asksBack_1 17 rfl rfl)
theorem dX0_asksBack_44 : decode cX0_asksBack 44 = .ok (.iconst (-1), 1) := dk_2 (dk_at dksX0_asksBack_1 20 rfl rfl)
theorem dX0_asksBack_45 : decode cX0_asksBack 45 = .ok (.ixor, 1) := dk_130 (dk_at dksX0_asksBack_1 21 rfl rfl)
theorem dX0_asksBack_46 : decode cX0_asksBack 46 = .ok (.iand, 1) := dk_126 (dk_at dksX0_asksBack_1 22 rfl rfl)
theorem dX0_asksBack_47 : decode cX0_asksBack 47 = .ok (.ifCond .ne 35, 3) := dk_154 0 35 (dk_at dksX0_asksBack_2 0 rfl rfl)
theorem dX0_asksBack_50 : decode cX0_asksBack 50 = .ok (.aload_n 0, 1) := dk_42 (dk_at dksX0_asksBack_2 3 rfl rfl)
theorem dX0_asksBack_51 : decode cX0_asksBack 51 = .ok (.iload_n 1, 1) := dk_27 (dk_at dksX0_asksBack_2 4 rfl rfl)
theorem dX0_asksBack_52 : decode cX0_asksBack 52 = .ok (.iload_n 3, 1) := dk_29 (dk_at dksX0_asksBack_2 5 rfl rfl)
theorem dX0_asksBack_53 : decode cX0_asksBack 53 = .ok (.invokevirtual 342, 3) := dk_182 1 86 (dk_at dksX0_asksBack_2 6 rfl rfl)
theorem dX0_asksBack_56 : decode cX0_asksBack 56 = .ok (.ifCond .ne 6, 3) := dk_154 0 6 (dk_at dksX0_asksBack_2 9 rfl rfl)
theorem dX0_asksBack_59 : decode cX0_asksBack 59 = .ok (.goto 23, 3) := dk_167 0 23 (dk_at dksX0_asksBack_2 12 rfl rfl)
theorem dX0_asksBack_62 : decode cX0_asksBack 62 = .ok (.aload_n 0, 1) := dk_42 (dk_at dksX0_asksBack_2 15 rfl rfl)
theorem dX0_asksBack_63 : decode cX0_asksBack 63 = .ok (.getfield 98, 3) := dk_180 0 98 (dk_at dksX0_asksBack_2 16 rfl rfl)
theorem dX0_asksBack_66 : decode cX0_asksBack 66 = .ok (.aload_n 0, 1) := dk_42 (dk_at dksX0_asksBack_2 19 rfl rfl)
theorem dX0_asksBack_67 : decode cX0_asksBack 67 = .ok (.getfield 333, 3) := dk_180 1 77 (dk_at dksX0_asksBack_2 20 rfl rfl)
theorem dX0_asksBack_70 : decode cX0_asksBack 70 = .ok (.iload_n 3, 1) := dk_29 (dk_at dksX0_asksBack_2 23 rfl rfl)
theorem dX0_asksBack_71 : decode cX0_asksBack 71 = .ok (.iastore, 1) := dk_79 (dk_at dksX0_asksBack_3 0 rfl rfl)
theorem dX0_asksBack_72 : decode cX0_asksBack 72 = .ok (.aload_n 0, 1) := dk_42 (dk_at dksX0_asksBack_3 1 rfl rfl)
theorem dX0_asksBack_73 : decode cX0_asksBack 73 = .ok (.dup, 1) := dk_89 (dk_at dksX0_asksBack_3 2 rfl rfl)
theorem dX0_asksBack_74 : decode cX0_asksBack 74 = .ok (.getfield 333, 3) := dk_180 1 77 (dk_at dksX0_asksBack_3 3 rfl rfl)
theorem dX0_asksBack_77 : decode cX0_asksBack 77 = .ok (.iconst 1, 1) := dk_4 (dk_at dksX0_asksBack_3 6 rfl rfl)
theorem dX0_asksBack_78 : decode cX0_asksBack 78 = .ok (.iadd, 1) := dk_96 (dk_at dksX0_asksBack_3 7 rfl rfl)
theorem dX0_asksBack_79 : decode cX0_asksBack 79 = .ok (.putfield 333, 3) := dk_181 1 77 (dk_at dksX0_asksBack_3 8 rfl rfl)
theorem dX0_asksBack_82 : decode cX0_asksBack 82 = .ok (.iinc 3 1, 3) := dk_132 3 1 (dk_at dksX0_asksBack_3 11 rfl rfl)
theorem dX0_asksBack_85 : decode cX0_asksBack 85 = .ok (.goto (-55), 3) := dk_167 255 201 (dk_at dksX0_asksBack_3 14 rfl rfl)
theorem dX0_asksBack_88 : decode cX0_asksBack 88 = .ok (.iconst 0, 1) := dk_3 (dk_at dksX0_asksBack_3 17 rfl rfl)
theorem dX0_asksBack_89 : decode cX0_asksBack 89 = .ok (.ireturn, 1) := dk_172 (dk_at dksX0_asksBack_3 18 rfl rfl)
theorem dX0_asksBack_90 : decode cX0_asksBack 90 = .ok (.astore_n 3, 1) := dk_78 (dk_at dksX0_asksBack_3 19 rfl rfl)
theorem dX0_asksBack_91 : decode cX0_asksBack 91 = .ok (.bipush (-6), 2) := dk_16 250 (dk_at dksX0_asksBack_3 20 rfl rfl)
theorem dX0_asksBack_93 : decode cX0_asksBack 93 = .ok (.ireturn, 1) := dk_172 (dk_at dksX0_asksBack_3 22 rfl rfl)
abbrev cX0_isSlot : ByteArray := prog_1_method_119_code
def yX0_isSlot : MethodName := ⟨RX0, "isSlot", "(I)Z"⟩
def dkwX0_isSlot_0 : List UInt8 := [26, 133, 9, 20, 0, 163, 184, 0, 128, 172]
abbrev dktX0_isSlot_0 : List UInt8 := dkwX0_isSlot_0 ++ []
theorem dksX0_isSlot_0 : cX0_isSlot.data.toList.drop 0 = dktX0_isSlot_0 := by decide +kernel
theorem dX0_isSlot_0 : decode cX0_isSlot 0 = .ok (.iload_n 0, 1) := dk_26 (dk_at dksX0_isSlot_0 0 rfl rfl)
theorem dX0_isSlot_1 : decode cX0_isSlot 1 = .ok (.i2l, 1) := dk_133 (dk_at dksX0_isSlot_0 1 rfl rfl)
theorem dX0_isSlot_2 : decode cX0_isSlot 2 = .ok (.lconst 0, 1) := dk_9 (dk_at dksX0_isSlot_0 2 rfl rfl)
theorem dX0_isSlot_3 : decode cX0_isSlot 3 = .ok (.ldc2_w 163, 3) := dk_20 0 163 (dk_at dksX0_isSlot_0 3 rfl rfl)
theorem dX0_isSlot_6 : decode cX0_isSlot 6 = .ok (.invokestatic 128, 3) := dk_184 0 128 (dk_at dksX0_isSlot_0 6 rfl rfl)
theorem dX0_isSlot_9 : decode cX0_isSlot 9 = .ok (.ireturn, 1) := dk_172 (dk_at dksX0_isSlot_0 9 rfl rfl)
abbrev cX0_all_2 : ByteArray := prog_1_method_16_code
def yX0_all_2 : MethodName := ⟨RX0, "all", "()I"⟩
def dkwX0_all_2_0 : List UInt8 := [4, 42, 180, 0, 10, 180, 0, 156, 120, 4, 100, 172]
abbrev dktX0_all_2_0 : List UInt8 := dkwX0_all_2_0 ++ []
theorem dksX0_all_2_0 : cX0_all_2.data.toList.drop 0 = dktX0_all_2_0 := by decide +kernel
theorem dX0_all_2_0 : decode cX0_all_2 0 = .ok (.iconst 1, 1) := dk_4 (dk_at dksX0_all_2_0 0 rfl rfl)
theorem dX0_all_2_1 : decode cX0_all_2 1 = .ok (.aload_n 0, 1) := dk_42 (dk_at dksX0_all_2_0 1 rfl rfl)
theorem dX0_all_2_2 : decode cX0_all_2 2 = .ok (.getfield 10, 3) := dk_180 0 10 (dk_at dksX0_all_2_0 2 rfl rfl)
theorem dX0_all_2_5 : decode cX0_all_2 5 = .ok (.getfield 156, 3) := dk_180 0 156 (dk_at dksX0_all_2_0 5 rfl rfl)
theorem dX0_all_2_8 : decode cX0_all_2 8 = .ok (.ishl, 1) := dk_120 (dk_at dksX0_all_2_0 8 rfl rfl)
theorem dX0_all_2_9 : decode cX0_all_2 9 = .ok (.iconst 1, 1) := dk_4 (dk_at dksX0_all_2_0 9 rfl rfl)
theorem dX0_all_2_10 : decode cX0_all_2 10 = .ok (.isub, 1) := dk_100 (dk_at dksX0_all_2_0 10 rfl rfl)
theorem dX0_all_2_11 : decode cX0_all_2 11 = .ok (.ireturn, 1) := dk_172 (dk_at dksX0_all_2_0 11 rfl rfl)
abbrev cX0_toldBy : ByteArray := prog_1_method_75_code
def yX0_toldBy : MethodName := ⟨RX0, "toldBy", "(I)I"⟩
def dkwX0_toldBy_1 : List UInt8 := [46, 27, 160, 0, 9, 4, 29, 120, 167, 0, 4, 3, 128, 61, 132, 3, 1, 167, 255, 219, 28, 172]
abbrev dktX0_toldBy_1 : List UInt8 := dkwX0_toldBy_1 ++ []
def dkwX0_toldBy_0 : List UInt8 := [3, 61, 3, 62, 29, 42, 180, 0, 10, 180, 0, 156, 162, 0, 32, 28, 42, 180, 0, 10, 180, 0, 181, 29]
abbrev dktX0_toldBy_0 : List UInt8 := dkwX0_toldBy_0 ++ dktX0_toldBy_1
theorem dksX0_toldBy_0 : cX0_toldBy.data.toList.drop 0 = dktX0_toldBy_0 := by decide +kernel
theorem dksX0_toldBy_1 : cX0_toldBy.data.toList.drop 24 = dktX0_toldBy_1 := dk_seg dksX0_toldBy_0 24 rfl rfl
theorem dX0_toldBy_0 : decode cX0_toldBy 0 = .ok (.iconst 0, 1) := dk_3 (dk_at dksX0_toldBy_0 0 rfl rfl)
theorem dX0_toldBy_1 : decode cX0_toldBy 1 = .ok (.istore_n 2, 1) := dk_61 (dk_at dksX0_toldBy_0 1 rfl rfl)
theorem dX0_toldBy_2 : decode cX0_toldBy 2 = .ok (.iconst 0, 1) := dk_3 (dk_at dksX0_toldBy_0 2 rfl rfl)
theorem dX0_toldBy_3 : decode cX0_toldBy 3 = .ok (.istore_n 3, 1) := dk_62 (dk_at dksX0_toldBy_0 3 rfl rfl)
theorem dX0_toldBy_4 : decode cX0_toldBy 4 = .ok (.iload_n 3, 1) := dk_29 (dk_at dksX0_toldBy_0 4 rfl rfl)
theorem dX0_toldBy_5 : decode cX0_toldBy 5 = .ok (.aload_n 0, 1) := dk_42 (dk_at dksX0_toldBy_0 5 rfl rfl)
theorem dX0_toldBy_6 : decode cX0_toldBy 6 = .ok (.getfield 10, 3) := dk_180 0 10 (dk_at dksX0_toldBy_0 6 rfl rfl)
theorem dX0_toldBy_9 : decode cX0_toldBy 9 = .ok (.getfield 156, 3) := dk_180 0 156 (dk_at dksX0_toldBy_0 9 rfl rfl)
theorem dX0_toldBy_12 : decode cX0_toldBy 12 = .ok (.if_icmp .ge 32, 3) := dk_162 0 32 (dk_at dksX0_toldBy_0 12 rfl rfl)
theorem dX0_toldBy_15 : decode cX0_toldBy 15 = .ok (.iload_n 2, 1) := dk_28 (dk_at dksX0_toldBy_0 15 rfl rfl)
theorem dX0_toldBy_16 : decode cX0_toldBy 16 = .ok (.aload_n 0, 1) := dk_42 (dk_at dksX0_toldBy_0 16 rfl rfl)
theorem dX0_toldBy_17 : decode cX0_toldBy 17 = .ok (.getfield 10, 3) := dk_180 0 10 (dk_at dksX0_toldBy_0 17 rfl rfl)
theorem dX0_toldBy_20 : decode cX0_toldBy 20 = .ok (.getfield 181, 3) := dk_180 0 181 (dk_at dksX0_toldBy_0 20 rfl rfl)
theorem dX0_toldBy_23 : decode cX0_toldBy 23 = .ok (.iload_n 3, 1) := dk_29 (dk_at dksX0_toldBy_0 23 rfl rfl)
theorem dX0_toldBy_24 : decode cX0_toldBy 24 = .ok (.iaload, 1) := dk_46 (dk_at dksX0_toldBy_1 0 rfl rfl)
theorem dX0_toldBy_25 : decode cX0_toldBy 25 = .ok (.iload_n 1, 1) := dk_27 (dk_at dksX0_toldBy_1 1 rfl rfl)
theorem dX0_toldBy_26 : decode cX0_toldBy 26 = .ok (.if_icmp .ne 9, 3) := dk_160 0 9 (dk_at dksX0_toldBy_1 2 rfl rfl)
theorem dX0_toldBy_29 : decode cX0_toldBy 29 = .ok (.iconst 1, 1) := dk_4 (dk_at dksX0_toldBy_1 5 rfl rfl)
theorem dX0_toldBy_30 : decode cX0_toldBy 30 = .ok (.iload_n 3, 1) := dk_29 (dk_at dksX0_toldBy_1 6 rfl rfl)
theorem dX0_toldBy_31 : decode cX0_toldBy 31 = .ok (.ishl, 1) := dk_120 (dk_at dksX0_toldBy_1 7 rfl rfl)
theorem dX0_toldBy_32 : decode cX0_toldBy 32 = .ok (.goto 4, 3) := dk_167 0 4 (dk_at dksX0_toldBy_1 8 rfl rfl)
theorem dX0_toldBy_35 : decode cX0_toldBy 35 = .ok (.iconst 0, 1) := dk_3 (dk_at dksX0_toldBy_1 11 rfl rfl)
theorem dX0_toldBy_36 : decode cX0_toldBy 36 = .ok (.ior, 1) := dk_128 (dk_at dksX0_toldBy_1 12 rfl rfl)
theorem dX0_toldBy_37 : decode cX0_toldBy 37 = .ok (.istore_n 2, 1) := dk_61 (dk_at dksX0_toldBy_1 13 rfl rfl)
theorem dX0_toldBy_38 : decode cX0_toldBy 38 = .ok (.iinc 3 1, 3) := dk_132 3 1 (dk_at dksX0_toldBy_1 14 rfl rfl)
theorem dX0_toldBy_41 : decode cX0_toldBy 41 = .ok (.goto (-37), 3) := dk_167 255 219 (dk_at dksX0_toldBy_1 17 rfl rfl)
theorem dX0_toldBy_44 : decode cX0_toldBy 44 = .ok (.iload_n 2, 1) := dk_28 (dk_at dksX0_toldBy_1 20 rfl rfl)
theorem dX0_toldBy_45 : decode cX0_toldBy 45 = .ok (.ireturn, 1) := dk_172 (dk_at dksX0_toldBy_1 21 rfl rfl)
abbrev cX0_isLeft : ByteArray := prog_1_method_76_code
def yX0_isLeft : MethodName := ⟨RX0, "isLeft", "(II)Z"⟩
def dkwX0_isLeft_4 : List UInt8 := [180, 0, 110, 27, 50, 29, 182, 1, 71, 148, 153, 0, 5, 3, 172, 132, 3, 1, 167, 255, 220, 4, 172]
abbrev dktX0_isLeft_4 : List UInt8 := dkwX0_isLeft_4 ++ []
def dkwX0_isLeft_3 : List UInt8 := [3, 172, 3, 62, 29, 42, 180, 0, 31, 3, 46, 162, 0, 32, 42, 180, 0, 24, 29, 46, 133, 42]
abbrev dktX0_isLeft_3 : List UInt8 := dkwX0_isLeft_3 ++ dktX0_isLeft_4
def dkwX0_isLeft_2 : List UInt8 := [132, 3, 1, 167, 255, 216, 42, 180, 0, 31, 3, 46, 42, 180, 0, 110, 27, 50, 182, 1, 68, 159, 0, 5]
abbrev dktX0_isLeft_2 : List UInt8 := dkwX0_isLeft_2 ++ dktX0_isLeft_3
def dkwX0_isLeft_1 : List UInt8 := [184, 0, 238, 153, 0, 21, 42, 180, 0, 52, 3, 42, 180, 0, 10, 180, 0, 180, 29, 46, 29, 182, 0, 234]
abbrev dktX0_isLeft_1 : List UInt8 := dkwX0_isLeft_1 ++ dktX0_isLeft_2
def dkwX0_isLeft_0 : List UInt8 := [42, 180, 0, 31, 3, 3, 79, 3, 62, 29, 42, 180, 0, 10, 180, 0, 156, 162, 0, 35, 28, 29]
abbrev dktX0_isLeft_0 : List UInt8 := dkwX0_isLeft_0 ++ dktX0_isLeft_1
theorem dksX0_isLeft_0 : cX0_isLeft.data.toList.drop 0 = dktX0_isLeft_0 := by decide +kernel
theorem dksX0_isLeft_1 : cX0_isLeft.data.toList.drop 22 = dktX0_isLeft_1 := dk_seg dksX0_isLeft_0 22 rfl rfl
theorem dksX0_isLeft_2 : cX0_isLeft.data.toList.drop 46 = dktX0_isLeft_2 := dk_seg dksX0_isLeft_1 24 rfl rfl
theorem dksX0_isLeft_3 : cX0_isLeft.data.toList.drop 70 = dktX0_isLeft_3 := dk_seg dksX0_isLeft_2 24 rfl rfl
theorem dksX0_isLeft_4 : cX0_isLeft.data.toList.drop 92 = dktX0_isLeft_4 := dk_seg dksX0_isLeft_3 22 rfl rfl
theorem dX0_isLeft_0 : decode cX0_isLeft 0 = .ok (.aload_n 0, 1) := dk_42 (dk_at dksX0_isLeft_0 0 rfl rfl)
theorem dX0_isLeft_1 : decode cX0_isLeft 1 = .ok (.getfield 31, 3) := dk_180 0 31 (dk_at dksX0_isLeft_0 1 rfl rfl)
theorem dX0_isLeft_4 : decode cX0_isLeft 4 = .ok (.iconst 0, 1) := dk_3 (dk_at dksX0_isLeft_0 4 rfl rfl)
theorem dX0_isLeft_5 : decode cX0_isLeft 5 = .ok (.iconst 0, 1) := dk_3 (dk_at dksX0_isLeft_0 5 rfl rfl)
theorem dX0_isLeft_6 : decode cX0_isLeft 6 = .ok (.iastore, 1) := dk_79 (dk_at dksX0_isLeft_0 6 rfl rfl)
theorem dX0_isLeft_7 : decode cX0_isLeft 7 = .ok (.iconst 0, 1) := dk_3 (dk_at dksX0_isLeft_0 7 rfl rfl)
theorem dX0_isLeft_8 : decode cX0_isLeft 8 = .ok (.istore_n 3, 1) := dk_62 (dk_at dksX0_isLeft_0 8 rfl rfl)
theorem dX0_isLeft_9 : decode cX0_isLeft 9 = .ok (.iload_n 3, 1) := dk_29 (dk_at dksX0_isLeft_0 9 rfl rfl)
theorem dX0_isLeft_10 : decode cX0_isLeft 10 = .ok (.aload_n 0, 1) := dk_42 (dk_at dksX0_isLeft_0 10 rfl rfl)
theorem dX0_isLeft_11 : decode cX0_isLeft 11 = .ok (.getfield 10, 3) := dk_180 0 10 (dk_at dksX0_isLeft_0 11 rfl rfl)
theorem dX0_isLeft_14 : decode cX0_isLeft 14 = .ok (.getfield 156, 3) := dk_180 0 156 (dk_at dksX0_isLeft_0 14 rfl rfl)
theorem dX0_isLeft_17 : decode cX0_isLeft 17 = .ok (.if_icmp .ge 35, 3) := dk_162 0 35 (dk_at dksX0_isLeft_0 17 rfl rfl)
theorem dX0_isLeft_20 : decode cX0_isLeft 20 = .ok (.iload_n 2, 1) := dk_28 (dk_at dksX0_isLeft_0 20 rfl rfl)
theorem dX0_isLeft_21 : decode cX0_isLeft 21 = .ok (.iload_n 3, 1) := dk_29 (dk_at dksX0_isLeft_0 21 rfl rfl)
theorem dX0_isLeft_22 : decode cX0_isLeft 22 = .ok (.invokestatic 238, 3) := dk_184 0 238 (dk_at dksX0_isLeft_1 0 rfl rfl)
theorem dX0_isLeft_25 : decode cX0_isLeft 25 = .ok (.ifCond .eq 21, 3) := dk_153 0 21 (dk_at dksX0_isLeft_1 3 rfl rfl)
theorem dX0_isLeft_28 : decode cX0_isLeft 28 = .ok (.aload_n 0, 1) := dk_42 (dk_at dksX0_isLeft_1 6 rfl rfl)
theorem dX0_isLeft_29 : decode cX0_isLeft 29 = .ok (.getfield 52, 3) := dk_180 0 52 (dk_at dksX0_isLeft_1 7 rfl rfl)
theorem dX0_isLeft_32 : decode cX0_isLeft 32 = .ok (.iconst 0, 1) := dk_3 (dk_at dksX0_isLeft_1 10 rfl rfl)
theorem dX0_isLeft_33 : decode cX0_isLeft 33 = .ok (.aload_n 0, 1) := dk_42 (dk_at dksX0_isLeft_1 11 rfl rfl)
theorem dX0_isLeft_34 : decode cX0_isLeft 34 = .ok (.getfield 10, 3) := dk_180 0 10 (dk_at dksX0_isLeft_1 12 rfl rfl)
theorem dX0_isLeft_37 : decode cX0_isLeft 37 = .ok (.getfield 180, 3) := dk_180 0 180 (dk_at dksX0_isLeft_1 15 rfl rfl)
theorem dX0_isLeft_40 : decode cX0_isLeft 40 = .ok (.iload_n 3, 1) := dk_29 (dk_at dksX0_isLeft_1 18 rfl rfl)
theorem dX0_isLeft_41 : decode cX0_isLeft 41 = .ok (.iaload, 1) := dk_46 (dk_at dksX0_isLeft_1 19 rfl rfl)
theorem dX0_isLeft_42 : decode cX0_isLeft 42 = .ok (.iload_n 3, 1) := dk_29 (dk_at dksX0_isLeft_1 20 rfl rfl)
theorem dX0_isLeft_43 : decode cX0_isLeft 43 = .ok (.invokevirtual 234, 3) := dk_182 0 234 (dk_at dksX0_isLeft_1 21 rfl rfl)
theorem dX0_isLeft_46 : decode cX0_isLeft 46 = .ok (.iinc 3 1, 3) := dk_132 3 1 (dk_at dksX0_isLeft_2 0 rfl rfl)
theorem dX0_isLeft_49 : decode cX0_isLeft 49 = .ok (.goto (-40), 3) := dk_167 255 216 (dk_at dksX0_isLeft_2 3 rfl rfl)
theorem dX0_isLeft_52 : decode cX0_isLeft 52 = .ok (.aload_n 0, 1) := dk_42 (dk_at dksX0_isLeft_2 6 rfl rfl)
theorem dX0_isLeft_53 : decode cX0_isLeft 53 = .ok (.getfield 31, 3) := dk_180 0 31 (dk_at dksX0_isLeft_2 7 rfl rfl)
theorem dX0_isLeft_56 : decode cX0_isLeft 56 = .ok (.iconst 0, 1) := dk_3 (dk_at dksX0_isLeft_2 10 rfl rfl)
theorem dX0_isLeft_57 : decode cX0_isLeft 57 = .ok (.iaload, 1) := dk_46 (dk_at dksX0_isLeft_2 11 rfl rfl)
theorem dX0_isLeft_58 : decode cX0_isLeft 58 = .ok (.aload_n 0, 1) := dk_42 (dk_at dksX0_isLeft_2 12 rfl rfl)
theorem dX0_isLeft_59 : decode cX0_isLeft 59 = .ok (.getfield 110, 3) := dk_180 0 110 (dk_at dksX0_isLeft_2 13 rfl rfl)
theorem dX0_isLeft_62 : decode cX0_isLeft 62 = .ok (.iload_n 1, 1) := dk_27 (dk_at dksX0_isLeft_2 16 rfl rfl)
theorem dX0_isLeft_63 : decode cX0_isLeft 63 = .ok (.aaload, 1) := dk_50 (dk_at dksX0_isLeft_2 17 rfl rfl)
theorem dX0_isLeft_64 : decode cX0_isLeft 64 = .ok (.invokevirtual 324, 3) := dk_182 1 68 (dk_at dksX0_isLeft_2 18 rfl rfl)
theorem dX0_isLeft_67 : decode cX0_isLeft 67 = .ok (.if_icmp .eq 5, 3) := dk_159 0 5 (dk_at dksX0_isLeft_2 21 rfl rfl)
theorem dX0_isLeft_70 : decode cX0_isLeft 70 = .ok (.iconst 0, 1) := dk_3 (dk_at dksX0_isLeft_3 0 rfl rfl)
theorem dX0_isLeft_71 : decode cX0_isLeft 71 = .ok (.ireturn, 1) := dk_172 (dk_at dksX0_isLeft_3 1 rfl rfl)
theorem dX0_isLeft_72 : decode cX0_isLeft 72 = .ok (.iconst 0, 1) := dk_3 (dk_at dksX0_isLeft_3 2 rfl rfl)
theorem dX0_isLeft_73 : decode cX0_isLeft 73 = .ok (.istore_n 3, 1) := dk_62 (dk_at dksX0_isLeft_3 3 rfl rfl)
theorem dX0_isLeft_74 : decode cX0_isLeft 74 = .ok (.iload_n 3, 1) := dk_29 (dk_at dksX0_isLeft_3 4 rfl rfl)
theorem dX0_isLeft_75 : decode cX0_isLeft 75 = .ok (.aload_n 0, 1) := dk_42 (dk_at dksX0_isLeft_3 5 rfl rfl)
theorem dX0_isLeft_76 : decode cX0_isLeft 76 = .ok (.getfield 31, 3) := dk_180 0 31 (dk_at dksX0_isLeft_3 6 rfl rfl)
theorem dX0_isLeft_79 : decode cX0_isLeft 79 = .ok (.iconst 0, 1) := dk_3 (dk_at dksX0_isLeft_3 9 rfl rfl)
theorem dX0_isLeft_80 : decode cX0_isLeft 80 = .ok (.iaload, 1) := dk_46 (dk_at dksX0_isLeft_3 10 rfl rfl)
theorem dX0_isLeft_81 : decode cX0_isLeft 81 = .ok (.if_icmp .ge 32, 3) := dk_162 0 32 (dk_at dksX0_isLeft_3 11 rfl rfl)
theorem dX0_isLeft_84 : decode cX0_isLeft 84 = .ok (.aload_n 0, 1) := dk_42 (dk_at dksX0_isLeft_3 14 rfl rfl)
theorem dX0_isLeft_85 : decode cX0_isLeft 85 = .ok (.getfield 24, 3) := dk_180 0 24 (dk_at dksX0_isLeft_3 15 rfl rfl)
theorem dX0_isLeft_88 : decode cX0_isLeft 88 = .ok (.iload_n 3, 1) := dk_29 (dk_at dksX0_isLeft_3 18 rfl rfl)
theorem dX0_isLeft_89 : decode cX0_isLeft 89 = .ok (.iaload, 1) := dk_46 (dk_at dksX0_isLeft_3 19 rfl rfl)
theorem dX0_isLeft_90 : decode cX0_isLeft 90 = .ok (.i2l, 1) := dk_133 (dk_at dksX0_isLeft_3 20 rfl rfl)
theorem dX0_isLeft_91 : decode cX0_isLeft 91 = .ok (.aload_n 0, 1) := dk_42 (dk_at dksX0_isLeft_3 21 rfl rfl)
theorem dX0_isLeft_92 : decode cX0_isLeft 92 = .ok (.getfield 110, 3) := dk_180 0 110 (dk_at dksX0_isLeft_4 0 rfl rfl)
theorem dX0_isLeft_95 : decode cX0_isLeft 95 = .ok (.iload_n 1, 1) := dk_27 (dk_at dksX0_isLeft_4 3 rfl rfl)
theorem dX0_isLeft_96 : decode cX0_isLeft 96 = .ok (.aaload, 1) := dk_50 (dk_at dksX0_isLeft_4 4 rfl rfl)
theorem dX0_isLeft_97 : decode cX0_isLeft 97 = .ok (.iload_n 3, 1) := dk_29 (dk_at dksX0_isLeft_4 5 rfl rfl)
theorem dX0_isLeft_98 : decode cX0_isLeft 98 = .ok (.invokevirtual 327, 3) := dk_182 1 71 (dk_at dksX0_isLeft_4 6 rfl rfl)
theorem dX0_isLeft_101 : decode cX0_isLeft 101 = .ok (.lcmp, 1) := dk_148 (dk_at dksX0_isLeft_4 9 rfl rfl)
theorem dX0_isLeft_102 : decode cX0_isLeft 102 = .ok (.ifCond .eq 5, 3) := dk_153 0 5 (dk_at dksX0_isLeft_4 10 rfl rfl)
theorem dX0_isLeft_105 : decode cX0_isLeft 105 = .ok (.iconst 0, 1) := dk_3 (dk_at dksX0_isLeft_4 13 rfl rfl)
theorem dX0_isLeft_106 : decode cX0_isLeft 106 = .ok (.ireturn, 1) := dk_172 (dk_at dksX0_isLeft_4 14 rfl rfl)
theorem dX0_isLeft_107 : decode cX0_isLeft 107 = .ok (.iinc 3 1, 3) := dk_132 3 1 (dk_at dksX0_isLeft_4 15 rfl rfl)
theorem dX0_isLeft_110 : decode cX0_isLeft 110 = .ok (.goto (-36), 3) := dk_167 255 220 (dk_at dksX0_isLeft_4 18 rfl rfl)
theorem dX0_isLeft_113 : decode cX0_isLeft 113 = .ok (.iconst 1, 1) := dk_4 (dk_at dksX0_isLeft_4 21 rfl rfl)
theorem dX0_isLeft_114 : decode cX0_isLeft 114 = .ok (.ireturn, 1) := dk_172 (dk_at dksX0_isLeft_4 22 rfl rfl)
abbrev cX0_surely : ByteArray := prog_1_method_79_code
def yX0_surely : MethodName := ⟨RX0, "surely", "(II)I"⟩
def dkwX0_surely_2 : List UInt8 := [167, 255, 232, 42, 180, 1, 77, 154, 0, 7, 2, 167, 0, 5, 21, 4, 172]
abbrev dktX0_surely_2 : List UInt8 := dkwX0_surely_2 ++ []
def dkwX0_surely_1 : List UInt8 := [42, 180, 1, 77, 162, 0, 21, 21, 4, 42, 180, 0, 98, 21, 5, 46, 126, 54, 4, 132, 5, 1]
abbrev dktX0_surely_1 : List UInt8 := dkwX0_surely_1 ++ dktX0_surely_2
def dkwX0_surely_0 : List UInt8 := [42, 27, 28, 182, 1, 91, 62, 29, 156, 0, 5, 29, 172, 42, 182, 1, 80, 54, 4, 3, 54, 5, 21, 5]
abbrev dktX0_surely_0 : List UInt8 := dkwX0_surely_0 ++ dktX0_surely_1
theorem dksX0_surely_0 : cX0_surely.data.toList.drop 0 = dktX0_surely_0 := by decide +kernel
theorem dksX0_surely_1 : cX0_surely.data.toList.drop 24 = dktX0_surely_1 := dk_seg dksX0_surely_0 24 rfl rfl
theorem dksX0_surely_2 : cX0_surely.data.toList.drop 46 = dktX0_surely_2 := dk_seg dksX0_surely_1 22 rfl rfl
theorem dX0_surely_0 : decode cX0_surely 0 = .ok (.aload_n 0, 1) := dk_42 (dk_at dksX0_surely_0 0 rfl rfl)
theorem dX0_surely_1 : decode cX0_surely 1 = .ok (.iload_n 1, 1) := dk_27 (dk_at dksX0_surely_0 1 rfl rfl)
theorem dX0_surely_2 : decode cX0_surely 2 = .ok (.iload_n 2, 1) := dk_28 (dk_at dksX0_surely_0 2 rfl rfl)
theorem dX0_surely_3 : decode cX0_surely 3 = .ok (.invokevirtual 347, 3) := dk_182 1 91 (dk_at dksX0_surely_0 3 rfl rfl)
theorem dX0_surely_6 : decode cX0_surely 6 = .ok (.istore_n 3, 1) := dk_62 (dk_at dksX0_surely_0 6 rfl rfl)
theorem dX0_surely_7 : decode cX0_surely 7 = .ok (.iload_n 3, 1) := dk_29 (dk_at dksX0_surely_0 7 rfl rfl)
theorem dX0_surely_8 : decode cX0_surely 8 = .ok (.ifCond .ge 5, 3) := dk_156 0 5 (dk_at dksX0_surely_0 8 rfl rfl)
theorem dX0_surely_11 : decode cX0_surely 11 = .ok (.iload_n 3, 1) := dk_29 (dk_at dksX0_surely_0 11 rfl rfl)
theorem dX0_surely_12 : decode cX0_surely 12 = .ok (.ireturn, 1) := dk_172 (dk_at dksX0_surely_0 12 rfl rfl)
theorem dX0_surely_13 : decode cX0_surely 13 = .ok (.aload_n 0, 1) := dk_42 (dk_at dksX0_surely_0 13 rfl rfl)
theorem dX0_surely_14 : decode cX0_surely 14 = .ok (.invokevirtual 336, 3) := dk_182 1 80 (dk_at dksX0_surely_0 14 rfl rfl)
theorem dX0_surely_17 : decode cX0_surely 17 = .ok (.istore 4, 2) := dk_54 4 (dk_at dksX0_surely_0 17 rfl rfl)
theorem dX0_surely_19 : decode cX0_surely 19 = .ok (.iconst 0, 1) := dk_3 (dk_at dksX0_surely_0 19 rfl rfl)
theorem dX0_surely_20 : decode cX0_surely 20 = .ok (.istore 5, 2) := dk_54 5 (dk_at dksX0_surely_0 20 rfl rfl)
theorem dX0_surely_22 : decode cX0_surely 22 = .ok (.iload 5, 2) := dk_21 5 (dk_at dksX0_surely_0 22 rfl rfl)
theorem dX0_surely_24 : decode cX0_surely 24 = .ok (.aload_n 0, 1) := dk_42 (dk_at dksX0_surely_1 0 rfl rfl)
theorem dX0_surely_25 : decode cX0_surely 25 = .ok (.getfield 333, 3) := dk_180 1 77 (dk_at dksX0_surely_1 1 rfl rfl)
theorem dX0_surely_28 : decode cX0_surely 28 = .ok (.if_icmp .ge 21, 3) := dk_162 0 21 (dk_at dksX0_surely_1 4 rfl rfl)
theorem dX0_surely_31 : decode cX0_surely 31 = .ok (.iload 4, 2) := dk_21 4 (dk_at dksX0_surely_1 7 rfl rfl)
theorem dX0_surely_33 : decode cX0_surely 33 = .ok (.aload_n 0, 1) := dk_42 (dk_at dksX0_surely_1 9 rfl rfl)
theorem dX0_surely_34 : decode cX0_surely 34 = .ok (.getfield 98, 3) := dk_180 0 98 (dk_at dksX0_surely_1 10 rfl rfl)
theorem dX0_surely_37 : decode cX0_surely 37 = .ok (.iload 5, 2) := dk_21 5 (dk_at dksX0_surely_1 13 rfl rfl)
theorem dX0_surely_39 : decode cX0_surely 39 = .ok (.iaload, 1) := dk_46 (dk_at dksX0_surely_1 15 rfl rfl)
theorem dX0_surely_40 : decode cX0_surely 40 = .ok (.iand, 1) := dk_126 (dk_at dksX0_surely_1 16 rfl rfl)
theorem dX0_surely_41 : decode cX0_surely 41 = .ok (.istore 4, 2) := dk_54 4 (dk_at dksX0_surely_1 17 rfl rfl)
theorem dX0_surely_43 : decode cX0_surely 43 = .ok (.iinc 5 1, 3) := dk_132 5 1 (dk_at dksX0_surely_1 19 rfl rfl)
theorem dX0_surely_46 : decode cX0_surely 46 = .ok (.goto (-24), 3) := dk_167 255 232 (dk_at dksX0_surely_2 0 rfl rfl)
theorem dX0_surely_49 : decode cX0_surely 49 = .ok (.aload_n 0, 1) := dk_42 (dk_at dksX0_surely_2 3 rfl rfl)
theorem dX0_surely_50 : decode cX0_surely 50 = .ok (.getfield 333, 3) := dk_180 1 77 (dk_at dksX0_surely_2 4 rfl rfl)
theorem dX0_surely_53 : decode cX0_surely 53 = .ok (.ifCond .ne 7, 3) := dk_154 0 7 (dk_at dksX0_surely_2 7 rfl rfl)
theorem dX0_surely_56 : decode cX0_surely 56 = .ok (.iconst (-1), 1) := dk_2 (dk_at dksX0_surely_2 10 rfl rfl)
theorem dX0_surely_57 : decode cX0_surely 57 = .ok (.goto 5, 3) := dk_167 0 5 (dk_at dksX0_surely_2 11 rfl rfl)
theorem dX0_surely_60 : decode cX0_surely 60 = .ok (.iload 4, 2) := dk_21 4 (dk_at dksX0_surely_2 14 rfl rfl)
theorem dX0_surely_62 : decode cX0_surely 62 = .ok (.ireturn, 1) := dk_172 (dk_at dksX0_surely_2 16 rfl rfl)
abbrev cX0_never : ByteArray := prog_1_method_80_code
def yX0_never : MethodName := ⟨RX0, "never", "(II)I"⟩
def dkwX0_never_2 : List UInt8 := [42, 180, 1, 77, 154, 0, 7, 2, 167, 0, 13, 42, 28, 182, 1, 83, 21, 4, 2, 130, 126, 172]
abbrev dktX0_never_2 : List UInt8 := dkwX0_never_2 ++ []
def dkwX0_never_1 : List UInt8 := [180, 1, 77, 162, 0, 21, 21, 4, 42, 180, 0, 98, 21, 5, 46, 128, 54, 4, 132, 5, 1, 167, 255, 232]
abbrev dktX0_never_1 : List UInt8 := dkwX0_never_1 ++ dktX0_never_2
def dkwX0_never_0 : List UInt8 := [42, 27, 28, 182, 1, 91, 62, 29, 156, 0, 5, 29, 172, 3, 54, 4, 3, 54, 5, 21, 5, 42]
abbrev dktX0_never_0 : List UInt8 := dkwX0_never_0 ++ dktX0_never_1
theorem dksX0_never_0 : cX0_never.data.toList.drop 0 = dktX0_never_0 := by decide +kernel
theorem dksX0_never_1 : cX0_never.data.toList.drop 22 = dktX0_never_1 := dk_seg dksX0_never_0 22 rfl rfl
theorem dksX0_never_2 : cX0_never.data.toList.drop 46 = dktX0_never_2 := dk_seg dksX0_never_1 24 rfl rfl
theorem dX0_never_0 : decode cX0_never 0 = .ok (.aload_n 0, 1) := dk_42 (dk_at dksX0_never_0 0 rfl rfl)
theorem dX0_never_1 : decode cX0_never 1 = .ok (.iload_n 1, 1) := dk_27 (dk_at dksX0_never_0 1 rfl rfl)
theorem dX0_never_2 : decode cX0_never 2 = .ok (.iload_n 2, 1) := dk_28 (dk_at dksX0_never_0 2 rfl rfl)
theorem dX0_never_3 : decode cX0_never 3 = .ok (.invokevirtual 347, 3) := dk_182 1 91 (dk_at dksX0_never_0 3 rfl rfl)
theorem dX0_never_6 : decode cX0_never 6 = .ok (.istore_n 3, 1) := dk_62 (dk_at dksX0_never_0 6 rfl rfl)
theorem dX0_never_7 : decode cX0_never 7 = .ok (.iload_n 3, 1) := dk_29 (dk_at dksX0_never_0 7 rfl rfl)
theorem dX0_never_8 : decode cX0_never 8 = .ok (.ifCond .ge 5, 3) := dk_156 0 5 (dk_at dksX0_never_0 8 rfl rfl)
theorem dX0_never_11 : decode cX0_never 11 = .ok (.iload_n 3, 1) := dk_29 (dk_at dksX0_never_0 11 rfl rfl)
theorem dX0_never_12 : decode cX0_never 12 = .ok (.ireturn, 1) := dk_172 (dk_at dksX0_never_0 12 rfl rfl)
theorem dX0_never_13 : decode cX0_never 13 = .ok (.iconst 0, 1) := dk_3 (dk_at dksX0_never_0 13 rfl rfl)
theorem dX0_never_14 : decode cX0_never 14 = .ok (.istore 4, 2) := dk_54 4 (dk_at dksX0_never_0 14 rfl rfl)
theorem dX0_never_16 : decode cX0_never 16 = .ok (.iconst 0, 1) := dk_3 (dk_at dksX0_never_0 16 rfl rfl)
theorem dX0_never_17 : decode cX0_never 17 = .ok (.istore 5, 2) := dk_54 5 (dk_at dksX0_never_0 17 rfl rfl)
theorem dX0_never_19 : decode cX0_never 19 = .ok (.iload 5, 2) := dk_21 5 (dk_at dksX0_never_0 19 rfl rfl)
theorem dX0_never_21 : decode cX0_never 21 = .ok (.aload_n 0, 1) := dk_42 (dk_at dksX0_never_0 21 rfl rfl)
theorem dX0_never_22 : decode cX0_never 22 = .ok (.getfield 333, 3) := dk_180 1 77 (dk_at dksX0_never_1 0 rfl rfl)
theorem dX0_never_25 : decode cX0_never 25 = .ok (.if_icmp .ge 21, 3) := dk_162 0 21 (dk_at dksX0_never_1 3 rfl rfl)
theorem dX0_never_28 : decode cX0_never 28 = .ok (.iload 4, 2) := dk_21 4 (dk_at dksX0_never_1 6 rfl rfl)
theorem dX0_never_30 : decode cX0_never 30 = .ok (.aload_n 0, 1) := dk_42 (dk_at dksX0_never_1 8 rfl rfl)
theorem dX0_never_31 : decode cX0_never 31 = .ok (.getfield 98, 3) := dk_180 0 98 (dk_at dksX0_never_1 9 rfl rfl)
theorem dX0_never_34 : decode cX0_never 34 = .ok (.iload 5, 2) := dk_21 5 (dk_at dksX0_never_1 12 rfl rfl)
theorem dX0_never_36 : decode cX0_never 36 = .ok (.iaload, 1) := dk_46 (dk_at dksX0_never_1 14 rfl rfl)
theorem dX0_never_37 : decode cX0_never 37 = .ok (.ior, 1) := dk_128 (dk_at dksX0_never_1 15 rfl rfl)
theorem dX0_never_38 : decode cX0_never 38 = .ok (.istore 4, 2) := dk_54 4 (dk_at dksX0_never_1 16 rfl rfl)
theorem dX0_never_40 : decode cX0_never 40 = .ok (.iinc 5 1, 3) := dk_132 5 1 (dk_at dksX0_never_1 18 rfl rfl)
theorem dX0_never_43 : decode cX0_never 43 = .ok (.goto (-24), 3) := dk_167 255 232 (dk_at dksX0_never_1 21 rfl rfl)
theorem dX0_never_46 : decode cX0_never 46 = .ok (.aload_n 0, 1) := dk_42 (dk_at dksX0_never_2 0 rfl rfl)
theorem dX0_never_47 : decode cX0_never 47 = .ok (.getfield 333, 3) := dk_180 1 77 (dk_at dksX0_never_2 1 rfl rfl)
theorem dX0_never_50 : decode cX0_never 50 = .ok (.ifCond .ne 7, 3) := dk_154 0 7 (dk_at dksX0_never_2 4 rfl rfl)
theorem dX0_never_53 : decode cX0_never 53 = .ok (.iconst (-1), 1) := dk_2 (dk_at dksX0_never_2 7 rfl rfl)
theorem dX0_never_54 : decode cX0_never 54 = .ok (.goto 13, 3) := dk_167 0 13 (dk_at dksX0_never_2 8 rfl rfl)
theorem dX0_never_57 : decode cX0_never 57 = .ok (.aload_n 0, 1) := dk_42 (dk_at dksX0_never_2 11 rfl rfl)
theorem dX0_never_58 : decode cX0_never 58 = .ok (.iload_n 2, 1) := dk_28 (dk_at dksX0_never_2 12 rfl rfl)
theorem dX0_never_59 : decode cX0_never 59 = .ok (.invokevirtual 339, 3) := dk_182 1 83 (dk_at dksX0_never_2 13 rfl rfl)
theorem dX0_never_62 : decode cX0_never 62 = .ok (.iload 4, 2) := dk_21 4 (dk_at dksX0_never_2 16 rfl rfl)
theorem dX0_never_64 : decode cX0_never 64 = .ok (.iconst (-1), 1) := dk_2 (dk_at dksX0_never_2 18 rfl rfl)
theorem dX0_never_65 : decode cX0_never 65 = .ok (.ixor, 1) := dk_130 (dk_at dksX0_never_2 19 rfl rfl)
theorem dX0_never_66 : decode cX0_never 66 = .ok (.iand, 1) := dk_126 (dk_at dksX0_never_2 20 rfl rfl)
theorem dX0_never_67 : decode cX0_never 67 = .ok (.ireturn, 1) := dk_172 (dk_at dksX0_never_2 21 rfl rfl)
abbrev cX0_fewest : ByteArray := prog_1_method_81_code
def yX0_fewest : MethodName := ⟨RX0, "fewest", "(II)I"⟩
def dkwX0_fewest_2 : List UInt8 := [184, 1, 44, 162, 0, 12, 42, 180, 0, 98, 21, 5, 46, 54, 4, 132, 5, 1, 167, 255, 211, 21, 4, 172]
abbrev dktX0_fewest_2 : List UInt8 := dkwX0_fewest_2 ++ []
def dkwX0_fewest_1 : List UInt8 := [180, 1, 77, 162, 0, 42, 21, 4, 2, 159, 0, 21, 42, 180, 0, 98, 21, 5, 46, 184, 1, 44, 21, 4]
abbrev dktX0_fewest_1 : List UInt8 := dkwX0_fewest_1 ++ dktX0_fewest_2
def dkwX0_fewest_0 : List UInt8 := [42, 27, 28, 182, 1, 91, 62, 29, 156, 0, 5, 29, 172, 2, 54, 4, 3, 54, 5, 21, 5, 42]
abbrev dktX0_fewest_0 : List UInt8 := dkwX0_fewest_0 ++ dktX0_fewest_1
theorem dksX0_fewest_0 : cX0_fewest.data.toList.drop 0 = dktX0_fewest_0 := by decide +kernel
theorem dksX0_fewest_1 : cX0_fewest.data.toList.drop 22 = dktX0_fewest_1 := dk_seg dksX0_fewest_0 22 rfl rfl
theorem dksX0_fewest_2 : cX0_fewest.data.toList.drop 46 = dktX0_fewest_2 := dk_seg dksX0_fewest_1 24 rfl rfl
theorem dX0_fewest_0 : decode cX0_fewest 0 = .ok (.aload_n 0, 1) := dk_42 (dk_at dksX0_fewest_0 0 rfl rfl)
theorem dX0_fewest_1 : decode cX0_fewest 1 = .ok (.iload_n 1, 1) := dk_27 (dk_at dksX0_fewest_0 1 rfl rfl)
theorem dX0_fewest_2 : decode cX0_fewest 2 = .ok (.iload_n 2, 1) := dk_28 (dk_at dksX0_fewest_0 2 rfl rfl)
theorem dX0_fewest_3 : decode cX0_fewest 3 = .ok (.invokevirtual 347, 3) := dk_182 1 91 (dk_at dksX0_fewest_0 3 rfl rfl)
theorem dX0_fewest_6 : decode cX0_fewest 6 = .ok (.istore_n 3, 1) := dk_62 (dk_at dksX0_fewest_0 6 rfl rfl)
theorem dX0_fewest_7 : decode cX0_fewest 7 = .ok (.iload_n 3, 1) := dk_29 (dk_at dksX0_fewest_0 7 rfl rfl)
theorem dX0_fewest_8 : decode cX0_fewest 8 = .ok (.ifCond .ge 5, 3) := dk_156 0 5 (dk_at dksX0_fewest_0 8 rfl rfl)
theorem dX0_fewest_11 : decode cX0_fewest 11 = .ok (.iload_n 3, 1) := dk_29 (dk_at dksX0_fewest_0 11 rfl rfl)
theorem dX0_fewest_12 : decode cX0_fewest 12 = .ok (.ireturn, 1) := dk_172 (dk_at dksX0_fewest_0 12 rfl rfl)
theorem dX0_fewest_13 : decode cX0_fewest 13 = .ok (.iconst (-1), 1) := dk_2 (dk_at dksX0_fewest_0 13 rfl rfl)
theorem dX0_fewest_14 : decode cX0_fewest 14 = .ok (.istore 4, 2) := dk_54 4 (dk_at dksX0_fewest_0 14 rfl rfl)
theorem dX0_fewest_16 : decode cX0_fewest 16 = .ok (.iconst 0, 1) := dk_3 (dk_at dksX0_fewest_0 16 rfl rfl)
theorem dX0_fewest_17 : decode cX0_fewest 17 = .ok (.istore 5, 2) := dk_54 5 (dk_at dksX0_fewest_0 17 rfl rfl)
theorem dX0_fewest_19 : decode cX0_fewest 19 = .ok (.iload 5, 2) := dk_21 5 (dk_at dksX0_fewest_0 19 rfl rfl)
theorem dX0_fewest_21 : decode cX0_fewest 21 = .ok (.aload_n 0, 1) := dk_42 (dk_at dksX0_fewest_0 21 rfl rfl)
theorem dX0_fewest_22 : decode cX0_fewest 22 = .ok (.getfield 333, 3) := dk_180 1 77 (dk_at dksX0_fewest_1 0 rfl rfl)
theorem dX0_fewest_25 : decode cX0_fewest 25 = .ok (.if_icmp .ge 42, 3) := dk_162 0 42 (dk_at dksX0_fewest_1 3 rfl rfl)
theorem dX0_fewest_28 : decode cX0_fewest 28 = .ok (.iload 4, 2) := dk_21 4 (dk_at dksX0_fewest_1 6 rfl rfl)
theorem dX0_fewest_30 : decode cX0_fewest 30 = .ok (.iconst (-1), 1) := dk_2 (dk_at dksX0_fewest_1 8 rfl rfl)
theorem dX0_fewest_31 : decode cX0_fewest 31 = .ok (.if_icmp .eq 21, 3) := dk_159 0 21 (dk_at dksX0_fewest_1 9 rfl rfl)
theorem dX0_fewest_34 : decode cX0_fewest 34 = .ok (.aload_n 0, 1) := dk_42 (dk_at dksX0_fewest_1 12 rfl rfl)
theorem dX0_fewest_35 : decode cX0_fewest 35 = .ok (.getfield 98, 3) := dk_180 0 98 (dk_at dksX0_fewest_1 13 rfl rfl)
theorem dX0_fewest_38 : decode cX0_fewest 38 = .ok (.iload 5, 2) := dk_21 5 (dk_at dksX0_fewest_1 16 rfl rfl)
theorem dX0_fewest_40 : decode cX0_fewest 40 = .ok (.iaload, 1) := dk_46 (dk_at dksX0_fewest_1 18 rfl rfl)
theorem dX0_fewest_41 : decode cX0_fewest 41 = .ok (.invokestatic 300, 3) := dk_184 1 44 (dk_at dksX0_fewest_1 19 rfl rfl)
theorem dX0_fewest_44 : decode cX0_fewest 44 = .ok (.iload 4, 2) := dk_21 4 (dk_at dksX0_fewest_1 22 rfl rfl)
theorem dX0_fewest_46 : decode cX0_fewest 46 = .ok (.invokestatic 300, 3) := dk_184 1 44 (dk_at dksX0_fewest_2 0 rfl rfl)
theorem dX0_fewest_49 : decode cX0_fewest 49 = .ok (.if_icmp .ge 12, 3) := dk_162 0 12 (dk_at dksX0_fewest_2 3 rfl rfl)
theorem dX0_fewest_52 : decode cX0_fewest 52 = .ok (.aload_n 0, 1) := dk_42 (dk_at dksX0_fewest_2 6 rfl rfl)
theorem dX0_fewest_53 : decode cX0_fewest 53 = .ok (.getfield 98, 3) := dk_180 0 98 (dk_at dksX0_fewest_2 7 rfl rfl)
theorem dX0_fewest_56 : decode cX0_fewest 56 = .ok (.iload 5, 2) := dk_21 5 (dk_at dksX0_fewest_2 10 rfl rfl)
theorem dX0_fewest_58 : decode cX0_fewest 58 = .ok (.iaload, 1) := dk_46 (dk_at dksX0_fewest_2 12 rfl rfl)
theorem dX0_fewest_59 : decode cX0_fewest 59 = .ok (.istore 4, 2) := dk_54 4 (dk_at dksX0_fewest_2 13 rfl rfl)
theorem dX0_fewest_61 : decode cX0_fewest 61 = .ok (.iinc 5 1, 3) := dk_132 5 1 (dk_at dksX0_fewest_2 15 rfl rfl)
theorem dX0_fewest_64 : decode cX0_fewest 64 = .ok (.goto (-45), 3) := dk_167 255 211 (dk_at dksX0_fewest_2 18 rfl rfl)
theorem dX0_fewest_67 : decode cX0_fewest 67 = .ok (.iload 4, 2) := dk_21 4 (dk_at dksX0_fewest_2 21 rfl rfl)
theorem dX0_fewest_69 : decode cX0_fewest 69 = .ok (.ireturn, 1) := dk_172 (dk_at dksX0_fewest_2 23 rfl rfl)
abbrev cX0_ask : ByteArray := prog_1_method_83_code
def yX0_ask : MethodName := ⟨RX0, "ask", "(II)I"⟩
def dkwX0_ask_0 : List UInt8 := [42, 27, 28, 182, 1, 91, 62, 29, 156, 0, 7, 29, 167, 0, 7, 42, 182, 1, 97, 172]
abbrev dktX0_ask_0 : List UInt8 := dkwX0_ask_0 ++ []
theorem dksX0_ask_0 : cX0_ask.data.toList.drop 0 = dktX0_ask_0 := by decide +kernel
theorem dX0_ask_0 : decode cX0_ask 0 = .ok (.aload_n 0, 1) := dk_42 (dk_at dksX0_ask_0 0 rfl rfl)
theorem dX0_ask_1 : decode cX0_ask 1 = .ok (.iload_n 1, 1) := dk_27 (dk_at dksX0_ask_0 1 rfl rfl)
theorem dX0_ask_2 : decode cX0_ask 2 = .ok (.iload_n 2, 1) := dk_28 (dk_at dksX0_ask_0 2 rfl rfl)
theorem dX0_ask_3 : decode cX0_ask 3 = .ok (.invokevirtual 347, 3) := dk_182 1 91 (dk_at dksX0_ask_0 3 rfl rfl)
theorem dX0_ask_6 : decode cX0_ask 6 = .ok (.istore_n 3, 1) := dk_62 (dk_at dksX0_ask_0 6 rfl rfl)
theorem dX0_ask_7 : decode cX0_ask 7 = .ok (.iload_n 3, 1) := dk_29 (dk_at dksX0_ask_0 7 rfl rfl)
theorem dX0_ask_8 : decode cX0_ask 8 = .ok (.ifCond .ge 7, 3) := dk_156 0 7 (dk_at dksX0_ask_0 8 rfl rfl)
theorem dX0_ask_11 : decode cX0_ask 11 = .ok (.iload_n 3, 1) := dk_29 (dk_at dksX0_ask_0 11 rfl rfl)
theorem dX0_ask_12 : decode cX0_ask 12 = .ok (.goto 7, 3) := dk_167 0 7 (dk_at dksX0_ask_0 12 rfl rfl)
theorem dX0_ask_15 : decode cX0_ask 15 = .ok (.aload_n 0, 1) := dk_42 (dk_at dksX0_ask_0 15 rfl rfl)
theorem dX0_ask_16 : decode cX0_ask 16 = .ok (.invokevirtual 353, 3) := dk_182 1 97 (dk_at dksX0_ask_0 16 rfl rfl)
theorem dX0_ask_19 : decode cX0_ask 19 = .ok (.ireturn, 1) := dk_172 (dk_at dksX0_ask_0 19 rfl rfl)
abbrev cX0_askOf : ByteArray := prog_1_method_82_code
def yX0_askOf : MethodName := ⟨RX0, "askOf", "()I"⟩
def dkwX0_askOf_4 : List UInt8 := [172]
abbrev dktX0_askOf_4 : List UInt8 := dkwX0_askOf_4 ++ []
def dkwX0_askOf_3 : List UInt8 := [180, 1, 94, 161, 0, 6, 167, 0, 11, 42, 21, 4, 181, 1, 94, 28, 60, 132, 2, 1, 167, 255, 176, 27]
abbrev dktX0_askOf_3 : List UInt8 := dkwX0_askOf_3 ++ dktX0_askOf_4
def dkwX0_askOf_2 : List UInt8 := [126, 96, 62, 132, 4, 1, 167, 255, 230, 29, 42, 180, 1, 77, 29, 100, 184, 0, 225, 54, 4, 21, 4, 42]
abbrev dktX0_askOf_2 : List UInt8 := dkwX0_askOf_2 ++ dktX0_askOf_3
def dkwX0_askOf_1 : List UInt8 := [62, 3, 54, 4, 21, 4, 42, 180, 1, 77, 162, 0, 23, 29, 42, 180, 0, 98, 21, 4, 46, 28, 122, 4]
abbrev dktX0_askOf_1 : List UInt8 := dkwX0_askOf_1 ++ dktX0_askOf_2
def dkwX0_askOf_0 : List UInt8 := [42, 42, 180, 1, 77, 181, 1, 94, 2, 60, 3, 61, 28, 42, 180, 0, 10, 180, 0, 156, 162, 0, 75, 3]
abbrev dktX0_askOf_0 : List UInt8 := dkwX0_askOf_0 ++ dktX0_askOf_1
theorem dksX0_askOf_0 : cX0_askOf.data.toList.drop 0 = dktX0_askOf_0 := by decide +kernel
theorem dksX0_askOf_1 : cX0_askOf.data.toList.drop 24 = dktX0_askOf_1 := dk_seg dksX0_askOf_0 24 rfl rfl
theorem dksX0_askOf_2 : cX0_askOf.data.toList.drop 48 = dktX0_askOf_2 := dk_seg dksX0_askOf_1 24 rfl rfl
theorem dksX0_askOf_3 : cX0_askOf.data.toList.drop 72 = dktX0_askOf_3 := dk_seg dksX0_askOf_2 24 rfl rfl
theorem dksX0_askOf_4 : cX0_askOf.data.toList.drop 96 = dktX0_askOf_4 := dk_seg dksX0_askOf_3 24 rfl rfl
theorem dX0_askOf_0 : decode cX0_askOf 0 = .ok (.aload_n 0, 1) := dk_42 (dk_at dksX0_askOf_0 0 rfl rfl)
theorem dX0_askOf_1 : decode cX0_askOf 1 = .ok (.aload_n 0, 1) := dk_42 (dk_at dksX0_askOf_0 1 rfl rfl)
theorem dX0_askOf_2 : decode cX0_askOf 2 = .ok (.getfield 333, 3) := dk_180 1 77 (dk_at dksX0_askOf_0 2 rfl rfl)
theorem dX0_askOf_5 : decode cX0_askOf 5 = .ok (.putfield 350, 3) := dk_181 1 94 (dk_at dksX0_askOf_0 5 rfl rfl)
theorem dX0_askOf_8 : decode cX0_askOf 8 = .ok (.iconst (-1), 1) := dk_2 (dk_at dksX0_askOf_0 8 rfl rfl)
theorem dX0_askOf_9 : decode cX0_askOf 9 = .ok (.istore_n 1, 1) := dk_60 (dk_at dksX0_askOf_0 9 rfl rfl)
theorem dX0_askOf_10 : decode cX0_askOf 10 = .ok (.iconst 0, 1) := dk_3 (dk_at dksX0_askOf_0 10 rfl rfl)
theorem dX0_askOf_11 : decode cX0_askOf 11 = .ok (.istore_n 2, 1) := dk_61 (dk_at dksX0_askOf_0 11 rfl rfl)
theorem dX0_askOf_12 : decode cX0_askOf 12 = .ok (.iload_n 2, 1) := dk_28 (dk_at dksX0_askOf_0 12 rfl rfl)
theorem dX0_askOf_13 : decode cX0_askOf 13 = .ok (.aload_n 0, 1) := dk_42 (dk_at dksX0_askOf_0 13 rfl rfl)
theorem dX0_askOf_14 : decode cX0_askOf 14 = .ok (.getfield 10, 3) := dk_180 0 10 (dk_at dksX0_askOf_0 14 rfl rfl)
theorem dX0_askOf_17 : decode cX0_askOf 17 = .ok (.getfield 156, 3) := dk_180 0 156 (dk_at dksX0_askOf_0 17 rfl rfl)
theorem dX0_askOf_20 : decode cX0_askOf 20 = .ok (.if_icmp .ge 75, 3) := dk_162 0 75 (dk_at dksX0_askOf_0 20 rfl rfl)
theorem dX0_askOf_23 : decode cX0_askOf 23 = .ok (.iconst 0, 1) := dk_3 (dk_at dksX0_askOf_0 23 rfl rfl)
theorem dX0_askOf_24 : decode cX0_askOf 24 = .ok (.istore_n 3, 1) := dk_62 (dk_at dksX0_askOf_1 0 rfl rfl)
theorem dX0_askOf_25 : decode cX0_askOf 25 = .ok (.iconst 0, 1) := dk_3 (dk_at dksX0_askOf_1 1 rfl rfl)
theorem dX0_askOf_26 : decode cX0_askOf 26 = .ok (.istore 4, 2) := dk_54 4 (dk_at dksX0_askOf_1 2 rfl rfl)
theorem dX0_askOf_28 : decode cX0_askOf 28 = .ok (.iload 4, 2) := dk_21 4 (dk_at dksX0_askOf_1 4 rfl rfl)
theorem dX0_askOf_30 : decode cX0_askOf 30 = .ok (.aload_n 0, 1) := dk_42 (dk_at dksX0_askOf_1 6 rfl rfl)
theorem dX0_askOf_31 : decode cX0_askOf 31 = .ok (.getfield 333, 3) := dk_180 1 77 (dk_at dksX0_askOf_1 7 rfl rfl)
theorem dX0_askOf_34 : decode cX0_askOf 34 = .ok (.if_icmp .ge 23, 3) := dk_162 0 23 (dk_at dksX0_askOf_1 10 rfl rfl)
theorem dX0_askOf_37 : decode cX0_askOf 37 = .ok (.iload_n 3, 1) := dk_29 (dk_at dksX0_askOf_1 13 rfl rfl)
theorem dX0_askOf_38 : decode cX0_askOf 38 = .ok (.aload_n 0, 1) := dk_42 (dk_at dksX0_askOf_1 14 rfl rfl)
theorem dX0_askOf_39 : decode cX0_askOf 39 = .ok (.getfield 98, 3) := dk_180 0 98 (dk_at dksX0_askOf_1 15 rfl rfl)
theorem dX0_askOf_42 : decode cX0_askOf 42 = .ok (.iload 4, 2) := dk_21 4 (dk_at dksX0_askOf_1 18 rfl rfl)
theorem dX0_askOf_44 : decode cX0_askOf 44 = .ok (.iaload, 1) := dk_46 (dk_at dksX0_askOf_1 20 rfl rfl)
theorem dX0_askOf_45 : decode cX0_askOf 45 = .ok (.iload_n 2, 1) := dk_28 (dk_at dksX0_askOf_1 21 rfl rfl)
theorem dX0_askOf_46 : decode cX0_askOf 46 = .ok (.ishr, 1) := dk_122 (dk_at dksX0_askOf_1 22 rfl rfl)
theorem dX0_askOf_47 : decode cX0_askOf 47 = .ok (.iconst 1, 1) := dk_4 (dk_at dksX0_askOf_1 23 rfl rfl)
theorem dX0_askOf_48 : decode cX0_askOf 48 = .ok (.iand, 1) := dk_126 (dk_at dksX0_askOf_2 0 rfl rfl)
theorem dX0_askOf_49 : decode cX0_askOf 49 = .ok (.iadd, 1) := dk_96 (dk_at dksX0_askOf_2 1 rfl rfl)
theorem dX0_askOf_50 : decode cX0_askOf 50 = .ok (.istore_n 3, 1) := dk_62 (dk_at dksX0_askOf_2 2 rfl rfl)
theorem dX0_askOf_51 : decode cX0_askOf 51 = .ok (.iinc 4 1, 3) := dk_132 4 1 (dk_at dksX0_askOf_2 3 rfl rfl)
theorem dX0_askOf_54 : decode cX0_askOf 54 = .ok (.goto (-26), 3) := dk_167 255 230 (dk_at dksX0_askOf_2 6 rfl rfl)
theorem dX0_askOf_57 : decode cX0_askOf 57 = .ok (.iload_n 3, 1) := dk_29 (dk_at dksX0_askOf_2 9 rfl rfl)
theorem dX0_askOf_58 : decode cX0_askOf 58 = .ok (.aload_n 0, 1) := dk_42 (dk_at dksX0_askOf_2 10 rfl rfl)
theorem dX0_askOf_59 : decode cX0_askOf 59 = .ok (.getfield 333, 3) := dk_180 1 77 (dk_at dksX0_askOf_2 11 rfl rfl)
theorem dX0_askOf_62 : decode cX0_askOf 62 = .ok (.iload_n 3, 1) := dk_29 (dk_at dksX0_askOf_2 14 rfl rfl)
theorem dX0_askOf_63 : decode cX0_askOf 63 = .ok (.isub, 1) := dk_100 (dk_at dksX0_askOf_2 15 rfl rfl)
theorem dX0_askOf_64 : decode cX0_askOf 64 = .ok (.invokestatic 225, 3) := dk_184 0 225 (dk_at dksX0_askOf_2 16 rfl rfl)
theorem dX0_askOf_67 : decode cX0_askOf 67 = .ok (.istore 4, 2) := dk_54 4 (dk_at dksX0_askOf_2 19 rfl rfl)
theorem dX0_askOf_69 : decode cX0_askOf 69 = .ok (.iload 4, 2) := dk_21 4 (dk_at dksX0_askOf_2 21 rfl rfl)
theorem dX0_askOf_71 : decode cX0_askOf 71 = .ok (.aload_n 0, 1) := dk_42 (dk_at dksX0_askOf_2 23 rfl rfl)
theorem dX0_askOf_72 : decode cX0_askOf 72 = .ok (.getfield 350, 3) := dk_180 1 94 (dk_at dksX0_askOf_3 0 rfl rfl)
theorem dX0_askOf_75 : decode cX0_askOf 75 = .ok (.if_icmp .lt 6, 3) := dk_161 0 6 (dk_at dksX0_askOf_3 3 rfl rfl)
theorem dX0_askOf_78 : decode cX0_askOf 78 = .ok (.goto 11, 3) := dk_167 0 11 (dk_at dksX0_askOf_3 6 rfl rfl)
theorem dX0_askOf_81 : decode cX0_askOf 81 = .ok (.aload_n 0, 1) := dk_42 (dk_at dksX0_askOf_3 9 rfl rfl)
theorem dX0_askOf_82 : decode cX0_askOf 82 = .ok (.iload 4, 2) := dk_21 4 (dk_at dksX0_askOf_3 10 rfl rfl)
theorem dX0_askOf_84 : decode cX0_askOf 84 = .ok (.putfield 350, 3) := dk_181 1 94 (dk_at dksX0_askOf_3 12 rfl rfl)
theorem dX0_askOf_87 : decode cX0_askOf 87 = .ok (.iload_n 2, 1) := dk_28 (dk_at dksX0_askOf_3 15 rfl rfl)
theorem dX0_askOf_88 : decode cX0_askOf 88 = .ok (.istore_n 1, 1) := dk_60 (dk_at dksX0_askOf_3 16 rfl rfl)
theorem dX0_askOf_89 : decode cX0_askOf 89 = .ok (.iinc 2 1, 3) := dk_132 2 1 (dk_at dksX0_askOf_3 17 rfl rfl)
theorem dX0_askOf_92 : decode cX0_askOf 92 = .ok (.goto (-80), 3) := dk_167 255 176 (dk_at dksX0_askOf_3 20 rfl rfl)
theorem dX0_askOf_95 : decode cX0_askOf 95 = .ok (.iload_n 1, 1) := dk_27 (dk_at dksX0_askOf_3 23 rfl rfl)
theorem dX0_askOf_96 : decode cX0_askOf 96 = .ok (.ireturn, 1) := dk_172 (dk_at dksX0_askOf_4 0 rfl rfl)
abbrev cX0_leaves : ByteArray := prog_1_method_84_code
def yX0_leaves : MethodName := ⟨RX0, "leaves", "(II)I"⟩
def dkwX0_leaves_0 : List UInt8 := [42, 27, 28, 182, 1, 91, 62, 29, 156, 0, 5, 29, 172, 42, 182, 1, 97, 87, 42, 180, 1, 94, 172]
abbrev dktX0_leaves_0 : List UInt8 := dkwX0_leaves_0 ++ []
theorem dksX0_leaves_0 : cX0_leaves.data.toList.drop 0 = dktX0_leaves_0 := by decide +kernel
theorem dX0_leaves_0 : decode cX0_leaves 0 = .ok (.aload_n 0, 1) := dk_42 (dk_at dksX0_leaves_0 0 rfl rfl)
theorem dX0_leaves_1 : decode cX0_leaves 1 = .ok (.iload_n 1, 1) := dk_27 (dk_at dksX0_leaves_0 1 rfl rfl)
theorem dX0_leaves_2 : decode cX0_leaves 2 = .ok (.iload_n 2, 1) := dk_28 (dk_at dksX0_leaves_0 2 rfl rfl)
theorem dX0_leaves_3 : decode cX0_leaves 3 = .ok (.invokevirtual 347, 3) := dk_182 1 91 (dk_at dksX0_leaves_0 3 rfl rfl)
theorem dX0_leaves_6 : decode cX0_leaves 6 = .ok (.istore_n 3, 1) := dk_62 (dk_at dksX0_leaves_0 6 rfl rfl)
theorem dX0_leaves_7 : decode cX0_leaves 7 = .ok (.iload_n 3, 1) := dk_29 (dk_at dksX0_leaves_0 7 rfl rfl)
theorem dX0_leaves_8 : decode cX0_leaves 8 = .ok (.ifCond .ge 5, 3) := dk_156 0 5 (dk_at dksX0_leaves_0 8 rfl rfl)
theorem dX0_leaves_11 : decode cX0_leaves 11 = .ok (.iload_n 3, 1) := dk_29 (dk_at dksX0_leaves_0 11 rfl rfl)
theorem dX0_leaves_12 : decode cX0_leaves 12 = .ok (.ireturn, 1) := dk_172 (dk_at dksX0_leaves_0 12 rfl rfl)
theorem dX0_leaves_13 : decode cX0_leaves 13 = .ok (.aload_n 0, 1) := dk_42 (dk_at dksX0_leaves_0 13 rfl rfl)
theorem dX0_leaves_14 : decode cX0_leaves 14 = .ok (.invokevirtual 353, 3) := dk_182 1 97 (dk_at dksX0_leaves_0 14 rfl rfl)
theorem dX0_leaves_17 : decode cX0_leaves 17 = .ok (.pop, 1) := dk_87 (dk_at dksX0_leaves_0 17 rfl rfl)
theorem dX0_leaves_18 : decode cX0_leaves 18 = .ok (.aload_n 0, 1) := dk_42 (dk_at dksX0_leaves_0 18 rfl rfl)
theorem dX0_leaves_19 : decode cX0_leaves 19 = .ok (.getfield 350, 3) := dk_180 1 94 (dk_at dksX0_leaves_0 19 rfl rfl)
theorem dX0_leaves_22 : decode cX0_leaves 22 = .ok (.ireturn, 1) := dk_172 (dk_at dksX0_leaves_0 22 rfl rfl)
abbrev cX0_loads : ByteArray := prog_1_method_90_code
def yX0_loads : MethodName := ⟨RX0, "loads", "(II)I"⟩
def dkwX0_loads_0 : List UInt8 := [42, 27, 28, 182, 1, 123, 62, 29, 156, 0, 7, 29, 167, 0, 7, 42, 180, 1, 105, 172]
abbrev dktX0_loads_0 : List UInt8 := dkwX0_loads_0 ++ []
theorem dksX0_loads_0 : cX0_loads.data.toList.drop 0 = dktX0_loads_0 := by decide +kernel
theorem dX0_loads_0 : decode cX0_loads 0 = .ok (.aload_n 0, 1) := dk_42 (dk_at dksX0_loads_0 0 rfl rfl)
theorem dX0_loads_1 : decode cX0_loads 1 = .ok (.iload_n 1, 1) := dk_27 (dk_at dksX0_loads_0 1 rfl rfl)
theorem dX0_loads_2 : decode cX0_loads 2 = .ok (.iload_n 2, 1) := dk_28 (dk_at dksX0_loads_0 2 rfl rfl)
theorem dX0_loads_3 : decode cX0_loads 3 = .ok (.invokevirtual 379, 3) := dk_182 1 123 (dk_at dksX0_loads_0 3 rfl rfl)
theorem dX0_loads_6 : decode cX0_loads 6 = .ok (.istore_n 3, 1) := dk_62 (dk_at dksX0_loads_0 6 rfl rfl)
theorem dX0_loads_7 : decode cX0_loads 7 = .ok (.iload_n 3, 1) := dk_29 (dk_at dksX0_loads_0 7 rfl rfl)
theorem dX0_loads_8 : decode cX0_loads 8 = .ok (.ifCond .ge 7, 3) := dk_156 0 7 (dk_at dksX0_loads_0 8 rfl rfl)
theorem dX0_loads_11 : decode cX0_loads 11 = .ok (.iload_n 3, 1) := dk_29 (dk_at dksX0_loads_0 11 rfl rfl)
theorem dX0_loads_12 : decode cX0_loads 12 = .ok (.goto 7, 3) := dk_167 0 7 (dk_at dksX0_loads_0 12 rfl rfl)
theorem dX0_loads_15 : decode cX0_loads 15 = .ok (.aload_n 0, 1) := dk_42 (dk_at dksX0_loads_0 15 rfl rfl)
theorem dX0_loads_16 : decode cX0_loads 16 = .ok (.getfield 361, 3) := dk_180 1 105 (dk_at dksX0_loads_0 16 rfl rfl)
theorem dX0_loads_19 : decode cX0_loads 19 = .ok (.ireturn, 1) := dk_172 (dk_at dksX0_loads_0 19 rfl rfl)
abbrev cX0_asksLoads : ByteArray := prog_1_method_89_code
def yX0_asksLoads : MethodName := ⟨RX0, "asksLoads", "(II)I"⟩
def dkwX0_asksLoads_1 : List UInt8 := [28, 182, 1, 120, 29, 172]
abbrev dktX0_asksLoads_1 : List UInt8 := dkwX0_asksLoads_1 ++ []
def dkwX0_asksLoads_0 : List UInt8 := [42, 28, 133, 182, 0, 159, 154, 0, 6, 16, 254, 172, 42, 27, 182, 1, 117, 62, 29, 154, 0, 9, 42, 27]
abbrev dktX0_asksLoads_0 : List UInt8 := dkwX0_asksLoads_0 ++ dktX0_asksLoads_1
theorem dksX0_asksLoads_0 : cX0_asksLoads.data.toList.drop 0 = dktX0_asksLoads_0 := by decide +kernel
theorem dksX0_asksLoads_1 : cX0_asksLoads.data.toList.drop 24 = dktX0_asksLoads_1 := dk_seg dksX0_asksLoads_0 24 rfl rfl
theorem dX0_asksLoads_0 : decode cX0_asksLoads 0 = .ok (.aload_n 0, 1) := dk_42 (dk_at dksX0_asksLoads_0 0 rfl rfl)
theorem dX0_asksLoads_1 : decode cX0_asksLoads 1 = .ok (.iload_n 2, 1) := dk_28 (dk_at dksX0_asksLoads_0 1 rfl rfl)
theorem dX0_asksLoads_2 : decode cX0_asksLoads 2 = .ok (.i2l, 1) := dk_133 (dk_at dksX0_asksLoads_0 2 rfl rfl)
theorem dX0_asksLoads_3 : decode cX0_asksLoads 3 = .ok (.invokevirtual 159, 3) := dk_182 0 159 (dk_at dksX0_asksLoads_0 3 rfl rfl)
theorem dX0_asksLoads_6 : decode cX0_asksLoads 6 = .ok (.ifCond .ne 6, 3) := dk_154 0 6 (dk_at dksX0_asksLoads_0 6 rfl rfl)
theorem dX0_asksLoads_9 : decode cX0_asksLoads 9 = .ok (.bipush (-2), 2) := dk_16 254 (dk_at dksX0_asksLoads_0 9 rfl rfl)
theorem dX0_asksLoads_11 : decode cX0_asksLoads 11 = .ok (.ireturn, 1) := dk_172 (dk_at dksX0_asksLoads_0 11 rfl rfl)
theorem dX0_asksLoads_12 : decode cX0_asksLoads 12 = .ok (.aload_n 0, 1) := dk_42 (dk_at dksX0_asksLoads_0 12 rfl rfl)
theorem dX0_asksLoads_13 : decode cX0_asksLoads 13 = .ok (.iload_n 1, 1) := dk_27 (dk_at dksX0_asksLoads_0 13 rfl rfl)
theorem dX0_asksLoads_14 : decode cX0_asksLoads 14 = .ok (.invokevirtual 373, 3) := dk_182 1 117 (dk_at dksX0_asksLoads_0 14 rfl rfl)
theorem dX0_asksLoads_17 : decode cX0_asksLoads 17 = .ok (.istore_n 3, 1) := dk_62 (dk_at dksX0_asksLoads_0 17 rfl rfl)
theorem dX0_asksLoads_18 : decode cX0_asksLoads 18 = .ok (.iload_n 3, 1) := dk_29 (dk_at dksX0_asksLoads_0 18 rfl rfl)
theorem dX0_asksLoads_19 : decode cX0_asksLoads 19 = .ok (.ifCond .ne 9, 3) := dk_154 0 9 (dk_at dksX0_asksLoads_0 19 rfl rfl)
theorem dX0_asksLoads_22 : decode cX0_asksLoads 22 = .ok (.aload_n 0, 1) := dk_42 (dk_at dksX0_asksLoads_0 22 rfl rfl)
theorem dX0_asksLoads_23 : decode cX0_asksLoads 23 = .ok (.iload_n 1, 1) := dk_27 (dk_at dksX0_asksLoads_0 23 rfl rfl)
theorem dX0_asksLoads_24 : decode cX0_asksLoads 24 = .ok (.iload_n 2, 1) := dk_28 (dk_at dksX0_asksLoads_1 0 rfl rfl)
theorem dX0_asksLoads_25 : decode cX0_asksLoads 25 = .ok (.invokevirtual 376, 3) := dk_182 1 120 (dk_at dksX0_asksLoads_1 1 rfl rfl)
theorem dX0_asksLoads_28 : decode cX0_asksLoads 28 = .ok (.iload_n 3, 1) := dk_29 (dk_at dksX0_asksLoads_1 4 rfl rfl)
theorem dX0_asksLoads_29 : decode cX0_asksLoads 29 = .ok (.ireturn, 1) := dk_172 (dk_at dksX0_asksLoads_1 5 rfl rfl)
abbrev cX0_asksBook : ByteArray := prog_1_method_86_code
def yX0_asksBook : MethodName := ⟨RX0, "asksBook", "(I)I"⟩
def dkwX0_asksBook_4 : List UInt8 := [167, 255, 199, 42, 182, 0, 250, 3, 172, 77, 16, 250, 172]
abbrev dktX0_asksBook_4 : List UInt8 := dkwX0_asksBook_4 ++ []
def dkwX0_asksBook_3 : List UInt8 := [44, 29, 5, 96, 182, 1, 71, 9, 20, 1, 100, 184, 0, 128, 154, 0, 6, 16, 254, 172, 132, 3, 3]
abbrev dktX0_asksBook_3 : List UInt8 := dkwX0_asksBook_3 ++ dktX0_asksBook_4
def dkwX0_asksBook_2 : List UInt8 := [29, 182, 1, 71, 182, 0, 167, 153, 0, 34, 42, 44, 29, 4, 96, 182, 1, 71, 182, 0, 159, 153, 0, 20]
abbrev dktX0_asksBook_2 : List UInt8 := dkwX0_asksBook_2 ++ dktX0_asksBook_3
def dkwX0_asksBook_1 : List UInt8 := [44, 182, 1, 68, 6, 112, 153, 0, 6, 16, 254, 172, 3, 62, 29, 44, 182, 1, 68, 162, 0, 55, 42, 44]
abbrev dktX0_asksBook_1 : List UInt8 := dkwX0_asksBook_1 ++ dktX0_asksBook_2
def dkwX0_asksBook_0 : List UInt8 := [27, 184, 1, 74, 153, 0, 10, 42, 182, 1, 0, 154, 0, 6, 16, 254, 172, 42, 180, 0, 110, 27, 50, 77]
abbrev dktX0_asksBook_0 : List UInt8 := dkwX0_asksBook_0 ++ dktX0_asksBook_1
theorem dksX0_asksBook_0 : cX0_asksBook.data.toList.drop 0 = dktX0_asksBook_0 := by decide +kernel
theorem dksX0_asksBook_1 : cX0_asksBook.data.toList.drop 24 = dktX0_asksBook_1 := dk_seg dksX0_asksBook_0 24 rfl rfl
theorem dksX0_asksBook_2 : cX0_asksBook.data.toList.drop 48 = dktX0_asksBook_2 := dk_seg dksX0_asksBook_1 24 rfl rfl
theorem dksX0_asksBook_3 : cX0_asksBook.data.toList.drop 72 = dktX0_asksBook_3 := dk_seg dksX0_asksBook_2 24 rfl rfl
theorem dksX0_asksBook_4 : cX0_asksBook.data.toList.drop 95 = dktX0_asksBook_4 := dk_seg dksX0_asksBook_3 23 rfl rfl
theorem dX0_asksBook_0 : decode cX0_asksBook 0 = .ok (.iload_n 1, 1) := dk_27 (dk_at dksX0_asksBook_0 0 rfl rfl)
theorem dX0_asksBook_1 : decode cX0_asksBook 1 = .ok (.invokestatic 330, 3) := dk_184 1 74 (dk_at dksX0_asksBook_0 1 rfl rfl)
theorem dX0_asksBook_4 : decode cX0_asksBook 4 = .ok (.ifCond .eq 10, 3) := dk_153 0 10 (dk_at dksX0_asksBook_0 4 rfl rfl)
theorem dX0_asksBook_7 : decode cX0_asksBook 7 = .ok (.aload_n 0, 1) := dk_42 (dk_at dksX0_asksBook_0 7 rfl rfl)
theorem dX0_asksBook_8 : decode cX0_asksBook 8 = .ok (.invokevirtual 256, 3) := dk_182 1 0 (dk_at dksX0_asksBook_0 8 rfl rfl)
theorem dX0_asksBook_11 : decode cX0_asksBook 11 = .ok (.ifCond .ne 6, 3) := dk_154 0 6 (dk_at dksX0_asksBook_0 11 rfl rfl)
theorem dX0_asksBook_14 : decode cX0_asksBook 14 = .ok (.bipush (-2), 2) := dk_16 254 (dk_at dksX0_asksBook_0 14 rfl rfl)
theorem dX0_asksBook_16 : decode cX0_asksBook 16 = .ok (.ireturn, 1) := dk_172 (dk_at dksX0_asksBook_0 16 rfl rfl)
theorem dX0_asksBook_17 : decode cX0_asksBook 17 = .ok (.aload_n 0, 1) := dk_42 (dk_at dksX0_asksBook_0 17 rfl rfl)
theorem dX0_asksBook_18 : decode cX0_asksBook 18 = .ok (.getfield 110, 3) := dk_180 0 110 (dk_at dksX0_asksBook_0 18 rfl rfl)
theorem dX0_asksBook_21 : decode cX0_asksBook 21 = .ok (.iload_n 1, 1) := dk_27 (dk_at dksX0_asksBook_0 21 rfl rfl)
theorem dX0_asksBook_22 : decode cX0_asksBook 22 = .ok (.aaload, 1) := dk_50 (dk_at dksX0_asksBook_0 22 rfl rfl)
theorem dX0_asksBook_23 : decode cX0_asksBook 23 = .ok (.astore_n 2, 1) := dk_77 (dk_at dksX0_asksBook_0 23 rfl rfl)
theorem dX0_asksBook_24 : decode cX0_asksBook 24 = .ok (.aload_n 2, 1) := dk_44 (dk_at dksX0_asksBook_1 0 rfl rfl)
theorem dX0_asksBook_25 : decode cX0_asksBook 25 = .ok (.invokevirtual 324, 3) := dk_182 1 68 (dk_at dksX0_asksBook_1 1 rfl rfl)
theorem dX0_asksBook_28 : decode cX0_asksBook 28 = .ok (.iconst 3, 1) := dk_6 (dk_at dksX0_asksBook_1 4 rfl rfl)
theorem dX0_asksBook_29 : decode cX0_asksBook 29 = .ok (.irem, 1) := dk_112 (dk_at dksX0_asksBook_1 5 rfl rfl)
theorem dX0_asksBook_30 : decode cX0_asksBook 30 = .ok (.ifCond .eq 6, 3) := dk_153 0 6 (dk_at dksX0_asksBook_1 6 rfl rfl)
theorem dX0_asksBook_33 : decode cX0_asksBook 33 = .ok (.bipush (-2), 2) := dk_16 254 (dk_at dksX0_asksBook_1 9 rfl rfl)
theorem dX0_asksBook_35 : decode cX0_asksBook 35 = .ok (.ireturn, 1) := dk_172 (dk_at dksX0_asksBook_1 11 rfl rfl)
theorem dX0_asksBook_36 : decode cX0_asksBook 36 = .ok (.iconst 0, 1) := dk_3 (dk_at dksX0_asksBook_1 12 rfl rfl)
theorem dX0_asksBook_37 : decode cX0_asksBook 37 = .ok (.istore_n 3, 1) := dk_62 (dk_at dksX0_asksBook_1 13 rfl rfl)
theorem dX0_asksBook_38 : decode cX0_asksBook 38 = .ok (.iload_n 3, 1) := dk_29 (dk_at dksX0_asksBook_1 14 rfl rfl)
theorem dX0_asksBook_39 : decode cX0_asksBook 39 = .ok (.aload_n 2, 1) := dk_44 (dk_at dksX0_asksBook_1 15 rfl rfl)
theorem dX0_asksBook_40 : decode cX0_asksBook 40 = .ok (.invokevirtual 324, 3) := dk_182 1 68 (dk_at dksX0_asksBook_1 16 rfl rfl)
theorem dX0_asksBook_43 : decode cX0_asksBook 43 = .ok (.if_icmp .ge 55, 3) := dk_162 0 55 (dk_at dksX0_asksBook_1 19 rfl rfl)
theorem dX0_asksBook_46 : decode cX0_asksBook 46 = .ok (.aload_n 0, 1) := dk_42 (dk_at dksX0_asksBook_1 22 rfl rfl)
theorem dX0_asksBook_47 : decode cX0_asksBook 47 = .ok (.aload_n 2, 1) := dk_44 (dk_at dksX0_asksBook_1 23 rfl rfl)
theorem dX0_asksBook_48 : decode cX0_asksBook 48 = .ok (.iload_n 3, 1) := dk_29 (dk_at dksX0_asksBook_2 0 rfl rfl)
theorem dX0_asksBook_49 : decode cX0_asksBook 49 = .ok (.invokevirtual 327, 3) := dk_182 1 71 (dk_at dksX0_asksBook_2 1 rfl rfl)
theorem dX0_asksBook_52 : decode cX0_asksBook 52 = .ok (.invokevirtual 167, 3) := dk_182 0 167 (dk_at dksX0_asksBook_2 4 rfl rfl)
theorem dX0_asksBook_55 : decode cX0_asksBook 55 = .ok (.ifCond .eq 34, 3) := dk_153 0 34 (dk_at dksX0_asksBook_2 7 rfl rfl)
theorem dX0_asksBook_58 : decode cX0_asksBook 58 = .ok (.aload_n 0, 1) := dk_42 (dk_at dksX0_asksBook_2 10 rfl rfl)
theorem dX0_asksBook_59 : decode cX0_asksBook 59 = .ok (.aload_n 2, 1) := dk_44 (dk_at dksX0_asksBook_2 11 rfl rfl)
theorem dX0_asksBook_60 : decode cX0_asksBook 60 = .ok (.iload_n 3, 1) := dk_29 (dk_at dksX0_asksBook_2 12 rfl rfl)
theorem dX0_asksBook_61 : decode cX0_asksBook 61 = .ok (.iconst 1, 1) := dk_4 (dk_at dksX0_asksBook_2 13 rfl rfl)
theorem dX0_asksBook_62 : decode cX0_asksBook 62 = .ok (.iadd, 1) := dk_96 (dk_at dksX0_asksBook_2 14 rfl rfl)
theorem dX0_asksBook_63 : decode cX0_asksBook 63 = .ok (.invokevirtual 327, 3) := dk_182 1 71 (dk_at dksX0_asksBook_2 15 rfl rfl)
theorem dX0_asksBook_66 : decode cX0_asksBook 66 = .ok (.invokevirtual 159, 3) := dk_182 0 159 (dk_at dksX0_asksBook_2 18 rfl rfl)
theorem dX0_asksBook_69 : decode cX0_asksBook 69 = .ok (.ifCond .eq 20, 3) := dk_153 0 20 (dk_at dksX0_asksBook_2 21 rfl rfl)
theorem dX0_asksBook_72 : decode cX0_asksBook 72 = .ok (.aload_n 2, 1) := dk_44 (dk_at dksX0_asksBook_3 0 rfl rfl)
theorem dX0_asksBook_73 : decode cX0_asksBook 73 = .ok (.iload_n 3, 1) := dk_29 (dk_at dksX0_asksBook_3 1 rfl rfl)
theorem dX0_asksBook_74 : decode cX0_asksBook 74 = .ok (.iconst 2, 1) := dk_5 (dk_at dksX0_asksBook_3 2 rfl rfl)
theorem dX0_asksBook_75 : decode cX0_asksBook 75 = .ok (.iadd, 1) := dk_96 (dk_at dksX0_asksBook_3 3 rfl rfl)
theorem dX0_asksBook_76 : decode cX0_asksBook 76 = .ok (.invokevirtual 327, 3) := dk_182 1 71 (dk_at dksX0_asksBook_3 4 rfl rfl)
theorem dX0_asksBook_79 : decode cX0_asksBook 79 = .ok (.lconst 0, 1) := dk_9 (dk_at dksX0_asksBook_3 7 rfl rfl)
theorem dX0_asksBook_80 : decode cX0_asksBook 80 = .ok (.ldc2_w 356, 3) := dk_20 1 100 (dk_at dksX0_asksBook_3 8 rfl rfl)
theorem dX0_asksBook_83 : decode cX0_asksBook 83 = .ok (.invokestatic 128, 3) := dk_184 0 128 (dk_at dksX0_asksBook_3 11 rfl rfl)
theorem dX0_asksBook_86 : decode cX0_asksBook 86 = .ok (.ifCond .ne 6, 3) := dk_154 0 6 (dk_at dksX0_asksBook_3 14 rfl rfl)
theorem dX0_asksBook_89 : decode cX0_asksBook 89 = .ok (.bipush (-2), 2) := dk_16 254 (dk_at dksX0_asksBook_3 17 rfl rfl)
theorem dX0_asksBook_91 : decode cX0_asksBook 91 = .ok (.ireturn, 1) := dk_172 (dk_at dksX0_asksBook_3 19 rfl rfl)
theorem dX0_asksBook_92 : decode cX0_asksBook 92 = .ok (.iinc 3 3, 3) := dk_132 3 3 (dk_at dksX0_asksBook_3 20 rfl rfl)
theorem dX0_asksBook_95 : decode cX0_asksBook 95 = .ok (.goto (-57), 3) := dk_167 255 199 (dk_at dksX0_asksBook_4 0 rfl rfl)
theorem dX0_asksBook_98 : decode cX0_asksBook 98 = .ok (.aload_n 0, 1) := dk_42 (dk_at dksX0_asksBook_4 3 rfl rfl)
theorem dX0_asksBook_99 : decode cX0_asksBook 99 = .ok (.invokevirtual 250, 3) := dk_182 0 250 (dk_at dksX0_asksBook_4 4 rfl rfl)
theorem dX0_asksBook_102 : decode cX0_asksBook 102 = .ok (.iconst 0, 1) := dk_3 (dk_at dksX0_asksBook_4 7 rfl rfl)
theorem dX0_asksBook_103 : decode cX0_asksBook 103 = .ok (.ireturn, 1) := dk_172 (dk_at dksX0_asksBook_4 8 rfl rfl)
theorem dX0_asksBook_104 : decode cX0_asksBook 104 = .ok (.astore_n 2, 1) := dk_77 (dk_at dksX0_asksBook_4 9 rfl rfl)
theorem dX0_asksBook_105 : decode cX0_asksBook 105 = .ok (.bipush (-6), 2) := dk_16 250 (dk_at dksX0_asksBook_4 10 rfl rfl)
theorem dX0_asksBook_107 : decode cX0_asksBook 107 = .ok (.ireturn, 1) := dk_172 (dk_at dksX0_asksBook_4 12 rfl rfl)
abbrev cX0_laysLoads : ByteArray := prog_1_method_88_code
def yX0_laysLoads : MethodName := ⟨RX0, "laysLoads", "(II)V"⟩
def dkwX0_laysLoads_4 : List UInt8 := [46, 4, 96, 79, 167, 255, 180, 42, 180, 0, 56, 28, 42, 180, 0, 10, 180, 0, 180, 28, 46, 79, 177]
abbrev dktX0_laysLoads_4 : List UInt8 := dkwX0_laysLoads_4 ++ []
def dkwX0_laysLoads_3 : List UInt8 := [180, 0, 56, 28, 46, 181, 1, 111, 42, 89, 180, 1, 105, 4, 96, 181, 1, 105, 42, 180, 0, 56, 28, 92]
abbrev dktX0_laysLoads_3 : List UInt8 := dkwX0_laysLoads_3 ++ dktX0_laysLoads_4
def dkwX0_laysLoads_2 : List UInt8 := [180, 1, 105, 154, 0, 12, 42, 180, 0, 56, 28, 46, 167, 0, 7, 42, 180, 1, 108, 181, 1, 108, 42, 42]
abbrev dktX0_laysLoads_2 : List UInt8 := dkwX0_laysLoads_2 ++ dktX0_laysLoads_3
def dkwX0_laysLoads_1 : List UInt8 := [180, 0, 56, 28, 46, 16, 99, 163, 0, 71, 42, 27, 182, 1, 114, 154, 0, 6, 167, 0, 47, 42, 42]
abbrev dktX0_laysLoads_1 : List UInt8 := dkwX0_laysLoads_1 ++ dktX0_laysLoads_2
def dkwX0_laysLoads_0 : List UInt8 := [42, 3, 181, 1, 105, 42, 2, 181, 1, 108, 42, 2, 181, 1, 111, 42, 180, 0, 56, 28, 4, 79, 42]
abbrev dktX0_laysLoads_0 : List UInt8 := dkwX0_laysLoads_0 ++ dktX0_laysLoads_1
theorem dksX0_laysLoads_0 : cX0_laysLoads.data.toList.drop 0 = dktX0_laysLoads_0 := by decide +kernel
theorem dksX0_laysLoads_1 : cX0_laysLoads.data.toList.drop 23 = dktX0_laysLoads_1 := dk_seg dksX0_laysLoads_0 23 rfl rfl
theorem dksX0_laysLoads_2 : cX0_laysLoads.data.toList.drop 46 = dktX0_laysLoads_2 := dk_seg dksX0_laysLoads_1 23 rfl rfl
theorem dksX0_laysLoads_3 : cX0_laysLoads.data.toList.drop 70 = dktX0_laysLoads_3 := dk_seg dksX0_laysLoads_2 24 rfl rfl
theorem dksX0_laysLoads_4 : cX0_laysLoads.data.toList.drop 94 = dktX0_laysLoads_4 := dk_seg dksX0_laysLoads_3 24 rfl rfl
theorem dX0_laysLoads_0 : decode cX0_laysLoads 0 = .ok (.aload_n 0, 1) := dk_42 (dk_at dksX0_laysLoads_0 0 rfl rfl)
theorem dX0_laysLoads_1 : decode cX0_laysLoads 1 = .ok (.iconst 0, 1) := dk_3 (dk_at dksX0_laysLoads_0 1 rfl rfl)
theorem dX0_laysLoads_2 : decode cX0_laysLoads 2 = .ok (.putfield 361, 3) := dk_181 1 105 (dk_at dksX0_laysLoads_0 2 rfl rfl)
theorem dX0_laysLoads_5 : decode cX0_laysLoads 5 = .ok (.aload_n 0, 1) := dk_42 (dk_at dksX0_laysLoads_0 5 rfl rfl)
theorem dX0_laysLoads_6 : decode cX0_laysLoads 6 = .ok (.iconst (-1), 1) := dk_2 (dk_at dksX0_laysLoads_0 6 rfl rfl)
theorem dX0_laysLoads_7 : decode cX0_laysLoads 7 = .ok (.putfield 364, 3) := dk_181 1 108 (dk_at dksX0_laysLoads_0 7 rfl rfl)
theorem dX0_laysLoads_10 : decode cX0_laysLoads 10 = .ok (.aload_n 0, 1) := dk_42 (dk_at dksX0_laysLoads_0 10 rfl rfl)
theorem dX0_laysLoads_11 : decode cX0_laysLoads 11 = .ok (.iconst (-1), 1) := dk_2 (dk_at dksX0_laysLoads_0 11 rfl rfl)
theorem dX0_laysLoads_12 : decode cX0_laysLoads 12 = .ok (.putfield 367, 3) := dk_181 1 111 (dk_at dksX0_laysLoads_0 12 rfl rfl)
theorem dX0_laysLoads_15 : decode cX0_laysLoads 15 = .ok (.aload_n 0, 1) := dk_42 (dk_at dksX0_laysLoads_0 15 rfl rfl)
theorem dX0_laysLoads_16 : decode cX0_laysLoads 16 = .ok (.getfield 56, 3) := dk_180 0 56 (dk_at dksX0_laysLoads_0 16 rfl rfl)
theorem dX0_laysLoads_19 : decode cX0_laysLoads 19 = .ok (.iload_n 2, 1) := dk_28 (dk_at dksX0_laysLoads_0 19 rfl rfl)
theorem dX0_laysLoads_20 : decode cX0_laysLoads 20 = .ok (.iconst 1, 1) := dk_4 (dk_at dksX0_laysLoads_0 20 rfl rfl)
theorem dX0_laysLoads_21 : decode cX0_laysLoads 21 = .ok (.iastore, 1) := dk_79 (dk_at dksX0_laysLoads_0 21 rfl rfl)
theorem dX0_laysLoads_22 : decode cX0_laysLoads 22 = .ok (.aload_n 0, 1) := dk_42 (dk_at dksX0_laysLoads_0 22 rfl rfl)
theorem dX0_laysLoads_23 : decode cX0_laysLoads 23 = .ok (.getfield 56, 3) := dk_180 0 56 (dk_at dksX0_laysLoads_1 0 rfl rfl)
theorem dX0_laysLoads_26 : decode cX0_laysLoads 26 = .ok (.iload_n 2, 1) := dk_28 (dk_at dksX0_laysLoads_1 3 rfl rfl)
theorem dX0_laysLoads_27 : decode cX0_laysLoads 27 = .ok (.iaload, 1) := dk_46 (dk_at dksX0_laysLoads_1 4 rfl rfl)
theorem dX0_laysLoads_28 : decode cX0_laysLoads 28 = .ok (.bipush 99, 2) := dk_16 99 (dk_at dksX0_laysLoads_1 5 rfl rfl)
theorem dX0_laysLoads_30 : decode cX0_laysLoads 30 = .ok (.if_icmp .gt 71, 3) := dk_163 0 71 (dk_at dksX0_laysLoads_1 7 rfl rfl)
theorem dX0_laysLoads_33 : decode cX0_laysLoads 33 = .ok (.aload_n 0, 1) := dk_42 (dk_at dksX0_laysLoads_1 10 rfl rfl)
theorem dX0_laysLoads_34 : decode cX0_laysLoads 34 = .ok (.iload_n 1, 1) := dk_27 (dk_at dksX0_laysLoads_1 11 rfl rfl)
theorem dX0_laysLoads_35 : decode cX0_laysLoads 35 = .ok (.invokevirtual 370, 3) := dk_182 1 114 (dk_at dksX0_laysLoads_1 12 rfl rfl)
theorem dX0_laysLoads_38 : decode cX0_laysLoads 38 = .ok (.ifCond .ne 6, 3) := dk_154 0 6 (dk_at dksX0_laysLoads_1 15 rfl rfl)
theorem dX0_laysLoads_41 : decode cX0_laysLoads 41 = .ok (.goto 47, 3) := dk_167 0 47 (dk_at dksX0_laysLoads_1 18 rfl rfl)
theorem dX0_laysLoads_44 : decode cX0_laysLoads 44 = .ok (.aload_n 0, 1) := dk_42 (dk_at dksX0_laysLoads_1 21 rfl rfl)
theorem dX0_laysLoads_45 : decode cX0_laysLoads 45 = .ok (.aload_n 0, 1) := dk_42 (dk_at dksX0_laysLoads_1 22 rfl rfl)
theorem dX0_laysLoads_46 : decode cX0_laysLoads 46 = .ok (.getfield 361, 3) := dk_180 1 105 (dk_at dksX0_laysLoads_2 0 rfl rfl)
theorem dX0_laysLoads_49 : decode cX0_laysLoads 49 = .ok (.ifCond .ne 12, 3) := dk_154 0 12 (dk_at dksX0_laysLoads_2 3 rfl rfl)
theorem dX0_laysLoads_52 : decode cX0_laysLoads 52 = .ok (.aload_n 0, 1) := dk_42 (dk_at dksX0_laysLoads_2 6 rfl rfl)
theorem dX0_laysLoads_53 : decode cX0_laysLoads 53 = .ok (.getfield 56, 3) := dk_180 0 56 (dk_at dksX0_laysLoads_2 7 rfl rfl)
theorem dX0_laysLoads_56 : decode cX0_laysLoads 56 = .ok (.iload_n 2, 1) := dk_28 (dk_at dksX0_laysLoads_2 10 rfl rfl)
theorem dX0_laysLoads_57 : decode cX0_laysLoads 57 = .ok (.iaload, 1) := dk_46 (dk_at dksX0_laysLoads_2 11 rfl rfl)
theorem dX0_laysLoads_58 : decode cX0_laysLoads 58 = .ok (.goto 7, 3) := dk_167 0 7 (dk_at dksX0_laysLoads_2 12 rfl rfl)
theorem dX0_laysLoads_61 : decode cX0_laysLoads 61 = .ok (.aload_n 0, 1) := dk_42 (dk_at dksX0_laysLoads_2 15 rfl rfl)
theorem dX0_laysLoads_62 : decode cX0_laysLoads 62 = .ok (.getfield 364, 3) := dk_180 1 108 (dk_at dksX0_laysLoads_2 16 rfl rfl)
theorem dX0_laysLoads_65 : decode cX0_laysLoads 65 = .ok (.putfield 364, 3) := dk_181 1 108 (dk_at dksX0_laysLoads_2 19 rfl rfl)
theorem dX0_laysLoads_68 : decode cX0_laysLoads 68 = .ok (.aload_n 0, 1) := dk_42 (dk_at dksX0_laysLoads_2 22 rfl rfl)
theorem dX0_laysLoads_69 : decode cX0_laysLoads 69 = .ok (.aload_n 0, 1) := dk_42 (dk_at dksX0_laysLoads_2 23 rfl rfl)
theorem dX0_laysLoads_70 : decode cX0_laysLoads 70 = .ok (.getfield 56, 3) := dk_180 0 56 (dk_at dksX0_laysLoads_3 0 rfl rfl)
theorem dX0_laysLoads_73 : decode cX0_laysLoads 73 = .ok (.iload_n 2, 1) := dk_28 (dk_at dksX0_laysLoads_3 3 rfl rfl)
theorem dX0_laysLoads_74 : decode cX0_laysLoads 74 = .ok (.iaload, 1) := dk_46 (dk_at dksX0_laysLoads_3 4 rfl rfl)
theorem dX0_laysLoads_75 : decode cX0_laysLoads 75 = .ok (.putfield 367, 3) := dk_181 1 111 (dk_at dksX0_laysLoads_3 5 rfl rfl)
theorem dX0_laysLoads_78 : decode cX0_laysLoads 78 = .ok (.aload_n 0, 1) := dk_42 (dk_at dksX0_laysLoads_3 8 rfl rfl)
theorem dX0_laysLoads_79 : decode cX0_laysLoads 79 = .ok (.dup, 1) := dk_89 (dk_at dksX0_laysLoads_3 9 rfl rfl)
theorem dX0_laysLoads_80 : decode cX0_laysLoads 80 = .ok (.getfield 361, 3) := dk_180 1 105 (dk_at dksX0_laysLoads_3 10 rfl rfl)
theorem dX0_laysLoads_83 : decode cX0_laysLoads 83 = .ok (.iconst 1, 1) := dk_4 (dk_at dksX0_laysLoads_3 13 rfl rfl)
theorem dX0_laysLoads_84 : decode cX0_laysLoads 84 = .ok (.iadd, 1) := dk_96 (dk_at dksX0_laysLoads_3 14 rfl rfl)
theorem dX0_laysLoads_85 : decode cX0_laysLoads 85 = .ok (.putfield 361, 3) := dk_181 1 105 (dk_at dksX0_laysLoads_3 15 rfl rfl)
theorem dX0_laysLoads_88 : decode cX0_laysLoads 88 = .ok (.aload_n 0, 1) := dk_42 (dk_at dksX0_laysLoads_3 18 rfl rfl)
theorem dX0_laysLoads_89 : decode cX0_laysLoads 89 = .ok (.getfield 56, 3) := dk_180 0 56 (dk_at dksX0_laysLoads_3 19 rfl rfl)
theorem dX0_laysLoads_92 : decode cX0_laysLoads 92 = .ok (.iload_n 2, 1) := dk_28 (dk_at dksX0_laysLoads_3 22 rfl rfl)
theorem dX0_laysLoads_93 : decode cX0_laysLoads 93 = .ok (.dup2, 1) := dk_92 (dk_at dksX0_laysLoads_3 23 rfl rfl)
theorem dX0_laysLoads_94 : decode cX0_laysLoads 94 = .ok (.iaload, 1) := dk_46 (dk_at dksX0_laysLoads_4 0 rfl rfl)
theorem dX0_laysLoads_95 : decode cX0_laysLoads 95 = .ok (.iconst 1, 1) := dk_4 (dk_at dksX0_laysLoads_4 1 rfl rfl)
theorem dX0_laysLoads_96 : decode cX0_laysLoads 96 = .ok (.iadd, 1) := dk_96 (dk_at dksX0_laysLoads_4 2 rfl rfl)
theorem dX0_laysLoads_97 : decode cX0_laysLoads 97 = .ok (.iastore, 1) := dk_79 (dk_at dksX0_laysLoads_4 3 rfl rfl)
theorem dX0_laysLoads_98 : decode cX0_laysLoads 98 = .ok (.goto (-76), 3) := dk_167 255 180 (dk_at dksX0_laysLoads_4 4 rfl rfl)
theorem dX0_laysLoads_101 : decode cX0_laysLoads 101 = .ok (.aload_n 0, 1) := dk_42 (dk_at dksX0_laysLoads_4 7 rfl rfl)
theorem dX0_laysLoads_102 : decode cX0_laysLoads 102 = .ok (.getfield 56, 3) := dk_180 0 56 (dk_at dksX0_laysLoads_4 8 rfl rfl)
theorem dX0_laysLoads_105 : decode cX0_laysLoads 105 = .ok (.iload_n 2, 1) := dk_28 (dk_at dksX0_laysLoads_4 11 rfl rfl)
theorem dX0_laysLoads_106 : decode cX0_laysLoads 106 = .ok (.aload_n 0, 1) := dk_42 (dk_at dksX0_laysLoads_4 12 rfl rfl)
theorem dX0_laysLoads_107 : decode cX0_laysLoads 107 = .ok (.getfield 10, 3) := dk_180 0 10 (dk_at dksX0_laysLoads_4 13 rfl rfl)
theorem dX0_laysLoads_110 : decode cX0_laysLoads 110 = .ok (.getfield 180, 3) := dk_180 0 180 (dk_at dksX0_laysLoads_4 16 rfl rfl)
theorem dX0_laysLoads_113 : decode cX0_laysLoads 113 = .ok (.iload_n 2, 1) := dk_28 (dk_at dksX0_laysLoads_4 19 rfl rfl)
theorem dX0_laysLoads_114 : decode cX0_laysLoads 114 = .ok (.iaload, 1) := dk_46 (dk_at dksX0_laysLoads_4 20 rfl rfl)
theorem dX0_laysLoads_115 : decode cX0_laysLoads 115 = .ok (.iastore, 1) := dk_79 (dk_at dksX0_laysLoads_4 21 rfl rfl)
theorem dX0_laysLoads_116 : decode cX0_laysLoads 116 = .ok (.return_, 1) := dk_177 (dk_at dksX0_laysLoads_4 22 rfl rfl)
abbrev cX0_isSo : ByteArray := prog_1_method_87_code
def yX0_isSo : MethodName := ⟨RX0, "isSo", "(I)Z"⟩
def dkwX0_isSo_2 : List UInt8 := [182, 1, 102, 159, 0, 5, 3, 172, 132, 2, 3, 167, 255, 205, 4, 172]
abbrev dktX0_isSo_2 : List UInt8 := dkwX0_isSo_2 ++ []
def dkwX0_isSo_1 : List UInt8 := [42, 27, 28, 4, 96, 182, 1, 102, 104, 42, 27, 28, 182, 1, 102, 96, 46, 42, 27, 28, 5, 96]
abbrev dktX0_isSo_1 : List UInt8 := dkwX0_isSo_1 ++ dktX0_isSo_2
def dkwX0_isSo_0 : List UInt8 := [42, 182, 0, 253, 3, 61, 28, 42, 180, 0, 110, 27, 50, 182, 1, 68, 162, 0, 44, 42, 180, 0, 92, 6]
abbrev dktX0_isSo_0 : List UInt8 := dkwX0_isSo_0 ++ dktX0_isSo_1
theorem dksX0_isSo_0 : cX0_isSo.data.toList.drop 0 = dktX0_isSo_0 := by decide +kernel
theorem dksX0_isSo_1 : cX0_isSo.data.toList.drop 24 = dktX0_isSo_1 := dk_seg dksX0_isSo_0 24 rfl rfl
theorem dksX0_isSo_2 : cX0_isSo.data.toList.drop 46 = dktX0_isSo_2 := dk_seg dksX0_isSo_1 22 rfl rfl
theorem dX0_isSo_0 : decode cX0_isSo 0 = .ok (.aload_n 0, 1) := dk_42 (dk_at dksX0_isSo_0 0 rfl rfl)
theorem dX0_isSo_1 : decode cX0_isSo 1 = .ok (.invokevirtual 253, 3) := dk_182 0 253 (dk_at dksX0_isSo_0 1 rfl rfl)
theorem dX0_isSo_4 : decode cX0_isSo 4 = .ok (.iconst 0, 1) := dk_3 (dk_at dksX0_isSo_0 4 rfl rfl)
theorem dX0_isSo_5 : decode cX0_isSo 5 = .ok (.istore_n 2, 1) := dk_61 (dk_at dksX0_isSo_0 5 rfl rfl)
theorem dX0_isSo_6 : decode cX0_isSo 6 = .ok (.iload_n 2, 1) := dk_28 (dk_at dksX0_isSo_0 6 rfl rfl)
theorem dX0_isSo_7 : decode cX0_isSo 7 = .ok (.aload_n 0, 1) := dk_42 (dk_at dksX0_isSo_0 7 rfl rfl)
theorem dX0_isSo_8 : decode cX0_isSo 8 = .ok (.getfield 110, 3) := dk_180 0 110 (dk_at dksX0_isSo_0 8 rfl rfl)
theorem dX0_isSo_11 : decode cX0_isSo 11 = .ok (.iload_n 1, 1) := dk_27 (dk_at dksX0_isSo_0 11 rfl rfl)
theorem dX0_isSo_12 : decode cX0_isSo 12 = .ok (.aaload, 1) := dk_50 (dk_at dksX0_isSo_0 12 rfl rfl)
theorem dX0_isSo_13 : decode cX0_isSo 13 = .ok (.invokevirtual 324, 3) := dk_182 1 68 (dk_at dksX0_isSo_0 13 rfl rfl)
theorem dX0_isSo_16 : decode cX0_isSo 16 = .ok (.if_icmp .ge 44, 3) := dk_162 0 44 (dk_at dksX0_isSo_0 16 rfl rfl)
theorem dX0_isSo_19 : decode cX0_isSo 19 = .ok (.aload_n 0, 1) := dk_42 (dk_at dksX0_isSo_0 19 rfl rfl)
theorem dX0_isSo_20 : decode cX0_isSo 20 = .ok (.getfield 92, 3) := dk_180 0 92 (dk_at dksX0_isSo_0 20 rfl rfl)
theorem dX0_isSo_23 : decode cX0_isSo 23 = .ok (.iconst 3, 1) := dk_6 (dk_at dksX0_isSo_0 23 rfl rfl)
theorem dX0_isSo_24 : decode cX0_isSo 24 = .ok (.aload_n 0, 1) := dk_42 (dk_at dksX0_isSo_1 0 rfl rfl)
theorem dX0_isSo_25 : decode cX0_isSo 25 = .ok (.iload_n 1, 1) := dk_27 (dk_at dksX0_isSo_1 1 rfl rfl)
theorem dX0_isSo_26 : decode cX0_isSo 26 = .ok (.iload_n 2, 1) := dk_28 (dk_at dksX0_isSo_1 2 rfl rfl)
theorem dX0_isSo_27 : decode cX0_isSo 27 = .ok (.iconst 1, 1) := dk_4 (dk_at dksX0_isSo_1 3 rfl rfl)
theorem dX0_isSo_28 : decode cX0_isSo 28 = .ok (.iadd, 1) := dk_96 (dk_at dksX0_isSo_1 4 rfl rfl)
theorem dX0_isSo_29 : decode cX0_isSo 29 = .ok (.invokevirtual 358, 3) := dk_182 1 102 (dk_at dksX0_isSo_1 5 rfl rfl)
theorem dX0_isSo_32 : decode cX0_isSo 32 = .ok (.imul, 1) := dk_104 (dk_at dksX0_isSo_1 8 rfl rfl)
theorem dX0_isSo_33 : decode cX0_isSo 33 = .ok (.aload_n 0, 1) := dk_42 (dk_at dksX0_isSo_1 9 rfl rfl)
theorem dX0_isSo_34 : decode cX0_isSo 34 = .ok (.iload_n 1, 1) := dk_27 (dk_at dksX0_isSo_1 10 rfl rfl)
theorem dX0_isSo_35 : decode cX0_isSo 35 = .ok (.iload_n 2, 1) := dk_28 (dk_at dksX0_isSo_1 11 rfl rfl)
theorem dX0_isSo_36 : decode cX0_isSo 36 = .ok (.invokevirtual 358, 3) := dk_182 1 102 (dk_at dksX0_isSo_1 12 rfl rfl)
theorem dX0_isSo_39 : decode cX0_isSo 39 = .ok (.iadd, 1) := dk_96 (dk_at dksX0_isSo_1 15 rfl rfl)
theorem dX0_isSo_40 : decode cX0_isSo 40 = .ok (.iaload, 1) := dk_46 (dk_at dksX0_isSo_1 16 rfl rfl)
theorem dX0_isSo_41 : decode cX0_isSo 41 = .ok (.aload_n 0, 1) := dk_42 (dk_at dksX0_isSo_1 17 rfl rfl)
theorem dX0_isSo_42 : decode cX0_isSo 42 = .ok (.iload_n 1, 1) := dk_27 (dk_at dksX0_isSo_1 18 rfl rfl)
theorem dX0_isSo_43 : decode cX0_isSo 43 = .ok (.iload_n 2, 1) := dk_28 (dk_at dksX0_isSo_1 19 rfl rfl)
theorem dX0_isSo_44 : decode cX0_isSo 44 = .ok (.iconst 2, 1) := dk_5 (dk_at dksX0_isSo_1 20 rfl rfl)
theorem dX0_isSo_45 : decode cX0_isSo 45 = .ok (.iadd, 1) := dk_96 (dk_at dksX0_isSo_1 21 rfl rfl)
theorem dX0_isSo_46 : decode cX0_isSo 46 = .ok (.invokevirtual 358, 3) := dk_182 1 102 (dk_at dksX0_isSo_2 0 rfl rfl)
theorem dX0_isSo_49 : decode cX0_isSo 49 = .ok (.if_icmp .eq 5, 3) := dk_159 0 5 (dk_at dksX0_isSo_2 3 rfl rfl)
theorem dX0_isSo_52 : decode cX0_isSo 52 = .ok (.iconst 0, 1) := dk_3 (dk_at dksX0_isSo_2 6 rfl rfl)
theorem dX0_isSo_53 : decode cX0_isSo 53 = .ok (.ireturn, 1) := dk_172 (dk_at dksX0_isSo_2 7 rfl rfl)
theorem dX0_isSo_54 : decode cX0_isSo 54 = .ok (.iinc 2 3, 3) := dk_132 2 3 (dk_at dksX0_isSo_2 8 rfl rfl)
theorem dX0_isSo_57 : decode cX0_isSo 57 = .ok (.goto (-51), 3) := dk_167 255 205 (dk_at dksX0_isSo_2 11 rfl rfl)
theorem dX0_isSo_60 : decode cX0_isSo 60 = .ok (.iconst 1, 1) := dk_4 (dk_at dksX0_isSo_2 14 rfl rfl)
theorem dX0_isSo_61 : decode cX0_isSo 61 = .ok (.ireturn, 1) := dk_172 (dk_at dksX0_isSo_2 15 rfl rfl)
abbrev cX0_number : ByteArray := prog_1_method_85_code
def yX0_number : MethodName := ⟨RX0, "number", "(II)I"⟩
def dkwX0_number_0 : List UInt8 := [42, 180, 0, 110, 27, 50, 28, 182, 1, 71, 136, 172]
abbrev dktX0_number_0 : List UInt8 := dkwX0_number_0 ++ []
theorem dksX0_number_0 : cX0_number.data.toList.drop 0 = dktX0_number_0 := by decide +kernel
theorem dX0_number_0 : decode cX0_number 0 = .ok (.aload_n 0, 1) := dk_42 (dk_at dksX0_number_0 0 rfl rfl)
theorem dX0_number_1 : decode cX0_number 1 = .ok (.getfield 110, 3) := dk_180 0 110 (dk_at dksX0_number_0 1 rfl rfl)
theorem dX0_number_4 : decode cX0_number 4 = .ok (.iload_n 1, 1) := dk_27 (dk_at dksX0_number_0 4 rfl rfl)
theorem dX0_number_5 : decode cX0_number 5 = .ok (.aaload, 1) := dk_50 (dk_at dksX0_number_0 5 rfl rfl)
theorem dX0_number_6 : decode cX0_number 6 = .ok (.iload_n 2, 1) := dk_28 (dk_at dksX0_number_0 6 rfl rfl)
theorem dX0_number_7 : decode cX0_number 7 = .ok (.invokevirtual 327, 3) := dk_182 1 71 (dk_at dksX0_number_0 7 rfl rfl)
theorem dX0_number_10 : decode cX0_number 10 = .ok (.l2i, 1) := dk_136 (dk_at dksX0_number_0 10 rfl rfl)
theorem dX0_number_11 : decode cX0_number 11 = .ok (.ireturn, 1) := dk_172 (dk_at dksX0_number_0 11 rfl rfl)
abbrev cX0_light : ByteArray := prog_1_method_91_code
def yX0_light : MethodName := ⟨RX0, "light", "(II)I"⟩
def dkwX0_light_0 : List UInt8 := [42, 27, 28, 182, 1, 123, 62, 29, 156, 0, 7, 29, 167, 0, 7, 42, 180, 1, 108, 172]
abbrev dktX0_light_0 : List UInt8 := dkwX0_light_0 ++ []
theorem dksX0_light_0 : cX0_light.data.toList.drop 0 = dktX0_light_0 := by decide +kernel
theorem dX0_light_0 : decode cX0_light 0 = .ok (.aload_n 0, 1) := dk_42 (dk_at dksX0_light_0 0 rfl rfl)
theorem dX0_light_1 : decode cX0_light 1 = .ok (.iload_n 1, 1) := dk_27 (dk_at dksX0_light_0 1 rfl rfl)
theorem dX0_light_2 : decode cX0_light 2 = .ok (.iload_n 2, 1) := dk_28 (dk_at dksX0_light_0 2 rfl rfl)
theorem dX0_light_3 : decode cX0_light 3 = .ok (.invokevirtual 379, 3) := dk_182 1 123 (dk_at dksX0_light_0 3 rfl rfl)
theorem dX0_light_6 : decode cX0_light 6 = .ok (.istore_n 3, 1) := dk_62 (dk_at dksX0_light_0 6 rfl rfl)
theorem dX0_light_7 : decode cX0_light 7 = .ok (.iload_n 3, 1) := dk_29 (dk_at dksX0_light_0 7 rfl rfl)
theorem dX0_light_8 : decode cX0_light 8 = .ok (.ifCond .ge 7, 3) := dk_156 0 7 (dk_at dksX0_light_0 8 rfl rfl)
theorem dX0_light_11 : decode cX0_light 11 = .ok (.iload_n 3, 1) := dk_29 (dk_at dksX0_light_0 11 rfl rfl)
theorem dX0_light_12 : decode cX0_light 12 = .ok (.goto 7, 3) := dk_167 0 7 (dk_at dksX0_light_0 12 rfl rfl)
theorem dX0_light_15 : decode cX0_light 15 = .ok (.aload_n 0, 1) := dk_42 (dk_at dksX0_light_0 15 rfl rfl)
theorem dX0_light_16 : decode cX0_light 16 = .ok (.getfield 364, 3) := dk_180 1 108 (dk_at dksX0_light_0 16 rfl rfl)
theorem dX0_light_19 : decode cX0_light 19 = .ok (.ireturn, 1) := dk_172 (dk_at dksX0_light_0 19 rfl rfl)
abbrev cX0_heavy : ByteArray := prog_1_method_92_code
def yX0_heavy : MethodName := ⟨RX0, "heavy", "(II)I"⟩
def dkwX0_heavy_0 : List UInt8 := [42, 27, 28, 182, 1, 123, 62, 29, 156, 0, 7, 29, 167, 0, 7, 42, 180, 1, 111, 172]
abbrev dktX0_heavy_0 : List UInt8 := dkwX0_heavy_0 ++ []
theorem dksX0_heavy_0 : cX0_heavy.data.toList.drop 0 = dktX0_heavy_0 := by decide +kernel
theorem dX0_heavy_0 : decode cX0_heavy 0 = .ok (.aload_n 0, 1) := dk_42 (dk_at dksX0_heavy_0 0 rfl rfl)
theorem dX0_heavy_1 : decode cX0_heavy 1 = .ok (.iload_n 1, 1) := dk_27 (dk_at dksX0_heavy_0 1 rfl rfl)
theorem dX0_heavy_2 : decode cX0_heavy 2 = .ok (.iload_n 2, 1) := dk_28 (dk_at dksX0_heavy_0 2 rfl rfl)
theorem dX0_heavy_3 : decode cX0_heavy 3 = .ok (.invokevirtual 379, 3) := dk_182 1 123 (dk_at dksX0_heavy_0 3 rfl rfl)
theorem dX0_heavy_6 : decode cX0_heavy 6 = .ok (.istore_n 3, 1) := dk_62 (dk_at dksX0_heavy_0 6 rfl rfl)
theorem dX0_heavy_7 : decode cX0_heavy 7 = .ok (.iload_n 3, 1) := dk_29 (dk_at dksX0_heavy_0 7 rfl rfl)
theorem dX0_heavy_8 : decode cX0_heavy 8 = .ok (.ifCond .ge 7, 3) := dk_156 0 7 (dk_at dksX0_heavy_0 8 rfl rfl)
theorem dX0_heavy_11 : decode cX0_heavy 11 = .ok (.iload_n 3, 1) := dk_29 (dk_at dksX0_heavy_0 11 rfl rfl)
theorem dX0_heavy_12 : decode cX0_heavy 12 = .ok (.goto 7, 3) := dk_167 0 7 (dk_at dksX0_heavy_0 12 rfl rfl)
theorem dX0_heavy_15 : decode cX0_heavy 15 = .ok (.aload_n 0, 1) := dk_42 (dk_at dksX0_heavy_0 15 rfl rfl)
theorem dX0_heavy_16 : decode cX0_heavy 16 = .ok (.getfield 367, 3) := dk_180 1 111 (dk_at dksX0_heavy_0 16 rfl rfl)
theorem dX0_heavy_19 : decode cX0_heavy 19 = .ok (.ireturn, 1) := dk_172 (dk_at dksX0_heavy_0 19 rfl rfl)
abbrev cX0_liars : ByteArray := prog_1_method_93_code
def yX0_liars : MethodName := ⟨RX0, "liars", "(I)I"⟩
def dkwX0_liars_2 : List UInt8 := [180, 1, 105, 158, 0, 10, 4, 21, 4, 120, 167, 0, 4, 3, 128, 62, 132, 4, 1, 167, 255, 216, 29, 172]
abbrev dktX0_liars_2 : List UInt8 := dkwX0_liars_2 ++ []
def dkwX0_liars_1 : List UInt8 := [3, 54, 4, 21, 4, 42, 180, 0, 10, 180, 0, 156, 162, 0, 34, 42, 27, 21, 4, 182, 1, 120, 29, 42]
abbrev dktX0_liars_1 : List UInt8 := dkwX0_liars_1 ++ dktX0_liars_2
def dkwX0_liars_0 : List UInt8 := [42, 27, 182, 1, 117, 61, 28, 156, 0, 5, 28, 172, 42, 27, 182, 1, 114, 153, 0, 5, 3, 172, 3, 62]
abbrev dktX0_liars_0 : List UInt8 := dkwX0_liars_0 ++ dktX0_liars_1
theorem dksX0_liars_0 : cX0_liars.data.toList.drop 0 = dktX0_liars_0 := by decide +kernel
theorem dksX0_liars_1 : cX0_liars.data.toList.drop 24 = dktX0_liars_1 := dk_seg dksX0_liars_0 24 rfl rfl
theorem dksX0_liars_2 : cX0_liars.data.toList.drop 48 = dktX0_liars_2 := dk_seg dksX0_liars_1 24 rfl rfl
theorem dX0_liars_0 : decode cX0_liars 0 = .ok (.aload_n 0, 1) := dk_42 (dk_at dksX0_liars_0 0 rfl rfl)
theorem dX0_liars_1 : decode cX0_liars 1 = .ok (.iload_n 1, 1) := dk_27 (dk_at dksX0_liars_0 1 rfl rfl)
theorem dX0_liars_2 : decode cX0_liars 2 = .ok (.invokevirtual 373, 3) := dk_182 1 117 (dk_at dksX0_liars_0 2 rfl rfl)
theorem dX0_liars_5 : decode cX0_liars 5 = .ok (.istore_n 2, 1) := dk_61 (dk_at dksX0_liars_0 5 rfl rfl)
theorem dX0_liars_6 : decode cX0_liars 6 = .ok (.iload_n 2, 1) := dk_28 (dk_at dksX0_liars_0 6 rfl rfl)
theorem dX0_liars_7 : decode cX0_liars 7 = .ok (.ifCond .ge 5, 3) := dk_156 0 5 (dk_at dksX0_liars_0 7 rfl rfl)
theorem dX0_liars_10 : decode cX0_liars 10 = .ok (.iload_n 2, 1) := dk_28 (dk_at dksX0_liars_0 10 rfl rfl)
theorem dX0_liars_11 : decode cX0_liars 11 = .ok (.ireturn, 1) := dk_172 (dk_at dksX0_liars_0 11 rfl rfl)
theorem dX0_liars_12 : decode cX0_liars 12 = .ok (.aload_n 0, 1) := dk_42 (dk_at dksX0_liars_0 12 rfl rfl)
theorem dX0_liars_13 : decode cX0_liars 13 = .ok (.iload_n 1, 1) := dk_27 (dk_at dksX0_liars_0 13 rfl rfl)
theorem dX0_liars_14 : decode cX0_liars 14 = .ok (.invokevirtual 370, 3) := dk_182 1 114 (dk_at dksX0_liars_0 14 rfl rfl)
theorem dX0_liars_17 : decode cX0_liars 17 = .ok (.ifCond .eq 5, 3) := dk_153 0 5 (dk_at dksX0_liars_0 17 rfl rfl)
theorem dX0_liars_20 : decode cX0_liars 20 = .ok (.iconst 0, 1) := dk_3 (dk_at dksX0_liars_0 20 rfl rfl)
theorem dX0_liars_21 : decode cX0_liars 21 = .ok (.ireturn, 1) := dk_172 (dk_at dksX0_liars_0 21 rfl rfl)
theorem dX0_liars_22 : decode cX0_liars 22 = .ok (.iconst 0, 1) := dk_3 (dk_at dksX0_liars_0 22 rfl rfl)
theorem dX0_liars_23 : decode cX0_liars 23 = .ok (.istore_n 3, 1) := dk_62 (dk_at dksX0_liars_0 23 rfl rfl)
theorem dX0_liars_24 : decode cX0_liars 24 = .ok (.iconst 0, 1) := dk_3 (dk_at dksX0_liars_1 0 rfl rfl)
theorem dX0_liars_25 : decode cX0_liars 25 = .ok (.istore 4, 2) := dk_54 4 (dk_at dksX0_liars_1 1 rfl rfl)
theorem dX0_liars_27 : decode cX0_liars 27 = .ok (.iload 4, 2) := dk_21 4 (dk_at dksX0_liars_1 3 rfl rfl)
theorem dX0_liars_29 : decode cX0_liars 29 = .ok (.aload_n 0, 1) := dk_42 (dk_at dksX0_liars_1 5 rfl rfl)
theorem dX0_liars_30 : decode cX0_liars 30 = .ok (.getfield 10, 3) := dk_180 0 10 (dk_at dksX0_liars_1 6 rfl rfl)
theorem dX0_liars_33 : decode cX0_liars 33 = .ok (.getfield 156, 3) := dk_180 0 156 (dk_at dksX0_liars_1 9 rfl rfl)
theorem dX0_liars_36 : decode cX0_liars 36 = .ok (.if_icmp .ge 34, 3) := dk_162 0 34 (dk_at dksX0_liars_1 12 rfl rfl)
theorem dX0_liars_39 : decode cX0_liars 39 = .ok (.aload_n 0, 1) := dk_42 (dk_at dksX0_liars_1 15 rfl rfl)
theorem dX0_liars_40 : decode cX0_liars 40 = .ok (.iload_n 1, 1) := dk_27 (dk_at dksX0_liars_1 16 rfl rfl)
theorem dX0_liars_41 : decode cX0_liars 41 = .ok (.iload 4, 2) := dk_21 4 (dk_at dksX0_liars_1 17 rfl rfl)
theorem dX0_liars_43 : decode cX0_liars 43 = .ok (.invokevirtual 376, 3) := dk_182 1 120 (dk_at dksX0_liars_1 19 rfl rfl)
theorem dX0_liars_46 : decode cX0_liars 46 = .ok (.iload_n 3, 1) := dk_29 (dk_at dksX0_liars_1 22 rfl rfl)
theorem dX0_liars_47 : decode cX0_liars 47 = .ok (.aload_n 0, 1) := dk_42 (dk_at dksX0_liars_1 23 rfl rfl)
theorem dX0_liars_48 : decode cX0_liars 48 = .ok (.getfield 361, 3) := dk_180 1 105 (dk_at dksX0_liars_2 0 rfl rfl)
theorem dX0_liars_51 : decode cX0_liars 51 = .ok (.ifCond .le 10, 3) := dk_158 0 10 (dk_at dksX0_liars_2 3 rfl rfl)
theorem dX0_liars_54 : decode cX0_liars 54 = .ok (.iconst 1, 1) := dk_4 (dk_at dksX0_liars_2 6 rfl rfl)
theorem dX0_liars_55 : decode cX0_liars 55 = .ok (.iload 4, 2) := dk_21 4 (dk_at dksX0_liars_2 7 rfl rfl)
theorem dX0_liars_57 : decode cX0_liars 57 = .ok (.ishl, 1) := dk_120 (dk_at dksX0_liars_2 9 rfl rfl)
theorem dX0_liars_58 : decode cX0_liars 58 = .ok (.goto 4, 3) := dk_167 0 4 (dk_at dksX0_liars_2 10 rfl rfl)
theorem dX0_liars_61 : decode cX0_liars 61 = .ok (.iconst 0, 1) := dk_3 (dk_at dksX0_liars_2 13 rfl rfl)
theorem dX0_liars_62 : decode cX0_liars 62 = .ok (.ior, 1) := dk_128 (dk_at dksX0_liars_2 14 rfl rfl)
theorem dX0_liars_63 : decode cX0_liars 63 = .ok (.istore_n 3, 1) := dk_62 (dk_at dksX0_liars_2 15 rfl rfl)
theorem dX0_liars_64 : decode cX0_liars 64 = .ok (.iinc 4 1, 3) := dk_132 4 1 (dk_at dksX0_liars_2 16 rfl rfl)
theorem dX0_liars_67 : decode cX0_liars 67 = .ok (.goto (-40), 3) := dk_167 255 216 (dk_at dksX0_liars_2 19 rfl rfl)
theorem dX0_liars_70 : decode cX0_liars 70 = .ok (.iload_n 3, 1) := dk_29 (dk_at dksX0_liars_2 22 rfl rfl)
theorem dX0_liars_71 : decode cX0_liars 71 = .ok (.ireturn, 1) := dk_172 (dk_at dksX0_liars_2 23 rfl rfl)
abbrev cX0_laws : ByteArray := prog_1_method_94_code
def yX0_laws : MethodName := ⟨RX0, "laws", "(I)I"⟩
def dkwX0_laws_2 : List UInt8 := [167, 0, 4, 3, 128, 62, 132, 4, 1, 167, 255, 217, 29, 172]
abbrev dktX0_laws_2 : List UInt8 := dkwX0_laws_2 ++ []
def dkwX0_laws_1 : List UInt8 := [42, 180, 0, 48, 21, 4, 50, 181, 0, 52, 29, 42, 27, 182, 1, 114, 153, 0, 10, 4, 21, 4, 120]
abbrev dktX0_laws_1 : List UInt8 := dkwX0_laws_1 ++ dktX0_laws_2
def dkwX0_laws_0 : List UInt8 := [42, 27, 182, 1, 117, 61, 28, 156, 0, 5, 28, 172, 3, 62, 3, 54, 4, 21, 4, 7, 162, 0, 39, 42]
abbrev dktX0_laws_0 : List UInt8 := dkwX0_laws_0 ++ dktX0_laws_1
theorem dksX0_laws_0 : cX0_laws.data.toList.drop 0 = dktX0_laws_0 := by decide +kernel
theorem dksX0_laws_1 : cX0_laws.data.toList.drop 24 = dktX0_laws_1 := dk_seg dksX0_laws_0 24 rfl rfl
theorem dksX0_laws_2 : cX0_laws.data.toList.drop 47 = dktX0_laws_2 := dk_seg dksX0_laws_1 23 rfl rfl
theorem dX0_laws_0 : decode cX0_laws 0 = .ok (.aload_n 0, 1) := dk_42 (dk_at dksX0_laws_0 0 rfl rfl)
theorem dX0_laws_1 : decode cX0_laws 1 = .ok (.iload_n 1, 1) := dk_27 (dk_at dksX0_laws_0 1 rfl rfl)
theorem dX0_laws_2 : decode cX0_laws 2 = .ok (.invokevirtual 373, 3) := dk_182 1 117 (dk_at dksX0_laws_0 2 rfl rfl)
theorem dX0_laws_5 : decode cX0_laws 5 = .ok (.istore_n 2, 1) := dk_61 (dk_at dksX0_laws_0 5 rfl rfl)
theorem dX0_laws_6 : decode cX0_laws 6 = .ok (.iload_n 2, 1) := dk_28 (dk_at dksX0_laws_0 6 rfl rfl)
theorem dX0_laws_7 : decode cX0_laws 7 = .ok (.ifCond .ge 5, 3) := dk_156 0 5 (dk_at dksX0_laws_0 7 rfl rfl)
theorem dX0_laws_10 : decode cX0_laws 10 = .ok (.iload_n 2, 1) := dk_28 (dk_at dksX0_laws_0 10 rfl rfl)
theorem dX0_laws_11 : decode cX0_laws 11 = .ok (.ireturn, 1) := dk_172 (dk_at dksX0_laws_0 11 rfl rfl)
theorem dX0_laws_12 : decode cX0_laws 12 = .ok (.iconst 0, 1) := dk_3 (dk_at dksX0_laws_0 12 rfl rfl)
theorem dX0_laws_13 : decode cX0_laws 13 = .ok (.istore_n 3, 1) := dk_62 (dk_at dksX0_laws_0 13 rfl rfl)
theorem dX0_laws_14 : decode cX0_laws 14 = .ok (.iconst 0, 1) := dk_3 (dk_at dksX0_laws_0 14 rfl rfl)
theorem dX0_laws_15 : decode cX0_laws 15 = .ok (.istore 4, 2) := dk_54 4 (dk_at dksX0_laws_0 15 rfl rfl)
theorem dX0_laws_17 : decode cX0_laws 17 = .ok (.iload 4, 2) := dk_21 4 (dk_at dksX0_laws_0 17 rfl rfl)
theorem dX0_laws_19 : decode cX0_laws 19 = .ok (.iconst 4, 1) := dk_7 (dk_at dksX0_laws_0 19 rfl rfl)
theorem dX0_laws_20 : decode cX0_laws 20 = .ok (.if_icmp .ge 39, 3) := dk_162 0 39 (dk_at dksX0_laws_0 20 rfl rfl)
theorem dX0_laws_23 : decode cX0_laws 23 = .ok (.aload_n 0, 1) := dk_42 (dk_at dksX0_laws_0 23 rfl rfl)
theorem dX0_laws_24 : decode cX0_laws 24 = .ok (.aload_n 0, 1) := dk_42 (dk_at dksX0_laws_1 0 rfl rfl)
theorem dX0_laws_25 : decode cX0_laws 25 = .ok (.getfield 48, 3) := dk_180 0 48 (dk_at dksX0_laws_1 1 rfl rfl)
theorem dX0_laws_28 : decode cX0_laws 28 = .ok (.iload 4, 2) := dk_21 4 (dk_at dksX0_laws_1 4 rfl rfl)
theorem dX0_laws_30 : decode cX0_laws 30 = .ok (.aaload, 1) := dk_50 (dk_at dksX0_laws_1 6 rfl rfl)
theorem dX0_laws_31 : decode cX0_laws 31 = .ok (.putfield 52, 3) := dk_181 0 52 (dk_at dksX0_laws_1 7 rfl rfl)
theorem dX0_laws_34 : decode cX0_laws 34 = .ok (.iload_n 3, 1) := dk_29 (dk_at dksX0_laws_1 10 rfl rfl)
theorem dX0_laws_35 : decode cX0_laws 35 = .ok (.aload_n 0, 1) := dk_42 (dk_at dksX0_laws_1 11 rfl rfl)
theorem dX0_laws_36 : decode cX0_laws 36 = .ok (.iload_n 1, 1) := dk_27 (dk_at dksX0_laws_1 12 rfl rfl)
theorem dX0_laws_37 : decode cX0_laws 37 = .ok (.invokevirtual 370, 3) := dk_182 1 114 (dk_at dksX0_laws_1 13 rfl rfl)
theorem dX0_laws_40 : decode cX0_laws 40 = .ok (.ifCond .eq 10, 3) := dk_153 0 10 (dk_at dksX0_laws_1 16 rfl rfl)
theorem dX0_laws_43 : decode cX0_laws 43 = .ok (.iconst 1, 1) := dk_4 (dk_at dksX0_laws_1 19 rfl rfl)
theorem dX0_laws_44 : decode cX0_laws 44 = .ok (.iload 4, 2) := dk_21 4 (dk_at dksX0_laws_1 20 rfl rfl)
theorem dX0_laws_46 : decode cX0_laws 46 = .ok (.ishl, 1) := dk_120 (dk_at dksX0_laws_1 22 rfl rfl)
theorem dX0_laws_47 : decode cX0_laws 47 = .ok (.goto 4, 3) := dk_167 0 4 (dk_at dksX0_laws_2 0 rfl rfl)
theorem dX0_laws_50 : decode cX0_laws 50 = .ok (.iconst 0, 1) := dk_3 (dk_at dksX0_laws_2 3 rfl rfl)
theorem dX0_laws_51 : decode cX0_laws 51 = .ok (.ior, 1) := dk_128 (dk_at dksX0_laws_2 4 rfl rfl)
theorem dX0_laws_52 : decode cX0_laws 52 = .ok (.istore_n 3, 1) := dk_62 (dk_at dksX0_laws_2 5 rfl rfl)
theorem dX0_laws_53 : decode cX0_laws 53 = .ok (.iinc 4 1, 3) := dk_132 4 1 (dk_at dksX0_laws_2 6 rfl rfl)
theorem dX0_laws_56 : decode cX0_laws 56 = .ok (.goto (-39), 3) := dk_167 255 217 (dk_at dksX0_laws_2 9 rfl rfl)
theorem dX0_laws_59 : decode cX0_laws 59 = .ok (.iload_n 3, 1) := dk_29 (dk_at dksX0_laws_2 12 rfl rfl)
theorem dX0_laws_60 : decode cX0_laws 60 = .ok (.ireturn, 1) := dk_172 (dk_at dksX0_laws_2 13 rfl rfl)
abbrev cX0_by : ByteArray := prog_1_method_96_code
def yX0_by : MethodName := ⟨RX0, "by", "(I)I"⟩
def dkwX0_by_1 : List UInt8 := [172]
abbrev dktX0_by_1 : List UInt8 := dkwX0_by_1 ++ []
def dkwX0_by_0 : List UInt8 := [27, 184, 1, 126, 153, 0, 18, 42, 182, 1, 4, 153, 0, 11, 42, 27, 182, 1, 129, 167, 0, 5, 16, 254]
abbrev dktX0_by_0 : List UInt8 := dkwX0_by_0 ++ dktX0_by_1
theorem dksX0_by_0 : cX0_by.data.toList.drop 0 = dktX0_by_0 := by decide +kernel
theorem dksX0_by_1 : cX0_by.data.toList.drop 24 = dktX0_by_1 := dk_seg dksX0_by_0 24 rfl rfl
theorem dX0_by_0 : decode cX0_by 0 = .ok (.iload_n 1, 1) := dk_27 (dk_at dksX0_by_0 0 rfl rfl)
theorem dX0_by_1 : decode cX0_by 1 = .ok (.invokestatic 382, 3) := dk_184 1 126 (dk_at dksX0_by_0 1 rfl rfl)
theorem dX0_by_4 : decode cX0_by 4 = .ok (.ifCond .eq 18, 3) := dk_153 0 18 (dk_at dksX0_by_0 4 rfl rfl)
theorem dX0_by_7 : decode cX0_by 7 = .ok (.aload_n 0, 1) := dk_42 (dk_at dksX0_by_0 7 rfl rfl)
theorem dX0_by_8 : decode cX0_by 8 = .ok (.invokevirtual 260, 3) := dk_182 1 4 (dk_at dksX0_by_0 8 rfl rfl)
theorem dX0_by_11 : decode cX0_by 11 = .ok (.ifCond .eq 11, 3) := dk_153 0 11 (dk_at dksX0_by_0 11 rfl rfl)
theorem dX0_by_14 : decode cX0_by 14 = .ok (.aload_n 0, 1) := dk_42 (dk_at dksX0_by_0 14 rfl rfl)
theorem dX0_by_15 : decode cX0_by 15 = .ok (.iload_n 1, 1) := dk_27 (dk_at dksX0_by_0 15 rfl rfl)
theorem dX0_by_16 : decode cX0_by 16 = .ok (.invokevirtual 385, 3) := dk_182 1 129 (dk_at dksX0_by_0 16 rfl rfl)
theorem dX0_by_19 : decode cX0_by 19 = .ok (.goto 5, 3) := dk_167 0 5 (dk_at dksX0_by_0 19 rfl rfl)
theorem dX0_by_22 : decode cX0_by 22 = .ok (.bipush (-2), 2) := dk_16 254 (dk_at dksX0_by_0 22 rfl rfl)
theorem dX0_by_24 : decode cX0_by 24 = .ok (.ireturn, 1) := dk_172 (dk_at dksX0_by_1 0 rfl rfl)
abbrev cX0_isLaw : ByteArray := prog_1_method_13_code
def yX0_isLaw : MethodName := ⟨RX0, "isLaw", "(I)Z"⟩
def dkwX0_isLaw_0 : List UInt8 := [26, 133, 9, 20, 0, 163, 184, 0, 128, 172]
abbrev dktX0_isLaw_0 : List UInt8 := dkwX0_isLaw_0 ++ []
theorem dksX0_isLaw_0 : cX0_isLaw.data.toList.drop 0 = dktX0_isLaw_0 := by decide +kernel
theorem dX0_isLaw_0 : decode cX0_isLaw 0 = .ok (.iload_n 0, 1) := dk_26 (dk_at dksX0_isLaw_0 0 rfl rfl)
theorem dX0_isLaw_1 : decode cX0_isLaw 1 = .ok (.i2l, 1) := dk_133 (dk_at dksX0_isLaw_0 1 rfl rfl)
theorem dX0_isLaw_2 : decode cX0_isLaw 2 = .ok (.lconst 0, 1) := dk_9 (dk_at dksX0_isLaw_0 2 rfl rfl)
theorem dX0_isLaw_3 : decode cX0_isLaw 3 = .ok (.ldc2_w 163, 3) := dk_20 0 163 (dk_at dksX0_isLaw_0 3 rfl rfl)
theorem dX0_isLaw_6 : decode cX0_isLaw 6 = .ok (.invokestatic 128, 3) := dk_184 0 128 (dk_at dksX0_isLaw_0 6 rfl rfl)
theorem dX0_isLaw_9 : decode cX0_isLaw 9 = .ok (.ireturn, 1) := dk_172 (dk_at dksX0_isLaw_0 9 rfl rfl)
abbrev cX0_sagBy : ByteArray := prog_1_method_95_code
def yX0_sagBy : MethodName := ⟨RX0, "sagBy", "(I)I"⟩
def dkwX0_sagBy_0 : List UInt8 := [42, 42, 180, 0, 48, 27, 50, 181, 0, 52, 42, 182, 1, 38, 172]
abbrev dktX0_sagBy_0 : List UInt8 := dkwX0_sagBy_0 ++ []
theorem dksX0_sagBy_0 : cX0_sagBy.data.toList.drop 0 = dktX0_sagBy_0 := by decide +kernel
theorem dX0_sagBy_0 : decode cX0_sagBy 0 = .ok (.aload_n 0, 1) := dk_42 (dk_at dksX0_sagBy_0 0 rfl rfl)
theorem dX0_sagBy_1 : decode cX0_sagBy 1 = .ok (.aload_n 0, 1) := dk_42 (dk_at dksX0_sagBy_0 1 rfl rfl)
theorem dX0_sagBy_2 : decode cX0_sagBy 2 = .ok (.getfield 48, 3) := dk_180 0 48 (dk_at dksX0_sagBy_0 2 rfl rfl)
theorem dX0_sagBy_5 : decode cX0_sagBy 5 = .ok (.iload_n 1, 1) := dk_27 (dk_at dksX0_sagBy_0 5 rfl rfl)
theorem dX0_sagBy_6 : decode cX0_sagBy 6 = .ok (.aaload, 1) := dk_50 (dk_at dksX0_sagBy_0 6 rfl rfl)
theorem dX0_sagBy_7 : decode cX0_sagBy 7 = .ok (.putfield 52, 3) := dk_181 0 52 (dk_at dksX0_sagBy_0 7 rfl rfl)
theorem dX0_sagBy_10 : decode cX0_sagBy 10 = .ok (.aload_n 0, 1) := dk_42 (dk_at dksX0_sagBy_0 10 rfl rfl)
theorem dX0_sagBy_11 : decode cX0_sagBy 11 = .ok (.invokevirtual 294, 3) := dk_182 1 38 (dk_at dksX0_sagBy_0 11 rfl rfl)
theorem dX0_sagBy_14 : decode cX0_sagBy 14 = .ok (.ireturn, 1) := dk_172 (dk_at dksX0_sagBy_0 14 rfl rfl)
abbrev cX0_law : ByteArray := prog_1_method_97_code
def yX0_law : MethodName := ⟨RX0, "law", "()I"⟩
def dkwX0_law_1 : List UInt8 := [42, 27, 182, 1, 129, 162, 0, 7, 28, 167, 0, 4, 27, 60, 132, 2, 1, 167, 255, 229, 27, 172]
abbrev dktX0_law_1 : List UInt8 := dkwX0_law_1 ++ []
def dkwX0_law_0 : List UInt8 := [42, 182, 1, 4, 154, 0, 6, 16, 254, 172, 3, 60, 4, 61, 28, 7, 162, 0, 28, 42, 28, 182, 1, 129]
abbrev dktX0_law_0 : List UInt8 := dkwX0_law_0 ++ dktX0_law_1
theorem dksX0_law_0 : cX0_law.data.toList.drop 0 = dktX0_law_0 := by decide +kernel
theorem dksX0_law_1 : cX0_law.data.toList.drop 24 = dktX0_law_1 := dk_seg dksX0_law_0 24 rfl rfl
theorem dX0_law_0 : decode cX0_law 0 = .ok (.aload_n 0, 1) := dk_42 (dk_at dksX0_law_0 0 rfl rfl)
theorem dX0_law_1 : decode cX0_law 1 = .ok (.invokevirtual 260, 3) := dk_182 1 4 (dk_at dksX0_law_0 1 rfl rfl)
theorem dX0_law_4 : decode cX0_law 4 = .ok (.ifCond .ne 6, 3) := dk_154 0 6 (dk_at dksX0_law_0 4 rfl rfl)
theorem dX0_law_7 : decode cX0_law 7 = .ok (.bipush (-2), 2) := dk_16 254 (dk_at dksX0_law_0 7 rfl rfl)
theorem dX0_law_9 : decode cX0_law 9 = .ok (.ireturn, 1) := dk_172 (dk_at dksX0_law_0 9 rfl rfl)
theorem dX0_law_10 : decode cX0_law 10 = .ok (.iconst 0, 1) := dk_3 (dk_at dksX0_law_0 10 rfl rfl)
theorem dX0_law_11 : decode cX0_law 11 = .ok (.istore_n 1, 1) := dk_60 (dk_at dksX0_law_0 11 rfl rfl)
theorem dX0_law_12 : decode cX0_law 12 = .ok (.iconst 1, 1) := dk_4 (dk_at dksX0_law_0 12 rfl rfl)
theorem dX0_law_13 : decode cX0_law 13 = .ok (.istore_n 2, 1) := dk_61 (dk_at dksX0_law_0 13 rfl rfl)
theorem dX0_law_14 : decode cX0_law 14 = .ok (.iload_n 2, 1) := dk_28 (dk_at dksX0_law_0 14 rfl rfl)
theorem dX0_law_15 : decode cX0_law 15 = .ok (.iconst 4, 1) := dk_7 (dk_at dksX0_law_0 15 rfl rfl)
theorem dX0_law_16 : decode cX0_law 16 = .ok (.if_icmp .ge 28, 3) := dk_162 0 28 (dk_at dksX0_law_0 16 rfl rfl)
theorem dX0_law_19 : decode cX0_law 19 = .ok (.aload_n 0, 1) := dk_42 (dk_at dksX0_law_0 19 rfl rfl)
theorem dX0_law_20 : decode cX0_law 20 = .ok (.iload_n 2, 1) := dk_28 (dk_at dksX0_law_0 20 rfl rfl)
theorem dX0_law_21 : decode cX0_law 21 = .ok (.invokevirtual 385, 3) := dk_182 1 129 (dk_at dksX0_law_0 21 rfl rfl)
theorem dX0_law_24 : decode cX0_law 24 = .ok (.aload_n 0, 1) := dk_42 (dk_at dksX0_law_1 0 rfl rfl)
theorem dX0_law_25 : decode cX0_law 25 = .ok (.iload_n 1, 1) := dk_27 (dk_at dksX0_law_1 1 rfl rfl)
theorem dX0_law_26 : decode cX0_law 26 = .ok (.invokevirtual 385, 3) := dk_182 1 129 (dk_at dksX0_law_1 2 rfl rfl)
theorem dX0_law_29 : decode cX0_law 29 = .ok (.if_icmp .ge 7, 3) := dk_162 0 7 (dk_at dksX0_law_1 5 rfl rfl)
theorem dX0_law_32 : decode cX0_law 32 = .ok (.iload_n 2, 1) := dk_28 (dk_at dksX0_law_1 8 rfl rfl)
theorem dX0_law_33 : decode cX0_law 33 = .ok (.goto 4, 3) := dk_167 0 4 (dk_at dksX0_law_1 9 rfl rfl)
theorem dX0_law_36 : decode cX0_law 36 = .ok (.iload_n 1, 1) := dk_27 (dk_at dksX0_law_1 12 rfl rfl)
theorem dX0_law_37 : decode cX0_law 37 = .ok (.istore_n 1, 1) := dk_60 (dk_at dksX0_law_1 13 rfl rfl)
theorem dX0_law_38 : decode cX0_law 38 = .ok (.iinc 2 1, 3) := dk_132 2 1 (dk_at dksX0_law_1 14 rfl rfl)
theorem dX0_law_41 : decode cX0_law 41 = .ok (.goto (-27), 3) := dk_167 255 229 (dk_at dksX0_law_1 17 rfl rfl)
theorem dX0_law_44 : decode cX0_law 44 = .ok (.iload_n 1, 1) := dk_27 (dk_at dksX0_law_1 20 rfl rfl)
theorem dX0_law_45 : decode cX0_law 45 = .ok (.ireturn, 1) := dk_172 (dk_at dksX0_law_1 21 rfl rfl)
abbrev cX0_share : ByteArray := prog_1_method_101_code
def yX0_share : MethodName := ⟨RX0, "share", "(II)I"⟩
def dkwX0_share_6 : List UInt8 := [132, 5, 1, 167, 255, 183, 33, 42, 180, 0, 10, 180, 0, 156, 184, 1, 139, 28, 184, 1, 142, 136, 172]
abbrev dktX0_share_6 : List UInt8 := dkwX0_share_6 ++ []
def dkwX0_share_5 : List UInt8 := [180, 0, 101, 21, 5, 4, 27, 120, 128, 46, 42, 180, 0, 101, 21, 5, 46, 100, 133, 105, 97, 66]
abbrev dktX0_share_5 : List UInt8 := dkwX0_share_5 ++ dktX0_share_6
def dkwX0_share_4 : List UInt8 := [21, 6, 184, 1, 139, 42, 180, 0, 10, 180, 0, 156, 4, 100, 21, 6, 100, 184, 1, 139, 105, 42]
abbrev dktX0_share_4 : List UInt8 := dkwX0_share_4 ++ dktX0_share_5
def dkwX0_share_3 : List UInt8 := [182, 1, 80, 163, 0, 70, 21, 5, 184, 1, 44, 54, 6, 21, 5, 27, 184, 0, 238, 154, 0, 48, 33]
abbrev dktX0_share_3 : List UInt8 := dkwX0_share_3 ++ dktX0_share_4
def dkwX0_share_2 : List UInt8 := [180, 0, 101, 29, 42, 182, 1, 38, 79, 132, 3, 1, 167, 255, 223, 9, 66, 3, 54, 5, 21, 5, 42]
abbrev dktX0_share_2 : List UInt8 := dkwX0_share_2 ++ dktX0_share_3
def dkwX0_share_1 : List UInt8 := [3, 62, 29, 42, 182, 1, 80, 163, 0, 31, 42, 42, 182, 1, 80, 29, 2, 130, 126, 181, 0, 204, 42]
abbrev dktX0_share_1 : List UInt8 := dkwX0_share_1 ++ dktX0_share_2
def dkwX0_share_0 : List UInt8 := [42, 27, 133, 182, 0, 159, 153, 0, 11, 28, 5, 184, 0, 170, 154, 0, 6, 16, 254, 172, 42, 182, 0, 250]
abbrev dktX0_share_0 : List UInt8 := dkwX0_share_0 ++ dktX0_share_1
theorem dksX0_share_0 : cX0_share.data.toList.drop 0 = dktX0_share_0 := by decide +kernel
theorem dksX0_share_1 : cX0_share.data.toList.drop 24 = dktX0_share_1 := dk_seg dksX0_share_0 24 rfl rfl
theorem dksX0_share_2 : cX0_share.data.toList.drop 47 = dktX0_share_2 := dk_seg dksX0_share_1 23 rfl rfl
theorem dksX0_share_3 : cX0_share.data.toList.drop 70 = dktX0_share_3 := dk_seg dksX0_share_2 23 rfl rfl
theorem dksX0_share_4 : cX0_share.data.toList.drop 93 = dktX0_share_4 := dk_seg dksX0_share_3 23 rfl rfl
theorem dksX0_share_5 : cX0_share.data.toList.drop 115 = dktX0_share_5 := dk_seg dksX0_share_4 22 rfl rfl
theorem dksX0_share_6 : cX0_share.data.toList.drop 137 = dktX0_share_6 := dk_seg dksX0_share_5 22 rfl rfl
theorem dX0_share_0 : decode cX0_share 0 = .ok (.aload_n 0, 1) := dk_42 (dk_at dksX0_share_0 0 rfl rfl)
theorem dX0_share_1 : decode cX0_share 1 = .ok (.iload_n 1, 1) := dk_27 (dk_at dksX0_share_0 1 rfl rfl)
theorem dX0_share_2 : decode cX0_share 2 = .ok (.i2l, 1) := dk_133 (dk_at dksX0_share_0 2 rfl rfl)
theorem dX0_share_3 : decode cX0_share 3 = .ok (.invokevirtual 159, 3) := dk_182 0 159 (dk_at dksX0_share_0 3 rfl rfl)
theorem dX0_share_6 : decode cX0_share 6 = .ok (.ifCond .eq 11, 3) := dk_153 0 11 (dk_at dksX0_share_0 6 rfl rfl)
theorem dX0_share_9 : decode cX0_share 9 = .ok (.iload_n 2, 1) := dk_28 (dk_at dksX0_share_0 9 rfl rfl)
theorem dX0_share_10 : decode cX0_share 10 = .ok (.iconst 2, 1) := dk_5 (dk_at dksX0_share_0 10 rfl rfl)
theorem dX0_share_11 : decode cX0_share 11 = .ok (.invokestatic 170, 3) := dk_184 0 170 (dk_at dksX0_share_0 11 rfl rfl)
theorem dX0_share_14 : decode cX0_share 14 = .ok (.ifCond .ne 6, 3) := dk_154 0 6 (dk_at dksX0_share_0 14 rfl rfl)
theorem dX0_share_17 : decode cX0_share 17 = .ok (.bipush (-2), 2) := dk_16 254 (dk_at dksX0_share_0 17 rfl rfl)
theorem dX0_share_19 : decode cX0_share 19 = .ok (.ireturn, 1) := dk_172 (dk_at dksX0_share_0 19 rfl rfl)
theorem dX0_share_20 : decode cX0_share 20 = .ok (.aload_n 0, 1) := dk_42 (dk_at dksX0_share_0 20 rfl rfl)
theorem dX0_share_21 : decode cX0_share 21 = .ok (.invokevirtual 250, 3) := dk_182 0 250 (dk_at dksX0_share_0 21 rfl rfl)
theorem dX0_share_24 : decode cX0_share 24 = .ok (.iconst 0, 1) := dk_3 (dk_at dksX0_share_1 0 rfl rfl)
theorem dX0_share_25 : decode cX0_share 25 = .ok (.istore_n 3, 1) := dk_62 (dk_at dksX0_share_1 1 rfl rfl)
theorem dX0_share_26 : decode cX0_share 26 = .ok (.iload_n 3, 1) := dk_29 (dk_at dksX0_share_1 2 rfl rfl)
theorem dX0_share_27 : decode cX0_share 27 = .ok (.aload_n 0, 1) := dk_42 (dk_at dksX0_share_1 3 rfl rfl)
theorem dX0_share_28 : decode cX0_share 28 = .ok (.invokevirtual 336, 3) := dk_182 1 80 (dk_at dksX0_share_1 4 rfl rfl)
theorem dX0_share_31 : decode cX0_share 31 = .ok (.if_icmp .gt 31, 3) := dk_163 0 31 (dk_at dksX0_share_1 7 rfl rfl)
theorem dX0_share_34 : decode cX0_share 34 = .ok (.aload_n 0, 1) := dk_42 (dk_at dksX0_share_1 10 rfl rfl)
theorem dX0_share_35 : decode cX0_share 35 = .ok (.aload_n 0, 1) := dk_42 (dk_at dksX0_share_1 11 rfl rfl)
theorem dX0_share_36 : decode cX0_share 36 = .ok (.invokevirtual 336, 3) := dk_182 1 80 (dk_at dksX0_share_1 12 rfl rfl)
theorem dX0_share_39 : decode cX0_share 39 = .ok (.iload_n 3, 1) := dk_29 (dk_at dksX0_share_1 15 rfl rfl)
theorem dX0_share_40 : decode cX0_share 40 = .ok (.iconst (-1), 1) := dk_2 (dk_at dksX0_share_1 16 rfl rfl)
theorem dX0_share_41 : decode cX0_share 41 = .ok (.ixor, 1) := dk_130 (dk_at dksX0_share_1 17 rfl rfl)
theorem dX0_share_42 : decode cX0_share 42 = .ok (.iand, 1) := dk_126 (dk_at dksX0_share_1 18 rfl rfl)
theorem dX0_share_43 : decode cX0_share 43 = .ok (.putfield 204, 3) := dk_181 0 204 (dk_at dksX0_share_1 19 rfl rfl)
theorem dX0_share_46 : decode cX0_share 46 = .ok (.aload_n 0, 1) := dk_42 (dk_at dksX0_share_1 22 rfl rfl)
theorem dX0_share_47 : decode cX0_share 47 = .ok (.getfield 101, 3) := dk_180 0 101 (dk_at dksX0_share_2 0 rfl rfl)
theorem dX0_share_50 : decode cX0_share 50 = .ok (.iload_n 3, 1) := dk_29 (dk_at dksX0_share_2 3 rfl rfl)
theorem dX0_share_51 : decode cX0_share 51 = .ok (.aload_n 0, 1) := dk_42 (dk_at dksX0_share_2 4 rfl rfl)
theorem dX0_share_52 : decode cX0_share 52 = .ok (.invokevirtual 294, 3) := dk_182 1 38 (dk_at dksX0_share_2 5 rfl rfl)
theorem dX0_share_55 : decode cX0_share 55 = .ok (.iastore, 1) := dk_79 (dk_at dksX0_share_2 8 rfl rfl)
theorem dX0_share_56 : decode cX0_share 56 = .ok (.iinc 3 1, 3) := dk_132 3 1 (dk_at dksX0_share_2 9 rfl rfl)
theorem dX0_share_59 : decode cX0_share 59 = .ok (.goto (-33), 3) := dk_167 255 223 (dk_at dksX0_share_2 12 rfl rfl)
theorem dX0_share_62 : decode cX0_share 62 = .ok (.lconst 0, 1) := dk_9 (dk_at dksX0_share_2 15 rfl rfl)
theorem dX0_share_63 : decode cX0_share 63 = .ok (.lstore_n 3, 1) := dk_66 (dk_at dksX0_share_2 16 rfl rfl)
theorem dX0_share_64 : decode cX0_share 64 = .ok (.iconst 0, 1) := dk_3 (dk_at dksX0_share_2 17 rfl rfl)
theorem dX0_share_65 : decode cX0_share 65 = .ok (.istore 5, 2) := dk_54 5 (dk_at dksX0_share_2 18 rfl rfl)
theorem dX0_share_67 : decode cX0_share 67 = .ok (.iload 5, 2) := dk_21 5 (dk_at dksX0_share_2 20 rfl rfl)
theorem dX0_share_69 : decode cX0_share 69 = .ok (.aload_n 0, 1) := dk_42 (dk_at dksX0_share_2 22 rfl rfl)
theorem dX0_share_70 : decode cX0_share 70 = .ok (.invokevirtual 336, 3) := dk_182 1 80 (dk_at dksX0_share_3 0 rfl rfl)
theorem dX0_share_73 : decode cX0_share 73 = .ok (.if_icmp .gt 70, 3) := dk_163 0 70 (dk_at dksX0_share_3 3 rfl rfl)
theorem dX0_share_76 : decode cX0_share 76 = .ok (.iload 5, 2) := dk_21 5 (dk_at dksX0_share_3 6 rfl rfl)
theorem dX0_share_78 : decode cX0_share 78 = .ok (.invokestatic 300, 3) := dk_184 1 44 (dk_at dksX0_share_3 8 rfl rfl)
theorem dX0_share_81 : decode cX0_share 81 = .ok (.istore 6, 2) := dk_54 6 (dk_at dksX0_share_3 11 rfl rfl)
theorem dX0_share_83 : decode cX0_share 83 = .ok (.iload 5, 2) := dk_21 5 (dk_at dksX0_share_3 13 rfl rfl)
theorem dX0_share_85 : decode cX0_share 85 = .ok (.iload_n 1, 1) := dk_27 (dk_at dksX0_share_3 15 rfl rfl)
theorem dX0_share_86 : decode cX0_share 86 = .ok (.invokestatic 238, 3) := dk_184 0 238 (dk_at dksX0_share_3 16 rfl rfl)
theorem dX0_share_89 : decode cX0_share 89 = .ok (.ifCond .ne 48, 3) := dk_154 0 48 (dk_at dksX0_share_3 19 rfl rfl)
theorem dX0_share_92 : decode cX0_share 92 = .ok (.lload_n 3, 1) := dk_33 (dk_at dksX0_share_3 22 rfl rfl)
theorem dX0_share_93 : decode cX0_share 93 = .ok (.iload 6, 2) := dk_21 6 (dk_at dksX0_share_4 0 rfl rfl)
theorem dX0_share_95 : decode cX0_share 95 = .ok (.invokestatic 395, 3) := dk_184 1 139 (dk_at dksX0_share_4 2 rfl rfl)
theorem dX0_share_98 : decode cX0_share 98 = .ok (.aload_n 0, 1) := dk_42 (dk_at dksX0_share_4 5 rfl rfl)
theorem dX0_share_99 : decode cX0_share 99 = .ok (.getfield 10, 3) := dk_180 0 10 (dk_at dksX0_share_4 6 rfl rfl)
theorem dX0_share_102 : decode cX0_share 102 = .ok (.getfield 156, 3) := dk_180 0 156 (dk_at dksX0_share_4 9 rfl rfl)
theorem dX0_share_105 : decode cX0_share 105 = .ok (.iconst 1, 1) := dk_4 (dk_at dksX0_share_4 12 rfl rfl)
theorem dX0_share_106 : decode cX0_share 106 = .ok (.isub, 1) := dk_100 (dk_at dksX0_share_4 13 rfl rfl)
theorem dX0_share_107 : decode cX0_share 107 = .ok (.iload 6, 2) := dk_21 6 (dk_at dksX0_share_4 14 rfl rfl)
theorem dX0_share_109 : decode cX0_share 109 = .ok (.isub, 1) := dk_100 (dk_at dksX0_share_4 16 rfl rfl)
theorem dX0_share_110 : decode cX0_share 110 = .ok (.invokestatic 395, 3) := dk_184 1 139 (dk_at dksX0_share_4 17 rfl rfl)
theorem dX0_share_113 : decode cX0_share 113 = .ok (.lmul, 1) := dk_105 (dk_at dksX0_share_4 20 rfl rfl)
theorem dX0_share_114 : decode cX0_share 114 = .ok (.aload_n 0, 1) := dk_42 (dk_at dksX0_share_4 21 rfl rfl)
theorem dX0_share_115 : decode cX0_share 115 = .ok (.getfield 101, 3) := dk_180 0 101 (dk_at dksX0_share_5 0 rfl rfl)
theorem dX0_share_118 : decode cX0_share 118 = .ok (.iload 5, 2) := dk_21 5 (dk_at dksX0_share_5 3 rfl rfl)
theorem dX0_share_120 : decode cX0_share 120 = .ok (.iconst 1, 1) := dk_4 (dk_at dksX0_share_5 5 rfl rfl)
theorem dX0_share_121 : decode cX0_share 121 = .ok (.iload_n 1, 1) := dk_27 (dk_at dksX0_share_5 6 rfl rfl)
theorem dX0_share_122 : decode cX0_share 122 = .ok (.ishl, 1) := dk_120 (dk_at dksX0_share_5 7 rfl rfl)
theorem dX0_share_123 : decode cX0_share 123 = .ok (.ior, 1) := dk_128 (dk_at dksX0_share_5 8 rfl rfl)
theorem dX0_share_124 : decode cX0_share 124 = .ok (.iaload, 1) := dk_46 (dk_at dksX0_share_5 9 rfl rfl)
theorem dX0_share_125 : decode cX0_share 125 = .ok (.aload_n 0, 1) := dk_42 (dk_at dksX0_share_5 10 rfl rfl)
theorem dX0_share_126 : decode cX0_share 126 = .ok (.getfield 101, 3) := dk_180 0 101 (dk_at dksX0_share_5 11 rfl rfl)
theorem dX0_share_129 : decode cX0_share 129 = .ok (.iload 5, 2) := dk_21 5 (dk_at dksX0_share_5 14 rfl rfl)
theorem dX0_share_131 : decode cX0_share 131 = .ok (.iaload, 1) := dk_46 (dk_at dksX0_share_5 16 rfl rfl)
theorem dX0_share_132 : decode cX0_share 132 = .ok (.isub, 1) := dk_100 (dk_at dksX0_share_5 17 rfl rfl)
theorem dX0_share_133 : decode cX0_share 133 = .ok (.i2l, 1) := dk_133 (dk_at dksX0_share_5 18 rfl rfl)
theorem dX0_share_134 : decode cX0_share 134 = .ok (.lmul, 1) := dk_105 (dk_at dksX0_share_5 19 rfl rfl)
theorem dX0_share_135 : decode cX0_share 135 = .ok (.ladd, 1) := dk_97 (dk_at dksX0_share_5 20 rfl rfl)
theorem dX0_share_136 : decode cX0_share 136 = .ok (.lstore_n 3, 1) := dk_66 (dk_at dksX0_share_5 21 rfl rfl)
theorem dX0_share_137 : decode cX0_share 137 = .ok (.iinc 5 1, 3) := dk_132 5 1 (dk_at dksX0_share_6 0 rfl rfl)
theorem dX0_share_140 : decode cX0_share 140 = .ok (.goto (-73), 3) := dk_167 255 183 (dk_at dksX0_share_6 3 rfl rfl)
theorem dX0_share_143 : decode cX0_share 143 = .ok (.lload_n 3, 1) := dk_33 (dk_at dksX0_share_6 6 rfl rfl)
theorem dX0_share_144 : decode cX0_share 144 = .ok (.aload_n 0, 1) := dk_42 (dk_at dksX0_share_6 7 rfl rfl)
theorem dX0_share_145 : decode cX0_share 145 = .ok (.getfield 10, 3) := dk_180 0 10 (dk_at dksX0_share_6 8 rfl rfl)
theorem dX0_share_148 : decode cX0_share 148 = .ok (.getfield 156, 3) := dk_180 0 156 (dk_at dksX0_share_6 11 rfl rfl)
theorem dX0_share_151 : decode cX0_share 151 = .ok (.invokestatic 395, 3) := dk_184 1 139 (dk_at dksX0_share_6 14 rfl rfl)
theorem dX0_share_154 : decode cX0_share 154 = .ok (.iload_n 2, 1) := dk_28 (dk_at dksX0_share_6 17 rfl rfl)
theorem dX0_share_155 : decode cX0_share 155 = .ok (.invokestatic 398, 3) := dk_184 1 142 (dk_at dksX0_share_6 18 rfl rfl)
theorem dX0_share_158 : decode cX0_share 158 = .ok (.l2i, 1) := dk_136 (dk_at dksX0_share_6 21 rfl rfl)
theorem dX0_share_159 : decode cX0_share 159 = .ok (.ireturn, 1) := dk_172 (dk_at dksX0_share_6 22 rfl rfl)
abbrev cX0_factorial : ByteArray := prog_1_method_98_code
def yX0_factorial : MethodName := ⟨RX0, "factorial", "(I)J"⟩
def dkwX0_factorial_0 : List UInt8 := [10, 64, 5, 62, 29, 26, 163, 0, 14, 31, 29, 133, 105, 64, 132, 3, 1, 167, 255, 243, 31, 173]
abbrev dktX0_factorial_0 : List UInt8 := dkwX0_factorial_0 ++ []
theorem dksX0_factorial_0 : cX0_factorial.data.toList.drop 0 = dktX0_factorial_0 := by decide +kernel
theorem dX0_factorial_0 : decode cX0_factorial 0 = .ok (.lconst 1, 1) := dk_10 (dk_at dksX0_factorial_0 0 rfl rfl)
theorem dX0_factorial_1 : decode cX0_factorial 1 = .ok (.lstore_n 1, 1) := dk_64 (dk_at dksX0_factorial_0 1 rfl rfl)
theorem dX0_factorial_2 : decode cX0_factorial 2 = .ok (.iconst 2, 1) := dk_5 (dk_at dksX0_factorial_0 2 rfl rfl)
theorem dX0_factorial_3 : decode cX0_factorial 3 = .ok (.istore_n 3, 1) := dk_62 (dk_at dksX0_factorial_0 3 rfl rfl)
theorem dX0_factorial_4 : decode cX0_factorial 4 = .ok (.iload_n 3, 1) := dk_29 (dk_at dksX0_factorial_0 4 rfl rfl)
theorem dX0_factorial_5 : decode cX0_factorial 5 = .ok (.iload_n 0, 1) := dk_26 (dk_at dksX0_factorial_0 5 rfl rfl)
theorem dX0_factorial_6 : decode cX0_factorial 6 = .ok (.if_icmp .gt 14, 3) := dk_163 0 14 (dk_at dksX0_factorial_0 6 rfl rfl)
theorem dX0_factorial_9 : decode cX0_factorial 9 = .ok (.lload_n 1, 1) := dk_31 (dk_at dksX0_factorial_0 9 rfl rfl)
theorem dX0_factorial_10 : decode cX0_factorial 10 = .ok (.iload_n 3, 1) := dk_29 (dk_at dksX0_factorial_0 10 rfl rfl)
theorem dX0_factorial_11 : decode cX0_factorial 11 = .ok (.i2l, 1) := dk_133 (dk_at dksX0_factorial_0 11 rfl rfl)
theorem dX0_factorial_12 : decode cX0_factorial 12 = .ok (.lmul, 1) := dk_105 (dk_at dksX0_factorial_0 12 rfl rfl)
theorem dX0_factorial_13 : decode cX0_factorial 13 = .ok (.lstore_n 1, 1) := dk_64 (dk_at dksX0_factorial_0 13 rfl rfl)
theorem dX0_factorial_14 : decode cX0_factorial 14 = .ok (.iinc 3 1, 3) := dk_132 3 1 (dk_at dksX0_factorial_0 14 rfl rfl)
theorem dX0_factorial_17 : decode cX0_factorial 17 = .ok (.goto (-13), 3) := dk_167 255 243 (dk_at dksX0_factorial_0 17 rfl rfl)
theorem dX0_factorial_20 : decode cX0_factorial 20 = .ok (.lload_n 1, 1) := dk_31 (dk_at dksX0_factorial_0 20 rfl rfl)
theorem dX0_factorial_21 : decode cX0_factorial 21 = .ok (.lreturn, 1) := dk_173 (dk_at dksX0_factorial_0 21 rfl rfl)
abbrev cX0_part : ByteArray := prog_1_method_100_code
def yX0_part : MethodName := ⟨RX0, "part", "(JJI)J"⟩
def dkwX0_part_0 : List UInt8 := [21, 4, 154, 0, 7, 30, 167, 0, 4, 32, 30, 32, 184, 1, 135, 109, 173]
abbrev dktX0_part_0 : List UInt8 := dkwX0_part_0 ++ []
theorem dksX0_part_0 : cX0_part.data.toList.drop 0 = dktX0_part_0 := by decide +kernel
theorem dX0_part_0 : decode cX0_part 0 = .ok (.iload 4, 2) := dk_21 4 (dk_at dksX0_part_0 0 rfl rfl)
theorem dX0_part_2 : decode cX0_part 2 = .ok (.ifCond .ne 7, 3) := dk_154 0 7 (dk_at dksX0_part_0 2 rfl rfl)
theorem dX0_part_5 : decode cX0_part 5 = .ok (.lload_n 0, 1) := dk_30 (dk_at dksX0_part_0 5 rfl rfl)
theorem dX0_part_6 : decode cX0_part 6 = .ok (.goto 4, 3) := dk_167 0 4 (dk_at dksX0_part_0 6 rfl rfl)
theorem dX0_part_9 : decode cX0_part 9 = .ok (.lload_n 2, 1) := dk_32 (dk_at dksX0_part_0 9 rfl rfl)
theorem dX0_part_10 : decode cX0_part 10 = .ok (.lload_n 0, 1) := dk_30 (dk_at dksX0_part_0 10 rfl rfl)
theorem dX0_part_11 : decode cX0_part 11 = .ok (.lload_n 2, 1) := dk_32 (dk_at dksX0_part_0 11 rfl rfl)
theorem dX0_part_12 : decode cX0_part 12 = .ok (.invokestatic 391, 3) := dk_184 1 135 (dk_at dksX0_part_0 12 rfl rfl)
theorem dX0_part_15 : decode cX0_part 15 = .ok (.ldiv, 1) := dk_109 (dk_at dksX0_part_0 15 rfl rfl)
theorem dX0_part_16 : decode cX0_part 16 = .ok (.lreturn, 1) := dk_173 (dk_at dksX0_part_0 16 rfl rfl)
abbrev cX0_divisor : ByteArray := prog_1_method_99_code
def yX0_divisor : MethodName := ⟨RX0, "divisor", "(JJ)J"⟩
def dkwX0_divisor_1 : List UInt8 := [22, 6, 55, 4, 22, 8, 55, 6, 167, 255, 234, 22, 4, 173]
abbrev dktX0_divisor_1 : List UInt8 := dkwX0_divisor_1 ++ []
def dkwX0_divisor_0 : List UInt8 := [30, 184, 1, 131, 55, 4, 32, 55, 6, 22, 6, 9, 148, 153, 0, 21, 22, 4, 22, 6, 113, 55, 8]
abbrev dktX0_divisor_0 : List UInt8 := dkwX0_divisor_0 ++ dktX0_divisor_1
theorem dksX0_divisor_0 : cX0_divisor.data.toList.drop 0 = dktX0_divisor_0 := by decide +kernel
theorem dksX0_divisor_1 : cX0_divisor.data.toList.drop 23 = dktX0_divisor_1 := dk_seg dksX0_divisor_0 23 rfl rfl
theorem dX0_divisor_0 : decode cX0_divisor 0 = .ok (.lload_n 0, 1) := dk_30 (dk_at dksX0_divisor_0 0 rfl rfl)
theorem dX0_divisor_1 : decode cX0_divisor 1 = .ok (.invokestatic 387, 3) := dk_184 1 131 (dk_at dksX0_divisor_0 1 rfl rfl)
theorem dX0_divisor_4 : decode cX0_divisor 4 = .ok (.lstore 4, 2) := dk_55 4 (dk_at dksX0_divisor_0 4 rfl rfl)
theorem dX0_divisor_6 : decode cX0_divisor 6 = .ok (.lload_n 2, 1) := dk_32 (dk_at dksX0_divisor_0 6 rfl rfl)
theorem dX0_divisor_7 : decode cX0_divisor 7 = .ok (.lstore 6, 2) := dk_55 6 (dk_at dksX0_divisor_0 7 rfl rfl)
theorem dX0_divisor_9 : decode cX0_divisor 9 = .ok (.lload 6, 2) := dk_22 6 (dk_at dksX0_divisor_0 9 rfl rfl)
theorem dX0_divisor_11 : decode cX0_divisor 11 = .ok (.lconst 0, 1) := dk_9 (dk_at dksX0_divisor_0 11 rfl rfl)
theorem dX0_divisor_12 : decode cX0_divisor 12 = .ok (.lcmp, 1) := dk_148 (dk_at dksX0_divisor_0 12 rfl rfl)
theorem dX0_divisor_13 : decode cX0_divisor 13 = .ok (.ifCond .eq 21, 3) := dk_153 0 21 (dk_at dksX0_divisor_0 13 rfl rfl)
theorem dX0_divisor_16 : decode cX0_divisor 16 = .ok (.lload 4, 2) := dk_22 4 (dk_at dksX0_divisor_0 16 rfl rfl)
theorem dX0_divisor_18 : decode cX0_divisor 18 = .ok (.lload 6, 2) := dk_22 6 (dk_at dksX0_divisor_0 18 rfl rfl)
theorem dX0_divisor_20 : decode cX0_divisor 20 = .ok (.lrem, 1) := dk_113 (dk_at dksX0_divisor_0 20 rfl rfl)
theorem dX0_divisor_21 : decode cX0_divisor 21 = .ok (.lstore 8, 2) := dk_55 8 (dk_at dksX0_divisor_0 21 rfl rfl)
theorem dX0_divisor_23 : decode cX0_divisor 23 = .ok (.lload 6, 2) := dk_22 6 (dk_at dksX0_divisor_1 0 rfl rfl)
theorem dX0_divisor_25 : decode cX0_divisor 25 = .ok (.lstore 4, 2) := dk_55 4 (dk_at dksX0_divisor_1 2 rfl rfl)
theorem dX0_divisor_27 : decode cX0_divisor 27 = .ok (.lload 8, 2) := dk_22 8 (dk_at dksX0_divisor_1 4 rfl rfl)
theorem dX0_divisor_29 : decode cX0_divisor 29 = .ok (.lstore 6, 2) := dk_55 6 (dk_at dksX0_divisor_1 6 rfl rfl)
theorem dX0_divisor_31 : decode cX0_divisor 31 = .ok (.goto (-22), 3) := dk_167 255 234 (dk_at dksX0_divisor_1 8 rfl rfl)
theorem dX0_divisor_34 : decode cX0_divisor 34 = .ok (.lload 4, 2) := dk_22 4 (dk_at dksX0_divisor_1 11 rfl rfl)
theorem dX0_divisor_36 : decode cX0_divisor 36 = .ok (.lreturn, 1) := dk_173 (dk_at dksX0_divisor_1 13 rfl rfl)
abbrev cX0_rests : ByteArray := prog_1_method_105_code
def yX0_rests : MethodName := ⟨RX0, "rests", "(II)I"⟩
def dkwX0_rests_0 : List UInt8 := [42, 27, 28, 182, 1, 161, 153, 0, 10, 42, 180, 1, 152, 167, 0, 5, 16, 254, 172]
abbrev dktX0_rests_0 : List UInt8 := dkwX0_rests_0 ++ []
theorem dksX0_rests_0 : cX0_rests.data.toList.drop 0 = dktX0_rests_0 := by decide +kernel
theorem dX0_rests_0 : decode cX0_rests 0 = .ok (.aload_n 0, 1) := dk_42 (dk_at dksX0_rests_0 0 rfl rfl)
theorem dX0_rests_1 : decode cX0_rests 1 = .ok (.iload_n 1, 1) := dk_27 (dk_at dksX0_rests_0 1 rfl rfl)
theorem dX0_rests_2 : decode cX0_rests 2 = .ok (.iload_n 2, 1) := dk_28 (dk_at dksX0_rests_0 2 rfl rfl)
theorem dX0_rests_3 : decode cX0_rests 3 = .ok (.invokevirtual 417, 3) := dk_182 1 161 (dk_at dksX0_rests_0 3 rfl rfl)
theorem dX0_rests_6 : decode cX0_rests 6 = .ok (.ifCond .eq 10, 3) := dk_153 0 10 (dk_at dksX0_rests_0 6 rfl rfl)
theorem dX0_rests_9 : decode cX0_rests 9 = .ok (.aload_n 0, 1) := dk_42 (dk_at dksX0_rests_0 9 rfl rfl)
theorem dX0_rests_10 : decode cX0_rests 10 = .ok (.getfield 408, 3) := dk_180 1 152 (dk_at dksX0_rests_0 10 rfl rfl)
theorem dX0_rests_13 : decode cX0_rests 13 = .ok (.goto 5, 3) := dk_167 0 5 (dk_at dksX0_rests_0 13 rfl rfl)
theorem dX0_rests_16 : decode cX0_rests 16 = .ok (.bipush (-2), 2) := dk_16 254 (dk_at dksX0_rests_0 16 rfl rfl)
theorem dX0_rests_18 : decode cX0_rests 18 = .ok (.ireturn, 1) := dk_172 (dk_at dksX0_rests_0 18 rfl rfl)
abbrev cX0_asksRests : ByteArray := prog_1_method_104_code
def yX0_asksRests : MethodName := ⟨RX0, "asksRests", "(II)Z"⟩
def dkwX0_asksRests_9 : List UInt8 := [132, 3, 1, 167, 255, 173, 4, 172]
abbrev dktX0_asksRests_9 : List UInt8 := dkwX0_asksRests_9 ++ []
def dkwX0_asksRests_8 : List UInt8 := [180, 1, 155, 181, 1, 155, 42, 89, 180, 1, 152, 4, 96, 181, 1, 152, 132, 4, 1, 167, 255, 193]
abbrev dktX0_asksRests_8 : List UInt8 := dkwX0_asksRests_8 ++ dktX0_asksRests_9
def dkwX0_asksRests_7 : List UInt8 := [167, 0, 38, 42, 42, 180, 1, 152, 154, 0, 13, 16, 10, 29, 104, 21, 4, 96, 167, 0, 7, 42]
abbrev dktX0_asksRests_7 : List UInt8 := dkwX0_asksRests_7 ++ dktX0_asksRests_8
def dkwX0_asksRests_6 : List UInt8 := [21, 4, 42, 180, 0, 10, 180, 0, 153, 162, 0, 57, 42, 29, 21, 4, 182, 1, 158, 154, 0, 6]
abbrev dktX0_asksRests_6 : List UInt8 := dkwX0_asksRests_6 ++ dktX0_asksRests_7
def dkwX0_asksRests_5 : List UInt8 := [181, 1, 152, 42, 2, 181, 1, 155, 3, 62, 29, 42, 180, 0, 10, 180, 0, 153, 162, 0, 78, 3, 54, 4]
abbrev dktX0_asksRests_5 : List UInt8 := dkwX0_asksRests_5 ++ dktX0_asksRests_6
def dkwX0_asksRests_4 : List UInt8 := [4, 96, 42, 28, 182, 1, 149, 79, 132, 4, 1, 167, 255, 184, 132, 3, 1, 167, 255, 164, 42, 3]
abbrev dktX0_asksRests_4 : List UInt8 := dkwX0_asksRests_4 ++ dktX0_asksRests_5
def dkwX0_asksRests_3 : List UInt8 := [29, 104, 21, 4, 96, 104, 42, 27, 182, 1, 149, 79, 42, 180, 0, 104, 5, 6, 29, 104, 21, 4, 96, 104]
abbrev dktX0_asksRests_3 : List UInt8 := dkwX0_asksRests_3 ++ dktX0_asksRests_4
def dkwX0_asksRests_2 : List UInt8 := [180, 0, 59, 27, 29, 79, 42, 180, 0, 59, 28, 21, 4, 79, 42, 182, 0, 253, 42, 180, 0, 104, 5, 6]
abbrev dktX0_asksRests_2 : List UInt8 := dkwX0_asksRests_2 ++ dktX0_asksRests_3
def dkwX0_asksRests_1 : List UInt8 := [180, 0, 153, 162, 0, 87, 3, 54, 4, 21, 4, 42, 180, 0, 10, 180, 0, 153, 162, 0, 66, 42]
abbrev dktX0_asksRests_1 : List UInt8 := dkwX0_asksRests_1 ++ dktX0_asksRests_2
def dkwX0_asksRests_0 : List UInt8 := [42, 27, 28, 182, 1, 146, 154, 0, 5, 3, 172, 42, 182, 0, 250, 3, 62, 29, 42, 180, 0, 10]
abbrev dktX0_asksRests_0 : List UInt8 := dkwX0_asksRests_0 ++ dktX0_asksRests_1
theorem dksX0_asksRests_0 : cX0_asksRests.data.toList.drop 0 = dktX0_asksRests_0 := by decide +kernel
theorem dksX0_asksRests_1 : cX0_asksRests.data.toList.drop 22 = dktX0_asksRests_1 := dk_seg dksX0_asksRests_0 22 rfl rfl
theorem dksX0_asksRests_2 : cX0_asksRests.data.toList.drop 44 = dktX0_asksRests_2 := dk_seg dksX0_asksRests_1 22 rfl rfl
theorem dksX0_asksRests_3 : cX0_asksRests.data.toList.drop 68 = dktX0_asksRests_3 := dk_seg dksX0_asksRests_2 24 rfl rfl
theorem dksX0_asksRests_4 : cX0_asksRests.data.toList.drop 92 = dktX0_asksRests_4 := dk_seg dksX0_asksRests_3 24 rfl rfl
theorem dksX0_asksRests_5 : cX0_asksRests.data.toList.drop 114 = dktX0_asksRests_5 := dk_seg dksX0_asksRests_4 22 rfl rfl
theorem dksX0_asksRests_6 : cX0_asksRests.data.toList.drop 138 = dktX0_asksRests_6 := dk_seg dksX0_asksRests_5 24 rfl rfl
theorem dksX0_asksRests_7 : cX0_asksRests.data.toList.drop 160 = dktX0_asksRests_7 := dk_seg dksX0_asksRests_6 22 rfl rfl
theorem dksX0_asksRests_8 : cX0_asksRests.data.toList.drop 182 = dktX0_asksRests_8 := dk_seg dksX0_asksRests_7 22 rfl rfl
theorem dksX0_asksRests_9 : cX0_asksRests.data.toList.drop 204 = dktX0_asksRests_9 := dk_seg dksX0_asksRests_8 22 rfl rfl
theorem dX0_asksRests_0 : decode cX0_asksRests 0 = .ok (.aload_n 0, 1) := dk_42 (dk_at dksX0_asksRests_0 0 rfl rfl)
theorem dX0_asksRests_1 : decode cX0_asksRests 1 = .ok (.iload_n 1, 1) := dk_27 (dk_at dksX0_asksRests_0 1 rfl rfl)
theorem dX0_asksRests_2 : decode cX0_asksRests 2 = .ok (.iload_n 2, 1) := dk_28 (dk_at dksX0_asksRests_0 2 rfl rfl)
theorem dX0_asksRests_3 : decode cX0_asksRests 3 = .ok (.invokevirtual 402, 3) := dk_182 1 146 (dk_at dksX0_asksRests_0 3 rfl rfl)
theorem dX0_asksRests_6 : decode cX0_asksRests 6 = .ok (.ifCond .ne 5, 3) := dk_154 0 5 (dk_at dksX0_asksRests_0 6 rfl rfl)
theorem dX0_asksRests_9 : decode cX0_asksRests 9 = .ok (.iconst 0, 1) := dk_3 (dk_at dksX0_asksRests_0 9 rfl rfl)
theorem dX0_asksRests_10 : decode cX0_asksRests 10 = .ok (.ireturn, 1) := dk_172 (dk_at dksX0_asksRests_0 10 rfl rfl)
theorem dX0_asksRests_11 : decode cX0_asksRests 11 = .ok (.aload_n 0, 1) := dk_42 (dk_at dksX0_asksRests_0 11 rfl rfl)
theorem dX0_asksRests_12 : decode cX0_asksRests 12 = .ok (.invokevirtual 250, 3) := dk_182 0 250 (dk_at dksX0_asksRests_0 12 rfl rfl)
theorem dX0_asksRests_15 : decode cX0_asksRests 15 = .ok (.iconst 0, 1) := dk_3 (dk_at dksX0_asksRests_0 15 rfl rfl)
theorem dX0_asksRests_16 : decode cX0_asksRests 16 = .ok (.istore_n 3, 1) := dk_62 (dk_at dksX0_asksRests_0 16 rfl rfl)
theorem dX0_asksRests_17 : decode cX0_asksRests 17 = .ok (.iload_n 3, 1) := dk_29 (dk_at dksX0_asksRests_0 17 rfl rfl)
theorem dX0_asksRests_18 : decode cX0_asksRests 18 = .ok (.aload_n 0, 1) := dk_42 (dk_at dksX0_asksRests_0 18 rfl rfl)
theorem dX0_asksRests_19 : decode cX0_asksRests 19 = .ok (.getfield 10, 3) := dk_180 0 10 (dk_at dksX0_asksRests_0 19 rfl rfl)
theorem dX0_asksRests_22 : decode cX0_asksRests 22 = .ok (.getfield 153, 3) := dk_180 0 153 (dk_at dksX0_asksRests_1 0 rfl rfl)
theorem dX0_asksRests_25 : decode cX0_asksRests 25 = .ok (.if_icmp .ge 87, 3) := dk_162 0 87 (dk_at dksX0_asksRests_1 3 rfl rfl)
theorem dX0_asksRests_28 : decode cX0_asksRests 28 = .ok (.iconst 0, 1) := dk_3 (dk_at dksX0_asksRests_1 6 rfl rfl)
theorem dX0_asksRests_29 : decode cX0_asksRests 29 = .ok (.istore 4, 2) := dk_54 4 (dk_at dksX0_asksRests_1 7 rfl rfl)
theorem dX0_asksRests_31 : decode cX0_asksRests 31 = .ok (.iload 4, 2) := dk_21 4 (dk_at dksX0_asksRests_1 9 rfl rfl)
theorem dX0_asksRests_33 : decode cX0_asksRests 33 = .ok (.aload_n 0, 1) := dk_42 (dk_at dksX0_asksRests_1 11 rfl rfl)
theorem dX0_asksRests_34 : decode cX0_asksRests 34 = .ok (.getfield 10, 3) := dk_180 0 10 (dk_at dksX0_asksRests_1 12 rfl rfl)
theorem dX0_asksRests_37 : decode cX0_asksRests 37 = .ok (.getfield 153, 3) := dk_180 0 153 (dk_at dksX0_asksRests_1 15 rfl rfl)
theorem dX0_asksRests_40 : decode cX0_asksRests 40 = .ok (.if_icmp .ge 66, 3) := dk_162 0 66 (dk_at dksX0_asksRests_1 18 rfl rfl)
theorem dX0_asksRests_43 : decode cX0_asksRests 43 = .ok (.aload_n 0, 1) := dk_42 (dk_at dksX0_asksRests_1 21 rfl rfl)
theorem dX0_asksRests_44 : decode cX0_asksRests 44 = .ok (.getfield 59, 3) := dk_180 0 59 (dk_at dksX0_asksRests_2 0 rfl rfl)
theorem dX0_asksRests_47 : decode cX0_asksRests 47 = .ok (.iload_n 1, 1) := dk_27 (dk_at dksX0_asksRests_2 3 rfl rfl)
theorem dX0_asksRests_48 : decode cX0_asksRests 48 = .ok (.iload_n 3, 1) := dk_29 (dk_at dksX0_asksRests_2 4 rfl rfl)
theorem dX0_asksRests_49 : decode cX0_asksRests 49 = .ok (.iastore, 1) := dk_79 (dk_at dksX0_asksRests_2 5 rfl rfl)
theorem dX0_asksRests_50 : decode cX0_asksRests 50 = .ok (.aload_n 0, 1) := dk_42 (dk_at dksX0_asksRests_2 6 rfl rfl)
theorem dX0_asksRests_51 : decode cX0_asksRests 51 = .ok (.getfield 59, 3) := dk_180 0 59 (dk_at dksX0_asksRests_2 7 rfl rfl)
theorem dX0_asksRests_54 : decode cX0_asksRests 54 = .ok (.iload_n 2, 1) := dk_28 (dk_at dksX0_asksRests_2 10 rfl rfl)
theorem dX0_asksRests_55 : decode cX0_asksRests 55 = .ok (.iload 4, 2) := dk_21 4 (dk_at dksX0_asksRests_2 11 rfl rfl)
theorem dX0_asksRests_57 : decode cX0_asksRests 57 = .ok (.iastore, 1) := dk_79 (dk_at dksX0_asksRests_2 13 rfl rfl)
theorem dX0_asksRests_58 : decode cX0_asksRests 58 = .ok (.aload_n 0, 1) := dk_42 (dk_at dksX0_asksRests_2 14 rfl rfl)
theorem dX0_asksRests_59 : decode cX0_asksRests 59 = .ok (.invokevirtual 253, 3) := dk_182 0 253 (dk_at dksX0_asksRests_2 15 rfl rfl)
theorem dX0_asksRests_62 : decode cX0_asksRests 62 = .ok (.aload_n 0, 1) := dk_42 (dk_at dksX0_asksRests_2 18 rfl rfl)
theorem dX0_asksRests_63 : decode cX0_asksRests 63 = .ok (.getfield 104, 3) := dk_180 0 104 (dk_at dksX0_asksRests_2 19 rfl rfl)
theorem dX0_asksRests_66 : decode cX0_asksRests 66 = .ok (.iconst 2, 1) := dk_5 (dk_at dksX0_asksRests_2 22 rfl rfl)
theorem dX0_asksRests_67 : decode cX0_asksRests 67 = .ok (.iconst 3, 1) := dk_6 (dk_at dksX0_asksRests_2 23 rfl rfl)
theorem dX0_asksRests_68 : decode cX0_asksRests 68 = .ok (.iload_n 3, 1) := dk_29 (dk_at dksX0_asksRests_3 0 rfl rfl)
theorem dX0_asksRests_69 : decode cX0_asksRests 69 = .ok (.imul, 1) := dk_104 (dk_at dksX0_asksRests_3 1 rfl rfl)
theorem dX0_asksRests_70 : decode cX0_asksRests 70 = .ok (.iload 4, 2) := dk_21 4 (dk_at dksX0_asksRests_3 2 rfl rfl)
theorem dX0_asksRests_72 : decode cX0_asksRests 72 = .ok (.iadd, 1) := dk_96 (dk_at dksX0_asksRests_3 4 rfl rfl)
theorem dX0_asksRests_73 : decode cX0_asksRests 73 = .ok (.imul, 1) := dk_104 (dk_at dksX0_asksRests_3 5 rfl rfl)
theorem dX0_asksRests_74 : decode cX0_asksRests 74 = .ok (.aload_n 0, 1) := dk_42 (dk_at dksX0_asksRests_3 6 rfl rfl)
theorem dX0_asksRests_75 : decode cX0_asksRests 75 = .ok (.iload_n 1, 1) := dk_27 (dk_at dksX0_asksRests_3 7 rfl rfl)
theorem dX0_asksRests_76 : decode cX0_asksRests 76 = .ok (.invokevirtual 405, 3) := dk_182 1 149 (dk_at dksX0_asksRests_3 8 rfl rfl)
theorem dX0_asksRests_79 : decode cX0_asksRests 79 = .ok (.iastore, 1) := dk_79 (dk_at dksX0_asksRests_3 11 rfl rfl)
theorem dX0_asksRests_80 : decode cX0_asksRests 80 = .ok (.aload_n 0, 1) := dk_42 (dk_at dksX0_asksRests_3 12 rfl rfl)
theorem dX0_asksRests_81 : decode cX0_asksRests 81 = .ok (.getfield 104, 3) := dk_180 0 104 (dk_at dksX0_asksRests_3 13 rfl rfl)
theorem dX0_asksRests_84 : decode cX0_asksRests 84 = .ok (.iconst 2, 1) := dk_5 (dk_at dksX0_asksRests_3 16 rfl rfl)
theorem dX0_asksRests_85 : decode cX0_asksRests 85 = .ok (.iconst 3, 1) := dk_6 (dk_at dksX0_asksRests_3 17 rfl rfl)
theorem dX0_asksRests_86 : decode cX0_asksRests 86 = .ok (.iload_n 3, 1) := dk_29 (dk_at dksX0_asksRests_3 18 rfl rfl)
theorem dX0_asksRests_87 : decode cX0_asksRests 87 = .ok (.imul, 1) := dk_104 (dk_at dksX0_asksRests_3 19 rfl rfl)
theorem dX0_asksRests_88 : decode cX0_asksRests 88 = .ok (.iload 4, 2) := dk_21 4 (dk_at dksX0_asksRests_3 20 rfl rfl)
theorem dX0_asksRests_90 : decode cX0_asksRests 90 = .ok (.iadd, 1) := dk_96 (dk_at dksX0_asksRests_3 22 rfl rfl)
theorem dX0_asksRests_91 : decode cX0_asksRests 91 = .ok (.imul, 1) := dk_104 (dk_at dksX0_asksRests_3 23 rfl rfl)
theorem dX0_asksRests_92 : decode cX0_asksRests 92 = .ok (.iconst 1, 1) := dk_4 (dk_at dksX0_asksRests_4 0 rfl rfl)
theorem dX0_asksRests_93 : decode cX0_asksRests 93 = .ok (.iadd, 1) := dk_96 (dk_at dksX0_asksRests_4 1 rfl rfl)
theorem dX0_asksRests_94 : decode cX0_asksRests 94 = .ok (.aload_n 0, 1) := dk_42 (dk_at dksX0_asksRests_4 2 rfl rfl)
theorem dX0_asksRests_95 : decode cX0_asksRests 95 = .ok (.iload_n 2, 1) := dk_28 (dk_at dksX0_asksRests_4 3 rfl rfl)
theorem dX0_asksRests_96 : decode cX0_asksRests 96 = .ok (.invokevirtual 405, 3) := dk_182 1 149 (dk_at dksX0_asksRests_4 4 rfl rfl)
theorem dX0_asksRests_99 : decode cX0_asksRests 99 = .ok (.iastore, 1) := dk_79 (dk_at dksX0_asksRests_4 7 rfl rfl)
theorem dX0_asksRests_100 : decode cX0_asksRests 100 = .ok (.iinc 4 1, 3) := dk_132 4 1 (dk_at dksX0_asksRests_4 8 rfl rfl)
theorem dX0_asksRests_103 : decode cX0_asksRests 103 = .ok (.goto (-72), 3) := dk_167 255 184 (dk_at dksX0_asksRests_4 11 rfl rfl)
theorem dX0_asksRests_106 : decode cX0_asksRests 106 = .ok (.iinc 3 1, 3) := dk_132 3 1 (dk_at dksX0_asksRests_4 14 rfl rfl)
theorem dX0_asksRests_109 : decode cX0_asksRests 109 = .ok (.goto (-92), 3) := dk_167 255 164 (dk_at dksX0_asksRests_4 17 rfl rfl)
theorem dX0_asksRests_112 : decode cX0_asksRests 112 = .ok (.aload_n 0, 1) := dk_42 (dk_at dksX0_asksRests_4 20 rfl rfl)
theorem dX0_asksRests_113 : decode cX0_asksRests 113 = .ok (.iconst 0, 1) := dk_3 (dk_at dksX0_asksRests_4 21 rfl rfl)
theorem dX0_asksRests_114 : decode cX0_asksRests 114 = .ok (.putfield 408, 3) := dk_181 1 152 (dk_at dksX0_asksRests_5 0 rfl rfl)
theorem dX0_asksRests_117 : decode cX0_asksRests 117 = .ok (.aload_n 0, 1) := dk_42 (dk_at dksX0_asksRests_5 3 rfl rfl)
theorem dX0_asksRests_118 : decode cX0_asksRests 118 = .ok (.iconst (-1), 1) := dk_2 (dk_at dksX0_asksRests_5 4 rfl rfl)
theorem dX0_asksRests_119 : decode cX0_asksRests 119 = .ok (.putfield 411, 3) := dk_181 1 155 (dk_at dksX0_asksRests_5 5 rfl rfl)
theorem dX0_asksRests_122 : decode cX0_asksRests 122 = .ok (.iconst 0, 1) := dk_3 (dk_at dksX0_asksRests_5 8 rfl rfl)
theorem dX0_asksRests_123 : decode cX0_asksRests 123 = .ok (.istore_n 3, 1) := dk_62 (dk_at dksX0_asksRests_5 9 rfl rfl)
theorem dX0_asksRests_124 : decode cX0_asksRests 124 = .ok (.iload_n 3, 1) := dk_29 (dk_at dksX0_asksRests_5 10 rfl rfl)
theorem dX0_asksRests_125 : decode cX0_asksRests 125 = .ok (.aload_n 0, 1) := dk_42 (dk_at dksX0_asksRests_5 11 rfl rfl)
theorem dX0_asksRests_126 : decode cX0_asksRests 126 = .ok (.getfield 10, 3) := dk_180 0 10 (dk_at dksX0_asksRests_5 12 rfl rfl)
theorem dX0_asksRests_129 : decode cX0_asksRests 129 = .ok (.getfield 153, 3) := dk_180 0 153 (dk_at dksX0_asksRests_5 15 rfl rfl)
theorem dX0_asksRests_132 : decode cX0_asksRests 132 = .ok (.if_icmp .ge 78, 3) := dk_162 0 78 (dk_at dksX0_asksRests_5 18 rfl rfl)
theorem dX0_asksRests_135 : decode cX0_asksRests 135 = .ok (.iconst 0, 1) := dk_3 (dk_at dksX0_asksRests_5 21 rfl rfl)
theorem dX0_asksRests_136 : decode cX0_asksRests 136 = .ok (.istore 4, 2) := dk_54 4 (dk_at dksX0_asksRests_5 22 rfl rfl)
theorem dX0_asksRests_138 : decode cX0_asksRests 138 = .ok (.iload 4, 2) := dk_21 4 (dk_at dksX0_asksRests_6 0 rfl rfl)
theorem dX0_asksRests_140 : decode cX0_asksRests 140 = .ok (.aload_n 0, 1) := dk_42 (dk_at dksX0_asksRests_6 2 rfl rfl)
theorem dX0_asksRests_141 : decode cX0_asksRests 141 = .ok (.getfield 10, 3) := dk_180 0 10 (dk_at dksX0_asksRests_6 3 rfl rfl)
theorem dX0_asksRests_144 : decode cX0_asksRests 144 = .ok (.getfield 153, 3) := dk_180 0 153 (dk_at dksX0_asksRests_6 6 rfl rfl)
theorem dX0_asksRests_147 : decode cX0_asksRests 147 = .ok (.if_icmp .ge 57, 3) := dk_162 0 57 (dk_at dksX0_asksRests_6 9 rfl rfl)
theorem dX0_asksRests_150 : decode cX0_asksRests 150 = .ok (.aload_n 0, 1) := dk_42 (dk_at dksX0_asksRests_6 12 rfl rfl)
theorem dX0_asksRests_151 : decode cX0_asksRests 151 = .ok (.iload_n 3, 1) := dk_29 (dk_at dksX0_asksRests_6 13 rfl rfl)
theorem dX0_asksRests_152 : decode cX0_asksRests 152 = .ok (.iload 4, 2) := dk_21 4 (dk_at dksX0_asksRests_6 14 rfl rfl)
theorem dX0_asksRests_154 : decode cX0_asksRests 154 = .ok (.invokevirtual 414, 3) := dk_182 1 158 (dk_at dksX0_asksRests_6 16 rfl rfl)
theorem dX0_asksRests_157 : decode cX0_asksRests 157 = .ok (.ifCond .ne 6, 3) := dk_154 0 6 (dk_at dksX0_asksRests_6 19 rfl rfl)
theorem dX0_asksRests_160 : decode cX0_asksRests 160 = .ok (.goto 38, 3) := dk_167 0 38 (dk_at dksX0_asksRests_7 0 rfl rfl)
theorem dX0_asksRests_163 : decode cX0_asksRests 163 = .ok (.aload_n 0, 1) := dk_42 (dk_at dksX0_asksRests_7 3 rfl rfl)
theorem dX0_asksRests_164 : decode cX0_asksRests 164 = .ok (.aload_n 0, 1) := dk_42 (dk_at dksX0_asksRests_7 4 rfl rfl)
theorem dX0_asksRests_165 : decode cX0_asksRests 165 = .ok (.getfield 408, 3) := dk_180 1 152 (dk_at dksX0_asksRests_7 5 rfl rfl)
theorem dX0_asksRests_168 : decode cX0_asksRests 168 = .ok (.ifCond .ne 13, 3) := dk_154 0 13 (dk_at dksX0_asksRests_7 8 rfl rfl)
theorem dX0_asksRests_171 : decode cX0_asksRests 171 = .ok (.bipush 10, 2) := dk_16 10 (dk_at dksX0_asksRests_7 11 rfl rfl)
theorem dX0_asksRests_173 : decode cX0_asksRests 173 = .ok (.iload_n 3, 1) := dk_29 (dk_at dksX0_asksRests_7 13 rfl rfl)
theorem dX0_asksRests_174 : decode cX0_asksRests 174 = .ok (.imul, 1) := dk_104 (dk_at dksX0_asksRests_7 14 rfl rfl)
theorem dX0_asksRests_175 : decode cX0_asksRests 175 = .ok (.iload 4, 2) := dk_21 4 (dk_at dksX0_asksRests_7 15 rfl rfl)
theorem dX0_asksRests_177 : decode cX0_asksRests 177 = .ok (.iadd, 1) := dk_96 (dk_at dksX0_asksRests_7 17 rfl rfl)
theorem dX0_asksRests_178 : decode cX0_asksRests 178 = .ok (.goto 7, 3) := dk_167 0 7 (dk_at dksX0_asksRests_7 18 rfl rfl)
theorem dX0_asksRests_181 : decode cX0_asksRests 181 = .ok (.aload_n 0, 1) := dk_42 (dk_at dksX0_asksRests_7 21 rfl rfl)
theorem dX0_asksRests_182 : decode cX0_asksRests 182 = .ok (.getfield 411, 3) := dk_180 1 155 (dk_at dksX0_asksRests_8 0 rfl rfl)
theorem dX0_asksRests_185 : decode cX0_asksRests 185 = .ok (.putfield 411, 3) := dk_181 1 155 (dk_at dksX0_asksRests_8 3 rfl rfl)
theorem dX0_asksRests_188 : decode cX0_asksRests 188 = .ok (.aload_n 0, 1) := dk_42 (dk_at dksX0_asksRests_8 6 rfl rfl)
theorem dX0_asksRests_189 : decode cX0_asksRests 189 = .ok (.dup, 1) := dk_89 (dk_at dksX0_asksRests_8 7 rfl rfl)
theorem dX0_asksRests_190 : decode cX0_asksRests 190 = .ok (.getfield 408, 3) := dk_180 1 152 (dk_at dksX0_asksRests_8 8 rfl rfl)
theorem dX0_asksRests_193 : decode cX0_asksRests 193 = .ok (.iconst 1, 1) := dk_4 (dk_at dksX0_asksRests_8 11 rfl rfl)
theorem dX0_asksRests_194 : decode cX0_asksRests 194 = .ok (.iadd, 1) := dk_96 (dk_at dksX0_asksRests_8 12 rfl rfl)
theorem dX0_asksRests_195 : decode cX0_asksRests 195 = .ok (.putfield 408, 3) := dk_181 1 152 (dk_at dksX0_asksRests_8 13 rfl rfl)
theorem dX0_asksRests_198 : decode cX0_asksRests 198 = .ok (.iinc 4 1, 3) := dk_132 4 1 (dk_at dksX0_asksRests_8 16 rfl rfl)
theorem dX0_asksRests_201 : decode cX0_asksRests 201 = .ok (.goto (-63), 3) := dk_167 255 193 (dk_at dksX0_asksRests_8 19 rfl rfl)
theorem dX0_asksRests_204 : decode cX0_asksRests 204 = .ok (.iinc 3 1, 3) := dk_132 3 1 (dk_at dksX0_asksRests_9 0 rfl rfl)
theorem dX0_asksRests_207 : decode cX0_asksRests 207 = .ok (.goto (-83), 3) := dk_167 255 173 (dk_at dksX0_asksRests_9 3 rfl rfl)
theorem dX0_asksRests_210 : decode cX0_asksRests 210 = .ok (.iconst 1, 1) := dk_4 (dk_at dksX0_asksRests_9 6 rfl rfl)
theorem dX0_asksRests_211 : decode cX0_asksRests 211 = .ok (.ireturn, 1) := dk_172 (dk_at dksX0_asksRests_9 7 rfl rfl)
abbrev cX0_areTwo : ByteArray := prog_1_method_12_code
def yX0_areTwo : MethodName := ⟨RX0, "areTwo", "(II)Z"⟩
def dkwX0_areTwo_1 : List UInt8 := [167, 0, 4, 3, 172]
abbrev dktX0_areTwo_1 : List UInt8 := dkwX0_areTwo_1 ++ []
def dkwX0_areTwo_0 : List UInt8 := [42, 27, 133, 182, 0, 159, 153, 0, 21, 42, 28, 133, 182, 0, 159, 153, 0, 12, 27, 28, 159, 0, 7, 4]
abbrev dktX0_areTwo_0 : List UInt8 := dkwX0_areTwo_0 ++ dktX0_areTwo_1
theorem dksX0_areTwo_0 : cX0_areTwo.data.toList.drop 0 = dktX0_areTwo_0 := by decide +kernel
theorem dksX0_areTwo_1 : cX0_areTwo.data.toList.drop 24 = dktX0_areTwo_1 := dk_seg dksX0_areTwo_0 24 rfl rfl
theorem dX0_areTwo_0 : decode cX0_areTwo 0 = .ok (.aload_n 0, 1) := dk_42 (dk_at dksX0_areTwo_0 0 rfl rfl)
theorem dX0_areTwo_1 : decode cX0_areTwo 1 = .ok (.iload_n 1, 1) := dk_27 (dk_at dksX0_areTwo_0 1 rfl rfl)
theorem dX0_areTwo_2 : decode cX0_areTwo 2 = .ok (.i2l, 1) := dk_133 (dk_at dksX0_areTwo_0 2 rfl rfl)
theorem dX0_areTwo_3 : decode cX0_areTwo 3 = .ok (.invokevirtual 159, 3) := dk_182 0 159 (dk_at dksX0_areTwo_0 3 rfl rfl)
theorem dX0_areTwo_6 : decode cX0_areTwo 6 = .ok (.ifCond .eq 21, 3) := dk_153 0 21 (dk_at dksX0_areTwo_0 6 rfl rfl)
theorem dX0_areTwo_9 : decode cX0_areTwo 9 = .ok (.aload_n 0, 1) := dk_42 (dk_at dksX0_areTwo_0 9 rfl rfl)
theorem dX0_areTwo_10 : decode cX0_areTwo 10 = .ok (.iload_n 2, 1) := dk_28 (dk_at dksX0_areTwo_0 10 rfl rfl)
theorem dX0_areTwo_11 : decode cX0_areTwo 11 = .ok (.i2l, 1) := dk_133 (dk_at dksX0_areTwo_0 11 rfl rfl)
theorem dX0_areTwo_12 : decode cX0_areTwo 12 = .ok (.invokevirtual 159, 3) := dk_182 0 159 (dk_at dksX0_areTwo_0 12 rfl rfl)
theorem dX0_areTwo_15 : decode cX0_areTwo 15 = .ok (.ifCond .eq 12, 3) := dk_153 0 12 (dk_at dksX0_areTwo_0 15 rfl rfl)
theorem dX0_areTwo_18 : decode cX0_areTwo 18 = .ok (.iload_n 1, 1) := dk_27 (dk_at dksX0_areTwo_0 18 rfl rfl)
theorem dX0_areTwo_19 : decode cX0_areTwo 19 = .ok (.iload_n 2, 1) := dk_28 (dk_at dksX0_areTwo_0 19 rfl rfl)
theorem dX0_areTwo_20 : decode cX0_areTwo 20 = .ok (.if_icmp .eq 7, 3) := dk_159 0 7 (dk_at dksX0_areTwo_0 20 rfl rfl)
theorem dX0_areTwo_23 : decode cX0_areTwo 23 = .ok (.iconst 1, 1) := dk_4 (dk_at dksX0_areTwo_0 23 rfl rfl)
theorem dX0_areTwo_24 : decode cX0_areTwo 24 = .ok (.goto 4, 3) := dk_167 0 4 (dk_at dksX0_areTwo_1 0 rfl rfl)
theorem dX0_areTwo_27 : decode cX0_areTwo 27 = .ok (.iconst 0, 1) := dk_3 (dk_at dksX0_areTwo_1 3 rfl rfl)
theorem dX0_areTwo_28 : decode cX0_areTwo 28 = .ok (.ireturn, 1) := dk_172 (dk_at dksX0_areTwo_1 4 rfl rfl)
abbrev cX0_losesOf : ByteArray := prog_1_method_102_code
def yX0_losesOf : MethodName := ⟨RX0, "losesOf", "(I)I"⟩
def dkwX0_losesOf_0 : List UInt8 := [42, 180, 0, 65, 27, 46, 2, 160, 0, 8, 16, 9, 167, 0, 9, 42, 180, 0, 77, 27, 46, 172]
abbrev dktX0_losesOf_0 : List UInt8 := dkwX0_losesOf_0 ++ []
theorem dksX0_losesOf_0 : cX0_losesOf.data.toList.drop 0 = dktX0_losesOf_0 := by decide +kernel
theorem dX0_losesOf_0 : decode cX0_losesOf 0 = .ok (.aload_n 0, 1) := dk_42 (dk_at dksX0_losesOf_0 0 rfl rfl)
theorem dX0_losesOf_1 : decode cX0_losesOf 1 = .ok (.getfield 65, 3) := dk_180 0 65 (dk_at dksX0_losesOf_0 1 rfl rfl)
theorem dX0_losesOf_4 : decode cX0_losesOf 4 = .ok (.iload_n 1, 1) := dk_27 (dk_at dksX0_losesOf_0 4 rfl rfl)
theorem dX0_losesOf_5 : decode cX0_losesOf 5 = .ok (.iaload, 1) := dk_46 (dk_at dksX0_losesOf_0 5 rfl rfl)
theorem dX0_losesOf_6 : decode cX0_losesOf 6 = .ok (.iconst (-1), 1) := dk_2 (dk_at dksX0_losesOf_0 6 rfl rfl)
theorem dX0_losesOf_7 : decode cX0_losesOf 7 = .ok (.if_icmp .ne 8, 3) := dk_160 0 8 (dk_at dksX0_losesOf_0 7 rfl rfl)
theorem dX0_losesOf_10 : decode cX0_losesOf 10 = .ok (.bipush 9, 2) := dk_16 9 (dk_at dksX0_losesOf_0 10 rfl rfl)
theorem dX0_losesOf_12 : decode cX0_losesOf 12 = .ok (.goto 9, 3) := dk_167 0 9 (dk_at dksX0_losesOf_0 12 rfl rfl)
theorem dX0_losesOf_15 : decode cX0_losesOf 15 = .ok (.aload_n 0, 1) := dk_42 (dk_at dksX0_losesOf_0 15 rfl rfl)
theorem dX0_losesOf_16 : decode cX0_losesOf 16 = .ok (.getfield 77, 3) := dk_180 0 77 (dk_at dksX0_losesOf_0 16 rfl rfl)
theorem dX0_losesOf_19 : decode cX0_losesOf 19 = .ok (.iload_n 1, 1) := dk_27 (dk_at dksX0_losesOf_0 19 rfl rfl)
theorem dX0_losesOf_20 : decode cX0_losesOf 20 = .ok (.iaload, 1) := dk_46 (dk_at dksX0_losesOf_0 20 rfl rfl)
theorem dX0_losesOf_21 : decode cX0_losesOf 21 = .ok (.ireturn, 1) := dk_172 (dk_at dksX0_losesOf_0 21 rfl rfl)
abbrev cX0_isRest : ByteArray := prog_1_method_103_code
def yX0_isRest : MethodName := ⟨RX0, "isRest", "(II)Z"⟩
def dkwX0_isRest_3 : List UInt8 := [172, 132, 3, 1, 167, 255, 182, 4, 172]
abbrev dktX0_isRest_3 : List UInt8 := dkwX0_isRest_3 ++ []
def dkwX0_isRest_2 : List UInt8 := [29, 96, 104, 4, 96, 46, 42, 180, 0, 104, 5, 6, 27, 104, 28, 96, 104, 4, 96, 46, 162, 0, 5, 3]
abbrev dktX0_isRest_2 : List UInt8 := dkwX0_isRest_2 ++ dktX0_isRest_3
def dkwX0_isRest_1 : List UInt8 := [46, 42, 180, 0, 104, 5, 6, 27, 104, 28, 96, 104, 46, 161, 0, 34, 42, 180, 0, 104, 5, 6, 27, 104]
abbrev dktX0_isRest_1 : List UInt8 := dkwX0_isRest_1 ++ dktX0_isRest_2
def dkwX0_isRest_0 : List UInt8 := [3, 62, 29, 42, 180, 0, 10, 180, 0, 153, 162, 0, 69, 42, 180, 0, 104, 5, 6, 29, 104, 28, 96, 104]
abbrev dktX0_isRest_0 : List UInt8 := dkwX0_isRest_0 ++ dktX0_isRest_1
theorem dksX0_isRest_0 : cX0_isRest.data.toList.drop 0 = dktX0_isRest_0 := by decide +kernel
theorem dksX0_isRest_1 : cX0_isRest.data.toList.drop 24 = dktX0_isRest_1 := dk_seg dksX0_isRest_0 24 rfl rfl
theorem dksX0_isRest_2 : cX0_isRest.data.toList.drop 48 = dktX0_isRest_2 := dk_seg dksX0_isRest_1 24 rfl rfl
theorem dksX0_isRest_3 : cX0_isRest.data.toList.drop 72 = dktX0_isRest_3 := dk_seg dksX0_isRest_2 24 rfl rfl
theorem dX0_isRest_0 : decode cX0_isRest 0 = .ok (.iconst 0, 1) := dk_3 (dk_at dksX0_isRest_0 0 rfl rfl)
theorem dX0_isRest_1 : decode cX0_isRest 1 = .ok (.istore_n 3, 1) := dk_62 (dk_at dksX0_isRest_0 1 rfl rfl)
theorem dX0_isRest_2 : decode cX0_isRest 2 = .ok (.iload_n 3, 1) := dk_29 (dk_at dksX0_isRest_0 2 rfl rfl)
theorem dX0_isRest_3 : decode cX0_isRest 3 = .ok (.aload_n 0, 1) := dk_42 (dk_at dksX0_isRest_0 3 rfl rfl)
theorem dX0_isRest_4 : decode cX0_isRest 4 = .ok (.getfield 10, 3) := dk_180 0 10 (dk_at dksX0_isRest_0 4 rfl rfl)
theorem dX0_isRest_7 : decode cX0_isRest 7 = .ok (.getfield 153, 3) := dk_180 0 153 (dk_at dksX0_isRest_0 7 rfl rfl)
theorem dX0_isRest_10 : decode cX0_isRest 10 = .ok (.if_icmp .ge 69, 3) := dk_162 0 69 (dk_at dksX0_isRest_0 10 rfl rfl)
theorem dX0_isRest_13 : decode cX0_isRest 13 = .ok (.aload_n 0, 1) := dk_42 (dk_at dksX0_isRest_0 13 rfl rfl)
theorem dX0_isRest_14 : decode cX0_isRest 14 = .ok (.getfield 104, 3) := dk_180 0 104 (dk_at dksX0_isRest_0 14 rfl rfl)
theorem dX0_isRest_17 : decode cX0_isRest 17 = .ok (.iconst 2, 1) := dk_5 (dk_at dksX0_isRest_0 17 rfl rfl)
theorem dX0_isRest_18 : decode cX0_isRest 18 = .ok (.iconst 3, 1) := dk_6 (dk_at dksX0_isRest_0 18 rfl rfl)
theorem dX0_isRest_19 : decode cX0_isRest 19 = .ok (.iload_n 3, 1) := dk_29 (dk_at dksX0_isRest_0 19 rfl rfl)
theorem dX0_isRest_20 : decode cX0_isRest 20 = .ok (.imul, 1) := dk_104 (dk_at dksX0_isRest_0 20 rfl rfl)
theorem dX0_isRest_21 : decode cX0_isRest 21 = .ok (.iload_n 2, 1) := dk_28 (dk_at dksX0_isRest_0 21 rfl rfl)
theorem dX0_isRest_22 : decode cX0_isRest 22 = .ok (.iadd, 1) := dk_96 (dk_at dksX0_isRest_0 22 rfl rfl)
theorem dX0_isRest_23 : decode cX0_isRest 23 = .ok (.imul, 1) := dk_104 (dk_at dksX0_isRest_0 23 rfl rfl)
theorem dX0_isRest_24 : decode cX0_isRest 24 = .ok (.iaload, 1) := dk_46 (dk_at dksX0_isRest_1 0 rfl rfl)
theorem dX0_isRest_25 : decode cX0_isRest 25 = .ok (.aload_n 0, 1) := dk_42 (dk_at dksX0_isRest_1 1 rfl rfl)
theorem dX0_isRest_26 : decode cX0_isRest 26 = .ok (.getfield 104, 3) := dk_180 0 104 (dk_at dksX0_isRest_1 2 rfl rfl)
theorem dX0_isRest_29 : decode cX0_isRest 29 = .ok (.iconst 2, 1) := dk_5 (dk_at dksX0_isRest_1 5 rfl rfl)
theorem dX0_isRest_30 : decode cX0_isRest 30 = .ok (.iconst 3, 1) := dk_6 (dk_at dksX0_isRest_1 6 rfl rfl)
theorem dX0_isRest_31 : decode cX0_isRest 31 = .ok (.iload_n 1, 1) := dk_27 (dk_at dksX0_isRest_1 7 rfl rfl)
theorem dX0_isRest_32 : decode cX0_isRest 32 = .ok (.imul, 1) := dk_104 (dk_at dksX0_isRest_1 8 rfl rfl)
theorem dX0_isRest_33 : decode cX0_isRest 33 = .ok (.iload_n 2, 1) := dk_28 (dk_at dksX0_isRest_1 9 rfl rfl)
theorem dX0_isRest_34 : decode cX0_isRest 34 = .ok (.iadd, 1) := dk_96 (dk_at dksX0_isRest_1 10 rfl rfl)
theorem dX0_isRest_35 : decode cX0_isRest 35 = .ok (.imul, 1) := dk_104 (dk_at dksX0_isRest_1 11 rfl rfl)
theorem dX0_isRest_36 : decode cX0_isRest 36 = .ok (.iaload, 1) := dk_46 (dk_at dksX0_isRest_1 12 rfl rfl)
theorem dX0_isRest_37 : decode cX0_isRest 37 = .ok (.if_icmp .lt 34, 3) := dk_161 0 34 (dk_at dksX0_isRest_1 13 rfl rfl)
theorem dX0_isRest_40 : decode cX0_isRest 40 = .ok (.aload_n 0, 1) := dk_42 (dk_at dksX0_isRest_1 16 rfl rfl)
theorem dX0_isRest_41 : decode cX0_isRest 41 = .ok (.getfield 104, 3) := dk_180 0 104 (dk_at dksX0_isRest_1 17 rfl rfl)
theorem dX0_isRest_44 : decode cX0_isRest 44 = .ok (.iconst 2, 1) := dk_5 (dk_at dksX0_isRest_1 20 rfl rfl)
theorem dX0_isRest_45 : decode cX0_isRest 45 = .ok (.iconst 3, 1) := dk_6 (dk_at dksX0_isRest_1 21 rfl rfl)
theorem dX0_isRest_46 : decode cX0_isRest 46 = .ok (.iload_n 1, 1) := dk_27 (dk_at dksX0_isRest_1 22 rfl rfl)
theorem dX0_isRest_47 : decode cX0_isRest 47 = .ok (.imul, 1) := dk_104 (dk_at dksX0_isRest_1 23 rfl rfl)
theorem dX0_isRest_48 : decode cX0_isRest 48 = .ok (.iload_n 3, 1) := dk_29 (dk_at dksX0_isRest_2 0 rfl rfl)
theorem dX0_isRest_49 : decode cX0_isRest 49 = .ok (.iadd, 1) := dk_96 (dk_at dksX0_isRest_2 1 rfl rfl)
theorem dX0_isRest_50 : decode cX0_isRest 50 = .ok (.imul, 1) := dk_104 (dk_at dksX0_isRest_2 2 rfl rfl)
theorem dX0_isRest_51 : decode cX0_isRest 51 = .ok (.iconst 1, 1) := dk_4 (dk_at dksX0_isRest_2 3 rfl rfl)
theorem dX0_isRest_52 : decode cX0_isRest 52 = .ok (.iadd, 1) := dk_96 (dk_at dksX0_isRest_2 4 rfl rfl)
theorem dX0_isRest_53 : decode cX0_isRest 53 = .ok (.iaload, 1) := dk_46 (dk_at dksX0_isRest_2 5 rfl rfl)
theorem dX0_isRest_54 : decode cX0_isRest 54 = .ok (.aload_n 0, 1) := dk_42 (dk_at dksX0_isRest_2 6 rfl rfl)
theorem dX0_isRest_55 : decode cX0_isRest 55 = .ok (.getfield 104, 3) := dk_180 0 104 (dk_at dksX0_isRest_2 7 rfl rfl)
theorem dX0_isRest_58 : decode cX0_isRest 58 = .ok (.iconst 2, 1) := dk_5 (dk_at dksX0_isRest_2 10 rfl rfl)
theorem dX0_isRest_59 : decode cX0_isRest 59 = .ok (.iconst 3, 1) := dk_6 (dk_at dksX0_isRest_2 11 rfl rfl)
theorem dX0_isRest_60 : decode cX0_isRest 60 = .ok (.iload_n 1, 1) := dk_27 (dk_at dksX0_isRest_2 12 rfl rfl)
theorem dX0_isRest_61 : decode cX0_isRest 61 = .ok (.imul, 1) := dk_104 (dk_at dksX0_isRest_2 13 rfl rfl)
theorem dX0_isRest_62 : decode cX0_isRest 62 = .ok (.iload_n 2, 1) := dk_28 (dk_at dksX0_isRest_2 14 rfl rfl)
theorem dX0_isRest_63 : decode cX0_isRest 63 = .ok (.iadd, 1) := dk_96 (dk_at dksX0_isRest_2 15 rfl rfl)
theorem dX0_isRest_64 : decode cX0_isRest 64 = .ok (.imul, 1) := dk_104 (dk_at dksX0_isRest_2 16 rfl rfl)
theorem dX0_isRest_65 : decode cX0_isRest 65 = .ok (.iconst 1, 1) := dk_4 (dk_at dksX0_isRest_2 17 rfl rfl)
theorem dX0_isRest_66 : decode cX0_isRest 66 = .ok (.iadd, 1) := dk_96 (dk_at dksX0_isRest_2 18 rfl rfl)
theorem dX0_isRest_67 : decode cX0_isRest 67 = .ok (.iaload, 1) := dk_46 (dk_at dksX0_isRest_2 19 rfl rfl)
theorem dX0_isRest_68 : decode cX0_isRest 68 = .ok (.if_icmp .ge 5, 3) := dk_162 0 5 (dk_at dksX0_isRest_2 20 rfl rfl)
theorem dX0_isRest_71 : decode cX0_isRest 71 = .ok (.iconst 0, 1) := dk_3 (dk_at dksX0_isRest_2 23 rfl rfl)
theorem dX0_isRest_72 : decode cX0_isRest 72 = .ok (.ireturn, 1) := dk_172 (dk_at dksX0_isRest_3 0 rfl rfl)
theorem dX0_isRest_73 : decode cX0_isRest 73 = .ok (.iinc 3 1, 3) := dk_132 3 1 (dk_at dksX0_isRest_3 1 rfl rfl)
theorem dX0_isRest_76 : decode cX0_isRest 76 = .ok (.goto (-74), 3) := dk_167 255 182 (dk_at dksX0_isRest_3 4 rfl rfl)
theorem dX0_isRest_79 : decode cX0_isRest 79 = .ok (.iconst 1, 1) := dk_4 (dk_at dksX0_isRest_3 7 rfl rfl)
theorem dX0_isRest_80 : decode cX0_isRest 80 = .ok (.ireturn, 1) := dk_172 (dk_at dksX0_isRest_3 8 rfl rfl)
abbrev cX0_rest : ByteArray := prog_1_method_106_code
def yX0_rest : MethodName := ⟨RX0, "rest", "(II)I"⟩
def dkwX0_rest_0 : List UInt8 := [42, 27, 28, 182, 1, 161, 153, 0, 10, 42, 180, 1, 155, 167, 0, 5, 16, 254, 172]
abbrev dktX0_rest_0 : List UInt8 := dkwX0_rest_0 ++ []
theorem dksX0_rest_0 : cX0_rest.data.toList.drop 0 = dktX0_rest_0 := by decide +kernel
theorem dX0_rest_0 : decode cX0_rest 0 = .ok (.aload_n 0, 1) := dk_42 (dk_at dksX0_rest_0 0 rfl rfl)
theorem dX0_rest_1 : decode cX0_rest 1 = .ok (.iload_n 1, 1) := dk_27 (dk_at dksX0_rest_0 1 rfl rfl)
theorem dX0_rest_2 : decode cX0_rest 2 = .ok (.iload_n 2, 1) := dk_28 (dk_at dksX0_rest_0 2 rfl rfl)
theorem dX0_rest_3 : decode cX0_rest 3 = .ok (.invokevirtual 417, 3) := dk_182 1 161 (dk_at dksX0_rest_0 3 rfl rfl)
theorem dX0_rest_6 : decode cX0_rest 6 = .ok (.ifCond .eq 10, 3) := dk_153 0 10 (dk_at dksX0_rest_0 6 rfl rfl)
theorem dX0_rest_9 : decode cX0_rest 9 = .ok (.aload_n 0, 1) := dk_42 (dk_at dksX0_rest_0 9 rfl rfl)
theorem dX0_rest_10 : decode cX0_rest 10 = .ok (.getfield 411, 3) := dk_180 1 155 (dk_at dksX0_rest_0 10 rfl rfl)
theorem dX0_rest_13 : decode cX0_rest 13 = .ok (.goto 5, 3) := dk_167 0 5 (dk_at dksX0_rest_0 13 rfl rfl)
theorem dX0_rest_16 : decode cX0_rest 16 = .ok (.bipush (-2), 2) := dk_16 254 (dk_at dksX0_rest_0 16 rfl rfl)
theorem dX0_rest_18 : decode cX0_rest 18 = .ok (.ireturn, 1) := dk_172 (dk_at dksX0_rest_0 18 rfl rfl)
abbrev cX0_chance : ByteArray := prog_1_method_108_code
def yX0_chance : MethodName := ⟨RX0, "chance", "(II)I"⟩
def dkwX0_chance_1 : List UInt8 := [182, 1, 177, 42, 180, 1, 168, 42, 180, 1, 164, 28, 184, 1, 142, 136, 172]
abbrev dktX0_chance_1 : List UInt8 := dkwX0_chance_1 ++ []
def dkwX0_chance_0 : List UInt8 := [42, 27, 133, 182, 0, 167, 153, 0, 11, 28, 5, 184, 0, 170, 154, 0, 6, 16, 254, 172, 42, 27]
abbrev dktX0_chance_0 : List UInt8 := dkwX0_chance_0 ++ dktX0_chance_1
theorem dksX0_chance_0 : cX0_chance.data.toList.drop 0 = dktX0_chance_0 := by decide +kernel
theorem dksX0_chance_1 : cX0_chance.data.toList.drop 22 = dktX0_chance_1 := dk_seg dksX0_chance_0 22 rfl rfl
theorem dX0_chance_0 : decode cX0_chance 0 = .ok (.aload_n 0, 1) := dk_42 (dk_at dksX0_chance_0 0 rfl rfl)
theorem dX0_chance_1 : decode cX0_chance 1 = .ok (.iload_n 1, 1) := dk_27 (dk_at dksX0_chance_0 1 rfl rfl)
theorem dX0_chance_2 : decode cX0_chance 2 = .ok (.i2l, 1) := dk_133 (dk_at dksX0_chance_0 2 rfl rfl)
theorem dX0_chance_3 : decode cX0_chance 3 = .ok (.invokevirtual 167, 3) := dk_182 0 167 (dk_at dksX0_chance_0 3 rfl rfl)
theorem dX0_chance_6 : decode cX0_chance 6 = .ok (.ifCond .eq 11, 3) := dk_153 0 11 (dk_at dksX0_chance_0 6 rfl rfl)
theorem dX0_chance_9 : decode cX0_chance 9 = .ok (.iload_n 2, 1) := dk_28 (dk_at dksX0_chance_0 9 rfl rfl)
theorem dX0_chance_10 : decode cX0_chance 10 = .ok (.iconst 2, 1) := dk_5 (dk_at dksX0_chance_0 10 rfl rfl)
theorem dX0_chance_11 : decode cX0_chance 11 = .ok (.invokestatic 170, 3) := dk_184 0 170 (dk_at dksX0_chance_0 11 rfl rfl)
theorem dX0_chance_14 : decode cX0_chance 14 = .ok (.ifCond .ne 6, 3) := dk_154 0 6 (dk_at dksX0_chance_0 14 rfl rfl)
theorem dX0_chance_17 : decode cX0_chance 17 = .ok (.bipush (-2), 2) := dk_16 254 (dk_at dksX0_chance_0 17 rfl rfl)
theorem dX0_chance_19 : decode cX0_chance 19 = .ok (.ireturn, 1) := dk_172 (dk_at dksX0_chance_0 19 rfl rfl)
theorem dX0_chance_20 : decode cX0_chance 20 = .ok (.aload_n 0, 1) := dk_42 (dk_at dksX0_chance_0 20 rfl rfl)
theorem dX0_chance_21 : decode cX0_chance 21 = .ok (.iload_n 1, 1) := dk_27 (dk_at dksX0_chance_0 21 rfl rfl)
theorem dX0_chance_22 : decode cX0_chance 22 = .ok (.invokevirtual 433, 3) := dk_182 1 177 (dk_at dksX0_chance_1 0 rfl rfl)
theorem dX0_chance_25 : decode cX0_chance 25 = .ok (.aload_n 0, 1) := dk_42 (dk_at dksX0_chance_1 3 rfl rfl)
theorem dX0_chance_26 : decode cX0_chance 26 = .ok (.getfield 424, 3) := dk_180 1 168 (dk_at dksX0_chance_1 4 rfl rfl)
theorem dX0_chance_29 : decode cX0_chance 29 = .ok (.aload_n 0, 1) := dk_42 (dk_at dksX0_chance_1 7 rfl rfl)
theorem dX0_chance_30 : decode cX0_chance 30 = .ok (.getfield 420, 3) := dk_180 1 164 (dk_at dksX0_chance_1 8 rfl rfl)
theorem dX0_chance_33 : decode cX0_chance 33 = .ok (.iload_n 2, 1) := dk_28 (dk_at dksX0_chance_1 11 rfl rfl)
theorem dX0_chance_34 : decode cX0_chance 34 = .ok (.invokestatic 398, 3) := dk_184 1 142 (dk_at dksX0_chance_1 12 rfl rfl)
theorem dX0_chance_37 : decode cX0_chance 37 = .ok (.l2i, 1) := dk_136 (dk_at dksX0_chance_1 15 rfl rfl)
theorem dX0_chance_38 : decode cX0_chance 38 = .ok (.ireturn, 1) := dk_172 (dk_at dksX0_chance_1 16 rfl rfl)
abbrev cX0_laysChances : ByteArray := prog_1_method_107_code
def yX0_laysChances : MethodName := ⟨RX0, "laysChances", "(I)V"⟩
def dkwX0_laysChances_7 : List UInt8 := [177]
abbrev dktX0_laysChances_7 : List UInt8 := dkwX0_laysChances_7 ++ []
def dkwX0_laysChances_6 : List UInt8 := [42, 27, 182, 0, 218, 133, 105, 97, 181, 1, 171, 42, 89, 180, 0, 203, 4, 96, 181, 0, 203, 167, 255, 120]
abbrev dktX0_laysChances_6 : List UInt8 := dkwX0_laysChances_6 ++ dktX0_laysChances_7
def dkwX0_laysChances_5 : List UInt8 := [180, 0, 83, 27, 46, 2, 160, 0, 7, 9, 167, 0, 4, 32, 97, 181, 1, 168, 42, 89, 180, 1, 171, 32]
abbrev dktX0_laysChances_5 : List UInt8 := dkwX0_laysChances_5 ++ dktX0_laysChances_6
def dkwX0_laysChances_4 : List UInt8 := [167, 255, 204, 42, 182, 0, 253, 42, 89, 180, 1, 164, 32, 97, 181, 1, 164, 42, 89, 180, 1, 168, 42]
abbrev dktX0_laysChances_4 : List UInt8 := dkwX0_laysChances_4 ++ dktX0_laysChances_5
def dkwX0_laysChances_3 : List UInt8 := [180, 1, 174, 133, 167, 0, 14, 16, 10, 42, 180, 0, 10, 180, 1, 174, 100, 133, 105, 65, 132, 4, 1]
abbrev dktX0_laysChances_3 : List UInt8 := dkwX0_laysChances_3 ++ dktX0_laysChances_4
def dkwX0_laysChances_2 : List UInt8 := [180, 0, 156, 162, 0, 46, 32, 42, 180, 0, 203, 21, 4, 184, 0, 238, 153, 0, 14, 42, 180, 0, 10]
abbrev dktX0_laysChances_2 : List UInt8 := dkwX0_laysChances_2 ++ dktX0_laysChances_3
def dkwX0_laysChances_1 : List UInt8 := [42, 180, 0, 203, 42, 182, 1, 80, 163, 0, 131, 10, 65, 3, 54, 4, 21, 4, 42, 180, 0, 10]
abbrev dktX0_laysChances_1 : List UInt8 := dkwX0_laysChances_1 ++ dktX0_laysChances_2
def dkwX0_laysChances_0 : List UInt8 := [42, 9, 181, 1, 164, 42, 9, 181, 1, 168, 42, 9, 181, 1, 171, 42, 182, 0, 250, 42, 3, 181, 0, 203]
abbrev dktX0_laysChances_0 : List UInt8 := dkwX0_laysChances_0 ++ dktX0_laysChances_1
theorem dksX0_laysChances_0 : cX0_laysChances.data.toList.drop 0 = dktX0_laysChances_0 := by decide +kernel
theorem dksX0_laysChances_1 : cX0_laysChances.data.toList.drop 24 = dktX0_laysChances_1 := dk_seg dksX0_laysChances_0 24 rfl rfl
theorem dksX0_laysChances_2 : cX0_laysChances.data.toList.drop 46 = dktX0_laysChances_2 := dk_seg dksX0_laysChances_1 22 rfl rfl
theorem dksX0_laysChances_3 : cX0_laysChances.data.toList.drop 69 = dktX0_laysChances_3 := dk_seg dksX0_laysChances_2 23 rfl rfl
theorem dksX0_laysChances_4 : cX0_laysChances.data.toList.drop 92 = dktX0_laysChances_4 := dk_seg dksX0_laysChances_3 23 rfl rfl
theorem dksX0_laysChances_5 : cX0_laysChances.data.toList.drop 115 = dktX0_laysChances_5 := dk_seg dksX0_laysChances_4 23 rfl rfl
theorem dksX0_laysChances_6 : cX0_laysChances.data.toList.drop 139 = dktX0_laysChances_6 := dk_seg dksX0_laysChances_5 24 rfl rfl
theorem dksX0_laysChances_7 : cX0_laysChances.data.toList.drop 163 = dktX0_laysChances_7 := dk_seg dksX0_laysChances_6 24 rfl rfl
theorem dX0_laysChances_0 : decode cX0_laysChances 0 = .ok (.aload_n 0, 1) := dk_42 (dk_at dksX0_laysChances_0 0 rfl rfl)
theorem dX0_laysChances_1 : decode cX0_laysChances 1 = .ok (.lconst 0, 1) := dk_9 (dk_at dksX0_laysChances_0 1 rfl rfl)
theorem dX0_laysChances_2 : decode cX0_laysChances 2 = .ok (.putfield 420, 3) := dk_181 1 164 (dk_at dksX0_laysChances_0 2 rfl rfl)
theorem dX0_laysChances_5 : decode cX0_laysChances 5 = .ok (.aload_n 0, 1) := dk_42 (dk_at dksX0_laysChances_0 5 rfl rfl)
theorem dX0_laysChances_6 : decode cX0_laysChances 6 = .ok (.lconst 0, 1) := dk_9 (dk_at dksX0_laysChances_0 6 rfl rfl)
theorem dX0_laysChances_7 : decode cX0_laysChances 7 = .ok (.putfield 424, 3) := dk_181 1 168 (dk_at dksX0_laysChances_0 7 rfl rfl)
theorem dX0_laysChances_10 : decode cX0_laysChances 10 = .ok (.aload_n 0, 1) := dk_42 (dk_at dksX0_laysChances_0 10 rfl rfl)
theorem dX0_laysChances_11 : decode cX0_laysChances 11 = .ok (.lconst 0, 1) := dk_9 (dk_at dksX0_laysChances_0 11 rfl rfl)
theorem dX0_laysChances_12 : decode cX0_laysChances 12 = .ok (.putfield 427, 3) := dk_181 1 171 (dk_at dksX0_laysChances_0 12 rfl rfl)
theorem dX0_laysChances_15 : decode cX0_laysChances 15 = .ok (.aload_n 0, 1) := dk_42 (dk_at dksX0_laysChances_0 15 rfl rfl)
theorem dX0_laysChances_16 : decode cX0_laysChances 16 = .ok (.invokevirtual 250, 3) := dk_182 0 250 (dk_at dksX0_laysChances_0 16 rfl rfl)
theorem dX0_laysChances_19 : decode cX0_laysChances 19 = .ok (.aload_n 0, 1) := dk_42 (dk_at dksX0_laysChances_0 19 rfl rfl)
theorem dX0_laysChances_20 : decode cX0_laysChances 20 = .ok (.iconst 0, 1) := dk_3 (dk_at dksX0_laysChances_0 20 rfl rfl)
theorem dX0_laysChances_21 : decode cX0_laysChances 21 = .ok (.putfield 203, 3) := dk_181 0 203 (dk_at dksX0_laysChances_0 21 rfl rfl)
theorem dX0_laysChances_24 : decode cX0_laysChances 24 = .ok (.aload_n 0, 1) := dk_42 (dk_at dksX0_laysChances_1 0 rfl rfl)
theorem dX0_laysChances_25 : decode cX0_laysChances 25 = .ok (.getfield 203, 3) := dk_180 0 203 (dk_at dksX0_laysChances_1 1 rfl rfl)
theorem dX0_laysChances_28 : decode cX0_laysChances 28 = .ok (.aload_n 0, 1) := dk_42 (dk_at dksX0_laysChances_1 4 rfl rfl)
theorem dX0_laysChances_29 : decode cX0_laysChances 29 = .ok (.invokevirtual 336, 3) := dk_182 1 80 (dk_at dksX0_laysChances_1 5 rfl rfl)
theorem dX0_laysChances_32 : decode cX0_laysChances 32 = .ok (.if_icmp .gt 131, 3) := dk_163 0 131 (dk_at dksX0_laysChances_1 8 rfl rfl)
theorem dX0_laysChances_35 : decode cX0_laysChances 35 = .ok (.lconst 1, 1) := dk_10 (dk_at dksX0_laysChances_1 11 rfl rfl)
theorem dX0_laysChances_36 : decode cX0_laysChances 36 = .ok (.lstore_n 2, 1) := dk_65 (dk_at dksX0_laysChances_1 12 rfl rfl)
theorem dX0_laysChances_37 : decode cX0_laysChances 37 = .ok (.iconst 0, 1) := dk_3 (dk_at dksX0_laysChances_1 13 rfl rfl)
theorem dX0_laysChances_38 : decode cX0_laysChances 38 = .ok (.istore 4, 2) := dk_54 4 (dk_at dksX0_laysChances_1 14 rfl rfl)
theorem dX0_laysChances_40 : decode cX0_laysChances 40 = .ok (.iload 4, 2) := dk_21 4 (dk_at dksX0_laysChances_1 16 rfl rfl)
theorem dX0_laysChances_42 : decode cX0_laysChances 42 = .ok (.aload_n 0, 1) := dk_42 (dk_at dksX0_laysChances_1 18 rfl rfl)
theorem dX0_laysChances_43 : decode cX0_laysChances 43 = .ok (.getfield 10, 3) := dk_180 0 10 (dk_at dksX0_laysChances_1 19 rfl rfl)
theorem dX0_laysChances_46 : decode cX0_laysChances 46 = .ok (.getfield 156, 3) := dk_180 0 156 (dk_at dksX0_laysChances_2 0 rfl rfl)
theorem dX0_laysChances_49 : decode cX0_laysChances 49 = .ok (.if_icmp .ge 46, 3) := dk_162 0 46 (dk_at dksX0_laysChances_2 3 rfl rfl)
theorem dX0_laysChances_52 : decode cX0_laysChances 52 = .ok (.lload_n 2, 1) := dk_32 (dk_at dksX0_laysChances_2 6 rfl rfl)
theorem dX0_laysChances_53 : decode cX0_laysChances 53 = .ok (.aload_n 0, 1) := dk_42 (dk_at dksX0_laysChances_2 7 rfl rfl)
theorem dX0_laysChances_54 : decode cX0_laysChances 54 = .ok (.getfield 203, 3) := dk_180 0 203 (dk_at dksX0_laysChances_2 8 rfl rfl)
theorem dX0_laysChances_57 : decode cX0_laysChances 57 = .ok (.iload 4, 2) := dk_21 4 (dk_at dksX0_laysChances_2 11 rfl rfl)
theorem dX0_laysChances_59 : decode cX0_laysChances 59 = .ok (.invokestatic 238, 3) := dk_184 0 238 (dk_at dksX0_laysChances_2 13 rfl rfl)
theorem dX0_laysChances_62 : decode cX0_laysChances 62 = .ok (.ifCond .eq 14, 3) := dk_153 0 14 (dk_at dksX0_laysChances_2 16 rfl rfl)
theorem dX0_laysChances_65 : decode cX0_laysChances 65 = .ok (.aload_n 0, 1) := dk_42 (dk_at dksX0_laysChances_2 19 rfl rfl)
theorem dX0_laysChances_66 : decode cX0_laysChances 66 = .ok (.getfield 10, 3) := dk_180 0 10 (dk_at dksX0_laysChances_2 20 rfl rfl)
theorem dX0_laysChances_69 : decode cX0_laysChances 69 = .ok (.getfield 430, 3) := dk_180 1 174 (dk_at dksX0_laysChances_3 0 rfl rfl)
theorem dX0_laysChances_72 : decode cX0_laysChances 72 = .ok (.i2l, 1) := dk_133 (dk_at dksX0_laysChances_3 3 rfl rfl)
theorem dX0_laysChances_73 : decode cX0_laysChances 73 = .ok (.goto 14, 3) := dk_167 0 14 (dk_at dksX0_laysChances_3 4 rfl rfl)
theorem dX0_laysChances_76 : decode cX0_laysChances 76 = .ok (.bipush 10, 2) := dk_16 10 (dk_at dksX0_laysChances_3 7 rfl rfl)
theorem dX0_laysChances_78 : decode cX0_laysChances 78 = .ok (.aload_n 0, 1) := dk_42 (dk_at dksX0_laysChances_3 9 rfl rfl)
theorem dX0_laysChances_79 : decode cX0_laysChances 79 = .ok (.getfield 10, 3) := dk_180 0 10 (dk_at dksX0_laysChances_3 10 rfl rfl)
theorem dX0_laysChances_82 : decode cX0_laysChances 82 = .ok (.getfield 430, 3) := dk_180 1 174 (dk_at dksX0_laysChances_3 13 rfl rfl)
theorem dX0_laysChances_85 : decode cX0_laysChances 85 = .ok (.isub, 1) := dk_100 (dk_at dksX0_laysChances_3 16 rfl rfl)
theorem dX0_laysChances_86 : decode cX0_laysChances 86 = .ok (.i2l, 1) := dk_133 (dk_at dksX0_laysChances_3 17 rfl rfl)
theorem dX0_laysChances_87 : decode cX0_laysChances 87 = .ok (.lmul, 1) := dk_105 (dk_at dksX0_laysChances_3 18 rfl rfl)
theorem dX0_laysChances_88 : decode cX0_laysChances 88 = .ok (.lstore_n 2, 1) := dk_65 (dk_at dksX0_laysChances_3 19 rfl rfl)
theorem dX0_laysChances_89 : decode cX0_laysChances 89 = .ok (.iinc 4 1, 3) := dk_132 4 1 (dk_at dksX0_laysChances_3 20 rfl rfl)
theorem dX0_laysChances_92 : decode cX0_laysChances 92 = .ok (.goto (-52), 3) := dk_167 255 204 (dk_at dksX0_laysChances_4 0 rfl rfl)
theorem dX0_laysChances_95 : decode cX0_laysChances 95 = .ok (.aload_n 0, 1) := dk_42 (dk_at dksX0_laysChances_4 3 rfl rfl)
theorem dX0_laysChances_96 : decode cX0_laysChances 96 = .ok (.invokevirtual 253, 3) := dk_182 0 253 (dk_at dksX0_laysChances_4 4 rfl rfl)
theorem dX0_laysChances_99 : decode cX0_laysChances 99 = .ok (.aload_n 0, 1) := dk_42 (dk_at dksX0_laysChances_4 7 rfl rfl)
theorem dX0_laysChances_100 : decode cX0_laysChances 100 = .ok (.dup, 1) := dk_89 (dk_at dksX0_laysChances_4 8 rfl rfl)
theorem dX0_laysChances_101 : decode cX0_laysChances 101 = .ok (.getfield 420, 3) := dk_180 1 164 (dk_at dksX0_laysChances_4 9 rfl rfl)
theorem dX0_laysChances_104 : decode cX0_laysChances 104 = .ok (.lload_n 2, 1) := dk_32 (dk_at dksX0_laysChances_4 12 rfl rfl)
theorem dX0_laysChances_105 : decode cX0_laysChances 105 = .ok (.ladd, 1) := dk_97 (dk_at dksX0_laysChances_4 13 rfl rfl)
theorem dX0_laysChances_106 : decode cX0_laysChances 106 = .ok (.putfield 420, 3) := dk_181 1 164 (dk_at dksX0_laysChances_4 14 rfl rfl)
theorem dX0_laysChances_109 : decode cX0_laysChances 109 = .ok (.aload_n 0, 1) := dk_42 (dk_at dksX0_laysChances_4 17 rfl rfl)
theorem dX0_laysChances_110 : decode cX0_laysChances 110 = .ok (.dup, 1) := dk_89 (dk_at dksX0_laysChances_4 18 rfl rfl)
theorem dX0_laysChances_111 : decode cX0_laysChances 111 = .ok (.getfield 424, 3) := dk_180 1 168 (dk_at dksX0_laysChances_4 19 rfl rfl)
theorem dX0_laysChances_114 : decode cX0_laysChances 114 = .ok (.aload_n 0, 1) := dk_42 (dk_at dksX0_laysChances_4 22 rfl rfl)
theorem dX0_laysChances_115 : decode cX0_laysChances 115 = .ok (.getfield 83, 3) := dk_180 0 83 (dk_at dksX0_laysChances_5 0 rfl rfl)
theorem dX0_laysChances_118 : decode cX0_laysChances 118 = .ok (.iload_n 1, 1) := dk_27 (dk_at dksX0_laysChances_5 3 rfl rfl)
theorem dX0_laysChances_119 : decode cX0_laysChances 119 = .ok (.iaload, 1) := dk_46 (dk_at dksX0_laysChances_5 4 rfl rfl)
theorem dX0_laysChances_120 : decode cX0_laysChances 120 = .ok (.iconst (-1), 1) := dk_2 (dk_at dksX0_laysChances_5 5 rfl rfl)
theorem dX0_laysChances_121 : decode cX0_laysChances 121 = .ok (.if_icmp .ne 7, 3) := dk_160 0 7 (dk_at dksX0_laysChances_5 6 rfl rfl)
theorem dX0_laysChances_124 : decode cX0_laysChances 124 = .ok (.lconst 0, 1) := dk_9 (dk_at dksX0_laysChances_5 9 rfl rfl)
theorem dX0_laysChances_125 : decode cX0_laysChances 125 = .ok (.goto 4, 3) := dk_167 0 4 (dk_at dksX0_laysChances_5 10 rfl rfl)
theorem dX0_laysChances_128 : decode cX0_laysChances 128 = .ok (.lload_n 2, 1) := dk_32 (dk_at dksX0_laysChances_5 13 rfl rfl)
theorem dX0_laysChances_129 : decode cX0_laysChances 129 = .ok (.ladd, 1) := dk_97 (dk_at dksX0_laysChances_5 14 rfl rfl)
theorem dX0_laysChances_130 : decode cX0_laysChances 130 = .ok (.putfield 424, 3) := dk_181 1 168 (dk_at dksX0_laysChances_5 15 rfl rfl)
theorem dX0_laysChances_133 : decode cX0_laysChances 133 = .ok (.aload_n 0, 1) := dk_42 (dk_at dksX0_laysChances_5 18 rfl rfl)
theorem dX0_laysChances_134 : decode cX0_laysChances 134 = .ok (.dup, 1) := dk_89 (dk_at dksX0_laysChances_5 19 rfl rfl)
theorem dX0_laysChances_135 : decode cX0_laysChances 135 = .ok (.getfield 427, 3) := dk_180 1 171 (dk_at dksX0_laysChances_5 20 rfl rfl)
theorem dX0_laysChances_138 : decode cX0_laysChances 138 = .ok (.lload_n 2, 1) := dk_32 (dk_at dksX0_laysChances_5 23 rfl rfl)
theorem dX0_laysChances_139 : decode cX0_laysChances 139 = .ok (.aload_n 0, 1) := dk_42 (dk_at dksX0_laysChances_6 0 rfl rfl)
theorem dX0_laysChances_140 : decode cX0_laysChances 140 = .ok (.iload_n 1, 1) := dk_27 (dk_at dksX0_laysChances_6 1 rfl rfl)
theorem dX0_laysChances_141 : decode cX0_laysChances 141 = .ok (.invokevirtual 218, 3) := dk_182 0 218 (dk_at dksX0_laysChances_6 2 rfl rfl)
theorem dX0_laysChances_144 : decode cX0_laysChances 144 = .ok (.i2l, 1) := dk_133 (dk_at dksX0_laysChances_6 5 rfl rfl)
theorem dX0_laysChances_145 : decode cX0_laysChances 145 = .ok (.lmul, 1) := dk_105 (dk_at dksX0_laysChances_6 6 rfl rfl)
theorem dX0_laysChances_146 : decode cX0_laysChances 146 = .ok (.ladd, 1) := dk_97 (dk_at dksX0_laysChances_6 7 rfl rfl)
theorem dX0_laysChances_147 : decode cX0_laysChances 147 = .ok (.putfield 427, 3) := dk_181 1 171 (dk_at dksX0_laysChances_6 8 rfl rfl)
theorem dX0_laysChances_150 : decode cX0_laysChances 150 = .ok (.aload_n 0, 1) := dk_42 (dk_at dksX0_laysChances_6 11 rfl rfl)
theorem dX0_laysChances_151 : decode cX0_laysChances 151 = .ok (.dup, 1) := dk_89 (dk_at dksX0_laysChances_6 12 rfl rfl)
theorem dX0_laysChances_152 : decode cX0_laysChances 152 = .ok (.getfield 203, 3) := dk_180 0 203 (dk_at dksX0_laysChances_6 13 rfl rfl)
theorem dX0_laysChances_155 : decode cX0_laysChances 155 = .ok (.iconst 1, 1) := dk_4 (dk_at dksX0_laysChances_6 16 rfl rfl)
theorem dX0_laysChances_156 : decode cX0_laysChances 156 = .ok (.iadd, 1) := dk_96 (dk_at dksX0_laysChances_6 17 rfl rfl)
theorem dX0_laysChances_157 : decode cX0_laysChances 157 = .ok (.putfield 203, 3) := dk_181 0 203 (dk_at dksX0_laysChances_6 18 rfl rfl)
theorem dX0_laysChances_160 : decode cX0_laysChances 160 = .ok (.goto (-136), 3) := dk_167 255 120 (dk_at dksX0_laysChances_6 21 rfl rfl)
theorem dX0_laysChances_163 : decode cX0_laysChances 163 = .ok (.return_, 1) := dk_177 (dk_at dksX0_laysChances_7 0 rfl rfl)
abbrev cX0_mean : ByteArray := prog_1_method_109_code
def yX0_mean : MethodName := ⟨RX0, "mean", "(II)J"⟩
def dkwX0_mean_1 : List UInt8 := [182, 1, 177, 42, 180, 1, 171, 42, 180, 1, 164, 28, 184, 1, 142, 173]
abbrev dktX0_mean_1 : List UInt8 := dkwX0_mean_1 ++ []
def dkwX0_mean_0 : List UInt8 := [42, 27, 133, 182, 0, 167, 153, 0, 11, 28, 5, 184, 0, 170, 154, 0, 7, 20, 1, 180, 173, 42, 27]
abbrev dktX0_mean_0 : List UInt8 := dkwX0_mean_0 ++ dktX0_mean_1
theorem dksX0_mean_0 : cX0_mean.data.toList.drop 0 = dktX0_mean_0 := by decide +kernel
theorem dksX0_mean_1 : cX0_mean.data.toList.drop 23 = dktX0_mean_1 := dk_seg dksX0_mean_0 23 rfl rfl
theorem dX0_mean_0 : decode cX0_mean 0 = .ok (.aload_n 0, 1) := dk_42 (dk_at dksX0_mean_0 0 rfl rfl)
theorem dX0_mean_1 : decode cX0_mean 1 = .ok (.iload_n 1, 1) := dk_27 (dk_at dksX0_mean_0 1 rfl rfl)
theorem dX0_mean_2 : decode cX0_mean 2 = .ok (.i2l, 1) := dk_133 (dk_at dksX0_mean_0 2 rfl rfl)
theorem dX0_mean_3 : decode cX0_mean 3 = .ok (.invokevirtual 167, 3) := dk_182 0 167 (dk_at dksX0_mean_0 3 rfl rfl)
theorem dX0_mean_6 : decode cX0_mean 6 = .ok (.ifCond .eq 11, 3) := dk_153 0 11 (dk_at dksX0_mean_0 6 rfl rfl)
theorem dX0_mean_9 : decode cX0_mean 9 = .ok (.iload_n 2, 1) := dk_28 (dk_at dksX0_mean_0 9 rfl rfl)
theorem dX0_mean_10 : decode cX0_mean 10 = .ok (.iconst 2, 1) := dk_5 (dk_at dksX0_mean_0 10 rfl rfl)
theorem dX0_mean_11 : decode cX0_mean 11 = .ok (.invokestatic 170, 3) := dk_184 0 170 (dk_at dksX0_mean_0 11 rfl rfl)
theorem dX0_mean_14 : decode cX0_mean 14 = .ok (.ifCond .ne 7, 3) := dk_154 0 7 (dk_at dksX0_mean_0 14 rfl rfl)
theorem dX0_mean_17 : decode cX0_mean 17 = .ok (.ldc2_w 436, 3) := dk_20 1 180 (dk_at dksX0_mean_0 17 rfl rfl)
theorem dX0_mean_20 : decode cX0_mean 20 = .ok (.lreturn, 1) := dk_173 (dk_at dksX0_mean_0 20 rfl rfl)
theorem dX0_mean_21 : decode cX0_mean 21 = .ok (.aload_n 0, 1) := dk_42 (dk_at dksX0_mean_0 21 rfl rfl)
theorem dX0_mean_22 : decode cX0_mean 22 = .ok (.iload_n 1, 1) := dk_27 (dk_at dksX0_mean_0 22 rfl rfl)
theorem dX0_mean_23 : decode cX0_mean 23 = .ok (.invokevirtual 433, 3) := dk_182 1 177 (dk_at dksX0_mean_1 0 rfl rfl)
theorem dX0_mean_26 : decode cX0_mean 26 = .ok (.aload_n 0, 1) := dk_42 (dk_at dksX0_mean_1 3 rfl rfl)
theorem dX0_mean_27 : decode cX0_mean 27 = .ok (.getfield 427, 3) := dk_180 1 171 (dk_at dksX0_mean_1 4 rfl rfl)
theorem dX0_mean_30 : decode cX0_mean 30 = .ok (.aload_n 0, 1) := dk_42 (dk_at dksX0_mean_1 7 rfl rfl)
theorem dX0_mean_31 : decode cX0_mean 31 = .ok (.getfield 420, 3) := dk_180 1 164 (dk_at dksX0_mean_1 8 rfl rfl)
theorem dX0_mean_34 : decode cX0_mean 34 = .ok (.iload_n 2, 1) := dk_28 (dk_at dksX0_mean_1 11 rfl rfl)
theorem dX0_mean_35 : decode cX0_mean 35 = .ok (.invokestatic 398, 3) := dk_184 1 142 (dk_at dksX0_mean_1 12 rfl rfl)
theorem dX0_mean_38 : decode cX0_mean 38 = .ok (.lreturn, 1) := dk_173 (dk_at dksX0_mean_1 15 rfl rfl)
abbrev cX0_drawn : ByteArray := prog_1_method_111_code
def yX0_drawn : MethodName := ⟨RX0, "drawn", "(II)I"⟩
def dkwX0_drawn_1 : List UInt8 := [172, 42, 27, 133, 182, 1, 195, 28, 154, 0, 10, 42, 180, 0, 203, 167, 0, 7, 42, 182, 1, 11, 172]
abbrev dktX0_drawn_1 : List UInt8 := dkwX0_drawn_1 ++ []
def dkwX0_drawn_0 : List UInt8 := [42, 182, 1, 0, 153, 0, 18, 27, 184, 1, 192, 153, 0, 11, 28, 5, 184, 0, 170, 154, 0, 6, 16, 254]
abbrev dktX0_drawn_0 : List UInt8 := dkwX0_drawn_0 ++ dktX0_drawn_1
theorem dksX0_drawn_0 : cX0_drawn.data.toList.drop 0 = dktX0_drawn_0 := by decide +kernel
theorem dksX0_drawn_1 : cX0_drawn.data.toList.drop 24 = dktX0_drawn_1 := dk_seg dksX0_drawn_0 24 rfl rfl
theorem dX0_drawn_0 : decode cX0_drawn 0 = .ok (.aload_n 0, 1) := dk_42 (dk_at dksX0_drawn_0 0 rfl rfl)
theorem dX0_drawn_1 : decode cX0_drawn 1 = .ok (.invokevirtual 256, 3) := dk_182 1 0 (dk_at dksX0_drawn_0 1 rfl rfl)
theorem dX0_drawn_4 : decode cX0_drawn 4 = .ok (.ifCond .eq 18, 3) := dk_153 0 18 (dk_at dksX0_drawn_0 4 rfl rfl)
theorem dX0_drawn_7 : decode cX0_drawn 7 = .ok (.iload_n 1, 1) := dk_27 (dk_at dksX0_drawn_0 7 rfl rfl)
theorem dX0_drawn_8 : decode cX0_drawn 8 = .ok (.invokestatic 448, 3) := dk_184 1 192 (dk_at dksX0_drawn_0 8 rfl rfl)
theorem dX0_drawn_11 : decode cX0_drawn 11 = .ok (.ifCond .eq 11, 3) := dk_153 0 11 (dk_at dksX0_drawn_0 11 rfl rfl)
theorem dX0_drawn_14 : decode cX0_drawn 14 = .ok (.iload_n 2, 1) := dk_28 (dk_at dksX0_drawn_0 14 rfl rfl)
theorem dX0_drawn_15 : decode cX0_drawn 15 = .ok (.iconst 2, 1) := dk_5 (dk_at dksX0_drawn_0 15 rfl rfl)
theorem dX0_drawn_16 : decode cX0_drawn 16 = .ok (.invokestatic 170, 3) := dk_184 0 170 (dk_at dksX0_drawn_0 16 rfl rfl)
theorem dX0_drawn_19 : decode cX0_drawn 19 = .ok (.ifCond .ne 6, 3) := dk_154 0 6 (dk_at dksX0_drawn_0 19 rfl rfl)
theorem dX0_drawn_22 : decode cX0_drawn 22 = .ok (.bipush (-2), 2) := dk_16 254 (dk_at dksX0_drawn_0 22 rfl rfl)
theorem dX0_drawn_24 : decode cX0_drawn 24 = .ok (.ireturn, 1) := dk_172 (dk_at dksX0_drawn_1 0 rfl rfl)
theorem dX0_drawn_25 : decode cX0_drawn 25 = .ok (.aload_n 0, 1) := dk_42 (dk_at dksX0_drawn_1 1 rfl rfl)
theorem dX0_drawn_26 : decode cX0_drawn 26 = .ok (.iload_n 1, 1) := dk_27 (dk_at dksX0_drawn_1 2 rfl rfl)
theorem dX0_drawn_27 : decode cX0_drawn 27 = .ok (.i2l, 1) := dk_133 (dk_at dksX0_drawn_1 3 rfl rfl)
theorem dX0_drawn_28 : decode cX0_drawn 28 = .ok (.invokevirtual 451, 3) := dk_182 1 195 (dk_at dksX0_drawn_1 4 rfl rfl)
theorem dX0_drawn_31 : decode cX0_drawn 31 = .ok (.iload_n 2, 1) := dk_28 (dk_at dksX0_drawn_1 7 rfl rfl)
theorem dX0_drawn_32 : decode cX0_drawn 32 = .ok (.ifCond .ne 10, 3) := dk_154 0 10 (dk_at dksX0_drawn_1 8 rfl rfl)
theorem dX0_drawn_35 : decode cX0_drawn 35 = .ok (.aload_n 0, 1) := dk_42 (dk_at dksX0_drawn_1 11 rfl rfl)
theorem dX0_drawn_36 : decode cX0_drawn 36 = .ok (.getfield 203, 3) := dk_180 0 203 (dk_at dksX0_drawn_1 12 rfl rfl)
theorem dX0_drawn_39 : decode cX0_drawn 39 = .ok (.goto 7, 3) := dk_167 0 7 (dk_at dksX0_drawn_1 15 rfl rfl)
theorem dX0_drawn_42 : decode cX0_drawn 42 = .ok (.aload_n 0, 1) := dk_42 (dk_at dksX0_drawn_1 18 rfl rfl)
theorem dX0_drawn_43 : decode cX0_drawn 43 = .ok (.invokevirtual 267, 3) := dk_182 1 11 (dk_at dksX0_drawn_1 19 rfl rfl)
theorem dX0_drawn_46 : decode cX0_drawn 46 = .ok (.ireturn, 1) := dk_172 (dk_at dksX0_drawn_1 22 rfl rfl)
abbrev cX0_isSeed : ByteArray := prog_1_method_15_code
def yX0_isSeed : MethodName := ⟨RX0, "isSeed", "(I)Z"⟩
def dkwX0_isSeed_0 : List UInt8 := [26, 133, 9, 20, 0, 165, 184, 0, 128, 172]
abbrev dktX0_isSeed_0 : List UInt8 := dkwX0_isSeed_0 ++ []
theorem dksX0_isSeed_0 : cX0_isSeed.data.toList.drop 0 = dktX0_isSeed_0 := by decide +kernel
theorem dX0_isSeed_0 : decode cX0_isSeed 0 = .ok (.iload_n 0, 1) := dk_26 (dk_at dksX0_isSeed_0 0 rfl rfl)
theorem dX0_isSeed_1 : decode cX0_isSeed 1 = .ok (.i2l, 1) := dk_133 (dk_at dksX0_isSeed_0 1 rfl rfl)
theorem dX0_isSeed_2 : decode cX0_isSeed 2 = .ok (.lconst 0, 1) := dk_9 (dk_at dksX0_isSeed_0 2 rfl rfl)
theorem dX0_isSeed_3 : decode cX0_isSeed 3 = .ok (.ldc2_w 165, 3) := dk_20 0 165 (dk_at dksX0_isSeed_0 3 rfl rfl)
theorem dX0_isSeed_6 : decode cX0_isSeed 6 = .ok (.invokestatic 128, 3) := dk_184 0 128 (dk_at dksX0_isSeed_0 6 rfl rfl)
theorem dX0_isSeed_9 : decode cX0_isSeed 9 = .ok (.ireturn, 1) := dk_172 (dk_at dksX0_isSeed_0 9 rfl rfl)
abbrev cX0_draws : ByteArray := prog_1_method_110_code
def yX0_draws : MethodName := ⟨RX0, "draws", "(J)V"⟩
def dkwX0_draws_3 : List UInt8 := [167, 0, 4, 3, 128, 181, 0, 203, 132, 5, 1, 167, 255, 189, 42, 182, 0, 253, 177]
abbrev dktX0_draws_3 : List UInt8 := dkwX0_draws_3 ++ []
def dkwX0_draws_2 : List UInt8 := [20, 1, 188, 109, 20, 1, 190, 113, 42, 180, 0, 10, 180, 1, 174, 133, 148, 156, 0, 10, 4, 21, 5, 120]
abbrev dktX0_draws_2 : List UInt8 := dkwX0_draws_2 ++ dktX0_draws_3
def dkwX0_draws_1 : List UInt8 := [162, 0, 61, 20, 1, 182, 33, 105, 20, 1, 184, 97, 20, 1, 186, 113, 66, 42, 89, 180, 0, 203, 33]
abbrev dktX0_draws_1 : List UInt8 := dkwX0_draws_1 ++ dktX0_draws_2
def dkwX0_draws_0 : List UInt8 := [42, 182, 0, 250, 42, 3, 181, 0, 203, 31, 66, 3, 54, 5, 21, 5, 42, 180, 0, 10, 180, 0, 156]
abbrev dktX0_draws_0 : List UInt8 := dkwX0_draws_0 ++ dktX0_draws_1
theorem dksX0_draws_0 : cX0_draws.data.toList.drop 0 = dktX0_draws_0 := by decide +kernel
theorem dksX0_draws_1 : cX0_draws.data.toList.drop 23 = dktX0_draws_1 := dk_seg dksX0_draws_0 23 rfl rfl
theorem dksX0_draws_2 : cX0_draws.data.toList.drop 46 = dktX0_draws_2 := dk_seg dksX0_draws_1 23 rfl rfl
theorem dksX0_draws_3 : cX0_draws.data.toList.drop 70 = dktX0_draws_3 := dk_seg dksX0_draws_2 24 rfl rfl
theorem dX0_draws_0 : decode cX0_draws 0 = .ok (.aload_n 0, 1) := dk_42 (dk_at dksX0_draws_0 0 rfl rfl)
theorem dX0_draws_1 : decode cX0_draws 1 = .ok (.invokevirtual 250, 3) := dk_182 0 250 (dk_at dksX0_draws_0 1 rfl rfl)
theorem dX0_draws_4 : decode cX0_draws 4 = .ok (.aload_n 0, 1) := dk_42 (dk_at dksX0_draws_0 4 rfl rfl)
theorem dX0_draws_5 : decode cX0_draws 5 = .ok (.iconst 0, 1) := dk_3 (dk_at dksX0_draws_0 5 rfl rfl)
theorem dX0_draws_6 : decode cX0_draws 6 = .ok (.putfield 203, 3) := dk_181 0 203 (dk_at dksX0_draws_0 6 rfl rfl)
theorem dX0_draws_9 : decode cX0_draws 9 = .ok (.lload_n 1, 1) := dk_31 (dk_at dksX0_draws_0 9 rfl rfl)
theorem dX0_draws_10 : decode cX0_draws 10 = .ok (.lstore_n 3, 1) := dk_66 (dk_at dksX0_draws_0 10 rfl rfl)
theorem dX0_draws_11 : decode cX0_draws 11 = .ok (.iconst 0, 1) := dk_3 (dk_at dksX0_draws_0 11 rfl rfl)
theorem dX0_draws_12 : decode cX0_draws 12 = .ok (.istore 5, 2) := dk_54 5 (dk_at dksX0_draws_0 12 rfl rfl)
theorem dX0_draws_14 : decode cX0_draws 14 = .ok (.iload 5, 2) := dk_21 5 (dk_at dksX0_draws_0 14 rfl rfl)
theorem dX0_draws_16 : decode cX0_draws 16 = .ok (.aload_n 0, 1) := dk_42 (dk_at dksX0_draws_0 16 rfl rfl)
theorem dX0_draws_17 : decode cX0_draws 17 = .ok (.getfield 10, 3) := dk_180 0 10 (dk_at dksX0_draws_0 17 rfl rfl)
theorem dX0_draws_20 : decode cX0_draws 20 = .ok (.getfield 156, 3) := dk_180 0 156 (dk_at dksX0_draws_0 20 rfl rfl)
theorem dX0_draws_23 : decode cX0_draws 23 = .ok (.if_icmp .ge 61, 3) := dk_162 0 61 (dk_at dksX0_draws_1 0 rfl rfl)
theorem dX0_draws_26 : decode cX0_draws 26 = .ok (.ldc2_w 438, 3) := dk_20 1 182 (dk_at dksX0_draws_1 3 rfl rfl)
theorem dX0_draws_29 : decode cX0_draws 29 = .ok (.lload_n 3, 1) := dk_33 (dk_at dksX0_draws_1 6 rfl rfl)
theorem dX0_draws_30 : decode cX0_draws 30 = .ok (.lmul, 1) := dk_105 (dk_at dksX0_draws_1 7 rfl rfl)
theorem dX0_draws_31 : decode cX0_draws 31 = .ok (.ldc2_w 440, 3) := dk_20 1 184 (dk_at dksX0_draws_1 8 rfl rfl)
theorem dX0_draws_34 : decode cX0_draws 34 = .ok (.ladd, 1) := dk_97 (dk_at dksX0_draws_1 11 rfl rfl)
theorem dX0_draws_35 : decode cX0_draws 35 = .ok (.ldc2_w 442, 3) := dk_20 1 186 (dk_at dksX0_draws_1 12 rfl rfl)
theorem dX0_draws_38 : decode cX0_draws 38 = .ok (.lrem, 1) := dk_113 (dk_at dksX0_draws_1 15 rfl rfl)
theorem dX0_draws_39 : decode cX0_draws 39 = .ok (.lstore_n 3, 1) := dk_66 (dk_at dksX0_draws_1 16 rfl rfl)
theorem dX0_draws_40 : decode cX0_draws 40 = .ok (.aload_n 0, 1) := dk_42 (dk_at dksX0_draws_1 17 rfl rfl)
theorem dX0_draws_41 : decode cX0_draws 41 = .ok (.dup, 1) := dk_89 (dk_at dksX0_draws_1 18 rfl rfl)
theorem dX0_draws_42 : decode cX0_draws 42 = .ok (.getfield 203, 3) := dk_180 0 203 (dk_at dksX0_draws_1 19 rfl rfl)
theorem dX0_draws_45 : decode cX0_draws 45 = .ok (.lload_n 3, 1) := dk_33 (dk_at dksX0_draws_1 22 rfl rfl)
theorem dX0_draws_46 : decode cX0_draws 46 = .ok (.ldc2_w 444, 3) := dk_20 1 188 (dk_at dksX0_draws_2 0 rfl rfl)
theorem dX0_draws_49 : decode cX0_draws 49 = .ok (.ldiv, 1) := dk_109 (dk_at dksX0_draws_2 3 rfl rfl)
theorem dX0_draws_50 : decode cX0_draws 50 = .ok (.ldc2_w 446, 3) := dk_20 1 190 (dk_at dksX0_draws_2 4 rfl rfl)
theorem dX0_draws_53 : decode cX0_draws 53 = .ok (.lrem, 1) := dk_113 (dk_at dksX0_draws_2 7 rfl rfl)
theorem dX0_draws_54 : decode cX0_draws 54 = .ok (.aload_n 0, 1) := dk_42 (dk_at dksX0_draws_2 8 rfl rfl)
theorem dX0_draws_55 : decode cX0_draws 55 = .ok (.getfield 10, 3) := dk_180 0 10 (dk_at dksX0_draws_2 9 rfl rfl)
theorem dX0_draws_58 : decode cX0_draws 58 = .ok (.getfield 430, 3) := dk_180 1 174 (dk_at dksX0_draws_2 12 rfl rfl)
theorem dX0_draws_61 : decode cX0_draws 61 = .ok (.i2l, 1) := dk_133 (dk_at dksX0_draws_2 15 rfl rfl)
theorem dX0_draws_62 : decode cX0_draws 62 = .ok (.lcmp, 1) := dk_148 (dk_at dksX0_draws_2 16 rfl rfl)
theorem dX0_draws_63 : decode cX0_draws 63 = .ok (.ifCond .ge 10, 3) := dk_156 0 10 (dk_at dksX0_draws_2 17 rfl rfl)
theorem dX0_draws_66 : decode cX0_draws 66 = .ok (.iconst 1, 1) := dk_4 (dk_at dksX0_draws_2 20 rfl rfl)
theorem dX0_draws_67 : decode cX0_draws 67 = .ok (.iload 5, 2) := dk_21 5 (dk_at dksX0_draws_2 21 rfl rfl)
theorem dX0_draws_69 : decode cX0_draws 69 = .ok (.ishl, 1) := dk_120 (dk_at dksX0_draws_2 23 rfl rfl)
theorem dX0_draws_70 : decode cX0_draws 70 = .ok (.goto 4, 3) := dk_167 0 4 (dk_at dksX0_draws_3 0 rfl rfl)
theorem dX0_draws_73 : decode cX0_draws 73 = .ok (.iconst 0, 1) := dk_3 (dk_at dksX0_draws_3 3 rfl rfl)
theorem dX0_draws_74 : decode cX0_draws 74 = .ok (.ior, 1) := dk_128 (dk_at dksX0_draws_3 4 rfl rfl)
theorem dX0_draws_75 : decode cX0_draws 75 = .ok (.putfield 203, 3) := dk_181 0 203 (dk_at dksX0_draws_3 5 rfl rfl)
theorem dX0_draws_78 : decode cX0_draws 78 = .ok (.iinc 5 1, 3) := dk_132 5 1 (dk_at dksX0_draws_3 8 rfl rfl)
theorem dX0_draws_81 : decode cX0_draws 81 = .ok (.goto (-67), 3) := dk_167 255 189 (dk_at dksX0_draws_3 11 rfl rfl)
theorem dX0_draws_84 : decode cX0_draws 84 = .ok (.aload_n 0, 1) := dk_42 (dk_at dksX0_draws_3 14 rfl rfl)
theorem dX0_draws_85 : decode cX0_draws 85 = .ok (.invokevirtual 253, 3) := dk_182 0 253 (dk_at dksX0_draws_3 15 rfl rfl)
theorem dX0_draws_88 : decode cX0_draws 88 = .ok (.return_, 1) := dk_177 (dk_at dksX0_draws_3 18 rfl rfl)
abbrev cX0_luck : ByteArray := prog_1_method_112_code
def yX0_luck : MethodName := ⟨RX0, "luck", "(III)I"⟩
def dkwX0_luck_3 : List UInt8 := [96, 54, 4, 132, 5, 1, 167, 255, 217, 21, 4, 172]
abbrev dktX0_luck_3 : List UInt8 := dkwX0_luck_3 ++ []
def dkwX0_luck_2 : List UInt8 := [21, 5, 133, 97, 182, 1, 195, 21, 4, 42, 180, 0, 83, 29, 46, 2, 160, 0, 7, 3, 167, 0, 4, 4]
abbrev dktX0_luck_2 : List UInt8 := dkwX0_luck_2 ++ dktX0_luck_3
def dkwX0_luck_1 : List UInt8 := [182, 0, 167, 154, 0, 6, 16, 254, 172, 3, 54, 4, 3, 54, 5, 21, 5, 28, 162, 0, 39, 42, 27, 133]
abbrev dktX0_luck_1 : List UInt8 := dkwX0_luck_1 ++ dktX0_luck_2
def dkwX0_luck_0 : List UInt8 := [27, 184, 1, 192, 153, 0, 24, 28, 133, 10, 20, 1, 199, 184, 0, 128, 153, 0, 12, 42, 29, 133]
abbrev dktX0_luck_0 : List UInt8 := dkwX0_luck_0 ++ dktX0_luck_1
theorem dksX0_luck_0 : cX0_luck.data.toList.drop 0 = dktX0_luck_0 := by decide +kernel
theorem dksX0_luck_1 : cX0_luck.data.toList.drop 22 = dktX0_luck_1 := dk_seg dksX0_luck_0 22 rfl rfl
theorem dksX0_luck_2 : cX0_luck.data.toList.drop 46 = dktX0_luck_2 := dk_seg dksX0_luck_1 24 rfl rfl
theorem dksX0_luck_3 : cX0_luck.data.toList.drop 70 = dktX0_luck_3 := dk_seg dksX0_luck_2 24 rfl rfl
theorem dX0_luck_0 : decode cX0_luck 0 = .ok (.iload_n 1, 1) := dk_27 (dk_at dksX0_luck_0 0 rfl rfl)
theorem dX0_luck_1 : decode cX0_luck 1 = .ok (.invokestatic 448, 3) := dk_184 1 192 (dk_at dksX0_luck_0 1 rfl rfl)
theorem dX0_luck_4 : decode cX0_luck 4 = .ok (.ifCond .eq 24, 3) := dk_153 0 24 (dk_at dksX0_luck_0 4 rfl rfl)
theorem dX0_luck_7 : decode cX0_luck 7 = .ok (.iload_n 2, 1) := dk_28 (dk_at dksX0_luck_0 7 rfl rfl)
theorem dX0_luck_8 : decode cX0_luck 8 = .ok (.i2l, 1) := dk_133 (dk_at dksX0_luck_0 8 rfl rfl)
theorem dX0_luck_9 : decode cX0_luck 9 = .ok (.lconst 1, 1) := dk_10 (dk_at dksX0_luck_0 9 rfl rfl)
theorem dX0_luck_10 : decode cX0_luck 10 = .ok (.ldc2_w 455, 3) := dk_20 1 199 (dk_at dksX0_luck_0 10 rfl rfl)
theorem dX0_luck_13 : decode cX0_luck 13 = .ok (.invokestatic 128, 3) := dk_184 0 128 (dk_at dksX0_luck_0 13 rfl rfl)
theorem dX0_luck_16 : decode cX0_luck 16 = .ok (.ifCond .eq 12, 3) := dk_153 0 12 (dk_at dksX0_luck_0 16 rfl rfl)
theorem dX0_luck_19 : decode cX0_luck 19 = .ok (.aload_n 0, 1) := dk_42 (dk_at dksX0_luck_0 19 rfl rfl)
theorem dX0_luck_20 : decode cX0_luck 20 = .ok (.iload_n 3, 1) := dk_29 (dk_at dksX0_luck_0 20 rfl rfl)
theorem dX0_luck_21 : decode cX0_luck 21 = .ok (.i2l, 1) := dk_133 (dk_at dksX0_luck_0 21 rfl rfl)
theorem dX0_luck_22 : decode cX0_luck 22 = .ok (.invokevirtual 167, 3) := dk_182 0 167 (dk_at dksX0_luck_1 0 rfl rfl)
theorem dX0_luck_25 : decode cX0_luck 25 = .ok (.ifCond .ne 6, 3) := dk_154 0 6 (dk_at dksX0_luck_1 3 rfl rfl)
theorem dX0_luck_28 : decode cX0_luck 28 = .ok (.bipush (-2), 2) := dk_16 254 (dk_at dksX0_luck_1 6 rfl rfl)
theorem dX0_luck_30 : decode cX0_luck 30 = .ok (.ireturn, 1) := dk_172 (dk_at dksX0_luck_1 8 rfl rfl)
theorem dX0_luck_31 : decode cX0_luck 31 = .ok (.iconst 0, 1) := dk_3 (dk_at dksX0_luck_1 9 rfl rfl)
theorem dX0_luck_32 : decode cX0_luck 32 = .ok (.istore 4, 2) := dk_54 4 (dk_at dksX0_luck_1 10 rfl rfl)
theorem dX0_luck_34 : decode cX0_luck 34 = .ok (.iconst 0, 1) := dk_3 (dk_at dksX0_luck_1 12 rfl rfl)
theorem dX0_luck_35 : decode cX0_luck 35 = .ok (.istore 5, 2) := dk_54 5 (dk_at dksX0_luck_1 13 rfl rfl)
theorem dX0_luck_37 : decode cX0_luck 37 = .ok (.iload 5, 2) := dk_21 5 (dk_at dksX0_luck_1 15 rfl rfl)
theorem dX0_luck_39 : decode cX0_luck 39 = .ok (.iload_n 2, 1) := dk_28 (dk_at dksX0_luck_1 17 rfl rfl)
theorem dX0_luck_40 : decode cX0_luck 40 = .ok (.if_icmp .ge 39, 3) := dk_162 0 39 (dk_at dksX0_luck_1 18 rfl rfl)
theorem dX0_luck_43 : decode cX0_luck 43 = .ok (.aload_n 0, 1) := dk_42 (dk_at dksX0_luck_1 21 rfl rfl)
theorem dX0_luck_44 : decode cX0_luck 44 = .ok (.iload_n 1, 1) := dk_27 (dk_at dksX0_luck_1 22 rfl rfl)
theorem dX0_luck_45 : decode cX0_luck 45 = .ok (.i2l, 1) := dk_133 (dk_at dksX0_luck_1 23 rfl rfl)
theorem dX0_luck_46 : decode cX0_luck 46 = .ok (.iload 5, 2) := dk_21 5 (dk_at dksX0_luck_2 0 rfl rfl)
theorem dX0_luck_48 : decode cX0_luck 48 = .ok (.i2l, 1) := dk_133 (dk_at dksX0_luck_2 2 rfl rfl)
theorem dX0_luck_49 : decode cX0_luck 49 = .ok (.ladd, 1) := dk_97 (dk_at dksX0_luck_2 3 rfl rfl)
theorem dX0_luck_50 : decode cX0_luck 50 = .ok (.invokevirtual 451, 3) := dk_182 1 195 (dk_at dksX0_luck_2 4 rfl rfl)
theorem dX0_luck_53 : decode cX0_luck 53 = .ok (.iload 4, 2) := dk_21 4 (dk_at dksX0_luck_2 7 rfl rfl)
theorem dX0_luck_55 : decode cX0_luck 55 = .ok (.aload_n 0, 1) := dk_42 (dk_at dksX0_luck_2 9 rfl rfl)
theorem dX0_luck_56 : decode cX0_luck 56 = .ok (.getfield 83, 3) := dk_180 0 83 (dk_at dksX0_luck_2 10 rfl rfl)
theorem dX0_luck_59 : decode cX0_luck 59 = .ok (.iload_n 3, 1) := dk_29 (dk_at dksX0_luck_2 13 rfl rfl)
theorem dX0_luck_60 : decode cX0_luck 60 = .ok (.iaload, 1) := dk_46 (dk_at dksX0_luck_2 14 rfl rfl)
theorem dX0_luck_61 : decode cX0_luck 61 = .ok (.iconst (-1), 1) := dk_2 (dk_at dksX0_luck_2 15 rfl rfl)
theorem dX0_luck_62 : decode cX0_luck 62 = .ok (.if_icmp .ne 7, 3) := dk_160 0 7 (dk_at dksX0_luck_2 16 rfl rfl)
theorem dX0_luck_65 : decode cX0_luck 65 = .ok (.iconst 0, 1) := dk_3 (dk_at dksX0_luck_2 19 rfl rfl)
theorem dX0_luck_66 : decode cX0_luck 66 = .ok (.goto 4, 3) := dk_167 0 4 (dk_at dksX0_luck_2 20 rfl rfl)
theorem dX0_luck_69 : decode cX0_luck 69 = .ok (.iconst 1, 1) := dk_4 (dk_at dksX0_luck_2 23 rfl rfl)
theorem dX0_luck_70 : decode cX0_luck 70 = .ok (.iadd, 1) := dk_96 (dk_at dksX0_luck_3 0 rfl rfl)
theorem dX0_luck_71 : decode cX0_luck 71 = .ok (.istore 4, 2) := dk_54 4 (dk_at dksX0_luck_3 1 rfl rfl)
theorem dX0_luck_73 : decode cX0_luck 73 = .ok (.iinc 5 1, 3) := dk_132 5 1 (dk_at dksX0_luck_3 3 rfl rfl)
theorem dX0_luck_76 : decode cX0_luck 76 = .ok (.goto (-39), 3) := dk_167 255 217 (dk_at dksX0_luck_3 6 rfl rfl)
theorem dX0_luck_79 : decode cX0_luck 79 = .ok (.iload 4, 2) := dk_21 4 (dk_at dksX0_luck_3 9 rfl rfl)
theorem dX0_luck_81 : decode cX0_luck 81 = .ok (.ireturn, 1) := dk_172 (dk_at dksX0_luck_3 11 rfl rfl)
abbrev cX0_send : ByteArray := prog_1_method_114_code
def yX0_send : MethodName := ⟨RX0, "send", "(II)I"⟩
def dkwX0_send_2 : List UInt8 := [182, 1, 201, 172]
abbrev dktX0_send_2 : List UInt8 := dkwX0_send_2 ++ []
def dkwX0_send_1 : List UInt8 := [16, 254, 172, 42, 182, 0, 250, 42, 16, 100, 27, 104, 28, 96, 4, 96, 42, 180, 0, 59, 27, 46]
abbrev dktX0_send_1 : List UInt8 := dkwX0_send_1 ++ dktX0_send_2
def dkwX0_send_0 : List UInt8 := [42, 27, 133, 182, 0, 159, 153, 0, 17, 28, 2, 159, 0, 15, 42, 28, 133, 182, 0, 167, 154, 0, 6]
abbrev dktX0_send_0 : List UInt8 := dkwX0_send_0 ++ dktX0_send_1
theorem dksX0_send_0 : cX0_send.data.toList.drop 0 = dktX0_send_0 := by decide +kernel
theorem dksX0_send_1 : cX0_send.data.toList.drop 23 = dktX0_send_1 := dk_seg dksX0_send_0 23 rfl rfl
theorem dksX0_send_2 : cX0_send.data.toList.drop 45 = dktX0_send_2 := dk_seg dksX0_send_1 22 rfl rfl
theorem dX0_send_0 : decode cX0_send 0 = .ok (.aload_n 0, 1) := dk_42 (dk_at dksX0_send_0 0 rfl rfl)
theorem dX0_send_1 : decode cX0_send 1 = .ok (.iload_n 1, 1) := dk_27 (dk_at dksX0_send_0 1 rfl rfl)
theorem dX0_send_2 : decode cX0_send 2 = .ok (.i2l, 1) := dk_133 (dk_at dksX0_send_0 2 rfl rfl)
theorem dX0_send_3 : decode cX0_send 3 = .ok (.invokevirtual 159, 3) := dk_182 0 159 (dk_at dksX0_send_0 3 rfl rfl)
theorem dX0_send_6 : decode cX0_send 6 = .ok (.ifCond .eq 17, 3) := dk_153 0 17 (dk_at dksX0_send_0 6 rfl rfl)
theorem dX0_send_9 : decode cX0_send 9 = .ok (.iload_n 2, 1) := dk_28 (dk_at dksX0_send_0 9 rfl rfl)
theorem dX0_send_10 : decode cX0_send 10 = .ok (.iconst (-1), 1) := dk_2 (dk_at dksX0_send_0 10 rfl rfl)
theorem dX0_send_11 : decode cX0_send 11 = .ok (.if_icmp .eq 15, 3) := dk_159 0 15 (dk_at dksX0_send_0 11 rfl rfl)
theorem dX0_send_14 : decode cX0_send 14 = .ok (.aload_n 0, 1) := dk_42 (dk_at dksX0_send_0 14 rfl rfl)
theorem dX0_send_15 : decode cX0_send 15 = .ok (.iload_n 2, 1) := dk_28 (dk_at dksX0_send_0 15 rfl rfl)
theorem dX0_send_16 : decode cX0_send 16 = .ok (.i2l, 1) := dk_133 (dk_at dksX0_send_0 16 rfl rfl)
theorem dX0_send_17 : decode cX0_send 17 = .ok (.invokevirtual 167, 3) := dk_182 0 167 (dk_at dksX0_send_0 17 rfl rfl)
theorem dX0_send_20 : decode cX0_send 20 = .ok (.ifCond .ne 6, 3) := dk_154 0 6 (dk_at dksX0_send_0 20 rfl rfl)
theorem dX0_send_23 : decode cX0_send 23 = .ok (.bipush (-2), 2) := dk_16 254 (dk_at dksX0_send_1 0 rfl rfl)
theorem dX0_send_25 : decode cX0_send 25 = .ok (.ireturn, 1) := dk_172 (dk_at dksX0_send_1 2 rfl rfl)
theorem dX0_send_26 : decode cX0_send 26 = .ok (.aload_n 0, 1) := dk_42 (dk_at dksX0_send_1 3 rfl rfl)
theorem dX0_send_27 : decode cX0_send 27 = .ok (.invokevirtual 250, 3) := dk_182 0 250 (dk_at dksX0_send_1 4 rfl rfl)
theorem dX0_send_30 : decode cX0_send 30 = .ok (.aload_n 0, 1) := dk_42 (dk_at dksX0_send_1 7 rfl rfl)
theorem dX0_send_31 : decode cX0_send 31 = .ok (.bipush 100, 2) := dk_16 100 (dk_at dksX0_send_1 8 rfl rfl)
theorem dX0_send_33 : decode cX0_send 33 = .ok (.iload_n 1, 1) := dk_27 (dk_at dksX0_send_1 10 rfl rfl)
theorem dX0_send_34 : decode cX0_send 34 = .ok (.imul, 1) := dk_104 (dk_at dksX0_send_1 11 rfl rfl)
theorem dX0_send_35 : decode cX0_send 35 = .ok (.iload_n 2, 1) := dk_28 (dk_at dksX0_send_1 12 rfl rfl)
theorem dX0_send_36 : decode cX0_send 36 = .ok (.iadd, 1) := dk_96 (dk_at dksX0_send_1 13 rfl rfl)
theorem dX0_send_37 : decode cX0_send 37 = .ok (.iconst 1, 1) := dk_4 (dk_at dksX0_send_1 14 rfl rfl)
theorem dX0_send_38 : decode cX0_send 38 = .ok (.iadd, 1) := dk_96 (dk_at dksX0_send_1 15 rfl rfl)
theorem dX0_send_39 : decode cX0_send 39 = .ok (.aload_n 0, 1) := dk_42 (dk_at dksX0_send_1 16 rfl rfl)
theorem dX0_send_40 : decode cX0_send 40 = .ok (.getfield 59, 3) := dk_180 0 59 (dk_at dksX0_send_1 17 rfl rfl)
theorem dX0_send_43 : decode cX0_send 43 = .ok (.iload_n 1, 1) := dk_27 (dk_at dksX0_send_1 20 rfl rfl)
theorem dX0_send_44 : decode cX0_send 44 = .ok (.iaload, 1) := dk_46 (dk_at dksX0_send_1 21 rfl rfl)
theorem dX0_send_45 : decode cX0_send 45 = .ok (.invokevirtual 457, 3) := dk_182 1 201 (dk_at dksX0_send_2 0 rfl rfl)
theorem dX0_send_48 : decode cX0_send 48 = .ok (.ireturn, 1) := dk_172 (dk_at dksX0_send_2 3 rfl rfl)
abbrev cX0_keeps_2 : ByteArray := prog_1_method_113_code
def yX0_keeps_2 : MethodName := ⟨RX0, "keeps", "(II)I"⟩
def dkwX0_keeps_2_1 : List UInt8 := [180, 0, 10, 180, 0, 209, 27, 79, 42, 180, 0, 10, 89, 180, 0, 209, 4, 96, 181, 0, 209, 28, 172]
abbrev dktX0_keeps_2_1 : List UInt8 := dkwX0_keeps_2_1 ++ []
def dkwX0_keeps_2_0 : List UInt8 := [42, 180, 0, 10, 180, 0, 209, 16, 30, 160, 0, 6, 16, 251, 172, 42, 180, 0, 10, 180, 0, 212, 42]
abbrev dktX0_keeps_2_0 : List UInt8 := dkwX0_keeps_2_0 ++ dktX0_keeps_2_1
theorem dksX0_keeps_2_0 : cX0_keeps_2.data.toList.drop 0 = dktX0_keeps_2_0 := by decide +kernel
theorem dksX0_keeps_2_1 : cX0_keeps_2.data.toList.drop 23 = dktX0_keeps_2_1 := dk_seg dksX0_keeps_2_0 23 rfl rfl
theorem dX0_keeps_2_0 : decode cX0_keeps_2 0 = .ok (.aload_n 0, 1) := dk_42 (dk_at dksX0_keeps_2_0 0 rfl rfl)
theorem dX0_keeps_2_1 : decode cX0_keeps_2 1 = .ok (.getfield 10, 3) := dk_180 0 10 (dk_at dksX0_keeps_2_0 1 rfl rfl)
theorem dX0_keeps_2_4 : decode cX0_keeps_2 4 = .ok (.getfield 209, 3) := dk_180 0 209 (dk_at dksX0_keeps_2_0 4 rfl rfl)
theorem dX0_keeps_2_7 : decode cX0_keeps_2 7 = .ok (.bipush 30, 2) := dk_16 30 (dk_at dksX0_keeps_2_0 7 rfl rfl)
theorem dX0_keeps_2_9 : decode cX0_keeps_2 9 = .ok (.if_icmp .ne 6, 3) := dk_160 0 6 (dk_at dksX0_keeps_2_0 9 rfl rfl)
theorem dX0_keeps_2_12 : decode cX0_keeps_2 12 = .ok (.bipush (-5), 2) := dk_16 251 (dk_at dksX0_keeps_2_0 12 rfl rfl)
theorem dX0_keeps_2_14 : decode cX0_keeps_2 14 = .ok (.ireturn, 1) := dk_172 (dk_at dksX0_keeps_2_0 14 rfl rfl)
theorem dX0_keeps_2_15 : decode cX0_keeps_2 15 = .ok (.aload_n 0, 1) := dk_42 (dk_at dksX0_keeps_2_0 15 rfl rfl)
theorem dX0_keeps_2_16 : decode cX0_keeps_2 16 = .ok (.getfield 10, 3) := dk_180 0 10 (dk_at dksX0_keeps_2_0 16 rfl rfl)
theorem dX0_keeps_2_19 : decode cX0_keeps_2 19 = .ok (.getfield 212, 3) := dk_180 0 212 (dk_at dksX0_keeps_2_0 19 rfl rfl)
theorem dX0_keeps_2_22 : decode cX0_keeps_2 22 = .ok (.aload_n 0, 1) := dk_42 (dk_at dksX0_keeps_2_0 22 rfl rfl)
theorem dX0_keeps_2_23 : decode cX0_keeps_2 23 = .ok (.getfield 10, 3) := dk_180 0 10 (dk_at dksX0_keeps_2_1 0 rfl rfl)
theorem dX0_keeps_2_26 : decode cX0_keeps_2 26 = .ok (.getfield 209, 3) := dk_180 0 209 (dk_at dksX0_keeps_2_1 3 rfl rfl)
theorem dX0_keeps_2_29 : decode cX0_keeps_2 29 = .ok (.iload_n 1, 1) := dk_27 (dk_at dksX0_keeps_2_1 6 rfl rfl)
theorem dX0_keeps_2_30 : decode cX0_keeps_2 30 = .ok (.iastore, 1) := dk_79 (dk_at dksX0_keeps_2_1 7 rfl rfl)
theorem dX0_keeps_2_31 : decode cX0_keeps_2 31 = .ok (.aload_n 0, 1) := dk_42 (dk_at dksX0_keeps_2_1 8 rfl rfl)
theorem dX0_keeps_2_32 : decode cX0_keeps_2 32 = .ok (.getfield 10, 3) := dk_180 0 10 (dk_at dksX0_keeps_2_1 9 rfl rfl)
theorem dX0_keeps_2_35 : decode cX0_keeps_2 35 = .ok (.dup, 1) := dk_89 (dk_at dksX0_keeps_2_1 12 rfl rfl)
theorem dX0_keeps_2_36 : decode cX0_keeps_2 36 = .ok (.getfield 209, 3) := dk_180 0 209 (dk_at dksX0_keeps_2_1 13 rfl rfl)
theorem dX0_keeps_2_39 : decode cX0_keeps_2 39 = .ok (.iconst 1, 1) := dk_4 (dk_at dksX0_keeps_2_1 16 rfl rfl)
theorem dX0_keeps_2_40 : decode cX0_keeps_2 40 = .ok (.iadd, 1) := dk_96 (dk_at dksX0_keeps_2_1 17 rfl rfl)
theorem dX0_keeps_2_41 : decode cX0_keeps_2 41 = .ok (.putfield 209, 3) := dk_181 0 209 (dk_at dksX0_keeps_2_1 18 rfl rfl)
theorem dX0_keeps_2_44 : decode cX0_keeps_2 44 = .ok (.iload_n 2, 1) := dk_28 (dk_at dksX0_keeps_2_1 21 rfl rfl)
theorem dX0_keeps_2_45 : decode cX0_keeps_2 45 = .ok (.ireturn, 1) := dk_172 (dk_at dksX0_keeps_2_1 22 rfl rfl)
abbrev cX0_freeze : ByteArray := prog_1_method_115_code
def yX0_freeze : MethodName := ⟨RX0, "freeze", "(II)I"⟩
def dkwX0_freeze_1 : List UInt8 := [42, 17, 3, 232, 5, 27, 104, 96, 28, 96, 42, 180, 0, 203, 27, 122, 4, 126, 182, 1, 201, 172]
abbrev dktX0_freeze_1 : List UInt8 := dkwX0_freeze_1 ++ []
def dkwX0_freeze_0 : List UInt8 := [42, 27, 133, 182, 0, 159, 153, 0, 11, 28, 5, 184, 0, 170, 154, 0, 6, 16, 254, 172, 42, 182, 0, 250]
abbrev dktX0_freeze_0 : List UInt8 := dkwX0_freeze_0 ++ dktX0_freeze_1
theorem dksX0_freeze_0 : cX0_freeze.data.toList.drop 0 = dktX0_freeze_0 := by decide +kernel
theorem dksX0_freeze_1 : cX0_freeze.data.toList.drop 24 = dktX0_freeze_1 := dk_seg dksX0_freeze_0 24 rfl rfl
theorem dX0_freeze_0 : decode cX0_freeze 0 = .ok (.aload_n 0, 1) := dk_42 (dk_at dksX0_freeze_0 0 rfl rfl)
theorem dX0_freeze_1 : decode cX0_freeze 1 = .ok (.iload_n 1, 1) := dk_27 (dk_at dksX0_freeze_0 1 rfl rfl)
theorem dX0_freeze_2 : decode cX0_freeze 2 = .ok (.i2l, 1) := dk_133 (dk_at dksX0_freeze_0 2 rfl rfl)
theorem dX0_freeze_3 : decode cX0_freeze 3 = .ok (.invokevirtual 159, 3) := dk_182 0 159 (dk_at dksX0_freeze_0 3 rfl rfl)
theorem dX0_freeze_6 : decode cX0_freeze 6 = .ok (.ifCond .eq 11, 3) := dk_153 0 11 (dk_at dksX0_freeze_0 6 rfl rfl)
theorem dX0_freeze_9 : decode cX0_freeze 9 = .ok (.iload_n 2, 1) := dk_28 (dk_at dksX0_freeze_0 9 rfl rfl)
theorem dX0_freeze_10 : decode cX0_freeze 10 = .ok (.iconst 2, 1) := dk_5 (dk_at dksX0_freeze_0 10 rfl rfl)
theorem dX0_freeze_11 : decode cX0_freeze 11 = .ok (.invokestatic 170, 3) := dk_184 0 170 (dk_at dksX0_freeze_0 11 rfl rfl)
theorem dX0_freeze_14 : decode cX0_freeze 14 = .ok (.ifCond .ne 6, 3) := dk_154 0 6 (dk_at dksX0_freeze_0 14 rfl rfl)
theorem dX0_freeze_17 : decode cX0_freeze 17 = .ok (.bipush (-2), 2) := dk_16 254 (dk_at dksX0_freeze_0 17 rfl rfl)
theorem dX0_freeze_19 : decode cX0_freeze 19 = .ok (.ireturn, 1) := dk_172 (dk_at dksX0_freeze_0 19 rfl rfl)
theorem dX0_freeze_20 : decode cX0_freeze 20 = .ok (.aload_n 0, 1) := dk_42 (dk_at dksX0_freeze_0 20 rfl rfl)
theorem dX0_freeze_21 : decode cX0_freeze 21 = .ok (.invokevirtual 250, 3) := dk_182 0 250 (dk_at dksX0_freeze_0 21 rfl rfl)
theorem dX0_freeze_24 : decode cX0_freeze 24 = .ok (.aload_n 0, 1) := dk_42 (dk_at dksX0_freeze_1 0 rfl rfl)
theorem dX0_freeze_25 : decode cX0_freeze 25 = .ok (.sipush 1000, 3) := dk_17 3 232 (dk_at dksX0_freeze_1 1 rfl rfl)
theorem dX0_freeze_28 : decode cX0_freeze 28 = .ok (.iconst 2, 1) := dk_5 (dk_at dksX0_freeze_1 4 rfl rfl)
theorem dX0_freeze_29 : decode cX0_freeze 29 = .ok (.iload_n 1, 1) := dk_27 (dk_at dksX0_freeze_1 5 rfl rfl)
theorem dX0_freeze_30 : decode cX0_freeze 30 = .ok (.imul, 1) := dk_104 (dk_at dksX0_freeze_1 6 rfl rfl)
theorem dX0_freeze_31 : decode cX0_freeze 31 = .ok (.iadd, 1) := dk_96 (dk_at dksX0_freeze_1 7 rfl rfl)
theorem dX0_freeze_32 : decode cX0_freeze 32 = .ok (.iload_n 2, 1) := dk_28 (dk_at dksX0_freeze_1 8 rfl rfl)
theorem dX0_freeze_33 : decode cX0_freeze 33 = .ok (.iadd, 1) := dk_96 (dk_at dksX0_freeze_1 9 rfl rfl)
theorem dX0_freeze_34 : decode cX0_freeze 34 = .ok (.aload_n 0, 1) := dk_42 (dk_at dksX0_freeze_1 10 rfl rfl)
theorem dX0_freeze_35 : decode cX0_freeze 35 = .ok (.getfield 203, 3) := dk_180 0 203 (dk_at dksX0_freeze_1 11 rfl rfl)
theorem dX0_freeze_38 : decode cX0_freeze 38 = .ok (.iload_n 1, 1) := dk_27 (dk_at dksX0_freeze_1 14 rfl rfl)
theorem dX0_freeze_39 : decode cX0_freeze 39 = .ok (.ishr, 1) := dk_122 (dk_at dksX0_freeze_1 15 rfl rfl)
theorem dX0_freeze_40 : decode cX0_freeze 40 = .ok (.iconst 1, 1) := dk_4 (dk_at dksX0_freeze_1 16 rfl rfl)
theorem dX0_freeze_41 : decode cX0_freeze 41 = .ok (.iand, 1) := dk_126 (dk_at dksX0_freeze_1 17 rfl rfl)
theorem dX0_freeze_42 : decode cX0_freeze 42 = .ok (.invokevirtual 457, 3) := dk_182 1 201 (dk_at dksX0_freeze_1 18 rfl rfl)
theorem dX0_freeze_45 : decode cX0_freeze 45 = .ok (.ireturn, 1) := dk_172 (dk_at dksX0_freeze_1 21 rfl rfl)
abbrev cX0_undo : ByteArray := prog_1_method_116_code
def yX0_undo : MethodName := ⟨RX0, "undo", "()I"⟩
def dkwX0_undo_1 : List UInt8 := [180, 0, 10, 89, 180, 0, 209, 4, 100, 181, 0, 209, 42, 180, 0, 10, 180, 0, 209, 172]
abbrev dktX0_undo_1 : List UInt8 := dkwX0_undo_1 ++ []
def dkwX0_undo_0 : List UInt8 := [42, 182, 1, 0, 154, 0, 6, 16, 254, 172, 42, 180, 0, 10, 180, 0, 209, 154, 0, 6, 16, 251, 172, 42]
abbrev dktX0_undo_0 : List UInt8 := dkwX0_undo_0 ++ dktX0_undo_1
theorem dksX0_undo_0 : cX0_undo.data.toList.drop 0 = dktX0_undo_0 := by decide +kernel
theorem dksX0_undo_1 : cX0_undo.data.toList.drop 24 = dktX0_undo_1 := dk_seg dksX0_undo_0 24 rfl rfl
theorem dX0_undo_0 : decode cX0_undo 0 = .ok (.aload_n 0, 1) := dk_42 (dk_at dksX0_undo_0 0 rfl rfl)
theorem dX0_undo_1 : decode cX0_undo 1 = .ok (.invokevirtual 256, 3) := dk_182 1 0 (dk_at dksX0_undo_0 1 rfl rfl)
theorem dX0_undo_4 : decode cX0_undo 4 = .ok (.ifCond .ne 6, 3) := dk_154 0 6 (dk_at dksX0_undo_0 4 rfl rfl)
theorem dX0_undo_7 : decode cX0_undo 7 = .ok (.bipush (-2), 2) := dk_16 254 (dk_at dksX0_undo_0 7 rfl rfl)
theorem dX0_undo_9 : decode cX0_undo 9 = .ok (.ireturn, 1) := dk_172 (dk_at dksX0_undo_0 9 rfl rfl)
theorem dX0_undo_10 : decode cX0_undo 10 = .ok (.aload_n 0, 1) := dk_42 (dk_at dksX0_undo_0 10 rfl rfl)
theorem dX0_undo_11 : decode cX0_undo 11 = .ok (.getfield 10, 3) := dk_180 0 10 (dk_at dksX0_undo_0 11 rfl rfl)
theorem dX0_undo_14 : decode cX0_undo 14 = .ok (.getfield 209, 3) := dk_180 0 209 (dk_at dksX0_undo_0 14 rfl rfl)
theorem dX0_undo_17 : decode cX0_undo 17 = .ok (.ifCond .ne 6, 3) := dk_154 0 6 (dk_at dksX0_undo_0 17 rfl rfl)
theorem dX0_undo_20 : decode cX0_undo 20 = .ok (.bipush (-5), 2) := dk_16 251 (dk_at dksX0_undo_0 20 rfl rfl)
theorem dX0_undo_22 : decode cX0_undo 22 = .ok (.ireturn, 1) := dk_172 (dk_at dksX0_undo_0 22 rfl rfl)
theorem dX0_undo_23 : decode cX0_undo 23 = .ok (.aload_n 0, 1) := dk_42 (dk_at dksX0_undo_0 23 rfl rfl)
theorem dX0_undo_24 : decode cX0_undo 24 = .ok (.getfield 10, 3) := dk_180 0 10 (dk_at dksX0_undo_1 0 rfl rfl)
theorem dX0_undo_27 : decode cX0_undo 27 = .ok (.dup, 1) := dk_89 (dk_at dksX0_undo_1 3 rfl rfl)
theorem dX0_undo_28 : decode cX0_undo 28 = .ok (.getfield 209, 3) := dk_180 0 209 (dk_at dksX0_undo_1 4 rfl rfl)
theorem dX0_undo_31 : decode cX0_undo 31 = .ok (.iconst 1, 1) := dk_4 (dk_at dksX0_undo_1 7 rfl rfl)
theorem dX0_undo_32 : decode cX0_undo 32 = .ok (.isub, 1) := dk_100 (dk_at dksX0_undo_1 8 rfl rfl)
theorem dX0_undo_33 : decode cX0_undo 33 = .ok (.putfield 209, 3) := dk_181 0 209 (dk_at dksX0_undo_1 9 rfl rfl)
theorem dX0_undo_36 : decode cX0_undo 36 = .ok (.aload_n 0, 1) := dk_42 (dk_at dksX0_undo_1 12 rfl rfl)
theorem dX0_undo_37 : decode cX0_undo 37 = .ok (.getfield 10, 3) := dk_180 0 10 (dk_at dksX0_undo_1 13 rfl rfl)
theorem dX0_undo_40 : decode cX0_undo 40 = .ok (.getfield 209, 3) := dk_180 0 209 (dk_at dksX0_undo_1 16 rfl rfl)
theorem dX0_undo_43 : decode cX0_undo 43 = .ok (.ireturn, 1) := dk_172 (dk_at dksX0_undo_1 19 rfl rfl)
abbrev cX0_anew : ByteArray := prog_1_method_117_code
def yX0_anew : MethodName := ⟨RX0, "anew", "()I"⟩
def dkwX0_anew_1 : List UInt8 := [181, 0, 209, 27, 172]
abbrev dktX0_anew_1 : List UInt8 := dkwX0_anew_1 ++ []
def dkwX0_anew_0 : List UInt8 := [42, 182, 1, 0, 154, 0, 6, 16, 254, 172, 42, 180, 0, 10, 180, 0, 209, 60, 42, 180, 0, 10, 3]
abbrev dktX0_anew_0 : List UInt8 := dkwX0_anew_0 ++ dktX0_anew_1
theorem dksX0_anew_0 : cX0_anew.data.toList.drop 0 = dktX0_anew_0 := by decide +kernel
theorem dksX0_anew_1 : cX0_anew.data.toList.drop 23 = dktX0_anew_1 := dk_seg dksX0_anew_0 23 rfl rfl
theorem dX0_anew_0 : decode cX0_anew 0 = .ok (.aload_n 0, 1) := dk_42 (dk_at dksX0_anew_0 0 rfl rfl)
theorem dX0_anew_1 : decode cX0_anew 1 = .ok (.invokevirtual 256, 3) := dk_182 1 0 (dk_at dksX0_anew_0 1 rfl rfl)
theorem dX0_anew_4 : decode cX0_anew 4 = .ok (.ifCond .ne 6, 3) := dk_154 0 6 (dk_at dksX0_anew_0 4 rfl rfl)
theorem dX0_anew_7 : decode cX0_anew 7 = .ok (.bipush (-2), 2) := dk_16 254 (dk_at dksX0_anew_0 7 rfl rfl)
theorem dX0_anew_9 : decode cX0_anew 9 = .ok (.ireturn, 1) := dk_172 (dk_at dksX0_anew_0 9 rfl rfl)
theorem dX0_anew_10 : decode cX0_anew 10 = .ok (.aload_n 0, 1) := dk_42 (dk_at dksX0_anew_0 10 rfl rfl)
theorem dX0_anew_11 : decode cX0_anew 11 = .ok (.getfield 10, 3) := dk_180 0 10 (dk_at dksX0_anew_0 11 rfl rfl)
theorem dX0_anew_14 : decode cX0_anew 14 = .ok (.getfield 209, 3) := dk_180 0 209 (dk_at dksX0_anew_0 14 rfl rfl)
theorem dX0_anew_17 : decode cX0_anew 17 = .ok (.istore_n 1, 1) := dk_60 (dk_at dksX0_anew_0 17 rfl rfl)
theorem dX0_anew_18 : decode cX0_anew 18 = .ok (.aload_n 0, 1) := dk_42 (dk_at dksX0_anew_0 18 rfl rfl)
theorem dX0_anew_19 : decode cX0_anew 19 = .ok (.getfield 10, 3) := dk_180 0 10 (dk_at dksX0_anew_0 19 rfl rfl)
theorem dX0_anew_22 : decode cX0_anew 22 = .ok (.iconst 0, 1) := dk_3 (dk_at dksX0_anew_0 22 rfl rfl)
theorem dX0_anew_23 : decode cX0_anew 23 = .ok (.putfield 209, 3) := dk_181 0 209 (dk_at dksX0_anew_1 0 rfl rfl)
theorem dX0_anew_26 : decode cX0_anew 26 = .ok (.iload_n 1, 1) := dk_27 (dk_at dksX0_anew_1 3 rfl rfl)
theorem dX0_anew_27 : decode cX0_anew 27 = .ok (.ireturn, 1) := dk_172 (dk_at dksX0_anew_1 4 rfl rfl)
abbrev cX0_rate : ByteArray := prog_1_method_118_code
def yX0_rate : MethodName := ⟨RX0, "rate", "(II)I"⟩
def dkwX0_rate_2 : List UInt8 := [180, 0, 10, 180, 0, 174, 27, 28, 79, 29, 172]
abbrev dktX0_rate_2 : List UInt8 := dkwX0_rate_2 ++ []
def dkwX0_rate_1 : List UInt8 := [42, 180, 0, 10, 180, 0, 209, 158, 0, 6, 16, 251, 172, 42, 180, 0, 10, 180, 0, 174, 27, 46, 62, 42]
abbrev dktX0_rate_1 : List UInt8 := dkwX0_rate_1 ++ dktX0_rate_2
def dkwX0_rate_0 : List UInt8 := [42, 27, 133, 182, 0, 167, 153, 0, 15, 28, 133, 10, 20, 1, 203, 184, 0, 128, 154, 0, 6, 16, 254, 172]
abbrev dktX0_rate_0 : List UInt8 := dkwX0_rate_0 ++ dktX0_rate_1
theorem dksX0_rate_0 : cX0_rate.data.toList.drop 0 = dktX0_rate_0 := by decide +kernel
theorem dksX0_rate_1 : cX0_rate.data.toList.drop 24 = dktX0_rate_1 := dk_seg dksX0_rate_0 24 rfl rfl
theorem dksX0_rate_2 : cX0_rate.data.toList.drop 48 = dktX0_rate_2 := dk_seg dksX0_rate_1 24 rfl rfl
theorem dX0_rate_0 : decode cX0_rate 0 = .ok (.aload_n 0, 1) := dk_42 (dk_at dksX0_rate_0 0 rfl rfl)
theorem dX0_rate_1 : decode cX0_rate 1 = .ok (.iload_n 1, 1) := dk_27 (dk_at dksX0_rate_0 1 rfl rfl)
theorem dX0_rate_2 : decode cX0_rate 2 = .ok (.i2l, 1) := dk_133 (dk_at dksX0_rate_0 2 rfl rfl)
theorem dX0_rate_3 : decode cX0_rate 3 = .ok (.invokevirtual 167, 3) := dk_182 0 167 (dk_at dksX0_rate_0 3 rfl rfl)
theorem dX0_rate_6 : decode cX0_rate 6 = .ok (.ifCond .eq 15, 3) := dk_153 0 15 (dk_at dksX0_rate_0 6 rfl rfl)
theorem dX0_rate_9 : decode cX0_rate 9 = .ok (.iload_n 2, 1) := dk_28 (dk_at dksX0_rate_0 9 rfl rfl)
theorem dX0_rate_10 : decode cX0_rate 10 = .ok (.i2l, 1) := dk_133 (dk_at dksX0_rate_0 10 rfl rfl)
theorem dX0_rate_11 : decode cX0_rate 11 = .ok (.lconst 1, 1) := dk_10 (dk_at dksX0_rate_0 11 rfl rfl)
theorem dX0_rate_12 : decode cX0_rate 12 = .ok (.ldc2_w 459, 3) := dk_20 1 203 (dk_at dksX0_rate_0 12 rfl rfl)
theorem dX0_rate_15 : decode cX0_rate 15 = .ok (.invokestatic 128, 3) := dk_184 0 128 (dk_at dksX0_rate_0 15 rfl rfl)
theorem dX0_rate_18 : decode cX0_rate 18 = .ok (.ifCond .ne 6, 3) := dk_154 0 6 (dk_at dksX0_rate_0 18 rfl rfl)
theorem dX0_rate_21 : decode cX0_rate 21 = .ok (.bipush (-2), 2) := dk_16 254 (dk_at dksX0_rate_0 21 rfl rfl)
theorem dX0_rate_23 : decode cX0_rate 23 = .ok (.ireturn, 1) := dk_172 (dk_at dksX0_rate_0 23 rfl rfl)
theorem dX0_rate_24 : decode cX0_rate 24 = .ok (.aload_n 0, 1) := dk_42 (dk_at dksX0_rate_1 0 rfl rfl)
theorem dX0_rate_25 : decode cX0_rate 25 = .ok (.getfield 10, 3) := dk_180 0 10 (dk_at dksX0_rate_1 1 rfl rfl)
theorem dX0_rate_28 : decode cX0_rate 28 = .ok (.getfield 209, 3) := dk_180 0 209 (dk_at dksX0_rate_1 4 rfl rfl)
theorem dX0_rate_31 : decode cX0_rate 31 = .ok (.ifCond .le 6, 3) := dk_158 0 6 (dk_at dksX0_rate_1 7 rfl rfl)
theorem dX0_rate_34 : decode cX0_rate 34 = .ok (.bipush (-5), 2) := dk_16 251 (dk_at dksX0_rate_1 10 rfl rfl)
theorem dX0_rate_36 : decode cX0_rate 36 = .ok (.ireturn, 1) := dk_172 (dk_at dksX0_rate_1 12 rfl rfl)
theorem dX0_rate_37 : decode cX0_rate 37 = .ok (.aload_n 0, 1) := dk_42 (dk_at dksX0_rate_1 13 rfl rfl)
theorem dX0_rate_38 : decode cX0_rate 38 = .ok (.getfield 10, 3) := dk_180 0 10 (dk_at dksX0_rate_1 14 rfl rfl)
theorem dX0_rate_41 : decode cX0_rate 41 = .ok (.getfield 174, 3) := dk_180 0 174 (dk_at dksX0_rate_1 17 rfl rfl)
theorem dX0_rate_44 : decode cX0_rate 44 = .ok (.iload_n 1, 1) := dk_27 (dk_at dksX0_rate_1 20 rfl rfl)
theorem dX0_rate_45 : decode cX0_rate 45 = .ok (.iaload, 1) := dk_46 (dk_at dksX0_rate_1 21 rfl rfl)
theorem dX0_rate_46 : decode cX0_rate 46 = .ok (.istore_n 3, 1) := dk_62 (dk_at dksX0_rate_1 22 rfl rfl)
theorem dX0_rate_47 : decode cX0_rate 47 = .ok (.aload_n 0, 1) := dk_42 (dk_at dksX0_rate_1 23 rfl rfl)
theorem dX0_rate_48 : decode cX0_rate 48 = .ok (.getfield 10, 3) := dk_180 0 10 (dk_at dksX0_rate_2 0 rfl rfl)
theorem dX0_rate_51 : decode cX0_rate 51 = .ok (.getfield 174, 3) := dk_180 0 174 (dk_at dksX0_rate_2 3 rfl rfl)
theorem dX0_rate_54 : decode cX0_rate 54 = .ok (.iload_n 1, 1) := dk_27 (dk_at dksX0_rate_2 6 rfl rfl)
theorem dX0_rate_55 : decode cX0_rate 55 = .ok (.iload_n 2, 1) := dk_28 (dk_at dksX0_rate_2 7 rfl rfl)
theorem dX0_rate_56 : decode cX0_rate 56 = .ok (.iastore, 1) := dk_79 (dk_at dksX0_rate_2 8 rfl rfl)
theorem dX0_rate_57 : decode cX0_rate 57 = .ok (.iload_n 3, 1) := dk_29 (dk_at dksX0_rate_2 9 rfl rfl)
theorem dX0_rate_58 : decode cX0_rate 58 = .ok (.ireturn, 1) := dk_172 (dk_at dksX0_rate_2 10 rfl rfl)
abbrev cX0_count : ByteArray := prog_1_method_120_code
def yX0_count : MethodName := ⟨RX0, "count", "(I)I"⟩
def dkwX0_count_6 : List UInt8 := [199, 0, 7, 3, 167, 0, 4, 4, 96, 61, 132, 3, 1, 167, 255, 228, 28, 172, 2, 172]
abbrev dktX0_count_6 : List UInt8 := dkwX0_count_6 ++ []
def dkwX0_count_5 : List UInt8 := [42, 180, 0, 121, 172, 3, 62, 29, 7, 162, 0, 29, 28, 42, 180, 0, 110, 29, 50, 180, 1, 208]
abbrev dktX0_count_5 : List UInt8 := dkwX0_count_5 ++ dktX0_count_6
def dkwX0_count_4 : List UInt8 := [42, 180, 0, 10, 180, 1, 205, 172, 42, 180, 0, 10, 180, 0, 209, 172, 42, 180, 0, 10, 180, 0, 142, 172]
abbrev dktX0_count_4 : List UInt8 := dkwX0_count_4 ++ dktX0_count_5
def dkwX0_count_3 : List UInt8 := [42, 180, 0, 10, 180, 0, 153, 172, 42, 180, 0, 10, 180, 0, 156, 172, 42, 180, 0, 10, 180, 0, 182, 172]
abbrev dktX0_count_3 : List UInt8 := dkwX0_count_3 ++ dktX0_count_4
def dkwX0_count_2 : List UInt8 := [42, 180, 0, 10, 180, 0, 207, 172, 42, 180, 0, 10, 180, 0, 215, 172, 42, 180, 0, 10, 180, 1, 174, 172]
abbrev dktX0_count_2 : List UInt8 := dkwX0_count_2 ++ dktX0_count_3
def dkwX0_count_1 : List UInt8 := [170, 0, 0, 0, 169, 0, 0, 0, 0, 0, 0, 0, 10, 0, 0, 0, 57, 0, 0, 0, 65, 0, 0, 0, 73, 0, 0, 0, 81, 0, 0, 0, 89, 0, 0, 0, 97, 0, 0, 0, 105, 0, 0, 0, 113, 0, 0, 0, 121, 0, 0, 0, 129, 0, 0, 0, 134]
abbrev dktX0_count_1 : List UInt8 := dkwX0_count_1 ++ dktX0_count_2
def dkwX0_count_0 : List UInt8 := [3, 61, 27]
abbrev dktX0_count_0 : List UInt8 := dkwX0_count_0 ++ dktX0_count_1
theorem dksX0_count_0 : cX0_count.data.toList.drop 0 = dktX0_count_0 := by decide +kernel
theorem dksX0_count_1 : cX0_count.data.toList.drop 3 = dktX0_count_1 := dk_seg dksX0_count_0 3 rfl rfl
theorem dksX0_count_2 : cX0_count.data.toList.drop 60 = dktX0_count_2 := dk_seg dksX0_count_1 57 rfl rfl
theorem dksX0_count_3 : cX0_count.data.toList.drop 84 = dktX0_count_3 := dk_seg dksX0_count_2 24 rfl rfl
theorem dksX0_count_4 : cX0_count.data.toList.drop 108 = dktX0_count_4 := dk_seg dksX0_count_3 24 rfl rfl
theorem dksX0_count_5 : cX0_count.data.toList.drop 132 = dktX0_count_5 := dk_seg dksX0_count_4 24 rfl rfl
theorem dksX0_count_6 : cX0_count.data.toList.drop 154 = dktX0_count_6 := dk_seg dksX0_count_5 22 rfl rfl
theorem dX0_count_0 : decode cX0_count 0 = .ok (.iconst 0, 1) := dk_3 (dk_at dksX0_count_0 0 rfl rfl)
theorem dX0_count_1 : decode cX0_count 1 = .ok (.istore_n 2, 1) := dk_61 (dk_at dksX0_count_0 1 rfl rfl)
theorem dX0_count_2 : decode cX0_count 2 = .ok (.iload_n 1, 1) := dk_27 (dk_at dksX0_count_0 2 rfl rfl)
theorem dX0_count_3 : decode cX0_count 3 = .ok (.tableswitch 169 0 10 #[57, 65, 73, 81, 89, 97, 105, 113, 121, 129, 134], 57) := by decide +kernel
theorem dX0_count_60 : decode cX0_count 60 = .ok (.aload_n 0, 1) := dk_42 (dk_at dksX0_count_2 0 rfl rfl)
theorem dX0_count_61 : decode cX0_count 61 = .ok (.getfield 10, 3) := dk_180 0 10 (dk_at dksX0_count_2 1 rfl rfl)
theorem dX0_count_64 : decode cX0_count 64 = .ok (.getfield 207, 3) := dk_180 0 207 (dk_at dksX0_count_2 4 rfl rfl)
theorem dX0_count_67 : decode cX0_count 67 = .ok (.ireturn, 1) := dk_172 (dk_at dksX0_count_2 7 rfl rfl)
theorem dX0_count_68 : decode cX0_count 68 = .ok (.aload_n 0, 1) := dk_42 (dk_at dksX0_count_2 8 rfl rfl)
theorem dX0_count_69 : decode cX0_count 69 = .ok (.getfield 10, 3) := dk_180 0 10 (dk_at dksX0_count_2 9 rfl rfl)
theorem dX0_count_72 : decode cX0_count 72 = .ok (.getfield 215, 3) := dk_180 0 215 (dk_at dksX0_count_2 12 rfl rfl)
theorem dX0_count_75 : decode cX0_count 75 = .ok (.ireturn, 1) := dk_172 (dk_at dksX0_count_2 15 rfl rfl)
theorem dX0_count_76 : decode cX0_count 76 = .ok (.aload_n 0, 1) := dk_42 (dk_at dksX0_count_2 16 rfl rfl)
theorem dX0_count_77 : decode cX0_count 77 = .ok (.getfield 10, 3) := dk_180 0 10 (dk_at dksX0_count_2 17 rfl rfl)
theorem dX0_count_80 : decode cX0_count 80 = .ok (.getfield 430, 3) := dk_180 1 174 (dk_at dksX0_count_2 20 rfl rfl)
theorem dX0_count_83 : decode cX0_count 83 = .ok (.ireturn, 1) := dk_172 (dk_at dksX0_count_2 23 rfl rfl)
theorem dX0_count_84 : decode cX0_count 84 = .ok (.aload_n 0, 1) := dk_42 (dk_at dksX0_count_3 0 rfl rfl)
theorem dX0_count_85 : decode cX0_count 85 = .ok (.getfield 10, 3) := dk_180 0 10 (dk_at dksX0_count_3 1 rfl rfl)
theorem dX0_count_88 : decode cX0_count 88 = .ok (.getfield 153, 3) := dk_180 0 153 (dk_at dksX0_count_3 4 rfl rfl)
theorem dX0_count_91 : decode cX0_count 91 = .ok (.ireturn, 1) := dk_172 (dk_at dksX0_count_3 7 rfl rfl)
theorem dX0_count_92 : decode cX0_count 92 = .ok (.aload_n 0, 1) := dk_42 (dk_at dksX0_count_3 8 rfl rfl)
theorem dX0_count_93 : decode cX0_count 93 = .ok (.getfield 10, 3) := dk_180 0 10 (dk_at dksX0_count_3 9 rfl rfl)
theorem dX0_count_96 : decode cX0_count 96 = .ok (.getfield 156, 3) := dk_180 0 156 (dk_at dksX0_count_3 12 rfl rfl)
theorem dX0_count_99 : decode cX0_count 99 = .ok (.ireturn, 1) := dk_172 (dk_at dksX0_count_3 15 rfl rfl)
theorem dX0_count_100 : decode cX0_count 100 = .ok (.aload_n 0, 1) := dk_42 (dk_at dksX0_count_3 16 rfl rfl)
theorem dX0_count_101 : decode cX0_count 101 = .ok (.getfield 10, 3) := dk_180 0 10 (dk_at dksX0_count_3 17 rfl rfl)
theorem dX0_count_104 : decode cX0_count 104 = .ok (.getfield 182, 3) := dk_180 0 182 (dk_at dksX0_count_3 20 rfl rfl)
theorem dX0_count_107 : decode cX0_count 107 = .ok (.ireturn, 1) := dk_172 (dk_at dksX0_count_3 23 rfl rfl)
theorem dX0_count_108 : decode cX0_count 108 = .ok (.aload_n 0, 1) := dk_42 (dk_at dksX0_count_4 0 rfl rfl)
theorem dX0_count_109 : decode cX0_count 109 = .ok (.getfield 10, 3) := dk_180 0 10 (dk_at dksX0_count_4 1 rfl rfl)
theorem dX0_count_112 : decode cX0_count 112 = .ok (.getfield 461, 3) := dk_180 1 205 (dk_at dksX0_count_4 4 rfl rfl)
theorem dX0_count_115 : decode cX0_count 115 = .ok (.ireturn, 1) := dk_172 (dk_at dksX0_count_4 7 rfl rfl)
theorem dX0_count_116 : decode cX0_count 116 = .ok (.aload_n 0, 1) := dk_42 (dk_at dksX0_count_4 8 rfl rfl)
theorem dX0_count_117 : decode cX0_count 117 = .ok (.getfield 10, 3) := dk_180 0 10 (dk_at dksX0_count_4 9 rfl rfl)
theorem dX0_count_120 : decode cX0_count 120 = .ok (.getfield 209, 3) := dk_180 0 209 (dk_at dksX0_count_4 12 rfl rfl)
theorem dX0_count_123 : decode cX0_count 123 = .ok (.ireturn, 1) := dk_172 (dk_at dksX0_count_4 15 rfl rfl)
theorem dX0_count_124 : decode cX0_count 124 = .ok (.aload_n 0, 1) := dk_42 (dk_at dksX0_count_4 16 rfl rfl)
theorem dX0_count_125 : decode cX0_count 125 = .ok (.getfield 10, 3) := dk_180 0 10 (dk_at dksX0_count_4 17 rfl rfl)
theorem dX0_count_128 : decode cX0_count 128 = .ok (.getfield 142, 3) := dk_180 0 142 (dk_at dksX0_count_4 20 rfl rfl)
theorem dX0_count_131 : decode cX0_count 131 = .ok (.ireturn, 1) := dk_172 (dk_at dksX0_count_4 23 rfl rfl)
theorem dX0_count_132 : decode cX0_count 132 = .ok (.aload_n 0, 1) := dk_42 (dk_at dksX0_count_5 0 rfl rfl)
theorem dX0_count_133 : decode cX0_count 133 = .ok (.getfield 121, 3) := dk_180 0 121 (dk_at dksX0_count_5 1 rfl rfl)
theorem dX0_count_136 : decode cX0_count 136 = .ok (.ireturn, 1) := dk_172 (dk_at dksX0_count_5 4 rfl rfl)
theorem dX0_count_137 : decode cX0_count 137 = .ok (.iconst 0, 1) := dk_3 (dk_at dksX0_count_5 5 rfl rfl)
theorem dX0_count_138 : decode cX0_count 138 = .ok (.istore_n 3, 1) := dk_62 (dk_at dksX0_count_5 6 rfl rfl)
theorem dX0_count_139 : decode cX0_count 139 = .ok (.iload_n 3, 1) := dk_29 (dk_at dksX0_count_5 7 rfl rfl)
theorem dX0_count_140 : decode cX0_count 140 = .ok (.iconst 4, 1) := dk_7 (dk_at dksX0_count_5 8 rfl rfl)
theorem dX0_count_141 : decode cX0_count 141 = .ok (.if_icmp .ge 29, 3) := dk_162 0 29 (dk_at dksX0_count_5 9 rfl rfl)
theorem dX0_count_144 : decode cX0_count 144 = .ok (.iload_n 2, 1) := dk_28 (dk_at dksX0_count_5 12 rfl rfl)
theorem dX0_count_145 : decode cX0_count 145 = .ok (.aload_n 0, 1) := dk_42 (dk_at dksX0_count_5 13 rfl rfl)
theorem dX0_count_146 : decode cX0_count 146 = .ok (.getfield 110, 3) := dk_180 0 110 (dk_at dksX0_count_5 14 rfl rfl)
theorem dX0_count_149 : decode cX0_count 149 = .ok (.iload_n 3, 1) := dk_29 (dk_at dksX0_count_5 17 rfl rfl)
theorem dX0_count_150 : decode cX0_count 150 = .ok (.aaload, 1) := dk_50 (dk_at dksX0_count_5 18 rfl rfl)
theorem dX0_count_151 : decode cX0_count 151 = .ok (.getfield 464, 3) := dk_180 1 208 (dk_at dksX0_count_5 19 rfl rfl)
theorem dX0_count_154 : decode cX0_count 154 = .ok (.ifnonnull 7, 3) := dk_199 0 7 (dk_at dksX0_count_6 0 rfl rfl)
theorem dX0_count_157 : decode cX0_count 157 = .ok (.iconst 0, 1) := dk_3 (dk_at dksX0_count_6 3 rfl rfl)
theorem dX0_count_158 : decode cX0_count 158 = .ok (.goto 4, 3) := dk_167 0 4 (dk_at dksX0_count_6 4 rfl rfl)
theorem dX0_count_161 : decode cX0_count 161 = .ok (.iconst 1, 1) := dk_4 (dk_at dksX0_count_6 7 rfl rfl)
theorem dX0_count_162 : decode cX0_count 162 = .ok (.iadd, 1) := dk_96 (dk_at dksX0_count_6 8 rfl rfl)
theorem dX0_count_163 : decode cX0_count 163 = .ok (.istore_n 2, 1) := dk_61 (dk_at dksX0_count_6 9 rfl rfl)
theorem dX0_count_164 : decode cX0_count 164 = .ok (.iinc 3 1, 3) := dk_132 3 1 (dk_at dksX0_count_6 10 rfl rfl)
theorem dX0_count_167 : decode cX0_count 167 = .ok (.goto (-28), 3) := dk_167 255 228 (dk_at dksX0_count_6 13 rfl rfl)
theorem dX0_count_170 : decode cX0_count 170 = .ok (.iload_n 2, 1) := dk_28 (dk_at dksX0_count_6 16 rfl rfl)
theorem dX0_count_171 : decode cX0_count 171 = .ok (.ireturn, 1) := dk_172 (dk_at dksX0_count_6 17 rfl rfl)
theorem dX0_count_172 : decode cX0_count 172 = .ok (.iconst (-1), 1) := dk_2 (dk_at dksX0_count_6 18 rfl rfl)
theorem dX0_count_173 : decode cX0_count 173 = .ok (.ireturn, 1) := dk_172 (dk_at dksX0_count_6 19 rfl rfl)
abbrev cX0_image : ByteArray := prog_1_method_121_code
def yX0_image : MethodName := ⟨RX0, "image", "(I)I"⟩
def dkwX0_image_2 : List UInt8 := [182, 1, 218, 182, 1, 221, 87, 3, 172]
abbrev dktX0_image_2 : List UInt8 := dkwX0_image_2 ++ []
def dkwX0_image_1 : List UInt8 := [162, 0, 15, 42, 180, 0, 117, 1, 182, 1, 214, 87, 167, 255, 236, 42, 180, 0, 117, 27, 42, 180, 0, 10]
abbrev dktX0_image_1 : List UInt8 := dkwX0_image_1 ++ dktX0_image_2
def dkwX0_image_0 : List UInt8 := [27, 133, 9, 20, 1, 211, 184, 0, 128, 154, 0, 6, 16, 254, 172, 42, 180, 0, 117, 182, 1, 213, 6]
abbrev dktX0_image_0 : List UInt8 := dkwX0_image_0 ++ dktX0_image_1
theorem dksX0_image_0 : cX0_image.data.toList.drop 0 = dktX0_image_0 := by decide +kernel
theorem dksX0_image_1 : cX0_image.data.toList.drop 23 = dktX0_image_1 := dk_seg dksX0_image_0 23 rfl rfl
theorem dksX0_image_2 : cX0_image.data.toList.drop 47 = dktX0_image_2 := dk_seg dksX0_image_1 24 rfl rfl
theorem dX0_image_0 : decode cX0_image 0 = .ok (.iload_n 1, 1) := dk_27 (dk_at dksX0_image_0 0 rfl rfl)
theorem dX0_image_1 : decode cX0_image 1 = .ok (.i2l, 1) := dk_133 (dk_at dksX0_image_0 1 rfl rfl)
theorem dX0_image_2 : decode cX0_image 2 = .ok (.lconst 0, 1) := dk_9 (dk_at dksX0_image_0 2 rfl rfl)
theorem dX0_image_3 : decode cX0_image 3 = .ok (.ldc2_w 467, 3) := dk_20 1 211 (dk_at dksX0_image_0 3 rfl rfl)
theorem dX0_image_6 : decode cX0_image 6 = .ok (.invokestatic 128, 3) := dk_184 0 128 (dk_at dksX0_image_0 6 rfl rfl)
theorem dX0_image_9 : decode cX0_image 9 = .ok (.ifCond .ne 6, 3) := dk_154 0 6 (dk_at dksX0_image_0 9 rfl rfl)
theorem dX0_image_12 : decode cX0_image 12 = .ok (.bipush (-2), 2) := dk_16 254 (dk_at dksX0_image_0 12 rfl rfl)
theorem dX0_image_14 : decode cX0_image 14 = .ok (.ireturn, 1) := dk_172 (dk_at dksX0_image_0 14 rfl rfl)
theorem dX0_image_15 : decode cX0_image 15 = .ok (.aload_n 0, 1) := dk_42 (dk_at dksX0_image_0 15 rfl rfl)
theorem dX0_image_16 : decode cX0_image 16 = .ok (.getfield 117, 3) := dk_180 0 117 (dk_at dksX0_image_0 16 rfl rfl)
theorem dX0_image_19 : decode cX0_image 19 = .ok (.invokevirtual 469, 3) := dk_182 1 213 (dk_at dksX0_image_0 19 rfl rfl)
theorem dX0_image_22 : decode cX0_image 22 = .ok (.iconst 3, 1) := dk_6 (dk_at dksX0_image_0 22 rfl rfl)
theorem dX0_image_23 : decode cX0_image 23 = .ok (.if_icmp .ge 15, 3) := dk_162 0 15 (dk_at dksX0_image_1 0 rfl rfl)
theorem dX0_image_26 : decode cX0_image 26 = .ok (.aload_n 0, 1) := dk_42 (dk_at dksX0_image_1 3 rfl rfl)
theorem dX0_image_27 : decode cX0_image 27 = .ok (.getfield 117, 3) := dk_180 0 117 (dk_at dksX0_image_1 4 rfl rfl)
theorem dX0_image_30 : decode cX0_image 30 = .ok (.aconst_null, 1) := dk_1 (dk_at dksX0_image_1 7 rfl rfl)
theorem dX0_image_31 : decode cX0_image 31 = .ok (.invokevirtual 470, 3) := dk_182 1 214 (dk_at dksX0_image_1 8 rfl rfl)
theorem dX0_image_34 : decode cX0_image 34 = .ok (.pop, 1) := dk_87 (dk_at dksX0_image_1 11 rfl rfl)
theorem dX0_image_35 : decode cX0_image 35 = .ok (.goto (-20), 3) := dk_167 255 236 (dk_at dksX0_image_1 12 rfl rfl)
theorem dX0_image_38 : decode cX0_image 38 = .ok (.aload_n 0, 1) := dk_42 (dk_at dksX0_image_1 15 rfl rfl)
theorem dX0_image_39 : decode cX0_image 39 = .ok (.getfield 117, 3) := dk_180 0 117 (dk_at dksX0_image_1 16 rfl rfl)
theorem dX0_image_42 : decode cX0_image 42 = .ok (.iload_n 1, 1) := dk_27 (dk_at dksX0_image_1 19 rfl rfl)
theorem dX0_image_43 : decode cX0_image 43 = .ok (.aload_n 0, 1) := dk_42 (dk_at dksX0_image_1 20 rfl rfl)
theorem dX0_image_44 : decode cX0_image 44 = .ok (.getfield 10, 3) := dk_180 0 10 (dk_at dksX0_image_1 21 rfl rfl)
theorem dX0_image_47 : decode cX0_image 47 = .ok (.invokevirtual 474, 3) := dk_182 1 218 (dk_at dksX0_image_2 0 rfl rfl)
theorem dX0_image_50 : decode cX0_image 50 = .ok (.invokevirtual 477, 3) := dk_182 1 221 (dk_at dksX0_image_2 3 rfl rfl)
theorem dX0_image_53 : decode cX0_image 53 = .ok (.pop, 1) := dk_87 (dk_at dksX0_image_2 6 rfl rfl)
theorem dX0_image_54 : decode cX0_image 54 = .ok (.iconst 0, 1) := dk_3 (dk_at dksX0_image_2 7 rfl rfl)
theorem dX0_image_55 : decode cX0_image 55 = .ok (.ireturn, 1) := dk_172 (dk_at dksX0_image_2 8 rfl rfl)
abbrev cX0_back : ByteArray := prog_1_method_122_code
def yX0_back : MethodName := ⟨RX0, "back", "(I)I"⟩
def dkwX0_back_2 : List UInt8 := [182, 1, 228, 192, 0, 7, 182, 1, 218, 181, 0, 10, 3, 172]
abbrev dktX0_back_2 : List UInt8 := dkwX0_back_2 ++ []
def dkwX0_back_1 : List UInt8 := [154, 0, 14, 42, 180, 0, 117, 27, 182, 1, 228, 199, 0, 6, 16, 250, 172, 42, 42, 180, 0, 117, 27]
abbrev dktX0_back_1 : List UInt8 := dkwX0_back_1 ++ dktX0_back_2
def dkwX0_back_0 : List UInt8 := [27, 133, 9, 20, 1, 211, 184, 0, 128, 154, 0, 6, 16, 254, 172, 42, 180, 0, 117, 182, 1, 225]
abbrev dktX0_back_0 : List UInt8 := dkwX0_back_0 ++ dktX0_back_1
theorem dksX0_back_0 : cX0_back.data.toList.drop 0 = dktX0_back_0 := by decide +kernel
theorem dksX0_back_1 : cX0_back.data.toList.drop 22 = dktX0_back_1 := dk_seg dksX0_back_0 22 rfl rfl
theorem dksX0_back_2 : cX0_back.data.toList.drop 45 = dktX0_back_2 := dk_seg dksX0_back_1 23 rfl rfl
theorem dX0_back_0 : decode cX0_back 0 = .ok (.iload_n 1, 1) := dk_27 (dk_at dksX0_back_0 0 rfl rfl)
theorem dX0_back_1 : decode cX0_back 1 = .ok (.i2l, 1) := dk_133 (dk_at dksX0_back_0 1 rfl rfl)
theorem dX0_back_2 : decode cX0_back 2 = .ok (.lconst 0, 1) := dk_9 (dk_at dksX0_back_0 2 rfl rfl)
theorem dX0_back_3 : decode cX0_back 3 = .ok (.ldc2_w 467, 3) := dk_20 1 211 (dk_at dksX0_back_0 3 rfl rfl)
theorem dX0_back_6 : decode cX0_back 6 = .ok (.invokestatic 128, 3) := dk_184 0 128 (dk_at dksX0_back_0 6 rfl rfl)
theorem dX0_back_9 : decode cX0_back 9 = .ok (.ifCond .ne 6, 3) := dk_154 0 6 (dk_at dksX0_back_0 9 rfl rfl)
theorem dX0_back_12 : decode cX0_back 12 = .ok (.bipush (-2), 2) := dk_16 254 (dk_at dksX0_back_0 12 rfl rfl)
theorem dX0_back_14 : decode cX0_back 14 = .ok (.ireturn, 1) := dk_172 (dk_at dksX0_back_0 14 rfl rfl)
theorem dX0_back_15 : decode cX0_back 15 = .ok (.aload_n 0, 1) := dk_42 (dk_at dksX0_back_0 15 rfl rfl)
theorem dX0_back_16 : decode cX0_back 16 = .ok (.getfield 117, 3) := dk_180 0 117 (dk_at dksX0_back_0 16 rfl rfl)
theorem dX0_back_19 : decode cX0_back 19 = .ok (.invokevirtual 481, 3) := dk_182 1 225 (dk_at dksX0_back_0 19 rfl rfl)
theorem dX0_back_22 : decode cX0_back 22 = .ok (.ifCond .ne 14, 3) := dk_154 0 14 (dk_at dksX0_back_1 0 rfl rfl)
theorem dX0_back_25 : decode cX0_back 25 = .ok (.aload_n 0, 1) := dk_42 (dk_at dksX0_back_1 3 rfl rfl)
theorem dX0_back_26 : decode cX0_back 26 = .ok (.getfield 117, 3) := dk_180 0 117 (dk_at dksX0_back_1 4 rfl rfl)
theorem dX0_back_29 : decode cX0_back 29 = .ok (.iload_n 1, 1) := dk_27 (dk_at dksX0_back_1 7 rfl rfl)
theorem dX0_back_30 : decode cX0_back 30 = .ok (.invokevirtual 484, 3) := dk_182 1 228 (dk_at dksX0_back_1 8 rfl rfl)
theorem dX0_back_33 : decode cX0_back 33 = .ok (.ifnonnull 6, 3) := dk_199 0 6 (dk_at dksX0_back_1 11 rfl rfl)
theorem dX0_back_36 : decode cX0_back 36 = .ok (.bipush (-6), 2) := dk_16 250 (dk_at dksX0_back_1 14 rfl rfl)
theorem dX0_back_38 : decode cX0_back 38 = .ok (.ireturn, 1) := dk_172 (dk_at dksX0_back_1 16 rfl rfl)
theorem dX0_back_39 : decode cX0_back 39 = .ok (.aload_n 0, 1) := dk_42 (dk_at dksX0_back_1 17 rfl rfl)
theorem dX0_back_40 : decode cX0_back 40 = .ok (.aload_n 0, 1) := dk_42 (dk_at dksX0_back_1 18 rfl rfl)
theorem dX0_back_41 : decode cX0_back 41 = .ok (.getfield 117, 3) := dk_180 0 117 (dk_at dksX0_back_1 19 rfl rfl)
theorem dX0_back_44 : decode cX0_back 44 = .ok (.iload_n 1, 1) := dk_27 (dk_at dksX0_back_1 22 rfl rfl)
theorem dX0_back_45 : decode cX0_back 45 = .ok (.invokevirtual 484, 3) := dk_182 1 228 (dk_at dksX0_back_2 0 rfl rfl)
theorem dX0_back_48 : decode cX0_back 48 = .ok (.checkcast 7, 3) := dk_192 0 7 (dk_at dksX0_back_2 3 rfl rfl)
theorem dX0_back_51 : decode cX0_back 51 = .ok (.invokevirtual 474, 3) := dk_182 1 218 (dk_at dksX0_back_2 6 rfl rfl)
theorem dX0_back_54 : decode cX0_back 54 = .ok (.putfield 10, 3) := dk_181 0 10 (dk_at dksX0_back_2 9 rfl rfl)
theorem dX0_back_57 : decode cX0_back 57 = .ok (.iconst 0, 1) := dk_3 (dk_at dksX0_back_2 12 rfl rfl)
theorem dX0_back_58 : decode cX0_back 58 = .ok (.ireturn, 1) := dk_172 (dk_at dksX0_back_2 13 rfl rfl)
abbrev cX0_row : ByteArray := prog_1_method_123_code
def yX0_row : MethodName := ⟨RX0, "row", "(III)I"⟩
def dkwX0_row_1 : List UInt8 := [164, 0, 6, 16, 254, 172, 42, 180, 0, 110, 27, 50, 28, 29, 182, 1, 232, 3, 172, 58, 4, 16, 253, 172]
abbrev dktX0_row_1 : List UInt8 := dkwX0_row_1 ++ []
def dkwX0_row_0 : List UInt8 := [27, 184, 1, 74, 153, 0, 21, 28, 133, 9, 20, 0, 163, 184, 0, 128, 153, 0, 9, 29, 16, 60]
abbrev dktX0_row_0 : List UInt8 := dkwX0_row_0 ++ dktX0_row_1
theorem dksX0_row_0 : cX0_row.data.toList.drop 0 = dktX0_row_0 := by decide +kernel
theorem dksX0_row_1 : cX0_row.data.toList.drop 22 = dktX0_row_1 := dk_seg dksX0_row_0 22 rfl rfl
theorem dX0_row_0 : decode cX0_row 0 = .ok (.iload_n 1, 1) := dk_27 (dk_at dksX0_row_0 0 rfl rfl)
theorem dX0_row_1 : decode cX0_row 1 = .ok (.invokestatic 330, 3) := dk_184 1 74 (dk_at dksX0_row_0 1 rfl rfl)
theorem dX0_row_4 : decode cX0_row 4 = .ok (.ifCond .eq 21, 3) := dk_153 0 21 (dk_at dksX0_row_0 4 rfl rfl)
theorem dX0_row_7 : decode cX0_row 7 = .ok (.iload_n 2, 1) := dk_28 (dk_at dksX0_row_0 7 rfl rfl)
theorem dX0_row_8 : decode cX0_row 8 = .ok (.i2l, 1) := dk_133 (dk_at dksX0_row_0 8 rfl rfl)
theorem dX0_row_9 : decode cX0_row 9 = .ok (.lconst 0, 1) := dk_9 (dk_at dksX0_row_0 9 rfl rfl)
theorem dX0_row_10 : decode cX0_row 10 = .ok (.ldc2_w 163, 3) := dk_20 0 163 (dk_at dksX0_row_0 10 rfl rfl)
theorem dX0_row_13 : decode cX0_row 13 = .ok (.invokestatic 128, 3) := dk_184 0 128 (dk_at dksX0_row_0 13 rfl rfl)
theorem dX0_row_16 : decode cX0_row 16 = .ok (.ifCond .eq 9, 3) := dk_153 0 9 (dk_at dksX0_row_0 16 rfl rfl)
theorem dX0_row_19 : decode cX0_row 19 = .ok (.iload_n 3, 1) := dk_29 (dk_at dksX0_row_0 19 rfl rfl)
theorem dX0_row_20 : decode cX0_row 20 = .ok (.bipush 60, 2) := dk_16 60 (dk_at dksX0_row_0 20 rfl rfl)
theorem dX0_row_22 : decode cX0_row 22 = .ok (.if_icmp .le 6, 3) := dk_164 0 6 (dk_at dksX0_row_1 0 rfl rfl)
theorem dX0_row_25 : decode cX0_row 25 = .ok (.bipush (-2), 2) := dk_16 254 (dk_at dksX0_row_1 3 rfl rfl)
theorem dX0_row_27 : decode cX0_row 27 = .ok (.ireturn, 1) := dk_172 (dk_at dksX0_row_1 5 rfl rfl)
theorem dX0_row_28 : decode cX0_row 28 = .ok (.aload_n 0, 1) := dk_42 (dk_at dksX0_row_1 6 rfl rfl)
theorem dX0_row_29 : decode cX0_row 29 = .ok (.getfield 110, 3) := dk_180 0 110 (dk_at dksX0_row_1 7 rfl rfl)
theorem dX0_row_32 : decode cX0_row 32 = .ok (.iload_n 1, 1) := dk_27 (dk_at dksX0_row_1 10 rfl rfl)
theorem dX0_row_33 : decode cX0_row 33 = .ok (.aaload, 1) := dk_50 (dk_at dksX0_row_1 11 rfl rfl)
theorem dX0_row_34 : decode cX0_row 34 = .ok (.iload_n 2, 1) := dk_28 (dk_at dksX0_row_1 12 rfl rfl)
theorem dX0_row_35 : decode cX0_row 35 = .ok (.iload_n 3, 1) := dk_29 (dk_at dksX0_row_1 13 rfl rfl)
theorem dX0_row_36 : decode cX0_row 36 = .ok (.invokevirtual 488, 3) := dk_182 1 232 (dk_at dksX0_row_1 14 rfl rfl)
theorem dX0_row_39 : decode cX0_row 39 = .ok (.iconst 0, 1) := dk_3 (dk_at dksX0_row_1 17 rfl rfl)
theorem dX0_row_40 : decode cX0_row 40 = .ok (.ireturn, 1) := dk_172 (dk_at dksX0_row_1 18 rfl rfl)
theorem dX0_row_41 : decode cX0_row 41 = .ok (.astore 4, 2) := dk_58 4 (dk_at dksX0_row_1 19 rfl rfl)
theorem dX0_row_43 : decode cX0_row 43 = .ok (.bipush (-3), 2) := dk_16 253 (dk_at dksX0_row_1 21 rfl rfl)
theorem dX0_row_45 : decode cX0_row 45 = .ok (.ireturn, 1) := dk_172 (dk_at dksX0_row_1 23 rfl rfl)
abbrev cX0_write : ByteArray := prog_1_method_124_code
def yX0_write : MethodName := ⟨RX0, "write", "(IIJ)I"⟩
def dkwX0_write_1 : List UInt8 := [58, 5, 16, 250, 172, 58, 5, 16, 249, 172]
abbrev dktX0_write_1 : List UInt8 := dkwX0_write_1 ++ []
def dkwX0_write_0 : List UInt8 := [27, 184, 1, 74, 154, 0, 6, 16, 254, 172, 42, 180, 0, 110, 27, 50, 28, 33, 182, 1, 237, 3, 172]
abbrev dktX0_write_0 : List UInt8 := dkwX0_write_0 ++ dktX0_write_1
theorem dksX0_write_0 : cX0_write.data.toList.drop 0 = dktX0_write_0 := by decide +kernel
theorem dksX0_write_1 : cX0_write.data.toList.drop 23 = dktX0_write_1 := dk_seg dksX0_write_0 23 rfl rfl
theorem dX0_write_0 : decode cX0_write 0 = .ok (.iload_n 1, 1) := dk_27 (dk_at dksX0_write_0 0 rfl rfl)
theorem dX0_write_1 : decode cX0_write 1 = .ok (.invokestatic 330, 3) := dk_184 1 74 (dk_at dksX0_write_0 1 rfl rfl)
theorem dX0_write_4 : decode cX0_write 4 = .ok (.ifCond .ne 6, 3) := dk_154 0 6 (dk_at dksX0_write_0 4 rfl rfl)
theorem dX0_write_7 : decode cX0_write 7 = .ok (.bipush (-2), 2) := dk_16 254 (dk_at dksX0_write_0 7 rfl rfl)
theorem dX0_write_9 : decode cX0_write 9 = .ok (.ireturn, 1) := dk_172 (dk_at dksX0_write_0 9 rfl rfl)
theorem dX0_write_10 : decode cX0_write 10 = .ok (.aload_n 0, 1) := dk_42 (dk_at dksX0_write_0 10 rfl rfl)
theorem dX0_write_11 : decode cX0_write 11 = .ok (.getfield 110, 3) := dk_180 0 110 (dk_at dksX0_write_0 11 rfl rfl)
theorem dX0_write_14 : decode cX0_write 14 = .ok (.iload_n 1, 1) := dk_27 (dk_at dksX0_write_0 14 rfl rfl)
theorem dX0_write_15 : decode cX0_write 15 = .ok (.aaload, 1) := dk_50 (dk_at dksX0_write_0 15 rfl rfl)
theorem dX0_write_16 : decode cX0_write 16 = .ok (.iload_n 2, 1) := dk_28 (dk_at dksX0_write_0 16 rfl rfl)
theorem dX0_write_17 : decode cX0_write 17 = .ok (.lload_n 3, 1) := dk_33 (dk_at dksX0_write_0 17 rfl rfl)
theorem dX0_write_18 : decode cX0_write 18 = .ok (.invokevirtual 493, 3) := dk_182 1 237 (dk_at dksX0_write_0 18 rfl rfl)
theorem dX0_write_21 : decode cX0_write 21 = .ok (.iconst 0, 1) := dk_3 (dk_at dksX0_write_0 21 rfl rfl)
theorem dX0_write_22 : decode cX0_write 22 = .ok (.ireturn, 1) := dk_172 (dk_at dksX0_write_0 22 rfl rfl)
theorem dX0_write_23 : decode cX0_write 23 = .ok (.astore 5, 2) := dk_58 5 (dk_at dksX0_write_1 0 rfl rfl)
theorem dX0_write_25 : decode cX0_write 25 = .ok (.bipush (-6), 2) := dk_16 250 (dk_at dksX0_write_1 2 rfl rfl)
theorem dX0_write_27 : decode cX0_write 27 = .ok (.ireturn, 1) := dk_172 (dk_at dksX0_write_1 4 rfl rfl)
theorem dX0_write_28 : decode cX0_write 28 = .ok (.astore 5, 2) := dk_58 5 (dk_at dksX0_write_1 5 rfl rfl)
theorem dX0_write_30 : decode cX0_write 30 = .ok (.bipush (-7), 2) := dk_16 249 (dk_at dksX0_write_1 7 rfl rfl)
theorem dX0_write_32 : decode cX0_write 32 = .ok (.ireturn, 1) := dk_172 (dk_at dksX0_write_1 9 rfl rfl)
abbrev cX0_paste : ByteArray := prog_1_method_125_code
def yX0_paste : MethodName := ⟨RX0, "paste", "(IIIII)I"⟩
def dkwX0_paste_2 : List UInt8 := [16, 250, 172, 58, 6, 16, 248, 172, 58, 6, 16, 249, 172]
abbrev dktX0_paste_2 : List UInt8 := dkwX0_paste_2 ++ []
def dkwX0_paste_1 : List UInt8 := [180, 1, 208, 28, 42, 180, 0, 110, 29, 50, 180, 1, 208, 21, 4, 21, 5, 184, 0, 194, 3, 172, 58, 6]
abbrev dktX0_paste_1 : List UInt8 := dkwX0_paste_1 ++ dktX0_paste_2
def dkwX0_paste_0 : List UInt8 := [27, 184, 1, 74, 153, 0, 10, 29, 184, 1, 74, 154, 0, 6, 16, 254, 172, 42, 180, 0, 110, 27, 50]
abbrev dktX0_paste_0 : List UInt8 := dkwX0_paste_0 ++ dktX0_paste_1
theorem dksX0_paste_0 : cX0_paste.data.toList.drop 0 = dktX0_paste_0 := by decide +kernel
theorem dksX0_paste_1 : cX0_paste.data.toList.drop 23 = dktX0_paste_1 := dk_seg dksX0_paste_0 23 rfl rfl
theorem dksX0_paste_2 : cX0_paste.data.toList.drop 47 = dktX0_paste_2 := dk_seg dksX0_paste_1 24 rfl rfl
theorem dX0_paste_0 : decode cX0_paste 0 = .ok (.iload_n 1, 1) := dk_27 (dk_at dksX0_paste_0 0 rfl rfl)
theorem dX0_paste_1 : decode cX0_paste 1 = .ok (.invokestatic 330, 3) := dk_184 1 74 (dk_at dksX0_paste_0 1 rfl rfl)
theorem dX0_paste_4 : decode cX0_paste 4 = .ok (.ifCond .eq 10, 3) := dk_153 0 10 (dk_at dksX0_paste_0 4 rfl rfl)
theorem dX0_paste_7 : decode cX0_paste 7 = .ok (.iload_n 3, 1) := dk_29 (dk_at dksX0_paste_0 7 rfl rfl)
theorem dX0_paste_8 : decode cX0_paste 8 = .ok (.invokestatic 330, 3) := dk_184 1 74 (dk_at dksX0_paste_0 8 rfl rfl)
theorem dX0_paste_11 : decode cX0_paste 11 = .ok (.ifCond .ne 6, 3) := dk_154 0 6 (dk_at dksX0_paste_0 11 rfl rfl)
theorem dX0_paste_14 : decode cX0_paste 14 = .ok (.bipush (-2), 2) := dk_16 254 (dk_at dksX0_paste_0 14 rfl rfl)
theorem dX0_paste_16 : decode cX0_paste 16 = .ok (.ireturn, 1) := dk_172 (dk_at dksX0_paste_0 16 rfl rfl)
theorem dX0_paste_17 : decode cX0_paste 17 = .ok (.aload_n 0, 1) := dk_42 (dk_at dksX0_paste_0 17 rfl rfl)
theorem dX0_paste_18 : decode cX0_paste 18 = .ok (.getfield 110, 3) := dk_180 0 110 (dk_at dksX0_paste_0 18 rfl rfl)
theorem dX0_paste_21 : decode cX0_paste 21 = .ok (.iload_n 1, 1) := dk_27 (dk_at dksX0_paste_0 21 rfl rfl)
theorem dX0_paste_22 : decode cX0_paste 22 = .ok (.aaload, 1) := dk_50 (dk_at dksX0_paste_0 22 rfl rfl)
theorem dX0_paste_23 : decode cX0_paste 23 = .ok (.getfield 464, 3) := dk_180 1 208 (dk_at dksX0_paste_1 0 rfl rfl)
theorem dX0_paste_26 : decode cX0_paste 26 = .ok (.iload_n 2, 1) := dk_28 (dk_at dksX0_paste_1 3 rfl rfl)
theorem dX0_paste_27 : decode cX0_paste 27 = .ok (.aload_n 0, 1) := dk_42 (dk_at dksX0_paste_1 4 rfl rfl)
theorem dX0_paste_28 : decode cX0_paste 28 = .ok (.getfield 110, 3) := dk_180 0 110 (dk_at dksX0_paste_1 5 rfl rfl)
theorem dX0_paste_31 : decode cX0_paste 31 = .ok (.iload_n 3, 1) := dk_29 (dk_at dksX0_paste_1 8 rfl rfl)
theorem dX0_paste_32 : decode cX0_paste 32 = .ok (.aaload, 1) := dk_50 (dk_at dksX0_paste_1 9 rfl rfl)
theorem dX0_paste_33 : decode cX0_paste 33 = .ok (.getfield 464, 3) := dk_180 1 208 (dk_at dksX0_paste_1 10 rfl rfl)
theorem dX0_paste_36 : decode cX0_paste 36 = .ok (.iload 4, 2) := dk_21 4 (dk_at dksX0_paste_1 13 rfl rfl)
theorem dX0_paste_38 : decode cX0_paste 38 = .ok (.iload 5, 2) := dk_21 5 (dk_at dksX0_paste_1 15 rfl rfl)
theorem dX0_paste_40 : decode cX0_paste 40 = .ok (.invokestatic 194, 3) := dk_184 0 194 (dk_at dksX0_paste_1 17 rfl rfl)
theorem dX0_paste_43 : decode cX0_paste 43 = .ok (.iconst 0, 1) := dk_3 (dk_at dksX0_paste_1 20 rfl rfl)
theorem dX0_paste_44 : decode cX0_paste 44 = .ok (.ireturn, 1) := dk_172 (dk_at dksX0_paste_1 21 rfl rfl)
theorem dX0_paste_45 : decode cX0_paste 45 = .ok (.astore 6, 2) := dk_58 6 (dk_at dksX0_paste_1 22 rfl rfl)
theorem dX0_paste_47 : decode cX0_paste 47 = .ok (.bipush (-6), 2) := dk_16 250 (dk_at dksX0_paste_2 0 rfl rfl)
theorem dX0_paste_49 : decode cX0_paste 49 = .ok (.ireturn, 1) := dk_172 (dk_at dksX0_paste_2 2 rfl rfl)
theorem dX0_paste_50 : decode cX0_paste 50 = .ok (.astore 6, 2) := dk_58 6 (dk_at dksX0_paste_2 3 rfl rfl)
theorem dX0_paste_52 : decode cX0_paste 52 = .ok (.bipush (-8), 2) := dk_16 248 (dk_at dksX0_paste_2 5 rfl rfl)
theorem dX0_paste_54 : decode cX0_paste 54 = .ok (.ireturn, 1) := dk_172 (dk_at dksX0_paste_2 7 rfl rfl)
theorem dX0_paste_55 : decode cX0_paste 55 = .ok (.astore 6, 2) := dk_58 6 (dk_at dksX0_paste_2 8 rfl rfl)
theorem dX0_paste_57 : decode cX0_paste 57 = .ok (.bipush (-7), 2) := dk_16 249 (dk_at dksX0_paste_2 10 rfl rfl)
theorem dX0_paste_59 : decode cX0_paste 59 = .ok (.ireturn, 1) := dk_172 (dk_at dksX0_paste_2 12 rfl rfl)
theorem q128 : (Jvm.Cond.initialized "SagMemory") ∈ lw_all := lw_g (lw_at lw_m1 1 rfl) rfl
theorem q162 : (Jvm.Cond.instantiable "SagMemory" (45 : Nat)) ∈ lw_all := lw_g (lw_at lw_m1 35 rfl) rfl
theorem q164 : (Jvm.Cond.instanceMethod ({ cls := "SagMemory", name := "<init>", desc := "()V" } : Jvm.MethodName)) ∈ lw_all := lw_g (lw_at lw_m1 37 rfl) rfl
theorem q165 : (Jvm.Cond.code ({ cls := "SagMemory", name := "<init>", desc := "()V" } : Jvm.MethodName) prog_1_method_3_code (1 : Nat) (Option.none : Option Jvm.ClassFile.FieldType)) ∈ lw_all := lw_g (lw_at lw_m1 38 rfl) rfl
theorem q166 : (Jvm.Cond.methodLink "SagMemory" (1 : Nat) ({ cls := "java/lang/Object", name := "<init>", desc := "()V" } : Jvm.MethodName)) ∈ lw_all := lw_g (lw_at lw_m1 39 rfl) rfl
theorem q169 : (Jvm.Cond.classLink "SagMemory" (7 : Nat) "SagMemory$Valley") ∈ lw_all := lw_g (lw_at lw_m1 42 rfl) rfl
theorem q171 : (Jvm.Cond.methodLinkNest "SagMemory" (9 : Nat) ({ cls := "SagMemory$Valley", name := "<init>", desc := "()V" } : Jvm.MethodName) "SagMemory") ∈ lw_tbl := lw_at lw_m1 44 rfl
theorem q177 : (Jvm.Cond.fieldLinkNest "SagMemory" (207 : Nat) "SagMemory$Valley" "law" "I" "SagMemory") ∈ lw_tbl := lw_at lw_m1 50 rfl
theorem q180 : (Jvm.Cond.fieldLinkNest "SagMemory" (215 : Nat) "SagMemory$Valley" "frost" "I" "SagMemory") ∈ lw_tbl := lw_at lw_m1 53 rfl
theorem q183 : (Jvm.Cond.fieldLinkNest "SagMemory" (430 : Nat) "SagMemory$Valley" "odds" "I" "SagMemory") ∈ lw_tbl := lw_at lw_m1 56 rfl
theorem q185 : (Jvm.Cond.fieldLinkNest "SagMemory" (142 : Nat) "SagMemory$Valley" "lines" "I" "SagMemory") ∈ lw_tbl := lw_at lw_m1 58 rfl
theorem q188 : (Jvm.Cond.fieldLinkNest "SagMemory" (153 : Nat) "SagMemory$Valley" "bridges" "I" "SagMemory") ∈ lw_tbl := lw_at lw_m1 61 rfl
theorem q191 : (Jvm.Cond.fieldLinkNest "SagMemory" (156 : Nat) "SagMemory$Valley" "carts" "I" "SagMemory") ∈ lw_tbl := lw_at lw_m1 64 rfl
theorem q195 : (Jvm.Cond.fieldLinkNest "SagMemory" (182 : Nat) "SagMemory$Valley" "wards" "I" "SagMemory") ∈ lw_tbl := lw_at lw_m1 68 rfl
theorem q198 : (Jvm.Cond.fieldLinkNest "SagMemory" (200 : Nat) "SagMemory$Valley" "colds" "I" "SagMemory") ∈ lw_tbl := lw_at lw_m1 71 rfl
theorem q201 : (Jvm.Cond.fieldLinkNest "SagMemory" (461 : Nat) "SagMemory$Valley" "frosts" "I" "SagMemory") ∈ lw_tbl := lw_at lw_m1 74 rfl
theorem q203 : (Jvm.Cond.fieldLinkNest "SagMemory" (209 : Nat) "SagMemory$Valley" "acts" "I" "SagMemory") ∈ lw_tbl := lw_at lw_m1 76 rfl
theorem q206 : (Jvm.Cond.fieldLinkNest "SagMemory" (174 : Nat) "SagMemory$Valley" "holds" "[I" "SagMemory") ∈ lw_tbl := lw_at lw_m1 79 rfl
theorem q209 : (Jvm.Cond.fieldLinkNest "SagMemory" (177 : Nat) "SagMemory$Valley" "toll" "[I" "SagMemory") ∈ lw_tbl := lw_at lw_m1 82 rfl
theorem q212 : (Jvm.Cond.fieldLinkNest "SagMemory" (180 : Nat) "SagMemory$Valley" "load" "[I" "SagMemory") ∈ lw_tbl := lw_at lw_m1 85 rfl
theorem q215 : (Jvm.Cond.fieldLinkNest "SagMemory" (181 : Nat) "SagMemory$Valley" "by" "[I" "SagMemory") ∈ lw_tbl := lw_at lw_m1 88 rfl
theorem q218 : (Jvm.Cond.fieldLinkNest "SagMemory" (185 : Nat) "SagMemory$Valley" "at" "[I" "SagMemory") ∈ lw_tbl := lw_at lw_m1 91 rfl
theorem q221 : (Jvm.Cond.fieldLinkNest "SagMemory" (188 : Nat) "SagMemory$Valley" "over" "[I" "SagMemory") ∈ lw_tbl := lw_at lw_m1 94 rfl
theorem q224 : (Jvm.Cond.fieldLinkNest "SagMemory" (191 : Nat) "SagMemory$Valley" "to" "[I" "SagMemory") ∈ lw_tbl := lw_at lw_m1 97 rfl
theorem q226 : (Jvm.Cond.fieldLinkNest "SagMemory" (212 : Nat) "SagMemory$Valley" "act" "[I" "SagMemory") ∈ lw_tbl := lw_at lw_m1 99 rfl
theorem q265 : (Jvm.Cond.classLink "SagMemory" (34 : Nat) "SagMemory$Wiping") ∈ lw_all := lw_g (lw_at lw_m1 138 rfl) rfl
theorem q268 : (Jvm.Cond.methodLinkNest "SagMemory" (36 : Nat) ({ cls := "SagMemory$Wiping", name := "<init>", desc := "(LSagMemory;)V" } : Jvm.MethodName) "SagMemory") ∈ lw_tbl := lw_at lw_m1 141 rfl
theorem q277 : (Jvm.Cond.classLink "SagMemory" (39 : Nat) "SagMemory$Lighter") ∈ lw_all := lw_g (lw_at lw_m1 150 rfl) rfl
theorem q279 : (Jvm.Cond.methodLinkNest "SagMemory" (41 : Nat) ({ cls := "SagMemory$Lighter", name := "<init>", desc := "(LSagMemory;)V" } : Jvm.MethodName) "SagMemory") ∈ lw_tbl := lw_at lw_m1 152 rfl
theorem q288 : (Jvm.Cond.classLink "SagMemory" (42 : Nat) "SagMemory$Half") ∈ lw_all := lw_g (lw_at lw_m1 161 rfl) rfl
theorem q290 : (Jvm.Cond.methodLinkNest "SagMemory" (44 : Nat) ({ cls := "SagMemory$Half", name := "<init>", desc := "(LSagMemory;)V" } : Jvm.MethodName) "SagMemory") ∈ lw_tbl := lw_at lw_m1 163 rfl
theorem q299 : (Jvm.Cond.classLink "SagMemory" (45 : Nat) "SagMemory$Even") ∈ lw_all := lw_g (lw_at lw_m1 172 rfl) rfl
theorem q301 : (Jvm.Cond.methodLinkNest "SagMemory" (47 : Nat) ({ cls := "SagMemory$Even", name := "<init>", desc := "(LSagMemory;)V" } : Jvm.MethodName) "SagMemory") ∈ lw_tbl := lw_at lw_m1 174 rfl
theorem q311 : (Jvm.Cond.classLink "SagMemory" (107 : Nat) "SagMemory$Slot") ∈ lw_all := lw_g (lw_at lw_m1 184 rfl) rfl
theorem q314 : (Jvm.Cond.methodLinkNest "SagMemory" (109 : Nat) ({ cls := "SagMemory$Slot", name := "<init>", desc := "()V" } : Jvm.MethodName) "SagMemory") ∈ lw_tbl := lw_at lw_m1 187 rfl
theorem q319 : (Jvm.Cond.fieldLinkNest "SagMemory" (464 : Nat) "SagMemory$Slot" "row" "Ljava/lang/Object;" "SagMemory") ∈ lw_tbl := lw_at lw_m1 192 rfl
theorem q323 : (Jvm.Cond.classLink "SagMemory" (114 : Nat) "java/util/ArrayList") ∈ lw_all := lw_g (lw_at lw_m1 196 rfl) rfl
theorem q325 : (Jvm.Cond.methodLink "SagMemory" (116 : Nat) ({ cls := "java/util/ArrayList", name := "<init>", desc := "()V" } : Jvm.MethodName)) ∈ lw_all := lw_g (lw_at lw_m1 198 rfl) rfl
theorem q349 : (Jvm.Cond.fieldLink "SagMemory" (10 : Nat) "SagMemory" "valley" "LSagMemory$Valley;") ∈ lw_all := lw_g (lw_at lw_m1 222 rfl) rfl
theorem q351 : (Jvm.Cond.fieldLink "SagMemory" (16 : Nat) "SagMemory" "tape" "[B") ∈ lw_all := lw_g (lw_at lw_m1 224 rfl) rfl
theorem q353 : (Jvm.Cond.fieldLink "SagMemory" (121 : Nat) "SagMemory" "taped" "I") ∈ lw_all := lw_g (lw_at lw_m1 226 rfl) rfl
theorem q354 : (Jvm.Cond.fieldLink "SagMemory" (139 : Nat) "SagMemory" "faultKind" "I") ∈ lw_all := lw_g (lw_at lw_m1 227 rfl) rfl
theorem q355 : (Jvm.Cond.fieldLink "SagMemory" (20 : Nat) "SagMemory" "faultPlace" "I") ∈ lw_all := lw_g (lw_at lw_m1 228 rfl) rfl
theorem q357 : (Jvm.Cond.fieldLink "SagMemory" (24 : Nat) "SagMemory" "kept" "[I") ∈ lw_all := lw_g (lw_at lw_m1 230 rfl) rfl
theorem q359 : (Jvm.Cond.fieldLink "SagMemory" (28 : Nat) "SagMemory" "from" "[I") ∈ lw_all := lw_g (lw_at lw_m1 232 rfl) rfl
theorem q363 : (Jvm.Cond.fieldLink "SagMemory" (31 : Nat) "SagMemory" "many" "[I") ∈ lw_all := lw_g (lw_at lw_m1 236 rfl) rfl
theorem q366 : (Jvm.Cond.fieldLink "SagMemory" (231 : Nat) "SagMemory" "wiped" "I") ∈ lw_all := lw_g (lw_at lw_m1 239 rfl) rfl
theorem q368 : (Jvm.Cond.fieldLink "SagMemory" (48 : Nat) "SagMemory" "laws" "[LSagMemory$Wiping;") ∈ lw_all := lw_g (lw_at lw_m2 1 rfl) rfl
theorem q369 : (Jvm.Cond.fieldLink "SagMemory" (52 : Nat) "SagMemory" "law" "LSagMemory$Wiping;") ∈ lw_all := lw_g (lw_at lw_m2 2 rfl) rfl
theorem q370 : (Jvm.Cond.fieldLink "SagMemory" (56 : Nat) "SagMemory" "load" "[I") ∈ lw_all := lw_g (lw_at lw_m2 3 rfl) rfl
theorem q371 : (Jvm.Cond.fieldLink "SagMemory" (59 : Nat) "SagMemory" "by" "[I") ∈ lw_all := lw_g (lw_at lw_m2 4 rfl) rfl
theorem q372 : (Jvm.Cond.fieldLink "SagMemory" (62 : Nat) "SagMemory" "row" "[I") ∈ lw_all := lw_g (lw_at lw_m2 5 rfl) rfl
theorem q373 : (Jvm.Cond.fieldLink "SagMemory" (65 : Nat) "SagMemory" "went" "[I") ∈ lw_all := lw_g (lw_at lw_m2 6 rfl) rfl
theorem q374 : (Jvm.Cond.fieldLink "SagMemory" (68 : Nat) "SagMemory" "came" "[I") ∈ lw_all := lw_g (lw_at lw_m2 7 rfl) rfl
theorem q375 : (Jvm.Cond.fieldLink "SagMemory" (71 : Nat) "SagMemory" "gave" "[I") ∈ lw_all := lw_g (lw_at lw_m2 8 rfl) rfl
theorem q376 : (Jvm.Cond.fieldLink "SagMemory" (74 : Nat) "SagMemory" "creaked" "[I") ∈ lw_all := lw_g (lw_at lw_m2 9 rfl) rfl
theorem q377 : (Jvm.Cond.fieldLink "SagMemory" (77 : Nat) "SagMemory" "paid" "[I") ∈ lw_all := lw_g (lw_at lw_m2 10 rfl) rfl
theorem q378 : (Jvm.Cond.fieldLink "SagMemory" (80 : Nat) "SagMemory" "wipedBy" "[I") ∈ lw_all := lw_g (lw_at lw_m2 11 rfl) rfl
theorem q379 : (Jvm.Cond.fieldLink "SagMemory" (83 : Nat) "SagMemory" "brokeBy" "[I") ∈ lw_all := lw_g (lw_at lw_m2 12 rfl) rfl
theorem q380 : (Jvm.Cond.fieldLink "SagMemory" (86 : Nat) "SagMemory" "keptBy" "[I") ∈ lw_all := lw_g (lw_at lw_m2 13 rfl) rfl
theorem q381 : (Jvm.Cond.fieldLink "SagMemory" (89 : Nat) "SagMemory" "manyBy" "[I") ∈ lw_all := lw_g (lw_at lw_m2 14 rfl) rfl
theorem q382 : (Jvm.Cond.fieldLink "SagMemory" (92 : Nat) "SagMemory" "sagBy" "[I") ∈ lw_all := lw_g (lw_at lw_m2 15 rfl) rfl
theorem q383 : (Jvm.Cond.fieldLink "SagMemory" (203 : Nat) "SagMemory" "colds" "I") ∈ lw_all := lw_g (lw_at lw_m2 16 rfl) rfl
theorem q384 : (Jvm.Cond.fieldLink "SagMemory" (204 : Nat) "SagMemory" "absent" "I") ∈ lw_all := lw_g (lw_at lw_m2 17 rfl) rfl
theorem q385 : (Jvm.Cond.fieldLink "SagMemory" (95 : Nat) "SagMemory" "firstRow" "[I") ∈ lw_all := lw_g (lw_at lw_m2 18 rfl) rfl
theorem q386 : (Jvm.Cond.fieldLink "SagMemory" (285 : Nat) "SagMemory" "rowLeast" "I") ∈ lw_all := lw_g (lw_at lw_m2 19 rfl) rfl
theorem q387 : (Jvm.Cond.fieldLink "SagMemory" (288 : Nat) "SagMemory" "rowMany" "I") ∈ lw_all := lw_g (lw_at lw_m2 20 rfl) rfl
theorem q388 : (Jvm.Cond.fieldLink "SagMemory" (291 : Nat) "SagMemory" "rowAcross" "I") ∈ lw_all := lw_g (lw_at lw_m2 21 rfl) rfl
theorem q389 : (Jvm.Cond.fieldLink "SagMemory" (98 : Nat) "SagMemory" "backSets" "[I") ∈ lw_all := lw_g (lw_at lw_m2 22 rfl) rfl
theorem q390 : (Jvm.Cond.fieldLink "SagMemory" (333 : Nat) "SagMemory" "backMany" "I") ∈ lw_all := lw_g (lw_at lw_m2 23 rfl) rfl
theorem q391 : (Jvm.Cond.fieldLink "SagMemory" (350 : Nat) "SagMemory" "askWorst" "I") ∈ lw_all := lw_g (lw_at lw_m2 24 rfl) rfl
theorem q392 : (Jvm.Cond.fieldLink "SagMemory" (361 : Nat) "SagMemory" "loadMany" "I") ∈ lw_all := lw_g (lw_at lw_m2 25 rfl) rfl
theorem q393 : (Jvm.Cond.fieldLink "SagMemory" (364 : Nat) "SagMemory" "loadLeast" "I") ∈ lw_all := lw_g (lw_at lw_m2 26 rfl) rfl
theorem q394 : (Jvm.Cond.fieldLink "SagMemory" (367 : Nat) "SagMemory" "loadMost" "I") ∈ lw_all := lw_g (lw_at lw_m2 27 rfl) rfl
theorem q395 : (Jvm.Cond.fieldLink "SagMemory" (101 : Nat) "SagMemory" "sagOfSet" "[I") ∈ lw_all := lw_g (lw_at lw_m2 28 rfl) rfl
theorem q396 : (Jvm.Cond.fieldLink "SagMemory" (104 : Nat) "SagMemory" "losesBy" "[I") ∈ lw_all := lw_g (lw_at lw_m2 29 rfl) rfl
theorem q397 : (Jvm.Cond.fieldLink "SagMemory" (408 : Nat) "SagMemory" "restMany" "I") ∈ lw_all := lw_g (lw_at lw_m2 30 rfl) rfl
theorem q398 : (Jvm.Cond.fieldLink "SagMemory" (411 : Nat) "SagMemory" "restFirst" "I") ∈ lw_all := lw_g (lw_at lw_m2 31 rfl) rfl
theorem q399 : (Jvm.Cond.fieldLink "SagMemory" (420 : Nat) "SagMemory" "oftenAll" "J") ∈ lw_all := lw_g (lw_at lw_m2 32 rfl) rfl
theorem q400 : (Jvm.Cond.fieldLink "SagMemory" (424 : Nat) "SagMemory" "oftenBreaks" "J") ∈ lw_all := lw_g (lw_at lw_m2 33 rfl) rfl
theorem q401 : (Jvm.Cond.fieldLink "SagMemory" (427 : Nat) "SagMemory" "oftenSag" "J") ∈ lw_all := lw_g (lw_at lw_m2 34 rfl) rfl
theorem q402 : (Jvm.Cond.fieldLink "SagMemory" (110 : Nat) "SagMemory" "slots" "[LSagMemory$Slot;") ∈ lw_all := lw_g (lw_at lw_m2 35 rfl) rfl
theorem q403 : (Jvm.Cond.fieldLink "SagMemory" (117 : Nat) "SagMemory" "images" "Ljava/util/ArrayList;") ∈ lw_all := lw_g (lw_at lw_m2 36 rfl) rfl
theorem q404 : (Jvm.Cond.lays "SagMemory" "SagMemory" "valley" "LSagMemory$Valley;") ∈ lw_all := lw_g (lw_at lw_m2 37 rfl) rfl
theorem q405 : (Jvm.Cond.soleField "SagMemory" "valley") ∈ lw_all := lw_g (lw_at lw_m2 38 rfl) rfl
theorem q406 : (Jvm.Cond.laysFinal "SagMemory" "SagMemory" "tape" "[B") ∈ lw_all := lw_g (lw_at lw_m2 39 rfl) rfl
theorem q407 : (Jvm.Cond.soleField "SagMemory" "tape") ∈ lw_all := lw_g (lw_at lw_m2 40 rfl) rfl
theorem q408 : (Jvm.Cond.lays "SagMemory" "SagMemory" "taped" "I") ∈ lw_all := lw_g (lw_at lw_m2 41 rfl) rfl
theorem q409 : (Jvm.Cond.soleField "SagMemory" "taped") ∈ lw_all := lw_g (lw_at lw_m2 42 rfl) rfl
theorem q410 : (Jvm.Cond.lays "SagMemory" "SagMemory" "faultKind" "I") ∈ lw_all := lw_g (lw_at lw_m2 43 rfl) rfl
theorem q411 : (Jvm.Cond.soleField "SagMemory" "faultKind") ∈ lw_all := lw_g (lw_at lw_m2 44 rfl) rfl
theorem q412 : (Jvm.Cond.lays "SagMemory" "SagMemory" "faultPlace" "I") ∈ lw_all := lw_g (lw_at lw_m2 45 rfl) rfl
theorem q413 : (Jvm.Cond.soleField "SagMemory" "faultPlace") ∈ lw_all := lw_g (lw_at lw_m2 46 rfl) rfl
theorem q414 : (Jvm.Cond.laysFinal "SagMemory" "SagMemory" "kept" "[I") ∈ lw_all := lw_g (lw_at lw_m2 47 rfl) rfl
theorem q415 : (Jvm.Cond.soleField "SagMemory" "kept") ∈ lw_all := lw_g (lw_at lw_m2 48 rfl) rfl
theorem q416 : (Jvm.Cond.laysFinal "SagMemory" "SagMemory" "from" "[I") ∈ lw_all := lw_g (lw_at lw_m2 49 rfl) rfl
theorem q417 : (Jvm.Cond.soleField "SagMemory" "from") ∈ lw_all := lw_g (lw_at lw_m2 50 rfl) rfl
theorem q418 : (Jvm.Cond.laysFinal "SagMemory" "SagMemory" "many" "[I") ∈ lw_all := lw_g (lw_at lw_m2 51 rfl) rfl
theorem q419 : (Jvm.Cond.soleField "SagMemory" "many") ∈ lw_all := lw_g (lw_at lw_m2 52 rfl) rfl
theorem q420 : (Jvm.Cond.lays "SagMemory" "SagMemory" "wiped" "I") ∈ lw_all := lw_g (lw_at lw_m2 53 rfl) rfl
theorem q421 : (Jvm.Cond.soleField "SagMemory" "wiped") ∈ lw_all := lw_g (lw_at lw_m2 54 rfl) rfl
theorem q422 : (Jvm.Cond.laysFinal "SagMemory" "SagMemory" "laws" "[LSagMemory$Wiping;") ∈ lw_all := lw_g (lw_at lw_m2 55 rfl) rfl
theorem q423 : (Jvm.Cond.soleField "SagMemory" "laws") ∈ lw_all := lw_g (lw_at lw_m2 56 rfl) rfl
theorem q424 : (Jvm.Cond.lays "SagMemory" "SagMemory" "law" "LSagMemory$Wiping;") ∈ lw_all := lw_g (lw_at lw_m2 57 rfl) rfl
theorem q425 : (Jvm.Cond.soleField "SagMemory" "law") ∈ lw_all := lw_g (lw_at lw_m2 58 rfl) rfl
theorem q426 : (Jvm.Cond.laysFinal "SagMemory" "SagMemory" "load" "[I") ∈ lw_all := lw_g (lw_at lw_m2 59 rfl) rfl
theorem q427 : (Jvm.Cond.soleField "SagMemory" "load") ∈ lw_all := lw_g (lw_at lw_m2 60 rfl) rfl
theorem q428 : (Jvm.Cond.laysFinal "SagMemory" "SagMemory" "by" "[I") ∈ lw_all := lw_g (lw_at lw_m2 61 rfl) rfl
theorem q429 : (Jvm.Cond.soleField "SagMemory" "by") ∈ lw_all := lw_g (lw_at lw_m2 62 rfl) rfl
theorem q430 : (Jvm.Cond.laysFinal "SagMemory" "SagMemory" "row" "[I") ∈ lw_all := lw_g (lw_at lw_m2 63 rfl) rfl
theorem q431 : (Jvm.Cond.soleField "SagMemory" "row") ∈ lw_all := lw_g (lw_at lw_m2 64 rfl) rfl
theorem q432 : (Jvm.Cond.laysFinal "SagMemory" "SagMemory" "went" "[I") ∈ lw_all := lw_g (lw_at lw_m2 65 rfl) rfl
theorem q433 : (Jvm.Cond.soleField "SagMemory" "went") ∈ lw_all := lw_g (lw_at lw_m2 66 rfl) rfl
theorem q434 : (Jvm.Cond.laysFinal "SagMemory" "SagMemory" "came" "[I") ∈ lw_all := lw_g (lw_at lw_m2 67 rfl) rfl
theorem q435 : (Jvm.Cond.soleField "SagMemory" "came") ∈ lw_all := lw_g (lw_at lw_m2 68 rfl) rfl
theorem q436 : (Jvm.Cond.laysFinal "SagMemory" "SagMemory" "gave" "[I") ∈ lw_all := lw_g (lw_at lw_m2 69 rfl) rfl
theorem q437 : (Jvm.Cond.soleField "SagMemory" "gave") ∈ lw_all := lw_g (lw_at lw_m2 70 rfl) rfl
theorem q438 : (Jvm.Cond.laysFinal "SagMemory" "SagMemory" "creaked" "[I") ∈ lw_all := lw_g (lw_at lw_m2 71 rfl) rfl
theorem q439 : (Jvm.Cond.soleField "SagMemory" "creaked") ∈ lw_all := lw_g (lw_at lw_m2 72 rfl) rfl
theorem q440 : (Jvm.Cond.laysFinal "SagMemory" "SagMemory" "paid" "[I") ∈ lw_all := lw_g (lw_at lw_m2 73 rfl) rfl
theorem q441 : (Jvm.Cond.soleField "SagMemory" "paid") ∈ lw_all := lw_g (lw_at lw_m2 74 rfl) rfl
theorem q442 : (Jvm.Cond.laysFinal "SagMemory" "SagMemory" "wipedBy" "[I") ∈ lw_all := lw_g (lw_at lw_m2 75 rfl) rfl
theorem q443 : (Jvm.Cond.soleField "SagMemory" "wipedBy") ∈ lw_all := lw_g (lw_at lw_m2 76 rfl) rfl
theorem q444 : (Jvm.Cond.laysFinal "SagMemory" "SagMemory" "brokeBy" "[I") ∈ lw_all := lw_g (lw_at lw_m2 77 rfl) rfl
theorem q445 : (Jvm.Cond.soleField "SagMemory" "brokeBy") ∈ lw_all := lw_g (lw_at lw_m2 78 rfl) rfl
theorem q446 : (Jvm.Cond.laysFinal "SagMemory" "SagMemory" "keptBy" "[I") ∈ lw_all := lw_g (lw_at lw_m2 79 rfl) rfl
theorem q447 : (Jvm.Cond.soleField "SagMemory" "keptBy") ∈ lw_all := lw_g (lw_at lw_m2 80 rfl) rfl
theorem q448 : (Jvm.Cond.laysFinal "SagMemory" "SagMemory" "manyBy" "[I") ∈ lw_all := lw_g (lw_at lw_m2 81 rfl) rfl
theorem q449 : (Jvm.Cond.soleField "SagMemory" "manyBy") ∈ lw_all := lw_g (lw_at lw_m2 82 rfl) rfl
theorem q450 : (Jvm.Cond.laysFinal "SagMemory" "SagMemory" "sagBy" "[I") ∈ lw_all := lw_g (lw_at lw_m2 83 rfl) rfl
theorem q451 : (Jvm.Cond.soleField "SagMemory" "sagBy") ∈ lw_all := lw_g (lw_at lw_m2 84 rfl) rfl
theorem q452 : (Jvm.Cond.lays "SagMemory" "SagMemory" "colds" "I") ∈ lw_all := lw_g (lw_at lw_m2 85 rfl) rfl
theorem q453 : (Jvm.Cond.soleField "SagMemory" "colds") ∈ lw_all := lw_g (lw_at lw_m2 86 rfl) rfl
theorem q454 : (Jvm.Cond.lays "SagMemory" "SagMemory" "absent" "I") ∈ lw_all := lw_g (lw_at lw_m2 87 rfl) rfl
theorem q455 : (Jvm.Cond.soleField "SagMemory" "absent") ∈ lw_all := lw_g (lw_at lw_m2 88 rfl) rfl
theorem q456 : (Jvm.Cond.laysFinal "SagMemory" "SagMemory" "firstRow" "[I") ∈ lw_all := lw_g (lw_at lw_m2 89 rfl) rfl
theorem q457 : (Jvm.Cond.soleField "SagMemory" "firstRow") ∈ lw_all := lw_g (lw_at lw_m2 90 rfl) rfl
theorem q458 : (Jvm.Cond.lays "SagMemory" "SagMemory" "rowLeast" "I") ∈ lw_all := lw_g (lw_at lw_m2 91 rfl) rfl
theorem q459 : (Jvm.Cond.soleField "SagMemory" "rowLeast") ∈ lw_all := lw_g (lw_at lw_m2 92 rfl) rfl
theorem q460 : (Jvm.Cond.lays "SagMemory" "SagMemory" "rowMany" "I") ∈ lw_all := lw_g (lw_at lw_m2 93 rfl) rfl
theorem q461 : (Jvm.Cond.soleField "SagMemory" "rowMany") ∈ lw_all := lw_g (lw_at lw_m2 94 rfl) rfl
theorem q462 : (Jvm.Cond.lays "SagMemory" "SagMemory" "rowAcross" "I") ∈ lw_all := lw_g (lw_at lw_m2 95 rfl) rfl
theorem q463 : (Jvm.Cond.soleField "SagMemory" "rowAcross") ∈ lw_all := lw_g (lw_at lw_m2 96 rfl) rfl
theorem q464 : (Jvm.Cond.laysFinal "SagMemory" "SagMemory" "backSets" "[I") ∈ lw_all := lw_g (lw_at lw_m2 97 rfl) rfl
theorem q465 : (Jvm.Cond.soleField "SagMemory" "backSets") ∈ lw_all := lw_g (lw_at lw_m2 98 rfl) rfl
theorem q466 : (Jvm.Cond.lays "SagMemory" "SagMemory" "backMany" "I") ∈ lw_all := lw_g (lw_at lw_m2 99 rfl) rfl
theorem q467 : (Jvm.Cond.soleField "SagMemory" "backMany") ∈ lw_all := lw_g (lw_at lw_m2 100 rfl) rfl
theorem q468 : (Jvm.Cond.lays "SagMemory" "SagMemory" "askWorst" "I") ∈ lw_all := lw_g (lw_at lw_m2 101 rfl) rfl
theorem q469 : (Jvm.Cond.soleField "SagMemory" "askWorst") ∈ lw_all := lw_g (lw_at lw_m2 102 rfl) rfl
theorem q470 : (Jvm.Cond.lays "SagMemory" "SagMemory" "loadMany" "I") ∈ lw_all := lw_g (lw_at lw_m2 103 rfl) rfl
theorem q471 : (Jvm.Cond.soleField "SagMemory" "loadMany") ∈ lw_all := lw_g (lw_at lw_m2 104 rfl) rfl
theorem q472 : (Jvm.Cond.lays "SagMemory" "SagMemory" "loadLeast" "I") ∈ lw_all := lw_g (lw_at lw_m2 105 rfl) rfl
theorem q473 : (Jvm.Cond.soleField "SagMemory" "loadLeast") ∈ lw_all := lw_g (lw_at lw_m2 106 rfl) rfl
theorem q474 : (Jvm.Cond.lays "SagMemory" "SagMemory" "loadMost" "I") ∈ lw_all := lw_g (lw_at lw_m2 107 rfl) rfl
theorem q475 : (Jvm.Cond.soleField "SagMemory" "loadMost") ∈ lw_all := lw_g (lw_at lw_m2 108 rfl) rfl
theorem q476 : (Jvm.Cond.laysFinal "SagMemory" "SagMemory" "sagOfSet" "[I") ∈ lw_all := lw_g (lw_at lw_m2 109 rfl) rfl
theorem q477 : (Jvm.Cond.soleField "SagMemory" "sagOfSet") ∈ lw_all := lw_g (lw_at lw_m2 110 rfl) rfl
theorem q478 : (Jvm.Cond.laysFinal "SagMemory" "SagMemory" "losesBy" "[I") ∈ lw_all := lw_g (lw_at lw_m2 111 rfl) rfl
theorem q479 : (Jvm.Cond.soleField "SagMemory" "losesBy") ∈ lw_all := lw_g (lw_at lw_m2 112 rfl) rfl
theorem q480 : (Jvm.Cond.lays "SagMemory" "SagMemory" "restMany" "I") ∈ lw_all := lw_g (lw_at lw_m2 113 rfl) rfl
theorem q481 : (Jvm.Cond.soleField "SagMemory" "restMany") ∈ lw_all := lw_g (lw_at lw_m2 114 rfl) rfl
theorem q482 : (Jvm.Cond.lays "SagMemory" "SagMemory" "restFirst" "I") ∈ lw_all := lw_g (lw_at lw_m2 115 rfl) rfl
theorem q483 : (Jvm.Cond.soleField "SagMemory" "restFirst") ∈ lw_all := lw_g (lw_at lw_m2 116 rfl) rfl
theorem q484 : (Jvm.Cond.lays "SagMemory" "SagMemory" "oftenAll" "J") ∈ lw_all := lw_g (lw_at lw_m2 117 rfl) rfl
theorem q485 : (Jvm.Cond.soleField "SagMemory" "oftenAll") ∈ lw_all := lw_g (lw_at lw_m2 118 rfl) rfl
theorem q486 : (Jvm.Cond.lays "SagMemory" "SagMemory" "oftenBreaks" "J") ∈ lw_all := lw_g (lw_at lw_m2 119 rfl) rfl
theorem q487 : (Jvm.Cond.soleField "SagMemory" "oftenBreaks") ∈ lw_all := lw_g (lw_at lw_m2 120 rfl) rfl
theorem q488 : (Jvm.Cond.lays "SagMemory" "SagMemory" "oftenSag" "J") ∈ lw_all := lw_g (lw_at lw_m2 121 rfl) rfl
theorem q489 : (Jvm.Cond.soleField "SagMemory" "oftenSag") ∈ lw_all := lw_g (lw_at lw_m2 122 rfl) rfl
theorem q490 : (Jvm.Cond.laysFinal "SagMemory" "SagMemory" "slots" "[LSagMemory$Slot;") ∈ lw_all := lw_g (lw_at lw_m2 123 rfl) rfl
theorem q491 : (Jvm.Cond.soleField "SagMemory" "slots") ∈ lw_all := lw_g (lw_at lw_m2 124 rfl) rfl
theorem q492 : (Jvm.Cond.laysFinal "SagMemory" "SagMemory" "images" "Ljava/util/ArrayList;") ∈ lw_all := lw_g (lw_at lw_m2 125 rfl) rfl
theorem q493 : (Jvm.Cond.soleField "SagMemory" "images") ∈ lw_all := lw_g (lw_at lw_m2 126 rfl) rfl
theorem q494 : (Jvm.Cond.superclass "SagMemory" "java/lang/Object") ∈ lw_all := lw_g (lw_at lw_m2 127 rfl) rfl
theorem q496 : (Jvm.Cond.instanceMethod ({ cls := "SagMemory", name := "feed", desc := "(IIIII)I" } : Jvm.MethodName)) ∈ lw_all := lw_g (lw_at lw_m2 129 rfl) rfl
theorem q497 : (Jvm.Cond.selects "SagMemory" ({ cls := "SagMemory", name := "feed", desc := "(IIIII)I" } : Jvm.MethodName) ({ cls := "SagMemory", name := "feed", desc := "(IIIII)I" } : Jvm.MethodName)) ∈ lw_all := lw_g (lw_at lw_m2 130 rfl) rfl
theorem q498 : (Jvm.Cond.code ({ cls := "SagMemory", name := "feed", desc := "(IIIII)I" } : Jvm.MethodName) prog_1_method_5_code (6 : Nat) (Option.some Jvm.ClassFile.FieldType.int)) ∈ lw_all := lw_g (lw_at lw_m2 131 rfl) rfl
theorem q499 : (Jvm.Cond.methodLink "SagMemory" (124 : Nat) ({ cls := "SagMemory", name := "puts", desc := "(I)V" } : Jvm.MethodName)) ∈ lw_all := lw_g (lw_at lw_m2 132 rfl) rfl
theorem q500 : (Jvm.Cond.privateMethod ({ cls := "SagMemory", name := "puts", desc := "(I)V" } : Jvm.MethodName)) ∈ lw_tbl := lw_at lw_m2 133 rfl
theorem q501 : (Jvm.Cond.instanceMethod ({ cls := "SagMemory", name := "puts", desc := "(I)V" } : Jvm.MethodName)) ∈ lw_all := lw_g (lw_at lw_m2 134 rfl) rfl
theorem q502 : (Jvm.Cond.code ({ cls := "SagMemory", name := "puts", desc := "(I)V" } : Jvm.MethodName) prog_1_method_4_code (3 : Nat) (Option.none : Option Jvm.ClassFile.FieldType)) ∈ lw_all := lw_g (lw_at lw_m2 135 rfl) rfl
theorem q504 : (Jvm.Cond.instanceMethod ({ cls := "SagMemory", name := "end", desc := "(I)I" } : Jvm.MethodName)) ∈ lw_all := lw_g (lw_at lw_m2 137 rfl) rfl
theorem q505 : (Jvm.Cond.selects "SagMemory" ({ cls := "SagMemory", name := "end", desc := "(I)I" } : Jvm.MethodName) ({ cls := "SagMemory", name := "end", desc := "(I)I" } : Jvm.MethodName)) ∈ lw_all := lw_g (lw_at lw_m2 138 rfl) rfl
theorem q506 : (Jvm.Cond.code ({ cls := "SagMemory", name := "end", desc := "(I)I" } : Jvm.MethodName) prog_1_method_6_code (2 : Nat) (Option.some Jvm.ClassFile.FieldType.int)) ∈ lw_all := lw_g (lw_at lw_m2 139 rfl) rfl
theorem q507 : (Jvm.Cond.methodLink "SagMemory" (128 : Nat) ({ cls := "SagMemory", name := "isIn", desc := "(JJJ)Z" } : Jvm.MethodName)) ∈ lw_all := lw_g (lw_at lw_m2 140 rfl) rfl
theorem q508 : (Jvm.Cond.static ({ cls := "SagMemory", name := "isIn", desc := "(JJJ)Z" } : Jvm.MethodName)) ∈ lw_all := lw_g (lw_at lw_m2 141 rfl) rfl
theorem q509 : (Jvm.Cond.code ({ cls := "SagMemory", name := "isIn", desc := "(JJJ)Z" } : Jvm.MethodName) prog_1_method_1_code (6 : Nat) (Option.some Jvm.ClassFile.FieldType.boolean)) ∈ lw_all := lw_g (lw_at lw_m2 142 rfl) rfl
theorem q511 : (Jvm.Cond.instanceMethod ({ cls := "SagMemory", name := "valley", desc := "()I" } : Jvm.MethodName)) ∈ lw_all := lw_g (lw_at lw_m2 144 rfl) rfl
theorem q512 : (Jvm.Cond.selects "SagMemory" ({ cls := "SagMemory", name := "valley", desc := "()I" } : Jvm.MethodName) ({ cls := "SagMemory", name := "valley", desc := "()I" } : Jvm.MethodName)) ∈ lw_all := lw_g (lw_at lw_m2 145 rfl) rfl
theorem q513 : (Jvm.Cond.codeWith ({ cls := "SagMemory", name := "valley", desc := "()I" } : Jvm.MethodName) prog_1_method_7_code (4 : Nat) (Option.some Jvm.ClassFile.FieldType.int) [((0 : Nat), (33 : Nat), (40 : Nat), (145 : Nat)), ((0 : Nat), (33 : Nat), (67 : Nat), (0 : Nat)), ((40 : Nat), (60 : Nat), (67 : Nat), (0 : Nat))]) ∈ lw_all := lw_g (lw_at lw_m2 146 rfl) rfl
theorem q514 : (Jvm.Cond.classLink "SagMemory" (145 : Nat) "SagMemory$Fault") ∈ lw_all := lw_g (lw_at lw_m2 147 rfl) rfl
theorem q515 : (Jvm.Cond.classLink "SagMemory" (132 : Nat) "SagMemory$Reader") ∈ lw_all := lw_g (lw_at lw_m2 148 rfl) rfl
theorem q517 : (Jvm.Cond.methodLink "SagMemory" (134 : Nat) ({ cls := "SagMemory$Reader", name := "<init>", desc := "(LSagMemory;)V" } : Jvm.MethodName)) ∈ lw_all := lw_g (lw_at lw_m2 150 rfl) rfl
theorem q568 : (Jvm.Cond.methodLink "SagMemory" (135 : Nat) ({ cls := "SagMemory$Reader", name := "read", desc := "()LSagMemory$Valley;" } : Jvm.MethodName)) ∈ lw_all := lw_g (lw_at lw_m2 201 rfl) rfl
theorem q705 : (Jvm.Cond.fieldLinkNest "SagMemory" (147 : Nat) "SagMemory$Fault" "kind" "I" "SagMemory") ∈ lw_tbl := lw_at lw_m3 98 rfl
theorem q707 : (Jvm.Cond.fieldLinkNest "SagMemory" (150 : Nat) "SagMemory$Fault" "place" "I" "SagMemory") ∈ lw_tbl := lw_at lw_m3 100 rfl
theorem q759 : (Jvm.Cond.instanceMethod ({ cls := "SagMemory", name := "fault", desc := "(I)I" } : Jvm.MethodName)) ∈ lw_all := lw_g (lw_at lw_m3 152 rfl) rfl
theorem q760 : (Jvm.Cond.selects "SagMemory" ({ cls := "SagMemory", name := "fault", desc := "(I)I" } : Jvm.MethodName) ({ cls := "SagMemory", name := "fault", desc := "(I)I" } : Jvm.MethodName)) ∈ lw_all := lw_g (lw_at lw_m3 153 rfl) rfl
theorem q761 : (Jvm.Cond.code ({ cls := "SagMemory", name := "fault", desc := "(I)I" } : Jvm.MethodName) prog_1_method_8_code (2 : Nat) (Option.some Jvm.ClassFile.FieldType.int)) ∈ lw_all := lw_g (lw_at lw_m3 154 rfl) rfl
theorem q763 : (Jvm.Cond.instanceMethod ({ cls := "SagMemory", name := "bridge", desc := "(II)I" } : Jvm.MethodName)) ∈ lw_all := lw_g (lw_at lw_m3 156 rfl) rfl
theorem q764 : (Jvm.Cond.selects "SagMemory" ({ cls := "SagMemory", name := "bridge", desc := "(II)I" } : Jvm.MethodName) ({ cls := "SagMemory", name := "bridge", desc := "(II)I" } : Jvm.MethodName)) ∈ lw_all := lw_g (lw_at lw_m3 157 rfl) rfl
theorem q765 : (Jvm.Cond.code ({ cls := "SagMemory", name := "bridge", desc := "(II)I" } : Jvm.MethodName) prog_1_method_17_code (3 : Nat) (Option.some Jvm.ClassFile.FieldType.int)) ∈ lw_all := lw_g (lw_at lw_m3 158 rfl) rfl
theorem q766 : (Jvm.Cond.methodLink "SagMemory" (167 : Nat) ({ cls := "SagMemory", name := "isBridge", desc := "(J)Z" } : Jvm.MethodName)) ∈ lw_all := lw_g (lw_at lw_m3 159 rfl) rfl
theorem q767 : (Jvm.Cond.privateMethod ({ cls := "SagMemory", name := "isBridge", desc := "(J)Z" } : Jvm.MethodName)) ∈ lw_tbl := lw_at lw_m3 160 rfl
theorem q768 : (Jvm.Cond.instanceMethod ({ cls := "SagMemory", name := "isBridge", desc := "(J)Z" } : Jvm.MethodName)) ∈ lw_all := lw_g (lw_at lw_m3 161 rfl) rfl
theorem q769 : (Jvm.Cond.code ({ cls := "SagMemory", name := "isBridge", desc := "(J)Z" } : Jvm.MethodName) prog_1_method_10_code (3 : Nat) (Option.some Jvm.ClassFile.FieldType.boolean)) ∈ lw_all := lw_g (lw_at lw_m3 162 rfl) rfl
theorem q770 : (Jvm.Cond.methodLink "SagMemory" (170 : Nat) ({ cls := "SagMemory", name := "isOneOf", desc := "(II)Z" } : Jvm.MethodName)) ∈ lw_all := lw_g (lw_at lw_m3 163 rfl) rfl
theorem q771 : (Jvm.Cond.static ({ cls := "SagMemory", name := "isOneOf", desc := "(II)Z" } : Jvm.MethodName)) ∈ lw_all := lw_g (lw_at lw_m3 164 rfl) rfl
theorem q772 : (Jvm.Cond.code ({ cls := "SagMemory", name := "isOneOf", desc := "(II)Z" } : Jvm.MethodName) prog_1_method_14_code (2 : Nat) (Option.some Jvm.ClassFile.FieldType.boolean)) ∈ lw_all := lw_g (lw_at lw_m3 165 rfl) rfl
theorem q774 : (Jvm.Cond.instanceMethod ({ cls := "SagMemory", name := "cart", desc := "(II)I" } : Jvm.MethodName)) ∈ lw_all := lw_g (lw_at lw_m3 167 rfl) rfl
theorem q775 : (Jvm.Cond.selects "SagMemory" ({ cls := "SagMemory", name := "cart", desc := "(II)I" } : Jvm.MethodName) ({ cls := "SagMemory", name := "cart", desc := "(II)I" } : Jvm.MethodName)) ∈ lw_all := lw_g (lw_at lw_m3 168 rfl) rfl
theorem q776 : (Jvm.Cond.code ({ cls := "SagMemory", name := "cart", desc := "(II)I" } : Jvm.MethodName) prog_1_method_18_code (3 : Nat) (Option.some Jvm.ClassFile.FieldType.int)) ∈ lw_all := lw_g (lw_at lw_m3 169 rfl) rfl
theorem q777 : (Jvm.Cond.methodLink "SagMemory" (159 : Nat) ({ cls := "SagMemory", name := "isCart", desc := "(J)Z" } : Jvm.MethodName)) ∈ lw_all := lw_g (lw_at lw_m3 170 rfl) rfl
theorem q778 : (Jvm.Cond.privateMethod ({ cls := "SagMemory", name := "isCart", desc := "(J)Z" } : Jvm.MethodName)) ∈ lw_tbl := lw_at lw_m3 171 rfl
theorem q779 : (Jvm.Cond.instanceMethod ({ cls := "SagMemory", name := "isCart", desc := "(J)Z" } : Jvm.MethodName)) ∈ lw_all := lw_g (lw_at lw_m3 172 rfl) rfl
theorem q780 : (Jvm.Cond.code ({ cls := "SagMemory", name := "isCart", desc := "(J)Z" } : Jvm.MethodName) prog_1_method_11_code (3 : Nat) (Option.some Jvm.ClassFile.FieldType.boolean)) ∈ lw_all := lw_g (lw_at lw_m3 173 rfl) rfl
theorem q782 : (Jvm.Cond.instanceMethod ({ cls := "SagMemory", name := "ward", desc := "(II)I" } : Jvm.MethodName)) ∈ lw_all := lw_g (lw_at lw_m3 175 rfl) rfl
theorem q783 : (Jvm.Cond.selects "SagMemory" ({ cls := "SagMemory", name := "ward", desc := "(II)I" } : Jvm.MethodName) ({ cls := "SagMemory", name := "ward", desc := "(II)I" } : Jvm.MethodName)) ∈ lw_all := lw_g (lw_at lw_m3 176 rfl) rfl
theorem q784 : (Jvm.Cond.code ({ cls := "SagMemory", name := "ward", desc := "(II)I" } : Jvm.MethodName) prog_1_method_19_code (3 : Nat) (Option.some Jvm.ClassFile.FieldType.int)) ∈ lw_all := lw_g (lw_at lw_m3 177 rfl) rfl
theorem q786 : (Jvm.Cond.instanceMethod ({ cls := "SagMemory", name := "cold", desc := "(I)I" } : Jvm.MethodName)) ∈ lw_all := lw_g (lw_at lw_m3 179 rfl) rfl
theorem q787 : (Jvm.Cond.selects "SagMemory" ({ cls := "SagMemory", name := "cold", desc := "(I)I" } : Jvm.MethodName) ({ cls := "SagMemory", name := "cold", desc := "(I)I" } : Jvm.MethodName)) ∈ lw_all := lw_g (lw_at lw_m3 180 rfl) rfl
theorem q788 : (Jvm.Cond.code ({ cls := "SagMemory", name := "cold", desc := "(I)I" } : Jvm.MethodName) prog_1_method_33_code (2 : Nat) (Option.some Jvm.ClassFile.FieldType.int)) ∈ lw_all := lw_g (lw_at lw_m3 181 rfl) rfl
theorem q789 : (Jvm.Cond.methodLink "SagMemory" (250 : Nat) ({ cls := "SagMemory", name := "asItIs", desc := "()V" } : Jvm.MethodName)) ∈ lw_all := lw_g (lw_at lw_m3 182 rfl) rfl
theorem q790 : (Jvm.Cond.privateMethod ({ cls := "SagMemory", name := "asItIs", desc := "()V" } : Jvm.MethodName)) ∈ lw_tbl := lw_at lw_m3 183 rfl
theorem q791 : (Jvm.Cond.instanceMethod ({ cls := "SagMemory", name := "asItIs", desc := "()V" } : Jvm.MethodName)) ∈ lw_all := lw_g (lw_at lw_m3 184 rfl) rfl
theorem q792 : (Jvm.Cond.code ({ cls := "SagMemory", name := "asItIs", desc := "()V" } : Jvm.MethodName) prog_1_method_22_code (4 : Nat) (Option.none : Option Jvm.ClassFile.FieldType)) ∈ lw_all := lw_g (lw_at lw_m3 185 rfl) rfl
theorem q793 : (Jvm.Cond.methodLink "SagMemory" (194 : Nat) ({ cls := "java/lang/System", name := "arraycopy", desc := "(Ljava/lang/Object;ILjava/lang/Object;II)V" } : Jvm.MethodName)) ∈ lw_all := lw_g (lw_at lw_m3 186 rfl) rfl
theorem q797 : (Jvm.Cond.instanceMethod ({ cls := "SagMemory", name := "goes", desc := "(I)I" } : Jvm.MethodName)) ∈ lw_all := lw_g (lw_at lw_m3 190 rfl) rfl
theorem q798 : (Jvm.Cond.selects "SagMemory" ({ cls := "SagMemory", name := "goes", desc := "(I)I" } : Jvm.MethodName) ({ cls := "SagMemory", name := "goes", desc := "(I)I" } : Jvm.MethodName)) ∈ lw_all := lw_g (lw_at lw_m3 191 rfl) rfl
theorem q799 : (Jvm.Cond.code ({ cls := "SagMemory", name := "goes", desc := "(I)I" } : Jvm.MethodName) prog_1_method_34_code (2 : Nat) (Option.some Jvm.ClassFile.FieldType.int)) ∈ lw_all := lw_g (lw_at lw_m3 192 rfl) rfl
theorem q800 : (Jvm.Cond.methodLink "SagMemory" (263 : Nat) ({ cls := "SagMemory", name := "asksCart", desc := "(I)Z" } : Jvm.MethodName)) ∈ lw_all := lw_g (lw_at lw_m3 193 rfl) rfl
theorem q801 : (Jvm.Cond.privateMethod ({ cls := "SagMemory", name := "asksCart", desc := "(I)Z" } : Jvm.MethodName)) ∈ lw_tbl := lw_at lw_m3 194 rfl
theorem q802 : (Jvm.Cond.instanceMethod ({ cls := "SagMemory", name := "asksCart", desc := "(I)Z" } : Jvm.MethodName)) ∈ lw_all := lw_g (lw_at lw_m3 195 rfl) rfl
theorem q803 : (Jvm.Cond.code ({ cls := "SagMemory", name := "asksCart", desc := "(I)Z" } : Jvm.MethodName) prog_1_method_28_code (2 : Nat) (Option.some Jvm.ClassFile.FieldType.boolean)) ∈ lw_all := lw_g (lw_at lw_m3 196 rfl) rfl
theorem q804 : (Jvm.Cond.methodLink "SagMemory" (260 : Nat) ({ cls := "SagMemory", name := "asksValley", desc := "()Z" } : Jvm.MethodName)) ∈ lw_all := lw_g (lw_at lw_m3 197 rfl) rfl
theorem q805 : (Jvm.Cond.privateMethod ({ cls := "SagMemory", name := "asksValley", desc := "()Z" } : Jvm.MethodName)) ∈ lw_tbl := lw_at lw_m3 198 rfl
theorem q806 : (Jvm.Cond.instanceMethod ({ cls := "SagMemory", name := "asksValley", desc := "()Z" } : Jvm.MethodName)) ∈ lw_all := lw_g (lw_at lw_m3 199 rfl) rfl
theorem q807 : (Jvm.Cond.code ({ cls := "SagMemory", name := "asksValley", desc := "()Z" } : Jvm.MethodName) prog_1_method_27_code (1 : Nat) (Option.some Jvm.ClassFile.FieldType.boolean)) ∈ lw_all := lw_g (lw_at lw_m3 200 rfl) rfl
theorem q808 : (Jvm.Cond.methodLink "SagMemory" (253 : Nat) ({ cls := "SagMemory", name := "lays", desc := "()V" } : Jvm.MethodName)) ∈ lw_all := lw_g (lw_at lw_m3 201 rfl) rfl
theorem q809 : (Jvm.Cond.privateMethod ({ cls := "SagMemory", name := "lays", desc := "()V" } : Jvm.MethodName)) ∈ lw_tbl := lw_at lw_m3 202 rfl
theorem q810 : (Jvm.Cond.instanceMethod ({ cls := "SagMemory", name := "lays", desc := "()V" } : Jvm.MethodName)) ∈ lw_all := lw_g (lw_at lw_m3 203 rfl) rfl
theorem q811 : (Jvm.Cond.code ({ cls := "SagMemory", name := "lays", desc := "()V" } : Jvm.MethodName) prog_1_method_26_code (4 : Nat) (Option.none : Option Jvm.ClassFile.FieldType)) ∈ lw_all := lw_g (lw_at lw_m3 204 rfl) rfl
theorem q812 : (Jvm.Cond.methodLink "SagMemory" (238 : Nat) ({ cls := "SagMemory", name := "isOf", desc := "(II)Z" } : Jvm.MethodName)) ∈ lw_all := lw_g (lw_at lw_m3 205 rfl) rfl
theorem q813 : (Jvm.Cond.static ({ cls := "SagMemory", name := "isOf", desc := "(II)Z" } : Jvm.MethodName)) ∈ lw_all := lw_g (lw_at lw_m3 206 rfl) rfl
theorem q814 : (Jvm.Cond.code ({ cls := "SagMemory", name := "isOf", desc := "(II)Z" } : Jvm.MethodName) prog_1_method_2_code (2 : Nat) (Option.some Jvm.ClassFile.FieldType.boolean)) ∈ lw_all := lw_g (lw_at lw_m3 207 rfl) rfl
theorem q815 : (Jvm.Cond.methodLink "SagMemory" (241 : Nat) ({ cls := "SagMemory", name := "freezes", desc := "()V" } : Jvm.MethodName)) ∈ lw_all := lw_g (lw_at lw_m3 208 rfl) rfl
theorem q816 : (Jvm.Cond.privateMethod ({ cls := "SagMemory", name := "freezes", desc := "()V" } : Jvm.MethodName)) ∈ lw_tbl := lw_at lw_m3 209 rfl
theorem q817 : (Jvm.Cond.instanceMethod ({ cls := "SagMemory", name := "freezes", desc := "()V" } : Jvm.MethodName)) ∈ lw_all := lw_g (lw_at lw_m3 210 rfl) rfl
theorem q818 : (Jvm.Cond.code ({ cls := "SagMemory", name := "freezes", desc := "()V" } : Jvm.MethodName) prog_1_method_24_code (5 : Nat) (Option.none : Option Jvm.ClassFile.FieldType)) ∈ lw_all := lw_g (lw_at lw_m3 211 rfl) rfl
theorem q819 : (Jvm.Cond.methodLink "SagMemory" (244 : Nat) ({ cls := "SagMemory", name := "comesTo", desc := "(I)I" } : Jvm.MethodName)) ∈ lw_all := lw_g (lw_at lw_m3 212 rfl) rfl
theorem q820 : (Jvm.Cond.privateMethod ({ cls := "SagMemory", name := "comesTo", desc := "(I)I" } : Jvm.MethodName)) ∈ lw_tbl := lw_at lw_m3 213 rfl
theorem q821 : (Jvm.Cond.instanceMethod ({ cls := "SagMemory", name := "comesTo", desc := "(I)I" } : Jvm.MethodName)) ∈ lw_all := lw_g (lw_at lw_m3 214 rfl) rfl
theorem q822 : (Jvm.Cond.code ({ cls := "SagMemory", name := "comesTo", desc := "(I)I" } : Jvm.MethodName) prog_1_method_23_code (3 : Nat) (Option.some Jvm.ClassFile.FieldType.int)) ∈ lw_all := lw_g (lw_at lw_m3 215 rfl) rfl
theorem q823 : (Jvm.Cond.methodLink "SagMemory" (247 : Nat) ({ cls := "SagMemory", name := "goes", desc := "(II)V" } : Jvm.MethodName)) ∈ lw_all := lw_g (lw_at lw_m3 216 rfl) rfl
theorem q824 : (Jvm.Cond.privateMethod ({ cls := "SagMemory", name := "goes", desc := "(II)V" } : Jvm.MethodName)) ∈ lw_tbl := lw_at lw_m3 217 rfl
theorem q825 : (Jvm.Cond.instanceMethod ({ cls := "SagMemory", name := "goes", desc := "(II)V" } : Jvm.MethodName)) ∈ lw_all := lw_g (lw_at lw_m3 218 rfl) rfl
theorem q826 : (Jvm.Cond.code ({ cls := "SagMemory", name := "goes", desc := "(II)V" } : Jvm.MethodName) prog_1_method_25_code (5 : Nat) (Option.none : Option Jvm.ClassFile.FieldType)) ∈ lw_all := lw_g (lw_at lw_m3 219 rfl) rfl
theorem q827 : (Jvm.Cond.methodLink "SagMemory" (218 : Nat) ({ cls := "SagMemory", name := "sagOf", desc := "(I)I" } : Jvm.MethodName)) ∈ lw_all := lw_g (lw_at lw_m3 220 rfl) rfl
theorem q828 : (Jvm.Cond.privateMethod ({ cls := "SagMemory", name := "sagOf", desc := "(I)I" } : Jvm.MethodName)) ∈ lw_tbl := lw_at lw_m3 221 rfl
theorem q829 : (Jvm.Cond.instanceMethod ({ cls := "SagMemory", name := "sagOf", desc := "(I)I" } : Jvm.MethodName)) ∈ lw_all := lw_g (lw_at lw_m3 222 rfl) rfl
theorem q830 : (Jvm.Cond.code ({ cls := "SagMemory", name := "sagOf", desc := "(I)I" } : Jvm.MethodName) prog_1_method_21_code (4 : Nat) (Option.some Jvm.ClassFile.FieldType.int)) ∈ lw_all := lw_g (lw_at lw_m3 223 rfl) rfl
theorem q831 : (Jvm.Cond.methodLink "SagMemory" (222 : Nat) ({ cls := "SagMemory", name := "lastOf", desc := "(I)I" } : Jvm.MethodName)) ∈ lw_all := lw_g (lw_at lw_m3 224 rfl) rfl
theorem q832 : (Jvm.Cond.privateMethod ({ cls := "SagMemory", name := "lastOf", desc := "(I)I" } : Jvm.MethodName)) ∈ lw_tbl := lw_at lw_m3 225 rfl
theorem q833 : (Jvm.Cond.instanceMethod ({ cls := "SagMemory", name := "lastOf", desc := "(I)I" } : Jvm.MethodName)) ∈ lw_all := lw_g (lw_at lw_m3 226 rfl) rfl
theorem q834 : (Jvm.Cond.code ({ cls := "SagMemory", name := "lastOf", desc := "(I)I" } : Jvm.MethodName) prog_1_method_20_code (2 : Nat) (Option.some Jvm.ClassFile.FieldType.int)) ∈ lw_all := lw_g (lw_at lw_m3 227 rfl) rfl
theorem q835 : (Jvm.Cond.methodLink "SagMemory" (225 : Nat) ({ cls := "java/lang/Math", name := "max", desc := "(II)I" } : Jvm.MethodName)) ∈ lw_all := lw_g (lw_at lw_m3 228 rfl) rfl
theorem q838 : (Jvm.Cond.methodLink "SagMemory" (234 : Nat) ({ cls := "SagMemory$Wiping", name := "goes", desc := "(III)V" } : Jvm.MethodName)) ∈ lw_all := lw_g (lw_at lw_m3 231 rfl) rfl
theorem q859 : (Jvm.Cond.methodLink "SagMemory" (256 : Nat) ({ cls := "SagMemory", name := "isValley", desc := "()Z" } : Jvm.MethodName)) ∈ lw_all := lw_g (lw_at lw_m4 12 rfl) rfl
theorem q860 : (Jvm.Cond.privateMethod ({ cls := "SagMemory", name := "isValley", desc := "()Z" } : Jvm.MethodName)) ∈ lw_tbl := lw_at lw_m4 13 rfl
theorem q861 : (Jvm.Cond.instanceMethod ({ cls := "SagMemory", name := "isValley", desc := "()Z" } : Jvm.MethodName)) ∈ lw_all := lw_g (lw_at lw_m4 14 rfl) rfl
theorem q862 : (Jvm.Cond.code ({ cls := "SagMemory", name := "isValley", desc := "()Z" } : Jvm.MethodName) prog_1_method_9_code (1 : Nat) (Option.some Jvm.ClassFile.FieldType.boolean)) ∈ lw_all := lw_g (lw_at lw_m4 15 rfl) rfl
theorem q864 : (Jvm.Cond.instanceMethod ({ cls := "SagMemory", name := "comes", desc := "(I)I" } : Jvm.MethodName)) ∈ lw_all := lw_g (lw_at lw_m4 17 rfl) rfl
theorem q865 : (Jvm.Cond.selects "SagMemory" ({ cls := "SagMemory", name := "comes", desc := "(I)I" } : Jvm.MethodName) ({ cls := "SagMemory", name := "comes", desc := "(I)I" } : Jvm.MethodName)) ∈ lw_all := lw_g (lw_at lw_m4 18 rfl) rfl
theorem q866 : (Jvm.Cond.code ({ cls := "SagMemory", name := "comes", desc := "(I)I" } : Jvm.MethodName) prog_1_method_35_code (2 : Nat) (Option.some Jvm.ClassFile.FieldType.int)) ∈ lw_all := lw_g (lw_at lw_m4 19 rfl) rfl
theorem q868 : (Jvm.Cond.instanceMethod ({ cls := "SagMemory", name := "over", desc := "(I)I" } : Jvm.MethodName)) ∈ lw_all := lw_g (lw_at lw_m4 21 rfl) rfl
theorem q869 : (Jvm.Cond.selects "SagMemory" ({ cls := "SagMemory", name := "over", desc := "(I)I" } : Jvm.MethodName) ({ cls := "SagMemory", name := "over", desc := "(I)I" } : Jvm.MethodName)) ∈ lw_all := lw_g (lw_at lw_m4 22 rfl) rfl
theorem q870 : (Jvm.Cond.code ({ cls := "SagMemory", name := "over", desc := "(I)I" } : Jvm.MethodName) prog_1_method_37_code (2 : Nat) (Option.some Jvm.ClassFile.FieldType.int)) ∈ lw_all := lw_g (lw_at lw_m4 23 rfl) rfl
theorem q871 : (Jvm.Cond.methodLink "SagMemory" (271 : Nat) ({ cls := "SagMemory", name := "asksBridge", desc := "(I)Z" } : Jvm.MethodName)) ∈ lw_all := lw_g (lw_at lw_m4 24 rfl) rfl
theorem q872 : (Jvm.Cond.privateMethod ({ cls := "SagMemory", name := "asksBridge", desc := "(I)Z" } : Jvm.MethodName)) ∈ lw_tbl := lw_at lw_m4 25 rfl
theorem q873 : (Jvm.Cond.instanceMethod ({ cls := "SagMemory", name := "asksBridge", desc := "(I)Z" } : Jvm.MethodName)) ∈ lw_all := lw_g (lw_at lw_m4 26 rfl) rfl
theorem q874 : (Jvm.Cond.code ({ cls := "SagMemory", name := "asksBridge", desc := "(I)Z" } : Jvm.MethodName) prog_1_method_29_code (2 : Nat) (Option.some Jvm.ClassFile.FieldType.boolean)) ∈ lw_all := lw_g (lw_at lw_m4 27 rfl) rfl
theorem q875 : (Jvm.Cond.methodLink "SagMemory" (274 : Nat) ({ cls := "SagMemory", name := "overOf", desc := "(I)I" } : Jvm.MethodName)) ∈ lw_all := lw_g (lw_at lw_m4 28 rfl) rfl
theorem q876 : (Jvm.Cond.privateMethod ({ cls := "SagMemory", name := "overOf", desc := "(I)I" } : Jvm.MethodName)) ∈ lw_tbl := lw_at lw_m4 29 rfl
theorem q877 : (Jvm.Cond.instanceMethod ({ cls := "SagMemory", name := "overOf", desc := "(I)I" } : Jvm.MethodName)) ∈ lw_all := lw_g (lw_at lw_m4 30 rfl) rfl
theorem q878 : (Jvm.Cond.code ({ cls := "SagMemory", name := "overOf", desc := "(I)I" } : Jvm.MethodName) prog_1_method_36_code (4 : Nat) (Option.some Jvm.ClassFile.FieldType.int)) ∈ lw_all := lw_g (lw_at lw_m4 31 rfl) rfl
theorem q880 : (Jvm.Cond.instanceMethod ({ cls := "SagMemory", name := "waits", desc := "()I" } : Jvm.MethodName)) ∈ lw_all := lw_g (lw_at lw_m4 33 rfl) rfl
theorem q881 : (Jvm.Cond.selects "SagMemory" ({ cls := "SagMemory", name := "waits", desc := "()I" } : Jvm.MethodName) ({ cls := "SagMemory", name := "waits", desc := "()I" } : Jvm.MethodName)) ∈ lw_all := lw_g (lw_at lw_m4 34 rfl) rfl
theorem q882 : (Jvm.Cond.code ({ cls := "SagMemory", name := "waits", desc := "()I" } : Jvm.MethodName) prog_1_method_38_code (1 : Nat) (Option.some Jvm.ClassFile.FieldType.int)) ∈ lw_all := lw_g (lw_at lw_m4 35 rfl) rfl
theorem q884 : (Jvm.Cond.instanceMethod ({ cls := "SagMemory", name := "deep", desc := "(II)I" } : Jvm.MethodName)) ∈ lw_all := lw_g (lw_at lw_m4 37 rfl) rfl
theorem q885 : (Jvm.Cond.selects "SagMemory" ({ cls := "SagMemory", name := "deep", desc := "(II)I" } : Jvm.MethodName) ({ cls := "SagMemory", name := "deep", desc := "(II)I" } : Jvm.MethodName)) ∈ lw_all := lw_g (lw_at lw_m4 38 rfl) rfl
theorem q886 : (Jvm.Cond.code ({ cls := "SagMemory", name := "deep", desc := "(II)I" } : Jvm.MethodName) prog_1_method_39_code (3 : Nat) (Option.some Jvm.ClassFile.FieldType.int)) ∈ lw_all := lw_g (lw_at lw_m4 39 rfl) rfl
theorem q887 : (Jvm.Cond.methodLink "SagMemory" (277 : Nat) ({ cls := "SagMemory", name := "asks", desc := "(II)Z" } : Jvm.MethodName)) ∈ lw_all := lw_g (lw_at lw_m4 40 rfl) rfl
theorem q888 : (Jvm.Cond.privateMethod ({ cls := "SagMemory", name := "asks", desc := "(II)Z" } : Jvm.MethodName)) ∈ lw_tbl := lw_at lw_m4 41 rfl
theorem q889 : (Jvm.Cond.instanceMethod ({ cls := "SagMemory", name := "asks", desc := "(II)Z" } : Jvm.MethodName)) ∈ lw_all := lw_g (lw_at lw_m4 42 rfl) rfl
theorem q890 : (Jvm.Cond.code ({ cls := "SagMemory", name := "asks", desc := "(II)Z" } : Jvm.MethodName) prog_1_method_30_code (3 : Nat) (Option.some Jvm.ClassFile.FieldType.boolean)) ∈ lw_all := lw_g (lw_at lw_m4 43 rfl) rfl
theorem q892 : (Jvm.Cond.instanceMethod ({ cls := "SagMemory", name := "load", desc := "(III)I" } : Jvm.MethodName)) ∈ lw_all := lw_g (lw_at lw_m4 45 rfl) rfl
theorem q893 : (Jvm.Cond.selects "SagMemory" ({ cls := "SagMemory", name := "load", desc := "(III)I" } : Jvm.MethodName) ({ cls := "SagMemory", name := "load", desc := "(III)I" } : Jvm.MethodName)) ∈ lw_all := lw_g (lw_at lw_m4 46 rfl) rfl
theorem q894 : (Jvm.Cond.code ({ cls := "SagMemory", name := "load", desc := "(III)I" } : Jvm.MethodName) prog_1_method_40_code (4 : Nat) (Option.some Jvm.ClassFile.FieldType.int)) ∈ lw_all := lw_g (lw_at lw_m4 47 rfl) rfl
theorem q896 : (Jvm.Cond.instanceMethod ({ cls := "SagMemory", name := "sag", desc := "(II)I" } : Jvm.MethodName)) ∈ lw_all := lw_g (lw_at lw_m4 49 rfl) rfl
theorem q897 : (Jvm.Cond.selects "SagMemory" ({ cls := "SagMemory", name := "sag", desc := "(II)I" } : Jvm.MethodName) ({ cls := "SagMemory", name := "sag", desc := "(II)I" } : Jvm.MethodName)) ∈ lw_all := lw_g (lw_at lw_m4 50 rfl) rfl
theorem q898 : (Jvm.Cond.code ({ cls := "SagMemory", name := "sag", desc := "(II)I" } : Jvm.MethodName) prog_1_method_41_code (3 : Nat) (Option.some Jvm.ClassFile.FieldType.int)) ∈ lw_all := lw_g (lw_at lw_m4 51 rfl) rfl
theorem q900 : (Jvm.Cond.instanceMethod ({ cls := "SagMemory", name := "all", desc := "(I)I" } : Jvm.MethodName)) ∈ lw_all := lw_g (lw_at lw_m4 53 rfl) rfl
theorem q901 : (Jvm.Cond.selects "SagMemory" ({ cls := "SagMemory", name := "all", desc := "(I)I" } : Jvm.MethodName) ({ cls := "SagMemory", name := "all", desc := "(I)I" } : Jvm.MethodName)) ∈ lw_all := lw_g (lw_at lw_m4 54 rfl) rfl
theorem q902 : (Jvm.Cond.code ({ cls := "SagMemory", name := "all", desc := "(I)I" } : Jvm.MethodName) prog_1_method_42_code (4 : Nat) (Option.some Jvm.ClassFile.FieldType.int)) ∈ lw_all := lw_g (lw_at lw_m4 55 rfl) rfl
theorem q904 : (Jvm.Cond.instanceMethod ({ cls := "SagMemory", name := "deepest", desc := "(I)I" } : Jvm.MethodName)) ∈ lw_all := lw_g (lw_at lw_m4 57 rfl) rfl
theorem q905 : (Jvm.Cond.selects "SagMemory" ({ cls := "SagMemory", name := "deepest", desc := "(I)I" } : Jvm.MethodName) ({ cls := "SagMemory", name := "deepest", desc := "(I)I" } : Jvm.MethodName)) ∈ lw_all := lw_g (lw_at lw_m4 58 rfl) rfl
theorem q906 : (Jvm.Cond.code ({ cls := "SagMemory", name := "deepest", desc := "(I)I" } : Jvm.MethodName) prog_1_method_43_code (4 : Nat) (Option.some Jvm.ClassFile.FieldType.int)) ∈ lw_all := lw_g (lw_at lw_m4 59 rfl) rfl
theorem q908 : (Jvm.Cond.instanceMethod ({ cls := "SagMemory", name := "gives", desc := "(I)I" } : Jvm.MethodName)) ∈ lw_all := lw_g (lw_at lw_m4 61 rfl) rfl
theorem q909 : (Jvm.Cond.selects "SagMemory" ({ cls := "SagMemory", name := "gives", desc := "(I)I" } : Jvm.MethodName) ({ cls := "SagMemory", name := "gives", desc := "(I)I" } : Jvm.MethodName)) ∈ lw_all := lw_g (lw_at lw_m4 62 rfl) rfl
theorem q910 : (Jvm.Cond.code ({ cls := "SagMemory", name := "gives", desc := "(I)I" } : Jvm.MethodName) prog_1_method_44_code (2 : Nat) (Option.some Jvm.ClassFile.FieldType.int)) ∈ lw_all := lw_g (lw_at lw_m4 63 rfl) rfl
theorem q912 : (Jvm.Cond.instanceMethod ({ cls := "SagMemory", name := "creak", desc := "(I)I" } : Jvm.MethodName)) ∈ lw_all := lw_g (lw_at lw_m4 65 rfl) rfl
theorem q913 : (Jvm.Cond.selects "SagMemory" ({ cls := "SagMemory", name := "creak", desc := "(I)I" } : Jvm.MethodName) ({ cls := "SagMemory", name := "creak", desc := "(I)I" } : Jvm.MethodName)) ∈ lw_all := lw_g (lw_at lw_m4 66 rfl) rfl
theorem q914 : (Jvm.Cond.code ({ cls := "SagMemory", name := "creak", desc := "(I)I" } : Jvm.MethodName) prog_1_method_45_code (2 : Nat) (Option.some Jvm.ClassFile.FieldType.int)) ∈ lw_all := lw_g (lw_at lw_m4 67 rfl) rfl
theorem q916 : (Jvm.Cond.instanceMethod ({ cls := "SagMemory", name := "loudest", desc := "()I" } : Jvm.MethodName)) ∈ lw_all := lw_g (lw_at lw_m4 69 rfl) rfl
theorem q917 : (Jvm.Cond.selects "SagMemory" ({ cls := "SagMemory", name := "loudest", desc := "()I" } : Jvm.MethodName) ({ cls := "SagMemory", name := "loudest", desc := "()I" } : Jvm.MethodName)) ∈ lw_all := lw_g (lw_at lw_m4 70 rfl) rfl
theorem q918 : (Jvm.Cond.code ({ cls := "SagMemory", name := "loudest", desc := "()I" } : Jvm.MethodName) prog_1_method_46_code (3 : Nat) (Option.some Jvm.ClassFile.FieldType.int)) ∈ lw_all := lw_g (lw_at lw_m4 71 rfl) rfl
theorem q920 : (Jvm.Cond.instanceMethod ({ cls := "SagMemory", name := "pays", desc := "(I)I" } : Jvm.MethodName)) ∈ lw_all := lw_g (lw_at lw_m4 73 rfl) rfl
theorem q921 : (Jvm.Cond.selects "SagMemory" ({ cls := "SagMemory", name := "pays", desc := "(I)I" } : Jvm.MethodName) ({ cls := "SagMemory", name := "pays", desc := "(I)I" } : Jvm.MethodName)) ∈ lw_all := lw_g (lw_at lw_m4 74 rfl) rfl
theorem q922 : (Jvm.Cond.code ({ cls := "SagMemory", name := "pays", desc := "(I)I" } : Jvm.MethodName) prog_1_method_47_code (2 : Nat) (Option.some Jvm.ClassFile.FieldType.int)) ∈ lw_all := lw_g (lw_at lw_m4 75 rfl) rfl
theorem q924 : (Jvm.Cond.instanceMethod ({ cls := "SagMemory", name := "tolls", desc := "()I" } : Jvm.MethodName)) ∈ lw_all := lw_g (lw_at lw_m4 77 rfl) rfl
theorem q925 : (Jvm.Cond.selects "SagMemory" ({ cls := "SagMemory", name := "tolls", desc := "()I" } : Jvm.MethodName) ({ cls := "SagMemory", name := "tolls", desc := "()I" } : Jvm.MethodName)) ∈ lw_all := lw_g (lw_at lw_m4 78 rfl) rfl
theorem q926 : (Jvm.Cond.code ({ cls := "SagMemory", name := "tolls", desc := "()I" } : Jvm.MethodName) prog_1_method_48_code (3 : Nat) (Option.some Jvm.ClassFile.FieldType.int)) ∈ lw_all := lw_g (lw_at lw_m4 79 rfl) rfl
theorem q928 : (Jvm.Cond.instanceMethod ({ cls := "SagMemory", name := "wipes", desc := "(I)I" } : Jvm.MethodName)) ∈ lw_all := lw_g (lw_at lw_m4 81 rfl) rfl
theorem q929 : (Jvm.Cond.selects "SagMemory" ({ cls := "SagMemory", name := "wipes", desc := "(I)I" } : Jvm.MethodName) ({ cls := "SagMemory", name := "wipes", desc := "(I)I" } : Jvm.MethodName)) ∈ lw_all := lw_g (lw_at lw_m4 82 rfl) rfl
theorem q930 : (Jvm.Cond.code ({ cls := "SagMemory", name := "wipes", desc := "(I)I" } : Jvm.MethodName) prog_1_method_49_code (2 : Nat) (Option.some Jvm.ClassFile.FieldType.int)) ∈ lw_all := lw_g (lw_at lw_m4 83 rfl) rfl
theorem q932 : (Jvm.Cond.instanceMethod ({ cls := "SagMemory", name := "breaks", desc := "(I)I" } : Jvm.MethodName)) ∈ lw_all := lw_g (lw_at lw_m4 85 rfl) rfl
theorem q933 : (Jvm.Cond.selects "SagMemory" ({ cls := "SagMemory", name := "breaks", desc := "(I)I" } : Jvm.MethodName) ({ cls := "SagMemory", name := "breaks", desc := "(I)I" } : Jvm.MethodName)) ∈ lw_all := lw_g (lw_at lw_m4 86 rfl) rfl
theorem q934 : (Jvm.Cond.code ({ cls := "SagMemory", name := "breaks", desc := "(I)I" } : Jvm.MethodName) prog_1_method_50_code (2 : Nat) (Option.some Jvm.ClassFile.FieldType.int)) ∈ lw_all := lw_g (lw_at lw_m4 87 rfl) rfl
theorem q936 : (Jvm.Cond.instanceMethod ({ cls := "SagMemory", name := "fails", desc := "()I" } : Jvm.MethodName)) ∈ lw_all := lw_g (lw_at lw_m4 89 rfl) rfl
theorem q937 : (Jvm.Cond.selects "SagMemory" ({ cls := "SagMemory", name := "fails", desc := "()I" } : Jvm.MethodName) ({ cls := "SagMemory", name := "fails", desc := "()I" } : Jvm.MethodName)) ∈ lw_all := lw_g (lw_at lw_m4 90 rfl) rfl
theorem q938 : (Jvm.Cond.code ({ cls := "SagMemory", name := "fails", desc := "()I" } : Jvm.MethodName) prog_1_method_51_code (3 : Nat) (Option.some Jvm.ClassFile.FieldType.int)) ∈ lw_all := lw_g (lw_at lw_m4 91 rfl) rfl
theorem q940 : (Jvm.Cond.instanceMethod ({ cls := "SagMemory", name := "spare", desc := "(I)I" } : Jvm.MethodName)) ∈ lw_all := lw_g (lw_at lw_m4 93 rfl) rfl
theorem q941 : (Jvm.Cond.selects "SagMemory" ({ cls := "SagMemory", name := "spare", desc := "(I)I" } : Jvm.MethodName) ({ cls := "SagMemory", name := "spare", desc := "(I)I" } : Jvm.MethodName)) ∈ lw_all := lw_g (lw_at lw_m4 94 rfl) rfl
theorem q942 : (Jvm.Cond.code ({ cls := "SagMemory", name := "spare", desc := "(I)I" } : Jvm.MethodName) prog_1_method_52_code (2 : Nat) (Option.some Jvm.ClassFile.FieldType.int)) ∈ lw_all := lw_g (lw_at lw_m4 95 rfl) rfl
theorem q944 : (Jvm.Cond.instanceMethod ({ cls := "SagMemory", name := "kept", desc := "(I)I" } : Jvm.MethodName)) ∈ lw_all := lw_g (lw_at lw_m4 97 rfl) rfl
theorem q945 : (Jvm.Cond.selects "SagMemory" ({ cls := "SagMemory", name := "kept", desc := "(I)I" } : Jvm.MethodName) ({ cls := "SagMemory", name := "kept", desc := "(I)I" } : Jvm.MethodName)) ∈ lw_all := lw_g (lw_at lw_m4 98 rfl) rfl
theorem q946 : (Jvm.Cond.code ({ cls := "SagMemory", name := "kept", desc := "(I)I" } : Jvm.MethodName) prog_1_method_53_code (4 : Nat) (Option.some Jvm.ClassFile.FieldType.int)) ∈ lw_all := lw_g (lw_at lw_m4 99 rfl) rfl
theorem q948 : (Jvm.Cond.instanceMethod ({ cls := "SagMemory", name := "last", desc := "(II)I" } : Jvm.MethodName)) ∈ lw_all := lw_g (lw_at lw_m4 101 rfl) rfl
theorem q949 : (Jvm.Cond.selects "SagMemory" ({ cls := "SagMemory", name := "last", desc := "(II)I" } : Jvm.MethodName) ({ cls := "SagMemory", name := "last", desc := "(II)I" } : Jvm.MethodName)) ∈ lw_all := lw_g (lw_at lw_m4 102 rfl) rfl
theorem q950 : (Jvm.Cond.code ({ cls := "SagMemory", name := "last", desc := "(II)I" } : Jvm.MethodName) prog_1_method_54_code (4 : Nat) (Option.some Jvm.ClassFile.FieldType.int)) ∈ lw_all := lw_g (lw_at lw_m4 103 rfl) rfl
theorem q952 : (Jvm.Cond.instanceMethod ({ cls := "SagMemory", name := "broken", desc := "(I)I" } : Jvm.MethodName)) ∈ lw_all := lw_g (lw_at lw_m4 105 rfl) rfl
theorem q953 : (Jvm.Cond.selects "SagMemory" ({ cls := "SagMemory", name := "broken", desc := "(I)I" } : Jvm.MethodName) ({ cls := "SagMemory", name := "broken", desc := "(I)I" } : Jvm.MethodName)) ∈ lw_all := lw_g (lw_at lw_m4 106 rfl) rfl
theorem q954 : (Jvm.Cond.code ({ cls := "SagMemory", name := "broken", desc := "(I)I" } : Jvm.MethodName) prog_1_method_55_code (4 : Nat) (Option.some Jvm.ClassFile.FieldType.int)) ∈ lw_all := lw_g (lw_at lw_m4 107 rfl) rfl
theorem q956 : (Jvm.Cond.instanceMethod ({ cls := "SagMemory", name := "free", desc := "(II)I" } : Jvm.MethodName)) ∈ lw_all := lw_g (lw_at lw_m4 109 rfl) rfl
theorem q957 : (Jvm.Cond.selects "SagMemory" ({ cls := "SagMemory", name := "free", desc := "(II)I" } : Jvm.MethodName) ({ cls := "SagMemory", name := "free", desc := "(II)I" } : Jvm.MethodName)) ∈ lw_all := lw_g (lw_at lw_m4 110 rfl) rfl
theorem q958 : (Jvm.Cond.code ({ cls := "SagMemory", name := "free", desc := "(II)I" } : Jvm.MethodName) prog_1_method_57_code (4 : Nat) (Option.some Jvm.ClassFile.FieldType.int)) ∈ lw_all := lw_g (lw_at lw_m4 111 rfl) rfl
theorem q959 : (Jvm.Cond.methodLink "SagMemory" (280 : Nat) ({ cls := "SagMemory", name := "sagWith", desc := "(III)I" } : Jvm.MethodName)) ∈ lw_all := lw_g (lw_at lw_m4 112 rfl) rfl
theorem q960 : (Jvm.Cond.privateMethod ({ cls := "SagMemory", name := "sagWith", desc := "(III)I" } : Jvm.MethodName)) ∈ lw_tbl := lw_at lw_m4 113 rfl
theorem q961 : (Jvm.Cond.instanceMethod ({ cls := "SagMemory", name := "sagWith", desc := "(III)I" } : Jvm.MethodName)) ∈ lw_all := lw_g (lw_at lw_m4 114 rfl) rfl
theorem q962 : (Jvm.Cond.code ({ cls := "SagMemory", name := "sagWith", desc := "(III)I" } : Jvm.MethodName) prog_1_method_56_code (4 : Nat) (Option.some Jvm.ClassFile.FieldType.int)) ∈ lw_all := lw_g (lw_at lw_m4 115 rfl) rfl
theorem q964 : (Jvm.Cond.instanceMethod ({ cls := "SagMemory", name := "most", desc := "(II)I" } : Jvm.MethodName)) ∈ lw_all := lw_g (lw_at lw_m4 117 rfl) rfl
theorem q965 : (Jvm.Cond.selects "SagMemory" ({ cls := "SagMemory", name := "most", desc := "(II)I" } : Jvm.MethodName) ({ cls := "SagMemory", name := "most", desc := "(II)I" } : Jvm.MethodName)) ∈ lw_all := lw_g (lw_at lw_m4 118 rfl) rfl
theorem q966 : (Jvm.Cond.code ({ cls := "SagMemory", name := "most", desc := "(II)I" } : Jvm.MethodName) prog_1_method_58_code (5 : Nat) (Option.some Jvm.ClassFile.FieldType.int)) ∈ lw_all := lw_g (lw_at lw_m4 119 rfl) rfl
theorem q968 : (Jvm.Cond.instanceMethod ({ cls := "SagMemory", name := "least", desc := "()I" } : Jvm.MethodName)) ∈ lw_all := lw_g (lw_at lw_m4 121 rfl) rfl
theorem q969 : (Jvm.Cond.selects "SagMemory" ({ cls := "SagMemory", name := "least", desc := "()I" } : Jvm.MethodName) ({ cls := "SagMemory", name := "least", desc := "()I" } : Jvm.MethodName)) ∈ lw_all := lw_g (lw_at lw_m4 122 rfl) rfl
theorem q970 : (Jvm.Cond.code ({ cls := "SagMemory", name := "least", desc := "()I" } : Jvm.MethodName) prog_1_method_65_code (1 : Nat) (Option.some Jvm.ClassFile.FieldType.int)) ∈ lw_all := lw_g (lw_at lw_m4 123 rfl) rfl
theorem q971 : (Jvm.Cond.methodLink "SagMemory" (318 : Nat) ({ cls := "SagMemory", name := "asksOrders", desc := "()Z" } : Jvm.MethodName)) ∈ lw_all := lw_g (lw_at lw_m4 124 rfl) rfl
theorem q972 : (Jvm.Cond.privateMethod ({ cls := "SagMemory", name := "asksOrders", desc := "()Z" } : Jvm.MethodName)) ∈ lw_tbl := lw_at lw_m4 125 rfl
theorem q973 : (Jvm.Cond.instanceMethod ({ cls := "SagMemory", name := "asksOrders", desc := "()Z" } : Jvm.MethodName)) ∈ lw_all := lw_g (lw_at lw_m4 126 rfl) rfl
theorem q974 : (Jvm.Cond.code ({ cls := "SagMemory", name := "asksOrders", desc := "()Z" } : Jvm.MethodName) prog_1_method_62_code (1 : Nat) (Option.some Jvm.ClassFile.FieldType.boolean)) ∈ lw_all := lw_g (lw_at lw_m4 127 rfl) rfl
theorem q975 : (Jvm.Cond.methodLink "SagMemory" (312 : Nat) ({ cls := "SagMemory", name := "starts", desc := "()V" } : Jvm.MethodName)) ∈ lw_all := lw_g (lw_at lw_m4 128 rfl) rfl
theorem q976 : (Jvm.Cond.privateMethod ({ cls := "SagMemory", name := "starts", desc := "()V" } : Jvm.MethodName)) ∈ lw_tbl := lw_at lw_m4 129 rfl
theorem q977 : (Jvm.Cond.instanceMethod ({ cls := "SagMemory", name := "starts", desc := "()V" } : Jvm.MethodName)) ∈ lw_all := lw_g (lw_at lw_m4 130 rfl) rfl
theorem q978 : (Jvm.Cond.code ({ cls := "SagMemory", name := "starts", desc := "()V" } : Jvm.MethodName) prog_1_method_59_code (1 : Nat) (Option.none : Option Jvm.ClassFile.FieldType)) ∈ lw_all := lw_g (lw_at lw_m4 131 rfl) rfl
theorem q979 : (Jvm.Cond.constant "SagMemory" (284 : Nat) (1000000000 : Int32)) ∈ lw_all := lw_g (lw_at lw_m4 132 rfl) rfl
theorem q980 : (Jvm.Cond.methodLink "SagMemory" (309 : Nat) ({ cls := "SagMemory", name := "orders", desc := "(II)V" } : Jvm.MethodName)) ∈ lw_all := lw_g (lw_at lw_m4 133 rfl) rfl
theorem q981 : (Jvm.Cond.privateMethod ({ cls := "SagMemory", name := "orders", desc := "(II)V" } : Jvm.MethodName)) ∈ lw_tbl := lw_at lw_m4 134 rfl
theorem q982 : (Jvm.Cond.instanceMethod ({ cls := "SagMemory", name := "orders", desc := "(II)V" } : Jvm.MethodName)) ∈ lw_all := lw_g (lw_at lw_m4 135 rfl) rfl
theorem q983 : (Jvm.Cond.code ({ cls := "SagMemory", name := "orders", desc := "(II)V" } : Jvm.MethodName) prog_1_method_61_code (4 : Nat) (Option.none : Option Jvm.ClassFile.FieldType)) ∈ lw_all := lw_g (lw_at lw_m4 136 rfl) rfl
theorem q984 : (Jvm.Cond.methodLink "SagMemory" (305 : Nat) ({ cls := "SagMemory", name := "keeps", desc := "([I)V" } : Jvm.MethodName)) ∈ lw_all := lw_g (lw_at lw_m4 137 rfl) rfl
theorem q985 : (Jvm.Cond.privateMethod ({ cls := "SagMemory", name := "keeps", desc := "([I)V" } : Jvm.MethodName)) ∈ lw_tbl := lw_at lw_m4 138 rfl
theorem q986 : (Jvm.Cond.instanceMethod ({ cls := "SagMemory", name := "keeps", desc := "([I)V" } : Jvm.MethodName)) ∈ lw_all := lw_g (lw_at lw_m4 139 rfl) rfl
theorem q987 : (Jvm.Cond.code ({ cls := "SagMemory", name := "keeps", desc := "([I)V" } : Jvm.MethodName) prog_1_method_60_code (3 : Nat) (Option.none : Option Jvm.ClassFile.FieldType)) ∈ lw_all := lw_g (lw_at lw_m4 140 rfl) rfl
theorem q988 : (Jvm.Cond.methodLink "SagMemory" (294 : Nat) ({ cls := "SagMemory", name := "laysSag", desc := "()I" } : Jvm.MethodName)) ∈ lw_all := lw_g (lw_at lw_m4 141 rfl) rfl
theorem q989 : (Jvm.Cond.privateMethod ({ cls := "SagMemory", name := "laysSag", desc := "()I" } : Jvm.MethodName)) ∈ lw_tbl := lw_at lw_m4 142 rfl
theorem q990 : (Jvm.Cond.instanceMethod ({ cls := "SagMemory", name := "laysSag", desc := "()I" } : Jvm.MethodName)) ∈ lw_all := lw_g (lw_at lw_m4 143 rfl) rfl
theorem q991 : (Jvm.Cond.code ({ cls := "SagMemory", name := "laysSag", desc := "()I" } : Jvm.MethodName) prog_1_method_32_code (1 : Nat) (Option.some Jvm.ClassFile.FieldType.int)) ∈ lw_all := lw_g (lw_at lw_m4 144 rfl) rfl
theorem q992 : (Jvm.Cond.methodLink "SagMemory" (267 : Nat) ({ cls := "SagMemory", name := "allSag", desc := "()I" } : Jvm.MethodName)) ∈ lw_all := lw_g (lw_at lw_m4 145 rfl) rfl
theorem q993 : (Jvm.Cond.privateMethod ({ cls := "SagMemory", name := "allSag", desc := "()I" } : Jvm.MethodName)) ∈ lw_tbl := lw_at lw_m4 146 rfl
theorem q994 : (Jvm.Cond.instanceMethod ({ cls := "SagMemory", name := "allSag", desc := "()I" } : Jvm.MethodName)) ∈ lw_all := lw_g (lw_at lw_m4 147 rfl) rfl
theorem q995 : (Jvm.Cond.code ({ cls := "SagMemory", name := "allSag", desc := "()I" } : Jvm.MethodName) prog_1_method_31_code (3 : Nat) (Option.some Jvm.ClassFile.FieldType.int)) ∈ lw_all := lw_g (lw_at lw_m4 148 rfl) rfl
theorem q996 : (Jvm.Cond.methodLink "SagMemory" (297 : Nat) ({ cls := "java/lang/Math", name := "min", desc := "(II)I" } : Jvm.MethodName)) ∈ lw_all := lw_g (lw_at lw_m4 149 rfl) rfl
theorem q997 : (Jvm.Cond.methodLink "SagMemory" (300 : Nat) ({ cls := "java/lang/Integer", name := "bitCount", desc := "(I)I" } : Jvm.MethodName)) ∈ lw_all := lw_g (lw_at lw_m4 150 rfl) rfl
theorem q1004 : (Jvm.Cond.instanceMethod ({ cls := "SagMemory", name := "order", desc := "(I)I" } : Jvm.MethodName)) ∈ lw_all := lw_g (lw_at lw_m4 157 rfl) rfl
theorem q1005 : (Jvm.Cond.selects "SagMemory" ({ cls := "SagMemory", name := "order", desc := "(I)I" } : Jvm.MethodName) ({ cls := "SagMemory", name := "order", desc := "(I)I" } : Jvm.MethodName)) ∈ lw_all := lw_g (lw_at lw_m4 158 rfl) rfl
theorem q1006 : (Jvm.Cond.code ({ cls := "SagMemory", name := "order", desc := "(I)I" } : Jvm.MethodName) prog_1_method_66_code (2 : Nat) (Option.some Jvm.ClassFile.FieldType.int)) ∈ lw_all := lw_g (lw_at lw_m4 159 rfl) rfl
theorem q1008 : (Jvm.Cond.instanceMethod ({ cls := "SagMemory", name := "orders", desc := "()I" } : Jvm.MethodName)) ∈ lw_all := lw_g (lw_at lw_m4 161 rfl) rfl
theorem q1009 : (Jvm.Cond.selects "SagMemory" ({ cls := "SagMemory", name := "orders", desc := "()I" } : Jvm.MethodName) ({ cls := "SagMemory", name := "orders", desc := "()I" } : Jvm.MethodName)) ∈ lw_all := lw_g (lw_at lw_m4 162 rfl) rfl
theorem q1010 : (Jvm.Cond.code ({ cls := "SagMemory", name := "orders", desc := "()I" } : Jvm.MethodName) prog_1_method_67_code (1 : Nat) (Option.some Jvm.ClassFile.FieldType.int)) ∈ lw_all := lw_g (lw_at lw_m4 163 rfl) rfl
theorem q1012 : (Jvm.Cond.instanceMethod ({ cls := "SagMemory", name := "across", desc := "()I" } : Jvm.MethodName)) ∈ lw_all := lw_g (lw_at lw_m4 165 rfl) rfl
theorem q1013 : (Jvm.Cond.selects "SagMemory" ({ cls := "SagMemory", name := "across", desc := "()I" } : Jvm.MethodName) ({ cls := "SagMemory", name := "across", desc := "()I" } : Jvm.MethodName)) ∈ lw_all := lw_g (lw_at lw_m4 166 rfl) rfl
theorem q1014 : (Jvm.Cond.code ({ cls := "SagMemory", name := "across", desc := "()I" } : Jvm.MethodName) prog_1_method_68_code (1 : Nat) (Option.some Jvm.ClassFile.FieldType.int)) ∈ lw_all := lw_g (lw_at lw_m4 167 rfl) rfl
theorem q1016 : (Jvm.Cond.instanceMethod ({ cls := "SagMemory", name := "routes", desc := "()I" } : Jvm.MethodName)) ∈ lw_all := lw_g (lw_at lw_m4 169 rfl) rfl
theorem q1017 : (Jvm.Cond.selects "SagMemory" ({ cls := "SagMemory", name := "routes", desc := "()I" } : Jvm.MethodName) ({ cls := "SagMemory", name := "routes", desc := "()I" } : Jvm.MethodName)) ∈ lw_all := lw_g (lw_at lw_m4 170 rfl) rfl
theorem q1018 : (Jvm.Cond.code ({ cls := "SagMemory", name := "routes", desc := "()I" } : Jvm.MethodName) prog_1_method_69_code (1 : Nat) (Option.some Jvm.ClassFile.FieldType.int)) ∈ lw_all := lw_g (lw_at lw_m4 171 rfl) rfl
theorem q1019 : (Jvm.Cond.methodLink "SagMemory" (321 : Nat) ({ cls := "SagMemory", name := "asksRoutes", desc := "()Z" } : Jvm.MethodName)) ∈ lw_all := lw_g (lw_at lw_m4 172 rfl) rfl
theorem q1020 : (Jvm.Cond.privateMethod ({ cls := "SagMemory", name := "asksRoutes", desc := "()Z" } : Jvm.MethodName)) ∈ lw_tbl := lw_at lw_m4 173 rfl
theorem q1021 : (Jvm.Cond.instanceMethod ({ cls := "SagMemory", name := "asksRoutes", desc := "()Z" } : Jvm.MethodName)) ∈ lw_all := lw_g (lw_at lw_m4 174 rfl) rfl
theorem q1022 : (Jvm.Cond.code ({ cls := "SagMemory", name := "asksRoutes", desc := "()Z" } : Jvm.MethodName) prog_1_method_64_code (1 : Nat) (Option.some Jvm.ClassFile.FieldType.boolean)) ∈ lw_all := lw_g (lw_at lw_m4 175 rfl) rfl
theorem q1023 : (Jvm.Cond.methodLink "SagMemory" (315 : Nat) ({ cls := "SagMemory", name := "routes", desc := "(I)V" } : Jvm.MethodName)) ∈ lw_all := lw_g (lw_at lw_m4 176 rfl) rfl
theorem q1024 : (Jvm.Cond.privateMethod ({ cls := "SagMemory", name := "routes", desc := "(I)V" } : Jvm.MethodName)) ∈ lw_tbl := lw_at lw_m4 177 rfl
theorem q1025 : (Jvm.Cond.instanceMethod ({ cls := "SagMemory", name := "routes", desc := "(I)V" } : Jvm.MethodName)) ∈ lw_all := lw_g (lw_at lw_m4 178 rfl) rfl
theorem q1026 : (Jvm.Cond.code ({ cls := "SagMemory", name := "routes", desc := "(I)V" } : Jvm.MethodName) prog_1_method_63_code (3 : Nat) (Option.none : Option Jvm.ClassFile.FieldType)) ∈ lw_all := lw_g (lw_at lw_m4 179 rfl) rfl
theorem q1028 : (Jvm.Cond.instanceMethod ({ cls := "SagMemory", name := "route", desc := "(I)I" } : Jvm.MethodName)) ∈ lw_all := lw_g (lw_at lw_m4 181 rfl) rfl
theorem q1029 : (Jvm.Cond.selects "SagMemory" ({ cls := "SagMemory", name := "route", desc := "(I)I" } : Jvm.MethodName) ({ cls := "SagMemory", name := "route", desc := "(I)I" } : Jvm.MethodName)) ∈ lw_all := lw_g (lw_at lw_m4 182 rfl) rfl
theorem q1030 : (Jvm.Cond.code ({ cls := "SagMemory", name := "route", desc := "(I)I" } : Jvm.MethodName) prog_1_method_70_code (2 : Nat) (Option.some Jvm.ClassFile.FieldType.int)) ∈ lw_all := lw_g (lw_at lw_m4 183 rfl) rfl
theorem q1032 : (Jvm.Cond.instanceMethod ({ cls := "SagMemory", name := "safe", desc := "()I" } : Jvm.MethodName)) ∈ lw_all := lw_g (lw_at lw_m4 185 rfl) rfl
theorem q1033 : (Jvm.Cond.selects "SagMemory" ({ cls := "SagMemory", name := "safe", desc := "()I" } : Jvm.MethodName) ({ cls := "SagMemory", name := "safe", desc := "()I" } : Jvm.MethodName)) ∈ lw_all := lw_g (lw_at lw_m4 186 rfl) rfl
theorem q1034 : (Jvm.Cond.code ({ cls := "SagMemory", name := "safe", desc := "()I" } : Jvm.MethodName) prog_1_method_71_code (1 : Nat) (Option.some Jvm.ClassFile.FieldType.int)) ∈ lw_all := lw_g (lw_at lw_m4 187 rfl) rfl
theorem q1036 : (Jvm.Cond.instanceMethod ({ cls := "SagMemory", name := "spared", desc := "(I)I" } : Jvm.MethodName)) ∈ lw_all := lw_g (lw_at lw_m4 189 rfl) rfl
theorem q1037 : (Jvm.Cond.selects "SagMemory" ({ cls := "SagMemory", name := "spared", desc := "(I)I" } : Jvm.MethodName) ({ cls := "SagMemory", name := "spared", desc := "(I)I" } : Jvm.MethodName)) ∈ lw_all := lw_g (lw_at lw_m4 190 rfl) rfl
theorem q1038 : (Jvm.Cond.code ({ cls := "SagMemory", name := "spared", desc := "(I)I" } : Jvm.MethodName) prog_1_method_72_code (3 : Nat) (Option.some Jvm.ClassFile.FieldType.int)) ∈ lw_all := lw_g (lw_at lw_m4 191 rfl) rfl
theorem q1040 : (Jvm.Cond.instanceMethod ({ cls := "SagMemory", name := "worst", desc := "()I" } : Jvm.MethodName)) ∈ lw_all := lw_g (lw_at lw_m4 193 rfl) rfl
theorem q1041 : (Jvm.Cond.selects "SagMemory" ({ cls := "SagMemory", name := "worst", desc := "()I" } : Jvm.MethodName) ({ cls := "SagMemory", name := "worst", desc := "()I" } : Jvm.MethodName)) ∈ lw_all := lw_g (lw_at lw_m4 194 rfl) rfl
theorem q1042 : (Jvm.Cond.code ({ cls := "SagMemory", name := "worst", desc := "()I" } : Jvm.MethodName) prog_1_method_73_code (5 : Nat) (Option.some Jvm.ClassFile.FieldType.int)) ∈ lw_all := lw_g (lw_at lw_m4 195 rfl) rfl
theorem q1044 : (Jvm.Cond.instanceMethod ({ cls := "SagMemory", name := "forget", desc := "()I" } : Jvm.MethodName)) ∈ lw_all := lw_g (lw_at lw_m4 197 rfl) rfl
theorem q1045 : (Jvm.Cond.selects "SagMemory" ({ cls := "SagMemory", name := "forget", desc := "()I" } : Jvm.MethodName) ({ cls := "SagMemory", name := "forget", desc := "()I" } : Jvm.MethodName)) ∈ lw_all := lw_g (lw_at lw_m4 198 rfl) rfl
theorem q1046 : (Jvm.Cond.code ({ cls := "SagMemory", name := "forget", desc := "()I" } : Jvm.MethodName) prog_1_method_74_code (6 : Nat) (Option.some Jvm.ClassFile.FieldType.int)) ∈ lw_all := lw_g (lw_at lw_m4 199 rfl) rfl
theorem q1048 : (Jvm.Cond.instanceMethod ({ cls := "SagMemory", name := "sets", desc := "(II)I" } : Jvm.MethodName)) ∈ lw_all := lw_g (lw_at lw_m4 201 rfl) rfl
theorem q1049 : (Jvm.Cond.selects "SagMemory" ({ cls := "SagMemory", name := "sets", desc := "(II)I" } : Jvm.MethodName) ({ cls := "SagMemory", name := "sets", desc := "(II)I" } : Jvm.MethodName)) ∈ lw_all := lw_g (lw_at lw_m4 202 rfl) rfl
theorem q1050 : (Jvm.Cond.code ({ cls := "SagMemory", name := "sets", desc := "(II)I" } : Jvm.MethodName) prog_1_method_78_code (4 : Nat) (Option.some Jvm.ClassFile.FieldType.int)) ∈ lw_all := lw_g (lw_at lw_m4 203 rfl) rfl
theorem q1051 : (Jvm.Cond.methodLink "SagMemory" (347 : Nat) ({ cls := "SagMemory", name := "asksBack", desc := "(II)I" } : Jvm.MethodName)) ∈ lw_all := lw_g (lw_at lw_m4 204 rfl) rfl
theorem q1052 : (Jvm.Cond.privateMethod ({ cls := "SagMemory", name := "asksBack", desc := "(II)I" } : Jvm.MethodName)) ∈ lw_tbl := lw_at lw_m4 205 rfl
theorem q1053 : (Jvm.Cond.instanceMethod ({ cls := "SagMemory", name := "asksBack", desc := "(II)I" } : Jvm.MethodName)) ∈ lw_all := lw_g (lw_at lw_m4 206 rfl) rfl
theorem q1054 : (Jvm.Cond.codeWith ({ cls := "SagMemory", name := "asksBack", desc := "(II)I" } : Jvm.MethodName) prog_1_method_77_code (4 : Nat) (Option.some Jvm.ClassFile.FieldType.int) [((19 : Nat), (89 : Nat), (90 : Nat), (345 : Nat))]) ∈ lw_all := lw_g (lw_at lw_m4 207 rfl) rfl
theorem q1055 : (Jvm.Cond.classLink "SagMemory" (345 : Nat) "java/lang/NullPointerException") ∈ lw_all := lw_g (lw_at lw_m4 208 rfl) rfl
theorem q1082 : (Jvm.Cond.methodLink "SagMemory" (330 : Nat) ({ cls := "SagMemory", name := "isSlot", desc := "(I)Z" } : Jvm.MethodName)) ∈ lw_all := lw_g (lw_at lw_m4 235 rfl) rfl
theorem q1083 : (Jvm.Cond.static ({ cls := "SagMemory", name := "isSlot", desc := "(I)Z" } : Jvm.MethodName)) ∈ lw_all := lw_g (lw_at lw_m4 236 rfl) rfl
theorem q1084 : (Jvm.Cond.code ({ cls := "SagMemory", name := "isSlot", desc := "(I)Z" } : Jvm.MethodName) prog_1_method_119_code (1 : Nat) (Option.some Jvm.ClassFile.FieldType.boolean)) ∈ lw_all := lw_g (lw_at lw_m4 237 rfl) rfl
theorem q1085 : (Jvm.Cond.constantLong "SagMemory" (163 : Nat) (3 : Int64)) ∈ lw_all := lw_g (lw_at lw_m4 238 rfl) rfl
theorem q1086 : (Jvm.Cond.methodLink "SagMemory" (336 : Nat) ({ cls := "SagMemory", name := "all", desc := "()I" } : Jvm.MethodName)) ∈ lw_all := lw_g (lw_at lw_m4 239 rfl) rfl
theorem q1087 : (Jvm.Cond.privateMethod ({ cls := "SagMemory", name := "all", desc := "()I" } : Jvm.MethodName)) ∈ lw_tbl := lw_at lw_m5 0 rfl
theorem q1088 : (Jvm.Cond.instanceMethod ({ cls := "SagMemory", name := "all", desc := "()I" } : Jvm.MethodName)) ∈ lw_all := lw_g (lw_at lw_m5 1 rfl) rfl
theorem q1089 : (Jvm.Cond.code ({ cls := "SagMemory", name := "all", desc := "()I" } : Jvm.MethodName) prog_1_method_16_code (1 : Nat) (Option.some Jvm.ClassFile.FieldType.int)) ∈ lw_all := lw_g (lw_at lw_m5 2 rfl) rfl
theorem q1090 : (Jvm.Cond.methodLink "SagMemory" (339 : Nat) ({ cls := "SagMemory", name := "toldBy", desc := "(I)I" } : Jvm.MethodName)) ∈ lw_all := lw_g (lw_at lw_m5 3 rfl) rfl
theorem q1091 : (Jvm.Cond.privateMethod ({ cls := "SagMemory", name := "toldBy", desc := "(I)I" } : Jvm.MethodName)) ∈ lw_tbl := lw_at lw_m5 4 rfl
theorem q1092 : (Jvm.Cond.instanceMethod ({ cls := "SagMemory", name := "toldBy", desc := "(I)I" } : Jvm.MethodName)) ∈ lw_all := lw_g (lw_at lw_m5 5 rfl) rfl
theorem q1093 : (Jvm.Cond.code ({ cls := "SagMemory", name := "toldBy", desc := "(I)I" } : Jvm.MethodName) prog_1_method_75_code (4 : Nat) (Option.some Jvm.ClassFile.FieldType.int)) ∈ lw_all := lw_g (lw_at lw_m5 6 rfl) rfl
theorem q1094 : (Jvm.Cond.methodLink "SagMemory" (342 : Nat) ({ cls := "SagMemory", name := "isLeft", desc := "(II)Z" } : Jvm.MethodName)) ∈ lw_all := lw_g (lw_at lw_m5 7 rfl) rfl
theorem q1095 : (Jvm.Cond.privateMethod ({ cls := "SagMemory", name := "isLeft", desc := "(II)Z" } : Jvm.MethodName)) ∈ lw_tbl := lw_at lw_m5 8 rfl
theorem q1096 : (Jvm.Cond.instanceMethod ({ cls := "SagMemory", name := "isLeft", desc := "(II)Z" } : Jvm.MethodName)) ∈ lw_all := lw_g (lw_at lw_m5 9 rfl) rfl
theorem q1097 : (Jvm.Cond.code ({ cls := "SagMemory", name := "isLeft", desc := "(II)Z" } : Jvm.MethodName) prog_1_method_76_code (4 : Nat) (Option.some Jvm.ClassFile.FieldType.boolean)) ∈ lw_all := lw_g (lw_at lw_m5 10 rfl) rfl
theorem q1098 : (Jvm.Cond.methodLink "SagMemory" (324 : Nat) ({ cls := "SagMemory$Slot", name := "size", desc := "()I" } : Jvm.MethodName)) ∈ lw_all := lw_g (lw_at lw_m5 11 rfl) rfl
theorem q1106 : (Jvm.Cond.methodLink "SagMemory" (327 : Nat) ({ cls := "SagMemory$Slot", name := "at", desc := "(I)J" } : Jvm.MethodName)) ∈ lw_all := lw_g (lw_at lw_m5 19 rfl) rfl
theorem q1111 : (Jvm.Cond.instanceMethod ({ cls := "SagMemory", name := "surely", desc := "(II)I" } : Jvm.MethodName)) ∈ lw_all := lw_g (lw_at lw_m5 24 rfl) rfl
theorem q1112 : (Jvm.Cond.selects "SagMemory" ({ cls := "SagMemory", name := "surely", desc := "(II)I" } : Jvm.MethodName) ({ cls := "SagMemory", name := "surely", desc := "(II)I" } : Jvm.MethodName)) ∈ lw_all := lw_g (lw_at lw_m5 25 rfl) rfl
theorem q1113 : (Jvm.Cond.code ({ cls := "SagMemory", name := "surely", desc := "(II)I" } : Jvm.MethodName) prog_1_method_79_code (6 : Nat) (Option.some Jvm.ClassFile.FieldType.int)) ∈ lw_all := lw_g (lw_at lw_m5 26 rfl) rfl
theorem q1115 : (Jvm.Cond.instanceMethod ({ cls := "SagMemory", name := "never", desc := "(II)I" } : Jvm.MethodName)) ∈ lw_all := lw_g (lw_at lw_m5 28 rfl) rfl
theorem q1116 : (Jvm.Cond.selects "SagMemory" ({ cls := "SagMemory", name := "never", desc := "(II)I" } : Jvm.MethodName) ({ cls := "SagMemory", name := "never", desc := "(II)I" } : Jvm.MethodName)) ∈ lw_all := lw_g (lw_at lw_m5 29 rfl) rfl
theorem q1117 : (Jvm.Cond.code ({ cls := "SagMemory", name := "never", desc := "(II)I" } : Jvm.MethodName) prog_1_method_80_code (6 : Nat) (Option.some Jvm.ClassFile.FieldType.int)) ∈ lw_all := lw_g (lw_at lw_m5 30 rfl) rfl
theorem q1119 : (Jvm.Cond.instanceMethod ({ cls := "SagMemory", name := "fewest", desc := "(II)I" } : Jvm.MethodName)) ∈ lw_all := lw_g (lw_at lw_m5 32 rfl) rfl
theorem q1120 : (Jvm.Cond.selects "SagMemory" ({ cls := "SagMemory", name := "fewest", desc := "(II)I" } : Jvm.MethodName) ({ cls := "SagMemory", name := "fewest", desc := "(II)I" } : Jvm.MethodName)) ∈ lw_all := lw_g (lw_at lw_m5 33 rfl) rfl
theorem q1121 : (Jvm.Cond.code ({ cls := "SagMemory", name := "fewest", desc := "(II)I" } : Jvm.MethodName) prog_1_method_81_code (6 : Nat) (Option.some Jvm.ClassFile.FieldType.int)) ∈ lw_all := lw_g (lw_at lw_m5 34 rfl) rfl
theorem q1123 : (Jvm.Cond.instanceMethod ({ cls := "SagMemory", name := "ask", desc := "(II)I" } : Jvm.MethodName)) ∈ lw_all := lw_g (lw_at lw_m5 36 rfl) rfl
theorem q1124 : (Jvm.Cond.selects "SagMemory" ({ cls := "SagMemory", name := "ask", desc := "(II)I" } : Jvm.MethodName) ({ cls := "SagMemory", name := "ask", desc := "(II)I" } : Jvm.MethodName)) ∈ lw_all := lw_g (lw_at lw_m5 37 rfl) rfl
theorem q1125 : (Jvm.Cond.code ({ cls := "SagMemory", name := "ask", desc := "(II)I" } : Jvm.MethodName) prog_1_method_83_code (4 : Nat) (Option.some Jvm.ClassFile.FieldType.int)) ∈ lw_all := lw_g (lw_at lw_m5 38 rfl) rfl
theorem q1126 : (Jvm.Cond.methodLink "SagMemory" (353 : Nat) ({ cls := "SagMemory", name := "askOf", desc := "()I" } : Jvm.MethodName)) ∈ lw_all := lw_g (lw_at lw_m5 39 rfl) rfl
theorem q1127 : (Jvm.Cond.privateMethod ({ cls := "SagMemory", name := "askOf", desc := "()I" } : Jvm.MethodName)) ∈ lw_tbl := lw_at lw_m5 40 rfl
theorem q1128 : (Jvm.Cond.instanceMethod ({ cls := "SagMemory", name := "askOf", desc := "()I" } : Jvm.MethodName)) ∈ lw_all := lw_g (lw_at lw_m5 41 rfl) rfl
theorem q1129 : (Jvm.Cond.code ({ cls := "SagMemory", name := "askOf", desc := "()I" } : Jvm.MethodName) prog_1_method_82_code (5 : Nat) (Option.some Jvm.ClassFile.FieldType.int)) ∈ lw_all := lw_g (lw_at lw_m5 42 rfl) rfl
theorem q1131 : (Jvm.Cond.instanceMethod ({ cls := "SagMemory", name := "leaves", desc := "(II)I" } : Jvm.MethodName)) ∈ lw_all := lw_g (lw_at lw_m5 44 rfl) rfl
theorem q1132 : (Jvm.Cond.selects "SagMemory" ({ cls := "SagMemory", name := "leaves", desc := "(II)I" } : Jvm.MethodName) ({ cls := "SagMemory", name := "leaves", desc := "(II)I" } : Jvm.MethodName)) ∈ lw_all := lw_g (lw_at lw_m5 45 rfl) rfl
theorem q1133 : (Jvm.Cond.code ({ cls := "SagMemory", name := "leaves", desc := "(II)I" } : Jvm.MethodName) prog_1_method_84_code (4 : Nat) (Option.some Jvm.ClassFile.FieldType.int)) ∈ lw_all := lw_g (lw_at lw_m5 46 rfl) rfl
theorem q1135 : (Jvm.Cond.instanceMethod ({ cls := "SagMemory", name := "loads", desc := "(II)I" } : Jvm.MethodName)) ∈ lw_all := lw_g (lw_at lw_m5 48 rfl) rfl
theorem q1136 : (Jvm.Cond.selects "SagMemory" ({ cls := "SagMemory", name := "loads", desc := "(II)I" } : Jvm.MethodName) ({ cls := "SagMemory", name := "loads", desc := "(II)I" } : Jvm.MethodName)) ∈ lw_all := lw_g (lw_at lw_m5 49 rfl) rfl
theorem q1137 : (Jvm.Cond.code ({ cls := "SagMemory", name := "loads", desc := "(II)I" } : Jvm.MethodName) prog_1_method_90_code (4 : Nat) (Option.some Jvm.ClassFile.FieldType.int)) ∈ lw_all := lw_g (lw_at lw_m5 50 rfl) rfl
theorem q1138 : (Jvm.Cond.methodLink "SagMemory" (379 : Nat) ({ cls := "SagMemory", name := "asksLoads", desc := "(II)I" } : Jvm.MethodName)) ∈ lw_all := lw_g (lw_at lw_m5 51 rfl) rfl
theorem q1139 : (Jvm.Cond.privateMethod ({ cls := "SagMemory", name := "asksLoads", desc := "(II)I" } : Jvm.MethodName)) ∈ lw_tbl := lw_at lw_m5 52 rfl
theorem q1140 : (Jvm.Cond.instanceMethod ({ cls := "SagMemory", name := "asksLoads", desc := "(II)I" } : Jvm.MethodName)) ∈ lw_all := lw_g (lw_at lw_m5 53 rfl) rfl
theorem q1141 : (Jvm.Cond.code ({ cls := "SagMemory", name := "asksLoads", desc := "(II)I" } : Jvm.MethodName) prog_1_method_89_code (4 : Nat) (Option.some Jvm.ClassFile.FieldType.int)) ∈ lw_all := lw_g (lw_at lw_m5 54 rfl) rfl
theorem q1142 : (Jvm.Cond.methodLink "SagMemory" (373 : Nat) ({ cls := "SagMemory", name := "asksBook", desc := "(I)I" } : Jvm.MethodName)) ∈ lw_all := lw_g (lw_at lw_m5 55 rfl) rfl
theorem q1143 : (Jvm.Cond.privateMethod ({ cls := "SagMemory", name := "asksBook", desc := "(I)I" } : Jvm.MethodName)) ∈ lw_tbl := lw_at lw_m5 56 rfl
theorem q1144 : (Jvm.Cond.instanceMethod ({ cls := "SagMemory", name := "asksBook", desc := "(I)I" } : Jvm.MethodName)) ∈ lw_all := lw_g (lw_at lw_m5 57 rfl) rfl
theorem q1145 : (Jvm.Cond.codeWith ({ cls := "SagMemory", name := "asksBook", desc := "(I)I" } : Jvm.MethodName) prog_1_method_86_code (4 : Nat) (Option.some Jvm.ClassFile.FieldType.int) [((17 : Nat), (35 : Nat), (104 : Nat), (345 : Nat)), ((36 : Nat), (91 : Nat), (104 : Nat), (345 : Nat)), ((92 : Nat), (103 : Nat), (104 : Nat), (345 : Nat))]) ∈ lw_all := lw_g (lw_at lw_m5 58 rfl) rfl
theorem q1146 : (Jvm.Cond.constantLong "SagMemory" (356 : Nat) (999 : Int64)) ∈ lw_all := lw_g (lw_at lw_m5 59 rfl) rfl
theorem q1147 : (Jvm.Cond.methodLink "SagMemory" (376 : Nat) ({ cls := "SagMemory", name := "laysLoads", desc := "(II)V" } : Jvm.MethodName)) ∈ lw_all := lw_g (lw_at lw_m5 60 rfl) rfl
theorem q1148 : (Jvm.Cond.privateMethod ({ cls := "SagMemory", name := "laysLoads", desc := "(II)V" } : Jvm.MethodName)) ∈ lw_tbl := lw_at lw_m5 61 rfl
theorem q1149 : (Jvm.Cond.instanceMethod ({ cls := "SagMemory", name := "laysLoads", desc := "(II)V" } : Jvm.MethodName)) ∈ lw_all := lw_g (lw_at lw_m5 62 rfl) rfl
theorem q1150 : (Jvm.Cond.code ({ cls := "SagMemory", name := "laysLoads", desc := "(II)V" } : Jvm.MethodName) prog_1_method_88_code (3 : Nat) (Option.none : Option Jvm.ClassFile.FieldType)) ∈ lw_all := lw_g (lw_at lw_m5 63 rfl) rfl
theorem q1151 : (Jvm.Cond.methodLink "SagMemory" (370 : Nat) ({ cls := "SagMemory", name := "isSo", desc := "(I)Z" } : Jvm.MethodName)) ∈ lw_all := lw_g (lw_at lw_m5 64 rfl) rfl
theorem q1152 : (Jvm.Cond.privateMethod ({ cls := "SagMemory", name := "isSo", desc := "(I)Z" } : Jvm.MethodName)) ∈ lw_tbl := lw_at lw_m5 65 rfl
theorem q1153 : (Jvm.Cond.instanceMethod ({ cls := "SagMemory", name := "isSo", desc := "(I)Z" } : Jvm.MethodName)) ∈ lw_all := lw_g (lw_at lw_m5 66 rfl) rfl
theorem q1154 : (Jvm.Cond.code ({ cls := "SagMemory", name := "isSo", desc := "(I)Z" } : Jvm.MethodName) prog_1_method_87_code (3 : Nat) (Option.some Jvm.ClassFile.FieldType.boolean)) ∈ lw_all := lw_g (lw_at lw_m5 67 rfl) rfl
theorem q1155 : (Jvm.Cond.methodLink "SagMemory" (358 : Nat) ({ cls := "SagMemory", name := "number", desc := "(II)I" } : Jvm.MethodName)) ∈ lw_all := lw_g (lw_at lw_m5 68 rfl) rfl
theorem q1156 : (Jvm.Cond.privateMethod ({ cls := "SagMemory", name := "number", desc := "(II)I" } : Jvm.MethodName)) ∈ lw_tbl := lw_at lw_m5 69 rfl
theorem q1157 : (Jvm.Cond.instanceMethod ({ cls := "SagMemory", name := "number", desc := "(II)I" } : Jvm.MethodName)) ∈ lw_all := lw_g (lw_at lw_m5 70 rfl) rfl
theorem q1158 : (Jvm.Cond.code ({ cls := "SagMemory", name := "number", desc := "(II)I" } : Jvm.MethodName) prog_1_method_85_code (3 : Nat) (Option.some Jvm.ClassFile.FieldType.int)) ∈ lw_all := lw_g (lw_at lw_m5 71 rfl) rfl
theorem q1160 : (Jvm.Cond.instanceMethod ({ cls := "SagMemory", name := "light", desc := "(II)I" } : Jvm.MethodName)) ∈ lw_all := lw_g (lw_at lw_m5 73 rfl) rfl
theorem q1161 : (Jvm.Cond.selects "SagMemory" ({ cls := "SagMemory", name := "light", desc := "(II)I" } : Jvm.MethodName) ({ cls := "SagMemory", name := "light", desc := "(II)I" } : Jvm.MethodName)) ∈ lw_all := lw_g (lw_at lw_m5 74 rfl) rfl
theorem q1162 : (Jvm.Cond.code ({ cls := "SagMemory", name := "light", desc := "(II)I" } : Jvm.MethodName) prog_1_method_91_code (4 : Nat) (Option.some Jvm.ClassFile.FieldType.int)) ∈ lw_all := lw_g (lw_at lw_m5 75 rfl) rfl
theorem q1164 : (Jvm.Cond.instanceMethod ({ cls := "SagMemory", name := "heavy", desc := "(II)I" } : Jvm.MethodName)) ∈ lw_all := lw_g (lw_at lw_m5 77 rfl) rfl
theorem q1165 : (Jvm.Cond.selects "SagMemory" ({ cls := "SagMemory", name := "heavy", desc := "(II)I" } : Jvm.MethodName) ({ cls := "SagMemory", name := "heavy", desc := "(II)I" } : Jvm.MethodName)) ∈ lw_all := lw_g (lw_at lw_m5 78 rfl) rfl
theorem q1166 : (Jvm.Cond.code ({ cls := "SagMemory", name := "heavy", desc := "(II)I" } : Jvm.MethodName) prog_1_method_92_code (4 : Nat) (Option.some Jvm.ClassFile.FieldType.int)) ∈ lw_all := lw_g (lw_at lw_m5 79 rfl) rfl
theorem q1168 : (Jvm.Cond.instanceMethod ({ cls := "SagMemory", name := "liars", desc := "(I)I" } : Jvm.MethodName)) ∈ lw_all := lw_g (lw_at lw_m5 81 rfl) rfl
theorem q1169 : (Jvm.Cond.selects "SagMemory" ({ cls := "SagMemory", name := "liars", desc := "(I)I" } : Jvm.MethodName) ({ cls := "SagMemory", name := "liars", desc := "(I)I" } : Jvm.MethodName)) ∈ lw_all := lw_g (lw_at lw_m5 82 rfl) rfl
theorem q1170 : (Jvm.Cond.code ({ cls := "SagMemory", name := "liars", desc := "(I)I" } : Jvm.MethodName) prog_1_method_93_code (5 : Nat) (Option.some Jvm.ClassFile.FieldType.int)) ∈ lw_all := lw_g (lw_at lw_m5 83 rfl) rfl
theorem q1172 : (Jvm.Cond.instanceMethod ({ cls := "SagMemory", name := "laws", desc := "(I)I" } : Jvm.MethodName)) ∈ lw_all := lw_g (lw_at lw_m5 85 rfl) rfl
theorem q1173 : (Jvm.Cond.selects "SagMemory" ({ cls := "SagMemory", name := "laws", desc := "(I)I" } : Jvm.MethodName) ({ cls := "SagMemory", name := "laws", desc := "(I)I" } : Jvm.MethodName)) ∈ lw_all := lw_g (lw_at lw_m5 86 rfl) rfl
theorem q1174 : (Jvm.Cond.code ({ cls := "SagMemory", name := "laws", desc := "(I)I" } : Jvm.MethodName) prog_1_method_94_code (5 : Nat) (Option.some Jvm.ClassFile.FieldType.int)) ∈ lw_all := lw_g (lw_at lw_m5 87 rfl) rfl
theorem q1176 : (Jvm.Cond.instanceMethod ({ cls := "SagMemory", name := "by", desc := "(I)I" } : Jvm.MethodName)) ∈ lw_all := lw_g (lw_at lw_m5 89 rfl) rfl
theorem q1177 : (Jvm.Cond.selects "SagMemory" ({ cls := "SagMemory", name := "by", desc := "(I)I" } : Jvm.MethodName) ({ cls := "SagMemory", name := "by", desc := "(I)I" } : Jvm.MethodName)) ∈ lw_all := lw_g (lw_at lw_m5 90 rfl) rfl
theorem q1178 : (Jvm.Cond.code ({ cls := "SagMemory", name := "by", desc := "(I)I" } : Jvm.MethodName) prog_1_method_96_code (2 : Nat) (Option.some Jvm.ClassFile.FieldType.int)) ∈ lw_all := lw_g (lw_at lw_m5 91 rfl) rfl
theorem q1179 : (Jvm.Cond.methodLink "SagMemory" (382 : Nat) ({ cls := "SagMemory", name := "isLaw", desc := "(I)Z" } : Jvm.MethodName)) ∈ lw_all := lw_g (lw_at lw_m5 92 rfl) rfl
theorem q1180 : (Jvm.Cond.static ({ cls := "SagMemory", name := "isLaw", desc := "(I)Z" } : Jvm.MethodName)) ∈ lw_all := lw_g (lw_at lw_m5 93 rfl) rfl
theorem q1181 : (Jvm.Cond.code ({ cls := "SagMemory", name := "isLaw", desc := "(I)Z" } : Jvm.MethodName) prog_1_method_13_code (1 : Nat) (Option.some Jvm.ClassFile.FieldType.boolean)) ∈ lw_all := lw_g (lw_at lw_m5 94 rfl) rfl
theorem q1182 : (Jvm.Cond.methodLink "SagMemory" (385 : Nat) ({ cls := "SagMemory", name := "sagBy", desc := "(I)I" } : Jvm.MethodName)) ∈ lw_all := lw_g (lw_at lw_m5 95 rfl) rfl
theorem q1183 : (Jvm.Cond.privateMethod ({ cls := "SagMemory", name := "sagBy", desc := "(I)I" } : Jvm.MethodName)) ∈ lw_tbl := lw_at lw_m5 96 rfl
theorem q1184 : (Jvm.Cond.instanceMethod ({ cls := "SagMemory", name := "sagBy", desc := "(I)I" } : Jvm.MethodName)) ∈ lw_all := lw_g (lw_at lw_m5 97 rfl) rfl
theorem q1185 : (Jvm.Cond.code ({ cls := "SagMemory", name := "sagBy", desc := "(I)I" } : Jvm.MethodName) prog_1_method_95_code (2 : Nat) (Option.some Jvm.ClassFile.FieldType.int)) ∈ lw_all := lw_g (lw_at lw_m5 98 rfl) rfl
theorem q1187 : (Jvm.Cond.instanceMethod ({ cls := "SagMemory", name := "law", desc := "()I" } : Jvm.MethodName)) ∈ lw_all := lw_g (lw_at lw_m5 100 rfl) rfl
theorem q1188 : (Jvm.Cond.selects "SagMemory" ({ cls := "SagMemory", name := "law", desc := "()I" } : Jvm.MethodName) ({ cls := "SagMemory", name := "law", desc := "()I" } : Jvm.MethodName)) ∈ lw_all := lw_g (lw_at lw_m5 101 rfl) rfl
theorem q1189 : (Jvm.Cond.code ({ cls := "SagMemory", name := "law", desc := "()I" } : Jvm.MethodName) prog_1_method_97_code (3 : Nat) (Option.some Jvm.ClassFile.FieldType.int)) ∈ lw_all := lw_g (lw_at lw_m5 102 rfl) rfl
theorem q1191 : (Jvm.Cond.instanceMethod ({ cls := "SagMemory", name := "share", desc := "(II)I" } : Jvm.MethodName)) ∈ lw_all := lw_g (lw_at lw_m5 104 rfl) rfl
theorem q1192 : (Jvm.Cond.selects "SagMemory" ({ cls := "SagMemory", name := "share", desc := "(II)I" } : Jvm.MethodName) ({ cls := "SagMemory", name := "share", desc := "(II)I" } : Jvm.MethodName)) ∈ lw_all := lw_g (lw_at lw_m5 105 rfl) rfl
theorem q1193 : (Jvm.Cond.code ({ cls := "SagMemory", name := "share", desc := "(II)I" } : Jvm.MethodName) prog_1_method_101_code (7 : Nat) (Option.some Jvm.ClassFile.FieldType.int)) ∈ lw_all := lw_g (lw_at lw_m5 106 rfl) rfl
theorem q1194 : (Jvm.Cond.methodLink "SagMemory" (395 : Nat) ({ cls := "SagMemory", name := "factorial", desc := "(I)J" } : Jvm.MethodName)) ∈ lw_all := lw_g (lw_at lw_m5 107 rfl) rfl
theorem q1195 : (Jvm.Cond.static ({ cls := "SagMemory", name := "factorial", desc := "(I)J" } : Jvm.MethodName)) ∈ lw_all := lw_g (lw_at lw_m5 108 rfl) rfl
theorem q1196 : (Jvm.Cond.code ({ cls := "SagMemory", name := "factorial", desc := "(I)J" } : Jvm.MethodName) prog_1_method_98_code (4 : Nat) (Option.some Jvm.ClassFile.FieldType.long)) ∈ lw_all := lw_g (lw_at lw_m5 109 rfl) rfl
theorem q1197 : (Jvm.Cond.methodLink "SagMemory" (398 : Nat) ({ cls := "SagMemory", name := "part", desc := "(JJI)J" } : Jvm.MethodName)) ∈ lw_all := lw_g (lw_at lw_m5 110 rfl) rfl
theorem q1198 : (Jvm.Cond.static ({ cls := "SagMemory", name := "part", desc := "(JJI)J" } : Jvm.MethodName)) ∈ lw_all := lw_g (lw_at lw_m5 111 rfl) rfl
theorem q1199 : (Jvm.Cond.code ({ cls := "SagMemory", name := "part", desc := "(JJI)J" } : Jvm.MethodName) prog_1_method_100_code (5 : Nat) (Option.some Jvm.ClassFile.FieldType.long)) ∈ lw_all := lw_g (lw_at lw_m5 112 rfl) rfl
theorem q1200 : (Jvm.Cond.methodLink "SagMemory" (391 : Nat) ({ cls := "SagMemory", name := "divisor", desc := "(JJ)J" } : Jvm.MethodName)) ∈ lw_all := lw_g (lw_at lw_m5 113 rfl) rfl
theorem q1201 : (Jvm.Cond.static ({ cls := "SagMemory", name := "divisor", desc := "(JJ)J" } : Jvm.MethodName)) ∈ lw_all := lw_g (lw_at lw_m5 114 rfl) rfl
theorem q1202 : (Jvm.Cond.code ({ cls := "SagMemory", name := "divisor", desc := "(JJ)J" } : Jvm.MethodName) prog_1_method_99_code (10 : Nat) (Option.some Jvm.ClassFile.FieldType.long)) ∈ lw_all := lw_g (lw_at lw_m5 115 rfl) rfl
theorem q1203 : (Jvm.Cond.methodLink "SagMemory" (387 : Nat) ({ cls := "java/lang/Math", name := "abs", desc := "(J)J" } : Jvm.MethodName)) ∈ lw_all := lw_g (lw_at lw_m5 116 rfl) rfl
theorem q1207 : (Jvm.Cond.instanceMethod ({ cls := "SagMemory", name := "rests", desc := "(II)I" } : Jvm.MethodName)) ∈ lw_all := lw_g (lw_at lw_m5 120 rfl) rfl
theorem q1208 : (Jvm.Cond.selects "SagMemory" ({ cls := "SagMemory", name := "rests", desc := "(II)I" } : Jvm.MethodName) ({ cls := "SagMemory", name := "rests", desc := "(II)I" } : Jvm.MethodName)) ∈ lw_all := lw_g (lw_at lw_m5 121 rfl) rfl
theorem q1209 : (Jvm.Cond.code ({ cls := "SagMemory", name := "rests", desc := "(II)I" } : Jvm.MethodName) prog_1_method_105_code (3 : Nat) (Option.some Jvm.ClassFile.FieldType.int)) ∈ lw_all := lw_g (lw_at lw_m5 122 rfl) rfl
theorem q1210 : (Jvm.Cond.methodLink "SagMemory" (417 : Nat) ({ cls := "SagMemory", name := "asksRests", desc := "(II)Z" } : Jvm.MethodName)) ∈ lw_all := lw_g (lw_at lw_m5 123 rfl) rfl
theorem q1211 : (Jvm.Cond.privateMethod ({ cls := "SagMemory", name := "asksRests", desc := "(II)Z" } : Jvm.MethodName)) ∈ lw_tbl := lw_at lw_m5 124 rfl
theorem q1212 : (Jvm.Cond.instanceMethod ({ cls := "SagMemory", name := "asksRests", desc := "(II)Z" } : Jvm.MethodName)) ∈ lw_all := lw_g (lw_at lw_m5 125 rfl) rfl
theorem q1213 : (Jvm.Cond.code ({ cls := "SagMemory", name := "asksRests", desc := "(II)Z" } : Jvm.MethodName) prog_1_method_104_code (5 : Nat) (Option.some Jvm.ClassFile.FieldType.boolean)) ∈ lw_all := lw_g (lw_at lw_m5 126 rfl) rfl
theorem q1214 : (Jvm.Cond.methodLink "SagMemory" (402 : Nat) ({ cls := "SagMemory", name := "areTwo", desc := "(II)Z" } : Jvm.MethodName)) ∈ lw_all := lw_g (lw_at lw_m5 127 rfl) rfl
theorem q1215 : (Jvm.Cond.privateMethod ({ cls := "SagMemory", name := "areTwo", desc := "(II)Z" } : Jvm.MethodName)) ∈ lw_tbl := lw_at lw_m5 128 rfl
theorem q1216 : (Jvm.Cond.instanceMethod ({ cls := "SagMemory", name := "areTwo", desc := "(II)Z" } : Jvm.MethodName)) ∈ lw_all := lw_g (lw_at lw_m5 129 rfl) rfl
theorem q1217 : (Jvm.Cond.code ({ cls := "SagMemory", name := "areTwo", desc := "(II)Z" } : Jvm.MethodName) prog_1_method_12_code (3 : Nat) (Option.some Jvm.ClassFile.FieldType.boolean)) ∈ lw_all := lw_g (lw_at lw_m5 130 rfl) rfl
theorem q1218 : (Jvm.Cond.methodLink "SagMemory" (405 : Nat) ({ cls := "SagMemory", name := "losesOf", desc := "(I)I" } : Jvm.MethodName)) ∈ lw_all := lw_g (lw_at lw_m5 131 rfl) rfl
theorem q1219 : (Jvm.Cond.privateMethod ({ cls := "SagMemory", name := "losesOf", desc := "(I)I" } : Jvm.MethodName)) ∈ lw_tbl := lw_at lw_m5 132 rfl
theorem q1220 : (Jvm.Cond.instanceMethod ({ cls := "SagMemory", name := "losesOf", desc := "(I)I" } : Jvm.MethodName)) ∈ lw_all := lw_g (lw_at lw_m5 133 rfl) rfl
theorem q1221 : (Jvm.Cond.code ({ cls := "SagMemory", name := "losesOf", desc := "(I)I" } : Jvm.MethodName) prog_1_method_102_code (2 : Nat) (Option.some Jvm.ClassFile.FieldType.int)) ∈ lw_all := lw_g (lw_at lw_m5 134 rfl) rfl
theorem q1222 : (Jvm.Cond.methodLink "SagMemory" (414 : Nat) ({ cls := "SagMemory", name := "isRest", desc := "(II)Z" } : Jvm.MethodName)) ∈ lw_all := lw_g (lw_at lw_m5 135 rfl) rfl
theorem q1223 : (Jvm.Cond.privateMethod ({ cls := "SagMemory", name := "isRest", desc := "(II)Z" } : Jvm.MethodName)) ∈ lw_tbl := lw_at lw_m5 136 rfl
theorem q1224 : (Jvm.Cond.instanceMethod ({ cls := "SagMemory", name := "isRest", desc := "(II)Z" } : Jvm.MethodName)) ∈ lw_all := lw_g (lw_at lw_m5 137 rfl) rfl
theorem q1225 : (Jvm.Cond.code ({ cls := "SagMemory", name := "isRest", desc := "(II)Z" } : Jvm.MethodName) prog_1_method_103_code (4 : Nat) (Option.some Jvm.ClassFile.FieldType.boolean)) ∈ lw_all := lw_g (lw_at lw_m5 138 rfl) rfl
theorem q1227 : (Jvm.Cond.instanceMethod ({ cls := "SagMemory", name := "rest", desc := "(II)I" } : Jvm.MethodName)) ∈ lw_all := lw_g (lw_at lw_m5 140 rfl) rfl
theorem q1228 : (Jvm.Cond.selects "SagMemory" ({ cls := "SagMemory", name := "rest", desc := "(II)I" } : Jvm.MethodName) ({ cls := "SagMemory", name := "rest", desc := "(II)I" } : Jvm.MethodName)) ∈ lw_all := lw_g (lw_at lw_m5 141 rfl) rfl
theorem q1229 : (Jvm.Cond.code ({ cls := "SagMemory", name := "rest", desc := "(II)I" } : Jvm.MethodName) prog_1_method_106_code (3 : Nat) (Option.some Jvm.ClassFile.FieldType.int)) ∈ lw_all := lw_g (lw_at lw_m5 142 rfl) rfl
theorem q1231 : (Jvm.Cond.instanceMethod ({ cls := "SagMemory", name := "chance", desc := "(II)I" } : Jvm.MethodName)) ∈ lw_all := lw_g (lw_at lw_m5 144 rfl) rfl
theorem q1232 : (Jvm.Cond.selects "SagMemory" ({ cls := "SagMemory", name := "chance", desc := "(II)I" } : Jvm.MethodName) ({ cls := "SagMemory", name := "chance", desc := "(II)I" } : Jvm.MethodName)) ∈ lw_all := lw_g (lw_at lw_m5 145 rfl) rfl
theorem q1233 : (Jvm.Cond.code ({ cls := "SagMemory", name := "chance", desc := "(II)I" } : Jvm.MethodName) prog_1_method_108_code (3 : Nat) (Option.some Jvm.ClassFile.FieldType.int)) ∈ lw_all := lw_g (lw_at lw_m5 146 rfl) rfl
theorem q1234 : (Jvm.Cond.methodLink "SagMemory" (433 : Nat) ({ cls := "SagMemory", name := "laysChances", desc := "(I)V" } : Jvm.MethodName)) ∈ lw_all := lw_g (lw_at lw_m5 147 rfl) rfl
theorem q1235 : (Jvm.Cond.privateMethod ({ cls := "SagMemory", name := "laysChances", desc := "(I)V" } : Jvm.MethodName)) ∈ lw_tbl := lw_at lw_m5 148 rfl
theorem q1236 : (Jvm.Cond.instanceMethod ({ cls := "SagMemory", name := "laysChances", desc := "(I)V" } : Jvm.MethodName)) ∈ lw_all := lw_g (lw_at lw_m5 149 rfl) rfl
theorem q1237 : (Jvm.Cond.code ({ cls := "SagMemory", name := "laysChances", desc := "(I)V" } : Jvm.MethodName) prog_1_method_107_code (5 : Nat) (Option.none : Option Jvm.ClassFile.FieldType)) ∈ lw_all := lw_g (lw_at lw_m5 150 rfl) rfl
theorem q1239 : (Jvm.Cond.instanceMethod ({ cls := "SagMemory", name := "mean", desc := "(II)J" } : Jvm.MethodName)) ∈ lw_all := lw_g (lw_at lw_m5 152 rfl) rfl
theorem q1240 : (Jvm.Cond.selects "SagMemory" ({ cls := "SagMemory", name := "mean", desc := "(II)J" } : Jvm.MethodName) ({ cls := "SagMemory", name := "mean", desc := "(II)J" } : Jvm.MethodName)) ∈ lw_all := lw_g (lw_at lw_m5 153 rfl) rfl
theorem q1241 : (Jvm.Cond.code ({ cls := "SagMemory", name := "mean", desc := "(II)J" } : Jvm.MethodName) prog_1_method_109_code (3 : Nat) (Option.some Jvm.ClassFile.FieldType.long)) ∈ lw_all := lw_g (lw_at lw_m5 154 rfl) rfl
theorem q1242 : (Jvm.Cond.constantLong "SagMemory" (436 : Nat) (-2 : Int64)) ∈ lw_all := lw_g (lw_at lw_m5 155 rfl) rfl
theorem q1244 : (Jvm.Cond.instanceMethod ({ cls := "SagMemory", name := "drawn", desc := "(II)I" } : Jvm.MethodName)) ∈ lw_all := lw_g (lw_at lw_m5 157 rfl) rfl
theorem q1245 : (Jvm.Cond.selects "SagMemory" ({ cls := "SagMemory", name := "drawn", desc := "(II)I" } : Jvm.MethodName) ({ cls := "SagMemory", name := "drawn", desc := "(II)I" } : Jvm.MethodName)) ∈ lw_all := lw_g (lw_at lw_m5 158 rfl) rfl
theorem q1246 : (Jvm.Cond.code ({ cls := "SagMemory", name := "drawn", desc := "(II)I" } : Jvm.MethodName) prog_1_method_111_code (3 : Nat) (Option.some Jvm.ClassFile.FieldType.int)) ∈ lw_all := lw_g (lw_at lw_m5 159 rfl) rfl
theorem q1247 : (Jvm.Cond.methodLink "SagMemory" (448 : Nat) ({ cls := "SagMemory", name := "isSeed", desc := "(I)Z" } : Jvm.MethodName)) ∈ lw_all := lw_g (lw_at lw_m5 160 rfl) rfl
theorem q1248 : (Jvm.Cond.static ({ cls := "SagMemory", name := "isSeed", desc := "(I)Z" } : Jvm.MethodName)) ∈ lw_all := lw_g (lw_at lw_m5 161 rfl) rfl
theorem q1249 : (Jvm.Cond.code ({ cls := "SagMemory", name := "isSeed", desc := "(I)Z" } : Jvm.MethodName) prog_1_method_15_code (1 : Nat) (Option.some Jvm.ClassFile.FieldType.boolean)) ∈ lw_all := lw_g (lw_at lw_m5 162 rfl) rfl
theorem q1250 : (Jvm.Cond.constantLong "SagMemory" (165 : Nat) (2000000000 : Int64)) ∈ lw_all := lw_g (lw_at lw_m5 163 rfl) rfl
theorem q1251 : (Jvm.Cond.methodLink "SagMemory" (451 : Nat) ({ cls := "SagMemory", name := "draws", desc := "(J)V" } : Jvm.MethodName)) ∈ lw_all := lw_g (lw_at lw_m5 164 rfl) rfl
theorem q1252 : (Jvm.Cond.privateMethod ({ cls := "SagMemory", name := "draws", desc := "(J)V" } : Jvm.MethodName)) ∈ lw_tbl := lw_at lw_m5 165 rfl
theorem q1253 : (Jvm.Cond.instanceMethod ({ cls := "SagMemory", name := "draws", desc := "(J)V" } : Jvm.MethodName)) ∈ lw_all := lw_g (lw_at lw_m5 166 rfl) rfl
theorem q1254 : (Jvm.Cond.code ({ cls := "SagMemory", name := "draws", desc := "(J)V" } : Jvm.MethodName) prog_1_method_110_code (6 : Nat) (Option.none : Option Jvm.ClassFile.FieldType)) ∈ lw_all := lw_g (lw_at lw_m5 167 rfl) rfl
theorem q1255 : (Jvm.Cond.constantLong "SagMemory" (438 : Nat) (1103515245 : Int64)) ∈ lw_all := lw_g (lw_at lw_m5 168 rfl) rfl
theorem q1256 : (Jvm.Cond.constantLong "SagMemory" (440 : Nat) (12345 : Int64)) ∈ lw_all := lw_g (lw_at lw_m5 169 rfl) rfl
theorem q1257 : (Jvm.Cond.constantLong "SagMemory" (442 : Nat) (2147483648 : Int64)) ∈ lw_all := lw_g (lw_at lw_m5 170 rfl) rfl
theorem q1258 : (Jvm.Cond.constantLong "SagMemory" (444 : Nat) (65536 : Int64)) ∈ lw_all := lw_g (lw_at lw_m5 171 rfl) rfl
theorem q1259 : (Jvm.Cond.constantLong "SagMemory" (446 : Nat) (10 : Int64)) ∈ lw_all := lw_g (lw_at lw_m5 172 rfl) rfl
theorem q1261 : (Jvm.Cond.instanceMethod ({ cls := "SagMemory", name := "luck", desc := "(III)I" } : Jvm.MethodName)) ∈ lw_all := lw_g (lw_at lw_m5 174 rfl) rfl
theorem q1262 : (Jvm.Cond.selects "SagMemory" ({ cls := "SagMemory", name := "luck", desc := "(III)I" } : Jvm.MethodName) ({ cls := "SagMemory", name := "luck", desc := "(III)I" } : Jvm.MethodName)) ∈ lw_all := lw_g (lw_at lw_m5 175 rfl) rfl
theorem q1263 : (Jvm.Cond.code ({ cls := "SagMemory", name := "luck", desc := "(III)I" } : Jvm.MethodName) prog_1_method_112_code (6 : Nat) (Option.some Jvm.ClassFile.FieldType.int)) ∈ lw_all := lw_g (lw_at lw_m5 176 rfl) rfl
theorem q1264 : (Jvm.Cond.constantLong "SagMemory" (455 : Nat) (20 : Int64)) ∈ lw_all := lw_g (lw_at lw_m5 177 rfl) rfl
theorem q1266 : (Jvm.Cond.instanceMethod ({ cls := "SagMemory", name := "send", desc := "(II)I" } : Jvm.MethodName)) ∈ lw_all := lw_g (lw_at lw_m5 179 rfl) rfl
theorem q1267 : (Jvm.Cond.selects "SagMemory" ({ cls := "SagMemory", name := "send", desc := "(II)I" } : Jvm.MethodName) ({ cls := "SagMemory", name := "send", desc := "(II)I" } : Jvm.MethodName)) ∈ lw_all := lw_g (lw_at lw_m5 180 rfl) rfl
theorem q1268 : (Jvm.Cond.code ({ cls := "SagMemory", name := "send", desc := "(II)I" } : Jvm.MethodName) prog_1_method_114_code (3 : Nat) (Option.some Jvm.ClassFile.FieldType.int)) ∈ lw_all := lw_g (lw_at lw_m5 181 rfl) rfl
theorem q1269 : (Jvm.Cond.methodLink "SagMemory" (457 : Nat) ({ cls := "SagMemory", name := "keeps", desc := "(II)I" } : Jvm.MethodName)) ∈ lw_all := lw_g (lw_at lw_m5 182 rfl) rfl
theorem q1270 : (Jvm.Cond.privateMethod ({ cls := "SagMemory", name := "keeps", desc := "(II)I" } : Jvm.MethodName)) ∈ lw_tbl := lw_at lw_m5 183 rfl
theorem q1271 : (Jvm.Cond.instanceMethod ({ cls := "SagMemory", name := "keeps", desc := "(II)I" } : Jvm.MethodName)) ∈ lw_all := lw_g (lw_at lw_m5 184 rfl) rfl
theorem q1272 : (Jvm.Cond.code ({ cls := "SagMemory", name := "keeps", desc := "(II)I" } : Jvm.MethodName) prog_1_method_113_code (3 : Nat) (Option.some Jvm.ClassFile.FieldType.int)) ∈ lw_all := lw_g (lw_at lw_m5 185 rfl) rfl
theorem q1274 : (Jvm.Cond.instanceMethod ({ cls := "SagMemory", name := "freeze", desc := "(II)I" } : Jvm.MethodName)) ∈ lw_all := lw_g (lw_at lw_m5 187 rfl) rfl
theorem q1275 : (Jvm.Cond.selects "SagMemory" ({ cls := "SagMemory", name := "freeze", desc := "(II)I" } : Jvm.MethodName) ({ cls := "SagMemory", name := "freeze", desc := "(II)I" } : Jvm.MethodName)) ∈ lw_all := lw_g (lw_at lw_m5 188 rfl) rfl
theorem q1276 : (Jvm.Cond.code ({ cls := "SagMemory", name := "freeze", desc := "(II)I" } : Jvm.MethodName) prog_1_method_115_code (3 : Nat) (Option.some Jvm.ClassFile.FieldType.int)) ∈ lw_all := lw_g (lw_at lw_m5 189 rfl) rfl
theorem q1278 : (Jvm.Cond.instanceMethod ({ cls := "SagMemory", name := "undo", desc := "()I" } : Jvm.MethodName)) ∈ lw_all := lw_g (lw_at lw_m5 191 rfl) rfl
theorem q1279 : (Jvm.Cond.selects "SagMemory" ({ cls := "SagMemory", name := "undo", desc := "()I" } : Jvm.MethodName) ({ cls := "SagMemory", name := "undo", desc := "()I" } : Jvm.MethodName)) ∈ lw_all := lw_g (lw_at lw_m5 192 rfl) rfl
theorem q1280 : (Jvm.Cond.code ({ cls := "SagMemory", name := "undo", desc := "()I" } : Jvm.MethodName) prog_1_method_116_code (1 : Nat) (Option.some Jvm.ClassFile.FieldType.int)) ∈ lw_all := lw_g (lw_at lw_m5 193 rfl) rfl
theorem q1282 : (Jvm.Cond.instanceMethod ({ cls := "SagMemory", name := "anew", desc := "()I" } : Jvm.MethodName)) ∈ lw_all := lw_g (lw_at lw_m5 195 rfl) rfl
theorem q1283 : (Jvm.Cond.selects "SagMemory" ({ cls := "SagMemory", name := "anew", desc := "()I" } : Jvm.MethodName) ({ cls := "SagMemory", name := "anew", desc := "()I" } : Jvm.MethodName)) ∈ lw_all := lw_g (lw_at lw_m5 196 rfl) rfl
theorem q1284 : (Jvm.Cond.code ({ cls := "SagMemory", name := "anew", desc := "()I" } : Jvm.MethodName) prog_1_method_117_code (2 : Nat) (Option.some Jvm.ClassFile.FieldType.int)) ∈ lw_all := lw_g (lw_at lw_m5 197 rfl) rfl
theorem q1286 : (Jvm.Cond.instanceMethod ({ cls := "SagMemory", name := "rate", desc := "(II)I" } : Jvm.MethodName)) ∈ lw_all := lw_g (lw_at lw_m5 199 rfl) rfl
theorem q1287 : (Jvm.Cond.selects "SagMemory" ({ cls := "SagMemory", name := "rate", desc := "(II)I" } : Jvm.MethodName) ({ cls := "SagMemory", name := "rate", desc := "(II)I" } : Jvm.MethodName)) ∈ lw_all := lw_g (lw_at lw_m5 200 rfl) rfl
theorem q1288 : (Jvm.Cond.code ({ cls := "SagMemory", name := "rate", desc := "(II)I" } : Jvm.MethodName) prog_1_method_118_code (4 : Nat) (Option.some Jvm.ClassFile.FieldType.int)) ∈ lw_all := lw_g (lw_at lw_m5 201 rfl) rfl
theorem q1289 : (Jvm.Cond.constantLong "SagMemory" (459 : Nat) (300 : Int64)) ∈ lw_all := lw_g (lw_at lw_m5 202 rfl) rfl
theorem q1291 : (Jvm.Cond.instanceMethod ({ cls := "SagMemory", name := "count", desc := "(I)I" } : Jvm.MethodName)) ∈ lw_all := lw_g (lw_at lw_m5 204 rfl) rfl
theorem q1292 : (Jvm.Cond.selects "SagMemory" ({ cls := "SagMemory", name := "count", desc := "(I)I" } : Jvm.MethodName) ({ cls := "SagMemory", name := "count", desc := "(I)I" } : Jvm.MethodName)) ∈ lw_all := lw_g (lw_at lw_m5 205 rfl) rfl
theorem q1293 : (Jvm.Cond.code ({ cls := "SagMemory", name := "count", desc := "(I)I" } : Jvm.MethodName) prog_1_method_120_code (4 : Nat) (Option.some Jvm.ClassFile.FieldType.int)) ∈ lw_all := lw_g (lw_at lw_m5 206 rfl) rfl
theorem q1295 : (Jvm.Cond.instanceMethod ({ cls := "SagMemory", name := "image", desc := "(I)I" } : Jvm.MethodName)) ∈ lw_all := lw_g (lw_at lw_m5 208 rfl) rfl
theorem q1296 : (Jvm.Cond.selects "SagMemory" ({ cls := "SagMemory", name := "image", desc := "(I)I" } : Jvm.MethodName) ({ cls := "SagMemory", name := "image", desc := "(I)I" } : Jvm.MethodName)) ∈ lw_all := lw_g (lw_at lw_m5 209 rfl) rfl
theorem q1297 : (Jvm.Cond.code ({ cls := "SagMemory", name := "image", desc := "(I)I" } : Jvm.MethodName) prog_1_method_121_code (2 : Nat) (Option.some Jvm.ClassFile.FieldType.int)) ∈ lw_all := lw_g (lw_at lw_m5 210 rfl) rfl
theorem q1298 : (Jvm.Cond.constantLong "SagMemory" (467 : Nat) (2 : Int64)) ∈ lw_all := lw_g (lw_at lw_m5 211 rfl) rfl
theorem q1299 : (Jvm.Cond.methodLink "SagMemory" (469 : Nat) ({ cls := "java/util/ArrayList", name := "size", desc := "()I" } : Jvm.MethodName)) ∈ lw_all := lw_g (lw_at lw_m5 212 rfl) rfl
theorem q1303 : (Jvm.Cond.methodLink "SagMemory" (470 : Nat) ({ cls := "java/util/ArrayList", name := "add", desc := "(Ljava/lang/Object;)Z" } : Jvm.MethodName)) ∈ lw_all := lw_g (lw_at lw_m5 216 rfl) rfl
theorem q1333 : (Jvm.Cond.selects "SagMemory" ({ cls := "java/lang/Object", name := "getClass", desc := "()Ljava/lang/Class;" } : Jvm.MethodName) ({ cls := "java/lang/Object", name := "getClass", desc := "()Ljava/lang/Class;" } : Jvm.MethodName)) ∈ lw_all := lw_g (lw_at lw_m6 6 rfl) rfl
theorem q1360 : (Jvm.Cond.methodLink "SagMemory" (474 : Nat) ({ cls := "SagMemory$Valley", name := "copy", desc := "()LSagMemory$Valley;" } : Jvm.MethodName)) ∈ lw_all := lw_g (lw_at lw_m6 33 rfl) rfl
theorem q1367 : (Jvm.Cond.methodLink "SagMemory" (477 : Nat) ({ cls := "java/util/ArrayList", name := "set", desc := "(ILjava/lang/Object;)Ljava/lang/Object;" } : Jvm.MethodName)) ∈ lw_all := lw_g (lw_at lw_m6 40 rfl) rfl
theorem q1380 : (Jvm.Cond.instanceMethod ({ cls := "SagMemory", name := "back", desc := "(I)I" } : Jvm.MethodName)) ∈ lw_all := lw_g (lw_at lw_m6 53 rfl) rfl
theorem q1381 : (Jvm.Cond.selects "SagMemory" ({ cls := "SagMemory", name := "back", desc := "(I)I" } : Jvm.MethodName) ({ cls := "SagMemory", name := "back", desc := "(I)I" } : Jvm.MethodName)) ∈ lw_all := lw_g (lw_at lw_m6 54 rfl) rfl
theorem q1382 : (Jvm.Cond.code ({ cls := "SagMemory", name := "back", desc := "(I)I" } : Jvm.MethodName) prog_1_method_122_code (2 : Nat) (Option.some Jvm.ClassFile.FieldType.int)) ∈ lw_all := lw_g (lw_at lw_m6 55 rfl) rfl
theorem q1383 : (Jvm.Cond.methodLink "SagMemory" (481 : Nat) ({ cls := "java/util/ArrayList", name := "isEmpty", desc := "()Z" } : Jvm.MethodName)) ∈ lw_all := lw_g (lw_at lw_m6 56 rfl) rfl
theorem q1387 : (Jvm.Cond.methodLink "SagMemory" (484 : Nat) ({ cls := "java/util/ArrayList", name := "get", desc := "(I)Ljava/lang/Object;" } : Jvm.MethodName)) ∈ lw_all := lw_g (lw_at lw_m6 60 rfl) rfl
theorem q1392 : (Jvm.Cond.instanceMethod ({ cls := "SagMemory", name := "row", desc := "(III)I" } : Jvm.MethodName)) ∈ lw_all := lw_g (lw_at lw_m6 65 rfl) rfl
theorem q1393 : (Jvm.Cond.selects "SagMemory" ({ cls := "SagMemory", name := "row", desc := "(III)I" } : Jvm.MethodName) ({ cls := "SagMemory", name := "row", desc := "(III)I" } : Jvm.MethodName)) ∈ lw_all := lw_g (lw_at lw_m6 66 rfl) rfl
theorem q1394 : (Jvm.Cond.codeWith ({ cls := "SagMemory", name := "row", desc := "(III)I" } : Jvm.MethodName) prog_1_method_123_code (5 : Nat) (Option.some Jvm.ClassFile.FieldType.int) [((28 : Nat), (40 : Nat), (41 : Nat), (491 : Nat))]) ∈ lw_all := lw_g (lw_at lw_m6 67 rfl) rfl
theorem q1395 : (Jvm.Cond.classLink "SagMemory" (491 : Nat) "java/lang/NegativeArraySizeException") ∈ lw_all := lw_g (lw_at lw_m6 68 rfl) rfl
theorem q1422 : (Jvm.Cond.methodLink "SagMemory" (488 : Nat) ({ cls := "SagMemory$Slot", name := "make", desc := "(II)V" } : Jvm.MethodName)) ∈ lw_all := lw_g (lw_at lw_m6 95 rfl) rfl
theorem q1429 : (Jvm.Cond.instanceMethod ({ cls := "SagMemory", name := "write", desc := "(IIJ)I" } : Jvm.MethodName)) ∈ lw_all := lw_g (lw_at lw_m6 102 rfl) rfl
theorem q1430 : (Jvm.Cond.selects "SagMemory" ({ cls := "SagMemory", name := "write", desc := "(IIJ)I" } : Jvm.MethodName) ({ cls := "SagMemory", name := "write", desc := "(IIJ)I" } : Jvm.MethodName)) ∈ lw_all := lw_g (lw_at lw_m6 103 rfl) rfl
theorem q1431 : (Jvm.Cond.codeWith ({ cls := "SagMemory", name := "write", desc := "(IIJ)I" } : Jvm.MethodName) prog_1_method_124_code (6 : Nat) (Option.some Jvm.ClassFile.FieldType.int) [((10 : Nat), (22 : Nat), (23 : Nat), (345 : Nat)), ((10 : Nat), (22 : Nat), (28 : Nat), (497 : Nat))]) ∈ lw_all := lw_g (lw_at lw_m6 104 rfl) rfl
theorem q1432 : (Jvm.Cond.classLink "SagMemory" (497 : Nat) "java/lang/ArrayIndexOutOfBoundsException") ∈ lw_all := lw_g (lw_at lw_m6 105 rfl) rfl
theorem q1451 : (Jvm.Cond.methodLink "SagMemory" (493 : Nat) ({ cls := "SagMemory$Slot", name := "put", desc := "(IJ)V" } : Jvm.MethodName)) ∈ lw_all := lw_g (lw_at lw_m6 124 rfl) rfl
theorem q1456 : (Jvm.Cond.instanceMethod ({ cls := "SagMemory", name := "paste", desc := "(IIIII)I" } : Jvm.MethodName)) ∈ lw_all := lw_g (lw_at lw_m6 129 rfl) rfl
theorem q1457 : (Jvm.Cond.selects "SagMemory" ({ cls := "SagMemory", name := "paste", desc := "(IIIII)I" } : Jvm.MethodName) ({ cls := "SagMemory", name := "paste", desc := "(IIIII)I" } : Jvm.MethodName)) ∈ lw_all := lw_g (lw_at lw_m6 130 rfl) rfl
theorem q1458 : (Jvm.Cond.codeWith ({ cls := "SagMemory", name := "paste", desc := "(IIIII)I" } : Jvm.MethodName) prog_1_method_125_code (7 : Nat) (Option.some Jvm.ClassFile.FieldType.int) [((17 : Nat), (44 : Nat), (45 : Nat), (345 : Nat)), ((17 : Nat), (44 : Nat), (50 : Nat), (499 : Nat)), ((17 : Nat), (44 : Nat), (55 : Nat), (501 : Nat))]) ∈ lw_all := lw_g (lw_at lw_m6 131 rfl) rfl
theorem q1459 : (Jvm.Cond.classLink "SagMemory" (499 : Nat) "java/lang/ArrayStoreException") ∈ lw_all := lw_g (lw_at lw_m6 132 rfl) rfl
theorem q1473 : (Jvm.Cond.classLink "SagMemory" (501 : Nat) "java/lang/IndexOutOfBoundsException") ∈ lw_all := lw_g (lw_at lw_m6 146 rfl) rfl
theorem q2287 : (Jvm.Cond.castable "SagMemory" "java/lang/Object") ∈ lw_tbl := lw_at lw_m10 0 rfl
theorem in_X0 : ∀ w ∈ wsX00, w ∈ lw_all := lw_in wsX00 [404, 406, 408, 410, 412, 414, 416, 418, 420, 422, 424, 426, 428, 430, 432, 434, 436, 438, 440, 442, 444, 446, 448, 450, 452, 454, 456, 458, 460, 462, 464, 466, 468, 470, 472, 474, 476, 478, 480, 482, 484, 486, 488, 490, 492] (by decide +kernel) (by decide +kernel)
/-! SagMemory$Valley -/
set_option maxRecDepth 100000
def RX1 : String := "SagMemory$Valley"
def TX1 : u_T := fun k => match k with
  | 0 => ("SagMemory$Valley", "law", "I", false)
  | 1 => ("SagMemory$Valley", "frost", "I", false)
  | 2 => ("SagMemory$Valley", "odds", "I", false)
  | 3 => ("SagMemory$Valley", "lines", "I", false)
  | 4 => ("SagMemory$Valley", "bridges", "I", false)
  | 5 => ("SagMemory$Valley", "carts", "I", false)
  | 6 => ("SagMemory$Valley", "wards", "I", false)
  | 7 => ("SagMemory$Valley", "colds", "I", false)
  | 8 => ("SagMemory$Valley", "frosts", "I", false)
  | 9 => ("SagMemory$Valley", "acts", "I", false)
  | 10 => ("SagMemory$Valley", "holds", "[I", true)
  | 11 => ("SagMemory$Valley", "toll", "[I", true)
  | 12 => ("SagMemory$Valley", "load", "[I", true)
  | 13 => ("SagMemory$Valley", "by", "[I", true)
  | 14 => ("SagMemory$Valley", "at", "[I", true)
  | 15 => ("SagMemory$Valley", "over", "[I", true)
  | 16 => ("SagMemory$Valley", "to", "[I", true)
  | _ => ("SagMemory$Valley", "act", "[I", true)
def tyX1 : Nat → FieldType := fun k => match k with
  | 0 => .int
  | 1 => .int
  | 2 => .int
  | 3 => .int
  | 4 => .int
  | 5 => .int
  | 6 => .int
  | 7 => .int
  | 8 => .int
  | 9 => .int
  | 10 => .array .int
  | 11 => .array .int
  | 12 => .array .int
  | 13 => .array .int
  | 14 => .array .int
  | 15 => .array .int
  | 16 => .array .int
  | _ => .array .int
abbrev wsX10 : List Cond := u_ws RX1 TX1 18
set_option maxRecDepth 100000 in
theorem nmX1 : ∀ a, a < 18 → ∀ b, b < 18 → a ≠ b → (TX1 a).2.1 ≠ (TX1 b).2.1 := by decide +kernel
set_option maxRecDepth 100000 in
theorem tyX1_ok : ∀ k, k < 18 → parseFieldDescriptor (TX1 k).2.2.1 = some (tyX1 k) := by decide +kernel
abbrev cX1_init : ByteArray := prog_9_method_1_code
def yX1_init : MethodName := ⟨RX1, "<init>", "()V"⟩
def dkwX1_init_2 : List UInt8 := [181, 0, 27, 42, 8, 188, 10, 181, 0, 30, 42, 16, 30, 188, 10, 181, 0, 33, 177]
abbrev dktX1_init_2 : List UInt8 := dkwX1_init_2 ++ []
def dkwX1_init_1 : List UInt8 := [181, 0, 18, 42, 16, 7, 188, 10, 181, 0, 21, 42, 8, 188, 10, 181, 0, 24, 42, 8, 188, 10]
abbrev dktX1_init_1 : List UInt8 := dkwX1_init_1 ++ dktX1_init_2
def dkwX1_init_0 : List UInt8 := [42, 183, 0, 3, 42, 6, 188, 10, 181, 0, 9, 42, 6, 188, 10, 181, 0, 15, 42, 16, 7, 188, 10]
abbrev dktX1_init_0 : List UInt8 := dkwX1_init_0 ++ dktX1_init_1
theorem dksX1_init_0 : cX1_init.data.toList.drop 0 = dktX1_init_0 := by decide +kernel
theorem dksX1_init_1 : cX1_init.data.toList.drop 23 = dktX1_init_1 := dk_seg dksX1_init_0 23 rfl rfl
theorem dksX1_init_2 : cX1_init.data.toList.drop 45 = dktX1_init_2 := dk_seg dksX1_init_1 22 rfl rfl
theorem dX1_init_0 : decode cX1_init 0 = .ok (.aload_n 0, 1) := dk_42 (dk_at dksX1_init_0 0 rfl rfl)
theorem dX1_init_1 : decode cX1_init 1 = .ok (.invokespecial 3, 3) := dk_183 0 3 (dk_at dksX1_init_0 1 rfl rfl)
theorem dX1_init_4 : decode cX1_init 4 = .ok (.aload_n 0, 1) := dk_42 (dk_at dksX1_init_0 4 rfl rfl)
theorem dX1_init_5 : decode cX1_init 5 = .ok (.iconst 3, 1) := dk_6 (dk_at dksX1_init_0 5 rfl rfl)
theorem dX1_init_6 : decode cX1_init 6 = .ok (.newarray .int, 2) := dk_188_10 (dk_at dksX1_init_0 6 rfl rfl)
theorem dX1_init_8 : decode cX1_init 8 = .ok (.putfield 9, 3) := dk_181 0 9 (dk_at dksX1_init_0 8 rfl rfl)
theorem dX1_init_11 : decode cX1_init 11 = .ok (.aload_n 0, 1) := dk_42 (dk_at dksX1_init_0 11 rfl rfl)
theorem dX1_init_12 : decode cX1_init 12 = .ok (.iconst 3, 1) := dk_6 (dk_at dksX1_init_0 12 rfl rfl)
theorem dX1_init_13 : decode cX1_init 13 = .ok (.newarray .int, 2) := dk_188_10 (dk_at dksX1_init_0 13 rfl rfl)
theorem dX1_init_15 : decode cX1_init 15 = .ok (.putfield 15, 3) := dk_181 0 15 (dk_at dksX1_init_0 15 rfl rfl)
theorem dX1_init_18 : decode cX1_init 18 = .ok (.aload_n 0, 1) := dk_42 (dk_at dksX1_init_0 18 rfl rfl)
theorem dX1_init_19 : decode cX1_init 19 = .ok (.bipush 7, 2) := dk_16 7 (dk_at dksX1_init_0 19 rfl rfl)
theorem dX1_init_21 : decode cX1_init 21 = .ok (.newarray .int, 2) := dk_188_10 (dk_at dksX1_init_0 21 rfl rfl)
theorem dX1_init_23 : decode cX1_init 23 = .ok (.putfield 18, 3) := dk_181 0 18 (dk_at dksX1_init_1 0 rfl rfl)
theorem dX1_init_26 : decode cX1_init 26 = .ok (.aload_n 0, 1) := dk_42 (dk_at dksX1_init_1 3 rfl rfl)
theorem dX1_init_27 : decode cX1_init 27 = .ok (.bipush 7, 2) := dk_16 7 (dk_at dksX1_init_1 4 rfl rfl)
theorem dX1_init_29 : decode cX1_init 29 = .ok (.newarray .int, 2) := dk_188_10 (dk_at dksX1_init_1 6 rfl rfl)
theorem dX1_init_31 : decode cX1_init 31 = .ok (.putfield 21, 3) := dk_181 0 21 (dk_at dksX1_init_1 8 rfl rfl)
theorem dX1_init_34 : decode cX1_init 34 = .ok (.aload_n 0, 1) := dk_42 (dk_at dksX1_init_1 11 rfl rfl)
theorem dX1_init_35 : decode cX1_init 35 = .ok (.iconst 5, 1) := dk_8 (dk_at dksX1_init_1 12 rfl rfl)
theorem dX1_init_36 : decode cX1_init 36 = .ok (.newarray .int, 2) := dk_188_10 (dk_at dksX1_init_1 13 rfl rfl)
theorem dX1_init_38 : decode cX1_init 38 = .ok (.putfield 24, 3) := dk_181 0 24 (dk_at dksX1_init_1 15 rfl rfl)
theorem dX1_init_41 : decode cX1_init 41 = .ok (.aload_n 0, 1) := dk_42 (dk_at dksX1_init_1 18 rfl rfl)
theorem dX1_init_42 : decode cX1_init 42 = .ok (.iconst 5, 1) := dk_8 (dk_at dksX1_init_1 19 rfl rfl)
theorem dX1_init_43 : decode cX1_init 43 = .ok (.newarray .int, 2) := dk_188_10 (dk_at dksX1_init_1 20 rfl rfl)
theorem dX1_init_45 : decode cX1_init 45 = .ok (.putfield 27, 3) := dk_181 0 27 (dk_at dksX1_init_2 0 rfl rfl)
theorem dX1_init_48 : decode cX1_init 48 = .ok (.aload_n 0, 1) := dk_42 (dk_at dksX1_init_2 3 rfl rfl)
theorem dX1_init_49 : decode cX1_init 49 = .ok (.iconst 5, 1) := dk_8 (dk_at dksX1_init_2 4 rfl rfl)
theorem dX1_init_50 : decode cX1_init 50 = .ok (.newarray .int, 2) := dk_188_10 (dk_at dksX1_init_2 5 rfl rfl)
theorem dX1_init_52 : decode cX1_init 52 = .ok (.putfield 30, 3) := dk_181 0 30 (dk_at dksX1_init_2 7 rfl rfl)
theorem dX1_init_55 : decode cX1_init 55 = .ok (.aload_n 0, 1) := dk_42 (dk_at dksX1_init_2 10 rfl rfl)
theorem dX1_init_56 : decode cX1_init 56 = .ok (.bipush 30, 2) := dk_16 30 (dk_at dksX1_init_2 11 rfl rfl)
theorem dX1_init_58 : decode cX1_init 58 = .ok (.newarray .int, 2) := dk_188_10 (dk_at dksX1_init_2 13 rfl rfl)
theorem dX1_init_60 : decode cX1_init 60 = .ok (.putfield 33, 3) := dk_181 0 33 (dk_at dksX1_init_2 15 rfl rfl)
theorem dX1_init_63 : decode cX1_init 63 = .ok (.return_, 1) := dk_177 (dk_at dksX1_init_2 18 rfl rfl)
abbrev cX1_copy : ByteArray := prog_9_method_2_code
def yX1_copy : MethodName := ⟨RX1, "copy", "()LSagMemory$Valley;"⟩
def dkwX1_copy_8 : List UInt8 := [180, 0, 33, 3, 43, 180, 0, 33, 3, 16, 30, 184, 0, 68, 43, 176]
abbrev dktX1_copy_8 : List UInt8 := dkwX1_copy_8 ++ []
def dkwX1_copy_7 : List UInt8 := [43, 180, 0, 27, 3, 8, 184, 0, 68, 42, 180, 0, 30, 3, 43, 180, 0, 30, 3, 8, 184, 0, 68, 42]
abbrev dktX1_copy_7 : List UInt8 := dkwX1_copy_7 ++ dktX1_copy_8
def dkwX1_copy_6 : List UInt8 := [16, 7, 184, 0, 68, 42, 180, 0, 24, 3, 43, 180, 0, 24, 3, 8, 184, 0, 68, 42, 180, 0, 27, 3]
abbrev dktX1_copy_6 : List UInt8 := dkwX1_copy_6 ++ dktX1_copy_7
def dkwX1_copy_5 : List UInt8 := [180, 0, 18, 3, 43, 180, 0, 18, 3, 16, 7, 184, 0, 68, 42, 180, 0, 21, 3, 43, 180, 0, 21, 3]
abbrev dktX1_copy_5 : List UInt8 := dkwX1_copy_5 ++ dktX1_copy_6
def dkwX1_copy_4 : List UInt8 := [180, 0, 9, 3, 6, 184, 0, 68, 42, 180, 0, 15, 3, 43, 180, 0, 15, 3, 6, 184, 0, 68, 42]
abbrev dktX1_copy_4 : List UInt8 := dkwX1_copy_4 ++ dktX1_copy_5
def dkwX1_copy_3 : List UInt8 := [43, 42, 180, 0, 62, 181, 0, 62, 43, 42, 180, 0, 65, 181, 0, 65, 42, 180, 0, 9, 3, 43]
abbrev dktX1_copy_3 : List UInt8 := dkwX1_copy_3 ++ dktX1_copy_4
def dkwX1_copy_2 : List UInt8 := [43, 42, 180, 0, 53, 181, 0, 53, 43, 42, 180, 0, 56, 181, 0, 56, 43, 42, 180, 0, 59, 181, 0, 59]
abbrev dktX1_copy_2 : List UInt8 := dkwX1_copy_2 ++ dktX1_copy_3
def dkwX1_copy_1 : List UInt8 := [43, 42, 180, 0, 44, 181, 0, 44, 43, 42, 180, 0, 47, 181, 0, 47, 43, 42, 180, 0, 50, 181, 0, 50]
abbrev dktX1_copy_1 : List UInt8 := dkwX1_copy_1 ++ dktX1_copy_2
def dkwX1_copy_0 : List UInt8 := [187, 0, 10, 89, 183, 0, 36, 76, 43, 42, 180, 0, 37, 181, 0, 37, 43, 42, 180, 0, 41, 181, 0, 41]
abbrev dktX1_copy_0 : List UInt8 := dkwX1_copy_0 ++ dktX1_copy_1
theorem dksX1_copy_0 : cX1_copy.data.toList.drop 0 = dktX1_copy_0 := by decide +kernel
theorem dksX1_copy_1 : cX1_copy.data.toList.drop 24 = dktX1_copy_1 := dk_seg dksX1_copy_0 24 rfl rfl
theorem dksX1_copy_2 : cX1_copy.data.toList.drop 48 = dktX1_copy_2 := dk_seg dksX1_copy_1 24 rfl rfl
theorem dksX1_copy_3 : cX1_copy.data.toList.drop 72 = dktX1_copy_3 := dk_seg dksX1_copy_2 24 rfl rfl
theorem dksX1_copy_4 : cX1_copy.data.toList.drop 94 = dktX1_copy_4 := dk_seg dksX1_copy_3 22 rfl rfl
theorem dksX1_copy_5 : cX1_copy.data.toList.drop 117 = dktX1_copy_5 := dk_seg dksX1_copy_4 23 rfl rfl
theorem dksX1_copy_6 : cX1_copy.data.toList.drop 141 = dktX1_copy_6 := dk_seg dksX1_copy_5 24 rfl rfl
theorem dksX1_copy_7 : cX1_copy.data.toList.drop 165 = dktX1_copy_7 := dk_seg dksX1_copy_6 24 rfl rfl
theorem dksX1_copy_8 : cX1_copy.data.toList.drop 189 = dktX1_copy_8 := dk_seg dksX1_copy_7 24 rfl rfl
theorem dX1_copy_0 : decode cX1_copy 0 = .ok (.new 10, 3) := dk_187 0 10 (dk_at dksX1_copy_0 0 rfl rfl)
theorem dX1_copy_3 : decode cX1_copy 3 = .ok (.dup, 1) := dk_89 (dk_at dksX1_copy_0 3 rfl rfl)
theorem dX1_copy_4 : decode cX1_copy 4 = .ok (.invokespecial 36, 3) := dk_183 0 36 (dk_at dksX1_copy_0 4 rfl rfl)
theorem dX1_copy_7 : decode cX1_copy 7 = .ok (.astore_n 1, 1) := dk_76 (dk_at dksX1_copy_0 7 rfl rfl)
theorem dX1_copy_8 : decode cX1_copy 8 = .ok (.aload_n 1, 1) := dk_43 (dk_at dksX1_copy_0 8 rfl rfl)
theorem dX1_copy_9 : decode cX1_copy 9 = .ok (.aload_n 0, 1) := dk_42 (dk_at dksX1_copy_0 9 rfl rfl)
theorem dX1_copy_10 : decode cX1_copy 10 = .ok (.getfield 37, 3) := dk_180 0 37 (dk_at dksX1_copy_0 10 rfl rfl)
theorem dX1_copy_13 : decode cX1_copy 13 = .ok (.putfield 37, 3) := dk_181 0 37 (dk_at dksX1_copy_0 13 rfl rfl)
theorem dX1_copy_16 : decode cX1_copy 16 = .ok (.aload_n 1, 1) := dk_43 (dk_at dksX1_copy_0 16 rfl rfl)
theorem dX1_copy_17 : decode cX1_copy 17 = .ok (.aload_n 0, 1) := dk_42 (dk_at dksX1_copy_0 17 rfl rfl)
theorem dX1_copy_18 : decode cX1_copy 18 = .ok (.getfield 41, 3) := dk_180 0 41 (dk_at dksX1_copy_0 18 rfl rfl)
theorem dX1_copy_21 : decode cX1_copy 21 = .ok (.putfield 41, 3) := dk_181 0 41 (dk_at dksX1_copy_0 21 rfl rfl)
theorem dX1_copy_24 : decode cX1_copy 24 = .ok (.aload_n 1, 1) := dk_43 (dk_at dksX1_copy_1 0 rfl rfl)
theorem dX1_copy_25 : decode cX1_copy 25 = .ok (.aload_n 0, 1) := dk_42 (dk_at dksX1_copy_1 1 rfl rfl)
theorem dX1_copy_26 : decode cX1_copy 26 = .ok (.getfield 44, 3) := dk_180 0 44 (dk_at dksX1_copy_1 2 rfl rfl)
theorem dX1_copy_29 : decode cX1_copy 29 = .ok (.putfield 44, 3) := dk_181 0 44 (dk_at dksX1_copy_1 5 rfl rfl)
theorem dX1_copy_32 : decode cX1_copy 32 = .ok (.aload_n 1, 1) := dk_43 (dk_at dksX1_copy_1 8 rfl rfl)
theorem dX1_copy_33 : decode cX1_copy 33 = .ok (.aload_n 0, 1) := dk_42 (dk_at dksX1_copy_1 9 rfl rfl)
theorem dX1_copy_34 : decode cX1_copy 34 = .ok (.getfield 47, 3) := dk_180 0 47 (dk_at dksX1_copy_1 10 rfl rfl)
theorem dX1_copy_37 : decode cX1_copy 37 = .ok (.putfield 47, 3) := dk_181 0 47 (dk_at dksX1_copy_1 13 rfl rfl)
theorem dX1_copy_40 : decode cX1_copy 40 = .ok (.aload_n 1, 1) := dk_43 (dk_at dksX1_copy_1 16 rfl rfl)
theorem dX1_copy_41 : decode cX1_copy 41 = .ok (.aload_n 0, 1) := dk_42 (dk_at dksX1_copy_1 17 rfl rfl)
theorem dX1_copy_42 : decode cX1_copy 42 = .ok (.getfield 50, 3) := dk_180 0 50 (dk_at dksX1_copy_1 18 rfl rfl)
theorem dX1_copy_45 : decode cX1_copy 45 = .ok (.putfield 50, 3) := dk_181 0 50 (dk_at dksX1_copy_1 21 rfl rfl)
theorem dX1_copy_48 : decode cX1_copy 48 = .ok (.aload_n 1, 1) := dk_43 (dk_at dksX1_copy_2 0 rfl rfl)
theorem dX1_copy_49 : decode cX1_copy 49 = .ok (.aload_n 0, 1) := dk_42 (dk_at dksX1_copy_2 1 rfl rfl)
theorem dX1_copy_50 : decode cX1_copy 50 = .ok (.getfield 53, 3) := dk_180 0 53 (dk_at dksX1_copy_2 2 rfl rfl)
theorem dX1_copy_53 : decode cX1_copy 53 = .ok (.putfield 53, 3) := dk_181 0 53 (dk_at dksX1_copy_2 5 rfl rfl)
theorem dX1_copy_56 : decode cX1_copy 56 = .ok (.aload_n 1, 1) := dk_43 (dk_at dksX1_copy_2 8 rfl rfl)
theorem dX1_copy_57 : decode cX1_copy 57 = .ok (.aload_n 0, 1) := dk_42 (dk_at dksX1_copy_2 9 rfl rfl)
theorem dX1_copy_58 : decode cX1_copy 58 = .ok (.getfield 56, 3) := dk_180 0 56 (dk_at dksX1_copy_2 10 rfl rfl)
theorem dX1_copy_61 : decode cX1_copy 61 = .ok (.putfield 56, 3) := dk_181 0 56 (dk_at dksX1_copy_2 13 rfl rfl)
theorem dX1_copy_64 : decode cX1_copy 64 = .ok (.aload_n 1, 1) := dk_43 (dk_at dksX1_copy_2 16 rfl rfl)
theorem dX1_copy_65 : decode cX1_copy 65 = .ok (.aload_n 0, 1) := dk_42 (dk_at dksX1_copy_2 17 rfl rfl)
theorem dX1_copy_66 : decode cX1_copy 66 = .ok (.getfield 59, 3) := dk_180 0 59 (dk_at dksX1_copy_2 18 rfl rfl)
theorem dX1_copy_69 : decode cX1_copy 69 = .ok (.putfield 59, 3) := dk_181 0 59 (dk_at dksX1_copy_2 21 rfl rfl)
theorem dX1_copy_72 : decode cX1_copy 72 = .ok (.aload_n 1, 1) := dk_43 (dk_at dksX1_copy_3 0 rfl rfl)
theorem dX1_copy_73 : decode cX1_copy 73 = .ok (.aload_n 0, 1) := dk_42 (dk_at dksX1_copy_3 1 rfl rfl)
theorem dX1_copy_74 : decode cX1_copy 74 = .ok (.getfield 62, 3) := dk_180 0 62 (dk_at dksX1_copy_3 2 rfl rfl)
theorem dX1_copy_77 : decode cX1_copy 77 = .ok (.putfield 62, 3) := dk_181 0 62 (dk_at dksX1_copy_3 5 rfl rfl)
theorem dX1_copy_80 : decode cX1_copy 80 = .ok (.aload_n 1, 1) := dk_43 (dk_at dksX1_copy_3 8 rfl rfl)
theorem dX1_copy_81 : decode cX1_copy 81 = .ok (.aload_n 0, 1) := dk_42 (dk_at dksX1_copy_3 9 rfl rfl)
theorem dX1_copy_82 : decode cX1_copy 82 = .ok (.getfield 65, 3) := dk_180 0 65 (dk_at dksX1_copy_3 10 rfl rfl)
theorem dX1_copy_85 : decode cX1_copy 85 = .ok (.putfield 65, 3) := dk_181 0 65 (dk_at dksX1_copy_3 13 rfl rfl)
theorem dX1_copy_88 : decode cX1_copy 88 = .ok (.aload_n 0, 1) := dk_42 (dk_at dksX1_copy_3 16 rfl rfl)
theorem dX1_copy_89 : decode cX1_copy 89 = .ok (.getfield 9, 3) := dk_180 0 9 (dk_at dksX1_copy_3 17 rfl rfl)
theorem dX1_copy_92 : decode cX1_copy 92 = .ok (.iconst 0, 1) := dk_3 (dk_at dksX1_copy_3 20 rfl rfl)
theorem dX1_copy_93 : decode cX1_copy 93 = .ok (.aload_n 1, 1) := dk_43 (dk_at dksX1_copy_3 21 rfl rfl)
theorem dX1_copy_94 : decode cX1_copy 94 = .ok (.getfield 9, 3) := dk_180 0 9 (dk_at dksX1_copy_4 0 rfl rfl)
theorem dX1_copy_97 : decode cX1_copy 97 = .ok (.iconst 0, 1) := dk_3 (dk_at dksX1_copy_4 3 rfl rfl)
theorem dX1_copy_98 : decode cX1_copy 98 = .ok (.iconst 3, 1) := dk_6 (dk_at dksX1_copy_4 4 rfl rfl)
theorem dX1_copy_99 : decode cX1_copy 99 = .ok (.invokestatic 68, 3) := dk_184 0 68 (dk_at dksX1_copy_4 5 rfl rfl)
theorem dX1_copy_102 : decode cX1_copy 102 = .ok (.aload_n 0, 1) := dk_42 (dk_at dksX1_copy_4 8 rfl rfl)
theorem dX1_copy_103 : decode cX1_copy 103 = .ok (.getfield 15, 3) := dk_180 0 15 (dk_at dksX1_copy_4 9 rfl rfl)
theorem dX1_copy_106 : decode cX1_copy 106 = .ok (.iconst 0, 1) := dk_3 (dk_at dksX1_copy_4 12 rfl rfl)
theorem dX1_copy_107 : decode cX1_copy 107 = .ok (.aload_n 1, 1) := dk_43 (dk_at dksX1_copy_4 13 rfl rfl)
theorem dX1_copy_108 : decode cX1_copy 108 = .ok (.getfield 15, 3) := dk_180 0 15 (dk_at dksX1_copy_4 14 rfl rfl)
theorem dX1_copy_111 : decode cX1_copy 111 = .ok (.iconst 0, 1) := dk_3 (dk_at dksX1_copy_4 17 rfl rfl)
theorem dX1_copy_112 : decode cX1_copy 112 = .ok (.iconst 3, 1) := dk_6 (dk_at dksX1_copy_4 18 rfl rfl)
theorem dX1_copy_113 : decode cX1_copy 113 = .ok (.invokestatic 68, 3) := dk_184 0 68 (dk_at dksX1_copy_4 19 rfl rfl)
theorem dX1_copy_116 : decode cX1_copy 116 = .ok (.aload_n 0, 1) := dk_42 (dk_at dksX1_copy_4 22 rfl rfl)
theorem dX1_copy_117 : decode cX1_copy 117 = .ok (.getfield 18, 3) := dk_180 0 18 (dk_at dksX1_copy_5 0 rfl rfl)
theorem dX1_copy_120 : decode cX1_copy 120 = .ok (.iconst 0, 1) := dk_3 (dk_at dksX1_copy_5 3 rfl rfl)
theorem dX1_copy_121 : decode cX1_copy 121 = .ok (.aload_n 1, 1) := dk_43 (dk_at dksX1_copy_5 4 rfl rfl)
theorem dX1_copy_122 : decode cX1_copy 122 = .ok (.getfield 18, 3) := dk_180 0 18 (dk_at dksX1_copy_5 5 rfl rfl)
theorem dX1_copy_125 : decode cX1_copy 125 = .ok (.iconst 0, 1) := dk_3 (dk_at dksX1_copy_5 8 rfl rfl)
theorem dX1_copy_126 : decode cX1_copy 126 = .ok (.bipush 7, 2) := dk_16 7 (dk_at dksX1_copy_5 9 rfl rfl)
theorem dX1_copy_128 : decode cX1_copy 128 = .ok (.invokestatic 68, 3) := dk_184 0 68 (dk_at dksX1_copy_5 11 rfl rfl)
theorem dX1_copy_131 : decode cX1_copy 131 = .ok (.aload_n 0, 1) := dk_42 (dk_at dksX1_copy_5 14 rfl rfl)
theorem dX1_copy_132 : decode cX1_copy 132 = .ok (.getfield 21, 3) := dk_180 0 21 (dk_at dksX1_copy_5 15 rfl rfl)
theorem dX1_copy_135 : decode cX1_copy 135 = .ok (.iconst 0, 1) := dk_3 (dk_at dksX1_copy_5 18 rfl rfl)
theorem dX1_copy_136 : decode cX1_copy 136 = .ok (.aload_n 1, 1) := dk_43 (dk_at dksX1_copy_5 19 rfl rfl)
theorem dX1_copy_137 : decode cX1_copy 137 = .ok (.getfield 21, 3) := dk_180 0 21 (dk_at dksX1_copy_5 20 rfl rfl)
theorem dX1_copy_140 : decode cX1_copy 140 = .ok (.iconst 0, 1) := dk_3 (dk_at dksX1_copy_5 23 rfl rfl)
theorem dX1_copy_141 : decode cX1_copy 141 = .ok (.bipush 7, 2) := dk_16 7 (dk_at dksX1_copy_6 0 rfl rfl)
theorem dX1_copy_143 : decode cX1_copy 143 = .ok (.invokestatic 68, 3) := dk_184 0 68 (dk_at dksX1_copy_6 2 rfl rfl)
theorem dX1_copy_146 : decode cX1_copy 146 = .ok (.aload_n 0, 1) := dk_42 (dk_at dksX1_copy_6 5 rfl rfl)
theorem dX1_copy_147 : decode cX1_copy 147 = .ok (.getfield 24, 3) := dk_180 0 24 (dk_at dksX1_copy_6 6 rfl rfl)
theorem dX1_copy_150 : decode cX1_copy 150 = .ok (.iconst 0, 1) := dk_3 (dk_at dksX1_copy_6 9 rfl rfl)
theorem dX1_copy_151 : decode cX1_copy 151 = .ok (.aload_n 1, 1) := dk_43 (dk_at dksX1_copy_6 10 rfl rfl)
theorem dX1_copy_152 : decode cX1_copy 152 = .ok (.getfield 24, 3) := dk_180 0 24 (dk_at dksX1_copy_6 11 rfl rfl)
theorem dX1_copy_155 : decode cX1_copy 155 = .ok (.iconst 0, 1) := dk_3 (dk_at dksX1_copy_6 14 rfl rfl)
theorem dX1_copy_156 : decode cX1_copy 156 = .ok (.iconst 5, 1) := dk_8 (dk_at dksX1_copy_6 15 rfl rfl)
theorem dX1_copy_157 : decode cX1_copy 157 = .ok (.invokestatic 68, 3) := dk_184 0 68 (dk_at dksX1_copy_6 16 rfl rfl)
theorem dX1_copy_160 : decode cX1_copy 160 = .ok (.aload_n 0, 1) := dk_42 (dk_at dksX1_copy_6 19 rfl rfl)
theorem dX1_copy_161 : decode cX1_copy 161 = .ok (.getfield 27, 3) := dk_180 0 27 (dk_at dksX1_copy_6 20 rfl rfl)
theorem dX1_copy_164 : decode cX1_copy 164 = .ok (.iconst 0, 1) := dk_3 (dk_at dksX1_copy_6 23 rfl rfl)
theorem dX1_copy_165 : decode cX1_copy 165 = .ok (.aload_n 1, 1) := dk_43 (dk_at dksX1_copy_7 0 rfl rfl)
theorem dX1_copy_166 : decode cX1_copy 166 = .ok (.getfield 27, 3) := dk_180 0 27 (dk_at dksX1_copy_7 1 rfl rfl)
theorem dX1_copy_169 : decode cX1_copy 169 = .ok (.iconst 0, 1) := dk_3 (dk_at dksX1_copy_7 4 rfl rfl)
theorem dX1_copy_170 : decode cX1_copy 170 = .ok (.iconst 5, 1) := dk_8 (dk_at dksX1_copy_7 5 rfl rfl)
theorem dX1_copy_171 : decode cX1_copy 171 = .ok (.invokestatic 68, 3) := dk_184 0 68 (dk_at dksX1_copy_7 6 rfl rfl)
theorem dX1_copy_174 : decode cX1_copy 174 = .ok (.aload_n 0, 1) := dk_42 (dk_at dksX1_copy_7 9 rfl rfl)
theorem dX1_copy_175 : decode cX1_copy 175 = .ok (.getfield 30, 3) := dk_180 0 30 (dk_at dksX1_copy_7 10 rfl rfl)
theorem dX1_copy_178 : decode cX1_copy 178 = .ok (.iconst 0, 1) := dk_3 (dk_at dksX1_copy_7 13 rfl rfl)
theorem dX1_copy_179 : decode cX1_copy 179 = .ok (.aload_n 1, 1) := dk_43 (dk_at dksX1_copy_7 14 rfl rfl)
theorem dX1_copy_180 : decode cX1_copy 180 = .ok (.getfield 30, 3) := dk_180 0 30 (dk_at dksX1_copy_7 15 rfl rfl)
theorem dX1_copy_183 : decode cX1_copy 183 = .ok (.iconst 0, 1) := dk_3 (dk_at dksX1_copy_7 18 rfl rfl)
theorem dX1_copy_184 : decode cX1_copy 184 = .ok (.iconst 5, 1) := dk_8 (dk_at dksX1_copy_7 19 rfl rfl)
theorem dX1_copy_185 : decode cX1_copy 185 = .ok (.invokestatic 68, 3) := dk_184 0 68 (dk_at dksX1_copy_7 20 rfl rfl)
theorem dX1_copy_188 : decode cX1_copy 188 = .ok (.aload_n 0, 1) := dk_42 (dk_at dksX1_copy_7 23 rfl rfl)
theorem dX1_copy_189 : decode cX1_copy 189 = .ok (.getfield 33, 3) := dk_180 0 33 (dk_at dksX1_copy_8 0 rfl rfl)
theorem dX1_copy_192 : decode cX1_copy 192 = .ok (.iconst 0, 1) := dk_3 (dk_at dksX1_copy_8 3 rfl rfl)
theorem dX1_copy_193 : decode cX1_copy 193 = .ok (.aload_n 1, 1) := dk_43 (dk_at dksX1_copy_8 4 rfl rfl)
theorem dX1_copy_194 : decode cX1_copy 194 = .ok (.getfield 33, 3) := dk_180 0 33 (dk_at dksX1_copy_8 5 rfl rfl)
theorem dX1_copy_197 : decode cX1_copy 197 = .ok (.iconst 0, 1) := dk_3 (dk_at dksX1_copy_8 8 rfl rfl)
theorem dX1_copy_198 : decode cX1_copy 198 = .ok (.bipush 30, 2) := dk_16 30 (dk_at dksX1_copy_8 9 rfl rfl)
theorem dX1_copy_200 : decode cX1_copy 200 = .ok (.invokestatic 68, 3) := dk_184 0 68 (dk_at dksX1_copy_8 11 rfl rfl)
theorem dX1_copy_203 : decode cX1_copy 203 = .ok (.aload_n 1, 1) := dk_43 (dk_at dksX1_copy_8 14 rfl rfl)
theorem dX1_copy_204 : decode cX1_copy 204 = .ok (.areturn, 1) := dk_176 (dk_at dksX1_copy_8 15 rfl rfl)
theorem q129 : (Jvm.Cond.initialized "SagMemory$Valley") ∈ lw_all := lw_g (lw_at lw_m1 2 rfl) rfl
theorem q170 : (Jvm.Cond.instantiable "SagMemory$Valley" (18 : Nat)) ∈ lw_all := lw_g (lw_at lw_m1 43 rfl) rfl
theorem q172 : (Jvm.Cond.instanceMethod ({ cls := "SagMemory$Valley", name := "<init>", desc := "()V" } : Jvm.MethodName)) ∈ lw_all := lw_g (lw_at lw_m1 45 rfl) rfl
theorem q173 : (Jvm.Cond.code ({ cls := "SagMemory$Valley", name := "<init>", desc := "()V" } : Jvm.MethodName) prog_9_method_1_code (1 : Nat) (Option.none : Option Jvm.ClassFile.FieldType)) ∈ lw_all := lw_g (lw_at lw_m1 46 rfl) rfl
theorem q174 : (Jvm.Cond.methodLink "SagMemory$Valley" (3 : Nat) ({ cls := "java/lang/Object", name := "<init>", desc := "()V" } : Jvm.MethodName)) ∈ lw_all := lw_g (lw_at lw_m1 47 rfl) rfl
theorem q175 : (Jvm.Cond.fieldLink "SagMemory$Valley" (37 : Nat) "SagMemory$Valley" "law" "I") ∈ lw_all := lw_g (lw_at lw_m1 48 rfl) rfl
theorem q178 : (Jvm.Cond.fieldLink "SagMemory$Valley" (41 : Nat) "SagMemory$Valley" "frost" "I") ∈ lw_all := lw_g (lw_at lw_m1 51 rfl) rfl
theorem q181 : (Jvm.Cond.fieldLink "SagMemory$Valley" (44 : Nat) "SagMemory$Valley" "odds" "I") ∈ lw_all := lw_g (lw_at lw_m1 54 rfl) rfl
theorem q184 : (Jvm.Cond.fieldLink "SagMemory$Valley" (47 : Nat) "SagMemory$Valley" "lines" "I") ∈ lw_all := lw_g (lw_at lw_m1 57 rfl) rfl
theorem q187 : (Jvm.Cond.fieldLink "SagMemory$Valley" (50 : Nat) "SagMemory$Valley" "bridges" "I") ∈ lw_all := lw_g (lw_at lw_m1 60 rfl) rfl
theorem q190 : (Jvm.Cond.fieldLink "SagMemory$Valley" (53 : Nat) "SagMemory$Valley" "carts" "I") ∈ lw_all := lw_g (lw_at lw_m1 63 rfl) rfl
theorem q193 : (Jvm.Cond.fieldLink "SagMemory$Valley" (56 : Nat) "SagMemory$Valley" "wards" "I") ∈ lw_all := lw_g (lw_at lw_m1 66 rfl) rfl
theorem q196 : (Jvm.Cond.fieldLink "SagMemory$Valley" (59 : Nat) "SagMemory$Valley" "colds" "I") ∈ lw_all := lw_g (lw_at lw_m1 69 rfl) rfl
theorem q199 : (Jvm.Cond.fieldLink "SagMemory$Valley" (62 : Nat) "SagMemory$Valley" "frosts" "I") ∈ lw_all := lw_g (lw_at lw_m1 72 rfl) rfl
theorem q202 : (Jvm.Cond.fieldLink "SagMemory$Valley" (65 : Nat) "SagMemory$Valley" "acts" "I") ∈ lw_all := lw_g (lw_at lw_m1 75 rfl) rfl
theorem q204 : (Jvm.Cond.fieldLink "SagMemory$Valley" (9 : Nat) "SagMemory$Valley" "holds" "[I") ∈ lw_all := lw_g (lw_at lw_m1 77 rfl) rfl
theorem q207 : (Jvm.Cond.fieldLink "SagMemory$Valley" (15 : Nat) "SagMemory$Valley" "toll" "[I") ∈ lw_all := lw_g (lw_at lw_m1 80 rfl) rfl
theorem q210 : (Jvm.Cond.fieldLink "SagMemory$Valley" (18 : Nat) "SagMemory$Valley" "load" "[I") ∈ lw_all := lw_g (lw_at lw_m1 83 rfl) rfl
theorem q213 : (Jvm.Cond.fieldLink "SagMemory$Valley" (21 : Nat) "SagMemory$Valley" "by" "[I") ∈ lw_all := lw_g (lw_at lw_m1 86 rfl) rfl
theorem q216 : (Jvm.Cond.fieldLink "SagMemory$Valley" (24 : Nat) "SagMemory$Valley" "at" "[I") ∈ lw_all := lw_g (lw_at lw_m1 89 rfl) rfl
theorem q219 : (Jvm.Cond.fieldLink "SagMemory$Valley" (27 : Nat) "SagMemory$Valley" "over" "[I") ∈ lw_all := lw_g (lw_at lw_m1 92 rfl) rfl
theorem q222 : (Jvm.Cond.fieldLink "SagMemory$Valley" (30 : Nat) "SagMemory$Valley" "to" "[I") ∈ lw_all := lw_g (lw_at lw_m1 95 rfl) rfl
theorem q225 : (Jvm.Cond.fieldLink "SagMemory$Valley" (33 : Nat) "SagMemory$Valley" "act" "[I") ∈ lw_all := lw_g (lw_at lw_m1 98 rfl) rfl
theorem q227 : (Jvm.Cond.lays "SagMemory$Valley" "SagMemory$Valley" "law" "I") ∈ lw_all := lw_g (lw_at lw_m1 100 rfl) rfl
theorem q228 : (Jvm.Cond.soleField "SagMemory$Valley" "law") ∈ lw_all := lw_g (lw_at lw_m1 101 rfl) rfl
theorem q229 : (Jvm.Cond.lays "SagMemory$Valley" "SagMemory$Valley" "frost" "I") ∈ lw_all := lw_g (lw_at lw_m1 102 rfl) rfl
theorem q230 : (Jvm.Cond.soleField "SagMemory$Valley" "frost") ∈ lw_all := lw_g (lw_at lw_m1 103 rfl) rfl
theorem q231 : (Jvm.Cond.lays "SagMemory$Valley" "SagMemory$Valley" "odds" "I") ∈ lw_all := lw_g (lw_at lw_m1 104 rfl) rfl
theorem q232 : (Jvm.Cond.soleField "SagMemory$Valley" "odds") ∈ lw_all := lw_g (lw_at lw_m1 105 rfl) rfl
theorem q233 : (Jvm.Cond.lays "SagMemory$Valley" "SagMemory$Valley" "lines" "I") ∈ lw_all := lw_g (lw_at lw_m1 106 rfl) rfl
theorem q234 : (Jvm.Cond.soleField "SagMemory$Valley" "lines") ∈ lw_all := lw_g (lw_at lw_m1 107 rfl) rfl
theorem q235 : (Jvm.Cond.lays "SagMemory$Valley" "SagMemory$Valley" "bridges" "I") ∈ lw_all := lw_g (lw_at lw_m1 108 rfl) rfl
theorem q236 : (Jvm.Cond.soleField "SagMemory$Valley" "bridges") ∈ lw_all := lw_g (lw_at lw_m1 109 rfl) rfl
theorem q237 : (Jvm.Cond.lays "SagMemory$Valley" "SagMemory$Valley" "carts" "I") ∈ lw_all := lw_g (lw_at lw_m1 110 rfl) rfl
theorem q238 : (Jvm.Cond.soleField "SagMemory$Valley" "carts") ∈ lw_all := lw_g (lw_at lw_m1 111 rfl) rfl
theorem q239 : (Jvm.Cond.lays "SagMemory$Valley" "SagMemory$Valley" "wards" "I") ∈ lw_all := lw_g (lw_at lw_m1 112 rfl) rfl
theorem q240 : (Jvm.Cond.soleField "SagMemory$Valley" "wards") ∈ lw_all := lw_g (lw_at lw_m1 113 rfl) rfl
theorem q241 : (Jvm.Cond.lays "SagMemory$Valley" "SagMemory$Valley" "colds" "I") ∈ lw_all := lw_g (lw_at lw_m1 114 rfl) rfl
theorem q242 : (Jvm.Cond.soleField "SagMemory$Valley" "colds") ∈ lw_all := lw_g (lw_at lw_m1 115 rfl) rfl
theorem q243 : (Jvm.Cond.lays "SagMemory$Valley" "SagMemory$Valley" "frosts" "I") ∈ lw_all := lw_g (lw_at lw_m1 116 rfl) rfl
theorem q244 : (Jvm.Cond.soleField "SagMemory$Valley" "frosts") ∈ lw_all := lw_g (lw_at lw_m1 117 rfl) rfl
theorem q245 : (Jvm.Cond.lays "SagMemory$Valley" "SagMemory$Valley" "acts" "I") ∈ lw_all := lw_g (lw_at lw_m1 118 rfl) rfl
theorem q246 : (Jvm.Cond.soleField "SagMemory$Valley" "acts") ∈ lw_all := lw_g (lw_at lw_m1 119 rfl) rfl
theorem q247 : (Jvm.Cond.laysFinal "SagMemory$Valley" "SagMemory$Valley" "holds" "[I") ∈ lw_all := lw_g (lw_at lw_m1 120 rfl) rfl
theorem q248 : (Jvm.Cond.soleField "SagMemory$Valley" "holds") ∈ lw_all := lw_g (lw_at lw_m1 121 rfl) rfl
theorem q249 : (Jvm.Cond.laysFinal "SagMemory$Valley" "SagMemory$Valley" "toll" "[I") ∈ lw_all := lw_g (lw_at lw_m1 122 rfl) rfl
theorem q250 : (Jvm.Cond.soleField "SagMemory$Valley" "toll") ∈ lw_all := lw_g (lw_at lw_m1 123 rfl) rfl
theorem q251 : (Jvm.Cond.laysFinal "SagMemory$Valley" "SagMemory$Valley" "load" "[I") ∈ lw_all := lw_g (lw_at lw_m1 124 rfl) rfl
theorem q252 : (Jvm.Cond.soleField "SagMemory$Valley" "load") ∈ lw_all := lw_g (lw_at lw_m1 125 rfl) rfl
theorem q253 : (Jvm.Cond.laysFinal "SagMemory$Valley" "SagMemory$Valley" "by" "[I") ∈ lw_all := lw_g (lw_at lw_m1 126 rfl) rfl
theorem q254 : (Jvm.Cond.soleField "SagMemory$Valley" "by") ∈ lw_all := lw_g (lw_at lw_m1 127 rfl) rfl
theorem q255 : (Jvm.Cond.laysFinal "SagMemory$Valley" "SagMemory$Valley" "at" "[I") ∈ lw_all := lw_g (lw_at lw_m1 128 rfl) rfl
theorem q256 : (Jvm.Cond.soleField "SagMemory$Valley" "at") ∈ lw_all := lw_g (lw_at lw_m1 129 rfl) rfl
theorem q257 : (Jvm.Cond.laysFinal "SagMemory$Valley" "SagMemory$Valley" "over" "[I") ∈ lw_all := lw_g (lw_at lw_m1 130 rfl) rfl
theorem q258 : (Jvm.Cond.soleField "SagMemory$Valley" "over") ∈ lw_all := lw_g (lw_at lw_m1 131 rfl) rfl
theorem q259 : (Jvm.Cond.laysFinal "SagMemory$Valley" "SagMemory$Valley" "to" "[I") ∈ lw_all := lw_g (lw_at lw_m1 132 rfl) rfl
theorem q260 : (Jvm.Cond.soleField "SagMemory$Valley" "to") ∈ lw_all := lw_g (lw_at lw_m1 133 rfl) rfl
theorem q261 : (Jvm.Cond.laysFinal "SagMemory$Valley" "SagMemory$Valley" "act" "[I") ∈ lw_all := lw_g (lw_at lw_m1 134 rfl) rfl
theorem q262 : (Jvm.Cond.soleField "SagMemory$Valley" "act") ∈ lw_all := lw_g (lw_at lw_m1 135 rfl) rfl
theorem q263 : (Jvm.Cond.superclass "SagMemory$Valley" "java/lang/Object") ∈ lw_all := lw_g (lw_at lw_m1 136 rfl) rfl
theorem q1341 : (Jvm.Cond.selects "SagMemory$Valley" ({ cls := "java/lang/Object", name := "getClass", desc := "()Ljava/lang/Class;" } : Jvm.MethodName) ({ cls := "java/lang/Object", name := "getClass", desc := "()Ljava/lang/Class;" } : Jvm.MethodName)) ∈ lw_all := lw_g (lw_at lw_m6 14 rfl) rfl
theorem q1361 : (Jvm.Cond.instanceMethod ({ cls := "SagMemory$Valley", name := "copy", desc := "()LSagMemory$Valley;" } : Jvm.MethodName)) ∈ lw_all := lw_g (lw_at lw_m6 34 rfl) rfl
theorem q1362 : (Jvm.Cond.selects "SagMemory$Valley" ({ cls := "SagMemory$Valley", name := "copy", desc := "()LSagMemory$Valley;" } : Jvm.MethodName) ({ cls := "SagMemory$Valley", name := "copy", desc := "()LSagMemory$Valley;" } : Jvm.MethodName)) ∈ lw_all := lw_g (lw_at lw_m6 35 rfl) rfl
theorem q1363 : (Jvm.Cond.code ({ cls := "SagMemory$Valley", name := "copy", desc := "()LSagMemory$Valley;" } : Jvm.MethodName) prog_9_method_2_code (2 : Nat) (Option.some (Jvm.ClassFile.FieldType.object "SagMemory$Valley"))) ∈ lw_all := lw_g (lw_at lw_m6 36 rfl) rfl
theorem q1364 : (Jvm.Cond.classLink "SagMemory$Valley" (10 : Nat) "SagMemory$Valley") ∈ lw_all := lw_g (lw_at lw_m6 37 rfl) rfl
theorem q1365 : (Jvm.Cond.methodLink "SagMemory$Valley" (36 : Nat) ({ cls := "SagMemory$Valley", name := "<init>", desc := "()V" } : Jvm.MethodName)) ∈ lw_all := lw_g (lw_at lw_m6 38 rfl) rfl
theorem q1366 : (Jvm.Cond.methodLink "SagMemory$Valley" (68 : Nat) ({ cls := "java/lang/System", name := "arraycopy", desc := "(Ljava/lang/Object;ILjava/lang/Object;II)V" } : Jvm.MethodName)) ∈ lw_all := lw_g (lw_at lw_m6 39 rfl) rfl
theorem q2288 : (Jvm.Cond.castable "SagMemory$Valley" "java/lang/Object") ∈ lw_tbl := lw_at lw_m10 1 rfl
theorem in_X1 : ∀ w ∈ wsX10, w ∈ lw_all := lw_in wsX10 [227, 229, 231, 233, 235, 237, 239, 241, 243, 245, 247, 249, 251, 253, 255, 257, 259, 261] (by decide +kernel) (by decide +kernel)
/-! SagMemory$Wiping -/
set_option maxRecDepth 100000
def RX2 : String := "SagMemory$Wiping"
def TX2 : u_T := fun k => match k with
  | _ => ("SagMemory$Wiping", "this$0", "LSagMemory;", true)
def tyX2 : Nat → FieldType := fun k => match k with
  | _ => .object "SagMemory"
abbrev wsX20 : List Cond := u_ws RX2 TX2 1
theorem nmX2 : ∀ a, a < 1 → ∀ b, b < 1 → a ≠ b → (TX2 a).2.1 ≠ (TX2 b).2.1 := by decide +kernel
theorem tyX2_ok : ∀ k, k < 1 → parseFieldDescriptor (TX2 k).2.2.1 = some (tyX2 k) := by decide +kernel
abbrev cX2_init : ByteArray := prog_10_method_1_code
def yX2_init : MethodName := ⟨RX2, "<init>", "(LSagMemory;)V"⟩
def dkwX2_init_0 : List UInt8 := [42, 43, 181, 0, 3, 42, 183, 0, 9, 177]
abbrev dktX2_init_0 : List UInt8 := dkwX2_init_0 ++ []
theorem dksX2_init_0 : cX2_init.data.toList.drop 0 = dktX2_init_0 := by decide +kernel
theorem dX2_init_0 : decode cX2_init 0 = .ok (.aload_n 0, 1) := dk_42 (dk_at dksX2_init_0 0 rfl rfl)
theorem dX2_init_1 : decode cX2_init 1 = .ok (.aload_n 1, 1) := dk_43 (dk_at dksX2_init_0 1 rfl rfl)
theorem dX2_init_2 : decode cX2_init 2 = .ok (.putfield 3, 3) := dk_181 0 3 (dk_at dksX2_init_0 2 rfl rfl)
theorem dX2_init_5 : decode cX2_init 5 = .ok (.aload_n 0, 1) := dk_42 (dk_at dksX2_init_0 5 rfl rfl)
theorem dX2_init_6 : decode cX2_init 6 = .ok (.invokespecial 9, 3) := dk_183 0 9 (dk_at dksX2_init_0 6 rfl rfl)
theorem dX2_init_9 : decode cX2_init 9 = .ok (.return_, 1) := dk_177 (dk_at dksX2_init_0 9 rfl rfl)
abbrev cX2_goes : ByteArray := prog_10_method_2_code
def yX2_goes : MethodName := ⟨RX2, "goes", "(III)V"⟩
def dkwX2_goes_4 : List UInt8 := [46, 96, 29, 79, 42, 180, 0, 3, 180, 0, 15, 27, 92, 46, 4, 96, 79, 177]
abbrev dktX2_goes_4 : List UInt8 := dkwX2_goes_4 ++ []
def dkwX2_goes_3 : List UInt8 := [27, 46, 96, 28, 79, 42, 180, 0, 3, 180, 0, 30, 16, 8, 27, 104, 42, 180, 0, 3, 180, 0, 15, 27]
abbrev dktX2_goes_3 : List UInt8 := dkwX2_goes_3 ++ dktX2_goes_4
def dkwX2_goes_2 : List UInt8 := [181, 0, 23, 167, 255, 206, 42, 180, 0, 3, 180, 0, 27, 16, 8, 27, 104, 42, 180, 0, 3, 180, 0, 15]
abbrev dktX2_goes_2 : List UInt8 := dkwX2_goes_2 ++ dktX2_goes_3
def dkwX2_goes_1 : List UInt8 := [42, 180, 0, 3, 180, 0, 15, 27, 92, 46, 4, 100, 79, 42, 180, 0, 3, 89, 180, 0, 23, 4, 96]
abbrev dktX2_goes_1 : List UInt8 := dkwX2_goes_1 ++ dktX2_goes_2
def dkwX2_goes_0 : List UInt8 := [42, 180, 0, 3, 180, 0, 15, 27, 46, 158, 0, 44, 42, 180, 0, 3, 27, 182, 0, 19, 28, 163, 0, 32]
abbrev dktX2_goes_0 : List UInt8 := dkwX2_goes_0 ++ dktX2_goes_1
theorem dksX2_goes_0 : cX2_goes.data.toList.drop 0 = dktX2_goes_0 := by decide +kernel
theorem dksX2_goes_1 : cX2_goes.data.toList.drop 24 = dktX2_goes_1 := dk_seg dksX2_goes_0 24 rfl rfl
theorem dksX2_goes_2 : cX2_goes.data.toList.drop 47 = dktX2_goes_2 := dk_seg dksX2_goes_1 23 rfl rfl
theorem dksX2_goes_3 : cX2_goes.data.toList.drop 71 = dktX2_goes_3 := dk_seg dksX2_goes_2 24 rfl rfl
theorem dksX2_goes_4 : cX2_goes.data.toList.drop 95 = dktX2_goes_4 := dk_seg dksX2_goes_3 24 rfl rfl
theorem dX2_goes_0 : decode cX2_goes 0 = .ok (.aload_n 0, 1) := dk_42 (dk_at dksX2_goes_0 0 rfl rfl)
theorem dX2_goes_1 : decode cX2_goes 1 = .ok (.getfield 3, 3) := dk_180 0 3 (dk_at dksX2_goes_0 1 rfl rfl)
theorem dX2_goes_4 : decode cX2_goes 4 = .ok (.getfield 15, 3) := dk_180 0 15 (dk_at dksX2_goes_0 4 rfl rfl)
theorem dX2_goes_7 : decode cX2_goes 7 = .ok (.iload_n 1, 1) := dk_27 (dk_at dksX2_goes_0 7 rfl rfl)
theorem dX2_goes_8 : decode cX2_goes 8 = .ok (.iaload, 1) := dk_46 (dk_at dksX2_goes_0 8 rfl rfl)
theorem dX2_goes_9 : decode cX2_goes 9 = .ok (.ifCond .le 44, 3) := dk_158 0 44 (dk_at dksX2_goes_0 9 rfl rfl)
theorem dX2_goes_12 : decode cX2_goes 12 = .ok (.aload_n 0, 1) := dk_42 (dk_at dksX2_goes_0 12 rfl rfl)
theorem dX2_goes_13 : decode cX2_goes 13 = .ok (.getfield 3, 3) := dk_180 0 3 (dk_at dksX2_goes_0 13 rfl rfl)
theorem dX2_goes_16 : decode cX2_goes 16 = .ok (.iload_n 1, 1) := dk_27 (dk_at dksX2_goes_0 16 rfl rfl)
theorem dX2_goes_17 : decode cX2_goes 17 = .ok (.invokevirtual 19, 3) := dk_182 0 19 (dk_at dksX2_goes_0 17 rfl rfl)
theorem dX2_goes_20 : decode cX2_goes 20 = .ok (.iload_n 2, 1) := dk_28 (dk_at dksX2_goes_0 20 rfl rfl)
theorem dX2_goes_21 : decode cX2_goes 21 = .ok (.if_icmp .gt 32, 3) := dk_163 0 32 (dk_at dksX2_goes_0 21 rfl rfl)
theorem dX2_goes_24 : decode cX2_goes 24 = .ok (.aload_n 0, 1) := dk_42 (dk_at dksX2_goes_1 0 rfl rfl)
theorem dX2_goes_25 : decode cX2_goes 25 = .ok (.getfield 3, 3) := dk_180 0 3 (dk_at dksX2_goes_1 1 rfl rfl)
theorem dX2_goes_28 : decode cX2_goes 28 = .ok (.getfield 15, 3) := dk_180 0 15 (dk_at dksX2_goes_1 4 rfl rfl)
theorem dX2_goes_31 : decode cX2_goes 31 = .ok (.iload_n 1, 1) := dk_27 (dk_at dksX2_goes_1 7 rfl rfl)
theorem dX2_goes_32 : decode cX2_goes 32 = .ok (.dup2, 1) := dk_92 (dk_at dksX2_goes_1 8 rfl rfl)
theorem dX2_goes_33 : decode cX2_goes 33 = .ok (.iaload, 1) := dk_46 (dk_at dksX2_goes_1 9 rfl rfl)
theorem dX2_goes_34 : decode cX2_goes 34 = .ok (.iconst 1, 1) := dk_4 (dk_at dksX2_goes_1 10 rfl rfl)
theorem dX2_goes_35 : decode cX2_goes 35 = .ok (.isub, 1) := dk_100 (dk_at dksX2_goes_1 11 rfl rfl)
theorem dX2_goes_36 : decode cX2_goes 36 = .ok (.iastore, 1) := dk_79 (dk_at dksX2_goes_1 12 rfl rfl)
theorem dX2_goes_37 : decode cX2_goes 37 = .ok (.aload_n 0, 1) := dk_42 (dk_at dksX2_goes_1 13 rfl rfl)
theorem dX2_goes_38 : decode cX2_goes 38 = .ok (.getfield 3, 3) := dk_180 0 3 (dk_at dksX2_goes_1 14 rfl rfl)
theorem dX2_goes_41 : decode cX2_goes 41 = .ok (.dup, 1) := dk_89 (dk_at dksX2_goes_1 17 rfl rfl)
theorem dX2_goes_42 : decode cX2_goes 42 = .ok (.getfield 23, 3) := dk_180 0 23 (dk_at dksX2_goes_1 18 rfl rfl)
theorem dX2_goes_45 : decode cX2_goes 45 = .ok (.iconst 1, 1) := dk_4 (dk_at dksX2_goes_1 21 rfl rfl)
theorem dX2_goes_46 : decode cX2_goes 46 = .ok (.iadd, 1) := dk_96 (dk_at dksX2_goes_1 22 rfl rfl)
theorem dX2_goes_47 : decode cX2_goes 47 = .ok (.putfield 23, 3) := dk_181 0 23 (dk_at dksX2_goes_2 0 rfl rfl)
theorem dX2_goes_50 : decode cX2_goes 50 = .ok (.goto (-50), 3) := dk_167 255 206 (dk_at dksX2_goes_2 3 rfl rfl)
theorem dX2_goes_53 : decode cX2_goes 53 = .ok (.aload_n 0, 1) := dk_42 (dk_at dksX2_goes_2 6 rfl rfl)
theorem dX2_goes_54 : decode cX2_goes 54 = .ok (.getfield 3, 3) := dk_180 0 3 (dk_at dksX2_goes_2 7 rfl rfl)
theorem dX2_goes_57 : decode cX2_goes 57 = .ok (.getfield 27, 3) := dk_180 0 27 (dk_at dksX2_goes_2 10 rfl rfl)
theorem dX2_goes_60 : decode cX2_goes 60 = .ok (.bipush 8, 2) := dk_16 8 (dk_at dksX2_goes_2 13 rfl rfl)
theorem dX2_goes_62 : decode cX2_goes 62 = .ok (.iload_n 1, 1) := dk_27 (dk_at dksX2_goes_2 15 rfl rfl)
theorem dX2_goes_63 : decode cX2_goes 63 = .ok (.imul, 1) := dk_104 (dk_at dksX2_goes_2 16 rfl rfl)
theorem dX2_goes_64 : decode cX2_goes 64 = .ok (.aload_n 0, 1) := dk_42 (dk_at dksX2_goes_2 17 rfl rfl)
theorem dX2_goes_65 : decode cX2_goes 65 = .ok (.getfield 3, 3) := dk_180 0 3 (dk_at dksX2_goes_2 18 rfl rfl)
theorem dX2_goes_68 : decode cX2_goes 68 = .ok (.getfield 15, 3) := dk_180 0 15 (dk_at dksX2_goes_2 21 rfl rfl)
theorem dX2_goes_71 : decode cX2_goes 71 = .ok (.iload_n 1, 1) := dk_27 (dk_at dksX2_goes_3 0 rfl rfl)
theorem dX2_goes_72 : decode cX2_goes 72 = .ok (.iaload, 1) := dk_46 (dk_at dksX2_goes_3 1 rfl rfl)
theorem dX2_goes_73 : decode cX2_goes 73 = .ok (.iadd, 1) := dk_96 (dk_at dksX2_goes_3 2 rfl rfl)
theorem dX2_goes_74 : decode cX2_goes 74 = .ok (.iload_n 2, 1) := dk_28 (dk_at dksX2_goes_3 3 rfl rfl)
theorem dX2_goes_75 : decode cX2_goes 75 = .ok (.iastore, 1) := dk_79 (dk_at dksX2_goes_3 4 rfl rfl)
theorem dX2_goes_76 : decode cX2_goes 76 = .ok (.aload_n 0, 1) := dk_42 (dk_at dksX2_goes_3 5 rfl rfl)
theorem dX2_goes_77 : decode cX2_goes 77 = .ok (.getfield 3, 3) := dk_180 0 3 (dk_at dksX2_goes_3 6 rfl rfl)
theorem dX2_goes_80 : decode cX2_goes 80 = .ok (.getfield 30, 3) := dk_180 0 30 (dk_at dksX2_goes_3 9 rfl rfl)
theorem dX2_goes_83 : decode cX2_goes 83 = .ok (.bipush 8, 2) := dk_16 8 (dk_at dksX2_goes_3 12 rfl rfl)
theorem dX2_goes_85 : decode cX2_goes 85 = .ok (.iload_n 1, 1) := dk_27 (dk_at dksX2_goes_3 14 rfl rfl)
theorem dX2_goes_86 : decode cX2_goes 86 = .ok (.imul, 1) := dk_104 (dk_at dksX2_goes_3 15 rfl rfl)
theorem dX2_goes_87 : decode cX2_goes 87 = .ok (.aload_n 0, 1) := dk_42 (dk_at dksX2_goes_3 16 rfl rfl)
theorem dX2_goes_88 : decode cX2_goes 88 = .ok (.getfield 3, 3) := dk_180 0 3 (dk_at dksX2_goes_3 17 rfl rfl)
theorem dX2_goes_91 : decode cX2_goes 91 = .ok (.getfield 15, 3) := dk_180 0 15 (dk_at dksX2_goes_3 20 rfl rfl)
theorem dX2_goes_94 : decode cX2_goes 94 = .ok (.iload_n 1, 1) := dk_27 (dk_at dksX2_goes_3 23 rfl rfl)
theorem dX2_goes_95 : decode cX2_goes 95 = .ok (.iaload, 1) := dk_46 (dk_at dksX2_goes_4 0 rfl rfl)
theorem dX2_goes_96 : decode cX2_goes 96 = .ok (.iadd, 1) := dk_96 (dk_at dksX2_goes_4 1 rfl rfl)
theorem dX2_goes_97 : decode cX2_goes 97 = .ok (.iload_n 3, 1) := dk_29 (dk_at dksX2_goes_4 2 rfl rfl)
theorem dX2_goes_98 : decode cX2_goes 98 = .ok (.iastore, 1) := dk_79 (dk_at dksX2_goes_4 3 rfl rfl)
theorem dX2_goes_99 : decode cX2_goes 99 = .ok (.aload_n 0, 1) := dk_42 (dk_at dksX2_goes_4 4 rfl rfl)
theorem dX2_goes_100 : decode cX2_goes 100 = .ok (.getfield 3, 3) := dk_180 0 3 (dk_at dksX2_goes_4 5 rfl rfl)
theorem dX2_goes_103 : decode cX2_goes 103 = .ok (.getfield 15, 3) := dk_180 0 15 (dk_at dksX2_goes_4 8 rfl rfl)
theorem dX2_goes_106 : decode cX2_goes 106 = .ok (.iload_n 1, 1) := dk_27 (dk_at dksX2_goes_4 11 rfl rfl)
theorem dX2_goes_107 : decode cX2_goes 107 = .ok (.dup2, 1) := dk_92 (dk_at dksX2_goes_4 12 rfl rfl)
theorem dX2_goes_108 : decode cX2_goes 108 = .ok (.iaload, 1) := dk_46 (dk_at dksX2_goes_4 13 rfl rfl)
theorem dX2_goes_109 : decode cX2_goes 109 = .ok (.iconst 1, 1) := dk_4 (dk_at dksX2_goes_4 14 rfl rfl)
theorem dX2_goes_110 : decode cX2_goes 110 = .ok (.iadd, 1) := dk_96 (dk_at dksX2_goes_4 15 rfl rfl)
theorem dX2_goes_111 : decode cX2_goes 111 = .ok (.iastore, 1) := dk_79 (dk_at dksX2_goes_4 16 rfl rfl)
theorem dX2_goes_112 : decode cX2_goes 112 = .ok (.return_, 1) := dk_177 (dk_at dksX2_goes_4 17 rfl rfl)
theorem q130 : (Jvm.Cond.initialized "SagMemory$Wiping") ∈ lw_all := lw_g (lw_at lw_m1 3 rfl) rfl
theorem q267 : (Jvm.Cond.instantiable "SagMemory$Wiping" (1 : Nat)) ∈ lw_all := lw_g (lw_at lw_m1 140 rfl) rfl
theorem q269 : (Jvm.Cond.instanceMethod ({ cls := "SagMemory$Wiping", name := "<init>", desc := "(LSagMemory;)V" } : Jvm.MethodName)) ∈ lw_all := lw_g (lw_at lw_m1 142 rfl) rfl
theorem q270 : (Jvm.Cond.code ({ cls := "SagMemory$Wiping", name := "<init>", desc := "(LSagMemory;)V" } : Jvm.MethodName) prog_10_method_1_code (2 : Nat) (Option.none : Option Jvm.ClassFile.FieldType)) ∈ lw_all := lw_g (lw_at lw_m1 143 rfl) rfl
theorem q271 : (Jvm.Cond.methodLink "SagMemory$Wiping" (9 : Nat) ({ cls := "java/lang/Object", name := "<init>", desc := "()V" } : Jvm.MethodName)) ∈ lw_all := lw_g (lw_at lw_m1 144 rfl) rfl
theorem q272 : (Jvm.Cond.fieldLink "SagMemory$Wiping" (3 : Nat) "SagMemory$Wiping" "this$0" "LSagMemory;") ∈ lw_all := lw_g (lw_at lw_m1 145 rfl) rfl
theorem q273 : (Jvm.Cond.laysFinal "SagMemory$Wiping" "SagMemory$Wiping" "this$0" "LSagMemory;") ∈ lw_all := lw_g (lw_at lw_m1 146 rfl) rfl
theorem q274 : (Jvm.Cond.soleField "SagMemory$Wiping" "this$0") ∈ lw_all := lw_g (lw_at lw_m1 147 rfl) rfl
theorem q275 : (Jvm.Cond.superclass "SagMemory$Wiping" "java/lang/Object") ∈ lw_all := lw_g (lw_at lw_m1 148 rfl) rfl
theorem q356 : (Jvm.Cond.fieldLinkNest "SagMemory$Wiping" (27 : Nat) "SagMemory" "kept" "[I" "SagMemory") ∈ lw_tbl := lw_at lw_m1 229 rfl
theorem q358 : (Jvm.Cond.fieldLinkNest "SagMemory$Wiping" (30 : Nat) "SagMemory" "from" "[I" "SagMemory") ∈ lw_tbl := lw_at lw_m1 231 rfl
theorem q360 : (Jvm.Cond.fieldLinkNest "SagMemory$Wiping" (15 : Nat) "SagMemory" "many" "[I" "SagMemory") ∈ lw_tbl := lw_at lw_m1 233 rfl
theorem q365 : (Jvm.Cond.fieldLinkNest "SagMemory$Wiping" (23 : Nat) "SagMemory" "wiped" "I" "SagMemory") ∈ lw_tbl := lw_at lw_m1 238 rfl
theorem q839 : (Jvm.Cond.instanceMethod ({ cls := "SagMemory$Wiping", name := "goes", desc := "(III)V" } : Jvm.MethodName)) ∈ lw_all := lw_g (lw_at lw_m3 232 rfl) rfl
theorem q840 : (Jvm.Cond.selects "SagMemory$Wiping" ({ cls := "SagMemory$Wiping", name := "goes", desc := "(III)V" } : Jvm.MethodName) ({ cls := "SagMemory$Wiping", name := "goes", desc := "(III)V" } : Jvm.MethodName)) ∈ lw_all := lw_g (lw_at lw_m3 233 rfl) rfl
theorem q841 : (Jvm.Cond.sameMethod "SagMemory$Wiping" "SagMemory$Wiping" "goes" "(III)V") ∈ lw_all := lw_g (lw_at lw_m3 234 rfl) rfl
theorem q850 : (Jvm.Cond.code ({ cls := "SagMemory$Wiping", name := "goes", desc := "(III)V" } : Jvm.MethodName) prog_10_method_2_code (4 : Nat) (Option.none : Option Jvm.ClassFile.FieldType)) ∈ lw_all := lw_g (lw_at lw_m4 3 rfl) rfl
theorem q851 : (Jvm.Cond.methodLinkNest "SagMemory$Wiping" (19 : Nat) ({ cls := "SagMemory", name := "lastOf", desc := "(I)I" } : Jvm.MethodName) "SagMemory") ∈ lw_tbl := lw_at lw_m4 4 rfl
theorem q1342 : (Jvm.Cond.selects "SagMemory$Wiping" ({ cls := "java/lang/Object", name := "getClass", desc := "()Ljava/lang/Class;" } : Jvm.MethodName) ({ cls := "java/lang/Object", name := "getClass", desc := "()Ljava/lang/Class;" } : Jvm.MethodName)) ∈ lw_all := lw_g (lw_at lw_m6 15 rfl) rfl
theorem q2285 : (Jvm.Cond.castable "SagMemory$Wiping" "java/lang/Object") ∈ lw_tbl := lw_at lw_m9 238 rfl
theorem in_X2 : ∀ w ∈ wsX20, w ∈ lw_all := lw_in wsX20 [273] (by decide +kernel) (by decide +kernel)
/-! SagMemory$Lighter -/
set_option maxRecDepth 100000
def RX3 : String := "SagMemory$Lighter"
def TX3 : u_T := fun k => match k with
  | 0 => ("SagMemory$Wiping", "this$0", "LSagMemory;", true)
  | _ => ("SagMemory$Lighter", "this$0", "LSagMemory;", true)
def tyX3 : Nat → FieldType := fun k => match k with
  | 0 => .object "SagMemory"
  | _ => .object "SagMemory"
abbrev wsX30 : List Cond := u_ws RX3 TX3 2
-- two fields of one name: no nmX3
theorem tyX3_ok : ∀ k, k < 2 → parseFieldDescriptor (TX3 k).2.2.1 = some (tyX3 k) := by decide +kernel
abbrev cX3_init : ByteArray := prog_5_method_1_code
def yX3_init : MethodName := ⟨RX3, "<init>", "(LSagMemory;)V"⟩
def dkwX3_init_0 : List UInt8 := [42, 43, 181, 0, 1, 42, 43, 183, 0, 7, 177]
abbrev dktX3_init_0 : List UInt8 := dkwX3_init_0 ++ []
theorem dksX3_init_0 : cX3_init.data.toList.drop 0 = dktX3_init_0 := by decide +kernel
theorem dX3_init_0 : decode cX3_init 0 = .ok (.aload_n 0, 1) := dk_42 (dk_at dksX3_init_0 0 rfl rfl)
theorem dX3_init_1 : decode cX3_init 1 = .ok (.aload_n 1, 1) := dk_43 (dk_at dksX3_init_0 1 rfl rfl)
theorem dX3_init_2 : decode cX3_init 2 = .ok (.putfield 1, 3) := dk_181 0 1 (dk_at dksX3_init_0 2 rfl rfl)
theorem dX3_init_5 : decode cX3_init 5 = .ok (.aload_n 0, 1) := dk_42 (dk_at dksX3_init_0 5 rfl rfl)
theorem dX3_init_6 : decode cX3_init 6 = .ok (.aload_n 1, 1) := dk_43 (dk_at dksX3_init_0 6 rfl rfl)
theorem dX3_init_7 : decode cX3_init 7 = .ok (.invokespecial 7, 3) := dk_183 0 7 (dk_at dksX3_init_0 7 rfl rfl)
theorem dX3_init_10 : decode cX3_init 10 = .ok (.return_, 1) := dk_177 (dk_at dksX3_init_0 10 rfl rfl)
abbrev cX3_goes : ByteArray := prog_5_method_2_code
def yX3_goes : MethodName := ⟨RX3, "goes", "(III)V"⟩
def dkwX3_goes_2 : List UInt8 := [181, 0, 27, 177]
abbrev dktX3_goes_2 : List UInt8 := dkwX3_goes_2 ++ []
def dkwX3_goes_1 : List UInt8 := [180, 0, 1, 180, 0, 23, 27, 92, 46, 4, 100, 79, 42, 180, 0, 1, 89, 180, 0, 27, 4, 96]
abbrev dktX3_goes_1 : List UInt8 := dkwX3_goes_1 ++ dktX3_goes_2
def dkwX3_goes_0 : List UInt8 := [5, 28, 104, 42, 180, 0, 1, 27, 182, 0, 13, 161, 0, 11, 42, 27, 28, 29, 183, 0, 19, 177, 42]
abbrev dktX3_goes_0 : List UInt8 := dkwX3_goes_0 ++ dktX3_goes_1
theorem dksX3_goes_0 : cX3_goes.data.toList.drop 0 = dktX3_goes_0 := by decide +kernel
theorem dksX3_goes_1 : cX3_goes.data.toList.drop 23 = dktX3_goes_1 := dk_seg dksX3_goes_0 23 rfl rfl
theorem dksX3_goes_2 : cX3_goes.data.toList.drop 45 = dktX3_goes_2 := dk_seg dksX3_goes_1 22 rfl rfl
theorem dX3_goes_0 : decode cX3_goes 0 = .ok (.iconst 2, 1) := dk_5 (dk_at dksX3_goes_0 0 rfl rfl)
theorem dX3_goes_1 : decode cX3_goes 1 = .ok (.iload_n 2, 1) := dk_28 (dk_at dksX3_goes_0 1 rfl rfl)
theorem dX3_goes_2 : decode cX3_goes 2 = .ok (.imul, 1) := dk_104 (dk_at dksX3_goes_0 2 rfl rfl)
theorem dX3_goes_3 : decode cX3_goes 3 = .ok (.aload_n 0, 1) := dk_42 (dk_at dksX3_goes_0 3 rfl rfl)
theorem dX3_goes_4 : decode cX3_goes 4 = .ok (.getfield 1, 3) := dk_180 0 1 (dk_at dksX3_goes_0 4 rfl rfl)
theorem dX3_goes_7 : decode cX3_goes 7 = .ok (.iload_n 1, 1) := dk_27 (dk_at dksX3_goes_0 7 rfl rfl)
theorem dX3_goes_8 : decode cX3_goes 8 = .ok (.invokevirtual 13, 3) := dk_182 0 13 (dk_at dksX3_goes_0 8 rfl rfl)
theorem dX3_goes_11 : decode cX3_goes 11 = .ok (.if_icmp .lt 11, 3) := dk_161 0 11 (dk_at dksX3_goes_0 11 rfl rfl)
theorem dX3_goes_14 : decode cX3_goes 14 = .ok (.aload_n 0, 1) := dk_42 (dk_at dksX3_goes_0 14 rfl rfl)
theorem dX3_goes_15 : decode cX3_goes 15 = .ok (.iload_n 1, 1) := dk_27 (dk_at dksX3_goes_0 15 rfl rfl)
theorem dX3_goes_16 : decode cX3_goes 16 = .ok (.iload_n 2, 1) := dk_28 (dk_at dksX3_goes_0 16 rfl rfl)
theorem dX3_goes_17 : decode cX3_goes 17 = .ok (.iload_n 3, 1) := dk_29 (dk_at dksX3_goes_0 17 rfl rfl)
theorem dX3_goes_18 : decode cX3_goes 18 = .ok (.invokespecial 19, 3) := dk_183 0 19 (dk_at dksX3_goes_0 18 rfl rfl)
theorem dX3_goes_21 : decode cX3_goes 21 = .ok (.return_, 1) := dk_177 (dk_at dksX3_goes_0 21 rfl rfl)
theorem dX3_goes_22 : decode cX3_goes 22 = .ok (.aload_n 0, 1) := dk_42 (dk_at dksX3_goes_0 22 rfl rfl)
theorem dX3_goes_23 : decode cX3_goes 23 = .ok (.getfield 1, 3) := dk_180 0 1 (dk_at dksX3_goes_1 0 rfl rfl)
theorem dX3_goes_26 : decode cX3_goes 26 = .ok (.getfield 23, 3) := dk_180 0 23 (dk_at dksX3_goes_1 3 rfl rfl)
theorem dX3_goes_29 : decode cX3_goes 29 = .ok (.iload_n 1, 1) := dk_27 (dk_at dksX3_goes_1 6 rfl rfl)
theorem dX3_goes_30 : decode cX3_goes 30 = .ok (.dup2, 1) := dk_92 (dk_at dksX3_goes_1 7 rfl rfl)
theorem dX3_goes_31 : decode cX3_goes 31 = .ok (.iaload, 1) := dk_46 (dk_at dksX3_goes_1 8 rfl rfl)
theorem dX3_goes_32 : decode cX3_goes 32 = .ok (.iconst 1, 1) := dk_4 (dk_at dksX3_goes_1 9 rfl rfl)
theorem dX3_goes_33 : decode cX3_goes 33 = .ok (.isub, 1) := dk_100 (dk_at dksX3_goes_1 10 rfl rfl)
theorem dX3_goes_34 : decode cX3_goes 34 = .ok (.iastore, 1) := dk_79 (dk_at dksX3_goes_1 11 rfl rfl)
theorem dX3_goes_35 : decode cX3_goes 35 = .ok (.aload_n 0, 1) := dk_42 (dk_at dksX3_goes_1 12 rfl rfl)
theorem dX3_goes_36 : decode cX3_goes 36 = .ok (.getfield 1, 3) := dk_180 0 1 (dk_at dksX3_goes_1 13 rfl rfl)
theorem dX3_goes_39 : decode cX3_goes 39 = .ok (.dup, 1) := dk_89 (dk_at dksX3_goes_1 16 rfl rfl)
theorem dX3_goes_40 : decode cX3_goes 40 = .ok (.getfield 27, 3) := dk_180 0 27 (dk_at dksX3_goes_1 17 rfl rfl)
theorem dX3_goes_43 : decode cX3_goes 43 = .ok (.iconst 1, 1) := dk_4 (dk_at dksX3_goes_1 20 rfl rfl)
theorem dX3_goes_44 : decode cX3_goes 44 = .ok (.iadd, 1) := dk_96 (dk_at dksX3_goes_1 21 rfl rfl)
theorem dX3_goes_45 : decode cX3_goes 45 = .ok (.putfield 27, 3) := dk_181 0 27 (dk_at dksX3_goes_2 0 rfl rfl)
theorem dX3_goes_48 : decode cX3_goes 48 = .ok (.return_, 1) := dk_177 (dk_at dksX3_goes_2 3 rfl rfl)
theorem q131 : (Jvm.Cond.initialized "SagMemory$Lighter") ∈ lw_all := lw_g (lw_at lw_m1 4 rfl) rfl
theorem q278 : (Jvm.Cond.instantiable "SagMemory$Lighter" (2 : Nat)) ∈ lw_all := lw_g (lw_at lw_m1 151 rfl) rfl
theorem q280 : (Jvm.Cond.instanceMethod ({ cls := "SagMemory$Lighter", name := "<init>", desc := "(LSagMemory;)V" } : Jvm.MethodName)) ∈ lw_all := lw_g (lw_at lw_m1 153 rfl) rfl
theorem q281 : (Jvm.Cond.code ({ cls := "SagMemory$Lighter", name := "<init>", desc := "(LSagMemory;)V" } : Jvm.MethodName) prog_5_method_1_code (2 : Nat) (Option.none : Option Jvm.ClassFile.FieldType)) ∈ lw_all := lw_g (lw_at lw_m1 154 rfl) rfl
theorem q282 : (Jvm.Cond.methodLinkNest "SagMemory$Lighter" (7 : Nat) ({ cls := "SagMemory$Wiping", name := "<init>", desc := "(LSagMemory;)V" } : Jvm.MethodName) "SagMemory") ∈ lw_tbl := lw_at lw_m1 155 rfl
theorem q283 : (Jvm.Cond.fieldLink "SagMemory$Lighter" (1 : Nat) "SagMemory$Lighter" "this$0" "LSagMemory;") ∈ lw_all := lw_g (lw_at lw_m1 156 rfl) rfl
theorem q284 : (Jvm.Cond.laysFinal "SagMemory$Lighter" "SagMemory$Lighter" "this$0" "LSagMemory;") ∈ lw_all := lw_g (lw_at lw_m1 157 rfl) rfl
theorem q285 : (Jvm.Cond.soleField "SagMemory$Lighter" "this$0") ∈ lw_all := lw_g (lw_at lw_m1 158 rfl) rfl
theorem q286 : (Jvm.Cond.laysFinal "SagMemory$Lighter" "SagMemory$Wiping" "this$0" "LSagMemory;") ∈ lw_all := lw_g (lw_at lw_m1 159 rfl) rfl
theorem q287 : (Jvm.Cond.superclass "SagMemory$Lighter" "SagMemory$Wiping") ∈ lw_all := lw_g (lw_at lw_m1 160 rfl) rfl
theorem q362 : (Jvm.Cond.fieldLinkNest "SagMemory$Lighter" (23 : Nat) "SagMemory" "many" "[I" "SagMemory") ∈ lw_tbl := lw_at lw_m1 235 rfl
theorem q364 : (Jvm.Cond.fieldLinkNest "SagMemory$Lighter" (27 : Nat) "SagMemory" "wiped" "I" "SagMemory") ∈ lw_tbl := lw_at lw_m1 237 rfl
theorem q852 : (Jvm.Cond.instanceMethod ({ cls := "SagMemory$Lighter", name := "goes", desc := "(III)V" } : Jvm.MethodName)) ∈ lw_all := lw_g (lw_at lw_m4 5 rfl) rfl
theorem q853 : (Jvm.Cond.code ({ cls := "SagMemory$Lighter", name := "goes", desc := "(III)V" } : Jvm.MethodName) prog_5_method_2_code (4 : Nat) (Option.none : Option Jvm.ClassFile.FieldType)) ∈ lw_all := lw_g (lw_at lw_m4 6 rfl) rfl
theorem q854 : (Jvm.Cond.methodLinkNest "SagMemory$Lighter" (13 : Nat) ({ cls := "SagMemory", name := "lastOf", desc := "(I)I" } : Jvm.MethodName) "SagMemory") ∈ lw_tbl := lw_at lw_m4 7 rfl
theorem q855 : (Jvm.Cond.methodLink "SagMemory$Lighter" (19 : Nat) ({ cls := "SagMemory$Wiping", name := "goes", desc := "(III)V" } : Jvm.MethodName)) ∈ lw_all := lw_g (lw_at lw_m4 8 rfl) rfl
theorem q858 : (Jvm.Cond.selects "SagMemory$Lighter" ({ cls := "SagMemory$Wiping", name := "goes", desc := "(III)V" } : Jvm.MethodName) ({ cls := "SagMemory$Lighter", name := "goes", desc := "(III)V" } : Jvm.MethodName)) ∈ lw_all := lw_g (lw_at lw_m4 11 rfl) rfl
theorem q1337 : (Jvm.Cond.selects "SagMemory$Lighter" ({ cls := "java/lang/Object", name := "getClass", desc := "()Ljava/lang/Class;" } : Jvm.MethodName) ({ cls := "java/lang/Object", name := "getClass", desc := "()Ljava/lang/Class;" } : Jvm.MethodName)) ∈ lw_all := lw_g (lw_at lw_m6 10 rfl) rfl
theorem q2282 : (Jvm.Cond.sameMethod "SagMemory$Lighter" "SagMemory$Lighter" "goes" "(III)V") ∈ lw_all := lw_g (lw_at lw_m9 235 rfl) rfl
theorem q2289 : (Jvm.Cond.castable "SagMemory$Lighter" "java/lang/Object") ∈ lw_tbl := lw_at lw_m10 2 rfl
theorem q2303 : (Jvm.Cond.castable "SagMemory$Lighter" "SagMemory$Wiping") ∈ lw_tbl := lw_at lw_m10 16 rfl
theorem in_X3 : ∀ w ∈ wsX30, w ∈ lw_all := lw_in wsX30 [286, 284] (by decide +kernel) (by decide +kernel)
/-! SagMemory$Half -/
set_option maxRecDepth 100000
def RX4 : String := "SagMemory$Half"
def TX4 : u_T := fun k => match k with
  | 0 => ("SagMemory$Wiping", "this$0", "LSagMemory;", true)
  | _ => ("SagMemory$Half", "this$0", "LSagMemory;", true)
def tyX4 : Nat → FieldType := fun k => match k with
  | 0 => .object "SagMemory"
  | _ => .object "SagMemory"
abbrev wsX40 : List Cond := u_ws RX4 TX4 2
-- two fields of one name: no nmX4
theorem tyX4_ok : ∀ k, k < 2 → parseFieldDescriptor (TX4 k).2.2.1 = some (tyX4 k) := by decide +kernel
abbrev cX4_init : ByteArray := prog_4_method_1_code
def yX4_init : MethodName := ⟨RX4, "<init>", "(LSagMemory;)V"⟩
def dkwX4_init_0 : List UInt8 := [42, 43, 181, 0, 1, 42, 43, 183, 0, 7, 177]
abbrev dktX4_init_0 : List UInt8 := dkwX4_init_0 ++ []
theorem dksX4_init_0 : cX4_init.data.toList.drop 0 = dktX4_init_0 := by decide +kernel
theorem dX4_init_0 : decode cX4_init 0 = .ok (.aload_n 0, 1) := dk_42 (dk_at dksX4_init_0 0 rfl rfl)
theorem dX4_init_1 : decode cX4_init 1 = .ok (.aload_n 1, 1) := dk_43 (dk_at dksX4_init_0 1 rfl rfl)
theorem dX4_init_2 : decode cX4_init 2 = .ok (.putfield 1, 3) := dk_181 0 1 (dk_at dksX4_init_0 2 rfl rfl)
theorem dX4_init_5 : decode cX4_init 5 = .ok (.aload_n 0, 1) := dk_42 (dk_at dksX4_init_0 5 rfl rfl)
theorem dX4_init_6 : decode cX4_init 6 = .ok (.aload_n 1, 1) := dk_43 (dk_at dksX4_init_0 6 rfl rfl)
theorem dX4_init_7 : decode cX4_init 7 = .ok (.invokespecial 7, 3) := dk_183 0 7 (dk_at dksX4_init_0 7 rfl rfl)
theorem dX4_init_10 : decode cX4_init 10 = .ok (.return_, 1) := dk_177 (dk_at dksX4_init_0 10 rfl rfl)
abbrev cX4_goes : ByteArray := prog_4_method_2_code
def yX4_goes : MethodName := ⟨RX4, "goes", "(III)V"⟩
def dkwX4_goes_1 : List UInt8 := [164, 0, 10, 42, 27, 28, 29, 183, 0, 23, 177]
abbrev dktX4_goes_1 : List UInt8 := dkwX4_goes_1 ++ []
def dkwX4_goes_0 : List UInt8 := [42, 180, 0, 1, 180, 0, 13, 27, 46, 153, 0, 17, 5, 28, 104, 42, 180, 0, 1, 27, 182, 0, 19]
abbrev dktX4_goes_0 : List UInt8 := dkwX4_goes_0 ++ dktX4_goes_1
theorem dksX4_goes_0 : cX4_goes.data.toList.drop 0 = dktX4_goes_0 := by decide +kernel
theorem dksX4_goes_1 : cX4_goes.data.toList.drop 23 = dktX4_goes_1 := dk_seg dksX4_goes_0 23 rfl rfl
theorem dX4_goes_0 : decode cX4_goes 0 = .ok (.aload_n 0, 1) := dk_42 (dk_at dksX4_goes_0 0 rfl rfl)
theorem dX4_goes_1 : decode cX4_goes 1 = .ok (.getfield 1, 3) := dk_180 0 1 (dk_at dksX4_goes_0 1 rfl rfl)
theorem dX4_goes_4 : decode cX4_goes 4 = .ok (.getfield 13, 3) := dk_180 0 13 (dk_at dksX4_goes_0 4 rfl rfl)
theorem dX4_goes_7 : decode cX4_goes 7 = .ok (.iload_n 1, 1) := dk_27 (dk_at dksX4_goes_0 7 rfl rfl)
theorem dX4_goes_8 : decode cX4_goes 8 = .ok (.iaload, 1) := dk_46 (dk_at dksX4_goes_0 8 rfl rfl)
theorem dX4_goes_9 : decode cX4_goes 9 = .ok (.ifCond .eq 17, 3) := dk_153 0 17 (dk_at dksX4_goes_0 9 rfl rfl)
theorem dX4_goes_12 : decode cX4_goes 12 = .ok (.iconst 2, 1) := dk_5 (dk_at dksX4_goes_0 12 rfl rfl)
theorem dX4_goes_13 : decode cX4_goes 13 = .ok (.iload_n 2, 1) := dk_28 (dk_at dksX4_goes_0 13 rfl rfl)
theorem dX4_goes_14 : decode cX4_goes 14 = .ok (.imul, 1) := dk_104 (dk_at dksX4_goes_0 14 rfl rfl)
theorem dX4_goes_15 : decode cX4_goes 15 = .ok (.aload_n 0, 1) := dk_42 (dk_at dksX4_goes_0 15 rfl rfl)
theorem dX4_goes_16 : decode cX4_goes 16 = .ok (.getfield 1, 3) := dk_180 0 1 (dk_at dksX4_goes_0 16 rfl rfl)
theorem dX4_goes_19 : decode cX4_goes 19 = .ok (.iload_n 1, 1) := dk_27 (dk_at dksX4_goes_0 19 rfl rfl)
theorem dX4_goes_20 : decode cX4_goes 20 = .ok (.invokevirtual 19, 3) := dk_182 0 19 (dk_at dksX4_goes_0 20 rfl rfl)
theorem dX4_goes_23 : decode cX4_goes 23 = .ok (.if_icmp .le 10, 3) := dk_164 0 10 (dk_at dksX4_goes_1 0 rfl rfl)
theorem dX4_goes_26 : decode cX4_goes 26 = .ok (.aload_n 0, 1) := dk_42 (dk_at dksX4_goes_1 3 rfl rfl)
theorem dX4_goes_27 : decode cX4_goes 27 = .ok (.iload_n 1, 1) := dk_27 (dk_at dksX4_goes_1 4 rfl rfl)
theorem dX4_goes_28 : decode cX4_goes 28 = .ok (.iload_n 2, 1) := dk_28 (dk_at dksX4_goes_1 5 rfl rfl)
theorem dX4_goes_29 : decode cX4_goes 29 = .ok (.iload_n 3, 1) := dk_29 (dk_at dksX4_goes_1 6 rfl rfl)
theorem dX4_goes_30 : decode cX4_goes 30 = .ok (.invokespecial 23, 3) := dk_183 0 23 (dk_at dksX4_goes_1 7 rfl rfl)
theorem dX4_goes_33 : decode cX4_goes 33 = .ok (.return_, 1) := dk_177 (dk_at dksX4_goes_1 10 rfl rfl)
theorem q132 : (Jvm.Cond.initialized "SagMemory$Half") ∈ lw_all := lw_g (lw_at lw_m1 5 rfl) rfl
theorem q289 : (Jvm.Cond.instantiable "SagMemory$Half" (2 : Nat)) ∈ lw_all := lw_g (lw_at lw_m1 162 rfl) rfl
theorem q291 : (Jvm.Cond.instanceMethod ({ cls := "SagMemory$Half", name := "<init>", desc := "(LSagMemory;)V" } : Jvm.MethodName)) ∈ lw_all := lw_g (lw_at lw_m1 164 rfl) rfl
theorem q292 : (Jvm.Cond.code ({ cls := "SagMemory$Half", name := "<init>", desc := "(LSagMemory;)V" } : Jvm.MethodName) prog_4_method_1_code (2 : Nat) (Option.none : Option Jvm.ClassFile.FieldType)) ∈ lw_all := lw_g (lw_at lw_m1 165 rfl) rfl
theorem q293 : (Jvm.Cond.methodLinkNest "SagMemory$Half" (7 : Nat) ({ cls := "SagMemory$Wiping", name := "<init>", desc := "(LSagMemory;)V" } : Jvm.MethodName) "SagMemory") ∈ lw_tbl := lw_at lw_m1 166 rfl
theorem q294 : (Jvm.Cond.fieldLink "SagMemory$Half" (1 : Nat) "SagMemory$Half" "this$0" "LSagMemory;") ∈ lw_all := lw_g (lw_at lw_m1 167 rfl) rfl
theorem q295 : (Jvm.Cond.laysFinal "SagMemory$Half" "SagMemory$Half" "this$0" "LSagMemory;") ∈ lw_all := lw_g (lw_at lw_m1 168 rfl) rfl
theorem q296 : (Jvm.Cond.soleField "SagMemory$Half" "this$0") ∈ lw_all := lw_g (lw_at lw_m1 169 rfl) rfl
theorem q297 : (Jvm.Cond.laysFinal "SagMemory$Half" "SagMemory$Wiping" "this$0" "LSagMemory;") ∈ lw_all := lw_g (lw_at lw_m1 170 rfl) rfl
theorem q298 : (Jvm.Cond.superclass "SagMemory$Half" "SagMemory$Wiping") ∈ lw_all := lw_g (lw_at lw_m1 171 rfl) rfl
theorem q361 : (Jvm.Cond.fieldLinkNest "SagMemory$Half" (13 : Nat) "SagMemory" "many" "[I" "SagMemory") ∈ lw_tbl := lw_at lw_m1 234 rfl
theorem q846 : (Jvm.Cond.instanceMethod ({ cls := "SagMemory$Half", name := "goes", desc := "(III)V" } : Jvm.MethodName)) ∈ lw_all := lw_g (lw_at lw_m3 239 rfl) rfl
theorem q847 : (Jvm.Cond.code ({ cls := "SagMemory$Half", name := "goes", desc := "(III)V" } : Jvm.MethodName) prog_4_method_2_code (4 : Nat) (Option.none : Option Jvm.ClassFile.FieldType)) ∈ lw_all := lw_g (lw_at lw_m4 0 rfl) rfl
theorem q848 : (Jvm.Cond.methodLinkNest "SagMemory$Half" (19 : Nat) ({ cls := "SagMemory", name := "lastOf", desc := "(I)I" } : Jvm.MethodName) "SagMemory") ∈ lw_tbl := lw_at lw_m4 1 rfl
theorem q849 : (Jvm.Cond.methodLink "SagMemory$Half" (23 : Nat) ({ cls := "SagMemory$Wiping", name := "goes", desc := "(III)V" } : Jvm.MethodName)) ∈ lw_all := lw_g (lw_at lw_m4 2 rfl) rfl
theorem q857 : (Jvm.Cond.selects "SagMemory$Half" ({ cls := "SagMemory$Wiping", name := "goes", desc := "(III)V" } : Jvm.MethodName) ({ cls := "SagMemory$Half", name := "goes", desc := "(III)V" } : Jvm.MethodName)) ∈ lw_all := lw_g (lw_at lw_m4 10 rfl) rfl
theorem q1336 : (Jvm.Cond.selects "SagMemory$Half" ({ cls := "java/lang/Object", name := "getClass", desc := "()Ljava/lang/Class;" } : Jvm.MethodName) ({ cls := "java/lang/Object", name := "getClass", desc := "()Ljava/lang/Class;" } : Jvm.MethodName)) ∈ lw_all := lw_g (lw_at lw_m6 9 rfl) rfl
theorem q2290 : (Jvm.Cond.castable "SagMemory$Half" "java/lang/Object") ∈ lw_tbl := lw_at lw_m10 3 rfl
theorem q2304 : (Jvm.Cond.castable "SagMemory$Half" "SagMemory$Wiping") ∈ lw_tbl := lw_at lw_m10 17 rfl
theorem in_X4 : ∀ w ∈ wsX40, w ∈ lw_all := lw_in wsX40 [297, 295] (by decide +kernel) (by decide +kernel)
/-! SagMemory$Even -/
set_option maxRecDepth 100000
def RX5 : String := "SagMemory$Even"
def TX5 : u_T := fun k => match k with
  | 0 => ("SagMemory$Wiping", "this$0", "LSagMemory;", true)
  | 1 => ("SagMemory$Lighter", "this$0", "LSagMemory;", true)
  | _ => ("SagMemory$Even", "this$0", "LSagMemory;", true)
def tyX5 : Nat → FieldType := fun k => match k with
  | 0 => .object "SagMemory"
  | 1 => .object "SagMemory"
  | _ => .object "SagMemory"
abbrev wsX50 : List Cond := u_ws RX5 TX5 3
-- two fields of one name: no nmX5
theorem tyX5_ok : ∀ k, k < 3 → parseFieldDescriptor (TX5 k).2.2.1 = some (tyX5 k) := by decide +kernel
abbrev cX5_init : ByteArray := prog_2_method_1_code
def yX5_init : MethodName := ⟨RX5, "<init>", "(LSagMemory;)V"⟩
def dkwX5_init_0 : List UInt8 := [42, 43, 181, 0, 1, 42, 43, 183, 0, 7, 177]
abbrev dktX5_init_0 : List UInt8 := dkwX5_init_0 ++ []
theorem dksX5_init_0 : cX5_init.data.toList.drop 0 = dktX5_init_0 := by decide +kernel
theorem dX5_init_0 : decode cX5_init 0 = .ok (.aload_n 0, 1) := dk_42 (dk_at dksX5_init_0 0 rfl rfl)
theorem dX5_init_1 : decode cX5_init 1 = .ok (.aload_n 1, 1) := dk_43 (dk_at dksX5_init_0 1 rfl rfl)
theorem dX5_init_2 : decode cX5_init 2 = .ok (.putfield 1, 3) := dk_181 0 1 (dk_at dksX5_init_0 2 rfl rfl)
theorem dX5_init_5 : decode cX5_init 5 = .ok (.aload_n 0, 1) := dk_42 (dk_at dksX5_init_0 5 rfl rfl)
theorem dX5_init_6 : decode cX5_init 6 = .ok (.aload_n 1, 1) := dk_43 (dk_at dksX5_init_0 6 rfl rfl)
theorem dX5_init_7 : decode cX5_init 7 = .ok (.invokespecial 7, 3) := dk_183 0 7 (dk_at dksX5_init_0 7 rfl rfl)
theorem dX5_init_10 : decode cX5_init 10 = .ok (.return_, 1) := dk_177 (dk_at dksX5_init_0 10 rfl rfl)
abbrev cX5_goes : ByteArray := prog_2_method_2_code
def yX5_goes : MethodName := ⟨RX5, "goes", "(III)V"⟩
def dkwX5_goes_1 : List UInt8 := [42, 27, 28, 29, 183, 0, 25, 177]
abbrev dktX5_goes_1 : List UInt8 := dkwX5_goes_1 ++ []
def dkwX5_goes_0 : List UInt8 := [28, 5, 112, 154, 0, 21, 42, 180, 0, 1, 180, 0, 13, 3, 50, 27, 28, 29, 182, 0, 19, 167, 0, 10]
abbrev dktX5_goes_0 : List UInt8 := dkwX5_goes_0 ++ dktX5_goes_1
theorem dksX5_goes_0 : cX5_goes.data.toList.drop 0 = dktX5_goes_0 := by decide +kernel
theorem dksX5_goes_1 : cX5_goes.data.toList.drop 24 = dktX5_goes_1 := dk_seg dksX5_goes_0 24 rfl rfl
theorem dX5_goes_0 : decode cX5_goes 0 = .ok (.iload_n 2, 1) := dk_28 (dk_at dksX5_goes_0 0 rfl rfl)
theorem dX5_goes_1 : decode cX5_goes 1 = .ok (.iconst 2, 1) := dk_5 (dk_at dksX5_goes_0 1 rfl rfl)
theorem dX5_goes_2 : decode cX5_goes 2 = .ok (.irem, 1) := dk_112 (dk_at dksX5_goes_0 2 rfl rfl)
theorem dX5_goes_3 : decode cX5_goes 3 = .ok (.ifCond .ne 21, 3) := dk_154 0 21 (dk_at dksX5_goes_0 3 rfl rfl)
theorem dX5_goes_6 : decode cX5_goes 6 = .ok (.aload_n 0, 1) := dk_42 (dk_at dksX5_goes_0 6 rfl rfl)
theorem dX5_goes_7 : decode cX5_goes 7 = .ok (.getfield 1, 3) := dk_180 0 1 (dk_at dksX5_goes_0 7 rfl rfl)
theorem dX5_goes_10 : decode cX5_goes 10 = .ok (.getfield 13, 3) := dk_180 0 13 (dk_at dksX5_goes_0 10 rfl rfl)
theorem dX5_goes_13 : decode cX5_goes 13 = .ok (.iconst 0, 1) := dk_3 (dk_at dksX5_goes_0 13 rfl rfl)
theorem dX5_goes_14 : decode cX5_goes 14 = .ok (.aaload, 1) := dk_50 (dk_at dksX5_goes_0 14 rfl rfl)
theorem dX5_goes_15 : decode cX5_goes 15 = .ok (.iload_n 1, 1) := dk_27 (dk_at dksX5_goes_0 15 rfl rfl)
theorem dX5_goes_16 : decode cX5_goes 16 = .ok (.iload_n 2, 1) := dk_28 (dk_at dksX5_goes_0 16 rfl rfl)
theorem dX5_goes_17 : decode cX5_goes 17 = .ok (.iload_n 3, 1) := dk_29 (dk_at dksX5_goes_0 17 rfl rfl)
theorem dX5_goes_18 : decode cX5_goes 18 = .ok (.invokevirtual 19, 3) := dk_182 0 19 (dk_at dksX5_goes_0 18 rfl rfl)
theorem dX5_goes_21 : decode cX5_goes 21 = .ok (.goto 10, 3) := dk_167 0 10 (dk_at dksX5_goes_0 21 rfl rfl)
theorem dX5_goes_24 : decode cX5_goes 24 = .ok (.aload_n 0, 1) := dk_42 (dk_at dksX5_goes_1 0 rfl rfl)
theorem dX5_goes_25 : decode cX5_goes 25 = .ok (.iload_n 1, 1) := dk_27 (dk_at dksX5_goes_1 1 rfl rfl)
theorem dX5_goes_26 : decode cX5_goes 26 = .ok (.iload_n 2, 1) := dk_28 (dk_at dksX5_goes_1 2 rfl rfl)
theorem dX5_goes_27 : decode cX5_goes 27 = .ok (.iload_n 3, 1) := dk_29 (dk_at dksX5_goes_1 3 rfl rfl)
theorem dX5_goes_28 : decode cX5_goes 28 = .ok (.invokespecial 25, 3) := dk_183 0 25 (dk_at dksX5_goes_1 4 rfl rfl)
theorem dX5_goes_31 : decode cX5_goes 31 = .ok (.return_, 1) := dk_177 (dk_at dksX5_goes_1 7 rfl rfl)
theorem q133 : (Jvm.Cond.initialized "SagMemory$Even") ∈ lw_all := lw_g (lw_at lw_m1 6 rfl) rfl
theorem q300 : (Jvm.Cond.instantiable "SagMemory$Even" (3 : Nat)) ∈ lw_all := lw_g (lw_at lw_m1 173 rfl) rfl
theorem q302 : (Jvm.Cond.instanceMethod ({ cls := "SagMemory$Even", name := "<init>", desc := "(LSagMemory;)V" } : Jvm.MethodName)) ∈ lw_all := lw_g (lw_at lw_m1 175 rfl) rfl
theorem q303 : (Jvm.Cond.code ({ cls := "SagMemory$Even", name := "<init>", desc := "(LSagMemory;)V" } : Jvm.MethodName) prog_2_method_1_code (2 : Nat) (Option.none : Option Jvm.ClassFile.FieldType)) ∈ lw_all := lw_g (lw_at lw_m1 176 rfl) rfl
theorem q304 : (Jvm.Cond.methodLinkNest "SagMemory$Even" (7 : Nat) ({ cls := "SagMemory$Lighter", name := "<init>", desc := "(LSagMemory;)V" } : Jvm.MethodName) "SagMemory") ∈ lw_tbl := lw_at lw_m1 177 rfl
theorem q305 : (Jvm.Cond.fieldLink "SagMemory$Even" (1 : Nat) "SagMemory$Even" "this$0" "LSagMemory;") ∈ lw_all := lw_g (lw_at lw_m1 178 rfl) rfl
theorem q306 : (Jvm.Cond.laysFinal "SagMemory$Even" "SagMemory$Even" "this$0" "LSagMemory;") ∈ lw_all := lw_g (lw_at lw_m1 179 rfl) rfl
theorem q307 : (Jvm.Cond.soleField "SagMemory$Even" "this$0") ∈ lw_all := lw_g (lw_at lw_m1 180 rfl) rfl
theorem q308 : (Jvm.Cond.laysFinal "SagMemory$Even" "SagMemory$Lighter" "this$0" "LSagMemory;") ∈ lw_all := lw_g (lw_at lw_m1 181 rfl) rfl
theorem q309 : (Jvm.Cond.laysFinal "SagMemory$Even" "SagMemory$Wiping" "this$0" "LSagMemory;") ∈ lw_all := lw_g (lw_at lw_m1 182 rfl) rfl
theorem q310 : (Jvm.Cond.superclass "SagMemory$Even" "SagMemory$Lighter") ∈ lw_all := lw_g (lw_at lw_m1 183 rfl) rfl
theorem q367 : (Jvm.Cond.fieldLinkNest "SagMemory$Even" (13 : Nat) "SagMemory" "laws" "[LSagMemory$Wiping;" "SagMemory") ∈ lw_tbl := lw_at lw_m2 0 rfl
theorem q842 : (Jvm.Cond.selects "SagMemory$Even" ({ cls := "SagMemory$Wiping", name := "goes", desc := "(III)V" } : Jvm.MethodName) ({ cls := "SagMemory$Even", name := "goes", desc := "(III)V" } : Jvm.MethodName)) ∈ lw_all := lw_g (lw_at lw_m3 235 rfl) rfl
theorem q843 : (Jvm.Cond.instanceMethod ({ cls := "SagMemory$Even", name := "goes", desc := "(III)V" } : Jvm.MethodName)) ∈ lw_all := lw_g (lw_at lw_m3 236 rfl) rfl
theorem q844 : (Jvm.Cond.code ({ cls := "SagMemory$Even", name := "goes", desc := "(III)V" } : Jvm.MethodName) prog_2_method_2_code (4 : Nat) (Option.none : Option Jvm.ClassFile.FieldType)) ∈ lw_all := lw_g (lw_at lw_m3 237 rfl) rfl
theorem q845 : (Jvm.Cond.methodLink "SagMemory$Even" (19 : Nat) ({ cls := "SagMemory$Wiping", name := "goes", desc := "(III)V" } : Jvm.MethodName)) ∈ lw_all := lw_g (lw_at lw_m3 238 rfl) rfl
theorem q856 : (Jvm.Cond.methodLink "SagMemory$Even" (25 : Nat) ({ cls := "SagMemory$Lighter", name := "goes", desc := "(III)V" } : Jvm.MethodName)) ∈ lw_all := lw_g (lw_at lw_m4 9 rfl) rfl
theorem q1334 : (Jvm.Cond.selects "SagMemory$Even" ({ cls := "java/lang/Object", name := "getClass", desc := "()Ljava/lang/Class;" } : Jvm.MethodName) ({ cls := "java/lang/Object", name := "getClass", desc := "()Ljava/lang/Class;" } : Jvm.MethodName)) ∈ lw_all := lw_g (lw_at lw_m6 7 rfl) rfl
theorem q2291 : (Jvm.Cond.castable "SagMemory$Even" "java/lang/Object") ∈ lw_tbl := lw_at lw_m10 4 rfl
theorem q2305 : (Jvm.Cond.castable "SagMemory$Even" "SagMemory$Wiping") ∈ lw_tbl := lw_at lw_m10 18 rfl
theorem in_X5 : ∀ w ∈ wsX50, w ∈ lw_all := lw_in wsX50 [309, 308, 306] (by decide +kernel) (by decide +kernel)
/-! SagMemory$Slot -/
set_option maxRecDepth 100000
def RX6 : String := "SagMemory$Slot"
def TX6 : u_T := fun k => match k with
  | _ => ("SagMemory$Slot", "row", "Ljava/lang/Object;", false)
def tyX6 : Nat → FieldType := fun k => match k with
  | _ => .object "java/lang/Object"
abbrev wsX60 : List Cond := u_ws RX6 TX6 1
theorem nmX6 : ∀ a, a < 1 → ∀ b, b < 1 → a ≠ b → (TX6 a).2.1 ≠ (TX6 b).2.1 := by decide +kernel
theorem tyX6_ok : ∀ k, k < 1 → parseFieldDescriptor (TX6 k).2.2.1 = some (tyX6 k) := by decide +kernel
abbrev cX6_init : ByteArray := prog_7_method_1_code
def yX6_init : MethodName := ⟨RX6, "<init>", "()V"⟩
theorem dX6_init_0 : decode cX6_init 0 = .ok (.aload_n 0, 1) := by decide +kernel
theorem dX6_init_1 : decode cX6_init 1 = .ok (.invokespecial 1, 3) := by decide +kernel
theorem dX6_init_4 : decode cX6_init 4 = .ok (.return_, 1) := by decide +kernel
abbrev cX6_size : ByteArray := prog_7_method_3_code
def yX6_size : MethodName := ⟨RX6, "size", "()I"⟩
def dkwX6_size_3 : List UInt8 := [190, 172]
abbrev dktX6_size_3 : List UInt8 := dkwX6_size_3 ++ []
def dkwX6_size_2 : List UInt8 := [193, 0, 17, 153, 0, 14, 42, 180, 0, 7, 192, 0, 17, 190, 167, 0, 11, 42, 180, 0, 7, 192, 0, 19]
abbrev dktX6_size_2 : List UInt8 := dkwX6_size_2 ++ dktX6_size_3
def dkwX6_size_1 : List UInt8 := [180, 0, 7, 193, 0, 15, 153, 0, 14, 42, 180, 0, 7, 192, 0, 15, 190, 167, 0, 32, 42, 180, 0, 7]
abbrev dktX6_size_1 : List UInt8 := dkwX6_size_1 ++ dktX6_size_2
def dkwX6_size_0 : List UInt8 := [42, 180, 0, 7, 193, 0, 13, 153, 0, 14, 42, 180, 0, 7, 192, 0, 13, 190, 167, 0, 53, 42]
abbrev dktX6_size_0 : List UInt8 := dkwX6_size_0 ++ dktX6_size_1
theorem dksX6_size_0 : cX6_size.data.toList.drop 0 = dktX6_size_0 := by decide +kernel
theorem dksX6_size_1 : cX6_size.data.toList.drop 22 = dktX6_size_1 := dk_seg dksX6_size_0 22 rfl rfl
theorem dksX6_size_2 : cX6_size.data.toList.drop 46 = dktX6_size_2 := dk_seg dksX6_size_1 24 rfl rfl
theorem dksX6_size_3 : cX6_size.data.toList.drop 70 = dktX6_size_3 := dk_seg dksX6_size_2 24 rfl rfl
theorem dX6_size_0 : decode cX6_size 0 = .ok (.aload_n 0, 1) := dk_42 (dk_at dksX6_size_0 0 rfl rfl)
theorem dX6_size_1 : decode cX6_size 1 = .ok (.getfield 7, 3) := dk_180 0 7 (dk_at dksX6_size_0 1 rfl rfl)
theorem dX6_size_4 : decode cX6_size 4 = .ok (.instanceof 13, 3) := dk_193 0 13 (dk_at dksX6_size_0 4 rfl rfl)
theorem dX6_size_7 : decode cX6_size 7 = .ok (.ifCond .eq 14, 3) := dk_153 0 14 (dk_at dksX6_size_0 7 rfl rfl)
theorem dX6_size_10 : decode cX6_size 10 = .ok (.aload_n 0, 1) := dk_42 (dk_at dksX6_size_0 10 rfl rfl)
theorem dX6_size_11 : decode cX6_size 11 = .ok (.getfield 7, 3) := dk_180 0 7 (dk_at dksX6_size_0 11 rfl rfl)
theorem dX6_size_14 : decode cX6_size 14 = .ok (.checkcast 13, 3) := dk_192 0 13 (dk_at dksX6_size_0 14 rfl rfl)
theorem dX6_size_17 : decode cX6_size 17 = .ok (.arraylength, 1) := dk_190 (dk_at dksX6_size_0 17 rfl rfl)
theorem dX6_size_18 : decode cX6_size 18 = .ok (.goto 53, 3) := dk_167 0 53 (dk_at dksX6_size_0 18 rfl rfl)
theorem dX6_size_21 : decode cX6_size 21 = .ok (.aload_n 0, 1) := dk_42 (dk_at dksX6_size_0 21 rfl rfl)
theorem dX6_size_22 : decode cX6_size 22 = .ok (.getfield 7, 3) := dk_180 0 7 (dk_at dksX6_size_1 0 rfl rfl)
theorem dX6_size_25 : decode cX6_size 25 = .ok (.instanceof 15, 3) := dk_193 0 15 (dk_at dksX6_size_1 3 rfl rfl)
theorem dX6_size_28 : decode cX6_size 28 = .ok (.ifCond .eq 14, 3) := dk_153 0 14 (dk_at dksX6_size_1 6 rfl rfl)
theorem dX6_size_31 : decode cX6_size 31 = .ok (.aload_n 0, 1) := dk_42 (dk_at dksX6_size_1 9 rfl rfl)
theorem dX6_size_32 : decode cX6_size 32 = .ok (.getfield 7, 3) := dk_180 0 7 (dk_at dksX6_size_1 10 rfl rfl)
theorem dX6_size_35 : decode cX6_size 35 = .ok (.checkcast 15, 3) := dk_192 0 15 (dk_at dksX6_size_1 13 rfl rfl)
theorem dX6_size_38 : decode cX6_size 38 = .ok (.arraylength, 1) := dk_190 (dk_at dksX6_size_1 16 rfl rfl)
theorem dX6_size_39 : decode cX6_size 39 = .ok (.goto 32, 3) := dk_167 0 32 (dk_at dksX6_size_1 17 rfl rfl)
theorem dX6_size_42 : decode cX6_size 42 = .ok (.aload_n 0, 1) := dk_42 (dk_at dksX6_size_1 20 rfl rfl)
theorem dX6_size_43 : decode cX6_size 43 = .ok (.getfield 7, 3) := dk_180 0 7 (dk_at dksX6_size_1 21 rfl rfl)
theorem dX6_size_46 : decode cX6_size 46 = .ok (.instanceof 17, 3) := dk_193 0 17 (dk_at dksX6_size_2 0 rfl rfl)
theorem dX6_size_49 : decode cX6_size 49 = .ok (.ifCond .eq 14, 3) := dk_153 0 14 (dk_at dksX6_size_2 3 rfl rfl)
theorem dX6_size_52 : decode cX6_size 52 = .ok (.aload_n 0, 1) := dk_42 (dk_at dksX6_size_2 6 rfl rfl)
theorem dX6_size_53 : decode cX6_size 53 = .ok (.getfield 7, 3) := dk_180 0 7 (dk_at dksX6_size_2 7 rfl rfl)
theorem dX6_size_56 : decode cX6_size 56 = .ok (.checkcast 17, 3) := dk_192 0 17 (dk_at dksX6_size_2 10 rfl rfl)
theorem dX6_size_59 : decode cX6_size 59 = .ok (.arraylength, 1) := dk_190 (dk_at dksX6_size_2 13 rfl rfl)
theorem dX6_size_60 : decode cX6_size 60 = .ok (.goto 11, 3) := dk_167 0 11 (dk_at dksX6_size_2 14 rfl rfl)
theorem dX6_size_63 : decode cX6_size 63 = .ok (.aload_n 0, 1) := dk_42 (dk_at dksX6_size_2 17 rfl rfl)
theorem dX6_size_64 : decode cX6_size 64 = .ok (.getfield 7, 3) := dk_180 0 7 (dk_at dksX6_size_2 18 rfl rfl)
theorem dX6_size_67 : decode cX6_size 67 = .ok (.checkcast 19, 3) := dk_192 0 19 (dk_at dksX6_size_2 21 rfl rfl)
theorem dX6_size_70 : decode cX6_size 70 = .ok (.arraylength, 1) := dk_190 (dk_at dksX6_size_3 0 rfl rfl)
theorem dX6_size_71 : decode cX6_size 71 = .ok (.ireturn, 1) := dk_172 (dk_at dksX6_size_3 1 rfl rfl)
abbrev cX6_at : ByteArray := prog_7_method_4_code
def yX6_at : MethodName := ⟨RX6, "at", "(I)J"⟩
def dkwX6_at_3 : List UInt8 := [180, 0, 7, 192, 0, 19, 27, 47, 173]
abbrev dktX6_at_3 : List UInt8 := dkwX6_at_3 ++ []
def dkwX6_at_2 : List UInt8 := [180, 0, 7, 193, 0, 17, 153, 0, 16, 42, 180, 0, 7, 192, 0, 17, 27, 46, 133, 167, 0, 12, 42]
abbrev dktX6_at_2 : List UInt8 := dkwX6_at_2 ++ dktX6_at_3
def dkwX6_at_1 : List UInt8 := [180, 0, 7, 193, 0, 15, 153, 0, 16, 42, 180, 0, 7, 192, 0, 15, 27, 53, 133, 167, 0, 35, 42]
abbrev dktX6_at_1 : List UInt8 := dkwX6_at_1 ++ dktX6_at_2
def dkwX6_at_0 : List UInt8 := [42, 180, 0, 7, 193, 0, 13, 153, 0, 16, 42, 180, 0, 7, 192, 0, 13, 27, 51, 133, 167, 0, 58, 42]
abbrev dktX6_at_0 : List UInt8 := dkwX6_at_0 ++ dktX6_at_1
theorem dksX6_at_0 : cX6_at.data.toList.drop 0 = dktX6_at_0 := by decide +kernel
theorem dksX6_at_1 : cX6_at.data.toList.drop 24 = dktX6_at_1 := dk_seg dksX6_at_0 24 rfl rfl
theorem dksX6_at_2 : cX6_at.data.toList.drop 47 = dktX6_at_2 := dk_seg dksX6_at_1 23 rfl rfl
theorem dksX6_at_3 : cX6_at.data.toList.drop 70 = dktX6_at_3 := dk_seg dksX6_at_2 23 rfl rfl
theorem dX6_at_0 : decode cX6_at 0 = .ok (.aload_n 0, 1) := dk_42 (dk_at dksX6_at_0 0 rfl rfl)
theorem dX6_at_1 : decode cX6_at 1 = .ok (.getfield 7, 3) := dk_180 0 7 (dk_at dksX6_at_0 1 rfl rfl)
theorem dX6_at_4 : decode cX6_at 4 = .ok (.instanceof 13, 3) := dk_193 0 13 (dk_at dksX6_at_0 4 rfl rfl)
theorem dX6_at_7 : decode cX6_at 7 = .ok (.ifCond .eq 16, 3) := dk_153 0 16 (dk_at dksX6_at_0 7 rfl rfl)
theorem dX6_at_10 : decode cX6_at 10 = .ok (.aload_n 0, 1) := dk_42 (dk_at dksX6_at_0 10 rfl rfl)
theorem dX6_at_11 : decode cX6_at 11 = .ok (.getfield 7, 3) := dk_180 0 7 (dk_at dksX6_at_0 11 rfl rfl)
theorem dX6_at_14 : decode cX6_at 14 = .ok (.checkcast 13, 3) := dk_192 0 13 (dk_at dksX6_at_0 14 rfl rfl)
theorem dX6_at_17 : decode cX6_at 17 = .ok (.iload_n 1, 1) := dk_27 (dk_at dksX6_at_0 17 rfl rfl)
theorem dX6_at_18 : decode cX6_at 18 = .ok (.baload, 1) := dk_51 (dk_at dksX6_at_0 18 rfl rfl)
theorem dX6_at_19 : decode cX6_at 19 = .ok (.i2l, 1) := dk_133 (dk_at dksX6_at_0 19 rfl rfl)
theorem dX6_at_20 : decode cX6_at 20 = .ok (.goto 58, 3) := dk_167 0 58 (dk_at dksX6_at_0 20 rfl rfl)
theorem dX6_at_23 : decode cX6_at 23 = .ok (.aload_n 0, 1) := dk_42 (dk_at dksX6_at_0 23 rfl rfl)
theorem dX6_at_24 : decode cX6_at 24 = .ok (.getfield 7, 3) := dk_180 0 7 (dk_at dksX6_at_1 0 rfl rfl)
theorem dX6_at_27 : decode cX6_at 27 = .ok (.instanceof 15, 3) := dk_193 0 15 (dk_at dksX6_at_1 3 rfl rfl)
theorem dX6_at_30 : decode cX6_at 30 = .ok (.ifCond .eq 16, 3) := dk_153 0 16 (dk_at dksX6_at_1 6 rfl rfl)
theorem dX6_at_33 : decode cX6_at 33 = .ok (.aload_n 0, 1) := dk_42 (dk_at dksX6_at_1 9 rfl rfl)
theorem dX6_at_34 : decode cX6_at 34 = .ok (.getfield 7, 3) := dk_180 0 7 (dk_at dksX6_at_1 10 rfl rfl)
theorem dX6_at_37 : decode cX6_at 37 = .ok (.checkcast 15, 3) := dk_192 0 15 (dk_at dksX6_at_1 13 rfl rfl)
theorem dX6_at_40 : decode cX6_at 40 = .ok (.iload_n 1, 1) := dk_27 (dk_at dksX6_at_1 16 rfl rfl)
theorem dX6_at_41 : decode cX6_at 41 = .ok (.saload, 1) := dk_53 (dk_at dksX6_at_1 17 rfl rfl)
theorem dX6_at_42 : decode cX6_at 42 = .ok (.i2l, 1) := dk_133 (dk_at dksX6_at_1 18 rfl rfl)
theorem dX6_at_43 : decode cX6_at 43 = .ok (.goto 35, 3) := dk_167 0 35 (dk_at dksX6_at_1 19 rfl rfl)
theorem dX6_at_46 : decode cX6_at 46 = .ok (.aload_n 0, 1) := dk_42 (dk_at dksX6_at_1 22 rfl rfl)
theorem dX6_at_47 : decode cX6_at 47 = .ok (.getfield 7, 3) := dk_180 0 7 (dk_at dksX6_at_2 0 rfl rfl)
theorem dX6_at_50 : decode cX6_at 50 = .ok (.instanceof 17, 3) := dk_193 0 17 (dk_at dksX6_at_2 3 rfl rfl)
theorem dX6_at_53 : decode cX6_at 53 = .ok (.ifCond .eq 16, 3) := dk_153 0 16 (dk_at dksX6_at_2 6 rfl rfl)
theorem dX6_at_56 : decode cX6_at 56 = .ok (.aload_n 0, 1) := dk_42 (dk_at dksX6_at_2 9 rfl rfl)
theorem dX6_at_57 : decode cX6_at 57 = .ok (.getfield 7, 3) := dk_180 0 7 (dk_at dksX6_at_2 10 rfl rfl)
theorem dX6_at_60 : decode cX6_at 60 = .ok (.checkcast 17, 3) := dk_192 0 17 (dk_at dksX6_at_2 13 rfl rfl)
theorem dX6_at_63 : decode cX6_at 63 = .ok (.iload_n 1, 1) := dk_27 (dk_at dksX6_at_2 16 rfl rfl)
theorem dX6_at_64 : decode cX6_at 64 = .ok (.iaload, 1) := dk_46 (dk_at dksX6_at_2 17 rfl rfl)
theorem dX6_at_65 : decode cX6_at 65 = .ok (.i2l, 1) := dk_133 (dk_at dksX6_at_2 18 rfl rfl)
theorem dX6_at_66 : decode cX6_at 66 = .ok (.goto 12, 3) := dk_167 0 12 (dk_at dksX6_at_2 19 rfl rfl)
theorem dX6_at_69 : decode cX6_at 69 = .ok (.aload_n 0, 1) := dk_42 (dk_at dksX6_at_2 22 rfl rfl)
theorem dX6_at_70 : decode cX6_at 70 = .ok (.getfield 7, 3) := dk_180 0 7 (dk_at dksX6_at_3 0 rfl rfl)
theorem dX6_at_73 : decode cX6_at 73 = .ok (.checkcast 19, 3) := dk_192 0 19 (dk_at dksX6_at_3 3 rfl rfl)
theorem dX6_at_76 : decode cX6_at 76 = .ok (.iload_n 1, 1) := dk_27 (dk_at dksX6_at_3 6 rfl rfl)
theorem dX6_at_77 : decode cX6_at 77 = .ok (.laload, 1) := dk_47 (dk_at dksX6_at_3 7 rfl rfl)
theorem dX6_at_78 : decode cX6_at 78 = .ok (.lreturn, 1) := dk_173 (dk_at dksX6_at_3 8 rfl rfl)
abbrev cX6_make : ByteArray := prog_7_method_2_code
def yX6_make : MethodName := ⟨RX6, "make", "(II)V"⟩
def dkwX6_make_1 : List UInt8 := [160, 0, 9, 28, 188, 10, 167, 0, 6, 28, 188, 11, 181, 0, 7, 177]
abbrev dktX6_make_1 : List UInt8 := dkwX6_make_1 ++ []
def dkwX6_make_0 : List UInt8 := [42, 27, 154, 0, 9, 28, 188, 8, 167, 0, 28, 27, 4, 160, 0, 9, 28, 188, 9, 167, 0, 17, 27, 5]
abbrev dktX6_make_0 : List UInt8 := dkwX6_make_0 ++ dktX6_make_1
theorem dksX6_make_0 : cX6_make.data.toList.drop 0 = dktX6_make_0 := by decide +kernel
theorem dksX6_make_1 : cX6_make.data.toList.drop 24 = dktX6_make_1 := dk_seg dksX6_make_0 24 rfl rfl
theorem dX6_make_0 : decode cX6_make 0 = .ok (.aload_n 0, 1) := dk_42 (dk_at dksX6_make_0 0 rfl rfl)
theorem dX6_make_1 : decode cX6_make 1 = .ok (.iload_n 1, 1) := dk_27 (dk_at dksX6_make_0 1 rfl rfl)
theorem dX6_make_2 : decode cX6_make 2 = .ok (.ifCond .ne 9, 3) := dk_154 0 9 (dk_at dksX6_make_0 2 rfl rfl)
theorem dX6_make_5 : decode cX6_make 5 = .ok (.iload_n 2, 1) := dk_28 (dk_at dksX6_make_0 5 rfl rfl)
theorem dX6_make_6 : decode cX6_make 6 = .ok (.newarray .byte, 2) := dk_188_8 (dk_at dksX6_make_0 6 rfl rfl)
theorem dX6_make_8 : decode cX6_make 8 = .ok (.goto 28, 3) := dk_167 0 28 (dk_at dksX6_make_0 8 rfl rfl)
theorem dX6_make_11 : decode cX6_make 11 = .ok (.iload_n 1, 1) := dk_27 (dk_at dksX6_make_0 11 rfl rfl)
theorem dX6_make_12 : decode cX6_make 12 = .ok (.iconst 1, 1) := dk_4 (dk_at dksX6_make_0 12 rfl rfl)
theorem dX6_make_13 : decode cX6_make 13 = .ok (.if_icmp .ne 9, 3) := dk_160 0 9 (dk_at dksX6_make_0 13 rfl rfl)
theorem dX6_make_16 : decode cX6_make 16 = .ok (.iload_n 2, 1) := dk_28 (dk_at dksX6_make_0 16 rfl rfl)
theorem dX6_make_17 : decode cX6_make 17 = .ok (.newarray .short, 2) := dk_188_9 (dk_at dksX6_make_0 17 rfl rfl)
theorem dX6_make_19 : decode cX6_make 19 = .ok (.goto 17, 3) := dk_167 0 17 (dk_at dksX6_make_0 19 rfl rfl)
theorem dX6_make_22 : decode cX6_make 22 = .ok (.iload_n 1, 1) := dk_27 (dk_at dksX6_make_0 22 rfl rfl)
theorem dX6_make_23 : decode cX6_make 23 = .ok (.iconst 2, 1) := dk_5 (dk_at dksX6_make_0 23 rfl rfl)
theorem dX6_make_24 : decode cX6_make 24 = .ok (.if_icmp .ne 9, 3) := dk_160 0 9 (dk_at dksX6_make_1 0 rfl rfl)
theorem dX6_make_27 : decode cX6_make 27 = .ok (.iload_n 2, 1) := dk_28 (dk_at dksX6_make_1 3 rfl rfl)
theorem dX6_make_28 : decode cX6_make 28 = .ok (.newarray .int, 2) := dk_188_10 (dk_at dksX6_make_1 4 rfl rfl)
theorem dX6_make_30 : decode cX6_make 30 = .ok (.goto 6, 3) := dk_167 0 6 (dk_at dksX6_make_1 6 rfl rfl)
theorem dX6_make_33 : decode cX6_make 33 = .ok (.iload_n 2, 1) := dk_28 (dk_at dksX6_make_1 9 rfl rfl)
theorem dX6_make_34 : decode cX6_make 34 = .ok (.newarray .long, 2) := dk_188_11 (dk_at dksX6_make_1 10 rfl rfl)
theorem dX6_make_36 : decode cX6_make 36 = .ok (.putfield 7, 3) := dk_181 0 7 (dk_at dksX6_make_1 12 rfl rfl)
theorem dX6_make_39 : decode cX6_make 39 = .ok (.return_, 1) := dk_177 (dk_at dksX6_make_1 15 rfl rfl)
abbrev cX6_put : ByteArray := prog_7_method_5_code
def yX6_put : MethodName := ⟨RX6, "put", "(IJ)V"⟩
def dkwX6_put_3 : List UInt8 := [79, 167, 0, 13, 42, 180, 0, 7, 192, 0, 19, 27, 32, 80, 177]
abbrev dktX6_put_3 : List UInt8 := dkwX6_put_3 ++ []
def dkwX6_put_2 : List UInt8 := [86, 167, 0, 37, 42, 180, 0, 7, 193, 0, 17, 153, 0, 17, 42, 180, 0, 7, 192, 0, 17, 27, 32, 136]
abbrev dktX6_put_2 : List UInt8 := dkwX6_put_2 ++ dktX6_put_3
def dkwX6_put_1 : List UInt8 := [167, 0, 62, 42, 180, 0, 7, 193, 0, 15, 153, 0, 18, 42, 180, 0, 7, 192, 0, 15, 27, 32, 136, 147]
abbrev dktX6_put_1 : List UInt8 := dkwX6_put_1 ++ dktX6_put_2
def dkwX6_put_0 : List UInt8 := [42, 180, 0, 7, 193, 0, 13, 153, 0, 18, 42, 180, 0, 7, 192, 0, 13, 27, 32, 136, 145, 84]
abbrev dktX6_put_0 : List UInt8 := dkwX6_put_0 ++ dktX6_put_1
theorem dksX6_put_0 : cX6_put.data.toList.drop 0 = dktX6_put_0 := by decide +kernel
theorem dksX6_put_1 : cX6_put.data.toList.drop 22 = dktX6_put_1 := dk_seg dksX6_put_0 22 rfl rfl
theorem dksX6_put_2 : cX6_put.data.toList.drop 46 = dktX6_put_2 := dk_seg dksX6_put_1 24 rfl rfl
theorem dksX6_put_3 : cX6_put.data.toList.drop 70 = dktX6_put_3 := dk_seg dksX6_put_2 24 rfl rfl
theorem dX6_put_0 : decode cX6_put 0 = .ok (.aload_n 0, 1) := dk_42 (dk_at dksX6_put_0 0 rfl rfl)
theorem dX6_put_1 : decode cX6_put 1 = .ok (.getfield 7, 3) := dk_180 0 7 (dk_at dksX6_put_0 1 rfl rfl)
theorem dX6_put_4 : decode cX6_put 4 = .ok (.instanceof 13, 3) := dk_193 0 13 (dk_at dksX6_put_0 4 rfl rfl)
theorem dX6_put_7 : decode cX6_put 7 = .ok (.ifCond .eq 18, 3) := dk_153 0 18 (dk_at dksX6_put_0 7 rfl rfl)
theorem dX6_put_10 : decode cX6_put 10 = .ok (.aload_n 0, 1) := dk_42 (dk_at dksX6_put_0 10 rfl rfl)
theorem dX6_put_11 : decode cX6_put 11 = .ok (.getfield 7, 3) := dk_180 0 7 (dk_at dksX6_put_0 11 rfl rfl)
theorem dX6_put_14 : decode cX6_put 14 = .ok (.checkcast 13, 3) := dk_192 0 13 (dk_at dksX6_put_0 14 rfl rfl)
theorem dX6_put_17 : decode cX6_put 17 = .ok (.iload_n 1, 1) := dk_27 (dk_at dksX6_put_0 17 rfl rfl)
theorem dX6_put_18 : decode cX6_put 18 = .ok (.lload_n 2, 1) := dk_32 (dk_at dksX6_put_0 18 rfl rfl)
theorem dX6_put_19 : decode cX6_put 19 = .ok (.l2i, 1) := dk_136 (dk_at dksX6_put_0 19 rfl rfl)
theorem dX6_put_20 : decode cX6_put 20 = .ok (.i2b, 1) := dk_145 (dk_at dksX6_put_0 20 rfl rfl)
theorem dX6_put_21 : decode cX6_put 21 = .ok (.bastore, 1) := dk_84 (dk_at dksX6_put_0 21 rfl rfl)
theorem dX6_put_22 : decode cX6_put 22 = .ok (.goto 62, 3) := dk_167 0 62 (dk_at dksX6_put_1 0 rfl rfl)
theorem dX6_put_25 : decode cX6_put 25 = .ok (.aload_n 0, 1) := dk_42 (dk_at dksX6_put_1 3 rfl rfl)
theorem dX6_put_26 : decode cX6_put 26 = .ok (.getfield 7, 3) := dk_180 0 7 (dk_at dksX6_put_1 4 rfl rfl)
theorem dX6_put_29 : decode cX6_put 29 = .ok (.instanceof 15, 3) := dk_193 0 15 (dk_at dksX6_put_1 7 rfl rfl)
theorem dX6_put_32 : decode cX6_put 32 = .ok (.ifCond .eq 18, 3) := dk_153 0 18 (dk_at dksX6_put_1 10 rfl rfl)
theorem dX6_put_35 : decode cX6_put 35 = .ok (.aload_n 0, 1) := dk_42 (dk_at dksX6_put_1 13 rfl rfl)
theorem dX6_put_36 : decode cX6_put 36 = .ok (.getfield 7, 3) := dk_180 0 7 (dk_at dksX6_put_1 14 rfl rfl)
theorem dX6_put_39 : decode cX6_put 39 = .ok (.checkcast 15, 3) := dk_192 0 15 (dk_at dksX6_put_1 17 rfl rfl)
theorem dX6_put_42 : decode cX6_put 42 = .ok (.iload_n 1, 1) := dk_27 (dk_at dksX6_put_1 20 rfl rfl)
theorem dX6_put_43 : decode cX6_put 43 = .ok (.lload_n 2, 1) := dk_32 (dk_at dksX6_put_1 21 rfl rfl)
theorem dX6_put_44 : decode cX6_put 44 = .ok (.l2i, 1) := dk_136 (dk_at dksX6_put_1 22 rfl rfl)
theorem dX6_put_45 : decode cX6_put 45 = .ok (.i2s, 1) := dk_147 (dk_at dksX6_put_1 23 rfl rfl)
theorem dX6_put_46 : decode cX6_put 46 = .ok (.sastore, 1) := dk_86 (dk_at dksX6_put_2 0 rfl rfl)
theorem dX6_put_47 : decode cX6_put 47 = .ok (.goto 37, 3) := dk_167 0 37 (dk_at dksX6_put_2 1 rfl rfl)
theorem dX6_put_50 : decode cX6_put 50 = .ok (.aload_n 0, 1) := dk_42 (dk_at dksX6_put_2 4 rfl rfl)
theorem dX6_put_51 : decode cX6_put 51 = .ok (.getfield 7, 3) := dk_180 0 7 (dk_at dksX6_put_2 5 rfl rfl)
theorem dX6_put_54 : decode cX6_put 54 = .ok (.instanceof 17, 3) := dk_193 0 17 (dk_at dksX6_put_2 8 rfl rfl)
theorem dX6_put_57 : decode cX6_put 57 = .ok (.ifCond .eq 17, 3) := dk_153 0 17 (dk_at dksX6_put_2 11 rfl rfl)
theorem dX6_put_60 : decode cX6_put 60 = .ok (.aload_n 0, 1) := dk_42 (dk_at dksX6_put_2 14 rfl rfl)
theorem dX6_put_61 : decode cX6_put 61 = .ok (.getfield 7, 3) := dk_180 0 7 (dk_at dksX6_put_2 15 rfl rfl)
theorem dX6_put_64 : decode cX6_put 64 = .ok (.checkcast 17, 3) := dk_192 0 17 (dk_at dksX6_put_2 18 rfl rfl)
theorem dX6_put_67 : decode cX6_put 67 = .ok (.iload_n 1, 1) := dk_27 (dk_at dksX6_put_2 21 rfl rfl)
theorem dX6_put_68 : decode cX6_put 68 = .ok (.lload_n 2, 1) := dk_32 (dk_at dksX6_put_2 22 rfl rfl)
theorem dX6_put_69 : decode cX6_put 69 = .ok (.l2i, 1) := dk_136 (dk_at dksX6_put_2 23 rfl rfl)
theorem dX6_put_70 : decode cX6_put 70 = .ok (.iastore, 1) := dk_79 (dk_at dksX6_put_3 0 rfl rfl)
theorem dX6_put_71 : decode cX6_put 71 = .ok (.goto 13, 3) := dk_167 0 13 (dk_at dksX6_put_3 1 rfl rfl)
theorem dX6_put_74 : decode cX6_put 74 = .ok (.aload_n 0, 1) := dk_42 (dk_at dksX6_put_3 4 rfl rfl)
theorem dX6_put_75 : decode cX6_put 75 = .ok (.getfield 7, 3) := dk_180 0 7 (dk_at dksX6_put_3 5 rfl rfl)
theorem dX6_put_78 : decode cX6_put 78 = .ok (.checkcast 19, 3) := dk_192 0 19 (dk_at dksX6_put_3 8 rfl rfl)
theorem dX6_put_81 : decode cX6_put 81 = .ok (.iload_n 1, 1) := dk_27 (dk_at dksX6_put_3 11 rfl rfl)
theorem dX6_put_82 : decode cX6_put 82 = .ok (.lload_n 2, 1) := dk_32 (dk_at dksX6_put_3 12 rfl rfl)
theorem dX6_put_83 : decode cX6_put 83 = .ok (.lastore, 1) := dk_80 (dk_at dksX6_put_3 13 rfl rfl)
theorem dX6_put_84 : decode cX6_put 84 = .ok (.return_, 1) := dk_177 (dk_at dksX6_put_3 14 rfl rfl)
theorem q134 : (Jvm.Cond.initialized "SagMemory$Slot") ∈ lw_all := lw_g (lw_at lw_m1 7 rfl) rfl
theorem q313 : (Jvm.Cond.instantiable "SagMemory$Slot" (1 : Nat)) ∈ lw_all := lw_g (lw_at lw_m1 186 rfl) rfl
theorem q315 : (Jvm.Cond.instanceMethod ({ cls := "SagMemory$Slot", name := "<init>", desc := "()V" } : Jvm.MethodName)) ∈ lw_all := lw_g (lw_at lw_m1 188 rfl) rfl
theorem q316 : (Jvm.Cond.code ({ cls := "SagMemory$Slot", name := "<init>", desc := "()V" } : Jvm.MethodName) prog_7_method_1_code (1 : Nat) (Option.none : Option Jvm.ClassFile.FieldType)) ∈ lw_all := lw_g (lw_at lw_m1 189 rfl) rfl
theorem q317 : (Jvm.Cond.methodLink "SagMemory$Slot" (1 : Nat) ({ cls := "java/lang/Object", name := "<init>", desc := "()V" } : Jvm.MethodName)) ∈ lw_all := lw_g (lw_at lw_m1 190 rfl) rfl
theorem q318 : (Jvm.Cond.fieldLink "SagMemory$Slot" (7 : Nat) "SagMemory$Slot" "row" "Ljava/lang/Object;") ∈ lw_all := lw_g (lw_at lw_m1 191 rfl) rfl
theorem q320 : (Jvm.Cond.lays "SagMemory$Slot" "SagMemory$Slot" "row" "Ljava/lang/Object;") ∈ lw_all := lw_g (lw_at lw_m1 193 rfl) rfl
theorem q321 : (Jvm.Cond.soleField "SagMemory$Slot" "row") ∈ lw_all := lw_g (lw_at lw_m1 194 rfl) rfl
theorem q322 : (Jvm.Cond.superclass "SagMemory$Slot" "java/lang/Object") ∈ lw_all := lw_g (lw_at lw_m1 195 rfl) rfl
theorem q1099 : (Jvm.Cond.instanceMethod ({ cls := "SagMemory$Slot", name := "size", desc := "()I" } : Jvm.MethodName)) ∈ lw_all := lw_g (lw_at lw_m5 12 rfl) rfl
theorem q1100 : (Jvm.Cond.selects "SagMemory$Slot" ({ cls := "SagMemory$Slot", name := "size", desc := "()I" } : Jvm.MethodName) ({ cls := "SagMemory$Slot", name := "size", desc := "()I" } : Jvm.MethodName)) ∈ lw_all := lw_g (lw_at lw_m5 13 rfl) rfl
theorem q1101 : (Jvm.Cond.code ({ cls := "SagMemory$Slot", name := "size", desc := "()I" } : Jvm.MethodName) prog_7_method_3_code (1 : Nat) (Option.some Jvm.ClassFile.FieldType.int)) ∈ lw_all := lw_g (lw_at lw_m5 14 rfl) rfl
theorem q1102 : (Jvm.Cond.classLink "SagMemory$Slot" (13 : Nat) "[B") ∈ lw_all := lw_g (lw_at lw_m5 15 rfl) rfl
theorem q1103 : (Jvm.Cond.classLink "SagMemory$Slot" (15 : Nat) "[S") ∈ lw_all := lw_g (lw_at lw_m5 16 rfl) rfl
theorem q1104 : (Jvm.Cond.classLink "SagMemory$Slot" (17 : Nat) "[I") ∈ lw_all := lw_g (lw_at lw_m5 17 rfl) rfl
theorem q1105 : (Jvm.Cond.classLink "SagMemory$Slot" (19 : Nat) "[J") ∈ lw_all := lw_g (lw_at lw_m5 18 rfl) rfl
theorem q1107 : (Jvm.Cond.instanceMethod ({ cls := "SagMemory$Slot", name := "at", desc := "(I)J" } : Jvm.MethodName)) ∈ lw_all := lw_g (lw_at lw_m5 20 rfl) rfl
theorem q1108 : (Jvm.Cond.selects "SagMemory$Slot" ({ cls := "SagMemory$Slot", name := "at", desc := "(I)J" } : Jvm.MethodName) ({ cls := "SagMemory$Slot", name := "at", desc := "(I)J" } : Jvm.MethodName)) ∈ lw_all := lw_g (lw_at lw_m5 21 rfl) rfl
theorem q1109 : (Jvm.Cond.code ({ cls := "SagMemory$Slot", name := "at", desc := "(I)J" } : Jvm.MethodName) prog_7_method_4_code (2 : Nat) (Option.some Jvm.ClassFile.FieldType.long)) ∈ lw_all := lw_g (lw_at lw_m5 22 rfl) rfl
theorem q1339 : (Jvm.Cond.selects "SagMemory$Slot" ({ cls := "java/lang/Object", name := "getClass", desc := "()Ljava/lang/Class;" } : Jvm.MethodName) ({ cls := "java/lang/Object", name := "getClass", desc := "()Ljava/lang/Class;" } : Jvm.MethodName)) ∈ lw_all := lw_g (lw_at lw_m6 12 rfl) rfl
theorem q1423 : (Jvm.Cond.instanceMethod ({ cls := "SagMemory$Slot", name := "make", desc := "(II)V" } : Jvm.MethodName)) ∈ lw_all := lw_g (lw_at lw_m6 96 rfl) rfl
theorem q1424 : (Jvm.Cond.selects "SagMemory$Slot" ({ cls := "SagMemory$Slot", name := "make", desc := "(II)V" } : Jvm.MethodName) ({ cls := "SagMemory$Slot", name := "make", desc := "(II)V" } : Jvm.MethodName)) ∈ lw_all := lw_g (lw_at lw_m6 97 rfl) rfl
theorem q1425 : (Jvm.Cond.code ({ cls := "SagMemory$Slot", name := "make", desc := "(II)V" } : Jvm.MethodName) prog_7_method_2_code (3 : Nat) (Option.none : Option Jvm.ClassFile.FieldType)) ∈ lw_all := lw_g (lw_at lw_m6 98 rfl) rfl
theorem q1452 : (Jvm.Cond.instanceMethod ({ cls := "SagMemory$Slot", name := "put", desc := "(IJ)V" } : Jvm.MethodName)) ∈ lw_all := lw_g (lw_at lw_m6 125 rfl) rfl
theorem q1453 : (Jvm.Cond.selects "SagMemory$Slot" ({ cls := "SagMemory$Slot", name := "put", desc := "(IJ)V" } : Jvm.MethodName) ({ cls := "SagMemory$Slot", name := "put", desc := "(IJ)V" } : Jvm.MethodName)) ∈ lw_all := lw_g (lw_at lw_m6 126 rfl) rfl
theorem q1454 : (Jvm.Cond.code ({ cls := "SagMemory$Slot", name := "put", desc := "(IJ)V" } : Jvm.MethodName) prog_7_method_5_code (4 : Nat) (Option.none : Option Jvm.ClassFile.FieldType)) ∈ lw_all := lw_g (lw_at lw_m6 127 rfl) rfl
theorem q2286 : (Jvm.Cond.castable "SagMemory$Slot" "java/lang/Object") ∈ lw_tbl := lw_at lw_m9 239 rfl
theorem in_X6 : ∀ w ∈ wsX60, w ∈ lw_all := lw_in wsX60 [320] (by decide +kernel) (by decide +kernel)
/-! java/lang/Math -/
set_option maxRecDepth 100000
def RJ3 : String := "java/lang/Math"
abbrev cJ3_min : ByteArray := prog_24_method_69_code
def yJ3_min : MethodName := ⟨RJ3, "min", "(II)I"⟩
def dkwJ3_min_0 : List UInt8 := [26, 27, 163, 0, 7, 26, 167, 0, 4, 27, 172]
abbrev dktJ3_min_0 : List UInt8 := dkwJ3_min_0 ++ []
theorem dksJ3_min_0 : cJ3_min.data.toList.drop 0 = dktJ3_min_0 := by decide +kernel
theorem dJ3_min_0 : decode cJ3_min 0 = .ok (.iload_n 0, 1) := dk_26 (dk_at dksJ3_min_0 0 rfl rfl)
theorem dJ3_min_1 : decode cJ3_min 1 = .ok (.iload_n 1, 1) := dk_27 (dk_at dksJ3_min_0 1 rfl rfl)
theorem dJ3_min_2 : decode cJ3_min 2 = .ok (.if_icmp .gt 7, 3) := dk_163 0 7 (dk_at dksJ3_min_0 2 rfl rfl)
theorem dJ3_min_5 : decode cJ3_min 5 = .ok (.iload_n 0, 1) := dk_26 (dk_at dksJ3_min_0 5 rfl rfl)
theorem dJ3_min_6 : decode cJ3_min 6 = .ok (.goto 4, 3) := dk_167 0 4 (dk_at dksJ3_min_0 6 rfl rfl)
theorem dJ3_min_9 : decode cJ3_min 9 = .ok (.iload_n 1, 1) := dk_27 (dk_at dksJ3_min_0 9 rfl rfl)
theorem dJ3_min_10 : decode cJ3_min 10 = .ok (.ireturn, 1) := dk_172 (dk_at dksJ3_min_0 10 rfl rfl)
abbrev cJ3_max : ByteArray := prog_24_method_65_code
def yJ3_max : MethodName := ⟨RJ3, "max", "(II)I"⟩
def dkwJ3_max_0 : List UInt8 := [26, 27, 161, 0, 7, 26, 167, 0, 4, 27, 172]
abbrev dktJ3_max_0 : List UInt8 := dkwJ3_max_0 ++ []
theorem dksJ3_max_0 : cJ3_max.data.toList.drop 0 = dktJ3_max_0 := by decide +kernel
theorem dJ3_max_0 : decode cJ3_max 0 = .ok (.iload_n 0, 1) := dk_26 (dk_at dksJ3_max_0 0 rfl rfl)
theorem dJ3_max_1 : decode cJ3_max 1 = .ok (.iload_n 1, 1) := dk_27 (dk_at dksJ3_max_0 1 rfl rfl)
theorem dJ3_max_2 : decode cJ3_max 2 = .ok (.if_icmp .lt 7, 3) := dk_161 0 7 (dk_at dksJ3_max_0 2 rfl rfl)
theorem dJ3_max_5 : decode cJ3_max 5 = .ok (.iload_n 0, 1) := dk_26 (dk_at dksJ3_max_0 5 rfl rfl)
theorem dJ3_max_6 : decode cJ3_max 6 = .ok (.goto 4, 3) := dk_167 0 4 (dk_at dksJ3_max_0 6 rfl rfl)
theorem dJ3_max_9 : decode cJ3_max 9 = .ok (.iload_n 1, 1) := dk_27 (dk_at dksJ3_max_0 9 rfl rfl)
theorem dJ3_max_10 : decode cJ3_max 10 = .ok (.ireturn, 1) := dk_172 (dk_at dksJ3_max_0 10 rfl rfl)
abbrev cJ3_abs : ByteArray := prog_24_method_61_code
def yJ3_abs : MethodName := ⟨RJ3, "abs", "(J)J"⟩
def dkwJ3_abs_0 : List UInt8 := [30, 9, 148, 156, 0, 8, 30, 117, 167, 0, 4, 30, 173]
abbrev dktJ3_abs_0 : List UInt8 := dkwJ3_abs_0 ++ []
theorem dksJ3_abs_0 : cJ3_abs.data.toList.drop 0 = dktJ3_abs_0 := by decide +kernel
theorem dJ3_abs_0 : decode cJ3_abs 0 = .ok (.lload_n 0, 1) := dk_30 (dk_at dksJ3_abs_0 0 rfl rfl)
theorem dJ3_abs_1 : decode cJ3_abs 1 = .ok (.lconst 0, 1) := dk_9 (dk_at dksJ3_abs_0 1 rfl rfl)
theorem dJ3_abs_2 : decode cJ3_abs 2 = .ok (.lcmp, 1) := dk_148 (dk_at dksJ3_abs_0 2 rfl rfl)
theorem dJ3_abs_3 : decode cJ3_abs 3 = .ok (.ifCond .ge 8, 3) := dk_156 0 8 (dk_at dksJ3_abs_0 3 rfl rfl)
theorem dJ3_abs_6 : decode cJ3_abs 6 = .ok (.lload_n 0, 1) := dk_30 (dk_at dksJ3_abs_0 6 rfl rfl)
theorem dJ3_abs_7 : decode cJ3_abs 7 = .ok (.lneg, 1) := dk_117 (dk_at dksJ3_abs_0 7 rfl rfl)
theorem dJ3_abs_8 : decode cJ3_abs 8 = .ok (.goto 4, 3) := dk_167 0 4 (dk_at dksJ3_abs_0 8 rfl rfl)
theorem dJ3_abs_11 : decode cJ3_abs 11 = .ok (.lload_n 0, 1) := dk_30 (dk_at dksJ3_abs_0 11 rfl rfl)
theorem dJ3_abs_12 : decode cJ3_abs 12 = .ok (.lreturn, 1) := dk_173 (dk_at dksJ3_abs_0 12 rfl rfl)
theorem q142 : (Jvm.Cond.initialized "java/lang/Math") ∈ lw_all := lw_g (lw_at lw_m1 15 rfl) rfl
theorem q538 : (Jvm.Cond.static ({ cls := "java/lang/Math", name := "min", desc := "(II)I" } : Jvm.MethodName)) ∈ lw_all := lw_g (lw_at lw_m2 171 rfl) rfl
theorem q539 : (Jvm.Cond.code ({ cls := "java/lang/Math", name := "min", desc := "(II)I" } : Jvm.MethodName) prog_24_method_69_code (2 : Nat) (Option.some Jvm.ClassFile.FieldType.int)) ∈ lw_all := lw_g (lw_at lw_m2 172 rfl) rfl
theorem q836 : (Jvm.Cond.static ({ cls := "java/lang/Math", name := "max", desc := "(II)I" } : Jvm.MethodName)) ∈ lw_all := lw_g (lw_at lw_m3 229 rfl) rfl
theorem q837 : (Jvm.Cond.code ({ cls := "java/lang/Math", name := "max", desc := "(II)I" } : Jvm.MethodName) prog_24_method_65_code (2 : Nat) (Option.some Jvm.ClassFile.FieldType.int)) ∈ lw_all := lw_g (lw_at lw_m3 230 rfl) rfl
theorem q1204 : (Jvm.Cond.static ({ cls := "java/lang/Math", name := "abs", desc := "(J)J" } : Jvm.MethodName)) ∈ lw_all := lw_g (lw_at lw_m5 117 rfl) rfl
theorem q1205 : (Jvm.Cond.code ({ cls := "java/lang/Math", name := "abs", desc := "(J)J" } : Jvm.MethodName) prog_24_method_61_code (2 : Nat) (Option.some Jvm.ClassFile.FieldType.long)) ∈ lw_all := lw_g (lw_at lw_m5 118 rfl) rfl
/-! java/lang/Integer -/
set_option maxRecDepth 100000
def RJ10 : String := "java/lang/Integer"
abbrev cJ10_bitCount : ByteArray := prog_22_method_49_code
def yJ10_bitCount : MethodName := ⟨RJ10, "bitCount", "(I)I"⟩
def dkwJ10_bitCount_2 : List UInt8 := [26, 16, 63, 126, 172]
abbrev dktJ10_bitCount_2 : List UInt8 := dkwJ10_bitCount_2 ++ []
def dkwJ10_bitCount_1 : List UInt8 := [26, 26, 7, 124, 96, 19, 1, 11, 126, 59, 26, 26, 16, 8, 124, 96, 59, 26, 26, 16, 16, 124, 96, 59]
abbrev dktJ10_bitCount_1 : List UInt8 := dkwJ10_bitCount_1 ++ dktJ10_bitCount_2
def dkwJ10_bitCount_0 : List UInt8 := [26, 26, 4, 124, 19, 1, 9, 126, 100, 59, 26, 19, 1, 10, 126, 26, 5, 124, 19, 1, 10, 126, 96, 59]
abbrev dktJ10_bitCount_0 : List UInt8 := dkwJ10_bitCount_0 ++ dktJ10_bitCount_1
theorem dksJ10_bitCount_0 : cJ10_bitCount.data.toList.drop 0 = dktJ10_bitCount_0 := by decide +kernel
theorem dksJ10_bitCount_1 : cJ10_bitCount.data.toList.drop 24 = dktJ10_bitCount_1 := dk_seg dksJ10_bitCount_0 24 rfl rfl
theorem dksJ10_bitCount_2 : cJ10_bitCount.data.toList.drop 48 = dktJ10_bitCount_2 := dk_seg dksJ10_bitCount_1 24 rfl rfl
theorem dJ10_bitCount_0 : decode cJ10_bitCount 0 = .ok (.iload_n 0, 1) := dk_26 (dk_at dksJ10_bitCount_0 0 rfl rfl)
theorem dJ10_bitCount_1 : decode cJ10_bitCount 1 = .ok (.iload_n 0, 1) := dk_26 (dk_at dksJ10_bitCount_0 1 rfl rfl)
theorem dJ10_bitCount_2 : decode cJ10_bitCount 2 = .ok (.iconst 1, 1) := dk_4 (dk_at dksJ10_bitCount_0 2 rfl rfl)
theorem dJ10_bitCount_3 : decode cJ10_bitCount 3 = .ok (.iushr, 1) := dk_124 (dk_at dksJ10_bitCount_0 3 rfl rfl)
theorem dJ10_bitCount_4 : decode cJ10_bitCount 4 = .ok (.ldc_w 265, 3) := dk_19 1 9 (dk_at dksJ10_bitCount_0 4 rfl rfl)
theorem dJ10_bitCount_7 : decode cJ10_bitCount 7 = .ok (.iand, 1) := dk_126 (dk_at dksJ10_bitCount_0 7 rfl rfl)
theorem dJ10_bitCount_8 : decode cJ10_bitCount 8 = .ok (.isub, 1) := dk_100 (dk_at dksJ10_bitCount_0 8 rfl rfl)
theorem dJ10_bitCount_9 : decode cJ10_bitCount 9 = .ok (.istore_n 0, 1) := dk_59 (dk_at dksJ10_bitCount_0 9 rfl rfl)
theorem dJ10_bitCount_10 : decode cJ10_bitCount 10 = .ok (.iload_n 0, 1) := dk_26 (dk_at dksJ10_bitCount_0 10 rfl rfl)
theorem dJ10_bitCount_11 : decode cJ10_bitCount 11 = .ok (.ldc_w 266, 3) := dk_19 1 10 (dk_at dksJ10_bitCount_0 11 rfl rfl)
theorem dJ10_bitCount_14 : decode cJ10_bitCount 14 = .ok (.iand, 1) := dk_126 (dk_at dksJ10_bitCount_0 14 rfl rfl)
theorem dJ10_bitCount_15 : decode cJ10_bitCount 15 = .ok (.iload_n 0, 1) := dk_26 (dk_at dksJ10_bitCount_0 15 rfl rfl)
theorem dJ10_bitCount_16 : decode cJ10_bitCount 16 = .ok (.iconst 2, 1) := dk_5 (dk_at dksJ10_bitCount_0 16 rfl rfl)
theorem dJ10_bitCount_17 : decode cJ10_bitCount 17 = .ok (.iushr, 1) := dk_124 (dk_at dksJ10_bitCount_0 17 rfl rfl)
theorem dJ10_bitCount_18 : decode cJ10_bitCount 18 = .ok (.ldc_w 266, 3) := dk_19 1 10 (dk_at dksJ10_bitCount_0 18 rfl rfl)
theorem dJ10_bitCount_21 : decode cJ10_bitCount 21 = .ok (.iand, 1) := dk_126 (dk_at dksJ10_bitCount_0 21 rfl rfl)
theorem dJ10_bitCount_22 : decode cJ10_bitCount 22 = .ok (.iadd, 1) := dk_96 (dk_at dksJ10_bitCount_0 22 rfl rfl)
theorem dJ10_bitCount_23 : decode cJ10_bitCount 23 = .ok (.istore_n 0, 1) := dk_59 (dk_at dksJ10_bitCount_0 23 rfl rfl)
theorem dJ10_bitCount_24 : decode cJ10_bitCount 24 = .ok (.iload_n 0, 1) := dk_26 (dk_at dksJ10_bitCount_1 0 rfl rfl)
theorem dJ10_bitCount_25 : decode cJ10_bitCount 25 = .ok (.iload_n 0, 1) := dk_26 (dk_at dksJ10_bitCount_1 1 rfl rfl)
theorem dJ10_bitCount_26 : decode cJ10_bitCount 26 = .ok (.iconst 4, 1) := dk_7 (dk_at dksJ10_bitCount_1 2 rfl rfl)
theorem dJ10_bitCount_27 : decode cJ10_bitCount 27 = .ok (.iushr, 1) := dk_124 (dk_at dksJ10_bitCount_1 3 rfl rfl)
theorem dJ10_bitCount_28 : decode cJ10_bitCount 28 = .ok (.iadd, 1) := dk_96 (dk_at dksJ10_bitCount_1 4 rfl rfl)
theorem dJ10_bitCount_29 : decode cJ10_bitCount 29 = .ok (.ldc_w 267, 3) := dk_19 1 11 (dk_at dksJ10_bitCount_1 5 rfl rfl)
theorem dJ10_bitCount_32 : decode cJ10_bitCount 32 = .ok (.iand, 1) := dk_126 (dk_at dksJ10_bitCount_1 8 rfl rfl)
theorem dJ10_bitCount_33 : decode cJ10_bitCount 33 = .ok (.istore_n 0, 1) := dk_59 (dk_at dksJ10_bitCount_1 9 rfl rfl)
theorem dJ10_bitCount_34 : decode cJ10_bitCount 34 = .ok (.iload_n 0, 1) := dk_26 (dk_at dksJ10_bitCount_1 10 rfl rfl)
theorem dJ10_bitCount_35 : decode cJ10_bitCount 35 = .ok (.iload_n 0, 1) := dk_26 (dk_at dksJ10_bitCount_1 11 rfl rfl)
theorem dJ10_bitCount_36 : decode cJ10_bitCount 36 = .ok (.bipush 8, 2) := dk_16 8 (dk_at dksJ10_bitCount_1 12 rfl rfl)
theorem dJ10_bitCount_38 : decode cJ10_bitCount 38 = .ok (.iushr, 1) := dk_124 (dk_at dksJ10_bitCount_1 14 rfl rfl)
theorem dJ10_bitCount_39 : decode cJ10_bitCount 39 = .ok (.iadd, 1) := dk_96 (dk_at dksJ10_bitCount_1 15 rfl rfl)
theorem dJ10_bitCount_40 : decode cJ10_bitCount 40 = .ok (.istore_n 0, 1) := dk_59 (dk_at dksJ10_bitCount_1 16 rfl rfl)
theorem dJ10_bitCount_41 : decode cJ10_bitCount 41 = .ok (.iload_n 0, 1) := dk_26 (dk_at dksJ10_bitCount_1 17 rfl rfl)
theorem dJ10_bitCount_42 : decode cJ10_bitCount 42 = .ok (.iload_n 0, 1) := dk_26 (dk_at dksJ10_bitCount_1 18 rfl rfl)
theorem dJ10_bitCount_43 : decode cJ10_bitCount 43 = .ok (.bipush 16, 2) := dk_16 16 (dk_at dksJ10_bitCount_1 19 rfl rfl)
theorem dJ10_bitCount_45 : decode cJ10_bitCount 45 = .ok (.iushr, 1) := dk_124 (dk_at dksJ10_bitCount_1 21 rfl rfl)
theorem dJ10_bitCount_46 : decode cJ10_bitCount 46 = .ok (.iadd, 1) := dk_96 (dk_at dksJ10_bitCount_1 22 rfl rfl)
theorem dJ10_bitCount_47 : decode cJ10_bitCount 47 = .ok (.istore_n 0, 1) := dk_59 (dk_at dksJ10_bitCount_1 23 rfl rfl)
theorem dJ10_bitCount_48 : decode cJ10_bitCount 48 = .ok (.iload_n 0, 1) := dk_26 (dk_at dksJ10_bitCount_2 0 rfl rfl)
theorem dJ10_bitCount_49 : decode cJ10_bitCount 49 = .ok (.bipush 63, 2) := dk_16 63 (dk_at dksJ10_bitCount_2 1 rfl rfl)
theorem dJ10_bitCount_51 : decode cJ10_bitCount 51 = .ok (.iand, 1) := dk_126 (dk_at dksJ10_bitCount_2 3 rfl rfl)
theorem dJ10_bitCount_52 : decode cJ10_bitCount 52 = .ok (.ireturn, 1) := dk_172 (dk_at dksJ10_bitCount_2 4 rfl rfl)
theorem q151 : (Jvm.Cond.initialized "java/lang/Integer") ∈ lw_all := lw_g (lw_at lw_m1 24 rfl) rfl
theorem q998 : (Jvm.Cond.static ({ cls := "java/lang/Integer", name := "bitCount", desc := "(I)I" } : Jvm.MethodName)) ∈ lw_all := lw_g (lw_at lw_m4 151 rfl) rfl
theorem q999 : (Jvm.Cond.code ({ cls := "java/lang/Integer", name := "bitCount", desc := "(I)I" } : Jvm.MethodName) prog_22_method_49_code (1 : Nat) (Option.some Jvm.ClassFile.FieldType.int)) ∈ lw_all := lw_g (lw_at lw_m4 152 rfl) rfl
theorem q1000 : (Jvm.Cond.constant "java/lang/Integer" (265 : Nat) (1431655765 : Int32)) ∈ lw_all := lw_g (lw_at lw_m4 153 rfl) rfl
theorem q1001 : (Jvm.Cond.constant "java/lang/Integer" (266 : Nat) (858993459 : Int32)) ∈ lw_all := lw_g (lw_at lw_m4 154 rfl) rfl
theorem q1002 : (Jvm.Cond.constant "java/lang/Integer" (267 : Nat) (252645135 : Int32)) ∈ lw_all := lw_g (lw_at lw_m4 155 rfl) rfl
theorem q127 : (Jvm.Cond.initialized "SagMemoryLaw") ∈ lw_all := lw_g (lw_at lw_m1 0 rfl) rfl
set_option maxRecDepth 100000
theorem q161 : (Jvm.Cond.classLink "SagMemoryLaw" (7 : Nat) "SagMemory") ∈ lw_all := lw_g (lw_at lw_m1 34 rfl) rfl
theorem q163 : (Jvm.Cond.methodLink "SagMemoryLaw" (9 : Nat) ({ cls := "SagMemory", name := "<init>", desc := "()V" } : Jvm.MethodName)) ∈ lw_all := lw_g (lw_at lw_m1 36 rfl) rfl
theorem q495 : (Jvm.Cond.methodLink "SagMemoryLaw" (13 : Nat) ({ cls := "SagMemory", name := "feed", desc := "(IIIII)I" } : Jvm.MethodName)) ∈ lw_all := lw_g (lw_at lw_m2 128 rfl) rfl
theorem q503 : (Jvm.Cond.methodLink "SagMemoryLaw" (18 : Nat) ({ cls := "SagMemory", name := "end", desc := "(I)I" } : Jvm.MethodName)) ∈ lw_all := lw_g (lw_at lw_m2 136 rfl) rfl
theorem q510 : (Jvm.Cond.methodLink "SagMemoryLaw" (23 : Nat) ({ cls := "SagMemory", name := "valley", desc := "()I" } : Jvm.MethodName)) ∈ lw_all := lw_g (lw_at lw_m2 143 rfl) rfl
theorem q758 : (Jvm.Cond.methodLink "SagMemoryLaw" (28 : Nat) ({ cls := "SagMemory", name := "fault", desc := "(I)I" } : Jvm.MethodName)) ∈ lw_all := lw_g (lw_at lw_m3 151 rfl) rfl
theorem q762 : (Jvm.Cond.methodLink "SagMemoryLaw" (32 : Nat) ({ cls := "SagMemory", name := "bridge", desc := "(II)I" } : Jvm.MethodName)) ∈ lw_all := lw_g (lw_at lw_m3 155 rfl) rfl
theorem q773 : (Jvm.Cond.methodLink "SagMemoryLaw" (37 : Nat) ({ cls := "SagMemory", name := "cart", desc := "(II)I" } : Jvm.MethodName)) ∈ lw_all := lw_g (lw_at lw_m3 166 rfl) rfl
theorem q781 : (Jvm.Cond.methodLink "SagMemoryLaw" (41 : Nat) ({ cls := "SagMemory", name := "ward", desc := "(II)I" } : Jvm.MethodName)) ∈ lw_all := lw_g (lw_at lw_m3 174 rfl) rfl
theorem q785 : (Jvm.Cond.methodLink "SagMemoryLaw" (45 : Nat) ({ cls := "SagMemory", name := "cold", desc := "(I)I" } : Jvm.MethodName)) ∈ lw_all := lw_g (lw_at lw_m3 178 rfl) rfl
theorem q796 : (Jvm.Cond.methodLink "SagMemoryLaw" (49 : Nat) ({ cls := "SagMemory", name := "goes", desc := "(I)I" } : Jvm.MethodName)) ∈ lw_all := lw_g (lw_at lw_m3 189 rfl) rfl
theorem q863 : (Jvm.Cond.methodLink "SagMemoryLaw" (53 : Nat) ({ cls := "SagMemory", name := "comes", desc := "(I)I" } : Jvm.MethodName)) ∈ lw_all := lw_g (lw_at lw_m4 16 rfl) rfl
theorem q867 : (Jvm.Cond.methodLink "SagMemoryLaw" (57 : Nat) ({ cls := "SagMemory", name := "over", desc := "(I)I" } : Jvm.MethodName)) ∈ lw_all := lw_g (lw_at lw_m4 20 rfl) rfl
theorem q879 : (Jvm.Cond.methodLink "SagMemoryLaw" (61 : Nat) ({ cls := "SagMemory", name := "waits", desc := "()I" } : Jvm.MethodName)) ∈ lw_all := lw_g (lw_at lw_m4 32 rfl) rfl
theorem q883 : (Jvm.Cond.methodLink "SagMemoryLaw" (65 : Nat) ({ cls := "SagMemory", name := "deep", desc := "(II)I" } : Jvm.MethodName)) ∈ lw_all := lw_g (lw_at lw_m4 36 rfl) rfl
theorem q891 : (Jvm.Cond.methodLink "SagMemoryLaw" (69 : Nat) ({ cls := "SagMemory", name := "load", desc := "(III)I" } : Jvm.MethodName)) ∈ lw_all := lw_g (lw_at lw_m4 44 rfl) rfl
theorem q895 : (Jvm.Cond.methodLink "SagMemoryLaw" (74 : Nat) ({ cls := "SagMemory", name := "sag", desc := "(II)I" } : Jvm.MethodName)) ∈ lw_all := lw_g (lw_at lw_m4 48 rfl) rfl
theorem q899 : (Jvm.Cond.methodLink "SagMemoryLaw" (78 : Nat) ({ cls := "SagMemory", name := "all", desc := "(I)I" } : Jvm.MethodName)) ∈ lw_all := lw_g (lw_at lw_m4 52 rfl) rfl
theorem q903 : (Jvm.Cond.methodLink "SagMemoryLaw" (82 : Nat) ({ cls := "SagMemory", name := "deepest", desc := "(I)I" } : Jvm.MethodName)) ∈ lw_all := lw_g (lw_at lw_m4 56 rfl) rfl
theorem q907 : (Jvm.Cond.methodLink "SagMemoryLaw" (86 : Nat) ({ cls := "SagMemory", name := "gives", desc := "(I)I" } : Jvm.MethodName)) ∈ lw_all := lw_g (lw_at lw_m4 60 rfl) rfl
theorem q911 : (Jvm.Cond.methodLink "SagMemoryLaw" (90 : Nat) ({ cls := "SagMemory", name := "creak", desc := "(I)I" } : Jvm.MethodName)) ∈ lw_all := lw_g (lw_at lw_m4 64 rfl) rfl
theorem q915 : (Jvm.Cond.methodLink "SagMemoryLaw" (94 : Nat) ({ cls := "SagMemory", name := "loudest", desc := "()I" } : Jvm.MethodName)) ∈ lw_all := lw_g (lw_at lw_m4 68 rfl) rfl
theorem q919 : (Jvm.Cond.methodLink "SagMemoryLaw" (98 : Nat) ({ cls := "SagMemory", name := "pays", desc := "(I)I" } : Jvm.MethodName)) ∈ lw_all := lw_g (lw_at lw_m4 72 rfl) rfl
theorem q923 : (Jvm.Cond.methodLink "SagMemoryLaw" (102 : Nat) ({ cls := "SagMemory", name := "tolls", desc := "()I" } : Jvm.MethodName)) ∈ lw_all := lw_g (lw_at lw_m4 76 rfl) rfl
theorem q927 : (Jvm.Cond.methodLink "SagMemoryLaw" (106 : Nat) ({ cls := "SagMemory", name := "wipes", desc := "(I)I" } : Jvm.MethodName)) ∈ lw_all := lw_g (lw_at lw_m4 80 rfl) rfl
theorem q931 : (Jvm.Cond.methodLink "SagMemoryLaw" (110 : Nat) ({ cls := "SagMemory", name := "breaks", desc := "(I)I" } : Jvm.MethodName)) ∈ lw_all := lw_g (lw_at lw_m4 84 rfl) rfl
theorem q935 : (Jvm.Cond.methodLink "SagMemoryLaw" (114 : Nat) ({ cls := "SagMemory", name := "fails", desc := "()I" } : Jvm.MethodName)) ∈ lw_all := lw_g (lw_at lw_m4 88 rfl) rfl
theorem q939 : (Jvm.Cond.methodLink "SagMemoryLaw" (118 : Nat) ({ cls := "SagMemory", name := "spare", desc := "(I)I" } : Jvm.MethodName)) ∈ lw_all := lw_g (lw_at lw_m4 92 rfl) rfl
theorem q943 : (Jvm.Cond.methodLink "SagMemoryLaw" (122 : Nat) ({ cls := "SagMemory", name := "kept", desc := "(I)I" } : Jvm.MethodName)) ∈ lw_all := lw_g (lw_at lw_m4 96 rfl) rfl
theorem q947 : (Jvm.Cond.methodLink "SagMemoryLaw" (126 : Nat) ({ cls := "SagMemory", name := "last", desc := "(II)I" } : Jvm.MethodName)) ∈ lw_all := lw_g (lw_at lw_m4 100 rfl) rfl
theorem q951 : (Jvm.Cond.methodLink "SagMemoryLaw" (130 : Nat) ({ cls := "SagMemory", name := "broken", desc := "(I)I" } : Jvm.MethodName)) ∈ lw_all := lw_g (lw_at lw_m4 104 rfl) rfl
theorem q955 : (Jvm.Cond.methodLink "SagMemoryLaw" (134 : Nat) ({ cls := "SagMemory", name := "free", desc := "(II)I" } : Jvm.MethodName)) ∈ lw_all := lw_g (lw_at lw_m4 108 rfl) rfl
theorem q963 : (Jvm.Cond.methodLink "SagMemoryLaw" (138 : Nat) ({ cls := "SagMemory", name := "most", desc := "(II)I" } : Jvm.MethodName)) ∈ lw_all := lw_g (lw_at lw_m4 116 rfl) rfl
theorem q967 : (Jvm.Cond.methodLink "SagMemoryLaw" (142 : Nat) ({ cls := "SagMemory", name := "least", desc := "()I" } : Jvm.MethodName)) ∈ lw_all := lw_g (lw_at lw_m4 120 rfl) rfl
theorem q1003 : (Jvm.Cond.methodLink "SagMemoryLaw" (146 : Nat) ({ cls := "SagMemory", name := "order", desc := "(I)I" } : Jvm.MethodName)) ∈ lw_all := lw_g (lw_at lw_m4 156 rfl) rfl
theorem q1007 : (Jvm.Cond.methodLink "SagMemoryLaw" (150 : Nat) ({ cls := "SagMemory", name := "orders", desc := "()I" } : Jvm.MethodName)) ∈ lw_all := lw_g (lw_at lw_m4 160 rfl) rfl
theorem q1011 : (Jvm.Cond.methodLink "SagMemoryLaw" (154 : Nat) ({ cls := "SagMemory", name := "across", desc := "()I" } : Jvm.MethodName)) ∈ lw_all := lw_g (lw_at lw_m4 164 rfl) rfl
theorem q1015 : (Jvm.Cond.methodLink "SagMemoryLaw" (158 : Nat) ({ cls := "SagMemory", name := "routes", desc := "()I" } : Jvm.MethodName)) ∈ lw_all := lw_g (lw_at lw_m4 168 rfl) rfl
theorem q1027 : (Jvm.Cond.methodLink "SagMemoryLaw" (162 : Nat) ({ cls := "SagMemory", name := "route", desc := "(I)I" } : Jvm.MethodName)) ∈ lw_all := lw_g (lw_at lw_m4 180 rfl) rfl
theorem q1031 : (Jvm.Cond.methodLink "SagMemoryLaw" (166 : Nat) ({ cls := "SagMemory", name := "safe", desc := "()I" } : Jvm.MethodName)) ∈ lw_all := lw_g (lw_at lw_m4 184 rfl) rfl
theorem q1035 : (Jvm.Cond.methodLink "SagMemoryLaw" (170 : Nat) ({ cls := "SagMemory", name := "spared", desc := "(I)I" } : Jvm.MethodName)) ∈ lw_all := lw_g (lw_at lw_m4 188 rfl) rfl
theorem q1039 : (Jvm.Cond.methodLink "SagMemoryLaw" (174 : Nat) ({ cls := "SagMemory", name := "worst", desc := "()I" } : Jvm.MethodName)) ∈ lw_all := lw_g (lw_at lw_m4 192 rfl) rfl
theorem q1043 : (Jvm.Cond.methodLink "SagMemoryLaw" (178 : Nat) ({ cls := "SagMemory", name := "forget", desc := "()I" } : Jvm.MethodName)) ∈ lw_all := lw_g (lw_at lw_m4 196 rfl) rfl
theorem q1047 : (Jvm.Cond.methodLink "SagMemoryLaw" (182 : Nat) ({ cls := "SagMemory", name := "sets", desc := "(II)I" } : Jvm.MethodName)) ∈ lw_all := lw_g (lw_at lw_m4 200 rfl) rfl
theorem q1110 : (Jvm.Cond.methodLink "SagMemoryLaw" (186 : Nat) ({ cls := "SagMemory", name := "surely", desc := "(II)I" } : Jvm.MethodName)) ∈ lw_all := lw_g (lw_at lw_m5 23 rfl) rfl
theorem q1114 : (Jvm.Cond.methodLink "SagMemoryLaw" (190 : Nat) ({ cls := "SagMemory", name := "never", desc := "(II)I" } : Jvm.MethodName)) ∈ lw_all := lw_g (lw_at lw_m5 27 rfl) rfl
theorem q1118 : (Jvm.Cond.methodLink "SagMemoryLaw" (194 : Nat) ({ cls := "SagMemory", name := "fewest", desc := "(II)I" } : Jvm.MethodName)) ∈ lw_all := lw_g (lw_at lw_m5 31 rfl) rfl
theorem q1122 : (Jvm.Cond.methodLink "SagMemoryLaw" (198 : Nat) ({ cls := "SagMemory", name := "ask", desc := "(II)I" } : Jvm.MethodName)) ∈ lw_all := lw_g (lw_at lw_m5 35 rfl) rfl
theorem q1130 : (Jvm.Cond.methodLink "SagMemoryLaw" (202 : Nat) ({ cls := "SagMemory", name := "leaves", desc := "(II)I" } : Jvm.MethodName)) ∈ lw_all := lw_g (lw_at lw_m5 43 rfl) rfl
theorem q1134 : (Jvm.Cond.methodLink "SagMemoryLaw" (206 : Nat) ({ cls := "SagMemory", name := "loads", desc := "(II)I" } : Jvm.MethodName)) ∈ lw_all := lw_g (lw_at lw_m5 47 rfl) rfl
theorem q1159 : (Jvm.Cond.methodLink "SagMemoryLaw" (210 : Nat) ({ cls := "SagMemory", name := "light", desc := "(II)I" } : Jvm.MethodName)) ∈ lw_all := lw_g (lw_at lw_m5 72 rfl) rfl
theorem q1163 : (Jvm.Cond.methodLink "SagMemoryLaw" (214 : Nat) ({ cls := "SagMemory", name := "heavy", desc := "(II)I" } : Jvm.MethodName)) ∈ lw_all := lw_g (lw_at lw_m5 76 rfl) rfl
theorem q1167 : (Jvm.Cond.methodLink "SagMemoryLaw" (218 : Nat) ({ cls := "SagMemory", name := "liars", desc := "(I)I" } : Jvm.MethodName)) ∈ lw_all := lw_g (lw_at lw_m5 80 rfl) rfl
theorem q1171 : (Jvm.Cond.methodLink "SagMemoryLaw" (222 : Nat) ({ cls := "SagMemory", name := "laws", desc := "(I)I" } : Jvm.MethodName)) ∈ lw_all := lw_g (lw_at lw_m5 84 rfl) rfl
theorem q1175 : (Jvm.Cond.methodLink "SagMemoryLaw" (226 : Nat) ({ cls := "SagMemory", name := "by", desc := "(I)I" } : Jvm.MethodName)) ∈ lw_all := lw_g (lw_at lw_m5 88 rfl) rfl
theorem q1186 : (Jvm.Cond.methodLink "SagMemoryLaw" (230 : Nat) ({ cls := "SagMemory", name := "law", desc := "()I" } : Jvm.MethodName)) ∈ lw_all := lw_g (lw_at lw_m5 99 rfl) rfl
theorem q1190 : (Jvm.Cond.methodLink "SagMemoryLaw" (234 : Nat) ({ cls := "SagMemory", name := "share", desc := "(II)I" } : Jvm.MethodName)) ∈ lw_all := lw_g (lw_at lw_m5 103 rfl) rfl
theorem q1206 : (Jvm.Cond.methodLink "SagMemoryLaw" (238 : Nat) ({ cls := "SagMemory", name := "rests", desc := "(II)I" } : Jvm.MethodName)) ∈ lw_all := lw_g (lw_at lw_m5 119 rfl) rfl
theorem q1226 : (Jvm.Cond.methodLink "SagMemoryLaw" (242 : Nat) ({ cls := "SagMemory", name := "rest", desc := "(II)I" } : Jvm.MethodName)) ∈ lw_all := lw_g (lw_at lw_m5 139 rfl) rfl
theorem q1230 : (Jvm.Cond.methodLink "SagMemoryLaw" (246 : Nat) ({ cls := "SagMemory", name := "chance", desc := "(II)I" } : Jvm.MethodName)) ∈ lw_all := lw_g (lw_at lw_m5 143 rfl) rfl
theorem q1238 : (Jvm.Cond.methodLink "SagMemoryLaw" (250 : Nat) ({ cls := "SagMemory", name := "mean", desc := "(II)J" } : Jvm.MethodName)) ∈ lw_all := lw_g (lw_at lw_m5 151 rfl) rfl
theorem q1243 : (Jvm.Cond.methodLink "SagMemoryLaw" (271 : Nat) ({ cls := "SagMemory", name := "drawn", desc := "(II)I" } : Jvm.MethodName)) ∈ lw_all := lw_g (lw_at lw_m5 156 rfl) rfl
theorem q1260 : (Jvm.Cond.methodLink "SagMemoryLaw" (275 : Nat) ({ cls := "SagMemory", name := "luck", desc := "(III)I" } : Jvm.MethodName)) ∈ lw_all := lw_g (lw_at lw_m5 173 rfl) rfl
theorem q1265 : (Jvm.Cond.methodLink "SagMemoryLaw" (255 : Nat) ({ cls := "SagMemory", name := "send", desc := "(II)I" } : Jvm.MethodName)) ∈ lw_all := lw_g (lw_at lw_m5 178 rfl) rfl
theorem q1273 : (Jvm.Cond.methodLink "SagMemoryLaw" (259 : Nat) ({ cls := "SagMemory", name := "freeze", desc := "(II)I" } : Jvm.MethodName)) ∈ lw_all := lw_g (lw_at lw_m5 186 rfl) rfl
theorem q1277 : (Jvm.Cond.methodLink "SagMemoryLaw" (263 : Nat) ({ cls := "SagMemory", name := "undo", desc := "()I" } : Jvm.MethodName)) ∈ lw_all := lw_g (lw_at lw_m5 190 rfl) rfl
theorem q1281 : (Jvm.Cond.methodLink "SagMemoryLaw" (267 : Nat) ({ cls := "SagMemory", name := "anew", desc := "()I" } : Jvm.MethodName)) ∈ lw_all := lw_g (lw_at lw_m5 194 rfl) rfl
theorem q1285 : (Jvm.Cond.methodLink "SagMemoryLaw" (279 : Nat) ({ cls := "SagMemory", name := "rate", desc := "(II)I" } : Jvm.MethodName)) ∈ lw_all := lw_g (lw_at lw_m5 198 rfl) rfl
theorem q1290 : (Jvm.Cond.methodLink "SagMemoryLaw" (283 : Nat) ({ cls := "SagMemory", name := "count", desc := "(I)I" } : Jvm.MethodName)) ∈ lw_all := lw_g (lw_at lw_m5 203 rfl) rfl
theorem q1294 : (Jvm.Cond.methodLink "SagMemoryLaw" (287 : Nat) ({ cls := "SagMemory", name := "image", desc := "(I)I" } : Jvm.MethodName)) ∈ lw_all := lw_g (lw_at lw_m5 207 rfl) rfl
theorem q1379 : (Jvm.Cond.methodLink "SagMemoryLaw" (291 : Nat) ({ cls := "SagMemory", name := "back", desc := "(I)I" } : Jvm.MethodName)) ∈ lw_all := lw_g (lw_at lw_m6 52 rfl) rfl
theorem q1391 : (Jvm.Cond.methodLink "SagMemoryLaw" (295 : Nat) ({ cls := "SagMemory", name := "row", desc := "(III)I" } : Jvm.MethodName)) ∈ lw_all := lw_g (lw_at lw_m6 64 rfl) rfl
theorem q1428 : (Jvm.Cond.methodLink "SagMemoryLaw" (301 : Nat) ({ cls := "SagMemory", name := "write", desc := "(IIJ)I" } : Jvm.MethodName)) ∈ lw_all := lw_g (lw_at lw_m6 101 rfl) rfl
theorem q1455 : (Jvm.Cond.methodLink "SagMemoryLaw" (306 : Nat) ({ cls := "SagMemory", name := "paste", desc := "(IIIII)I" } : Jvm.MethodName)) ∈ lw_all := lw_g (lw_at lw_m6 128 rfl) rfl
theorem q1474 : (Jvm.Cond.classLink "SagMemoryLaw" (10 : Nat) "SagMemoryModel") ∈ lw_all := lw_g (lw_at lw_m6 147 rfl) rfl
theorem q1476 : (Jvm.Cond.methodLink "SagMemoryLaw" (12 : Nat) ({ cls := "SagMemoryModel", name := "<init>", desc := "()V" } : Jvm.MethodName)) ∈ lw_all := lw_g (lw_at lw_m6 149 rfl) rfl
theorem q1659 : (Jvm.Cond.methodLink "SagMemoryLaw" (298 : Nat) ({ cls := "SagMemoryModel", name := "row", desc := "(III)I" } : Jvm.MethodName)) ∈ lw_all := lw_g (lw_at lw_m7 92 rfl) rfl
theorem q1670 : (Jvm.Cond.methodLink "SagMemoryLaw" (305 : Nat) ({ cls := "SagMemoryModel", name := "write", desc := "(IIJ)I" } : Jvm.MethodName)) ∈ lw_all := lw_g (lw_at lw_m7 103 rfl) rfl
theorem q1677 : (Jvm.Cond.methodLink "SagMemoryLaw" (309 : Nat) ({ cls := "SagMemoryModel", name := "paste", desc := "(IIIII)I" } : Jvm.MethodName)) ∈ lw_all := lw_g (lw_at lw_m7 110 rfl) rfl
theorem q1681 : (Jvm.Cond.methodLink "SagMemoryLaw" (17 : Nat) ({ cls := "SagMemoryModel", name := "feed", desc := "(IIIII)I" } : Jvm.MethodName)) ∈ lw_all := lw_g (lw_at lw_m7 114 rfl) rfl
theorem q1689 : (Jvm.Cond.methodLink "SagMemoryLaw" (22 : Nat) ({ cls := "SagMemoryModel", name := "end", desc := "(I)I" } : Jvm.MethodName)) ∈ lw_all := lw_g (lw_at lw_m7 122 rfl) rfl
theorem q1693 : (Jvm.Cond.methodLink "SagMemoryLaw" (31 : Nat) ({ cls := "SagMemoryModel", name := "fault", desc := "(I)I" } : Jvm.MethodName)) ∈ lw_all := lw_g (lw_at lw_m7 126 rfl) rfl
theorem q1697 : (Jvm.Cond.methodLink "SagMemoryLaw" (27 : Nat) ({ cls := "SagMemoryModel", name := "valley", desc := "()I" } : Jvm.MethodName)) ∈ lw_all := lw_g (lw_at lw_m7 130 rfl) rfl
theorem q1815 : (Jvm.Cond.methodLink "SagMemoryLaw" (36 : Nat) ({ cls := "SagMemoryModel", name := "bridge", desc := "(II)I" } : Jvm.MethodName)) ∈ lw_all := lw_g (lw_at lw_m8 8 rfl) rfl
theorem q1830 : (Jvm.Cond.methodLink "SagMemoryLaw" (40 : Nat) ({ cls := "SagMemoryModel", name := "cart", desc := "(II)I" } : Jvm.MethodName)) ∈ lw_all := lw_g (lw_at lw_m8 23 rfl) rfl
theorem q1842 : (Jvm.Cond.methodLink "SagMemoryLaw" (44 : Nat) ({ cls := "SagMemoryModel", name := "ward", desc := "(II)I" } : Jvm.MethodName)) ∈ lw_all := lw_g (lw_at lw_m8 35 rfl) rfl
theorem q1847 : (Jvm.Cond.methodLink "SagMemoryLaw" (48 : Nat) ({ cls := "SagMemoryModel", name := "cold", desc := "(I)I" } : Jvm.MethodName)) ∈ lw_all := lw_g (lw_at lw_m8 40 rfl) rfl
theorem q1858 : (Jvm.Cond.methodLink "SagMemoryLaw" (52 : Nat) ({ cls := "SagMemoryModel", name := "goes", desc := "(I)I" } : Jvm.MethodName)) ∈ lw_all := lw_g (lw_at lw_m8 51 rfl) rfl
theorem q1898 : (Jvm.Cond.methodLink "SagMemoryLaw" (56 : Nat) ({ cls := "SagMemoryModel", name := "comes", desc := "(I)I" } : Jvm.MethodName)) ∈ lw_all := lw_g (lw_at lw_m8 91 rfl) rfl
theorem q1902 : (Jvm.Cond.methodLink "SagMemoryLaw" (60 : Nat) ({ cls := "SagMemoryModel", name := "over", desc := "(I)I" } : Jvm.MethodName)) ∈ lw_all := lw_g (lw_at lw_m8 95 rfl) rfl
theorem q1910 : (Jvm.Cond.methodLink "SagMemoryLaw" (64 : Nat) ({ cls := "SagMemoryModel", name := "waits", desc := "()I" } : Jvm.MethodName)) ∈ lw_all := lw_g (lw_at lw_m8 103 rfl) rfl
theorem q1918 : (Jvm.Cond.methodLink "SagMemoryLaw" (68 : Nat) ({ cls := "SagMemoryModel", name := "deep", desc := "(II)I" } : Jvm.MethodName)) ∈ lw_all := lw_g (lw_at lw_m8 111 rfl) rfl
theorem q1926 : (Jvm.Cond.methodLink "SagMemoryLaw" (73 : Nat) ({ cls := "SagMemoryModel", name := "load", desc := "(III)I" } : Jvm.MethodName)) ∈ lw_all := lw_g (lw_at lw_m8 119 rfl) rfl
theorem q1930 : (Jvm.Cond.methodLink "SagMemoryLaw" (77 : Nat) ({ cls := "SagMemoryModel", name := "sag", desc := "(II)I" } : Jvm.MethodName)) ∈ lw_all := lw_g (lw_at lw_m8 123 rfl) rfl
theorem q1934 : (Jvm.Cond.methodLink "SagMemoryLaw" (81 : Nat) ({ cls := "SagMemoryModel", name := "all", desc := "(I)I" } : Jvm.MethodName)) ∈ lw_all := lw_g (lw_at lw_m8 127 rfl) rfl
theorem q1938 : (Jvm.Cond.methodLink "SagMemoryLaw" (85 : Nat) ({ cls := "SagMemoryModel", name := "deepest", desc := "(I)I" } : Jvm.MethodName)) ∈ lw_all := lw_g (lw_at lw_m8 131 rfl) rfl
theorem q1942 : (Jvm.Cond.methodLink "SagMemoryLaw" (89 : Nat) ({ cls := "SagMemoryModel", name := "gives", desc := "(I)I" } : Jvm.MethodName)) ∈ lw_all := lw_g (lw_at lw_m8 135 rfl) rfl
theorem q1946 : (Jvm.Cond.methodLink "SagMemoryLaw" (93 : Nat) ({ cls := "SagMemoryModel", name := "creak", desc := "(I)I" } : Jvm.MethodName)) ∈ lw_all := lw_g (lw_at lw_m8 139 rfl) rfl
theorem q1950 : (Jvm.Cond.methodLink "SagMemoryLaw" (97 : Nat) ({ cls := "SagMemoryModel", name := "loudest", desc := "()I" } : Jvm.MethodName)) ∈ lw_all := lw_g (lw_at lw_m8 143 rfl) rfl
theorem q1954 : (Jvm.Cond.methodLink "SagMemoryLaw" (101 : Nat) ({ cls := "SagMemoryModel", name := "pays", desc := "(I)I" } : Jvm.MethodName)) ∈ lw_all := lw_g (lw_at lw_m8 147 rfl) rfl
theorem q1962 : (Jvm.Cond.methodLink "SagMemoryLaw" (105 : Nat) ({ cls := "SagMemoryModel", name := "tolls", desc := "()I" } : Jvm.MethodName)) ∈ lw_all := lw_g (lw_at lw_m8 155 rfl) rfl
theorem q1966 : (Jvm.Cond.methodLink "SagMemoryLaw" (109 : Nat) ({ cls := "SagMemoryModel", name := "wipes", desc := "(I)I" } : Jvm.MethodName)) ∈ lw_all := lw_g (lw_at lw_m8 159 rfl) rfl
theorem q1970 : (Jvm.Cond.methodLink "SagMemoryLaw" (113 : Nat) ({ cls := "SagMemoryModel", name := "breaks", desc := "(I)I" } : Jvm.MethodName)) ∈ lw_all := lw_g (lw_at lw_m8 163 rfl) rfl
theorem q1974 : (Jvm.Cond.methodLink "SagMemoryLaw" (117 : Nat) ({ cls := "SagMemoryModel", name := "fails", desc := "()I" } : Jvm.MethodName)) ∈ lw_all := lw_g (lw_at lw_m8 167 rfl) rfl
theorem q1978 : (Jvm.Cond.methodLink "SagMemoryLaw" (121 : Nat) ({ cls := "SagMemoryModel", name := "spare", desc := "(I)I" } : Jvm.MethodName)) ∈ lw_all := lw_g (lw_at lw_m8 171 rfl) rfl
theorem q1982 : (Jvm.Cond.methodLink "SagMemoryLaw" (125 : Nat) ({ cls := "SagMemoryModel", name := "kept", desc := "(I)I" } : Jvm.MethodName)) ∈ lw_all := lw_g (lw_at lw_m8 175 rfl) rfl
theorem q1986 : (Jvm.Cond.methodLink "SagMemoryLaw" (129 : Nat) ({ cls := "SagMemoryModel", name := "last", desc := "(II)I" } : Jvm.MethodName)) ∈ lw_all := lw_g (lw_at lw_m8 179 rfl) rfl
theorem q1990 : (Jvm.Cond.methodLink "SagMemoryLaw" (133 : Nat) ({ cls := "SagMemoryModel", name := "broken", desc := "(I)I" } : Jvm.MethodName)) ∈ lw_all := lw_g (lw_at lw_m8 183 rfl) rfl
theorem q1994 : (Jvm.Cond.methodLink "SagMemoryLaw" (137 : Nat) ({ cls := "SagMemoryModel", name := "free", desc := "(II)I" } : Jvm.MethodName)) ∈ lw_all := lw_g (lw_at lw_m8 187 rfl) rfl
theorem q2002 : (Jvm.Cond.methodLink "SagMemoryLaw" (141 : Nat) ({ cls := "SagMemoryModel", name := "most", desc := "(II)I" } : Jvm.MethodName)) ∈ lw_all := lw_g (lw_at lw_m8 195 rfl) rfl
theorem q2006 : (Jvm.Cond.methodLink "SagMemoryLaw" (145 : Nat) ({ cls := "SagMemoryModel", name := "least", desc := "()I" } : Jvm.MethodName)) ∈ lw_all := lw_g (lw_at lw_m8 199 rfl) rfl
theorem q2026 : (Jvm.Cond.methodLink "SagMemoryLaw" (149 : Nat) ({ cls := "SagMemoryModel", name := "order", desc := "(I)I" } : Jvm.MethodName)) ∈ lw_all := lw_g (lw_at lw_m8 219 rfl) rfl
theorem q2030 : (Jvm.Cond.methodLink "SagMemoryLaw" (153 : Nat) ({ cls := "SagMemoryModel", name := "orders", desc := "()I" } : Jvm.MethodName)) ∈ lw_all := lw_g (lw_at lw_m8 223 rfl) rfl
theorem q2034 : (Jvm.Cond.methodLink "SagMemoryLaw" (157 : Nat) ({ cls := "SagMemoryModel", name := "across", desc := "()I" } : Jvm.MethodName)) ∈ lw_all := lw_g (lw_at lw_m8 227 rfl) rfl
theorem q2038 : (Jvm.Cond.methodLink "SagMemoryLaw" (161 : Nat) ({ cls := "SagMemoryModel", name := "routes", desc := "()I" } : Jvm.MethodName)) ∈ lw_all := lw_g (lw_at lw_m8 231 rfl) rfl
theorem q2050 : (Jvm.Cond.methodLink "SagMemoryLaw" (165 : Nat) ({ cls := "SagMemoryModel", name := "route", desc := "(I)I" } : Jvm.MethodName)) ∈ lw_all := lw_g (lw_at lw_m9 3 rfl) rfl
theorem q2054 : (Jvm.Cond.methodLink "SagMemoryLaw" (169 : Nat) ({ cls := "SagMemoryModel", name := "safe", desc := "()I" } : Jvm.MethodName)) ∈ lw_all := lw_g (lw_at lw_m9 7 rfl) rfl
theorem q2058 : (Jvm.Cond.methodLink "SagMemoryLaw" (173 : Nat) ({ cls := "SagMemoryModel", name := "spared", desc := "(I)I" } : Jvm.MethodName)) ∈ lw_all := lw_g (lw_at lw_m9 11 rfl) rfl
theorem q2070 : (Jvm.Cond.methodLink "SagMemoryLaw" (177 : Nat) ({ cls := "SagMemoryModel", name := "worst", desc := "()I" } : Jvm.MethodName)) ∈ lw_all := lw_g (lw_at lw_m9 23 rfl) rfl
theorem q2074 : (Jvm.Cond.methodLink "SagMemoryLaw" (181 : Nat) ({ cls := "SagMemoryModel", name := "forget", desc := "()I" } : Jvm.MethodName)) ∈ lw_all := lw_g (lw_at lw_m9 27 rfl) rfl
theorem q2078 : (Jvm.Cond.methodLink "SagMemoryLaw" (185 : Nat) ({ cls := "SagMemoryModel", name := "sets", desc := "(II)I" } : Jvm.MethodName)) ∈ lw_all := lw_g (lw_at lw_m9 31 rfl) rfl
theorem q2097 : (Jvm.Cond.methodLink "SagMemoryLaw" (189 : Nat) ({ cls := "SagMemoryModel", name := "surely", desc := "(II)I" } : Jvm.MethodName)) ∈ lw_all := lw_g (lw_at lw_m9 50 rfl) rfl
theorem q2101 : (Jvm.Cond.methodLink "SagMemoryLaw" (193 : Nat) ({ cls := "SagMemoryModel", name := "never", desc := "(II)I" } : Jvm.MethodName)) ∈ lw_all := lw_g (lw_at lw_m9 54 rfl) rfl
theorem q2105 : (Jvm.Cond.methodLink "SagMemoryLaw" (197 : Nat) ({ cls := "SagMemoryModel", name := "fewest", desc := "(II)I" } : Jvm.MethodName)) ∈ lw_all := lw_g (lw_at lw_m9 58 rfl) rfl
theorem q2109 : (Jvm.Cond.methodLink "SagMemoryLaw" (201 : Nat) ({ cls := "SagMemoryModel", name := "ask", desc := "(II)I" } : Jvm.MethodName)) ∈ lw_all := lw_g (lw_at lw_m9 62 rfl) rfl
theorem q2113 : (Jvm.Cond.methodLink "SagMemoryLaw" (205 : Nat) ({ cls := "SagMemoryModel", name := "leaves", desc := "(II)I" } : Jvm.MethodName)) ∈ lw_all := lw_g (lw_at lw_m9 66 rfl) rfl
theorem q2117 : (Jvm.Cond.methodLink "SagMemoryLaw" (209 : Nat) ({ cls := "SagMemoryModel", name := "loads", desc := "(II)I" } : Jvm.MethodName)) ∈ lw_all := lw_g (lw_at lw_m9 70 rfl) rfl
theorem q2138 : (Jvm.Cond.methodLink "SagMemoryLaw" (213 : Nat) ({ cls := "SagMemoryModel", name := "light", desc := "(II)I" } : Jvm.MethodName)) ∈ lw_all := lw_g (lw_at lw_m9 91 rfl) rfl
theorem q2142 : (Jvm.Cond.methodLink "SagMemoryLaw" (217 : Nat) ({ cls := "SagMemoryModel", name := "heavy", desc := "(II)I" } : Jvm.MethodName)) ∈ lw_all := lw_g (lw_at lw_m9 95 rfl) rfl
theorem q2146 : (Jvm.Cond.methodLink "SagMemoryLaw" (221 : Nat) ({ cls := "SagMemoryModel", name := "liars", desc := "(I)I" } : Jvm.MethodName)) ∈ lw_all := lw_g (lw_at lw_m9 99 rfl) rfl
theorem q2150 : (Jvm.Cond.methodLink "SagMemoryLaw" (225 : Nat) ({ cls := "SagMemoryModel", name := "laws", desc := "(I)I" } : Jvm.MethodName)) ∈ lw_all := lw_g (lw_at lw_m9 103 rfl) rfl
theorem q2158 : (Jvm.Cond.methodLink "SagMemoryLaw" (229 : Nat) ({ cls := "SagMemoryModel", name := "by", desc := "(I)I" } : Jvm.MethodName)) ∈ lw_all := lw_g (lw_at lw_m9 111 rfl) rfl
theorem q2162 : (Jvm.Cond.methodLink "SagMemoryLaw" (233 : Nat) ({ cls := "SagMemoryModel", name := "law", desc := "()I" } : Jvm.MethodName)) ∈ lw_all := lw_g (lw_at lw_m9 115 rfl) rfl
theorem q2166 : (Jvm.Cond.methodLink "SagMemoryLaw" (237 : Nat) ({ cls := "SagMemoryModel", name := "share", desc := "(II)I" } : Jvm.MethodName)) ∈ lw_all := lw_g (lw_at lw_m9 119 rfl) rfl
theorem q2179 : (Jvm.Cond.methodLink "SagMemoryLaw" (241 : Nat) ({ cls := "SagMemoryModel", name := "rests", desc := "(II)I" } : Jvm.MethodName)) ∈ lw_all := lw_g (lw_at lw_m9 132 rfl) rfl
theorem q2199 : (Jvm.Cond.methodLink "SagMemoryLaw" (245 : Nat) ({ cls := "SagMemoryModel", name := "rest", desc := "(II)I" } : Jvm.MethodName)) ∈ lw_all := lw_g (lw_at lw_m9 152 rfl) rfl
theorem q2203 : (Jvm.Cond.methodLink "SagMemoryLaw" (249 : Nat) ({ cls := "SagMemoryModel", name := "chance", desc := "(II)I" } : Jvm.MethodName)) ∈ lw_all := lw_g (lw_at lw_m9 156 rfl) rfl
theorem q2216 : (Jvm.Cond.methodLink "SagMemoryLaw" (254 : Nat) ({ cls := "SagMemoryModel", name := "mean", desc := "(II)J" } : Jvm.MethodName)) ∈ lw_all := lw_g (lw_at lw_m9 169 rfl) rfl
theorem q2221 : (Jvm.Cond.methodLink "SagMemoryLaw" (274 : Nat) ({ cls := "SagMemoryModel", name := "drawn", desc := "(II)I" } : Jvm.MethodName)) ∈ lw_all := lw_g (lw_at lw_m9 174 rfl) rfl
theorem q2237 : (Jvm.Cond.methodLink "SagMemoryLaw" (278 : Nat) ({ cls := "SagMemoryModel", name := "luck", desc := "(III)I" } : Jvm.MethodName)) ∈ lw_all := lw_g (lw_at lw_m9 190 rfl) rfl
theorem q2242 : (Jvm.Cond.methodLink "SagMemoryLaw" (258 : Nat) ({ cls := "SagMemoryModel", name := "send", desc := "(II)I" } : Jvm.MethodName)) ∈ lw_all := lw_g (lw_at lw_m9 195 rfl) rfl
theorem q2250 : (Jvm.Cond.methodLink "SagMemoryLaw" (262 : Nat) ({ cls := "SagMemoryModel", name := "freeze", desc := "(II)I" } : Jvm.MethodName)) ∈ lw_all := lw_g (lw_at lw_m9 203 rfl) rfl
theorem q2254 : (Jvm.Cond.methodLink "SagMemoryLaw" (266 : Nat) ({ cls := "SagMemoryModel", name := "undo", desc := "()I" } : Jvm.MethodName)) ∈ lw_all := lw_g (lw_at lw_m9 207 rfl) rfl
theorem q2258 : (Jvm.Cond.methodLink "SagMemoryLaw" (270 : Nat) ({ cls := "SagMemoryModel", name := "anew", desc := "()I" } : Jvm.MethodName)) ∈ lw_all := lw_g (lw_at lw_m9 211 rfl) rfl
theorem q2262 : (Jvm.Cond.methodLink "SagMemoryLaw" (282 : Nat) ({ cls := "SagMemoryModel", name := "rate", desc := "(II)I" } : Jvm.MethodName)) ∈ lw_all := lw_g (lw_at lw_m9 215 rfl) rfl
theorem q2267 : (Jvm.Cond.methodLink "SagMemoryLaw" (286 : Nat) ({ cls := "SagMemoryModel", name := "count", desc := "(I)I" } : Jvm.MethodName)) ∈ lw_all := lw_g (lw_at lw_m9 220 rfl) rfl
theorem q2272 : (Jvm.Cond.methodLink "SagMemoryLaw" (290 : Nat) ({ cls := "SagMemoryModel", name := "image", desc := "(I)I" } : Jvm.MethodName)) ∈ lw_all := lw_g (lw_at lw_m9 225 rfl) rfl
theorem q2276 : (Jvm.Cond.methodLink "SagMemoryLaw" (294 : Nat) ({ cls := "SagMemoryModel", name := "back", desc := "(I)I" } : Jvm.MethodName)) ∈ lw_all := lw_g (lw_at lw_m9 229 rfl) rfl
theorem q2280 : (Jvm.Cond.constantLong "SagMemoryLaw" (299 : Nat) (4294967295 : Int64)) ∈ lw_all := lw_g (lw_at lw_m9 233 rfl) rfl
theorem q141 : (Jvm.Cond.initialized "SagMemory$Token") ∈ lw_all := lw_g (lw_at lw_m1 14 rfl) rfl
set_option maxRecDepth 100000
theorem q524 : (Jvm.Cond.laysStatic "SagMemory$Token" "END" "LSagMemory$Token;") ∈ lw_tbl := lw_at lw_m2 157 rfl
theorem q535 : (Jvm.Cond.laysStatic "SagMemory$Token" "WORD" "LSagMemory$Token;") ∈ lw_tbl := lw_at lw_m2 168 rfl
theorem q541 : (Jvm.Cond.laysStatic "SagMemory$Token" "NUMBER" "LSagMemory$Token;") ∈ lw_tbl := lw_at lw_m2 174 rfl
theorem q543 : (Jvm.Cond.laysStatic "SagMemory$Token" "STOP" "LSagMemory$Token;") ∈ lw_tbl := lw_at lw_m2 176 rfl
theorem q545 : (Jvm.Cond.laysStatic "SagMemory$Token" "NONE" "LSagMemory$Token;") ∈ lw_tbl := lw_at lw_m2 178 rfl
theorem q1340 : (Jvm.Cond.selects "SagMemory$Token" ({ cls := "java/lang/Object", name := "getClass", desc := "()Ljava/lang/Class;" } : Jvm.MethodName) ({ cls := "java/lang/Object", name := "getClass", desc := "()Ljava/lang/Class;" } : Jvm.MethodName)) ∈ lw_all := lw_g (lw_at lw_m6 13 rfl) rfl
theorem q2295 : (Jvm.Cond.castable "SagMemory$Token" "java/lang/Object") ∈ lw_tbl := lw_at lw_m10 8 rfl
theorem q2311 : (Jvm.Cond.castable "[B" "java/lang/Object") ∈ lw_tbl := lw_at lw_m10 24 rfl
set_option maxRecDepth 100000
theorem q2309 : (Jvm.Cond.castable "[I" "java/lang/Object") ∈ lw_tbl := lw_at lw_m10 22 rfl
set_option maxRecDepth 100000
theorem q2315 : (Jvm.Cond.castable "[J" "java/lang/Object") ∈ lw_tbl := lw_at lw_m10 28 rfl
set_option maxRecDepth 100000
theorem q2312 : (Jvm.Cond.castable "[LSagMemory$Slot;" "java/lang/Object") ∈ lw_tbl := lw_at lw_m10 25 rfl
set_option maxRecDepth 100000
theorem q2310 : (Jvm.Cond.castable "[LSagMemory$Wiping;" "java/lang/Object") ∈ lw_tbl := lw_at lw_m10 23 rfl
set_option maxRecDepth 100000
theorem q2306 : (Jvm.Cond.sameMethod "[Ljava/lang/Object;" "java/lang/Object" "getClass" "()Ljava/lang/Class;") ∈ lw_all := lw_g (lw_at lw_m10 19 rfl) rfl
set_option maxRecDepth 100000
theorem q2307 : (Jvm.Cond.selects "[Ljava/lang/Object;" ({ cls := "java/lang/Object", name := "getClass", desc := "()Ljava/lang/Class;" } : Jvm.MethodName) ({ cls := "java/lang/Object", name := "getClass", desc := "()Ljava/lang/Class;" } : Jvm.MethodName)) ∈ lw_all := lw_g (lw_at lw_m10 20 rfl) rfl
theorem q2313 : (Jvm.Cond.castable "[Ljava/lang/Object;" "java/lang/Object") ∈ lw_tbl := lw_at lw_m10 26 rfl
theorem q2314 : (Jvm.Cond.castable "[S" "java/lang/Object") ∈ lw_tbl := lw_at lw_m10 27 rfl
set_option maxRecDepth 100000
theorem q2316 : (Jvm.Cond.castable "[Z" "java/lang/Object") ∈ lw_tbl := lw_at lw_m10 29 rfl
set_option maxRecDepth 100000
theorem q140 : (Jvm.Cond.initialized "java/lang/Enum") ∈ lw_all := lw_g (lw_at lw_m1 13 rfl) rfl
set_option maxRecDepth 100000
theorem q150 : (Jvm.Cond.initialized "java/lang/System") ∈ lw_all := lw_g (lw_at lw_m1 23 rfl) rfl
set_option maxRecDepth 100000
theorem q794 : (Jvm.Cond.static ({ cls := "java/lang/System", name := "arraycopy", desc := "(Ljava/lang/Object;ILjava/lang/Object;II)V" } : Jvm.MethodName)) ∈ lw_all := lw_g (lw_at lw_m3 187 rfl) rfl
theorem q795 : (Jvm.Cond.native ({ cls := "java/lang/System", name := "arraycopy", desc := "(Ljava/lang/Object;ILjava/lang/Object;II)V" } : Jvm.MethodName)) ∈ lw_all := lw_g (lw_at lw_m3 188 rfl) rfl
theorem q264 : (Jvm.Cond.arrayClass Jvm.ClassFile.FieldType.int) ∈ lw_all := lw_g (lw_at lw_m1 137 rfl) rfl
set_option maxRecDepth 100000
theorem q266 : (Jvm.Cond.arrayOver (Jvm.ClassFile.FieldType.object "SagMemory$Wiping")) ∈ lw_tbl := lw_at lw_m1 139 rfl
theorem q276 : (Jvm.Cond.arrayClass Jvm.ClassFile.FieldType.byte) ∈ lw_all := lw_g (lw_at lw_m1 149 rfl) rfl
theorem q312 : (Jvm.Cond.arrayOver (Jvm.ClassFile.FieldType.object "SagMemory$Slot")) ∈ lw_tbl := lw_at lw_m1 185 rfl
theorem q1354 : (Jvm.Cond.arrayOver (Jvm.ClassFile.FieldType.object "java/lang/Object")) ∈ lw_tbl := lw_at lw_m6 27 rfl
theorem q1426 : (Jvm.Cond.arrayClass Jvm.ClassFile.FieldType.short) ∈ lw_all := lw_g (lw_at lw_m6 99 rfl) rfl
theorem q1427 : (Jvm.Cond.arrayClass Jvm.ClassFile.FieldType.long) ∈ lw_all := lw_g (lw_at lw_m6 100 rfl) rfl
theorem q1658 : (Jvm.Cond.arrayClass Jvm.ClassFile.FieldType.boolean) ∈ lw_all := lw_g (lw_at lw_m7 91 rfl) rfl
