/-! HiddenCube -/
set_option maxRecDepth 100000
def RX0 : String := "HiddenCube"
def TX0 : u_T := fun k => match k with
  | 0 => ("HiddenCube", "town", "LHiddenCube$Town;", false)
  | 1 => ("HiddenCube", "tape", "[B", true)
  | 2 => ("HiddenCube", "taped", "I", false)
  | 3 => ("HiddenCube", "faultKind", "I", false)
  | 4 => ("HiddenCube", "faultPlace", "I", false)
  | 5 => ("HiddenCube", "walk", "LHiddenCube$Walk;", true)
  | 6 => ("HiddenCube", "without", "LHiddenCube$Without;", true)
  | 7 => ("HiddenCube", "manyTo", "[I", true)
  | 8 => ("HiddenCube", "out", "[I", true)
  | 9 => ("HiddenCube", "cameFrom", "[I", true)
  | 10 => ("HiddenCube", "queue", "[I", true)
  | 11 => ("HiddenCube", "met", "I", false)
  | 12 => ("HiddenCube", "round", "[I", true)
  | 13 => ("HiddenCube", "tried", "[I", true)
  | 14 => ("HiddenCube", "firstRound", "[I", true)
  | 15 => ("HiddenCube", "roundStreets", "[I", true)
  | 16 => ("HiddenCube", "roundsMany", "I", false)
  | 17 => ("HiddenCube", "turnNames", "[I", true)
  | 18 => ("HiddenCube", "turnOver", "[I", true)
  | 19 => ("HiddenCube", "perm", "[I", true)
  | 20 => ("HiddenCube", "turnsMany", "I", false)
  | 21 => ("HiddenCube", "streetTo", "[I", true)
  | 22 => ("HiddenCube", "leastTurned", "[I", true)
  | 23 => ("HiddenCube", "watched", "[I", true)
  | 24 => ("HiddenCube", "isFine", "[Z", true)
  | 25 => ("HiddenCube", "placeOf", "[I", true)
  | 26 => ("HiddenCube", "circle", "[I", true)
  | 27 => ("HiddenCube", "stands", "[I", true)
  | 28 => ("HiddenCube", "surely", "[I", true)
  | 29 => ("HiddenCube", "placings", "I", false)
  | 30 => ("HiddenCube", "carrierAt", "[I", true)
  | 31 => ("HiddenCube", "wentFrom", "[I", true)
  | 32 => ("HiddenCube", "wentTo", "[I", true)
  | 33 => ("HiddenCube", "arrived", "[I", true)
  | 34 => ("HiddenCube", "waits", "I", false)
  | 35 => ("HiddenCube", "clashes", "I", false)
  | 36 => ("HiddenCube", "floods", "[I", true)
  | 37 => ("HiddenCube", "slots", "[LHiddenCube$Slot;", true)
  | _ => ("HiddenCube", "images", "[LHiddenCube$Town;", true)
def tyX0 : Nat → FieldType := fun k => match k with
  | 0 => .object "HiddenCube$Town"
  | 1 => .array .byte
  | 2 => .int
  | 3 => .int
  | 4 => .int
  | 5 => .object "HiddenCube$Walk"
  | 6 => .object "HiddenCube$Without"
  | 7 => .array .int
  | 8 => .array .int
  | 9 => .array .int
  | 10 => .array .int
  | 11 => .int
  | 12 => .array .int
  | 13 => .array .int
  | 14 => .array .int
  | 15 => .array .int
  | 16 => .int
  | 17 => .array .int
  | 18 => .array .int
  | 19 => .array .int
  | 20 => .int
  | 21 => .array .int
  | 22 => .array .int
  | 23 => .array .int
  | 24 => .array .boolean
  | 25 => .array .int
  | 26 => .array .int
  | 27 => .array .int
  | 28 => .array .int
  | 29 => .int
  | 30 => .array .int
  | 31 => .array .int
  | 32 => .array .int
  | 33 => .array .int
  | 34 => .int
  | 35 => .int
  | 36 => .array .int
  | 37 => .array (.object "HiddenCube$Slot")
  | _ => .array (.object "HiddenCube$Town")
abbrev wsX00 : List Cond := u_ws RX0 TX0 39
set_option maxRecDepth 100000 in
theorem nmX0 : ∀ a, a < 39 → ∀ b, b < 39 → a ≠ b → (TX0 a).2.1 ≠ (TX0 b).2.1 := by decide +kernel
set_option maxRecDepth 100000 in
theorem tyX0_ok : ∀ k, k < 39 → parseFieldDescriptor (TX0 k).2.2.1 = some (tyX0 k) := by decide +kernel
abbrev cX0_init : ByteArray := prog_1_method_3_code
def yX0_init : MethodName := ⟨RX0, "<init>", "()V"⟩
def dkwX0_init_12 : List UInt8 := [89, 6, 187, 0, 115, 89, 183, 0, 117, 83, 181, 0, 118, 42, 6, 189, 0, 7, 181, 0, 122, 177]
abbrev dktX0_init_12 : List UInt8 := dkwX0_init_12 ++ []
def dkwX0_init_11 : List UInt8 := [183, 0, 117, 83, 89, 4, 187, 0, 115, 89, 183, 0, 117, 83, 89, 5, 187, 0, 115, 89, 183, 0, 117, 83]
abbrev dktX0_init_11 : List UInt8 := dkwX0_init_11 ++ dktX0_init_12
def dkwX0_init_10 : List UInt8 := [188, 10, 181, 0, 109, 42, 16, 60, 188, 10, 181, 0, 112, 42, 7, 189, 0, 115, 89, 3, 187, 0, 115, 89]
abbrev dktX0_init_10 : List UInt8 := dkwX0_init_10 ++ dktX0_init_11
def dkwX0_init_9 : List UInt8 := [188, 10, 181, 0, 100, 42, 16, 6, 188, 10, 181, 0, 103, 42, 16, 6, 188, 10, 181, 0, 106, 42, 16, 6]
abbrev dktX0_init_9 : List UInt8 := dkwX0_init_9 ++ dktX0_init_10
def dkwX0_init_8 : List UInt8 := [188, 10, 181, 0, 91, 42, 16, 6, 188, 10, 181, 0, 94, 42, 16, 6, 188, 10, 181, 0, 97, 42, 16, 6]
abbrev dktX0_init_8 : List UInt8 := dkwX0_init_8 ++ dktX0_init_9
def dkwX0_init_7 : List UInt8 := [188, 10, 181, 0, 81, 42, 18, 80, 188, 4, 181, 0, 84, 42, 16, 32, 188, 10, 181, 0, 88, 42, 16, 32]
abbrev dktX0_init_7 : List UInt8 := dkwX0_init_7 ++ dktX0_init_8
def dkwX0_init_6 : List UInt8 := [181, 0, 71, 42, 16, 32, 188, 10, 181, 0, 74, 42, 17, 5, 120, 188, 10, 181, 0, 77, 42, 18, 80]
abbrev dktX0_init_6 : List UInt8 := dkwX0_init_6 ++ dktX0_init_7
def dkwX0_init_5 : List UInt8 := [42, 17, 75, 0, 188, 10, 181, 0, 65, 42, 17, 15, 0, 188, 10, 181, 0, 68, 42, 8, 188, 10]
abbrev dktX0_init_5 : List UInt8 := dkwX0_init_5 ++ dktX0_init_6
def dkwX0_init_4 : List UInt8 := [16, 33, 188, 10, 181, 0, 56, 42, 16, 32, 188, 10, 181, 0, 59, 42, 17, 5, 120, 188, 10, 181, 0, 62]
abbrev dktX0_init_4 : List UInt8 := dkwX0_init_4 ++ dktX0_init_5
def dkwX0_init_3 : List UInt8 := [16, 64, 188, 10, 181, 0, 47, 42, 16, 64, 188, 10, 181, 0, 50, 42, 16, 33, 188, 10, 181, 0, 53, 42]
abbrev dktX0_init_3 : List UInt8 := dkwX0_init_3 ++ dktX0_init_4
def dkwX0_init_2 : List UInt8 := [183, 0, 35, 181, 0, 36, 42, 16, 32, 188, 10, 181, 0, 40, 42, 16, 32, 188, 10, 181, 0, 44, 42]
abbrev dktX0_init_2 : List UInt8 := dkwX0_init_2 ++ dktX0_init_3
def dkwX0_init_1 : List UInt8 := [42, 2, 181, 0, 20, 42, 187, 0, 24, 89, 42, 183, 0, 26, 181, 0, 29, 42, 187, 0, 33, 89, 42]
abbrev dktX0_init_1 : List UInt8 := dkwX0_init_1 ++ dktX0_init_2
def dkwX0_init_0 : List UInt8 := [42, 183, 0, 1, 42, 187, 0, 7, 89, 183, 0, 9, 181, 0, 10, 42, 17, 5, 120, 188, 8, 181, 0, 16]
abbrev dktX0_init_0 : List UInt8 := dkwX0_init_0 ++ dktX0_init_1
theorem dksX0_init_0 : cX0_init.data.toList.drop 0 = dktX0_init_0 := by decide +kernel
theorem dksX0_init_1 : cX0_init.data.toList.drop 24 = dktX0_init_1 := dk_seg dksX0_init_0 24 rfl rfl
theorem dksX0_init_2 : cX0_init.data.toList.drop 47 = dktX0_init_2 := dk_seg dksX0_init_1 23 rfl rfl
theorem dksX0_init_3 : cX0_init.data.toList.drop 70 = dktX0_init_3 := dk_seg dksX0_init_2 23 rfl rfl
theorem dksX0_init_4 : cX0_init.data.toList.drop 94 = dktX0_init_4 := dk_seg dksX0_init_3 24 rfl rfl
theorem dksX0_init_5 : cX0_init.data.toList.drop 118 = dktX0_init_5 := dk_seg dksX0_init_4 24 rfl rfl
theorem dksX0_init_6 : cX0_init.data.toList.drop 140 = dktX0_init_6 := dk_seg dksX0_init_5 22 rfl rfl
theorem dksX0_init_7 : cX0_init.data.toList.drop 163 = dktX0_init_7 := dk_seg dksX0_init_6 23 rfl rfl
theorem dksX0_init_8 : cX0_init.data.toList.drop 187 = dktX0_init_8 := dk_seg dksX0_init_7 24 rfl rfl
theorem dksX0_init_9 : cX0_init.data.toList.drop 211 = dktX0_init_9 := dk_seg dksX0_init_8 24 rfl rfl
theorem dksX0_init_10 : cX0_init.data.toList.drop 235 = dktX0_init_10 := dk_seg dksX0_init_9 24 rfl rfl
theorem dksX0_init_11 : cX0_init.data.toList.drop 259 = dktX0_init_11 := dk_seg dksX0_init_10 24 rfl rfl
theorem dksX0_init_12 : cX0_init.data.toList.drop 283 = dktX0_init_12 := dk_seg dksX0_init_11 24 rfl rfl
theorem dX0_init_0 : decode cX0_init 0 = .ok (.aload_n 0, 1) := dk_42 (dk_at dksX0_init_0 0 rfl rfl)
theorem dX0_init_1 : decode cX0_init 1 = .ok (.invokespecial 1, 3) := dk_183 0 1 (dk_at dksX0_init_0 1 rfl rfl)
theorem dX0_init_4 : decode cX0_init 4 = .ok (.aload_n 0, 1) := dk_42 (dk_at dksX0_init_0 4 rfl rfl)
theorem dX0_init_5 : decode cX0_init 5 = .ok (.new 7, 3) := dk_187 0 7 (dk_at dksX0_init_0 5 rfl rfl)
theorem dX0_init_8 : decode cX0_init 8 = .ok (.dup, 1) := dk_89 (dk_at dksX0_init_0 8 rfl rfl)
theorem dX0_init_9 : decode cX0_init 9 = .ok (.invokespecial 9, 3) := dk_183 0 9 (dk_at dksX0_init_0 9 rfl rfl)
theorem dX0_init_12 : decode cX0_init 12 = .ok (.putfield 10, 3) := dk_181 0 10 (dk_at dksX0_init_0 12 rfl rfl)
theorem dX0_init_15 : decode cX0_init 15 = .ok (.aload_n 0, 1) := dk_42 (dk_at dksX0_init_0 15 rfl rfl)
theorem dX0_init_16 : decode cX0_init 16 = .ok (.sipush 1400, 3) := dk_17 5 120 (dk_at dksX0_init_0 16 rfl rfl)
theorem dX0_init_19 : decode cX0_init 19 = .ok (.newarray .byte, 2) := dk_188_8 (dk_at dksX0_init_0 19 rfl rfl)
theorem dX0_init_21 : decode cX0_init 21 = .ok (.putfield 16, 3) := dk_181 0 16 (dk_at dksX0_init_0 21 rfl rfl)
theorem dX0_init_24 : decode cX0_init 24 = .ok (.aload_n 0, 1) := dk_42 (dk_at dksX0_init_1 0 rfl rfl)
theorem dX0_init_25 : decode cX0_init 25 = .ok (.iconst (-1), 1) := dk_2 (dk_at dksX0_init_1 1 rfl rfl)
theorem dX0_init_26 : decode cX0_init 26 = .ok (.putfield 20, 3) := dk_181 0 20 (dk_at dksX0_init_1 2 rfl rfl)
theorem dX0_init_29 : decode cX0_init 29 = .ok (.aload_n 0, 1) := dk_42 (dk_at dksX0_init_1 5 rfl rfl)
theorem dX0_init_30 : decode cX0_init 30 = .ok (.new 24, 3) := dk_187 0 24 (dk_at dksX0_init_1 6 rfl rfl)
theorem dX0_init_33 : decode cX0_init 33 = .ok (.dup, 1) := dk_89 (dk_at dksX0_init_1 9 rfl rfl)
theorem dX0_init_34 : decode cX0_init 34 = .ok (.aload_n 0, 1) := dk_42 (dk_at dksX0_init_1 10 rfl rfl)
theorem dX0_init_35 : decode cX0_init 35 = .ok (.invokespecial 26, 3) := dk_183 0 26 (dk_at dksX0_init_1 11 rfl rfl)
theorem dX0_init_38 : decode cX0_init 38 = .ok (.putfield 29, 3) := dk_181 0 29 (dk_at dksX0_init_1 14 rfl rfl)
theorem dX0_init_41 : decode cX0_init 41 = .ok (.aload_n 0, 1) := dk_42 (dk_at dksX0_init_1 17 rfl rfl)
theorem dX0_init_42 : decode cX0_init 42 = .ok (.new 33, 3) := dk_187 0 33 (dk_at dksX0_init_1 18 rfl rfl)
theorem dX0_init_45 : decode cX0_init 45 = .ok (.dup, 1) := dk_89 (dk_at dksX0_init_1 21 rfl rfl)
theorem dX0_init_46 : decode cX0_init 46 = .ok (.aload_n 0, 1) := dk_42 (dk_at dksX0_init_1 22 rfl rfl)
theorem dX0_init_47 : decode cX0_init 47 = .ok (.invokespecial 35, 3) := dk_183 0 35 (dk_at dksX0_init_2 0 rfl rfl)
theorem dX0_init_50 : decode cX0_init 50 = .ok (.putfield 36, 3) := dk_181 0 36 (dk_at dksX0_init_2 3 rfl rfl)
theorem dX0_init_53 : decode cX0_init 53 = .ok (.aload_n 0, 1) := dk_42 (dk_at dksX0_init_2 6 rfl rfl)
theorem dX0_init_54 : decode cX0_init 54 = .ok (.bipush 32, 2) := dk_16 32 (dk_at dksX0_init_2 7 rfl rfl)
theorem dX0_init_56 : decode cX0_init 56 = .ok (.newarray .int, 2) := dk_188_10 (dk_at dksX0_init_2 9 rfl rfl)
theorem dX0_init_58 : decode cX0_init 58 = .ok (.putfield 40, 3) := dk_181 0 40 (dk_at dksX0_init_2 11 rfl rfl)
theorem dX0_init_61 : decode cX0_init 61 = .ok (.aload_n 0, 1) := dk_42 (dk_at dksX0_init_2 14 rfl rfl)
theorem dX0_init_62 : decode cX0_init 62 = .ok (.bipush 32, 2) := dk_16 32 (dk_at dksX0_init_2 15 rfl rfl)
theorem dX0_init_64 : decode cX0_init 64 = .ok (.newarray .int, 2) := dk_188_10 (dk_at dksX0_init_2 17 rfl rfl)
theorem dX0_init_66 : decode cX0_init 66 = .ok (.putfield 44, 3) := dk_181 0 44 (dk_at dksX0_init_2 19 rfl rfl)
theorem dX0_init_69 : decode cX0_init 69 = .ok (.aload_n 0, 1) := dk_42 (dk_at dksX0_init_2 22 rfl rfl)
theorem dX0_init_70 : decode cX0_init 70 = .ok (.bipush 64, 2) := dk_16 64 (dk_at dksX0_init_3 0 rfl rfl)
theorem dX0_init_72 : decode cX0_init 72 = .ok (.newarray .int, 2) := dk_188_10 (dk_at dksX0_init_3 2 rfl rfl)
theorem dX0_init_74 : decode cX0_init 74 = .ok (.putfield 47, 3) := dk_181 0 47 (dk_at dksX0_init_3 4 rfl rfl)
theorem dX0_init_77 : decode cX0_init 77 = .ok (.aload_n 0, 1) := dk_42 (dk_at dksX0_init_3 7 rfl rfl)
theorem dX0_init_78 : decode cX0_init 78 = .ok (.bipush 64, 2) := dk_16 64 (dk_at dksX0_init_3 8 rfl rfl)
theorem dX0_init_80 : decode cX0_init 80 = .ok (.newarray .int, 2) := dk_188_10 (dk_at dksX0_init_3 10 rfl rfl)
theorem dX0_init_82 : decode cX0_init 82 = .ok (.putfield 50, 3) := dk_181 0 50 (dk_at dksX0_init_3 12 rfl rfl)
theorem dX0_init_85 : decode cX0_init 85 = .ok (.aload_n 0, 1) := dk_42 (dk_at dksX0_init_3 15 rfl rfl)
theorem dX0_init_86 : decode cX0_init 86 = .ok (.bipush 33, 2) := dk_16 33 (dk_at dksX0_init_3 16 rfl rfl)
theorem dX0_init_88 : decode cX0_init 88 = .ok (.newarray .int, 2) := dk_188_10 (dk_at dksX0_init_3 18 rfl rfl)
theorem dX0_init_90 : decode cX0_init 90 = .ok (.putfield 53, 3) := dk_181 0 53 (dk_at dksX0_init_3 20 rfl rfl)
theorem dX0_init_93 : decode cX0_init 93 = .ok (.aload_n 0, 1) := dk_42 (dk_at dksX0_init_3 23 rfl rfl)
theorem dX0_init_94 : decode cX0_init 94 = .ok (.bipush 33, 2) := dk_16 33 (dk_at dksX0_init_4 0 rfl rfl)
theorem dX0_init_96 : decode cX0_init 96 = .ok (.newarray .int, 2) := dk_188_10 (dk_at dksX0_init_4 2 rfl rfl)
theorem dX0_init_98 : decode cX0_init 98 = .ok (.putfield 56, 3) := dk_181 0 56 (dk_at dksX0_init_4 4 rfl rfl)
theorem dX0_init_101 : decode cX0_init 101 = .ok (.aload_n 0, 1) := dk_42 (dk_at dksX0_init_4 7 rfl rfl)
theorem dX0_init_102 : decode cX0_init 102 = .ok (.bipush 32, 2) := dk_16 32 (dk_at dksX0_init_4 8 rfl rfl)
theorem dX0_init_104 : decode cX0_init 104 = .ok (.newarray .int, 2) := dk_188_10 (dk_at dksX0_init_4 10 rfl rfl)
theorem dX0_init_106 : decode cX0_init 106 = .ok (.putfield 59, 3) := dk_181 0 59 (dk_at dksX0_init_4 12 rfl rfl)
theorem dX0_init_109 : decode cX0_init 109 = .ok (.aload_n 0, 1) := dk_42 (dk_at dksX0_init_4 15 rfl rfl)
theorem dX0_init_110 : decode cX0_init 110 = .ok (.sipush 1400, 3) := dk_17 5 120 (dk_at dksX0_init_4 16 rfl rfl)
theorem dX0_init_113 : decode cX0_init 113 = .ok (.newarray .int, 2) := dk_188_10 (dk_at dksX0_init_4 19 rfl rfl)
theorem dX0_init_115 : decode cX0_init 115 = .ok (.putfield 62, 3) := dk_181 0 62 (dk_at dksX0_init_4 21 rfl rfl)
theorem dX0_init_118 : decode cX0_init 118 = .ok (.aload_n 0, 1) := dk_42 (dk_at dksX0_init_5 0 rfl rfl)
theorem dX0_init_119 : decode cX0_init 119 = .ok (.sipush 19200, 3) := dk_17 75 0 (dk_at dksX0_init_5 1 rfl rfl)
theorem dX0_init_122 : decode cX0_init 122 = .ok (.newarray .int, 2) := dk_188_10 (dk_at dksX0_init_5 4 rfl rfl)
theorem dX0_init_124 : decode cX0_init 124 = .ok (.putfield 65, 3) := dk_181 0 65 (dk_at dksX0_init_5 6 rfl rfl)
theorem dX0_init_127 : decode cX0_init 127 = .ok (.aload_n 0, 1) := dk_42 (dk_at dksX0_init_5 9 rfl rfl)
theorem dX0_init_128 : decode cX0_init 128 = .ok (.sipush 3840, 3) := dk_17 15 0 (dk_at dksX0_init_5 10 rfl rfl)
theorem dX0_init_131 : decode cX0_init 131 = .ok (.newarray .int, 2) := dk_188_10 (dk_at dksX0_init_5 13 rfl rfl)
theorem dX0_init_133 : decode cX0_init 133 = .ok (.putfield 68, 3) := dk_181 0 68 (dk_at dksX0_init_5 15 rfl rfl)
theorem dX0_init_136 : decode cX0_init 136 = .ok (.aload_n 0, 1) := dk_42 (dk_at dksX0_init_5 18 rfl rfl)
theorem dX0_init_137 : decode cX0_init 137 = .ok (.iconst 5, 1) := dk_8 (dk_at dksX0_init_5 19 rfl rfl)
theorem dX0_init_138 : decode cX0_init 138 = .ok (.newarray .int, 2) := dk_188_10 (dk_at dksX0_init_5 20 rfl rfl)
theorem dX0_init_140 : decode cX0_init 140 = .ok (.putfield 71, 3) := dk_181 0 71 (dk_at dksX0_init_6 0 rfl rfl)
theorem dX0_init_143 : decode cX0_init 143 = .ok (.aload_n 0, 1) := dk_42 (dk_at dksX0_init_6 3 rfl rfl)
theorem dX0_init_144 : decode cX0_init 144 = .ok (.bipush 32, 2) := dk_16 32 (dk_at dksX0_init_6 4 rfl rfl)
theorem dX0_init_146 : decode cX0_init 146 = .ok (.newarray .int, 2) := dk_188_10 (dk_at dksX0_init_6 6 rfl rfl)
theorem dX0_init_148 : decode cX0_init 148 = .ok (.putfield 74, 3) := dk_181 0 74 (dk_at dksX0_init_6 8 rfl rfl)
theorem dX0_init_151 : decode cX0_init 151 = .ok (.aload_n 0, 1) := dk_42 (dk_at dksX0_init_6 11 rfl rfl)
theorem dX0_init_152 : decode cX0_init 152 = .ok (.sipush 1400, 3) := dk_17 5 120 (dk_at dksX0_init_6 12 rfl rfl)
theorem dX0_init_155 : decode cX0_init 155 = .ok (.newarray .int, 2) := dk_188_10 (dk_at dksX0_init_6 15 rfl rfl)
theorem dX0_init_157 : decode cX0_init 157 = .ok (.putfield 77, 3) := dk_181 0 77 (dk_at dksX0_init_6 17 rfl rfl)
theorem dX0_init_160 : decode cX0_init 160 = .ok (.aload_n 0, 1) := dk_42 (dk_at dksX0_init_6 20 rfl rfl)
theorem dX0_init_161 : decode cX0_init 161 = .ok (.ldc 80, 2) := dk_18 80 (dk_at dksX0_init_6 21 rfl rfl)
theorem dX0_init_163 : decode cX0_init 163 = .ok (.newarray .int, 2) := dk_188_10 (dk_at dksX0_init_7 0 rfl rfl)
theorem dX0_init_165 : decode cX0_init 165 = .ok (.putfield 81, 3) := dk_181 0 81 (dk_at dksX0_init_7 2 rfl rfl)
theorem dX0_init_168 : decode cX0_init 168 = .ok (.aload_n 0, 1) := dk_42 (dk_at dksX0_init_7 5 rfl rfl)
theorem dX0_init_169 : decode cX0_init 169 = .ok (.ldc 80, 2) := dk_18 80 (dk_at dksX0_init_7 6 rfl rfl)
theorem dX0_init_171 : decode cX0_init 171 = .ok (.newarray .boolean, 2) := dk_188_4 (dk_at dksX0_init_7 8 rfl rfl)
theorem dX0_init_173 : decode cX0_init 173 = .ok (.putfield 84, 3) := dk_181 0 84 (dk_at dksX0_init_7 10 rfl rfl)
theorem dX0_init_176 : decode cX0_init 176 = .ok (.aload_n 0, 1) := dk_42 (dk_at dksX0_init_7 13 rfl rfl)
theorem dX0_init_177 : decode cX0_init 177 = .ok (.bipush 32, 2) := dk_16 32 (dk_at dksX0_init_7 14 rfl rfl)
theorem dX0_init_179 : decode cX0_init 179 = .ok (.newarray .int, 2) := dk_188_10 (dk_at dksX0_init_7 16 rfl rfl)
theorem dX0_init_181 : decode cX0_init 181 = .ok (.putfield 88, 3) := dk_181 0 88 (dk_at dksX0_init_7 18 rfl rfl)
theorem dX0_init_184 : decode cX0_init 184 = .ok (.aload_n 0, 1) := dk_42 (dk_at dksX0_init_7 21 rfl rfl)
theorem dX0_init_185 : decode cX0_init 185 = .ok (.bipush 32, 2) := dk_16 32 (dk_at dksX0_init_7 22 rfl rfl)
theorem dX0_init_187 : decode cX0_init 187 = .ok (.newarray .int, 2) := dk_188_10 (dk_at dksX0_init_8 0 rfl rfl)
theorem dX0_init_189 : decode cX0_init 189 = .ok (.putfield 91, 3) := dk_181 0 91 (dk_at dksX0_init_8 2 rfl rfl)
theorem dX0_init_192 : decode cX0_init 192 = .ok (.aload_n 0, 1) := dk_42 (dk_at dksX0_init_8 5 rfl rfl)
theorem dX0_init_193 : decode cX0_init 193 = .ok (.bipush 6, 2) := dk_16 6 (dk_at dksX0_init_8 6 rfl rfl)
theorem dX0_init_195 : decode cX0_init 195 = .ok (.newarray .int, 2) := dk_188_10 (dk_at dksX0_init_8 8 rfl rfl)
theorem dX0_init_197 : decode cX0_init 197 = .ok (.putfield 94, 3) := dk_181 0 94 (dk_at dksX0_init_8 10 rfl rfl)
theorem dX0_init_200 : decode cX0_init 200 = .ok (.aload_n 0, 1) := dk_42 (dk_at dksX0_init_8 13 rfl rfl)
theorem dX0_init_201 : decode cX0_init 201 = .ok (.bipush 6, 2) := dk_16 6 (dk_at dksX0_init_8 14 rfl rfl)
theorem dX0_init_203 : decode cX0_init 203 = .ok (.newarray .int, 2) := dk_188_10 (dk_at dksX0_init_8 16 rfl rfl)
theorem dX0_init_205 : decode cX0_init 205 = .ok (.putfield 97, 3) := dk_181 0 97 (dk_at dksX0_init_8 18 rfl rfl)
theorem dX0_init_208 : decode cX0_init 208 = .ok (.aload_n 0, 1) := dk_42 (dk_at dksX0_init_8 21 rfl rfl)
theorem dX0_init_209 : decode cX0_init 209 = .ok (.bipush 6, 2) := dk_16 6 (dk_at dksX0_init_8 22 rfl rfl)
theorem dX0_init_211 : decode cX0_init 211 = .ok (.newarray .int, 2) := dk_188_10 (dk_at dksX0_init_9 0 rfl rfl)
theorem dX0_init_213 : decode cX0_init 213 = .ok (.putfield 100, 3) := dk_181 0 100 (dk_at dksX0_init_9 2 rfl rfl)
theorem dX0_init_216 : decode cX0_init 216 = .ok (.aload_n 0, 1) := dk_42 (dk_at dksX0_init_9 5 rfl rfl)
theorem dX0_init_217 : decode cX0_init 217 = .ok (.bipush 6, 2) := dk_16 6 (dk_at dksX0_init_9 6 rfl rfl)
theorem dX0_init_219 : decode cX0_init 219 = .ok (.newarray .int, 2) := dk_188_10 (dk_at dksX0_init_9 8 rfl rfl)
theorem dX0_init_221 : decode cX0_init 221 = .ok (.putfield 103, 3) := dk_181 0 103 (dk_at dksX0_init_9 10 rfl rfl)
theorem dX0_init_224 : decode cX0_init 224 = .ok (.aload_n 0, 1) := dk_42 (dk_at dksX0_init_9 13 rfl rfl)
theorem dX0_init_225 : decode cX0_init 225 = .ok (.bipush 6, 2) := dk_16 6 (dk_at dksX0_init_9 14 rfl rfl)
theorem dX0_init_227 : decode cX0_init 227 = .ok (.newarray .int, 2) := dk_188_10 (dk_at dksX0_init_9 16 rfl rfl)
theorem dX0_init_229 : decode cX0_init 229 = .ok (.putfield 106, 3) := dk_181 0 106 (dk_at dksX0_init_9 18 rfl rfl)
theorem dX0_init_232 : decode cX0_init 232 = .ok (.aload_n 0, 1) := dk_42 (dk_at dksX0_init_9 21 rfl rfl)
theorem dX0_init_233 : decode cX0_init 233 = .ok (.bipush 6, 2) := dk_16 6 (dk_at dksX0_init_9 22 rfl rfl)
theorem dX0_init_235 : decode cX0_init 235 = .ok (.newarray .int, 2) := dk_188_10 (dk_at dksX0_init_10 0 rfl rfl)
theorem dX0_init_237 : decode cX0_init 237 = .ok (.putfield 109, 3) := dk_181 0 109 (dk_at dksX0_init_10 2 rfl rfl)
theorem dX0_init_240 : decode cX0_init 240 = .ok (.aload_n 0, 1) := dk_42 (dk_at dksX0_init_10 5 rfl rfl)
theorem dX0_init_241 : decode cX0_init 241 = .ok (.bipush 60, 2) := dk_16 60 (dk_at dksX0_init_10 6 rfl rfl)
theorem dX0_init_243 : decode cX0_init 243 = .ok (.newarray .int, 2) := dk_188_10 (dk_at dksX0_init_10 8 rfl rfl)
theorem dX0_init_245 : decode cX0_init 245 = .ok (.putfield 112, 3) := dk_181 0 112 (dk_at dksX0_init_10 10 rfl rfl)
theorem dX0_init_248 : decode cX0_init 248 = .ok (.aload_n 0, 1) := dk_42 (dk_at dksX0_init_10 13 rfl rfl)
theorem dX0_init_249 : decode cX0_init 249 = .ok (.iconst 4, 1) := dk_7 (dk_at dksX0_init_10 14 rfl rfl)
theorem dX0_init_250 : decode cX0_init 250 = .ok (.anewarray 115, 3) := dk_189 0 115 (dk_at dksX0_init_10 15 rfl rfl)
theorem dX0_init_253 : decode cX0_init 253 = .ok (.dup, 1) := dk_89 (dk_at dksX0_init_10 18 rfl rfl)
theorem dX0_init_254 : decode cX0_init 254 = .ok (.iconst 0, 1) := dk_3 (dk_at dksX0_init_10 19 rfl rfl)
theorem dX0_init_255 : decode cX0_init 255 = .ok (.new 115, 3) := dk_187 0 115 (dk_at dksX0_init_10 20 rfl rfl)
theorem dX0_init_258 : decode cX0_init 258 = .ok (.dup, 1) := dk_89 (dk_at dksX0_init_10 23 rfl rfl)
theorem dX0_init_259 : decode cX0_init 259 = .ok (.invokespecial 117, 3) := dk_183 0 117 (dk_at dksX0_init_11 0 rfl rfl)
theorem dX0_init_262 : decode cX0_init 262 = .ok (.aastore, 1) := dk_83 (dk_at dksX0_init_11 3 rfl rfl)
theorem dX0_init_263 : decode cX0_init 263 = .ok (.dup, 1) := dk_89 (dk_at dksX0_init_11 4 rfl rfl)
theorem dX0_init_264 : decode cX0_init 264 = .ok (.iconst 1, 1) := dk_4 (dk_at dksX0_init_11 5 rfl rfl)
theorem dX0_init_265 : decode cX0_init 265 = .ok (.new 115, 3) := dk_187 0 115 (dk_at dksX0_init_11 6 rfl rfl)
theorem dX0_init_268 : decode cX0_init 268 = .ok (.dup, 1) := dk_89 (dk_at dksX0_init_11 9 rfl rfl)
theorem dX0_init_269 : decode cX0_init 269 = .ok (.invokespecial 117, 3) := dk_183 0 117 (dk_at dksX0_init_11 10 rfl rfl)
theorem dX0_init_272 : decode cX0_init 272 = .ok (.aastore, 1) := dk_83 (dk_at dksX0_init_11 13 rfl rfl)
theorem dX0_init_273 : decode cX0_init 273 = .ok (.dup, 1) := dk_89 (dk_at dksX0_init_11 14 rfl rfl)
theorem dX0_init_274 : decode cX0_init 274 = .ok (.iconst 2, 1) := dk_5 (dk_at dksX0_init_11 15 rfl rfl)
theorem dX0_init_275 : decode cX0_init 275 = .ok (.new 115, 3) := dk_187 0 115 (dk_at dksX0_init_11 16 rfl rfl)
theorem dX0_init_278 : decode cX0_init 278 = .ok (.dup, 1) := dk_89 (dk_at dksX0_init_11 19 rfl rfl)
theorem dX0_init_279 : decode cX0_init 279 = .ok (.invokespecial 117, 3) := dk_183 0 117 (dk_at dksX0_init_11 20 rfl rfl)
theorem dX0_init_282 : decode cX0_init 282 = .ok (.aastore, 1) := dk_83 (dk_at dksX0_init_11 23 rfl rfl)
theorem dX0_init_283 : decode cX0_init 283 = .ok (.dup, 1) := dk_89 (dk_at dksX0_init_12 0 rfl rfl)
theorem dX0_init_284 : decode cX0_init 284 = .ok (.iconst 3, 1) := dk_6 (dk_at dksX0_init_12 1 rfl rfl)
theorem dX0_init_285 : decode cX0_init 285 = .ok (.new 115, 3) := dk_187 0 115 (dk_at dksX0_init_12 2 rfl rfl)
theorem dX0_init_288 : decode cX0_init 288 = .ok (.dup, 1) := dk_89 (dk_at dksX0_init_12 5 rfl rfl)
theorem dX0_init_289 : decode cX0_init 289 = .ok (.invokespecial 117, 3) := dk_183 0 117 (dk_at dksX0_init_12 6 rfl rfl)
theorem dX0_init_292 : decode cX0_init 292 = .ok (.aastore, 1) := dk_83 (dk_at dksX0_init_12 9 rfl rfl)
theorem dX0_init_293 : decode cX0_init 293 = .ok (.putfield 118, 3) := dk_181 0 118 (dk_at dksX0_init_12 10 rfl rfl)
theorem dX0_init_296 : decode cX0_init 296 = .ok (.aload_n 0, 1) := dk_42 (dk_at dksX0_init_12 13 rfl rfl)
theorem dX0_init_297 : decode cX0_init 297 = .ok (.iconst 3, 1) := dk_6 (dk_at dksX0_init_12 14 rfl rfl)
theorem dX0_init_298 : decode cX0_init 298 = .ok (.anewarray 7, 3) := dk_189 0 7 (dk_at dksX0_init_12 15 rfl rfl)
theorem dX0_init_301 : decode cX0_init 301 = .ok (.putfield 122, 3) := dk_181 0 122 (dk_at dksX0_init_12 18 rfl rfl)
theorem dX0_init_304 : decode cX0_init 304 = .ok (.return_, 1) := dk_177 (dk_at dksX0_init_12 21 rfl rfl)
abbrev cX0_feed : ByteArray := prog_1_method_5_code
def yX0_feed : MethodName := ⟨RX0, "feed", "(IIIII)I"⟩
def dkwX0_feed_2 : List UInt8 := [172]
abbrev dktX0_feed_2 : List UInt8 := dkwX0_feed_2 ++ []
def dkwX0_feed_1 : List UInt8 := [182, 0, 129, 42, 29, 182, 0, 129, 42, 21, 4, 182, 0, 129, 42, 21, 5, 182, 0, 129, 42, 180, 0, 126]
abbrev dktX0_feed_1 : List UInt8 := dkwX0_feed_1 ++ dktX0_feed_2
def dkwX0_feed_0 : List UInt8 := [42, 180, 0, 126, 16, 20, 96, 17, 5, 120, 164, 0, 5, 2, 172, 42, 27, 182, 0, 129, 42, 28]
abbrev dktX0_feed_0 : List UInt8 := dkwX0_feed_0 ++ dktX0_feed_1
theorem dksX0_feed_0 : cX0_feed.data.toList.drop 0 = dktX0_feed_0 := by decide +kernel
theorem dksX0_feed_1 : cX0_feed.data.toList.drop 22 = dktX0_feed_1 := dk_seg dksX0_feed_0 22 rfl rfl
theorem dksX0_feed_2 : cX0_feed.data.toList.drop 46 = dktX0_feed_2 := dk_seg dksX0_feed_1 24 rfl rfl
theorem dX0_feed_0 : decode cX0_feed 0 = .ok (.aload_n 0, 1) := dk_42 (dk_at dksX0_feed_0 0 rfl rfl)
theorem dX0_feed_1 : decode cX0_feed 1 = .ok (.getfield 126, 3) := dk_180 0 126 (dk_at dksX0_feed_0 1 rfl rfl)
theorem dX0_feed_4 : decode cX0_feed 4 = .ok (.bipush 20, 2) := dk_16 20 (dk_at dksX0_feed_0 4 rfl rfl)
theorem dX0_feed_6 : decode cX0_feed 6 = .ok (.iadd, 1) := dk_96 (dk_at dksX0_feed_0 6 rfl rfl)
theorem dX0_feed_7 : decode cX0_feed 7 = .ok (.sipush 1400, 3) := dk_17 5 120 (dk_at dksX0_feed_0 7 rfl rfl)
theorem dX0_feed_10 : decode cX0_feed 10 = .ok (.if_icmp .le 5, 3) := dk_164 0 5 (dk_at dksX0_feed_0 10 rfl rfl)
theorem dX0_feed_13 : decode cX0_feed 13 = .ok (.iconst (-1), 1) := dk_2 (dk_at dksX0_feed_0 13 rfl rfl)
theorem dX0_feed_14 : decode cX0_feed 14 = .ok (.ireturn, 1) := dk_172 (dk_at dksX0_feed_0 14 rfl rfl)
theorem dX0_feed_15 : decode cX0_feed 15 = .ok (.aload_n 0, 1) := dk_42 (dk_at dksX0_feed_0 15 rfl rfl)
theorem dX0_feed_16 : decode cX0_feed 16 = .ok (.iload_n 1, 1) := dk_27 (dk_at dksX0_feed_0 16 rfl rfl)
theorem dX0_feed_17 : decode cX0_feed 17 = .ok (.invokevirtual 129, 3) := dk_182 0 129 (dk_at dksX0_feed_0 17 rfl rfl)
theorem dX0_feed_20 : decode cX0_feed 20 = .ok (.aload_n 0, 1) := dk_42 (dk_at dksX0_feed_0 20 rfl rfl)
theorem dX0_feed_21 : decode cX0_feed 21 = .ok (.iload_n 2, 1) := dk_28 (dk_at dksX0_feed_0 21 rfl rfl)
theorem dX0_feed_22 : decode cX0_feed 22 = .ok (.invokevirtual 129, 3) := dk_182 0 129 (dk_at dksX0_feed_1 0 rfl rfl)
theorem dX0_feed_25 : decode cX0_feed 25 = .ok (.aload_n 0, 1) := dk_42 (dk_at dksX0_feed_1 3 rfl rfl)
theorem dX0_feed_26 : decode cX0_feed 26 = .ok (.iload_n 3, 1) := dk_29 (dk_at dksX0_feed_1 4 rfl rfl)
theorem dX0_feed_27 : decode cX0_feed 27 = .ok (.invokevirtual 129, 3) := dk_182 0 129 (dk_at dksX0_feed_1 5 rfl rfl)
theorem dX0_feed_30 : decode cX0_feed 30 = .ok (.aload_n 0, 1) := dk_42 (dk_at dksX0_feed_1 8 rfl rfl)
theorem dX0_feed_31 : decode cX0_feed 31 = .ok (.iload 4, 2) := dk_21 4 (dk_at dksX0_feed_1 9 rfl rfl)
theorem dX0_feed_33 : decode cX0_feed 33 = .ok (.invokevirtual 129, 3) := dk_182 0 129 (dk_at dksX0_feed_1 11 rfl rfl)
theorem dX0_feed_36 : decode cX0_feed 36 = .ok (.aload_n 0, 1) := dk_42 (dk_at dksX0_feed_1 14 rfl rfl)
theorem dX0_feed_37 : decode cX0_feed 37 = .ok (.iload 5, 2) := dk_21 5 (dk_at dksX0_feed_1 15 rfl rfl)
theorem dX0_feed_39 : decode cX0_feed 39 = .ok (.invokevirtual 129, 3) := dk_182 0 129 (dk_at dksX0_feed_1 17 rfl rfl)
theorem dX0_feed_42 : decode cX0_feed 42 = .ok (.aload_n 0, 1) := dk_42 (dk_at dksX0_feed_1 20 rfl rfl)
theorem dX0_feed_43 : decode cX0_feed 43 = .ok (.getfield 126, 3) := dk_180 0 126 (dk_at dksX0_feed_1 21 rfl rfl)
theorem dX0_feed_46 : decode cX0_feed 46 = .ok (.ireturn, 1) := dk_172 (dk_at dksX0_feed_2 0 rfl rfl)
abbrev cX0_puts : ByteArray := prog_1_method_4_code
def yX0_puts : MethodName := ⟨RX0, "puts", "(I)V"⟩
def dkwX0_puts_1 : List UInt8 := [180, 0, 126, 4, 96, 181, 0, 126, 132, 2, 248, 167, 255, 226, 177]
abbrev dktX0_puts_1 : List UInt8 := dkwX0_puts_1 ++ []
def dkwX0_puts_0 : List UInt8 := [16, 24, 61, 28, 155, 0, 32, 42, 180, 0, 16, 42, 180, 0, 126, 27, 28, 122, 145, 84, 42, 89]
abbrev dktX0_puts_0 : List UInt8 := dkwX0_puts_0 ++ dktX0_puts_1
theorem dksX0_puts_0 : cX0_puts.data.toList.drop 0 = dktX0_puts_0 := by decide +kernel
theorem dksX0_puts_1 : cX0_puts.data.toList.drop 22 = dktX0_puts_1 := dk_seg dksX0_puts_0 22 rfl rfl
theorem dX0_puts_0 : decode cX0_puts 0 = .ok (.bipush 24, 2) := dk_16 24 (dk_at dksX0_puts_0 0 rfl rfl)
theorem dX0_puts_2 : decode cX0_puts 2 = .ok (.istore_n 2, 1) := dk_61 (dk_at dksX0_puts_0 2 rfl rfl)
theorem dX0_puts_3 : decode cX0_puts 3 = .ok (.iload_n 2, 1) := dk_28 (dk_at dksX0_puts_0 3 rfl rfl)
theorem dX0_puts_4 : decode cX0_puts 4 = .ok (.ifCond .lt 32, 3) := dk_155 0 32 (dk_at dksX0_puts_0 4 rfl rfl)
theorem dX0_puts_7 : decode cX0_puts 7 = .ok (.aload_n 0, 1) := dk_42 (dk_at dksX0_puts_0 7 rfl rfl)
theorem dX0_puts_8 : decode cX0_puts 8 = .ok (.getfield 16, 3) := dk_180 0 16 (dk_at dksX0_puts_0 8 rfl rfl)
theorem dX0_puts_11 : decode cX0_puts 11 = .ok (.aload_n 0, 1) := dk_42 (dk_at dksX0_puts_0 11 rfl rfl)
theorem dX0_puts_12 : decode cX0_puts 12 = .ok (.getfield 126, 3) := dk_180 0 126 (dk_at dksX0_puts_0 12 rfl rfl)
theorem dX0_puts_15 : decode cX0_puts 15 = .ok (.iload_n 1, 1) := dk_27 (dk_at dksX0_puts_0 15 rfl rfl)
theorem dX0_puts_16 : decode cX0_puts 16 = .ok (.iload_n 2, 1) := dk_28 (dk_at dksX0_puts_0 16 rfl rfl)
theorem dX0_puts_17 : decode cX0_puts 17 = .ok (.ishr, 1) := dk_122 (dk_at dksX0_puts_0 17 rfl rfl)
theorem dX0_puts_18 : decode cX0_puts 18 = .ok (.i2b, 1) := dk_145 (dk_at dksX0_puts_0 18 rfl rfl)
theorem dX0_puts_19 : decode cX0_puts 19 = .ok (.bastore, 1) := dk_84 (dk_at dksX0_puts_0 19 rfl rfl)
theorem dX0_puts_20 : decode cX0_puts 20 = .ok (.aload_n 0, 1) := dk_42 (dk_at dksX0_puts_0 20 rfl rfl)
theorem dX0_puts_21 : decode cX0_puts 21 = .ok (.dup, 1) := dk_89 (dk_at dksX0_puts_0 21 rfl rfl)
theorem dX0_puts_22 : decode cX0_puts 22 = .ok (.getfield 126, 3) := dk_180 0 126 (dk_at dksX0_puts_1 0 rfl rfl)
theorem dX0_puts_25 : decode cX0_puts 25 = .ok (.iconst 1, 1) := dk_4 (dk_at dksX0_puts_1 3 rfl rfl)
theorem dX0_puts_26 : decode cX0_puts 26 = .ok (.iadd, 1) := dk_96 (dk_at dksX0_puts_1 4 rfl rfl)
theorem dX0_puts_27 : decode cX0_puts 27 = .ok (.putfield 126, 3) := dk_181 0 126 (dk_at dksX0_puts_1 5 rfl rfl)
theorem dX0_puts_30 : decode cX0_puts 30 = .ok (.iinc 2 (-8), 3) := dk_132 2 248 (dk_at dksX0_puts_1 8 rfl rfl)
theorem dX0_puts_33 : decode cX0_puts 33 = .ok (.goto (-30), 3) := dk_167 255 226 (dk_at dksX0_puts_1 11 rfl rfl)
theorem dX0_puts_36 : decode cX0_puts 36 = .ok (.return_, 1) := dk_177 (dk_at dksX0_puts_1 14 rfl rfl)
abbrev cX0_end : ByteArray := prog_1_method_6_code
def yX0_end : MethodName := ⟨RX0, "end", "(I)I"⟩
def dkwX0_end_0 : List UInt8 := [27, 133, 9, 42, 180, 0, 126, 133, 184, 0, 133, 154, 0, 5, 2, 172, 42, 27, 181, 0, 126, 27, 172]
abbrev dktX0_end_0 : List UInt8 := dkwX0_end_0 ++ []
theorem dksX0_end_0 : cX0_end.data.toList.drop 0 = dktX0_end_0 := by decide +kernel
theorem dX0_end_0 : decode cX0_end 0 = .ok (.iload_n 1, 1) := dk_27 (dk_at dksX0_end_0 0 rfl rfl)
theorem dX0_end_1 : decode cX0_end 1 = .ok (.i2l, 1) := dk_133 (dk_at dksX0_end_0 1 rfl rfl)
theorem dX0_end_2 : decode cX0_end 2 = .ok (.lconst 0, 1) := dk_9 (dk_at dksX0_end_0 2 rfl rfl)
theorem dX0_end_3 : decode cX0_end 3 = .ok (.aload_n 0, 1) := dk_42 (dk_at dksX0_end_0 3 rfl rfl)
theorem dX0_end_4 : decode cX0_end 4 = .ok (.getfield 126, 3) := dk_180 0 126 (dk_at dksX0_end_0 4 rfl rfl)
theorem dX0_end_7 : decode cX0_end 7 = .ok (.i2l, 1) := dk_133 (dk_at dksX0_end_0 7 rfl rfl)
theorem dX0_end_8 : decode cX0_end 8 = .ok (.invokestatic 133, 3) := dk_184 0 133 (dk_at dksX0_end_0 8 rfl rfl)
theorem dX0_end_11 : decode cX0_end 11 = .ok (.ifCond .ne 5, 3) := dk_154 0 5 (dk_at dksX0_end_0 11 rfl rfl)
theorem dX0_end_14 : decode cX0_end 14 = .ok (.iconst (-1), 1) := dk_2 (dk_at dksX0_end_0 14 rfl rfl)
theorem dX0_end_15 : decode cX0_end 15 = .ok (.ireturn, 1) := dk_172 (dk_at dksX0_end_0 15 rfl rfl)
theorem dX0_end_16 : decode cX0_end 16 = .ok (.aload_n 0, 1) := dk_42 (dk_at dksX0_end_0 16 rfl rfl)
theorem dX0_end_17 : decode cX0_end 17 = .ok (.iload_n 1, 1) := dk_27 (dk_at dksX0_end_0 17 rfl rfl)
theorem dX0_end_18 : decode cX0_end 18 = .ok (.putfield 126, 3) := dk_181 0 126 (dk_at dksX0_end_0 18 rfl rfl)
theorem dX0_end_21 : decode cX0_end 21 = .ok (.iload_n 1, 1) := dk_27 (dk_at dksX0_end_0 21 rfl rfl)
theorem dX0_end_22 : decode cX0_end 22 = .ok (.ireturn, 1) := dk_172 (dk_at dksX0_end_0 22 rfl rfl)
abbrev cX0_isIn : ByteArray := prog_1_method_1_code
def yX0_isIn : MethodName := ⟨RX0, "isIn", "(JJJ)Z"⟩
def dkwX0_isIn_0 : List UInt8 := [30, 32, 148, 155, 0, 14, 30, 22, 4, 148, 157, 0, 7, 4, 167, 0, 4, 3, 172]
abbrev dktX0_isIn_0 : List UInt8 := dkwX0_isIn_0 ++ []
theorem dksX0_isIn_0 : cX0_isIn.data.toList.drop 0 = dktX0_isIn_0 := by decide +kernel
theorem dX0_isIn_0 : decode cX0_isIn 0 = .ok (.lload_n 0, 1) := dk_30 (dk_at dksX0_isIn_0 0 rfl rfl)
theorem dX0_isIn_1 : decode cX0_isIn 1 = .ok (.lload_n 2, 1) := dk_32 (dk_at dksX0_isIn_0 1 rfl rfl)
theorem dX0_isIn_2 : decode cX0_isIn 2 = .ok (.lcmp, 1) := dk_148 (dk_at dksX0_isIn_0 2 rfl rfl)
theorem dX0_isIn_3 : decode cX0_isIn 3 = .ok (.ifCond .lt 14, 3) := dk_155 0 14 (dk_at dksX0_isIn_0 3 rfl rfl)
theorem dX0_isIn_6 : decode cX0_isIn 6 = .ok (.lload_n 0, 1) := dk_30 (dk_at dksX0_isIn_0 6 rfl rfl)
theorem dX0_isIn_7 : decode cX0_isIn 7 = .ok (.lload 4, 2) := dk_22 4 (dk_at dksX0_isIn_0 7 rfl rfl)
theorem dX0_isIn_9 : decode cX0_isIn 9 = .ok (.lcmp, 1) := dk_148 (dk_at dksX0_isIn_0 9 rfl rfl)
theorem dX0_isIn_10 : decode cX0_isIn 10 = .ok (.ifCond .gt 7, 3) := dk_157 0 7 (dk_at dksX0_isIn_0 10 rfl rfl)
theorem dX0_isIn_13 : decode cX0_isIn 13 = .ok (.iconst 1, 1) := dk_4 (dk_at dksX0_isIn_0 13 rfl rfl)
theorem dX0_isIn_14 : decode cX0_isIn 14 = .ok (.goto 4, 3) := dk_167 0 4 (dk_at dksX0_isIn_0 14 rfl rfl)
theorem dX0_isIn_17 : decode cX0_isIn 17 = .ok (.iconst 0, 1) := dk_3 (dk_at dksX0_isIn_0 17 rfl rfl)
theorem dX0_isIn_18 : decode cX0_isIn 18 = .ok (.ireturn, 1) := dk_172 (dk_at dksX0_isIn_0 18 rfl rfl)
abbrev cX0_town : ByteArray := prog_1_method_7_code
def yX0_town : MethodName := ⟨RX0, "town", "()I"⟩
def dkwX0_town_3 : List UInt8 := [181, 0, 126, 45, 191]
abbrev dktX0_town_3 : List UInt8 := dkwX0_town_3 ++ []
def dkwX0_town_2 : List UInt8 := [181, 0, 144, 42, 43, 180, 0, 155, 181, 0, 20, 16, 252, 61, 42, 3, 181, 0, 126, 28, 172, 78, 42, 3]
abbrev dktX0_town_2 : List UInt8 := dkwX0_town_2 ++ dktX0_town_3
def dkwX0_town_1 : List UInt8 := [181, 0, 20, 42, 180, 0, 10, 180, 0, 147, 60, 42, 3, 181, 0, 126, 27, 172, 76, 42, 43, 180, 0, 152]
abbrev dktX0_town_1 : List UInt8 := dkwX0_town_1 ++ dktX0_town_2
def dkwX0_town_0 : List UInt8 := [42, 187, 0, 137, 89, 42, 183, 0, 139, 182, 0, 140, 181, 0, 10, 42, 3, 181, 0, 144, 42, 2]
abbrev dktX0_town_0 : List UInt8 := dkwX0_town_0 ++ dktX0_town_1
theorem dksX0_town_0 : cX0_town.data.toList.drop 0 = dktX0_town_0 := by decide +kernel
theorem dksX0_town_1 : cX0_town.data.toList.drop 22 = dktX0_town_1 := dk_seg dksX0_town_0 22 rfl rfl
theorem dksX0_town_2 : cX0_town.data.toList.drop 46 = dktX0_town_2 := dk_seg dksX0_town_1 24 rfl rfl
theorem dksX0_town_3 : cX0_town.data.toList.drop 70 = dktX0_town_3 := dk_seg dksX0_town_2 24 rfl rfl
theorem dX0_town_0 : decode cX0_town 0 = .ok (.aload_n 0, 1) := dk_42 (dk_at dksX0_town_0 0 rfl rfl)
theorem dX0_town_1 : decode cX0_town 1 = .ok (.new 137, 3) := dk_187 0 137 (dk_at dksX0_town_0 1 rfl rfl)
theorem dX0_town_4 : decode cX0_town 4 = .ok (.dup, 1) := dk_89 (dk_at dksX0_town_0 4 rfl rfl)
theorem dX0_town_5 : decode cX0_town 5 = .ok (.aload_n 0, 1) := dk_42 (dk_at dksX0_town_0 5 rfl rfl)
theorem dX0_town_6 : decode cX0_town 6 = .ok (.invokespecial 139, 3) := dk_183 0 139 (dk_at dksX0_town_0 6 rfl rfl)
theorem dX0_town_9 : decode cX0_town 9 = .ok (.invokevirtual 140, 3) := dk_182 0 140 (dk_at dksX0_town_0 9 rfl rfl)
theorem dX0_town_12 : decode cX0_town 12 = .ok (.putfield 10, 3) := dk_181 0 10 (dk_at dksX0_town_0 12 rfl rfl)
theorem dX0_town_15 : decode cX0_town 15 = .ok (.aload_n 0, 1) := dk_42 (dk_at dksX0_town_0 15 rfl rfl)
theorem dX0_town_16 : decode cX0_town 16 = .ok (.iconst 0, 1) := dk_3 (dk_at dksX0_town_0 16 rfl rfl)
theorem dX0_town_17 : decode cX0_town 17 = .ok (.putfield 144, 3) := dk_181 0 144 (dk_at dksX0_town_0 17 rfl rfl)
theorem dX0_town_20 : decode cX0_town 20 = .ok (.aload_n 0, 1) := dk_42 (dk_at dksX0_town_0 20 rfl rfl)
theorem dX0_town_21 : decode cX0_town 21 = .ok (.iconst (-1), 1) := dk_2 (dk_at dksX0_town_0 21 rfl rfl)
theorem dX0_town_22 : decode cX0_town 22 = .ok (.putfield 20, 3) := dk_181 0 20 (dk_at dksX0_town_1 0 rfl rfl)
theorem dX0_town_25 : decode cX0_town 25 = .ok (.aload_n 0, 1) := dk_42 (dk_at dksX0_town_1 3 rfl rfl)
theorem dX0_town_26 : decode cX0_town 26 = .ok (.getfield 10, 3) := dk_180 0 10 (dk_at dksX0_town_1 4 rfl rfl)
theorem dX0_town_29 : decode cX0_town 29 = .ok (.getfield 147, 3) := dk_180 0 147 (dk_at dksX0_town_1 7 rfl rfl)
theorem dX0_town_32 : decode cX0_town 32 = .ok (.istore_n 1, 1) := dk_60 (dk_at dksX0_town_1 10 rfl rfl)
theorem dX0_town_33 : decode cX0_town 33 = .ok (.aload_n 0, 1) := dk_42 (dk_at dksX0_town_1 11 rfl rfl)
theorem dX0_town_34 : decode cX0_town 34 = .ok (.iconst 0, 1) := dk_3 (dk_at dksX0_town_1 12 rfl rfl)
theorem dX0_town_35 : decode cX0_town 35 = .ok (.putfield 126, 3) := dk_181 0 126 (dk_at dksX0_town_1 13 rfl rfl)
theorem dX0_town_38 : decode cX0_town 38 = .ok (.iload_n 1, 1) := dk_27 (dk_at dksX0_town_1 16 rfl rfl)
theorem dX0_town_39 : decode cX0_town 39 = .ok (.ireturn, 1) := dk_172 (dk_at dksX0_town_1 17 rfl rfl)
theorem dX0_town_40 : decode cX0_town 40 = .ok (.astore_n 1, 1) := dk_76 (dk_at dksX0_town_1 18 rfl rfl)
theorem dX0_town_41 : decode cX0_town 41 = .ok (.aload_n 0, 1) := dk_42 (dk_at dksX0_town_1 19 rfl rfl)
theorem dX0_town_42 : decode cX0_town 42 = .ok (.aload_n 1, 1) := dk_43 (dk_at dksX0_town_1 20 rfl rfl)
theorem dX0_town_43 : decode cX0_town 43 = .ok (.getfield 152, 3) := dk_180 0 152 (dk_at dksX0_town_1 21 rfl rfl)
theorem dX0_town_46 : decode cX0_town 46 = .ok (.putfield 144, 3) := dk_181 0 144 (dk_at dksX0_town_2 0 rfl rfl)
theorem dX0_town_49 : decode cX0_town 49 = .ok (.aload_n 0, 1) := dk_42 (dk_at dksX0_town_2 3 rfl rfl)
theorem dX0_town_50 : decode cX0_town 50 = .ok (.aload_n 1, 1) := dk_43 (dk_at dksX0_town_2 4 rfl rfl)
theorem dX0_town_51 : decode cX0_town 51 = .ok (.getfield 155, 3) := dk_180 0 155 (dk_at dksX0_town_2 5 rfl rfl)
theorem dX0_town_54 : decode cX0_town 54 = .ok (.putfield 20, 3) := dk_181 0 20 (dk_at dksX0_town_2 8 rfl rfl)
theorem dX0_town_57 : decode cX0_town 57 = .ok (.bipush (-4), 2) := dk_16 252 (dk_at dksX0_town_2 11 rfl rfl)
theorem dX0_town_59 : decode cX0_town 59 = .ok (.istore_n 2, 1) := dk_61 (dk_at dksX0_town_2 13 rfl rfl)
theorem dX0_town_60 : decode cX0_town 60 = .ok (.aload_n 0, 1) := dk_42 (dk_at dksX0_town_2 14 rfl rfl)
theorem dX0_town_61 : decode cX0_town 61 = .ok (.iconst 0, 1) := dk_3 (dk_at dksX0_town_2 15 rfl rfl)
theorem dX0_town_62 : decode cX0_town 62 = .ok (.putfield 126, 3) := dk_181 0 126 (dk_at dksX0_town_2 16 rfl rfl)
theorem dX0_town_65 : decode cX0_town 65 = .ok (.iload_n 2, 1) := dk_28 (dk_at dksX0_town_2 19 rfl rfl)
theorem dX0_town_66 : decode cX0_town 66 = .ok (.ireturn, 1) := dk_172 (dk_at dksX0_town_2 20 rfl rfl)
theorem dX0_town_67 : decode cX0_town 67 = .ok (.astore_n 3, 1) := dk_78 (dk_at dksX0_town_2 21 rfl rfl)
theorem dX0_town_68 : decode cX0_town 68 = .ok (.aload_n 0, 1) := dk_42 (dk_at dksX0_town_2 22 rfl rfl)
theorem dX0_town_69 : decode cX0_town 69 = .ok (.iconst 0, 1) := dk_3 (dk_at dksX0_town_2 23 rfl rfl)
theorem dX0_town_70 : decode cX0_town 70 = .ok (.putfield 126, 3) := dk_181 0 126 (dk_at dksX0_town_3 0 rfl rfl)
theorem dX0_town_73 : decode cX0_town 73 = .ok (.aload_n 3, 1) := dk_45 (dk_at dksX0_town_3 3 rfl rfl)
theorem dX0_town_74 : decode cX0_town 74 = .ok (.athrow, 1) := dk_191 (dk_at dksX0_town_3 4 rfl rfl)
abbrev cX0_has : ByteArray := prog_1_method_2_code
def yX0_has : MethodName := ⟨RX0, "has", "(II)Z"⟩
def dkwX0_has_0 : List UInt8 := [26, 27, 124, 4, 126, 4, 160, 0, 7, 4, 167, 0, 4, 3, 172]
abbrev dktX0_has_0 : List UInt8 := dkwX0_has_0 ++ []
theorem dksX0_has_0 : cX0_has.data.toList.drop 0 = dktX0_has_0 := by decide +kernel
theorem dX0_has_0 : decode cX0_has 0 = .ok (.iload_n 0, 1) := dk_26 (dk_at dksX0_has_0 0 rfl rfl)
theorem dX0_has_1 : decode cX0_has 1 = .ok (.iload_n 1, 1) := dk_27 (dk_at dksX0_has_0 1 rfl rfl)
theorem dX0_has_2 : decode cX0_has 2 = .ok (.iushr, 1) := dk_124 (dk_at dksX0_has_0 2 rfl rfl)
theorem dX0_has_3 : decode cX0_has 3 = .ok (.iconst 1, 1) := dk_4 (dk_at dksX0_has_0 3 rfl rfl)
theorem dX0_has_4 : decode cX0_has 4 = .ok (.iand, 1) := dk_126 (dk_at dksX0_has_0 4 rfl rfl)
theorem dX0_has_5 : decode cX0_has 5 = .ok (.iconst 1, 1) := dk_4 (dk_at dksX0_has_0 5 rfl rfl)
theorem dX0_has_6 : decode cX0_has 6 = .ok (.if_icmp .ne 7, 3) := dk_160 0 7 (dk_at dksX0_has_0 6 rfl rfl)
theorem dX0_has_9 : decode cX0_has 9 = .ok (.iconst 1, 1) := dk_4 (dk_at dksX0_has_0 9 rfl rfl)
theorem dX0_has_10 : decode cX0_has 10 = .ok (.goto 4, 3) := dk_167 0 4 (dk_at dksX0_has_0 10 rfl rfl)
theorem dX0_has_13 : decode cX0_has 13 = .ok (.iconst 0, 1) := dk_3 (dk_at dksX0_has_0 13 rfl rfl)
theorem dX0_has_14 : decode cX0_has 14 = .ok (.ireturn, 1) := dk_172 (dk_at dksX0_has_0 14 rfl rfl)
abbrev cX0_fault : ByteArray := prog_1_method_8_code
def yX0_fault : MethodName := ⟨RX0, "fault", "(I)I"⟩
def dkwX0_fault_1 : List UInt8 := [172]
abbrev dktX0_fault_1 : List UInt8 := dkwX0_fault_1 ++ []
def dkwX0_fault_0 : List UInt8 := [27, 154, 0, 10, 42, 180, 0, 144, 167, 0, 16, 27, 4, 160, 0, 10, 42, 180, 0, 20, 167, 0, 4, 2]
abbrev dktX0_fault_0 : List UInt8 := dkwX0_fault_0 ++ dktX0_fault_1
theorem dksX0_fault_0 : cX0_fault.data.toList.drop 0 = dktX0_fault_0 := by decide +kernel
theorem dksX0_fault_1 : cX0_fault.data.toList.drop 24 = dktX0_fault_1 := dk_seg dksX0_fault_0 24 rfl rfl
theorem dX0_fault_0 : decode cX0_fault 0 = .ok (.iload_n 1, 1) := dk_27 (dk_at dksX0_fault_0 0 rfl rfl)
theorem dX0_fault_1 : decode cX0_fault 1 = .ok (.ifCond .ne 10, 3) := dk_154 0 10 (dk_at dksX0_fault_0 1 rfl rfl)
theorem dX0_fault_4 : decode cX0_fault 4 = .ok (.aload_n 0, 1) := dk_42 (dk_at dksX0_fault_0 4 rfl rfl)
theorem dX0_fault_5 : decode cX0_fault 5 = .ok (.getfield 144, 3) := dk_180 0 144 (dk_at dksX0_fault_0 5 rfl rfl)
theorem dX0_fault_8 : decode cX0_fault 8 = .ok (.goto 16, 3) := dk_167 0 16 (dk_at dksX0_fault_0 8 rfl rfl)
theorem dX0_fault_11 : decode cX0_fault 11 = .ok (.iload_n 1, 1) := dk_27 (dk_at dksX0_fault_0 11 rfl rfl)
theorem dX0_fault_12 : decode cX0_fault 12 = .ok (.iconst 1, 1) := dk_4 (dk_at dksX0_fault_0 12 rfl rfl)
theorem dX0_fault_13 : decode cX0_fault 13 = .ok (.if_icmp .ne 10, 3) := dk_160 0 10 (dk_at dksX0_fault_0 13 rfl rfl)
theorem dX0_fault_16 : decode cX0_fault 16 = .ok (.aload_n 0, 1) := dk_42 (dk_at dksX0_fault_0 16 rfl rfl)
theorem dX0_fault_17 : decode cX0_fault 17 = .ok (.getfield 20, 3) := dk_180 0 20 (dk_at dksX0_fault_0 17 rfl rfl)
theorem dX0_fault_20 : decode cX0_fault 20 = .ok (.goto 4, 3) := dk_167 0 4 (dk_at dksX0_fault_0 20 rfl rfl)
theorem dX0_fault_23 : decode cX0_fault 23 = .ok (.iconst (-1), 1) := dk_2 (dk_at dksX0_fault_0 23 rfl rfl)
theorem dX0_fault_24 : decode cX0_fault 24 = .ok (.ireturn, 1) := dk_172 (dk_at dksX0_fault_1 0 rfl rfl)
abbrev cX0_letter : ByteArray := prog_1_method_15_code
def yX0_letter : MethodName := ⟨RX0, "letter", "(II)I"⟩
def dkwX0_letter_2 : List UInt8 := [167, 0, 4, 2, 172]
abbrev dktX0_letter_2 : List UInt8 := dkwX0_letter_2 ++ []
def dkwX0_letter_1 : List UInt8 := [46, 4, 100, 133, 184, 0, 133, 153, 0, 20, 42, 180, 0, 10, 180, 0, 178, 16, 8, 27, 104, 28, 96, 51]
abbrev dktX0_letter_1 : List UInt8 := dkwX0_letter_1 ++ dktX0_letter_2
def dkwX0_letter_0 : List UInt8 := [42, 27, 182, 0, 171, 154, 0, 8, 16, 254, 167, 0, 42, 28, 133, 9, 42, 180, 0, 10, 180, 0, 175, 27]
abbrev dktX0_letter_0 : List UInt8 := dkwX0_letter_0 ++ dktX0_letter_1
theorem dksX0_letter_0 : cX0_letter.data.toList.drop 0 = dktX0_letter_0 := by decide +kernel
theorem dksX0_letter_1 : cX0_letter.data.toList.drop 24 = dktX0_letter_1 := dk_seg dksX0_letter_0 24 rfl rfl
theorem dksX0_letter_2 : cX0_letter.data.toList.drop 48 = dktX0_letter_2 := dk_seg dksX0_letter_1 24 rfl rfl
theorem dX0_letter_0 : decode cX0_letter 0 = .ok (.aload_n 0, 1) := dk_42 (dk_at dksX0_letter_0 0 rfl rfl)
theorem dX0_letter_1 : decode cX0_letter 1 = .ok (.iload_n 1, 1) := dk_27 (dk_at dksX0_letter_0 1 rfl rfl)
theorem dX0_letter_2 : decode cX0_letter 2 = .ok (.invokevirtual 171, 3) := dk_182 0 171 (dk_at dksX0_letter_0 2 rfl rfl)
theorem dX0_letter_5 : decode cX0_letter 5 = .ok (.ifCond .ne 8, 3) := dk_154 0 8 (dk_at dksX0_letter_0 5 rfl rfl)
theorem dX0_letter_8 : decode cX0_letter 8 = .ok (.bipush (-2), 2) := dk_16 254 (dk_at dksX0_letter_0 8 rfl rfl)
theorem dX0_letter_10 : decode cX0_letter 10 = .ok (.goto 42, 3) := dk_167 0 42 (dk_at dksX0_letter_0 10 rfl rfl)
theorem dX0_letter_13 : decode cX0_letter 13 = .ok (.iload_n 2, 1) := dk_28 (dk_at dksX0_letter_0 13 rfl rfl)
theorem dX0_letter_14 : decode cX0_letter 14 = .ok (.i2l, 1) := dk_133 (dk_at dksX0_letter_0 14 rfl rfl)
theorem dX0_letter_15 : decode cX0_letter 15 = .ok (.lconst 0, 1) := dk_9 (dk_at dksX0_letter_0 15 rfl rfl)
theorem dX0_letter_16 : decode cX0_letter 16 = .ok (.aload_n 0, 1) := dk_42 (dk_at dksX0_letter_0 16 rfl rfl)
theorem dX0_letter_17 : decode cX0_letter 17 = .ok (.getfield 10, 3) := dk_180 0 10 (dk_at dksX0_letter_0 17 rfl rfl)
theorem dX0_letter_20 : decode cX0_letter 20 = .ok (.getfield 175, 3) := dk_180 0 175 (dk_at dksX0_letter_0 20 rfl rfl)
theorem dX0_letter_23 : decode cX0_letter 23 = .ok (.iload_n 1, 1) := dk_27 (dk_at dksX0_letter_0 23 rfl rfl)
theorem dX0_letter_24 : decode cX0_letter 24 = .ok (.iaload, 1) := dk_46 (dk_at dksX0_letter_1 0 rfl rfl)
theorem dX0_letter_25 : decode cX0_letter 25 = .ok (.iconst 1, 1) := dk_4 (dk_at dksX0_letter_1 1 rfl rfl)
theorem dX0_letter_26 : decode cX0_letter 26 = .ok (.isub, 1) := dk_100 (dk_at dksX0_letter_1 2 rfl rfl)
theorem dX0_letter_27 : decode cX0_letter 27 = .ok (.i2l, 1) := dk_133 (dk_at dksX0_letter_1 3 rfl rfl)
theorem dX0_letter_28 : decode cX0_letter 28 = .ok (.invokestatic 133, 3) := dk_184 0 133 (dk_at dksX0_letter_1 4 rfl rfl)
theorem dX0_letter_31 : decode cX0_letter 31 = .ok (.ifCond .eq 20, 3) := dk_153 0 20 (dk_at dksX0_letter_1 7 rfl rfl)
theorem dX0_letter_34 : decode cX0_letter 34 = .ok (.aload_n 0, 1) := dk_42 (dk_at dksX0_letter_1 10 rfl rfl)
theorem dX0_letter_35 : decode cX0_letter 35 = .ok (.getfield 10, 3) := dk_180 0 10 (dk_at dksX0_letter_1 11 rfl rfl)
theorem dX0_letter_38 : decode cX0_letter 38 = .ok (.getfield 178, 3) := dk_180 0 178 (dk_at dksX0_letter_1 14 rfl rfl)
theorem dX0_letter_41 : decode cX0_letter 41 = .ok (.bipush 8, 2) := dk_16 8 (dk_at dksX0_letter_1 17 rfl rfl)
theorem dX0_letter_43 : decode cX0_letter 43 = .ok (.iload_n 1, 1) := dk_27 (dk_at dksX0_letter_1 19 rfl rfl)
theorem dX0_letter_44 : decode cX0_letter 44 = .ok (.imul, 1) := dk_104 (dk_at dksX0_letter_1 20 rfl rfl)
theorem dX0_letter_45 : decode cX0_letter 45 = .ok (.iload_n 2, 1) := dk_28 (dk_at dksX0_letter_1 21 rfl rfl)
theorem dX0_letter_46 : decode cX0_letter 46 = .ok (.iadd, 1) := dk_96 (dk_at dksX0_letter_1 22 rfl rfl)
theorem dX0_letter_47 : decode cX0_letter 47 = .ok (.baload, 1) := dk_51 (dk_at dksX0_letter_1 23 rfl rfl)
theorem dX0_letter_48 : decode cX0_letter 48 = .ok (.goto 4, 3) := dk_167 0 4 (dk_at dksX0_letter_2 0 rfl rfl)
theorem dX0_letter_51 : decode cX0_letter 51 = .ok (.iconst (-1), 1) := dk_2 (dk_at dksX0_letter_2 3 rfl rfl)
theorem dX0_letter_52 : decode cX0_letter 52 = .ok (.ireturn, 1) := dk_172 (dk_at dksX0_letter_2 4 rfl rfl)
abbrev cX0_isName : ByteArray := prog_1_method_11_code
def yX0_isName : MethodName := ⟨RX0, "isName", "(I)Z"⟩
def dkwX0_isName_0 : List UInt8 := [27, 133, 9, 42, 180, 0, 10, 180, 0, 158, 4, 100, 133, 184, 0, 133, 172]
abbrev dktX0_isName_0 : List UInt8 := dkwX0_isName_0 ++ []
theorem dksX0_isName_0 : cX0_isName.data.toList.drop 0 = dktX0_isName_0 := by decide +kernel
theorem dX0_isName_0 : decode cX0_isName 0 = .ok (.iload_n 1, 1) := dk_27 (dk_at dksX0_isName_0 0 rfl rfl)
theorem dX0_isName_1 : decode cX0_isName 1 = .ok (.i2l, 1) := dk_133 (dk_at dksX0_isName_0 1 rfl rfl)
theorem dX0_isName_2 : decode cX0_isName 2 = .ok (.lconst 0, 1) := dk_9 (dk_at dksX0_isName_0 2 rfl rfl)
theorem dX0_isName_3 : decode cX0_isName 3 = .ok (.aload_n 0, 1) := dk_42 (dk_at dksX0_isName_0 3 rfl rfl)
theorem dX0_isName_4 : decode cX0_isName 4 = .ok (.getfield 10, 3) := dk_180 0 10 (dk_at dksX0_isName_0 4 rfl rfl)
theorem dX0_isName_7 : decode cX0_isName 7 = .ok (.getfield 158, 3) := dk_180 0 158 (dk_at dksX0_isName_0 7 rfl rfl)
theorem dX0_isName_10 : decode cX0_isName 10 = .ok (.iconst 1, 1) := dk_4 (dk_at dksX0_isName_0 10 rfl rfl)
theorem dX0_isName_11 : decode cX0_isName 11 = .ok (.isub, 1) := dk_100 (dk_at dksX0_isName_0 11 rfl rfl)
theorem dX0_isName_12 : decode cX0_isName 12 = .ok (.i2l, 1) := dk_133 (dk_at dksX0_isName_0 12 rfl rfl)
theorem dX0_isName_13 : decode cX0_isName 13 = .ok (.invokestatic 133, 3) := dk_184 0 133 (dk_at dksX0_isName_0 13 rfl rfl)
theorem dX0_isName_16 : decode cX0_isName 16 = .ok (.ireturn, 1) := dk_172 (dk_at dksX0_isName_0 16 rfl rfl)
abbrev cX0_open : ByteArray := prog_1_method_16_code
def yX0_open : MethodName := ⟨RX0, "open", "(II)I"⟩
def dkwX0_open_1 : List UInt8 := [180, 0, 10, 27, 28, 182, 0, 181, 153, 0, 7, 4, 167, 0, 4, 3, 172]
abbrev dktX0_open_1 : List UInt8 := dkwX0_open_1 ++ []
def dkwX0_open_0 : List UInt8 := [42, 27, 133, 182, 0, 167, 153, 0, 11, 42, 28, 182, 0, 171, 154, 0, 8, 16, 254, 167, 0, 20, 42]
abbrev dktX0_open_0 : List UInt8 := dkwX0_open_0 ++ dktX0_open_1
theorem dksX0_open_0 : cX0_open.data.toList.drop 0 = dktX0_open_0 := by decide +kernel
theorem dksX0_open_1 : cX0_open.data.toList.drop 23 = dktX0_open_1 := dk_seg dksX0_open_0 23 rfl rfl
theorem dX0_open_0 : decode cX0_open 0 = .ok (.aload_n 0, 1) := dk_42 (dk_at dksX0_open_0 0 rfl rfl)
theorem dX0_open_1 : decode cX0_open 1 = .ok (.iload_n 1, 1) := dk_27 (dk_at dksX0_open_0 1 rfl rfl)
theorem dX0_open_2 : decode cX0_open 2 = .ok (.i2l, 1) := dk_133 (dk_at dksX0_open_0 2 rfl rfl)
theorem dX0_open_3 : decode cX0_open 3 = .ok (.invokevirtual 167, 3) := dk_182 0 167 (dk_at dksX0_open_0 3 rfl rfl)
theorem dX0_open_6 : decode cX0_open 6 = .ok (.ifCond .eq 11, 3) := dk_153 0 11 (dk_at dksX0_open_0 6 rfl rfl)
theorem dX0_open_9 : decode cX0_open 9 = .ok (.aload_n 0, 1) := dk_42 (dk_at dksX0_open_0 9 rfl rfl)
theorem dX0_open_10 : decode cX0_open 10 = .ok (.iload_n 2, 1) := dk_28 (dk_at dksX0_open_0 10 rfl rfl)
theorem dX0_open_11 : decode cX0_open 11 = .ok (.invokevirtual 171, 3) := dk_182 0 171 (dk_at dksX0_open_0 11 rfl rfl)
theorem dX0_open_14 : decode cX0_open 14 = .ok (.ifCond .ne 8, 3) := dk_154 0 8 (dk_at dksX0_open_0 14 rfl rfl)
theorem dX0_open_17 : decode cX0_open 17 = .ok (.bipush (-2), 2) := dk_16 254 (dk_at dksX0_open_0 17 rfl rfl)
theorem dX0_open_19 : decode cX0_open 19 = .ok (.goto 20, 3) := dk_167 0 20 (dk_at dksX0_open_0 19 rfl rfl)
theorem dX0_open_22 : decode cX0_open 22 = .ok (.aload_n 0, 1) := dk_42 (dk_at dksX0_open_0 22 rfl rfl)
theorem dX0_open_23 : decode cX0_open 23 = .ok (.getfield 10, 3) := dk_180 0 10 (dk_at dksX0_open_1 0 rfl rfl)
theorem dX0_open_26 : decode cX0_open 26 = .ok (.iload_n 1, 1) := dk_27 (dk_at dksX0_open_1 3 rfl rfl)
theorem dX0_open_27 : decode cX0_open 27 = .ok (.iload_n 2, 1) := dk_28 (dk_at dksX0_open_1 4 rfl rfl)
theorem dX0_open_28 : decode cX0_open 28 = .ok (.invokevirtual 181, 3) := dk_182 0 181 (dk_at dksX0_open_1 5 rfl rfl)
theorem dX0_open_31 : decode cX0_open 31 = .ok (.ifCond .eq 7, 3) := dk_153 0 7 (dk_at dksX0_open_1 8 rfl rfl)
theorem dX0_open_34 : decode cX0_open 34 = .ok (.iconst 1, 1) := dk_4 (dk_at dksX0_open_1 11 rfl rfl)
theorem dX0_open_35 : decode cX0_open 35 = .ok (.goto 4, 3) := dk_167 0 4 (dk_at dksX0_open_1 12 rfl rfl)
theorem dX0_open_38 : decode cX0_open 38 = .ok (.iconst 0, 1) := dk_3 (dk_at dksX0_open_1 15 rfl rfl)
theorem dX0_open_39 : decode cX0_open 39 = .ok (.ireturn, 1) := dk_172 (dk_at dksX0_open_1 16 rfl rfl)
abbrev cX0_isSquare : ByteArray := prog_1_method_10_code
def yX0_isSquare : MethodName := ⟨RX0, "isSquare", "(J)Z"⟩
def dkwX0_isSquare_0 : List UInt8 := [31, 9, 42, 180, 0, 10, 182, 0, 161, 4, 100, 133, 184, 0, 133, 172]
abbrev dktX0_isSquare_0 : List UInt8 := dkwX0_isSquare_0 ++ []
theorem dksX0_isSquare_0 : cX0_isSquare.data.toList.drop 0 = dktX0_isSquare_0 := by decide +kernel
theorem dX0_isSquare_0 : decode cX0_isSquare 0 = .ok (.lload_n 1, 1) := dk_31 (dk_at dksX0_isSquare_0 0 rfl rfl)
theorem dX0_isSquare_1 : decode cX0_isSquare 1 = .ok (.lconst 0, 1) := dk_9 (dk_at dksX0_isSquare_0 1 rfl rfl)
theorem dX0_isSquare_2 : decode cX0_isSquare 2 = .ok (.aload_n 0, 1) := dk_42 (dk_at dksX0_isSquare_0 2 rfl rfl)
theorem dX0_isSquare_3 : decode cX0_isSquare 3 = .ok (.getfield 10, 3) := dk_180 0 10 (dk_at dksX0_isSquare_0 3 rfl rfl)
theorem dX0_isSquare_6 : decode cX0_isSquare 6 = .ok (.invokevirtual 161, 3) := dk_182 0 161 (dk_at dksX0_isSquare_0 6 rfl rfl)
theorem dX0_isSquare_9 : decode cX0_isSquare 9 = .ok (.iconst 1, 1) := dk_4 (dk_at dksX0_isSquare_0 9 rfl rfl)
theorem dX0_isSquare_10 : decode cX0_isSquare 10 = .ok (.isub, 1) := dk_100 (dk_at dksX0_isSquare_0 10 rfl rfl)
theorem dX0_isSquare_11 : decode cX0_isSquare 11 = .ok (.i2l, 1) := dk_133 (dk_at dksX0_isSquare_0 11 rfl rfl)
theorem dX0_isSquare_12 : decode cX0_isSquare 12 = .ok (.invokestatic 133, 3) := dk_184 0 133 (dk_at dksX0_isSquare_0 12 rfl rfl)
theorem dX0_isSquare_15 : decode cX0_isSquare 15 = .ok (.ireturn, 1) := dk_172 (dk_at dksX0_isSquare_0 15 rfl rfl)
abbrev cX0_step : ByteArray := prog_1_method_17_code
def yX0_step : MethodName := ⟨RX0, "step", "(II)I"⟩
def dkwX0_step_1 : List UInt8 := [180, 0, 10, 27, 28, 182, 0, 181, 153, 0, 11, 27, 4, 28, 120, 130, 167, 0, 4, 2, 172]
abbrev dktX0_step_1 : List UInt8 := dkwX0_step_1 ++ []
def dkwX0_step_0 : List UInt8 := [42, 27, 133, 182, 0, 167, 153, 0, 11, 42, 28, 182, 0, 171, 154, 0, 8, 16, 254, 167, 0, 24, 42]
abbrev dktX0_step_0 : List UInt8 := dkwX0_step_0 ++ dktX0_step_1
theorem dksX0_step_0 : cX0_step.data.toList.drop 0 = dktX0_step_0 := by decide +kernel
theorem dksX0_step_1 : cX0_step.data.toList.drop 23 = dktX0_step_1 := dk_seg dksX0_step_0 23 rfl rfl
theorem dX0_step_0 : decode cX0_step 0 = .ok (.aload_n 0, 1) := dk_42 (dk_at dksX0_step_0 0 rfl rfl)
theorem dX0_step_1 : decode cX0_step 1 = .ok (.iload_n 1, 1) := dk_27 (dk_at dksX0_step_0 1 rfl rfl)
theorem dX0_step_2 : decode cX0_step 2 = .ok (.i2l, 1) := dk_133 (dk_at dksX0_step_0 2 rfl rfl)
theorem dX0_step_3 : decode cX0_step 3 = .ok (.invokevirtual 167, 3) := dk_182 0 167 (dk_at dksX0_step_0 3 rfl rfl)
theorem dX0_step_6 : decode cX0_step 6 = .ok (.ifCond .eq 11, 3) := dk_153 0 11 (dk_at dksX0_step_0 6 rfl rfl)
theorem dX0_step_9 : decode cX0_step 9 = .ok (.aload_n 0, 1) := dk_42 (dk_at dksX0_step_0 9 rfl rfl)
theorem dX0_step_10 : decode cX0_step 10 = .ok (.iload_n 2, 1) := dk_28 (dk_at dksX0_step_0 10 rfl rfl)
theorem dX0_step_11 : decode cX0_step 11 = .ok (.invokevirtual 171, 3) := dk_182 0 171 (dk_at dksX0_step_0 11 rfl rfl)
theorem dX0_step_14 : decode cX0_step 14 = .ok (.ifCond .ne 8, 3) := dk_154 0 8 (dk_at dksX0_step_0 14 rfl rfl)
theorem dX0_step_17 : decode cX0_step 17 = .ok (.bipush (-2), 2) := dk_16 254 (dk_at dksX0_step_0 17 rfl rfl)
theorem dX0_step_19 : decode cX0_step 19 = .ok (.goto 24, 3) := dk_167 0 24 (dk_at dksX0_step_0 19 rfl rfl)
theorem dX0_step_22 : decode cX0_step 22 = .ok (.aload_n 0, 1) := dk_42 (dk_at dksX0_step_0 22 rfl rfl)
theorem dX0_step_23 : decode cX0_step 23 = .ok (.getfield 10, 3) := dk_180 0 10 (dk_at dksX0_step_1 0 rfl rfl)
theorem dX0_step_26 : decode cX0_step 26 = .ok (.iload_n 1, 1) := dk_27 (dk_at dksX0_step_1 3 rfl rfl)
theorem dX0_step_27 : decode cX0_step 27 = .ok (.iload_n 2, 1) := dk_28 (dk_at dksX0_step_1 4 rfl rfl)
theorem dX0_step_28 : decode cX0_step 28 = .ok (.invokevirtual 181, 3) := dk_182 0 181 (dk_at dksX0_step_1 5 rfl rfl)
theorem dX0_step_31 : decode cX0_step 31 = .ok (.ifCond .eq 11, 3) := dk_153 0 11 (dk_at dksX0_step_1 8 rfl rfl)
theorem dX0_step_34 : decode cX0_step 34 = .ok (.iload_n 1, 1) := dk_27 (dk_at dksX0_step_1 11 rfl rfl)
theorem dX0_step_35 : decode cX0_step 35 = .ok (.iconst 1, 1) := dk_4 (dk_at dksX0_step_1 12 rfl rfl)
theorem dX0_step_36 : decode cX0_step 36 = .ok (.iload_n 2, 1) := dk_28 (dk_at dksX0_step_1 13 rfl rfl)
theorem dX0_step_37 : decode cX0_step 37 = .ok (.ishl, 1) := dk_120 (dk_at dksX0_step_1 14 rfl rfl)
theorem dX0_step_38 : decode cX0_step 38 = .ok (.ixor, 1) := dk_130 (dk_at dksX0_step_1 15 rfl rfl)
theorem dX0_step_39 : decode cX0_step 39 = .ok (.goto 4, 3) := dk_167 0 4 (dk_at dksX0_step_1 16 rfl rfl)
theorem dX0_step_42 : decode cX0_step 42 = .ok (.iconst (-1), 1) := dk_2 (dk_at dksX0_step_1 19 rfl rfl)
theorem dX0_step_43 : decode cX0_step 43 = .ok (.ireturn, 1) := dk_172 (dk_at dksX0_step_1 20 rfl rfl)
abbrev cX0_shut : ByteArray := prog_1_method_18_code
def yX0_shut : MethodName := ⟨RX0, "shut", "(III)I"⟩
def dkwX0_shut_2 : List UInt8 := [54, 4, 42, 180, 0, 10, 27, 28, 29, 182, 0, 188, 21, 4, 172]
abbrev dktX0_shut_2 : List UInt8 := dkwX0_shut_2 ++ []
def dkwX0_shut_1 : List UInt8 := [154, 0, 6, 16, 254, 172, 42, 180, 0, 10, 27, 28, 182, 0, 181, 153, 0, 7, 3, 167, 0, 4, 4]
abbrev dktX0_shut_1 : List UInt8 := dkwX0_shut_1 ++ dktX0_shut_2
def dkwX0_shut_0 : List UInt8 := [42, 27, 133, 182, 0, 167, 153, 0, 19, 42, 28, 182, 0, 171, 153, 0, 11, 29, 5, 184, 0, 185]
abbrev dktX0_shut_0 : List UInt8 := dkwX0_shut_0 ++ dktX0_shut_1
theorem dksX0_shut_0 : cX0_shut.data.toList.drop 0 = dktX0_shut_0 := by decide +kernel
theorem dksX0_shut_1 : cX0_shut.data.toList.drop 22 = dktX0_shut_1 := dk_seg dksX0_shut_0 22 rfl rfl
theorem dksX0_shut_2 : cX0_shut.data.toList.drop 45 = dktX0_shut_2 := dk_seg dksX0_shut_1 23 rfl rfl
theorem dX0_shut_0 : decode cX0_shut 0 = .ok (.aload_n 0, 1) := dk_42 (dk_at dksX0_shut_0 0 rfl rfl)
theorem dX0_shut_1 : decode cX0_shut 1 = .ok (.iload_n 1, 1) := dk_27 (dk_at dksX0_shut_0 1 rfl rfl)
theorem dX0_shut_2 : decode cX0_shut 2 = .ok (.i2l, 1) := dk_133 (dk_at dksX0_shut_0 2 rfl rfl)
theorem dX0_shut_3 : decode cX0_shut 3 = .ok (.invokevirtual 167, 3) := dk_182 0 167 (dk_at dksX0_shut_0 3 rfl rfl)
theorem dX0_shut_6 : decode cX0_shut 6 = .ok (.ifCond .eq 19, 3) := dk_153 0 19 (dk_at dksX0_shut_0 6 rfl rfl)
theorem dX0_shut_9 : decode cX0_shut 9 = .ok (.aload_n 0, 1) := dk_42 (dk_at dksX0_shut_0 9 rfl rfl)
theorem dX0_shut_10 : decode cX0_shut 10 = .ok (.iload_n 2, 1) := dk_28 (dk_at dksX0_shut_0 10 rfl rfl)
theorem dX0_shut_11 : decode cX0_shut 11 = .ok (.invokevirtual 171, 3) := dk_182 0 171 (dk_at dksX0_shut_0 11 rfl rfl)
theorem dX0_shut_14 : decode cX0_shut 14 = .ok (.ifCond .eq 11, 3) := dk_153 0 11 (dk_at dksX0_shut_0 14 rfl rfl)
theorem dX0_shut_17 : decode cX0_shut 17 = .ok (.iload_n 3, 1) := dk_29 (dk_at dksX0_shut_0 17 rfl rfl)
theorem dX0_shut_18 : decode cX0_shut 18 = .ok (.iconst 2, 1) := dk_5 (dk_at dksX0_shut_0 18 rfl rfl)
theorem dX0_shut_19 : decode cX0_shut 19 = .ok (.invokestatic 185, 3) := dk_184 0 185 (dk_at dksX0_shut_0 19 rfl rfl)
theorem dX0_shut_22 : decode cX0_shut 22 = .ok (.ifCond .ne 6, 3) := dk_154 0 6 (dk_at dksX0_shut_1 0 rfl rfl)
theorem dX0_shut_25 : decode cX0_shut 25 = .ok (.bipush (-2), 2) := dk_16 254 (dk_at dksX0_shut_1 3 rfl rfl)
theorem dX0_shut_27 : decode cX0_shut 27 = .ok (.ireturn, 1) := dk_172 (dk_at dksX0_shut_1 5 rfl rfl)
theorem dX0_shut_28 : decode cX0_shut 28 = .ok (.aload_n 0, 1) := dk_42 (dk_at dksX0_shut_1 6 rfl rfl)
theorem dX0_shut_29 : decode cX0_shut 29 = .ok (.getfield 10, 3) := dk_180 0 10 (dk_at dksX0_shut_1 7 rfl rfl)
theorem dX0_shut_32 : decode cX0_shut 32 = .ok (.iload_n 1, 1) := dk_27 (dk_at dksX0_shut_1 10 rfl rfl)
theorem dX0_shut_33 : decode cX0_shut 33 = .ok (.iload_n 2, 1) := dk_28 (dk_at dksX0_shut_1 11 rfl rfl)
theorem dX0_shut_34 : decode cX0_shut 34 = .ok (.invokevirtual 181, 3) := dk_182 0 181 (dk_at dksX0_shut_1 12 rfl rfl)
theorem dX0_shut_37 : decode cX0_shut 37 = .ok (.ifCond .eq 7, 3) := dk_153 0 7 (dk_at dksX0_shut_1 15 rfl rfl)
theorem dX0_shut_40 : decode cX0_shut 40 = .ok (.iconst 0, 1) := dk_3 (dk_at dksX0_shut_1 18 rfl rfl)
theorem dX0_shut_41 : decode cX0_shut 41 = .ok (.goto 4, 3) := dk_167 0 4 (dk_at dksX0_shut_1 19 rfl rfl)
theorem dX0_shut_44 : decode cX0_shut 44 = .ok (.iconst 1, 1) := dk_4 (dk_at dksX0_shut_1 22 rfl rfl)
theorem dX0_shut_45 : decode cX0_shut 45 = .ok (.istore 4, 2) := dk_54 4 (dk_at dksX0_shut_2 0 rfl rfl)
theorem dX0_shut_47 : decode cX0_shut 47 = .ok (.aload_n 0, 1) := dk_42 (dk_at dksX0_shut_2 2 rfl rfl)
theorem dX0_shut_48 : decode cX0_shut 48 = .ok (.getfield 10, 3) := dk_180 0 10 (dk_at dksX0_shut_2 3 rfl rfl)
theorem dX0_shut_51 : decode cX0_shut 51 = .ok (.iload_n 1, 1) := dk_27 (dk_at dksX0_shut_2 6 rfl rfl)
theorem dX0_shut_52 : decode cX0_shut 52 = .ok (.iload_n 2, 1) := dk_28 (dk_at dksX0_shut_2 7 rfl rfl)
theorem dX0_shut_53 : decode cX0_shut 53 = .ok (.iload_n 3, 1) := dk_29 (dk_at dksX0_shut_2 8 rfl rfl)
theorem dX0_shut_54 : decode cX0_shut 54 = .ok (.invokevirtual 188, 3) := dk_182 0 188 (dk_at dksX0_shut_2 9 rfl rfl)
theorem dX0_shut_57 : decode cX0_shut 57 = .ok (.iload 4, 2) := dk_21 4 (dk_at dksX0_shut_2 12 rfl rfl)
theorem dX0_shut_59 : decode cX0_shut 59 = .ok (.ireturn, 1) := dk_172 (dk_at dksX0_shut_2 14 rfl rfl)
abbrev cX0_isOneOf : ByteArray := prog_1_method_12_code
def yX0_isOneOf : MethodName := ⟨RX0, "isOneOf", "(II)Z"⟩
def dkwX0_isOneOf_0 : List UInt8 := [26, 133, 9, 27, 4, 100, 133, 184, 0, 133, 172]
abbrev dktX0_isOneOf_0 : List UInt8 := dkwX0_isOneOf_0 ++ []
theorem dksX0_isOneOf_0 : cX0_isOneOf.data.toList.drop 0 = dktX0_isOneOf_0 := by decide +kernel
theorem dX0_isOneOf_0 : decode cX0_isOneOf 0 = .ok (.iload_n 0, 1) := dk_26 (dk_at dksX0_isOneOf_0 0 rfl rfl)
theorem dX0_isOneOf_1 : decode cX0_isOneOf 1 = .ok (.i2l, 1) := dk_133 (dk_at dksX0_isOneOf_0 1 rfl rfl)
theorem dX0_isOneOf_2 : decode cX0_isOneOf 2 = .ok (.lconst 0, 1) := dk_9 (dk_at dksX0_isOneOf_0 2 rfl rfl)
theorem dX0_isOneOf_3 : decode cX0_isOneOf 3 = .ok (.iload_n 1, 1) := dk_27 (dk_at dksX0_isOneOf_0 3 rfl rfl)
theorem dX0_isOneOf_4 : decode cX0_isOneOf 4 = .ok (.iconst 1, 1) := dk_4 (dk_at dksX0_isOneOf_0 4 rfl rfl)
theorem dX0_isOneOf_5 : decode cX0_isOneOf 5 = .ok (.isub, 1) := dk_100 (dk_at dksX0_isOneOf_0 5 rfl rfl)
theorem dX0_isOneOf_6 : decode cX0_isOneOf 6 = .ok (.i2l, 1) := dk_133 (dk_at dksX0_isOneOf_0 6 rfl rfl)
theorem dX0_isOneOf_7 : decode cX0_isOneOf 7 = .ok (.invokestatic 133, 3) := dk_184 0 133 (dk_at dksX0_isOneOf_0 7 rfl rfl)
theorem dX0_isOneOf_10 : decode cX0_isOneOf 10 = .ok (.ireturn, 1) := dk_172 (dk_at dksX0_isOneOf_0 10 rfl rfl)
abbrev cX0_ways : ByteArray := prog_1_method_20_code
def yX0_ways : MethodName := ⟨RX0, "ways", "(I)I"⟩
def dkwX0_ways_0 : List UInt8 := [42, 27, 133, 182, 0, 167, 153, 0, 11, 42, 27, 182, 0, 201, 167, 0, 5, 16, 254, 172]
abbrev dktX0_ways_0 : List UInt8 := dkwX0_ways_0 ++ []
theorem dksX0_ways_0 : cX0_ways.data.toList.drop 0 = dktX0_ways_0 := by decide +kernel
theorem dX0_ways_0 : decode cX0_ways 0 = .ok (.aload_n 0, 1) := dk_42 (dk_at dksX0_ways_0 0 rfl rfl)
theorem dX0_ways_1 : decode cX0_ways 1 = .ok (.iload_n 1, 1) := dk_27 (dk_at dksX0_ways_0 1 rfl rfl)
theorem dX0_ways_2 : decode cX0_ways 2 = .ok (.i2l, 1) := dk_133 (dk_at dksX0_ways_0 2 rfl rfl)
theorem dX0_ways_3 : decode cX0_ways 3 = .ok (.invokevirtual 167, 3) := dk_182 0 167 (dk_at dksX0_ways_0 3 rfl rfl)
theorem dX0_ways_6 : decode cX0_ways 6 = .ok (.ifCond .eq 11, 3) := dk_153 0 11 (dk_at dksX0_ways_0 6 rfl rfl)
theorem dX0_ways_9 : decode cX0_ways 9 = .ok (.aload_n 0, 1) := dk_42 (dk_at dksX0_ways_0 9 rfl rfl)
theorem dX0_ways_10 : decode cX0_ways 10 = .ok (.iload_n 1, 1) := dk_27 (dk_at dksX0_ways_0 10 rfl rfl)
theorem dX0_ways_11 : decode cX0_ways 11 = .ok (.invokevirtual 201, 3) := dk_182 0 201 (dk_at dksX0_ways_0 11 rfl rfl)
theorem dX0_ways_14 : decode cX0_ways 14 = .ok (.goto 5, 3) := dk_167 0 5 (dk_at dksX0_ways_0 14 rfl rfl)
theorem dX0_ways_17 : decode cX0_ways 17 = .ok (.bipush (-2), 2) := dk_16 254 (dk_at dksX0_ways_0 17 rfl rfl)
theorem dX0_ways_19 : decode cX0_ways 19 = .ok (.ireturn, 1) := dk_172 (dk_at dksX0_ways_0 19 rfl rfl)
abbrev cX0_waysOf : ByteArray := prog_1_method_19_code
def yX0_waysOf : MethodName := ⟨RX0, "waysOf", "(I)I"⟩
def dkwX0_waysOf_0 : List UInt8 := [42, 180, 0, 10, 180, 0, 158, 42, 180, 0, 10, 180, 0, 192, 27, 46, 184, 0, 195, 100, 172]
abbrev dktX0_waysOf_0 : List UInt8 := dkwX0_waysOf_0 ++ []
theorem dksX0_waysOf_0 : cX0_waysOf.data.toList.drop 0 = dktX0_waysOf_0 := by decide +kernel
theorem dX0_waysOf_0 : decode cX0_waysOf 0 = .ok (.aload_n 0, 1) := dk_42 (dk_at dksX0_waysOf_0 0 rfl rfl)
theorem dX0_waysOf_1 : decode cX0_waysOf 1 = .ok (.getfield 10, 3) := dk_180 0 10 (dk_at dksX0_waysOf_0 1 rfl rfl)
theorem dX0_waysOf_4 : decode cX0_waysOf 4 = .ok (.getfield 158, 3) := dk_180 0 158 (dk_at dksX0_waysOf_0 4 rfl rfl)
theorem dX0_waysOf_7 : decode cX0_waysOf 7 = .ok (.aload_n 0, 1) := dk_42 (dk_at dksX0_waysOf_0 7 rfl rfl)
theorem dX0_waysOf_8 : decode cX0_waysOf 8 = .ok (.getfield 10, 3) := dk_180 0 10 (dk_at dksX0_waysOf_0 8 rfl rfl)
theorem dX0_waysOf_11 : decode cX0_waysOf 11 = .ok (.getfield 192, 3) := dk_180 0 192 (dk_at dksX0_waysOf_0 11 rfl rfl)
theorem dX0_waysOf_14 : decode cX0_waysOf 14 = .ok (.iload_n 1, 1) := dk_27 (dk_at dksX0_waysOf_0 14 rfl rfl)
theorem dX0_waysOf_15 : decode cX0_waysOf 15 = .ok (.iaload, 1) := dk_46 (dk_at dksX0_waysOf_0 15 rfl rfl)
theorem dX0_waysOf_16 : decode cX0_waysOf 16 = .ok (.invokestatic 195, 3) := dk_184 0 195 (dk_at dksX0_waysOf_0 16 rfl rfl)
theorem dX0_waysOf_19 : decode cX0_waysOf 19 = .ok (.isub, 1) := dk_100 (dk_at dksX0_waysOf_0 19 rfl rfl)
theorem dX0_waysOf_20 : decode cX0_waysOf 20 = .ok (.ireturn, 1) := dk_172 (dk_at dksX0_waysOf_0 20 rfl rfl)
abbrev cX0_opposite : ByteArray := prog_1_method_21_code
def yX0_opposite : MethodName := ⟨RX0, "opposite", "(I)I"⟩
def dkwX0_opposite_1 : List UInt8 := [16, 254, 172]
abbrev dktX0_opposite_1 : List UInt8 := dkwX0_opposite_1 ++ []
def dkwX0_opposite_0 : List UInt8 := [42, 27, 133, 182, 0, 167, 153, 0, 17, 27, 42, 180, 0, 10, 182, 0, 161, 4, 100, 130, 167, 0, 5]
abbrev dktX0_opposite_0 : List UInt8 := dkwX0_opposite_0 ++ dktX0_opposite_1
theorem dksX0_opposite_0 : cX0_opposite.data.toList.drop 0 = dktX0_opposite_0 := by decide +kernel
theorem dksX0_opposite_1 : cX0_opposite.data.toList.drop 23 = dktX0_opposite_1 := dk_seg dksX0_opposite_0 23 rfl rfl
theorem dX0_opposite_0 : decode cX0_opposite 0 = .ok (.aload_n 0, 1) := dk_42 (dk_at dksX0_opposite_0 0 rfl rfl)
theorem dX0_opposite_1 : decode cX0_opposite 1 = .ok (.iload_n 1, 1) := dk_27 (dk_at dksX0_opposite_0 1 rfl rfl)
theorem dX0_opposite_2 : decode cX0_opposite 2 = .ok (.i2l, 1) := dk_133 (dk_at dksX0_opposite_0 2 rfl rfl)
theorem dX0_opposite_3 : decode cX0_opposite 3 = .ok (.invokevirtual 167, 3) := dk_182 0 167 (dk_at dksX0_opposite_0 3 rfl rfl)
theorem dX0_opposite_6 : decode cX0_opposite 6 = .ok (.ifCond .eq 17, 3) := dk_153 0 17 (dk_at dksX0_opposite_0 6 rfl rfl)
theorem dX0_opposite_9 : decode cX0_opposite 9 = .ok (.iload_n 1, 1) := dk_27 (dk_at dksX0_opposite_0 9 rfl rfl)
theorem dX0_opposite_10 : decode cX0_opposite 10 = .ok (.aload_n 0, 1) := dk_42 (dk_at dksX0_opposite_0 10 rfl rfl)
theorem dX0_opposite_11 : decode cX0_opposite 11 = .ok (.getfield 10, 3) := dk_180 0 10 (dk_at dksX0_opposite_0 11 rfl rfl)
theorem dX0_opposite_14 : decode cX0_opposite 14 = .ok (.invokevirtual 161, 3) := dk_182 0 161 (dk_at dksX0_opposite_0 14 rfl rfl)
theorem dX0_opposite_17 : decode cX0_opposite 17 = .ok (.iconst 1, 1) := dk_4 (dk_at dksX0_opposite_0 17 rfl rfl)
theorem dX0_opposite_18 : decode cX0_opposite 18 = .ok (.isub, 1) := dk_100 (dk_at dksX0_opposite_0 18 rfl rfl)
theorem dX0_opposite_19 : decode cX0_opposite 19 = .ok (.ixor, 1) := dk_130 (dk_at dksX0_opposite_0 19 rfl rfl)
theorem dX0_opposite_20 : decode cX0_opposite 20 = .ok (.goto 5, 3) := dk_167 0 5 (dk_at dksX0_opposite_0 20 rfl rfl)
theorem dX0_opposite_23 : decode cX0_opposite 23 = .ok (.bipush (-2), 2) := dk_16 254 (dk_at dksX0_opposite_1 0 rfl rfl)
theorem dX0_opposite_25 : decode cX0_opposite 25 = .ok (.ireturn, 1) := dk_172 (dk_at dksX0_opposite_1 2 rfl rfl)
abbrev cX0_apart : ByteArray := prog_1_method_22_code
def yX0_apart : MethodName := ⟨RX0, "apart", "(II)I"⟩
def dkwX0_apart_1 : List UInt8 := [167, 0, 5, 16, 254, 172]
abbrev dktX0_apart_1 : List UInt8 := dkwX0_apart_1 ++ []
def dkwX0_apart_0 : List UInt8 := [42, 27, 133, 182, 0, 167, 153, 0, 21, 42, 28, 133, 182, 0, 167, 153, 0, 12, 27, 28, 130, 184, 0, 195]
abbrev dktX0_apart_0 : List UInt8 := dkwX0_apart_0 ++ dktX0_apart_1
theorem dksX0_apart_0 : cX0_apart.data.toList.drop 0 = dktX0_apart_0 := by decide +kernel
theorem dksX0_apart_1 : cX0_apart.data.toList.drop 24 = dktX0_apart_1 := dk_seg dksX0_apart_0 24 rfl rfl
theorem dX0_apart_0 : decode cX0_apart 0 = .ok (.aload_n 0, 1) := dk_42 (dk_at dksX0_apart_0 0 rfl rfl)
theorem dX0_apart_1 : decode cX0_apart 1 = .ok (.iload_n 1, 1) := dk_27 (dk_at dksX0_apart_0 1 rfl rfl)
theorem dX0_apart_2 : decode cX0_apart 2 = .ok (.i2l, 1) := dk_133 (dk_at dksX0_apart_0 2 rfl rfl)
theorem dX0_apart_3 : decode cX0_apart 3 = .ok (.invokevirtual 167, 3) := dk_182 0 167 (dk_at dksX0_apart_0 3 rfl rfl)
theorem dX0_apart_6 : decode cX0_apart 6 = .ok (.ifCond .eq 21, 3) := dk_153 0 21 (dk_at dksX0_apart_0 6 rfl rfl)
theorem dX0_apart_9 : decode cX0_apart 9 = .ok (.aload_n 0, 1) := dk_42 (dk_at dksX0_apart_0 9 rfl rfl)
theorem dX0_apart_10 : decode cX0_apart 10 = .ok (.iload_n 2, 1) := dk_28 (dk_at dksX0_apart_0 10 rfl rfl)
theorem dX0_apart_11 : decode cX0_apart 11 = .ok (.i2l, 1) := dk_133 (dk_at dksX0_apart_0 11 rfl rfl)
theorem dX0_apart_12 : decode cX0_apart 12 = .ok (.invokevirtual 167, 3) := dk_182 0 167 (dk_at dksX0_apart_0 12 rfl rfl)
theorem dX0_apart_15 : decode cX0_apart 15 = .ok (.ifCond .eq 12, 3) := dk_153 0 12 (dk_at dksX0_apart_0 15 rfl rfl)
theorem dX0_apart_18 : decode cX0_apart 18 = .ok (.iload_n 1, 1) := dk_27 (dk_at dksX0_apart_0 18 rfl rfl)
theorem dX0_apart_19 : decode cX0_apart 19 = .ok (.iload_n 2, 1) := dk_28 (dk_at dksX0_apart_0 19 rfl rfl)
theorem dX0_apart_20 : decode cX0_apart 20 = .ok (.ixor, 1) := dk_130 (dk_at dksX0_apart_0 20 rfl rfl)
theorem dX0_apart_21 : decode cX0_apart 21 = .ok (.invokestatic 195, 3) := dk_184 0 195 (dk_at dksX0_apart_0 21 rfl rfl)
theorem dX0_apart_24 : decode cX0_apart 24 = .ok (.goto 5, 3) := dk_167 0 5 (dk_at dksX0_apart_1 0 rfl rfl)
theorem dX0_apart_27 : decode cX0_apart 27 = .ok (.bipush (-2), 2) := dk_16 254 (dk_at dksX0_apart_1 3 rfl rfl)
theorem dX0_apart_29 : decode cX0_apart 29 = .ok (.ireturn, 1) := dk_172 (dk_at dksX0_apart_1 5 rfl rfl)
abbrev cX0_streets : ByteArray := prog_1_method_23_code
def yX0_streets : MethodName := ⟨RX0, "streets", "(I)I"⟩
def dkwX0_streets_2 : List UInt8 := [4, 167, 0, 4, 3, 96, 61, 132, 3, 1, 167, 255, 214, 28, 172]
abbrev dktX0_streets_2 : List UInt8 := dkwX0_streets_2 ++ []
def dkwX0_streets_1 : List UInt8 := [162, 0, 37, 28, 29, 27, 184, 0, 204, 154, 0, 19, 42, 180, 0, 10, 29, 27, 182, 0, 181, 153, 0, 7]
abbrev dktX0_streets_1 : List UInt8 := dkwX0_streets_1 ++ dktX0_streets_2
def dkwX0_streets_0 : List UInt8 := [42, 27, 182, 0, 171, 154, 0, 6, 16, 254, 172, 3, 61, 3, 62, 29, 42, 180, 0, 10, 182, 0, 161]
abbrev dktX0_streets_0 : List UInt8 := dkwX0_streets_0 ++ dktX0_streets_1
theorem dksX0_streets_0 : cX0_streets.data.toList.drop 0 = dktX0_streets_0 := by decide +kernel
theorem dksX0_streets_1 : cX0_streets.data.toList.drop 23 = dktX0_streets_1 := dk_seg dksX0_streets_0 23 rfl rfl
theorem dksX0_streets_2 : cX0_streets.data.toList.drop 47 = dktX0_streets_2 := dk_seg dksX0_streets_1 24 rfl rfl
theorem dX0_streets_0 : decode cX0_streets 0 = .ok (.aload_n 0, 1) := dk_42 (dk_at dksX0_streets_0 0 rfl rfl)
theorem dX0_streets_1 : decode cX0_streets 1 = .ok (.iload_n 1, 1) := dk_27 (dk_at dksX0_streets_0 1 rfl rfl)
theorem dX0_streets_2 : decode cX0_streets 2 = .ok (.invokevirtual 171, 3) := dk_182 0 171 (dk_at dksX0_streets_0 2 rfl rfl)
theorem dX0_streets_5 : decode cX0_streets 5 = .ok (.ifCond .ne 6, 3) := dk_154 0 6 (dk_at dksX0_streets_0 5 rfl rfl)
theorem dX0_streets_8 : decode cX0_streets 8 = .ok (.bipush (-2), 2) := dk_16 254 (dk_at dksX0_streets_0 8 rfl rfl)
theorem dX0_streets_10 : decode cX0_streets 10 = .ok (.ireturn, 1) := dk_172 (dk_at dksX0_streets_0 10 rfl rfl)
theorem dX0_streets_11 : decode cX0_streets 11 = .ok (.iconst 0, 1) := dk_3 (dk_at dksX0_streets_0 11 rfl rfl)
theorem dX0_streets_12 : decode cX0_streets 12 = .ok (.istore_n 2, 1) := dk_61 (dk_at dksX0_streets_0 12 rfl rfl)
theorem dX0_streets_13 : decode cX0_streets 13 = .ok (.iconst 0, 1) := dk_3 (dk_at dksX0_streets_0 13 rfl rfl)
theorem dX0_streets_14 : decode cX0_streets 14 = .ok (.istore_n 3, 1) := dk_62 (dk_at dksX0_streets_0 14 rfl rfl)
theorem dX0_streets_15 : decode cX0_streets 15 = .ok (.iload_n 3, 1) := dk_29 (dk_at dksX0_streets_0 15 rfl rfl)
theorem dX0_streets_16 : decode cX0_streets 16 = .ok (.aload_n 0, 1) := dk_42 (dk_at dksX0_streets_0 16 rfl rfl)
theorem dX0_streets_17 : decode cX0_streets 17 = .ok (.getfield 10, 3) := dk_180 0 10 (dk_at dksX0_streets_0 17 rfl rfl)
theorem dX0_streets_20 : decode cX0_streets 20 = .ok (.invokevirtual 161, 3) := dk_182 0 161 (dk_at dksX0_streets_0 20 rfl rfl)
theorem dX0_streets_23 : decode cX0_streets 23 = .ok (.if_icmp .ge 37, 3) := dk_162 0 37 (dk_at dksX0_streets_1 0 rfl rfl)
theorem dX0_streets_26 : decode cX0_streets 26 = .ok (.iload_n 2, 1) := dk_28 (dk_at dksX0_streets_1 3 rfl rfl)
theorem dX0_streets_27 : decode cX0_streets 27 = .ok (.iload_n 3, 1) := dk_29 (dk_at dksX0_streets_1 4 rfl rfl)
theorem dX0_streets_28 : decode cX0_streets 28 = .ok (.iload_n 1, 1) := dk_27 (dk_at dksX0_streets_1 5 rfl rfl)
theorem dX0_streets_29 : decode cX0_streets 29 = .ok (.invokestatic 204, 3) := dk_184 0 204 (dk_at dksX0_streets_1 6 rfl rfl)
theorem dX0_streets_32 : decode cX0_streets 32 = .ok (.ifCond .ne 19, 3) := dk_154 0 19 (dk_at dksX0_streets_1 9 rfl rfl)
theorem dX0_streets_35 : decode cX0_streets 35 = .ok (.aload_n 0, 1) := dk_42 (dk_at dksX0_streets_1 12 rfl rfl)
theorem dX0_streets_36 : decode cX0_streets 36 = .ok (.getfield 10, 3) := dk_180 0 10 (dk_at dksX0_streets_1 13 rfl rfl)
theorem dX0_streets_39 : decode cX0_streets 39 = .ok (.iload_n 3, 1) := dk_29 (dk_at dksX0_streets_1 16 rfl rfl)
theorem dX0_streets_40 : decode cX0_streets 40 = .ok (.iload_n 1, 1) := dk_27 (dk_at dksX0_streets_1 17 rfl rfl)
theorem dX0_streets_41 : decode cX0_streets 41 = .ok (.invokevirtual 181, 3) := dk_182 0 181 (dk_at dksX0_streets_1 18 rfl rfl)
theorem dX0_streets_44 : decode cX0_streets 44 = .ok (.ifCond .eq 7, 3) := dk_153 0 7 (dk_at dksX0_streets_1 21 rfl rfl)
theorem dX0_streets_47 : decode cX0_streets 47 = .ok (.iconst 1, 1) := dk_4 (dk_at dksX0_streets_2 0 rfl rfl)
theorem dX0_streets_48 : decode cX0_streets 48 = .ok (.goto 4, 3) := dk_167 0 4 (dk_at dksX0_streets_2 1 rfl rfl)
theorem dX0_streets_51 : decode cX0_streets 51 = .ok (.iconst 0, 1) := dk_3 (dk_at dksX0_streets_2 4 rfl rfl)
theorem dX0_streets_52 : decode cX0_streets 52 = .ok (.iadd, 1) := dk_96 (dk_at dksX0_streets_2 5 rfl rfl)
theorem dX0_streets_53 : decode cX0_streets 53 = .ok (.istore_n 2, 1) := dk_61 (dk_at dksX0_streets_2 6 rfl rfl)
theorem dX0_streets_54 : decode cX0_streets 54 = .ok (.iinc 3 1, 3) := dk_132 3 1 (dk_at dksX0_streets_2 7 rfl rfl)
theorem dX0_streets_57 : decode cX0_streets 57 = .ok (.goto (-42), 3) := dk_167 255 214 (dk_at dksX0_streets_2 10 rfl rfl)
theorem dX0_streets_60 : decode cX0_streets 60 = .ok (.iload_n 2, 1) := dk_28 (dk_at dksX0_streets_2 13 rfl rfl)
theorem dX0_streets_61 : decode cX0_streets 61 = .ok (.ireturn, 1) := dk_172 (dk_at dksX0_streets_2 14 rfl rfl)
abbrev cX0_far : ByteArray := prog_1_method_25_code
def yX0_far : MethodName := ⟨RX0, "far", "(II)I"⟩
def dkwX0_far_1 : List UInt8 := [167, 0, 5, 16, 254, 172]
abbrev dktX0_far_1 : List UInt8 := dkwX0_far_1 ++ []
def dkwX0_far_0 : List UInt8 := [42, 27, 133, 182, 0, 167, 153, 0, 21, 42, 28, 133, 182, 0, 167, 153, 0, 12, 42, 27, 28, 182, 0, 213]
abbrev dktX0_far_0 : List UInt8 := dkwX0_far_0 ++ dktX0_far_1
theorem dksX0_far_0 : cX0_far.data.toList.drop 0 = dktX0_far_0 := by decide +kernel
theorem dksX0_far_1 : cX0_far.data.toList.drop 24 = dktX0_far_1 := dk_seg dksX0_far_0 24 rfl rfl
theorem dX0_far_0 : decode cX0_far 0 = .ok (.aload_n 0, 1) := dk_42 (dk_at dksX0_far_0 0 rfl rfl)
theorem dX0_far_1 : decode cX0_far 1 = .ok (.iload_n 1, 1) := dk_27 (dk_at dksX0_far_0 1 rfl rfl)
theorem dX0_far_2 : decode cX0_far 2 = .ok (.i2l, 1) := dk_133 (dk_at dksX0_far_0 2 rfl rfl)
theorem dX0_far_3 : decode cX0_far 3 = .ok (.invokevirtual 167, 3) := dk_182 0 167 (dk_at dksX0_far_0 3 rfl rfl)
theorem dX0_far_6 : decode cX0_far 6 = .ok (.ifCond .eq 21, 3) := dk_153 0 21 (dk_at dksX0_far_0 6 rfl rfl)
theorem dX0_far_9 : decode cX0_far 9 = .ok (.aload_n 0, 1) := dk_42 (dk_at dksX0_far_0 9 rfl rfl)
theorem dX0_far_10 : decode cX0_far 10 = .ok (.iload_n 2, 1) := dk_28 (dk_at dksX0_far_0 10 rfl rfl)
theorem dX0_far_11 : decode cX0_far 11 = .ok (.i2l, 1) := dk_133 (dk_at dksX0_far_0 11 rfl rfl)
theorem dX0_far_12 : decode cX0_far 12 = .ok (.invokevirtual 167, 3) := dk_182 0 167 (dk_at dksX0_far_0 12 rfl rfl)
theorem dX0_far_15 : decode cX0_far 15 = .ok (.ifCond .eq 12, 3) := dk_153 0 12 (dk_at dksX0_far_0 15 rfl rfl)
theorem dX0_far_18 : decode cX0_far 18 = .ok (.aload_n 0, 1) := dk_42 (dk_at dksX0_far_0 18 rfl rfl)
theorem dX0_far_19 : decode cX0_far 19 = .ok (.iload_n 1, 1) := dk_27 (dk_at dksX0_far_0 19 rfl rfl)
theorem dX0_far_20 : decode cX0_far 20 = .ok (.iload_n 2, 1) := dk_28 (dk_at dksX0_far_0 20 rfl rfl)
theorem dX0_far_21 : decode cX0_far 21 = .ok (.invokevirtual 213, 3) := dk_182 0 213 (dk_at dksX0_far_0 21 rfl rfl)
theorem dX0_far_24 : decode cX0_far 24 = .ok (.goto 5, 3) := dk_167 0 5 (dk_at dksX0_far_1 0 rfl rfl)
theorem dX0_far_27 : decode cX0_far 27 = .ok (.bipush (-2), 2) := dk_16 254 (dk_at dksX0_far_1 3 rfl rfl)
theorem dX0_far_29 : decode cX0_far 29 = .ok (.ireturn, 1) := dk_172 (dk_at dksX0_far_1 5 rfl rfl)
abbrev cX0_farOf : ByteArray := prog_1_method_24_code
def yX0_farOf : MethodName := ⟨RX0, "farOf", "(II)I"⟩
def dkwX0_farOf_0 : List UInt8 := [42, 180, 0, 29, 27, 182, 0, 207, 42, 180, 0, 29, 180, 0, 210, 28, 46, 172]
abbrev dktX0_farOf_0 : List UInt8 := dkwX0_farOf_0 ++ []
theorem dksX0_farOf_0 : cX0_farOf.data.toList.drop 0 = dktX0_farOf_0 := by decide +kernel
theorem dX0_farOf_0 : decode cX0_farOf 0 = .ok (.aload_n 0, 1) := dk_42 (dk_at dksX0_farOf_0 0 rfl rfl)
theorem dX0_farOf_1 : decode cX0_farOf 1 = .ok (.getfield 29, 3) := dk_180 0 29 (dk_at dksX0_farOf_0 1 rfl rfl)
theorem dX0_farOf_4 : decode cX0_farOf 4 = .ok (.iload_n 1, 1) := dk_27 (dk_at dksX0_farOf_0 4 rfl rfl)
theorem dX0_farOf_5 : decode cX0_farOf 5 = .ok (.invokevirtual 207, 3) := dk_182 0 207 (dk_at dksX0_farOf_0 5 rfl rfl)
theorem dX0_farOf_8 : decode cX0_farOf 8 = .ok (.aload_n 0, 1) := dk_42 (dk_at dksX0_farOf_0 8 rfl rfl)
theorem dX0_farOf_9 : decode cX0_farOf 9 = .ok (.getfield 29, 3) := dk_180 0 29 (dk_at dksX0_farOf_0 9 rfl rfl)
theorem dX0_farOf_12 : decode cX0_farOf 12 = .ok (.getfield 210, 3) := dk_180 0 210 (dk_at dksX0_farOf_0 12 rfl rfl)
theorem dX0_farOf_15 : decode cX0_farOf 15 = .ok (.iload_n 2, 1) := dk_28 (dk_at dksX0_farOf_0 15 rfl rfl)
theorem dX0_farOf_16 : decode cX0_farOf 16 = .ok (.iaload, 1) := dk_46 (dk_at dksX0_farOf_0 16 rfl rfl)
theorem dX0_farOf_17 : decode cX0_farOf 17 = .ok (.ireturn, 1) := dk_172 (dk_at dksX0_farOf_0 17 rfl rfl)
abbrev cX0_many : ByteArray := prog_1_method_26_code
def yX0_many : MethodName := ⟨RX0, "many", "(II)I"⟩
def dkwX0_many_9 : List UInt8 := [46, 172]
abbrev dktX0_many_9 : List UInt8 := dkwX0_many_9 ++ []
def dkwX0_many_8 : List UInt8 := [79, 132, 5, 1, 167, 255, 170, 132, 4, 1, 167, 255, 149, 132, 3, 1, 167, 255, 127, 42, 180, 0, 40, 28]
abbrev dktX0_many_8 : List UInt8 := dkwX0_many_8 ++ dktX0_many_9
def dkwX0_many_7 : List UInt8 := [160, 0, 25, 42, 180, 0, 40, 21, 4, 4, 21, 5, 120, 130, 92, 46, 42, 180, 0, 40, 21, 4, 46, 96]
abbrev dktX0_many_7 : List UInt8 := dkwX0_many_7 ++ dktX0_many_8
def dkwX0_many_6 : List UInt8 := [182, 0, 217, 153, 0, 46, 42, 180, 0, 29, 180, 0, 210, 21, 4, 4, 21, 5, 120, 130, 46, 29, 4, 96]
abbrev dktX0_many_6 : List UInt8 := dkwX0_many_6 ++ dktX0_many_7
def dkwX0_many_5 : List UInt8 := [42, 180, 0, 29, 180, 0, 210, 21, 4, 46, 29, 160, 0, 66, 42, 180, 0, 29, 21, 4, 21, 5]
abbrev dktX0_many_5 : List UInt8 := dkwX0_many_5 ++ dktX0_many_6
def dkwX0_many_4 : List UInt8 := [180, 0, 10, 182, 0, 161, 162, 0, 101, 3, 54, 5, 21, 5, 42, 180, 0, 10, 180, 0, 158, 162, 0, 80]
abbrev dktX0_many_4 : List UInt8 := dkwX0_many_4 ++ dktX0_many_5
def dkwX0_many_3 : List UInt8 := [4, 79, 3, 62, 29, 42, 180, 0, 29, 180, 0, 210, 28, 46, 162, 0, 122, 3, 54, 4, 21, 4, 42]
abbrev dktX0_many_3 : List UInt8 := dkwX0_many_3 ++ dktX0_many_4
def dkwX0_many_2 : List UInt8 := [29, 16, 32, 162, 0, 16, 42, 180, 0, 40, 29, 3, 79, 132, 3, 1, 167, 255, 240, 42, 180, 0, 40, 27]
abbrev dktX0_many_2 : List UInt8 := dkwX0_many_2 ++ dktX0_many_3
def dkwX0_many_1 : List UInt8 := [180, 0, 29, 27, 182, 0, 207, 42, 180, 0, 29, 180, 0, 210, 28, 46, 2, 160, 0, 5, 3, 172, 3, 62]
abbrev dktX0_many_1 : List UInt8 := dkwX0_many_1 ++ dktX0_many_2
def dkwX0_many_0 : List UInt8 := [42, 27, 133, 182, 0, 167, 153, 0, 12, 42, 28, 133, 182, 0, 167, 154, 0, 6, 16, 254, 172, 42]
abbrev dktX0_many_0 : List UInt8 := dkwX0_many_0 ++ dktX0_many_1
theorem dksX0_many_0 : cX0_many.data.toList.drop 0 = dktX0_many_0 := by decide +kernel
theorem dksX0_many_1 : cX0_many.data.toList.drop 22 = dktX0_many_1 := dk_seg dksX0_many_0 22 rfl rfl
theorem dksX0_many_2 : cX0_many.data.toList.drop 46 = dktX0_many_2 := dk_seg dksX0_many_1 24 rfl rfl
theorem dksX0_many_3 : cX0_many.data.toList.drop 70 = dktX0_many_3 := dk_seg dksX0_many_2 24 rfl rfl
theorem dksX0_many_4 : cX0_many.data.toList.drop 93 = dktX0_many_4 := dk_seg dksX0_many_3 23 rfl rfl
theorem dksX0_many_5 : cX0_many.data.toList.drop 117 = dktX0_many_5 := dk_seg dksX0_many_4 24 rfl rfl
theorem dksX0_many_6 : cX0_many.data.toList.drop 139 = dktX0_many_6 := dk_seg dksX0_many_5 22 rfl rfl
theorem dksX0_many_7 : cX0_many.data.toList.drop 163 = dktX0_many_7 := dk_seg dksX0_many_6 24 rfl rfl
theorem dksX0_many_8 : cX0_many.data.toList.drop 187 = dktX0_many_8 := dk_seg dksX0_many_7 24 rfl rfl
theorem dksX0_many_9 : cX0_many.data.toList.drop 211 = dktX0_many_9 := dk_seg dksX0_many_8 24 rfl rfl
theorem dX0_many_0 : decode cX0_many 0 = .ok (.aload_n 0, 1) := dk_42 (dk_at dksX0_many_0 0 rfl rfl)
theorem dX0_many_1 : decode cX0_many 1 = .ok (.iload_n 1, 1) := dk_27 (dk_at dksX0_many_0 1 rfl rfl)
theorem dX0_many_2 : decode cX0_many 2 = .ok (.i2l, 1) := dk_133 (dk_at dksX0_many_0 2 rfl rfl)
theorem dX0_many_3 : decode cX0_many 3 = .ok (.invokevirtual 167, 3) := dk_182 0 167 (dk_at dksX0_many_0 3 rfl rfl)
theorem dX0_many_6 : decode cX0_many 6 = .ok (.ifCond .eq 12, 3) := dk_153 0 12 (dk_at dksX0_many_0 6 rfl rfl)
theorem dX0_many_9 : decode cX0_many 9 = .ok (.aload_n 0, 1) := dk_42 (dk_at dksX0_many_0 9 rfl rfl)
theorem dX0_many_10 : decode cX0_many 10 = .ok (.iload_n 2, 1) := dk_28 (dk_at dksX0_many_0 10 rfl rfl)
theorem dX0_many_11 : decode cX0_many 11 = .ok (.i2l, 1) := dk_133 (dk_at dksX0_many_0 11 rfl rfl)
theorem dX0_many_12 : decode cX0_many 12 = .ok (.invokevirtual 167, 3) := dk_182 0 167 (dk_at dksX0_many_0 12 rfl rfl)
theorem dX0_many_15 : decode cX0_many 15 = .ok (.ifCond .ne 6, 3) := dk_154 0 6 (dk_at dksX0_many_0 15 rfl rfl)
theorem dX0_many_18 : decode cX0_many 18 = .ok (.bipush (-2), 2) := dk_16 254 (dk_at dksX0_many_0 18 rfl rfl)
theorem dX0_many_20 : decode cX0_many 20 = .ok (.ireturn, 1) := dk_172 (dk_at dksX0_many_0 20 rfl rfl)
theorem dX0_many_21 : decode cX0_many 21 = .ok (.aload_n 0, 1) := dk_42 (dk_at dksX0_many_0 21 rfl rfl)
theorem dX0_many_22 : decode cX0_many 22 = .ok (.getfield 29, 3) := dk_180 0 29 (dk_at dksX0_many_1 0 rfl rfl)
theorem dX0_many_25 : decode cX0_many 25 = .ok (.iload_n 1, 1) := dk_27 (dk_at dksX0_many_1 3 rfl rfl)
theorem dX0_many_26 : decode cX0_many 26 = .ok (.invokevirtual 207, 3) := dk_182 0 207 (dk_at dksX0_many_1 4 rfl rfl)
theorem dX0_many_29 : decode cX0_many 29 = .ok (.aload_n 0, 1) := dk_42 (dk_at dksX0_many_1 7 rfl rfl)
theorem dX0_many_30 : decode cX0_many 30 = .ok (.getfield 29, 3) := dk_180 0 29 (dk_at dksX0_many_1 8 rfl rfl)
theorem dX0_many_33 : decode cX0_many 33 = .ok (.getfield 210, 3) := dk_180 0 210 (dk_at dksX0_many_1 11 rfl rfl)
theorem dX0_many_36 : decode cX0_many 36 = .ok (.iload_n 2, 1) := dk_28 (dk_at dksX0_many_1 14 rfl rfl)
theorem dX0_many_37 : decode cX0_many 37 = .ok (.iaload, 1) := dk_46 (dk_at dksX0_many_1 15 rfl rfl)
theorem dX0_many_38 : decode cX0_many 38 = .ok (.iconst (-1), 1) := dk_2 (dk_at dksX0_many_1 16 rfl rfl)
theorem dX0_many_39 : decode cX0_many 39 = .ok (.if_icmp .ne 5, 3) := dk_160 0 5 (dk_at dksX0_many_1 17 rfl rfl)
theorem dX0_many_42 : decode cX0_many 42 = .ok (.iconst 0, 1) := dk_3 (dk_at dksX0_many_1 20 rfl rfl)
theorem dX0_many_43 : decode cX0_many 43 = .ok (.ireturn, 1) := dk_172 (dk_at dksX0_many_1 21 rfl rfl)
theorem dX0_many_44 : decode cX0_many 44 = .ok (.iconst 0, 1) := dk_3 (dk_at dksX0_many_1 22 rfl rfl)
theorem dX0_many_45 : decode cX0_many 45 = .ok (.istore_n 3, 1) := dk_62 (dk_at dksX0_many_1 23 rfl rfl)
theorem dX0_many_46 : decode cX0_many 46 = .ok (.iload_n 3, 1) := dk_29 (dk_at dksX0_many_2 0 rfl rfl)
theorem dX0_many_47 : decode cX0_many 47 = .ok (.bipush 32, 2) := dk_16 32 (dk_at dksX0_many_2 1 rfl rfl)
theorem dX0_many_49 : decode cX0_many 49 = .ok (.if_icmp .ge 16, 3) := dk_162 0 16 (dk_at dksX0_many_2 3 rfl rfl)
theorem dX0_many_52 : decode cX0_many 52 = .ok (.aload_n 0, 1) := dk_42 (dk_at dksX0_many_2 6 rfl rfl)
theorem dX0_many_53 : decode cX0_many 53 = .ok (.getfield 40, 3) := dk_180 0 40 (dk_at dksX0_many_2 7 rfl rfl)
theorem dX0_many_56 : decode cX0_many 56 = .ok (.iload_n 3, 1) := dk_29 (dk_at dksX0_many_2 10 rfl rfl)
theorem dX0_many_57 : decode cX0_many 57 = .ok (.iconst 0, 1) := dk_3 (dk_at dksX0_many_2 11 rfl rfl)
theorem dX0_many_58 : decode cX0_many 58 = .ok (.iastore, 1) := dk_79 (dk_at dksX0_many_2 12 rfl rfl)
theorem dX0_many_59 : decode cX0_many 59 = .ok (.iinc 3 1, 3) := dk_132 3 1 (dk_at dksX0_many_2 13 rfl rfl)
theorem dX0_many_62 : decode cX0_many 62 = .ok (.goto (-16), 3) := dk_167 255 240 (dk_at dksX0_many_2 16 rfl rfl)
theorem dX0_many_65 : decode cX0_many 65 = .ok (.aload_n 0, 1) := dk_42 (dk_at dksX0_many_2 19 rfl rfl)
theorem dX0_many_66 : decode cX0_many 66 = .ok (.getfield 40, 3) := dk_180 0 40 (dk_at dksX0_many_2 20 rfl rfl)
theorem dX0_many_69 : decode cX0_many 69 = .ok (.iload_n 1, 1) := dk_27 (dk_at dksX0_many_2 23 rfl rfl)
theorem dX0_many_70 : decode cX0_many 70 = .ok (.iconst 1, 1) := dk_4 (dk_at dksX0_many_3 0 rfl rfl)
theorem dX0_many_71 : decode cX0_many 71 = .ok (.iastore, 1) := dk_79 (dk_at dksX0_many_3 1 rfl rfl)
theorem dX0_many_72 : decode cX0_many 72 = .ok (.iconst 0, 1) := dk_3 (dk_at dksX0_many_3 2 rfl rfl)
theorem dX0_many_73 : decode cX0_many 73 = .ok (.istore_n 3, 1) := dk_62 (dk_at dksX0_many_3 3 rfl rfl)
theorem dX0_many_74 : decode cX0_many 74 = .ok (.iload_n 3, 1) := dk_29 (dk_at dksX0_many_3 4 rfl rfl)
theorem dX0_many_75 : decode cX0_many 75 = .ok (.aload_n 0, 1) := dk_42 (dk_at dksX0_many_3 5 rfl rfl)
theorem dX0_many_76 : decode cX0_many 76 = .ok (.getfield 29, 3) := dk_180 0 29 (dk_at dksX0_many_3 6 rfl rfl)
theorem dX0_many_79 : decode cX0_many 79 = .ok (.getfield 210, 3) := dk_180 0 210 (dk_at dksX0_many_3 9 rfl rfl)
theorem dX0_many_82 : decode cX0_many 82 = .ok (.iload_n 2, 1) := dk_28 (dk_at dksX0_many_3 12 rfl rfl)
theorem dX0_many_83 : decode cX0_many 83 = .ok (.iaload, 1) := dk_46 (dk_at dksX0_many_3 13 rfl rfl)
theorem dX0_many_84 : decode cX0_many 84 = .ok (.if_icmp .ge 122, 3) := dk_162 0 122 (dk_at dksX0_many_3 14 rfl rfl)
theorem dX0_many_87 : decode cX0_many 87 = .ok (.iconst 0, 1) := dk_3 (dk_at dksX0_many_3 17 rfl rfl)
theorem dX0_many_88 : decode cX0_many 88 = .ok (.istore 4, 2) := dk_54 4 (dk_at dksX0_many_3 18 rfl rfl)
theorem dX0_many_90 : decode cX0_many 90 = .ok (.iload 4, 2) := dk_21 4 (dk_at dksX0_many_3 20 rfl rfl)
theorem dX0_many_92 : decode cX0_many 92 = .ok (.aload_n 0, 1) := dk_42 (dk_at dksX0_many_3 22 rfl rfl)
theorem dX0_many_93 : decode cX0_many 93 = .ok (.getfield 10, 3) := dk_180 0 10 (dk_at dksX0_many_4 0 rfl rfl)
theorem dX0_many_96 : decode cX0_many 96 = .ok (.invokevirtual 161, 3) := dk_182 0 161 (dk_at dksX0_many_4 3 rfl rfl)
theorem dX0_many_99 : decode cX0_many 99 = .ok (.if_icmp .ge 101, 3) := dk_162 0 101 (dk_at dksX0_many_4 6 rfl rfl)
theorem dX0_many_102 : decode cX0_many 102 = .ok (.iconst 0, 1) := dk_3 (dk_at dksX0_many_4 9 rfl rfl)
theorem dX0_many_103 : decode cX0_many 103 = .ok (.istore 5, 2) := dk_54 5 (dk_at dksX0_many_4 10 rfl rfl)
theorem dX0_many_105 : decode cX0_many 105 = .ok (.iload 5, 2) := dk_21 5 (dk_at dksX0_many_4 12 rfl rfl)
theorem dX0_many_107 : decode cX0_many 107 = .ok (.aload_n 0, 1) := dk_42 (dk_at dksX0_many_4 14 rfl rfl)
theorem dX0_many_108 : decode cX0_many 108 = .ok (.getfield 10, 3) := dk_180 0 10 (dk_at dksX0_many_4 15 rfl rfl)
theorem dX0_many_111 : decode cX0_many 111 = .ok (.getfield 158, 3) := dk_180 0 158 (dk_at dksX0_many_4 18 rfl rfl)
theorem dX0_many_114 : decode cX0_many 114 = .ok (.if_icmp .ge 80, 3) := dk_162 0 80 (dk_at dksX0_many_4 21 rfl rfl)
theorem dX0_many_117 : decode cX0_many 117 = .ok (.aload_n 0, 1) := dk_42 (dk_at dksX0_many_5 0 rfl rfl)
theorem dX0_many_118 : decode cX0_many 118 = .ok (.getfield 29, 3) := dk_180 0 29 (dk_at dksX0_many_5 1 rfl rfl)
theorem dX0_many_121 : decode cX0_many 121 = .ok (.getfield 210, 3) := dk_180 0 210 (dk_at dksX0_many_5 4 rfl rfl)
theorem dX0_many_124 : decode cX0_many 124 = .ok (.iload 4, 2) := dk_21 4 (dk_at dksX0_many_5 7 rfl rfl)
theorem dX0_many_126 : decode cX0_many 126 = .ok (.iaload, 1) := dk_46 (dk_at dksX0_many_5 9 rfl rfl)
theorem dX0_many_127 : decode cX0_many 127 = .ok (.iload_n 3, 1) := dk_29 (dk_at dksX0_many_5 10 rfl rfl)
theorem dX0_many_128 : decode cX0_many 128 = .ok (.if_icmp .ne 66, 3) := dk_160 0 66 (dk_at dksX0_many_5 11 rfl rfl)
theorem dX0_many_131 : decode cX0_many 131 = .ok (.aload_n 0, 1) := dk_42 (dk_at dksX0_many_5 14 rfl rfl)
theorem dX0_many_132 : decode cX0_many 132 = .ok (.getfield 29, 3) := dk_180 0 29 (dk_at dksX0_many_5 15 rfl rfl)
theorem dX0_many_135 : decode cX0_many 135 = .ok (.iload 4, 2) := dk_21 4 (dk_at dksX0_many_5 18 rfl rfl)
theorem dX0_many_137 : decode cX0_many 137 = .ok (.iload 5, 2) := dk_21 5 (dk_at dksX0_many_5 20 rfl rfl)
theorem dX0_many_139 : decode cX0_many 139 = .ok (.invokevirtual 217, 3) := dk_182 0 217 (dk_at dksX0_many_6 0 rfl rfl)
theorem dX0_many_142 : decode cX0_many 142 = .ok (.ifCond .eq 46, 3) := dk_153 0 46 (dk_at dksX0_many_6 3 rfl rfl)
theorem dX0_many_145 : decode cX0_many 145 = .ok (.aload_n 0, 1) := dk_42 (dk_at dksX0_many_6 6 rfl rfl)
theorem dX0_many_146 : decode cX0_many 146 = .ok (.getfield 29, 3) := dk_180 0 29 (dk_at dksX0_many_6 7 rfl rfl)
theorem dX0_many_149 : decode cX0_many 149 = .ok (.getfield 210, 3) := dk_180 0 210 (dk_at dksX0_many_6 10 rfl rfl)
theorem dX0_many_152 : decode cX0_many 152 = .ok (.iload 4, 2) := dk_21 4 (dk_at dksX0_many_6 13 rfl rfl)
theorem dX0_many_154 : decode cX0_many 154 = .ok (.iconst 1, 1) := dk_4 (dk_at dksX0_many_6 15 rfl rfl)
theorem dX0_many_155 : decode cX0_many 155 = .ok (.iload 5, 2) := dk_21 5 (dk_at dksX0_many_6 16 rfl rfl)
theorem dX0_many_157 : decode cX0_many 157 = .ok (.ishl, 1) := dk_120 (dk_at dksX0_many_6 18 rfl rfl)
theorem dX0_many_158 : decode cX0_many 158 = .ok (.ixor, 1) := dk_130 (dk_at dksX0_many_6 19 rfl rfl)
theorem dX0_many_159 : decode cX0_many 159 = .ok (.iaload, 1) := dk_46 (dk_at dksX0_many_6 20 rfl rfl)
theorem dX0_many_160 : decode cX0_many 160 = .ok (.iload_n 3, 1) := dk_29 (dk_at dksX0_many_6 21 rfl rfl)
theorem dX0_many_161 : decode cX0_many 161 = .ok (.iconst 1, 1) := dk_4 (dk_at dksX0_many_6 22 rfl rfl)
theorem dX0_many_162 : decode cX0_many 162 = .ok (.iadd, 1) := dk_96 (dk_at dksX0_many_6 23 rfl rfl)
theorem dX0_many_163 : decode cX0_many 163 = .ok (.if_icmp .ne 25, 3) := dk_160 0 25 (dk_at dksX0_many_7 0 rfl rfl)
theorem dX0_many_166 : decode cX0_many 166 = .ok (.aload_n 0, 1) := dk_42 (dk_at dksX0_many_7 3 rfl rfl)
theorem dX0_many_167 : decode cX0_many 167 = .ok (.getfield 40, 3) := dk_180 0 40 (dk_at dksX0_many_7 4 rfl rfl)
theorem dX0_many_170 : decode cX0_many 170 = .ok (.iload 4, 2) := dk_21 4 (dk_at dksX0_many_7 7 rfl rfl)
theorem dX0_many_172 : decode cX0_many 172 = .ok (.iconst 1, 1) := dk_4 (dk_at dksX0_many_7 9 rfl rfl)
theorem dX0_many_173 : decode cX0_many 173 = .ok (.iload 5, 2) := dk_21 5 (dk_at dksX0_many_7 10 rfl rfl)
theorem dX0_many_175 : decode cX0_many 175 = .ok (.ishl, 1) := dk_120 (dk_at dksX0_many_7 12 rfl rfl)
theorem dX0_many_176 : decode cX0_many 176 = .ok (.ixor, 1) := dk_130 (dk_at dksX0_many_7 13 rfl rfl)
theorem dX0_many_177 : decode cX0_many 177 = .ok (.dup2, 1) := dk_92 (dk_at dksX0_many_7 14 rfl rfl)
theorem dX0_many_178 : decode cX0_many 178 = .ok (.iaload, 1) := dk_46 (dk_at dksX0_many_7 15 rfl rfl)
theorem dX0_many_179 : decode cX0_many 179 = .ok (.aload_n 0, 1) := dk_42 (dk_at dksX0_many_7 16 rfl rfl)
theorem dX0_many_180 : decode cX0_many 180 = .ok (.getfield 40, 3) := dk_180 0 40 (dk_at dksX0_many_7 17 rfl rfl)
theorem dX0_many_183 : decode cX0_many 183 = .ok (.iload 4, 2) := dk_21 4 (dk_at dksX0_many_7 20 rfl rfl)
theorem dX0_many_185 : decode cX0_many 185 = .ok (.iaload, 1) := dk_46 (dk_at dksX0_many_7 22 rfl rfl)
theorem dX0_many_186 : decode cX0_many 186 = .ok (.iadd, 1) := dk_96 (dk_at dksX0_many_7 23 rfl rfl)
theorem dX0_many_187 : decode cX0_many 187 = .ok (.iastore, 1) := dk_79 (dk_at dksX0_many_8 0 rfl rfl)
theorem dX0_many_188 : decode cX0_many 188 = .ok (.iinc 5 1, 3) := dk_132 5 1 (dk_at dksX0_many_8 1 rfl rfl)
theorem dX0_many_191 : decode cX0_many 191 = .ok (.goto (-86), 3) := dk_167 255 170 (dk_at dksX0_many_8 4 rfl rfl)
theorem dX0_many_194 : decode cX0_many 194 = .ok (.iinc 4 1, 3) := dk_132 4 1 (dk_at dksX0_many_8 7 rfl rfl)
theorem dX0_many_197 : decode cX0_many 197 = .ok (.goto (-107), 3) := dk_167 255 149 (dk_at dksX0_many_8 10 rfl rfl)
theorem dX0_many_200 : decode cX0_many 200 = .ok (.iinc 3 1, 3) := dk_132 3 1 (dk_at dksX0_many_8 13 rfl rfl)
theorem dX0_many_203 : decode cX0_many 203 = .ok (.goto (-129), 3) := dk_167 255 127 (dk_at dksX0_many_8 16 rfl rfl)
theorem dX0_many_206 : decode cX0_many 206 = .ok (.aload_n 0, 1) := dk_42 (dk_at dksX0_many_8 19 rfl rfl)
theorem dX0_many_207 : decode cX0_many 207 = .ok (.getfield 40, 3) := dk_180 0 40 (dk_at dksX0_many_8 20 rfl rfl)
theorem dX0_many_210 : decode cX0_many 210 = .ok (.iload_n 2, 1) := dk_28 (dk_at dksX0_many_8 23 rfl rfl)
theorem dX0_many_211 : decode cX0_many 211 = .ok (.iaload, 1) := dk_46 (dk_at dksX0_many_9 0 rfl rfl)
theorem dX0_many_212 : decode cX0_many 212 = .ok (.ireturn, 1) := dk_172 (dk_at dksX0_many_9 1 rfl rfl)
abbrev cX0_goes : ByteArray := prog_1_method_28_code
def yX0_goes : MethodName := ⟨RX0, "goes", "(III)I"⟩
def dkwX0_goes_3 : List UInt8 := [54, 4, 132, 5, 1, 167, 255, 238, 21, 4, 172]
abbrev dktX0_goes_3 : List UInt8 := dkwX0_goes_3 ++ []
def dkwX0_goes_2 : List UInt8 := [154, 0, 5, 2, 172, 27, 54, 4, 3, 54, 5, 21, 5, 29, 162, 0, 18, 42, 21, 4, 2, 182, 0, 220]
abbrev dktX0_goes_2 : List UInt8 := dkwX0_goes_2 ++ dktX0_goes_3
def dkwX0_goes_1 : List UInt8 := [180, 0, 29, 28, 182, 0, 207, 29, 133, 9, 42, 180, 0, 29, 180, 0, 210, 27, 46, 133, 184, 0, 133]
abbrev dktX0_goes_1 : List UInt8 := dkwX0_goes_1 ++ dktX0_goes_2
def dkwX0_goes_0 : List UInt8 := [42, 27, 133, 182, 0, 167, 153, 0, 12, 42, 28, 133, 182, 0, 167, 154, 0, 6, 16, 254, 172, 42]
abbrev dktX0_goes_0 : List UInt8 := dkwX0_goes_0 ++ dktX0_goes_1
theorem dksX0_goes_0 : cX0_goes.data.toList.drop 0 = dktX0_goes_0 := by decide +kernel
theorem dksX0_goes_1 : cX0_goes.data.toList.drop 22 = dktX0_goes_1 := dk_seg dksX0_goes_0 22 rfl rfl
theorem dksX0_goes_2 : cX0_goes.data.toList.drop 45 = dktX0_goes_2 := dk_seg dksX0_goes_1 23 rfl rfl
theorem dksX0_goes_3 : cX0_goes.data.toList.drop 69 = dktX0_goes_3 := dk_seg dksX0_goes_2 24 rfl rfl
theorem dX0_goes_0 : decode cX0_goes 0 = .ok (.aload_n 0, 1) := dk_42 (dk_at dksX0_goes_0 0 rfl rfl)
theorem dX0_goes_1 : decode cX0_goes 1 = .ok (.iload_n 1, 1) := dk_27 (dk_at dksX0_goes_0 1 rfl rfl)
theorem dX0_goes_2 : decode cX0_goes 2 = .ok (.i2l, 1) := dk_133 (dk_at dksX0_goes_0 2 rfl rfl)
theorem dX0_goes_3 : decode cX0_goes 3 = .ok (.invokevirtual 167, 3) := dk_182 0 167 (dk_at dksX0_goes_0 3 rfl rfl)
theorem dX0_goes_6 : decode cX0_goes 6 = .ok (.ifCond .eq 12, 3) := dk_153 0 12 (dk_at dksX0_goes_0 6 rfl rfl)
theorem dX0_goes_9 : decode cX0_goes 9 = .ok (.aload_n 0, 1) := dk_42 (dk_at dksX0_goes_0 9 rfl rfl)
theorem dX0_goes_10 : decode cX0_goes 10 = .ok (.iload_n 2, 1) := dk_28 (dk_at dksX0_goes_0 10 rfl rfl)
theorem dX0_goes_11 : decode cX0_goes 11 = .ok (.i2l, 1) := dk_133 (dk_at dksX0_goes_0 11 rfl rfl)
theorem dX0_goes_12 : decode cX0_goes 12 = .ok (.invokevirtual 167, 3) := dk_182 0 167 (dk_at dksX0_goes_0 12 rfl rfl)
theorem dX0_goes_15 : decode cX0_goes 15 = .ok (.ifCond .ne 6, 3) := dk_154 0 6 (dk_at dksX0_goes_0 15 rfl rfl)
theorem dX0_goes_18 : decode cX0_goes 18 = .ok (.bipush (-2), 2) := dk_16 254 (dk_at dksX0_goes_0 18 rfl rfl)
theorem dX0_goes_20 : decode cX0_goes 20 = .ok (.ireturn, 1) := dk_172 (dk_at dksX0_goes_0 20 rfl rfl)
theorem dX0_goes_21 : decode cX0_goes 21 = .ok (.aload_n 0, 1) := dk_42 (dk_at dksX0_goes_0 21 rfl rfl)
theorem dX0_goes_22 : decode cX0_goes 22 = .ok (.getfield 29, 3) := dk_180 0 29 (dk_at dksX0_goes_1 0 rfl rfl)
theorem dX0_goes_25 : decode cX0_goes 25 = .ok (.iload_n 2, 1) := dk_28 (dk_at dksX0_goes_1 3 rfl rfl)
theorem dX0_goes_26 : decode cX0_goes 26 = .ok (.invokevirtual 207, 3) := dk_182 0 207 (dk_at dksX0_goes_1 4 rfl rfl)
theorem dX0_goes_29 : decode cX0_goes 29 = .ok (.iload_n 3, 1) := dk_29 (dk_at dksX0_goes_1 7 rfl rfl)
theorem dX0_goes_30 : decode cX0_goes 30 = .ok (.i2l, 1) := dk_133 (dk_at dksX0_goes_1 8 rfl rfl)
theorem dX0_goes_31 : decode cX0_goes 31 = .ok (.lconst 0, 1) := dk_9 (dk_at dksX0_goes_1 9 rfl rfl)
theorem dX0_goes_32 : decode cX0_goes 32 = .ok (.aload_n 0, 1) := dk_42 (dk_at dksX0_goes_1 10 rfl rfl)
theorem dX0_goes_33 : decode cX0_goes 33 = .ok (.getfield 29, 3) := dk_180 0 29 (dk_at dksX0_goes_1 11 rfl rfl)
theorem dX0_goes_36 : decode cX0_goes 36 = .ok (.getfield 210, 3) := dk_180 0 210 (dk_at dksX0_goes_1 14 rfl rfl)
theorem dX0_goes_39 : decode cX0_goes 39 = .ok (.iload_n 1, 1) := dk_27 (dk_at dksX0_goes_1 17 rfl rfl)
theorem dX0_goes_40 : decode cX0_goes 40 = .ok (.iaload, 1) := dk_46 (dk_at dksX0_goes_1 18 rfl rfl)
theorem dX0_goes_41 : decode cX0_goes 41 = .ok (.i2l, 1) := dk_133 (dk_at dksX0_goes_1 19 rfl rfl)
theorem dX0_goes_42 : decode cX0_goes 42 = .ok (.invokestatic 133, 3) := dk_184 0 133 (dk_at dksX0_goes_1 20 rfl rfl)
theorem dX0_goes_45 : decode cX0_goes 45 = .ok (.ifCond .ne 5, 3) := dk_154 0 5 (dk_at dksX0_goes_2 0 rfl rfl)
theorem dX0_goes_48 : decode cX0_goes 48 = .ok (.iconst (-1), 1) := dk_2 (dk_at dksX0_goes_2 3 rfl rfl)
theorem dX0_goes_49 : decode cX0_goes 49 = .ok (.ireturn, 1) := dk_172 (dk_at dksX0_goes_2 4 rfl rfl)
theorem dX0_goes_50 : decode cX0_goes 50 = .ok (.iload_n 1, 1) := dk_27 (dk_at dksX0_goes_2 5 rfl rfl)
theorem dX0_goes_51 : decode cX0_goes 51 = .ok (.istore 4, 2) := dk_54 4 (dk_at dksX0_goes_2 6 rfl rfl)
theorem dX0_goes_53 : decode cX0_goes 53 = .ok (.iconst 0, 1) := dk_3 (dk_at dksX0_goes_2 8 rfl rfl)
theorem dX0_goes_54 : decode cX0_goes 54 = .ok (.istore 5, 2) := dk_54 5 (dk_at dksX0_goes_2 9 rfl rfl)
theorem dX0_goes_56 : decode cX0_goes 56 = .ok (.iload 5, 2) := dk_21 5 (dk_at dksX0_goes_2 11 rfl rfl)
theorem dX0_goes_58 : decode cX0_goes 58 = .ok (.iload_n 3, 1) := dk_29 (dk_at dksX0_goes_2 13 rfl rfl)
theorem dX0_goes_59 : decode cX0_goes 59 = .ok (.if_icmp .ge 18, 3) := dk_162 0 18 (dk_at dksX0_goes_2 14 rfl rfl)
theorem dX0_goes_62 : decode cX0_goes 62 = .ok (.aload_n 0, 1) := dk_42 (dk_at dksX0_goes_2 17 rfl rfl)
theorem dX0_goes_63 : decode cX0_goes 63 = .ok (.iload 4, 2) := dk_21 4 (dk_at dksX0_goes_2 18 rfl rfl)
theorem dX0_goes_65 : decode cX0_goes 65 = .ok (.iconst (-1), 1) := dk_2 (dk_at dksX0_goes_2 20 rfl rfl)
theorem dX0_goes_66 : decode cX0_goes 66 = .ok (.invokevirtual 220, 3) := dk_182 0 220 (dk_at dksX0_goes_2 21 rfl rfl)
theorem dX0_goes_69 : decode cX0_goes 69 = .ok (.istore 4, 2) := dk_54 4 (dk_at dksX0_goes_3 0 rfl rfl)
theorem dX0_goes_71 : decode cX0_goes 71 = .ok (.iinc 5 1, 3) := dk_132 5 1 (dk_at dksX0_goes_3 2 rfl rfl)
theorem dX0_goes_74 : decode cX0_goes 74 = .ok (.goto (-18), 3) := dk_167 255 238 (dk_at dksX0_goes_3 5 rfl rfl)
theorem dX0_goes_77 : decode cX0_goes 77 = .ok (.iload 4, 2) := dk_21 4 (dk_at dksX0_goes_3 8 rfl rfl)
theorem dX0_goes_79 : decode cX0_goes 79 = .ok (.ireturn, 1) := dk_172 (dk_at dksX0_goes_3 10 rfl rfl)
abbrev cX0_nextTo : ByteArray := prog_1_method_27_code
def yX0_nextTo : MethodName := ⟨RX0, "nextTo", "(II)I"⟩
def dkwX0_nextTo_3 : List UInt8 := [2, 159, 0, 9, 21, 5, 29, 162, 0, 6, 21, 5, 62, 132, 4, 1, 167, 255, 176, 29, 172]
abbrev dktX0_nextTo_3 : List UInt8 := dkwX0_nextTo_3 ++ []
def dkwX0_nextTo_2 : List UInt8 := [180, 0, 29, 180, 0, 210, 21, 5, 46, 42, 180, 0, 29, 180, 0, 210, 27, 46, 4, 100, 160, 0, 17, 29]
abbrev dktX0_nextTo_2 : List UInt8 := dkwX0_nextTo_2 ++ dktX0_nextTo_3
def dkwX0_nextTo_1 : List UInt8 := [54, 5, 21, 4, 28, 159, 0, 54, 42, 180, 0, 29, 27, 21, 4, 182, 0, 217, 153, 0, 41, 42]
abbrev dktX0_nextTo_1 : List UInt8 := dkwX0_nextTo_1 ++ dktX0_nextTo_2
def dkwX0_nextTo_0 : List UInt8 := [2, 62, 3, 54, 4, 21, 4, 42, 180, 0, 10, 180, 0, 158, 162, 0, 74, 27, 4, 21, 4, 120, 130]
abbrev dktX0_nextTo_0 : List UInt8 := dkwX0_nextTo_0 ++ dktX0_nextTo_1
theorem dksX0_nextTo_0 : cX0_nextTo.data.toList.drop 0 = dktX0_nextTo_0 := by decide +kernel
theorem dksX0_nextTo_1 : cX0_nextTo.data.toList.drop 23 = dktX0_nextTo_1 := dk_seg dksX0_nextTo_0 23 rfl rfl
theorem dksX0_nextTo_2 : cX0_nextTo.data.toList.drop 45 = dktX0_nextTo_2 := dk_seg dksX0_nextTo_1 22 rfl rfl
theorem dksX0_nextTo_3 : cX0_nextTo.data.toList.drop 69 = dktX0_nextTo_3 := dk_seg dksX0_nextTo_2 24 rfl rfl
theorem dX0_nextTo_0 : decode cX0_nextTo 0 = .ok (.iconst (-1), 1) := dk_2 (dk_at dksX0_nextTo_0 0 rfl rfl)
theorem dX0_nextTo_1 : decode cX0_nextTo 1 = .ok (.istore_n 3, 1) := dk_62 (dk_at dksX0_nextTo_0 1 rfl rfl)
theorem dX0_nextTo_2 : decode cX0_nextTo 2 = .ok (.iconst 0, 1) := dk_3 (dk_at dksX0_nextTo_0 2 rfl rfl)
theorem dX0_nextTo_3 : decode cX0_nextTo 3 = .ok (.istore 4, 2) := dk_54 4 (dk_at dksX0_nextTo_0 3 rfl rfl)
theorem dX0_nextTo_5 : decode cX0_nextTo 5 = .ok (.iload 4, 2) := dk_21 4 (dk_at dksX0_nextTo_0 5 rfl rfl)
theorem dX0_nextTo_7 : decode cX0_nextTo 7 = .ok (.aload_n 0, 1) := dk_42 (dk_at dksX0_nextTo_0 7 rfl rfl)
theorem dX0_nextTo_8 : decode cX0_nextTo 8 = .ok (.getfield 10, 3) := dk_180 0 10 (dk_at dksX0_nextTo_0 8 rfl rfl)
theorem dX0_nextTo_11 : decode cX0_nextTo 11 = .ok (.getfield 158, 3) := dk_180 0 158 (dk_at dksX0_nextTo_0 11 rfl rfl)
theorem dX0_nextTo_14 : decode cX0_nextTo 14 = .ok (.if_icmp .ge 74, 3) := dk_162 0 74 (dk_at dksX0_nextTo_0 14 rfl rfl)
theorem dX0_nextTo_17 : decode cX0_nextTo 17 = .ok (.iload_n 1, 1) := dk_27 (dk_at dksX0_nextTo_0 17 rfl rfl)
theorem dX0_nextTo_18 : decode cX0_nextTo 18 = .ok (.iconst 1, 1) := dk_4 (dk_at dksX0_nextTo_0 18 rfl rfl)
theorem dX0_nextTo_19 : decode cX0_nextTo 19 = .ok (.iload 4, 2) := dk_21 4 (dk_at dksX0_nextTo_0 19 rfl rfl)
theorem dX0_nextTo_21 : decode cX0_nextTo 21 = .ok (.ishl, 1) := dk_120 (dk_at dksX0_nextTo_0 21 rfl rfl)
theorem dX0_nextTo_22 : decode cX0_nextTo 22 = .ok (.ixor, 1) := dk_130 (dk_at dksX0_nextTo_0 22 rfl rfl)
theorem dX0_nextTo_23 : decode cX0_nextTo 23 = .ok (.istore 5, 2) := dk_54 5 (dk_at dksX0_nextTo_1 0 rfl rfl)
theorem dX0_nextTo_25 : decode cX0_nextTo 25 = .ok (.iload 4, 2) := dk_21 4 (dk_at dksX0_nextTo_1 2 rfl rfl)
theorem dX0_nextTo_27 : decode cX0_nextTo 27 = .ok (.iload_n 2, 1) := dk_28 (dk_at dksX0_nextTo_1 4 rfl rfl)
theorem dX0_nextTo_28 : decode cX0_nextTo 28 = .ok (.if_icmp .eq 54, 3) := dk_159 0 54 (dk_at dksX0_nextTo_1 5 rfl rfl)
theorem dX0_nextTo_31 : decode cX0_nextTo 31 = .ok (.aload_n 0, 1) := dk_42 (dk_at dksX0_nextTo_1 8 rfl rfl)
theorem dX0_nextTo_32 : decode cX0_nextTo 32 = .ok (.getfield 29, 3) := dk_180 0 29 (dk_at dksX0_nextTo_1 9 rfl rfl)
theorem dX0_nextTo_35 : decode cX0_nextTo 35 = .ok (.iload_n 1, 1) := dk_27 (dk_at dksX0_nextTo_1 12 rfl rfl)
theorem dX0_nextTo_36 : decode cX0_nextTo 36 = .ok (.iload 4, 2) := dk_21 4 (dk_at dksX0_nextTo_1 13 rfl rfl)
theorem dX0_nextTo_38 : decode cX0_nextTo 38 = .ok (.invokevirtual 217, 3) := dk_182 0 217 (dk_at dksX0_nextTo_1 15 rfl rfl)
theorem dX0_nextTo_41 : decode cX0_nextTo 41 = .ok (.ifCond .eq 41, 3) := dk_153 0 41 (dk_at dksX0_nextTo_1 18 rfl rfl)
theorem dX0_nextTo_44 : decode cX0_nextTo 44 = .ok (.aload_n 0, 1) := dk_42 (dk_at dksX0_nextTo_1 21 rfl rfl)
theorem dX0_nextTo_45 : decode cX0_nextTo 45 = .ok (.getfield 29, 3) := dk_180 0 29 (dk_at dksX0_nextTo_2 0 rfl rfl)
theorem dX0_nextTo_48 : decode cX0_nextTo 48 = .ok (.getfield 210, 3) := dk_180 0 210 (dk_at dksX0_nextTo_2 3 rfl rfl)
theorem dX0_nextTo_51 : decode cX0_nextTo 51 = .ok (.iload 5, 2) := dk_21 5 (dk_at dksX0_nextTo_2 6 rfl rfl)
theorem dX0_nextTo_53 : decode cX0_nextTo 53 = .ok (.iaload, 1) := dk_46 (dk_at dksX0_nextTo_2 8 rfl rfl)
theorem dX0_nextTo_54 : decode cX0_nextTo 54 = .ok (.aload_n 0, 1) := dk_42 (dk_at dksX0_nextTo_2 9 rfl rfl)
theorem dX0_nextTo_55 : decode cX0_nextTo 55 = .ok (.getfield 29, 3) := dk_180 0 29 (dk_at dksX0_nextTo_2 10 rfl rfl)
theorem dX0_nextTo_58 : decode cX0_nextTo 58 = .ok (.getfield 210, 3) := dk_180 0 210 (dk_at dksX0_nextTo_2 13 rfl rfl)
theorem dX0_nextTo_61 : decode cX0_nextTo 61 = .ok (.iload_n 1, 1) := dk_27 (dk_at dksX0_nextTo_2 16 rfl rfl)
theorem dX0_nextTo_62 : decode cX0_nextTo 62 = .ok (.iaload, 1) := dk_46 (dk_at dksX0_nextTo_2 17 rfl rfl)
theorem dX0_nextTo_63 : decode cX0_nextTo 63 = .ok (.iconst 1, 1) := dk_4 (dk_at dksX0_nextTo_2 18 rfl rfl)
theorem dX0_nextTo_64 : decode cX0_nextTo 64 = .ok (.isub, 1) := dk_100 (dk_at dksX0_nextTo_2 19 rfl rfl)
theorem dX0_nextTo_65 : decode cX0_nextTo 65 = .ok (.if_icmp .ne 17, 3) := dk_160 0 17 (dk_at dksX0_nextTo_2 20 rfl rfl)
theorem dX0_nextTo_68 : decode cX0_nextTo 68 = .ok (.iload_n 3, 1) := dk_29 (dk_at dksX0_nextTo_2 23 rfl rfl)
theorem dX0_nextTo_69 : decode cX0_nextTo 69 = .ok (.iconst (-1), 1) := dk_2 (dk_at dksX0_nextTo_3 0 rfl rfl)
theorem dX0_nextTo_70 : decode cX0_nextTo 70 = .ok (.if_icmp .eq 9, 3) := dk_159 0 9 (dk_at dksX0_nextTo_3 1 rfl rfl)
theorem dX0_nextTo_73 : decode cX0_nextTo 73 = .ok (.iload 5, 2) := dk_21 5 (dk_at dksX0_nextTo_3 4 rfl rfl)
theorem dX0_nextTo_75 : decode cX0_nextTo 75 = .ok (.iload_n 3, 1) := dk_29 (dk_at dksX0_nextTo_3 6 rfl rfl)
theorem dX0_nextTo_76 : decode cX0_nextTo 76 = .ok (.if_icmp .ge 6, 3) := dk_162 0 6 (dk_at dksX0_nextTo_3 7 rfl rfl)
theorem dX0_nextTo_79 : decode cX0_nextTo 79 = .ok (.iload 5, 2) := dk_21 5 (dk_at dksX0_nextTo_3 10 rfl rfl)
theorem dX0_nextTo_81 : decode cX0_nextTo 81 = .ok (.istore_n 3, 1) := dk_62 (dk_at dksX0_nextTo_3 12 rfl rfl)
theorem dX0_nextTo_82 : decode cX0_nextTo 82 = .ok (.iinc 4 1, 3) := dk_132 4 1 (dk_at dksX0_nextTo_3 13 rfl rfl)
theorem dX0_nextTo_85 : decode cX0_nextTo 85 = .ok (.goto (-80), 3) := dk_167 255 176 (dk_at dksX0_nextTo_3 16 rfl rfl)
theorem dX0_nextTo_88 : decode cX0_nextTo 88 = .ok (.iload_n 3, 1) := dk_29 (dk_at dksX0_nextTo_3 19 rfl rfl)
theorem dX0_nextTo_89 : decode cX0_nextTo 89 = .ok (.ireturn, 1) := dk_172 (dk_at dksX0_nextTo_3 20 rfl rfl)
abbrev cX0_led : ByteArray := prog_1_method_30_code
def yX0_led : MethodName := ⟨RX0, "led", "(III)I"⟩
def dkwX0_led_2 : List UInt8 := [167, 0, 22, 42, 27, 28, 29, 182, 0, 227, 42, 27, 28, 29, 4, 96, 182, 0, 227, 184, 0, 230, 172]
abbrev dktX0_led_2 : List UInt8 := dkwX0_led_2 ++ []
def dkwX0_led_1 : List UInt8 := [155, 0, 22, 29, 18, 226, 159, 0, 16, 42, 27, 28, 29, 4, 96, 182, 0, 227, 2, 160, 0, 7, 2]
abbrev dktX0_led_1 : List UInt8 := dkwX0_led_1 ++ dktX0_led_2
def dkwX0_led_0 : List UInt8 := [42, 27, 133, 182, 0, 167, 153, 0, 12, 42, 28, 133, 182, 0, 167, 154, 0, 6, 16, 254, 172, 29]
abbrev dktX0_led_0 : List UInt8 := dkwX0_led_0 ++ dktX0_led_1
theorem dksX0_led_0 : cX0_led.data.toList.drop 0 = dktX0_led_0 := by decide +kernel
theorem dksX0_led_1 : cX0_led.data.toList.drop 22 = dktX0_led_1 := dk_seg dksX0_led_0 22 rfl rfl
theorem dksX0_led_2 : cX0_led.data.toList.drop 45 = dktX0_led_2 := dk_seg dksX0_led_1 23 rfl rfl
theorem dX0_led_0 : decode cX0_led 0 = .ok (.aload_n 0, 1) := dk_42 (dk_at dksX0_led_0 0 rfl rfl)
theorem dX0_led_1 : decode cX0_led 1 = .ok (.iload_n 1, 1) := dk_27 (dk_at dksX0_led_0 1 rfl rfl)
theorem dX0_led_2 : decode cX0_led 2 = .ok (.i2l, 1) := dk_133 (dk_at dksX0_led_0 2 rfl rfl)
theorem dX0_led_3 : decode cX0_led 3 = .ok (.invokevirtual 167, 3) := dk_182 0 167 (dk_at dksX0_led_0 3 rfl rfl)
theorem dX0_led_6 : decode cX0_led 6 = .ok (.ifCond .eq 12, 3) := dk_153 0 12 (dk_at dksX0_led_0 6 rfl rfl)
theorem dX0_led_9 : decode cX0_led 9 = .ok (.aload_n 0, 1) := dk_42 (dk_at dksX0_led_0 9 rfl rfl)
theorem dX0_led_10 : decode cX0_led 10 = .ok (.iload_n 2, 1) := dk_28 (dk_at dksX0_led_0 10 rfl rfl)
theorem dX0_led_11 : decode cX0_led 11 = .ok (.i2l, 1) := dk_133 (dk_at dksX0_led_0 11 rfl rfl)
theorem dX0_led_12 : decode cX0_led 12 = .ok (.invokevirtual 167, 3) := dk_182 0 167 (dk_at dksX0_led_0 12 rfl rfl)
theorem dX0_led_15 : decode cX0_led 15 = .ok (.ifCond .ne 6, 3) := dk_154 0 6 (dk_at dksX0_led_0 15 rfl rfl)
theorem dX0_led_18 : decode cX0_led 18 = .ok (.bipush (-2), 2) := dk_16 254 (dk_at dksX0_led_0 18 rfl rfl)
theorem dX0_led_20 : decode cX0_led 20 = .ok (.ireturn, 1) := dk_172 (dk_at dksX0_led_0 20 rfl rfl)
theorem dX0_led_21 : decode cX0_led 21 = .ok (.iload_n 3, 1) := dk_29 (dk_at dksX0_led_0 21 rfl rfl)
theorem dX0_led_22 : decode cX0_led 22 = .ok (.ifCond .lt 22, 3) := dk_155 0 22 (dk_at dksX0_led_1 0 rfl rfl)
theorem dX0_led_25 : decode cX0_led 25 = .ok (.iload_n 3, 1) := dk_29 (dk_at dksX0_led_1 3 rfl rfl)
theorem dX0_led_26 : decode cX0_led 26 = .ok (.ldc 226, 2) := dk_18 226 (dk_at dksX0_led_1 4 rfl rfl)
theorem dX0_led_28 : decode cX0_led 28 = .ok (.if_icmp .eq 16, 3) := dk_159 0 16 (dk_at dksX0_led_1 6 rfl rfl)
theorem dX0_led_31 : decode cX0_led 31 = .ok (.aload_n 0, 1) := dk_42 (dk_at dksX0_led_1 9 rfl rfl)
theorem dX0_led_32 : decode cX0_led 32 = .ok (.iload_n 1, 1) := dk_27 (dk_at dksX0_led_1 10 rfl rfl)
theorem dX0_led_33 : decode cX0_led 33 = .ok (.iload_n 2, 1) := dk_28 (dk_at dksX0_led_1 11 rfl rfl)
theorem dX0_led_34 : decode cX0_led 34 = .ok (.iload_n 3, 1) := dk_29 (dk_at dksX0_led_1 12 rfl rfl)
theorem dX0_led_35 : decode cX0_led 35 = .ok (.iconst 1, 1) := dk_4 (dk_at dksX0_led_1 13 rfl rfl)
theorem dX0_led_36 : decode cX0_led 36 = .ok (.iadd, 1) := dk_96 (dk_at dksX0_led_1 14 rfl rfl)
theorem dX0_led_37 : decode cX0_led 37 = .ok (.invokevirtual 227, 3) := dk_182 0 227 (dk_at dksX0_led_1 15 rfl rfl)
theorem dX0_led_40 : decode cX0_led 40 = .ok (.iconst (-1), 1) := dk_2 (dk_at dksX0_led_1 18 rfl rfl)
theorem dX0_led_41 : decode cX0_led 41 = .ok (.if_icmp .ne 7, 3) := dk_160 0 7 (dk_at dksX0_led_1 19 rfl rfl)
theorem dX0_led_44 : decode cX0_led 44 = .ok (.iconst (-1), 1) := dk_2 (dk_at dksX0_led_1 22 rfl rfl)
theorem dX0_led_45 : decode cX0_led 45 = .ok (.goto 22, 3) := dk_167 0 22 (dk_at dksX0_led_2 0 rfl rfl)
theorem dX0_led_48 : decode cX0_led 48 = .ok (.aload_n 0, 1) := dk_42 (dk_at dksX0_led_2 3 rfl rfl)
theorem dX0_led_49 : decode cX0_led 49 = .ok (.iload_n 1, 1) := dk_27 (dk_at dksX0_led_2 4 rfl rfl)
theorem dX0_led_50 : decode cX0_led 50 = .ok (.iload_n 2, 1) := dk_28 (dk_at dksX0_led_2 5 rfl rfl)
theorem dX0_led_51 : decode cX0_led 51 = .ok (.iload_n 3, 1) := dk_29 (dk_at dksX0_led_2 6 rfl rfl)
theorem dX0_led_52 : decode cX0_led 52 = .ok (.invokevirtual 227, 3) := dk_182 0 227 (dk_at dksX0_led_2 7 rfl rfl)
theorem dX0_led_55 : decode cX0_led 55 = .ok (.aload_n 0, 1) := dk_42 (dk_at dksX0_led_2 10 rfl rfl)
theorem dX0_led_56 : decode cX0_led 56 = .ok (.iload_n 1, 1) := dk_27 (dk_at dksX0_led_2 11 rfl rfl)
theorem dX0_led_57 : decode cX0_led 57 = .ok (.iload_n 2, 1) := dk_28 (dk_at dksX0_led_2 12 rfl rfl)
theorem dX0_led_58 : decode cX0_led 58 = .ok (.iload_n 3, 1) := dk_29 (dk_at dksX0_led_2 13 rfl rfl)
theorem dX0_led_59 : decode cX0_led 59 = .ok (.iconst 1, 1) := dk_4 (dk_at dksX0_led_2 14 rfl rfl)
theorem dX0_led_60 : decode cX0_led 60 = .ok (.iadd, 1) := dk_96 (dk_at dksX0_led_2 15 rfl rfl)
theorem dX0_led_61 : decode cX0_led 61 = .ok (.invokevirtual 227, 3) := dk_182 0 227 (dk_at dksX0_led_2 16 rfl rfl)
theorem dX0_led_64 : decode cX0_led 64 = .ok (.invokestatic 230, 3) := dk_184 0 230 (dk_at dksX0_led_2 19 rfl rfl)
theorem dX0_led_67 : decode cX0_led 67 = .ok (.ireturn, 1) := dk_172 (dk_at dksX0_led_2 22 rfl rfl)
abbrev cX0_nameOf : ByteArray := prog_1_method_29_code
def yX0_nameOf : MethodName := ⟨RX0, "nameOf", "(II)I"⟩
def dkwX0_nameOf_0 : List UInt8 := [26, 27, 130, 184, 0, 223, 172]
abbrev dktX0_nameOf_0 : List UInt8 := dkwX0_nameOf_0 ++ []
theorem dksX0_nameOf_0 : cX0_nameOf.data.toList.drop 0 = dktX0_nameOf_0 := by decide +kernel
theorem dX0_nameOf_0 : decode cX0_nameOf 0 = .ok (.iload_n 0, 1) := dk_26 (dk_at dksX0_nameOf_0 0 rfl rfl)
theorem dX0_nameOf_1 : decode cX0_nameOf 1 = .ok (.iload_n 1, 1) := dk_27 (dk_at dksX0_nameOf_0 1 rfl rfl)
theorem dX0_nameOf_2 : decode cX0_nameOf 2 = .ok (.ixor, 1) := dk_130 (dk_at dksX0_nameOf_0 2 rfl rfl)
theorem dX0_nameOf_3 : decode cX0_nameOf 3 = .ok (.invokestatic 223, 3) := dk_184 0 223 (dk_at dksX0_nameOf_0 3 rfl rfl)
theorem dX0_nameOf_6 : decode cX0_nameOf 6 = .ok (.ireturn, 1) := dk_172 (dk_at dksX0_nameOf_0 6 rfl rfl)
abbrev cX0_farthest : ByteArray := prog_1_method_31_code
def yX0_farthest : MethodName := ⟨RX0, "farthest", "(II)I"⟩
def dkwX0_farthest_5 : List UInt8 := [180, 0, 210, 29, 46, 172]
abbrev dktX0_farthest_5 : List UInt8 := dkwX0_farthest_5 ++ []
def dkwX0_farthest_4 : List UInt8 := [162, 0, 6, 21, 4, 62, 132, 4, 1, 167, 255, 188, 28, 154, 0, 7, 29, 167, 0, 12, 42, 180, 0, 29]
abbrev dktX0_farthest_4 : List UInt8 := dkwX0_farthest_4 ++ dktX0_farthest_5
def dkwX0_farthest_3 : List UInt8 := [180, 0, 29, 180, 0, 210, 21, 4, 46, 42, 180, 0, 29, 180, 0, 210, 29, 46, 160, 0, 12, 21, 4, 29]
abbrev dktX0_farthest_3 : List UInt8 := dkwX0_farthest_3 ++ dktX0_farthest_4
def dkwX0_farthest_2 : List UInt8 := [180, 0, 29, 180, 0, 210, 21, 4, 46, 42, 180, 0, 29, 180, 0, 210, 29, 46, 163, 0, 31, 42]
abbrev dktX0_farthest_2 : List UInt8 := dkwX0_farthest_2 ++ dktX0_farthest_3
def dkwX0_farthest_1 : List UInt8 := [27, 182, 0, 207, 27, 62, 3, 54, 4, 21, 4, 42, 180, 0, 10, 182, 0, 161, 162, 0, 62, 42]
abbrev dktX0_farthest_1 : List UInt8 := dkwX0_farthest_1 ++ dktX0_farthest_2
def dkwX0_farthest_0 : List UInt8 := [42, 27, 133, 182, 0, 167, 153, 0, 11, 28, 5, 184, 0, 185, 154, 0, 6, 16, 254, 172, 42, 180, 0, 29]
abbrev dktX0_farthest_0 : List UInt8 := dkwX0_farthest_0 ++ dktX0_farthest_1
theorem dksX0_farthest_0 : cX0_farthest.data.toList.drop 0 = dktX0_farthest_0 := by decide +kernel
theorem dksX0_farthest_1 : cX0_farthest.data.toList.drop 24 = dktX0_farthest_1 := dk_seg dksX0_farthest_0 24 rfl rfl
theorem dksX0_farthest_2 : cX0_farthest.data.toList.drop 46 = dktX0_farthest_2 := dk_seg dksX0_farthest_1 22 rfl rfl
theorem dksX0_farthest_3 : cX0_farthest.data.toList.drop 68 = dktX0_farthest_3 := dk_seg dksX0_farthest_2 22 rfl rfl
theorem dksX0_farthest_4 : cX0_farthest.data.toList.drop 92 = dktX0_farthest_4 := dk_seg dksX0_farthest_3 24 rfl rfl
theorem dksX0_farthest_5 : cX0_farthest.data.toList.drop 116 = dktX0_farthest_5 := dk_seg dksX0_farthest_4 24 rfl rfl
theorem dX0_farthest_0 : decode cX0_farthest 0 = .ok (.aload_n 0, 1) := dk_42 (dk_at dksX0_farthest_0 0 rfl rfl)
theorem dX0_farthest_1 : decode cX0_farthest 1 = .ok (.iload_n 1, 1) := dk_27 (dk_at dksX0_farthest_0 1 rfl rfl)
theorem dX0_farthest_2 : decode cX0_farthest 2 = .ok (.i2l, 1) := dk_133 (dk_at dksX0_farthest_0 2 rfl rfl)
theorem dX0_farthest_3 : decode cX0_farthest 3 = .ok (.invokevirtual 167, 3) := dk_182 0 167 (dk_at dksX0_farthest_0 3 rfl rfl)
theorem dX0_farthest_6 : decode cX0_farthest 6 = .ok (.ifCond .eq 11, 3) := dk_153 0 11 (dk_at dksX0_farthest_0 6 rfl rfl)
theorem dX0_farthest_9 : decode cX0_farthest 9 = .ok (.iload_n 2, 1) := dk_28 (dk_at dksX0_farthest_0 9 rfl rfl)
theorem dX0_farthest_10 : decode cX0_farthest 10 = .ok (.iconst 2, 1) := dk_5 (dk_at dksX0_farthest_0 10 rfl rfl)
theorem dX0_farthest_11 : decode cX0_farthest 11 = .ok (.invokestatic 185, 3) := dk_184 0 185 (dk_at dksX0_farthest_0 11 rfl rfl)
theorem dX0_farthest_14 : decode cX0_farthest 14 = .ok (.ifCond .ne 6, 3) := dk_154 0 6 (dk_at dksX0_farthest_0 14 rfl rfl)
theorem dX0_farthest_17 : decode cX0_farthest 17 = .ok (.bipush (-2), 2) := dk_16 254 (dk_at dksX0_farthest_0 17 rfl rfl)
theorem dX0_farthest_19 : decode cX0_farthest 19 = .ok (.ireturn, 1) := dk_172 (dk_at dksX0_farthest_0 19 rfl rfl)
theorem dX0_farthest_20 : decode cX0_farthest 20 = .ok (.aload_n 0, 1) := dk_42 (dk_at dksX0_farthest_0 20 rfl rfl)
theorem dX0_farthest_21 : decode cX0_farthest 21 = .ok (.getfield 29, 3) := dk_180 0 29 (dk_at dksX0_farthest_0 21 rfl rfl)
theorem dX0_farthest_24 : decode cX0_farthest 24 = .ok (.iload_n 1, 1) := dk_27 (dk_at dksX0_farthest_1 0 rfl rfl)
theorem dX0_farthest_25 : decode cX0_farthest 25 = .ok (.invokevirtual 207, 3) := dk_182 0 207 (dk_at dksX0_farthest_1 1 rfl rfl)
theorem dX0_farthest_28 : decode cX0_farthest 28 = .ok (.iload_n 1, 1) := dk_27 (dk_at dksX0_farthest_1 4 rfl rfl)
theorem dX0_farthest_29 : decode cX0_farthest 29 = .ok (.istore_n 3, 1) := dk_62 (dk_at dksX0_farthest_1 5 rfl rfl)
theorem dX0_farthest_30 : decode cX0_farthest 30 = .ok (.iconst 0, 1) := dk_3 (dk_at dksX0_farthest_1 6 rfl rfl)
theorem dX0_farthest_31 : decode cX0_farthest 31 = .ok (.istore 4, 2) := dk_54 4 (dk_at dksX0_farthest_1 7 rfl rfl)
theorem dX0_farthest_33 : decode cX0_farthest 33 = .ok (.iload 4, 2) := dk_21 4 (dk_at dksX0_farthest_1 9 rfl rfl)
theorem dX0_farthest_35 : decode cX0_farthest 35 = .ok (.aload_n 0, 1) := dk_42 (dk_at dksX0_farthest_1 11 rfl rfl)
theorem dX0_farthest_36 : decode cX0_farthest 36 = .ok (.getfield 10, 3) := dk_180 0 10 (dk_at dksX0_farthest_1 12 rfl rfl)
theorem dX0_farthest_39 : decode cX0_farthest 39 = .ok (.invokevirtual 161, 3) := dk_182 0 161 (dk_at dksX0_farthest_1 15 rfl rfl)
theorem dX0_farthest_42 : decode cX0_farthest 42 = .ok (.if_icmp .ge 62, 3) := dk_162 0 62 (dk_at dksX0_farthest_1 18 rfl rfl)
theorem dX0_farthest_45 : decode cX0_farthest 45 = .ok (.aload_n 0, 1) := dk_42 (dk_at dksX0_farthest_1 21 rfl rfl)
theorem dX0_farthest_46 : decode cX0_farthest 46 = .ok (.getfield 29, 3) := dk_180 0 29 (dk_at dksX0_farthest_2 0 rfl rfl)
theorem dX0_farthest_49 : decode cX0_farthest 49 = .ok (.getfield 210, 3) := dk_180 0 210 (dk_at dksX0_farthest_2 3 rfl rfl)
theorem dX0_farthest_52 : decode cX0_farthest 52 = .ok (.iload 4, 2) := dk_21 4 (dk_at dksX0_farthest_2 6 rfl rfl)
theorem dX0_farthest_54 : decode cX0_farthest 54 = .ok (.iaload, 1) := dk_46 (dk_at dksX0_farthest_2 8 rfl rfl)
theorem dX0_farthest_55 : decode cX0_farthest 55 = .ok (.aload_n 0, 1) := dk_42 (dk_at dksX0_farthest_2 9 rfl rfl)
theorem dX0_farthest_56 : decode cX0_farthest 56 = .ok (.getfield 29, 3) := dk_180 0 29 (dk_at dksX0_farthest_2 10 rfl rfl)
theorem dX0_farthest_59 : decode cX0_farthest 59 = .ok (.getfield 210, 3) := dk_180 0 210 (dk_at dksX0_farthest_2 13 rfl rfl)
theorem dX0_farthest_62 : decode cX0_farthest 62 = .ok (.iload_n 3, 1) := dk_29 (dk_at dksX0_farthest_2 16 rfl rfl)
theorem dX0_farthest_63 : decode cX0_farthest 63 = .ok (.iaload, 1) := dk_46 (dk_at dksX0_farthest_2 17 rfl rfl)
theorem dX0_farthest_64 : decode cX0_farthest 64 = .ok (.if_icmp .gt 31, 3) := dk_163 0 31 (dk_at dksX0_farthest_2 18 rfl rfl)
theorem dX0_farthest_67 : decode cX0_farthest 67 = .ok (.aload_n 0, 1) := dk_42 (dk_at dksX0_farthest_2 21 rfl rfl)
theorem dX0_farthest_68 : decode cX0_farthest 68 = .ok (.getfield 29, 3) := dk_180 0 29 (dk_at dksX0_farthest_3 0 rfl rfl)
theorem dX0_farthest_71 : decode cX0_farthest 71 = .ok (.getfield 210, 3) := dk_180 0 210 (dk_at dksX0_farthest_3 3 rfl rfl)
theorem dX0_farthest_74 : decode cX0_farthest 74 = .ok (.iload 4, 2) := dk_21 4 (dk_at dksX0_farthest_3 6 rfl rfl)
theorem dX0_farthest_76 : decode cX0_farthest 76 = .ok (.iaload, 1) := dk_46 (dk_at dksX0_farthest_3 8 rfl rfl)
theorem dX0_farthest_77 : decode cX0_farthest 77 = .ok (.aload_n 0, 1) := dk_42 (dk_at dksX0_farthest_3 9 rfl rfl)
theorem dX0_farthest_78 : decode cX0_farthest 78 = .ok (.getfield 29, 3) := dk_180 0 29 (dk_at dksX0_farthest_3 10 rfl rfl)
theorem dX0_farthest_81 : decode cX0_farthest 81 = .ok (.getfield 210, 3) := dk_180 0 210 (dk_at dksX0_farthest_3 13 rfl rfl)
theorem dX0_farthest_84 : decode cX0_farthest 84 = .ok (.iload_n 3, 1) := dk_29 (dk_at dksX0_farthest_3 16 rfl rfl)
theorem dX0_farthest_85 : decode cX0_farthest 85 = .ok (.iaload, 1) := dk_46 (dk_at dksX0_farthest_3 17 rfl rfl)
theorem dX0_farthest_86 : decode cX0_farthest 86 = .ok (.if_icmp .ne 12, 3) := dk_160 0 12 (dk_at dksX0_farthest_3 18 rfl rfl)
theorem dX0_farthest_89 : decode cX0_farthest 89 = .ok (.iload 4, 2) := dk_21 4 (dk_at dksX0_farthest_3 21 rfl rfl)
theorem dX0_farthest_91 : decode cX0_farthest 91 = .ok (.iload_n 3, 1) := dk_29 (dk_at dksX0_farthest_3 23 rfl rfl)
theorem dX0_farthest_92 : decode cX0_farthest 92 = .ok (.if_icmp .ge 6, 3) := dk_162 0 6 (dk_at dksX0_farthest_4 0 rfl rfl)
theorem dX0_farthest_95 : decode cX0_farthest 95 = .ok (.iload 4, 2) := dk_21 4 (dk_at dksX0_farthest_4 3 rfl rfl)
theorem dX0_farthest_97 : decode cX0_farthest 97 = .ok (.istore_n 3, 1) := dk_62 (dk_at dksX0_farthest_4 5 rfl rfl)
theorem dX0_farthest_98 : decode cX0_farthest 98 = .ok (.iinc 4 1, 3) := dk_132 4 1 (dk_at dksX0_farthest_4 6 rfl rfl)
theorem dX0_farthest_101 : decode cX0_farthest 101 = .ok (.goto (-68), 3) := dk_167 255 188 (dk_at dksX0_farthest_4 9 rfl rfl)
theorem dX0_farthest_104 : decode cX0_farthest 104 = .ok (.iload_n 2, 1) := dk_28 (dk_at dksX0_farthest_4 12 rfl rfl)
theorem dX0_farthest_105 : decode cX0_farthest 105 = .ok (.ifCond .ne 7, 3) := dk_154 0 7 (dk_at dksX0_farthest_4 13 rfl rfl)
theorem dX0_farthest_108 : decode cX0_farthest 108 = .ok (.iload_n 3, 1) := dk_29 (dk_at dksX0_farthest_4 16 rfl rfl)
theorem dX0_farthest_109 : decode cX0_farthest 109 = .ok (.goto 12, 3) := dk_167 0 12 (dk_at dksX0_farthest_4 17 rfl rfl)
theorem dX0_farthest_112 : decode cX0_farthest 112 = .ok (.aload_n 0, 1) := dk_42 (dk_at dksX0_farthest_4 20 rfl rfl)
theorem dX0_farthest_113 : decode cX0_farthest 113 = .ok (.getfield 29, 3) := dk_180 0 29 (dk_at dksX0_farthest_4 21 rfl rfl)
theorem dX0_farthest_116 : decode cX0_farthest 116 = .ok (.getfield 210, 3) := dk_180 0 210 (dk_at dksX0_farthest_5 0 rfl rfl)
theorem dX0_farthest_119 : decode cX0_farthest 119 = .ok (.iload_n 3, 1) := dk_29 (dk_at dksX0_farthest_5 3 rfl rfl)
theorem dX0_farthest_120 : decode cX0_farthest 120 = .ok (.iaload, 1) := dk_46 (dk_at dksX0_farthest_5 4 rfl rfl)
theorem dX0_farthest_121 : decode cX0_farthest 121 = .ok (.ireturn, 1) := dk_172 (dk_at dksX0_farthest_5 5 rfl rfl)
abbrev cX0_width : ByteArray := prog_1_method_32_code
def yX0_width : MethodName := ⟨RX0, "width", "()I"⟩
def dkwX0_width_1 : List UInt8 := [162, 0, 20, 27, 42, 28, 4, 182, 0, 237, 184, 0, 240, 60, 132, 2, 1, 167, 255, 231, 27, 172]
abbrev dktX0_width_1 : List UInt8 := dkwX0_width_1 ++ []
def dkwX0_width_0 : List UInt8 := [42, 182, 0, 233, 154, 0, 6, 16, 254, 172, 3, 60, 3, 61, 28, 42, 180, 0, 10, 182, 0, 161]
abbrev dktX0_width_0 : List UInt8 := dkwX0_width_0 ++ dktX0_width_1
theorem dksX0_width_0 : cX0_width.data.toList.drop 0 = dktX0_width_0 := by decide +kernel
theorem dksX0_width_1 : cX0_width.data.toList.drop 22 = dktX0_width_1 := dk_seg dksX0_width_0 22 rfl rfl
theorem dX0_width_0 : decode cX0_width 0 = .ok (.aload_n 0, 1) := dk_42 (dk_at dksX0_width_0 0 rfl rfl)
theorem dX0_width_1 : decode cX0_width 1 = .ok (.invokevirtual 233, 3) := dk_182 0 233 (dk_at dksX0_width_0 1 rfl rfl)
theorem dX0_width_4 : decode cX0_width 4 = .ok (.ifCond .ne 6, 3) := dk_154 0 6 (dk_at dksX0_width_0 4 rfl rfl)
theorem dX0_width_7 : decode cX0_width 7 = .ok (.bipush (-2), 2) := dk_16 254 (dk_at dksX0_width_0 7 rfl rfl)
theorem dX0_width_9 : decode cX0_width 9 = .ok (.ireturn, 1) := dk_172 (dk_at dksX0_width_0 9 rfl rfl)
theorem dX0_width_10 : decode cX0_width 10 = .ok (.iconst 0, 1) := dk_3 (dk_at dksX0_width_0 10 rfl rfl)
theorem dX0_width_11 : decode cX0_width 11 = .ok (.istore_n 1, 1) := dk_60 (dk_at dksX0_width_0 11 rfl rfl)
theorem dX0_width_12 : decode cX0_width 12 = .ok (.iconst 0, 1) := dk_3 (dk_at dksX0_width_0 12 rfl rfl)
theorem dX0_width_13 : decode cX0_width 13 = .ok (.istore_n 2, 1) := dk_61 (dk_at dksX0_width_0 13 rfl rfl)
theorem dX0_width_14 : decode cX0_width 14 = .ok (.iload_n 2, 1) := dk_28 (dk_at dksX0_width_0 14 rfl rfl)
theorem dX0_width_15 : decode cX0_width 15 = .ok (.aload_n 0, 1) := dk_42 (dk_at dksX0_width_0 15 rfl rfl)
theorem dX0_width_16 : decode cX0_width 16 = .ok (.getfield 10, 3) := dk_180 0 10 (dk_at dksX0_width_0 16 rfl rfl)
theorem dX0_width_19 : decode cX0_width 19 = .ok (.invokevirtual 161, 3) := dk_182 0 161 (dk_at dksX0_width_0 19 rfl rfl)
theorem dX0_width_22 : decode cX0_width 22 = .ok (.if_icmp .ge 20, 3) := dk_162 0 20 (dk_at dksX0_width_1 0 rfl rfl)
theorem dX0_width_25 : decode cX0_width 25 = .ok (.iload_n 1, 1) := dk_27 (dk_at dksX0_width_1 3 rfl rfl)
theorem dX0_width_26 : decode cX0_width 26 = .ok (.aload_n 0, 1) := dk_42 (dk_at dksX0_width_1 4 rfl rfl)
theorem dX0_width_27 : decode cX0_width 27 = .ok (.iload_n 2, 1) := dk_28 (dk_at dksX0_width_1 5 rfl rfl)
theorem dX0_width_28 : decode cX0_width 28 = .ok (.iconst 1, 1) := dk_4 (dk_at dksX0_width_1 6 rfl rfl)
theorem dX0_width_29 : decode cX0_width 29 = .ok (.invokevirtual 237, 3) := dk_182 0 237 (dk_at dksX0_width_1 7 rfl rfl)
theorem dX0_width_32 : decode cX0_width 32 = .ok (.invokestatic 240, 3) := dk_184 0 240 (dk_at dksX0_width_1 10 rfl rfl)
theorem dX0_width_35 : decode cX0_width 35 = .ok (.istore_n 1, 1) := dk_60 (dk_at dksX0_width_1 13 rfl rfl)
theorem dX0_width_36 : decode cX0_width 36 = .ok (.iinc 2 1, 3) := dk_132 2 1 (dk_at dksX0_width_1 14 rfl rfl)
theorem dX0_width_39 : decode cX0_width 39 = .ok (.goto (-25), 3) := dk_167 255 231 (dk_at dksX0_width_1 17 rfl rfl)
theorem dX0_width_42 : decode cX0_width 42 = .ok (.iload_n 1, 1) := dk_27 (dk_at dksX0_width_1 20 rfl rfl)
theorem dX0_width_43 : decode cX0_width 43 = .ok (.ireturn, 1) := dk_172 (dk_at dksX0_width_1 21 rfl rfl)
abbrev cX0_isTown : ByteArray := prog_1_method_9_code
def yX0_isTown : MethodName := ⟨RX0, "isTown", "()Z"⟩
def dkwX0_isTown_0 : List UInt8 := [42, 180, 0, 10, 180, 0, 158, 158, 0, 7, 4, 167, 0, 4, 3, 172]
abbrev dktX0_isTown_0 : List UInt8 := dkwX0_isTown_0 ++ []
theorem dksX0_isTown_0 : cX0_isTown.data.toList.drop 0 = dktX0_isTown_0 := by decide +kernel
theorem dX0_isTown_0 : decode cX0_isTown 0 = .ok (.aload_n 0, 1) := dk_42 (dk_at dksX0_isTown_0 0 rfl rfl)
theorem dX0_isTown_1 : decode cX0_isTown 1 = .ok (.getfield 10, 3) := dk_180 0 10 (dk_at dksX0_isTown_0 1 rfl rfl)
theorem dX0_isTown_4 : decode cX0_isTown 4 = .ok (.getfield 158, 3) := dk_180 0 158 (dk_at dksX0_isTown_0 4 rfl rfl)
theorem dX0_isTown_7 : decode cX0_isTown 7 = .ok (.ifCond .le 7, 3) := dk_158 0 7 (dk_at dksX0_isTown_0 7 rfl rfl)
theorem dX0_isTown_10 : decode cX0_isTown 10 = .ok (.iconst 1, 1) := dk_4 (dk_at dksX0_isTown_0 10 rfl rfl)
theorem dX0_isTown_11 : decode cX0_isTown 11 = .ok (.goto 4, 3) := dk_167 0 4 (dk_at dksX0_isTown_0 11 rfl rfl)
theorem dX0_isTown_14 : decode cX0_isTown 14 = .ok (.iconst 0, 1) := dk_3 (dk_at dksX0_isTown_0 14 rfl rfl)
theorem dX0_isTown_15 : decode cX0_isTown 15 = .ok (.ireturn, 1) := dk_172 (dk_at dksX0_isTown_0 15 rfl rfl)
abbrev cX0_within : ByteArray := prog_1_method_33_code
def yX0_within : MethodName := ⟨RX0, "within", "(II)I"⟩
def dkwX0_within_3 : List UInt8 := [132, 4, 1, 167, 255, 213, 29, 172]
abbrev dktX0_within_3 : List UInt8 := dkwX0_within_3 ++ []
def dkwX0_within_2 : List UInt8 := [180, 0, 210, 21, 4, 46, 133, 9, 28, 133, 184, 0, 133, 153, 0, 7, 4, 167, 0, 4, 3, 96, 62]
abbrev dktX0_within_2 : List UInt8 := dkwX0_within_2 ++ dktX0_within_3
def dkwX0_within_1 : List UInt8 := [3, 62, 3, 54, 4, 21, 4, 42, 180, 0, 10, 182, 0, 161, 162, 0, 37, 29, 42, 180, 0, 29]
abbrev dktX0_within_1 : List UInt8 := dkwX0_within_1 ++ dktX0_within_2
def dkwX0_within_0 : List UInt8 := [42, 27, 133, 182, 0, 167, 153, 0, 7, 28, 156, 0, 6, 16, 254, 172, 42, 180, 0, 29, 27, 182, 0, 207]
abbrev dktX0_within_0 : List UInt8 := dkwX0_within_0 ++ dktX0_within_1
theorem dksX0_within_0 : cX0_within.data.toList.drop 0 = dktX0_within_0 := by decide +kernel
theorem dksX0_within_1 : cX0_within.data.toList.drop 24 = dktX0_within_1 := dk_seg dksX0_within_0 24 rfl rfl
theorem dksX0_within_2 : cX0_within.data.toList.drop 46 = dktX0_within_2 := dk_seg dksX0_within_1 22 rfl rfl
theorem dksX0_within_3 : cX0_within.data.toList.drop 69 = dktX0_within_3 := dk_seg dksX0_within_2 23 rfl rfl
theorem dX0_within_0 : decode cX0_within 0 = .ok (.aload_n 0, 1) := dk_42 (dk_at dksX0_within_0 0 rfl rfl)
theorem dX0_within_1 : decode cX0_within 1 = .ok (.iload_n 1, 1) := dk_27 (dk_at dksX0_within_0 1 rfl rfl)
theorem dX0_within_2 : decode cX0_within 2 = .ok (.i2l, 1) := dk_133 (dk_at dksX0_within_0 2 rfl rfl)
theorem dX0_within_3 : decode cX0_within 3 = .ok (.invokevirtual 167, 3) := dk_182 0 167 (dk_at dksX0_within_0 3 rfl rfl)
theorem dX0_within_6 : decode cX0_within 6 = .ok (.ifCond .eq 7, 3) := dk_153 0 7 (dk_at dksX0_within_0 6 rfl rfl)
theorem dX0_within_9 : decode cX0_within 9 = .ok (.iload_n 2, 1) := dk_28 (dk_at dksX0_within_0 9 rfl rfl)
theorem dX0_within_10 : decode cX0_within 10 = .ok (.ifCond .ge 6, 3) := dk_156 0 6 (dk_at dksX0_within_0 10 rfl rfl)
theorem dX0_within_13 : decode cX0_within 13 = .ok (.bipush (-2), 2) := dk_16 254 (dk_at dksX0_within_0 13 rfl rfl)
theorem dX0_within_15 : decode cX0_within 15 = .ok (.ireturn, 1) := dk_172 (dk_at dksX0_within_0 15 rfl rfl)
theorem dX0_within_16 : decode cX0_within 16 = .ok (.aload_n 0, 1) := dk_42 (dk_at dksX0_within_0 16 rfl rfl)
theorem dX0_within_17 : decode cX0_within 17 = .ok (.getfield 29, 3) := dk_180 0 29 (dk_at dksX0_within_0 17 rfl rfl)
theorem dX0_within_20 : decode cX0_within 20 = .ok (.iload_n 1, 1) := dk_27 (dk_at dksX0_within_0 20 rfl rfl)
theorem dX0_within_21 : decode cX0_within 21 = .ok (.invokevirtual 207, 3) := dk_182 0 207 (dk_at dksX0_within_0 21 rfl rfl)
theorem dX0_within_24 : decode cX0_within 24 = .ok (.iconst 0, 1) := dk_3 (dk_at dksX0_within_1 0 rfl rfl)
theorem dX0_within_25 : decode cX0_within 25 = .ok (.istore_n 3, 1) := dk_62 (dk_at dksX0_within_1 1 rfl rfl)
theorem dX0_within_26 : decode cX0_within 26 = .ok (.iconst 0, 1) := dk_3 (dk_at dksX0_within_1 2 rfl rfl)
theorem dX0_within_27 : decode cX0_within 27 = .ok (.istore 4, 2) := dk_54 4 (dk_at dksX0_within_1 3 rfl rfl)
theorem dX0_within_29 : decode cX0_within 29 = .ok (.iload 4, 2) := dk_21 4 (dk_at dksX0_within_1 5 rfl rfl)
theorem dX0_within_31 : decode cX0_within 31 = .ok (.aload_n 0, 1) := dk_42 (dk_at dksX0_within_1 7 rfl rfl)
theorem dX0_within_32 : decode cX0_within 32 = .ok (.getfield 10, 3) := dk_180 0 10 (dk_at dksX0_within_1 8 rfl rfl)
theorem dX0_within_35 : decode cX0_within 35 = .ok (.invokevirtual 161, 3) := dk_182 0 161 (dk_at dksX0_within_1 11 rfl rfl)
theorem dX0_within_38 : decode cX0_within 38 = .ok (.if_icmp .ge 37, 3) := dk_162 0 37 (dk_at dksX0_within_1 14 rfl rfl)
theorem dX0_within_41 : decode cX0_within 41 = .ok (.iload_n 3, 1) := dk_29 (dk_at dksX0_within_1 17 rfl rfl)
theorem dX0_within_42 : decode cX0_within 42 = .ok (.aload_n 0, 1) := dk_42 (dk_at dksX0_within_1 18 rfl rfl)
theorem dX0_within_43 : decode cX0_within 43 = .ok (.getfield 29, 3) := dk_180 0 29 (dk_at dksX0_within_1 19 rfl rfl)
theorem dX0_within_46 : decode cX0_within 46 = .ok (.getfield 210, 3) := dk_180 0 210 (dk_at dksX0_within_2 0 rfl rfl)
theorem dX0_within_49 : decode cX0_within 49 = .ok (.iload 4, 2) := dk_21 4 (dk_at dksX0_within_2 3 rfl rfl)
theorem dX0_within_51 : decode cX0_within 51 = .ok (.iaload, 1) := dk_46 (dk_at dksX0_within_2 5 rfl rfl)
theorem dX0_within_52 : decode cX0_within 52 = .ok (.i2l, 1) := dk_133 (dk_at dksX0_within_2 6 rfl rfl)
theorem dX0_within_53 : decode cX0_within 53 = .ok (.lconst 0, 1) := dk_9 (dk_at dksX0_within_2 7 rfl rfl)
theorem dX0_within_54 : decode cX0_within 54 = .ok (.iload_n 2, 1) := dk_28 (dk_at dksX0_within_2 8 rfl rfl)
theorem dX0_within_55 : decode cX0_within 55 = .ok (.i2l, 1) := dk_133 (dk_at dksX0_within_2 9 rfl rfl)
theorem dX0_within_56 : decode cX0_within 56 = .ok (.invokestatic 133, 3) := dk_184 0 133 (dk_at dksX0_within_2 10 rfl rfl)
theorem dX0_within_59 : decode cX0_within 59 = .ok (.ifCond .eq 7, 3) := dk_153 0 7 (dk_at dksX0_within_2 13 rfl rfl)
theorem dX0_within_62 : decode cX0_within 62 = .ok (.iconst 1, 1) := dk_4 (dk_at dksX0_within_2 16 rfl rfl)
theorem dX0_within_63 : decode cX0_within 63 = .ok (.goto 4, 3) := dk_167 0 4 (dk_at dksX0_within_2 17 rfl rfl)
theorem dX0_within_66 : decode cX0_within 66 = .ok (.iconst 0, 1) := dk_3 (dk_at dksX0_within_2 20 rfl rfl)
theorem dX0_within_67 : decode cX0_within 67 = .ok (.iadd, 1) := dk_96 (dk_at dksX0_within_2 21 rfl rfl)
theorem dX0_within_68 : decode cX0_within 68 = .ok (.istore_n 3, 1) := dk_62 (dk_at dksX0_within_2 22 rfl rfl)
theorem dX0_within_69 : decode cX0_within 69 = .ok (.iinc 4 1, 3) := dk_132 4 1 (dk_at dksX0_within_3 0 rfl rfl)
theorem dX0_within_72 : decode cX0_within 72 = .ok (.goto (-43), 3) := dk_167 255 213 (dk_at dksX0_within_3 3 rfl rfl)
theorem dX0_within_75 : decode cX0_within 75 = .ok (.iload_n 3, 1) := dk_29 (dk_at dksX0_within_3 6 rfl rfl)
theorem dX0_within_76 : decode cX0_within 76 = .ok (.ireturn, 1) := dk_172 (dk_at dksX0_within_3 7 rfl rfl)
abbrev cX0_apartWays : ByteArray := prog_1_method_45_code
def yX0_apartWays : MethodName := ⟨RX0, "apartWays", "(III)I"⟩
def dkwX0_apartWays_1 : List UInt8 := [42, 27, 28, 182, 1, 23, 167, 0, 9, 42, 27, 28, 182, 1, 26, 172]
abbrev dktX0_apartWays_1 : List UInt8 := dkwX0_apartWays_1 ++ []
def dkwX0_apartWays_0 : List UInt8 := [42, 27, 28, 182, 1, 20, 153, 0, 11, 29, 5, 184, 0, 185, 154, 0, 6, 16, 254, 172, 29, 154, 0, 12]
abbrev dktX0_apartWays_0 : List UInt8 := dkwX0_apartWays_0 ++ dktX0_apartWays_1
theorem dksX0_apartWays_0 : cX0_apartWays.data.toList.drop 0 = dktX0_apartWays_0 := by decide +kernel
theorem dksX0_apartWays_1 : cX0_apartWays.data.toList.drop 24 = dktX0_apartWays_1 := dk_seg dksX0_apartWays_0 24 rfl rfl
theorem dX0_apartWays_0 : decode cX0_apartWays 0 = .ok (.aload_n 0, 1) := dk_42 (dk_at dksX0_apartWays_0 0 rfl rfl)
theorem dX0_apartWays_1 : decode cX0_apartWays 1 = .ok (.iload_n 1, 1) := dk_27 (dk_at dksX0_apartWays_0 1 rfl rfl)
theorem dX0_apartWays_2 : decode cX0_apartWays 2 = .ok (.iload_n 2, 1) := dk_28 (dk_at dksX0_apartWays_0 2 rfl rfl)
theorem dX0_apartWays_3 : decode cX0_apartWays 3 = .ok (.invokevirtual 276, 3) := dk_182 1 20 (dk_at dksX0_apartWays_0 3 rfl rfl)
theorem dX0_apartWays_6 : decode cX0_apartWays 6 = .ok (.ifCond .eq 11, 3) := dk_153 0 11 (dk_at dksX0_apartWays_0 6 rfl rfl)
theorem dX0_apartWays_9 : decode cX0_apartWays 9 = .ok (.iload_n 3, 1) := dk_29 (dk_at dksX0_apartWays_0 9 rfl rfl)
theorem dX0_apartWays_10 : decode cX0_apartWays 10 = .ok (.iconst 2, 1) := dk_5 (dk_at dksX0_apartWays_0 10 rfl rfl)
theorem dX0_apartWays_11 : decode cX0_apartWays 11 = .ok (.invokestatic 185, 3) := dk_184 0 185 (dk_at dksX0_apartWays_0 11 rfl rfl)
theorem dX0_apartWays_14 : decode cX0_apartWays 14 = .ok (.ifCond .ne 6, 3) := dk_154 0 6 (dk_at dksX0_apartWays_0 14 rfl rfl)
theorem dX0_apartWays_17 : decode cX0_apartWays 17 = .ok (.bipush (-2), 2) := dk_16 254 (dk_at dksX0_apartWays_0 17 rfl rfl)
theorem dX0_apartWays_19 : decode cX0_apartWays 19 = .ok (.ireturn, 1) := dk_172 (dk_at dksX0_apartWays_0 19 rfl rfl)
theorem dX0_apartWays_20 : decode cX0_apartWays 20 = .ok (.iload_n 3, 1) := dk_29 (dk_at dksX0_apartWays_0 20 rfl rfl)
theorem dX0_apartWays_21 : decode cX0_apartWays 21 = .ok (.ifCond .ne 12, 3) := dk_154 0 12 (dk_at dksX0_apartWays_0 21 rfl rfl)
theorem dX0_apartWays_24 : decode cX0_apartWays 24 = .ok (.aload_n 0, 1) := dk_42 (dk_at dksX0_apartWays_1 0 rfl rfl)
theorem dX0_apartWays_25 : decode cX0_apartWays 25 = .ok (.iload_n 1, 1) := dk_27 (dk_at dksX0_apartWays_1 1 rfl rfl)
theorem dX0_apartWays_26 : decode cX0_apartWays 26 = .ok (.iload_n 2, 1) := dk_28 (dk_at dksX0_apartWays_1 2 rfl rfl)
theorem dX0_apartWays_27 : decode cX0_apartWays 27 = .ok (.invokevirtual 279, 3) := dk_182 1 23 (dk_at dksX0_apartWays_1 3 rfl rfl)
theorem dX0_apartWays_30 : decode cX0_apartWays 30 = .ok (.goto 9, 3) := dk_167 0 9 (dk_at dksX0_apartWays_1 6 rfl rfl)
theorem dX0_apartWays_33 : decode cX0_apartWays 33 = .ok (.aload_n 0, 1) := dk_42 (dk_at dksX0_apartWays_1 9 rfl rfl)
theorem dX0_apartWays_34 : decode cX0_apartWays 34 = .ok (.iload_n 1, 1) := dk_27 (dk_at dksX0_apartWays_1 10 rfl rfl)
theorem dX0_apartWays_35 : decode cX0_apartWays 35 = .ok (.iload_n 2, 1) := dk_28 (dk_at dksX0_apartWays_1 11 rfl rfl)
theorem dX0_apartWays_36 : decode cX0_apartWays 36 = .ok (.invokevirtual 282, 3) := dk_182 1 26 (dk_at dksX0_apartWays_1 12 rfl rfl)
theorem dX0_apartWays_39 : decode cX0_apartWays 39 = .ok (.ireturn, 1) := dk_172 (dk_at dksX0_apartWays_1 15 rfl rfl)
abbrev cX0_areTwo : ByteArray := prog_1_method_14_code
def yX0_areTwo : MethodName := ⟨RX0, "areTwo", "(II)Z"⟩
def dkwX0_areTwo_1 : List UInt8 := [167, 0, 4, 3, 172]
abbrev dktX0_areTwo_1 : List UInt8 := dkwX0_areTwo_1 ++ []
def dkwX0_areTwo_0 : List UInt8 := [42, 27, 133, 182, 0, 167, 153, 0, 21, 42, 28, 133, 182, 0, 167, 153, 0, 12, 27, 28, 159, 0, 7, 4]
abbrev dktX0_areTwo_0 : List UInt8 := dkwX0_areTwo_0 ++ dktX0_areTwo_1
theorem dksX0_areTwo_0 : cX0_areTwo.data.toList.drop 0 = dktX0_areTwo_0 := by decide +kernel
theorem dksX0_areTwo_1 : cX0_areTwo.data.toList.drop 24 = dktX0_areTwo_1 := dk_seg dksX0_areTwo_0 24 rfl rfl
theorem dX0_areTwo_0 : decode cX0_areTwo 0 = .ok (.aload_n 0, 1) := dk_42 (dk_at dksX0_areTwo_0 0 rfl rfl)
theorem dX0_areTwo_1 : decode cX0_areTwo 1 = .ok (.iload_n 1, 1) := dk_27 (dk_at dksX0_areTwo_0 1 rfl rfl)
theorem dX0_areTwo_2 : decode cX0_areTwo 2 = .ok (.i2l, 1) := dk_133 (dk_at dksX0_areTwo_0 2 rfl rfl)
theorem dX0_areTwo_3 : decode cX0_areTwo 3 = .ok (.invokevirtual 167, 3) := dk_182 0 167 (dk_at dksX0_areTwo_0 3 rfl rfl)
theorem dX0_areTwo_6 : decode cX0_areTwo 6 = .ok (.ifCond .eq 21, 3) := dk_153 0 21 (dk_at dksX0_areTwo_0 6 rfl rfl)
theorem dX0_areTwo_9 : decode cX0_areTwo 9 = .ok (.aload_n 0, 1) := dk_42 (dk_at dksX0_areTwo_0 9 rfl rfl)
theorem dX0_areTwo_10 : decode cX0_areTwo 10 = .ok (.iload_n 2, 1) := dk_28 (dk_at dksX0_areTwo_0 10 rfl rfl)
theorem dX0_areTwo_11 : decode cX0_areTwo 11 = .ok (.i2l, 1) := dk_133 (dk_at dksX0_areTwo_0 11 rfl rfl)
theorem dX0_areTwo_12 : decode cX0_areTwo 12 = .ok (.invokevirtual 167, 3) := dk_182 0 167 (dk_at dksX0_areTwo_0 12 rfl rfl)
theorem dX0_areTwo_15 : decode cX0_areTwo 15 = .ok (.ifCond .eq 12, 3) := dk_153 0 12 (dk_at dksX0_areTwo_0 15 rfl rfl)
theorem dX0_areTwo_18 : decode cX0_areTwo 18 = .ok (.iload_n 1, 1) := dk_27 (dk_at dksX0_areTwo_0 18 rfl rfl)
theorem dX0_areTwo_19 : decode cX0_areTwo 19 = .ok (.iload_n 2, 1) := dk_28 (dk_at dksX0_areTwo_0 19 rfl rfl)
theorem dX0_areTwo_20 : decode cX0_areTwo 20 = .ok (.if_icmp .eq 7, 3) := dk_159 0 7 (dk_at dksX0_areTwo_0 20 rfl rfl)
theorem dX0_areTwo_23 : decode cX0_areTwo 23 = .ok (.iconst 1, 1) := dk_4 (dk_at dksX0_areTwo_0 23 rfl rfl)
theorem dX0_areTwo_24 : decode cX0_areTwo 24 = .ok (.goto 4, 3) := dk_167 0 4 (dk_at dksX0_areTwo_1 0 rfl rfl)
theorem dX0_areTwo_27 : decode cX0_areTwo 27 = .ok (.iconst 0, 1) := dk_3 (dk_at dksX0_areTwo_1 3 rfl rfl)
theorem dX0_areTwo_28 : decode cX0_areTwo 28 = .ok (.ireturn, 1) := dk_172 (dk_at dksX0_areTwo_1 4 rfl rfl)
abbrev cX0_waysApart : ByteArray := prog_1_method_40_code
def yX0_waysApart : MethodName := ⟨RX0, "waysApart", "(II)I"⟩
def dkwX0_waysApart_0 : List UInt8 := [42, 182, 0, 255, 3, 62, 42, 27, 28, 182, 1, 2, 153, 0, 9, 132, 3, 1, 167, 255, 244, 29, 172]
abbrev dktX0_waysApart_0 : List UInt8 := dkwX0_waysApart_0 ++ []
theorem dksX0_waysApart_0 : cX0_waysApart.data.toList.drop 0 = dktX0_waysApart_0 := by decide +kernel
theorem dX0_waysApart_0 : decode cX0_waysApart 0 = .ok (.aload_n 0, 1) := dk_42 (dk_at dksX0_waysApart_0 0 rfl rfl)
theorem dX0_waysApart_1 : decode cX0_waysApart 1 = .ok (.invokevirtual 255, 3) := dk_182 0 255 (dk_at dksX0_waysApart_0 1 rfl rfl)
theorem dX0_waysApart_4 : decode cX0_waysApart 4 = .ok (.iconst 0, 1) := dk_3 (dk_at dksX0_waysApart_0 4 rfl rfl)
theorem dX0_waysApart_5 : decode cX0_waysApart 5 = .ok (.istore_n 3, 1) := dk_62 (dk_at dksX0_waysApart_0 5 rfl rfl)
theorem dX0_waysApart_6 : decode cX0_waysApart 6 = .ok (.aload_n 0, 1) := dk_42 (dk_at dksX0_waysApart_0 6 rfl rfl)
theorem dX0_waysApart_7 : decode cX0_waysApart 7 = .ok (.iload_n 1, 1) := dk_27 (dk_at dksX0_waysApart_0 7 rfl rfl)
theorem dX0_waysApart_8 : decode cX0_waysApart 8 = .ok (.iload_n 2, 1) := dk_28 (dk_at dksX0_waysApart_0 8 rfl rfl)
theorem dX0_waysApart_9 : decode cX0_waysApart 9 = .ok (.invokevirtual 258, 3) := dk_182 1 2 (dk_at dksX0_waysApart_0 9 rfl rfl)
theorem dX0_waysApart_12 : decode cX0_waysApart 12 = .ok (.ifCond .eq 9, 3) := dk_153 0 9 (dk_at dksX0_waysApart_0 12 rfl rfl)
theorem dX0_waysApart_15 : decode cX0_waysApart 15 = .ok (.iinc 3 1, 3) := dk_132 3 1 (dk_at dksX0_waysApart_0 15 rfl rfl)
theorem dX0_waysApart_18 : decode cX0_waysApart 18 = .ok (.goto (-12), 3) := dk_167 255 244 (dk_at dksX0_waysApart_0 18 rfl rfl)
theorem dX0_waysApart_21 : decode cX0_waysApart 21 = .ok (.iload_n 3, 1) := dk_29 (dk_at dksX0_waysApart_0 21 rfl rfl)
theorem dX0_waysApart_22 : decode cX0_waysApart 22 = .ok (.ireturn, 1) := dk_172 (dk_at dksX0_waysApart_0 22 rfl rfl)
abbrev cX0_noWays : ByteArray := prog_1_method_39_code
def yX0_noWays : MethodName := ⟨RX0, "noWays", "()V"⟩
def dkwX0_noWays_0 : List UInt8 := [3, 60, 27, 16, 32, 162, 0, 16, 42, 180, 0, 44, 27, 3, 79, 132, 1, 1, 167, 255, 240, 177]
abbrev dktX0_noWays_0 : List UInt8 := dkwX0_noWays_0 ++ []
theorem dksX0_noWays_0 : cX0_noWays.data.toList.drop 0 = dktX0_noWays_0 := by decide +kernel
theorem dX0_noWays_0 : decode cX0_noWays 0 = .ok (.iconst 0, 1) := dk_3 (dk_at dksX0_noWays_0 0 rfl rfl)
theorem dX0_noWays_1 : decode cX0_noWays 1 = .ok (.istore_n 1, 1) := dk_60 (dk_at dksX0_noWays_0 1 rfl rfl)
theorem dX0_noWays_2 : decode cX0_noWays 2 = .ok (.iload_n 1, 1) := dk_27 (dk_at dksX0_noWays_0 2 rfl rfl)
theorem dX0_noWays_3 : decode cX0_noWays 3 = .ok (.bipush 32, 2) := dk_16 32 (dk_at dksX0_noWays_0 3 rfl rfl)
theorem dX0_noWays_5 : decode cX0_noWays 5 = .ok (.if_icmp .ge 16, 3) := dk_162 0 16 (dk_at dksX0_noWays_0 5 rfl rfl)
theorem dX0_noWays_8 : decode cX0_noWays 8 = .ok (.aload_n 0, 1) := dk_42 (dk_at dksX0_noWays_0 8 rfl rfl)
theorem dX0_noWays_9 : decode cX0_noWays 9 = .ok (.getfield 44, 3) := dk_180 0 44 (dk_at dksX0_noWays_0 9 rfl rfl)
theorem dX0_noWays_12 : decode cX0_noWays 12 = .ok (.iload_n 1, 1) := dk_27 (dk_at dksX0_noWays_0 12 rfl rfl)
theorem dX0_noWays_13 : decode cX0_noWays 13 = .ok (.iconst 0, 1) := dk_3 (dk_at dksX0_noWays_0 13 rfl rfl)
theorem dX0_noWays_14 : decode cX0_noWays 14 = .ok (.iastore, 1) := dk_79 (dk_at dksX0_noWays_0 14 rfl rfl)
theorem dX0_noWays_15 : decode cX0_noWays 15 = .ok (.iinc 1 1, 3) := dk_132 1 1 (dk_at dksX0_noWays_0 15 rfl rfl)
theorem dX0_noWays_18 : decode cX0_noWays 18 = .ok (.goto (-16), 3) := dk_167 255 240 (dk_at dksX0_noWays_0 18 rfl rfl)
theorem dX0_noWays_21 : decode cX0_noWays 21 = .ok (.return_, 1) := dk_177 (dk_at dksX0_noWays_0 21 rfl rfl)
abbrev cX0_addsWay : ByteArray := prog_1_method_37_code
def yX0_addsWay : MethodName := ⟨RX0, "addsWay", "(II)Z"⟩
def dkwX0_addsWay_8 : List UInt8 := [182, 0, 251, 42, 180, 0, 47, 21, 5, 46, 54, 5, 167, 255, 218, 4, 172]
abbrev dktX0_addsWay_8 : List UInt8 := dkwX0_addsWay_8 ++ []
def dkwX0_addsWay_7 : List UInt8 := [159, 0, 38, 42, 42, 180, 0, 47, 21, 5, 46, 42, 180, 0, 47, 21, 5, 46, 21, 5, 184, 0, 230]
abbrev dktX0_addsWay_7 : List UInt8 := dkwX0_addsWay_7 ++ dktX0_addsWay_8
def dkwX0_addsWay_6 : List UInt8 := [167, 255, 186, 167, 255, 153, 42, 180, 0, 47, 28, 46, 2, 160, 0, 5, 3, 172, 28, 54, 5, 21, 5, 27]
abbrev dktX0_addsWay_6 : List UInt8 := dkwX0_addsWay_6 ++ dktX0_addsWay_7
def dkwX0_addsWay_5 : List UInt8 := [42, 180, 0, 47, 21, 7, 21, 5, 79, 42, 180, 0, 50, 21, 4, 21, 7, 79, 132, 4, 1, 132, 6, 1]
abbrev dktX0_addsWay_5 : List UInt8 := dkwX0_addsWay_5 ++ dktX0_addsWay_6
def dkwX0_addsWay_4 : List UInt8 := [180, 0, 47, 21, 7, 46, 2, 160, 0, 38, 42, 21, 5, 21, 6, 182, 0, 248, 154, 0, 6, 167, 0, 24]
abbrev dktX0_addsWay_4 : List UInt8 := dkwX0_addsWay_4 ++ dktX0_addsWay_5
def dkwX0_addsWay_3 : List UInt8 := [21, 6, 42, 180, 0, 10, 180, 0, 158, 162, 0, 64, 21, 5, 4, 21, 6, 120, 130, 54, 7, 42]
abbrev dktX0_addsWay_3 : List UInt8 := dkwX0_addsWay_3 ++ dktX0_addsWay_4
def dkwX0_addsWay_2 : List UInt8 := [180, 0, 47, 28, 46, 2, 160, 0, 93, 42, 180, 0, 50, 29, 46, 54, 5, 132, 3, 1, 3, 54, 6]
abbrev dktX0_addsWay_2 : List UInt8 := dkwX0_addsWay_2 ++ dktX0_addsWay_3
def dkwX0_addsWay_1 : List UInt8 := [54, 4, 42, 180, 0, 50, 3, 27, 79, 42, 180, 0, 47, 27, 27, 79, 29, 21, 4, 162, 0, 103, 42]
abbrev dktX0_addsWay_1 : List UInt8 := dkwX0_addsWay_1 ++ dktX0_addsWay_2
def dkwX0_addsWay_0 : List UInt8 := [3, 62, 29, 16, 64, 162, 0, 16, 42, 180, 0, 47, 29, 2, 79, 132, 3, 1, 167, 255, 240, 3, 62, 4]
abbrev dktX0_addsWay_0 : List UInt8 := dkwX0_addsWay_0 ++ dktX0_addsWay_1
theorem dksX0_addsWay_0 : cX0_addsWay.data.toList.drop 0 = dktX0_addsWay_0 := by decide +kernel
theorem dksX0_addsWay_1 : cX0_addsWay.data.toList.drop 24 = dktX0_addsWay_1 := dk_seg dksX0_addsWay_0 24 rfl rfl
theorem dksX0_addsWay_2 : cX0_addsWay.data.toList.drop 47 = dktX0_addsWay_2 := dk_seg dksX0_addsWay_1 23 rfl rfl
theorem dksX0_addsWay_3 : cX0_addsWay.data.toList.drop 70 = dktX0_addsWay_3 := dk_seg dksX0_addsWay_2 23 rfl rfl
theorem dksX0_addsWay_4 : cX0_addsWay.data.toList.drop 92 = dktX0_addsWay_4 := dk_seg dksX0_addsWay_3 22 rfl rfl
theorem dksX0_addsWay_5 : cX0_addsWay.data.toList.drop 116 = dktX0_addsWay_5 := dk_seg dksX0_addsWay_4 24 rfl rfl
theorem dksX0_addsWay_6 : cX0_addsWay.data.toList.drop 140 = dktX0_addsWay_6 := dk_seg dksX0_addsWay_5 24 rfl rfl
theorem dksX0_addsWay_7 : cX0_addsWay.data.toList.drop 164 = dktX0_addsWay_7 := dk_seg dksX0_addsWay_6 24 rfl rfl
theorem dksX0_addsWay_8 : cX0_addsWay.data.toList.drop 187 = dktX0_addsWay_8 := dk_seg dksX0_addsWay_7 23 rfl rfl
theorem dX0_addsWay_0 : decode cX0_addsWay 0 = .ok (.iconst 0, 1) := dk_3 (dk_at dksX0_addsWay_0 0 rfl rfl)
theorem dX0_addsWay_1 : decode cX0_addsWay 1 = .ok (.istore_n 3, 1) := dk_62 (dk_at dksX0_addsWay_0 1 rfl rfl)
theorem dX0_addsWay_2 : decode cX0_addsWay 2 = .ok (.iload_n 3, 1) := dk_29 (dk_at dksX0_addsWay_0 2 rfl rfl)
theorem dX0_addsWay_3 : decode cX0_addsWay 3 = .ok (.bipush 64, 2) := dk_16 64 (dk_at dksX0_addsWay_0 3 rfl rfl)
theorem dX0_addsWay_5 : decode cX0_addsWay 5 = .ok (.if_icmp .ge 16, 3) := dk_162 0 16 (dk_at dksX0_addsWay_0 5 rfl rfl)
theorem dX0_addsWay_8 : decode cX0_addsWay 8 = .ok (.aload_n 0, 1) := dk_42 (dk_at dksX0_addsWay_0 8 rfl rfl)
theorem dX0_addsWay_9 : decode cX0_addsWay 9 = .ok (.getfield 47, 3) := dk_180 0 47 (dk_at dksX0_addsWay_0 9 rfl rfl)
theorem dX0_addsWay_12 : decode cX0_addsWay 12 = .ok (.iload_n 3, 1) := dk_29 (dk_at dksX0_addsWay_0 12 rfl rfl)
theorem dX0_addsWay_13 : decode cX0_addsWay 13 = .ok (.iconst (-1), 1) := dk_2 (dk_at dksX0_addsWay_0 13 rfl rfl)
theorem dX0_addsWay_14 : decode cX0_addsWay 14 = .ok (.iastore, 1) := dk_79 (dk_at dksX0_addsWay_0 14 rfl rfl)
theorem dX0_addsWay_15 : decode cX0_addsWay 15 = .ok (.iinc 3 1, 3) := dk_132 3 1 (dk_at dksX0_addsWay_0 15 rfl rfl)
theorem dX0_addsWay_18 : decode cX0_addsWay 18 = .ok (.goto (-16), 3) := dk_167 255 240 (dk_at dksX0_addsWay_0 18 rfl rfl)
theorem dX0_addsWay_21 : decode cX0_addsWay 21 = .ok (.iconst 0, 1) := dk_3 (dk_at dksX0_addsWay_0 21 rfl rfl)
theorem dX0_addsWay_22 : decode cX0_addsWay 22 = .ok (.istore_n 3, 1) := dk_62 (dk_at dksX0_addsWay_0 22 rfl rfl)
theorem dX0_addsWay_23 : decode cX0_addsWay 23 = .ok (.iconst 1, 1) := dk_4 (dk_at dksX0_addsWay_0 23 rfl rfl)
theorem dX0_addsWay_24 : decode cX0_addsWay 24 = .ok (.istore 4, 2) := dk_54 4 (dk_at dksX0_addsWay_1 0 rfl rfl)
theorem dX0_addsWay_26 : decode cX0_addsWay 26 = .ok (.aload_n 0, 1) := dk_42 (dk_at dksX0_addsWay_1 2 rfl rfl)
theorem dX0_addsWay_27 : decode cX0_addsWay 27 = .ok (.getfield 50, 3) := dk_180 0 50 (dk_at dksX0_addsWay_1 3 rfl rfl)
theorem dX0_addsWay_30 : decode cX0_addsWay 30 = .ok (.iconst 0, 1) := dk_3 (dk_at dksX0_addsWay_1 6 rfl rfl)
theorem dX0_addsWay_31 : decode cX0_addsWay 31 = .ok (.iload_n 1, 1) := dk_27 (dk_at dksX0_addsWay_1 7 rfl rfl)
theorem dX0_addsWay_32 : decode cX0_addsWay 32 = .ok (.iastore, 1) := dk_79 (dk_at dksX0_addsWay_1 8 rfl rfl)
theorem dX0_addsWay_33 : decode cX0_addsWay 33 = .ok (.aload_n 0, 1) := dk_42 (dk_at dksX0_addsWay_1 9 rfl rfl)
theorem dX0_addsWay_34 : decode cX0_addsWay 34 = .ok (.getfield 47, 3) := dk_180 0 47 (dk_at dksX0_addsWay_1 10 rfl rfl)
theorem dX0_addsWay_37 : decode cX0_addsWay 37 = .ok (.iload_n 1, 1) := dk_27 (dk_at dksX0_addsWay_1 13 rfl rfl)
theorem dX0_addsWay_38 : decode cX0_addsWay 38 = .ok (.iload_n 1, 1) := dk_27 (dk_at dksX0_addsWay_1 14 rfl rfl)
theorem dX0_addsWay_39 : decode cX0_addsWay 39 = .ok (.iastore, 1) := dk_79 (dk_at dksX0_addsWay_1 15 rfl rfl)
theorem dX0_addsWay_40 : decode cX0_addsWay 40 = .ok (.iload_n 3, 1) := dk_29 (dk_at dksX0_addsWay_1 16 rfl rfl)
theorem dX0_addsWay_41 : decode cX0_addsWay 41 = .ok (.iload 4, 2) := dk_21 4 (dk_at dksX0_addsWay_1 17 rfl rfl)
theorem dX0_addsWay_43 : decode cX0_addsWay 43 = .ok (.if_icmp .ge 103, 3) := dk_162 0 103 (dk_at dksX0_addsWay_1 19 rfl rfl)
theorem dX0_addsWay_46 : decode cX0_addsWay 46 = .ok (.aload_n 0, 1) := dk_42 (dk_at dksX0_addsWay_1 22 rfl rfl)
theorem dX0_addsWay_47 : decode cX0_addsWay 47 = .ok (.getfield 47, 3) := dk_180 0 47 (dk_at dksX0_addsWay_2 0 rfl rfl)
theorem dX0_addsWay_50 : decode cX0_addsWay 50 = .ok (.iload_n 2, 1) := dk_28 (dk_at dksX0_addsWay_2 3 rfl rfl)
theorem dX0_addsWay_51 : decode cX0_addsWay 51 = .ok (.iaload, 1) := dk_46 (dk_at dksX0_addsWay_2 4 rfl rfl)
theorem dX0_addsWay_52 : decode cX0_addsWay 52 = .ok (.iconst (-1), 1) := dk_2 (dk_at dksX0_addsWay_2 5 rfl rfl)
theorem dX0_addsWay_53 : decode cX0_addsWay 53 = .ok (.if_icmp .ne 93, 3) := dk_160 0 93 (dk_at dksX0_addsWay_2 6 rfl rfl)
theorem dX0_addsWay_56 : decode cX0_addsWay 56 = .ok (.aload_n 0, 1) := dk_42 (dk_at dksX0_addsWay_2 9 rfl rfl)
theorem dX0_addsWay_57 : decode cX0_addsWay 57 = .ok (.getfield 50, 3) := dk_180 0 50 (dk_at dksX0_addsWay_2 10 rfl rfl)
theorem dX0_addsWay_60 : decode cX0_addsWay 60 = .ok (.iload_n 3, 1) := dk_29 (dk_at dksX0_addsWay_2 13 rfl rfl)
theorem dX0_addsWay_61 : decode cX0_addsWay 61 = .ok (.iaload, 1) := dk_46 (dk_at dksX0_addsWay_2 14 rfl rfl)
theorem dX0_addsWay_62 : decode cX0_addsWay 62 = .ok (.istore 5, 2) := dk_54 5 (dk_at dksX0_addsWay_2 15 rfl rfl)
theorem dX0_addsWay_64 : decode cX0_addsWay 64 = .ok (.iinc 3 1, 3) := dk_132 3 1 (dk_at dksX0_addsWay_2 17 rfl rfl)
theorem dX0_addsWay_67 : decode cX0_addsWay 67 = .ok (.iconst 0, 1) := dk_3 (dk_at dksX0_addsWay_2 20 rfl rfl)
theorem dX0_addsWay_68 : decode cX0_addsWay 68 = .ok (.istore 6, 2) := dk_54 6 (dk_at dksX0_addsWay_2 21 rfl rfl)
theorem dX0_addsWay_70 : decode cX0_addsWay 70 = .ok (.iload 6, 2) := dk_21 6 (dk_at dksX0_addsWay_3 0 rfl rfl)
theorem dX0_addsWay_72 : decode cX0_addsWay 72 = .ok (.aload_n 0, 1) := dk_42 (dk_at dksX0_addsWay_3 2 rfl rfl)
theorem dX0_addsWay_73 : decode cX0_addsWay 73 = .ok (.getfield 10, 3) := dk_180 0 10 (dk_at dksX0_addsWay_3 3 rfl rfl)
theorem dX0_addsWay_76 : decode cX0_addsWay 76 = .ok (.getfield 158, 3) := dk_180 0 158 (dk_at dksX0_addsWay_3 6 rfl rfl)
theorem dX0_addsWay_79 : decode cX0_addsWay 79 = .ok (.if_icmp .ge 64, 3) := dk_162 0 64 (dk_at dksX0_addsWay_3 9 rfl rfl)
theorem dX0_addsWay_82 : decode cX0_addsWay 82 = .ok (.iload 5, 2) := dk_21 5 (dk_at dksX0_addsWay_3 12 rfl rfl)
theorem dX0_addsWay_84 : decode cX0_addsWay 84 = .ok (.iconst 1, 1) := dk_4 (dk_at dksX0_addsWay_3 14 rfl rfl)
theorem dX0_addsWay_85 : decode cX0_addsWay 85 = .ok (.iload 6, 2) := dk_21 6 (dk_at dksX0_addsWay_3 15 rfl rfl)
theorem dX0_addsWay_87 : decode cX0_addsWay 87 = .ok (.ishl, 1) := dk_120 (dk_at dksX0_addsWay_3 17 rfl rfl)
theorem dX0_addsWay_88 : decode cX0_addsWay 88 = .ok (.ixor, 1) := dk_130 (dk_at dksX0_addsWay_3 18 rfl rfl)
theorem dX0_addsWay_89 : decode cX0_addsWay 89 = .ok (.istore 7, 2) := dk_54 7 (dk_at dksX0_addsWay_3 19 rfl rfl)
theorem dX0_addsWay_91 : decode cX0_addsWay 91 = .ok (.aload_n 0, 1) := dk_42 (dk_at dksX0_addsWay_3 21 rfl rfl)
theorem dX0_addsWay_92 : decode cX0_addsWay 92 = .ok (.getfield 47, 3) := dk_180 0 47 (dk_at dksX0_addsWay_4 0 rfl rfl)
theorem dX0_addsWay_95 : decode cX0_addsWay 95 = .ok (.iload 7, 2) := dk_21 7 (dk_at dksX0_addsWay_4 3 rfl rfl)
theorem dX0_addsWay_97 : decode cX0_addsWay 97 = .ok (.iaload, 1) := dk_46 (dk_at dksX0_addsWay_4 5 rfl rfl)
theorem dX0_addsWay_98 : decode cX0_addsWay 98 = .ok (.iconst (-1), 1) := dk_2 (dk_at dksX0_addsWay_4 6 rfl rfl)
theorem dX0_addsWay_99 : decode cX0_addsWay 99 = .ok (.if_icmp .ne 38, 3) := dk_160 0 38 (dk_at dksX0_addsWay_4 7 rfl rfl)
theorem dX0_addsWay_102 : decode cX0_addsWay 102 = .ok (.aload_n 0, 1) := dk_42 (dk_at dksX0_addsWay_4 10 rfl rfl)
theorem dX0_addsWay_103 : decode cX0_addsWay 103 = .ok (.iload 5, 2) := dk_21 5 (dk_at dksX0_addsWay_4 11 rfl rfl)
theorem dX0_addsWay_105 : decode cX0_addsWay 105 = .ok (.iload 6, 2) := dk_21 6 (dk_at dksX0_addsWay_4 13 rfl rfl)
theorem dX0_addsWay_107 : decode cX0_addsWay 107 = .ok (.invokevirtual 248, 3) := dk_182 0 248 (dk_at dksX0_addsWay_4 15 rfl rfl)
theorem dX0_addsWay_110 : decode cX0_addsWay 110 = .ok (.ifCond .ne 6, 3) := dk_154 0 6 (dk_at dksX0_addsWay_4 18 rfl rfl)
theorem dX0_addsWay_113 : decode cX0_addsWay 113 = .ok (.goto 24, 3) := dk_167 0 24 (dk_at dksX0_addsWay_4 21 rfl rfl)
theorem dX0_addsWay_116 : decode cX0_addsWay 116 = .ok (.aload_n 0, 1) := dk_42 (dk_at dksX0_addsWay_5 0 rfl rfl)
theorem dX0_addsWay_117 : decode cX0_addsWay 117 = .ok (.getfield 47, 3) := dk_180 0 47 (dk_at dksX0_addsWay_5 1 rfl rfl)
theorem dX0_addsWay_120 : decode cX0_addsWay 120 = .ok (.iload 7, 2) := dk_21 7 (dk_at dksX0_addsWay_5 4 rfl rfl)
theorem dX0_addsWay_122 : decode cX0_addsWay 122 = .ok (.iload 5, 2) := dk_21 5 (dk_at dksX0_addsWay_5 6 rfl rfl)
theorem dX0_addsWay_124 : decode cX0_addsWay 124 = .ok (.iastore, 1) := dk_79 (dk_at dksX0_addsWay_5 8 rfl rfl)
theorem dX0_addsWay_125 : decode cX0_addsWay 125 = .ok (.aload_n 0, 1) := dk_42 (dk_at dksX0_addsWay_5 9 rfl rfl)
theorem dX0_addsWay_126 : decode cX0_addsWay 126 = .ok (.getfield 50, 3) := dk_180 0 50 (dk_at dksX0_addsWay_5 10 rfl rfl)
theorem dX0_addsWay_129 : decode cX0_addsWay 129 = .ok (.iload 4, 2) := dk_21 4 (dk_at dksX0_addsWay_5 13 rfl rfl)
theorem dX0_addsWay_131 : decode cX0_addsWay 131 = .ok (.iload 7, 2) := dk_21 7 (dk_at dksX0_addsWay_5 15 rfl rfl)
theorem dX0_addsWay_133 : decode cX0_addsWay 133 = .ok (.iastore, 1) := dk_79 (dk_at dksX0_addsWay_5 17 rfl rfl)
theorem dX0_addsWay_134 : decode cX0_addsWay 134 = .ok (.iinc 4 1, 3) := dk_132 4 1 (dk_at dksX0_addsWay_5 18 rfl rfl)
theorem dX0_addsWay_137 : decode cX0_addsWay 137 = .ok (.iinc 6 1, 3) := dk_132 6 1 (dk_at dksX0_addsWay_5 21 rfl rfl)
theorem dX0_addsWay_140 : decode cX0_addsWay 140 = .ok (.goto (-70), 3) := dk_167 255 186 (dk_at dksX0_addsWay_6 0 rfl rfl)
theorem dX0_addsWay_143 : decode cX0_addsWay 143 = .ok (.goto (-103), 3) := dk_167 255 153 (dk_at dksX0_addsWay_6 3 rfl rfl)
theorem dX0_addsWay_146 : decode cX0_addsWay 146 = .ok (.aload_n 0, 1) := dk_42 (dk_at dksX0_addsWay_6 6 rfl rfl)
theorem dX0_addsWay_147 : decode cX0_addsWay 147 = .ok (.getfield 47, 3) := dk_180 0 47 (dk_at dksX0_addsWay_6 7 rfl rfl)
theorem dX0_addsWay_150 : decode cX0_addsWay 150 = .ok (.iload_n 2, 1) := dk_28 (dk_at dksX0_addsWay_6 10 rfl rfl)
theorem dX0_addsWay_151 : decode cX0_addsWay 151 = .ok (.iaload, 1) := dk_46 (dk_at dksX0_addsWay_6 11 rfl rfl)
theorem dX0_addsWay_152 : decode cX0_addsWay 152 = .ok (.iconst (-1), 1) := dk_2 (dk_at dksX0_addsWay_6 12 rfl rfl)
theorem dX0_addsWay_153 : decode cX0_addsWay 153 = .ok (.if_icmp .ne 5, 3) := dk_160 0 5 (dk_at dksX0_addsWay_6 13 rfl rfl)
theorem dX0_addsWay_156 : decode cX0_addsWay 156 = .ok (.iconst 0, 1) := dk_3 (dk_at dksX0_addsWay_6 16 rfl rfl)
theorem dX0_addsWay_157 : decode cX0_addsWay 157 = .ok (.ireturn, 1) := dk_172 (dk_at dksX0_addsWay_6 17 rfl rfl)
theorem dX0_addsWay_158 : decode cX0_addsWay 158 = .ok (.iload_n 2, 1) := dk_28 (dk_at dksX0_addsWay_6 18 rfl rfl)
theorem dX0_addsWay_159 : decode cX0_addsWay 159 = .ok (.istore 5, 2) := dk_54 5 (dk_at dksX0_addsWay_6 19 rfl rfl)
theorem dX0_addsWay_161 : decode cX0_addsWay 161 = .ok (.iload 5, 2) := dk_21 5 (dk_at dksX0_addsWay_6 21 rfl rfl)
theorem dX0_addsWay_163 : decode cX0_addsWay 163 = .ok (.iload_n 1, 1) := dk_27 (dk_at dksX0_addsWay_6 23 rfl rfl)
theorem dX0_addsWay_164 : decode cX0_addsWay 164 = .ok (.if_icmp .eq 38, 3) := dk_159 0 38 (dk_at dksX0_addsWay_7 0 rfl rfl)
theorem dX0_addsWay_167 : decode cX0_addsWay 167 = .ok (.aload_n 0, 1) := dk_42 (dk_at dksX0_addsWay_7 3 rfl rfl)
theorem dX0_addsWay_168 : decode cX0_addsWay 168 = .ok (.aload_n 0, 1) := dk_42 (dk_at dksX0_addsWay_7 4 rfl rfl)
theorem dX0_addsWay_169 : decode cX0_addsWay 169 = .ok (.getfield 47, 3) := dk_180 0 47 (dk_at dksX0_addsWay_7 5 rfl rfl)
theorem dX0_addsWay_172 : decode cX0_addsWay 172 = .ok (.iload 5, 2) := dk_21 5 (dk_at dksX0_addsWay_7 8 rfl rfl)
theorem dX0_addsWay_174 : decode cX0_addsWay 174 = .ok (.iaload, 1) := dk_46 (dk_at dksX0_addsWay_7 10 rfl rfl)
theorem dX0_addsWay_175 : decode cX0_addsWay 175 = .ok (.aload_n 0, 1) := dk_42 (dk_at dksX0_addsWay_7 11 rfl rfl)
theorem dX0_addsWay_176 : decode cX0_addsWay 176 = .ok (.getfield 47, 3) := dk_180 0 47 (dk_at dksX0_addsWay_7 12 rfl rfl)
theorem dX0_addsWay_179 : decode cX0_addsWay 179 = .ok (.iload 5, 2) := dk_21 5 (dk_at dksX0_addsWay_7 15 rfl rfl)
theorem dX0_addsWay_181 : decode cX0_addsWay 181 = .ok (.iaload, 1) := dk_46 (dk_at dksX0_addsWay_7 17 rfl rfl)
theorem dX0_addsWay_182 : decode cX0_addsWay 182 = .ok (.iload 5, 2) := dk_21 5 (dk_at dksX0_addsWay_7 18 rfl rfl)
theorem dX0_addsWay_184 : decode cX0_addsWay 184 = .ok (.invokestatic 230, 3) := dk_184 0 230 (dk_at dksX0_addsWay_7 20 rfl rfl)
theorem dX0_addsWay_187 : decode cX0_addsWay 187 = .ok (.invokevirtual 251, 3) := dk_182 0 251 (dk_at dksX0_addsWay_8 0 rfl rfl)
theorem dX0_addsWay_190 : decode cX0_addsWay 190 = .ok (.aload_n 0, 1) := dk_42 (dk_at dksX0_addsWay_8 3 rfl rfl)
theorem dX0_addsWay_191 : decode cX0_addsWay 191 = .ok (.getfield 47, 3) := dk_180 0 47 (dk_at dksX0_addsWay_8 4 rfl rfl)
theorem dX0_addsWay_194 : decode cX0_addsWay 194 = .ok (.iload 5, 2) := dk_21 5 (dk_at dksX0_addsWay_8 7 rfl rfl)
theorem dX0_addsWay_196 : decode cX0_addsWay 196 = .ok (.iaload, 1) := dk_46 (dk_at dksX0_addsWay_8 9 rfl rfl)
theorem dX0_addsWay_197 : decode cX0_addsWay 197 = .ok (.istore 5, 2) := dk_54 5 (dk_at dksX0_addsWay_8 10 rfl rfl)
theorem dX0_addsWay_199 : decode cX0_addsWay 199 = .ok (.goto (-38), 3) := dk_167 255 218 (dk_at dksX0_addsWay_8 12 rfl rfl)
theorem dX0_addsWay_202 : decode cX0_addsWay 202 = .ok (.iconst 1, 1) := dk_4 (dk_at dksX0_addsWay_8 15 rfl rfl)
theorem dX0_addsWay_203 : decode cX0_addsWay 203 = .ok (.ireturn, 1) := dk_172 (dk_at dksX0_addsWay_8 16 rfl rfl)
abbrev cX0_canGo : ByteArray := prog_1_method_36_code
def yX0_canGo : MethodName := ⟨RX0, "canGo", "(II)Z"⟩
def dkwX0_canGo_1 : List UInt8 := [167, 0, 4, 3, 172]
abbrev dktX0_canGo_1 : List UInt8 := dkwX0_canGo_1 ++ []
def dkwX0_canGo_0 : List UInt8 := [42, 180, 0, 10, 27, 28, 182, 0, 181, 153, 0, 16, 42, 27, 28, 182, 0, 245, 154, 0, 7, 4]
abbrev dktX0_canGo_0 : List UInt8 := dkwX0_canGo_0 ++ dktX0_canGo_1
theorem dksX0_canGo_0 : cX0_canGo.data.toList.drop 0 = dktX0_canGo_0 := by decide +kernel
theorem dksX0_canGo_1 : cX0_canGo.data.toList.drop 22 = dktX0_canGo_1 := dk_seg dksX0_canGo_0 22 rfl rfl
theorem dX0_canGo_0 : decode cX0_canGo 0 = .ok (.aload_n 0, 1) := dk_42 (dk_at dksX0_canGo_0 0 rfl rfl)
theorem dX0_canGo_1 : decode cX0_canGo 1 = .ok (.getfield 10, 3) := dk_180 0 10 (dk_at dksX0_canGo_0 1 rfl rfl)
theorem dX0_canGo_4 : decode cX0_canGo 4 = .ok (.iload_n 1, 1) := dk_27 (dk_at dksX0_canGo_0 4 rfl rfl)
theorem dX0_canGo_5 : decode cX0_canGo 5 = .ok (.iload_n 2, 1) := dk_28 (dk_at dksX0_canGo_0 5 rfl rfl)
theorem dX0_canGo_6 : decode cX0_canGo 6 = .ok (.invokevirtual 181, 3) := dk_182 0 181 (dk_at dksX0_canGo_0 6 rfl rfl)
theorem dX0_canGo_9 : decode cX0_canGo 9 = .ok (.ifCond .eq 16, 3) := dk_153 0 16 (dk_at dksX0_canGo_0 9 rfl rfl)
theorem dX0_canGo_12 : decode cX0_canGo 12 = .ok (.aload_n 0, 1) := dk_42 (dk_at dksX0_canGo_0 12 rfl rfl)
theorem dX0_canGo_13 : decode cX0_canGo 13 = .ok (.iload_n 1, 1) := dk_27 (dk_at dksX0_canGo_0 13 rfl rfl)
theorem dX0_canGo_14 : decode cX0_canGo 14 = .ok (.iload_n 2, 1) := dk_28 (dk_at dksX0_canGo_0 14 rfl rfl)
theorem dX0_canGo_15 : decode cX0_canGo 15 = .ok (.invokevirtual 245, 3) := dk_182 0 245 (dk_at dksX0_canGo_0 15 rfl rfl)
theorem dX0_canGo_18 : decode cX0_canGo 18 = .ok (.ifCond .ne 7, 3) := dk_154 0 7 (dk_at dksX0_canGo_0 18 rfl rfl)
theorem dX0_canGo_21 : decode cX0_canGo 21 = .ok (.iconst 1, 1) := dk_4 (dk_at dksX0_canGo_0 21 rfl rfl)
theorem dX0_canGo_22 : decode cX0_canGo 22 = .ok (.goto 4, 3) := dk_167 0 4 (dk_at dksX0_canGo_1 0 rfl rfl)
theorem dX0_canGo_25 : decode cX0_canGo 25 = .ok (.iconst 0, 1) := dk_3 (dk_at dksX0_canGo_1 3 rfl rfl)
theorem dX0_canGo_26 : decode cX0_canGo 26 = .ok (.ireturn, 1) := dk_172 (dk_at dksX0_canGo_1 4 rfl rfl)
abbrev cX0_flowsOut : ByteArray := prog_1_method_34_code
def yX0_flowsOut : MethodName := ⟨RX0, "flowsOut", "(II)Z"⟩
def dkwX0_flowsOut_0 : List UInt8 := [42, 180, 0, 44, 27, 46, 28, 184, 0, 204, 172]
abbrev dktX0_flowsOut_0 : List UInt8 := dkwX0_flowsOut_0 ++ []
theorem dksX0_flowsOut_0 : cX0_flowsOut.data.toList.drop 0 = dktX0_flowsOut_0 := by decide +kernel
theorem dX0_flowsOut_0 : decode cX0_flowsOut 0 = .ok (.aload_n 0, 1) := dk_42 (dk_at dksX0_flowsOut_0 0 rfl rfl)
theorem dX0_flowsOut_1 : decode cX0_flowsOut 1 = .ok (.getfield 44, 3) := dk_180 0 44 (dk_at dksX0_flowsOut_0 1 rfl rfl)
theorem dX0_flowsOut_4 : decode cX0_flowsOut 4 = .ok (.iload_n 1, 1) := dk_27 (dk_at dksX0_flowsOut_0 4 rfl rfl)
theorem dX0_flowsOut_5 : decode cX0_flowsOut 5 = .ok (.iaload, 1) := dk_46 (dk_at dksX0_flowsOut_0 5 rfl rfl)
theorem dX0_flowsOut_6 : decode cX0_flowsOut 6 = .ok (.iload_n 2, 1) := dk_28 (dk_at dksX0_flowsOut_0 6 rfl rfl)
theorem dX0_flowsOut_7 : decode cX0_flowsOut 7 = .ok (.invokestatic 204, 3) := dk_184 0 204 (dk_at dksX0_flowsOut_0 7 rfl rfl)
theorem dX0_flowsOut_10 : decode cX0_flowsOut 10 = .ok (.ireturn, 1) := dk_172 (dk_at dksX0_flowsOut_0 10 rfl rfl)
abbrev cX0_pushes : ByteArray := prog_1_method_38_code
def yX0_pushes : MethodName := ⟨RX0, "pushes", "(II)V"⟩
def dkwX0_pushes_1 : List UInt8 := [120, 2, 130, 126, 79, 167, 0, 15, 42, 180, 0, 44, 27, 92, 46, 4, 28, 120, 128, 79, 177]
abbrev dktX0_pushes_1 : List UInt8 := dkwX0_pushes_1 ++ []
def dkwX0_pushes_0 : List UInt8 := [27, 4, 28, 120, 130, 62, 42, 29, 28, 182, 0, 245, 153, 0, 20, 42, 180, 0, 44, 29, 92, 46, 4, 28]
abbrev dktX0_pushes_0 : List UInt8 := dkwX0_pushes_0 ++ dktX0_pushes_1
theorem dksX0_pushes_0 : cX0_pushes.data.toList.drop 0 = dktX0_pushes_0 := by decide +kernel
theorem dksX0_pushes_1 : cX0_pushes.data.toList.drop 24 = dktX0_pushes_1 := dk_seg dksX0_pushes_0 24 rfl rfl
theorem dX0_pushes_0 : decode cX0_pushes 0 = .ok (.iload_n 1, 1) := dk_27 (dk_at dksX0_pushes_0 0 rfl rfl)
theorem dX0_pushes_1 : decode cX0_pushes 1 = .ok (.iconst 1, 1) := dk_4 (dk_at dksX0_pushes_0 1 rfl rfl)
theorem dX0_pushes_2 : decode cX0_pushes 2 = .ok (.iload_n 2, 1) := dk_28 (dk_at dksX0_pushes_0 2 rfl rfl)
theorem dX0_pushes_3 : decode cX0_pushes 3 = .ok (.ishl, 1) := dk_120 (dk_at dksX0_pushes_0 3 rfl rfl)
theorem dX0_pushes_4 : decode cX0_pushes 4 = .ok (.ixor, 1) := dk_130 (dk_at dksX0_pushes_0 4 rfl rfl)
theorem dX0_pushes_5 : decode cX0_pushes 5 = .ok (.istore_n 3, 1) := dk_62 (dk_at dksX0_pushes_0 5 rfl rfl)
theorem dX0_pushes_6 : decode cX0_pushes 6 = .ok (.aload_n 0, 1) := dk_42 (dk_at dksX0_pushes_0 6 rfl rfl)
theorem dX0_pushes_7 : decode cX0_pushes 7 = .ok (.iload_n 3, 1) := dk_29 (dk_at dksX0_pushes_0 7 rfl rfl)
theorem dX0_pushes_8 : decode cX0_pushes 8 = .ok (.iload_n 2, 1) := dk_28 (dk_at dksX0_pushes_0 8 rfl rfl)
theorem dX0_pushes_9 : decode cX0_pushes 9 = .ok (.invokevirtual 245, 3) := dk_182 0 245 (dk_at dksX0_pushes_0 9 rfl rfl)
theorem dX0_pushes_12 : decode cX0_pushes 12 = .ok (.ifCond .eq 20, 3) := dk_153 0 20 (dk_at dksX0_pushes_0 12 rfl rfl)
theorem dX0_pushes_15 : decode cX0_pushes 15 = .ok (.aload_n 0, 1) := dk_42 (dk_at dksX0_pushes_0 15 rfl rfl)
theorem dX0_pushes_16 : decode cX0_pushes 16 = .ok (.getfield 44, 3) := dk_180 0 44 (dk_at dksX0_pushes_0 16 rfl rfl)
theorem dX0_pushes_19 : decode cX0_pushes 19 = .ok (.iload_n 3, 1) := dk_29 (dk_at dksX0_pushes_0 19 rfl rfl)
theorem dX0_pushes_20 : decode cX0_pushes 20 = .ok (.dup2, 1) := dk_92 (dk_at dksX0_pushes_0 20 rfl rfl)
theorem dX0_pushes_21 : decode cX0_pushes 21 = .ok (.iaload, 1) := dk_46 (dk_at dksX0_pushes_0 21 rfl rfl)
theorem dX0_pushes_22 : decode cX0_pushes 22 = .ok (.iconst 1, 1) := dk_4 (dk_at dksX0_pushes_0 22 rfl rfl)
theorem dX0_pushes_23 : decode cX0_pushes 23 = .ok (.iload_n 2, 1) := dk_28 (dk_at dksX0_pushes_0 23 rfl rfl)
theorem dX0_pushes_24 : decode cX0_pushes 24 = .ok (.ishl, 1) := dk_120 (dk_at dksX0_pushes_1 0 rfl rfl)
theorem dX0_pushes_25 : decode cX0_pushes 25 = .ok (.iconst (-1), 1) := dk_2 (dk_at dksX0_pushes_1 1 rfl rfl)
theorem dX0_pushes_26 : decode cX0_pushes 26 = .ok (.ixor, 1) := dk_130 (dk_at dksX0_pushes_1 2 rfl rfl)
theorem dX0_pushes_27 : decode cX0_pushes 27 = .ok (.iand, 1) := dk_126 (dk_at dksX0_pushes_1 3 rfl rfl)
theorem dX0_pushes_28 : decode cX0_pushes 28 = .ok (.iastore, 1) := dk_79 (dk_at dksX0_pushes_1 4 rfl rfl)
theorem dX0_pushes_29 : decode cX0_pushes 29 = .ok (.goto 15, 3) := dk_167 0 15 (dk_at dksX0_pushes_1 5 rfl rfl)
theorem dX0_pushes_32 : decode cX0_pushes 32 = .ok (.aload_n 0, 1) := dk_42 (dk_at dksX0_pushes_1 8 rfl rfl)
theorem dX0_pushes_33 : decode cX0_pushes 33 = .ok (.getfield 44, 3) := dk_180 0 44 (dk_at dksX0_pushes_1 9 rfl rfl)
theorem dX0_pushes_36 : decode cX0_pushes 36 = .ok (.iload_n 1, 1) := dk_27 (dk_at dksX0_pushes_1 12 rfl rfl)
theorem dX0_pushes_37 : decode cX0_pushes 37 = .ok (.dup2, 1) := dk_92 (dk_at dksX0_pushes_1 13 rfl rfl)
theorem dX0_pushes_38 : decode cX0_pushes 38 = .ok (.iaload, 1) := dk_46 (dk_at dksX0_pushes_1 14 rfl rfl)
theorem dX0_pushes_39 : decode cX0_pushes 39 = .ok (.iconst 1, 1) := dk_4 (dk_at dksX0_pushes_1 15 rfl rfl)
theorem dX0_pushes_40 : decode cX0_pushes 40 = .ok (.iload_n 2, 1) := dk_28 (dk_at dksX0_pushes_1 16 rfl rfl)
theorem dX0_pushes_41 : decode cX0_pushes 41 = .ok (.ishl, 1) := dk_120 (dk_at dksX0_pushes_1 17 rfl rfl)
theorem dX0_pushes_42 : decode cX0_pushes 42 = .ok (.ior, 1) := dk_128 (dk_at dksX0_pushes_1 18 rfl rfl)
theorem dX0_pushes_43 : decode cX0_pushes 43 = .ok (.iastore, 1) := dk_79 (dk_at dksX0_pushes_1 19 rfl rfl)
theorem dX0_pushes_44 : decode cX0_pushes 44 = .ok (.return_, 1) := dk_177 (dk_at dksX0_pushes_1 20 rfl rfl)
abbrev cX0_waysBetween : ByteArray := prog_1_method_44_code
def yX0_waysBetween : MethodName := ⟨RX0, "waysBetween", "(II)I"⟩
def dkwX0_waysBetween_0 : List UInt8 := [42, 182, 0, 255, 3, 62, 42, 27, 28, 182, 1, 17, 153, 0, 9, 132, 3, 1, 167, 255, 244, 29, 172]
abbrev dktX0_waysBetween_0 : List UInt8 := dkwX0_waysBetween_0 ++ []
theorem dksX0_waysBetween_0 : cX0_waysBetween.data.toList.drop 0 = dktX0_waysBetween_0 := by decide +kernel
theorem dX0_waysBetween_0 : decode cX0_waysBetween 0 = .ok (.aload_n 0, 1) := dk_42 (dk_at dksX0_waysBetween_0 0 rfl rfl)
theorem dX0_waysBetween_1 : decode cX0_waysBetween 1 = .ok (.invokevirtual 255, 3) := dk_182 0 255 (dk_at dksX0_waysBetween_0 1 rfl rfl)
theorem dX0_waysBetween_4 : decode cX0_waysBetween 4 = .ok (.iconst 0, 1) := dk_3 (dk_at dksX0_waysBetween_0 4 rfl rfl)
theorem dX0_waysBetween_5 : decode cX0_waysBetween 5 = .ok (.istore_n 3, 1) := dk_62 (dk_at dksX0_waysBetween_0 5 rfl rfl)
theorem dX0_waysBetween_6 : decode cX0_waysBetween 6 = .ok (.aload_n 0, 1) := dk_42 (dk_at dksX0_waysBetween_0 6 rfl rfl)
theorem dX0_waysBetween_7 : decode cX0_waysBetween 7 = .ok (.iload_n 1, 1) := dk_27 (dk_at dksX0_waysBetween_0 7 rfl rfl)
theorem dX0_waysBetween_8 : decode cX0_waysBetween 8 = .ok (.iload_n 2, 1) := dk_28 (dk_at dksX0_waysBetween_0 8 rfl rfl)
theorem dX0_waysBetween_9 : decode cX0_waysBetween 9 = .ok (.invokevirtual 273, 3) := dk_182 1 17 (dk_at dksX0_waysBetween_0 9 rfl rfl)
theorem dX0_waysBetween_12 : decode cX0_waysBetween 12 = .ok (.ifCond .eq 9, 3) := dk_153 0 9 (dk_at dksX0_waysBetween_0 12 rfl rfl)
theorem dX0_waysBetween_15 : decode cX0_waysBetween 15 = .ok (.iinc 3 1, 3) := dk_132 3 1 (dk_at dksX0_waysBetween_0 15 rfl rfl)
theorem dX0_waysBetween_18 : decode cX0_waysBetween 18 = .ok (.goto (-12), 3) := dk_167 255 244 (dk_at dksX0_waysBetween_0 18 rfl rfl)
theorem dX0_waysBetween_21 : decode cX0_waysBetween 21 = .ok (.iload_n 3, 1) := dk_29 (dk_at dksX0_waysBetween_0 21 rfl rfl)
theorem dX0_waysBetween_22 : decode cX0_waysBetween 22 = .ok (.ireturn, 1) := dk_172 (dk_at dksX0_waysBetween_0 22 rfl rfl)
abbrev cX0_addsWayBetween : ByteArray := prog_1_method_42_code
def yX0_addsWayBetween : MethodName := ⟨RX0, "addsWayBetween", "(II)Z"⟩
def dkwX0_addsWayBetween_13 : List UInt8 := [42, 180, 0, 47, 29, 46, 29, 182, 1, 14, 42, 180, 0, 47, 29, 46, 62, 167, 255, 214, 4, 172]
abbrev dktX0_addsWayBetween_13 : List UInt8 := dkwX0_addsWayBetween_13 ++ []
def dkwX0_addsWayBetween_12 : List UInt8 := [16, 32, 27, 96, 159, 0, 40, 42, 180, 0, 47, 29, 46, 16, 32, 112, 29, 16, 32, 112, 159, 0, 14, 42]
abbrev dktX0_addsWayBetween_12 : List UInt8 := dkwX0_addsWayBetween_12 ++ dktX0_addsWayBetween_13
def dkwX0_addsWayBetween_11 : List UInt8 := [182, 1, 8, 132, 3, 1, 167, 255, 40, 42, 180, 0, 47, 28, 46, 2, 160, 0, 5, 3, 172, 28, 62, 29]
abbrev dktX0_addsWayBetween_11 : List UInt8 := dkwX0_addsWayBetween_11 ++ dktX0_addsWayBetween_12
def dkwX0_addsWayBetween_10 : List UInt8 := [182, 1, 8, 21, 6, 153, 0, 20, 42, 21, 5, 182, 1, 11, 153, 0, 11, 42, 21, 5, 21, 4]
abbrev dktX0_addsWayBetween_10 : List UInt8 := dkwX0_addsWayBetween_10 ++ dktX0_addsWayBetween_11
def dkwX0_addsWayBetween_9 : List UInt8 := [21, 6, 154, 0, 23, 42, 21, 5, 182, 1, 11, 154, 0, 14, 42, 16, 32, 21, 5, 96, 21, 4]
abbrev dktX0_addsWayBetween_9 : List UInt8 := dkwX0_addsWayBetween_9 ++ dktX0_addsWayBetween_10
def dkwX0_addsWayBetween_8 : List UInt8 := [182, 1, 8, 132, 7, 1, 167, 255, 158, 21, 5, 27, 159, 0, 59, 21, 5, 28, 160, 0, 6, 167, 0, 50]
abbrev dktX0_addsWayBetween_8 : List UInt8 := dkwX0_addsWayBetween_8 ++ dktX0_addsWayBetween_9
def dkwX0_addsWayBetween_7 : List UInt8 := [154, 0, 25, 42, 21, 8, 21, 7, 182, 0, 245, 153, 0, 14, 42, 16, 32, 21, 8, 96, 21, 4]
abbrev dktX0_addsWayBetween_7 : List UInt8 := dkwX0_addsWayBetween_7 ++ dktX0_addsWayBetween_8
def dkwX0_addsWayBetween_6 : List UInt8 := [182, 0, 245, 154, 0, 17, 21, 8, 27, 159, 0, 11, 42, 21, 8, 21, 4, 182, 1, 8, 21, 6]
abbrev dktX0_addsWayBetween_6 : List UInt8 := dkwX0_addsWayBetween_6 ++ dktX0_addsWayBetween_7
def dkwX0_addsWayBetween_5 : List UInt8 := [21, 5, 21, 7, 182, 0, 181, 154, 0, 6, 167, 0, 60, 21, 6, 153, 0, 28, 42, 21, 5, 21, 7]
abbrev dktX0_addsWayBetween_5 : List UInt8 := dkwX0_addsWayBetween_5 ++ dktX0_addsWayBetween_6
def dkwX0_addsWayBetween_4 : List UInt8 := [42, 180, 0, 10, 180, 0, 158, 162, 0, 92, 21, 5, 4, 21, 7, 120, 130, 54, 8, 42, 180, 0, 10]
abbrev dktX0_addsWayBetween_4 : List UInt8 := dkwX0_addsWayBetween_4 ++ dktX0_addsWayBetween_5
def dkwX0_addsWayBetween_3 : List UInt8 := [16, 32, 112, 54, 5, 21, 4, 16, 32, 161, 0, 7, 4, 167, 0, 4, 3, 54, 6, 3, 54, 7, 21, 7]
abbrev dktX0_addsWayBetween_3 : List UInt8 := dkwX0_addsWayBetween_3 ++ dktX0_addsWayBetween_4
def dkwX0_addsWayBetween_2 : List UInt8 := [162, 0, 214, 42, 180, 0, 47, 28, 46, 2, 160, 0, 204, 42, 180, 0, 50, 29, 46, 54, 4, 21, 4]
abbrev dktX0_addsWayBetween_2 : List UInt8 := dkwX0_addsWayBetween_2 ++ dktX0_addsWayBetween_3
def dkwX0_addsWayBetween_1 : List UInt8 := [181, 1, 5, 42, 16, 32, 27, 96, 16, 32, 27, 96, 182, 1, 8, 3, 62, 29, 42, 180, 1, 5]
abbrev dktX0_addsWayBetween_1 : List UInt8 := dkwX0_addsWayBetween_1 ++ dktX0_addsWayBetween_2
def dkwX0_addsWayBetween_0 : List UInt8 := [3, 62, 29, 16, 64, 162, 0, 16, 42, 180, 0, 47, 29, 2, 79, 132, 3, 1, 167, 255, 240, 42, 3]
abbrev dktX0_addsWayBetween_0 : List UInt8 := dkwX0_addsWayBetween_0 ++ dktX0_addsWayBetween_1
theorem dksX0_addsWayBetween_0 : cX0_addsWayBetween.data.toList.drop 0 = dktX0_addsWayBetween_0 := by decide +kernel
theorem dksX0_addsWayBetween_1 : cX0_addsWayBetween.data.toList.drop 23 = dktX0_addsWayBetween_1 := dk_seg dksX0_addsWayBetween_0 23 rfl rfl
theorem dksX0_addsWayBetween_2 : cX0_addsWayBetween.data.toList.drop 45 = dktX0_addsWayBetween_2 := dk_seg dksX0_addsWayBetween_1 22 rfl rfl
theorem dksX0_addsWayBetween_3 : cX0_addsWayBetween.data.toList.drop 68 = dktX0_addsWayBetween_3 := dk_seg dksX0_addsWayBetween_2 23 rfl rfl
theorem dksX0_addsWayBetween_4 : cX0_addsWayBetween.data.toList.drop 92 = dktX0_addsWayBetween_4 := dk_seg dksX0_addsWayBetween_3 24 rfl rfl
theorem dksX0_addsWayBetween_5 : cX0_addsWayBetween.data.toList.drop 115 = dktX0_addsWayBetween_5 := dk_seg dksX0_addsWayBetween_4 23 rfl rfl
theorem dksX0_addsWayBetween_6 : cX0_addsWayBetween.data.toList.drop 138 = dktX0_addsWayBetween_6 := dk_seg dksX0_addsWayBetween_5 23 rfl rfl
theorem dksX0_addsWayBetween_7 : cX0_addsWayBetween.data.toList.drop 160 = dktX0_addsWayBetween_7 := dk_seg dksX0_addsWayBetween_6 22 rfl rfl
theorem dksX0_addsWayBetween_8 : cX0_addsWayBetween.data.toList.drop 182 = dktX0_addsWayBetween_8 := dk_seg dksX0_addsWayBetween_7 22 rfl rfl
theorem dksX0_addsWayBetween_9 : cX0_addsWayBetween.data.toList.drop 206 = dktX0_addsWayBetween_9 := dk_seg dksX0_addsWayBetween_8 24 rfl rfl
theorem dksX0_addsWayBetween_10 : cX0_addsWayBetween.data.toList.drop 228 = dktX0_addsWayBetween_10 := dk_seg dksX0_addsWayBetween_9 22 rfl rfl
theorem dksX0_addsWayBetween_11 : cX0_addsWayBetween.data.toList.drop 250 = dktX0_addsWayBetween_11 := dk_seg dksX0_addsWayBetween_10 22 rfl rfl
theorem dksX0_addsWayBetween_12 : cX0_addsWayBetween.data.toList.drop 274 = dktX0_addsWayBetween_12 := dk_seg dksX0_addsWayBetween_11 24 rfl rfl
theorem dksX0_addsWayBetween_13 : cX0_addsWayBetween.data.toList.drop 298 = dktX0_addsWayBetween_13 := dk_seg dksX0_addsWayBetween_12 24 rfl rfl
theorem dX0_addsWayBetween_0 : decode cX0_addsWayBetween 0 = .ok (.iconst 0, 1) := dk_3 (dk_at dksX0_addsWayBetween_0 0 rfl rfl)
theorem dX0_addsWayBetween_1 : decode cX0_addsWayBetween 1 = .ok (.istore_n 3, 1) := dk_62 (dk_at dksX0_addsWayBetween_0 1 rfl rfl)
theorem dX0_addsWayBetween_2 : decode cX0_addsWayBetween 2 = .ok (.iload_n 3, 1) := dk_29 (dk_at dksX0_addsWayBetween_0 2 rfl rfl)
theorem dX0_addsWayBetween_3 : decode cX0_addsWayBetween 3 = .ok (.bipush 64, 2) := dk_16 64 (dk_at dksX0_addsWayBetween_0 3 rfl rfl)
theorem dX0_addsWayBetween_5 : decode cX0_addsWayBetween 5 = .ok (.if_icmp .ge 16, 3) := dk_162 0 16 (dk_at dksX0_addsWayBetween_0 5 rfl rfl)
theorem dX0_addsWayBetween_8 : decode cX0_addsWayBetween 8 = .ok (.aload_n 0, 1) := dk_42 (dk_at dksX0_addsWayBetween_0 8 rfl rfl)
theorem dX0_addsWayBetween_9 : decode cX0_addsWayBetween 9 = .ok (.getfield 47, 3) := dk_180 0 47 (dk_at dksX0_addsWayBetween_0 9 rfl rfl)
theorem dX0_addsWayBetween_12 : decode cX0_addsWayBetween 12 = .ok (.iload_n 3, 1) := dk_29 (dk_at dksX0_addsWayBetween_0 12 rfl rfl)
theorem dX0_addsWayBetween_13 : decode cX0_addsWayBetween 13 = .ok (.iconst (-1), 1) := dk_2 (dk_at dksX0_addsWayBetween_0 13 rfl rfl)
theorem dX0_addsWayBetween_14 : decode cX0_addsWayBetween 14 = .ok (.iastore, 1) := dk_79 (dk_at dksX0_addsWayBetween_0 14 rfl rfl)
theorem dX0_addsWayBetween_15 : decode cX0_addsWayBetween 15 = .ok (.iinc 3 1, 3) := dk_132 3 1 (dk_at dksX0_addsWayBetween_0 15 rfl rfl)
theorem dX0_addsWayBetween_18 : decode cX0_addsWayBetween 18 = .ok (.goto (-16), 3) := dk_167 255 240 (dk_at dksX0_addsWayBetween_0 18 rfl rfl)
theorem dX0_addsWayBetween_21 : decode cX0_addsWayBetween 21 = .ok (.aload_n 0, 1) := dk_42 (dk_at dksX0_addsWayBetween_0 21 rfl rfl)
theorem dX0_addsWayBetween_22 : decode cX0_addsWayBetween 22 = .ok (.iconst 0, 1) := dk_3 (dk_at dksX0_addsWayBetween_0 22 rfl rfl)
theorem dX0_addsWayBetween_23 : decode cX0_addsWayBetween 23 = .ok (.putfield 261, 3) := dk_181 1 5 (dk_at dksX0_addsWayBetween_1 0 rfl rfl)
theorem dX0_addsWayBetween_26 : decode cX0_addsWayBetween 26 = .ok (.aload_n 0, 1) := dk_42 (dk_at dksX0_addsWayBetween_1 3 rfl rfl)
theorem dX0_addsWayBetween_27 : decode cX0_addsWayBetween 27 = .ok (.bipush 32, 2) := dk_16 32 (dk_at dksX0_addsWayBetween_1 4 rfl rfl)
theorem dX0_addsWayBetween_29 : decode cX0_addsWayBetween 29 = .ok (.iload_n 1, 1) := dk_27 (dk_at dksX0_addsWayBetween_1 6 rfl rfl)
theorem dX0_addsWayBetween_30 : decode cX0_addsWayBetween 30 = .ok (.iadd, 1) := dk_96 (dk_at dksX0_addsWayBetween_1 7 rfl rfl)
theorem dX0_addsWayBetween_31 : decode cX0_addsWayBetween 31 = .ok (.bipush 32, 2) := dk_16 32 (dk_at dksX0_addsWayBetween_1 8 rfl rfl)
theorem dX0_addsWayBetween_33 : decode cX0_addsWayBetween 33 = .ok (.iload_n 1, 1) := dk_27 (dk_at dksX0_addsWayBetween_1 10 rfl rfl)
theorem dX0_addsWayBetween_34 : decode cX0_addsWayBetween 34 = .ok (.iadd, 1) := dk_96 (dk_at dksX0_addsWayBetween_1 11 rfl rfl)
theorem dX0_addsWayBetween_35 : decode cX0_addsWayBetween 35 = .ok (.invokevirtual 264, 3) := dk_182 1 8 (dk_at dksX0_addsWayBetween_1 12 rfl rfl)
theorem dX0_addsWayBetween_38 : decode cX0_addsWayBetween 38 = .ok (.iconst 0, 1) := dk_3 (dk_at dksX0_addsWayBetween_1 15 rfl rfl)
theorem dX0_addsWayBetween_39 : decode cX0_addsWayBetween 39 = .ok (.istore_n 3, 1) := dk_62 (dk_at dksX0_addsWayBetween_1 16 rfl rfl)
theorem dX0_addsWayBetween_40 : decode cX0_addsWayBetween 40 = .ok (.iload_n 3, 1) := dk_29 (dk_at dksX0_addsWayBetween_1 17 rfl rfl)
theorem dX0_addsWayBetween_41 : decode cX0_addsWayBetween 41 = .ok (.aload_n 0, 1) := dk_42 (dk_at dksX0_addsWayBetween_1 18 rfl rfl)
theorem dX0_addsWayBetween_42 : decode cX0_addsWayBetween 42 = .ok (.getfield 261, 3) := dk_180 1 5 (dk_at dksX0_addsWayBetween_1 19 rfl rfl)
theorem dX0_addsWayBetween_45 : decode cX0_addsWayBetween 45 = .ok (.if_icmp .ge 214, 3) := dk_162 0 214 (dk_at dksX0_addsWayBetween_2 0 rfl rfl)
theorem dX0_addsWayBetween_48 : decode cX0_addsWayBetween 48 = .ok (.aload_n 0, 1) := dk_42 (dk_at dksX0_addsWayBetween_2 3 rfl rfl)
theorem dX0_addsWayBetween_49 : decode cX0_addsWayBetween 49 = .ok (.getfield 47, 3) := dk_180 0 47 (dk_at dksX0_addsWayBetween_2 4 rfl rfl)
theorem dX0_addsWayBetween_52 : decode cX0_addsWayBetween 52 = .ok (.iload_n 2, 1) := dk_28 (dk_at dksX0_addsWayBetween_2 7 rfl rfl)
theorem dX0_addsWayBetween_53 : decode cX0_addsWayBetween 53 = .ok (.iaload, 1) := dk_46 (dk_at dksX0_addsWayBetween_2 8 rfl rfl)
theorem dX0_addsWayBetween_54 : decode cX0_addsWayBetween 54 = .ok (.iconst (-1), 1) := dk_2 (dk_at dksX0_addsWayBetween_2 9 rfl rfl)
theorem dX0_addsWayBetween_55 : decode cX0_addsWayBetween 55 = .ok (.if_icmp .ne 204, 3) := dk_160 0 204 (dk_at dksX0_addsWayBetween_2 10 rfl rfl)
theorem dX0_addsWayBetween_58 : decode cX0_addsWayBetween 58 = .ok (.aload_n 0, 1) := dk_42 (dk_at dksX0_addsWayBetween_2 13 rfl rfl)
theorem dX0_addsWayBetween_59 : decode cX0_addsWayBetween 59 = .ok (.getfield 50, 3) := dk_180 0 50 (dk_at dksX0_addsWayBetween_2 14 rfl rfl)
theorem dX0_addsWayBetween_62 : decode cX0_addsWayBetween 62 = .ok (.iload_n 3, 1) := dk_29 (dk_at dksX0_addsWayBetween_2 17 rfl rfl)
theorem dX0_addsWayBetween_63 : decode cX0_addsWayBetween 63 = .ok (.iaload, 1) := dk_46 (dk_at dksX0_addsWayBetween_2 18 rfl rfl)
theorem dX0_addsWayBetween_64 : decode cX0_addsWayBetween 64 = .ok (.istore 4, 2) := dk_54 4 (dk_at dksX0_addsWayBetween_2 19 rfl rfl)
theorem dX0_addsWayBetween_66 : decode cX0_addsWayBetween 66 = .ok (.iload 4, 2) := dk_21 4 (dk_at dksX0_addsWayBetween_2 21 rfl rfl)
theorem dX0_addsWayBetween_68 : decode cX0_addsWayBetween 68 = .ok (.bipush 32, 2) := dk_16 32 (dk_at dksX0_addsWayBetween_3 0 rfl rfl)
theorem dX0_addsWayBetween_70 : decode cX0_addsWayBetween 70 = .ok (.irem, 1) := dk_112 (dk_at dksX0_addsWayBetween_3 2 rfl rfl)
theorem dX0_addsWayBetween_71 : decode cX0_addsWayBetween 71 = .ok (.istore 5, 2) := dk_54 5 (dk_at dksX0_addsWayBetween_3 3 rfl rfl)
theorem dX0_addsWayBetween_73 : decode cX0_addsWayBetween 73 = .ok (.iload 4, 2) := dk_21 4 (dk_at dksX0_addsWayBetween_3 5 rfl rfl)
theorem dX0_addsWayBetween_75 : decode cX0_addsWayBetween 75 = .ok (.bipush 32, 2) := dk_16 32 (dk_at dksX0_addsWayBetween_3 7 rfl rfl)
theorem dX0_addsWayBetween_77 : decode cX0_addsWayBetween 77 = .ok (.if_icmp .lt 7, 3) := dk_161 0 7 (dk_at dksX0_addsWayBetween_3 9 rfl rfl)
theorem dX0_addsWayBetween_80 : decode cX0_addsWayBetween 80 = .ok (.iconst 1, 1) := dk_4 (dk_at dksX0_addsWayBetween_3 12 rfl rfl)
theorem dX0_addsWayBetween_81 : decode cX0_addsWayBetween 81 = .ok (.goto 4, 3) := dk_167 0 4 (dk_at dksX0_addsWayBetween_3 13 rfl rfl)
theorem dX0_addsWayBetween_84 : decode cX0_addsWayBetween 84 = .ok (.iconst 0, 1) := dk_3 (dk_at dksX0_addsWayBetween_3 16 rfl rfl)
theorem dX0_addsWayBetween_85 : decode cX0_addsWayBetween 85 = .ok (.istore 6, 2) := dk_54 6 (dk_at dksX0_addsWayBetween_3 17 rfl rfl)
theorem dX0_addsWayBetween_87 : decode cX0_addsWayBetween 87 = .ok (.iconst 0, 1) := dk_3 (dk_at dksX0_addsWayBetween_3 19 rfl rfl)
theorem dX0_addsWayBetween_88 : decode cX0_addsWayBetween 88 = .ok (.istore 7, 2) := dk_54 7 (dk_at dksX0_addsWayBetween_3 20 rfl rfl)
theorem dX0_addsWayBetween_90 : decode cX0_addsWayBetween 90 = .ok (.iload 7, 2) := dk_21 7 (dk_at dksX0_addsWayBetween_3 22 rfl rfl)
theorem dX0_addsWayBetween_92 : decode cX0_addsWayBetween 92 = .ok (.aload_n 0, 1) := dk_42 (dk_at dksX0_addsWayBetween_4 0 rfl rfl)
theorem dX0_addsWayBetween_93 : decode cX0_addsWayBetween 93 = .ok (.getfield 10, 3) := dk_180 0 10 (dk_at dksX0_addsWayBetween_4 1 rfl rfl)
theorem dX0_addsWayBetween_96 : decode cX0_addsWayBetween 96 = .ok (.getfield 158, 3) := dk_180 0 158 (dk_at dksX0_addsWayBetween_4 4 rfl rfl)
theorem dX0_addsWayBetween_99 : decode cX0_addsWayBetween 99 = .ok (.if_icmp .ge 92, 3) := dk_162 0 92 (dk_at dksX0_addsWayBetween_4 7 rfl rfl)
theorem dX0_addsWayBetween_102 : decode cX0_addsWayBetween 102 = .ok (.iload 5, 2) := dk_21 5 (dk_at dksX0_addsWayBetween_4 10 rfl rfl)
theorem dX0_addsWayBetween_104 : decode cX0_addsWayBetween 104 = .ok (.iconst 1, 1) := dk_4 (dk_at dksX0_addsWayBetween_4 12 rfl rfl)
theorem dX0_addsWayBetween_105 : decode cX0_addsWayBetween 105 = .ok (.iload 7, 2) := dk_21 7 (dk_at dksX0_addsWayBetween_4 13 rfl rfl)
theorem dX0_addsWayBetween_107 : decode cX0_addsWayBetween 107 = .ok (.ishl, 1) := dk_120 (dk_at dksX0_addsWayBetween_4 15 rfl rfl)
theorem dX0_addsWayBetween_108 : decode cX0_addsWayBetween 108 = .ok (.ixor, 1) := dk_130 (dk_at dksX0_addsWayBetween_4 16 rfl rfl)
theorem dX0_addsWayBetween_109 : decode cX0_addsWayBetween 109 = .ok (.istore 8, 2) := dk_54 8 (dk_at dksX0_addsWayBetween_4 17 rfl rfl)
theorem dX0_addsWayBetween_111 : decode cX0_addsWayBetween 111 = .ok (.aload_n 0, 1) := dk_42 (dk_at dksX0_addsWayBetween_4 19 rfl rfl)
theorem dX0_addsWayBetween_112 : decode cX0_addsWayBetween 112 = .ok (.getfield 10, 3) := dk_180 0 10 (dk_at dksX0_addsWayBetween_4 20 rfl rfl)
theorem dX0_addsWayBetween_115 : decode cX0_addsWayBetween 115 = .ok (.iload 5, 2) := dk_21 5 (dk_at dksX0_addsWayBetween_5 0 rfl rfl)
theorem dX0_addsWayBetween_117 : decode cX0_addsWayBetween 117 = .ok (.iload 7, 2) := dk_21 7 (dk_at dksX0_addsWayBetween_5 2 rfl rfl)
theorem dX0_addsWayBetween_119 : decode cX0_addsWayBetween 119 = .ok (.invokevirtual 181, 3) := dk_182 0 181 (dk_at dksX0_addsWayBetween_5 4 rfl rfl)
theorem dX0_addsWayBetween_122 : decode cX0_addsWayBetween 122 = .ok (.ifCond .ne 6, 3) := dk_154 0 6 (dk_at dksX0_addsWayBetween_5 7 rfl rfl)
theorem dX0_addsWayBetween_125 : decode cX0_addsWayBetween 125 = .ok (.goto 60, 3) := dk_167 0 60 (dk_at dksX0_addsWayBetween_5 10 rfl rfl)
theorem dX0_addsWayBetween_128 : decode cX0_addsWayBetween 128 = .ok (.iload 6, 2) := dk_21 6 (dk_at dksX0_addsWayBetween_5 13 rfl rfl)
theorem dX0_addsWayBetween_130 : decode cX0_addsWayBetween 130 = .ok (.ifCond .eq 28, 3) := dk_153 0 28 (dk_at dksX0_addsWayBetween_5 15 rfl rfl)
theorem dX0_addsWayBetween_133 : decode cX0_addsWayBetween 133 = .ok (.aload_n 0, 1) := dk_42 (dk_at dksX0_addsWayBetween_5 18 rfl rfl)
theorem dX0_addsWayBetween_134 : decode cX0_addsWayBetween 134 = .ok (.iload 5, 2) := dk_21 5 (dk_at dksX0_addsWayBetween_5 19 rfl rfl)
theorem dX0_addsWayBetween_136 : decode cX0_addsWayBetween 136 = .ok (.iload 7, 2) := dk_21 7 (dk_at dksX0_addsWayBetween_5 21 rfl rfl)
theorem dX0_addsWayBetween_138 : decode cX0_addsWayBetween 138 = .ok (.invokevirtual 245, 3) := dk_182 0 245 (dk_at dksX0_addsWayBetween_6 0 rfl rfl)
theorem dX0_addsWayBetween_141 : decode cX0_addsWayBetween 141 = .ok (.ifCond .ne 17, 3) := dk_154 0 17 (dk_at dksX0_addsWayBetween_6 3 rfl rfl)
theorem dX0_addsWayBetween_144 : decode cX0_addsWayBetween 144 = .ok (.iload 8, 2) := dk_21 8 (dk_at dksX0_addsWayBetween_6 6 rfl rfl)
theorem dX0_addsWayBetween_146 : decode cX0_addsWayBetween 146 = .ok (.iload_n 1, 1) := dk_27 (dk_at dksX0_addsWayBetween_6 8 rfl rfl)
theorem dX0_addsWayBetween_147 : decode cX0_addsWayBetween 147 = .ok (.if_icmp .eq 11, 3) := dk_159 0 11 (dk_at dksX0_addsWayBetween_6 9 rfl rfl)
theorem dX0_addsWayBetween_150 : decode cX0_addsWayBetween 150 = .ok (.aload_n 0, 1) := dk_42 (dk_at dksX0_addsWayBetween_6 12 rfl rfl)
theorem dX0_addsWayBetween_151 : decode cX0_addsWayBetween 151 = .ok (.iload 8, 2) := dk_21 8 (dk_at dksX0_addsWayBetween_6 13 rfl rfl)
theorem dX0_addsWayBetween_153 : decode cX0_addsWayBetween 153 = .ok (.iload 4, 2) := dk_21 4 (dk_at dksX0_addsWayBetween_6 15 rfl rfl)
theorem dX0_addsWayBetween_155 : decode cX0_addsWayBetween 155 = .ok (.invokevirtual 264, 3) := dk_182 1 8 (dk_at dksX0_addsWayBetween_6 17 rfl rfl)
theorem dX0_addsWayBetween_158 : decode cX0_addsWayBetween 158 = .ok (.iload 6, 2) := dk_21 6 (dk_at dksX0_addsWayBetween_6 20 rfl rfl)
theorem dX0_addsWayBetween_160 : decode cX0_addsWayBetween 160 = .ok (.ifCond .ne 25, 3) := dk_154 0 25 (dk_at dksX0_addsWayBetween_7 0 rfl rfl)
theorem dX0_addsWayBetween_163 : decode cX0_addsWayBetween 163 = .ok (.aload_n 0, 1) := dk_42 (dk_at dksX0_addsWayBetween_7 3 rfl rfl)
theorem dX0_addsWayBetween_164 : decode cX0_addsWayBetween 164 = .ok (.iload 8, 2) := dk_21 8 (dk_at dksX0_addsWayBetween_7 4 rfl rfl)
theorem dX0_addsWayBetween_166 : decode cX0_addsWayBetween 166 = .ok (.iload 7, 2) := dk_21 7 (dk_at dksX0_addsWayBetween_7 6 rfl rfl)
theorem dX0_addsWayBetween_168 : decode cX0_addsWayBetween 168 = .ok (.invokevirtual 245, 3) := dk_182 0 245 (dk_at dksX0_addsWayBetween_7 8 rfl rfl)
theorem dX0_addsWayBetween_171 : decode cX0_addsWayBetween 171 = .ok (.ifCond .eq 14, 3) := dk_153 0 14 (dk_at dksX0_addsWayBetween_7 11 rfl rfl)
theorem dX0_addsWayBetween_174 : decode cX0_addsWayBetween 174 = .ok (.aload_n 0, 1) := dk_42 (dk_at dksX0_addsWayBetween_7 14 rfl rfl)
theorem dX0_addsWayBetween_175 : decode cX0_addsWayBetween 175 = .ok (.bipush 32, 2) := dk_16 32 (dk_at dksX0_addsWayBetween_7 15 rfl rfl)
theorem dX0_addsWayBetween_177 : decode cX0_addsWayBetween 177 = .ok (.iload 8, 2) := dk_21 8 (dk_at dksX0_addsWayBetween_7 17 rfl rfl)
theorem dX0_addsWayBetween_179 : decode cX0_addsWayBetween 179 = .ok (.iadd, 1) := dk_96 (dk_at dksX0_addsWayBetween_7 19 rfl rfl)
theorem dX0_addsWayBetween_180 : decode cX0_addsWayBetween 180 = .ok (.iload 4, 2) := dk_21 4 (dk_at dksX0_addsWayBetween_7 20 rfl rfl)
theorem dX0_addsWayBetween_182 : decode cX0_addsWayBetween 182 = .ok (.invokevirtual 264, 3) := dk_182 1 8 (dk_at dksX0_addsWayBetween_8 0 rfl rfl)
theorem dX0_addsWayBetween_185 : decode cX0_addsWayBetween 185 = .ok (.iinc 7 1, 3) := dk_132 7 1 (dk_at dksX0_addsWayBetween_8 3 rfl rfl)
theorem dX0_addsWayBetween_188 : decode cX0_addsWayBetween 188 = .ok (.goto (-98), 3) := dk_167 255 158 (dk_at dksX0_addsWayBetween_8 6 rfl rfl)
theorem dX0_addsWayBetween_191 : decode cX0_addsWayBetween 191 = .ok (.iload 5, 2) := dk_21 5 (dk_at dksX0_addsWayBetween_8 9 rfl rfl)
theorem dX0_addsWayBetween_193 : decode cX0_addsWayBetween 193 = .ok (.iload_n 1, 1) := dk_27 (dk_at dksX0_addsWayBetween_8 11 rfl rfl)
theorem dX0_addsWayBetween_194 : decode cX0_addsWayBetween 194 = .ok (.if_icmp .eq 59, 3) := dk_159 0 59 (dk_at dksX0_addsWayBetween_8 12 rfl rfl)
theorem dX0_addsWayBetween_197 : decode cX0_addsWayBetween 197 = .ok (.iload 5, 2) := dk_21 5 (dk_at dksX0_addsWayBetween_8 15 rfl rfl)
theorem dX0_addsWayBetween_199 : decode cX0_addsWayBetween 199 = .ok (.iload_n 2, 1) := dk_28 (dk_at dksX0_addsWayBetween_8 17 rfl rfl)
theorem dX0_addsWayBetween_200 : decode cX0_addsWayBetween 200 = .ok (.if_icmp .ne 6, 3) := dk_160 0 6 (dk_at dksX0_addsWayBetween_8 18 rfl rfl)
theorem dX0_addsWayBetween_203 : decode cX0_addsWayBetween 203 = .ok (.goto 50, 3) := dk_167 0 50 (dk_at dksX0_addsWayBetween_8 21 rfl rfl)
theorem dX0_addsWayBetween_206 : decode cX0_addsWayBetween 206 = .ok (.iload 6, 2) := dk_21 6 (dk_at dksX0_addsWayBetween_9 0 rfl rfl)
theorem dX0_addsWayBetween_208 : decode cX0_addsWayBetween 208 = .ok (.ifCond .ne 23, 3) := dk_154 0 23 (dk_at dksX0_addsWayBetween_9 2 rfl rfl)
theorem dX0_addsWayBetween_211 : decode cX0_addsWayBetween 211 = .ok (.aload_n 0, 1) := dk_42 (dk_at dksX0_addsWayBetween_9 5 rfl rfl)
theorem dX0_addsWayBetween_212 : decode cX0_addsWayBetween 212 = .ok (.iload 5, 2) := dk_21 5 (dk_at dksX0_addsWayBetween_9 6 rfl rfl)
theorem dX0_addsWayBetween_214 : decode cX0_addsWayBetween 214 = .ok (.invokevirtual 267, 3) := dk_182 1 11 (dk_at dksX0_addsWayBetween_9 8 rfl rfl)
theorem dX0_addsWayBetween_217 : decode cX0_addsWayBetween 217 = .ok (.ifCond .ne 14, 3) := dk_154 0 14 (dk_at dksX0_addsWayBetween_9 11 rfl rfl)
theorem dX0_addsWayBetween_220 : decode cX0_addsWayBetween 220 = .ok (.aload_n 0, 1) := dk_42 (dk_at dksX0_addsWayBetween_9 14 rfl rfl)
theorem dX0_addsWayBetween_221 : decode cX0_addsWayBetween 221 = .ok (.bipush 32, 2) := dk_16 32 (dk_at dksX0_addsWayBetween_9 15 rfl rfl)
theorem dX0_addsWayBetween_223 : decode cX0_addsWayBetween 223 = .ok (.iload 5, 2) := dk_21 5 (dk_at dksX0_addsWayBetween_9 17 rfl rfl)
theorem dX0_addsWayBetween_225 : decode cX0_addsWayBetween 225 = .ok (.iadd, 1) := dk_96 (dk_at dksX0_addsWayBetween_9 19 rfl rfl)
theorem dX0_addsWayBetween_226 : decode cX0_addsWayBetween 226 = .ok (.iload 4, 2) := dk_21 4 (dk_at dksX0_addsWayBetween_9 20 rfl rfl)
theorem dX0_addsWayBetween_228 : decode cX0_addsWayBetween 228 = .ok (.invokevirtual 264, 3) := dk_182 1 8 (dk_at dksX0_addsWayBetween_10 0 rfl rfl)
theorem dX0_addsWayBetween_231 : decode cX0_addsWayBetween 231 = .ok (.iload 6, 2) := dk_21 6 (dk_at dksX0_addsWayBetween_10 3 rfl rfl)
theorem dX0_addsWayBetween_233 : decode cX0_addsWayBetween 233 = .ok (.ifCond .eq 20, 3) := dk_153 0 20 (dk_at dksX0_addsWayBetween_10 5 rfl rfl)
theorem dX0_addsWayBetween_236 : decode cX0_addsWayBetween 236 = .ok (.aload_n 0, 1) := dk_42 (dk_at dksX0_addsWayBetween_10 8 rfl rfl)
theorem dX0_addsWayBetween_237 : decode cX0_addsWayBetween 237 = .ok (.iload 5, 2) := dk_21 5 (dk_at dksX0_addsWayBetween_10 9 rfl rfl)
theorem dX0_addsWayBetween_239 : decode cX0_addsWayBetween 239 = .ok (.invokevirtual 267, 3) := dk_182 1 11 (dk_at dksX0_addsWayBetween_10 11 rfl rfl)
theorem dX0_addsWayBetween_242 : decode cX0_addsWayBetween 242 = .ok (.ifCond .eq 11, 3) := dk_153 0 11 (dk_at dksX0_addsWayBetween_10 14 rfl rfl)
theorem dX0_addsWayBetween_245 : decode cX0_addsWayBetween 245 = .ok (.aload_n 0, 1) := dk_42 (dk_at dksX0_addsWayBetween_10 17 rfl rfl)
theorem dX0_addsWayBetween_246 : decode cX0_addsWayBetween 246 = .ok (.iload 5, 2) := dk_21 5 (dk_at dksX0_addsWayBetween_10 18 rfl rfl)
theorem dX0_addsWayBetween_248 : decode cX0_addsWayBetween 248 = .ok (.iload 4, 2) := dk_21 4 (dk_at dksX0_addsWayBetween_10 20 rfl rfl)
theorem dX0_addsWayBetween_250 : decode cX0_addsWayBetween 250 = .ok (.invokevirtual 264, 3) := dk_182 1 8 (dk_at dksX0_addsWayBetween_11 0 rfl rfl)
theorem dX0_addsWayBetween_253 : decode cX0_addsWayBetween 253 = .ok (.iinc 3 1, 3) := dk_132 3 1 (dk_at dksX0_addsWayBetween_11 3 rfl rfl)
theorem dX0_addsWayBetween_256 : decode cX0_addsWayBetween 256 = .ok (.goto (-216), 3) := dk_167 255 40 (dk_at dksX0_addsWayBetween_11 6 rfl rfl)
theorem dX0_addsWayBetween_259 : decode cX0_addsWayBetween 259 = .ok (.aload_n 0, 1) := dk_42 (dk_at dksX0_addsWayBetween_11 9 rfl rfl)
theorem dX0_addsWayBetween_260 : decode cX0_addsWayBetween 260 = .ok (.getfield 47, 3) := dk_180 0 47 (dk_at dksX0_addsWayBetween_11 10 rfl rfl)
theorem dX0_addsWayBetween_263 : decode cX0_addsWayBetween 263 = .ok (.iload_n 2, 1) := dk_28 (dk_at dksX0_addsWayBetween_11 13 rfl rfl)
theorem dX0_addsWayBetween_264 : decode cX0_addsWayBetween 264 = .ok (.iaload, 1) := dk_46 (dk_at dksX0_addsWayBetween_11 14 rfl rfl)
theorem dX0_addsWayBetween_265 : decode cX0_addsWayBetween 265 = .ok (.iconst (-1), 1) := dk_2 (dk_at dksX0_addsWayBetween_11 15 rfl rfl)
theorem dX0_addsWayBetween_266 : decode cX0_addsWayBetween 266 = .ok (.if_icmp .ne 5, 3) := dk_160 0 5 (dk_at dksX0_addsWayBetween_11 16 rfl rfl)
theorem dX0_addsWayBetween_269 : decode cX0_addsWayBetween 269 = .ok (.iconst 0, 1) := dk_3 (dk_at dksX0_addsWayBetween_11 19 rfl rfl)
theorem dX0_addsWayBetween_270 : decode cX0_addsWayBetween 270 = .ok (.ireturn, 1) := dk_172 (dk_at dksX0_addsWayBetween_11 20 rfl rfl)
theorem dX0_addsWayBetween_271 : decode cX0_addsWayBetween 271 = .ok (.iload_n 2, 1) := dk_28 (dk_at dksX0_addsWayBetween_11 21 rfl rfl)
theorem dX0_addsWayBetween_272 : decode cX0_addsWayBetween 272 = .ok (.istore_n 3, 1) := dk_62 (dk_at dksX0_addsWayBetween_11 22 rfl rfl)
theorem dX0_addsWayBetween_273 : decode cX0_addsWayBetween 273 = .ok (.iload_n 3, 1) := dk_29 (dk_at dksX0_addsWayBetween_11 23 rfl rfl)
theorem dX0_addsWayBetween_274 : decode cX0_addsWayBetween 274 = .ok (.bipush 32, 2) := dk_16 32 (dk_at dksX0_addsWayBetween_12 0 rfl rfl)
theorem dX0_addsWayBetween_276 : decode cX0_addsWayBetween 276 = .ok (.iload_n 1, 1) := dk_27 (dk_at dksX0_addsWayBetween_12 2 rfl rfl)
theorem dX0_addsWayBetween_277 : decode cX0_addsWayBetween 277 = .ok (.iadd, 1) := dk_96 (dk_at dksX0_addsWayBetween_12 3 rfl rfl)
theorem dX0_addsWayBetween_278 : decode cX0_addsWayBetween 278 = .ok (.if_icmp .eq 40, 3) := dk_159 0 40 (dk_at dksX0_addsWayBetween_12 4 rfl rfl)
theorem dX0_addsWayBetween_281 : decode cX0_addsWayBetween 281 = .ok (.aload_n 0, 1) := dk_42 (dk_at dksX0_addsWayBetween_12 7 rfl rfl)
theorem dX0_addsWayBetween_282 : decode cX0_addsWayBetween 282 = .ok (.getfield 47, 3) := dk_180 0 47 (dk_at dksX0_addsWayBetween_12 8 rfl rfl)
theorem dX0_addsWayBetween_285 : decode cX0_addsWayBetween 285 = .ok (.iload_n 3, 1) := dk_29 (dk_at dksX0_addsWayBetween_12 11 rfl rfl)
theorem dX0_addsWayBetween_286 : decode cX0_addsWayBetween 286 = .ok (.iaload, 1) := dk_46 (dk_at dksX0_addsWayBetween_12 12 rfl rfl)
theorem dX0_addsWayBetween_287 : decode cX0_addsWayBetween 287 = .ok (.bipush 32, 2) := dk_16 32 (dk_at dksX0_addsWayBetween_12 13 rfl rfl)
theorem dX0_addsWayBetween_289 : decode cX0_addsWayBetween 289 = .ok (.irem, 1) := dk_112 (dk_at dksX0_addsWayBetween_12 15 rfl rfl)
theorem dX0_addsWayBetween_290 : decode cX0_addsWayBetween 290 = .ok (.iload_n 3, 1) := dk_29 (dk_at dksX0_addsWayBetween_12 16 rfl rfl)
theorem dX0_addsWayBetween_291 : decode cX0_addsWayBetween 291 = .ok (.bipush 32, 2) := dk_16 32 (dk_at dksX0_addsWayBetween_12 17 rfl rfl)
theorem dX0_addsWayBetween_293 : decode cX0_addsWayBetween 293 = .ok (.irem, 1) := dk_112 (dk_at dksX0_addsWayBetween_12 19 rfl rfl)
theorem dX0_addsWayBetween_294 : decode cX0_addsWayBetween 294 = .ok (.if_icmp .eq 14, 3) := dk_159 0 14 (dk_at dksX0_addsWayBetween_12 20 rfl rfl)
theorem dX0_addsWayBetween_297 : decode cX0_addsWayBetween 297 = .ok (.aload_n 0, 1) := dk_42 (dk_at dksX0_addsWayBetween_12 23 rfl rfl)
theorem dX0_addsWayBetween_298 : decode cX0_addsWayBetween 298 = .ok (.aload_n 0, 1) := dk_42 (dk_at dksX0_addsWayBetween_13 0 rfl rfl)
theorem dX0_addsWayBetween_299 : decode cX0_addsWayBetween 299 = .ok (.getfield 47, 3) := dk_180 0 47 (dk_at dksX0_addsWayBetween_13 1 rfl rfl)
theorem dX0_addsWayBetween_302 : decode cX0_addsWayBetween 302 = .ok (.iload_n 3, 1) := dk_29 (dk_at dksX0_addsWayBetween_13 4 rfl rfl)
theorem dX0_addsWayBetween_303 : decode cX0_addsWayBetween 303 = .ok (.iaload, 1) := dk_46 (dk_at dksX0_addsWayBetween_13 5 rfl rfl)
theorem dX0_addsWayBetween_304 : decode cX0_addsWayBetween 304 = .ok (.iload_n 3, 1) := dk_29 (dk_at dksX0_addsWayBetween_13 6 rfl rfl)
theorem dX0_addsWayBetween_305 : decode cX0_addsWayBetween 305 = .ok (.invokevirtual 270, 3) := dk_182 1 14 (dk_at dksX0_addsWayBetween_13 7 rfl rfl)
theorem dX0_addsWayBetween_308 : decode cX0_addsWayBetween 308 = .ok (.aload_n 0, 1) := dk_42 (dk_at dksX0_addsWayBetween_13 10 rfl rfl)
theorem dX0_addsWayBetween_309 : decode cX0_addsWayBetween 309 = .ok (.getfield 47, 3) := dk_180 0 47 (dk_at dksX0_addsWayBetween_13 11 rfl rfl)
theorem dX0_addsWayBetween_312 : decode cX0_addsWayBetween 312 = .ok (.iload_n 3, 1) := dk_29 (dk_at dksX0_addsWayBetween_13 14 rfl rfl)
theorem dX0_addsWayBetween_313 : decode cX0_addsWayBetween 313 = .ok (.iaload, 1) := dk_46 (dk_at dksX0_addsWayBetween_13 15 rfl rfl)
theorem dX0_addsWayBetween_314 : decode cX0_addsWayBetween 314 = .ok (.istore_n 3, 1) := dk_62 (dk_at dksX0_addsWayBetween_13 16 rfl rfl)
theorem dX0_addsWayBetween_315 : decode cX0_addsWayBetween 315 = .ok (.goto (-42), 3) := dk_167 255 214 (dk_at dksX0_addsWayBetween_13 17 rfl rfl)
theorem dX0_addsWayBetween_318 : decode cX0_addsWayBetween 318 = .ok (.iconst 1, 1) := dk_4 (dk_at dksX0_addsWayBetween_13 20 rfl rfl)
theorem dX0_addsWayBetween_319 : decode cX0_addsWayBetween 319 = .ok (.ireturn, 1) := dk_172 (dk_at dksX0_addsWayBetween_13 21 rfl rfl)
abbrev cX0_meets : ByteArray := prog_1_method_41_code
def yX0_meets : MethodName := ⟨RX0, "meets", "(II)V"⟩
def dkwX0_meets_1 : List UInt8 := [180, 1, 5, 27, 79, 42, 89, 180, 1, 5, 4, 96, 181, 1, 5, 177]
abbrev dktX0_meets_1 : List UInt8 := dkwX0_meets_1 ++ []
def dkwX0_meets_0 : List UInt8 := [42, 180, 0, 47, 27, 46, 2, 159, 0, 4, 177, 42, 180, 0, 47, 27, 28, 79, 42, 180, 0, 50, 42]
abbrev dktX0_meets_0 : List UInt8 := dkwX0_meets_0 ++ dktX0_meets_1
theorem dksX0_meets_0 : cX0_meets.data.toList.drop 0 = dktX0_meets_0 := by decide +kernel
theorem dksX0_meets_1 : cX0_meets.data.toList.drop 23 = dktX0_meets_1 := dk_seg dksX0_meets_0 23 rfl rfl
theorem dX0_meets_0 : decode cX0_meets 0 = .ok (.aload_n 0, 1) := dk_42 (dk_at dksX0_meets_0 0 rfl rfl)
theorem dX0_meets_1 : decode cX0_meets 1 = .ok (.getfield 47, 3) := dk_180 0 47 (dk_at dksX0_meets_0 1 rfl rfl)
theorem dX0_meets_4 : decode cX0_meets 4 = .ok (.iload_n 1, 1) := dk_27 (dk_at dksX0_meets_0 4 rfl rfl)
theorem dX0_meets_5 : decode cX0_meets 5 = .ok (.iaload, 1) := dk_46 (dk_at dksX0_meets_0 5 rfl rfl)
theorem dX0_meets_6 : decode cX0_meets 6 = .ok (.iconst (-1), 1) := dk_2 (dk_at dksX0_meets_0 6 rfl rfl)
theorem dX0_meets_7 : decode cX0_meets 7 = .ok (.if_icmp .eq 4, 3) := dk_159 0 4 (dk_at dksX0_meets_0 7 rfl rfl)
theorem dX0_meets_10 : decode cX0_meets 10 = .ok (.return_, 1) := dk_177 (dk_at dksX0_meets_0 10 rfl rfl)
theorem dX0_meets_11 : decode cX0_meets 11 = .ok (.aload_n 0, 1) := dk_42 (dk_at dksX0_meets_0 11 rfl rfl)
theorem dX0_meets_12 : decode cX0_meets 12 = .ok (.getfield 47, 3) := dk_180 0 47 (dk_at dksX0_meets_0 12 rfl rfl)
theorem dX0_meets_15 : decode cX0_meets 15 = .ok (.iload_n 1, 1) := dk_27 (dk_at dksX0_meets_0 15 rfl rfl)
theorem dX0_meets_16 : decode cX0_meets 16 = .ok (.iload_n 2, 1) := dk_28 (dk_at dksX0_meets_0 16 rfl rfl)
theorem dX0_meets_17 : decode cX0_meets 17 = .ok (.iastore, 1) := dk_79 (dk_at dksX0_meets_0 17 rfl rfl)
theorem dX0_meets_18 : decode cX0_meets 18 = .ok (.aload_n 0, 1) := dk_42 (dk_at dksX0_meets_0 18 rfl rfl)
theorem dX0_meets_19 : decode cX0_meets 19 = .ok (.getfield 50, 3) := dk_180 0 50 (dk_at dksX0_meets_0 19 rfl rfl)
theorem dX0_meets_22 : decode cX0_meets 22 = .ok (.aload_n 0, 1) := dk_42 (dk_at dksX0_meets_0 22 rfl rfl)
theorem dX0_meets_23 : decode cX0_meets 23 = .ok (.getfield 261, 3) := dk_180 1 5 (dk_at dksX0_meets_1 0 rfl rfl)
theorem dX0_meets_26 : decode cX0_meets 26 = .ok (.iload_n 1, 1) := dk_27 (dk_at dksX0_meets_1 3 rfl rfl)
theorem dX0_meets_27 : decode cX0_meets 27 = .ok (.iastore, 1) := dk_79 (dk_at dksX0_meets_1 4 rfl rfl)
theorem dX0_meets_28 : decode cX0_meets 28 = .ok (.aload_n 0, 1) := dk_42 (dk_at dksX0_meets_1 5 rfl rfl)
theorem dX0_meets_29 : decode cX0_meets 29 = .ok (.dup, 1) := dk_89 (dk_at dksX0_meets_1 6 rfl rfl)
theorem dX0_meets_30 : decode cX0_meets 30 = .ok (.getfield 261, 3) := dk_180 1 5 (dk_at dksX0_meets_1 7 rfl rfl)
theorem dX0_meets_33 : decode cX0_meets 33 = .ok (.iconst 1, 1) := dk_4 (dk_at dksX0_meets_1 10 rfl rfl)
theorem dX0_meets_34 : decode cX0_meets 34 = .ok (.iadd, 1) := dk_96 (dk_at dksX0_meets_1 11 rfl rfl)
theorem dX0_meets_35 : decode cX0_meets 35 = .ok (.putfield 261, 3) := dk_181 1 5 (dk_at dksX0_meets_1 12 rfl rfl)
theorem dX0_meets_38 : decode cX0_meets 38 = .ok (.return_, 1) := dk_177 (dk_at dksX0_meets_1 15 rfl rfl)
abbrev cX0_isThrough : ByteArray := prog_1_method_35_code
def yX0_isThrough : MethodName := ⟨RX0, "isThrough", "(I)Z"⟩
def dkwX0_isThrough_0 : List UInt8 := [42, 180, 0, 44, 27, 46, 153, 0, 7, 4, 167, 0, 4, 3, 172]
abbrev dktX0_isThrough_0 : List UInt8 := dkwX0_isThrough_0 ++ []
theorem dksX0_isThrough_0 : cX0_isThrough.data.toList.drop 0 = dktX0_isThrough_0 := by decide +kernel
theorem dX0_isThrough_0 : decode cX0_isThrough 0 = .ok (.aload_n 0, 1) := dk_42 (dk_at dksX0_isThrough_0 0 rfl rfl)
theorem dX0_isThrough_1 : decode cX0_isThrough 1 = .ok (.getfield 44, 3) := dk_180 0 44 (dk_at dksX0_isThrough_0 1 rfl rfl)
theorem dX0_isThrough_4 : decode cX0_isThrough 4 = .ok (.iload_n 1, 1) := dk_27 (dk_at dksX0_isThrough_0 4 rfl rfl)
theorem dX0_isThrough_5 : decode cX0_isThrough 5 = .ok (.iaload, 1) := dk_46 (dk_at dksX0_isThrough_0 5 rfl rfl)
theorem dX0_isThrough_6 : decode cX0_isThrough 6 = .ok (.ifCond .eq 7, 3) := dk_153 0 7 (dk_at dksX0_isThrough_0 6 rfl rfl)
theorem dX0_isThrough_9 : decode cX0_isThrough 9 = .ok (.iconst 1, 1) := dk_4 (dk_at dksX0_isThrough_0 9 rfl rfl)
theorem dX0_isThrough_10 : decode cX0_isThrough 10 = .ok (.goto 4, 3) := dk_167 0 4 (dk_at dksX0_isThrough_0 10 rfl rfl)
theorem dX0_isThrough_13 : decode cX0_isThrough 13 = .ok (.iconst 0, 1) := dk_3 (dk_at dksX0_isThrough_0 13 rfl rfl)
theorem dX0_isThrough_14 : decode cX0_isThrough 14 = .ok (.ireturn, 1) := dk_172 (dk_at dksX0_isThrough_0 14 rfl rfl)
abbrev cX0_pushesBetween : ByteArray := prog_1_method_43_code
def yX0_pushesBetween : MethodName := ⟨RX0, "pushesBetween", "(II)V"⟩
def dkwX0_pushesBetween_2 : List UInt8 := [21, 4, 92, 46, 4, 21, 5, 120, 2, 130, 126, 79, 177]
abbrev dktX0_pushesBetween_2 : List UInt8 := dkwX0_pushesBetween_2 ++ []
def dkwX0_pushesBetween_1 : List UInt8 := [161, 0, 19, 42, 180, 0, 44, 29, 92, 46, 4, 21, 5, 120, 128, 79, 167, 0, 19, 42, 180, 0, 44]
abbrev dktX0_pushesBetween_1 : List UInt8 := dkwX0_pushesBetween_1 ++ dktX0_pushesBetween_2
def dkwX0_pushesBetween_0 : List UInt8 := [27, 16, 32, 112, 62, 28, 16, 32, 112, 54, 4, 29, 21, 4, 184, 0, 230, 54, 5, 27, 16, 32]
abbrev dktX0_pushesBetween_0 : List UInt8 := dkwX0_pushesBetween_0 ++ dktX0_pushesBetween_1
theorem dksX0_pushesBetween_0 : cX0_pushesBetween.data.toList.drop 0 = dktX0_pushesBetween_0 := by decide +kernel
theorem dksX0_pushesBetween_1 : cX0_pushesBetween.data.toList.drop 22 = dktX0_pushesBetween_1 := dk_seg dksX0_pushesBetween_0 22 rfl rfl
theorem dksX0_pushesBetween_2 : cX0_pushesBetween.data.toList.drop 45 = dktX0_pushesBetween_2 := dk_seg dksX0_pushesBetween_1 23 rfl rfl
theorem dX0_pushesBetween_0 : decode cX0_pushesBetween 0 = .ok (.iload_n 1, 1) := dk_27 (dk_at dksX0_pushesBetween_0 0 rfl rfl)
theorem dX0_pushesBetween_1 : decode cX0_pushesBetween 1 = .ok (.bipush 32, 2) := dk_16 32 (dk_at dksX0_pushesBetween_0 1 rfl rfl)
theorem dX0_pushesBetween_3 : decode cX0_pushesBetween 3 = .ok (.irem, 1) := dk_112 (dk_at dksX0_pushesBetween_0 3 rfl rfl)
theorem dX0_pushesBetween_4 : decode cX0_pushesBetween 4 = .ok (.istore_n 3, 1) := dk_62 (dk_at dksX0_pushesBetween_0 4 rfl rfl)
theorem dX0_pushesBetween_5 : decode cX0_pushesBetween 5 = .ok (.iload_n 2, 1) := dk_28 (dk_at dksX0_pushesBetween_0 5 rfl rfl)
theorem dX0_pushesBetween_6 : decode cX0_pushesBetween 6 = .ok (.bipush 32, 2) := dk_16 32 (dk_at dksX0_pushesBetween_0 6 rfl rfl)
theorem dX0_pushesBetween_8 : decode cX0_pushesBetween 8 = .ok (.irem, 1) := dk_112 (dk_at dksX0_pushesBetween_0 8 rfl rfl)
theorem dX0_pushesBetween_9 : decode cX0_pushesBetween 9 = .ok (.istore 4, 2) := dk_54 4 (dk_at dksX0_pushesBetween_0 9 rfl rfl)
theorem dX0_pushesBetween_11 : decode cX0_pushesBetween 11 = .ok (.iload_n 3, 1) := dk_29 (dk_at dksX0_pushesBetween_0 11 rfl rfl)
theorem dX0_pushesBetween_12 : decode cX0_pushesBetween 12 = .ok (.iload 4, 2) := dk_21 4 (dk_at dksX0_pushesBetween_0 12 rfl rfl)
theorem dX0_pushesBetween_14 : decode cX0_pushesBetween 14 = .ok (.invokestatic 230, 3) := dk_184 0 230 (dk_at dksX0_pushesBetween_0 14 rfl rfl)
theorem dX0_pushesBetween_17 : decode cX0_pushesBetween 17 = .ok (.istore 5, 2) := dk_54 5 (dk_at dksX0_pushesBetween_0 17 rfl rfl)
theorem dX0_pushesBetween_19 : decode cX0_pushesBetween 19 = .ok (.iload_n 1, 1) := dk_27 (dk_at dksX0_pushesBetween_0 19 rfl rfl)
theorem dX0_pushesBetween_20 : decode cX0_pushesBetween 20 = .ok (.bipush 32, 2) := dk_16 32 (dk_at dksX0_pushesBetween_0 20 rfl rfl)
theorem dX0_pushesBetween_22 : decode cX0_pushesBetween 22 = .ok (.if_icmp .lt 19, 3) := dk_161 0 19 (dk_at dksX0_pushesBetween_1 0 rfl rfl)
theorem dX0_pushesBetween_25 : decode cX0_pushesBetween 25 = .ok (.aload_n 0, 1) := dk_42 (dk_at dksX0_pushesBetween_1 3 rfl rfl)
theorem dX0_pushesBetween_26 : decode cX0_pushesBetween 26 = .ok (.getfield 44, 3) := dk_180 0 44 (dk_at dksX0_pushesBetween_1 4 rfl rfl)
theorem dX0_pushesBetween_29 : decode cX0_pushesBetween 29 = .ok (.iload_n 3, 1) := dk_29 (dk_at dksX0_pushesBetween_1 7 rfl rfl)
theorem dX0_pushesBetween_30 : decode cX0_pushesBetween 30 = .ok (.dup2, 1) := dk_92 (dk_at dksX0_pushesBetween_1 8 rfl rfl)
theorem dX0_pushesBetween_31 : decode cX0_pushesBetween 31 = .ok (.iaload, 1) := dk_46 (dk_at dksX0_pushesBetween_1 9 rfl rfl)
theorem dX0_pushesBetween_32 : decode cX0_pushesBetween 32 = .ok (.iconst 1, 1) := dk_4 (dk_at dksX0_pushesBetween_1 10 rfl rfl)
theorem dX0_pushesBetween_33 : decode cX0_pushesBetween 33 = .ok (.iload 5, 2) := dk_21 5 (dk_at dksX0_pushesBetween_1 11 rfl rfl)
theorem dX0_pushesBetween_35 : decode cX0_pushesBetween 35 = .ok (.ishl, 1) := dk_120 (dk_at dksX0_pushesBetween_1 13 rfl rfl)
theorem dX0_pushesBetween_36 : decode cX0_pushesBetween 36 = .ok (.ior, 1) := dk_128 (dk_at dksX0_pushesBetween_1 14 rfl rfl)
theorem dX0_pushesBetween_37 : decode cX0_pushesBetween 37 = .ok (.iastore, 1) := dk_79 (dk_at dksX0_pushesBetween_1 15 rfl rfl)
theorem dX0_pushesBetween_38 : decode cX0_pushesBetween 38 = .ok (.goto 19, 3) := dk_167 0 19 (dk_at dksX0_pushesBetween_1 16 rfl rfl)
theorem dX0_pushesBetween_41 : decode cX0_pushesBetween 41 = .ok (.aload_n 0, 1) := dk_42 (dk_at dksX0_pushesBetween_1 19 rfl rfl)
theorem dX0_pushesBetween_42 : decode cX0_pushesBetween 42 = .ok (.getfield 44, 3) := dk_180 0 44 (dk_at dksX0_pushesBetween_1 20 rfl rfl)
theorem dX0_pushesBetween_45 : decode cX0_pushesBetween 45 = .ok (.iload 4, 2) := dk_21 4 (dk_at dksX0_pushesBetween_2 0 rfl rfl)
theorem dX0_pushesBetween_47 : decode cX0_pushesBetween 47 = .ok (.dup2, 1) := dk_92 (dk_at dksX0_pushesBetween_2 2 rfl rfl)
theorem dX0_pushesBetween_48 : decode cX0_pushesBetween 48 = .ok (.iaload, 1) := dk_46 (dk_at dksX0_pushesBetween_2 3 rfl rfl)
theorem dX0_pushesBetween_49 : decode cX0_pushesBetween 49 = .ok (.iconst 1, 1) := dk_4 (dk_at dksX0_pushesBetween_2 4 rfl rfl)
theorem dX0_pushesBetween_50 : decode cX0_pushesBetween 50 = .ok (.iload 5, 2) := dk_21 5 (dk_at dksX0_pushesBetween_2 5 rfl rfl)
theorem dX0_pushesBetween_52 : decode cX0_pushesBetween 52 = .ok (.ishl, 1) := dk_120 (dk_at dksX0_pushesBetween_2 7 rfl rfl)
theorem dX0_pushesBetween_53 : decode cX0_pushesBetween 53 = .ok (.iconst (-1), 1) := dk_2 (dk_at dksX0_pushesBetween_2 8 rfl rfl)
theorem dX0_pushesBetween_54 : decode cX0_pushesBetween 54 = .ok (.ixor, 1) := dk_130 (dk_at dksX0_pushesBetween_2 9 rfl rfl)
theorem dX0_pushesBetween_55 : decode cX0_pushesBetween 55 = .ok (.iand, 1) := dk_126 (dk_at dksX0_pushesBetween_2 10 rfl rfl)
theorem dX0_pushesBetween_56 : decode cX0_pushesBetween 56 = .ok (.iastore, 1) := dk_79 (dk_at dksX0_pushesBetween_2 11 rfl rfl)
theorem dX0_pushesBetween_57 : decode cX0_pushesBetween 57 = .ok (.return_, 1) := dk_177 (dk_at dksX0_pushesBetween_2 12 rfl rfl)
abbrev cX0_side : ByteArray := prog_1_method_46_code
def yX0_side : MethodName := ⟨RX0, "side", "(II)I"⟩
def dkwX0_side_2 : List UInt8 := [3, 167, 0, 7, 4, 21, 4, 120, 128, 62, 132, 4, 1, 167, 255, 219, 29, 172]
abbrev dktX0_side_2 : List UInt8 := dkwX0_side_2 ++ []
def dkwX0_side_1 : List UInt8 := [21, 4, 42, 180, 0, 10, 182, 0, 161, 162, 0, 31, 29, 42, 180, 0, 47, 21, 4, 46, 2, 160, 0, 7]
abbrev dktX0_side_1 : List UInt8 := dkwX0_side_1 ++ dktX0_side_2
def dkwX0_side_0 : List UInt8 := [42, 27, 28, 182, 1, 20, 154, 0, 6, 16, 254, 172, 42, 27, 28, 182, 1, 23, 87, 3, 62, 3, 54, 4]
abbrev dktX0_side_0 : List UInt8 := dkwX0_side_0 ++ dktX0_side_1
theorem dksX0_side_0 : cX0_side.data.toList.drop 0 = dktX0_side_0 := by decide +kernel
theorem dksX0_side_1 : cX0_side.data.toList.drop 24 = dktX0_side_1 := dk_seg dksX0_side_0 24 rfl rfl
theorem dksX0_side_2 : cX0_side.data.toList.drop 48 = dktX0_side_2 := dk_seg dksX0_side_1 24 rfl rfl
theorem dX0_side_0 : decode cX0_side 0 = .ok (.aload_n 0, 1) := dk_42 (dk_at dksX0_side_0 0 rfl rfl)
theorem dX0_side_1 : decode cX0_side 1 = .ok (.iload_n 1, 1) := dk_27 (dk_at dksX0_side_0 1 rfl rfl)
theorem dX0_side_2 : decode cX0_side 2 = .ok (.iload_n 2, 1) := dk_28 (dk_at dksX0_side_0 2 rfl rfl)
theorem dX0_side_3 : decode cX0_side 3 = .ok (.invokevirtual 276, 3) := dk_182 1 20 (dk_at dksX0_side_0 3 rfl rfl)
theorem dX0_side_6 : decode cX0_side 6 = .ok (.ifCond .ne 6, 3) := dk_154 0 6 (dk_at dksX0_side_0 6 rfl rfl)
theorem dX0_side_9 : decode cX0_side 9 = .ok (.bipush (-2), 2) := dk_16 254 (dk_at dksX0_side_0 9 rfl rfl)
theorem dX0_side_11 : decode cX0_side 11 = .ok (.ireturn, 1) := dk_172 (dk_at dksX0_side_0 11 rfl rfl)
theorem dX0_side_12 : decode cX0_side 12 = .ok (.aload_n 0, 1) := dk_42 (dk_at dksX0_side_0 12 rfl rfl)
theorem dX0_side_13 : decode cX0_side 13 = .ok (.iload_n 1, 1) := dk_27 (dk_at dksX0_side_0 13 rfl rfl)
theorem dX0_side_14 : decode cX0_side 14 = .ok (.iload_n 2, 1) := dk_28 (dk_at dksX0_side_0 14 rfl rfl)
theorem dX0_side_15 : decode cX0_side 15 = .ok (.invokevirtual 279, 3) := dk_182 1 23 (dk_at dksX0_side_0 15 rfl rfl)
theorem dX0_side_18 : decode cX0_side 18 = .ok (.pop, 1) := dk_87 (dk_at dksX0_side_0 18 rfl rfl)
theorem dX0_side_19 : decode cX0_side 19 = .ok (.iconst 0, 1) := dk_3 (dk_at dksX0_side_0 19 rfl rfl)
theorem dX0_side_20 : decode cX0_side 20 = .ok (.istore_n 3, 1) := dk_62 (dk_at dksX0_side_0 20 rfl rfl)
theorem dX0_side_21 : decode cX0_side 21 = .ok (.iconst 0, 1) := dk_3 (dk_at dksX0_side_0 21 rfl rfl)
theorem dX0_side_22 : decode cX0_side 22 = .ok (.istore 4, 2) := dk_54 4 (dk_at dksX0_side_0 22 rfl rfl)
theorem dX0_side_24 : decode cX0_side 24 = .ok (.iload 4, 2) := dk_21 4 (dk_at dksX0_side_1 0 rfl rfl)
theorem dX0_side_26 : decode cX0_side 26 = .ok (.aload_n 0, 1) := dk_42 (dk_at dksX0_side_1 2 rfl rfl)
theorem dX0_side_27 : decode cX0_side 27 = .ok (.getfield 10, 3) := dk_180 0 10 (dk_at dksX0_side_1 3 rfl rfl)
theorem dX0_side_30 : decode cX0_side 30 = .ok (.invokevirtual 161, 3) := dk_182 0 161 (dk_at dksX0_side_1 6 rfl rfl)
theorem dX0_side_33 : decode cX0_side 33 = .ok (.if_icmp .ge 31, 3) := dk_162 0 31 (dk_at dksX0_side_1 9 rfl rfl)
theorem dX0_side_36 : decode cX0_side 36 = .ok (.iload_n 3, 1) := dk_29 (dk_at dksX0_side_1 12 rfl rfl)
theorem dX0_side_37 : decode cX0_side 37 = .ok (.aload_n 0, 1) := dk_42 (dk_at dksX0_side_1 13 rfl rfl)
theorem dX0_side_38 : decode cX0_side 38 = .ok (.getfield 47, 3) := dk_180 0 47 (dk_at dksX0_side_1 14 rfl rfl)
theorem dX0_side_41 : decode cX0_side 41 = .ok (.iload 4, 2) := dk_21 4 (dk_at dksX0_side_1 17 rfl rfl)
theorem dX0_side_43 : decode cX0_side 43 = .ok (.iaload, 1) := dk_46 (dk_at dksX0_side_1 19 rfl rfl)
theorem dX0_side_44 : decode cX0_side 44 = .ok (.iconst (-1), 1) := dk_2 (dk_at dksX0_side_1 20 rfl rfl)
theorem dX0_side_45 : decode cX0_side 45 = .ok (.if_icmp .ne 7, 3) := dk_160 0 7 (dk_at dksX0_side_1 21 rfl rfl)
theorem dX0_side_48 : decode cX0_side 48 = .ok (.iconst 0, 1) := dk_3 (dk_at dksX0_side_2 0 rfl rfl)
theorem dX0_side_49 : decode cX0_side 49 = .ok (.goto 7, 3) := dk_167 0 7 (dk_at dksX0_side_2 1 rfl rfl)
theorem dX0_side_52 : decode cX0_side 52 = .ok (.iconst 1, 1) := dk_4 (dk_at dksX0_side_2 4 rfl rfl)
theorem dX0_side_53 : decode cX0_side 53 = .ok (.iload 4, 2) := dk_21 4 (dk_at dksX0_side_2 5 rfl rfl)
theorem dX0_side_55 : decode cX0_side 55 = .ok (.ishl, 1) := dk_120 (dk_at dksX0_side_2 7 rfl rfl)
theorem dX0_side_56 : decode cX0_side 56 = .ok (.ior, 1) := dk_128 (dk_at dksX0_side_2 8 rfl rfl)
theorem dX0_side_57 : decode cX0_side 57 = .ok (.istore_n 3, 1) := dk_62 (dk_at dksX0_side_2 9 rfl rfl)
theorem dX0_side_58 : decode cX0_side 58 = .ok (.iinc 4 1, 3) := dk_132 4 1 (dk_at dksX0_side_2 10 rfl rfl)
theorem dX0_side_61 : decode cX0_side 61 = .ok (.goto (-37), 3) := dk_167 255 219 (dk_at dksX0_side_2 13 rfl rfl)
theorem dX0_side_64 : decode cX0_side 64 = .ok (.iload_n 3, 1) := dk_29 (dk_at dksX0_side_2 16 rfl rfl)
theorem dX0_side_65 : decode cX0_side 65 = .ok (.ireturn, 1) := dk_172 (dk_at dksX0_side_2 17 rfl rfl)
abbrev cX0_parts : ByteArray := prog_1_method_48_code
def yX0_parts : MethodName := ⟨RX0, "parts", "()I"⟩
def dkwX0_parts_0 : List UInt8 := [42, 182, 0, 233, 153, 0, 14, 42, 42, 180, 0, 29, 182, 1, 29, 167, 0, 5, 16, 254, 172]
abbrev dktX0_parts_0 : List UInt8 := dkwX0_parts_0 ++ []
theorem dksX0_parts_0 : cX0_parts.data.toList.drop 0 = dktX0_parts_0 := by decide +kernel
theorem dX0_parts_0 : decode cX0_parts 0 = .ok (.aload_n 0, 1) := dk_42 (dk_at dksX0_parts_0 0 rfl rfl)
theorem dX0_parts_1 : decode cX0_parts 1 = .ok (.invokevirtual 233, 3) := dk_182 0 233 (dk_at dksX0_parts_0 1 rfl rfl)
theorem dX0_parts_4 : decode cX0_parts 4 = .ok (.ifCond .eq 14, 3) := dk_153 0 14 (dk_at dksX0_parts_0 4 rfl rfl)
theorem dX0_parts_7 : decode cX0_parts 7 = .ok (.aload_n 0, 1) := dk_42 (dk_at dksX0_parts_0 7 rfl rfl)
theorem dX0_parts_8 : decode cX0_parts 8 = .ok (.aload_n 0, 1) := dk_42 (dk_at dksX0_parts_0 8 rfl rfl)
theorem dX0_parts_9 : decode cX0_parts 9 = .ok (.getfield 29, 3) := dk_180 0 29 (dk_at dksX0_parts_0 9 rfl rfl)
theorem dX0_parts_12 : decode cX0_parts 12 = .ok (.invokevirtual 285, 3) := dk_182 1 29 (dk_at dksX0_parts_0 12 rfl rfl)
theorem dX0_parts_15 : decode cX0_parts 15 = .ok (.goto 5, 3) := dk_167 0 5 (dk_at dksX0_parts_0 15 rfl rfl)
theorem dX0_parts_18 : decode cX0_parts 18 = .ok (.bipush (-2), 2) := dk_16 254 (dk_at dksX0_parts_0 18 rfl rfl)
theorem dX0_parts_20 : decode cX0_parts 20 = .ok (.ireturn, 1) := dk_172 (dk_at dksX0_parts_0 20 rfl rfl)
abbrev cX0_partsBy : ByteArray := prog_1_method_47_code
def yX0_partsBy : MethodName := ⟨RX0, "partsBy", "(LHiddenCube$Walk;)I"⟩
def dkwX0_partsBy_3 : List UInt8 := [167, 0, 7, 4, 21, 5, 120, 128, 61, 132, 5, 1, 167, 255, 219, 132, 4, 1, 167, 255, 177, 29, 172]
abbrev dktX0_partsBy_3 : List UInt8 := dkwX0_partsBy_3 ++ []
def dkwX0_partsBy_2 : List UInt8 := [180, 0, 10, 182, 0, 161, 162, 0, 31, 28, 43, 180, 0, 210, 21, 5, 46, 2, 160, 0, 7, 3]
abbrev dktX0_partsBy_2 : List UInt8 := dkwX0_partsBy_2 ++ dktX0_partsBy_3
def dkwX0_partsBy_1 : List UInt8 := [184, 0, 204, 153, 0, 6, 167, 0, 55, 132, 3, 1, 43, 21, 4, 182, 0, 207, 3, 54, 5, 21, 5, 42]
abbrev dktX0_partsBy_1 : List UInt8 := dkwX0_partsBy_1 ++ dktX0_partsBy_2
def dkwX0_partsBy_0 : List UInt8 := [3, 61, 3, 62, 3, 54, 4, 21, 4, 42, 180, 0, 10, 182, 0, 161, 162, 0, 73, 28, 21, 4]
abbrev dktX0_partsBy_0 : List UInt8 := dkwX0_partsBy_0 ++ dktX0_partsBy_1
theorem dksX0_partsBy_0 : cX0_partsBy.data.toList.drop 0 = dktX0_partsBy_0 := by decide +kernel
theorem dksX0_partsBy_1 : cX0_partsBy.data.toList.drop 22 = dktX0_partsBy_1 := dk_seg dksX0_partsBy_0 22 rfl rfl
theorem dksX0_partsBy_2 : cX0_partsBy.data.toList.drop 46 = dktX0_partsBy_2 := dk_seg dksX0_partsBy_1 24 rfl rfl
theorem dksX0_partsBy_3 : cX0_partsBy.data.toList.drop 68 = dktX0_partsBy_3 := dk_seg dksX0_partsBy_2 22 rfl rfl
theorem dX0_partsBy_0 : decode cX0_partsBy 0 = .ok (.iconst 0, 1) := dk_3 (dk_at dksX0_partsBy_0 0 rfl rfl)
theorem dX0_partsBy_1 : decode cX0_partsBy 1 = .ok (.istore_n 2, 1) := dk_61 (dk_at dksX0_partsBy_0 1 rfl rfl)
theorem dX0_partsBy_2 : decode cX0_partsBy 2 = .ok (.iconst 0, 1) := dk_3 (dk_at dksX0_partsBy_0 2 rfl rfl)
theorem dX0_partsBy_3 : decode cX0_partsBy 3 = .ok (.istore_n 3, 1) := dk_62 (dk_at dksX0_partsBy_0 3 rfl rfl)
theorem dX0_partsBy_4 : decode cX0_partsBy 4 = .ok (.iconst 0, 1) := dk_3 (dk_at dksX0_partsBy_0 4 rfl rfl)
theorem dX0_partsBy_5 : decode cX0_partsBy 5 = .ok (.istore 4, 2) := dk_54 4 (dk_at dksX0_partsBy_0 5 rfl rfl)
theorem dX0_partsBy_7 : decode cX0_partsBy 7 = .ok (.iload 4, 2) := dk_21 4 (dk_at dksX0_partsBy_0 7 rfl rfl)
theorem dX0_partsBy_9 : decode cX0_partsBy 9 = .ok (.aload_n 0, 1) := dk_42 (dk_at dksX0_partsBy_0 9 rfl rfl)
theorem dX0_partsBy_10 : decode cX0_partsBy 10 = .ok (.getfield 10, 3) := dk_180 0 10 (dk_at dksX0_partsBy_0 10 rfl rfl)
theorem dX0_partsBy_13 : decode cX0_partsBy 13 = .ok (.invokevirtual 161, 3) := dk_182 0 161 (dk_at dksX0_partsBy_0 13 rfl rfl)
theorem dX0_partsBy_16 : decode cX0_partsBy 16 = .ok (.if_icmp .ge 73, 3) := dk_162 0 73 (dk_at dksX0_partsBy_0 16 rfl rfl)
theorem dX0_partsBy_19 : decode cX0_partsBy 19 = .ok (.iload_n 2, 1) := dk_28 (dk_at dksX0_partsBy_0 19 rfl rfl)
theorem dX0_partsBy_20 : decode cX0_partsBy 20 = .ok (.iload 4, 2) := dk_21 4 (dk_at dksX0_partsBy_0 20 rfl rfl)
theorem dX0_partsBy_22 : decode cX0_partsBy 22 = .ok (.invokestatic 204, 3) := dk_184 0 204 (dk_at dksX0_partsBy_1 0 rfl rfl)
theorem dX0_partsBy_25 : decode cX0_partsBy 25 = .ok (.ifCond .eq 6, 3) := dk_153 0 6 (dk_at dksX0_partsBy_1 3 rfl rfl)
theorem dX0_partsBy_28 : decode cX0_partsBy 28 = .ok (.goto 55, 3) := dk_167 0 55 (dk_at dksX0_partsBy_1 6 rfl rfl)
theorem dX0_partsBy_31 : decode cX0_partsBy 31 = .ok (.iinc 3 1, 3) := dk_132 3 1 (dk_at dksX0_partsBy_1 9 rfl rfl)
theorem dX0_partsBy_34 : decode cX0_partsBy 34 = .ok (.aload_n 1, 1) := dk_43 (dk_at dksX0_partsBy_1 12 rfl rfl)
theorem dX0_partsBy_35 : decode cX0_partsBy 35 = .ok (.iload 4, 2) := dk_21 4 (dk_at dksX0_partsBy_1 13 rfl rfl)
theorem dX0_partsBy_37 : decode cX0_partsBy 37 = .ok (.invokevirtual 207, 3) := dk_182 0 207 (dk_at dksX0_partsBy_1 15 rfl rfl)
theorem dX0_partsBy_40 : decode cX0_partsBy 40 = .ok (.iconst 0, 1) := dk_3 (dk_at dksX0_partsBy_1 18 rfl rfl)
theorem dX0_partsBy_41 : decode cX0_partsBy 41 = .ok (.istore 5, 2) := dk_54 5 (dk_at dksX0_partsBy_1 19 rfl rfl)
theorem dX0_partsBy_43 : decode cX0_partsBy 43 = .ok (.iload 5, 2) := dk_21 5 (dk_at dksX0_partsBy_1 21 rfl rfl)
theorem dX0_partsBy_45 : decode cX0_partsBy 45 = .ok (.aload_n 0, 1) := dk_42 (dk_at dksX0_partsBy_1 23 rfl rfl)
theorem dX0_partsBy_46 : decode cX0_partsBy 46 = .ok (.getfield 10, 3) := dk_180 0 10 (dk_at dksX0_partsBy_2 0 rfl rfl)
theorem dX0_partsBy_49 : decode cX0_partsBy 49 = .ok (.invokevirtual 161, 3) := dk_182 0 161 (dk_at dksX0_partsBy_2 3 rfl rfl)
theorem dX0_partsBy_52 : decode cX0_partsBy 52 = .ok (.if_icmp .ge 31, 3) := dk_162 0 31 (dk_at dksX0_partsBy_2 6 rfl rfl)
theorem dX0_partsBy_55 : decode cX0_partsBy 55 = .ok (.iload_n 2, 1) := dk_28 (dk_at dksX0_partsBy_2 9 rfl rfl)
theorem dX0_partsBy_56 : decode cX0_partsBy 56 = .ok (.aload_n 1, 1) := dk_43 (dk_at dksX0_partsBy_2 10 rfl rfl)
theorem dX0_partsBy_57 : decode cX0_partsBy 57 = .ok (.getfield 210, 3) := dk_180 0 210 (dk_at dksX0_partsBy_2 11 rfl rfl)
theorem dX0_partsBy_60 : decode cX0_partsBy 60 = .ok (.iload 5, 2) := dk_21 5 (dk_at dksX0_partsBy_2 14 rfl rfl)
theorem dX0_partsBy_62 : decode cX0_partsBy 62 = .ok (.iaload, 1) := dk_46 (dk_at dksX0_partsBy_2 16 rfl rfl)
theorem dX0_partsBy_63 : decode cX0_partsBy 63 = .ok (.iconst (-1), 1) := dk_2 (dk_at dksX0_partsBy_2 17 rfl rfl)
theorem dX0_partsBy_64 : decode cX0_partsBy 64 = .ok (.if_icmp .ne 7, 3) := dk_160 0 7 (dk_at dksX0_partsBy_2 18 rfl rfl)
theorem dX0_partsBy_67 : decode cX0_partsBy 67 = .ok (.iconst 0, 1) := dk_3 (dk_at dksX0_partsBy_2 21 rfl rfl)
theorem dX0_partsBy_68 : decode cX0_partsBy 68 = .ok (.goto 7, 3) := dk_167 0 7 (dk_at dksX0_partsBy_3 0 rfl rfl)
theorem dX0_partsBy_71 : decode cX0_partsBy 71 = .ok (.iconst 1, 1) := dk_4 (dk_at dksX0_partsBy_3 3 rfl rfl)
theorem dX0_partsBy_72 : decode cX0_partsBy 72 = .ok (.iload 5, 2) := dk_21 5 (dk_at dksX0_partsBy_3 4 rfl rfl)
theorem dX0_partsBy_74 : decode cX0_partsBy 74 = .ok (.ishl, 1) := dk_120 (dk_at dksX0_partsBy_3 6 rfl rfl)
theorem dX0_partsBy_75 : decode cX0_partsBy 75 = .ok (.ior, 1) := dk_128 (dk_at dksX0_partsBy_3 7 rfl rfl)
theorem dX0_partsBy_76 : decode cX0_partsBy 76 = .ok (.istore_n 2, 1) := dk_61 (dk_at dksX0_partsBy_3 8 rfl rfl)
theorem dX0_partsBy_77 : decode cX0_partsBy 77 = .ok (.iinc 5 1, 3) := dk_132 5 1 (dk_at dksX0_partsBy_3 9 rfl rfl)
theorem dX0_partsBy_80 : decode cX0_partsBy 80 = .ok (.goto (-37), 3) := dk_167 255 219 (dk_at dksX0_partsBy_3 12 rfl rfl)
theorem dX0_partsBy_83 : decode cX0_partsBy 83 = .ok (.iinc 4 1, 3) := dk_132 4 1 (dk_at dksX0_partsBy_3 15 rfl rfl)
theorem dX0_partsBy_86 : decode cX0_partsBy 86 = .ok (.goto (-79), 3) := dk_167 255 177 (dk_at dksX0_partsBy_3 18 rfl rfl)
theorem dX0_partsBy_89 : decode cX0_partsBy 89 = .ok (.iload_n 3, 1) := dk_29 (dk_at dksX0_partsBy_3 21 rfl rfl)
theorem dX0_partsBy_90 : decode cX0_partsBy 90 = .ok (.ireturn, 1) := dk_172 (dk_at dksX0_partsBy_3 22 rfl rfl)
abbrev cX0_part : ByteArray := prog_1_method_49_code
def yX0_part : MethodName := ⟨RX0, "part", "(I)I"⟩
def dkwX0_part_1 : List UInt8 := [180, 0, 29, 180, 0, 210, 28, 46, 2, 160, 0, 9, 132, 2, 1, 167, 255, 240, 28, 172]
abbrev dktX0_part_1 : List UInt8 := dkwX0_part_1 ++ []
def dkwX0_part_0 : List UInt8 := [42, 27, 133, 182, 0, 167, 154, 0, 6, 16, 254, 172, 42, 180, 0, 29, 27, 182, 0, 207, 3, 61, 42]
abbrev dktX0_part_0 : List UInt8 := dkwX0_part_0 ++ dktX0_part_1
theorem dksX0_part_0 : cX0_part.data.toList.drop 0 = dktX0_part_0 := by decide +kernel
theorem dksX0_part_1 : cX0_part.data.toList.drop 23 = dktX0_part_1 := dk_seg dksX0_part_0 23 rfl rfl
theorem dX0_part_0 : decode cX0_part 0 = .ok (.aload_n 0, 1) := dk_42 (dk_at dksX0_part_0 0 rfl rfl)
theorem dX0_part_1 : decode cX0_part 1 = .ok (.iload_n 1, 1) := dk_27 (dk_at dksX0_part_0 1 rfl rfl)
theorem dX0_part_2 : decode cX0_part 2 = .ok (.i2l, 1) := dk_133 (dk_at dksX0_part_0 2 rfl rfl)
theorem dX0_part_3 : decode cX0_part 3 = .ok (.invokevirtual 167, 3) := dk_182 0 167 (dk_at dksX0_part_0 3 rfl rfl)
theorem dX0_part_6 : decode cX0_part 6 = .ok (.ifCond .ne 6, 3) := dk_154 0 6 (dk_at dksX0_part_0 6 rfl rfl)
theorem dX0_part_9 : decode cX0_part 9 = .ok (.bipush (-2), 2) := dk_16 254 (dk_at dksX0_part_0 9 rfl rfl)
theorem dX0_part_11 : decode cX0_part 11 = .ok (.ireturn, 1) := dk_172 (dk_at dksX0_part_0 11 rfl rfl)
theorem dX0_part_12 : decode cX0_part 12 = .ok (.aload_n 0, 1) := dk_42 (dk_at dksX0_part_0 12 rfl rfl)
theorem dX0_part_13 : decode cX0_part 13 = .ok (.getfield 29, 3) := dk_180 0 29 (dk_at dksX0_part_0 13 rfl rfl)
theorem dX0_part_16 : decode cX0_part 16 = .ok (.iload_n 1, 1) := dk_27 (dk_at dksX0_part_0 16 rfl rfl)
theorem dX0_part_17 : decode cX0_part 17 = .ok (.invokevirtual 207, 3) := dk_182 0 207 (dk_at dksX0_part_0 17 rfl rfl)
theorem dX0_part_20 : decode cX0_part 20 = .ok (.iconst 0, 1) := dk_3 (dk_at dksX0_part_0 20 rfl rfl)
theorem dX0_part_21 : decode cX0_part 21 = .ok (.istore_n 2, 1) := dk_61 (dk_at dksX0_part_0 21 rfl rfl)
theorem dX0_part_22 : decode cX0_part 22 = .ok (.aload_n 0, 1) := dk_42 (dk_at dksX0_part_0 22 rfl rfl)
theorem dX0_part_23 : decode cX0_part 23 = .ok (.getfield 29, 3) := dk_180 0 29 (dk_at dksX0_part_1 0 rfl rfl)
theorem dX0_part_26 : decode cX0_part 26 = .ok (.getfield 210, 3) := dk_180 0 210 (dk_at dksX0_part_1 3 rfl rfl)
theorem dX0_part_29 : decode cX0_part 29 = .ok (.iload_n 2, 1) := dk_28 (dk_at dksX0_part_1 6 rfl rfl)
theorem dX0_part_30 : decode cX0_part 30 = .ok (.iaload, 1) := dk_46 (dk_at dksX0_part_1 7 rfl rfl)
theorem dX0_part_31 : decode cX0_part 31 = .ok (.iconst (-1), 1) := dk_2 (dk_at dksX0_part_1 8 rfl rfl)
theorem dX0_part_32 : decode cX0_part 32 = .ok (.if_icmp .ne 9, 3) := dk_160 0 9 (dk_at dksX0_part_1 9 rfl rfl)
theorem dX0_part_35 : decode cX0_part 35 = .ok (.iinc 2 1, 3) := dk_132 2 1 (dk_at dksX0_part_1 12 rfl rfl)
theorem dX0_part_38 : decode cX0_part 38 = .ok (.goto (-16), 3) := dk_167 255 240 (dk_at dksX0_part_1 15 rfl rfl)
theorem dX0_part_41 : decode cX0_part 41 = .ok (.iload_n 2, 1) := dk_28 (dk_at dksX0_part_1 18 rfl rfl)
theorem dX0_part_42 : decode cX0_part 42 = .ok (.ireturn, 1) := dk_172 (dk_at dksX0_part_1 19 rfl rfl)
abbrev cX0_bridges : ByteArray := prog_1_method_51_code
def yX0_bridges : MethodName := ⟨RX0, "bridges", "()I"⟩
def dkwX0_bridges_3 : List UInt8 := [167, 255, 217, 132, 2, 1, 167, 255, 198, 27, 172]
abbrev dktX0_bridges_3 : List UInt8 := dkwX0_bridges_3 ++ []
def dkwX0_bridges_2 : List UInt8 := [154, 0, 16, 42, 28, 29, 182, 1, 39, 153, 0, 7, 4, 167, 0, 4, 3, 96, 60, 132, 3, 1]
abbrev dktX0_bridges_2 : List UInt8 := dkwX0_bridges_2 ++ dktX0_bridges_3
def dkwX0_bridges_1 : List UInt8 := [162, 0, 53, 3, 62, 29, 42, 180, 0, 10, 180, 0, 158, 162, 0, 34, 27, 28, 29, 184, 0, 204]
abbrev dktX0_bridges_1 : List UInt8 := dkwX0_bridges_1 ++ dktX0_bridges_2
def dkwX0_bridges_0 : List UInt8 := [42, 182, 0, 233, 154, 0, 6, 16, 254, 172, 3, 60, 3, 61, 28, 42, 180, 0, 10, 182, 0, 161]
abbrev dktX0_bridges_0 : List UInt8 := dkwX0_bridges_0 ++ dktX0_bridges_1
theorem dksX0_bridges_0 : cX0_bridges.data.toList.drop 0 = dktX0_bridges_0 := by decide +kernel
theorem dksX0_bridges_1 : cX0_bridges.data.toList.drop 22 = dktX0_bridges_1 := dk_seg dksX0_bridges_0 22 rfl rfl
theorem dksX0_bridges_2 : cX0_bridges.data.toList.drop 44 = dktX0_bridges_2 := dk_seg dksX0_bridges_1 22 rfl rfl
theorem dksX0_bridges_3 : cX0_bridges.data.toList.drop 66 = dktX0_bridges_3 := dk_seg dksX0_bridges_2 22 rfl rfl
theorem dX0_bridges_0 : decode cX0_bridges 0 = .ok (.aload_n 0, 1) := dk_42 (dk_at dksX0_bridges_0 0 rfl rfl)
theorem dX0_bridges_1 : decode cX0_bridges 1 = .ok (.invokevirtual 233, 3) := dk_182 0 233 (dk_at dksX0_bridges_0 1 rfl rfl)
theorem dX0_bridges_4 : decode cX0_bridges 4 = .ok (.ifCond .ne 6, 3) := dk_154 0 6 (dk_at dksX0_bridges_0 4 rfl rfl)
theorem dX0_bridges_7 : decode cX0_bridges 7 = .ok (.bipush (-2), 2) := dk_16 254 (dk_at dksX0_bridges_0 7 rfl rfl)
theorem dX0_bridges_9 : decode cX0_bridges 9 = .ok (.ireturn, 1) := dk_172 (dk_at dksX0_bridges_0 9 rfl rfl)
theorem dX0_bridges_10 : decode cX0_bridges 10 = .ok (.iconst 0, 1) := dk_3 (dk_at dksX0_bridges_0 10 rfl rfl)
theorem dX0_bridges_11 : decode cX0_bridges 11 = .ok (.istore_n 1, 1) := dk_60 (dk_at dksX0_bridges_0 11 rfl rfl)
theorem dX0_bridges_12 : decode cX0_bridges 12 = .ok (.iconst 0, 1) := dk_3 (dk_at dksX0_bridges_0 12 rfl rfl)
theorem dX0_bridges_13 : decode cX0_bridges 13 = .ok (.istore_n 2, 1) := dk_61 (dk_at dksX0_bridges_0 13 rfl rfl)
theorem dX0_bridges_14 : decode cX0_bridges 14 = .ok (.iload_n 2, 1) := dk_28 (dk_at dksX0_bridges_0 14 rfl rfl)
theorem dX0_bridges_15 : decode cX0_bridges 15 = .ok (.aload_n 0, 1) := dk_42 (dk_at dksX0_bridges_0 15 rfl rfl)
theorem dX0_bridges_16 : decode cX0_bridges 16 = .ok (.getfield 10, 3) := dk_180 0 10 (dk_at dksX0_bridges_0 16 rfl rfl)
theorem dX0_bridges_19 : decode cX0_bridges 19 = .ok (.invokevirtual 161, 3) := dk_182 0 161 (dk_at dksX0_bridges_0 19 rfl rfl)
theorem dX0_bridges_22 : decode cX0_bridges 22 = .ok (.if_icmp .ge 53, 3) := dk_162 0 53 (dk_at dksX0_bridges_1 0 rfl rfl)
theorem dX0_bridges_25 : decode cX0_bridges 25 = .ok (.iconst 0, 1) := dk_3 (dk_at dksX0_bridges_1 3 rfl rfl)
theorem dX0_bridges_26 : decode cX0_bridges 26 = .ok (.istore_n 3, 1) := dk_62 (dk_at dksX0_bridges_1 4 rfl rfl)
theorem dX0_bridges_27 : decode cX0_bridges 27 = .ok (.iload_n 3, 1) := dk_29 (dk_at dksX0_bridges_1 5 rfl rfl)
theorem dX0_bridges_28 : decode cX0_bridges 28 = .ok (.aload_n 0, 1) := dk_42 (dk_at dksX0_bridges_1 6 rfl rfl)
theorem dX0_bridges_29 : decode cX0_bridges 29 = .ok (.getfield 10, 3) := dk_180 0 10 (dk_at dksX0_bridges_1 7 rfl rfl)
theorem dX0_bridges_32 : decode cX0_bridges 32 = .ok (.getfield 158, 3) := dk_180 0 158 (dk_at dksX0_bridges_1 10 rfl rfl)
theorem dX0_bridges_35 : decode cX0_bridges 35 = .ok (.if_icmp .ge 34, 3) := dk_162 0 34 (dk_at dksX0_bridges_1 13 rfl rfl)
theorem dX0_bridges_38 : decode cX0_bridges 38 = .ok (.iload_n 1, 1) := dk_27 (dk_at dksX0_bridges_1 16 rfl rfl)
theorem dX0_bridges_39 : decode cX0_bridges 39 = .ok (.iload_n 2, 1) := dk_28 (dk_at dksX0_bridges_1 17 rfl rfl)
theorem dX0_bridges_40 : decode cX0_bridges 40 = .ok (.iload_n 3, 1) := dk_29 (dk_at dksX0_bridges_1 18 rfl rfl)
theorem dX0_bridges_41 : decode cX0_bridges 41 = .ok (.invokestatic 204, 3) := dk_184 0 204 (dk_at dksX0_bridges_1 19 rfl rfl)
theorem dX0_bridges_44 : decode cX0_bridges 44 = .ok (.ifCond .ne 16, 3) := dk_154 0 16 (dk_at dksX0_bridges_2 0 rfl rfl)
theorem dX0_bridges_47 : decode cX0_bridges 47 = .ok (.aload_n 0, 1) := dk_42 (dk_at dksX0_bridges_2 3 rfl rfl)
theorem dX0_bridges_48 : decode cX0_bridges 48 = .ok (.iload_n 2, 1) := dk_28 (dk_at dksX0_bridges_2 4 rfl rfl)
theorem dX0_bridges_49 : decode cX0_bridges 49 = .ok (.iload_n 3, 1) := dk_29 (dk_at dksX0_bridges_2 5 rfl rfl)
theorem dX0_bridges_50 : decode cX0_bridges 50 = .ok (.invokevirtual 295, 3) := dk_182 1 39 (dk_at dksX0_bridges_2 6 rfl rfl)
theorem dX0_bridges_53 : decode cX0_bridges 53 = .ok (.ifCond .eq 7, 3) := dk_153 0 7 (dk_at dksX0_bridges_2 9 rfl rfl)
theorem dX0_bridges_56 : decode cX0_bridges 56 = .ok (.iconst 1, 1) := dk_4 (dk_at dksX0_bridges_2 12 rfl rfl)
theorem dX0_bridges_57 : decode cX0_bridges 57 = .ok (.goto 4, 3) := dk_167 0 4 (dk_at dksX0_bridges_2 13 rfl rfl)
theorem dX0_bridges_60 : decode cX0_bridges 60 = .ok (.iconst 0, 1) := dk_3 (dk_at dksX0_bridges_2 16 rfl rfl)
theorem dX0_bridges_61 : decode cX0_bridges 61 = .ok (.iadd, 1) := dk_96 (dk_at dksX0_bridges_2 17 rfl rfl)
theorem dX0_bridges_62 : decode cX0_bridges 62 = .ok (.istore_n 1, 1) := dk_60 (dk_at dksX0_bridges_2 18 rfl rfl)
theorem dX0_bridges_63 : decode cX0_bridges 63 = .ok (.iinc 3 1, 3) := dk_132 3 1 (dk_at dksX0_bridges_2 19 rfl rfl)
theorem dX0_bridges_66 : decode cX0_bridges 66 = .ok (.goto (-39), 3) := dk_167 255 217 (dk_at dksX0_bridges_3 0 rfl rfl)
theorem dX0_bridges_69 : decode cX0_bridges 69 = .ok (.iinc 2 1, 3) := dk_132 2 1 (dk_at dksX0_bridges_3 3 rfl rfl)
theorem dX0_bridges_72 : decode cX0_bridges 72 = .ok (.goto (-58), 3) := dk_167 255 198 (dk_at dksX0_bridges_3 6 rfl rfl)
theorem dX0_bridges_75 : decode cX0_bridges 75 = .ok (.iload_n 1, 1) := dk_27 (dk_at dksX0_bridges_3 9 rfl rfl)
theorem dX0_bridges_76 : decode cX0_bridges 76 = .ok (.ireturn, 1) := dk_172 (dk_at dksX0_bridges_3 10 rfl rfl)
abbrev cX0_isBridge : ByteArray := prog_1_method_50_code
def yX0_isBridge : MethodName := ⟨RX0, "isBridge", "(II)Z"⟩
def dkwX0_isBridge_2 : List UInt8 := [164, 0, 7, 4, 167, 0, 4, 3, 172]
abbrev dktX0_isBridge_2 : List UInt8 := dkwX0_isBridge_2 ++ []
def dkwX0_isBridge_1 : List UInt8 := [180, 0, 36, 28, 181, 1, 36, 42, 42, 180, 0, 36, 182, 1, 29, 42, 42, 180, 0, 29, 182, 1, 29]
abbrev dktX0_isBridge_1 : List UInt8 := dkwX0_isBridge_1 ++ dktX0_isBridge_2
def dkwX0_isBridge_0 : List UInt8 := [42, 180, 0, 10, 27, 28, 182, 0, 181, 154, 0, 5, 3, 172, 42, 180, 0, 36, 27, 181, 1, 33, 42]
abbrev dktX0_isBridge_0 : List UInt8 := dkwX0_isBridge_0 ++ dktX0_isBridge_1
theorem dksX0_isBridge_0 : cX0_isBridge.data.toList.drop 0 = dktX0_isBridge_0 := by decide +kernel
theorem dksX0_isBridge_1 : cX0_isBridge.data.toList.drop 23 = dktX0_isBridge_1 := dk_seg dksX0_isBridge_0 23 rfl rfl
theorem dksX0_isBridge_2 : cX0_isBridge.data.toList.drop 46 = dktX0_isBridge_2 := dk_seg dksX0_isBridge_1 23 rfl rfl
theorem dX0_isBridge_0 : decode cX0_isBridge 0 = .ok (.aload_n 0, 1) := dk_42 (dk_at dksX0_isBridge_0 0 rfl rfl)
theorem dX0_isBridge_1 : decode cX0_isBridge 1 = .ok (.getfield 10, 3) := dk_180 0 10 (dk_at dksX0_isBridge_0 1 rfl rfl)
theorem dX0_isBridge_4 : decode cX0_isBridge 4 = .ok (.iload_n 1, 1) := dk_27 (dk_at dksX0_isBridge_0 4 rfl rfl)
theorem dX0_isBridge_5 : decode cX0_isBridge 5 = .ok (.iload_n 2, 1) := dk_28 (dk_at dksX0_isBridge_0 5 rfl rfl)
theorem dX0_isBridge_6 : decode cX0_isBridge 6 = .ok (.invokevirtual 181, 3) := dk_182 0 181 (dk_at dksX0_isBridge_0 6 rfl rfl)
theorem dX0_isBridge_9 : decode cX0_isBridge 9 = .ok (.ifCond .ne 5, 3) := dk_154 0 5 (dk_at dksX0_isBridge_0 9 rfl rfl)
theorem dX0_isBridge_12 : decode cX0_isBridge 12 = .ok (.iconst 0, 1) := dk_3 (dk_at dksX0_isBridge_0 12 rfl rfl)
theorem dX0_isBridge_13 : decode cX0_isBridge 13 = .ok (.ireturn, 1) := dk_172 (dk_at dksX0_isBridge_0 13 rfl rfl)
theorem dX0_isBridge_14 : decode cX0_isBridge 14 = .ok (.aload_n 0, 1) := dk_42 (dk_at dksX0_isBridge_0 14 rfl rfl)
theorem dX0_isBridge_15 : decode cX0_isBridge 15 = .ok (.getfield 36, 3) := dk_180 0 36 (dk_at dksX0_isBridge_0 15 rfl rfl)
theorem dX0_isBridge_18 : decode cX0_isBridge 18 = .ok (.iload_n 1, 1) := dk_27 (dk_at dksX0_isBridge_0 18 rfl rfl)
theorem dX0_isBridge_19 : decode cX0_isBridge 19 = .ok (.putfield 289, 3) := dk_181 1 33 (dk_at dksX0_isBridge_0 19 rfl rfl)
theorem dX0_isBridge_22 : decode cX0_isBridge 22 = .ok (.aload_n 0, 1) := dk_42 (dk_at dksX0_isBridge_0 22 rfl rfl)
theorem dX0_isBridge_23 : decode cX0_isBridge 23 = .ok (.getfield 36, 3) := dk_180 0 36 (dk_at dksX0_isBridge_1 0 rfl rfl)
theorem dX0_isBridge_26 : decode cX0_isBridge 26 = .ok (.iload_n 2, 1) := dk_28 (dk_at dksX0_isBridge_1 3 rfl rfl)
theorem dX0_isBridge_27 : decode cX0_isBridge 27 = .ok (.putfield 292, 3) := dk_181 1 36 (dk_at dksX0_isBridge_1 4 rfl rfl)
theorem dX0_isBridge_30 : decode cX0_isBridge 30 = .ok (.aload_n 0, 1) := dk_42 (dk_at dksX0_isBridge_1 7 rfl rfl)
theorem dX0_isBridge_31 : decode cX0_isBridge 31 = .ok (.aload_n 0, 1) := dk_42 (dk_at dksX0_isBridge_1 8 rfl rfl)
theorem dX0_isBridge_32 : decode cX0_isBridge 32 = .ok (.getfield 36, 3) := dk_180 0 36 (dk_at dksX0_isBridge_1 9 rfl rfl)
theorem dX0_isBridge_35 : decode cX0_isBridge 35 = .ok (.invokevirtual 285, 3) := dk_182 1 29 (dk_at dksX0_isBridge_1 12 rfl rfl)
theorem dX0_isBridge_38 : decode cX0_isBridge 38 = .ok (.aload_n 0, 1) := dk_42 (dk_at dksX0_isBridge_1 15 rfl rfl)
theorem dX0_isBridge_39 : decode cX0_isBridge 39 = .ok (.aload_n 0, 1) := dk_42 (dk_at dksX0_isBridge_1 16 rfl rfl)
theorem dX0_isBridge_40 : decode cX0_isBridge 40 = .ok (.getfield 29, 3) := dk_180 0 29 (dk_at dksX0_isBridge_1 17 rfl rfl)
theorem dX0_isBridge_43 : decode cX0_isBridge 43 = .ok (.invokevirtual 285, 3) := dk_182 1 29 (dk_at dksX0_isBridge_1 20 rfl rfl)
theorem dX0_isBridge_46 : decode cX0_isBridge 46 = .ok (.if_icmp .le 7, 3) := dk_164 0 7 (dk_at dksX0_isBridge_2 0 rfl rfl)
theorem dX0_isBridge_49 : decode cX0_isBridge 49 = .ok (.iconst 1, 1) := dk_4 (dk_at dksX0_isBridge_2 3 rfl rfl)
theorem dX0_isBridge_50 : decode cX0_isBridge 50 = .ok (.goto 4, 3) := dk_167 0 4 (dk_at dksX0_isBridge_2 4 rfl rfl)
theorem dX0_isBridge_53 : decode cX0_isBridge 53 = .ok (.iconst 0, 1) := dk_3 (dk_at dksX0_isBridge_2 7 rfl rfl)
theorem dX0_isBridge_54 : decode cX0_isBridge 54 = .ok (.ireturn, 1) := dk_172 (dk_at dksX0_isBridge_2 8 rfl rfl)
abbrev cX0_bridge : ByteArray := prog_1_method_52_code
def yX0_bridge : MethodName := ⟨RX0, "bridge", "(II)I"⟩
def dkwX0_bridge_1 : List UInt8 := [153, 0, 7, 4, 167, 0, 9, 3, 167, 0, 5, 16, 254, 172]
abbrev dktX0_bridge_1 : List UInt8 := dkwX0_bridge_1 ++ []
def dkwX0_bridge_0 : List UInt8 := [42, 27, 133, 182, 0, 167, 153, 0, 28, 42, 28, 182, 0, 171, 153, 0, 20, 42, 27, 28, 182, 1, 39]
abbrev dktX0_bridge_0 : List UInt8 := dkwX0_bridge_0 ++ dktX0_bridge_1
theorem dksX0_bridge_0 : cX0_bridge.data.toList.drop 0 = dktX0_bridge_0 := by decide +kernel
theorem dksX0_bridge_1 : cX0_bridge.data.toList.drop 23 = dktX0_bridge_1 := dk_seg dksX0_bridge_0 23 rfl rfl
theorem dX0_bridge_0 : decode cX0_bridge 0 = .ok (.aload_n 0, 1) := dk_42 (dk_at dksX0_bridge_0 0 rfl rfl)
theorem dX0_bridge_1 : decode cX0_bridge 1 = .ok (.iload_n 1, 1) := dk_27 (dk_at dksX0_bridge_0 1 rfl rfl)
theorem dX0_bridge_2 : decode cX0_bridge 2 = .ok (.i2l, 1) := dk_133 (dk_at dksX0_bridge_0 2 rfl rfl)
theorem dX0_bridge_3 : decode cX0_bridge 3 = .ok (.invokevirtual 167, 3) := dk_182 0 167 (dk_at dksX0_bridge_0 3 rfl rfl)
theorem dX0_bridge_6 : decode cX0_bridge 6 = .ok (.ifCond .eq 28, 3) := dk_153 0 28 (dk_at dksX0_bridge_0 6 rfl rfl)
theorem dX0_bridge_9 : decode cX0_bridge 9 = .ok (.aload_n 0, 1) := dk_42 (dk_at dksX0_bridge_0 9 rfl rfl)
theorem dX0_bridge_10 : decode cX0_bridge 10 = .ok (.iload_n 2, 1) := dk_28 (dk_at dksX0_bridge_0 10 rfl rfl)
theorem dX0_bridge_11 : decode cX0_bridge 11 = .ok (.invokevirtual 171, 3) := dk_182 0 171 (dk_at dksX0_bridge_0 11 rfl rfl)
theorem dX0_bridge_14 : decode cX0_bridge 14 = .ok (.ifCond .eq 20, 3) := dk_153 0 20 (dk_at dksX0_bridge_0 14 rfl rfl)
theorem dX0_bridge_17 : decode cX0_bridge 17 = .ok (.aload_n 0, 1) := dk_42 (dk_at dksX0_bridge_0 17 rfl rfl)
theorem dX0_bridge_18 : decode cX0_bridge 18 = .ok (.iload_n 1, 1) := dk_27 (dk_at dksX0_bridge_0 18 rfl rfl)
theorem dX0_bridge_19 : decode cX0_bridge 19 = .ok (.iload_n 2, 1) := dk_28 (dk_at dksX0_bridge_0 19 rfl rfl)
theorem dX0_bridge_20 : decode cX0_bridge 20 = .ok (.invokevirtual 295, 3) := dk_182 1 39 (dk_at dksX0_bridge_0 20 rfl rfl)
theorem dX0_bridge_23 : decode cX0_bridge 23 = .ok (.ifCond .eq 7, 3) := dk_153 0 7 (dk_at dksX0_bridge_1 0 rfl rfl)
theorem dX0_bridge_26 : decode cX0_bridge 26 = .ok (.iconst 1, 1) := dk_4 (dk_at dksX0_bridge_1 3 rfl rfl)
theorem dX0_bridge_27 : decode cX0_bridge 27 = .ok (.goto 9, 3) := dk_167 0 9 (dk_at dksX0_bridge_1 4 rfl rfl)
theorem dX0_bridge_30 : decode cX0_bridge 30 = .ok (.iconst 0, 1) := dk_3 (dk_at dksX0_bridge_1 7 rfl rfl)
theorem dX0_bridge_31 : decode cX0_bridge 31 = .ok (.goto 5, 3) := dk_167 0 5 (dk_at dksX0_bridge_1 8 rfl rfl)
theorem dX0_bridge_34 : decode cX0_bridge 34 = .ok (.bipush (-2), 2) := dk_16 254 (dk_at dksX0_bridge_1 11 rfl rfl)
theorem dX0_bridge_36 : decode cX0_bridge 36 = .ok (.ireturn, 1) := dk_172 (dk_at dksX0_bridge_1 13 rfl rfl)
abbrev cX0_joins : ByteArray := prog_1_method_53_code
def yX0_joins : MethodName := ⟨RX0, "joins", "()I"⟩
def dkwX0_joins_0 : List UInt8 := [42, 182, 0, 233, 153, 0, 16, 42, 42, 180, 0, 29, 182, 1, 29, 4, 100, 167, 0, 5, 16, 254, 172]
abbrev dktX0_joins_0 : List UInt8 := dkwX0_joins_0 ++ []
theorem dksX0_joins_0 : cX0_joins.data.toList.drop 0 = dktX0_joins_0 := by decide +kernel
theorem dX0_joins_0 : decode cX0_joins 0 = .ok (.aload_n 0, 1) := dk_42 (dk_at dksX0_joins_0 0 rfl rfl)
theorem dX0_joins_1 : decode cX0_joins 1 = .ok (.invokevirtual 233, 3) := dk_182 0 233 (dk_at dksX0_joins_0 1 rfl rfl)
theorem dX0_joins_4 : decode cX0_joins 4 = .ok (.ifCond .eq 16, 3) := dk_153 0 16 (dk_at dksX0_joins_0 4 rfl rfl)
theorem dX0_joins_7 : decode cX0_joins 7 = .ok (.aload_n 0, 1) := dk_42 (dk_at dksX0_joins_0 7 rfl rfl)
theorem dX0_joins_8 : decode cX0_joins 8 = .ok (.aload_n 0, 1) := dk_42 (dk_at dksX0_joins_0 8 rfl rfl)
theorem dX0_joins_9 : decode cX0_joins 9 = .ok (.getfield 29, 3) := dk_180 0 29 (dk_at dksX0_joins_0 9 rfl rfl)
theorem dX0_joins_12 : decode cX0_joins 12 = .ok (.invokevirtual 285, 3) := dk_182 1 29 (dk_at dksX0_joins_0 12 rfl rfl)
theorem dX0_joins_15 : decode cX0_joins 15 = .ok (.iconst 1, 1) := dk_4 (dk_at dksX0_joins_0 15 rfl rfl)
theorem dX0_joins_16 : decode cX0_joins 16 = .ok (.isub, 1) := dk_100 (dk_at dksX0_joins_0 16 rfl rfl)
theorem dX0_joins_17 : decode cX0_joins 17 = .ok (.goto 5, 3) := dk_167 0 5 (dk_at dksX0_joins_0 17 rfl rfl)
theorem dX0_joins_20 : decode cX0_joins 20 = .ok (.bipush (-2), 2) := dk_16 254 (dk_at dksX0_joins_0 20 rfl rfl)
theorem dX0_joins_22 : decode cX0_joins 22 = .ok (.ireturn, 1) := dk_172 (dk_at dksX0_joins_0 22 rfl rfl)
abbrev cX0_fours : ByteArray := prog_1_method_56_code
def yX0_fours : MethodName := ⟨RX0, "fours", "()I"⟩
def dkwX0_fours_0 : List UInt8 := [42, 182, 0, 233, 153, 0, 11, 42, 5, 182, 1, 45, 167, 0, 5, 16, 254, 172]
abbrev dktX0_fours_0 : List UInt8 := dkwX0_fours_0 ++ []
theorem dksX0_fours_0 : cX0_fours.data.toList.drop 0 = dktX0_fours_0 := by decide +kernel
theorem dX0_fours_0 : decode cX0_fours 0 = .ok (.aload_n 0, 1) := dk_42 (dk_at dksX0_fours_0 0 rfl rfl)
theorem dX0_fours_1 : decode cX0_fours 1 = .ok (.invokevirtual 233, 3) := dk_182 0 233 (dk_at dksX0_fours_0 1 rfl rfl)
theorem dX0_fours_4 : decode cX0_fours 4 = .ok (.ifCond .eq 11, 3) := dk_153 0 11 (dk_at dksX0_fours_0 4 rfl rfl)
theorem dX0_fours_7 : decode cX0_fours 7 = .ok (.aload_n 0, 1) := dk_42 (dk_at dksX0_fours_0 7 rfl rfl)
theorem dX0_fours_8 : decode cX0_fours 8 = .ok (.iconst 2, 1) := dk_5 (dk_at dksX0_fours_0 8 rfl rfl)
theorem dX0_fours_9 : decode cX0_fours 9 = .ok (.invokevirtual 301, 3) := dk_182 1 45 (dk_at dksX0_fours_0 9 rfl rfl)
theorem dX0_fours_12 : decode cX0_fours 12 = .ok (.goto 5, 3) := dk_167 0 5 (dk_at dksX0_fours_0 12 rfl rfl)
theorem dX0_fours_15 : decode cX0_fours 15 = .ok (.bipush (-2), 2) := dk_16 254 (dk_at dksX0_fours_0 15 rfl rfl)
theorem dX0_fours_17 : decode cX0_fours 17 = .ok (.ireturn, 1) := dk_172 (dk_at dksX0_fours_0 17 rfl rfl)
abbrev cX0_wallsOf : ByteArray := prog_1_method_55_code
def yX0_wallsOf : MethodName := ⟨RX0, "wallsOf", "(I)I"⟩
def dkwX0_wallsOf_3 : List UInt8 := [167, 255, 216, 132, 3, 1, 167, 255, 185, 28, 172]
abbrev dktX0_wallsOf_3 : List UInt8 := dkwX0_wallsOf_3 ++ []
def dkwX0_wallsOf_2 : List UInt8 := [154, 0, 17, 42, 21, 4, 29, 182, 1, 42, 153, 0, 7, 4, 167, 0, 4, 3, 96, 61, 132, 4, 1]
abbrev dktX0_wallsOf_2 : List UInt8 := dkwX0_wallsOf_2 ++ dktX0_wallsOf_3
def dkwX0_wallsOf_1 : List UInt8 := [167, 0, 49, 3, 54, 4, 21, 4, 42, 180, 0, 10, 182, 0, 161, 162, 0, 34, 28, 21, 4, 29, 126]
abbrev dktX0_wallsOf_1 : List UInt8 := dkwX0_wallsOf_1 ++ dktX0_wallsOf_2
def dkwX0_wallsOf_0 : List UInt8 := [3, 61, 3, 62, 29, 42, 180, 0, 10, 182, 0, 161, 162, 0, 66, 29, 184, 0, 195, 27, 159, 0, 6]
abbrev dktX0_wallsOf_0 : List UInt8 := dkwX0_wallsOf_0 ++ dktX0_wallsOf_1
theorem dksX0_wallsOf_0 : cX0_wallsOf.data.toList.drop 0 = dktX0_wallsOf_0 := by decide +kernel
theorem dksX0_wallsOf_1 : cX0_wallsOf.data.toList.drop 23 = dktX0_wallsOf_1 := dk_seg dksX0_wallsOf_0 23 rfl rfl
theorem dksX0_wallsOf_2 : cX0_wallsOf.data.toList.drop 46 = dktX0_wallsOf_2 := dk_seg dksX0_wallsOf_1 23 rfl rfl
theorem dksX0_wallsOf_3 : cX0_wallsOf.data.toList.drop 69 = dktX0_wallsOf_3 := dk_seg dksX0_wallsOf_2 23 rfl rfl
theorem dX0_wallsOf_0 : decode cX0_wallsOf 0 = .ok (.iconst 0, 1) := dk_3 (dk_at dksX0_wallsOf_0 0 rfl rfl)
theorem dX0_wallsOf_1 : decode cX0_wallsOf 1 = .ok (.istore_n 2, 1) := dk_61 (dk_at dksX0_wallsOf_0 1 rfl rfl)
theorem dX0_wallsOf_2 : decode cX0_wallsOf 2 = .ok (.iconst 0, 1) := dk_3 (dk_at dksX0_wallsOf_0 2 rfl rfl)
theorem dX0_wallsOf_3 : decode cX0_wallsOf 3 = .ok (.istore_n 3, 1) := dk_62 (dk_at dksX0_wallsOf_0 3 rfl rfl)
theorem dX0_wallsOf_4 : decode cX0_wallsOf 4 = .ok (.iload_n 3, 1) := dk_29 (dk_at dksX0_wallsOf_0 4 rfl rfl)
theorem dX0_wallsOf_5 : decode cX0_wallsOf 5 = .ok (.aload_n 0, 1) := dk_42 (dk_at dksX0_wallsOf_0 5 rfl rfl)
theorem dX0_wallsOf_6 : decode cX0_wallsOf 6 = .ok (.getfield 10, 3) := dk_180 0 10 (dk_at dksX0_wallsOf_0 6 rfl rfl)
theorem dX0_wallsOf_9 : decode cX0_wallsOf 9 = .ok (.invokevirtual 161, 3) := dk_182 0 161 (dk_at dksX0_wallsOf_0 9 rfl rfl)
theorem dX0_wallsOf_12 : decode cX0_wallsOf 12 = .ok (.if_icmp .ge 66, 3) := dk_162 0 66 (dk_at dksX0_wallsOf_0 12 rfl rfl)
theorem dX0_wallsOf_15 : decode cX0_wallsOf 15 = .ok (.iload_n 3, 1) := dk_29 (dk_at dksX0_wallsOf_0 15 rfl rfl)
theorem dX0_wallsOf_16 : decode cX0_wallsOf 16 = .ok (.invokestatic 195, 3) := dk_184 0 195 (dk_at dksX0_wallsOf_0 16 rfl rfl)
theorem dX0_wallsOf_19 : decode cX0_wallsOf 19 = .ok (.iload_n 1, 1) := dk_27 (dk_at dksX0_wallsOf_0 19 rfl rfl)
theorem dX0_wallsOf_20 : decode cX0_wallsOf 20 = .ok (.if_icmp .eq 6, 3) := dk_159 0 6 (dk_at dksX0_wallsOf_0 20 rfl rfl)
theorem dX0_wallsOf_23 : decode cX0_wallsOf 23 = .ok (.goto 49, 3) := dk_167 0 49 (dk_at dksX0_wallsOf_1 0 rfl rfl)
theorem dX0_wallsOf_26 : decode cX0_wallsOf 26 = .ok (.iconst 0, 1) := dk_3 (dk_at dksX0_wallsOf_1 3 rfl rfl)
theorem dX0_wallsOf_27 : decode cX0_wallsOf 27 = .ok (.istore 4, 2) := dk_54 4 (dk_at dksX0_wallsOf_1 4 rfl rfl)
theorem dX0_wallsOf_29 : decode cX0_wallsOf 29 = .ok (.iload 4, 2) := dk_21 4 (dk_at dksX0_wallsOf_1 6 rfl rfl)
theorem dX0_wallsOf_31 : decode cX0_wallsOf 31 = .ok (.aload_n 0, 1) := dk_42 (dk_at dksX0_wallsOf_1 8 rfl rfl)
theorem dX0_wallsOf_32 : decode cX0_wallsOf 32 = .ok (.getfield 10, 3) := dk_180 0 10 (dk_at dksX0_wallsOf_1 9 rfl rfl)
theorem dX0_wallsOf_35 : decode cX0_wallsOf 35 = .ok (.invokevirtual 161, 3) := dk_182 0 161 (dk_at dksX0_wallsOf_1 12 rfl rfl)
theorem dX0_wallsOf_38 : decode cX0_wallsOf 38 = .ok (.if_icmp .ge 34, 3) := dk_162 0 34 (dk_at dksX0_wallsOf_1 15 rfl rfl)
theorem dX0_wallsOf_41 : decode cX0_wallsOf 41 = .ok (.iload_n 2, 1) := dk_28 (dk_at dksX0_wallsOf_1 18 rfl rfl)
theorem dX0_wallsOf_42 : decode cX0_wallsOf 42 = .ok (.iload 4, 2) := dk_21 4 (dk_at dksX0_wallsOf_1 19 rfl rfl)
theorem dX0_wallsOf_44 : decode cX0_wallsOf 44 = .ok (.iload_n 3, 1) := dk_29 (dk_at dksX0_wallsOf_1 21 rfl rfl)
theorem dX0_wallsOf_45 : decode cX0_wallsOf 45 = .ok (.iand, 1) := dk_126 (dk_at dksX0_wallsOf_1 22 rfl rfl)
theorem dX0_wallsOf_46 : decode cX0_wallsOf 46 = .ok (.ifCond .ne 17, 3) := dk_154 0 17 (dk_at dksX0_wallsOf_2 0 rfl rfl)
theorem dX0_wallsOf_49 : decode cX0_wallsOf 49 = .ok (.aload_n 0, 1) := dk_42 (dk_at dksX0_wallsOf_2 3 rfl rfl)
theorem dX0_wallsOf_50 : decode cX0_wallsOf 50 = .ok (.iload 4, 2) := dk_21 4 (dk_at dksX0_wallsOf_2 4 rfl rfl)
theorem dX0_wallsOf_52 : decode cX0_wallsOf 52 = .ok (.iload_n 3, 1) := dk_29 (dk_at dksX0_wallsOf_2 6 rfl rfl)
theorem dX0_wallsOf_53 : decode cX0_wallsOf 53 = .ok (.invokevirtual 298, 3) := dk_182 1 42 (dk_at dksX0_wallsOf_2 7 rfl rfl)
theorem dX0_wallsOf_56 : decode cX0_wallsOf 56 = .ok (.ifCond .eq 7, 3) := dk_153 0 7 (dk_at dksX0_wallsOf_2 10 rfl rfl)
theorem dX0_wallsOf_59 : decode cX0_wallsOf 59 = .ok (.iconst 1, 1) := dk_4 (dk_at dksX0_wallsOf_2 13 rfl rfl)
theorem dX0_wallsOf_60 : decode cX0_wallsOf 60 = .ok (.goto 4, 3) := dk_167 0 4 (dk_at dksX0_wallsOf_2 14 rfl rfl)
theorem dX0_wallsOf_63 : decode cX0_wallsOf 63 = .ok (.iconst 0, 1) := dk_3 (dk_at dksX0_wallsOf_2 17 rfl rfl)
theorem dX0_wallsOf_64 : decode cX0_wallsOf 64 = .ok (.iadd, 1) := dk_96 (dk_at dksX0_wallsOf_2 18 rfl rfl)
theorem dX0_wallsOf_65 : decode cX0_wallsOf 65 = .ok (.istore_n 2, 1) := dk_61 (dk_at dksX0_wallsOf_2 19 rfl rfl)
theorem dX0_wallsOf_66 : decode cX0_wallsOf 66 = .ok (.iinc 4 1, 3) := dk_132 4 1 (dk_at dksX0_wallsOf_2 20 rfl rfl)
theorem dX0_wallsOf_69 : decode cX0_wallsOf 69 = .ok (.goto (-40), 3) := dk_167 255 216 (dk_at dksX0_wallsOf_3 0 rfl rfl)
theorem dX0_wallsOf_72 : decode cX0_wallsOf 72 = .ok (.iinc 3 1, 3) := dk_132 3 1 (dk_at dksX0_wallsOf_3 3 rfl rfl)
theorem dX0_wallsOf_75 : decode cX0_wallsOf 75 = .ok (.goto (-71), 3) := dk_167 255 185 (dk_at dksX0_wallsOf_3 6 rfl rfl)
theorem dX0_wallsOf_78 : decode cX0_wallsOf 78 = .ok (.iload_n 2, 1) := dk_28 (dk_at dksX0_wallsOf_3 9 rfl rfl)
theorem dX0_wallsOf_79 : decode cX0_wallsOf 79 = .ok (.ireturn, 1) := dk_172 (dk_at dksX0_wallsOf_3 10 rfl rfl)
abbrev cX0_isWall : ByteArray := prog_1_method_54_code
def yX0_isWall : MethodName := ⟨RX0, "isWall", "(II)Z"⟩
def dkwX0_isWall_1 : List UInt8 := [180, 0, 10, 180, 0, 192, 29, 46, 28, 126, 153, 0, 5, 3, 172, 132, 3, 1, 167, 255, 216, 4, 172]
abbrev dktX0_isWall_1 : List UInt8 := dkwX0_isWall_1 ++ []
def dkwX0_isWall_0 : List UInt8 := [3, 62, 29, 42, 180, 0, 10, 182, 0, 161, 162, 0, 35, 29, 27, 130, 28, 2, 130, 126, 154, 0, 19, 42]
abbrev dktX0_isWall_0 : List UInt8 := dkwX0_isWall_0 ++ dktX0_isWall_1
theorem dksX0_isWall_0 : cX0_isWall.data.toList.drop 0 = dktX0_isWall_0 := by decide +kernel
theorem dksX0_isWall_1 : cX0_isWall.data.toList.drop 24 = dktX0_isWall_1 := dk_seg dksX0_isWall_0 24 rfl rfl
theorem dX0_isWall_0 : decode cX0_isWall 0 = .ok (.iconst 0, 1) := dk_3 (dk_at dksX0_isWall_0 0 rfl rfl)
theorem dX0_isWall_1 : decode cX0_isWall 1 = .ok (.istore_n 3, 1) := dk_62 (dk_at dksX0_isWall_0 1 rfl rfl)
theorem dX0_isWall_2 : decode cX0_isWall 2 = .ok (.iload_n 3, 1) := dk_29 (dk_at dksX0_isWall_0 2 rfl rfl)
theorem dX0_isWall_3 : decode cX0_isWall 3 = .ok (.aload_n 0, 1) := dk_42 (dk_at dksX0_isWall_0 3 rfl rfl)
theorem dX0_isWall_4 : decode cX0_isWall 4 = .ok (.getfield 10, 3) := dk_180 0 10 (dk_at dksX0_isWall_0 4 rfl rfl)
theorem dX0_isWall_7 : decode cX0_isWall 7 = .ok (.invokevirtual 161, 3) := dk_182 0 161 (dk_at dksX0_isWall_0 7 rfl rfl)
theorem dX0_isWall_10 : decode cX0_isWall 10 = .ok (.if_icmp .ge 35, 3) := dk_162 0 35 (dk_at dksX0_isWall_0 10 rfl rfl)
theorem dX0_isWall_13 : decode cX0_isWall 13 = .ok (.iload_n 3, 1) := dk_29 (dk_at dksX0_isWall_0 13 rfl rfl)
theorem dX0_isWall_14 : decode cX0_isWall 14 = .ok (.iload_n 1, 1) := dk_27 (dk_at dksX0_isWall_0 14 rfl rfl)
theorem dX0_isWall_15 : decode cX0_isWall 15 = .ok (.ixor, 1) := dk_130 (dk_at dksX0_isWall_0 15 rfl rfl)
theorem dX0_isWall_16 : decode cX0_isWall 16 = .ok (.iload_n 2, 1) := dk_28 (dk_at dksX0_isWall_0 16 rfl rfl)
theorem dX0_isWall_17 : decode cX0_isWall 17 = .ok (.iconst (-1), 1) := dk_2 (dk_at dksX0_isWall_0 17 rfl rfl)
theorem dX0_isWall_18 : decode cX0_isWall 18 = .ok (.ixor, 1) := dk_130 (dk_at dksX0_isWall_0 18 rfl rfl)
theorem dX0_isWall_19 : decode cX0_isWall 19 = .ok (.iand, 1) := dk_126 (dk_at dksX0_isWall_0 19 rfl rfl)
theorem dX0_isWall_20 : decode cX0_isWall 20 = .ok (.ifCond .ne 19, 3) := dk_154 0 19 (dk_at dksX0_isWall_0 20 rfl rfl)
theorem dX0_isWall_23 : decode cX0_isWall 23 = .ok (.aload_n 0, 1) := dk_42 (dk_at dksX0_isWall_0 23 rfl rfl)
theorem dX0_isWall_24 : decode cX0_isWall 24 = .ok (.getfield 10, 3) := dk_180 0 10 (dk_at dksX0_isWall_1 0 rfl rfl)
theorem dX0_isWall_27 : decode cX0_isWall 27 = .ok (.getfield 192, 3) := dk_180 0 192 (dk_at dksX0_isWall_1 3 rfl rfl)
theorem dX0_isWall_30 : decode cX0_isWall 30 = .ok (.iload_n 3, 1) := dk_29 (dk_at dksX0_isWall_1 6 rfl rfl)
theorem dX0_isWall_31 : decode cX0_isWall 31 = .ok (.iaload, 1) := dk_46 (dk_at dksX0_isWall_1 7 rfl rfl)
theorem dX0_isWall_32 : decode cX0_isWall 32 = .ok (.iload_n 2, 1) := dk_28 (dk_at dksX0_isWall_1 8 rfl rfl)
theorem dX0_isWall_33 : decode cX0_isWall 33 = .ok (.iand, 1) := dk_126 (dk_at dksX0_isWall_1 9 rfl rfl)
theorem dX0_isWall_34 : decode cX0_isWall 34 = .ok (.ifCond .eq 5, 3) := dk_153 0 5 (dk_at dksX0_isWall_1 10 rfl rfl)
theorem dX0_isWall_37 : decode cX0_isWall 37 = .ok (.iconst 0, 1) := dk_3 (dk_at dksX0_isWall_1 13 rfl rfl)
theorem dX0_isWall_38 : decode cX0_isWall 38 = .ok (.ireturn, 1) := dk_172 (dk_at dksX0_isWall_1 14 rfl rfl)
theorem dX0_isWall_39 : decode cX0_isWall 39 = .ok (.iinc 3 1, 3) := dk_132 3 1 (dk_at dksX0_isWall_1 15 rfl rfl)
theorem dX0_isWall_42 : decode cX0_isWall 42 = .ok (.goto (-40), 3) := dk_167 255 216 (dk_at dksX0_isWall_1 18 rfl rfl)
theorem dX0_isWall_45 : decode cX0_isWall 45 = .ok (.iconst 1, 1) := dk_4 (dk_at dksX0_isWall_1 21 rfl rfl)
theorem dX0_isWall_46 : decode cX0_isWall 46 = .ok (.ireturn, 1) := dk_172 (dk_at dksX0_isWall_1 22 rfl rfl)
abbrev cX0_walls : ByteArray := prog_1_method_57_code
def yX0_walls : MethodName := ⟨RX0, "walls", "(I)I"⟩
def dkwX0_walls_1 : List UInt8 := [167, 0, 5, 16, 254, 172]
abbrev dktX0_walls_1 : List UInt8 := dkwX0_walls_1 ++ []
def dkwX0_walls_0 : List UInt8 := [42, 182, 0, 233, 153, 0, 23, 27, 133, 9, 20, 1, 48, 184, 0, 133, 153, 0, 11, 42, 27, 182, 1, 45]
abbrev dktX0_walls_0 : List UInt8 := dkwX0_walls_0 ++ dktX0_walls_1
theorem dksX0_walls_0 : cX0_walls.data.toList.drop 0 = dktX0_walls_0 := by decide +kernel
theorem dksX0_walls_1 : cX0_walls.data.toList.drop 24 = dktX0_walls_1 := dk_seg dksX0_walls_0 24 rfl rfl
theorem dX0_walls_0 : decode cX0_walls 0 = .ok (.aload_n 0, 1) := dk_42 (dk_at dksX0_walls_0 0 rfl rfl)
theorem dX0_walls_1 : decode cX0_walls 1 = .ok (.invokevirtual 233, 3) := dk_182 0 233 (dk_at dksX0_walls_0 1 rfl rfl)
theorem dX0_walls_4 : decode cX0_walls 4 = .ok (.ifCond .eq 23, 3) := dk_153 0 23 (dk_at dksX0_walls_0 4 rfl rfl)
theorem dX0_walls_7 : decode cX0_walls 7 = .ok (.iload_n 1, 1) := dk_27 (dk_at dksX0_walls_0 7 rfl rfl)
theorem dX0_walls_8 : decode cX0_walls 8 = .ok (.i2l, 1) := dk_133 (dk_at dksX0_walls_0 8 rfl rfl)
theorem dX0_walls_9 : decode cX0_walls 9 = .ok (.lconst 0, 1) := dk_9 (dk_at dksX0_walls_0 9 rfl rfl)
theorem dX0_walls_10 : decode cX0_walls 10 = .ok (.ldc2_w 304, 3) := dk_20 1 48 (dk_at dksX0_walls_0 10 rfl rfl)
theorem dX0_walls_13 : decode cX0_walls 13 = .ok (.invokestatic 133, 3) := dk_184 0 133 (dk_at dksX0_walls_0 13 rfl rfl)
theorem dX0_walls_16 : decode cX0_walls 16 = .ok (.ifCond .eq 11, 3) := dk_153 0 11 (dk_at dksX0_walls_0 16 rfl rfl)
theorem dX0_walls_19 : decode cX0_walls 19 = .ok (.aload_n 0, 1) := dk_42 (dk_at dksX0_walls_0 19 rfl rfl)
theorem dX0_walls_20 : decode cX0_walls 20 = .ok (.iload_n 1, 1) := dk_27 (dk_at dksX0_walls_0 20 rfl rfl)
theorem dX0_walls_21 : decode cX0_walls 21 = .ok (.invokevirtual 301, 3) := dk_182 1 45 (dk_at dksX0_walls_0 21 rfl rfl)
theorem dX0_walls_24 : decode cX0_walls 24 = .ok (.goto 5, 3) := dk_167 0 5 (dk_at dksX0_walls_1 0 rfl rfl)
theorem dX0_walls_27 : decode cX0_walls 27 = .ok (.bipush (-2), 2) := dk_16 254 (dk_at dksX0_walls_1 3 rfl rfl)
theorem dX0_walls_29 : decode cX0_walls 29 = .ok (.ireturn, 1) := dk_172 (dk_at dksX0_walls_1 5 rfl rfl)
abbrev cX0_wall : ByteArray := prog_1_method_58_code
def yX0_wall : MethodName := ⟨RX0, "wall", "(II)I"⟩
def dkwX0_wall_1 : List UInt8 := [153, 0, 7, 4, 167, 0, 9, 3, 167, 0, 5, 16, 254, 172]
abbrev dktX0_wall_1 : List UInt8 := dkwX0_wall_1 ++ []
def dkwX0_wall_0 : List UInt8 := [42, 27, 133, 182, 0, 167, 153, 0, 29, 42, 28, 133, 182, 0, 167, 153, 0, 20, 42, 27, 28, 182, 1, 42]
abbrev dktX0_wall_0 : List UInt8 := dkwX0_wall_0 ++ dktX0_wall_1
theorem dksX0_wall_0 : cX0_wall.data.toList.drop 0 = dktX0_wall_0 := by decide +kernel
theorem dksX0_wall_1 : cX0_wall.data.toList.drop 24 = dktX0_wall_1 := dk_seg dksX0_wall_0 24 rfl rfl
theorem dX0_wall_0 : decode cX0_wall 0 = .ok (.aload_n 0, 1) := dk_42 (dk_at dksX0_wall_0 0 rfl rfl)
theorem dX0_wall_1 : decode cX0_wall 1 = .ok (.iload_n 1, 1) := dk_27 (dk_at dksX0_wall_0 1 rfl rfl)
theorem dX0_wall_2 : decode cX0_wall 2 = .ok (.i2l, 1) := dk_133 (dk_at dksX0_wall_0 2 rfl rfl)
theorem dX0_wall_3 : decode cX0_wall 3 = .ok (.invokevirtual 167, 3) := dk_182 0 167 (dk_at dksX0_wall_0 3 rfl rfl)
theorem dX0_wall_6 : decode cX0_wall 6 = .ok (.ifCond .eq 29, 3) := dk_153 0 29 (dk_at dksX0_wall_0 6 rfl rfl)
theorem dX0_wall_9 : decode cX0_wall 9 = .ok (.aload_n 0, 1) := dk_42 (dk_at dksX0_wall_0 9 rfl rfl)
theorem dX0_wall_10 : decode cX0_wall 10 = .ok (.iload_n 2, 1) := dk_28 (dk_at dksX0_wall_0 10 rfl rfl)
theorem dX0_wall_11 : decode cX0_wall 11 = .ok (.i2l, 1) := dk_133 (dk_at dksX0_wall_0 11 rfl rfl)
theorem dX0_wall_12 : decode cX0_wall 12 = .ok (.invokevirtual 167, 3) := dk_182 0 167 (dk_at dksX0_wall_0 12 rfl rfl)
theorem dX0_wall_15 : decode cX0_wall 15 = .ok (.ifCond .eq 20, 3) := dk_153 0 20 (dk_at dksX0_wall_0 15 rfl rfl)
theorem dX0_wall_18 : decode cX0_wall 18 = .ok (.aload_n 0, 1) := dk_42 (dk_at dksX0_wall_0 18 rfl rfl)
theorem dX0_wall_19 : decode cX0_wall 19 = .ok (.iload_n 1, 1) := dk_27 (dk_at dksX0_wall_0 19 rfl rfl)
theorem dX0_wall_20 : decode cX0_wall 20 = .ok (.iload_n 2, 1) := dk_28 (dk_at dksX0_wall_0 20 rfl rfl)
theorem dX0_wall_21 : decode cX0_wall 21 = .ok (.invokevirtual 298, 3) := dk_182 1 42 (dk_at dksX0_wall_0 21 rfl rfl)
theorem dX0_wall_24 : decode cX0_wall 24 = .ok (.ifCond .eq 7, 3) := dk_153 0 7 (dk_at dksX0_wall_1 0 rfl rfl)
theorem dX0_wall_27 : decode cX0_wall 27 = .ok (.iconst 1, 1) := dk_4 (dk_at dksX0_wall_1 3 rfl rfl)
theorem dX0_wall_28 : decode cX0_wall 28 = .ok (.goto 9, 3) := dk_167 0 9 (dk_at dksX0_wall_1 4 rfl rfl)
theorem dX0_wall_31 : decode cX0_wall 31 = .ok (.iconst 0, 1) := dk_3 (dk_at dksX0_wall_1 7 rfl rfl)
theorem dX0_wall_32 : decode cX0_wall 32 = .ok (.goto 5, 3) := dk_167 0 5 (dk_at dksX0_wall_1 8 rfl rfl)
theorem dX0_wall_35 : decode cX0_wall 35 = .ok (.bipush (-2), 2) := dk_16 254 (dk_at dksX0_wall_1 11 rfl rfl)
theorem dX0_wall_37 : decode cX0_wall 37 = .ok (.ireturn, 1) := dk_172 (dk_at dksX0_wall_1 13 rfl rfl)
abbrev cX0_rounds : ByteArray := prog_1_method_64_code
def yX0_rounds : MethodName := ⟨RX0, "rounds", "()I"⟩
def dkwX0_rounds_0 : List UInt8 := [42, 4, 182, 1, 71, 60, 27, 156, 0, 7, 27, 167, 0, 7, 42, 180, 1, 53, 172]
abbrev dktX0_rounds_0 : List UInt8 := dkwX0_rounds_0 ++ []
theorem dksX0_rounds_0 : cX0_rounds.data.toList.drop 0 = dktX0_rounds_0 := by decide +kernel
theorem dX0_rounds_0 : decode cX0_rounds 0 = .ok (.aload_n 0, 1) := dk_42 (dk_at dksX0_rounds_0 0 rfl rfl)
theorem dX0_rounds_1 : decode cX0_rounds 1 = .ok (.iconst 1, 1) := dk_4 (dk_at dksX0_rounds_0 1 rfl rfl)
theorem dX0_rounds_2 : decode cX0_rounds 2 = .ok (.invokevirtual 327, 3) := dk_182 1 71 (dk_at dksX0_rounds_0 2 rfl rfl)
theorem dX0_rounds_5 : decode cX0_rounds 5 = .ok (.istore_n 1, 1) := dk_60 (dk_at dksX0_rounds_0 5 rfl rfl)
theorem dX0_rounds_6 : decode cX0_rounds 6 = .ok (.iload_n 1, 1) := dk_27 (dk_at dksX0_rounds_0 6 rfl rfl)
theorem dX0_rounds_7 : decode cX0_rounds 7 = .ok (.ifCond .ge 7, 3) := dk_156 0 7 (dk_at dksX0_rounds_0 7 rfl rfl)
theorem dX0_rounds_10 : decode cX0_rounds 10 = .ok (.iload_n 1, 1) := dk_27 (dk_at dksX0_rounds_0 10 rfl rfl)
theorem dX0_rounds_11 : decode cX0_rounds 11 = .ok (.goto 7, 3) := dk_167 0 7 (dk_at dksX0_rounds_0 11 rfl rfl)
theorem dX0_rounds_14 : decode cX0_rounds 14 = .ok (.aload_n 0, 1) := dk_42 (dk_at dksX0_rounds_0 14 rfl rfl)
theorem dX0_rounds_15 : decode cX0_rounds 15 = .ok (.getfield 309, 3) := dk_180 1 53 (dk_at dksX0_rounds_0 15 rfl rfl)
theorem dX0_rounds_18 : decode cX0_rounds 18 = .ok (.ireturn, 1) := dk_172 (dk_at dksX0_rounds_0 18 rfl rfl)
abbrev cX0_asksRounds : ByteArray := prog_1_method_63_code
def yX0_asksRounds : MethodName := ⟨RX0, "asksRounds", "(Z)I"⟩
def dkwX0_asksRounds_1 : List UInt8 := [160, 0, 6, 16, 247, 172, 42, 182, 1, 68, 3, 172]
abbrev dktX0_asksRounds_1 : List UInt8 := dkwX0_asksRounds_1 ++ []
def dkwX0_asksRounds_0 : List UInt8 := [42, 182, 0, 233, 153, 0, 7, 27, 154, 0, 6, 16, 254, 172, 42, 180, 0, 10, 180, 0, 158, 8]
abbrev dktX0_asksRounds_0 : List UInt8 := dkwX0_asksRounds_0 ++ dktX0_asksRounds_1
theorem dksX0_asksRounds_0 : cX0_asksRounds.data.toList.drop 0 = dktX0_asksRounds_0 := by decide +kernel
theorem dksX0_asksRounds_1 : cX0_asksRounds.data.toList.drop 22 = dktX0_asksRounds_1 := dk_seg dksX0_asksRounds_0 22 rfl rfl
theorem dX0_asksRounds_0 : decode cX0_asksRounds 0 = .ok (.aload_n 0, 1) := dk_42 (dk_at dksX0_asksRounds_0 0 rfl rfl)
theorem dX0_asksRounds_1 : decode cX0_asksRounds 1 = .ok (.invokevirtual 233, 3) := dk_182 0 233 (dk_at dksX0_asksRounds_0 1 rfl rfl)
theorem dX0_asksRounds_4 : decode cX0_asksRounds 4 = .ok (.ifCond .eq 7, 3) := dk_153 0 7 (dk_at dksX0_asksRounds_0 4 rfl rfl)
theorem dX0_asksRounds_7 : decode cX0_asksRounds 7 = .ok (.iload_n 1, 1) := dk_27 (dk_at dksX0_asksRounds_0 7 rfl rfl)
theorem dX0_asksRounds_8 : decode cX0_asksRounds 8 = .ok (.ifCond .ne 6, 3) := dk_154 0 6 (dk_at dksX0_asksRounds_0 8 rfl rfl)
theorem dX0_asksRounds_11 : decode cX0_asksRounds 11 = .ok (.bipush (-2), 2) := dk_16 254 (dk_at dksX0_asksRounds_0 11 rfl rfl)
theorem dX0_asksRounds_13 : decode cX0_asksRounds 13 = .ok (.ireturn, 1) := dk_172 (dk_at dksX0_asksRounds_0 13 rfl rfl)
theorem dX0_asksRounds_14 : decode cX0_asksRounds 14 = .ok (.aload_n 0, 1) := dk_42 (dk_at dksX0_asksRounds_0 14 rfl rfl)
theorem dX0_asksRounds_15 : decode cX0_asksRounds 15 = .ok (.getfield 10, 3) := dk_180 0 10 (dk_at dksX0_asksRounds_0 15 rfl rfl)
theorem dX0_asksRounds_18 : decode cX0_asksRounds 18 = .ok (.getfield 158, 3) := dk_180 0 158 (dk_at dksX0_asksRounds_0 18 rfl rfl)
theorem dX0_asksRounds_21 : decode cX0_asksRounds 21 = .ok (.iconst 5, 1) := dk_8 (dk_at dksX0_asksRounds_0 21 rfl rfl)
theorem dX0_asksRounds_22 : decode cX0_asksRounds 22 = .ok (.if_icmp .ne 6, 3) := dk_160 0 6 (dk_at dksX0_asksRounds_1 0 rfl rfl)
theorem dX0_asksRounds_25 : decode cX0_asksRounds 25 = .ok (.bipush (-9), 2) := dk_16 247 (dk_at dksX0_asksRounds_1 3 rfl rfl)
theorem dX0_asksRounds_27 : decode cX0_asksRounds 27 = .ok (.ireturn, 1) := dk_172 (dk_at dksX0_asksRounds_1 5 rfl rfl)
theorem dX0_asksRounds_28 : decode cX0_asksRounds 28 = .ok (.aload_n 0, 1) := dk_42 (dk_at dksX0_asksRounds_1 6 rfl rfl)
theorem dX0_asksRounds_29 : decode cX0_asksRounds 29 = .ok (.invokevirtual 324, 3) := dk_182 1 68 (dk_at dksX0_asksRounds_1 7 rfl rfl)
theorem dX0_asksRounds_32 : decode cX0_asksRounds 32 = .ok (.iconst 0, 1) := dk_3 (dk_at dksX0_asksRounds_1 10 rfl rfl)
theorem dX0_asksRounds_33 : decode cX0_asksRounds 33 = .ok (.ireturn, 1) := dk_172 (dk_at dksX0_asksRounds_1 11 rfl rfl)
abbrev cX0_walksRounds : ByteArray := prog_1_method_61_code
def yX0_walksRounds : MethodName := ⟨RX0, "walksRounds", "()V"⟩
def dkwX0_walksRounds_8 : List UInt8 := [42, 180, 0, 53, 28, 46, 120, 2, 130, 126, 60, 132, 2, 255, 167, 255, 76, 177]
abbrev dktX0_walksRounds_8 : List UInt8 := dkwX0_walksRounds_8 ++ []
def dkwX0_walksRounds_7 : List UInt8 := [180, 0, 53, 28, 29, 79, 42, 180, 0, 56, 28, 3, 79, 27, 4, 29, 120, 128, 60, 167, 255, 95, 27, 4]
abbrev dktX0_walksRounds_7 : List UInt8 := dkwX0_walksRounds_7 ++ dktX0_walksRounds_8
def dkwX0_walksRounds_6 : List UInt8 := [4, 96, 42, 180, 0, 10, 182, 0, 161, 160, 0, 10, 42, 182, 1, 56, 167, 255, 125, 132, 2, 1, 42]
abbrev dktX0_walksRounds_6 : List UInt8 := dkwX0_walksRounds_6 ++ dktX0_walksRounds_7
def dkwX0_walksRounds_5 : List UInt8 := [153, 0, 23, 29, 154, 255, 161, 28, 4, 96, 42, 180, 0, 10, 182, 0, 161, 162, 0, 6, 167, 255, 145, 28]
abbrev dktX0_walksRounds_5 : List UInt8 := dkwX0_walksRounds_5 ++ dktX0_walksRounds_6
def dkwX0_walksRounds_4 : List UInt8 := [182, 0, 181, 153, 0, 7, 4, 167, 0, 4, 3, 54, 4, 21, 4, 153, 255, 173, 27, 29, 184, 0, 204]
abbrev dktX0_walksRounds_4 : List UInt8 := dkwX0_walksRounds_4 ++ dktX0_walksRounds_5
def dkwX0_walksRounds_3 : List UInt8 := [160, 0, 33, 42, 180, 0, 10, 42, 180, 0, 53, 28, 46, 42, 180, 0, 53, 28, 46, 29, 184, 0, 230]
abbrev dktX0_walksRounds_3 : List UInt8 := dkwX0_walksRounds_3 ++ dktX0_walksRounds_4
def dkwX0_walksRounds_2 : List UInt8 := [46, 62, 42, 180, 0, 56, 28, 92, 46, 4, 96, 79, 42, 180, 0, 53, 28, 46, 29, 130, 184, 0, 195, 4]
abbrev dktX0_walksRounds_2 : List UInt8 := dkwX0_walksRounds_2 ++ dktX0_walksRounds_3
def dkwX0_walksRounds_1 : List UInt8 := [155, 0, 182, 42, 180, 0, 56, 28, 46, 42, 180, 0, 10, 182, 0, 161, 162, 0, 147, 42, 180, 0, 56, 28]
abbrev dktX0_walksRounds_1 : List UInt8 := dkwX0_walksRounds_1 ++ dktX0_walksRounds_2
def dkwX0_walksRounds_0 : List UInt8 := [42, 3, 181, 1, 53, 4, 60, 3, 61, 42, 180, 0, 53, 3, 3, 79, 42, 180, 0, 56, 3, 3, 79, 28]
abbrev dktX0_walksRounds_0 : List UInt8 := dkwX0_walksRounds_0 ++ dktX0_walksRounds_1
theorem dksX0_walksRounds_0 : cX0_walksRounds.data.toList.drop 0 = dktX0_walksRounds_0 := by decide +kernel
theorem dksX0_walksRounds_1 : cX0_walksRounds.data.toList.drop 24 = dktX0_walksRounds_1 := dk_seg dksX0_walksRounds_0 24 rfl rfl
theorem dksX0_walksRounds_2 : cX0_walksRounds.data.toList.drop 48 = dktX0_walksRounds_2 := dk_seg dksX0_walksRounds_1 24 rfl rfl
theorem dksX0_walksRounds_3 : cX0_walksRounds.data.toList.drop 72 = dktX0_walksRounds_3 := dk_seg dksX0_walksRounds_2 24 rfl rfl
theorem dksX0_walksRounds_4 : cX0_walksRounds.data.toList.drop 95 = dktX0_walksRounds_4 := dk_seg dksX0_walksRounds_3 23 rfl rfl
theorem dksX0_walksRounds_5 : cX0_walksRounds.data.toList.drop 118 = dktX0_walksRounds_5 := dk_seg dksX0_walksRounds_4 23 rfl rfl
theorem dksX0_walksRounds_6 : cX0_walksRounds.data.toList.drop 142 = dktX0_walksRounds_6 := dk_seg dksX0_walksRounds_5 24 rfl rfl
theorem dksX0_walksRounds_7 : cX0_walksRounds.data.toList.drop 165 = dktX0_walksRounds_7 := dk_seg dksX0_walksRounds_6 23 rfl rfl
theorem dksX0_walksRounds_8 : cX0_walksRounds.data.toList.drop 189 = dktX0_walksRounds_8 := dk_seg dksX0_walksRounds_7 24 rfl rfl
theorem dX0_walksRounds_0 : decode cX0_walksRounds 0 = .ok (.aload_n 0, 1) := dk_42 (dk_at dksX0_walksRounds_0 0 rfl rfl)
theorem dX0_walksRounds_1 : decode cX0_walksRounds 1 = .ok (.iconst 0, 1) := dk_3 (dk_at dksX0_walksRounds_0 1 rfl rfl)
theorem dX0_walksRounds_2 : decode cX0_walksRounds 2 = .ok (.putfield 309, 3) := dk_181 1 53 (dk_at dksX0_walksRounds_0 2 rfl rfl)
theorem dX0_walksRounds_5 : decode cX0_walksRounds 5 = .ok (.iconst 1, 1) := dk_4 (dk_at dksX0_walksRounds_0 5 rfl rfl)
theorem dX0_walksRounds_6 : decode cX0_walksRounds 6 = .ok (.istore_n 1, 1) := dk_60 (dk_at dksX0_walksRounds_0 6 rfl rfl)
theorem dX0_walksRounds_7 : decode cX0_walksRounds 7 = .ok (.iconst 0, 1) := dk_3 (dk_at dksX0_walksRounds_0 7 rfl rfl)
theorem dX0_walksRounds_8 : decode cX0_walksRounds 8 = .ok (.istore_n 2, 1) := dk_61 (dk_at dksX0_walksRounds_0 8 rfl rfl)
theorem dX0_walksRounds_9 : decode cX0_walksRounds 9 = .ok (.aload_n 0, 1) := dk_42 (dk_at dksX0_walksRounds_0 9 rfl rfl)
theorem dX0_walksRounds_10 : decode cX0_walksRounds 10 = .ok (.getfield 53, 3) := dk_180 0 53 (dk_at dksX0_walksRounds_0 10 rfl rfl)
theorem dX0_walksRounds_13 : decode cX0_walksRounds 13 = .ok (.iconst 0, 1) := dk_3 (dk_at dksX0_walksRounds_0 13 rfl rfl)
theorem dX0_walksRounds_14 : decode cX0_walksRounds 14 = .ok (.iconst 0, 1) := dk_3 (dk_at dksX0_walksRounds_0 14 rfl rfl)
theorem dX0_walksRounds_15 : decode cX0_walksRounds 15 = .ok (.iastore, 1) := dk_79 (dk_at dksX0_walksRounds_0 15 rfl rfl)
theorem dX0_walksRounds_16 : decode cX0_walksRounds 16 = .ok (.aload_n 0, 1) := dk_42 (dk_at dksX0_walksRounds_0 16 rfl rfl)
theorem dX0_walksRounds_17 : decode cX0_walksRounds 17 = .ok (.getfield 56, 3) := dk_180 0 56 (dk_at dksX0_walksRounds_0 17 rfl rfl)
theorem dX0_walksRounds_20 : decode cX0_walksRounds 20 = .ok (.iconst 0, 1) := dk_3 (dk_at dksX0_walksRounds_0 20 rfl rfl)
theorem dX0_walksRounds_21 : decode cX0_walksRounds 21 = .ok (.iconst 0, 1) := dk_3 (dk_at dksX0_walksRounds_0 21 rfl rfl)
theorem dX0_walksRounds_22 : decode cX0_walksRounds 22 = .ok (.iastore, 1) := dk_79 (dk_at dksX0_walksRounds_0 22 rfl rfl)
theorem dX0_walksRounds_23 : decode cX0_walksRounds 23 = .ok (.iload_n 2, 1) := dk_28 (dk_at dksX0_walksRounds_0 23 rfl rfl)
theorem dX0_walksRounds_24 : decode cX0_walksRounds 24 = .ok (.ifCond .lt 182, 3) := dk_155 0 182 (dk_at dksX0_walksRounds_1 0 rfl rfl)
theorem dX0_walksRounds_27 : decode cX0_walksRounds 27 = .ok (.aload_n 0, 1) := dk_42 (dk_at dksX0_walksRounds_1 3 rfl rfl)
theorem dX0_walksRounds_28 : decode cX0_walksRounds 28 = .ok (.getfield 56, 3) := dk_180 0 56 (dk_at dksX0_walksRounds_1 4 rfl rfl)
theorem dX0_walksRounds_31 : decode cX0_walksRounds 31 = .ok (.iload_n 2, 1) := dk_28 (dk_at dksX0_walksRounds_1 7 rfl rfl)
theorem dX0_walksRounds_32 : decode cX0_walksRounds 32 = .ok (.iaload, 1) := dk_46 (dk_at dksX0_walksRounds_1 8 rfl rfl)
theorem dX0_walksRounds_33 : decode cX0_walksRounds 33 = .ok (.aload_n 0, 1) := dk_42 (dk_at dksX0_walksRounds_1 9 rfl rfl)
theorem dX0_walksRounds_34 : decode cX0_walksRounds 34 = .ok (.getfield 10, 3) := dk_180 0 10 (dk_at dksX0_walksRounds_1 10 rfl rfl)
theorem dX0_walksRounds_37 : decode cX0_walksRounds 37 = .ok (.invokevirtual 161, 3) := dk_182 0 161 (dk_at dksX0_walksRounds_1 13 rfl rfl)
theorem dX0_walksRounds_40 : decode cX0_walksRounds 40 = .ok (.if_icmp .ge 147, 3) := dk_162 0 147 (dk_at dksX0_walksRounds_1 16 rfl rfl)
theorem dX0_walksRounds_43 : decode cX0_walksRounds 43 = .ok (.aload_n 0, 1) := dk_42 (dk_at dksX0_walksRounds_1 19 rfl rfl)
theorem dX0_walksRounds_44 : decode cX0_walksRounds 44 = .ok (.getfield 56, 3) := dk_180 0 56 (dk_at dksX0_walksRounds_1 20 rfl rfl)
theorem dX0_walksRounds_47 : decode cX0_walksRounds 47 = .ok (.iload_n 2, 1) := dk_28 (dk_at dksX0_walksRounds_1 23 rfl rfl)
theorem dX0_walksRounds_48 : decode cX0_walksRounds 48 = .ok (.iaload, 1) := dk_46 (dk_at dksX0_walksRounds_2 0 rfl rfl)
theorem dX0_walksRounds_49 : decode cX0_walksRounds 49 = .ok (.istore_n 3, 1) := dk_62 (dk_at dksX0_walksRounds_2 1 rfl rfl)
theorem dX0_walksRounds_50 : decode cX0_walksRounds 50 = .ok (.aload_n 0, 1) := dk_42 (dk_at dksX0_walksRounds_2 2 rfl rfl)
theorem dX0_walksRounds_51 : decode cX0_walksRounds 51 = .ok (.getfield 56, 3) := dk_180 0 56 (dk_at dksX0_walksRounds_2 3 rfl rfl)
theorem dX0_walksRounds_54 : decode cX0_walksRounds 54 = .ok (.iload_n 2, 1) := dk_28 (dk_at dksX0_walksRounds_2 6 rfl rfl)
theorem dX0_walksRounds_55 : decode cX0_walksRounds 55 = .ok (.dup2, 1) := dk_92 (dk_at dksX0_walksRounds_2 7 rfl rfl)
theorem dX0_walksRounds_56 : decode cX0_walksRounds 56 = .ok (.iaload, 1) := dk_46 (dk_at dksX0_walksRounds_2 8 rfl rfl)
theorem dX0_walksRounds_57 : decode cX0_walksRounds 57 = .ok (.iconst 1, 1) := dk_4 (dk_at dksX0_walksRounds_2 9 rfl rfl)
theorem dX0_walksRounds_58 : decode cX0_walksRounds 58 = .ok (.iadd, 1) := dk_96 (dk_at dksX0_walksRounds_2 10 rfl rfl)
theorem dX0_walksRounds_59 : decode cX0_walksRounds 59 = .ok (.iastore, 1) := dk_79 (dk_at dksX0_walksRounds_2 11 rfl rfl)
theorem dX0_walksRounds_60 : decode cX0_walksRounds 60 = .ok (.aload_n 0, 1) := dk_42 (dk_at dksX0_walksRounds_2 12 rfl rfl)
theorem dX0_walksRounds_61 : decode cX0_walksRounds 61 = .ok (.getfield 53, 3) := dk_180 0 53 (dk_at dksX0_walksRounds_2 13 rfl rfl)
theorem dX0_walksRounds_64 : decode cX0_walksRounds 64 = .ok (.iload_n 2, 1) := dk_28 (dk_at dksX0_walksRounds_2 16 rfl rfl)
theorem dX0_walksRounds_65 : decode cX0_walksRounds 65 = .ok (.iaload, 1) := dk_46 (dk_at dksX0_walksRounds_2 17 rfl rfl)
theorem dX0_walksRounds_66 : decode cX0_walksRounds 66 = .ok (.iload_n 3, 1) := dk_29 (dk_at dksX0_walksRounds_2 18 rfl rfl)
theorem dX0_walksRounds_67 : decode cX0_walksRounds 67 = .ok (.ixor, 1) := dk_130 (dk_at dksX0_walksRounds_2 19 rfl rfl)
theorem dX0_walksRounds_68 : decode cX0_walksRounds 68 = .ok (.invokestatic 195, 3) := dk_184 0 195 (dk_at dksX0_walksRounds_2 20 rfl rfl)
theorem dX0_walksRounds_71 : decode cX0_walksRounds 71 = .ok (.iconst 1, 1) := dk_4 (dk_at dksX0_walksRounds_2 23 rfl rfl)
theorem dX0_walksRounds_72 : decode cX0_walksRounds 72 = .ok (.if_icmp .ne 33, 3) := dk_160 0 33 (dk_at dksX0_walksRounds_3 0 rfl rfl)
theorem dX0_walksRounds_75 : decode cX0_walksRounds 75 = .ok (.aload_n 0, 1) := dk_42 (dk_at dksX0_walksRounds_3 3 rfl rfl)
theorem dX0_walksRounds_76 : decode cX0_walksRounds 76 = .ok (.getfield 10, 3) := dk_180 0 10 (dk_at dksX0_walksRounds_3 4 rfl rfl)
theorem dX0_walksRounds_79 : decode cX0_walksRounds 79 = .ok (.aload_n 0, 1) := dk_42 (dk_at dksX0_walksRounds_3 7 rfl rfl)
theorem dX0_walksRounds_80 : decode cX0_walksRounds 80 = .ok (.getfield 53, 3) := dk_180 0 53 (dk_at dksX0_walksRounds_3 8 rfl rfl)
theorem dX0_walksRounds_83 : decode cX0_walksRounds 83 = .ok (.iload_n 2, 1) := dk_28 (dk_at dksX0_walksRounds_3 11 rfl rfl)
theorem dX0_walksRounds_84 : decode cX0_walksRounds 84 = .ok (.iaload, 1) := dk_46 (dk_at dksX0_walksRounds_3 12 rfl rfl)
theorem dX0_walksRounds_85 : decode cX0_walksRounds 85 = .ok (.aload_n 0, 1) := dk_42 (dk_at dksX0_walksRounds_3 13 rfl rfl)
theorem dX0_walksRounds_86 : decode cX0_walksRounds 86 = .ok (.getfield 53, 3) := dk_180 0 53 (dk_at dksX0_walksRounds_3 14 rfl rfl)
theorem dX0_walksRounds_89 : decode cX0_walksRounds 89 = .ok (.iload_n 2, 1) := dk_28 (dk_at dksX0_walksRounds_3 17 rfl rfl)
theorem dX0_walksRounds_90 : decode cX0_walksRounds 90 = .ok (.iaload, 1) := dk_46 (dk_at dksX0_walksRounds_3 18 rfl rfl)
theorem dX0_walksRounds_91 : decode cX0_walksRounds 91 = .ok (.iload_n 3, 1) := dk_29 (dk_at dksX0_walksRounds_3 19 rfl rfl)
theorem dX0_walksRounds_92 : decode cX0_walksRounds 92 = .ok (.invokestatic 230, 3) := dk_184 0 230 (dk_at dksX0_walksRounds_3 20 rfl rfl)
theorem dX0_walksRounds_95 : decode cX0_walksRounds 95 = .ok (.invokevirtual 181, 3) := dk_182 0 181 (dk_at dksX0_walksRounds_4 0 rfl rfl)
theorem dX0_walksRounds_98 : decode cX0_walksRounds 98 = .ok (.ifCond .eq 7, 3) := dk_153 0 7 (dk_at dksX0_walksRounds_4 3 rfl rfl)
theorem dX0_walksRounds_101 : decode cX0_walksRounds 101 = .ok (.iconst 1, 1) := dk_4 (dk_at dksX0_walksRounds_4 6 rfl rfl)
theorem dX0_walksRounds_102 : decode cX0_walksRounds 102 = .ok (.goto 4, 3) := dk_167 0 4 (dk_at dksX0_walksRounds_4 7 rfl rfl)
theorem dX0_walksRounds_105 : decode cX0_walksRounds 105 = .ok (.iconst 0, 1) := dk_3 (dk_at dksX0_walksRounds_4 10 rfl rfl)
theorem dX0_walksRounds_106 : decode cX0_walksRounds 106 = .ok (.istore 4, 2) := dk_54 4 (dk_at dksX0_walksRounds_4 11 rfl rfl)
theorem dX0_walksRounds_108 : decode cX0_walksRounds 108 = .ok (.iload 4, 2) := dk_21 4 (dk_at dksX0_walksRounds_4 13 rfl rfl)
theorem dX0_walksRounds_110 : decode cX0_walksRounds 110 = .ok (.ifCond .eq (-83), 3) := dk_153 255 173 (dk_at dksX0_walksRounds_4 15 rfl rfl)
theorem dX0_walksRounds_113 : decode cX0_walksRounds 113 = .ok (.iload_n 1, 1) := dk_27 (dk_at dksX0_walksRounds_4 18 rfl rfl)
theorem dX0_walksRounds_114 : decode cX0_walksRounds 114 = .ok (.iload_n 3, 1) := dk_29 (dk_at dksX0_walksRounds_4 19 rfl rfl)
theorem dX0_walksRounds_115 : decode cX0_walksRounds 115 = .ok (.invokestatic 204, 3) := dk_184 0 204 (dk_at dksX0_walksRounds_4 20 rfl rfl)
theorem dX0_walksRounds_118 : decode cX0_walksRounds 118 = .ok (.ifCond .eq 23, 3) := dk_153 0 23 (dk_at dksX0_walksRounds_5 0 rfl rfl)
theorem dX0_walksRounds_121 : decode cX0_walksRounds 121 = .ok (.iload_n 3, 1) := dk_29 (dk_at dksX0_walksRounds_5 3 rfl rfl)
theorem dX0_walksRounds_122 : decode cX0_walksRounds 122 = .ok (.ifCond .ne (-95), 3) := dk_154 255 161 (dk_at dksX0_walksRounds_5 4 rfl rfl)
theorem dX0_walksRounds_125 : decode cX0_walksRounds 125 = .ok (.iload_n 2, 1) := dk_28 (dk_at dksX0_walksRounds_5 7 rfl rfl)
theorem dX0_walksRounds_126 : decode cX0_walksRounds 126 = .ok (.iconst 1, 1) := dk_4 (dk_at dksX0_walksRounds_5 8 rfl rfl)
theorem dX0_walksRounds_127 : decode cX0_walksRounds 127 = .ok (.iadd, 1) := dk_96 (dk_at dksX0_walksRounds_5 9 rfl rfl)
theorem dX0_walksRounds_128 : decode cX0_walksRounds 128 = .ok (.aload_n 0, 1) := dk_42 (dk_at dksX0_walksRounds_5 10 rfl rfl)
theorem dX0_walksRounds_129 : decode cX0_walksRounds 129 = .ok (.getfield 10, 3) := dk_180 0 10 (dk_at dksX0_walksRounds_5 11 rfl rfl)
theorem dX0_walksRounds_132 : decode cX0_walksRounds 132 = .ok (.invokevirtual 161, 3) := dk_182 0 161 (dk_at dksX0_walksRounds_5 14 rfl rfl)
theorem dX0_walksRounds_135 : decode cX0_walksRounds 135 = .ok (.if_icmp .ge 6, 3) := dk_162 0 6 (dk_at dksX0_walksRounds_5 17 rfl rfl)
theorem dX0_walksRounds_138 : decode cX0_walksRounds 138 = .ok (.goto (-111), 3) := dk_167 255 145 (dk_at dksX0_walksRounds_5 20 rfl rfl)
theorem dX0_walksRounds_141 : decode cX0_walksRounds 141 = .ok (.iload_n 2, 1) := dk_28 (dk_at dksX0_walksRounds_5 23 rfl rfl)
theorem dX0_walksRounds_142 : decode cX0_walksRounds 142 = .ok (.iconst 1, 1) := dk_4 (dk_at dksX0_walksRounds_6 0 rfl rfl)
theorem dX0_walksRounds_143 : decode cX0_walksRounds 143 = .ok (.iadd, 1) := dk_96 (dk_at dksX0_walksRounds_6 1 rfl rfl)
theorem dX0_walksRounds_144 : decode cX0_walksRounds 144 = .ok (.aload_n 0, 1) := dk_42 (dk_at dksX0_walksRounds_6 2 rfl rfl)
theorem dX0_walksRounds_145 : decode cX0_walksRounds 145 = .ok (.getfield 10, 3) := dk_180 0 10 (dk_at dksX0_walksRounds_6 3 rfl rfl)
theorem dX0_walksRounds_148 : decode cX0_walksRounds 148 = .ok (.invokevirtual 161, 3) := dk_182 0 161 (dk_at dksX0_walksRounds_6 6 rfl rfl)
theorem dX0_walksRounds_151 : decode cX0_walksRounds 151 = .ok (.if_icmp .ne 10, 3) := dk_160 0 10 (dk_at dksX0_walksRounds_6 9 rfl rfl)
theorem dX0_walksRounds_154 : decode cX0_walksRounds 154 = .ok (.aload_n 0, 1) := dk_42 (dk_at dksX0_walksRounds_6 12 rfl rfl)
theorem dX0_walksRounds_155 : decode cX0_walksRounds 155 = .ok (.invokevirtual 312, 3) := dk_182 1 56 (dk_at dksX0_walksRounds_6 13 rfl rfl)
theorem dX0_walksRounds_158 : decode cX0_walksRounds 158 = .ok (.goto (-131), 3) := dk_167 255 125 (dk_at dksX0_walksRounds_6 16 rfl rfl)
theorem dX0_walksRounds_161 : decode cX0_walksRounds 161 = .ok (.iinc 2 1, 3) := dk_132 2 1 (dk_at dksX0_walksRounds_6 19 rfl rfl)
theorem dX0_walksRounds_164 : decode cX0_walksRounds 164 = .ok (.aload_n 0, 1) := dk_42 (dk_at dksX0_walksRounds_6 22 rfl rfl)
theorem dX0_walksRounds_165 : decode cX0_walksRounds 165 = .ok (.getfield 53, 3) := dk_180 0 53 (dk_at dksX0_walksRounds_7 0 rfl rfl)
theorem dX0_walksRounds_168 : decode cX0_walksRounds 168 = .ok (.iload_n 2, 1) := dk_28 (dk_at dksX0_walksRounds_7 3 rfl rfl)
theorem dX0_walksRounds_169 : decode cX0_walksRounds 169 = .ok (.iload_n 3, 1) := dk_29 (dk_at dksX0_walksRounds_7 4 rfl rfl)
theorem dX0_walksRounds_170 : decode cX0_walksRounds 170 = .ok (.iastore, 1) := dk_79 (dk_at dksX0_walksRounds_7 5 rfl rfl)
theorem dX0_walksRounds_171 : decode cX0_walksRounds 171 = .ok (.aload_n 0, 1) := dk_42 (dk_at dksX0_walksRounds_7 6 rfl rfl)
theorem dX0_walksRounds_172 : decode cX0_walksRounds 172 = .ok (.getfield 56, 3) := dk_180 0 56 (dk_at dksX0_walksRounds_7 7 rfl rfl)
theorem dX0_walksRounds_175 : decode cX0_walksRounds 175 = .ok (.iload_n 2, 1) := dk_28 (dk_at dksX0_walksRounds_7 10 rfl rfl)
theorem dX0_walksRounds_176 : decode cX0_walksRounds 176 = .ok (.iconst 0, 1) := dk_3 (dk_at dksX0_walksRounds_7 11 rfl rfl)
theorem dX0_walksRounds_177 : decode cX0_walksRounds 177 = .ok (.iastore, 1) := dk_79 (dk_at dksX0_walksRounds_7 12 rfl rfl)
theorem dX0_walksRounds_178 : decode cX0_walksRounds 178 = .ok (.iload_n 1, 1) := dk_27 (dk_at dksX0_walksRounds_7 13 rfl rfl)
theorem dX0_walksRounds_179 : decode cX0_walksRounds 179 = .ok (.iconst 1, 1) := dk_4 (dk_at dksX0_walksRounds_7 14 rfl rfl)
theorem dX0_walksRounds_180 : decode cX0_walksRounds 180 = .ok (.iload_n 3, 1) := dk_29 (dk_at dksX0_walksRounds_7 15 rfl rfl)
theorem dX0_walksRounds_181 : decode cX0_walksRounds 181 = .ok (.ishl, 1) := dk_120 (dk_at dksX0_walksRounds_7 16 rfl rfl)
theorem dX0_walksRounds_182 : decode cX0_walksRounds 182 = .ok (.ior, 1) := dk_128 (dk_at dksX0_walksRounds_7 17 rfl rfl)
theorem dX0_walksRounds_183 : decode cX0_walksRounds 183 = .ok (.istore_n 1, 1) := dk_60 (dk_at dksX0_walksRounds_7 18 rfl rfl)
theorem dX0_walksRounds_184 : decode cX0_walksRounds 184 = .ok (.goto (-161), 3) := dk_167 255 95 (dk_at dksX0_walksRounds_7 19 rfl rfl)
theorem dX0_walksRounds_187 : decode cX0_walksRounds 187 = .ok (.iload_n 1, 1) := dk_27 (dk_at dksX0_walksRounds_7 22 rfl rfl)
theorem dX0_walksRounds_188 : decode cX0_walksRounds 188 = .ok (.iconst 1, 1) := dk_4 (dk_at dksX0_walksRounds_7 23 rfl rfl)
theorem dX0_walksRounds_189 : decode cX0_walksRounds 189 = .ok (.aload_n 0, 1) := dk_42 (dk_at dksX0_walksRounds_8 0 rfl rfl)
theorem dX0_walksRounds_190 : decode cX0_walksRounds 190 = .ok (.getfield 53, 3) := dk_180 0 53 (dk_at dksX0_walksRounds_8 1 rfl rfl)
theorem dX0_walksRounds_193 : decode cX0_walksRounds 193 = .ok (.iload_n 2, 1) := dk_28 (dk_at dksX0_walksRounds_8 4 rfl rfl)
theorem dX0_walksRounds_194 : decode cX0_walksRounds 194 = .ok (.iaload, 1) := dk_46 (dk_at dksX0_walksRounds_8 5 rfl rfl)
theorem dX0_walksRounds_195 : decode cX0_walksRounds 195 = .ok (.ishl, 1) := dk_120 (dk_at dksX0_walksRounds_8 6 rfl rfl)
theorem dX0_walksRounds_196 : decode cX0_walksRounds 196 = .ok (.iconst (-1), 1) := dk_2 (dk_at dksX0_walksRounds_8 7 rfl rfl)
theorem dX0_walksRounds_197 : decode cX0_walksRounds 197 = .ok (.ixor, 1) := dk_130 (dk_at dksX0_walksRounds_8 8 rfl rfl)
theorem dX0_walksRounds_198 : decode cX0_walksRounds 198 = .ok (.iand, 1) := dk_126 (dk_at dksX0_walksRounds_8 9 rfl rfl)
theorem dX0_walksRounds_199 : decode cX0_walksRounds 199 = .ok (.istore_n 1, 1) := dk_60 (dk_at dksX0_walksRounds_8 10 rfl rfl)
theorem dX0_walksRounds_200 : decode cX0_walksRounds 200 = .ok (.iinc 2 (-1), 3) := dk_132 2 255 (dk_at dksX0_walksRounds_8 11 rfl rfl)
theorem dX0_walksRounds_203 : decode cX0_walksRounds 203 = .ok (.goto (-180), 3) := dk_167 255 76 (dk_at dksX0_walksRounds_8 14 rfl rfl)
theorem dX0_walksRounds_206 : decode cX0_walksRounds 206 = .ok (.return_, 1) := dk_177 (dk_at dksX0_walksRounds_8 17 rfl rfl)
abbrev cX0_keepsRound : ByteArray := prog_1_method_62_code
def yX0_keepsRound : MethodName := ⟨RX0, "keepsRound", "()V"⟩
def dkwX0_keepsRound_3 : List UInt8 := [181, 1, 53, 177]
abbrev dktX0_keepsRound_3 : List UInt8 := dkwX0_keepsRound_3 ++ []
def dkwX0_keepsRound_2 : List UInt8 := [184, 1, 59, 42, 180, 0, 62, 42, 180, 1, 53, 42, 182, 1, 65, 79, 42, 89, 180, 1, 53, 4, 96]
abbrev dktX0_keepsRound_2 : List UInt8 := dkwX0_keepsRound_2 ++ dktX0_keepsRound_3
def dkwX0_keepsRound_1 : List UInt8 := [42, 180, 1, 53, 154, 0, 23, 42, 180, 0, 53, 3, 42, 180, 0, 59, 3, 42, 180, 0, 10, 182, 0, 161]
abbrev dktX0_keepsRound_1 : List UInt8 := dkwX0_keepsRound_1 ++ dktX0_keepsRound_2
def dkwX0_keepsRound_0 : List UInt8 := [42, 180, 0, 53, 4, 46, 42, 180, 0, 53, 42, 180, 0, 10, 182, 0, 161, 4, 100, 46, 164, 0, 4, 177]
abbrev dktX0_keepsRound_0 : List UInt8 := dkwX0_keepsRound_0 ++ dktX0_keepsRound_1
theorem dksX0_keepsRound_0 : cX0_keepsRound.data.toList.drop 0 = dktX0_keepsRound_0 := by decide +kernel
theorem dksX0_keepsRound_1 : cX0_keepsRound.data.toList.drop 24 = dktX0_keepsRound_1 := dk_seg dksX0_keepsRound_0 24 rfl rfl
theorem dksX0_keepsRound_2 : cX0_keepsRound.data.toList.drop 48 = dktX0_keepsRound_2 := dk_seg dksX0_keepsRound_1 24 rfl rfl
theorem dksX0_keepsRound_3 : cX0_keepsRound.data.toList.drop 71 = dktX0_keepsRound_3 := dk_seg dksX0_keepsRound_2 23 rfl rfl
theorem dX0_keepsRound_0 : decode cX0_keepsRound 0 = .ok (.aload_n 0, 1) := dk_42 (dk_at dksX0_keepsRound_0 0 rfl rfl)
theorem dX0_keepsRound_1 : decode cX0_keepsRound 1 = .ok (.getfield 53, 3) := dk_180 0 53 (dk_at dksX0_keepsRound_0 1 rfl rfl)
theorem dX0_keepsRound_4 : decode cX0_keepsRound 4 = .ok (.iconst 1, 1) := dk_4 (dk_at dksX0_keepsRound_0 4 rfl rfl)
theorem dX0_keepsRound_5 : decode cX0_keepsRound 5 = .ok (.iaload, 1) := dk_46 (dk_at dksX0_keepsRound_0 5 rfl rfl)
theorem dX0_keepsRound_6 : decode cX0_keepsRound 6 = .ok (.aload_n 0, 1) := dk_42 (dk_at dksX0_keepsRound_0 6 rfl rfl)
theorem dX0_keepsRound_7 : decode cX0_keepsRound 7 = .ok (.getfield 53, 3) := dk_180 0 53 (dk_at dksX0_keepsRound_0 7 rfl rfl)
theorem dX0_keepsRound_10 : decode cX0_keepsRound 10 = .ok (.aload_n 0, 1) := dk_42 (dk_at dksX0_keepsRound_0 10 rfl rfl)
theorem dX0_keepsRound_11 : decode cX0_keepsRound 11 = .ok (.getfield 10, 3) := dk_180 0 10 (dk_at dksX0_keepsRound_0 11 rfl rfl)
theorem dX0_keepsRound_14 : decode cX0_keepsRound 14 = .ok (.invokevirtual 161, 3) := dk_182 0 161 (dk_at dksX0_keepsRound_0 14 rfl rfl)
theorem dX0_keepsRound_17 : decode cX0_keepsRound 17 = .ok (.iconst 1, 1) := dk_4 (dk_at dksX0_keepsRound_0 17 rfl rfl)
theorem dX0_keepsRound_18 : decode cX0_keepsRound 18 = .ok (.isub, 1) := dk_100 (dk_at dksX0_keepsRound_0 18 rfl rfl)
theorem dX0_keepsRound_19 : decode cX0_keepsRound 19 = .ok (.iaload, 1) := dk_46 (dk_at dksX0_keepsRound_0 19 rfl rfl)
theorem dX0_keepsRound_20 : decode cX0_keepsRound 20 = .ok (.if_icmp .le 4, 3) := dk_164 0 4 (dk_at dksX0_keepsRound_0 20 rfl rfl)
theorem dX0_keepsRound_23 : decode cX0_keepsRound 23 = .ok (.return_, 1) := dk_177 (dk_at dksX0_keepsRound_0 23 rfl rfl)
theorem dX0_keepsRound_24 : decode cX0_keepsRound 24 = .ok (.aload_n 0, 1) := dk_42 (dk_at dksX0_keepsRound_1 0 rfl rfl)
theorem dX0_keepsRound_25 : decode cX0_keepsRound 25 = .ok (.getfield 309, 3) := dk_180 1 53 (dk_at dksX0_keepsRound_1 1 rfl rfl)
theorem dX0_keepsRound_28 : decode cX0_keepsRound 28 = .ok (.ifCond .ne 23, 3) := dk_154 0 23 (dk_at dksX0_keepsRound_1 4 rfl rfl)
theorem dX0_keepsRound_31 : decode cX0_keepsRound 31 = .ok (.aload_n 0, 1) := dk_42 (dk_at dksX0_keepsRound_1 7 rfl rfl)
theorem dX0_keepsRound_32 : decode cX0_keepsRound 32 = .ok (.getfield 53, 3) := dk_180 0 53 (dk_at dksX0_keepsRound_1 8 rfl rfl)
theorem dX0_keepsRound_35 : decode cX0_keepsRound 35 = .ok (.iconst 0, 1) := dk_3 (dk_at dksX0_keepsRound_1 11 rfl rfl)
theorem dX0_keepsRound_36 : decode cX0_keepsRound 36 = .ok (.aload_n 0, 1) := dk_42 (dk_at dksX0_keepsRound_1 12 rfl rfl)
theorem dX0_keepsRound_37 : decode cX0_keepsRound 37 = .ok (.getfield 59, 3) := dk_180 0 59 (dk_at dksX0_keepsRound_1 13 rfl rfl)
theorem dX0_keepsRound_40 : decode cX0_keepsRound 40 = .ok (.iconst 0, 1) := dk_3 (dk_at dksX0_keepsRound_1 16 rfl rfl)
theorem dX0_keepsRound_41 : decode cX0_keepsRound 41 = .ok (.aload_n 0, 1) := dk_42 (dk_at dksX0_keepsRound_1 17 rfl rfl)
theorem dX0_keepsRound_42 : decode cX0_keepsRound 42 = .ok (.getfield 10, 3) := dk_180 0 10 (dk_at dksX0_keepsRound_1 18 rfl rfl)
theorem dX0_keepsRound_45 : decode cX0_keepsRound 45 = .ok (.invokevirtual 161, 3) := dk_182 0 161 (dk_at dksX0_keepsRound_1 21 rfl rfl)
theorem dX0_keepsRound_48 : decode cX0_keepsRound 48 = .ok (.invokestatic 315, 3) := dk_184 1 59 (dk_at dksX0_keepsRound_2 0 rfl rfl)
theorem dX0_keepsRound_51 : decode cX0_keepsRound 51 = .ok (.aload_n 0, 1) := dk_42 (dk_at dksX0_keepsRound_2 3 rfl rfl)
theorem dX0_keepsRound_52 : decode cX0_keepsRound 52 = .ok (.getfield 62, 3) := dk_180 0 62 (dk_at dksX0_keepsRound_2 4 rfl rfl)
theorem dX0_keepsRound_55 : decode cX0_keepsRound 55 = .ok (.aload_n 0, 1) := dk_42 (dk_at dksX0_keepsRound_2 7 rfl rfl)
theorem dX0_keepsRound_56 : decode cX0_keepsRound 56 = .ok (.getfield 309, 3) := dk_180 1 53 (dk_at dksX0_keepsRound_2 8 rfl rfl)
theorem dX0_keepsRound_59 : decode cX0_keepsRound 59 = .ok (.aload_n 0, 1) := dk_42 (dk_at dksX0_keepsRound_2 11 rfl rfl)
theorem dX0_keepsRound_60 : decode cX0_keepsRound 60 = .ok (.invokevirtual 321, 3) := dk_182 1 65 (dk_at dksX0_keepsRound_2 12 rfl rfl)
theorem dX0_keepsRound_63 : decode cX0_keepsRound 63 = .ok (.iastore, 1) := dk_79 (dk_at dksX0_keepsRound_2 15 rfl rfl)
theorem dX0_keepsRound_64 : decode cX0_keepsRound 64 = .ok (.aload_n 0, 1) := dk_42 (dk_at dksX0_keepsRound_2 16 rfl rfl)
theorem dX0_keepsRound_65 : decode cX0_keepsRound 65 = .ok (.dup, 1) := dk_89 (dk_at dksX0_keepsRound_2 17 rfl rfl)
theorem dX0_keepsRound_66 : decode cX0_keepsRound 66 = .ok (.getfield 309, 3) := dk_180 1 53 (dk_at dksX0_keepsRound_2 18 rfl rfl)
theorem dX0_keepsRound_69 : decode cX0_keepsRound 69 = .ok (.iconst 1, 1) := dk_4 (dk_at dksX0_keepsRound_2 21 rfl rfl)
theorem dX0_keepsRound_70 : decode cX0_keepsRound 70 = .ok (.iadd, 1) := dk_96 (dk_at dksX0_keepsRound_2 22 rfl rfl)
theorem dX0_keepsRound_71 : decode cX0_keepsRound 71 = .ok (.putfield 309, 3) := dk_181 1 53 (dk_at dksX0_keepsRound_3 0 rfl rfl)
theorem dX0_keepsRound_74 : decode cX0_keepsRound 74 = .ok (.return_, 1) := dk_177 (dk_at dksX0_keepsRound_3 3 rfl rfl)
abbrev cX0_streetsOfRound : ByteArray := prog_1_method_60_code
def yX0_streetsOfRound : MethodName := ⟨RX0, "streetsOfRound", "()I"⟩
def dkwX0_streetsOfRound_2 : List UInt8 := [184, 0, 230, 182, 1, 50, 120, 128, 60, 132, 2, 1, 167, 255, 201, 27, 172]
abbrev dktX0_streetsOfRound_2 : List UInt8 := dkwX0_streetsOfRound_2 ++ []
def dkwX0_streetsOfRound_1 : List UInt8 := [180, 0, 53, 28, 4, 96, 42, 180, 0, 10, 182, 0, 161, 112, 46, 54, 4, 27, 4, 42, 29, 29, 21, 4]
abbrev dktX0_streetsOfRound_1 : List UInt8 := dkwX0_streetsOfRound_1 ++ dktX0_streetsOfRound_2
def dkwX0_streetsOfRound_0 : List UInt8 := [3, 60, 3, 61, 28, 42, 180, 0, 10, 182, 0, 161, 162, 0, 50, 42, 180, 0, 53, 28, 46, 62, 42]
abbrev dktX0_streetsOfRound_0 : List UInt8 := dkwX0_streetsOfRound_0 ++ dktX0_streetsOfRound_1
theorem dksX0_streetsOfRound_0 : cX0_streetsOfRound.data.toList.drop 0 = dktX0_streetsOfRound_0 := by decide +kernel
theorem dksX0_streetsOfRound_1 : cX0_streetsOfRound.data.toList.drop 23 = dktX0_streetsOfRound_1 := dk_seg dksX0_streetsOfRound_0 23 rfl rfl
theorem dksX0_streetsOfRound_2 : cX0_streetsOfRound.data.toList.drop 47 = dktX0_streetsOfRound_2 := dk_seg dksX0_streetsOfRound_1 24 rfl rfl
theorem dX0_streetsOfRound_0 : decode cX0_streetsOfRound 0 = .ok (.iconst 0, 1) := dk_3 (dk_at dksX0_streetsOfRound_0 0 rfl rfl)
theorem dX0_streetsOfRound_1 : decode cX0_streetsOfRound 1 = .ok (.istore_n 1, 1) := dk_60 (dk_at dksX0_streetsOfRound_0 1 rfl rfl)
theorem dX0_streetsOfRound_2 : decode cX0_streetsOfRound 2 = .ok (.iconst 0, 1) := dk_3 (dk_at dksX0_streetsOfRound_0 2 rfl rfl)
theorem dX0_streetsOfRound_3 : decode cX0_streetsOfRound 3 = .ok (.istore_n 2, 1) := dk_61 (dk_at dksX0_streetsOfRound_0 3 rfl rfl)
theorem dX0_streetsOfRound_4 : decode cX0_streetsOfRound 4 = .ok (.iload_n 2, 1) := dk_28 (dk_at dksX0_streetsOfRound_0 4 rfl rfl)
theorem dX0_streetsOfRound_5 : decode cX0_streetsOfRound 5 = .ok (.aload_n 0, 1) := dk_42 (dk_at dksX0_streetsOfRound_0 5 rfl rfl)
theorem dX0_streetsOfRound_6 : decode cX0_streetsOfRound 6 = .ok (.getfield 10, 3) := dk_180 0 10 (dk_at dksX0_streetsOfRound_0 6 rfl rfl)
theorem dX0_streetsOfRound_9 : decode cX0_streetsOfRound 9 = .ok (.invokevirtual 161, 3) := dk_182 0 161 (dk_at dksX0_streetsOfRound_0 9 rfl rfl)
theorem dX0_streetsOfRound_12 : decode cX0_streetsOfRound 12 = .ok (.if_icmp .ge 50, 3) := dk_162 0 50 (dk_at dksX0_streetsOfRound_0 12 rfl rfl)
theorem dX0_streetsOfRound_15 : decode cX0_streetsOfRound 15 = .ok (.aload_n 0, 1) := dk_42 (dk_at dksX0_streetsOfRound_0 15 rfl rfl)
theorem dX0_streetsOfRound_16 : decode cX0_streetsOfRound 16 = .ok (.getfield 53, 3) := dk_180 0 53 (dk_at dksX0_streetsOfRound_0 16 rfl rfl)
theorem dX0_streetsOfRound_19 : decode cX0_streetsOfRound 19 = .ok (.iload_n 2, 1) := dk_28 (dk_at dksX0_streetsOfRound_0 19 rfl rfl)
theorem dX0_streetsOfRound_20 : decode cX0_streetsOfRound 20 = .ok (.iaload, 1) := dk_46 (dk_at dksX0_streetsOfRound_0 20 rfl rfl)
theorem dX0_streetsOfRound_21 : decode cX0_streetsOfRound 21 = .ok (.istore_n 3, 1) := dk_62 (dk_at dksX0_streetsOfRound_0 21 rfl rfl)
theorem dX0_streetsOfRound_22 : decode cX0_streetsOfRound 22 = .ok (.aload_n 0, 1) := dk_42 (dk_at dksX0_streetsOfRound_0 22 rfl rfl)
theorem dX0_streetsOfRound_23 : decode cX0_streetsOfRound 23 = .ok (.getfield 53, 3) := dk_180 0 53 (dk_at dksX0_streetsOfRound_1 0 rfl rfl)
theorem dX0_streetsOfRound_26 : decode cX0_streetsOfRound 26 = .ok (.iload_n 2, 1) := dk_28 (dk_at dksX0_streetsOfRound_1 3 rfl rfl)
theorem dX0_streetsOfRound_27 : decode cX0_streetsOfRound 27 = .ok (.iconst 1, 1) := dk_4 (dk_at dksX0_streetsOfRound_1 4 rfl rfl)
theorem dX0_streetsOfRound_28 : decode cX0_streetsOfRound 28 = .ok (.iadd, 1) := dk_96 (dk_at dksX0_streetsOfRound_1 5 rfl rfl)
theorem dX0_streetsOfRound_29 : decode cX0_streetsOfRound 29 = .ok (.aload_n 0, 1) := dk_42 (dk_at dksX0_streetsOfRound_1 6 rfl rfl)
theorem dX0_streetsOfRound_30 : decode cX0_streetsOfRound 30 = .ok (.getfield 10, 3) := dk_180 0 10 (dk_at dksX0_streetsOfRound_1 7 rfl rfl)
theorem dX0_streetsOfRound_33 : decode cX0_streetsOfRound 33 = .ok (.invokevirtual 161, 3) := dk_182 0 161 (dk_at dksX0_streetsOfRound_1 10 rfl rfl)
theorem dX0_streetsOfRound_36 : decode cX0_streetsOfRound 36 = .ok (.irem, 1) := dk_112 (dk_at dksX0_streetsOfRound_1 13 rfl rfl)
theorem dX0_streetsOfRound_37 : decode cX0_streetsOfRound 37 = .ok (.iaload, 1) := dk_46 (dk_at dksX0_streetsOfRound_1 14 rfl rfl)
theorem dX0_streetsOfRound_38 : decode cX0_streetsOfRound 38 = .ok (.istore 4, 2) := dk_54 4 (dk_at dksX0_streetsOfRound_1 15 rfl rfl)
theorem dX0_streetsOfRound_40 : decode cX0_streetsOfRound 40 = .ok (.iload_n 1, 1) := dk_27 (dk_at dksX0_streetsOfRound_1 17 rfl rfl)
theorem dX0_streetsOfRound_41 : decode cX0_streetsOfRound 41 = .ok (.iconst 1, 1) := dk_4 (dk_at dksX0_streetsOfRound_1 18 rfl rfl)
theorem dX0_streetsOfRound_42 : decode cX0_streetsOfRound 42 = .ok (.aload_n 0, 1) := dk_42 (dk_at dksX0_streetsOfRound_1 19 rfl rfl)
theorem dX0_streetsOfRound_43 : decode cX0_streetsOfRound 43 = .ok (.iload_n 3, 1) := dk_29 (dk_at dksX0_streetsOfRound_1 20 rfl rfl)
theorem dX0_streetsOfRound_44 : decode cX0_streetsOfRound 44 = .ok (.iload_n 3, 1) := dk_29 (dk_at dksX0_streetsOfRound_1 21 rfl rfl)
theorem dX0_streetsOfRound_45 : decode cX0_streetsOfRound 45 = .ok (.iload 4, 2) := dk_21 4 (dk_at dksX0_streetsOfRound_1 22 rfl rfl)
theorem dX0_streetsOfRound_47 : decode cX0_streetsOfRound 47 = .ok (.invokestatic 230, 3) := dk_184 0 230 (dk_at dksX0_streetsOfRound_2 0 rfl rfl)
theorem dX0_streetsOfRound_50 : decode cX0_streetsOfRound 50 = .ok (.invokevirtual 306, 3) := dk_182 1 50 (dk_at dksX0_streetsOfRound_2 3 rfl rfl)
theorem dX0_streetsOfRound_53 : decode cX0_streetsOfRound 53 = .ok (.ishl, 1) := dk_120 (dk_at dksX0_streetsOfRound_2 6 rfl rfl)
theorem dX0_streetsOfRound_54 : decode cX0_streetsOfRound 54 = .ok (.ior, 1) := dk_128 (dk_at dksX0_streetsOfRound_2 7 rfl rfl)
theorem dX0_streetsOfRound_55 : decode cX0_streetsOfRound 55 = .ok (.istore_n 1, 1) := dk_60 (dk_at dksX0_streetsOfRound_2 8 rfl rfl)
theorem dX0_streetsOfRound_56 : decode cX0_streetsOfRound 56 = .ok (.iinc 2 1, 3) := dk_132 2 1 (dk_at dksX0_streetsOfRound_2 9 rfl rfl)
theorem dX0_streetsOfRound_59 : decode cX0_streetsOfRound 59 = .ok (.goto (-55), 3) := dk_167 255 201 (dk_at dksX0_streetsOfRound_2 12 rfl rfl)
theorem dX0_streetsOfRound_62 : decode cX0_streetsOfRound 62 = .ok (.iload_n 1, 1) := dk_27 (dk_at dksX0_streetsOfRound_2 15 rfl rfl)
theorem dX0_streetsOfRound_63 : decode cX0_streetsOfRound 63 = .ok (.ireturn, 1) := dk_172 (dk_at dksX0_streetsOfRound_2 16 rfl rfl)
abbrev cX0_streetOf : ByteArray := prog_1_method_59_code
def yX0_streetOf : MethodName := ⟨RX0, "streetOf", "(II)I"⟩
def dkwX0_streetOf_1 : List UInt8 := [182, 0, 161, 104, 5, 108, 21, 4, 29, 128, 96, 172]
abbrev dktX0_streetOf_1 : List UInt8 := dkwX0_streetOf_1 ++ []
def dkwX0_streetOf_0 : List UInt8 := [27, 4, 28, 120, 4, 100, 126, 62, 27, 28, 4, 96, 122, 28, 120, 54, 4, 28, 42, 180, 0, 10]
abbrev dktX0_streetOf_0 : List UInt8 := dkwX0_streetOf_0 ++ dktX0_streetOf_1
theorem dksX0_streetOf_0 : cX0_streetOf.data.toList.drop 0 = dktX0_streetOf_0 := by decide +kernel
theorem dksX0_streetOf_1 : cX0_streetOf.data.toList.drop 22 = dktX0_streetOf_1 := dk_seg dksX0_streetOf_0 22 rfl rfl
theorem dX0_streetOf_0 : decode cX0_streetOf 0 = .ok (.iload_n 1, 1) := dk_27 (dk_at dksX0_streetOf_0 0 rfl rfl)
theorem dX0_streetOf_1 : decode cX0_streetOf 1 = .ok (.iconst 1, 1) := dk_4 (dk_at dksX0_streetOf_0 1 rfl rfl)
theorem dX0_streetOf_2 : decode cX0_streetOf 2 = .ok (.iload_n 2, 1) := dk_28 (dk_at dksX0_streetOf_0 2 rfl rfl)
theorem dX0_streetOf_3 : decode cX0_streetOf 3 = .ok (.ishl, 1) := dk_120 (dk_at dksX0_streetOf_0 3 rfl rfl)
theorem dX0_streetOf_4 : decode cX0_streetOf 4 = .ok (.iconst 1, 1) := dk_4 (dk_at dksX0_streetOf_0 4 rfl rfl)
theorem dX0_streetOf_5 : decode cX0_streetOf 5 = .ok (.isub, 1) := dk_100 (dk_at dksX0_streetOf_0 5 rfl rfl)
theorem dX0_streetOf_6 : decode cX0_streetOf 6 = .ok (.iand, 1) := dk_126 (dk_at dksX0_streetOf_0 6 rfl rfl)
theorem dX0_streetOf_7 : decode cX0_streetOf 7 = .ok (.istore_n 3, 1) := dk_62 (dk_at dksX0_streetOf_0 7 rfl rfl)
theorem dX0_streetOf_8 : decode cX0_streetOf 8 = .ok (.iload_n 1, 1) := dk_27 (dk_at dksX0_streetOf_0 8 rfl rfl)
theorem dX0_streetOf_9 : decode cX0_streetOf 9 = .ok (.iload_n 2, 1) := dk_28 (dk_at dksX0_streetOf_0 9 rfl rfl)
theorem dX0_streetOf_10 : decode cX0_streetOf 10 = .ok (.iconst 1, 1) := dk_4 (dk_at dksX0_streetOf_0 10 rfl rfl)
theorem dX0_streetOf_11 : decode cX0_streetOf 11 = .ok (.iadd, 1) := dk_96 (dk_at dksX0_streetOf_0 11 rfl rfl)
theorem dX0_streetOf_12 : decode cX0_streetOf 12 = .ok (.ishr, 1) := dk_122 (dk_at dksX0_streetOf_0 12 rfl rfl)
theorem dX0_streetOf_13 : decode cX0_streetOf 13 = .ok (.iload_n 2, 1) := dk_28 (dk_at dksX0_streetOf_0 13 rfl rfl)
theorem dX0_streetOf_14 : decode cX0_streetOf 14 = .ok (.ishl, 1) := dk_120 (dk_at dksX0_streetOf_0 14 rfl rfl)
theorem dX0_streetOf_15 : decode cX0_streetOf 15 = .ok (.istore 4, 2) := dk_54 4 (dk_at dksX0_streetOf_0 15 rfl rfl)
theorem dX0_streetOf_17 : decode cX0_streetOf 17 = .ok (.iload_n 2, 1) := dk_28 (dk_at dksX0_streetOf_0 17 rfl rfl)
theorem dX0_streetOf_18 : decode cX0_streetOf 18 = .ok (.aload_n 0, 1) := dk_42 (dk_at dksX0_streetOf_0 18 rfl rfl)
theorem dX0_streetOf_19 : decode cX0_streetOf 19 = .ok (.getfield 10, 3) := dk_180 0 10 (dk_at dksX0_streetOf_0 19 rfl rfl)
theorem dX0_streetOf_22 : decode cX0_streetOf 22 = .ok (.invokevirtual 161, 3) := dk_182 0 161 (dk_at dksX0_streetOf_1 0 rfl rfl)
theorem dX0_streetOf_25 : decode cX0_streetOf 25 = .ok (.imul, 1) := dk_104 (dk_at dksX0_streetOf_1 3 rfl rfl)
theorem dX0_streetOf_26 : decode cX0_streetOf 26 = .ok (.iconst 2, 1) := dk_5 (dk_at dksX0_streetOf_1 4 rfl rfl)
theorem dX0_streetOf_27 : decode cX0_streetOf 27 = .ok (.idiv, 1) := dk_108 (dk_at dksX0_streetOf_1 5 rfl rfl)
theorem dX0_streetOf_28 : decode cX0_streetOf 28 = .ok (.iload 4, 2) := dk_21 4 (dk_at dksX0_streetOf_1 6 rfl rfl)
theorem dX0_streetOf_30 : decode cX0_streetOf 30 = .ok (.iload_n 3, 1) := dk_29 (dk_at dksX0_streetOf_1 8 rfl rfl)
theorem dX0_streetOf_31 : decode cX0_streetOf 31 = .ok (.ior, 1) := dk_128 (dk_at dksX0_streetOf_1 9 rfl rfl)
theorem dX0_streetOf_32 : decode cX0_streetOf 32 = .ok (.iadd, 1) := dk_96 (dk_at dksX0_streetOf_1 10 rfl rfl)
theorem dX0_streetOf_33 : decode cX0_streetOf 33 = .ok (.ireturn, 1) := dk_172 (dk_at dksX0_streetOf_1 11 rfl rfl)
abbrev cX0_round : ByteArray := prog_1_method_65_code
def yX0_round : MethodName := ⟨RX0, "round", "(I)I"⟩
def dkwX0_round_1 : List UInt8 := [182, 0, 167, 153, 0, 12, 42, 180, 0, 59, 27, 46, 167, 0, 4, 2, 172]
abbrev dktX0_round_1 : List UInt8 := dkwX0_round_1 ++ []
def dkwX0_round_0 : List UInt8 := [42, 4, 182, 1, 71, 61, 28, 156, 0, 7, 28, 167, 0, 29, 42, 180, 1, 53, 158, 0, 21, 42, 27, 133]
abbrev dktX0_round_0 : List UInt8 := dkwX0_round_0 ++ dktX0_round_1
theorem dksX0_round_0 : cX0_round.data.toList.drop 0 = dktX0_round_0 := by decide +kernel
theorem dksX0_round_1 : cX0_round.data.toList.drop 24 = dktX0_round_1 := dk_seg dksX0_round_0 24 rfl rfl
theorem dX0_round_0 : decode cX0_round 0 = .ok (.aload_n 0, 1) := dk_42 (dk_at dksX0_round_0 0 rfl rfl)
theorem dX0_round_1 : decode cX0_round 1 = .ok (.iconst 1, 1) := dk_4 (dk_at dksX0_round_0 1 rfl rfl)
theorem dX0_round_2 : decode cX0_round 2 = .ok (.invokevirtual 327, 3) := dk_182 1 71 (dk_at dksX0_round_0 2 rfl rfl)
theorem dX0_round_5 : decode cX0_round 5 = .ok (.istore_n 2, 1) := dk_61 (dk_at dksX0_round_0 5 rfl rfl)
theorem dX0_round_6 : decode cX0_round 6 = .ok (.iload_n 2, 1) := dk_28 (dk_at dksX0_round_0 6 rfl rfl)
theorem dX0_round_7 : decode cX0_round 7 = .ok (.ifCond .ge 7, 3) := dk_156 0 7 (dk_at dksX0_round_0 7 rfl rfl)
theorem dX0_round_10 : decode cX0_round 10 = .ok (.iload_n 2, 1) := dk_28 (dk_at dksX0_round_0 10 rfl rfl)
theorem dX0_round_11 : decode cX0_round 11 = .ok (.goto 29, 3) := dk_167 0 29 (dk_at dksX0_round_0 11 rfl rfl)
theorem dX0_round_14 : decode cX0_round 14 = .ok (.aload_n 0, 1) := dk_42 (dk_at dksX0_round_0 14 rfl rfl)
theorem dX0_round_15 : decode cX0_round 15 = .ok (.getfield 309, 3) := dk_180 1 53 (dk_at dksX0_round_0 15 rfl rfl)
theorem dX0_round_18 : decode cX0_round 18 = .ok (.ifCond .le 21, 3) := dk_158 0 21 (dk_at dksX0_round_0 18 rfl rfl)
theorem dX0_round_21 : decode cX0_round 21 = .ok (.aload_n 0, 1) := dk_42 (dk_at dksX0_round_0 21 rfl rfl)
theorem dX0_round_22 : decode cX0_round 22 = .ok (.iload_n 1, 1) := dk_27 (dk_at dksX0_round_0 22 rfl rfl)
theorem dX0_round_23 : decode cX0_round 23 = .ok (.i2l, 1) := dk_133 (dk_at dksX0_round_0 23 rfl rfl)
theorem dX0_round_24 : decode cX0_round 24 = .ok (.invokevirtual 167, 3) := dk_182 0 167 (dk_at dksX0_round_1 0 rfl rfl)
theorem dX0_round_27 : decode cX0_round 27 = .ok (.ifCond .eq 12, 3) := dk_153 0 12 (dk_at dksX0_round_1 3 rfl rfl)
theorem dX0_round_30 : decode cX0_round 30 = .ok (.aload_n 0, 1) := dk_42 (dk_at dksX0_round_1 6 rfl rfl)
theorem dX0_round_31 : decode cX0_round 31 = .ok (.getfield 59, 3) := dk_180 0 59 (dk_at dksX0_round_1 7 rfl rfl)
theorem dX0_round_34 : decode cX0_round 34 = .ok (.iload_n 1, 1) := dk_27 (dk_at dksX0_round_1 10 rfl rfl)
theorem dX0_round_35 : decode cX0_round 35 = .ok (.iaload, 1) := dk_46 (dk_at dksX0_round_1 11 rfl rfl)
theorem dX0_round_36 : decode cX0_round 36 = .ok (.goto 4, 3) := dk_167 0 4 (dk_at dksX0_round_1 12 rfl rfl)
theorem dX0_round_39 : decode cX0_round 39 = .ok (.iconst (-1), 1) := dk_2 (dk_at dksX0_round_1 15 rfl rfl)
theorem dX0_round_40 : decode cX0_round 40 = .ok (.ireturn, 1) := dk_172 (dk_at dksX0_round_1 16 rfl rfl)
abbrev cX0_by : ByteArray := prog_1_method_67_code
def yX0_by : MethodName := ⟨RX0, "by", "(I)I"⟩
def dkwX0_by_1 : List UInt8 := [154, 0, 7, 2, 167, 0, 14, 42, 42, 180, 0, 62, 3, 46, 27, 182, 1, 75, 172]
abbrev dktX0_by_1 : List UInt8 := dkwX0_by_1 ++ []
def dkwX0_by_0 : List UInt8 := [42, 42, 27, 182, 0, 171, 182, 1, 71, 61, 28, 156, 0, 7, 28, 167, 0, 25, 42, 180, 1, 53]
abbrev dktX0_by_0 : List UInt8 := dkwX0_by_0 ++ dktX0_by_1
theorem dksX0_by_0 : cX0_by.data.toList.drop 0 = dktX0_by_0 := by decide +kernel
theorem dksX0_by_1 : cX0_by.data.toList.drop 22 = dktX0_by_1 := dk_seg dksX0_by_0 22 rfl rfl
theorem dX0_by_0 : decode cX0_by 0 = .ok (.aload_n 0, 1) := dk_42 (dk_at dksX0_by_0 0 rfl rfl)
theorem dX0_by_1 : decode cX0_by 1 = .ok (.aload_n 0, 1) := dk_42 (dk_at dksX0_by_0 1 rfl rfl)
theorem dX0_by_2 : decode cX0_by 2 = .ok (.iload_n 1, 1) := dk_27 (dk_at dksX0_by_0 2 rfl rfl)
theorem dX0_by_3 : decode cX0_by 3 = .ok (.invokevirtual 171, 3) := dk_182 0 171 (dk_at dksX0_by_0 3 rfl rfl)
theorem dX0_by_6 : decode cX0_by 6 = .ok (.invokevirtual 327, 3) := dk_182 1 71 (dk_at dksX0_by_0 6 rfl rfl)
theorem dX0_by_9 : decode cX0_by 9 = .ok (.istore_n 2, 1) := dk_61 (dk_at dksX0_by_0 9 rfl rfl)
theorem dX0_by_10 : decode cX0_by 10 = .ok (.iload_n 2, 1) := dk_28 (dk_at dksX0_by_0 10 rfl rfl)
theorem dX0_by_11 : decode cX0_by 11 = .ok (.ifCond .ge 7, 3) := dk_156 0 7 (dk_at dksX0_by_0 11 rfl rfl)
theorem dX0_by_14 : decode cX0_by 14 = .ok (.iload_n 2, 1) := dk_28 (dk_at dksX0_by_0 14 rfl rfl)
theorem dX0_by_15 : decode cX0_by 15 = .ok (.goto 25, 3) := dk_167 0 25 (dk_at dksX0_by_0 15 rfl rfl)
theorem dX0_by_18 : decode cX0_by 18 = .ok (.aload_n 0, 1) := dk_42 (dk_at dksX0_by_0 18 rfl rfl)
theorem dX0_by_19 : decode cX0_by 19 = .ok (.getfield 309, 3) := dk_180 1 53 (dk_at dksX0_by_0 19 rfl rfl)
theorem dX0_by_22 : decode cX0_by 22 = .ok (.ifCond .ne 7, 3) := dk_154 0 7 (dk_at dksX0_by_1 0 rfl rfl)
theorem dX0_by_25 : decode cX0_by 25 = .ok (.iconst (-1), 1) := dk_2 (dk_at dksX0_by_1 3 rfl rfl)
theorem dX0_by_26 : decode cX0_by 26 = .ok (.goto 14, 3) := dk_167 0 14 (dk_at dksX0_by_1 4 rfl rfl)
theorem dX0_by_29 : decode cX0_by 29 = .ok (.aload_n 0, 1) := dk_42 (dk_at dksX0_by_1 7 rfl rfl)
theorem dX0_by_30 : decode cX0_by 30 = .ok (.aload_n 0, 1) := dk_42 (dk_at dksX0_by_1 8 rfl rfl)
theorem dX0_by_31 : decode cX0_by 31 = .ok (.getfield 62, 3) := dk_180 0 62 (dk_at dksX0_by_1 9 rfl rfl)
theorem dX0_by_34 : decode cX0_by 34 = .ok (.iconst 0, 1) := dk_3 (dk_at dksX0_by_1 12 rfl rfl)
theorem dX0_by_35 : decode cX0_by 35 = .ok (.iaload, 1) := dk_46 (dk_at dksX0_by_1 13 rfl rfl)
theorem dX0_by_36 : decode cX0_by 36 = .ok (.iload_n 1, 1) := dk_27 (dk_at dksX0_by_1 14 rfl rfl)
theorem dX0_by_37 : decode cX0_by 37 = .ok (.invokevirtual 331, 3) := dk_182 1 75 (dk_at dksX0_by_1 15 rfl rfl)
theorem dX0_by_40 : decode cX0_by 40 = .ok (.ireturn, 1) := dk_172 (dk_at dksX0_by_1 18 rfl rfl)
abbrev cX0_stepsBy : ByteArray := prog_1_method_66_code
def yX0_stepsBy : MethodName := ⟨RX0, "stepsBy", "(II)I"⟩
def dkwX0_stepsBy_1 : List UInt8 := [184, 0, 195, 172]
abbrev dktX0_stepsBy_1 : List UInt8 := dkwX0_stepsBy_1 ++ []
def dkwX0_stepsBy_0 : List UInt8 := [42, 180, 0, 10, 182, 0, 161, 5, 108, 62, 27, 28, 29, 104, 124, 10, 29, 121, 10, 101, 136, 126]
abbrev dktX0_stepsBy_0 : List UInt8 := dkwX0_stepsBy_0 ++ dktX0_stepsBy_1
theorem dksX0_stepsBy_0 : cX0_stepsBy.data.toList.drop 0 = dktX0_stepsBy_0 := by decide +kernel
theorem dksX0_stepsBy_1 : cX0_stepsBy.data.toList.drop 22 = dktX0_stepsBy_1 := dk_seg dksX0_stepsBy_0 22 rfl rfl
theorem dX0_stepsBy_0 : decode cX0_stepsBy 0 = .ok (.aload_n 0, 1) := dk_42 (dk_at dksX0_stepsBy_0 0 rfl rfl)
theorem dX0_stepsBy_1 : decode cX0_stepsBy 1 = .ok (.getfield 10, 3) := dk_180 0 10 (dk_at dksX0_stepsBy_0 1 rfl rfl)
theorem dX0_stepsBy_4 : decode cX0_stepsBy 4 = .ok (.invokevirtual 161, 3) := dk_182 0 161 (dk_at dksX0_stepsBy_0 4 rfl rfl)
theorem dX0_stepsBy_7 : decode cX0_stepsBy 7 = .ok (.iconst 2, 1) := dk_5 (dk_at dksX0_stepsBy_0 7 rfl rfl)
theorem dX0_stepsBy_8 : decode cX0_stepsBy 8 = .ok (.idiv, 1) := dk_108 (dk_at dksX0_stepsBy_0 8 rfl rfl)
theorem dX0_stepsBy_9 : decode cX0_stepsBy 9 = .ok (.istore_n 3, 1) := dk_62 (dk_at dksX0_stepsBy_0 9 rfl rfl)
theorem dX0_stepsBy_10 : decode cX0_stepsBy 10 = .ok (.iload_n 1, 1) := dk_27 (dk_at dksX0_stepsBy_0 10 rfl rfl)
theorem dX0_stepsBy_11 : decode cX0_stepsBy 11 = .ok (.iload_n 2, 1) := dk_28 (dk_at dksX0_stepsBy_0 11 rfl rfl)
theorem dX0_stepsBy_12 : decode cX0_stepsBy 12 = .ok (.iload_n 3, 1) := dk_29 (dk_at dksX0_stepsBy_0 12 rfl rfl)
theorem dX0_stepsBy_13 : decode cX0_stepsBy 13 = .ok (.imul, 1) := dk_104 (dk_at dksX0_stepsBy_0 13 rfl rfl)
theorem dX0_stepsBy_14 : decode cX0_stepsBy 14 = .ok (.iushr, 1) := dk_124 (dk_at dksX0_stepsBy_0 14 rfl rfl)
theorem dX0_stepsBy_15 : decode cX0_stepsBy 15 = .ok (.lconst 1, 1) := dk_10 (dk_at dksX0_stepsBy_0 15 rfl rfl)
theorem dX0_stepsBy_16 : decode cX0_stepsBy 16 = .ok (.iload_n 3, 1) := dk_29 (dk_at dksX0_stepsBy_0 16 rfl rfl)
theorem dX0_stepsBy_17 : decode cX0_stepsBy 17 = .ok (.lshl, 1) := dk_121 (dk_at dksX0_stepsBy_0 17 rfl rfl)
theorem dX0_stepsBy_18 : decode cX0_stepsBy 18 = .ok (.lconst 1, 1) := dk_10 (dk_at dksX0_stepsBy_0 18 rfl rfl)
theorem dX0_stepsBy_19 : decode cX0_stepsBy 19 = .ok (.lsub, 1) := dk_101 (dk_at dksX0_stepsBy_0 19 rfl rfl)
theorem dX0_stepsBy_20 : decode cX0_stepsBy 20 = .ok (.l2i, 1) := dk_136 (dk_at dksX0_stepsBy_0 20 rfl rfl)
theorem dX0_stepsBy_21 : decode cX0_stepsBy 21 = .ok (.iand, 1) := dk_126 (dk_at dksX0_stepsBy_0 21 rfl rfl)
theorem dX0_stepsBy_22 : decode cX0_stepsBy 22 = .ok (.invokestatic 195, 3) := dk_184 0 195 (dk_at dksX0_stepsBy_1 0 rfl rfl)
theorem dX0_stepsBy_25 : decode cX0_stepsBy 25 = .ok (.ireturn, 1) := dk_172 (dk_at dksX0_stepsBy_1 3 rfl rfl)
abbrev cX0_even : ByteArray := prog_1_method_68_code
def yX0_even : MethodName := ⟨RX0, "even", "()I"⟩
def dkwX0_even_4 : List UInt8 := [167, 0, 4, 3, 96, 61, 132, 3, 1, 167, 255, 170, 28, 172]
abbrev dktX0_even_4 : List UInt8 := dkwX0_even_4 ++ []
def dkwX0_even_3 : List UInt8 := [160, 0, 7, 4, 167, 0, 4, 3, 54, 4, 132, 5, 1, 167, 255, 203, 28, 21, 4, 153, 0, 7, 4]
abbrev dktX0_even_3 : List UInt8 := dkwX0_even_3 ++ dktX0_even_4
def dkwX0_even_2 : List UInt8 := [42, 180, 0, 62, 29, 46, 21, 5, 182, 1, 75, 42, 42, 180, 0, 62, 29, 46, 3, 182, 1, 75]
abbrev dktX0_even_2 : List UInt8 := dkwX0_even_2 ++ dktX0_even_3
def dkwX0_even_1 : List UInt8 := [4, 54, 4, 4, 54, 5, 21, 5, 42, 180, 0, 10, 180, 0, 158, 162, 0, 47, 21, 4, 153, 0, 33, 42]
abbrev dktX0_even_1 : List UInt8 := dkwX0_even_1 ++ dktX0_even_2
def dkwX0_even_0 : List UInt8 := [42, 4, 182, 1, 71, 60, 27, 156, 0, 5, 27, 172, 3, 61, 3, 62, 29, 42, 180, 1, 53, 162, 0, 84]
abbrev dktX0_even_0 : List UInt8 := dkwX0_even_0 ++ dktX0_even_1
theorem dksX0_even_0 : cX0_even.data.toList.drop 0 = dktX0_even_0 := by decide +kernel
theorem dksX0_even_1 : cX0_even.data.toList.drop 24 = dktX0_even_1 := dk_seg dksX0_even_0 24 rfl rfl
theorem dksX0_even_2 : cX0_even.data.toList.drop 48 = dktX0_even_2 := dk_seg dksX0_even_1 24 rfl rfl
theorem dksX0_even_3 : cX0_even.data.toList.drop 70 = dktX0_even_3 := dk_seg dksX0_even_2 22 rfl rfl
theorem dksX0_even_4 : cX0_even.data.toList.drop 93 = dktX0_even_4 := dk_seg dksX0_even_3 23 rfl rfl
theorem dX0_even_0 : decode cX0_even 0 = .ok (.aload_n 0, 1) := dk_42 (dk_at dksX0_even_0 0 rfl rfl)
theorem dX0_even_1 : decode cX0_even 1 = .ok (.iconst 1, 1) := dk_4 (dk_at dksX0_even_0 1 rfl rfl)
theorem dX0_even_2 : decode cX0_even 2 = .ok (.invokevirtual 327, 3) := dk_182 1 71 (dk_at dksX0_even_0 2 rfl rfl)
theorem dX0_even_5 : decode cX0_even 5 = .ok (.istore_n 1, 1) := dk_60 (dk_at dksX0_even_0 5 rfl rfl)
theorem dX0_even_6 : decode cX0_even 6 = .ok (.iload_n 1, 1) := dk_27 (dk_at dksX0_even_0 6 rfl rfl)
theorem dX0_even_7 : decode cX0_even 7 = .ok (.ifCond .ge 5, 3) := dk_156 0 5 (dk_at dksX0_even_0 7 rfl rfl)
theorem dX0_even_10 : decode cX0_even 10 = .ok (.iload_n 1, 1) := dk_27 (dk_at dksX0_even_0 10 rfl rfl)
theorem dX0_even_11 : decode cX0_even 11 = .ok (.ireturn, 1) := dk_172 (dk_at dksX0_even_0 11 rfl rfl)
theorem dX0_even_12 : decode cX0_even 12 = .ok (.iconst 0, 1) := dk_3 (dk_at dksX0_even_0 12 rfl rfl)
theorem dX0_even_13 : decode cX0_even 13 = .ok (.istore_n 2, 1) := dk_61 (dk_at dksX0_even_0 13 rfl rfl)
theorem dX0_even_14 : decode cX0_even 14 = .ok (.iconst 0, 1) := dk_3 (dk_at dksX0_even_0 14 rfl rfl)
theorem dX0_even_15 : decode cX0_even 15 = .ok (.istore_n 3, 1) := dk_62 (dk_at dksX0_even_0 15 rfl rfl)
theorem dX0_even_16 : decode cX0_even 16 = .ok (.iload_n 3, 1) := dk_29 (dk_at dksX0_even_0 16 rfl rfl)
theorem dX0_even_17 : decode cX0_even 17 = .ok (.aload_n 0, 1) := dk_42 (dk_at dksX0_even_0 17 rfl rfl)
theorem dX0_even_18 : decode cX0_even 18 = .ok (.getfield 309, 3) := dk_180 1 53 (dk_at dksX0_even_0 18 rfl rfl)
theorem dX0_even_21 : decode cX0_even 21 = .ok (.if_icmp .ge 84, 3) := dk_162 0 84 (dk_at dksX0_even_0 21 rfl rfl)
theorem dX0_even_24 : decode cX0_even 24 = .ok (.iconst 1, 1) := dk_4 (dk_at dksX0_even_1 0 rfl rfl)
theorem dX0_even_25 : decode cX0_even 25 = .ok (.istore 4, 2) := dk_54 4 (dk_at dksX0_even_1 1 rfl rfl)
theorem dX0_even_27 : decode cX0_even 27 = .ok (.iconst 1, 1) := dk_4 (dk_at dksX0_even_1 3 rfl rfl)
theorem dX0_even_28 : decode cX0_even 28 = .ok (.istore 5, 2) := dk_54 5 (dk_at dksX0_even_1 4 rfl rfl)
theorem dX0_even_30 : decode cX0_even 30 = .ok (.iload 5, 2) := dk_21 5 (dk_at dksX0_even_1 6 rfl rfl)
theorem dX0_even_32 : decode cX0_even 32 = .ok (.aload_n 0, 1) := dk_42 (dk_at dksX0_even_1 8 rfl rfl)
theorem dX0_even_33 : decode cX0_even 33 = .ok (.getfield 10, 3) := dk_180 0 10 (dk_at dksX0_even_1 9 rfl rfl)
theorem dX0_even_36 : decode cX0_even 36 = .ok (.getfield 158, 3) := dk_180 0 158 (dk_at dksX0_even_1 12 rfl rfl)
theorem dX0_even_39 : decode cX0_even 39 = .ok (.if_icmp .ge 47, 3) := dk_162 0 47 (dk_at dksX0_even_1 15 rfl rfl)
theorem dX0_even_42 : decode cX0_even 42 = .ok (.iload 4, 2) := dk_21 4 (dk_at dksX0_even_1 18 rfl rfl)
theorem dX0_even_44 : decode cX0_even 44 = .ok (.ifCond .eq 33, 3) := dk_153 0 33 (dk_at dksX0_even_1 20 rfl rfl)
theorem dX0_even_47 : decode cX0_even 47 = .ok (.aload_n 0, 1) := dk_42 (dk_at dksX0_even_1 23 rfl rfl)
theorem dX0_even_48 : decode cX0_even 48 = .ok (.aload_n 0, 1) := dk_42 (dk_at dksX0_even_2 0 rfl rfl)
theorem dX0_even_49 : decode cX0_even 49 = .ok (.getfield 62, 3) := dk_180 0 62 (dk_at dksX0_even_2 1 rfl rfl)
theorem dX0_even_52 : decode cX0_even 52 = .ok (.iload_n 3, 1) := dk_29 (dk_at dksX0_even_2 4 rfl rfl)
theorem dX0_even_53 : decode cX0_even 53 = .ok (.iaload, 1) := dk_46 (dk_at dksX0_even_2 5 rfl rfl)
theorem dX0_even_54 : decode cX0_even 54 = .ok (.iload 5, 2) := dk_21 5 (dk_at dksX0_even_2 6 rfl rfl)
theorem dX0_even_56 : decode cX0_even 56 = .ok (.invokevirtual 331, 3) := dk_182 1 75 (dk_at dksX0_even_2 8 rfl rfl)
theorem dX0_even_59 : decode cX0_even 59 = .ok (.aload_n 0, 1) := dk_42 (dk_at dksX0_even_2 11 rfl rfl)
theorem dX0_even_60 : decode cX0_even 60 = .ok (.aload_n 0, 1) := dk_42 (dk_at dksX0_even_2 12 rfl rfl)
theorem dX0_even_61 : decode cX0_even 61 = .ok (.getfield 62, 3) := dk_180 0 62 (dk_at dksX0_even_2 13 rfl rfl)
theorem dX0_even_64 : decode cX0_even 64 = .ok (.iload_n 3, 1) := dk_29 (dk_at dksX0_even_2 16 rfl rfl)
theorem dX0_even_65 : decode cX0_even 65 = .ok (.iaload, 1) := dk_46 (dk_at dksX0_even_2 17 rfl rfl)
theorem dX0_even_66 : decode cX0_even 66 = .ok (.iconst 0, 1) := dk_3 (dk_at dksX0_even_2 18 rfl rfl)
theorem dX0_even_67 : decode cX0_even 67 = .ok (.invokevirtual 331, 3) := dk_182 1 75 (dk_at dksX0_even_2 19 rfl rfl)
theorem dX0_even_70 : decode cX0_even 70 = .ok (.if_icmp .ne 7, 3) := dk_160 0 7 (dk_at dksX0_even_3 0 rfl rfl)
theorem dX0_even_73 : decode cX0_even 73 = .ok (.iconst 1, 1) := dk_4 (dk_at dksX0_even_3 3 rfl rfl)
theorem dX0_even_74 : decode cX0_even 74 = .ok (.goto 4, 3) := dk_167 0 4 (dk_at dksX0_even_3 4 rfl rfl)
theorem dX0_even_77 : decode cX0_even 77 = .ok (.iconst 0, 1) := dk_3 (dk_at dksX0_even_3 7 rfl rfl)
theorem dX0_even_78 : decode cX0_even 78 = .ok (.istore 4, 2) := dk_54 4 (dk_at dksX0_even_3 8 rfl rfl)
theorem dX0_even_80 : decode cX0_even 80 = .ok (.iinc 5 1, 3) := dk_132 5 1 (dk_at dksX0_even_3 10 rfl rfl)
theorem dX0_even_83 : decode cX0_even 83 = .ok (.goto (-53), 3) := dk_167 255 203 (dk_at dksX0_even_3 13 rfl rfl)
theorem dX0_even_86 : decode cX0_even 86 = .ok (.iload_n 2, 1) := dk_28 (dk_at dksX0_even_3 16 rfl rfl)
theorem dX0_even_87 : decode cX0_even 87 = .ok (.iload 4, 2) := dk_21 4 (dk_at dksX0_even_3 17 rfl rfl)
theorem dX0_even_89 : decode cX0_even 89 = .ok (.ifCond .eq 7, 3) := dk_153 0 7 (dk_at dksX0_even_3 19 rfl rfl)
theorem dX0_even_92 : decode cX0_even 92 = .ok (.iconst 1, 1) := dk_4 (dk_at dksX0_even_3 22 rfl rfl)
theorem dX0_even_93 : decode cX0_even 93 = .ok (.goto 4, 3) := dk_167 0 4 (dk_at dksX0_even_4 0 rfl rfl)
theorem dX0_even_96 : decode cX0_even 96 = .ok (.iconst 0, 1) := dk_3 (dk_at dksX0_even_4 3 rfl rfl)
theorem dX0_even_97 : decode cX0_even 97 = .ok (.iadd, 1) := dk_96 (dk_at dksX0_even_4 4 rfl rfl)
theorem dX0_even_98 : decode cX0_even 98 = .ok (.istore_n 2, 1) := dk_61 (dk_at dksX0_even_4 5 rfl rfl)
theorem dX0_even_99 : decode cX0_even 99 = .ok (.iinc 3 1, 3) := dk_132 3 1 (dk_at dksX0_even_4 6 rfl rfl)
theorem dX0_even_102 : decode cX0_even 102 = .ok (.goto (-86), 3) := dk_167 255 170 (dk_at dksX0_even_4 9 rfl rfl)
theorem dX0_even_105 : decode cX0_even 105 = .ok (.iload_n 2, 1) := dk_28 (dk_at dksX0_even_4 12 rfl rfl)
theorem dX0_even_106 : decode cX0_even 106 = .ok (.ireturn, 1) := dk_172 (dk_at dksX0_even_4 13 rfl rfl)
abbrev cX0_turnings : ByteArray := prog_1_method_74_code
def yX0_turnings : MethodName := ⟨RX0, "turnings", "()I"⟩
def dkwX0_turnings_0 : List UInt8 := [42, 182, 0, 233, 154, 0, 6, 16, 254, 172, 42, 182, 1, 93, 42, 180, 1, 84, 172]
abbrev dktX0_turnings_0 : List UInt8 := dkwX0_turnings_0 ++ []
theorem dksX0_turnings_0 : cX0_turnings.data.toList.drop 0 = dktX0_turnings_0 := by decide +kernel
theorem dX0_turnings_0 : decode cX0_turnings 0 = .ok (.aload_n 0, 1) := dk_42 (dk_at dksX0_turnings_0 0 rfl rfl)
theorem dX0_turnings_1 : decode cX0_turnings 1 = .ok (.invokevirtual 233, 3) := dk_182 0 233 (dk_at dksX0_turnings_0 1 rfl rfl)
theorem dX0_turnings_4 : decode cX0_turnings 4 = .ok (.ifCond .ne 6, 3) := dk_154 0 6 (dk_at dksX0_turnings_0 4 rfl rfl)
theorem dX0_turnings_7 : decode cX0_turnings 7 = .ok (.bipush (-2), 2) := dk_16 254 (dk_at dksX0_turnings_0 7 rfl rfl)
theorem dX0_turnings_9 : decode cX0_turnings 9 = .ok (.ireturn, 1) := dk_172 (dk_at dksX0_turnings_0 9 rfl rfl)
theorem dX0_turnings_10 : decode cX0_turnings 10 = .ok (.aload_n 0, 1) := dk_42 (dk_at dksX0_turnings_0 10 rfl rfl)
theorem dX0_turnings_11 : decode cX0_turnings 11 = .ok (.invokevirtual 349, 3) := dk_182 1 93 (dk_at dksX0_turnings_0 11 rfl rfl)
theorem dX0_turnings_14 : decode cX0_turnings 14 = .ok (.aload_n 0, 1) := dk_42 (dk_at dksX0_turnings_0 14 rfl rfl)
theorem dX0_turnings_15 : decode cX0_turnings 15 = .ok (.getfield 340, 3) := dk_180 1 84 (dk_at dksX0_turnings_0 15 rfl rfl)
theorem dX0_turnings_18 : decode cX0_turnings 18 = .ok (.ireturn, 1) := dk_172 (dk_at dksX0_turnings_0 18 rfl rfl)
abbrev cX0_findsTurnings : ByteArray := prog_1_method_73_code
def yX0_findsTurnings : MethodName := ⟨RX0, "findsTurnings", "()V"⟩
def dkwX0_findsTurnings_5 : List UInt8 := [154, 255, 173, 177]
abbrev dktX0_findsTurnings_5 : List UInt8 := dkwX0_findsTurnings_5 ++ []
def dkwX0_findsTurnings_4 : List UInt8 := [153, 0, 7, 4, 167, 0, 4, 3, 96, 181, 1, 84, 132, 1, 1, 167, 255, 182, 42, 182, 1, 90]
abbrev dktX0_findsTurnings_4 : List UInt8 := dkwX0_findsTurnings_4 ++ dktX0_findsTurnings_5
def dkwX0_findsTurnings_3 : List UInt8 := [180, 0, 68, 42, 180, 1, 84, 27, 79, 42, 89, 180, 1, 84, 42, 42, 180, 1, 84, 182, 1, 87]
abbrev dktX0_findsTurnings_3 : List UInt8 := dkwX0_findsTurnings_3 ++ dktX0_findsTurnings_4
def dkwX0_findsTurnings_2 : List UInt8 := [3, 42, 180, 0, 65, 8, 42, 180, 1, 84, 104, 42, 180, 0, 10, 180, 0, 158, 184, 1, 59, 42]
abbrev dktX0_findsTurnings_2 : List UInt8 := dkwX0_findsTurnings_2 ++ dktX0_findsTurnings_3
def dkwX0_findsTurnings_1 : List UInt8 := [79, 132, 1, 1, 167, 255, 235, 3, 60, 27, 42, 180, 0, 10, 182, 0, 161, 162, 0, 69, 42, 180, 0, 71]
abbrev dktX0_findsTurnings_1 : List UInt8 := dkwX0_findsTurnings_1 ++ dktX0_findsTurnings_2
def dkwX0_findsTurnings_0 : List UInt8 := [42, 3, 181, 1, 84, 3, 60, 27, 42, 180, 0, 10, 180, 0, 158, 162, 0, 16, 42, 180, 0, 71, 27, 27]
abbrev dktX0_findsTurnings_0 : List UInt8 := dkwX0_findsTurnings_0 ++ dktX0_findsTurnings_1
theorem dksX0_findsTurnings_0 : cX0_findsTurnings.data.toList.drop 0 = dktX0_findsTurnings_0 := by decide +kernel
theorem dksX0_findsTurnings_1 : cX0_findsTurnings.data.toList.drop 24 = dktX0_findsTurnings_1 := dk_seg dksX0_findsTurnings_0 24 rfl rfl
theorem dksX0_findsTurnings_2 : cX0_findsTurnings.data.toList.drop 48 = dktX0_findsTurnings_2 := dk_seg dksX0_findsTurnings_1 24 rfl rfl
theorem dksX0_findsTurnings_3 : cX0_findsTurnings.data.toList.drop 70 = dktX0_findsTurnings_3 := dk_seg dksX0_findsTurnings_2 22 rfl rfl
theorem dksX0_findsTurnings_4 : cX0_findsTurnings.data.toList.drop 92 = dktX0_findsTurnings_4 := dk_seg dksX0_findsTurnings_3 22 rfl rfl
theorem dksX0_findsTurnings_5 : cX0_findsTurnings.data.toList.drop 114 = dktX0_findsTurnings_5 := dk_seg dksX0_findsTurnings_4 22 rfl rfl
theorem dX0_findsTurnings_0 : decode cX0_findsTurnings 0 = .ok (.aload_n 0, 1) := dk_42 (dk_at dksX0_findsTurnings_0 0 rfl rfl)
theorem dX0_findsTurnings_1 : decode cX0_findsTurnings 1 = .ok (.iconst 0, 1) := dk_3 (dk_at dksX0_findsTurnings_0 1 rfl rfl)
theorem dX0_findsTurnings_2 : decode cX0_findsTurnings 2 = .ok (.putfield 340, 3) := dk_181 1 84 (dk_at dksX0_findsTurnings_0 2 rfl rfl)
theorem dX0_findsTurnings_5 : decode cX0_findsTurnings 5 = .ok (.iconst 0, 1) := dk_3 (dk_at dksX0_findsTurnings_0 5 rfl rfl)
theorem dX0_findsTurnings_6 : decode cX0_findsTurnings 6 = .ok (.istore_n 1, 1) := dk_60 (dk_at dksX0_findsTurnings_0 6 rfl rfl)
theorem dX0_findsTurnings_7 : decode cX0_findsTurnings 7 = .ok (.iload_n 1, 1) := dk_27 (dk_at dksX0_findsTurnings_0 7 rfl rfl)
theorem dX0_findsTurnings_8 : decode cX0_findsTurnings 8 = .ok (.aload_n 0, 1) := dk_42 (dk_at dksX0_findsTurnings_0 8 rfl rfl)
theorem dX0_findsTurnings_9 : decode cX0_findsTurnings 9 = .ok (.getfield 10, 3) := dk_180 0 10 (dk_at dksX0_findsTurnings_0 9 rfl rfl)
theorem dX0_findsTurnings_12 : decode cX0_findsTurnings 12 = .ok (.getfield 158, 3) := dk_180 0 158 (dk_at dksX0_findsTurnings_0 12 rfl rfl)
theorem dX0_findsTurnings_15 : decode cX0_findsTurnings 15 = .ok (.if_icmp .ge 16, 3) := dk_162 0 16 (dk_at dksX0_findsTurnings_0 15 rfl rfl)
theorem dX0_findsTurnings_18 : decode cX0_findsTurnings 18 = .ok (.aload_n 0, 1) := dk_42 (dk_at dksX0_findsTurnings_0 18 rfl rfl)
theorem dX0_findsTurnings_19 : decode cX0_findsTurnings 19 = .ok (.getfield 71, 3) := dk_180 0 71 (dk_at dksX0_findsTurnings_0 19 rfl rfl)
theorem dX0_findsTurnings_22 : decode cX0_findsTurnings 22 = .ok (.iload_n 1, 1) := dk_27 (dk_at dksX0_findsTurnings_0 22 rfl rfl)
theorem dX0_findsTurnings_23 : decode cX0_findsTurnings 23 = .ok (.iload_n 1, 1) := dk_27 (dk_at dksX0_findsTurnings_0 23 rfl rfl)
theorem dX0_findsTurnings_24 : decode cX0_findsTurnings 24 = .ok (.iastore, 1) := dk_79 (dk_at dksX0_findsTurnings_1 0 rfl rfl)
theorem dX0_findsTurnings_25 : decode cX0_findsTurnings 25 = .ok (.iinc 1 1, 3) := dk_132 1 1 (dk_at dksX0_findsTurnings_1 1 rfl rfl)
theorem dX0_findsTurnings_28 : decode cX0_findsTurnings 28 = .ok (.goto (-21), 3) := dk_167 255 235 (dk_at dksX0_findsTurnings_1 4 rfl rfl)
theorem dX0_findsTurnings_31 : decode cX0_findsTurnings 31 = .ok (.iconst 0, 1) := dk_3 (dk_at dksX0_findsTurnings_1 7 rfl rfl)
theorem dX0_findsTurnings_32 : decode cX0_findsTurnings 32 = .ok (.istore_n 1, 1) := dk_60 (dk_at dksX0_findsTurnings_1 8 rfl rfl)
theorem dX0_findsTurnings_33 : decode cX0_findsTurnings 33 = .ok (.iload_n 1, 1) := dk_27 (dk_at dksX0_findsTurnings_1 9 rfl rfl)
theorem dX0_findsTurnings_34 : decode cX0_findsTurnings 34 = .ok (.aload_n 0, 1) := dk_42 (dk_at dksX0_findsTurnings_1 10 rfl rfl)
theorem dX0_findsTurnings_35 : decode cX0_findsTurnings 35 = .ok (.getfield 10, 3) := dk_180 0 10 (dk_at dksX0_findsTurnings_1 11 rfl rfl)
theorem dX0_findsTurnings_38 : decode cX0_findsTurnings 38 = .ok (.invokevirtual 161, 3) := dk_182 0 161 (dk_at dksX0_findsTurnings_1 14 rfl rfl)
theorem dX0_findsTurnings_41 : decode cX0_findsTurnings 41 = .ok (.if_icmp .ge 69, 3) := dk_162 0 69 (dk_at dksX0_findsTurnings_1 17 rfl rfl)
theorem dX0_findsTurnings_44 : decode cX0_findsTurnings 44 = .ok (.aload_n 0, 1) := dk_42 (dk_at dksX0_findsTurnings_1 20 rfl rfl)
theorem dX0_findsTurnings_45 : decode cX0_findsTurnings 45 = .ok (.getfield 71, 3) := dk_180 0 71 (dk_at dksX0_findsTurnings_1 21 rfl rfl)
theorem dX0_findsTurnings_48 : decode cX0_findsTurnings 48 = .ok (.iconst 0, 1) := dk_3 (dk_at dksX0_findsTurnings_2 0 rfl rfl)
theorem dX0_findsTurnings_49 : decode cX0_findsTurnings 49 = .ok (.aload_n 0, 1) := dk_42 (dk_at dksX0_findsTurnings_2 1 rfl rfl)
theorem dX0_findsTurnings_50 : decode cX0_findsTurnings 50 = .ok (.getfield 65, 3) := dk_180 0 65 (dk_at dksX0_findsTurnings_2 2 rfl rfl)
theorem dX0_findsTurnings_53 : decode cX0_findsTurnings 53 = .ok (.iconst 5, 1) := dk_8 (dk_at dksX0_findsTurnings_2 5 rfl rfl)
theorem dX0_findsTurnings_54 : decode cX0_findsTurnings 54 = .ok (.aload_n 0, 1) := dk_42 (dk_at dksX0_findsTurnings_2 6 rfl rfl)
theorem dX0_findsTurnings_55 : decode cX0_findsTurnings 55 = .ok (.getfield 340, 3) := dk_180 1 84 (dk_at dksX0_findsTurnings_2 7 rfl rfl)
theorem dX0_findsTurnings_58 : decode cX0_findsTurnings 58 = .ok (.imul, 1) := dk_104 (dk_at dksX0_findsTurnings_2 10 rfl rfl)
theorem dX0_findsTurnings_59 : decode cX0_findsTurnings 59 = .ok (.aload_n 0, 1) := dk_42 (dk_at dksX0_findsTurnings_2 11 rfl rfl)
theorem dX0_findsTurnings_60 : decode cX0_findsTurnings 60 = .ok (.getfield 10, 3) := dk_180 0 10 (dk_at dksX0_findsTurnings_2 12 rfl rfl)
theorem dX0_findsTurnings_63 : decode cX0_findsTurnings 63 = .ok (.getfield 158, 3) := dk_180 0 158 (dk_at dksX0_findsTurnings_2 15 rfl rfl)
theorem dX0_findsTurnings_66 : decode cX0_findsTurnings 66 = .ok (.invokestatic 315, 3) := dk_184 1 59 (dk_at dksX0_findsTurnings_2 18 rfl rfl)
theorem dX0_findsTurnings_69 : decode cX0_findsTurnings 69 = .ok (.aload_n 0, 1) := dk_42 (dk_at dksX0_findsTurnings_2 21 rfl rfl)
theorem dX0_findsTurnings_70 : decode cX0_findsTurnings 70 = .ok (.getfield 68, 3) := dk_180 0 68 (dk_at dksX0_findsTurnings_3 0 rfl rfl)
theorem dX0_findsTurnings_73 : decode cX0_findsTurnings 73 = .ok (.aload_n 0, 1) := dk_42 (dk_at dksX0_findsTurnings_3 3 rfl rfl)
theorem dX0_findsTurnings_74 : decode cX0_findsTurnings 74 = .ok (.getfield 340, 3) := dk_180 1 84 (dk_at dksX0_findsTurnings_3 4 rfl rfl)
theorem dX0_findsTurnings_77 : decode cX0_findsTurnings 77 = .ok (.iload_n 1, 1) := dk_27 (dk_at dksX0_findsTurnings_3 7 rfl rfl)
theorem dX0_findsTurnings_78 : decode cX0_findsTurnings 78 = .ok (.iastore, 1) := dk_79 (dk_at dksX0_findsTurnings_3 8 rfl rfl)
theorem dX0_findsTurnings_79 : decode cX0_findsTurnings 79 = .ok (.aload_n 0, 1) := dk_42 (dk_at dksX0_findsTurnings_3 9 rfl rfl)
theorem dX0_findsTurnings_80 : decode cX0_findsTurnings 80 = .ok (.dup, 1) := dk_89 (dk_at dksX0_findsTurnings_3 10 rfl rfl)
theorem dX0_findsTurnings_81 : decode cX0_findsTurnings 81 = .ok (.getfield 340, 3) := dk_180 1 84 (dk_at dksX0_findsTurnings_3 11 rfl rfl)
theorem dX0_findsTurnings_84 : decode cX0_findsTurnings 84 = .ok (.aload_n 0, 1) := dk_42 (dk_at dksX0_findsTurnings_3 14 rfl rfl)
theorem dX0_findsTurnings_85 : decode cX0_findsTurnings 85 = .ok (.aload_n 0, 1) := dk_42 (dk_at dksX0_findsTurnings_3 15 rfl rfl)
theorem dX0_findsTurnings_86 : decode cX0_findsTurnings 86 = .ok (.getfield 340, 3) := dk_180 1 84 (dk_at dksX0_findsTurnings_3 16 rfl rfl)
theorem dX0_findsTurnings_89 : decode cX0_findsTurnings 89 = .ok (.invokevirtual 343, 3) := dk_182 1 87 (dk_at dksX0_findsTurnings_3 19 rfl rfl)
theorem dX0_findsTurnings_92 : decode cX0_findsTurnings 92 = .ok (.ifCond .eq 7, 3) := dk_153 0 7 (dk_at dksX0_findsTurnings_4 0 rfl rfl)
theorem dX0_findsTurnings_95 : decode cX0_findsTurnings 95 = .ok (.iconst 1, 1) := dk_4 (dk_at dksX0_findsTurnings_4 3 rfl rfl)
theorem dX0_findsTurnings_96 : decode cX0_findsTurnings 96 = .ok (.goto 4, 3) := dk_167 0 4 (dk_at dksX0_findsTurnings_4 4 rfl rfl)
theorem dX0_findsTurnings_99 : decode cX0_findsTurnings 99 = .ok (.iconst 0, 1) := dk_3 (dk_at dksX0_findsTurnings_4 7 rfl rfl)
theorem dX0_findsTurnings_100 : decode cX0_findsTurnings 100 = .ok (.iadd, 1) := dk_96 (dk_at dksX0_findsTurnings_4 8 rfl rfl)
theorem dX0_findsTurnings_101 : decode cX0_findsTurnings 101 = .ok (.putfield 340, 3) := dk_181 1 84 (dk_at dksX0_findsTurnings_4 9 rfl rfl)
theorem dX0_findsTurnings_104 : decode cX0_findsTurnings 104 = .ok (.iinc 1 1, 3) := dk_132 1 1 (dk_at dksX0_findsTurnings_4 12 rfl rfl)
theorem dX0_findsTurnings_107 : decode cX0_findsTurnings 107 = .ok (.goto (-74), 3) := dk_167 255 182 (dk_at dksX0_findsTurnings_4 15 rfl rfl)
theorem dX0_findsTurnings_110 : decode cX0_findsTurnings 110 = .ok (.aload_n 0, 1) := dk_42 (dk_at dksX0_findsTurnings_4 18 rfl rfl)
theorem dX0_findsTurnings_111 : decode cX0_findsTurnings 111 = .ok (.invokevirtual 346, 3) := dk_182 1 90 (dk_at dksX0_findsTurnings_4 19 rfl rfl)
theorem dX0_findsTurnings_114 : decode cX0_findsTurnings 114 = .ok (.ifCond .ne (-83), 3) := dk_154 255 173 (dk_at dksX0_findsTurnings_5 0 rfl rfl)
theorem dX0_findsTurnings_117 : decode cX0_findsTurnings 117 = .ok (.return_, 1) := dk_177 (dk_at dksX0_findsTurnings_5 3 rfl rfl)
abbrev cX0_isTurning : ByteArray := prog_1_method_70_code
def yX0_isTurning : MethodName := ⟨RX0, "isTurning", "(I)Z"⟩
def dkwX0_isTurning_3 : List UInt8 := [132, 4, 1, 167, 255, 207, 132, 2, 1, 167, 255, 180, 4, 172]
abbrev dktX0_isTurning_3 : List UInt8 := dkwX0_isTurning_3 ++ []
def dkwX0_isTurning_2 : List UInt8 := [180, 0, 10, 29, 42, 180, 0, 65, 8, 27, 104, 21, 4, 96, 46, 182, 0, 181, 159, 0, 5, 3, 172]
abbrev dktX0_isTurning_2 : List UInt8 := dkwX0_isTurning_2 ++ dktX0_isTurning_3
def dkwX0_isTurning_1 : List UInt8 := [21, 4, 42, 180, 0, 10, 180, 0, 158, 162, 0, 43, 42, 180, 0, 10, 28, 21, 4, 182, 0, 181, 42]
abbrev dktX0_isTurning_1 : List UInt8 := dkwX0_isTurning_1 ++ dktX0_isTurning_2
def dkwX0_isTurning_0 : List UInt8 := [3, 61, 28, 42, 180, 0, 10, 182, 0, 161, 162, 0, 71, 42, 27, 28, 182, 1, 78, 62, 3, 54, 4]
abbrev dktX0_isTurning_0 : List UInt8 := dkwX0_isTurning_0 ++ dktX0_isTurning_1
theorem dksX0_isTurning_0 : cX0_isTurning.data.toList.drop 0 = dktX0_isTurning_0 := by decide +kernel
theorem dksX0_isTurning_1 : cX0_isTurning.data.toList.drop 23 = dktX0_isTurning_1 := dk_seg dksX0_isTurning_0 23 rfl rfl
theorem dksX0_isTurning_2 : cX0_isTurning.data.toList.drop 46 = dktX0_isTurning_2 := dk_seg dksX0_isTurning_1 23 rfl rfl
theorem dksX0_isTurning_3 : cX0_isTurning.data.toList.drop 69 = dktX0_isTurning_3 := dk_seg dksX0_isTurning_2 23 rfl rfl
theorem dX0_isTurning_0 : decode cX0_isTurning 0 = .ok (.iconst 0, 1) := dk_3 (dk_at dksX0_isTurning_0 0 rfl rfl)
theorem dX0_isTurning_1 : decode cX0_isTurning 1 = .ok (.istore_n 2, 1) := dk_61 (dk_at dksX0_isTurning_0 1 rfl rfl)
theorem dX0_isTurning_2 : decode cX0_isTurning 2 = .ok (.iload_n 2, 1) := dk_28 (dk_at dksX0_isTurning_0 2 rfl rfl)
theorem dX0_isTurning_3 : decode cX0_isTurning 3 = .ok (.aload_n 0, 1) := dk_42 (dk_at dksX0_isTurning_0 3 rfl rfl)
theorem dX0_isTurning_4 : decode cX0_isTurning 4 = .ok (.getfield 10, 3) := dk_180 0 10 (dk_at dksX0_isTurning_0 4 rfl rfl)
theorem dX0_isTurning_7 : decode cX0_isTurning 7 = .ok (.invokevirtual 161, 3) := dk_182 0 161 (dk_at dksX0_isTurning_0 7 rfl rfl)
theorem dX0_isTurning_10 : decode cX0_isTurning 10 = .ok (.if_icmp .ge 71, 3) := dk_162 0 71 (dk_at dksX0_isTurning_0 10 rfl rfl)
theorem dX0_isTurning_13 : decode cX0_isTurning 13 = .ok (.aload_n 0, 1) := dk_42 (dk_at dksX0_isTurning_0 13 rfl rfl)
theorem dX0_isTurning_14 : decode cX0_isTurning 14 = .ok (.iload_n 1, 1) := dk_27 (dk_at dksX0_isTurning_0 14 rfl rfl)
theorem dX0_isTurning_15 : decode cX0_isTurning 15 = .ok (.iload_n 2, 1) := dk_28 (dk_at dksX0_isTurning_0 15 rfl rfl)
theorem dX0_isTurning_16 : decode cX0_isTurning 16 = .ok (.invokevirtual 334, 3) := dk_182 1 78 (dk_at dksX0_isTurning_0 16 rfl rfl)
theorem dX0_isTurning_19 : decode cX0_isTurning 19 = .ok (.istore_n 3, 1) := dk_62 (dk_at dksX0_isTurning_0 19 rfl rfl)
theorem dX0_isTurning_20 : decode cX0_isTurning 20 = .ok (.iconst 0, 1) := dk_3 (dk_at dksX0_isTurning_0 20 rfl rfl)
theorem dX0_isTurning_21 : decode cX0_isTurning 21 = .ok (.istore 4, 2) := dk_54 4 (dk_at dksX0_isTurning_0 21 rfl rfl)
theorem dX0_isTurning_23 : decode cX0_isTurning 23 = .ok (.iload 4, 2) := dk_21 4 (dk_at dksX0_isTurning_1 0 rfl rfl)
theorem dX0_isTurning_25 : decode cX0_isTurning 25 = .ok (.aload_n 0, 1) := dk_42 (dk_at dksX0_isTurning_1 2 rfl rfl)
theorem dX0_isTurning_26 : decode cX0_isTurning 26 = .ok (.getfield 10, 3) := dk_180 0 10 (dk_at dksX0_isTurning_1 3 rfl rfl)
theorem dX0_isTurning_29 : decode cX0_isTurning 29 = .ok (.getfield 158, 3) := dk_180 0 158 (dk_at dksX0_isTurning_1 6 rfl rfl)
theorem dX0_isTurning_32 : decode cX0_isTurning 32 = .ok (.if_icmp .ge 43, 3) := dk_162 0 43 (dk_at dksX0_isTurning_1 9 rfl rfl)
theorem dX0_isTurning_35 : decode cX0_isTurning 35 = .ok (.aload_n 0, 1) := dk_42 (dk_at dksX0_isTurning_1 12 rfl rfl)
theorem dX0_isTurning_36 : decode cX0_isTurning 36 = .ok (.getfield 10, 3) := dk_180 0 10 (dk_at dksX0_isTurning_1 13 rfl rfl)
theorem dX0_isTurning_39 : decode cX0_isTurning 39 = .ok (.iload_n 2, 1) := dk_28 (dk_at dksX0_isTurning_1 16 rfl rfl)
theorem dX0_isTurning_40 : decode cX0_isTurning 40 = .ok (.iload 4, 2) := dk_21 4 (dk_at dksX0_isTurning_1 17 rfl rfl)
theorem dX0_isTurning_42 : decode cX0_isTurning 42 = .ok (.invokevirtual 181, 3) := dk_182 0 181 (dk_at dksX0_isTurning_1 19 rfl rfl)
theorem dX0_isTurning_45 : decode cX0_isTurning 45 = .ok (.aload_n 0, 1) := dk_42 (dk_at dksX0_isTurning_1 22 rfl rfl)
theorem dX0_isTurning_46 : decode cX0_isTurning 46 = .ok (.getfield 10, 3) := dk_180 0 10 (dk_at dksX0_isTurning_2 0 rfl rfl)
theorem dX0_isTurning_49 : decode cX0_isTurning 49 = .ok (.iload_n 3, 1) := dk_29 (dk_at dksX0_isTurning_2 3 rfl rfl)
theorem dX0_isTurning_50 : decode cX0_isTurning 50 = .ok (.aload_n 0, 1) := dk_42 (dk_at dksX0_isTurning_2 4 rfl rfl)
theorem dX0_isTurning_51 : decode cX0_isTurning 51 = .ok (.getfield 65, 3) := dk_180 0 65 (dk_at dksX0_isTurning_2 5 rfl rfl)
theorem dX0_isTurning_54 : decode cX0_isTurning 54 = .ok (.iconst 5, 1) := dk_8 (dk_at dksX0_isTurning_2 8 rfl rfl)
theorem dX0_isTurning_55 : decode cX0_isTurning 55 = .ok (.iload_n 1, 1) := dk_27 (dk_at dksX0_isTurning_2 9 rfl rfl)
theorem dX0_isTurning_56 : decode cX0_isTurning 56 = .ok (.imul, 1) := dk_104 (dk_at dksX0_isTurning_2 10 rfl rfl)
theorem dX0_isTurning_57 : decode cX0_isTurning 57 = .ok (.iload 4, 2) := dk_21 4 (dk_at dksX0_isTurning_2 11 rfl rfl)
theorem dX0_isTurning_59 : decode cX0_isTurning 59 = .ok (.iadd, 1) := dk_96 (dk_at dksX0_isTurning_2 13 rfl rfl)
theorem dX0_isTurning_60 : decode cX0_isTurning 60 = .ok (.iaload, 1) := dk_46 (dk_at dksX0_isTurning_2 14 rfl rfl)
theorem dX0_isTurning_61 : decode cX0_isTurning 61 = .ok (.invokevirtual 181, 3) := dk_182 0 181 (dk_at dksX0_isTurning_2 15 rfl rfl)
theorem dX0_isTurning_64 : decode cX0_isTurning 64 = .ok (.if_icmp .eq 5, 3) := dk_159 0 5 (dk_at dksX0_isTurning_2 18 rfl rfl)
theorem dX0_isTurning_67 : decode cX0_isTurning 67 = .ok (.iconst 0, 1) := dk_3 (dk_at dksX0_isTurning_2 21 rfl rfl)
theorem dX0_isTurning_68 : decode cX0_isTurning 68 = .ok (.ireturn, 1) := dk_172 (dk_at dksX0_isTurning_2 22 rfl rfl)
theorem dX0_isTurning_69 : decode cX0_isTurning 69 = .ok (.iinc 4 1, 3) := dk_132 4 1 (dk_at dksX0_isTurning_3 0 rfl rfl)
theorem dX0_isTurning_72 : decode cX0_isTurning 72 = .ok (.goto (-49), 3) := dk_167 255 207 (dk_at dksX0_isTurning_3 3 rfl rfl)
theorem dX0_isTurning_75 : decode cX0_isTurning 75 = .ok (.iinc 2 1, 3) := dk_132 2 1 (dk_at dksX0_isTurning_3 6 rfl rfl)
theorem dX0_isTurning_78 : decode cX0_isTurning 78 = .ok (.goto (-76), 3) := dk_167 255 180 (dk_at dksX0_isTurning_3 9 rfl rfl)
theorem dX0_isTurning_81 : decode cX0_isTurning 81 = .ok (.iconst 1, 1) := dk_4 (dk_at dksX0_isTurning_3 12 rfl rfl)
theorem dX0_isTurning_82 : decode cX0_isTurning 82 = .ok (.ireturn, 1) := dk_172 (dk_at dksX0_isTurning_3 13 rfl rfl)
abbrev cX0_turned : ByteArray := prog_1_method_69_code
def yX0_turned : MethodName := ⟨RX0, "turned", "(II)I"⟩
def dkwX0_turned_2 : List UInt8 := [167, 255, 220, 29, 172]
abbrev dktX0_turned_2 : List UInt8 := dkwX0_turned_2 ++ []
def dkwX0_turned_1 : List UInt8 := [21, 4, 122, 4, 126, 42, 180, 0, 65, 8, 27, 104, 21, 4, 96, 46, 120, 130, 62, 132, 4, 1]
abbrev dktX0_turned_1 : List UInt8 := dkwX0_turned_1 ++ dktX0_turned_2
def dkwX0_turned_0 : List UInt8 := [42, 180, 0, 68, 27, 46, 62, 3, 54, 4, 21, 4, 42, 180, 0, 10, 180, 0, 158, 162, 0, 30, 29, 28]
abbrev dktX0_turned_0 : List UInt8 := dkwX0_turned_0 ++ dktX0_turned_1
theorem dksX0_turned_0 : cX0_turned.data.toList.drop 0 = dktX0_turned_0 := by decide +kernel
theorem dksX0_turned_1 : cX0_turned.data.toList.drop 24 = dktX0_turned_1 := dk_seg dksX0_turned_0 24 rfl rfl
theorem dksX0_turned_2 : cX0_turned.data.toList.drop 46 = dktX0_turned_2 := dk_seg dksX0_turned_1 22 rfl rfl
theorem dX0_turned_0 : decode cX0_turned 0 = .ok (.aload_n 0, 1) := dk_42 (dk_at dksX0_turned_0 0 rfl rfl)
theorem dX0_turned_1 : decode cX0_turned 1 = .ok (.getfield 68, 3) := dk_180 0 68 (dk_at dksX0_turned_0 1 rfl rfl)
theorem dX0_turned_4 : decode cX0_turned 4 = .ok (.iload_n 1, 1) := dk_27 (dk_at dksX0_turned_0 4 rfl rfl)
theorem dX0_turned_5 : decode cX0_turned 5 = .ok (.iaload, 1) := dk_46 (dk_at dksX0_turned_0 5 rfl rfl)
theorem dX0_turned_6 : decode cX0_turned 6 = .ok (.istore_n 3, 1) := dk_62 (dk_at dksX0_turned_0 6 rfl rfl)
theorem dX0_turned_7 : decode cX0_turned 7 = .ok (.iconst 0, 1) := dk_3 (dk_at dksX0_turned_0 7 rfl rfl)
theorem dX0_turned_8 : decode cX0_turned 8 = .ok (.istore 4, 2) := dk_54 4 (dk_at dksX0_turned_0 8 rfl rfl)
theorem dX0_turned_10 : decode cX0_turned 10 = .ok (.iload 4, 2) := dk_21 4 (dk_at dksX0_turned_0 10 rfl rfl)
theorem dX0_turned_12 : decode cX0_turned 12 = .ok (.aload_n 0, 1) := dk_42 (dk_at dksX0_turned_0 12 rfl rfl)
theorem dX0_turned_13 : decode cX0_turned 13 = .ok (.getfield 10, 3) := dk_180 0 10 (dk_at dksX0_turned_0 13 rfl rfl)
theorem dX0_turned_16 : decode cX0_turned 16 = .ok (.getfield 158, 3) := dk_180 0 158 (dk_at dksX0_turned_0 16 rfl rfl)
theorem dX0_turned_19 : decode cX0_turned 19 = .ok (.if_icmp .ge 30, 3) := dk_162 0 30 (dk_at dksX0_turned_0 19 rfl rfl)
theorem dX0_turned_22 : decode cX0_turned 22 = .ok (.iload_n 3, 1) := dk_29 (dk_at dksX0_turned_0 22 rfl rfl)
theorem dX0_turned_23 : decode cX0_turned 23 = .ok (.iload_n 2, 1) := dk_28 (dk_at dksX0_turned_0 23 rfl rfl)
theorem dX0_turned_24 : decode cX0_turned 24 = .ok (.iload 4, 2) := dk_21 4 (dk_at dksX0_turned_1 0 rfl rfl)
theorem dX0_turned_26 : decode cX0_turned 26 = .ok (.ishr, 1) := dk_122 (dk_at dksX0_turned_1 2 rfl rfl)
theorem dX0_turned_27 : decode cX0_turned 27 = .ok (.iconst 1, 1) := dk_4 (dk_at dksX0_turned_1 3 rfl rfl)
theorem dX0_turned_28 : decode cX0_turned 28 = .ok (.iand, 1) := dk_126 (dk_at dksX0_turned_1 4 rfl rfl)
theorem dX0_turned_29 : decode cX0_turned 29 = .ok (.aload_n 0, 1) := dk_42 (dk_at dksX0_turned_1 5 rfl rfl)
theorem dX0_turned_30 : decode cX0_turned 30 = .ok (.getfield 65, 3) := dk_180 0 65 (dk_at dksX0_turned_1 6 rfl rfl)
theorem dX0_turned_33 : decode cX0_turned 33 = .ok (.iconst 5, 1) := dk_8 (dk_at dksX0_turned_1 9 rfl rfl)
theorem dX0_turned_34 : decode cX0_turned 34 = .ok (.iload_n 1, 1) := dk_27 (dk_at dksX0_turned_1 10 rfl rfl)
theorem dX0_turned_35 : decode cX0_turned 35 = .ok (.imul, 1) := dk_104 (dk_at dksX0_turned_1 11 rfl rfl)
theorem dX0_turned_36 : decode cX0_turned 36 = .ok (.iload 4, 2) := dk_21 4 (dk_at dksX0_turned_1 12 rfl rfl)
theorem dX0_turned_38 : decode cX0_turned 38 = .ok (.iadd, 1) := dk_96 (dk_at dksX0_turned_1 14 rfl rfl)
theorem dX0_turned_39 : decode cX0_turned 39 = .ok (.iaload, 1) := dk_46 (dk_at dksX0_turned_1 15 rfl rfl)
theorem dX0_turned_40 : decode cX0_turned 40 = .ok (.ishl, 1) := dk_120 (dk_at dksX0_turned_1 16 rfl rfl)
theorem dX0_turned_41 : decode cX0_turned 41 = .ok (.ixor, 1) := dk_130 (dk_at dksX0_turned_1 17 rfl rfl)
theorem dX0_turned_42 : decode cX0_turned 42 = .ok (.istore_n 3, 1) := dk_62 (dk_at dksX0_turned_1 18 rfl rfl)
theorem dX0_turned_43 : decode cX0_turned 43 = .ok (.iinc 4 1, 3) := dk_132 4 1 (dk_at dksX0_turned_1 19 rfl rfl)
theorem dX0_turned_46 : decode cX0_turned 46 = .ok (.goto (-36), 3) := dk_167 255 220 (dk_at dksX0_turned_2 0 rfl rfl)
theorem dX0_turned_49 : decode cX0_turned 49 = .ok (.iload_n 3, 1) := dk_29 (dk_at dksX0_turned_2 3 rfl rfl)
theorem dX0_turned_50 : decode cX0_turned 50 = .ok (.ireturn, 1) := dk_172 (dk_at dksX0_turned_2 4 rfl rfl)
abbrev cX0_nextPerm : ByteArray := prog_1_method_71_code
def yX0_nextPerm : MethodName := ⟨RX0, "nextPerm", "()Z"⟩
def dkwX0_nextPerm_4 : List UInt8 := [29, 21, 4, 162, 0, 19, 42, 29, 21, 4, 182, 1, 81, 132, 3, 1, 132, 4, 255, 167, 255, 237, 4, 172]
abbrev dktX0_nextPerm_4 : List UInt8 := dkwX0_nextPerm_4 ++ []
def dkwX0_nextPerm_3 : List UInt8 := [167, 255, 238, 42, 27, 28, 182, 1, 81, 27, 4, 96, 62, 42, 180, 0, 10, 180, 0, 158, 4, 100, 54, 4]
abbrev dktX0_nextPerm_3 : List UInt8 := dkwX0_nextPerm_3 ++ dktX0_nextPerm_4
def dkwX0_nextPerm_2 : List UInt8 := [180, 0, 158, 4, 100, 61, 42, 180, 0, 71, 28, 46, 42, 180, 0, 71, 27, 46, 162, 0, 9, 132, 2, 255]
abbrev dktX0_nextPerm_2 : List UInt8 := dkwX0_nextPerm_2 ++ dktX0_nextPerm_3
def dkwX0_nextPerm_1 : List UInt8 := [27, 4, 96, 46, 164, 0, 9, 132, 1, 255, 167, 255, 232, 27, 156, 0, 5, 3, 172, 42, 180, 0, 10]
abbrev dktX0_nextPerm_1 : List UInt8 := dkwX0_nextPerm_1 ++ dktX0_nextPerm_2
def dkwX0_nextPerm_0 : List UInt8 := [42, 180, 0, 10, 180, 0, 158, 5, 100, 60, 27, 155, 0, 26, 42, 180, 0, 71, 27, 46, 42, 180, 0, 71]
abbrev dktX0_nextPerm_0 : List UInt8 := dkwX0_nextPerm_0 ++ dktX0_nextPerm_1
theorem dksX0_nextPerm_0 : cX0_nextPerm.data.toList.drop 0 = dktX0_nextPerm_0 := by decide +kernel
theorem dksX0_nextPerm_1 : cX0_nextPerm.data.toList.drop 24 = dktX0_nextPerm_1 := dk_seg dksX0_nextPerm_0 24 rfl rfl
theorem dksX0_nextPerm_2 : cX0_nextPerm.data.toList.drop 47 = dktX0_nextPerm_2 := dk_seg dksX0_nextPerm_1 23 rfl rfl
theorem dksX0_nextPerm_3 : cX0_nextPerm.data.toList.drop 71 = dktX0_nextPerm_3 := dk_seg dksX0_nextPerm_2 24 rfl rfl
theorem dksX0_nextPerm_4 : cX0_nextPerm.data.toList.drop 95 = dktX0_nextPerm_4 := dk_seg dksX0_nextPerm_3 24 rfl rfl
theorem dX0_nextPerm_0 : decode cX0_nextPerm 0 = .ok (.aload_n 0, 1) := dk_42 (dk_at dksX0_nextPerm_0 0 rfl rfl)
theorem dX0_nextPerm_1 : decode cX0_nextPerm 1 = .ok (.getfield 10, 3) := dk_180 0 10 (dk_at dksX0_nextPerm_0 1 rfl rfl)
theorem dX0_nextPerm_4 : decode cX0_nextPerm 4 = .ok (.getfield 158, 3) := dk_180 0 158 (dk_at dksX0_nextPerm_0 4 rfl rfl)
theorem dX0_nextPerm_7 : decode cX0_nextPerm 7 = .ok (.iconst 2, 1) := dk_5 (dk_at dksX0_nextPerm_0 7 rfl rfl)
theorem dX0_nextPerm_8 : decode cX0_nextPerm 8 = .ok (.isub, 1) := dk_100 (dk_at dksX0_nextPerm_0 8 rfl rfl)
theorem dX0_nextPerm_9 : decode cX0_nextPerm 9 = .ok (.istore_n 1, 1) := dk_60 (dk_at dksX0_nextPerm_0 9 rfl rfl)
theorem dX0_nextPerm_10 : decode cX0_nextPerm 10 = .ok (.iload_n 1, 1) := dk_27 (dk_at dksX0_nextPerm_0 10 rfl rfl)
theorem dX0_nextPerm_11 : decode cX0_nextPerm 11 = .ok (.ifCond .lt 26, 3) := dk_155 0 26 (dk_at dksX0_nextPerm_0 11 rfl rfl)
theorem dX0_nextPerm_14 : decode cX0_nextPerm 14 = .ok (.aload_n 0, 1) := dk_42 (dk_at dksX0_nextPerm_0 14 rfl rfl)
theorem dX0_nextPerm_15 : decode cX0_nextPerm 15 = .ok (.getfield 71, 3) := dk_180 0 71 (dk_at dksX0_nextPerm_0 15 rfl rfl)
theorem dX0_nextPerm_18 : decode cX0_nextPerm 18 = .ok (.iload_n 1, 1) := dk_27 (dk_at dksX0_nextPerm_0 18 rfl rfl)
theorem dX0_nextPerm_19 : decode cX0_nextPerm 19 = .ok (.iaload, 1) := dk_46 (dk_at dksX0_nextPerm_0 19 rfl rfl)
theorem dX0_nextPerm_20 : decode cX0_nextPerm 20 = .ok (.aload_n 0, 1) := dk_42 (dk_at dksX0_nextPerm_0 20 rfl rfl)
theorem dX0_nextPerm_21 : decode cX0_nextPerm 21 = .ok (.getfield 71, 3) := dk_180 0 71 (dk_at dksX0_nextPerm_0 21 rfl rfl)
theorem dX0_nextPerm_24 : decode cX0_nextPerm 24 = .ok (.iload_n 1, 1) := dk_27 (dk_at dksX0_nextPerm_1 0 rfl rfl)
theorem dX0_nextPerm_25 : decode cX0_nextPerm 25 = .ok (.iconst 1, 1) := dk_4 (dk_at dksX0_nextPerm_1 1 rfl rfl)
theorem dX0_nextPerm_26 : decode cX0_nextPerm 26 = .ok (.iadd, 1) := dk_96 (dk_at dksX0_nextPerm_1 2 rfl rfl)
theorem dX0_nextPerm_27 : decode cX0_nextPerm 27 = .ok (.iaload, 1) := dk_46 (dk_at dksX0_nextPerm_1 3 rfl rfl)
theorem dX0_nextPerm_28 : decode cX0_nextPerm 28 = .ok (.if_icmp .le 9, 3) := dk_164 0 9 (dk_at dksX0_nextPerm_1 4 rfl rfl)
theorem dX0_nextPerm_31 : decode cX0_nextPerm 31 = .ok (.iinc 1 (-1), 3) := dk_132 1 255 (dk_at dksX0_nextPerm_1 7 rfl rfl)
theorem dX0_nextPerm_34 : decode cX0_nextPerm 34 = .ok (.goto (-24), 3) := dk_167 255 232 (dk_at dksX0_nextPerm_1 10 rfl rfl)
theorem dX0_nextPerm_37 : decode cX0_nextPerm 37 = .ok (.iload_n 1, 1) := dk_27 (dk_at dksX0_nextPerm_1 13 rfl rfl)
theorem dX0_nextPerm_38 : decode cX0_nextPerm 38 = .ok (.ifCond .ge 5, 3) := dk_156 0 5 (dk_at dksX0_nextPerm_1 14 rfl rfl)
theorem dX0_nextPerm_41 : decode cX0_nextPerm 41 = .ok (.iconst 0, 1) := dk_3 (dk_at dksX0_nextPerm_1 17 rfl rfl)
theorem dX0_nextPerm_42 : decode cX0_nextPerm 42 = .ok (.ireturn, 1) := dk_172 (dk_at dksX0_nextPerm_1 18 rfl rfl)
theorem dX0_nextPerm_43 : decode cX0_nextPerm 43 = .ok (.aload_n 0, 1) := dk_42 (dk_at dksX0_nextPerm_1 19 rfl rfl)
theorem dX0_nextPerm_44 : decode cX0_nextPerm 44 = .ok (.getfield 10, 3) := dk_180 0 10 (dk_at dksX0_nextPerm_1 20 rfl rfl)
theorem dX0_nextPerm_47 : decode cX0_nextPerm 47 = .ok (.getfield 158, 3) := dk_180 0 158 (dk_at dksX0_nextPerm_2 0 rfl rfl)
theorem dX0_nextPerm_50 : decode cX0_nextPerm 50 = .ok (.iconst 1, 1) := dk_4 (dk_at dksX0_nextPerm_2 3 rfl rfl)
theorem dX0_nextPerm_51 : decode cX0_nextPerm 51 = .ok (.isub, 1) := dk_100 (dk_at dksX0_nextPerm_2 4 rfl rfl)
theorem dX0_nextPerm_52 : decode cX0_nextPerm 52 = .ok (.istore_n 2, 1) := dk_61 (dk_at dksX0_nextPerm_2 5 rfl rfl)
theorem dX0_nextPerm_53 : decode cX0_nextPerm 53 = .ok (.aload_n 0, 1) := dk_42 (dk_at dksX0_nextPerm_2 6 rfl rfl)
theorem dX0_nextPerm_54 : decode cX0_nextPerm 54 = .ok (.getfield 71, 3) := dk_180 0 71 (dk_at dksX0_nextPerm_2 7 rfl rfl)
theorem dX0_nextPerm_57 : decode cX0_nextPerm 57 = .ok (.iload_n 2, 1) := dk_28 (dk_at dksX0_nextPerm_2 10 rfl rfl)
theorem dX0_nextPerm_58 : decode cX0_nextPerm 58 = .ok (.iaload, 1) := dk_46 (dk_at dksX0_nextPerm_2 11 rfl rfl)
theorem dX0_nextPerm_59 : decode cX0_nextPerm 59 = .ok (.aload_n 0, 1) := dk_42 (dk_at dksX0_nextPerm_2 12 rfl rfl)
theorem dX0_nextPerm_60 : decode cX0_nextPerm 60 = .ok (.getfield 71, 3) := dk_180 0 71 (dk_at dksX0_nextPerm_2 13 rfl rfl)
theorem dX0_nextPerm_63 : decode cX0_nextPerm 63 = .ok (.iload_n 1, 1) := dk_27 (dk_at dksX0_nextPerm_2 16 rfl rfl)
theorem dX0_nextPerm_64 : decode cX0_nextPerm 64 = .ok (.iaload, 1) := dk_46 (dk_at dksX0_nextPerm_2 17 rfl rfl)
theorem dX0_nextPerm_65 : decode cX0_nextPerm 65 = .ok (.if_icmp .ge 9, 3) := dk_162 0 9 (dk_at dksX0_nextPerm_2 18 rfl rfl)
theorem dX0_nextPerm_68 : decode cX0_nextPerm 68 = .ok (.iinc 2 (-1), 3) := dk_132 2 255 (dk_at dksX0_nextPerm_2 21 rfl rfl)
theorem dX0_nextPerm_71 : decode cX0_nextPerm 71 = .ok (.goto (-18), 3) := dk_167 255 238 (dk_at dksX0_nextPerm_3 0 rfl rfl)
theorem dX0_nextPerm_74 : decode cX0_nextPerm 74 = .ok (.aload_n 0, 1) := dk_42 (dk_at dksX0_nextPerm_3 3 rfl rfl)
theorem dX0_nextPerm_75 : decode cX0_nextPerm 75 = .ok (.iload_n 1, 1) := dk_27 (dk_at dksX0_nextPerm_3 4 rfl rfl)
theorem dX0_nextPerm_76 : decode cX0_nextPerm 76 = .ok (.iload_n 2, 1) := dk_28 (dk_at dksX0_nextPerm_3 5 rfl rfl)
theorem dX0_nextPerm_77 : decode cX0_nextPerm 77 = .ok (.invokevirtual 337, 3) := dk_182 1 81 (dk_at dksX0_nextPerm_3 6 rfl rfl)
theorem dX0_nextPerm_80 : decode cX0_nextPerm 80 = .ok (.iload_n 1, 1) := dk_27 (dk_at dksX0_nextPerm_3 9 rfl rfl)
theorem dX0_nextPerm_81 : decode cX0_nextPerm 81 = .ok (.iconst 1, 1) := dk_4 (dk_at dksX0_nextPerm_3 10 rfl rfl)
theorem dX0_nextPerm_82 : decode cX0_nextPerm 82 = .ok (.iadd, 1) := dk_96 (dk_at dksX0_nextPerm_3 11 rfl rfl)
theorem dX0_nextPerm_83 : decode cX0_nextPerm 83 = .ok (.istore_n 3, 1) := dk_62 (dk_at dksX0_nextPerm_3 12 rfl rfl)
theorem dX0_nextPerm_84 : decode cX0_nextPerm 84 = .ok (.aload_n 0, 1) := dk_42 (dk_at dksX0_nextPerm_3 13 rfl rfl)
theorem dX0_nextPerm_85 : decode cX0_nextPerm 85 = .ok (.getfield 10, 3) := dk_180 0 10 (dk_at dksX0_nextPerm_3 14 rfl rfl)
theorem dX0_nextPerm_88 : decode cX0_nextPerm 88 = .ok (.getfield 158, 3) := dk_180 0 158 (dk_at dksX0_nextPerm_3 17 rfl rfl)
theorem dX0_nextPerm_91 : decode cX0_nextPerm 91 = .ok (.iconst 1, 1) := dk_4 (dk_at dksX0_nextPerm_3 20 rfl rfl)
theorem dX0_nextPerm_92 : decode cX0_nextPerm 92 = .ok (.isub, 1) := dk_100 (dk_at dksX0_nextPerm_3 21 rfl rfl)
theorem dX0_nextPerm_93 : decode cX0_nextPerm 93 = .ok (.istore 4, 2) := dk_54 4 (dk_at dksX0_nextPerm_3 22 rfl rfl)
theorem dX0_nextPerm_95 : decode cX0_nextPerm 95 = .ok (.iload_n 3, 1) := dk_29 (dk_at dksX0_nextPerm_4 0 rfl rfl)
theorem dX0_nextPerm_96 : decode cX0_nextPerm 96 = .ok (.iload 4, 2) := dk_21 4 (dk_at dksX0_nextPerm_4 1 rfl rfl)
theorem dX0_nextPerm_98 : decode cX0_nextPerm 98 = .ok (.if_icmp .ge 19, 3) := dk_162 0 19 (dk_at dksX0_nextPerm_4 3 rfl rfl)
theorem dX0_nextPerm_101 : decode cX0_nextPerm 101 = .ok (.aload_n 0, 1) := dk_42 (dk_at dksX0_nextPerm_4 6 rfl rfl)
theorem dX0_nextPerm_102 : decode cX0_nextPerm 102 = .ok (.iload_n 3, 1) := dk_29 (dk_at dksX0_nextPerm_4 7 rfl rfl)
theorem dX0_nextPerm_103 : decode cX0_nextPerm 103 = .ok (.iload 4, 2) := dk_21 4 (dk_at dksX0_nextPerm_4 8 rfl rfl)
theorem dX0_nextPerm_105 : decode cX0_nextPerm 105 = .ok (.invokevirtual 337, 3) := dk_182 1 81 (dk_at dksX0_nextPerm_4 10 rfl rfl)
theorem dX0_nextPerm_108 : decode cX0_nextPerm 108 = .ok (.iinc 3 1, 3) := dk_132 3 1 (dk_at dksX0_nextPerm_4 13 rfl rfl)
theorem dX0_nextPerm_111 : decode cX0_nextPerm 111 = .ok (.iinc 4 (-1), 3) := dk_132 4 255 (dk_at dksX0_nextPerm_4 16 rfl rfl)
theorem dX0_nextPerm_114 : decode cX0_nextPerm 114 = .ok (.goto (-19), 3) := dk_167 255 237 (dk_at dksX0_nextPerm_4 19 rfl rfl)
theorem dX0_nextPerm_117 : decode cX0_nextPerm 117 = .ok (.iconst 1, 1) := dk_4 (dk_at dksX0_nextPerm_4 22 rfl rfl)
theorem dX0_nextPerm_118 : decode cX0_nextPerm 118 = .ok (.ireturn, 1) := dk_172 (dk_at dksX0_nextPerm_4 23 rfl rfl)
abbrev cX0_swaps : ByteArray := prog_1_method_72_code
def yX0_swaps : MethodName := ⟨RX0, "swaps", "(II)V"⟩
def dkwX0_swaps_1 : List UInt8 := [29, 79, 177]
abbrev dktX0_swaps_1 : List UInt8 := dkwX0_swaps_1 ++ []
def dkwX0_swaps_0 : List UInt8 := [42, 180, 0, 71, 27, 46, 62, 42, 180, 0, 71, 27, 42, 180, 0, 71, 28, 46, 79, 42, 180, 0, 71, 28]
abbrev dktX0_swaps_0 : List UInt8 := dkwX0_swaps_0 ++ dktX0_swaps_1
theorem dksX0_swaps_0 : cX0_swaps.data.toList.drop 0 = dktX0_swaps_0 := by decide +kernel
theorem dksX0_swaps_1 : cX0_swaps.data.toList.drop 24 = dktX0_swaps_1 := dk_seg dksX0_swaps_0 24 rfl rfl
theorem dX0_swaps_0 : decode cX0_swaps 0 = .ok (.aload_n 0, 1) := dk_42 (dk_at dksX0_swaps_0 0 rfl rfl)
theorem dX0_swaps_1 : decode cX0_swaps 1 = .ok (.getfield 71, 3) := dk_180 0 71 (dk_at dksX0_swaps_0 1 rfl rfl)
theorem dX0_swaps_4 : decode cX0_swaps 4 = .ok (.iload_n 1, 1) := dk_27 (dk_at dksX0_swaps_0 4 rfl rfl)
theorem dX0_swaps_5 : decode cX0_swaps 5 = .ok (.iaload, 1) := dk_46 (dk_at dksX0_swaps_0 5 rfl rfl)
theorem dX0_swaps_6 : decode cX0_swaps 6 = .ok (.istore_n 3, 1) := dk_62 (dk_at dksX0_swaps_0 6 rfl rfl)
theorem dX0_swaps_7 : decode cX0_swaps 7 = .ok (.aload_n 0, 1) := dk_42 (dk_at dksX0_swaps_0 7 rfl rfl)
theorem dX0_swaps_8 : decode cX0_swaps 8 = .ok (.getfield 71, 3) := dk_180 0 71 (dk_at dksX0_swaps_0 8 rfl rfl)
theorem dX0_swaps_11 : decode cX0_swaps 11 = .ok (.iload_n 1, 1) := dk_27 (dk_at dksX0_swaps_0 11 rfl rfl)
theorem dX0_swaps_12 : decode cX0_swaps 12 = .ok (.aload_n 0, 1) := dk_42 (dk_at dksX0_swaps_0 12 rfl rfl)
theorem dX0_swaps_13 : decode cX0_swaps 13 = .ok (.getfield 71, 3) := dk_180 0 71 (dk_at dksX0_swaps_0 13 rfl rfl)
theorem dX0_swaps_16 : decode cX0_swaps 16 = .ok (.iload_n 2, 1) := dk_28 (dk_at dksX0_swaps_0 16 rfl rfl)
theorem dX0_swaps_17 : decode cX0_swaps 17 = .ok (.iaload, 1) := dk_46 (dk_at dksX0_swaps_0 17 rfl rfl)
theorem dX0_swaps_18 : decode cX0_swaps 18 = .ok (.iastore, 1) := dk_79 (dk_at dksX0_swaps_0 18 rfl rfl)
theorem dX0_swaps_19 : decode cX0_swaps 19 = .ok (.aload_n 0, 1) := dk_42 (dk_at dksX0_swaps_0 19 rfl rfl)
theorem dX0_swaps_20 : decode cX0_swaps 20 = .ok (.getfield 71, 3) := dk_180 0 71 (dk_at dksX0_swaps_0 20 rfl rfl)
theorem dX0_swaps_23 : decode cX0_swaps 23 = .ok (.iload_n 2, 1) := dk_28 (dk_at dksX0_swaps_0 23 rfl rfl)
theorem dX0_swaps_24 : decode cX0_swaps 24 = .ok (.iload_n 3, 1) := dk_29 (dk_at dksX0_swaps_1 0 rfl rfl)
theorem dX0_swaps_25 : decode cX0_swaps 25 = .ok (.iastore, 1) := dk_79 (dk_at dksX0_swaps_1 1 rfl rfl)
theorem dX0_swaps_26 : decode cX0_swaps 26 = .ok (.return_, 1) := dk_177 (dk_at dksX0_swaps_1 2 rfl rfl)
abbrev cX0_orbit : ByteArray := prog_1_method_75_code
def yX0_orbit : MethodName := ⟨RX0, "orbit", "(I)I"⟩
def dkwX0_orbit_2 : List UInt8 := [172]
abbrev dktX0_orbit_2 : List UInt8 := dkwX0_orbit_2 ++ []
def dkwX0_orbit_1 : List UInt8 := [180, 1, 84, 162, 0, 20, 28, 42, 29, 27, 182, 1, 78, 184, 1, 96, 61, 132, 3, 1, 167, 255, 234, 28]
abbrev dktX0_orbit_1 : List UInt8 := dkwX0_orbit_1 ++ dktX0_orbit_2
def dkwX0_orbit_0 : List UInt8 := [42, 27, 133, 182, 0, 167, 154, 0, 6, 16, 254, 172, 42, 182, 1, 93, 27, 61, 3, 62, 29, 42]
abbrev dktX0_orbit_0 : List UInt8 := dkwX0_orbit_0 ++ dktX0_orbit_1
theorem dksX0_orbit_0 : cX0_orbit.data.toList.drop 0 = dktX0_orbit_0 := by decide +kernel
theorem dksX0_orbit_1 : cX0_orbit.data.toList.drop 22 = dktX0_orbit_1 := dk_seg dksX0_orbit_0 22 rfl rfl
theorem dksX0_orbit_2 : cX0_orbit.data.toList.drop 46 = dktX0_orbit_2 := dk_seg dksX0_orbit_1 24 rfl rfl
theorem dX0_orbit_0 : decode cX0_orbit 0 = .ok (.aload_n 0, 1) := dk_42 (dk_at dksX0_orbit_0 0 rfl rfl)
theorem dX0_orbit_1 : decode cX0_orbit 1 = .ok (.iload_n 1, 1) := dk_27 (dk_at dksX0_orbit_0 1 rfl rfl)
theorem dX0_orbit_2 : decode cX0_orbit 2 = .ok (.i2l, 1) := dk_133 (dk_at dksX0_orbit_0 2 rfl rfl)
theorem dX0_orbit_3 : decode cX0_orbit 3 = .ok (.invokevirtual 167, 3) := dk_182 0 167 (dk_at dksX0_orbit_0 3 rfl rfl)
theorem dX0_orbit_6 : decode cX0_orbit 6 = .ok (.ifCond .ne 6, 3) := dk_154 0 6 (dk_at dksX0_orbit_0 6 rfl rfl)
theorem dX0_orbit_9 : decode cX0_orbit 9 = .ok (.bipush (-2), 2) := dk_16 254 (dk_at dksX0_orbit_0 9 rfl rfl)
theorem dX0_orbit_11 : decode cX0_orbit 11 = .ok (.ireturn, 1) := dk_172 (dk_at dksX0_orbit_0 11 rfl rfl)
theorem dX0_orbit_12 : decode cX0_orbit 12 = .ok (.aload_n 0, 1) := dk_42 (dk_at dksX0_orbit_0 12 rfl rfl)
theorem dX0_orbit_13 : decode cX0_orbit 13 = .ok (.invokevirtual 349, 3) := dk_182 1 93 (dk_at dksX0_orbit_0 13 rfl rfl)
theorem dX0_orbit_16 : decode cX0_orbit 16 = .ok (.iload_n 1, 1) := dk_27 (dk_at dksX0_orbit_0 16 rfl rfl)
theorem dX0_orbit_17 : decode cX0_orbit 17 = .ok (.istore_n 2, 1) := dk_61 (dk_at dksX0_orbit_0 17 rfl rfl)
theorem dX0_orbit_18 : decode cX0_orbit 18 = .ok (.iconst 0, 1) := dk_3 (dk_at dksX0_orbit_0 18 rfl rfl)
theorem dX0_orbit_19 : decode cX0_orbit 19 = .ok (.istore_n 3, 1) := dk_62 (dk_at dksX0_orbit_0 19 rfl rfl)
theorem dX0_orbit_20 : decode cX0_orbit 20 = .ok (.iload_n 3, 1) := dk_29 (dk_at dksX0_orbit_0 20 rfl rfl)
theorem dX0_orbit_21 : decode cX0_orbit 21 = .ok (.aload_n 0, 1) := dk_42 (dk_at dksX0_orbit_0 21 rfl rfl)
theorem dX0_orbit_22 : decode cX0_orbit 22 = .ok (.getfield 340, 3) := dk_180 1 84 (dk_at dksX0_orbit_1 0 rfl rfl)
theorem dX0_orbit_25 : decode cX0_orbit 25 = .ok (.if_icmp .ge 20, 3) := dk_162 0 20 (dk_at dksX0_orbit_1 3 rfl rfl)
theorem dX0_orbit_28 : decode cX0_orbit 28 = .ok (.iload_n 2, 1) := dk_28 (dk_at dksX0_orbit_1 6 rfl rfl)
theorem dX0_orbit_29 : decode cX0_orbit 29 = .ok (.aload_n 0, 1) := dk_42 (dk_at dksX0_orbit_1 7 rfl rfl)
theorem dX0_orbit_30 : decode cX0_orbit 30 = .ok (.iload_n 3, 1) := dk_29 (dk_at dksX0_orbit_1 8 rfl rfl)
theorem dX0_orbit_31 : decode cX0_orbit 31 = .ok (.iload_n 1, 1) := dk_27 (dk_at dksX0_orbit_1 9 rfl rfl)
theorem dX0_orbit_32 : decode cX0_orbit 32 = .ok (.invokevirtual 334, 3) := dk_182 1 78 (dk_at dksX0_orbit_1 10 rfl rfl)
theorem dX0_orbit_35 : decode cX0_orbit 35 = .ok (.invokestatic 352, 3) := dk_184 1 96 (dk_at dksX0_orbit_1 13 rfl rfl)
theorem dX0_orbit_38 : decode cX0_orbit 38 = .ok (.istore_n 2, 1) := dk_61 (dk_at dksX0_orbit_1 16 rfl rfl)
theorem dX0_orbit_39 : decode cX0_orbit 39 = .ok (.iinc 3 1, 3) := dk_132 3 1 (dk_at dksX0_orbit_1 17 rfl rfl)
theorem dX0_orbit_42 : decode cX0_orbit 42 = .ok (.goto (-22), 3) := dk_167 255 234 (dk_at dksX0_orbit_1 20 rfl rfl)
theorem dX0_orbit_45 : decode cX0_orbit 45 = .ok (.iload_n 2, 1) := dk_28 (dk_at dksX0_orbit_1 23 rfl rfl)
theorem dX0_orbit_46 : decode cX0_orbit 46 = .ok (.ireturn, 1) := dk_172 (dk_at dksX0_orbit_2 0 rfl rfl)
abbrev cX0_still : ByteArray := prog_1_method_76_code
def yX0_still : MethodName := ⟨RX0, "still", "(I)I"⟩
def dkwX0_still_2 : List UInt8 := [132, 3, 1, 167, 255, 227, 28, 172]
abbrev dktX0_still_2 : List UInt8 := dkwX0_still_2 ++ []
def dkwX0_still_1 : List UInt8 := [180, 1, 84, 162, 0, 27, 28, 42, 29, 27, 182, 1, 78, 27, 160, 0, 7, 4, 167, 0, 4, 3, 96, 61]
abbrev dktX0_still_1 : List UInt8 := dkwX0_still_1 ++ dktX0_still_2
def dkwX0_still_0 : List UInt8 := [42, 27, 133, 182, 0, 167, 154, 0, 6, 16, 254, 172, 42, 182, 1, 93, 3, 61, 3, 62, 29, 42]
abbrev dktX0_still_0 : List UInt8 := dkwX0_still_0 ++ dktX0_still_1
theorem dksX0_still_0 : cX0_still.data.toList.drop 0 = dktX0_still_0 := by decide +kernel
theorem dksX0_still_1 : cX0_still.data.toList.drop 22 = dktX0_still_1 := dk_seg dksX0_still_0 22 rfl rfl
theorem dksX0_still_2 : cX0_still.data.toList.drop 46 = dktX0_still_2 := dk_seg dksX0_still_1 24 rfl rfl
theorem dX0_still_0 : decode cX0_still 0 = .ok (.aload_n 0, 1) := dk_42 (dk_at dksX0_still_0 0 rfl rfl)
theorem dX0_still_1 : decode cX0_still 1 = .ok (.iload_n 1, 1) := dk_27 (dk_at dksX0_still_0 1 rfl rfl)
theorem dX0_still_2 : decode cX0_still 2 = .ok (.i2l, 1) := dk_133 (dk_at dksX0_still_0 2 rfl rfl)
theorem dX0_still_3 : decode cX0_still 3 = .ok (.invokevirtual 167, 3) := dk_182 0 167 (dk_at dksX0_still_0 3 rfl rfl)
theorem dX0_still_6 : decode cX0_still 6 = .ok (.ifCond .ne 6, 3) := dk_154 0 6 (dk_at dksX0_still_0 6 rfl rfl)
theorem dX0_still_9 : decode cX0_still 9 = .ok (.bipush (-2), 2) := dk_16 254 (dk_at dksX0_still_0 9 rfl rfl)
theorem dX0_still_11 : decode cX0_still 11 = .ok (.ireturn, 1) := dk_172 (dk_at dksX0_still_0 11 rfl rfl)
theorem dX0_still_12 : decode cX0_still 12 = .ok (.aload_n 0, 1) := dk_42 (dk_at dksX0_still_0 12 rfl rfl)
theorem dX0_still_13 : decode cX0_still 13 = .ok (.invokevirtual 349, 3) := dk_182 1 93 (dk_at dksX0_still_0 13 rfl rfl)
theorem dX0_still_16 : decode cX0_still 16 = .ok (.iconst 0, 1) := dk_3 (dk_at dksX0_still_0 16 rfl rfl)
theorem dX0_still_17 : decode cX0_still 17 = .ok (.istore_n 2, 1) := dk_61 (dk_at dksX0_still_0 17 rfl rfl)
theorem dX0_still_18 : decode cX0_still 18 = .ok (.iconst 0, 1) := dk_3 (dk_at dksX0_still_0 18 rfl rfl)
theorem dX0_still_19 : decode cX0_still 19 = .ok (.istore_n 3, 1) := dk_62 (dk_at dksX0_still_0 19 rfl rfl)
theorem dX0_still_20 : decode cX0_still 20 = .ok (.iload_n 3, 1) := dk_29 (dk_at dksX0_still_0 20 rfl rfl)
theorem dX0_still_21 : decode cX0_still 21 = .ok (.aload_n 0, 1) := dk_42 (dk_at dksX0_still_0 21 rfl rfl)
theorem dX0_still_22 : decode cX0_still 22 = .ok (.getfield 340, 3) := dk_180 1 84 (dk_at dksX0_still_1 0 rfl rfl)
theorem dX0_still_25 : decode cX0_still 25 = .ok (.if_icmp .ge 27, 3) := dk_162 0 27 (dk_at dksX0_still_1 3 rfl rfl)
theorem dX0_still_28 : decode cX0_still 28 = .ok (.iload_n 2, 1) := dk_28 (dk_at dksX0_still_1 6 rfl rfl)
theorem dX0_still_29 : decode cX0_still 29 = .ok (.aload_n 0, 1) := dk_42 (dk_at dksX0_still_1 7 rfl rfl)
theorem dX0_still_30 : decode cX0_still 30 = .ok (.iload_n 3, 1) := dk_29 (dk_at dksX0_still_1 8 rfl rfl)
theorem dX0_still_31 : decode cX0_still 31 = .ok (.iload_n 1, 1) := dk_27 (dk_at dksX0_still_1 9 rfl rfl)
theorem dX0_still_32 : decode cX0_still 32 = .ok (.invokevirtual 334, 3) := dk_182 1 78 (dk_at dksX0_still_1 10 rfl rfl)
theorem dX0_still_35 : decode cX0_still 35 = .ok (.iload_n 1, 1) := dk_27 (dk_at dksX0_still_1 13 rfl rfl)
theorem dX0_still_36 : decode cX0_still 36 = .ok (.if_icmp .ne 7, 3) := dk_160 0 7 (dk_at dksX0_still_1 14 rfl rfl)
theorem dX0_still_39 : decode cX0_still 39 = .ok (.iconst 1, 1) := dk_4 (dk_at dksX0_still_1 17 rfl rfl)
theorem dX0_still_40 : decode cX0_still 40 = .ok (.goto 4, 3) := dk_167 0 4 (dk_at dksX0_still_1 18 rfl rfl)
theorem dX0_still_43 : decode cX0_still 43 = .ok (.iconst 0, 1) := dk_3 (dk_at dksX0_still_1 21 rfl rfl)
theorem dX0_still_44 : decode cX0_still 44 = .ok (.iadd, 1) := dk_96 (dk_at dksX0_still_1 22 rfl rfl)
theorem dX0_still_45 : decode cX0_still 45 = .ok (.istore_n 2, 1) := dk_61 (dk_at dksX0_still_1 23 rfl rfl)
theorem dX0_still_46 : decode cX0_still 46 = .ok (.iinc 3 1, 3) := dk_132 3 1 (dk_at dksX0_still_2 0 rfl rfl)
theorem dX0_still_49 : decode cX0_still 49 = .ok (.goto (-29), 3) := dk_167 255 227 (dk_at dksX0_still_2 3 rfl rfl)
theorem dX0_still_52 : decode cX0_still 52 = .ok (.iload_n 2, 1) := dk_28 (dk_at dksX0_still_2 6 rfl rfl)
theorem dX0_still_53 : decode cX0_still 53 = .ok (.ireturn, 1) := dk_172 (dk_at dksX0_still_2 7 rfl rfl)
abbrev cX0_colours : ByteArray := prog_1_method_78_code
def yX0_colours : MethodName := ⟨RX0, "colours", "(I)J"⟩
def dkwX0_colours_3 : List UInt8 := [22, 5, 97, 65, 132, 4, 1, 167, 255, 210, 32, 42, 180, 1, 84, 133, 109, 173]
abbrev dktX0_colours_3 : List UInt8 := dkwX0_colours_3 ++ []
def dkwX0_colours_2 : List UInt8 := [182, 1, 103, 54, 7, 21, 7, 158, 0, 16, 22, 5, 27, 133, 105, 55, 5, 132, 7, 255, 167, 255, 241, 32]
abbrev dktX0_colours_2 : List UInt8 := dkwX0_colours_2 ++ dktX0_colours_3
def dkwX0_colours_1 : List UInt8 := [182, 1, 93, 9, 65, 3, 54, 4, 21, 4, 42, 180, 1, 84, 162, 0, 43, 10, 55, 5, 42, 21, 4]
abbrev dktX0_colours_1 : List UInt8 := dkwX0_colours_1 ++ dktX0_colours_2
def dkwX0_colours_0 : List UInt8 := [42, 182, 0, 233, 153, 0, 15, 27, 133, 10, 20, 1, 99, 184, 0, 133, 154, 0, 7, 20, 1, 101, 173, 42]
abbrev dktX0_colours_0 : List UInt8 := dkwX0_colours_0 ++ dktX0_colours_1
theorem dksX0_colours_0 : cX0_colours.data.toList.drop 0 = dktX0_colours_0 := by decide +kernel
theorem dksX0_colours_1 : cX0_colours.data.toList.drop 24 = dktX0_colours_1 := dk_seg dksX0_colours_0 24 rfl rfl
theorem dksX0_colours_2 : cX0_colours.data.toList.drop 47 = dktX0_colours_2 := dk_seg dksX0_colours_1 23 rfl rfl
theorem dksX0_colours_3 : cX0_colours.data.toList.drop 71 = dktX0_colours_3 := dk_seg dksX0_colours_2 24 rfl rfl
theorem dX0_colours_0 : decode cX0_colours 0 = .ok (.aload_n 0, 1) := dk_42 (dk_at dksX0_colours_0 0 rfl rfl)
theorem dX0_colours_1 : decode cX0_colours 1 = .ok (.invokevirtual 233, 3) := dk_182 0 233 (dk_at dksX0_colours_0 1 rfl rfl)
theorem dX0_colours_4 : decode cX0_colours 4 = .ok (.ifCond .eq 15, 3) := dk_153 0 15 (dk_at dksX0_colours_0 4 rfl rfl)
theorem dX0_colours_7 : decode cX0_colours 7 = .ok (.iload_n 1, 1) := dk_27 (dk_at dksX0_colours_0 7 rfl rfl)
theorem dX0_colours_8 : decode cX0_colours 8 = .ok (.i2l, 1) := dk_133 (dk_at dksX0_colours_0 8 rfl rfl)
theorem dX0_colours_9 : decode cX0_colours 9 = .ok (.lconst 1, 1) := dk_10 (dk_at dksX0_colours_0 9 rfl rfl)
theorem dX0_colours_10 : decode cX0_colours 10 = .ok (.ldc2_w 355, 3) := dk_20 1 99 (dk_at dksX0_colours_0 10 rfl rfl)
theorem dX0_colours_13 : decode cX0_colours 13 = .ok (.invokestatic 133, 3) := dk_184 0 133 (dk_at dksX0_colours_0 13 rfl rfl)
theorem dX0_colours_16 : decode cX0_colours 16 = .ok (.ifCond .ne 7, 3) := dk_154 0 7 (dk_at dksX0_colours_0 16 rfl rfl)
theorem dX0_colours_19 : decode cX0_colours 19 = .ok (.ldc2_w 357, 3) := dk_20 1 101 (dk_at dksX0_colours_0 19 rfl rfl)
theorem dX0_colours_22 : decode cX0_colours 22 = .ok (.lreturn, 1) := dk_173 (dk_at dksX0_colours_0 22 rfl rfl)
theorem dX0_colours_23 : decode cX0_colours 23 = .ok (.aload_n 0, 1) := dk_42 (dk_at dksX0_colours_0 23 rfl rfl)
theorem dX0_colours_24 : decode cX0_colours 24 = .ok (.invokevirtual 349, 3) := dk_182 1 93 (dk_at dksX0_colours_1 0 rfl rfl)
theorem dX0_colours_27 : decode cX0_colours 27 = .ok (.lconst 0, 1) := dk_9 (dk_at dksX0_colours_1 3 rfl rfl)
theorem dX0_colours_28 : decode cX0_colours 28 = .ok (.lstore_n 2, 1) := dk_65 (dk_at dksX0_colours_1 4 rfl rfl)
theorem dX0_colours_29 : decode cX0_colours 29 = .ok (.iconst 0, 1) := dk_3 (dk_at dksX0_colours_1 5 rfl rfl)
theorem dX0_colours_30 : decode cX0_colours 30 = .ok (.istore 4, 2) := dk_54 4 (dk_at dksX0_colours_1 6 rfl rfl)
theorem dX0_colours_32 : decode cX0_colours 32 = .ok (.iload 4, 2) := dk_21 4 (dk_at dksX0_colours_1 8 rfl rfl)
theorem dX0_colours_34 : decode cX0_colours 34 = .ok (.aload_n 0, 1) := dk_42 (dk_at dksX0_colours_1 10 rfl rfl)
theorem dX0_colours_35 : decode cX0_colours 35 = .ok (.getfield 340, 3) := dk_180 1 84 (dk_at dksX0_colours_1 11 rfl rfl)
theorem dX0_colours_38 : decode cX0_colours 38 = .ok (.if_icmp .ge 43, 3) := dk_162 0 43 (dk_at dksX0_colours_1 14 rfl rfl)
theorem dX0_colours_41 : decode cX0_colours 41 = .ok (.lconst 1, 1) := dk_10 (dk_at dksX0_colours_1 17 rfl rfl)
theorem dX0_colours_42 : decode cX0_colours 42 = .ok (.lstore 5, 2) := dk_55 5 (dk_at dksX0_colours_1 18 rfl rfl)
theorem dX0_colours_44 : decode cX0_colours 44 = .ok (.aload_n 0, 1) := dk_42 (dk_at dksX0_colours_1 20 rfl rfl)
theorem dX0_colours_45 : decode cX0_colours 45 = .ok (.iload 4, 2) := dk_21 4 (dk_at dksX0_colours_1 21 rfl rfl)
theorem dX0_colours_47 : decode cX0_colours 47 = .ok (.invokevirtual 359, 3) := dk_182 1 103 (dk_at dksX0_colours_2 0 rfl rfl)
theorem dX0_colours_50 : decode cX0_colours 50 = .ok (.istore 7, 2) := dk_54 7 (dk_at dksX0_colours_2 3 rfl rfl)
theorem dX0_colours_52 : decode cX0_colours 52 = .ok (.iload 7, 2) := dk_21 7 (dk_at dksX0_colours_2 5 rfl rfl)
theorem dX0_colours_54 : decode cX0_colours 54 = .ok (.ifCond .le 16, 3) := dk_158 0 16 (dk_at dksX0_colours_2 7 rfl rfl)
theorem dX0_colours_57 : decode cX0_colours 57 = .ok (.lload 5, 2) := dk_22 5 (dk_at dksX0_colours_2 10 rfl rfl)
theorem dX0_colours_59 : decode cX0_colours 59 = .ok (.iload_n 1, 1) := dk_27 (dk_at dksX0_colours_2 12 rfl rfl)
theorem dX0_colours_60 : decode cX0_colours 60 = .ok (.i2l, 1) := dk_133 (dk_at dksX0_colours_2 13 rfl rfl)
theorem dX0_colours_61 : decode cX0_colours 61 = .ok (.lmul, 1) := dk_105 (dk_at dksX0_colours_2 14 rfl rfl)
theorem dX0_colours_62 : decode cX0_colours 62 = .ok (.lstore 5, 2) := dk_55 5 (dk_at dksX0_colours_2 15 rfl rfl)
theorem dX0_colours_64 : decode cX0_colours 64 = .ok (.iinc 7 (-1), 3) := dk_132 7 255 (dk_at dksX0_colours_2 17 rfl rfl)
theorem dX0_colours_67 : decode cX0_colours 67 = .ok (.goto (-15), 3) := dk_167 255 241 (dk_at dksX0_colours_2 20 rfl rfl)
theorem dX0_colours_70 : decode cX0_colours 70 = .ok (.lload_n 2, 1) := dk_32 (dk_at dksX0_colours_2 23 rfl rfl)
theorem dX0_colours_71 : decode cX0_colours 71 = .ok (.lload 5, 2) := dk_22 5 (dk_at dksX0_colours_3 0 rfl rfl)
theorem dX0_colours_73 : decode cX0_colours 73 = .ok (.ladd, 1) := dk_97 (dk_at dksX0_colours_3 2 rfl rfl)
theorem dX0_colours_74 : decode cX0_colours 74 = .ok (.lstore_n 2, 1) := dk_65 (dk_at dksX0_colours_3 3 rfl rfl)
theorem dX0_colours_75 : decode cX0_colours 75 = .ok (.iinc 4 1, 3) := dk_132 4 1 (dk_at dksX0_colours_3 4 rfl rfl)
theorem dX0_colours_78 : decode cX0_colours 78 = .ok (.goto (-46), 3) := dk_167 255 210 (dk_at dksX0_colours_3 7 rfl rfl)
theorem dX0_colours_81 : decode cX0_colours 81 = .ok (.lload_n 2, 1) := dk_32 (dk_at dksX0_colours_3 10 rfl rfl)
theorem dX0_colours_82 : decode cX0_colours 82 = .ok (.aload_n 0, 1) := dk_42 (dk_at dksX0_colours_3 11 rfl rfl)
theorem dX0_colours_83 : decode cX0_colours 83 = .ok (.getfield 340, 3) := dk_180 1 84 (dk_at dksX0_colours_3 12 rfl rfl)
theorem dX0_colours_86 : decode cX0_colours 86 = .ok (.i2l, 1) := dk_133 (dk_at dksX0_colours_3 15 rfl rfl)
theorem dX0_colours_87 : decode cX0_colours 87 = .ok (.ldiv, 1) := dk_109 (dk_at dksX0_colours_3 16 rfl rfl)
theorem dX0_colours_88 : decode cX0_colours 88 = .ok (.lreturn, 1) := dk_173 (dk_at dksX0_colours_3 17 rfl rfl)
abbrev cX0_rowsOf : ByteArray := prog_1_method_77_code
def yX0_rowsOf : MethodName := ⟨RX0, "rowsOf", "(I)I"⟩
def dkwX0_rowsOf_3 : List UInt8 := [132, 4, 1, 167, 255, 194, 29, 172]
abbrev dktX0_rowsOf_3 : List UInt8 := dkwX0_rowsOf_3 ++ []
def dkwX0_rowsOf_2 : List UInt8 := [154, 0, 22, 28, 4, 21, 5, 120, 128, 61, 42, 27, 21, 5, 182, 1, 78, 54, 5, 167, 255, 231]
abbrev dktX0_rowsOf_2 : List UInt8 := dkwX0_rowsOf_2 ++ dktX0_rowsOf_3
def dkwX0_rowsOf_1 : List UInt8 := [184, 0, 204, 153, 0, 6, 167, 0, 38, 132, 3, 1, 21, 4, 54, 5, 28, 21, 5, 184, 0, 204]
abbrev dktX0_rowsOf_1 : List UInt8 := dkwX0_rowsOf_1 ++ dktX0_rowsOf_2
def dkwX0_rowsOf_0 : List UInt8 := [3, 61, 3, 62, 3, 54, 4, 21, 4, 42, 180, 0, 10, 182, 0, 161, 162, 0, 56, 28, 21, 4]
abbrev dktX0_rowsOf_0 : List UInt8 := dkwX0_rowsOf_0 ++ dktX0_rowsOf_1
theorem dksX0_rowsOf_0 : cX0_rowsOf.data.toList.drop 0 = dktX0_rowsOf_0 := by decide +kernel
theorem dksX0_rowsOf_1 : cX0_rowsOf.data.toList.drop 22 = dktX0_rowsOf_1 := dk_seg dksX0_rowsOf_0 22 rfl rfl
theorem dksX0_rowsOf_2 : cX0_rowsOf.data.toList.drop 44 = dktX0_rowsOf_2 := dk_seg dksX0_rowsOf_1 22 rfl rfl
theorem dksX0_rowsOf_3 : cX0_rowsOf.data.toList.drop 66 = dktX0_rowsOf_3 := dk_seg dksX0_rowsOf_2 22 rfl rfl
theorem dX0_rowsOf_0 : decode cX0_rowsOf 0 = .ok (.iconst 0, 1) := dk_3 (dk_at dksX0_rowsOf_0 0 rfl rfl)
theorem dX0_rowsOf_1 : decode cX0_rowsOf 1 = .ok (.istore_n 2, 1) := dk_61 (dk_at dksX0_rowsOf_0 1 rfl rfl)
theorem dX0_rowsOf_2 : decode cX0_rowsOf 2 = .ok (.iconst 0, 1) := dk_3 (dk_at dksX0_rowsOf_0 2 rfl rfl)
theorem dX0_rowsOf_3 : decode cX0_rowsOf 3 = .ok (.istore_n 3, 1) := dk_62 (dk_at dksX0_rowsOf_0 3 rfl rfl)
theorem dX0_rowsOf_4 : decode cX0_rowsOf 4 = .ok (.iconst 0, 1) := dk_3 (dk_at dksX0_rowsOf_0 4 rfl rfl)
theorem dX0_rowsOf_5 : decode cX0_rowsOf 5 = .ok (.istore 4, 2) := dk_54 4 (dk_at dksX0_rowsOf_0 5 rfl rfl)
theorem dX0_rowsOf_7 : decode cX0_rowsOf 7 = .ok (.iload 4, 2) := dk_21 4 (dk_at dksX0_rowsOf_0 7 rfl rfl)
theorem dX0_rowsOf_9 : decode cX0_rowsOf 9 = .ok (.aload_n 0, 1) := dk_42 (dk_at dksX0_rowsOf_0 9 rfl rfl)
theorem dX0_rowsOf_10 : decode cX0_rowsOf 10 = .ok (.getfield 10, 3) := dk_180 0 10 (dk_at dksX0_rowsOf_0 10 rfl rfl)
theorem dX0_rowsOf_13 : decode cX0_rowsOf 13 = .ok (.invokevirtual 161, 3) := dk_182 0 161 (dk_at dksX0_rowsOf_0 13 rfl rfl)
theorem dX0_rowsOf_16 : decode cX0_rowsOf 16 = .ok (.if_icmp .ge 56, 3) := dk_162 0 56 (dk_at dksX0_rowsOf_0 16 rfl rfl)
theorem dX0_rowsOf_19 : decode cX0_rowsOf 19 = .ok (.iload_n 2, 1) := dk_28 (dk_at dksX0_rowsOf_0 19 rfl rfl)
theorem dX0_rowsOf_20 : decode cX0_rowsOf 20 = .ok (.iload 4, 2) := dk_21 4 (dk_at dksX0_rowsOf_0 20 rfl rfl)
theorem dX0_rowsOf_22 : decode cX0_rowsOf 22 = .ok (.invokestatic 204, 3) := dk_184 0 204 (dk_at dksX0_rowsOf_1 0 rfl rfl)
theorem dX0_rowsOf_25 : decode cX0_rowsOf 25 = .ok (.ifCond .eq 6, 3) := dk_153 0 6 (dk_at dksX0_rowsOf_1 3 rfl rfl)
theorem dX0_rowsOf_28 : decode cX0_rowsOf 28 = .ok (.goto 38, 3) := dk_167 0 38 (dk_at dksX0_rowsOf_1 6 rfl rfl)
theorem dX0_rowsOf_31 : decode cX0_rowsOf 31 = .ok (.iinc 3 1, 3) := dk_132 3 1 (dk_at dksX0_rowsOf_1 9 rfl rfl)
theorem dX0_rowsOf_34 : decode cX0_rowsOf 34 = .ok (.iload 4, 2) := dk_21 4 (dk_at dksX0_rowsOf_1 12 rfl rfl)
theorem dX0_rowsOf_36 : decode cX0_rowsOf 36 = .ok (.istore 5, 2) := dk_54 5 (dk_at dksX0_rowsOf_1 14 rfl rfl)
theorem dX0_rowsOf_38 : decode cX0_rowsOf 38 = .ok (.iload_n 2, 1) := dk_28 (dk_at dksX0_rowsOf_1 16 rfl rfl)
theorem dX0_rowsOf_39 : decode cX0_rowsOf 39 = .ok (.iload 5, 2) := dk_21 5 (dk_at dksX0_rowsOf_1 17 rfl rfl)
theorem dX0_rowsOf_41 : decode cX0_rowsOf 41 = .ok (.invokestatic 204, 3) := dk_184 0 204 (dk_at dksX0_rowsOf_1 19 rfl rfl)
theorem dX0_rowsOf_44 : decode cX0_rowsOf 44 = .ok (.ifCond .ne 22, 3) := dk_154 0 22 (dk_at dksX0_rowsOf_2 0 rfl rfl)
theorem dX0_rowsOf_47 : decode cX0_rowsOf 47 = .ok (.iload_n 2, 1) := dk_28 (dk_at dksX0_rowsOf_2 3 rfl rfl)
theorem dX0_rowsOf_48 : decode cX0_rowsOf 48 = .ok (.iconst 1, 1) := dk_4 (dk_at dksX0_rowsOf_2 4 rfl rfl)
theorem dX0_rowsOf_49 : decode cX0_rowsOf 49 = .ok (.iload 5, 2) := dk_21 5 (dk_at dksX0_rowsOf_2 5 rfl rfl)
theorem dX0_rowsOf_51 : decode cX0_rowsOf 51 = .ok (.ishl, 1) := dk_120 (dk_at dksX0_rowsOf_2 7 rfl rfl)
theorem dX0_rowsOf_52 : decode cX0_rowsOf 52 = .ok (.ior, 1) := dk_128 (dk_at dksX0_rowsOf_2 8 rfl rfl)
theorem dX0_rowsOf_53 : decode cX0_rowsOf 53 = .ok (.istore_n 2, 1) := dk_61 (dk_at dksX0_rowsOf_2 9 rfl rfl)
theorem dX0_rowsOf_54 : decode cX0_rowsOf 54 = .ok (.aload_n 0, 1) := dk_42 (dk_at dksX0_rowsOf_2 10 rfl rfl)
theorem dX0_rowsOf_55 : decode cX0_rowsOf 55 = .ok (.iload_n 1, 1) := dk_27 (dk_at dksX0_rowsOf_2 11 rfl rfl)
theorem dX0_rowsOf_56 : decode cX0_rowsOf 56 = .ok (.iload 5, 2) := dk_21 5 (dk_at dksX0_rowsOf_2 12 rfl rfl)
theorem dX0_rowsOf_58 : decode cX0_rowsOf 58 = .ok (.invokevirtual 334, 3) := dk_182 1 78 (dk_at dksX0_rowsOf_2 14 rfl rfl)
theorem dX0_rowsOf_61 : decode cX0_rowsOf 61 = .ok (.istore 5, 2) := dk_54 5 (dk_at dksX0_rowsOf_2 17 rfl rfl)
theorem dX0_rowsOf_63 : decode cX0_rowsOf 63 = .ok (.goto (-25), 3) := dk_167 255 231 (dk_at dksX0_rowsOf_2 19 rfl rfl)
theorem dX0_rowsOf_66 : decode cX0_rowsOf 66 = .ok (.iinc 4 1, 3) := dk_132 4 1 (dk_at dksX0_rowsOf_3 0 rfl rfl)
theorem dX0_rowsOf_69 : decode cX0_rowsOf 69 = .ok (.goto (-62), 3) := dk_167 255 194 (dk_at dksX0_rowsOf_3 3 rfl rfl)
theorem dX0_rowsOf_72 : decode cX0_rowsOf 72 = .ok (.iload_n 3, 1) := dk_29 (dk_at dksX0_rowsOf_3 6 rfl rfl)
theorem dX0_rowsOf_73 : decode cX0_rowsOf 73 = .ok (.ireturn, 1) := dk_172 (dk_at dksX0_rowsOf_3 7 rfl rfl)
abbrev cX0_unlike : ByteArray := prog_1_method_81_code
def yX0_unlike : MethodName := ⟨RX0, "unlike", "()I"⟩
def dkwX0_unlike_5 : List UInt8 := [180, 0, 62, 29, 46, 160, 0, 7, 4, 167, 0, 4, 3, 96, 61, 132, 3, 1, 167, 255, 222, 28, 172]
abbrev dktX0_unlike_5 : List UInt8 := dkwX0_unlike_5 ++ []
def dkwX0_unlike_4 : List UInt8 := [167, 255, 199, 3, 61, 3, 62, 29, 42, 180, 1, 53, 162, 0, 32, 28, 42, 180, 0, 77, 29, 46, 42]
abbrev dktX0_unlike_4 : List UInt8 := dkwX0_unlike_4 ++ dktX0_unlike_5
def dkwX0_unlike_3 : List UInt8 := [42, 42, 180, 0, 62, 29, 46, 182, 1, 109, 184, 1, 96, 79, 132, 3, 1, 167, 255, 220, 132, 2, 1]
abbrev dktX0_unlike_3 : List UInt8 := dkwX0_unlike_3 ++ dktX0_unlike_4
def dkwX0_unlike_2 : List UInt8 := [182, 1, 106, 3, 62, 29, 42, 180, 1, 53, 162, 0, 34, 42, 180, 0, 77, 29, 42, 180, 0, 77, 29, 46]
abbrev dktX0_unlike_2 : List UInt8 := dkwX0_unlike_2 ++ dktX0_unlike_3
def dkwX0_unlike_1 : List UInt8 := [180, 0, 77, 3, 42, 180, 1, 53, 184, 1, 59, 3, 61, 28, 42, 180, 1, 84, 162, 0, 55, 42, 28]
abbrev dktX0_unlike_1 : List UInt8 := dkwX0_unlike_1 ++ dktX0_unlike_2
def dkwX0_unlike_0 : List UInt8 := [42, 4, 182, 1, 71, 60, 27, 156, 0, 5, 27, 172, 42, 182, 1, 93, 42, 180, 0, 62, 3, 42]
abbrev dktX0_unlike_0 : List UInt8 := dkwX0_unlike_0 ++ dktX0_unlike_1
theorem dksX0_unlike_0 : cX0_unlike.data.toList.drop 0 = dktX0_unlike_0 := by decide +kernel
theorem dksX0_unlike_1 : cX0_unlike.data.toList.drop 22 = dktX0_unlike_1 := dk_seg dksX0_unlike_0 22 rfl rfl
theorem dksX0_unlike_2 : cX0_unlike.data.toList.drop 45 = dktX0_unlike_2 := dk_seg dksX0_unlike_1 23 rfl rfl
theorem dksX0_unlike_3 : cX0_unlike.data.toList.drop 69 = dktX0_unlike_3 := dk_seg dksX0_unlike_2 24 rfl rfl
theorem dksX0_unlike_4 : cX0_unlike.data.toList.drop 92 = dktX0_unlike_4 := dk_seg dksX0_unlike_3 23 rfl rfl
theorem dksX0_unlike_5 : cX0_unlike.data.toList.drop 115 = dktX0_unlike_5 := dk_seg dksX0_unlike_4 23 rfl rfl
theorem dX0_unlike_0 : decode cX0_unlike 0 = .ok (.aload_n 0, 1) := dk_42 (dk_at dksX0_unlike_0 0 rfl rfl)
theorem dX0_unlike_1 : decode cX0_unlike 1 = .ok (.iconst 1, 1) := dk_4 (dk_at dksX0_unlike_0 1 rfl rfl)
theorem dX0_unlike_2 : decode cX0_unlike 2 = .ok (.invokevirtual 327, 3) := dk_182 1 71 (dk_at dksX0_unlike_0 2 rfl rfl)
theorem dX0_unlike_5 : decode cX0_unlike 5 = .ok (.istore_n 1, 1) := dk_60 (dk_at dksX0_unlike_0 5 rfl rfl)
theorem dX0_unlike_6 : decode cX0_unlike 6 = .ok (.iload_n 1, 1) := dk_27 (dk_at dksX0_unlike_0 6 rfl rfl)
theorem dX0_unlike_7 : decode cX0_unlike 7 = .ok (.ifCond .ge 5, 3) := dk_156 0 5 (dk_at dksX0_unlike_0 7 rfl rfl)
theorem dX0_unlike_10 : decode cX0_unlike 10 = .ok (.iload_n 1, 1) := dk_27 (dk_at dksX0_unlike_0 10 rfl rfl)
theorem dX0_unlike_11 : decode cX0_unlike 11 = .ok (.ireturn, 1) := dk_172 (dk_at dksX0_unlike_0 11 rfl rfl)
theorem dX0_unlike_12 : decode cX0_unlike 12 = .ok (.aload_n 0, 1) := dk_42 (dk_at dksX0_unlike_0 12 rfl rfl)
theorem dX0_unlike_13 : decode cX0_unlike 13 = .ok (.invokevirtual 349, 3) := dk_182 1 93 (dk_at dksX0_unlike_0 13 rfl rfl)
theorem dX0_unlike_16 : decode cX0_unlike 16 = .ok (.aload_n 0, 1) := dk_42 (dk_at dksX0_unlike_0 16 rfl rfl)
theorem dX0_unlike_17 : decode cX0_unlike 17 = .ok (.getfield 62, 3) := dk_180 0 62 (dk_at dksX0_unlike_0 17 rfl rfl)
theorem dX0_unlike_20 : decode cX0_unlike 20 = .ok (.iconst 0, 1) := dk_3 (dk_at dksX0_unlike_0 20 rfl rfl)
theorem dX0_unlike_21 : decode cX0_unlike 21 = .ok (.aload_n 0, 1) := dk_42 (dk_at dksX0_unlike_0 21 rfl rfl)
theorem dX0_unlike_22 : decode cX0_unlike 22 = .ok (.getfield 77, 3) := dk_180 0 77 (dk_at dksX0_unlike_1 0 rfl rfl)
theorem dX0_unlike_25 : decode cX0_unlike 25 = .ok (.iconst 0, 1) := dk_3 (dk_at dksX0_unlike_1 3 rfl rfl)
theorem dX0_unlike_26 : decode cX0_unlike 26 = .ok (.aload_n 0, 1) := dk_42 (dk_at dksX0_unlike_1 4 rfl rfl)
theorem dX0_unlike_27 : decode cX0_unlike 27 = .ok (.getfield 309, 3) := dk_180 1 53 (dk_at dksX0_unlike_1 5 rfl rfl)
theorem dX0_unlike_30 : decode cX0_unlike 30 = .ok (.invokestatic 315, 3) := dk_184 1 59 (dk_at dksX0_unlike_1 8 rfl rfl)
theorem dX0_unlike_33 : decode cX0_unlike 33 = .ok (.iconst 0, 1) := dk_3 (dk_at dksX0_unlike_1 11 rfl rfl)
theorem dX0_unlike_34 : decode cX0_unlike 34 = .ok (.istore_n 2, 1) := dk_61 (dk_at dksX0_unlike_1 12 rfl rfl)
theorem dX0_unlike_35 : decode cX0_unlike 35 = .ok (.iload_n 2, 1) := dk_28 (dk_at dksX0_unlike_1 13 rfl rfl)
theorem dX0_unlike_36 : decode cX0_unlike 36 = .ok (.aload_n 0, 1) := dk_42 (dk_at dksX0_unlike_1 14 rfl rfl)
theorem dX0_unlike_37 : decode cX0_unlike 37 = .ok (.getfield 340, 3) := dk_180 1 84 (dk_at dksX0_unlike_1 15 rfl rfl)
theorem dX0_unlike_40 : decode cX0_unlike 40 = .ok (.if_icmp .ge 55, 3) := dk_162 0 55 (dk_at dksX0_unlike_1 18 rfl rfl)
theorem dX0_unlike_43 : decode cX0_unlike 43 = .ok (.aload_n 0, 1) := dk_42 (dk_at dksX0_unlike_1 21 rfl rfl)
theorem dX0_unlike_44 : decode cX0_unlike 44 = .ok (.iload_n 2, 1) := dk_28 (dk_at dksX0_unlike_1 22 rfl rfl)
theorem dX0_unlike_45 : decode cX0_unlike 45 = .ok (.invokevirtual 362, 3) := dk_182 1 106 (dk_at dksX0_unlike_2 0 rfl rfl)
theorem dX0_unlike_48 : decode cX0_unlike 48 = .ok (.iconst 0, 1) := dk_3 (dk_at dksX0_unlike_2 3 rfl rfl)
theorem dX0_unlike_49 : decode cX0_unlike 49 = .ok (.istore_n 3, 1) := dk_62 (dk_at dksX0_unlike_2 4 rfl rfl)
theorem dX0_unlike_50 : decode cX0_unlike 50 = .ok (.iload_n 3, 1) := dk_29 (dk_at dksX0_unlike_2 5 rfl rfl)
theorem dX0_unlike_51 : decode cX0_unlike 51 = .ok (.aload_n 0, 1) := dk_42 (dk_at dksX0_unlike_2 6 rfl rfl)
theorem dX0_unlike_52 : decode cX0_unlike 52 = .ok (.getfield 309, 3) := dk_180 1 53 (dk_at dksX0_unlike_2 7 rfl rfl)
theorem dX0_unlike_55 : decode cX0_unlike 55 = .ok (.if_icmp .ge 34, 3) := dk_162 0 34 (dk_at dksX0_unlike_2 10 rfl rfl)
theorem dX0_unlike_58 : decode cX0_unlike 58 = .ok (.aload_n 0, 1) := dk_42 (dk_at dksX0_unlike_2 13 rfl rfl)
theorem dX0_unlike_59 : decode cX0_unlike 59 = .ok (.getfield 77, 3) := dk_180 0 77 (dk_at dksX0_unlike_2 14 rfl rfl)
theorem dX0_unlike_62 : decode cX0_unlike 62 = .ok (.iload_n 3, 1) := dk_29 (dk_at dksX0_unlike_2 17 rfl rfl)
theorem dX0_unlike_63 : decode cX0_unlike 63 = .ok (.aload_n 0, 1) := dk_42 (dk_at dksX0_unlike_2 18 rfl rfl)
theorem dX0_unlike_64 : decode cX0_unlike 64 = .ok (.getfield 77, 3) := dk_180 0 77 (dk_at dksX0_unlike_2 19 rfl rfl)
theorem dX0_unlike_67 : decode cX0_unlike 67 = .ok (.iload_n 3, 1) := dk_29 (dk_at dksX0_unlike_2 22 rfl rfl)
theorem dX0_unlike_68 : decode cX0_unlike 68 = .ok (.iaload, 1) := dk_46 (dk_at dksX0_unlike_2 23 rfl rfl)
theorem dX0_unlike_69 : decode cX0_unlike 69 = .ok (.aload_n 0, 1) := dk_42 (dk_at dksX0_unlike_3 0 rfl rfl)
theorem dX0_unlike_70 : decode cX0_unlike 70 = .ok (.aload_n 0, 1) := dk_42 (dk_at dksX0_unlike_3 1 rfl rfl)
theorem dX0_unlike_71 : decode cX0_unlike 71 = .ok (.getfield 62, 3) := dk_180 0 62 (dk_at dksX0_unlike_3 2 rfl rfl)
theorem dX0_unlike_74 : decode cX0_unlike 74 = .ok (.iload_n 3, 1) := dk_29 (dk_at dksX0_unlike_3 5 rfl rfl)
theorem dX0_unlike_75 : decode cX0_unlike 75 = .ok (.iaload, 1) := dk_46 (dk_at dksX0_unlike_3 6 rfl rfl)
theorem dX0_unlike_76 : decode cX0_unlike 76 = .ok (.invokevirtual 365, 3) := dk_182 1 109 (dk_at dksX0_unlike_3 7 rfl rfl)
theorem dX0_unlike_79 : decode cX0_unlike 79 = .ok (.invokestatic 352, 3) := dk_184 1 96 (dk_at dksX0_unlike_3 10 rfl rfl)
theorem dX0_unlike_82 : decode cX0_unlike 82 = .ok (.iastore, 1) := dk_79 (dk_at dksX0_unlike_3 13 rfl rfl)
theorem dX0_unlike_83 : decode cX0_unlike 83 = .ok (.iinc 3 1, 3) := dk_132 3 1 (dk_at dksX0_unlike_3 14 rfl rfl)
theorem dX0_unlike_86 : decode cX0_unlike 86 = .ok (.goto (-36), 3) := dk_167 255 220 (dk_at dksX0_unlike_3 17 rfl rfl)
theorem dX0_unlike_89 : decode cX0_unlike 89 = .ok (.iinc 2 1, 3) := dk_132 2 1 (dk_at dksX0_unlike_3 20 rfl rfl)
theorem dX0_unlike_92 : decode cX0_unlike 92 = .ok (.goto (-57), 3) := dk_167 255 199 (dk_at dksX0_unlike_4 0 rfl rfl)
theorem dX0_unlike_95 : decode cX0_unlike 95 = .ok (.iconst 0, 1) := dk_3 (dk_at dksX0_unlike_4 3 rfl rfl)
theorem dX0_unlike_96 : decode cX0_unlike 96 = .ok (.istore_n 2, 1) := dk_61 (dk_at dksX0_unlike_4 4 rfl rfl)
theorem dX0_unlike_97 : decode cX0_unlike 97 = .ok (.iconst 0, 1) := dk_3 (dk_at dksX0_unlike_4 5 rfl rfl)
theorem dX0_unlike_98 : decode cX0_unlike 98 = .ok (.istore_n 3, 1) := dk_62 (dk_at dksX0_unlike_4 6 rfl rfl)
theorem dX0_unlike_99 : decode cX0_unlike 99 = .ok (.iload_n 3, 1) := dk_29 (dk_at dksX0_unlike_4 7 rfl rfl)
theorem dX0_unlike_100 : decode cX0_unlike 100 = .ok (.aload_n 0, 1) := dk_42 (dk_at dksX0_unlike_4 8 rfl rfl)
theorem dX0_unlike_101 : decode cX0_unlike 101 = .ok (.getfield 309, 3) := dk_180 1 53 (dk_at dksX0_unlike_4 9 rfl rfl)
theorem dX0_unlike_104 : decode cX0_unlike 104 = .ok (.if_icmp .ge 32, 3) := dk_162 0 32 (dk_at dksX0_unlike_4 12 rfl rfl)
theorem dX0_unlike_107 : decode cX0_unlike 107 = .ok (.iload_n 2, 1) := dk_28 (dk_at dksX0_unlike_4 15 rfl rfl)
theorem dX0_unlike_108 : decode cX0_unlike 108 = .ok (.aload_n 0, 1) := dk_42 (dk_at dksX0_unlike_4 16 rfl rfl)
theorem dX0_unlike_109 : decode cX0_unlike 109 = .ok (.getfield 77, 3) := dk_180 0 77 (dk_at dksX0_unlike_4 17 rfl rfl)
theorem dX0_unlike_112 : decode cX0_unlike 112 = .ok (.iload_n 3, 1) := dk_29 (dk_at dksX0_unlike_4 20 rfl rfl)
theorem dX0_unlike_113 : decode cX0_unlike 113 = .ok (.iaload, 1) := dk_46 (dk_at dksX0_unlike_4 21 rfl rfl)
theorem dX0_unlike_114 : decode cX0_unlike 114 = .ok (.aload_n 0, 1) := dk_42 (dk_at dksX0_unlike_4 22 rfl rfl)
theorem dX0_unlike_115 : decode cX0_unlike 115 = .ok (.getfield 62, 3) := dk_180 0 62 (dk_at dksX0_unlike_5 0 rfl rfl)
theorem dX0_unlike_118 : decode cX0_unlike 118 = .ok (.iload_n 3, 1) := dk_29 (dk_at dksX0_unlike_5 3 rfl rfl)
theorem dX0_unlike_119 : decode cX0_unlike 119 = .ok (.iaload, 1) := dk_46 (dk_at dksX0_unlike_5 4 rfl rfl)
theorem dX0_unlike_120 : decode cX0_unlike 120 = .ok (.if_icmp .ne 7, 3) := dk_160 0 7 (dk_at dksX0_unlike_5 5 rfl rfl)
theorem dX0_unlike_123 : decode cX0_unlike 123 = .ok (.iconst 1, 1) := dk_4 (dk_at dksX0_unlike_5 8 rfl rfl)
theorem dX0_unlike_124 : decode cX0_unlike 124 = .ok (.goto 4, 3) := dk_167 0 4 (dk_at dksX0_unlike_5 9 rfl rfl)
theorem dX0_unlike_127 : decode cX0_unlike 127 = .ok (.iconst 0, 1) := dk_3 (dk_at dksX0_unlike_5 12 rfl rfl)
theorem dX0_unlike_128 : decode cX0_unlike 128 = .ok (.iadd, 1) := dk_96 (dk_at dksX0_unlike_5 13 rfl rfl)
theorem dX0_unlike_129 : decode cX0_unlike 129 = .ok (.istore_n 2, 1) := dk_61 (dk_at dksX0_unlike_5 14 rfl rfl)
theorem dX0_unlike_130 : decode cX0_unlike 130 = .ok (.iinc 3 1, 3) := dk_132 3 1 (dk_at dksX0_unlike_5 15 rfl rfl)
theorem dX0_unlike_133 : decode cX0_unlike 133 = .ok (.goto (-34), 3) := dk_167 255 222 (dk_at dksX0_unlike_5 18 rfl rfl)
theorem dX0_unlike_136 : decode cX0_unlike 136 = .ok (.iload_n 2, 1) := dk_28 (dk_at dksX0_unlike_5 21 rfl rfl)
theorem dX0_unlike_137 : decode cX0_unlike 137 = .ok (.ireturn, 1) := dk_172 (dk_at dksX0_unlike_5 22 rfl rfl)
abbrev cX0_laysStreets : ByteArray := prog_1_method_79_code
def yX0_laysStreets : MethodName := ⟨RX0, "laysStreets", "(I)V"⟩
def dkwX0_laysStreets_3 : List UInt8 := [21, 4, 182, 1, 50, 79, 132, 3, 1, 167, 255, 192, 132, 2, 1, 167, 255, 173, 177]
abbrev dktX0_laysStreets_3 : List UInt8 := dkwX0_laysStreets_3 ++ []
def dkwX0_laysStreets_2 : List UInt8 := [180, 0, 74, 42, 28, 29, 182, 1, 50, 42, 42, 27, 28, 182, 1, 78, 4, 21, 4, 120, 2, 130, 126]
abbrev dktX0_laysStreets_2 : List UInt8 := dkwX0_laysStreets_2 ++ dktX0_laysStreets_3
def dkwX0_laysStreets_1 : List UInt8 := [162, 0, 59, 42, 180, 0, 65, 8, 27, 104, 29, 96, 46, 54, 4, 28, 29, 184, 0, 204, 154, 0, 33, 42]
abbrev dktX0_laysStreets_1 : List UInt8 := dkwX0_laysStreets_1 ++ dktX0_laysStreets_2
def dkwX0_laysStreets_0 : List UInt8 := [3, 61, 28, 42, 180, 0, 10, 182, 0, 161, 162, 0, 78, 3, 62, 29, 42, 180, 0, 10, 180, 0, 158]
abbrev dktX0_laysStreets_0 : List UInt8 := dkwX0_laysStreets_0 ++ dktX0_laysStreets_1
theorem dksX0_laysStreets_0 : cX0_laysStreets.data.toList.drop 0 = dktX0_laysStreets_0 := by decide +kernel
theorem dksX0_laysStreets_1 : cX0_laysStreets.data.toList.drop 23 = dktX0_laysStreets_1 := dk_seg dksX0_laysStreets_0 23 rfl rfl
theorem dksX0_laysStreets_2 : cX0_laysStreets.data.toList.drop 47 = dktX0_laysStreets_2 := dk_seg dksX0_laysStreets_1 24 rfl rfl
theorem dksX0_laysStreets_3 : cX0_laysStreets.data.toList.drop 70 = dktX0_laysStreets_3 := dk_seg dksX0_laysStreets_2 23 rfl rfl
theorem dX0_laysStreets_0 : decode cX0_laysStreets 0 = .ok (.iconst 0, 1) := dk_3 (dk_at dksX0_laysStreets_0 0 rfl rfl)
theorem dX0_laysStreets_1 : decode cX0_laysStreets 1 = .ok (.istore_n 2, 1) := dk_61 (dk_at dksX0_laysStreets_0 1 rfl rfl)
theorem dX0_laysStreets_2 : decode cX0_laysStreets 2 = .ok (.iload_n 2, 1) := dk_28 (dk_at dksX0_laysStreets_0 2 rfl rfl)
theorem dX0_laysStreets_3 : decode cX0_laysStreets 3 = .ok (.aload_n 0, 1) := dk_42 (dk_at dksX0_laysStreets_0 3 rfl rfl)
theorem dX0_laysStreets_4 : decode cX0_laysStreets 4 = .ok (.getfield 10, 3) := dk_180 0 10 (dk_at dksX0_laysStreets_0 4 rfl rfl)
theorem dX0_laysStreets_7 : decode cX0_laysStreets 7 = .ok (.invokevirtual 161, 3) := dk_182 0 161 (dk_at dksX0_laysStreets_0 7 rfl rfl)
theorem dX0_laysStreets_10 : decode cX0_laysStreets 10 = .ok (.if_icmp .ge 78, 3) := dk_162 0 78 (dk_at dksX0_laysStreets_0 10 rfl rfl)
theorem dX0_laysStreets_13 : decode cX0_laysStreets 13 = .ok (.iconst 0, 1) := dk_3 (dk_at dksX0_laysStreets_0 13 rfl rfl)
theorem dX0_laysStreets_14 : decode cX0_laysStreets 14 = .ok (.istore_n 3, 1) := dk_62 (dk_at dksX0_laysStreets_0 14 rfl rfl)
theorem dX0_laysStreets_15 : decode cX0_laysStreets 15 = .ok (.iload_n 3, 1) := dk_29 (dk_at dksX0_laysStreets_0 15 rfl rfl)
theorem dX0_laysStreets_16 : decode cX0_laysStreets 16 = .ok (.aload_n 0, 1) := dk_42 (dk_at dksX0_laysStreets_0 16 rfl rfl)
theorem dX0_laysStreets_17 : decode cX0_laysStreets 17 = .ok (.getfield 10, 3) := dk_180 0 10 (dk_at dksX0_laysStreets_0 17 rfl rfl)
theorem dX0_laysStreets_20 : decode cX0_laysStreets 20 = .ok (.getfield 158, 3) := dk_180 0 158 (dk_at dksX0_laysStreets_0 20 rfl rfl)
theorem dX0_laysStreets_23 : decode cX0_laysStreets 23 = .ok (.if_icmp .ge 59, 3) := dk_162 0 59 (dk_at dksX0_laysStreets_1 0 rfl rfl)
theorem dX0_laysStreets_26 : decode cX0_laysStreets 26 = .ok (.aload_n 0, 1) := dk_42 (dk_at dksX0_laysStreets_1 3 rfl rfl)
theorem dX0_laysStreets_27 : decode cX0_laysStreets 27 = .ok (.getfield 65, 3) := dk_180 0 65 (dk_at dksX0_laysStreets_1 4 rfl rfl)
theorem dX0_laysStreets_30 : decode cX0_laysStreets 30 = .ok (.iconst 5, 1) := dk_8 (dk_at dksX0_laysStreets_1 7 rfl rfl)
theorem dX0_laysStreets_31 : decode cX0_laysStreets 31 = .ok (.iload_n 1, 1) := dk_27 (dk_at dksX0_laysStreets_1 8 rfl rfl)
theorem dX0_laysStreets_32 : decode cX0_laysStreets 32 = .ok (.imul, 1) := dk_104 (dk_at dksX0_laysStreets_1 9 rfl rfl)
theorem dX0_laysStreets_33 : decode cX0_laysStreets 33 = .ok (.iload_n 3, 1) := dk_29 (dk_at dksX0_laysStreets_1 10 rfl rfl)
theorem dX0_laysStreets_34 : decode cX0_laysStreets 34 = .ok (.iadd, 1) := dk_96 (dk_at dksX0_laysStreets_1 11 rfl rfl)
theorem dX0_laysStreets_35 : decode cX0_laysStreets 35 = .ok (.iaload, 1) := dk_46 (dk_at dksX0_laysStreets_1 12 rfl rfl)
theorem dX0_laysStreets_36 : decode cX0_laysStreets 36 = .ok (.istore 4, 2) := dk_54 4 (dk_at dksX0_laysStreets_1 13 rfl rfl)
theorem dX0_laysStreets_38 : decode cX0_laysStreets 38 = .ok (.iload_n 2, 1) := dk_28 (dk_at dksX0_laysStreets_1 15 rfl rfl)
theorem dX0_laysStreets_39 : decode cX0_laysStreets 39 = .ok (.iload_n 3, 1) := dk_29 (dk_at dksX0_laysStreets_1 16 rfl rfl)
theorem dX0_laysStreets_40 : decode cX0_laysStreets 40 = .ok (.invokestatic 204, 3) := dk_184 0 204 (dk_at dksX0_laysStreets_1 17 rfl rfl)
theorem dX0_laysStreets_43 : decode cX0_laysStreets 43 = .ok (.ifCond .ne 33, 3) := dk_154 0 33 (dk_at dksX0_laysStreets_1 20 rfl rfl)
theorem dX0_laysStreets_46 : decode cX0_laysStreets 46 = .ok (.aload_n 0, 1) := dk_42 (dk_at dksX0_laysStreets_1 23 rfl rfl)
theorem dX0_laysStreets_47 : decode cX0_laysStreets 47 = .ok (.getfield 74, 3) := dk_180 0 74 (dk_at dksX0_laysStreets_2 0 rfl rfl)
theorem dX0_laysStreets_50 : decode cX0_laysStreets 50 = .ok (.aload_n 0, 1) := dk_42 (dk_at dksX0_laysStreets_2 3 rfl rfl)
theorem dX0_laysStreets_51 : decode cX0_laysStreets 51 = .ok (.iload_n 2, 1) := dk_28 (dk_at dksX0_laysStreets_2 4 rfl rfl)
theorem dX0_laysStreets_52 : decode cX0_laysStreets 52 = .ok (.iload_n 3, 1) := dk_29 (dk_at dksX0_laysStreets_2 5 rfl rfl)
theorem dX0_laysStreets_53 : decode cX0_laysStreets 53 = .ok (.invokevirtual 306, 3) := dk_182 1 50 (dk_at dksX0_laysStreets_2 6 rfl rfl)
theorem dX0_laysStreets_56 : decode cX0_laysStreets 56 = .ok (.aload_n 0, 1) := dk_42 (dk_at dksX0_laysStreets_2 9 rfl rfl)
theorem dX0_laysStreets_57 : decode cX0_laysStreets 57 = .ok (.aload_n 0, 1) := dk_42 (dk_at dksX0_laysStreets_2 10 rfl rfl)
theorem dX0_laysStreets_58 : decode cX0_laysStreets 58 = .ok (.iload_n 1, 1) := dk_27 (dk_at dksX0_laysStreets_2 11 rfl rfl)
theorem dX0_laysStreets_59 : decode cX0_laysStreets 59 = .ok (.iload_n 2, 1) := dk_28 (dk_at dksX0_laysStreets_2 12 rfl rfl)
theorem dX0_laysStreets_60 : decode cX0_laysStreets 60 = .ok (.invokevirtual 334, 3) := dk_182 1 78 (dk_at dksX0_laysStreets_2 13 rfl rfl)
theorem dX0_laysStreets_63 : decode cX0_laysStreets 63 = .ok (.iconst 1, 1) := dk_4 (dk_at dksX0_laysStreets_2 16 rfl rfl)
theorem dX0_laysStreets_64 : decode cX0_laysStreets 64 = .ok (.iload 4, 2) := dk_21 4 (dk_at dksX0_laysStreets_2 17 rfl rfl)
theorem dX0_laysStreets_66 : decode cX0_laysStreets 66 = .ok (.ishl, 1) := dk_120 (dk_at dksX0_laysStreets_2 19 rfl rfl)
theorem dX0_laysStreets_67 : decode cX0_laysStreets 67 = .ok (.iconst (-1), 1) := dk_2 (dk_at dksX0_laysStreets_2 20 rfl rfl)
theorem dX0_laysStreets_68 : decode cX0_laysStreets 68 = .ok (.ixor, 1) := dk_130 (dk_at dksX0_laysStreets_2 21 rfl rfl)
theorem dX0_laysStreets_69 : decode cX0_laysStreets 69 = .ok (.iand, 1) := dk_126 (dk_at dksX0_laysStreets_2 22 rfl rfl)
theorem dX0_laysStreets_70 : decode cX0_laysStreets 70 = .ok (.iload 4, 2) := dk_21 4 (dk_at dksX0_laysStreets_3 0 rfl rfl)
theorem dX0_laysStreets_72 : decode cX0_laysStreets 72 = .ok (.invokevirtual 306, 3) := dk_182 1 50 (dk_at dksX0_laysStreets_3 2 rfl rfl)
theorem dX0_laysStreets_75 : decode cX0_laysStreets 75 = .ok (.iastore, 1) := dk_79 (dk_at dksX0_laysStreets_3 5 rfl rfl)
theorem dX0_laysStreets_76 : decode cX0_laysStreets 76 = .ok (.iinc 3 1, 3) := dk_132 3 1 (dk_at dksX0_laysStreets_3 6 rfl rfl)
theorem dX0_laysStreets_79 : decode cX0_laysStreets 79 = .ok (.goto (-64), 3) := dk_167 255 192 (dk_at dksX0_laysStreets_3 9 rfl rfl)
theorem dX0_laysStreets_82 : decode cX0_laysStreets 82 = .ok (.iinc 2 1, 3) := dk_132 2 1 (dk_at dksX0_laysStreets_3 12 rfl rfl)
theorem dX0_laysStreets_85 : decode cX0_laysStreets 85 = .ok (.goto (-83), 3) := dk_167 255 173 (dk_at dksX0_laysStreets_3 15 rfl rfl)
theorem dX0_laysStreets_88 : decode cX0_laysStreets 88 = .ok (.return_, 1) := dk_177 (dk_at dksX0_laysStreets_3 18 rfl rfl)
abbrev cX0_streetsTurned : ByteArray := prog_1_method_80_code
def yX0_streetsTurned : MethodName := ⟨RX0, "streetsTurned", "(I)I"⟩
def dkwX0_streetsTurned_1 : List UInt8 := [4, 100, 126, 62, 167, 255, 232, 28, 172]
abbrev dktX0_streetsTurned_1 : List UInt8 := dkwX0_streetsTurned_1 ++ []
def dkwX0_streetsTurned_0 : List UInt8 := [3, 61, 27, 62, 29, 153, 0, 26, 28, 4, 42, 180, 0, 74, 29, 184, 0, 223, 46, 120, 128, 61, 29, 29]
abbrev dktX0_streetsTurned_0 : List UInt8 := dkwX0_streetsTurned_0 ++ dktX0_streetsTurned_1
theorem dksX0_streetsTurned_0 : cX0_streetsTurned.data.toList.drop 0 = dktX0_streetsTurned_0 := by decide +kernel
theorem dksX0_streetsTurned_1 : cX0_streetsTurned.data.toList.drop 24 = dktX0_streetsTurned_1 := dk_seg dksX0_streetsTurned_0 24 rfl rfl
theorem dX0_streetsTurned_0 : decode cX0_streetsTurned 0 = .ok (.iconst 0, 1) := dk_3 (dk_at dksX0_streetsTurned_0 0 rfl rfl)
theorem dX0_streetsTurned_1 : decode cX0_streetsTurned 1 = .ok (.istore_n 2, 1) := dk_61 (dk_at dksX0_streetsTurned_0 1 rfl rfl)
theorem dX0_streetsTurned_2 : decode cX0_streetsTurned 2 = .ok (.iload_n 1, 1) := dk_27 (dk_at dksX0_streetsTurned_0 2 rfl rfl)
theorem dX0_streetsTurned_3 : decode cX0_streetsTurned 3 = .ok (.istore_n 3, 1) := dk_62 (dk_at dksX0_streetsTurned_0 3 rfl rfl)
theorem dX0_streetsTurned_4 : decode cX0_streetsTurned 4 = .ok (.iload_n 3, 1) := dk_29 (dk_at dksX0_streetsTurned_0 4 rfl rfl)
theorem dX0_streetsTurned_5 : decode cX0_streetsTurned 5 = .ok (.ifCond .eq 26, 3) := dk_153 0 26 (dk_at dksX0_streetsTurned_0 5 rfl rfl)
theorem dX0_streetsTurned_8 : decode cX0_streetsTurned 8 = .ok (.iload_n 2, 1) := dk_28 (dk_at dksX0_streetsTurned_0 8 rfl rfl)
theorem dX0_streetsTurned_9 : decode cX0_streetsTurned 9 = .ok (.iconst 1, 1) := dk_4 (dk_at dksX0_streetsTurned_0 9 rfl rfl)
theorem dX0_streetsTurned_10 : decode cX0_streetsTurned 10 = .ok (.aload_n 0, 1) := dk_42 (dk_at dksX0_streetsTurned_0 10 rfl rfl)
theorem dX0_streetsTurned_11 : decode cX0_streetsTurned 11 = .ok (.getfield 74, 3) := dk_180 0 74 (dk_at dksX0_streetsTurned_0 11 rfl rfl)
theorem dX0_streetsTurned_14 : decode cX0_streetsTurned 14 = .ok (.iload_n 3, 1) := dk_29 (dk_at dksX0_streetsTurned_0 14 rfl rfl)
theorem dX0_streetsTurned_15 : decode cX0_streetsTurned 15 = .ok (.invokestatic 223, 3) := dk_184 0 223 (dk_at dksX0_streetsTurned_0 15 rfl rfl)
theorem dX0_streetsTurned_18 : decode cX0_streetsTurned 18 = .ok (.iaload, 1) := dk_46 (dk_at dksX0_streetsTurned_0 18 rfl rfl)
theorem dX0_streetsTurned_19 : decode cX0_streetsTurned 19 = .ok (.ishl, 1) := dk_120 (dk_at dksX0_streetsTurned_0 19 rfl rfl)
theorem dX0_streetsTurned_20 : decode cX0_streetsTurned 20 = .ok (.ior, 1) := dk_128 (dk_at dksX0_streetsTurned_0 20 rfl rfl)
theorem dX0_streetsTurned_21 : decode cX0_streetsTurned 21 = .ok (.istore_n 2, 1) := dk_61 (dk_at dksX0_streetsTurned_0 21 rfl rfl)
theorem dX0_streetsTurned_22 : decode cX0_streetsTurned 22 = .ok (.iload_n 3, 1) := dk_29 (dk_at dksX0_streetsTurned_0 22 rfl rfl)
theorem dX0_streetsTurned_23 : decode cX0_streetsTurned 23 = .ok (.iload_n 3, 1) := dk_29 (dk_at dksX0_streetsTurned_0 23 rfl rfl)
theorem dX0_streetsTurned_24 : decode cX0_streetsTurned 24 = .ok (.iconst 1, 1) := dk_4 (dk_at dksX0_streetsTurned_1 0 rfl rfl)
theorem dX0_streetsTurned_25 : decode cX0_streetsTurned 25 = .ok (.isub, 1) := dk_100 (dk_at dksX0_streetsTurned_1 1 rfl rfl)
theorem dX0_streetsTurned_26 : decode cX0_streetsTurned 26 = .ok (.iand, 1) := dk_126 (dk_at dksX0_streetsTurned_1 2 rfl rfl)
theorem dX0_streetsTurned_27 : decode cX0_streetsTurned 27 = .ok (.istore_n 3, 1) := dk_62 (dk_at dksX0_streetsTurned_1 3 rfl rfl)
theorem dX0_streetsTurned_28 : decode cX0_streetsTurned 28 = .ok (.goto (-24), 3) := dk_167 255 232 (dk_at dksX0_streetsTurned_1 4 rfl rfl)
theorem dX0_streetsTurned_31 : decode cX0_streetsTurned 31 = .ok (.iload_n 2, 1) := dk_28 (dk_at dksX0_streetsTurned_1 7 rfl rfl)
theorem dX0_streetsTurned_32 : decode cX0_streetsTurned 32 = .ok (.ireturn, 1) := dk_172 (dk_at dksX0_streetsTurned_1 8 rfl rfl)
abbrev cX0_bare : ByteArray := prog_1_method_84_code
def yX0_bare : MethodName := ⟨RX0, "bare", "()I"⟩
def dkwX0_bare_2 : List UInt8 := [167, 0, 4, 3, 128, 60, 132, 2, 1, 167, 255, 216, 42, 182, 1, 118, 27, 2, 130, 126, 184, 0, 195, 172]
abbrev dktX0_bare_2 : List UInt8 := dkwX0_bare_2 ++ []
def dkwX0_bare_1 : List UInt8 := [162, 0, 35, 27, 42, 180, 0, 10, 180, 1, 112, 28, 184, 0, 204, 153, 0, 11, 42, 28, 182, 1, 115]
abbrev dktX0_bare_1 : List UInt8 := dkwX0_bare_1 ++ dktX0_bare_2
def dkwX0_bare_0 : List UInt8 := [42, 182, 0, 233, 154, 0, 6, 16, 254, 172, 3, 60, 3, 61, 28, 42, 180, 0, 10, 182, 0, 161]
abbrev dktX0_bare_0 : List UInt8 := dkwX0_bare_0 ++ dktX0_bare_1
theorem dksX0_bare_0 : cX0_bare.data.toList.drop 0 = dktX0_bare_0 := by decide +kernel
theorem dksX0_bare_1 : cX0_bare.data.toList.drop 22 = dktX0_bare_1 := dk_seg dksX0_bare_0 22 rfl rfl
theorem dksX0_bare_2 : cX0_bare.data.toList.drop 45 = dktX0_bare_2 := dk_seg dksX0_bare_1 23 rfl rfl
theorem dX0_bare_0 : decode cX0_bare 0 = .ok (.aload_n 0, 1) := dk_42 (dk_at dksX0_bare_0 0 rfl rfl)
theorem dX0_bare_1 : decode cX0_bare 1 = .ok (.invokevirtual 233, 3) := dk_182 0 233 (dk_at dksX0_bare_0 1 rfl rfl)
theorem dX0_bare_4 : decode cX0_bare 4 = .ok (.ifCond .ne 6, 3) := dk_154 0 6 (dk_at dksX0_bare_0 4 rfl rfl)
theorem dX0_bare_7 : decode cX0_bare 7 = .ok (.bipush (-2), 2) := dk_16 254 (dk_at dksX0_bare_0 7 rfl rfl)
theorem dX0_bare_9 : decode cX0_bare 9 = .ok (.ireturn, 1) := dk_172 (dk_at dksX0_bare_0 9 rfl rfl)
theorem dX0_bare_10 : decode cX0_bare 10 = .ok (.iconst 0, 1) := dk_3 (dk_at dksX0_bare_0 10 rfl rfl)
theorem dX0_bare_11 : decode cX0_bare 11 = .ok (.istore_n 1, 1) := dk_60 (dk_at dksX0_bare_0 11 rfl rfl)
theorem dX0_bare_12 : decode cX0_bare 12 = .ok (.iconst 0, 1) := dk_3 (dk_at dksX0_bare_0 12 rfl rfl)
theorem dX0_bare_13 : decode cX0_bare 13 = .ok (.istore_n 2, 1) := dk_61 (dk_at dksX0_bare_0 13 rfl rfl)
theorem dX0_bare_14 : decode cX0_bare 14 = .ok (.iload_n 2, 1) := dk_28 (dk_at dksX0_bare_0 14 rfl rfl)
theorem dX0_bare_15 : decode cX0_bare 15 = .ok (.aload_n 0, 1) := dk_42 (dk_at dksX0_bare_0 15 rfl rfl)
theorem dX0_bare_16 : decode cX0_bare 16 = .ok (.getfield 10, 3) := dk_180 0 10 (dk_at dksX0_bare_0 16 rfl rfl)
theorem dX0_bare_19 : decode cX0_bare 19 = .ok (.invokevirtual 161, 3) := dk_182 0 161 (dk_at dksX0_bare_0 19 rfl rfl)
theorem dX0_bare_22 : decode cX0_bare 22 = .ok (.if_icmp .ge 35, 3) := dk_162 0 35 (dk_at dksX0_bare_1 0 rfl rfl)
theorem dX0_bare_25 : decode cX0_bare 25 = .ok (.iload_n 1, 1) := dk_27 (dk_at dksX0_bare_1 3 rfl rfl)
theorem dX0_bare_26 : decode cX0_bare 26 = .ok (.aload_n 0, 1) := dk_42 (dk_at dksX0_bare_1 4 rfl rfl)
theorem dX0_bare_27 : decode cX0_bare 27 = .ok (.getfield 10, 3) := dk_180 0 10 (dk_at dksX0_bare_1 5 rfl rfl)
theorem dX0_bare_30 : decode cX0_bare 30 = .ok (.getfield 368, 3) := dk_180 1 112 (dk_at dksX0_bare_1 8 rfl rfl)
theorem dX0_bare_33 : decode cX0_bare 33 = .ok (.iload_n 2, 1) := dk_28 (dk_at dksX0_bare_1 11 rfl rfl)
theorem dX0_bare_34 : decode cX0_bare 34 = .ok (.invokestatic 204, 3) := dk_184 0 204 (dk_at dksX0_bare_1 12 rfl rfl)
theorem dX0_bare_37 : decode cX0_bare 37 = .ok (.ifCond .eq 11, 3) := dk_153 0 11 (dk_at dksX0_bare_1 15 rfl rfl)
theorem dX0_bare_40 : decode cX0_bare 40 = .ok (.aload_n 0, 1) := dk_42 (dk_at dksX0_bare_1 18 rfl rfl)
theorem dX0_bare_41 : decode cX0_bare 41 = .ok (.iload_n 2, 1) := dk_28 (dk_at dksX0_bare_1 19 rfl rfl)
theorem dX0_bare_42 : decode cX0_bare 42 = .ok (.invokevirtual 371, 3) := dk_182 1 115 (dk_at dksX0_bare_1 20 rfl rfl)
theorem dX0_bare_45 : decode cX0_bare 45 = .ok (.goto 4, 3) := dk_167 0 4 (dk_at dksX0_bare_2 0 rfl rfl)
theorem dX0_bare_48 : decode cX0_bare 48 = .ok (.iconst 0, 1) := dk_3 (dk_at dksX0_bare_2 3 rfl rfl)
theorem dX0_bare_49 : decode cX0_bare 49 = .ok (.ior, 1) := dk_128 (dk_at dksX0_bare_2 4 rfl rfl)
theorem dX0_bare_50 : decode cX0_bare 50 = .ok (.istore_n 1, 1) := dk_60 (dk_at dksX0_bare_2 5 rfl rfl)
theorem dX0_bare_51 : decode cX0_bare 51 = .ok (.iinc 2 1, 3) := dk_132 2 1 (dk_at dksX0_bare_2 6 rfl rfl)
theorem dX0_bare_54 : decode cX0_bare 54 = .ok (.goto (-40), 3) := dk_167 255 216 (dk_at dksX0_bare_2 9 rfl rfl)
theorem dX0_bare_57 : decode cX0_bare 57 = .ok (.aload_n 0, 1) := dk_42 (dk_at dksX0_bare_2 12 rfl rfl)
theorem dX0_bare_58 : decode cX0_bare 58 = .ok (.invokevirtual 374, 3) := dk_182 1 118 (dk_at dksX0_bare_2 13 rfl rfl)
theorem dX0_bare_61 : decode cX0_bare 61 = .ok (.iload_n 1, 1) := dk_27 (dk_at dksX0_bare_2 16 rfl rfl)
theorem dX0_bare_62 : decode cX0_bare 62 = .ok (.iconst (-1), 1) := dk_2 (dk_at dksX0_bare_2 17 rfl rfl)
theorem dX0_bare_63 : decode cX0_bare 63 = .ok (.ixor, 1) := dk_130 (dk_at dksX0_bare_2 18 rfl rfl)
theorem dX0_bare_64 : decode cX0_bare 64 = .ok (.iand, 1) := dk_126 (dk_at dksX0_bare_2 19 rfl rfl)
theorem dX0_bare_65 : decode cX0_bare 65 = .ok (.invokestatic 195, 3) := dk_184 0 195 (dk_at dksX0_bare_2 20 rfl rfl)
theorem dX0_bare_68 : decode cX0_bare 68 = .ok (.ireturn, 1) := dk_172 (dk_at dksX0_bare_2 23 rfl rfl)
abbrev cX0_watchedBy : ByteArray := prog_1_method_82_code
def yX0_watchedBy : MethodName := ⟨RX0, "watchedBy", "(I)I"⟩
def dkwX0_watchedBy_1 : List UInt8 := [182, 0, 181, 153, 0, 13, 28, 4, 27, 4, 29, 120, 130, 120, 128, 61, 132, 3, 1, 167, 255, 220, 28, 172]
abbrev dktX0_watchedBy_1 : List UInt8 := dkwX0_watchedBy_1 ++ []
def dkwX0_watchedBy_0 : List UInt8 := [4, 27, 120, 61, 3, 62, 29, 42, 180, 0, 10, 180, 0, 158, 162, 0, 31, 42, 180, 0, 10, 27, 29]
abbrev dktX0_watchedBy_0 : List UInt8 := dkwX0_watchedBy_0 ++ dktX0_watchedBy_1
theorem dksX0_watchedBy_0 : cX0_watchedBy.data.toList.drop 0 = dktX0_watchedBy_0 := by decide +kernel
theorem dksX0_watchedBy_1 : cX0_watchedBy.data.toList.drop 23 = dktX0_watchedBy_1 := dk_seg dksX0_watchedBy_0 23 rfl rfl
theorem dX0_watchedBy_0 : decode cX0_watchedBy 0 = .ok (.iconst 1, 1) := dk_4 (dk_at dksX0_watchedBy_0 0 rfl rfl)
theorem dX0_watchedBy_1 : decode cX0_watchedBy 1 = .ok (.iload_n 1, 1) := dk_27 (dk_at dksX0_watchedBy_0 1 rfl rfl)
theorem dX0_watchedBy_2 : decode cX0_watchedBy 2 = .ok (.ishl, 1) := dk_120 (dk_at dksX0_watchedBy_0 2 rfl rfl)
theorem dX0_watchedBy_3 : decode cX0_watchedBy 3 = .ok (.istore_n 2, 1) := dk_61 (dk_at dksX0_watchedBy_0 3 rfl rfl)
theorem dX0_watchedBy_4 : decode cX0_watchedBy 4 = .ok (.iconst 0, 1) := dk_3 (dk_at dksX0_watchedBy_0 4 rfl rfl)
theorem dX0_watchedBy_5 : decode cX0_watchedBy 5 = .ok (.istore_n 3, 1) := dk_62 (dk_at dksX0_watchedBy_0 5 rfl rfl)
theorem dX0_watchedBy_6 : decode cX0_watchedBy 6 = .ok (.iload_n 3, 1) := dk_29 (dk_at dksX0_watchedBy_0 6 rfl rfl)
theorem dX0_watchedBy_7 : decode cX0_watchedBy 7 = .ok (.aload_n 0, 1) := dk_42 (dk_at dksX0_watchedBy_0 7 rfl rfl)
theorem dX0_watchedBy_8 : decode cX0_watchedBy 8 = .ok (.getfield 10, 3) := dk_180 0 10 (dk_at dksX0_watchedBy_0 8 rfl rfl)
theorem dX0_watchedBy_11 : decode cX0_watchedBy 11 = .ok (.getfield 158, 3) := dk_180 0 158 (dk_at dksX0_watchedBy_0 11 rfl rfl)
theorem dX0_watchedBy_14 : decode cX0_watchedBy 14 = .ok (.if_icmp .ge 31, 3) := dk_162 0 31 (dk_at dksX0_watchedBy_0 14 rfl rfl)
theorem dX0_watchedBy_17 : decode cX0_watchedBy 17 = .ok (.aload_n 0, 1) := dk_42 (dk_at dksX0_watchedBy_0 17 rfl rfl)
theorem dX0_watchedBy_18 : decode cX0_watchedBy 18 = .ok (.getfield 10, 3) := dk_180 0 10 (dk_at dksX0_watchedBy_0 18 rfl rfl)
theorem dX0_watchedBy_21 : decode cX0_watchedBy 21 = .ok (.iload_n 1, 1) := dk_27 (dk_at dksX0_watchedBy_0 21 rfl rfl)
theorem dX0_watchedBy_22 : decode cX0_watchedBy 22 = .ok (.iload_n 3, 1) := dk_29 (dk_at dksX0_watchedBy_0 22 rfl rfl)
theorem dX0_watchedBy_23 : decode cX0_watchedBy 23 = .ok (.invokevirtual 181, 3) := dk_182 0 181 (dk_at dksX0_watchedBy_1 0 rfl rfl)
theorem dX0_watchedBy_26 : decode cX0_watchedBy 26 = .ok (.ifCond .eq 13, 3) := dk_153 0 13 (dk_at dksX0_watchedBy_1 3 rfl rfl)
theorem dX0_watchedBy_29 : decode cX0_watchedBy 29 = .ok (.iload_n 2, 1) := dk_28 (dk_at dksX0_watchedBy_1 6 rfl rfl)
theorem dX0_watchedBy_30 : decode cX0_watchedBy 30 = .ok (.iconst 1, 1) := dk_4 (dk_at dksX0_watchedBy_1 7 rfl rfl)
theorem dX0_watchedBy_31 : decode cX0_watchedBy 31 = .ok (.iload_n 1, 1) := dk_27 (dk_at dksX0_watchedBy_1 8 rfl rfl)
theorem dX0_watchedBy_32 : decode cX0_watchedBy 32 = .ok (.iconst 1, 1) := dk_4 (dk_at dksX0_watchedBy_1 9 rfl rfl)
theorem dX0_watchedBy_33 : decode cX0_watchedBy 33 = .ok (.iload_n 3, 1) := dk_29 (dk_at dksX0_watchedBy_1 10 rfl rfl)
theorem dX0_watchedBy_34 : decode cX0_watchedBy 34 = .ok (.ishl, 1) := dk_120 (dk_at dksX0_watchedBy_1 11 rfl rfl)
theorem dX0_watchedBy_35 : decode cX0_watchedBy 35 = .ok (.ixor, 1) := dk_130 (dk_at dksX0_watchedBy_1 12 rfl rfl)
theorem dX0_watchedBy_36 : decode cX0_watchedBy 36 = .ok (.ishl, 1) := dk_120 (dk_at dksX0_watchedBy_1 13 rfl rfl)
theorem dX0_watchedBy_37 : decode cX0_watchedBy 37 = .ok (.ior, 1) := dk_128 (dk_at dksX0_watchedBy_1 14 rfl rfl)
theorem dX0_watchedBy_38 : decode cX0_watchedBy 38 = .ok (.istore_n 2, 1) := dk_61 (dk_at dksX0_watchedBy_1 15 rfl rfl)
theorem dX0_watchedBy_39 : decode cX0_watchedBy 39 = .ok (.iinc 3 1, 3) := dk_132 3 1 (dk_at dksX0_watchedBy_1 16 rfl rfl)
theorem dX0_watchedBy_42 : decode cX0_watchedBy 42 = .ok (.goto (-36), 3) := dk_167 255 220 (dk_at dksX0_watchedBy_1 19 rfl rfl)
theorem dX0_watchedBy_45 : decode cX0_watchedBy 45 = .ok (.iload_n 2, 1) := dk_28 (dk_at dksX0_watchedBy_1 22 rfl rfl)
theorem dX0_watchedBy_46 : decode cX0_watchedBy 46 = .ok (.ireturn, 1) := dk_172 (dk_at dksX0_watchedBy_1 23 rfl rfl)
abbrev cX0_all : ByteArray := prog_1_method_83_code
def yX0_all : MethodName := ⟨RX0, "all", "()I"⟩
def dkwX0_all_1 : List UInt8 := [4, 100, 172]
abbrev dktX0_all_1 : List UInt8 := dkwX0_all_1 ++ []
def dkwX0_all_0 : List UInt8 := [42, 180, 0, 10, 180, 0, 158, 8, 160, 0, 7, 2, 167, 0, 14, 4, 42, 180, 0, 10, 182, 0, 161, 120]
abbrev dktX0_all_0 : List UInt8 := dkwX0_all_0 ++ dktX0_all_1
theorem dksX0_all_0 : cX0_all.data.toList.drop 0 = dktX0_all_0 := by decide +kernel
theorem dksX0_all_1 : cX0_all.data.toList.drop 24 = dktX0_all_1 := dk_seg dksX0_all_0 24 rfl rfl
theorem dX0_all_0 : decode cX0_all 0 = .ok (.aload_n 0, 1) := dk_42 (dk_at dksX0_all_0 0 rfl rfl)
theorem dX0_all_1 : decode cX0_all 1 = .ok (.getfield 10, 3) := dk_180 0 10 (dk_at dksX0_all_0 1 rfl rfl)
theorem dX0_all_4 : decode cX0_all 4 = .ok (.getfield 158, 3) := dk_180 0 158 (dk_at dksX0_all_0 4 rfl rfl)
theorem dX0_all_7 : decode cX0_all 7 = .ok (.iconst 5, 1) := dk_8 (dk_at dksX0_all_0 7 rfl rfl)
theorem dX0_all_8 : decode cX0_all 8 = .ok (.if_icmp .ne 7, 3) := dk_160 0 7 (dk_at dksX0_all_0 8 rfl rfl)
theorem dX0_all_11 : decode cX0_all 11 = .ok (.iconst (-1), 1) := dk_2 (dk_at dksX0_all_0 11 rfl rfl)
theorem dX0_all_12 : decode cX0_all 12 = .ok (.goto 14, 3) := dk_167 0 14 (dk_at dksX0_all_0 12 rfl rfl)
theorem dX0_all_15 : decode cX0_all 15 = .ok (.iconst 1, 1) := dk_4 (dk_at dksX0_all_0 15 rfl rfl)
theorem dX0_all_16 : decode cX0_all 16 = .ok (.aload_n 0, 1) := dk_42 (dk_at dksX0_all_0 16 rfl rfl)
theorem dX0_all_17 : decode cX0_all 17 = .ok (.getfield 10, 3) := dk_180 0 10 (dk_at dksX0_all_0 17 rfl rfl)
theorem dX0_all_20 : decode cX0_all 20 = .ok (.invokevirtual 161, 3) := dk_182 0 161 (dk_at dksX0_all_0 20 rfl rfl)
theorem dX0_all_23 : decode cX0_all 23 = .ok (.ishl, 1) := dk_120 (dk_at dksX0_all_0 23 rfl rfl)
theorem dX0_all_24 : decode cX0_all 24 = .ok (.iconst 1, 1) := dk_4 (dk_at dksX0_all_1 0 rfl rfl)
theorem dX0_all_25 : decode cX0_all 25 = .ok (.isub, 1) := dk_100 (dk_at dksX0_all_1 1 rfl rfl)
theorem dX0_all_26 : decode cX0_all 26 = .ok (.ireturn, 1) := dk_172 (dk_at dksX0_all_1 2 rfl rfl)
abbrev cX0_warden : ByteArray := prog_1_method_85_code
def yX0_warden : MethodName := ⟨RX0, "warden", "(II)I"⟩
def dkwX0_warden_2 : List UInt8 := [180, 1, 112, 4, 27, 120, 2, 130, 126, 28, 27, 120, 128, 181, 1, 112, 29, 172]
abbrev dktX0_warden_2 : List UInt8 := dkwX0_warden_2 ++ []
def dkwX0_warden_1 : List UInt8 := [180, 1, 112, 27, 184, 0, 204, 153, 0, 7, 4, 167, 0, 4, 3, 62, 42, 180, 0, 10, 42, 180, 0, 10]
abbrev dktX0_warden_1 : List UInt8 := dkwX0_warden_1 ++ dktX0_warden_2
def dkwX0_warden_0 : List UInt8 := [42, 27, 133, 182, 0, 167, 153, 0, 11, 28, 5, 184, 0, 185, 154, 0, 6, 16, 254, 172, 42, 180, 0, 10]
abbrev dktX0_warden_0 : List UInt8 := dkwX0_warden_0 ++ dktX0_warden_1
theorem dksX0_warden_0 : cX0_warden.data.toList.drop 0 = dktX0_warden_0 := by decide +kernel
theorem dksX0_warden_1 : cX0_warden.data.toList.drop 24 = dktX0_warden_1 := dk_seg dksX0_warden_0 24 rfl rfl
theorem dksX0_warden_2 : cX0_warden.data.toList.drop 48 = dktX0_warden_2 := dk_seg dksX0_warden_1 24 rfl rfl
theorem dX0_warden_0 : decode cX0_warden 0 = .ok (.aload_n 0, 1) := dk_42 (dk_at dksX0_warden_0 0 rfl rfl)
theorem dX0_warden_1 : decode cX0_warden 1 = .ok (.iload_n 1, 1) := dk_27 (dk_at dksX0_warden_0 1 rfl rfl)
theorem dX0_warden_2 : decode cX0_warden 2 = .ok (.i2l, 1) := dk_133 (dk_at dksX0_warden_0 2 rfl rfl)
theorem dX0_warden_3 : decode cX0_warden 3 = .ok (.invokevirtual 167, 3) := dk_182 0 167 (dk_at dksX0_warden_0 3 rfl rfl)
theorem dX0_warden_6 : decode cX0_warden 6 = .ok (.ifCond .eq 11, 3) := dk_153 0 11 (dk_at dksX0_warden_0 6 rfl rfl)
theorem dX0_warden_9 : decode cX0_warden 9 = .ok (.iload_n 2, 1) := dk_28 (dk_at dksX0_warden_0 9 rfl rfl)
theorem dX0_warden_10 : decode cX0_warden 10 = .ok (.iconst 2, 1) := dk_5 (dk_at dksX0_warden_0 10 rfl rfl)
theorem dX0_warden_11 : decode cX0_warden 11 = .ok (.invokestatic 185, 3) := dk_184 0 185 (dk_at dksX0_warden_0 11 rfl rfl)
theorem dX0_warden_14 : decode cX0_warden 14 = .ok (.ifCond .ne 6, 3) := dk_154 0 6 (dk_at dksX0_warden_0 14 rfl rfl)
theorem dX0_warden_17 : decode cX0_warden 17 = .ok (.bipush (-2), 2) := dk_16 254 (dk_at dksX0_warden_0 17 rfl rfl)
theorem dX0_warden_19 : decode cX0_warden 19 = .ok (.ireturn, 1) := dk_172 (dk_at dksX0_warden_0 19 rfl rfl)
theorem dX0_warden_20 : decode cX0_warden 20 = .ok (.aload_n 0, 1) := dk_42 (dk_at dksX0_warden_0 20 rfl rfl)
theorem dX0_warden_21 : decode cX0_warden 21 = .ok (.getfield 10, 3) := dk_180 0 10 (dk_at dksX0_warden_0 21 rfl rfl)
theorem dX0_warden_24 : decode cX0_warden 24 = .ok (.getfield 368, 3) := dk_180 1 112 (dk_at dksX0_warden_1 0 rfl rfl)
theorem dX0_warden_27 : decode cX0_warden 27 = .ok (.iload_n 1, 1) := dk_27 (dk_at dksX0_warden_1 3 rfl rfl)
theorem dX0_warden_28 : decode cX0_warden 28 = .ok (.invokestatic 204, 3) := dk_184 0 204 (dk_at dksX0_warden_1 4 rfl rfl)
theorem dX0_warden_31 : decode cX0_warden 31 = .ok (.ifCond .eq 7, 3) := dk_153 0 7 (dk_at dksX0_warden_1 7 rfl rfl)
theorem dX0_warden_34 : decode cX0_warden 34 = .ok (.iconst 1, 1) := dk_4 (dk_at dksX0_warden_1 10 rfl rfl)
theorem dX0_warden_35 : decode cX0_warden 35 = .ok (.goto 4, 3) := dk_167 0 4 (dk_at dksX0_warden_1 11 rfl rfl)
theorem dX0_warden_38 : decode cX0_warden 38 = .ok (.iconst 0, 1) := dk_3 (dk_at dksX0_warden_1 14 rfl rfl)
theorem dX0_warden_39 : decode cX0_warden 39 = .ok (.istore_n 3, 1) := dk_62 (dk_at dksX0_warden_1 15 rfl rfl)
theorem dX0_warden_40 : decode cX0_warden 40 = .ok (.aload_n 0, 1) := dk_42 (dk_at dksX0_warden_1 16 rfl rfl)
theorem dX0_warden_41 : decode cX0_warden 41 = .ok (.getfield 10, 3) := dk_180 0 10 (dk_at dksX0_warden_1 17 rfl rfl)
theorem dX0_warden_44 : decode cX0_warden 44 = .ok (.aload_n 0, 1) := dk_42 (dk_at dksX0_warden_1 20 rfl rfl)
theorem dX0_warden_45 : decode cX0_warden 45 = .ok (.getfield 10, 3) := dk_180 0 10 (dk_at dksX0_warden_1 21 rfl rfl)
theorem dX0_warden_48 : decode cX0_warden 48 = .ok (.getfield 368, 3) := dk_180 1 112 (dk_at dksX0_warden_2 0 rfl rfl)
theorem dX0_warden_51 : decode cX0_warden 51 = .ok (.iconst 1, 1) := dk_4 (dk_at dksX0_warden_2 3 rfl rfl)
theorem dX0_warden_52 : decode cX0_warden 52 = .ok (.iload_n 1, 1) := dk_27 (dk_at dksX0_warden_2 4 rfl rfl)
theorem dX0_warden_53 : decode cX0_warden 53 = .ok (.ishl, 1) := dk_120 (dk_at dksX0_warden_2 5 rfl rfl)
theorem dX0_warden_54 : decode cX0_warden 54 = .ok (.iconst (-1), 1) := dk_2 (dk_at dksX0_warden_2 6 rfl rfl)
theorem dX0_warden_55 : decode cX0_warden 55 = .ok (.ixor, 1) := dk_130 (dk_at dksX0_warden_2 7 rfl rfl)
theorem dX0_warden_56 : decode cX0_warden 56 = .ok (.iand, 1) := dk_126 (dk_at dksX0_warden_2 8 rfl rfl)
theorem dX0_warden_57 : decode cX0_warden 57 = .ok (.iload_n 2, 1) := dk_28 (dk_at dksX0_warden_2 9 rfl rfl)
theorem dX0_warden_58 : decode cX0_warden 58 = .ok (.iload_n 1, 1) := dk_27 (dk_at dksX0_warden_2 10 rfl rfl)
theorem dX0_warden_59 : decode cX0_warden 59 = .ok (.ishl, 1) := dk_120 (dk_at dksX0_warden_2 11 rfl rfl)
theorem dX0_warden_60 : decode cX0_warden 60 = .ok (.ior, 1) := dk_128 (dk_at dksX0_warden_2 12 rfl rfl)
theorem dX0_warden_61 : decode cX0_warden 61 = .ok (.putfield 368, 3) := dk_181 1 112 (dk_at dksX0_warden_2 13 rfl rfl)
theorem dX0_warden_64 : decode cX0_warden 64 = .ok (.iload_n 3, 1) := dk_29 (dk_at dksX0_warden_2 16 rfl rfl)
theorem dX0_warden_65 : decode cX0_warden 65 = .ok (.ireturn, 1) := dk_172 (dk_at dksX0_warden_2 17 rfl rfl)
abbrev cX0_fewest : ByteArray := prog_1_method_90_code
def yX0_fewest : MethodName := ⟨RX0, "fewest", "(I)I"⟩
def dkwX0_fewest_4 : List UInt8 := [154, 0, 7, 29, 167, 0, 15, 27, 4, 160, 0, 8, 21, 4, 167, 0, 5, 21, 5, 172]
abbrev dktX0_fewest_4 : List UInt8 := dkwX0_fewest_4 ++ []
def dkwX0_fewest_3 : List UInt8 := [21, 5, 2, 160, 0, 8, 21, 6, 167, 0, 5, 21, 5, 54, 5, 132, 6, 1, 167, 255, 200, 27]
abbrev dktX0_fewest_3 : List UInt8 := dkwX0_fewest_3 ++ dktX0_fewest_4
def dkwX0_fewest_2 : List UInt8 := [160, 0, 38, 42, 180, 0, 81, 21, 6, 46, 42, 182, 1, 118, 159, 0, 6, 167, 0, 21, 132, 4, 1]
abbrev dktX0_fewest_2 : List UInt8 := dkwX0_fewest_2 ++ dktX0_fewest_3
def dkwX0_fewest_1 : List UInt8 := [54, 4, 2, 54, 5, 3, 54, 6, 21, 6, 42, 182, 1, 121, 162, 0, 53, 21, 6, 184, 0, 195, 29]
abbrev dktX0_fewest_1 : List UInt8 := dkwX0_fewest_1 ++ dktX0_fewest_2
def dkwX0_fewest_0 : List UInt8 := [42, 27, 6, 184, 0, 185, 182, 1, 126, 61, 28, 156, 0, 5, 28, 172, 42, 3, 182, 1, 129, 62, 3]
abbrev dktX0_fewest_0 : List UInt8 := dkwX0_fewest_0 ++ dktX0_fewest_1
theorem dksX0_fewest_0 : cX0_fewest.data.toList.drop 0 = dktX0_fewest_0 := by decide +kernel
theorem dksX0_fewest_1 : cX0_fewest.data.toList.drop 23 = dktX0_fewest_1 := dk_seg dksX0_fewest_0 23 rfl rfl
theorem dksX0_fewest_2 : cX0_fewest.data.toList.drop 46 = dktX0_fewest_2 := dk_seg dksX0_fewest_1 23 rfl rfl
theorem dksX0_fewest_3 : cX0_fewest.data.toList.drop 69 = dktX0_fewest_3 := dk_seg dksX0_fewest_2 23 rfl rfl
theorem dksX0_fewest_4 : cX0_fewest.data.toList.drop 91 = dktX0_fewest_4 := dk_seg dksX0_fewest_3 22 rfl rfl
theorem dX0_fewest_0 : decode cX0_fewest 0 = .ok (.aload_n 0, 1) := dk_42 (dk_at dksX0_fewest_0 0 rfl rfl)
theorem dX0_fewest_1 : decode cX0_fewest 1 = .ok (.iload_n 1, 1) := dk_27 (dk_at dksX0_fewest_0 1 rfl rfl)
theorem dX0_fewest_2 : decode cX0_fewest 2 = .ok (.iconst 3, 1) := dk_6 (dk_at dksX0_fewest_0 2 rfl rfl)
theorem dX0_fewest_3 : decode cX0_fewest 3 = .ok (.invokestatic 185, 3) := dk_184 0 185 (dk_at dksX0_fewest_0 3 rfl rfl)
theorem dX0_fewest_6 : decode cX0_fewest 6 = .ok (.invokevirtual 382, 3) := dk_182 1 126 (dk_at dksX0_fewest_0 6 rfl rfl)
theorem dX0_fewest_9 : decode cX0_fewest 9 = .ok (.istore_n 2, 1) := dk_61 (dk_at dksX0_fewest_0 9 rfl rfl)
theorem dX0_fewest_10 : decode cX0_fewest 10 = .ok (.iload_n 2, 1) := dk_28 (dk_at dksX0_fewest_0 10 rfl rfl)
theorem dX0_fewest_11 : decode cX0_fewest 11 = .ok (.ifCond .ge 5, 3) := dk_156 0 5 (dk_at dksX0_fewest_0 11 rfl rfl)
theorem dX0_fewest_14 : decode cX0_fewest 14 = .ok (.iload_n 2, 1) := dk_28 (dk_at dksX0_fewest_0 14 rfl rfl)
theorem dX0_fewest_15 : decode cX0_fewest 15 = .ok (.ireturn, 1) := dk_172 (dk_at dksX0_fewest_0 15 rfl rfl)
theorem dX0_fewest_16 : decode cX0_fewest 16 = .ok (.aload_n 0, 1) := dk_42 (dk_at dksX0_fewest_0 16 rfl rfl)
theorem dX0_fewest_17 : decode cX0_fewest 17 = .ok (.iconst 0, 1) := dk_3 (dk_at dksX0_fewest_0 17 rfl rfl)
theorem dX0_fewest_18 : decode cX0_fewest 18 = .ok (.invokevirtual 385, 3) := dk_182 1 129 (dk_at dksX0_fewest_0 18 rfl rfl)
theorem dX0_fewest_21 : decode cX0_fewest 21 = .ok (.istore_n 3, 1) := dk_62 (dk_at dksX0_fewest_0 21 rfl rfl)
theorem dX0_fewest_22 : decode cX0_fewest 22 = .ok (.iconst 0, 1) := dk_3 (dk_at dksX0_fewest_0 22 rfl rfl)
theorem dX0_fewest_23 : decode cX0_fewest 23 = .ok (.istore 4, 2) := dk_54 4 (dk_at dksX0_fewest_1 0 rfl rfl)
theorem dX0_fewest_25 : decode cX0_fewest 25 = .ok (.iconst (-1), 1) := dk_2 (dk_at dksX0_fewest_1 2 rfl rfl)
theorem dX0_fewest_26 : decode cX0_fewest 26 = .ok (.istore 5, 2) := dk_54 5 (dk_at dksX0_fewest_1 3 rfl rfl)
theorem dX0_fewest_28 : decode cX0_fewest 28 = .ok (.iconst 0, 1) := dk_3 (dk_at dksX0_fewest_1 5 rfl rfl)
theorem dX0_fewest_29 : decode cX0_fewest 29 = .ok (.istore 6, 2) := dk_54 6 (dk_at dksX0_fewest_1 6 rfl rfl)
theorem dX0_fewest_31 : decode cX0_fewest 31 = .ok (.iload 6, 2) := dk_21 6 (dk_at dksX0_fewest_1 8 rfl rfl)
theorem dX0_fewest_33 : decode cX0_fewest 33 = .ok (.aload_n 0, 1) := dk_42 (dk_at dksX0_fewest_1 10 rfl rfl)
theorem dX0_fewest_34 : decode cX0_fewest 34 = .ok (.invokevirtual 377, 3) := dk_182 1 121 (dk_at dksX0_fewest_1 11 rfl rfl)
theorem dX0_fewest_37 : decode cX0_fewest 37 = .ok (.if_icmp .ge 53, 3) := dk_162 0 53 (dk_at dksX0_fewest_1 14 rfl rfl)
theorem dX0_fewest_40 : decode cX0_fewest 40 = .ok (.iload 6, 2) := dk_21 6 (dk_at dksX0_fewest_1 17 rfl rfl)
theorem dX0_fewest_42 : decode cX0_fewest 42 = .ok (.invokestatic 195, 3) := dk_184 0 195 (dk_at dksX0_fewest_1 19 rfl rfl)
theorem dX0_fewest_45 : decode cX0_fewest 45 = .ok (.iload_n 3, 1) := dk_29 (dk_at dksX0_fewest_1 22 rfl rfl)
theorem dX0_fewest_46 : decode cX0_fewest 46 = .ok (.if_icmp .ne 38, 3) := dk_160 0 38 (dk_at dksX0_fewest_2 0 rfl rfl)
theorem dX0_fewest_49 : decode cX0_fewest 49 = .ok (.aload_n 0, 1) := dk_42 (dk_at dksX0_fewest_2 3 rfl rfl)
theorem dX0_fewest_50 : decode cX0_fewest 50 = .ok (.getfield 81, 3) := dk_180 0 81 (dk_at dksX0_fewest_2 4 rfl rfl)
theorem dX0_fewest_53 : decode cX0_fewest 53 = .ok (.iload 6, 2) := dk_21 6 (dk_at dksX0_fewest_2 7 rfl rfl)
theorem dX0_fewest_55 : decode cX0_fewest 55 = .ok (.iaload, 1) := dk_46 (dk_at dksX0_fewest_2 9 rfl rfl)
theorem dX0_fewest_56 : decode cX0_fewest 56 = .ok (.aload_n 0, 1) := dk_42 (dk_at dksX0_fewest_2 10 rfl rfl)
theorem dX0_fewest_57 : decode cX0_fewest 57 = .ok (.invokevirtual 374, 3) := dk_182 1 118 (dk_at dksX0_fewest_2 11 rfl rfl)
theorem dX0_fewest_60 : decode cX0_fewest 60 = .ok (.if_icmp .eq 6, 3) := dk_159 0 6 (dk_at dksX0_fewest_2 14 rfl rfl)
theorem dX0_fewest_63 : decode cX0_fewest 63 = .ok (.goto 21, 3) := dk_167 0 21 (dk_at dksX0_fewest_2 17 rfl rfl)
theorem dX0_fewest_66 : decode cX0_fewest 66 = .ok (.iinc 4 1, 3) := dk_132 4 1 (dk_at dksX0_fewest_2 20 rfl rfl)
theorem dX0_fewest_69 : decode cX0_fewest 69 = .ok (.iload 5, 2) := dk_21 5 (dk_at dksX0_fewest_3 0 rfl rfl)
theorem dX0_fewest_71 : decode cX0_fewest 71 = .ok (.iconst (-1), 1) := dk_2 (dk_at dksX0_fewest_3 2 rfl rfl)
theorem dX0_fewest_72 : decode cX0_fewest 72 = .ok (.if_icmp .ne 8, 3) := dk_160 0 8 (dk_at dksX0_fewest_3 3 rfl rfl)
theorem dX0_fewest_75 : decode cX0_fewest 75 = .ok (.iload 6, 2) := dk_21 6 (dk_at dksX0_fewest_3 6 rfl rfl)
theorem dX0_fewest_77 : decode cX0_fewest 77 = .ok (.goto 5, 3) := dk_167 0 5 (dk_at dksX0_fewest_3 8 rfl rfl)
theorem dX0_fewest_80 : decode cX0_fewest 80 = .ok (.iload 5, 2) := dk_21 5 (dk_at dksX0_fewest_3 11 rfl rfl)
theorem dX0_fewest_82 : decode cX0_fewest 82 = .ok (.istore 5, 2) := dk_54 5 (dk_at dksX0_fewest_3 13 rfl rfl)
theorem dX0_fewest_84 : decode cX0_fewest 84 = .ok (.iinc 6 1, 3) := dk_132 6 1 (dk_at dksX0_fewest_3 15 rfl rfl)
theorem dX0_fewest_87 : decode cX0_fewest 87 = .ok (.goto (-56), 3) := dk_167 255 200 (dk_at dksX0_fewest_3 18 rfl rfl)
theorem dX0_fewest_90 : decode cX0_fewest 90 = .ok (.iload_n 1, 1) := dk_27 (dk_at dksX0_fewest_3 21 rfl rfl)
theorem dX0_fewest_91 : decode cX0_fewest 91 = .ok (.ifCond .ne 7, 3) := dk_154 0 7 (dk_at dksX0_fewest_4 0 rfl rfl)
theorem dX0_fewest_94 : decode cX0_fewest 94 = .ok (.iload_n 3, 1) := dk_29 (dk_at dksX0_fewest_4 3 rfl rfl)
theorem dX0_fewest_95 : decode cX0_fewest 95 = .ok (.goto 15, 3) := dk_167 0 15 (dk_at dksX0_fewest_4 4 rfl rfl)
theorem dX0_fewest_98 : decode cX0_fewest 98 = .ok (.iload_n 1, 1) := dk_27 (dk_at dksX0_fewest_4 7 rfl rfl)
theorem dX0_fewest_99 : decode cX0_fewest 99 = .ok (.iconst 1, 1) := dk_4 (dk_at dksX0_fewest_4 8 rfl rfl)
theorem dX0_fewest_100 : decode cX0_fewest 100 = .ok (.if_icmp .ne 8, 3) := dk_160 0 8 (dk_at dksX0_fewest_4 9 rfl rfl)
theorem dX0_fewest_103 : decode cX0_fewest 103 = .ok (.iload 4, 2) := dk_21 4 (dk_at dksX0_fewest_4 12 rfl rfl)
theorem dX0_fewest_105 : decode cX0_fewest 105 = .ok (.goto 5, 3) := dk_167 0 5 (dk_at dksX0_fewest_4 14 rfl rfl)
theorem dX0_fewest_108 : decode cX0_fewest 108 = .ok (.iload 5, 2) := dk_21 5 (dk_at dksX0_fewest_4 17 rfl rfl)
theorem dX0_fewest_110 : decode cX0_fewest 110 = .ok (.ireturn, 1) := dk_172 (dk_at dksX0_fewest_4 19 rfl rfl)
abbrev cX0_asksWardens : ByteArray := prog_1_method_89_code
def yX0_asksWardens : MethodName := ⟨RX0, "asksWardens", "(Z)I"⟩
def dkwX0_asksWardens_1 : List UInt8 := [160, 0, 6, 16, 247, 172, 42, 182, 1, 123, 3, 172]
abbrev dktX0_asksWardens_1 : List UInt8 := dkwX0_asksWardens_1 ++ []
def dkwX0_asksWardens_0 : List UInt8 := [42, 182, 0, 233, 153, 0, 7, 27, 154, 0, 6, 16, 254, 172, 42, 180, 0, 10, 180, 0, 158, 8]
abbrev dktX0_asksWardens_0 : List UInt8 := dkwX0_asksWardens_0 ++ dktX0_asksWardens_1
theorem dksX0_asksWardens_0 : cX0_asksWardens.data.toList.drop 0 = dktX0_asksWardens_0 := by decide +kernel
theorem dksX0_asksWardens_1 : cX0_asksWardens.data.toList.drop 22 = dktX0_asksWardens_1 := dk_seg dksX0_asksWardens_0 22 rfl rfl
theorem dX0_asksWardens_0 : decode cX0_asksWardens 0 = .ok (.aload_n 0, 1) := dk_42 (dk_at dksX0_asksWardens_0 0 rfl rfl)
theorem dX0_asksWardens_1 : decode cX0_asksWardens 1 = .ok (.invokevirtual 233, 3) := dk_182 0 233 (dk_at dksX0_asksWardens_0 1 rfl rfl)
theorem dX0_asksWardens_4 : decode cX0_asksWardens 4 = .ok (.ifCond .eq 7, 3) := dk_153 0 7 (dk_at dksX0_asksWardens_0 4 rfl rfl)
theorem dX0_asksWardens_7 : decode cX0_asksWardens 7 = .ok (.iload_n 1, 1) := dk_27 (dk_at dksX0_asksWardens_0 7 rfl rfl)
theorem dX0_asksWardens_8 : decode cX0_asksWardens 8 = .ok (.ifCond .ne 6, 3) := dk_154 0 6 (dk_at dksX0_asksWardens_0 8 rfl rfl)
theorem dX0_asksWardens_11 : decode cX0_asksWardens 11 = .ok (.bipush (-2), 2) := dk_16 254 (dk_at dksX0_asksWardens_0 11 rfl rfl)
theorem dX0_asksWardens_13 : decode cX0_asksWardens 13 = .ok (.ireturn, 1) := dk_172 (dk_at dksX0_asksWardens_0 13 rfl rfl)
theorem dX0_asksWardens_14 : decode cX0_asksWardens 14 = .ok (.aload_n 0, 1) := dk_42 (dk_at dksX0_asksWardens_0 14 rfl rfl)
theorem dX0_asksWardens_15 : decode cX0_asksWardens 15 = .ok (.getfield 10, 3) := dk_180 0 10 (dk_at dksX0_asksWardens_0 15 rfl rfl)
theorem dX0_asksWardens_18 : decode cX0_asksWardens 18 = .ok (.getfield 158, 3) := dk_180 0 158 (dk_at dksX0_asksWardens_0 18 rfl rfl)
theorem dX0_asksWardens_21 : decode cX0_asksWardens 21 = .ok (.iconst 5, 1) := dk_8 (dk_at dksX0_asksWardens_0 21 rfl rfl)
theorem dX0_asksWardens_22 : decode cX0_asksWardens 22 = .ok (.if_icmp .ne 6, 3) := dk_160 0 6 (dk_at dksX0_asksWardens_1 0 rfl rfl)
theorem dX0_asksWardens_25 : decode cX0_asksWardens 25 = .ok (.bipush (-9), 2) := dk_16 247 (dk_at dksX0_asksWardens_1 3 rfl rfl)
theorem dX0_asksWardens_27 : decode cX0_asksWardens 27 = .ok (.ireturn, 1) := dk_172 (dk_at dksX0_asksWardens_1 5 rfl rfl)
theorem dX0_asksWardens_28 : decode cX0_asksWardens 28 = .ok (.aload_n 0, 1) := dk_42 (dk_at dksX0_asksWardens_1 6 rfl rfl)
theorem dX0_asksWardens_29 : decode cX0_asksWardens 29 = .ok (.invokevirtual 379, 3) := dk_182 1 123 (dk_at dksX0_asksWardens_1 7 rfl rfl)
theorem dX0_asksWardens_32 : decode cX0_asksWardens 32 = .ok (.iconst 0, 1) := dk_3 (dk_at dksX0_asksWardens_1 10 rfl rfl)
theorem dX0_asksWardens_33 : decode cX0_asksWardens 33 = .ok (.ireturn, 1) := dk_172 (dk_at dksX0_asksWardens_1 11 rfl rfl)
abbrev cX0_fillsWatched : ByteArray := prog_1_method_87_code
def yX0_fillsWatched : MethodName := ⟨RX0, "fillsWatched", "()V"⟩
def dkwX0_fillsWatched_2 : List UInt8 := [167, 255, 220, 177]
abbrev dktX0_fillsWatched_2 : List UInt8 := dkwX0_fillsWatched_2 ++ []
def dkwX0_fillsWatched_1 : List UInt8 := [180, 0, 81, 27, 27, 4, 100, 126, 46, 42, 27, 184, 0, 223, 182, 1, 115, 128, 79, 132, 1, 1]
abbrev dktX0_fillsWatched_1 : List UInt8 := dkwX0_fillsWatched_1 ++ dktX0_fillsWatched_2
def dkwX0_fillsWatched_0 : List UInt8 := [42, 180, 0, 81, 3, 3, 79, 4, 60, 27, 42, 182, 1, 121, 162, 0, 34, 42, 180, 0, 81, 27, 42]
abbrev dktX0_fillsWatched_0 : List UInt8 := dkwX0_fillsWatched_0 ++ dktX0_fillsWatched_1
theorem dksX0_fillsWatched_0 : cX0_fillsWatched.data.toList.drop 0 = dktX0_fillsWatched_0 := by decide +kernel
theorem dksX0_fillsWatched_1 : cX0_fillsWatched.data.toList.drop 23 = dktX0_fillsWatched_1 := dk_seg dksX0_fillsWatched_0 23 rfl rfl
theorem dksX0_fillsWatched_2 : cX0_fillsWatched.data.toList.drop 45 = dktX0_fillsWatched_2 := dk_seg dksX0_fillsWatched_1 22 rfl rfl
theorem dX0_fillsWatched_0 : decode cX0_fillsWatched 0 = .ok (.aload_n 0, 1) := dk_42 (dk_at dksX0_fillsWatched_0 0 rfl rfl)
theorem dX0_fillsWatched_1 : decode cX0_fillsWatched 1 = .ok (.getfield 81, 3) := dk_180 0 81 (dk_at dksX0_fillsWatched_0 1 rfl rfl)
theorem dX0_fillsWatched_4 : decode cX0_fillsWatched 4 = .ok (.iconst 0, 1) := dk_3 (dk_at dksX0_fillsWatched_0 4 rfl rfl)
theorem dX0_fillsWatched_5 : decode cX0_fillsWatched 5 = .ok (.iconst 0, 1) := dk_3 (dk_at dksX0_fillsWatched_0 5 rfl rfl)
theorem dX0_fillsWatched_6 : decode cX0_fillsWatched 6 = .ok (.iastore, 1) := dk_79 (dk_at dksX0_fillsWatched_0 6 rfl rfl)
theorem dX0_fillsWatched_7 : decode cX0_fillsWatched 7 = .ok (.iconst 1, 1) := dk_4 (dk_at dksX0_fillsWatched_0 7 rfl rfl)
theorem dX0_fillsWatched_8 : decode cX0_fillsWatched 8 = .ok (.istore_n 1, 1) := dk_60 (dk_at dksX0_fillsWatched_0 8 rfl rfl)
theorem dX0_fillsWatched_9 : decode cX0_fillsWatched 9 = .ok (.iload_n 1, 1) := dk_27 (dk_at dksX0_fillsWatched_0 9 rfl rfl)
theorem dX0_fillsWatched_10 : decode cX0_fillsWatched 10 = .ok (.aload_n 0, 1) := dk_42 (dk_at dksX0_fillsWatched_0 10 rfl rfl)
theorem dX0_fillsWatched_11 : decode cX0_fillsWatched 11 = .ok (.invokevirtual 377, 3) := dk_182 1 121 (dk_at dksX0_fillsWatched_0 11 rfl rfl)
theorem dX0_fillsWatched_14 : decode cX0_fillsWatched 14 = .ok (.if_icmp .ge 34, 3) := dk_162 0 34 (dk_at dksX0_fillsWatched_0 14 rfl rfl)
theorem dX0_fillsWatched_17 : decode cX0_fillsWatched 17 = .ok (.aload_n 0, 1) := dk_42 (dk_at dksX0_fillsWatched_0 17 rfl rfl)
theorem dX0_fillsWatched_18 : decode cX0_fillsWatched 18 = .ok (.getfield 81, 3) := dk_180 0 81 (dk_at dksX0_fillsWatched_0 18 rfl rfl)
theorem dX0_fillsWatched_21 : decode cX0_fillsWatched 21 = .ok (.iload_n 1, 1) := dk_27 (dk_at dksX0_fillsWatched_0 21 rfl rfl)
theorem dX0_fillsWatched_22 : decode cX0_fillsWatched 22 = .ok (.aload_n 0, 1) := dk_42 (dk_at dksX0_fillsWatched_0 22 rfl rfl)
theorem dX0_fillsWatched_23 : decode cX0_fillsWatched 23 = .ok (.getfield 81, 3) := dk_180 0 81 (dk_at dksX0_fillsWatched_1 0 rfl rfl)
theorem dX0_fillsWatched_26 : decode cX0_fillsWatched 26 = .ok (.iload_n 1, 1) := dk_27 (dk_at dksX0_fillsWatched_1 3 rfl rfl)
theorem dX0_fillsWatched_27 : decode cX0_fillsWatched 27 = .ok (.iload_n 1, 1) := dk_27 (dk_at dksX0_fillsWatched_1 4 rfl rfl)
theorem dX0_fillsWatched_28 : decode cX0_fillsWatched 28 = .ok (.iconst 1, 1) := dk_4 (dk_at dksX0_fillsWatched_1 5 rfl rfl)
theorem dX0_fillsWatched_29 : decode cX0_fillsWatched 29 = .ok (.isub, 1) := dk_100 (dk_at dksX0_fillsWatched_1 6 rfl rfl)
theorem dX0_fillsWatched_30 : decode cX0_fillsWatched 30 = .ok (.iand, 1) := dk_126 (dk_at dksX0_fillsWatched_1 7 rfl rfl)
theorem dX0_fillsWatched_31 : decode cX0_fillsWatched 31 = .ok (.iaload, 1) := dk_46 (dk_at dksX0_fillsWatched_1 8 rfl rfl)
theorem dX0_fillsWatched_32 : decode cX0_fillsWatched 32 = .ok (.aload_n 0, 1) := dk_42 (dk_at dksX0_fillsWatched_1 9 rfl rfl)
theorem dX0_fillsWatched_33 : decode cX0_fillsWatched 33 = .ok (.iload_n 1, 1) := dk_27 (dk_at dksX0_fillsWatched_1 10 rfl rfl)
theorem dX0_fillsWatched_34 : decode cX0_fillsWatched 34 = .ok (.invokestatic 223, 3) := dk_184 0 223 (dk_at dksX0_fillsWatched_1 11 rfl rfl)
theorem dX0_fillsWatched_37 : decode cX0_fillsWatched 37 = .ok (.invokevirtual 371, 3) := dk_182 1 115 (dk_at dksX0_fillsWatched_1 14 rfl rfl)
theorem dX0_fillsWatched_40 : decode cX0_fillsWatched 40 = .ok (.ior, 1) := dk_128 (dk_at dksX0_fillsWatched_1 17 rfl rfl)
theorem dX0_fillsWatched_41 : decode cX0_fillsWatched 41 = .ok (.iastore, 1) := dk_79 (dk_at dksX0_fillsWatched_1 18 rfl rfl)
theorem dX0_fillsWatched_42 : decode cX0_fillsWatched 42 = .ok (.iinc 1 1, 3) := dk_132 1 1 (dk_at dksX0_fillsWatched_1 19 rfl rfl)
theorem dX0_fillsWatched_45 : decode cX0_fillsWatched 45 = .ok (.goto (-36), 3) := dk_167 255 220 (dk_at dksX0_fillsWatched_2 0 rfl rfl)
theorem dX0_fillsWatched_48 : decode cX0_fillsWatched 48 = .ok (.return_, 1) := dk_177 (dk_at dksX0_fillsWatched_2 3 rfl rfl)
abbrev cX0_sets : ByteArray := prog_1_method_86_code
def yX0_sets : MethodName := ⟨RX0, "sets", "()I"⟩
def dkwX0_sets_0 : List UInt8 := [4, 42, 180, 0, 10, 182, 0, 161, 120, 172]
abbrev dktX0_sets_0 : List UInt8 := dkwX0_sets_0 ++ []
theorem dksX0_sets_0 : cX0_sets.data.toList.drop 0 = dktX0_sets_0 := by decide +kernel
theorem dX0_sets_0 : decode cX0_sets 0 = .ok (.iconst 1, 1) := dk_4 (dk_at dksX0_sets_0 0 rfl rfl)
theorem dX0_sets_1 : decode cX0_sets 1 = .ok (.aload_n 0, 1) := dk_42 (dk_at dksX0_sets_0 1 rfl rfl)
theorem dX0_sets_2 : decode cX0_sets 2 = .ok (.getfield 10, 3) := dk_180 0 10 (dk_at dksX0_sets_0 2 rfl rfl)
theorem dX0_sets_5 : decode cX0_sets 5 = .ok (.invokevirtual 161, 3) := dk_182 0 161 (dk_at dksX0_sets_0 5 rfl rfl)
theorem dX0_sets_8 : decode cX0_sets 8 = .ok (.ishl, 1) := dk_120 (dk_at dksX0_sets_0 8 rfl rfl)
theorem dX0_sets_9 : decode cX0_sets 9 = .ok (.ireturn, 1) := dk_172 (dk_at dksX0_sets_0 9 rfl rfl)
abbrev cX0_fewestWith : ByteArray := prog_1_method_88_code
def yX0_fewestWith : MethodName := ⟨RX0, "fewestWith", "(I)I"⟩
def dkwX0_fewestWith_2 : List UInt8 := [28, 172]
abbrev dktX0_fewestWith_2 : List UInt8 := dkwX0_fewestWith_2 ++ []
def dkwX0_fewestWith_1 : List UInt8 := [29, 46, 42, 182, 1, 118, 160, 0, 12, 28, 29, 184, 0, 195, 184, 1, 96, 61, 132, 3, 1, 167, 255, 216]
abbrev dktX0_fewestWith_1 : List UInt8 := dkwX0_fewestWith_1 ++ dktX0_fewestWith_2
def dkwX0_fewestWith_0 : List UInt8 := [16, 32, 61, 3, 62, 29, 42, 182, 1, 121, 162, 0, 38, 29, 27, 126, 27, 160, 0, 25, 42, 180, 0, 81]
abbrev dktX0_fewestWith_0 : List UInt8 := dkwX0_fewestWith_0 ++ dktX0_fewestWith_1
theorem dksX0_fewestWith_0 : cX0_fewestWith.data.toList.drop 0 = dktX0_fewestWith_0 := by decide +kernel
theorem dksX0_fewestWith_1 : cX0_fewestWith.data.toList.drop 24 = dktX0_fewestWith_1 := dk_seg dksX0_fewestWith_0 24 rfl rfl
theorem dksX0_fewestWith_2 : cX0_fewestWith.data.toList.drop 48 = dktX0_fewestWith_2 := dk_seg dksX0_fewestWith_1 24 rfl rfl
theorem dX0_fewestWith_0 : decode cX0_fewestWith 0 = .ok (.bipush 32, 2) := dk_16 32 (dk_at dksX0_fewestWith_0 0 rfl rfl)
theorem dX0_fewestWith_2 : decode cX0_fewestWith 2 = .ok (.istore_n 2, 1) := dk_61 (dk_at dksX0_fewestWith_0 2 rfl rfl)
theorem dX0_fewestWith_3 : decode cX0_fewestWith 3 = .ok (.iconst 0, 1) := dk_3 (dk_at dksX0_fewestWith_0 3 rfl rfl)
theorem dX0_fewestWith_4 : decode cX0_fewestWith 4 = .ok (.istore_n 3, 1) := dk_62 (dk_at dksX0_fewestWith_0 4 rfl rfl)
theorem dX0_fewestWith_5 : decode cX0_fewestWith 5 = .ok (.iload_n 3, 1) := dk_29 (dk_at dksX0_fewestWith_0 5 rfl rfl)
theorem dX0_fewestWith_6 : decode cX0_fewestWith 6 = .ok (.aload_n 0, 1) := dk_42 (dk_at dksX0_fewestWith_0 6 rfl rfl)
theorem dX0_fewestWith_7 : decode cX0_fewestWith 7 = .ok (.invokevirtual 377, 3) := dk_182 1 121 (dk_at dksX0_fewestWith_0 7 rfl rfl)
theorem dX0_fewestWith_10 : decode cX0_fewestWith 10 = .ok (.if_icmp .ge 38, 3) := dk_162 0 38 (dk_at dksX0_fewestWith_0 10 rfl rfl)
theorem dX0_fewestWith_13 : decode cX0_fewestWith 13 = .ok (.iload_n 3, 1) := dk_29 (dk_at dksX0_fewestWith_0 13 rfl rfl)
theorem dX0_fewestWith_14 : decode cX0_fewestWith 14 = .ok (.iload_n 1, 1) := dk_27 (dk_at dksX0_fewestWith_0 14 rfl rfl)
theorem dX0_fewestWith_15 : decode cX0_fewestWith 15 = .ok (.iand, 1) := dk_126 (dk_at dksX0_fewestWith_0 15 rfl rfl)
theorem dX0_fewestWith_16 : decode cX0_fewestWith 16 = .ok (.iload_n 1, 1) := dk_27 (dk_at dksX0_fewestWith_0 16 rfl rfl)
theorem dX0_fewestWith_17 : decode cX0_fewestWith 17 = .ok (.if_icmp .ne 25, 3) := dk_160 0 25 (dk_at dksX0_fewestWith_0 17 rfl rfl)
theorem dX0_fewestWith_20 : decode cX0_fewestWith 20 = .ok (.aload_n 0, 1) := dk_42 (dk_at dksX0_fewestWith_0 20 rfl rfl)
theorem dX0_fewestWith_21 : decode cX0_fewestWith 21 = .ok (.getfield 81, 3) := dk_180 0 81 (dk_at dksX0_fewestWith_0 21 rfl rfl)
theorem dX0_fewestWith_24 : decode cX0_fewestWith 24 = .ok (.iload_n 3, 1) := dk_29 (dk_at dksX0_fewestWith_1 0 rfl rfl)
theorem dX0_fewestWith_25 : decode cX0_fewestWith 25 = .ok (.iaload, 1) := dk_46 (dk_at dksX0_fewestWith_1 1 rfl rfl)
theorem dX0_fewestWith_26 : decode cX0_fewestWith 26 = .ok (.aload_n 0, 1) := dk_42 (dk_at dksX0_fewestWith_1 2 rfl rfl)
theorem dX0_fewestWith_27 : decode cX0_fewestWith 27 = .ok (.invokevirtual 374, 3) := dk_182 1 118 (dk_at dksX0_fewestWith_1 3 rfl rfl)
theorem dX0_fewestWith_30 : decode cX0_fewestWith 30 = .ok (.if_icmp .ne 12, 3) := dk_160 0 12 (dk_at dksX0_fewestWith_1 6 rfl rfl)
theorem dX0_fewestWith_33 : decode cX0_fewestWith 33 = .ok (.iload_n 2, 1) := dk_28 (dk_at dksX0_fewestWith_1 9 rfl rfl)
theorem dX0_fewestWith_34 : decode cX0_fewestWith 34 = .ok (.iload_n 3, 1) := dk_29 (dk_at dksX0_fewestWith_1 10 rfl rfl)
theorem dX0_fewestWith_35 : decode cX0_fewestWith 35 = .ok (.invokestatic 195, 3) := dk_184 0 195 (dk_at dksX0_fewestWith_1 11 rfl rfl)
theorem dX0_fewestWith_38 : decode cX0_fewestWith 38 = .ok (.invokestatic 352, 3) := dk_184 1 96 (dk_at dksX0_fewestWith_1 14 rfl rfl)
theorem dX0_fewestWith_41 : decode cX0_fewestWith 41 = .ok (.istore_n 2, 1) := dk_61 (dk_at dksX0_fewestWith_1 17 rfl rfl)
theorem dX0_fewestWith_42 : decode cX0_fewestWith 42 = .ok (.iinc 3 1, 3) := dk_132 3 1 (dk_at dksX0_fewestWith_1 18 rfl rfl)
theorem dX0_fewestWith_45 : decode cX0_fewestWith 45 = .ok (.goto (-40), 3) := dk_167 255 216 (dk_at dksX0_fewestWith_1 21 rfl rfl)
theorem dX0_fewestWith_48 : decode cX0_fewestWith 48 = .ok (.iload_n 2, 1) := dk_28 (dk_at dksX0_fewestWith_2 0 rfl rfl)
theorem dX0_fewestWith_49 : decode cX0_fewestWith 49 = .ok (.ireturn, 1) := dk_172 (dk_at dksX0_fewestWith_2 1 rfl rfl)
abbrev cX0_perfect : ByteArray := prog_1_method_91_code
def yX0_perfect : MethodName := ⟨RX0, "perfect", "()I"⟩
def dkwX0_perfect_4 : List UInt8 := [182, 1, 118, 160, 0, 5, 4, 172, 132, 2, 1, 167, 255, 173, 3, 172]
abbrev dktX0_perfect_4 : List UInt8 := dkwX0_perfect_4 ++ []
def dkwX0_perfect_3 : List UInt8 := [4, 167, 0, 4, 3, 84, 42, 180, 0, 84, 28, 51, 153, 0, 18, 42, 180, 0, 81, 28, 46, 42]
abbrev dktX0_perfect_3 : List UInt8 := dkwX0_perfect_3 ++ dktX0_perfect_4
def dkwX0_perfect_2 : List UInt8 := [126, 51, 153, 0, 26, 42, 180, 0, 81, 28, 28, 4, 100, 126, 46, 42, 29, 182, 1, 115, 126, 154, 0, 7]
abbrev dktX0_perfect_2 : List UInt8 := dkwX0_perfect_2 ++ dktX0_perfect_3
def dkwX0_perfect_1 : List UInt8 := [182, 1, 121, 162, 0, 81, 28, 184, 0, 223, 62, 42, 180, 0, 84, 28, 42, 180, 0, 84, 28, 28, 4, 100]
abbrev dktX0_perfect_1 : List UInt8 := dkwX0_perfect_1 ++ dktX0_perfect_2
def dkwX0_perfect_0 : List UInt8 := [42, 4, 182, 1, 126, 60, 27, 156, 0, 5, 27, 172, 42, 180, 0, 84, 3, 4, 84, 4, 61, 28, 42]
abbrev dktX0_perfect_0 : List UInt8 := dkwX0_perfect_0 ++ dktX0_perfect_1
theorem dksX0_perfect_0 : cX0_perfect.data.toList.drop 0 = dktX0_perfect_0 := by decide +kernel
theorem dksX0_perfect_1 : cX0_perfect.data.toList.drop 23 = dktX0_perfect_1 := dk_seg dksX0_perfect_0 23 rfl rfl
theorem dksX0_perfect_2 : cX0_perfect.data.toList.drop 47 = dktX0_perfect_2 := dk_seg dksX0_perfect_1 24 rfl rfl
theorem dksX0_perfect_3 : cX0_perfect.data.toList.drop 71 = dktX0_perfect_3 := dk_seg dksX0_perfect_2 24 rfl rfl
theorem dksX0_perfect_4 : cX0_perfect.data.toList.drop 93 = dktX0_perfect_4 := dk_seg dksX0_perfect_3 22 rfl rfl
theorem dX0_perfect_0 : decode cX0_perfect 0 = .ok (.aload_n 0, 1) := dk_42 (dk_at dksX0_perfect_0 0 rfl rfl)
theorem dX0_perfect_1 : decode cX0_perfect 1 = .ok (.iconst 1, 1) := dk_4 (dk_at dksX0_perfect_0 1 rfl rfl)
theorem dX0_perfect_2 : decode cX0_perfect 2 = .ok (.invokevirtual 382, 3) := dk_182 1 126 (dk_at dksX0_perfect_0 2 rfl rfl)
theorem dX0_perfect_5 : decode cX0_perfect 5 = .ok (.istore_n 1, 1) := dk_60 (dk_at dksX0_perfect_0 5 rfl rfl)
theorem dX0_perfect_6 : decode cX0_perfect 6 = .ok (.iload_n 1, 1) := dk_27 (dk_at dksX0_perfect_0 6 rfl rfl)
theorem dX0_perfect_7 : decode cX0_perfect 7 = .ok (.ifCond .ge 5, 3) := dk_156 0 5 (dk_at dksX0_perfect_0 7 rfl rfl)
theorem dX0_perfect_10 : decode cX0_perfect 10 = .ok (.iload_n 1, 1) := dk_27 (dk_at dksX0_perfect_0 10 rfl rfl)
theorem dX0_perfect_11 : decode cX0_perfect 11 = .ok (.ireturn, 1) := dk_172 (dk_at dksX0_perfect_0 11 rfl rfl)
theorem dX0_perfect_12 : decode cX0_perfect 12 = .ok (.aload_n 0, 1) := dk_42 (dk_at dksX0_perfect_0 12 rfl rfl)
theorem dX0_perfect_13 : decode cX0_perfect 13 = .ok (.getfield 84, 3) := dk_180 0 84 (dk_at dksX0_perfect_0 13 rfl rfl)
theorem dX0_perfect_16 : decode cX0_perfect 16 = .ok (.iconst 0, 1) := dk_3 (dk_at dksX0_perfect_0 16 rfl rfl)
theorem dX0_perfect_17 : decode cX0_perfect 17 = .ok (.iconst 1, 1) := dk_4 (dk_at dksX0_perfect_0 17 rfl rfl)
theorem dX0_perfect_18 : decode cX0_perfect 18 = .ok (.bastore, 1) := dk_84 (dk_at dksX0_perfect_0 18 rfl rfl)
theorem dX0_perfect_19 : decode cX0_perfect 19 = .ok (.iconst 1, 1) := dk_4 (dk_at dksX0_perfect_0 19 rfl rfl)
theorem dX0_perfect_20 : decode cX0_perfect 20 = .ok (.istore_n 2, 1) := dk_61 (dk_at dksX0_perfect_0 20 rfl rfl)
theorem dX0_perfect_21 : decode cX0_perfect 21 = .ok (.iload_n 2, 1) := dk_28 (dk_at dksX0_perfect_0 21 rfl rfl)
theorem dX0_perfect_22 : decode cX0_perfect 22 = .ok (.aload_n 0, 1) := dk_42 (dk_at dksX0_perfect_0 22 rfl rfl)
theorem dX0_perfect_23 : decode cX0_perfect 23 = .ok (.invokevirtual 377, 3) := dk_182 1 121 (dk_at dksX0_perfect_1 0 rfl rfl)
theorem dX0_perfect_26 : decode cX0_perfect 26 = .ok (.if_icmp .ge 81, 3) := dk_162 0 81 (dk_at dksX0_perfect_1 3 rfl rfl)
theorem dX0_perfect_29 : decode cX0_perfect 29 = .ok (.iload_n 2, 1) := dk_28 (dk_at dksX0_perfect_1 6 rfl rfl)
theorem dX0_perfect_30 : decode cX0_perfect 30 = .ok (.invokestatic 223, 3) := dk_184 0 223 (dk_at dksX0_perfect_1 7 rfl rfl)
theorem dX0_perfect_33 : decode cX0_perfect 33 = .ok (.istore_n 3, 1) := dk_62 (dk_at dksX0_perfect_1 10 rfl rfl)
theorem dX0_perfect_34 : decode cX0_perfect 34 = .ok (.aload_n 0, 1) := dk_42 (dk_at dksX0_perfect_1 11 rfl rfl)
theorem dX0_perfect_35 : decode cX0_perfect 35 = .ok (.getfield 84, 3) := dk_180 0 84 (dk_at dksX0_perfect_1 12 rfl rfl)
theorem dX0_perfect_38 : decode cX0_perfect 38 = .ok (.iload_n 2, 1) := dk_28 (dk_at dksX0_perfect_1 15 rfl rfl)
theorem dX0_perfect_39 : decode cX0_perfect 39 = .ok (.aload_n 0, 1) := dk_42 (dk_at dksX0_perfect_1 16 rfl rfl)
theorem dX0_perfect_40 : decode cX0_perfect 40 = .ok (.getfield 84, 3) := dk_180 0 84 (dk_at dksX0_perfect_1 17 rfl rfl)
theorem dX0_perfect_43 : decode cX0_perfect 43 = .ok (.iload_n 2, 1) := dk_28 (dk_at dksX0_perfect_1 20 rfl rfl)
theorem dX0_perfect_44 : decode cX0_perfect 44 = .ok (.iload_n 2, 1) := dk_28 (dk_at dksX0_perfect_1 21 rfl rfl)
theorem dX0_perfect_45 : decode cX0_perfect 45 = .ok (.iconst 1, 1) := dk_4 (dk_at dksX0_perfect_1 22 rfl rfl)
theorem dX0_perfect_46 : decode cX0_perfect 46 = .ok (.isub, 1) := dk_100 (dk_at dksX0_perfect_1 23 rfl rfl)
theorem dX0_perfect_47 : decode cX0_perfect 47 = .ok (.iand, 1) := dk_126 (dk_at dksX0_perfect_2 0 rfl rfl)
theorem dX0_perfect_48 : decode cX0_perfect 48 = .ok (.baload, 1) := dk_51 (dk_at dksX0_perfect_2 1 rfl rfl)
theorem dX0_perfect_49 : decode cX0_perfect 49 = .ok (.ifCond .eq 26, 3) := dk_153 0 26 (dk_at dksX0_perfect_2 2 rfl rfl)
theorem dX0_perfect_52 : decode cX0_perfect 52 = .ok (.aload_n 0, 1) := dk_42 (dk_at dksX0_perfect_2 5 rfl rfl)
theorem dX0_perfect_53 : decode cX0_perfect 53 = .ok (.getfield 81, 3) := dk_180 0 81 (dk_at dksX0_perfect_2 6 rfl rfl)
theorem dX0_perfect_56 : decode cX0_perfect 56 = .ok (.iload_n 2, 1) := dk_28 (dk_at dksX0_perfect_2 9 rfl rfl)
theorem dX0_perfect_57 : decode cX0_perfect 57 = .ok (.iload_n 2, 1) := dk_28 (dk_at dksX0_perfect_2 10 rfl rfl)
theorem dX0_perfect_58 : decode cX0_perfect 58 = .ok (.iconst 1, 1) := dk_4 (dk_at dksX0_perfect_2 11 rfl rfl)
theorem dX0_perfect_59 : decode cX0_perfect 59 = .ok (.isub, 1) := dk_100 (dk_at dksX0_perfect_2 12 rfl rfl)
theorem dX0_perfect_60 : decode cX0_perfect 60 = .ok (.iand, 1) := dk_126 (dk_at dksX0_perfect_2 13 rfl rfl)
theorem dX0_perfect_61 : decode cX0_perfect 61 = .ok (.iaload, 1) := dk_46 (dk_at dksX0_perfect_2 14 rfl rfl)
theorem dX0_perfect_62 : decode cX0_perfect 62 = .ok (.aload_n 0, 1) := dk_42 (dk_at dksX0_perfect_2 15 rfl rfl)
theorem dX0_perfect_63 : decode cX0_perfect 63 = .ok (.iload_n 3, 1) := dk_29 (dk_at dksX0_perfect_2 16 rfl rfl)
theorem dX0_perfect_64 : decode cX0_perfect 64 = .ok (.invokevirtual 371, 3) := dk_182 1 115 (dk_at dksX0_perfect_2 17 rfl rfl)
theorem dX0_perfect_67 : decode cX0_perfect 67 = .ok (.iand, 1) := dk_126 (dk_at dksX0_perfect_2 20 rfl rfl)
theorem dX0_perfect_68 : decode cX0_perfect 68 = .ok (.ifCond .ne 7, 3) := dk_154 0 7 (dk_at dksX0_perfect_2 21 rfl rfl)
theorem dX0_perfect_71 : decode cX0_perfect 71 = .ok (.iconst 1, 1) := dk_4 (dk_at dksX0_perfect_3 0 rfl rfl)
theorem dX0_perfect_72 : decode cX0_perfect 72 = .ok (.goto 4, 3) := dk_167 0 4 (dk_at dksX0_perfect_3 1 rfl rfl)
theorem dX0_perfect_75 : decode cX0_perfect 75 = .ok (.iconst 0, 1) := dk_3 (dk_at dksX0_perfect_3 4 rfl rfl)
theorem dX0_perfect_76 : decode cX0_perfect 76 = .ok (.bastore, 1) := dk_84 (dk_at dksX0_perfect_3 5 rfl rfl)
theorem dX0_perfect_77 : decode cX0_perfect 77 = .ok (.aload_n 0, 1) := dk_42 (dk_at dksX0_perfect_3 6 rfl rfl)
theorem dX0_perfect_78 : decode cX0_perfect 78 = .ok (.getfield 84, 3) := dk_180 0 84 (dk_at dksX0_perfect_3 7 rfl rfl)
theorem dX0_perfect_81 : decode cX0_perfect 81 = .ok (.iload_n 2, 1) := dk_28 (dk_at dksX0_perfect_3 10 rfl rfl)
theorem dX0_perfect_82 : decode cX0_perfect 82 = .ok (.baload, 1) := dk_51 (dk_at dksX0_perfect_3 11 rfl rfl)
theorem dX0_perfect_83 : decode cX0_perfect 83 = .ok (.ifCond .eq 18, 3) := dk_153 0 18 (dk_at dksX0_perfect_3 12 rfl rfl)
theorem dX0_perfect_86 : decode cX0_perfect 86 = .ok (.aload_n 0, 1) := dk_42 (dk_at dksX0_perfect_3 15 rfl rfl)
theorem dX0_perfect_87 : decode cX0_perfect 87 = .ok (.getfield 81, 3) := dk_180 0 81 (dk_at dksX0_perfect_3 16 rfl rfl)
theorem dX0_perfect_90 : decode cX0_perfect 90 = .ok (.iload_n 2, 1) := dk_28 (dk_at dksX0_perfect_3 19 rfl rfl)
theorem dX0_perfect_91 : decode cX0_perfect 91 = .ok (.iaload, 1) := dk_46 (dk_at dksX0_perfect_3 20 rfl rfl)
theorem dX0_perfect_92 : decode cX0_perfect 92 = .ok (.aload_n 0, 1) := dk_42 (dk_at dksX0_perfect_3 21 rfl rfl)
theorem dX0_perfect_93 : decode cX0_perfect 93 = .ok (.invokevirtual 374, 3) := dk_182 1 118 (dk_at dksX0_perfect_4 0 rfl rfl)
theorem dX0_perfect_96 : decode cX0_perfect 96 = .ok (.if_icmp .ne 5, 3) := dk_160 0 5 (dk_at dksX0_perfect_4 3 rfl rfl)
theorem dX0_perfect_99 : decode cX0_perfect 99 = .ok (.iconst 1, 1) := dk_4 (dk_at dksX0_perfect_4 6 rfl rfl)
theorem dX0_perfect_100 : decode cX0_perfect 100 = .ok (.ireturn, 1) := dk_172 (dk_at dksX0_perfect_4 7 rfl rfl)
theorem dX0_perfect_101 : decode cX0_perfect 101 = .ok (.iinc 2 1, 3) := dk_132 2 1 (dk_at dksX0_perfect_4 8 rfl rfl)
theorem dX0_perfect_104 : decode cX0_perfect 104 = .ok (.goto (-83), 3) := dk_167 255 173 (dk_at dksX0_perfect_4 11 rfl rfl)
theorem dX0_perfect_107 : decode cX0_perfect 107 = .ok (.iconst 0, 1) := dk_3 (dk_at dksX0_perfect_4 14 rfl rfl)
theorem dX0_perfect_108 : decode cX0_perfect 108 = .ok (.ireturn, 1) := dk_172 (dk_at dksX0_perfect_4 15 rfl rfl)
abbrev cX0_more : ByteArray := prog_1_method_92_code
def yX0_more : MethodName := ⟨RX0, "more", "()I"⟩
def dkwX0_more_1 : List UInt8 := [182, 1, 129, 42, 180, 0, 10, 180, 1, 112, 184, 0, 195, 100, 172]
abbrev dktX0_more_1 : List UInt8 := dkwX0_more_1 ++ []
def dkwX0_more_0 : List UInt8 := [42, 4, 182, 1, 126, 60, 27, 156, 0, 7, 27, 167, 0, 25, 42, 42, 180, 0, 10, 180, 1, 112]
abbrev dktX0_more_0 : List UInt8 := dkwX0_more_0 ++ dktX0_more_1
theorem dksX0_more_0 : cX0_more.data.toList.drop 0 = dktX0_more_0 := by decide +kernel
theorem dksX0_more_1 : cX0_more.data.toList.drop 22 = dktX0_more_1 := dk_seg dksX0_more_0 22 rfl rfl
theorem dX0_more_0 : decode cX0_more 0 = .ok (.aload_n 0, 1) := dk_42 (dk_at dksX0_more_0 0 rfl rfl)
theorem dX0_more_1 : decode cX0_more 1 = .ok (.iconst 1, 1) := dk_4 (dk_at dksX0_more_0 1 rfl rfl)
theorem dX0_more_2 : decode cX0_more 2 = .ok (.invokevirtual 382, 3) := dk_182 1 126 (dk_at dksX0_more_0 2 rfl rfl)
theorem dX0_more_5 : decode cX0_more 5 = .ok (.istore_n 1, 1) := dk_60 (dk_at dksX0_more_0 5 rfl rfl)
theorem dX0_more_6 : decode cX0_more 6 = .ok (.iload_n 1, 1) := dk_27 (dk_at dksX0_more_0 6 rfl rfl)
theorem dX0_more_7 : decode cX0_more 7 = .ok (.ifCond .ge 7, 3) := dk_156 0 7 (dk_at dksX0_more_0 7 rfl rfl)
theorem dX0_more_10 : decode cX0_more 10 = .ok (.iload_n 1, 1) := dk_27 (dk_at dksX0_more_0 10 rfl rfl)
theorem dX0_more_11 : decode cX0_more 11 = .ok (.goto 25, 3) := dk_167 0 25 (dk_at dksX0_more_0 11 rfl rfl)
theorem dX0_more_14 : decode cX0_more 14 = .ok (.aload_n 0, 1) := dk_42 (dk_at dksX0_more_0 14 rfl rfl)
theorem dX0_more_15 : decode cX0_more 15 = .ok (.aload_n 0, 1) := dk_42 (dk_at dksX0_more_0 15 rfl rfl)
theorem dX0_more_16 : decode cX0_more 16 = .ok (.getfield 10, 3) := dk_180 0 10 (dk_at dksX0_more_0 16 rfl rfl)
theorem dX0_more_19 : decode cX0_more 19 = .ok (.getfield 368, 3) := dk_180 1 112 (dk_at dksX0_more_0 19 rfl rfl)
theorem dX0_more_22 : decode cX0_more 22 = .ok (.invokevirtual 385, 3) := dk_182 1 129 (dk_at dksX0_more_1 0 rfl rfl)
theorem dX0_more_25 : decode cX0_more 25 = .ok (.aload_n 0, 1) := dk_42 (dk_at dksX0_more_1 3 rfl rfl)
theorem dX0_more_26 : decode cX0_more 26 = .ok (.getfield 10, 3) := dk_180 0 10 (dk_at dksX0_more_1 4 rfl rfl)
theorem dX0_more_29 : decode cX0_more 29 = .ok (.getfield 368, 3) := dk_180 1 112 (dk_at dksX0_more_1 7 rfl rfl)
theorem dX0_more_32 : decode cX0_more 32 = .ok (.invokestatic 195, 3) := dk_184 0 195 (dk_at dksX0_more_1 10 rfl rfl)
theorem dX0_more_35 : decode cX0_more 35 = .ok (.isub, 1) := dk_100 (dk_at dksX0_more_1 13 rfl rfl)
theorem dX0_more_36 : decode cX0_more 36 = .ok (.ireturn, 1) := dk_172 (dk_at dksX0_more_1 14 rfl rfl)
abbrev cX0_code : ByteArray := prog_1_method_95_code
def yX0_code : MethodName := ⟨RX0, "code", "(I)I"⟩
def dkwX0_code_3 : List UInt8 := [167, 0, 9, 29, 21, 6, 184, 1, 96, 62, 132, 5, 1, 167, 255, 209, 132, 4, 1, 167, 255, 186, 29, 172]
abbrev dktX0_code_3 : List UInt8 := dkwX0_code_3 ++ []
def dkwX0_code_2 : List UInt8 := [182, 1, 148, 42, 27, 21, 5, 182, 1, 148, 130, 184, 0, 195, 54, 6, 29, 2, 160, 0, 8, 21, 6]
abbrev dktX0_code_2 : List UInt8 := dkwX0_code_2 ++ dktX0_code_3
def dkwX0_code_1 : List UInt8 := [27, 50, 182, 1, 135, 162, 0, 62, 3, 54, 5, 21, 5, 21, 4, 162, 0, 46, 42, 27, 21, 4]
abbrev dktX0_code_1 : List UInt8 := dkwX0_code_1 ++ dktX0_code_2
def dkwX0_code_0 : List UInt8 := [42, 27, 4, 182, 1, 144, 61, 28, 156, 0, 5, 28, 172, 2, 62, 3, 54, 4, 21, 4, 42, 180, 0, 118]
abbrev dktX0_code_0 : List UInt8 := dkwX0_code_0 ++ dktX0_code_1
theorem dksX0_code_0 : cX0_code.data.toList.drop 0 = dktX0_code_0 := by decide +kernel
theorem dksX0_code_1 : cX0_code.data.toList.drop 24 = dktX0_code_1 := dk_seg dksX0_code_0 24 rfl rfl
theorem dksX0_code_2 : cX0_code.data.toList.drop 46 = dktX0_code_2 := dk_seg dksX0_code_1 22 rfl rfl
theorem dksX0_code_3 : cX0_code.data.toList.drop 69 = dktX0_code_3 := dk_seg dksX0_code_2 23 rfl rfl
theorem dX0_code_0 : decode cX0_code 0 = .ok (.aload_n 0, 1) := dk_42 (dk_at dksX0_code_0 0 rfl rfl)
theorem dX0_code_1 : decode cX0_code 1 = .ok (.iload_n 1, 1) := dk_27 (dk_at dksX0_code_0 1 rfl rfl)
theorem dX0_code_2 : decode cX0_code 2 = .ok (.iconst 1, 1) := dk_4 (dk_at dksX0_code_0 2 rfl rfl)
theorem dX0_code_3 : decode cX0_code 3 = .ok (.invokevirtual 400, 3) := dk_182 1 144 (dk_at dksX0_code_0 3 rfl rfl)
theorem dX0_code_6 : decode cX0_code 6 = .ok (.istore_n 2, 1) := dk_61 (dk_at dksX0_code_0 6 rfl rfl)
theorem dX0_code_7 : decode cX0_code 7 = .ok (.iload_n 2, 1) := dk_28 (dk_at dksX0_code_0 7 rfl rfl)
theorem dX0_code_8 : decode cX0_code 8 = .ok (.ifCond .ge 5, 3) := dk_156 0 5 (dk_at dksX0_code_0 8 rfl rfl)
theorem dX0_code_11 : decode cX0_code 11 = .ok (.iload_n 2, 1) := dk_28 (dk_at dksX0_code_0 11 rfl rfl)
theorem dX0_code_12 : decode cX0_code 12 = .ok (.ireturn, 1) := dk_172 (dk_at dksX0_code_0 12 rfl rfl)
theorem dX0_code_13 : decode cX0_code 13 = .ok (.iconst (-1), 1) := dk_2 (dk_at dksX0_code_0 13 rfl rfl)
theorem dX0_code_14 : decode cX0_code 14 = .ok (.istore_n 3, 1) := dk_62 (dk_at dksX0_code_0 14 rfl rfl)
theorem dX0_code_15 : decode cX0_code 15 = .ok (.iconst 0, 1) := dk_3 (dk_at dksX0_code_0 15 rfl rfl)
theorem dX0_code_16 : decode cX0_code 16 = .ok (.istore 4, 2) := dk_54 4 (dk_at dksX0_code_0 16 rfl rfl)
theorem dX0_code_18 : decode cX0_code 18 = .ok (.iload 4, 2) := dk_21 4 (dk_at dksX0_code_0 18 rfl rfl)
theorem dX0_code_20 : decode cX0_code 20 = .ok (.aload_n 0, 1) := dk_42 (dk_at dksX0_code_0 20 rfl rfl)
theorem dX0_code_21 : decode cX0_code 21 = .ok (.getfield 118, 3) := dk_180 0 118 (dk_at dksX0_code_0 21 rfl rfl)
theorem dX0_code_24 : decode cX0_code 24 = .ok (.iload_n 1, 1) := dk_27 (dk_at dksX0_code_1 0 rfl rfl)
theorem dX0_code_25 : decode cX0_code 25 = .ok (.aaload, 1) := dk_50 (dk_at dksX0_code_1 1 rfl rfl)
theorem dX0_code_26 : decode cX0_code 26 = .ok (.invokevirtual 391, 3) := dk_182 1 135 (dk_at dksX0_code_1 2 rfl rfl)
theorem dX0_code_29 : decode cX0_code 29 = .ok (.if_icmp .ge 62, 3) := dk_162 0 62 (dk_at dksX0_code_1 5 rfl rfl)
theorem dX0_code_32 : decode cX0_code 32 = .ok (.iconst 0, 1) := dk_3 (dk_at dksX0_code_1 8 rfl rfl)
theorem dX0_code_33 : decode cX0_code 33 = .ok (.istore 5, 2) := dk_54 5 (dk_at dksX0_code_1 9 rfl rfl)
theorem dX0_code_35 : decode cX0_code 35 = .ok (.iload 5, 2) := dk_21 5 (dk_at dksX0_code_1 11 rfl rfl)
theorem dX0_code_37 : decode cX0_code 37 = .ok (.iload 4, 2) := dk_21 4 (dk_at dksX0_code_1 13 rfl rfl)
theorem dX0_code_39 : decode cX0_code 39 = .ok (.if_icmp .ge 46, 3) := dk_162 0 46 (dk_at dksX0_code_1 15 rfl rfl)
theorem dX0_code_42 : decode cX0_code 42 = .ok (.aload_n 0, 1) := dk_42 (dk_at dksX0_code_1 18 rfl rfl)
theorem dX0_code_43 : decode cX0_code 43 = .ok (.iload_n 1, 1) := dk_27 (dk_at dksX0_code_1 19 rfl rfl)
theorem dX0_code_44 : decode cX0_code 44 = .ok (.iload 4, 2) := dk_21 4 (dk_at dksX0_code_1 20 rfl rfl)
theorem dX0_code_46 : decode cX0_code 46 = .ok (.invokevirtual 404, 3) := dk_182 1 148 (dk_at dksX0_code_2 0 rfl rfl)
theorem dX0_code_49 : decode cX0_code 49 = .ok (.aload_n 0, 1) := dk_42 (dk_at dksX0_code_2 3 rfl rfl)
theorem dX0_code_50 : decode cX0_code 50 = .ok (.iload_n 1, 1) := dk_27 (dk_at dksX0_code_2 4 rfl rfl)
theorem dX0_code_51 : decode cX0_code 51 = .ok (.iload 5, 2) := dk_21 5 (dk_at dksX0_code_2 5 rfl rfl)
theorem dX0_code_53 : decode cX0_code 53 = .ok (.invokevirtual 404, 3) := dk_182 1 148 (dk_at dksX0_code_2 7 rfl rfl)
theorem dX0_code_56 : decode cX0_code 56 = .ok (.ixor, 1) := dk_130 (dk_at dksX0_code_2 10 rfl rfl)
theorem dX0_code_57 : decode cX0_code 57 = .ok (.invokestatic 195, 3) := dk_184 0 195 (dk_at dksX0_code_2 11 rfl rfl)
theorem dX0_code_60 : decode cX0_code 60 = .ok (.istore 6, 2) := dk_54 6 (dk_at dksX0_code_2 14 rfl rfl)
theorem dX0_code_62 : decode cX0_code 62 = .ok (.iload_n 3, 1) := dk_29 (dk_at dksX0_code_2 16 rfl rfl)
theorem dX0_code_63 : decode cX0_code 63 = .ok (.iconst (-1), 1) := dk_2 (dk_at dksX0_code_2 17 rfl rfl)
theorem dX0_code_64 : decode cX0_code 64 = .ok (.if_icmp .ne 8, 3) := dk_160 0 8 (dk_at dksX0_code_2 18 rfl rfl)
theorem dX0_code_67 : decode cX0_code 67 = .ok (.iload 6, 2) := dk_21 6 (dk_at dksX0_code_2 21 rfl rfl)
theorem dX0_code_69 : decode cX0_code 69 = .ok (.goto 9, 3) := dk_167 0 9 (dk_at dksX0_code_3 0 rfl rfl)
theorem dX0_code_72 : decode cX0_code 72 = .ok (.iload_n 3, 1) := dk_29 (dk_at dksX0_code_3 3 rfl rfl)
theorem dX0_code_73 : decode cX0_code 73 = .ok (.iload 6, 2) := dk_21 6 (dk_at dksX0_code_3 4 rfl rfl)
theorem dX0_code_75 : decode cX0_code 75 = .ok (.invokestatic 352, 3) := dk_184 1 96 (dk_at dksX0_code_3 6 rfl rfl)
theorem dX0_code_78 : decode cX0_code 78 = .ok (.istore_n 3, 1) := dk_62 (dk_at dksX0_code_3 9 rfl rfl)
theorem dX0_code_79 : decode cX0_code 79 = .ok (.iinc 5 1, 3) := dk_132 5 1 (dk_at dksX0_code_3 10 rfl rfl)
theorem dX0_code_82 : decode cX0_code 82 = .ok (.goto (-47), 3) := dk_167 255 209 (dk_at dksX0_code_3 13 rfl rfl)
theorem dX0_code_85 : decode cX0_code 85 = .ok (.iinc 4 1, 3) := dk_132 4 1 (dk_at dksX0_code_3 16 rfl rfl)
theorem dX0_code_88 : decode cX0_code 88 = .ok (.goto (-70), 3) := dk_167 255 186 (dk_at dksX0_code_3 19 rfl rfl)
theorem dX0_code_91 : decode cX0_code 91 = .ok (.iload_n 3, 1) := dk_29 (dk_at dksX0_code_3 22 rfl rfl)
theorem dX0_code_92 : decode cX0_code 92 = .ok (.ireturn, 1) := dk_172 (dk_at dksX0_code_3 23 rfl rfl)
abbrev cX0_asksSquares : ByteArray := prog_1_method_93_code
def yX0_asksSquares : MethodName := ⟨RX0, "asksSquares", "(IZ)I"⟩
def dkwX0_asksSquares_2 : List UInt8 := [182, 0, 167, 154, 0, 6, 16, 254, 172, 132, 3, 1, 167, 255, 220, 3, 172, 78, 16, 250, 172]
abbrev dktX0_asksSquares_2 : List UInt8 := dkwX0_asksSquares_2 ++ []
def dkwX0_asksSquares_1 : List UInt8 := [42, 180, 0, 118, 27, 50, 182, 1, 135, 162, 0, 29, 42, 42, 180, 0, 118, 27, 50, 29, 182, 1, 138]
abbrev dktX0_asksSquares_1 : List UInt8 := dkwX0_asksSquares_1 ++ dktX0_asksSquares_2
def dkwX0_asksSquares_0 : List UInt8 := [27, 184, 1, 132, 153, 0, 14, 42, 182, 0, 233, 153, 0, 7, 28, 154, 0, 6, 16, 254, 172, 3, 62, 29]
abbrev dktX0_asksSquares_0 : List UInt8 := dkwX0_asksSquares_0 ++ dktX0_asksSquares_1
theorem dksX0_asksSquares_0 : cX0_asksSquares.data.toList.drop 0 = dktX0_asksSquares_0 := by decide +kernel
theorem dksX0_asksSquares_1 : cX0_asksSquares.data.toList.drop 24 = dktX0_asksSquares_1 := dk_seg dksX0_asksSquares_0 24 rfl rfl
theorem dksX0_asksSquares_2 : cX0_asksSquares.data.toList.drop 47 = dktX0_asksSquares_2 := dk_seg dksX0_asksSquares_1 23 rfl rfl
theorem dX0_asksSquares_0 : decode cX0_asksSquares 0 = .ok (.iload_n 1, 1) := dk_27 (dk_at dksX0_asksSquares_0 0 rfl rfl)
theorem dX0_asksSquares_1 : decode cX0_asksSquares 1 = .ok (.invokestatic 388, 3) := dk_184 1 132 (dk_at dksX0_asksSquares_0 1 rfl rfl)
theorem dX0_asksSquares_4 : decode cX0_asksSquares 4 = .ok (.ifCond .eq 14, 3) := dk_153 0 14 (dk_at dksX0_asksSquares_0 4 rfl rfl)
theorem dX0_asksSquares_7 : decode cX0_asksSquares 7 = .ok (.aload_n 0, 1) := dk_42 (dk_at dksX0_asksSquares_0 7 rfl rfl)
theorem dX0_asksSquares_8 : decode cX0_asksSquares 8 = .ok (.invokevirtual 233, 3) := dk_182 0 233 (dk_at dksX0_asksSquares_0 8 rfl rfl)
theorem dX0_asksSquares_11 : decode cX0_asksSquares 11 = .ok (.ifCond .eq 7, 3) := dk_153 0 7 (dk_at dksX0_asksSquares_0 11 rfl rfl)
theorem dX0_asksSquares_14 : decode cX0_asksSquares 14 = .ok (.iload_n 2, 1) := dk_28 (dk_at dksX0_asksSquares_0 14 rfl rfl)
theorem dX0_asksSquares_15 : decode cX0_asksSquares 15 = .ok (.ifCond .ne 6, 3) := dk_154 0 6 (dk_at dksX0_asksSquares_0 15 rfl rfl)
theorem dX0_asksSquares_18 : decode cX0_asksSquares 18 = .ok (.bipush (-2), 2) := dk_16 254 (dk_at dksX0_asksSquares_0 18 rfl rfl)
theorem dX0_asksSquares_20 : decode cX0_asksSquares 20 = .ok (.ireturn, 1) := dk_172 (dk_at dksX0_asksSquares_0 20 rfl rfl)
theorem dX0_asksSquares_21 : decode cX0_asksSquares 21 = .ok (.iconst 0, 1) := dk_3 (dk_at dksX0_asksSquares_0 21 rfl rfl)
theorem dX0_asksSquares_22 : decode cX0_asksSquares 22 = .ok (.istore_n 3, 1) := dk_62 (dk_at dksX0_asksSquares_0 22 rfl rfl)
theorem dX0_asksSquares_23 : decode cX0_asksSquares 23 = .ok (.iload_n 3, 1) := dk_29 (dk_at dksX0_asksSquares_0 23 rfl rfl)
theorem dX0_asksSquares_24 : decode cX0_asksSquares 24 = .ok (.aload_n 0, 1) := dk_42 (dk_at dksX0_asksSquares_1 0 rfl rfl)
theorem dX0_asksSquares_25 : decode cX0_asksSquares 25 = .ok (.getfield 118, 3) := dk_180 0 118 (dk_at dksX0_asksSquares_1 1 rfl rfl)
theorem dX0_asksSquares_28 : decode cX0_asksSquares 28 = .ok (.iload_n 1, 1) := dk_27 (dk_at dksX0_asksSquares_1 4 rfl rfl)
theorem dX0_asksSquares_29 : decode cX0_asksSquares 29 = .ok (.aaload, 1) := dk_50 (dk_at dksX0_asksSquares_1 5 rfl rfl)
theorem dX0_asksSquares_30 : decode cX0_asksSquares 30 = .ok (.invokevirtual 391, 3) := dk_182 1 135 (dk_at dksX0_asksSquares_1 6 rfl rfl)
theorem dX0_asksSquares_33 : decode cX0_asksSquares 33 = .ok (.if_icmp .ge 29, 3) := dk_162 0 29 (dk_at dksX0_asksSquares_1 9 rfl rfl)
theorem dX0_asksSquares_36 : decode cX0_asksSquares 36 = .ok (.aload_n 0, 1) := dk_42 (dk_at dksX0_asksSquares_1 12 rfl rfl)
theorem dX0_asksSquares_37 : decode cX0_asksSquares 37 = .ok (.aload_n 0, 1) := dk_42 (dk_at dksX0_asksSquares_1 13 rfl rfl)
theorem dX0_asksSquares_38 : decode cX0_asksSquares 38 = .ok (.getfield 118, 3) := dk_180 0 118 (dk_at dksX0_asksSquares_1 14 rfl rfl)
theorem dX0_asksSquares_41 : decode cX0_asksSquares 41 = .ok (.iload_n 1, 1) := dk_27 (dk_at dksX0_asksSquares_1 17 rfl rfl)
theorem dX0_asksSquares_42 : decode cX0_asksSquares 42 = .ok (.aaload, 1) := dk_50 (dk_at dksX0_asksSquares_1 18 rfl rfl)
theorem dX0_asksSquares_43 : decode cX0_asksSquares 43 = .ok (.iload_n 3, 1) := dk_29 (dk_at dksX0_asksSquares_1 19 rfl rfl)
theorem dX0_asksSquares_44 : decode cX0_asksSquares 44 = .ok (.invokevirtual 394, 3) := dk_182 1 138 (dk_at dksX0_asksSquares_1 20 rfl rfl)
theorem dX0_asksSquares_47 : decode cX0_asksSquares 47 = .ok (.invokevirtual 167, 3) := dk_182 0 167 (dk_at dksX0_asksSquares_2 0 rfl rfl)
theorem dX0_asksSquares_50 : decode cX0_asksSquares 50 = .ok (.ifCond .ne 6, 3) := dk_154 0 6 (dk_at dksX0_asksSquares_2 3 rfl rfl)
theorem dX0_asksSquares_53 : decode cX0_asksSquares 53 = .ok (.bipush (-2), 2) := dk_16 254 (dk_at dksX0_asksSquares_2 6 rfl rfl)
theorem dX0_asksSquares_55 : decode cX0_asksSquares 55 = .ok (.ireturn, 1) := dk_172 (dk_at dksX0_asksSquares_2 8 rfl rfl)
theorem dX0_asksSquares_56 : decode cX0_asksSquares 56 = .ok (.iinc 3 1, 3) := dk_132 3 1 (dk_at dksX0_asksSquares_2 9 rfl rfl)
theorem dX0_asksSquares_59 : decode cX0_asksSquares 59 = .ok (.goto (-36), 3) := dk_167 255 220 (dk_at dksX0_asksSquares_2 12 rfl rfl)
theorem dX0_asksSquares_62 : decode cX0_asksSquares 62 = .ok (.iconst 0, 1) := dk_3 (dk_at dksX0_asksSquares_2 15 rfl rfl)
theorem dX0_asksSquares_63 : decode cX0_asksSquares 63 = .ok (.ireturn, 1) := dk_172 (dk_at dksX0_asksSquares_2 16 rfl rfl)
theorem dX0_asksSquares_64 : decode cX0_asksSquares 64 = .ok (.astore_n 3, 1) := dk_78 (dk_at dksX0_asksSquares_2 17 rfl rfl)
theorem dX0_asksSquares_65 : decode cX0_asksSquares 65 = .ok (.bipush (-6), 2) := dk_16 250 (dk_at dksX0_asksSquares_2 18 rfl rfl)
theorem dX0_asksSquares_67 : decode cX0_asksSquares 67 = .ok (.ireturn, 1) := dk_172 (dk_at dksX0_asksSquares_2 20 rfl rfl)
abbrev cX0_isSlot : ByteArray := prog_1_method_129_code
def yX0_isSlot : MethodName := ⟨RX0, "isSlot", "(I)Z"⟩
def dkwX0_isSlot_0 : List UInt8 := [26, 133, 9, 20, 1, 99, 184, 0, 133, 172]
abbrev dktX0_isSlot_0 : List UInt8 := dkwX0_isSlot_0 ++ []
theorem dksX0_isSlot_0 : cX0_isSlot.data.toList.drop 0 = dktX0_isSlot_0 := by decide +kernel
theorem dX0_isSlot_0 : decode cX0_isSlot 0 = .ok (.iload_n 0, 1) := dk_26 (dk_at dksX0_isSlot_0 0 rfl rfl)
theorem dX0_isSlot_1 : decode cX0_isSlot 1 = .ok (.i2l, 1) := dk_133 (dk_at dksX0_isSlot_0 1 rfl rfl)
theorem dX0_isSlot_2 : decode cX0_isSlot 2 = .ok (.lconst 0, 1) := dk_9 (dk_at dksX0_isSlot_0 2 rfl rfl)
theorem dX0_isSlot_3 : decode cX0_isSlot 3 = .ok (.ldc2_w 355, 3) := dk_20 1 99 (dk_at dksX0_isSlot_0 3 rfl rfl)
theorem dX0_isSlot_6 : decode cX0_isSlot 6 = .ok (.invokestatic 133, 3) := dk_184 0 133 (dk_at dksX0_isSlot_0 6 rfl rfl)
theorem dX0_isSlot_9 : decode cX0_isSlot 9 = .ok (.ireturn, 1) := dk_172 (dk_at dksX0_isSlot_0 9 rfl rfl)
abbrev cX0_squareAt : ByteArray := prog_1_method_94_code
def yX0_squareAt : MethodName := ⟨RX0, "squareAt", "(II)I"⟩
def dkwX0_squareAt_0 : List UInt8 := [42, 180, 0, 118, 27, 50, 28, 182, 1, 138, 136, 172]
abbrev dktX0_squareAt_0 : List UInt8 := dkwX0_squareAt_0 ++ []
theorem dksX0_squareAt_0 : cX0_squareAt.data.toList.drop 0 = dktX0_squareAt_0 := by decide +kernel
theorem dX0_squareAt_0 : decode cX0_squareAt 0 = .ok (.aload_n 0, 1) := dk_42 (dk_at dksX0_squareAt_0 0 rfl rfl)
theorem dX0_squareAt_1 : decode cX0_squareAt 1 = .ok (.getfield 118, 3) := dk_180 0 118 (dk_at dksX0_squareAt_0 1 rfl rfl)
theorem dX0_squareAt_4 : decode cX0_squareAt 4 = .ok (.iload_n 1, 1) := dk_27 (dk_at dksX0_squareAt_0 4 rfl rfl)
theorem dX0_squareAt_5 : decode cX0_squareAt 5 = .ok (.aaload, 1) := dk_50 (dk_at dksX0_squareAt_0 5 rfl rfl)
theorem dX0_squareAt_6 : decode cX0_squareAt 6 = .ok (.iload_n 2, 1) := dk_28 (dk_at dksX0_squareAt_0 6 rfl rfl)
theorem dX0_squareAt_7 : decode cX0_squareAt 7 = .ok (.invokevirtual 394, 3) := dk_182 1 138 (dk_at dksX0_squareAt_0 7 rfl rfl)
theorem dX0_squareAt_10 : decode cX0_squareAt 10 = .ok (.l2i, 1) := dk_136 (dk_at dksX0_squareAt_0 10 rfl rfl)
theorem dX0_squareAt_11 : decode cX0_squareAt 11 = .ok (.ireturn, 1) := dk_172 (dk_at dksX0_squareAt_0 11 rfl rfl)
abbrev cX0_heard : ByteArray := prog_1_method_96_code
def yX0_heard : MethodName := ⟨RX0, "heard", "(II)I"⟩
def dkwX0_heard_3 : List UInt8 := [160, 0, 7, 2, 167, 0, 5, 21, 6, 54, 4, 21, 7, 54, 5, 132, 6, 1, 167, 255, 196, 21, 4, 172]
abbrev dktX0_heard_3 : List UInt8 := dkwX0_heard_3 ++ []
def dkwX0_heard_2 : List UInt8 := [182, 1, 148, 28, 130, 184, 0, 195, 54, 7, 21, 7, 21, 5, 164, 0, 6, 167, 0, 22, 21, 7, 21, 5]
abbrev dktX0_heard_2 : List UInt8 := dkwX0_heard_2 ++ dktX0_heard_3
def dkwX0_heard_1 : List UInt8 := [54, 5, 3, 54, 6, 21, 6, 42, 180, 0, 118, 27, 50, 182, 1, 135, 162, 0, 52, 42, 27, 21, 6]
abbrev dktX0_heard_1 : List UInt8 := dkwX0_heard_1 ++ dktX0_heard_2
def dkwX0_heard_0 : List UInt8 := [42, 27, 42, 28, 133, 182, 0, 167, 182, 1, 144, 62, 29, 156, 0, 5, 29, 172, 2, 54, 4, 16, 32]
abbrev dktX0_heard_0 : List UInt8 := dkwX0_heard_0 ++ dktX0_heard_1
theorem dksX0_heard_0 : cX0_heard.data.toList.drop 0 = dktX0_heard_0 := by decide +kernel
theorem dksX0_heard_1 : cX0_heard.data.toList.drop 23 = dktX0_heard_1 := dk_seg dksX0_heard_0 23 rfl rfl
theorem dksX0_heard_2 : cX0_heard.data.toList.drop 46 = dktX0_heard_2 := dk_seg dksX0_heard_1 23 rfl rfl
theorem dksX0_heard_3 : cX0_heard.data.toList.drop 70 = dktX0_heard_3 := dk_seg dksX0_heard_2 24 rfl rfl
theorem dX0_heard_0 : decode cX0_heard 0 = .ok (.aload_n 0, 1) := dk_42 (dk_at dksX0_heard_0 0 rfl rfl)
theorem dX0_heard_1 : decode cX0_heard 1 = .ok (.iload_n 1, 1) := dk_27 (dk_at dksX0_heard_0 1 rfl rfl)
theorem dX0_heard_2 : decode cX0_heard 2 = .ok (.aload_n 0, 1) := dk_42 (dk_at dksX0_heard_0 2 rfl rfl)
theorem dX0_heard_3 : decode cX0_heard 3 = .ok (.iload_n 2, 1) := dk_28 (dk_at dksX0_heard_0 3 rfl rfl)
theorem dX0_heard_4 : decode cX0_heard 4 = .ok (.i2l, 1) := dk_133 (dk_at dksX0_heard_0 4 rfl rfl)
theorem dX0_heard_5 : decode cX0_heard 5 = .ok (.invokevirtual 167, 3) := dk_182 0 167 (dk_at dksX0_heard_0 5 rfl rfl)
theorem dX0_heard_8 : decode cX0_heard 8 = .ok (.invokevirtual 400, 3) := dk_182 1 144 (dk_at dksX0_heard_0 8 rfl rfl)
theorem dX0_heard_11 : decode cX0_heard 11 = .ok (.istore_n 3, 1) := dk_62 (dk_at dksX0_heard_0 11 rfl rfl)
theorem dX0_heard_12 : decode cX0_heard 12 = .ok (.iload_n 3, 1) := dk_29 (dk_at dksX0_heard_0 12 rfl rfl)
theorem dX0_heard_13 : decode cX0_heard 13 = .ok (.ifCond .ge 5, 3) := dk_156 0 5 (dk_at dksX0_heard_0 13 rfl rfl)
theorem dX0_heard_16 : decode cX0_heard 16 = .ok (.iload_n 3, 1) := dk_29 (dk_at dksX0_heard_0 16 rfl rfl)
theorem dX0_heard_17 : decode cX0_heard 17 = .ok (.ireturn, 1) := dk_172 (dk_at dksX0_heard_0 17 rfl rfl)
theorem dX0_heard_18 : decode cX0_heard 18 = .ok (.iconst (-1), 1) := dk_2 (dk_at dksX0_heard_0 18 rfl rfl)
theorem dX0_heard_19 : decode cX0_heard 19 = .ok (.istore 4, 2) := dk_54 4 (dk_at dksX0_heard_0 19 rfl rfl)
theorem dX0_heard_21 : decode cX0_heard 21 = .ok (.bipush 32, 2) := dk_16 32 (dk_at dksX0_heard_0 21 rfl rfl)
theorem dX0_heard_23 : decode cX0_heard 23 = .ok (.istore 5, 2) := dk_54 5 (dk_at dksX0_heard_1 0 rfl rfl)
theorem dX0_heard_25 : decode cX0_heard 25 = .ok (.iconst 0, 1) := dk_3 (dk_at dksX0_heard_1 2 rfl rfl)
theorem dX0_heard_26 : decode cX0_heard 26 = .ok (.istore 6, 2) := dk_54 6 (dk_at dksX0_heard_1 3 rfl rfl)
theorem dX0_heard_28 : decode cX0_heard 28 = .ok (.iload 6, 2) := dk_21 6 (dk_at dksX0_heard_1 5 rfl rfl)
theorem dX0_heard_30 : decode cX0_heard 30 = .ok (.aload_n 0, 1) := dk_42 (dk_at dksX0_heard_1 7 rfl rfl)
theorem dX0_heard_31 : decode cX0_heard 31 = .ok (.getfield 118, 3) := dk_180 0 118 (dk_at dksX0_heard_1 8 rfl rfl)
theorem dX0_heard_34 : decode cX0_heard 34 = .ok (.iload_n 1, 1) := dk_27 (dk_at dksX0_heard_1 11 rfl rfl)
theorem dX0_heard_35 : decode cX0_heard 35 = .ok (.aaload, 1) := dk_50 (dk_at dksX0_heard_1 12 rfl rfl)
theorem dX0_heard_36 : decode cX0_heard 36 = .ok (.invokevirtual 391, 3) := dk_182 1 135 (dk_at dksX0_heard_1 13 rfl rfl)
theorem dX0_heard_39 : decode cX0_heard 39 = .ok (.if_icmp .ge 52, 3) := dk_162 0 52 (dk_at dksX0_heard_1 16 rfl rfl)
theorem dX0_heard_42 : decode cX0_heard 42 = .ok (.aload_n 0, 1) := dk_42 (dk_at dksX0_heard_1 19 rfl rfl)
theorem dX0_heard_43 : decode cX0_heard 43 = .ok (.iload_n 1, 1) := dk_27 (dk_at dksX0_heard_1 20 rfl rfl)
theorem dX0_heard_44 : decode cX0_heard 44 = .ok (.iload 6, 2) := dk_21 6 (dk_at dksX0_heard_1 21 rfl rfl)
theorem dX0_heard_46 : decode cX0_heard 46 = .ok (.invokevirtual 404, 3) := dk_182 1 148 (dk_at dksX0_heard_2 0 rfl rfl)
theorem dX0_heard_49 : decode cX0_heard 49 = .ok (.iload_n 2, 1) := dk_28 (dk_at dksX0_heard_2 3 rfl rfl)
theorem dX0_heard_50 : decode cX0_heard 50 = .ok (.ixor, 1) := dk_130 (dk_at dksX0_heard_2 4 rfl rfl)
theorem dX0_heard_51 : decode cX0_heard 51 = .ok (.invokestatic 195, 3) := dk_184 0 195 (dk_at dksX0_heard_2 5 rfl rfl)
theorem dX0_heard_54 : decode cX0_heard 54 = .ok (.istore 7, 2) := dk_54 7 (dk_at dksX0_heard_2 8 rfl rfl)
theorem dX0_heard_56 : decode cX0_heard 56 = .ok (.iload 7, 2) := dk_21 7 (dk_at dksX0_heard_2 10 rfl rfl)
theorem dX0_heard_58 : decode cX0_heard 58 = .ok (.iload 5, 2) := dk_21 5 (dk_at dksX0_heard_2 12 rfl rfl)
theorem dX0_heard_60 : decode cX0_heard 60 = .ok (.if_icmp .le 6, 3) := dk_164 0 6 (dk_at dksX0_heard_2 14 rfl rfl)
theorem dX0_heard_63 : decode cX0_heard 63 = .ok (.goto 22, 3) := dk_167 0 22 (dk_at dksX0_heard_2 17 rfl rfl)
theorem dX0_heard_66 : decode cX0_heard 66 = .ok (.iload 7, 2) := dk_21 7 (dk_at dksX0_heard_2 20 rfl rfl)
theorem dX0_heard_68 : decode cX0_heard 68 = .ok (.iload 5, 2) := dk_21 5 (dk_at dksX0_heard_2 22 rfl rfl)
theorem dX0_heard_70 : decode cX0_heard 70 = .ok (.if_icmp .ne 7, 3) := dk_160 0 7 (dk_at dksX0_heard_3 0 rfl rfl)
theorem dX0_heard_73 : decode cX0_heard 73 = .ok (.iconst (-1), 1) := dk_2 (dk_at dksX0_heard_3 3 rfl rfl)
theorem dX0_heard_74 : decode cX0_heard 74 = .ok (.goto 5, 3) := dk_167 0 5 (dk_at dksX0_heard_3 4 rfl rfl)
theorem dX0_heard_77 : decode cX0_heard 77 = .ok (.iload 6, 2) := dk_21 6 (dk_at dksX0_heard_3 7 rfl rfl)
theorem dX0_heard_79 : decode cX0_heard 79 = .ok (.istore 4, 2) := dk_54 4 (dk_at dksX0_heard_3 9 rfl rfl)
theorem dX0_heard_81 : decode cX0_heard 81 = .ok (.iload 7, 2) := dk_21 7 (dk_at dksX0_heard_3 11 rfl rfl)
theorem dX0_heard_83 : decode cX0_heard 83 = .ok (.istore 5, 2) := dk_54 5 (dk_at dksX0_heard_3 13 rfl rfl)
theorem dX0_heard_85 : decode cX0_heard 85 = .ok (.iinc 6 1, 3) := dk_132 6 1 (dk_at dksX0_heard_3 15 rfl rfl)
theorem dX0_heard_88 : decode cX0_heard 88 = .ok (.goto (-60), 3) := dk_167 255 196 (dk_at dksX0_heard_3 18 rfl rfl)
theorem dX0_heard_91 : decode cX0_heard 91 = .ok (.iload 4, 2) := dk_21 4 (dk_at dksX0_heard_3 21 rfl rfl)
theorem dX0_heard_93 : decode cX0_heard 93 = .ok (.ireturn, 1) := dk_172 (dk_at dksX0_heard_3 23 rfl rfl)
abbrev cX0_told : ByteArray := prog_1_method_97_code
def yX0_told : MethodName := ⟨RX0, "told", "(II)I"⟩
def dkwX0_told_4 : List UInt8 := [21, 6, 4, 160, 0, 7, 4, 167, 0, 4, 3, 96, 54, 4, 132, 5, 1, 167, 255, 172, 21, 4, 172]
abbrev dktX0_told_4 : List UInt8 := dkwX0_told_4 ++ []
def dkwX0_told_3 : List UInt8 := [184, 0, 195, 28, 163, 0, 7, 4, 167, 0, 4, 3, 96, 54, 6, 132, 7, 1, 167, 255, 212, 21, 4]
abbrev dktX0_told_3 : List UInt8 := dkwX0_told_3 ++ dktX0_told_4
def dkwX0_told_2 : List UInt8 := [180, 0, 118, 27, 50, 182, 1, 135, 162, 0, 36, 21, 6, 42, 27, 21, 7, 182, 1, 148, 21, 5, 130]
abbrev dktX0_told_2 : List UInt8 := dkwX0_told_2 ++ dktX0_told_3
def dkwX0_told_1 : List UInt8 := [3, 54, 5, 21, 5, 42, 180, 0, 10, 182, 0, 161, 162, 0, 78, 3, 54, 6, 3, 54, 7, 21, 7, 42]
abbrev dktX0_told_1 : List UInt8 := dkwX0_told_1 ++ dktX0_told_2
def dkwX0_told_0 : List UInt8 := [42, 27, 28, 155, 0, 7, 4, 167, 0, 4, 3, 182, 1, 144, 62, 29, 156, 0, 5, 29, 172, 3, 54, 4]
abbrev dktX0_told_0 : List UInt8 := dkwX0_told_0 ++ dktX0_told_1
theorem dksX0_told_0 : cX0_told.data.toList.drop 0 = dktX0_told_0 := by decide +kernel
theorem dksX0_told_1 : cX0_told.data.toList.drop 24 = dktX0_told_1 := dk_seg dksX0_told_0 24 rfl rfl
theorem dksX0_told_2 : cX0_told.data.toList.drop 48 = dktX0_told_2 := dk_seg dksX0_told_1 24 rfl rfl
theorem dksX0_told_3 : cX0_told.data.toList.drop 71 = dktX0_told_3 := dk_seg dksX0_told_2 23 rfl rfl
theorem dksX0_told_4 : cX0_told.data.toList.drop 94 = dktX0_told_4 := dk_seg dksX0_told_3 23 rfl rfl
theorem dX0_told_0 : decode cX0_told 0 = .ok (.aload_n 0, 1) := dk_42 (dk_at dksX0_told_0 0 rfl rfl)
theorem dX0_told_1 : decode cX0_told 1 = .ok (.iload_n 1, 1) := dk_27 (dk_at dksX0_told_0 1 rfl rfl)
theorem dX0_told_2 : decode cX0_told 2 = .ok (.iload_n 2, 1) := dk_28 (dk_at dksX0_told_0 2 rfl rfl)
theorem dX0_told_3 : decode cX0_told 3 = .ok (.ifCond .lt 7, 3) := dk_155 0 7 (dk_at dksX0_told_0 3 rfl rfl)
theorem dX0_told_6 : decode cX0_told 6 = .ok (.iconst 1, 1) := dk_4 (dk_at dksX0_told_0 6 rfl rfl)
theorem dX0_told_7 : decode cX0_told 7 = .ok (.goto 4, 3) := dk_167 0 4 (dk_at dksX0_told_0 7 rfl rfl)
theorem dX0_told_10 : decode cX0_told 10 = .ok (.iconst 0, 1) := dk_3 (dk_at dksX0_told_0 10 rfl rfl)
theorem dX0_told_11 : decode cX0_told 11 = .ok (.invokevirtual 400, 3) := dk_182 1 144 (dk_at dksX0_told_0 11 rfl rfl)
theorem dX0_told_14 : decode cX0_told 14 = .ok (.istore_n 3, 1) := dk_62 (dk_at dksX0_told_0 14 rfl rfl)
theorem dX0_told_15 : decode cX0_told 15 = .ok (.iload_n 3, 1) := dk_29 (dk_at dksX0_told_0 15 rfl rfl)
theorem dX0_told_16 : decode cX0_told 16 = .ok (.ifCond .ge 5, 3) := dk_156 0 5 (dk_at dksX0_told_0 16 rfl rfl)
theorem dX0_told_19 : decode cX0_told 19 = .ok (.iload_n 3, 1) := dk_29 (dk_at dksX0_told_0 19 rfl rfl)
theorem dX0_told_20 : decode cX0_told 20 = .ok (.ireturn, 1) := dk_172 (dk_at dksX0_told_0 20 rfl rfl)
theorem dX0_told_21 : decode cX0_told 21 = .ok (.iconst 0, 1) := dk_3 (dk_at dksX0_told_0 21 rfl rfl)
theorem dX0_told_22 : decode cX0_told 22 = .ok (.istore 4, 2) := dk_54 4 (dk_at dksX0_told_0 22 rfl rfl)
theorem dX0_told_24 : decode cX0_told 24 = .ok (.iconst 0, 1) := dk_3 (dk_at dksX0_told_1 0 rfl rfl)
theorem dX0_told_25 : decode cX0_told 25 = .ok (.istore 5, 2) := dk_54 5 (dk_at dksX0_told_1 1 rfl rfl)
theorem dX0_told_27 : decode cX0_told 27 = .ok (.iload 5, 2) := dk_21 5 (dk_at dksX0_told_1 3 rfl rfl)
theorem dX0_told_29 : decode cX0_told 29 = .ok (.aload_n 0, 1) := dk_42 (dk_at dksX0_told_1 5 rfl rfl)
theorem dX0_told_30 : decode cX0_told 30 = .ok (.getfield 10, 3) := dk_180 0 10 (dk_at dksX0_told_1 6 rfl rfl)
theorem dX0_told_33 : decode cX0_told 33 = .ok (.invokevirtual 161, 3) := dk_182 0 161 (dk_at dksX0_told_1 9 rfl rfl)
theorem dX0_told_36 : decode cX0_told 36 = .ok (.if_icmp .ge 78, 3) := dk_162 0 78 (dk_at dksX0_told_1 12 rfl rfl)
theorem dX0_told_39 : decode cX0_told 39 = .ok (.iconst 0, 1) := dk_3 (dk_at dksX0_told_1 15 rfl rfl)
theorem dX0_told_40 : decode cX0_told 40 = .ok (.istore 6, 2) := dk_54 6 (dk_at dksX0_told_1 16 rfl rfl)
theorem dX0_told_42 : decode cX0_told 42 = .ok (.iconst 0, 1) := dk_3 (dk_at dksX0_told_1 18 rfl rfl)
theorem dX0_told_43 : decode cX0_told 43 = .ok (.istore 7, 2) := dk_54 7 (dk_at dksX0_told_1 19 rfl rfl)
theorem dX0_told_45 : decode cX0_told 45 = .ok (.iload 7, 2) := dk_21 7 (dk_at dksX0_told_1 21 rfl rfl)
theorem dX0_told_47 : decode cX0_told 47 = .ok (.aload_n 0, 1) := dk_42 (dk_at dksX0_told_1 23 rfl rfl)
theorem dX0_told_48 : decode cX0_told 48 = .ok (.getfield 118, 3) := dk_180 0 118 (dk_at dksX0_told_2 0 rfl rfl)
theorem dX0_told_51 : decode cX0_told 51 = .ok (.iload_n 1, 1) := dk_27 (dk_at dksX0_told_2 3 rfl rfl)
theorem dX0_told_52 : decode cX0_told 52 = .ok (.aaload, 1) := dk_50 (dk_at dksX0_told_2 4 rfl rfl)
theorem dX0_told_53 : decode cX0_told 53 = .ok (.invokevirtual 391, 3) := dk_182 1 135 (dk_at dksX0_told_2 5 rfl rfl)
theorem dX0_told_56 : decode cX0_told 56 = .ok (.if_icmp .ge 36, 3) := dk_162 0 36 (dk_at dksX0_told_2 8 rfl rfl)
theorem dX0_told_59 : decode cX0_told 59 = .ok (.iload 6, 2) := dk_21 6 (dk_at dksX0_told_2 11 rfl rfl)
theorem dX0_told_61 : decode cX0_told 61 = .ok (.aload_n 0, 1) := dk_42 (dk_at dksX0_told_2 13 rfl rfl)
theorem dX0_told_62 : decode cX0_told 62 = .ok (.iload_n 1, 1) := dk_27 (dk_at dksX0_told_2 14 rfl rfl)
theorem dX0_told_63 : decode cX0_told 63 = .ok (.iload 7, 2) := dk_21 7 (dk_at dksX0_told_2 15 rfl rfl)
theorem dX0_told_65 : decode cX0_told 65 = .ok (.invokevirtual 404, 3) := dk_182 1 148 (dk_at dksX0_told_2 17 rfl rfl)
theorem dX0_told_68 : decode cX0_told 68 = .ok (.iload 5, 2) := dk_21 5 (dk_at dksX0_told_2 20 rfl rfl)
theorem dX0_told_70 : decode cX0_told 70 = .ok (.ixor, 1) := dk_130 (dk_at dksX0_told_2 22 rfl rfl)
theorem dX0_told_71 : decode cX0_told 71 = .ok (.invokestatic 195, 3) := dk_184 0 195 (dk_at dksX0_told_3 0 rfl rfl)
theorem dX0_told_74 : decode cX0_told 74 = .ok (.iload_n 2, 1) := dk_28 (dk_at dksX0_told_3 3 rfl rfl)
theorem dX0_told_75 : decode cX0_told 75 = .ok (.if_icmp .gt 7, 3) := dk_163 0 7 (dk_at dksX0_told_3 4 rfl rfl)
theorem dX0_told_78 : decode cX0_told 78 = .ok (.iconst 1, 1) := dk_4 (dk_at dksX0_told_3 7 rfl rfl)
theorem dX0_told_79 : decode cX0_told 79 = .ok (.goto 4, 3) := dk_167 0 4 (dk_at dksX0_told_3 8 rfl rfl)
theorem dX0_told_82 : decode cX0_told 82 = .ok (.iconst 0, 1) := dk_3 (dk_at dksX0_told_3 11 rfl rfl)
theorem dX0_told_83 : decode cX0_told 83 = .ok (.iadd, 1) := dk_96 (dk_at dksX0_told_3 12 rfl rfl)
theorem dX0_told_84 : decode cX0_told 84 = .ok (.istore 6, 2) := dk_54 6 (dk_at dksX0_told_3 13 rfl rfl)
theorem dX0_told_86 : decode cX0_told 86 = .ok (.iinc 7 1, 3) := dk_132 7 1 (dk_at dksX0_told_3 15 rfl rfl)
theorem dX0_told_89 : decode cX0_told 89 = .ok (.goto (-44), 3) := dk_167 255 212 (dk_at dksX0_told_3 18 rfl rfl)
theorem dX0_told_92 : decode cX0_told 92 = .ok (.iload 4, 2) := dk_21 4 (dk_at dksX0_told_3 21 rfl rfl)
theorem dX0_told_94 : decode cX0_told 94 = .ok (.iload 6, 2) := dk_21 6 (dk_at dksX0_told_4 0 rfl rfl)
theorem dX0_told_96 : decode cX0_told 96 = .ok (.iconst 1, 1) := dk_4 (dk_at dksX0_told_4 2 rfl rfl)
theorem dX0_told_97 : decode cX0_told 97 = .ok (.if_icmp .ne 7, 3) := dk_160 0 7 (dk_at dksX0_told_4 3 rfl rfl)
theorem dX0_told_100 : decode cX0_told 100 = .ok (.iconst 1, 1) := dk_4 (dk_at dksX0_told_4 6 rfl rfl)
theorem dX0_told_101 : decode cX0_told 101 = .ok (.goto 4, 3) := dk_167 0 4 (dk_at dksX0_told_4 7 rfl rfl)
theorem dX0_told_104 : decode cX0_told 104 = .ok (.iconst 0, 1) := dk_3 (dk_at dksX0_told_4 10 rfl rfl)
theorem dX0_told_105 : decode cX0_told 105 = .ok (.iadd, 1) := dk_96 (dk_at dksX0_told_4 11 rfl rfl)
theorem dX0_told_106 : decode cX0_told 106 = .ok (.istore 4, 2) := dk_54 4 (dk_at dksX0_told_4 12 rfl rfl)
theorem dX0_told_108 : decode cX0_told 108 = .ok (.iinc 5 1, 3) := dk_132 5 1 (dk_at dksX0_told_4 14 rfl rfl)
theorem dX0_told_111 : decode cX0_told 111 = .ok (.goto (-84), 3) := dk_167 255 172 (dk_at dksX0_told_4 17 rfl rfl)
theorem dX0_told_114 : decode cX0_told 114 = .ok (.iload 4, 2) := dk_21 4 (dk_at dksX0_told_4 20 rfl rfl)
theorem dX0_told_116 : decode cX0_told 116 = .ok (.ireturn, 1) := dk_172 (dk_at dksX0_told_4 22 rfl rfl)
abbrev cX0_biggest : ByteArray := prog_1_method_98_code
def yX0_biggest : MethodName := ⟨RX0, "biggest", "(I)I"⟩
def dkwX0_biggest_6 : List UInt8 := [184, 0, 195, 184, 0, 240, 167, 0, 4, 28, 61, 132, 3, 1, 167, 255, 149, 28, 172]
abbrev dktX0_biggest_6 : List UInt8 := dkwX0_biggest_6 ++ []
def dkwX0_biggest_5 : List UInt8 := [4, 100, 126, 54, 7, 167, 255, 215, 42, 180, 0, 84, 29, 21, 6, 84, 21, 6, 153, 0, 14, 28, 29]
abbrev dktX0_biggest_5 : List UInt8 := dkwX0_biggest_5 ++ dktX0_biggest_6
def dkwX0_biggest_4 : List UInt8 := [21, 7, 184, 0, 223, 130, 184, 0, 195, 27, 161, 0, 7, 4, 167, 0, 4, 3, 54, 6, 21, 7, 21, 7]
abbrev dktX0_biggest_4 : List UInt8 := dkwX0_biggest_4 ++ dktX0_biggest_5
def dkwX0_biggest_3 : List UInt8 := [180, 0, 84, 21, 5, 51, 54, 6, 21, 5, 54, 7, 21, 7, 153, 0, 42, 21, 6, 153, 0, 37, 21, 4]
abbrev dktX0_biggest_3 : List UInt8 := dkwX0_biggest_3 ++ dktX0_biggest_4
def dkwX0_biggest_2 : List UInt8 := [29, 42, 182, 1, 121, 162, 0, 105, 29, 184, 0, 223, 54, 4, 29, 29, 4, 100, 126, 54, 5, 42]
abbrev dktX0_biggest_2 : List UInt8 := dkwX0_biggest_2 ++ dktX0_biggest_3
def dkwX0_biggest_1 : List UInt8 := [180, 0, 10, 180, 0, 158, 8, 160, 0, 6, 16, 247, 172, 42, 180, 0, 84, 3, 4, 84, 3, 61, 4, 62]
abbrev dktX0_biggest_1 : List UInt8 := dkwX0_biggest_1 ++ dktX0_biggest_2
def dkwX0_biggest_0 : List UInt8 := [42, 182, 0, 233, 153, 0, 15, 27, 133, 10, 20, 1, 48, 184, 0, 133, 154, 0, 6, 16, 254, 172, 42]
abbrev dktX0_biggest_0 : List UInt8 := dkwX0_biggest_0 ++ dktX0_biggest_1
theorem dksX0_biggest_0 : cX0_biggest.data.toList.drop 0 = dktX0_biggest_0 := by decide +kernel
theorem dksX0_biggest_1 : cX0_biggest.data.toList.drop 23 = dktX0_biggest_1 := dk_seg dksX0_biggest_0 23 rfl rfl
theorem dksX0_biggest_2 : cX0_biggest.data.toList.drop 47 = dktX0_biggest_2 := dk_seg dksX0_biggest_1 24 rfl rfl
theorem dksX0_biggest_3 : cX0_biggest.data.toList.drop 69 = dktX0_biggest_3 := dk_seg dksX0_biggest_2 22 rfl rfl
theorem dksX0_biggest_4 : cX0_biggest.data.toList.drop 93 = dktX0_biggest_4 := dk_seg dksX0_biggest_3 24 rfl rfl
theorem dksX0_biggest_5 : cX0_biggest.data.toList.drop 117 = dktX0_biggest_5 := dk_seg dksX0_biggest_4 24 rfl rfl
theorem dksX0_biggest_6 : cX0_biggest.data.toList.drop 140 = dktX0_biggest_6 := dk_seg dksX0_biggest_5 23 rfl rfl
theorem dX0_biggest_0 : decode cX0_biggest 0 = .ok (.aload_n 0, 1) := dk_42 (dk_at dksX0_biggest_0 0 rfl rfl)
theorem dX0_biggest_1 : decode cX0_biggest 1 = .ok (.invokevirtual 233, 3) := dk_182 0 233 (dk_at dksX0_biggest_0 1 rfl rfl)
theorem dX0_biggest_4 : decode cX0_biggest 4 = .ok (.ifCond .eq 15, 3) := dk_153 0 15 (dk_at dksX0_biggest_0 4 rfl rfl)
theorem dX0_biggest_7 : decode cX0_biggest 7 = .ok (.iload_n 1, 1) := dk_27 (dk_at dksX0_biggest_0 7 rfl rfl)
theorem dX0_biggest_8 : decode cX0_biggest 8 = .ok (.i2l, 1) := dk_133 (dk_at dksX0_biggest_0 8 rfl rfl)
theorem dX0_biggest_9 : decode cX0_biggest 9 = .ok (.lconst 1, 1) := dk_10 (dk_at dksX0_biggest_0 9 rfl rfl)
theorem dX0_biggest_10 : decode cX0_biggest 10 = .ok (.ldc2_w 304, 3) := dk_20 1 48 (dk_at dksX0_biggest_0 10 rfl rfl)
theorem dX0_biggest_13 : decode cX0_biggest 13 = .ok (.invokestatic 133, 3) := dk_184 0 133 (dk_at dksX0_biggest_0 13 rfl rfl)
theorem dX0_biggest_16 : decode cX0_biggest 16 = .ok (.ifCond .ne 6, 3) := dk_154 0 6 (dk_at dksX0_biggest_0 16 rfl rfl)
theorem dX0_biggest_19 : decode cX0_biggest 19 = .ok (.bipush (-2), 2) := dk_16 254 (dk_at dksX0_biggest_0 19 rfl rfl)
theorem dX0_biggest_21 : decode cX0_biggest 21 = .ok (.ireturn, 1) := dk_172 (dk_at dksX0_biggest_0 21 rfl rfl)
theorem dX0_biggest_22 : decode cX0_biggest 22 = .ok (.aload_n 0, 1) := dk_42 (dk_at dksX0_biggest_0 22 rfl rfl)
theorem dX0_biggest_23 : decode cX0_biggest 23 = .ok (.getfield 10, 3) := dk_180 0 10 (dk_at dksX0_biggest_1 0 rfl rfl)
theorem dX0_biggest_26 : decode cX0_biggest 26 = .ok (.getfield 158, 3) := dk_180 0 158 (dk_at dksX0_biggest_1 3 rfl rfl)
theorem dX0_biggest_29 : decode cX0_biggest 29 = .ok (.iconst 5, 1) := dk_8 (dk_at dksX0_biggest_1 6 rfl rfl)
theorem dX0_biggest_30 : decode cX0_biggest 30 = .ok (.if_icmp .ne 6, 3) := dk_160 0 6 (dk_at dksX0_biggest_1 7 rfl rfl)
theorem dX0_biggest_33 : decode cX0_biggest 33 = .ok (.bipush (-9), 2) := dk_16 247 (dk_at dksX0_biggest_1 10 rfl rfl)
theorem dX0_biggest_35 : decode cX0_biggest 35 = .ok (.ireturn, 1) := dk_172 (dk_at dksX0_biggest_1 12 rfl rfl)
theorem dX0_biggest_36 : decode cX0_biggest 36 = .ok (.aload_n 0, 1) := dk_42 (dk_at dksX0_biggest_1 13 rfl rfl)
theorem dX0_biggest_37 : decode cX0_biggest 37 = .ok (.getfield 84, 3) := dk_180 0 84 (dk_at dksX0_biggest_1 14 rfl rfl)
theorem dX0_biggest_40 : decode cX0_biggest 40 = .ok (.iconst 0, 1) := dk_3 (dk_at dksX0_biggest_1 17 rfl rfl)
theorem dX0_biggest_41 : decode cX0_biggest 41 = .ok (.iconst 1, 1) := dk_4 (dk_at dksX0_biggest_1 18 rfl rfl)
theorem dX0_biggest_42 : decode cX0_biggest 42 = .ok (.bastore, 1) := dk_84 (dk_at dksX0_biggest_1 19 rfl rfl)
theorem dX0_biggest_43 : decode cX0_biggest 43 = .ok (.iconst 0, 1) := dk_3 (dk_at dksX0_biggest_1 20 rfl rfl)
theorem dX0_biggest_44 : decode cX0_biggest 44 = .ok (.istore_n 2, 1) := dk_61 (dk_at dksX0_biggest_1 21 rfl rfl)
theorem dX0_biggest_45 : decode cX0_biggest 45 = .ok (.iconst 1, 1) := dk_4 (dk_at dksX0_biggest_1 22 rfl rfl)
theorem dX0_biggest_46 : decode cX0_biggest 46 = .ok (.istore_n 3, 1) := dk_62 (dk_at dksX0_biggest_1 23 rfl rfl)
theorem dX0_biggest_47 : decode cX0_biggest 47 = .ok (.iload_n 3, 1) := dk_29 (dk_at dksX0_biggest_2 0 rfl rfl)
theorem dX0_biggest_48 : decode cX0_biggest 48 = .ok (.aload_n 0, 1) := dk_42 (dk_at dksX0_biggest_2 1 rfl rfl)
theorem dX0_biggest_49 : decode cX0_biggest 49 = .ok (.invokevirtual 377, 3) := dk_182 1 121 (dk_at dksX0_biggest_2 2 rfl rfl)
theorem dX0_biggest_52 : decode cX0_biggest 52 = .ok (.if_icmp .ge 105, 3) := dk_162 0 105 (dk_at dksX0_biggest_2 5 rfl rfl)
theorem dX0_biggest_55 : decode cX0_biggest 55 = .ok (.iload_n 3, 1) := dk_29 (dk_at dksX0_biggest_2 8 rfl rfl)
theorem dX0_biggest_56 : decode cX0_biggest 56 = .ok (.invokestatic 223, 3) := dk_184 0 223 (dk_at dksX0_biggest_2 9 rfl rfl)
theorem dX0_biggest_59 : decode cX0_biggest 59 = .ok (.istore 4, 2) := dk_54 4 (dk_at dksX0_biggest_2 12 rfl rfl)
theorem dX0_biggest_61 : decode cX0_biggest 61 = .ok (.iload_n 3, 1) := dk_29 (dk_at dksX0_biggest_2 14 rfl rfl)
theorem dX0_biggest_62 : decode cX0_biggest 62 = .ok (.iload_n 3, 1) := dk_29 (dk_at dksX0_biggest_2 15 rfl rfl)
theorem dX0_biggest_63 : decode cX0_biggest 63 = .ok (.iconst 1, 1) := dk_4 (dk_at dksX0_biggest_2 16 rfl rfl)
theorem dX0_biggest_64 : decode cX0_biggest 64 = .ok (.isub, 1) := dk_100 (dk_at dksX0_biggest_2 17 rfl rfl)
theorem dX0_biggest_65 : decode cX0_biggest 65 = .ok (.iand, 1) := dk_126 (dk_at dksX0_biggest_2 18 rfl rfl)
theorem dX0_biggest_66 : decode cX0_biggest 66 = .ok (.istore 5, 2) := dk_54 5 (dk_at dksX0_biggest_2 19 rfl rfl)
theorem dX0_biggest_68 : decode cX0_biggest 68 = .ok (.aload_n 0, 1) := dk_42 (dk_at dksX0_biggest_2 21 rfl rfl)
theorem dX0_biggest_69 : decode cX0_biggest 69 = .ok (.getfield 84, 3) := dk_180 0 84 (dk_at dksX0_biggest_3 0 rfl rfl)
theorem dX0_biggest_72 : decode cX0_biggest 72 = .ok (.iload 5, 2) := dk_21 5 (dk_at dksX0_biggest_3 3 rfl rfl)
theorem dX0_biggest_74 : decode cX0_biggest 74 = .ok (.baload, 1) := dk_51 (dk_at dksX0_biggest_3 5 rfl rfl)
theorem dX0_biggest_75 : decode cX0_biggest 75 = .ok (.istore 6, 2) := dk_54 6 (dk_at dksX0_biggest_3 6 rfl rfl)
theorem dX0_biggest_77 : decode cX0_biggest 77 = .ok (.iload 5, 2) := dk_21 5 (dk_at dksX0_biggest_3 8 rfl rfl)
theorem dX0_biggest_79 : decode cX0_biggest 79 = .ok (.istore 7, 2) := dk_54 7 (dk_at dksX0_biggest_3 10 rfl rfl)
theorem dX0_biggest_81 : decode cX0_biggest 81 = .ok (.iload 7, 2) := dk_21 7 (dk_at dksX0_biggest_3 12 rfl rfl)
theorem dX0_biggest_83 : decode cX0_biggest 83 = .ok (.ifCond .eq 42, 3) := dk_153 0 42 (dk_at dksX0_biggest_3 14 rfl rfl)
theorem dX0_biggest_86 : decode cX0_biggest 86 = .ok (.iload 6, 2) := dk_21 6 (dk_at dksX0_biggest_3 17 rfl rfl)
theorem dX0_biggest_88 : decode cX0_biggest 88 = .ok (.ifCond .eq 37, 3) := dk_153 0 37 (dk_at dksX0_biggest_3 19 rfl rfl)
theorem dX0_biggest_91 : decode cX0_biggest 91 = .ok (.iload 4, 2) := dk_21 4 (dk_at dksX0_biggest_3 22 rfl rfl)
theorem dX0_biggest_93 : decode cX0_biggest 93 = .ok (.iload 7, 2) := dk_21 7 (dk_at dksX0_biggest_4 0 rfl rfl)
theorem dX0_biggest_95 : decode cX0_biggest 95 = .ok (.invokestatic 223, 3) := dk_184 0 223 (dk_at dksX0_biggest_4 2 rfl rfl)
theorem dX0_biggest_98 : decode cX0_biggest 98 = .ok (.ixor, 1) := dk_130 (dk_at dksX0_biggest_4 5 rfl rfl)
theorem dX0_biggest_99 : decode cX0_biggest 99 = .ok (.invokestatic 195, 3) := dk_184 0 195 (dk_at dksX0_biggest_4 6 rfl rfl)
theorem dX0_biggest_102 : decode cX0_biggest 102 = .ok (.iload_n 1, 1) := dk_27 (dk_at dksX0_biggest_4 9 rfl rfl)
theorem dX0_biggest_103 : decode cX0_biggest 103 = .ok (.if_icmp .lt 7, 3) := dk_161 0 7 (dk_at dksX0_biggest_4 10 rfl rfl)
theorem dX0_biggest_106 : decode cX0_biggest 106 = .ok (.iconst 1, 1) := dk_4 (dk_at dksX0_biggest_4 13 rfl rfl)
theorem dX0_biggest_107 : decode cX0_biggest 107 = .ok (.goto 4, 3) := dk_167 0 4 (dk_at dksX0_biggest_4 14 rfl rfl)
theorem dX0_biggest_110 : decode cX0_biggest 110 = .ok (.iconst 0, 1) := dk_3 (dk_at dksX0_biggest_4 17 rfl rfl)
theorem dX0_biggest_111 : decode cX0_biggest 111 = .ok (.istore 6, 2) := dk_54 6 (dk_at dksX0_biggest_4 18 rfl rfl)
theorem dX0_biggest_113 : decode cX0_biggest 113 = .ok (.iload 7, 2) := dk_21 7 (dk_at dksX0_biggest_4 20 rfl rfl)
theorem dX0_biggest_115 : decode cX0_biggest 115 = .ok (.iload 7, 2) := dk_21 7 (dk_at dksX0_biggest_4 22 rfl rfl)
theorem dX0_biggest_117 : decode cX0_biggest 117 = .ok (.iconst 1, 1) := dk_4 (dk_at dksX0_biggest_5 0 rfl rfl)
theorem dX0_biggest_118 : decode cX0_biggest 118 = .ok (.isub, 1) := dk_100 (dk_at dksX0_biggest_5 1 rfl rfl)
theorem dX0_biggest_119 : decode cX0_biggest 119 = .ok (.iand, 1) := dk_126 (dk_at dksX0_biggest_5 2 rfl rfl)
theorem dX0_biggest_120 : decode cX0_biggest 120 = .ok (.istore 7, 2) := dk_54 7 (dk_at dksX0_biggest_5 3 rfl rfl)
theorem dX0_biggest_122 : decode cX0_biggest 122 = .ok (.goto (-41), 3) := dk_167 255 215 (dk_at dksX0_biggest_5 5 rfl rfl)
theorem dX0_biggest_125 : decode cX0_biggest 125 = .ok (.aload_n 0, 1) := dk_42 (dk_at dksX0_biggest_5 8 rfl rfl)
theorem dX0_biggest_126 : decode cX0_biggest 126 = .ok (.getfield 84, 3) := dk_180 0 84 (dk_at dksX0_biggest_5 9 rfl rfl)
theorem dX0_biggest_129 : decode cX0_biggest 129 = .ok (.iload_n 3, 1) := dk_29 (dk_at dksX0_biggest_5 12 rfl rfl)
theorem dX0_biggest_130 : decode cX0_biggest 130 = .ok (.iload 6, 2) := dk_21 6 (dk_at dksX0_biggest_5 13 rfl rfl)
theorem dX0_biggest_132 : decode cX0_biggest 132 = .ok (.bastore, 1) := dk_84 (dk_at dksX0_biggest_5 15 rfl rfl)
theorem dX0_biggest_133 : decode cX0_biggest 133 = .ok (.iload 6, 2) := dk_21 6 (dk_at dksX0_biggest_5 16 rfl rfl)
theorem dX0_biggest_135 : decode cX0_biggest 135 = .ok (.ifCond .eq 14, 3) := dk_153 0 14 (dk_at dksX0_biggest_5 18 rfl rfl)
theorem dX0_biggest_138 : decode cX0_biggest 138 = .ok (.iload_n 2, 1) := dk_28 (dk_at dksX0_biggest_5 21 rfl rfl)
theorem dX0_biggest_139 : decode cX0_biggest 139 = .ok (.iload_n 3, 1) := dk_29 (dk_at dksX0_biggest_5 22 rfl rfl)
theorem dX0_biggest_140 : decode cX0_biggest 140 = .ok (.invokestatic 195, 3) := dk_184 0 195 (dk_at dksX0_biggest_6 0 rfl rfl)
theorem dX0_biggest_143 : decode cX0_biggest 143 = .ok (.invokestatic 240, 3) := dk_184 0 240 (dk_at dksX0_biggest_6 3 rfl rfl)
theorem dX0_biggest_146 : decode cX0_biggest 146 = .ok (.goto 4, 3) := dk_167 0 4 (dk_at dksX0_biggest_6 6 rfl rfl)
theorem dX0_biggest_149 : decode cX0_biggest 149 = .ok (.iload_n 2, 1) := dk_28 (dk_at dksX0_biggest_6 9 rfl rfl)
theorem dX0_biggest_150 : decode cX0_biggest 150 = .ok (.istore_n 2, 1) := dk_61 (dk_at dksX0_biggest_6 10 rfl rfl)
theorem dX0_biggest_151 : decode cX0_biggest 151 = .ok (.iinc 3 1, 3) := dk_132 3 1 (dk_at dksX0_biggest_6 11 rfl rfl)
theorem dX0_biggest_154 : decode cX0_biggest 154 = .ok (.goto (-107), 3) := dk_167 255 149 (dk_at dksX0_biggest_6 14 rfl rfl)
theorem dX0_biggest_157 : decode cX0_biggest 157 = .ok (.iload_n 2, 1) := dk_28 (dk_at dksX0_biggest_6 17 rfl rfl)
theorem dX0_biggest_158 : decode cX0_biggest 158 = .ok (.ireturn, 1) := dk_172 (dk_at dksX0_biggest_6 18 rfl rfl)
abbrev cX0_shadow : ByteArray := prog_1_method_99_code
def yX0_shadow : MethodName := ⟨RX0, "shadow", "(II)I"⟩
def dkwX0_shadow_1 : List UInt8 := [4, 100, 126, 27, 28, 4, 96, 122, 28, 120, 128, 172]
abbrev dktX0_shadow_1 : List UInt8 := dkwX0_shadow_1 ++ []
def dkwX0_shadow_0 : List UInt8 := [42, 27, 133, 182, 0, 167, 153, 0, 11, 42, 28, 182, 0, 171, 154, 0, 6, 16, 254, 172, 27, 4, 28, 120]
abbrev dktX0_shadow_0 : List UInt8 := dkwX0_shadow_0 ++ dktX0_shadow_1
theorem dksX0_shadow_0 : cX0_shadow.data.toList.drop 0 = dktX0_shadow_0 := by decide +kernel
theorem dksX0_shadow_1 : cX0_shadow.data.toList.drop 24 = dktX0_shadow_1 := dk_seg dksX0_shadow_0 24 rfl rfl
theorem dX0_shadow_0 : decode cX0_shadow 0 = .ok (.aload_n 0, 1) := dk_42 (dk_at dksX0_shadow_0 0 rfl rfl)
theorem dX0_shadow_1 : decode cX0_shadow 1 = .ok (.iload_n 1, 1) := dk_27 (dk_at dksX0_shadow_0 1 rfl rfl)
theorem dX0_shadow_2 : decode cX0_shadow 2 = .ok (.i2l, 1) := dk_133 (dk_at dksX0_shadow_0 2 rfl rfl)
theorem dX0_shadow_3 : decode cX0_shadow 3 = .ok (.invokevirtual 167, 3) := dk_182 0 167 (dk_at dksX0_shadow_0 3 rfl rfl)
theorem dX0_shadow_6 : decode cX0_shadow 6 = .ok (.ifCond .eq 11, 3) := dk_153 0 11 (dk_at dksX0_shadow_0 6 rfl rfl)
theorem dX0_shadow_9 : decode cX0_shadow 9 = .ok (.aload_n 0, 1) := dk_42 (dk_at dksX0_shadow_0 9 rfl rfl)
theorem dX0_shadow_10 : decode cX0_shadow 10 = .ok (.iload_n 2, 1) := dk_28 (dk_at dksX0_shadow_0 10 rfl rfl)
theorem dX0_shadow_11 : decode cX0_shadow 11 = .ok (.invokevirtual 171, 3) := dk_182 0 171 (dk_at dksX0_shadow_0 11 rfl rfl)
theorem dX0_shadow_14 : decode cX0_shadow 14 = .ok (.ifCond .ne 6, 3) := dk_154 0 6 (dk_at dksX0_shadow_0 14 rfl rfl)
theorem dX0_shadow_17 : decode cX0_shadow 17 = .ok (.bipush (-2), 2) := dk_16 254 (dk_at dksX0_shadow_0 17 rfl rfl)
theorem dX0_shadow_19 : decode cX0_shadow 19 = .ok (.ireturn, 1) := dk_172 (dk_at dksX0_shadow_0 19 rfl rfl)
theorem dX0_shadow_20 : decode cX0_shadow 20 = .ok (.iload_n 1, 1) := dk_27 (dk_at dksX0_shadow_0 20 rfl rfl)
theorem dX0_shadow_21 : decode cX0_shadow 21 = .ok (.iconst 1, 1) := dk_4 (dk_at dksX0_shadow_0 21 rfl rfl)
theorem dX0_shadow_22 : decode cX0_shadow 22 = .ok (.iload_n 2, 1) := dk_28 (dk_at dksX0_shadow_0 22 rfl rfl)
theorem dX0_shadow_23 : decode cX0_shadow 23 = .ok (.ishl, 1) := dk_120 (dk_at dksX0_shadow_0 23 rfl rfl)
theorem dX0_shadow_24 : decode cX0_shadow 24 = .ok (.iconst 1, 1) := dk_4 (dk_at dksX0_shadow_1 0 rfl rfl)
theorem dX0_shadow_25 : decode cX0_shadow 25 = .ok (.isub, 1) := dk_100 (dk_at dksX0_shadow_1 1 rfl rfl)
theorem dX0_shadow_26 : decode cX0_shadow 26 = .ok (.iand, 1) := dk_126 (dk_at dksX0_shadow_1 2 rfl rfl)
theorem dX0_shadow_27 : decode cX0_shadow 27 = .ok (.iload_n 1, 1) := dk_27 (dk_at dksX0_shadow_1 3 rfl rfl)
theorem dX0_shadow_28 : decode cX0_shadow 28 = .ok (.iload_n 2, 1) := dk_28 (dk_at dksX0_shadow_1 4 rfl rfl)
theorem dX0_shadow_29 : decode cX0_shadow 29 = .ok (.iconst 1, 1) := dk_4 (dk_at dksX0_shadow_1 5 rfl rfl)
theorem dX0_shadow_30 : decode cX0_shadow 30 = .ok (.iadd, 1) := dk_96 (dk_at dksX0_shadow_1 6 rfl rfl)
theorem dX0_shadow_31 : decode cX0_shadow 31 = .ok (.ishr, 1) := dk_122 (dk_at dksX0_shadow_1 7 rfl rfl)
theorem dX0_shadow_32 : decode cX0_shadow 32 = .ok (.iload_n 2, 1) := dk_28 (dk_at dksX0_shadow_1 8 rfl rfl)
theorem dX0_shadow_33 : decode cX0_shadow 33 = .ok (.ishl, 1) := dk_120 (dk_at dksX0_shadow_1 9 rfl rfl)
theorem dX0_shadow_34 : decode cX0_shadow 34 = .ok (.ior, 1) := dk_128 (dk_at dksX0_shadow_1 10 rfl rfl)
theorem dX0_shadow_35 : decode cX0_shadow 35 = .ok (.ireturn, 1) := dk_172 (dk_at dksX0_shadow_1 11 rfl rfl)
abbrev cX0_crossings : ByteArray := prog_1_method_102_code
def yX0_crossings : MethodName := ⟨RX0, "crossings", "(I)I"⟩
def dkwX0_crossings_5 : List UInt8 := [42, 182, 1, 154, 172, 77, 16, 250, 172]
abbrev dktX0_crossings_5 : List UInt8 := dkwX0_crossings_5 ++ []
def dkwX0_crossings_4 : List UInt8 := [182, 1, 148, 120, 128, 61, 42, 180, 0, 88, 42, 27, 29, 182, 1, 148, 29, 79, 132, 3, 1, 167, 255, 186]
abbrev dktX0_crossings_4 : List UInt8 := dkwX0_crossings_4 ++ dktX0_crossings_5
def dkwX0_crossings_3 : List UInt8 := [153, 0, 16, 28, 42, 27, 29, 182, 1, 148, 184, 0, 204, 153, 0, 6, 16, 254, 172, 28, 4, 42, 27, 29]
abbrev dktX0_crossings_3 : List UInt8 := dkwX0_crossings_3 ++ dktX0_crossings_4
def dkwX0_crossings_2 : List UInt8 := [180, 0, 10, 182, 0, 161, 162, 0, 65, 42, 42, 180, 0, 118, 27, 50, 29, 182, 1, 138, 182, 0, 167]
abbrev dktX0_crossings_2 : List UInt8 := dkwX0_crossings_2 ++ dktX0_crossings_3
def dkwX0_crossings_1 : List UInt8 := [182, 1, 135, 42, 180, 0, 10, 182, 0, 161, 159, 0, 6, 16, 249, 172, 3, 61, 3, 62, 29, 42]
abbrev dktX0_crossings_1 : List UInt8 := dkwX0_crossings_1 ++ dktX0_crossings_2
def dkwX0_crossings_0 : List UInt8 := [27, 184, 1, 132, 153, 0, 10, 42, 182, 0, 233, 154, 0, 6, 16, 254, 172, 42, 180, 0, 118, 27, 50]
abbrev dktX0_crossings_0 : List UInt8 := dkwX0_crossings_0 ++ dktX0_crossings_1
theorem dksX0_crossings_0 : cX0_crossings.data.toList.drop 0 = dktX0_crossings_0 := by decide +kernel
theorem dksX0_crossings_1 : cX0_crossings.data.toList.drop 23 = dktX0_crossings_1 := dk_seg dksX0_crossings_0 23 rfl rfl
theorem dksX0_crossings_2 : cX0_crossings.data.toList.drop 45 = dktX0_crossings_2 := dk_seg dksX0_crossings_1 22 rfl rfl
theorem dksX0_crossings_3 : cX0_crossings.data.toList.drop 68 = dktX0_crossings_3 := dk_seg dksX0_crossings_2 23 rfl rfl
theorem dksX0_crossings_4 : cX0_crossings.data.toList.drop 92 = dktX0_crossings_4 := dk_seg dksX0_crossings_3 24 rfl rfl
theorem dksX0_crossings_5 : cX0_crossings.data.toList.drop 116 = dktX0_crossings_5 := dk_seg dksX0_crossings_4 24 rfl rfl
theorem dX0_crossings_0 : decode cX0_crossings 0 = .ok (.iload_n 1, 1) := dk_27 (dk_at dksX0_crossings_0 0 rfl rfl)
theorem dX0_crossings_1 : decode cX0_crossings 1 = .ok (.invokestatic 388, 3) := dk_184 1 132 (dk_at dksX0_crossings_0 1 rfl rfl)
theorem dX0_crossings_4 : decode cX0_crossings 4 = .ok (.ifCond .eq 10, 3) := dk_153 0 10 (dk_at dksX0_crossings_0 4 rfl rfl)
theorem dX0_crossings_7 : decode cX0_crossings 7 = .ok (.aload_n 0, 1) := dk_42 (dk_at dksX0_crossings_0 7 rfl rfl)
theorem dX0_crossings_8 : decode cX0_crossings 8 = .ok (.invokevirtual 233, 3) := dk_182 0 233 (dk_at dksX0_crossings_0 8 rfl rfl)
theorem dX0_crossings_11 : decode cX0_crossings 11 = .ok (.ifCond .ne 6, 3) := dk_154 0 6 (dk_at dksX0_crossings_0 11 rfl rfl)
theorem dX0_crossings_14 : decode cX0_crossings 14 = .ok (.bipush (-2), 2) := dk_16 254 (dk_at dksX0_crossings_0 14 rfl rfl)
theorem dX0_crossings_16 : decode cX0_crossings 16 = .ok (.ireturn, 1) := dk_172 (dk_at dksX0_crossings_0 16 rfl rfl)
theorem dX0_crossings_17 : decode cX0_crossings 17 = .ok (.aload_n 0, 1) := dk_42 (dk_at dksX0_crossings_0 17 rfl rfl)
theorem dX0_crossings_18 : decode cX0_crossings 18 = .ok (.getfield 118, 3) := dk_180 0 118 (dk_at dksX0_crossings_0 18 rfl rfl)
theorem dX0_crossings_21 : decode cX0_crossings 21 = .ok (.iload_n 1, 1) := dk_27 (dk_at dksX0_crossings_0 21 rfl rfl)
theorem dX0_crossings_22 : decode cX0_crossings 22 = .ok (.aaload, 1) := dk_50 (dk_at dksX0_crossings_0 22 rfl rfl)
theorem dX0_crossings_23 : decode cX0_crossings 23 = .ok (.invokevirtual 391, 3) := dk_182 1 135 (dk_at dksX0_crossings_1 0 rfl rfl)
theorem dX0_crossings_26 : decode cX0_crossings 26 = .ok (.aload_n 0, 1) := dk_42 (dk_at dksX0_crossings_1 3 rfl rfl)
theorem dX0_crossings_27 : decode cX0_crossings 27 = .ok (.getfield 10, 3) := dk_180 0 10 (dk_at dksX0_crossings_1 4 rfl rfl)
theorem dX0_crossings_30 : decode cX0_crossings 30 = .ok (.invokevirtual 161, 3) := dk_182 0 161 (dk_at dksX0_crossings_1 7 rfl rfl)
theorem dX0_crossings_33 : decode cX0_crossings 33 = .ok (.if_icmp .eq 6, 3) := dk_159 0 6 (dk_at dksX0_crossings_1 10 rfl rfl)
theorem dX0_crossings_36 : decode cX0_crossings 36 = .ok (.bipush (-7), 2) := dk_16 249 (dk_at dksX0_crossings_1 13 rfl rfl)
theorem dX0_crossings_38 : decode cX0_crossings 38 = .ok (.ireturn, 1) := dk_172 (dk_at dksX0_crossings_1 15 rfl rfl)
theorem dX0_crossings_39 : decode cX0_crossings 39 = .ok (.iconst 0, 1) := dk_3 (dk_at dksX0_crossings_1 16 rfl rfl)
theorem dX0_crossings_40 : decode cX0_crossings 40 = .ok (.istore_n 2, 1) := dk_61 (dk_at dksX0_crossings_1 17 rfl rfl)
theorem dX0_crossings_41 : decode cX0_crossings 41 = .ok (.iconst 0, 1) := dk_3 (dk_at dksX0_crossings_1 18 rfl rfl)
theorem dX0_crossings_42 : decode cX0_crossings 42 = .ok (.istore_n 3, 1) := dk_62 (dk_at dksX0_crossings_1 19 rfl rfl)
theorem dX0_crossings_43 : decode cX0_crossings 43 = .ok (.iload_n 3, 1) := dk_29 (dk_at dksX0_crossings_1 20 rfl rfl)
theorem dX0_crossings_44 : decode cX0_crossings 44 = .ok (.aload_n 0, 1) := dk_42 (dk_at dksX0_crossings_1 21 rfl rfl)
theorem dX0_crossings_45 : decode cX0_crossings 45 = .ok (.getfield 10, 3) := dk_180 0 10 (dk_at dksX0_crossings_2 0 rfl rfl)
theorem dX0_crossings_48 : decode cX0_crossings 48 = .ok (.invokevirtual 161, 3) := dk_182 0 161 (dk_at dksX0_crossings_2 3 rfl rfl)
theorem dX0_crossings_51 : decode cX0_crossings 51 = .ok (.if_icmp .ge 65, 3) := dk_162 0 65 (dk_at dksX0_crossings_2 6 rfl rfl)
theorem dX0_crossings_54 : decode cX0_crossings 54 = .ok (.aload_n 0, 1) := dk_42 (dk_at dksX0_crossings_2 9 rfl rfl)
theorem dX0_crossings_55 : decode cX0_crossings 55 = .ok (.aload_n 0, 1) := dk_42 (dk_at dksX0_crossings_2 10 rfl rfl)
theorem dX0_crossings_56 : decode cX0_crossings 56 = .ok (.getfield 118, 3) := dk_180 0 118 (dk_at dksX0_crossings_2 11 rfl rfl)
theorem dX0_crossings_59 : decode cX0_crossings 59 = .ok (.iload_n 1, 1) := dk_27 (dk_at dksX0_crossings_2 14 rfl rfl)
theorem dX0_crossings_60 : decode cX0_crossings 60 = .ok (.aaload, 1) := dk_50 (dk_at dksX0_crossings_2 15 rfl rfl)
theorem dX0_crossings_61 : decode cX0_crossings 61 = .ok (.iload_n 3, 1) := dk_29 (dk_at dksX0_crossings_2 16 rfl rfl)
theorem dX0_crossings_62 : decode cX0_crossings 62 = .ok (.invokevirtual 394, 3) := dk_182 1 138 (dk_at dksX0_crossings_2 17 rfl rfl)
theorem dX0_crossings_65 : decode cX0_crossings 65 = .ok (.invokevirtual 167, 3) := dk_182 0 167 (dk_at dksX0_crossings_2 20 rfl rfl)
theorem dX0_crossings_68 : decode cX0_crossings 68 = .ok (.ifCond .eq 16, 3) := dk_153 0 16 (dk_at dksX0_crossings_3 0 rfl rfl)
theorem dX0_crossings_71 : decode cX0_crossings 71 = .ok (.iload_n 2, 1) := dk_28 (dk_at dksX0_crossings_3 3 rfl rfl)
theorem dX0_crossings_72 : decode cX0_crossings 72 = .ok (.aload_n 0, 1) := dk_42 (dk_at dksX0_crossings_3 4 rfl rfl)
theorem dX0_crossings_73 : decode cX0_crossings 73 = .ok (.iload_n 1, 1) := dk_27 (dk_at dksX0_crossings_3 5 rfl rfl)
theorem dX0_crossings_74 : decode cX0_crossings 74 = .ok (.iload_n 3, 1) := dk_29 (dk_at dksX0_crossings_3 6 rfl rfl)
theorem dX0_crossings_75 : decode cX0_crossings 75 = .ok (.invokevirtual 404, 3) := dk_182 1 148 (dk_at dksX0_crossings_3 7 rfl rfl)
theorem dX0_crossings_78 : decode cX0_crossings 78 = .ok (.invokestatic 204, 3) := dk_184 0 204 (dk_at dksX0_crossings_3 10 rfl rfl)
theorem dX0_crossings_81 : decode cX0_crossings 81 = .ok (.ifCond .eq 6, 3) := dk_153 0 6 (dk_at dksX0_crossings_3 13 rfl rfl)
theorem dX0_crossings_84 : decode cX0_crossings 84 = .ok (.bipush (-2), 2) := dk_16 254 (dk_at dksX0_crossings_3 16 rfl rfl)
theorem dX0_crossings_86 : decode cX0_crossings 86 = .ok (.ireturn, 1) := dk_172 (dk_at dksX0_crossings_3 18 rfl rfl)
theorem dX0_crossings_87 : decode cX0_crossings 87 = .ok (.iload_n 2, 1) := dk_28 (dk_at dksX0_crossings_3 19 rfl rfl)
theorem dX0_crossings_88 : decode cX0_crossings 88 = .ok (.iconst 1, 1) := dk_4 (dk_at dksX0_crossings_3 20 rfl rfl)
theorem dX0_crossings_89 : decode cX0_crossings 89 = .ok (.aload_n 0, 1) := dk_42 (dk_at dksX0_crossings_3 21 rfl rfl)
theorem dX0_crossings_90 : decode cX0_crossings 90 = .ok (.iload_n 1, 1) := dk_27 (dk_at dksX0_crossings_3 22 rfl rfl)
theorem dX0_crossings_91 : decode cX0_crossings 91 = .ok (.iload_n 3, 1) := dk_29 (dk_at dksX0_crossings_3 23 rfl rfl)
theorem dX0_crossings_92 : decode cX0_crossings 92 = .ok (.invokevirtual 404, 3) := dk_182 1 148 (dk_at dksX0_crossings_4 0 rfl rfl)
theorem dX0_crossings_95 : decode cX0_crossings 95 = .ok (.ishl, 1) := dk_120 (dk_at dksX0_crossings_4 3 rfl rfl)
theorem dX0_crossings_96 : decode cX0_crossings 96 = .ok (.ior, 1) := dk_128 (dk_at dksX0_crossings_4 4 rfl rfl)
theorem dX0_crossings_97 : decode cX0_crossings 97 = .ok (.istore_n 2, 1) := dk_61 (dk_at dksX0_crossings_4 5 rfl rfl)
theorem dX0_crossings_98 : decode cX0_crossings 98 = .ok (.aload_n 0, 1) := dk_42 (dk_at dksX0_crossings_4 6 rfl rfl)
theorem dX0_crossings_99 : decode cX0_crossings 99 = .ok (.getfield 88, 3) := dk_180 0 88 (dk_at dksX0_crossings_4 7 rfl rfl)
theorem dX0_crossings_102 : decode cX0_crossings 102 = .ok (.aload_n 0, 1) := dk_42 (dk_at dksX0_crossings_4 10 rfl rfl)
theorem dX0_crossings_103 : decode cX0_crossings 103 = .ok (.iload_n 1, 1) := dk_27 (dk_at dksX0_crossings_4 11 rfl rfl)
theorem dX0_crossings_104 : decode cX0_crossings 104 = .ok (.iload_n 3, 1) := dk_29 (dk_at dksX0_crossings_4 12 rfl rfl)
theorem dX0_crossings_105 : decode cX0_crossings 105 = .ok (.invokevirtual 404, 3) := dk_182 1 148 (dk_at dksX0_crossings_4 13 rfl rfl)
theorem dX0_crossings_108 : decode cX0_crossings 108 = .ok (.iload_n 3, 1) := dk_29 (dk_at dksX0_crossings_4 16 rfl rfl)
theorem dX0_crossings_109 : decode cX0_crossings 109 = .ok (.iastore, 1) := dk_79 (dk_at dksX0_crossings_4 17 rfl rfl)
theorem dX0_crossings_110 : decode cX0_crossings 110 = .ok (.iinc 3 1, 3) := dk_132 3 1 (dk_at dksX0_crossings_4 18 rfl rfl)
theorem dX0_crossings_113 : decode cX0_crossings 113 = .ok (.goto (-70), 3) := dk_167 255 186 (dk_at dksX0_crossings_4 21 rfl rfl)
theorem dX0_crossings_116 : decode cX0_crossings 116 = .ok (.aload_n 0, 1) := dk_42 (dk_at dksX0_crossings_5 0 rfl rfl)
theorem dX0_crossings_117 : decode cX0_crossings 117 = .ok (.invokevirtual 410, 3) := dk_182 1 154 (dk_at dksX0_crossings_5 1 rfl rfl)
theorem dX0_crossings_120 : decode cX0_crossings 120 = .ok (.ireturn, 1) := dk_172 (dk_at dksX0_crossings_5 4 rfl rfl)
theorem dX0_crossings_121 : decode cX0_crossings 121 = .ok (.astore_n 2, 1) := dk_77 (dk_at dksX0_crossings_5 5 rfl rfl)
theorem dX0_crossings_122 : decode cX0_crossings 122 = .ok (.bipush (-6), 2) := dk_16 250 (dk_at dksX0_crossings_5 6 rfl rfl)
theorem dX0_crossings_124 : decode cX0_crossings 124 = .ok (.ireturn, 1) := dk_172 (dk_at dksX0_crossings_5 8 rfl rfl)
abbrev cX0_crossingsNow : ByteArray := prog_1_method_100_code
def yX0_crossingsNow : MethodName := ⟨RX0, "crossingsNow", "()I"⟩
def dkwX0_crossingsNow_3 : List UInt8 := [167, 255, 206, 132, 2, 1, 167, 255, 187, 27, 5, 108, 172]
abbrev dktX0_crossingsNow_3 : List UInt8 := dkwX0_crossingsNow_3 ++ []
def dkwX0_crossingsNow_2 : List UInt8 := [154, 0, 6, 167, 0, 16, 27, 42, 28, 28, 4, 29, 120, 130, 182, 1, 151, 96, 60, 132, 3, 1]
abbrev dktX0_crossingsNow_2 : List UInt8 := dkwX0_crossingsNow_2 ++ dktX0_crossingsNow_3
def dkwX0_crossingsNow_1 : List UInt8 := [180, 0, 158, 162, 0, 45, 28, 29, 184, 0, 204, 154, 0, 31, 42, 180, 0, 10, 28, 29, 182, 0, 181]
abbrev dktX0_crossingsNow_1 : List UInt8 := dkwX0_crossingsNow_1 ++ dktX0_crossingsNow_2
def dkwX0_crossingsNow_0 : List UInt8 := [3, 60, 3, 61, 28, 42, 180, 0, 10, 182, 0, 161, 162, 0, 64, 3, 62, 29, 42, 180, 0, 10]
abbrev dktX0_crossingsNow_0 : List UInt8 := dkwX0_crossingsNow_0 ++ dktX0_crossingsNow_1
theorem dksX0_crossingsNow_0 : cX0_crossingsNow.data.toList.drop 0 = dktX0_crossingsNow_0 := by decide +kernel
theorem dksX0_crossingsNow_1 : cX0_crossingsNow.data.toList.drop 22 = dktX0_crossingsNow_1 := dk_seg dksX0_crossingsNow_0 22 rfl rfl
theorem dksX0_crossingsNow_2 : cX0_crossingsNow.data.toList.drop 45 = dktX0_crossingsNow_2 := dk_seg dksX0_crossingsNow_1 23 rfl rfl
theorem dksX0_crossingsNow_3 : cX0_crossingsNow.data.toList.drop 67 = dktX0_crossingsNow_3 := dk_seg dksX0_crossingsNow_2 22 rfl rfl
theorem dX0_crossingsNow_0 : decode cX0_crossingsNow 0 = .ok (.iconst 0, 1) := dk_3 (dk_at dksX0_crossingsNow_0 0 rfl rfl)
theorem dX0_crossingsNow_1 : decode cX0_crossingsNow 1 = .ok (.istore_n 1, 1) := dk_60 (dk_at dksX0_crossingsNow_0 1 rfl rfl)
theorem dX0_crossingsNow_2 : decode cX0_crossingsNow 2 = .ok (.iconst 0, 1) := dk_3 (dk_at dksX0_crossingsNow_0 2 rfl rfl)
theorem dX0_crossingsNow_3 : decode cX0_crossingsNow 3 = .ok (.istore_n 2, 1) := dk_61 (dk_at dksX0_crossingsNow_0 3 rfl rfl)
theorem dX0_crossingsNow_4 : decode cX0_crossingsNow 4 = .ok (.iload_n 2, 1) := dk_28 (dk_at dksX0_crossingsNow_0 4 rfl rfl)
theorem dX0_crossingsNow_5 : decode cX0_crossingsNow 5 = .ok (.aload_n 0, 1) := dk_42 (dk_at dksX0_crossingsNow_0 5 rfl rfl)
theorem dX0_crossingsNow_6 : decode cX0_crossingsNow 6 = .ok (.getfield 10, 3) := dk_180 0 10 (dk_at dksX0_crossingsNow_0 6 rfl rfl)
theorem dX0_crossingsNow_9 : decode cX0_crossingsNow 9 = .ok (.invokevirtual 161, 3) := dk_182 0 161 (dk_at dksX0_crossingsNow_0 9 rfl rfl)
theorem dX0_crossingsNow_12 : decode cX0_crossingsNow 12 = .ok (.if_icmp .ge 64, 3) := dk_162 0 64 (dk_at dksX0_crossingsNow_0 12 rfl rfl)
theorem dX0_crossingsNow_15 : decode cX0_crossingsNow 15 = .ok (.iconst 0, 1) := dk_3 (dk_at dksX0_crossingsNow_0 15 rfl rfl)
theorem dX0_crossingsNow_16 : decode cX0_crossingsNow 16 = .ok (.istore_n 3, 1) := dk_62 (dk_at dksX0_crossingsNow_0 16 rfl rfl)
theorem dX0_crossingsNow_17 : decode cX0_crossingsNow 17 = .ok (.iload_n 3, 1) := dk_29 (dk_at dksX0_crossingsNow_0 17 rfl rfl)
theorem dX0_crossingsNow_18 : decode cX0_crossingsNow 18 = .ok (.aload_n 0, 1) := dk_42 (dk_at dksX0_crossingsNow_0 18 rfl rfl)
theorem dX0_crossingsNow_19 : decode cX0_crossingsNow 19 = .ok (.getfield 10, 3) := dk_180 0 10 (dk_at dksX0_crossingsNow_0 19 rfl rfl)
theorem dX0_crossingsNow_22 : decode cX0_crossingsNow 22 = .ok (.getfield 158, 3) := dk_180 0 158 (dk_at dksX0_crossingsNow_1 0 rfl rfl)
theorem dX0_crossingsNow_25 : decode cX0_crossingsNow 25 = .ok (.if_icmp .ge 45, 3) := dk_162 0 45 (dk_at dksX0_crossingsNow_1 3 rfl rfl)
theorem dX0_crossingsNow_28 : decode cX0_crossingsNow 28 = .ok (.iload_n 2, 1) := dk_28 (dk_at dksX0_crossingsNow_1 6 rfl rfl)
theorem dX0_crossingsNow_29 : decode cX0_crossingsNow 29 = .ok (.iload_n 3, 1) := dk_29 (dk_at dksX0_crossingsNow_1 7 rfl rfl)
theorem dX0_crossingsNow_30 : decode cX0_crossingsNow 30 = .ok (.invokestatic 204, 3) := dk_184 0 204 (dk_at dksX0_crossingsNow_1 8 rfl rfl)
theorem dX0_crossingsNow_33 : decode cX0_crossingsNow 33 = .ok (.ifCond .ne 31, 3) := dk_154 0 31 (dk_at dksX0_crossingsNow_1 11 rfl rfl)
theorem dX0_crossingsNow_36 : decode cX0_crossingsNow 36 = .ok (.aload_n 0, 1) := dk_42 (dk_at dksX0_crossingsNow_1 14 rfl rfl)
theorem dX0_crossingsNow_37 : decode cX0_crossingsNow 37 = .ok (.getfield 10, 3) := dk_180 0 10 (dk_at dksX0_crossingsNow_1 15 rfl rfl)
theorem dX0_crossingsNow_40 : decode cX0_crossingsNow 40 = .ok (.iload_n 2, 1) := dk_28 (dk_at dksX0_crossingsNow_1 18 rfl rfl)
theorem dX0_crossingsNow_41 : decode cX0_crossingsNow 41 = .ok (.iload_n 3, 1) := dk_29 (dk_at dksX0_crossingsNow_1 19 rfl rfl)
theorem dX0_crossingsNow_42 : decode cX0_crossingsNow 42 = .ok (.invokevirtual 181, 3) := dk_182 0 181 (dk_at dksX0_crossingsNow_1 20 rfl rfl)
theorem dX0_crossingsNow_45 : decode cX0_crossingsNow 45 = .ok (.ifCond .ne 6, 3) := dk_154 0 6 (dk_at dksX0_crossingsNow_2 0 rfl rfl)
theorem dX0_crossingsNow_48 : decode cX0_crossingsNow 48 = .ok (.goto 16, 3) := dk_167 0 16 (dk_at dksX0_crossingsNow_2 3 rfl rfl)
theorem dX0_crossingsNow_51 : decode cX0_crossingsNow 51 = .ok (.iload_n 1, 1) := dk_27 (dk_at dksX0_crossingsNow_2 6 rfl rfl)
theorem dX0_crossingsNow_52 : decode cX0_crossingsNow 52 = .ok (.aload_n 0, 1) := dk_42 (dk_at dksX0_crossingsNow_2 7 rfl rfl)
theorem dX0_crossingsNow_53 : decode cX0_crossingsNow 53 = .ok (.iload_n 2, 1) := dk_28 (dk_at dksX0_crossingsNow_2 8 rfl rfl)
theorem dX0_crossingsNow_54 : decode cX0_crossingsNow 54 = .ok (.iload_n 2, 1) := dk_28 (dk_at dksX0_crossingsNow_2 9 rfl rfl)
theorem dX0_crossingsNow_55 : decode cX0_crossingsNow 55 = .ok (.iconst 1, 1) := dk_4 (dk_at dksX0_crossingsNow_2 10 rfl rfl)
theorem dX0_crossingsNow_56 : decode cX0_crossingsNow 56 = .ok (.iload_n 3, 1) := dk_29 (dk_at dksX0_crossingsNow_2 11 rfl rfl)
theorem dX0_crossingsNow_57 : decode cX0_crossingsNow 57 = .ok (.ishl, 1) := dk_120 (dk_at dksX0_crossingsNow_2 12 rfl rfl)
theorem dX0_crossingsNow_58 : decode cX0_crossingsNow 58 = .ok (.ixor, 1) := dk_130 (dk_at dksX0_crossingsNow_2 13 rfl rfl)
theorem dX0_crossingsNow_59 : decode cX0_crossingsNow 59 = .ok (.invokevirtual 407, 3) := dk_182 1 151 (dk_at dksX0_crossingsNow_2 14 rfl rfl)
theorem dX0_crossingsNow_62 : decode cX0_crossingsNow 62 = .ok (.iadd, 1) := dk_96 (dk_at dksX0_crossingsNow_2 17 rfl rfl)
theorem dX0_crossingsNow_63 : decode cX0_crossingsNow 63 = .ok (.istore_n 1, 1) := dk_60 (dk_at dksX0_crossingsNow_2 18 rfl rfl)
theorem dX0_crossingsNow_64 : decode cX0_crossingsNow 64 = .ok (.iinc 3 1, 3) := dk_132 3 1 (dk_at dksX0_crossingsNow_2 19 rfl rfl)
theorem dX0_crossingsNow_67 : decode cX0_crossingsNow 67 = .ok (.goto (-50), 3) := dk_167 255 206 (dk_at dksX0_crossingsNow_3 0 rfl rfl)
theorem dX0_crossingsNow_70 : decode cX0_crossingsNow 70 = .ok (.iinc 2 1, 3) := dk_132 2 1 (dk_at dksX0_crossingsNow_3 3 rfl rfl)
theorem dX0_crossingsNow_73 : decode cX0_crossingsNow 73 = .ok (.goto (-69), 3) := dk_167 255 187 (dk_at dksX0_crossingsNow_3 6 rfl rfl)
theorem dX0_crossingsNow_76 : decode cX0_crossingsNow 76 = .ok (.iload_n 1, 1) := dk_27 (dk_at dksX0_crossingsNow_3 9 rfl rfl)
theorem dX0_crossingsNow_77 : decode cX0_crossingsNow 77 = .ok (.iconst 2, 1) := dk_5 (dk_at dksX0_crossingsNow_3 10 rfl rfl)
theorem dX0_crossingsNow_78 : decode cX0_crossingsNow 78 = .ok (.idiv, 1) := dk_108 (dk_at dksX0_crossingsNow_3 11 rfl rfl)
theorem dX0_crossingsNow_79 : decode cX0_crossingsNow 79 = .ok (.ireturn, 1) := dk_172 (dk_at dksX0_crossingsNow_3 12 rfl rfl)
abbrev cX0_crossedBy : ByteArray := prog_1_method_101_code
def yX0_crossedBy : MethodName := ⟨RX0, "crossedBy", "(II)I"⟩
def dkwX0_crossedBy_6 : List UInt8 := [96, 54, 5, 132, 7, 1, 167, 255, 190, 132, 6, 1, 167, 255, 143, 21, 5, 172]
abbrev dktX0_crossedBy_6 : List UInt8 := dkwX0_crossedBy_6 ++ []
def dkwX0_crossedBy_5 : List UInt8 := [182, 0, 181, 153, 0, 20, 21, 8, 29, 161, 0, 10, 21, 8, 21, 4, 164, 0, 7, 4, 167, 0, 4, 3]
abbrev dktX0_crossedBy_5 : List UInt8 := dkwX0_crossedBy_5 ++ dktX0_crossedBy_6
def dkwX0_crossedBy_4 : List UInt8 := [180, 0, 88, 21, 6, 4, 21, 7, 120, 130, 46, 54, 8, 21, 5, 42, 180, 0, 10, 21, 6, 21, 7]
abbrev dktX0_crossedBy_4 : List UInt8 := dkwX0_crossedBy_4 ++ dktX0_crossedBy_5
def dkwX0_crossedBy_3 : List UInt8 := [21, 4, 161, 0, 6, 167, 0, 75, 3, 54, 7, 21, 7, 42, 180, 0, 10, 180, 0, 158, 162, 0, 60, 42]
abbrev dktX0_crossedBy_3 : List UInt8 := dkwX0_crossedBy_3 ++ dktX0_crossedBy_4
def dkwX0_crossedBy_2 : List UInt8 := [182, 0, 161, 162, 0, 107, 42, 180, 0, 88, 21, 6, 46, 29, 164, 0, 90, 42, 180, 0, 88, 21, 6, 46]
abbrev dktX0_crossedBy_2 : List UInt8 := dkwX0_crossedBy_2 ++ dktX0_crossedBy_3
def dkwX0_crossedBy_1 : List UInt8 := [180, 0, 88, 28, 46, 184, 0, 240, 54, 4, 3, 54, 5, 3, 54, 6, 21, 6, 42, 180, 0, 10]
abbrev dktX0_crossedBy_1 : List UInt8 := dkwX0_crossedBy_1 ++ dktX0_crossedBy_2
def dkwX0_crossedBy_0 : List UInt8 := [42, 180, 0, 88, 27, 46, 42, 180, 0, 88, 28, 46, 184, 1, 96, 62, 42, 180, 0, 88, 27, 46, 42]
abbrev dktX0_crossedBy_0 : List UInt8 := dkwX0_crossedBy_0 ++ dktX0_crossedBy_1
theorem dksX0_crossedBy_0 : cX0_crossedBy.data.toList.drop 0 = dktX0_crossedBy_0 := by decide +kernel
theorem dksX0_crossedBy_1 : cX0_crossedBy.data.toList.drop 23 = dktX0_crossedBy_1 := dk_seg dksX0_crossedBy_0 23 rfl rfl
theorem dksX0_crossedBy_2 : cX0_crossedBy.data.toList.drop 45 = dktX0_crossedBy_2 := dk_seg dksX0_crossedBy_1 22 rfl rfl
theorem dksX0_crossedBy_3 : cX0_crossedBy.data.toList.drop 69 = dktX0_crossedBy_3 := dk_seg dksX0_crossedBy_2 24 rfl rfl
theorem dksX0_crossedBy_4 : cX0_crossedBy.data.toList.drop 93 = dktX0_crossedBy_4 := dk_seg dksX0_crossedBy_3 24 rfl rfl
theorem dksX0_crossedBy_5 : cX0_crossedBy.data.toList.drop 116 = dktX0_crossedBy_5 := dk_seg dksX0_crossedBy_4 23 rfl rfl
theorem dksX0_crossedBy_6 : cX0_crossedBy.data.toList.drop 140 = dktX0_crossedBy_6 := dk_seg dksX0_crossedBy_5 24 rfl rfl
theorem dX0_crossedBy_0 : decode cX0_crossedBy 0 = .ok (.aload_n 0, 1) := dk_42 (dk_at dksX0_crossedBy_0 0 rfl rfl)
theorem dX0_crossedBy_1 : decode cX0_crossedBy 1 = .ok (.getfield 88, 3) := dk_180 0 88 (dk_at dksX0_crossedBy_0 1 rfl rfl)
theorem dX0_crossedBy_4 : decode cX0_crossedBy 4 = .ok (.iload_n 1, 1) := dk_27 (dk_at dksX0_crossedBy_0 4 rfl rfl)
theorem dX0_crossedBy_5 : decode cX0_crossedBy 5 = .ok (.iaload, 1) := dk_46 (dk_at dksX0_crossedBy_0 5 rfl rfl)
theorem dX0_crossedBy_6 : decode cX0_crossedBy 6 = .ok (.aload_n 0, 1) := dk_42 (dk_at dksX0_crossedBy_0 6 rfl rfl)
theorem dX0_crossedBy_7 : decode cX0_crossedBy 7 = .ok (.getfield 88, 3) := dk_180 0 88 (dk_at dksX0_crossedBy_0 7 rfl rfl)
theorem dX0_crossedBy_10 : decode cX0_crossedBy 10 = .ok (.iload_n 2, 1) := dk_28 (dk_at dksX0_crossedBy_0 10 rfl rfl)
theorem dX0_crossedBy_11 : decode cX0_crossedBy 11 = .ok (.iaload, 1) := dk_46 (dk_at dksX0_crossedBy_0 11 rfl rfl)
theorem dX0_crossedBy_12 : decode cX0_crossedBy 12 = .ok (.invokestatic 352, 3) := dk_184 1 96 (dk_at dksX0_crossedBy_0 12 rfl rfl)
theorem dX0_crossedBy_15 : decode cX0_crossedBy 15 = .ok (.istore_n 3, 1) := dk_62 (dk_at dksX0_crossedBy_0 15 rfl rfl)
theorem dX0_crossedBy_16 : decode cX0_crossedBy 16 = .ok (.aload_n 0, 1) := dk_42 (dk_at dksX0_crossedBy_0 16 rfl rfl)
theorem dX0_crossedBy_17 : decode cX0_crossedBy 17 = .ok (.getfield 88, 3) := dk_180 0 88 (dk_at dksX0_crossedBy_0 17 rfl rfl)
theorem dX0_crossedBy_20 : decode cX0_crossedBy 20 = .ok (.iload_n 1, 1) := dk_27 (dk_at dksX0_crossedBy_0 20 rfl rfl)
theorem dX0_crossedBy_21 : decode cX0_crossedBy 21 = .ok (.iaload, 1) := dk_46 (dk_at dksX0_crossedBy_0 21 rfl rfl)
theorem dX0_crossedBy_22 : decode cX0_crossedBy 22 = .ok (.aload_n 0, 1) := dk_42 (dk_at dksX0_crossedBy_0 22 rfl rfl)
theorem dX0_crossedBy_23 : decode cX0_crossedBy 23 = .ok (.getfield 88, 3) := dk_180 0 88 (dk_at dksX0_crossedBy_1 0 rfl rfl)
theorem dX0_crossedBy_26 : decode cX0_crossedBy 26 = .ok (.iload_n 2, 1) := dk_28 (dk_at dksX0_crossedBy_1 3 rfl rfl)
theorem dX0_crossedBy_27 : decode cX0_crossedBy 27 = .ok (.iaload, 1) := dk_46 (dk_at dksX0_crossedBy_1 4 rfl rfl)
theorem dX0_crossedBy_28 : decode cX0_crossedBy 28 = .ok (.invokestatic 240, 3) := dk_184 0 240 (dk_at dksX0_crossedBy_1 5 rfl rfl)
theorem dX0_crossedBy_31 : decode cX0_crossedBy 31 = .ok (.istore 4, 2) := dk_54 4 (dk_at dksX0_crossedBy_1 8 rfl rfl)
theorem dX0_crossedBy_33 : decode cX0_crossedBy 33 = .ok (.iconst 0, 1) := dk_3 (dk_at dksX0_crossedBy_1 10 rfl rfl)
theorem dX0_crossedBy_34 : decode cX0_crossedBy 34 = .ok (.istore 5, 2) := dk_54 5 (dk_at dksX0_crossedBy_1 11 rfl rfl)
theorem dX0_crossedBy_36 : decode cX0_crossedBy 36 = .ok (.iconst 0, 1) := dk_3 (dk_at dksX0_crossedBy_1 13 rfl rfl)
theorem dX0_crossedBy_37 : decode cX0_crossedBy 37 = .ok (.istore 6, 2) := dk_54 6 (dk_at dksX0_crossedBy_1 14 rfl rfl)
theorem dX0_crossedBy_39 : decode cX0_crossedBy 39 = .ok (.iload 6, 2) := dk_21 6 (dk_at dksX0_crossedBy_1 16 rfl rfl)
theorem dX0_crossedBy_41 : decode cX0_crossedBy 41 = .ok (.aload_n 0, 1) := dk_42 (dk_at dksX0_crossedBy_1 18 rfl rfl)
theorem dX0_crossedBy_42 : decode cX0_crossedBy 42 = .ok (.getfield 10, 3) := dk_180 0 10 (dk_at dksX0_crossedBy_1 19 rfl rfl)
theorem dX0_crossedBy_45 : decode cX0_crossedBy 45 = .ok (.invokevirtual 161, 3) := dk_182 0 161 (dk_at dksX0_crossedBy_2 0 rfl rfl)
theorem dX0_crossedBy_48 : decode cX0_crossedBy 48 = .ok (.if_icmp .ge 107, 3) := dk_162 0 107 (dk_at dksX0_crossedBy_2 3 rfl rfl)
theorem dX0_crossedBy_51 : decode cX0_crossedBy 51 = .ok (.aload_n 0, 1) := dk_42 (dk_at dksX0_crossedBy_2 6 rfl rfl)
theorem dX0_crossedBy_52 : decode cX0_crossedBy 52 = .ok (.getfield 88, 3) := dk_180 0 88 (dk_at dksX0_crossedBy_2 7 rfl rfl)
theorem dX0_crossedBy_55 : decode cX0_crossedBy 55 = .ok (.iload 6, 2) := dk_21 6 (dk_at dksX0_crossedBy_2 10 rfl rfl)
theorem dX0_crossedBy_57 : decode cX0_crossedBy 57 = .ok (.iaload, 1) := dk_46 (dk_at dksX0_crossedBy_2 12 rfl rfl)
theorem dX0_crossedBy_58 : decode cX0_crossedBy 58 = .ok (.iload_n 3, 1) := dk_29 (dk_at dksX0_crossedBy_2 13 rfl rfl)
theorem dX0_crossedBy_59 : decode cX0_crossedBy 59 = .ok (.if_icmp .le 90, 3) := dk_164 0 90 (dk_at dksX0_crossedBy_2 14 rfl rfl)
theorem dX0_crossedBy_62 : decode cX0_crossedBy 62 = .ok (.aload_n 0, 1) := dk_42 (dk_at dksX0_crossedBy_2 17 rfl rfl)
theorem dX0_crossedBy_63 : decode cX0_crossedBy 63 = .ok (.getfield 88, 3) := dk_180 0 88 (dk_at dksX0_crossedBy_2 18 rfl rfl)
theorem dX0_crossedBy_66 : decode cX0_crossedBy 66 = .ok (.iload 6, 2) := dk_21 6 (dk_at dksX0_crossedBy_2 21 rfl rfl)
theorem dX0_crossedBy_68 : decode cX0_crossedBy 68 = .ok (.iaload, 1) := dk_46 (dk_at dksX0_crossedBy_2 23 rfl rfl)
theorem dX0_crossedBy_69 : decode cX0_crossedBy 69 = .ok (.iload 4, 2) := dk_21 4 (dk_at dksX0_crossedBy_3 0 rfl rfl)
theorem dX0_crossedBy_71 : decode cX0_crossedBy 71 = .ok (.if_icmp .lt 6, 3) := dk_161 0 6 (dk_at dksX0_crossedBy_3 2 rfl rfl)
theorem dX0_crossedBy_74 : decode cX0_crossedBy 74 = .ok (.goto 75, 3) := dk_167 0 75 (dk_at dksX0_crossedBy_3 5 rfl rfl)
theorem dX0_crossedBy_77 : decode cX0_crossedBy 77 = .ok (.iconst 0, 1) := dk_3 (dk_at dksX0_crossedBy_3 8 rfl rfl)
theorem dX0_crossedBy_78 : decode cX0_crossedBy 78 = .ok (.istore 7, 2) := dk_54 7 (dk_at dksX0_crossedBy_3 9 rfl rfl)
theorem dX0_crossedBy_80 : decode cX0_crossedBy 80 = .ok (.iload 7, 2) := dk_21 7 (dk_at dksX0_crossedBy_3 11 rfl rfl)
theorem dX0_crossedBy_82 : decode cX0_crossedBy 82 = .ok (.aload_n 0, 1) := dk_42 (dk_at dksX0_crossedBy_3 13 rfl rfl)
theorem dX0_crossedBy_83 : decode cX0_crossedBy 83 = .ok (.getfield 10, 3) := dk_180 0 10 (dk_at dksX0_crossedBy_3 14 rfl rfl)
theorem dX0_crossedBy_86 : decode cX0_crossedBy 86 = .ok (.getfield 158, 3) := dk_180 0 158 (dk_at dksX0_crossedBy_3 17 rfl rfl)
theorem dX0_crossedBy_89 : decode cX0_crossedBy 89 = .ok (.if_icmp .ge 60, 3) := dk_162 0 60 (dk_at dksX0_crossedBy_3 20 rfl rfl)
theorem dX0_crossedBy_92 : decode cX0_crossedBy 92 = .ok (.aload_n 0, 1) := dk_42 (dk_at dksX0_crossedBy_3 23 rfl rfl)
theorem dX0_crossedBy_93 : decode cX0_crossedBy 93 = .ok (.getfield 88, 3) := dk_180 0 88 (dk_at dksX0_crossedBy_4 0 rfl rfl)
theorem dX0_crossedBy_96 : decode cX0_crossedBy 96 = .ok (.iload 6, 2) := dk_21 6 (dk_at dksX0_crossedBy_4 3 rfl rfl)
theorem dX0_crossedBy_98 : decode cX0_crossedBy 98 = .ok (.iconst 1, 1) := dk_4 (dk_at dksX0_crossedBy_4 5 rfl rfl)
theorem dX0_crossedBy_99 : decode cX0_crossedBy 99 = .ok (.iload 7, 2) := dk_21 7 (dk_at dksX0_crossedBy_4 6 rfl rfl)
theorem dX0_crossedBy_101 : decode cX0_crossedBy 101 = .ok (.ishl, 1) := dk_120 (dk_at dksX0_crossedBy_4 8 rfl rfl)
theorem dX0_crossedBy_102 : decode cX0_crossedBy 102 = .ok (.ixor, 1) := dk_130 (dk_at dksX0_crossedBy_4 9 rfl rfl)
theorem dX0_crossedBy_103 : decode cX0_crossedBy 103 = .ok (.iaload, 1) := dk_46 (dk_at dksX0_crossedBy_4 10 rfl rfl)
theorem dX0_crossedBy_104 : decode cX0_crossedBy 104 = .ok (.istore 8, 2) := dk_54 8 (dk_at dksX0_crossedBy_4 11 rfl rfl)
theorem dX0_crossedBy_106 : decode cX0_crossedBy 106 = .ok (.iload 5, 2) := dk_21 5 (dk_at dksX0_crossedBy_4 13 rfl rfl)
theorem dX0_crossedBy_108 : decode cX0_crossedBy 108 = .ok (.aload_n 0, 1) := dk_42 (dk_at dksX0_crossedBy_4 15 rfl rfl)
theorem dX0_crossedBy_109 : decode cX0_crossedBy 109 = .ok (.getfield 10, 3) := dk_180 0 10 (dk_at dksX0_crossedBy_4 16 rfl rfl)
theorem dX0_crossedBy_112 : decode cX0_crossedBy 112 = .ok (.iload 6, 2) := dk_21 6 (dk_at dksX0_crossedBy_4 19 rfl rfl)
theorem dX0_crossedBy_114 : decode cX0_crossedBy 114 = .ok (.iload 7, 2) := dk_21 7 (dk_at dksX0_crossedBy_4 21 rfl rfl)
theorem dX0_crossedBy_116 : decode cX0_crossedBy 116 = .ok (.invokevirtual 181, 3) := dk_182 0 181 (dk_at dksX0_crossedBy_5 0 rfl rfl)
theorem dX0_crossedBy_119 : decode cX0_crossedBy 119 = .ok (.ifCond .eq 20, 3) := dk_153 0 20 (dk_at dksX0_crossedBy_5 3 rfl rfl)
theorem dX0_crossedBy_122 : decode cX0_crossedBy 122 = .ok (.iload 8, 2) := dk_21 8 (dk_at dksX0_crossedBy_5 6 rfl rfl)
theorem dX0_crossedBy_124 : decode cX0_crossedBy 124 = .ok (.iload_n 3, 1) := dk_29 (dk_at dksX0_crossedBy_5 8 rfl rfl)
theorem dX0_crossedBy_125 : decode cX0_crossedBy 125 = .ok (.if_icmp .lt 10, 3) := dk_161 0 10 (dk_at dksX0_crossedBy_5 9 rfl rfl)
theorem dX0_crossedBy_128 : decode cX0_crossedBy 128 = .ok (.iload 8, 2) := dk_21 8 (dk_at dksX0_crossedBy_5 12 rfl rfl)
theorem dX0_crossedBy_130 : decode cX0_crossedBy 130 = .ok (.iload 4, 2) := dk_21 4 (dk_at dksX0_crossedBy_5 14 rfl rfl)
theorem dX0_crossedBy_132 : decode cX0_crossedBy 132 = .ok (.if_icmp .le 7, 3) := dk_164 0 7 (dk_at dksX0_crossedBy_5 16 rfl rfl)
theorem dX0_crossedBy_135 : decode cX0_crossedBy 135 = .ok (.iconst 1, 1) := dk_4 (dk_at dksX0_crossedBy_5 19 rfl rfl)
theorem dX0_crossedBy_136 : decode cX0_crossedBy 136 = .ok (.goto 4, 3) := dk_167 0 4 (dk_at dksX0_crossedBy_5 20 rfl rfl)
theorem dX0_crossedBy_139 : decode cX0_crossedBy 139 = .ok (.iconst 0, 1) := dk_3 (dk_at dksX0_crossedBy_5 23 rfl rfl)
theorem dX0_crossedBy_140 : decode cX0_crossedBy 140 = .ok (.iadd, 1) := dk_96 (dk_at dksX0_crossedBy_6 0 rfl rfl)
theorem dX0_crossedBy_141 : decode cX0_crossedBy 141 = .ok (.istore 5, 2) := dk_54 5 (dk_at dksX0_crossedBy_6 1 rfl rfl)
theorem dX0_crossedBy_143 : decode cX0_crossedBy 143 = .ok (.iinc 7 1, 3) := dk_132 7 1 (dk_at dksX0_crossedBy_6 3 rfl rfl)
theorem dX0_crossedBy_146 : decode cX0_crossedBy 146 = .ok (.goto (-66), 3) := dk_167 255 190 (dk_at dksX0_crossedBy_6 6 rfl rfl)
theorem dX0_crossedBy_149 : decode cX0_crossedBy 149 = .ok (.iinc 6 1, 3) := dk_132 6 1 (dk_at dksX0_crossedBy_6 9 rfl rfl)
theorem dX0_crossedBy_152 : decode cX0_crossedBy 152 = .ok (.goto (-113), 3) := dk_167 255 143 (dk_at dksX0_crossedBy_6 12 rfl rfl)
theorem dX0_crossedBy_155 : decode cX0_crossedBy 155 = .ok (.iload 5, 2) := dk_21 5 (dk_at dksX0_crossedBy_6 15 rfl rfl)
theorem dX0_crossedBy_157 : decode cX0_crossedBy 157 = .ok (.ireturn, 1) := dk_172 (dk_at dksX0_crossedBy_6 17 rfl rfl)
abbrev cX0_drawing : ByteArray := prog_1_method_103_code
def yX0_drawing : MethodName := ⟨RX0, "drawing", "()I"⟩
def dkwX0_drawing_4 : List UInt8 := [154, 255, 217, 28, 172]
abbrev dktX0_drawing_4 : List UInt8 := dkwX0_drawing_4 ++ []
def dkwX0_drawing_3 : List UInt8 := [29, 46, 29, 79, 132, 3, 1, 167, 255, 236, 28, 42, 182, 1, 154, 184, 1, 96, 61, 42, 27, 182, 1, 157]
abbrev dktX0_drawing_3 : List UInt8 := dkwX0_drawing_3 ++ dktX0_drawing_4
def dkwX0_drawing_2 : List UInt8 := [132, 2, 1, 167, 255, 241, 18, 80, 61, 3, 62, 29, 27, 162, 0, 21, 42, 180, 0, 88, 42, 180, 0, 91]
abbrev dktX0_drawing_2 : List UInt8 := dkwX0_drawing_2 ++ dktX0_drawing_3
def dkwX0_drawing_1 : List UInt8 := [42, 180, 0, 10, 182, 0, 161, 60, 3, 61, 28, 27, 162, 0, 16, 42, 180, 0, 91, 28, 28, 79]
abbrev dktX0_drawing_1 : List UInt8 := dkwX0_drawing_1 ++ dktX0_drawing_2
def dkwX0_drawing_0 : List UInt8 := [42, 182, 0, 233, 154, 0, 6, 16, 254, 172, 42, 180, 0, 10, 180, 0, 158, 6, 164, 0, 6, 16, 247, 172]
abbrev dktX0_drawing_0 : List UInt8 := dkwX0_drawing_0 ++ dktX0_drawing_1
theorem dksX0_drawing_0 : cX0_drawing.data.toList.drop 0 = dktX0_drawing_0 := by decide +kernel
theorem dksX0_drawing_1 : cX0_drawing.data.toList.drop 24 = dktX0_drawing_1 := dk_seg dksX0_drawing_0 24 rfl rfl
theorem dksX0_drawing_2 : cX0_drawing.data.toList.drop 46 = dktX0_drawing_2 := dk_seg dksX0_drawing_1 22 rfl rfl
theorem dksX0_drawing_3 : cX0_drawing.data.toList.drop 70 = dktX0_drawing_3 := dk_seg dksX0_drawing_2 24 rfl rfl
theorem dksX0_drawing_4 : cX0_drawing.data.toList.drop 94 = dktX0_drawing_4 := dk_seg dksX0_drawing_3 24 rfl rfl
theorem dX0_drawing_0 : decode cX0_drawing 0 = .ok (.aload_n 0, 1) := dk_42 (dk_at dksX0_drawing_0 0 rfl rfl)
theorem dX0_drawing_1 : decode cX0_drawing 1 = .ok (.invokevirtual 233, 3) := dk_182 0 233 (dk_at dksX0_drawing_0 1 rfl rfl)
theorem dX0_drawing_4 : decode cX0_drawing 4 = .ok (.ifCond .ne 6, 3) := dk_154 0 6 (dk_at dksX0_drawing_0 4 rfl rfl)
theorem dX0_drawing_7 : decode cX0_drawing 7 = .ok (.bipush (-2), 2) := dk_16 254 (dk_at dksX0_drawing_0 7 rfl rfl)
theorem dX0_drawing_9 : decode cX0_drawing 9 = .ok (.ireturn, 1) := dk_172 (dk_at dksX0_drawing_0 9 rfl rfl)
theorem dX0_drawing_10 : decode cX0_drawing 10 = .ok (.aload_n 0, 1) := dk_42 (dk_at dksX0_drawing_0 10 rfl rfl)
theorem dX0_drawing_11 : decode cX0_drawing 11 = .ok (.getfield 10, 3) := dk_180 0 10 (dk_at dksX0_drawing_0 11 rfl rfl)
theorem dX0_drawing_14 : decode cX0_drawing 14 = .ok (.getfield 158, 3) := dk_180 0 158 (dk_at dksX0_drawing_0 14 rfl rfl)
theorem dX0_drawing_17 : decode cX0_drawing 17 = .ok (.iconst 3, 1) := dk_6 (dk_at dksX0_drawing_0 17 rfl rfl)
theorem dX0_drawing_18 : decode cX0_drawing 18 = .ok (.if_icmp .le 6, 3) := dk_164 0 6 (dk_at dksX0_drawing_0 18 rfl rfl)
theorem dX0_drawing_21 : decode cX0_drawing 21 = .ok (.bipush (-9), 2) := dk_16 247 (dk_at dksX0_drawing_0 21 rfl rfl)
theorem dX0_drawing_23 : decode cX0_drawing 23 = .ok (.ireturn, 1) := dk_172 (dk_at dksX0_drawing_0 23 rfl rfl)
theorem dX0_drawing_24 : decode cX0_drawing 24 = .ok (.aload_n 0, 1) := dk_42 (dk_at dksX0_drawing_1 0 rfl rfl)
theorem dX0_drawing_25 : decode cX0_drawing 25 = .ok (.getfield 10, 3) := dk_180 0 10 (dk_at dksX0_drawing_1 1 rfl rfl)
theorem dX0_drawing_28 : decode cX0_drawing 28 = .ok (.invokevirtual 161, 3) := dk_182 0 161 (dk_at dksX0_drawing_1 4 rfl rfl)
theorem dX0_drawing_31 : decode cX0_drawing 31 = .ok (.istore_n 1, 1) := dk_60 (dk_at dksX0_drawing_1 7 rfl rfl)
theorem dX0_drawing_32 : decode cX0_drawing 32 = .ok (.iconst 0, 1) := dk_3 (dk_at dksX0_drawing_1 8 rfl rfl)
theorem dX0_drawing_33 : decode cX0_drawing 33 = .ok (.istore_n 2, 1) := dk_61 (dk_at dksX0_drawing_1 9 rfl rfl)
theorem dX0_drawing_34 : decode cX0_drawing 34 = .ok (.iload_n 2, 1) := dk_28 (dk_at dksX0_drawing_1 10 rfl rfl)
theorem dX0_drawing_35 : decode cX0_drawing 35 = .ok (.iload_n 1, 1) := dk_27 (dk_at dksX0_drawing_1 11 rfl rfl)
theorem dX0_drawing_36 : decode cX0_drawing 36 = .ok (.if_icmp .ge 16, 3) := dk_162 0 16 (dk_at dksX0_drawing_1 12 rfl rfl)
theorem dX0_drawing_39 : decode cX0_drawing 39 = .ok (.aload_n 0, 1) := dk_42 (dk_at dksX0_drawing_1 15 rfl rfl)
theorem dX0_drawing_40 : decode cX0_drawing 40 = .ok (.getfield 91, 3) := dk_180 0 91 (dk_at dksX0_drawing_1 16 rfl rfl)
theorem dX0_drawing_43 : decode cX0_drawing 43 = .ok (.iload_n 2, 1) := dk_28 (dk_at dksX0_drawing_1 19 rfl rfl)
theorem dX0_drawing_44 : decode cX0_drawing 44 = .ok (.iload_n 2, 1) := dk_28 (dk_at dksX0_drawing_1 20 rfl rfl)
theorem dX0_drawing_45 : decode cX0_drawing 45 = .ok (.iastore, 1) := dk_79 (dk_at dksX0_drawing_1 21 rfl rfl)
theorem dX0_drawing_46 : decode cX0_drawing 46 = .ok (.iinc 2 1, 3) := dk_132 2 1 (dk_at dksX0_drawing_2 0 rfl rfl)
theorem dX0_drawing_49 : decode cX0_drawing 49 = .ok (.goto (-15), 3) := dk_167 255 241 (dk_at dksX0_drawing_2 3 rfl rfl)
theorem dX0_drawing_52 : decode cX0_drawing 52 = .ok (.ldc 80, 2) := dk_18 80 (dk_at dksX0_drawing_2 6 rfl rfl)
theorem dX0_drawing_54 : decode cX0_drawing 54 = .ok (.istore_n 2, 1) := dk_61 (dk_at dksX0_drawing_2 8 rfl rfl)
theorem dX0_drawing_55 : decode cX0_drawing 55 = .ok (.iconst 0, 1) := dk_3 (dk_at dksX0_drawing_2 9 rfl rfl)
theorem dX0_drawing_56 : decode cX0_drawing 56 = .ok (.istore_n 3, 1) := dk_62 (dk_at dksX0_drawing_2 10 rfl rfl)
theorem dX0_drawing_57 : decode cX0_drawing 57 = .ok (.iload_n 3, 1) := dk_29 (dk_at dksX0_drawing_2 11 rfl rfl)
theorem dX0_drawing_58 : decode cX0_drawing 58 = .ok (.iload_n 1, 1) := dk_27 (dk_at dksX0_drawing_2 12 rfl rfl)
theorem dX0_drawing_59 : decode cX0_drawing 59 = .ok (.if_icmp .ge 21, 3) := dk_162 0 21 (dk_at dksX0_drawing_2 13 rfl rfl)
theorem dX0_drawing_62 : decode cX0_drawing 62 = .ok (.aload_n 0, 1) := dk_42 (dk_at dksX0_drawing_2 16 rfl rfl)
theorem dX0_drawing_63 : decode cX0_drawing 63 = .ok (.getfield 88, 3) := dk_180 0 88 (dk_at dksX0_drawing_2 17 rfl rfl)
theorem dX0_drawing_66 : decode cX0_drawing 66 = .ok (.aload_n 0, 1) := dk_42 (dk_at dksX0_drawing_2 20 rfl rfl)
theorem dX0_drawing_67 : decode cX0_drawing 67 = .ok (.getfield 91, 3) := dk_180 0 91 (dk_at dksX0_drawing_2 21 rfl rfl)
theorem dX0_drawing_70 : decode cX0_drawing 70 = .ok (.iload_n 3, 1) := dk_29 (dk_at dksX0_drawing_3 0 rfl rfl)
theorem dX0_drawing_71 : decode cX0_drawing 71 = .ok (.iaload, 1) := dk_46 (dk_at dksX0_drawing_3 1 rfl rfl)
theorem dX0_drawing_72 : decode cX0_drawing 72 = .ok (.iload_n 3, 1) := dk_29 (dk_at dksX0_drawing_3 2 rfl rfl)
theorem dX0_drawing_73 : decode cX0_drawing 73 = .ok (.iastore, 1) := dk_79 (dk_at dksX0_drawing_3 3 rfl rfl)
theorem dX0_drawing_74 : decode cX0_drawing 74 = .ok (.iinc 3 1, 3) := dk_132 3 1 (dk_at dksX0_drawing_3 4 rfl rfl)
theorem dX0_drawing_77 : decode cX0_drawing 77 = .ok (.goto (-20), 3) := dk_167 255 236 (dk_at dksX0_drawing_3 7 rfl rfl)
theorem dX0_drawing_80 : decode cX0_drawing 80 = .ok (.iload_n 2, 1) := dk_28 (dk_at dksX0_drawing_3 10 rfl rfl)
theorem dX0_drawing_81 : decode cX0_drawing 81 = .ok (.aload_n 0, 1) := dk_42 (dk_at dksX0_drawing_3 11 rfl rfl)
theorem dX0_drawing_82 : decode cX0_drawing 82 = .ok (.invokevirtual 410, 3) := dk_182 1 154 (dk_at dksX0_drawing_3 12 rfl rfl)
theorem dX0_drawing_85 : decode cX0_drawing 85 = .ok (.invokestatic 352, 3) := dk_184 1 96 (dk_at dksX0_drawing_3 15 rfl rfl)
theorem dX0_drawing_88 : decode cX0_drawing 88 = .ok (.istore_n 2, 1) := dk_61 (dk_at dksX0_drawing_3 18 rfl rfl)
theorem dX0_drawing_89 : decode cX0_drawing 89 = .ok (.aload_n 0, 1) := dk_42 (dk_at dksX0_drawing_3 19 rfl rfl)
theorem dX0_drawing_90 : decode cX0_drawing 90 = .ok (.iload_n 1, 1) := dk_27 (dk_at dksX0_drawing_3 20 rfl rfl)
theorem dX0_drawing_91 : decode cX0_drawing 91 = .ok (.invokevirtual 413, 3) := dk_182 1 157 (dk_at dksX0_drawing_3 21 rfl rfl)
theorem dX0_drawing_94 : decode cX0_drawing 94 = .ok (.ifCond .ne (-39), 3) := dk_154 255 217 (dk_at dksX0_drawing_4 0 rfl rfl)
theorem dX0_drawing_97 : decode cX0_drawing 97 = .ok (.iload_n 2, 1) := dk_28 (dk_at dksX0_drawing_4 3 rfl rfl)
theorem dX0_drawing_98 : decode cX0_drawing 98 = .ok (.ireturn, 1) := dk_172 (dk_at dksX0_drawing_4 4 rfl rfl)
abbrev cX0_nextCircle : ByteArray := prog_1_method_104_code
def yX0_nextCircle : MethodName := ⟨RX0, "nextCircle", "(I)Z"⟩
def dkwX0_nextCircle_4 : List UInt8 := [132, 4, 1, 132, 5, 255, 167, 255, 235, 4, 172]
abbrev dktX0_nextCircle_4 : List UInt8 := dkwX0_nextCircle_4 ++ []
def dkwX0_nextCircle_3 : List UInt8 := [96, 54, 4, 27, 4, 100, 54, 5, 21, 4, 21, 5, 162, 0, 20, 42, 21, 4, 21, 5, 182, 1, 160]
abbrev dktX0_nextCircle_3 : List UInt8 := dkwX0_nextCircle_3 ++ dktX0_nextCircle_4
def dkwX0_nextCircle_2 : List UInt8 := [46, 42, 180, 0, 91, 28, 46, 162, 0, 9, 132, 3, 255, 167, 255, 238, 42, 28, 29, 182, 1, 160, 28, 4]
abbrev dktX0_nextCircle_2 : List UInt8 := dkwX0_nextCircle_2 ++ dktX0_nextCircle_3
def dkwX0_nextCircle_1 : List UInt8 := [164, 0, 9, 132, 2, 255, 167, 255, 232, 28, 157, 0, 5, 3, 172, 27, 4, 100, 62, 42, 180, 0, 91, 29]
abbrev dktX0_nextCircle_1 : List UInt8 := dkwX0_nextCircle_1 ++ dktX0_nextCircle_2
def dkwX0_nextCircle_0 : List UInt8 := [27, 5, 100, 61, 28, 158, 0, 26, 42, 180, 0, 91, 28, 46, 42, 180, 0, 91, 28, 4, 96, 46]
abbrev dktX0_nextCircle_0 : List UInt8 := dkwX0_nextCircle_0 ++ dktX0_nextCircle_1
theorem dksX0_nextCircle_0 : cX0_nextCircle.data.toList.drop 0 = dktX0_nextCircle_0 := by decide +kernel
theorem dksX0_nextCircle_1 : cX0_nextCircle.data.toList.drop 22 = dktX0_nextCircle_1 := dk_seg dksX0_nextCircle_0 22 rfl rfl
theorem dksX0_nextCircle_2 : cX0_nextCircle.data.toList.drop 46 = dktX0_nextCircle_2 := dk_seg dksX0_nextCircle_1 24 rfl rfl
theorem dksX0_nextCircle_3 : cX0_nextCircle.data.toList.drop 70 = dktX0_nextCircle_3 := dk_seg dksX0_nextCircle_2 24 rfl rfl
theorem dksX0_nextCircle_4 : cX0_nextCircle.data.toList.drop 93 = dktX0_nextCircle_4 := dk_seg dksX0_nextCircle_3 23 rfl rfl
theorem dX0_nextCircle_0 : decode cX0_nextCircle 0 = .ok (.iload_n 1, 1) := dk_27 (dk_at dksX0_nextCircle_0 0 rfl rfl)
theorem dX0_nextCircle_1 : decode cX0_nextCircle 1 = .ok (.iconst 2, 1) := dk_5 (dk_at dksX0_nextCircle_0 1 rfl rfl)
theorem dX0_nextCircle_2 : decode cX0_nextCircle 2 = .ok (.isub, 1) := dk_100 (dk_at dksX0_nextCircle_0 2 rfl rfl)
theorem dX0_nextCircle_3 : decode cX0_nextCircle 3 = .ok (.istore_n 2, 1) := dk_61 (dk_at dksX0_nextCircle_0 3 rfl rfl)
theorem dX0_nextCircle_4 : decode cX0_nextCircle 4 = .ok (.iload_n 2, 1) := dk_28 (dk_at dksX0_nextCircle_0 4 rfl rfl)
theorem dX0_nextCircle_5 : decode cX0_nextCircle 5 = .ok (.ifCond .le 26, 3) := dk_158 0 26 (dk_at dksX0_nextCircle_0 5 rfl rfl)
theorem dX0_nextCircle_8 : decode cX0_nextCircle 8 = .ok (.aload_n 0, 1) := dk_42 (dk_at dksX0_nextCircle_0 8 rfl rfl)
theorem dX0_nextCircle_9 : decode cX0_nextCircle 9 = .ok (.getfield 91, 3) := dk_180 0 91 (dk_at dksX0_nextCircle_0 9 rfl rfl)
theorem dX0_nextCircle_12 : decode cX0_nextCircle 12 = .ok (.iload_n 2, 1) := dk_28 (dk_at dksX0_nextCircle_0 12 rfl rfl)
theorem dX0_nextCircle_13 : decode cX0_nextCircle 13 = .ok (.iaload, 1) := dk_46 (dk_at dksX0_nextCircle_0 13 rfl rfl)
theorem dX0_nextCircle_14 : decode cX0_nextCircle 14 = .ok (.aload_n 0, 1) := dk_42 (dk_at dksX0_nextCircle_0 14 rfl rfl)
theorem dX0_nextCircle_15 : decode cX0_nextCircle 15 = .ok (.getfield 91, 3) := dk_180 0 91 (dk_at dksX0_nextCircle_0 15 rfl rfl)
theorem dX0_nextCircle_18 : decode cX0_nextCircle 18 = .ok (.iload_n 2, 1) := dk_28 (dk_at dksX0_nextCircle_0 18 rfl rfl)
theorem dX0_nextCircle_19 : decode cX0_nextCircle 19 = .ok (.iconst 1, 1) := dk_4 (dk_at dksX0_nextCircle_0 19 rfl rfl)
theorem dX0_nextCircle_20 : decode cX0_nextCircle 20 = .ok (.iadd, 1) := dk_96 (dk_at dksX0_nextCircle_0 20 rfl rfl)
theorem dX0_nextCircle_21 : decode cX0_nextCircle 21 = .ok (.iaload, 1) := dk_46 (dk_at dksX0_nextCircle_0 21 rfl rfl)
theorem dX0_nextCircle_22 : decode cX0_nextCircle 22 = .ok (.if_icmp .le 9, 3) := dk_164 0 9 (dk_at dksX0_nextCircle_1 0 rfl rfl)
theorem dX0_nextCircle_25 : decode cX0_nextCircle 25 = .ok (.iinc 2 (-1), 3) := dk_132 2 255 (dk_at dksX0_nextCircle_1 3 rfl rfl)
theorem dX0_nextCircle_28 : decode cX0_nextCircle 28 = .ok (.goto (-24), 3) := dk_167 255 232 (dk_at dksX0_nextCircle_1 6 rfl rfl)
theorem dX0_nextCircle_31 : decode cX0_nextCircle 31 = .ok (.iload_n 2, 1) := dk_28 (dk_at dksX0_nextCircle_1 9 rfl rfl)
theorem dX0_nextCircle_32 : decode cX0_nextCircle 32 = .ok (.ifCond .gt 5, 3) := dk_157 0 5 (dk_at dksX0_nextCircle_1 10 rfl rfl)
theorem dX0_nextCircle_35 : decode cX0_nextCircle 35 = .ok (.iconst 0, 1) := dk_3 (dk_at dksX0_nextCircle_1 13 rfl rfl)
theorem dX0_nextCircle_36 : decode cX0_nextCircle 36 = .ok (.ireturn, 1) := dk_172 (dk_at dksX0_nextCircle_1 14 rfl rfl)
theorem dX0_nextCircle_37 : decode cX0_nextCircle 37 = .ok (.iload_n 1, 1) := dk_27 (dk_at dksX0_nextCircle_1 15 rfl rfl)
theorem dX0_nextCircle_38 : decode cX0_nextCircle 38 = .ok (.iconst 1, 1) := dk_4 (dk_at dksX0_nextCircle_1 16 rfl rfl)
theorem dX0_nextCircle_39 : decode cX0_nextCircle 39 = .ok (.isub, 1) := dk_100 (dk_at dksX0_nextCircle_1 17 rfl rfl)
theorem dX0_nextCircle_40 : decode cX0_nextCircle 40 = .ok (.istore_n 3, 1) := dk_62 (dk_at dksX0_nextCircle_1 18 rfl rfl)
theorem dX0_nextCircle_41 : decode cX0_nextCircle 41 = .ok (.aload_n 0, 1) := dk_42 (dk_at dksX0_nextCircle_1 19 rfl rfl)
theorem dX0_nextCircle_42 : decode cX0_nextCircle 42 = .ok (.getfield 91, 3) := dk_180 0 91 (dk_at dksX0_nextCircle_1 20 rfl rfl)
theorem dX0_nextCircle_45 : decode cX0_nextCircle 45 = .ok (.iload_n 3, 1) := dk_29 (dk_at dksX0_nextCircle_1 23 rfl rfl)
theorem dX0_nextCircle_46 : decode cX0_nextCircle 46 = .ok (.iaload, 1) := dk_46 (dk_at dksX0_nextCircle_2 0 rfl rfl)
theorem dX0_nextCircle_47 : decode cX0_nextCircle 47 = .ok (.aload_n 0, 1) := dk_42 (dk_at dksX0_nextCircle_2 1 rfl rfl)
theorem dX0_nextCircle_48 : decode cX0_nextCircle 48 = .ok (.getfield 91, 3) := dk_180 0 91 (dk_at dksX0_nextCircle_2 2 rfl rfl)
theorem dX0_nextCircle_51 : decode cX0_nextCircle 51 = .ok (.iload_n 2, 1) := dk_28 (dk_at dksX0_nextCircle_2 5 rfl rfl)
theorem dX0_nextCircle_52 : decode cX0_nextCircle 52 = .ok (.iaload, 1) := dk_46 (dk_at dksX0_nextCircle_2 6 rfl rfl)
theorem dX0_nextCircle_53 : decode cX0_nextCircle 53 = .ok (.if_icmp .ge 9, 3) := dk_162 0 9 (dk_at dksX0_nextCircle_2 7 rfl rfl)
theorem dX0_nextCircle_56 : decode cX0_nextCircle 56 = .ok (.iinc 3 (-1), 3) := dk_132 3 255 (dk_at dksX0_nextCircle_2 10 rfl rfl)
theorem dX0_nextCircle_59 : decode cX0_nextCircle 59 = .ok (.goto (-18), 3) := dk_167 255 238 (dk_at dksX0_nextCircle_2 13 rfl rfl)
theorem dX0_nextCircle_62 : decode cX0_nextCircle 62 = .ok (.aload_n 0, 1) := dk_42 (dk_at dksX0_nextCircle_2 16 rfl rfl)
theorem dX0_nextCircle_63 : decode cX0_nextCircle 63 = .ok (.iload_n 2, 1) := dk_28 (dk_at dksX0_nextCircle_2 17 rfl rfl)
theorem dX0_nextCircle_64 : decode cX0_nextCircle 64 = .ok (.iload_n 3, 1) := dk_29 (dk_at dksX0_nextCircle_2 18 rfl rfl)
theorem dX0_nextCircle_65 : decode cX0_nextCircle 65 = .ok (.invokevirtual 416, 3) := dk_182 1 160 (dk_at dksX0_nextCircle_2 19 rfl rfl)
theorem dX0_nextCircle_68 : decode cX0_nextCircle 68 = .ok (.iload_n 2, 1) := dk_28 (dk_at dksX0_nextCircle_2 22 rfl rfl)
theorem dX0_nextCircle_69 : decode cX0_nextCircle 69 = .ok (.iconst 1, 1) := dk_4 (dk_at dksX0_nextCircle_2 23 rfl rfl)
theorem dX0_nextCircle_70 : decode cX0_nextCircle 70 = .ok (.iadd, 1) := dk_96 (dk_at dksX0_nextCircle_3 0 rfl rfl)
theorem dX0_nextCircle_71 : decode cX0_nextCircle 71 = .ok (.istore 4, 2) := dk_54 4 (dk_at dksX0_nextCircle_3 1 rfl rfl)
theorem dX0_nextCircle_73 : decode cX0_nextCircle 73 = .ok (.iload_n 1, 1) := dk_27 (dk_at dksX0_nextCircle_3 3 rfl rfl)
theorem dX0_nextCircle_74 : decode cX0_nextCircle 74 = .ok (.iconst 1, 1) := dk_4 (dk_at dksX0_nextCircle_3 4 rfl rfl)
theorem dX0_nextCircle_75 : decode cX0_nextCircle 75 = .ok (.isub, 1) := dk_100 (dk_at dksX0_nextCircle_3 5 rfl rfl)
theorem dX0_nextCircle_76 : decode cX0_nextCircle 76 = .ok (.istore 5, 2) := dk_54 5 (dk_at dksX0_nextCircle_3 6 rfl rfl)
theorem dX0_nextCircle_78 : decode cX0_nextCircle 78 = .ok (.iload 4, 2) := dk_21 4 (dk_at dksX0_nextCircle_3 8 rfl rfl)
theorem dX0_nextCircle_80 : decode cX0_nextCircle 80 = .ok (.iload 5, 2) := dk_21 5 (dk_at dksX0_nextCircle_3 10 rfl rfl)
theorem dX0_nextCircle_82 : decode cX0_nextCircle 82 = .ok (.if_icmp .ge 20, 3) := dk_162 0 20 (dk_at dksX0_nextCircle_3 12 rfl rfl)
theorem dX0_nextCircle_85 : decode cX0_nextCircle 85 = .ok (.aload_n 0, 1) := dk_42 (dk_at dksX0_nextCircle_3 15 rfl rfl)
theorem dX0_nextCircle_86 : decode cX0_nextCircle 86 = .ok (.iload 4, 2) := dk_21 4 (dk_at dksX0_nextCircle_3 16 rfl rfl)
theorem dX0_nextCircle_88 : decode cX0_nextCircle 88 = .ok (.iload 5, 2) := dk_21 5 (dk_at dksX0_nextCircle_3 18 rfl rfl)
theorem dX0_nextCircle_90 : decode cX0_nextCircle 90 = .ok (.invokevirtual 416, 3) := dk_182 1 160 (dk_at dksX0_nextCircle_3 20 rfl rfl)
theorem dX0_nextCircle_93 : decode cX0_nextCircle 93 = .ok (.iinc 4 1, 3) := dk_132 4 1 (dk_at dksX0_nextCircle_4 0 rfl rfl)
theorem dX0_nextCircle_96 : decode cX0_nextCircle 96 = .ok (.iinc 5 (-1), 3) := dk_132 5 255 (dk_at dksX0_nextCircle_4 3 rfl rfl)
theorem dX0_nextCircle_99 : decode cX0_nextCircle 99 = .ok (.goto (-21), 3) := dk_167 255 235 (dk_at dksX0_nextCircle_4 6 rfl rfl)
theorem dX0_nextCircle_102 : decode cX0_nextCircle 102 = .ok (.iconst 1, 1) := dk_4 (dk_at dksX0_nextCircle_4 9 rfl rfl)
theorem dX0_nextCircle_103 : decode cX0_nextCircle 103 = .ok (.ireturn, 1) := dk_172 (dk_at dksX0_nextCircle_4 10 rfl rfl)
abbrev cX0_trades : ByteArray := prog_1_method_105_code
def yX0_trades : MethodName := ⟨RX0, "trades", "(II)V"⟩
def dkwX0_trades_1 : List UInt8 := [29, 79, 177]
abbrev dktX0_trades_1 : List UInt8 := dkwX0_trades_1 ++ []
def dkwX0_trades_0 : List UInt8 := [42, 180, 0, 91, 27, 46, 62, 42, 180, 0, 91, 27, 42, 180, 0, 91, 28, 46, 79, 42, 180, 0, 91, 28]
abbrev dktX0_trades_0 : List UInt8 := dkwX0_trades_0 ++ dktX0_trades_1
theorem dksX0_trades_0 : cX0_trades.data.toList.drop 0 = dktX0_trades_0 := by decide +kernel
theorem dksX0_trades_1 : cX0_trades.data.toList.drop 24 = dktX0_trades_1 := dk_seg dksX0_trades_0 24 rfl rfl
theorem dX0_trades_0 : decode cX0_trades 0 = .ok (.aload_n 0, 1) := dk_42 (dk_at dksX0_trades_0 0 rfl rfl)
theorem dX0_trades_1 : decode cX0_trades 1 = .ok (.getfield 91, 3) := dk_180 0 91 (dk_at dksX0_trades_0 1 rfl rfl)
theorem dX0_trades_4 : decode cX0_trades 4 = .ok (.iload_n 1, 1) := dk_27 (dk_at dksX0_trades_0 4 rfl rfl)
theorem dX0_trades_5 : decode cX0_trades 5 = .ok (.iaload, 1) := dk_46 (dk_at dksX0_trades_0 5 rfl rfl)
theorem dX0_trades_6 : decode cX0_trades 6 = .ok (.istore_n 3, 1) := dk_62 (dk_at dksX0_trades_0 6 rfl rfl)
theorem dX0_trades_7 : decode cX0_trades 7 = .ok (.aload_n 0, 1) := dk_42 (dk_at dksX0_trades_0 7 rfl rfl)
theorem dX0_trades_8 : decode cX0_trades 8 = .ok (.getfield 91, 3) := dk_180 0 91 (dk_at dksX0_trades_0 8 rfl rfl)
theorem dX0_trades_11 : decode cX0_trades 11 = .ok (.iload_n 1, 1) := dk_27 (dk_at dksX0_trades_0 11 rfl rfl)
theorem dX0_trades_12 : decode cX0_trades 12 = .ok (.aload_n 0, 1) := dk_42 (dk_at dksX0_trades_0 12 rfl rfl)
theorem dX0_trades_13 : decode cX0_trades 13 = .ok (.getfield 91, 3) := dk_180 0 91 (dk_at dksX0_trades_0 13 rfl rfl)
theorem dX0_trades_16 : decode cX0_trades 16 = .ok (.iload_n 2, 1) := dk_28 (dk_at dksX0_trades_0 16 rfl rfl)
theorem dX0_trades_17 : decode cX0_trades 17 = .ok (.iaload, 1) := dk_46 (dk_at dksX0_trades_0 17 rfl rfl)
theorem dX0_trades_18 : decode cX0_trades 18 = .ok (.iastore, 1) := dk_79 (dk_at dksX0_trades_0 18 rfl rfl)
theorem dX0_trades_19 : decode cX0_trades 19 = .ok (.aload_n 0, 1) := dk_42 (dk_at dksX0_trades_0 19 rfl rfl)
theorem dX0_trades_20 : decode cX0_trades 20 = .ok (.getfield 91, 3) := dk_180 0 91 (dk_at dksX0_trades_0 20 rfl rfl)
theorem dX0_trades_23 : decode cX0_trades 23 = .ok (.iload_n 2, 1) := dk_28 (dk_at dksX0_trades_0 23 rfl rfl)
theorem dX0_trades_24 : decode cX0_trades 24 = .ok (.iload_n 3, 1) := dk_29 (dk_at dksX0_trades_1 0 rfl rfl)
theorem dX0_trades_25 : decode cX0_trades 25 = .ok (.iastore, 1) := dk_79 (dk_at dksX0_trades_1 1 rfl rfl)
theorem dX0_trades_26 : decode cX0_trades 26 = .ok (.return_, 1) := dk_177 (dk_at dksX0_trades_1 2 rfl rfl)
abbrev cX0_person : ByteArray := prog_1_method_107_code
def yX0_person : MethodName := ⟨RX0, "person", "(I)I"⟩
def dkwX0_person_0 : List UInt8 := [42, 27, 133, 182, 1, 166, 153, 0, 15, 42, 180, 0, 10, 180, 1, 169, 27, 46, 167, 0, 5, 16, 254, 172]
abbrev dktX0_person_0 : List UInt8 := dkwX0_person_0 ++ []
theorem dksX0_person_0 : cX0_person.data.toList.drop 0 = dktX0_person_0 := by decide +kernel
theorem dX0_person_0 : decode cX0_person 0 = .ok (.aload_n 0, 1) := dk_42 (dk_at dksX0_person_0 0 rfl rfl)
theorem dX0_person_1 : decode cX0_person 1 = .ok (.iload_n 1, 1) := dk_27 (dk_at dksX0_person_0 1 rfl rfl)
theorem dX0_person_2 : decode cX0_person 2 = .ok (.i2l, 1) := dk_133 (dk_at dksX0_person_0 2 rfl rfl)
theorem dX0_person_3 : decode cX0_person 3 = .ok (.invokevirtual 422, 3) := dk_182 1 166 (dk_at dksX0_person_0 3 rfl rfl)
theorem dX0_person_6 : decode cX0_person 6 = .ok (.ifCond .eq 15, 3) := dk_153 0 15 (dk_at dksX0_person_0 6 rfl rfl)
theorem dX0_person_9 : decode cX0_person 9 = .ok (.aload_n 0, 1) := dk_42 (dk_at dksX0_person_0 9 rfl rfl)
theorem dX0_person_10 : decode cX0_person 10 = .ok (.getfield 10, 3) := dk_180 0 10 (dk_at dksX0_person_0 10 rfl rfl)
theorem dX0_person_13 : decode cX0_person 13 = .ok (.getfield 425, 3) := dk_180 1 169 (dk_at dksX0_person_0 13 rfl rfl)
theorem dX0_person_16 : decode cX0_person 16 = .ok (.iload_n 1, 1) := dk_27 (dk_at dksX0_person_0 16 rfl rfl)
theorem dX0_person_17 : decode cX0_person 17 = .ok (.iaload, 1) := dk_46 (dk_at dksX0_person_0 17 rfl rfl)
theorem dX0_person_18 : decode cX0_person 18 = .ok (.goto 5, 3) := dk_167 0 5 (dk_at dksX0_person_0 18 rfl rfl)
theorem dX0_person_21 : decode cX0_person 21 = .ok (.bipush (-2), 2) := dk_16 254 (dk_at dksX0_person_0 21 rfl rfl)
theorem dX0_person_23 : decode cX0_person 23 = .ok (.ireturn, 1) := dk_172 (dk_at dksX0_person_0 23 rfl rfl)
abbrev cX0_isPerson : ByteArray := prog_1_method_106_code
def yX0_isPerson : MethodName := ⟨RX0, "isPerson", "(J)Z"⟩
def dkwX0_isPerson_0 : List UInt8 := [31, 9, 42, 180, 0, 10, 180, 1, 163, 4, 100, 133, 184, 0, 133, 172]
abbrev dktX0_isPerson_0 : List UInt8 := dkwX0_isPerson_0 ++ []
theorem dksX0_isPerson_0 : cX0_isPerson.data.toList.drop 0 = dktX0_isPerson_0 := by decide +kernel
theorem dX0_isPerson_0 : decode cX0_isPerson 0 = .ok (.lload_n 1, 1) := dk_31 (dk_at dksX0_isPerson_0 0 rfl rfl)
theorem dX0_isPerson_1 : decode cX0_isPerson 1 = .ok (.lconst 0, 1) := dk_9 (dk_at dksX0_isPerson_0 1 rfl rfl)
theorem dX0_isPerson_2 : decode cX0_isPerson 2 = .ok (.aload_n 0, 1) := dk_42 (dk_at dksX0_isPerson_0 2 rfl rfl)
theorem dX0_isPerson_3 : decode cX0_isPerson 3 = .ok (.getfield 10, 3) := dk_180 0 10 (dk_at dksX0_isPerson_0 3 rfl rfl)
theorem dX0_isPerson_6 : decode cX0_isPerson 6 = .ok (.getfield 419, 3) := dk_180 1 163 (dk_at dksX0_isPerson_0 6 rfl rfl)
theorem dX0_isPerson_9 : decode cX0_isPerson 9 = .ok (.iconst 1, 1) := dk_4 (dk_at dksX0_isPerson_0 9 rfl rfl)
theorem dX0_isPerson_10 : decode cX0_isPerson 10 = .ok (.isub, 1) := dk_100 (dk_at dksX0_isPerson_0 10 rfl rfl)
theorem dX0_isPerson_11 : decode cX0_isPerson 11 = .ok (.i2l, 1) := dk_133 (dk_at dksX0_isPerson_0 11 rfl rfl)
theorem dX0_isPerson_12 : decode cX0_isPerson 12 = .ok (.invokestatic 133, 3) := dk_184 0 133 (dk_at dksX0_isPerson_0 12 rfl rfl)
theorem dX0_isPerson_15 : decode cX0_isPerson 15 = .ok (.ireturn, 1) := dk_172 (dk_at dksX0_isPerson_0 15 rfl rfl)
abbrev cX0_moves : ByteArray := prog_1_method_108_code
def yX0_moves : MethodName := ⟨RX0, "moves", "(II)I"⟩
def dkwX0_moves_1 : List UInt8 := [180, 0, 10, 180, 1, 169, 27, 46, 62, 42, 180, 0, 10, 180, 1, 169, 27, 28, 79, 29, 172]
abbrev dktX0_moves_1 : List UInt8 := dkwX0_moves_1 ++ []
def dkwX0_moves_0 : List UInt8 := [42, 27, 133, 182, 1, 166, 153, 0, 12, 42, 28, 133, 182, 0, 167, 154, 0, 6, 16, 254, 172, 42]
abbrev dktX0_moves_0 : List UInt8 := dkwX0_moves_0 ++ dktX0_moves_1
theorem dksX0_moves_0 : cX0_moves.data.toList.drop 0 = dktX0_moves_0 := by decide +kernel
theorem dksX0_moves_1 : cX0_moves.data.toList.drop 22 = dktX0_moves_1 := dk_seg dksX0_moves_0 22 rfl rfl
theorem dX0_moves_0 : decode cX0_moves 0 = .ok (.aload_n 0, 1) := dk_42 (dk_at dksX0_moves_0 0 rfl rfl)
theorem dX0_moves_1 : decode cX0_moves 1 = .ok (.iload_n 1, 1) := dk_27 (dk_at dksX0_moves_0 1 rfl rfl)
theorem dX0_moves_2 : decode cX0_moves 2 = .ok (.i2l, 1) := dk_133 (dk_at dksX0_moves_0 2 rfl rfl)
theorem dX0_moves_3 : decode cX0_moves 3 = .ok (.invokevirtual 422, 3) := dk_182 1 166 (dk_at dksX0_moves_0 3 rfl rfl)
theorem dX0_moves_6 : decode cX0_moves 6 = .ok (.ifCond .eq 12, 3) := dk_153 0 12 (dk_at dksX0_moves_0 6 rfl rfl)
theorem dX0_moves_9 : decode cX0_moves 9 = .ok (.aload_n 0, 1) := dk_42 (dk_at dksX0_moves_0 9 rfl rfl)
theorem dX0_moves_10 : decode cX0_moves 10 = .ok (.iload_n 2, 1) := dk_28 (dk_at dksX0_moves_0 10 rfl rfl)
theorem dX0_moves_11 : decode cX0_moves 11 = .ok (.i2l, 1) := dk_133 (dk_at dksX0_moves_0 11 rfl rfl)
theorem dX0_moves_12 : decode cX0_moves 12 = .ok (.invokevirtual 167, 3) := dk_182 0 167 (dk_at dksX0_moves_0 12 rfl rfl)
theorem dX0_moves_15 : decode cX0_moves 15 = .ok (.ifCond .ne 6, 3) := dk_154 0 6 (dk_at dksX0_moves_0 15 rfl rfl)
theorem dX0_moves_18 : decode cX0_moves 18 = .ok (.bipush (-2), 2) := dk_16 254 (dk_at dksX0_moves_0 18 rfl rfl)
theorem dX0_moves_20 : decode cX0_moves 20 = .ok (.ireturn, 1) := dk_172 (dk_at dksX0_moves_0 20 rfl rfl)
theorem dX0_moves_21 : decode cX0_moves 21 = .ok (.aload_n 0, 1) := dk_42 (dk_at dksX0_moves_0 21 rfl rfl)
theorem dX0_moves_22 : decode cX0_moves 22 = .ok (.getfield 10, 3) := dk_180 0 10 (dk_at dksX0_moves_1 0 rfl rfl)
theorem dX0_moves_25 : decode cX0_moves 25 = .ok (.getfield 425, 3) := dk_180 1 169 (dk_at dksX0_moves_1 3 rfl rfl)
theorem dX0_moves_28 : decode cX0_moves 28 = .ok (.iload_n 1, 1) := dk_27 (dk_at dksX0_moves_1 6 rfl rfl)
theorem dX0_moves_29 : decode cX0_moves 29 = .ok (.iaload, 1) := dk_46 (dk_at dksX0_moves_1 7 rfl rfl)
theorem dX0_moves_30 : decode cX0_moves 30 = .ok (.istore_n 3, 1) := dk_62 (dk_at dksX0_moves_1 8 rfl rfl)
theorem dX0_moves_31 : decode cX0_moves 31 = .ok (.aload_n 0, 1) := dk_42 (dk_at dksX0_moves_1 9 rfl rfl)
theorem dX0_moves_32 : decode cX0_moves 32 = .ok (.getfield 10, 3) := dk_180 0 10 (dk_at dksX0_moves_1 10 rfl rfl)
theorem dX0_moves_35 : decode cX0_moves 35 = .ok (.getfield 425, 3) := dk_180 1 169 (dk_at dksX0_moves_1 13 rfl rfl)
theorem dX0_moves_38 : decode cX0_moves 38 = .ok (.iload_n 1, 1) := dk_27 (dk_at dksX0_moves_1 16 rfl rfl)
theorem dX0_moves_39 : decode cX0_moves 39 = .ok (.iload_n 2, 1) := dk_28 (dk_at dksX0_moves_1 17 rfl rfl)
theorem dX0_moves_40 : decode cX0_moves 40 = .ok (.iastore, 1) := dk_79 (dk_at dksX0_moves_1 18 rfl rfl)
theorem dX0_moves_41 : decode cX0_moves 41 = .ok (.iload_n 3, 1) := dk_29 (dk_at dksX0_moves_1 19 rfl rfl)
theorem dX0_moves_42 : decode cX0_moves 42 = .ok (.ireturn, 1) := dk_172 (dk_at dksX0_moves_1 20 rfl rfl)
abbrev cX0_met : ByteArray := prog_1_method_112_code
def yX0_met : MethodName := ⟨RX0, "met", "(I)I"⟩
def dkwX0_met_0 : List UInt8 := [42, 27, 4, 182, 1, 178, 61, 28, 156, 0, 5, 28, 172, 42, 27, 182, 1, 181, 42, 180, 1, 172, 172]
abbrev dktX0_met_0 : List UInt8 := dkwX0_met_0 ++ []
theorem dksX0_met_0 : cX0_met.data.toList.drop 0 = dktX0_met_0 := by decide +kernel
theorem dX0_met_0 : decode cX0_met 0 = .ok (.aload_n 0, 1) := dk_42 (dk_at dksX0_met_0 0 rfl rfl)
theorem dX0_met_1 : decode cX0_met 1 = .ok (.iload_n 1, 1) := dk_27 (dk_at dksX0_met_0 1 rfl rfl)
theorem dX0_met_2 : decode cX0_met 2 = .ok (.iconst 1, 1) := dk_4 (dk_at dksX0_met_0 2 rfl rfl)
theorem dX0_met_3 : decode cX0_met 3 = .ok (.invokevirtual 434, 3) := dk_182 1 178 (dk_at dksX0_met_0 3 rfl rfl)
theorem dX0_met_6 : decode cX0_met 6 = .ok (.istore_n 2, 1) := dk_61 (dk_at dksX0_met_0 6 rfl rfl)
theorem dX0_met_7 : decode cX0_met 7 = .ok (.iload_n 2, 1) := dk_28 (dk_at dksX0_met_0 7 rfl rfl)
theorem dX0_met_8 : decode cX0_met 8 = .ok (.ifCond .ge 5, 3) := dk_156 0 5 (dk_at dksX0_met_0 8 rfl rfl)
theorem dX0_met_11 : decode cX0_met 11 = .ok (.iload_n 2, 1) := dk_28 (dk_at dksX0_met_0 11 rfl rfl)
theorem dX0_met_12 : decode cX0_met 12 = .ok (.ireturn, 1) := dk_172 (dk_at dksX0_met_0 12 rfl rfl)
theorem dX0_met_13 : decode cX0_met 13 = .ok (.aload_n 0, 1) := dk_42 (dk_at dksX0_met_0 13 rfl rfl)
theorem dX0_met_14 : decode cX0_met 14 = .ok (.iload_n 1, 1) := dk_27 (dk_at dksX0_met_0 14 rfl rfl)
theorem dX0_met_15 : decode cX0_met 15 = .ok (.invokevirtual 437, 3) := dk_182 1 181 (dk_at dksX0_met_0 15 rfl rfl)
theorem dX0_met_18 : decode cX0_met 18 = .ok (.aload_n 0, 1) := dk_42 (dk_at dksX0_met_0 18 rfl rfl)
theorem dX0_met_19 : decode cX0_met 19 = .ok (.getfield 428, 3) := dk_180 1 172 (dk_at dksX0_met_0 19 rfl rfl)
theorem dX0_met_22 : decode cX0_met 22 = .ok (.ireturn, 1) := dk_172 (dk_at dksX0_met_0 22 rfl rfl)
abbrev cX0_asksMet : ByteArray := prog_1_method_109_code
def yX0_asksMet : MethodName := ⟨RX0, "asksMet", "(IZ)I"⟩
def dkwX0_asksMet_6 : List UInt8 := [154, 0, 6, 16, 254, 172, 132, 4, 3, 167, 255, 178, 3, 172, 78, 16, 250, 172]
abbrev dktX0_asksMet_6 : List UInt8 := dkwX0_asksMet_6 ++ []
def dkwX0_asksMet_5 : List UInt8 := [180, 0, 118, 27, 50, 21, 4, 182, 1, 138, 42, 180, 0, 118, 27, 50, 21, 4, 4, 96, 182, 1, 138, 148]
abbrev dktX0_asksMet_5 : List UInt8 := dkwX0_asksMet_5 ++ dktX0_asksMet_6
def dkwX0_asksMet_4 : List UInt8 := [153, 0, 51, 42, 42, 180, 0, 118, 27, 50, 21, 4, 4, 96, 182, 1, 138, 182, 1, 166, 153, 0, 31, 42]
abbrev dktX0_asksMet_4 : List UInt8 := dkwX0_asksMet_4 ++ dktX0_asksMet_5
def dkwX0_asksMet_3 : List UInt8 := [54, 4, 21, 4, 29, 162, 0, 78, 42, 42, 180, 0, 118, 27, 50, 21, 4, 182, 1, 138, 182, 1, 166]
abbrev dktX0_asksMet_3 : List UInt8 := dkwX0_asksMet_3 ++ dktX0_asksMet_4
def dkwX0_asksMet_2 : List UInt8 := [180, 0, 10, 180, 1, 163, 7, 164, 0, 6, 16, 247, 172, 29, 6, 112, 153, 0, 6, 16, 254, 172, 3]
abbrev dktX0_asksMet_2 : List UInt8 := dkwX0_asksMet_2 ++ dktX0_asksMet_3
def dkwX0_asksMet_1 : List UInt8 := [42, 180, 0, 118, 27, 50, 182, 1, 135, 62, 42, 180, 0, 10, 180, 0, 158, 8, 159, 0, 14, 42]
abbrev dktX0_asksMet_1 : List UInt8 := dkwX0_asksMet_1 ++ dktX0_asksMet_2
def dkwX0_asksMet_0 : List UInt8 := [27, 184, 1, 132, 153, 0, 17, 42, 180, 0, 10, 180, 1, 163, 153, 0, 7, 28, 154, 0, 6, 16, 254, 172]
abbrev dktX0_asksMet_0 : List UInt8 := dkwX0_asksMet_0 ++ dktX0_asksMet_1
theorem dksX0_asksMet_0 : cX0_asksMet.data.toList.drop 0 = dktX0_asksMet_0 := by decide +kernel
theorem dksX0_asksMet_1 : cX0_asksMet.data.toList.drop 24 = dktX0_asksMet_1 := dk_seg dksX0_asksMet_0 24 rfl rfl
theorem dksX0_asksMet_2 : cX0_asksMet.data.toList.drop 46 = dktX0_asksMet_2 := dk_seg dksX0_asksMet_1 22 rfl rfl
theorem dksX0_asksMet_3 : cX0_asksMet.data.toList.drop 69 = dktX0_asksMet_3 := dk_seg dksX0_asksMet_2 23 rfl rfl
theorem dksX0_asksMet_4 : cX0_asksMet.data.toList.drop 92 = dktX0_asksMet_4 := dk_seg dksX0_asksMet_3 23 rfl rfl
theorem dksX0_asksMet_5 : cX0_asksMet.data.toList.drop 116 = dktX0_asksMet_5 := dk_seg dksX0_asksMet_4 24 rfl rfl
theorem dksX0_asksMet_6 : cX0_asksMet.data.toList.drop 140 = dktX0_asksMet_6 := dk_seg dksX0_asksMet_5 24 rfl rfl
theorem dX0_asksMet_0 : decode cX0_asksMet 0 = .ok (.iload_n 1, 1) := dk_27 (dk_at dksX0_asksMet_0 0 rfl rfl)
theorem dX0_asksMet_1 : decode cX0_asksMet 1 = .ok (.invokestatic 388, 3) := dk_184 1 132 (dk_at dksX0_asksMet_0 1 rfl rfl)
theorem dX0_asksMet_4 : decode cX0_asksMet 4 = .ok (.ifCond .eq 17, 3) := dk_153 0 17 (dk_at dksX0_asksMet_0 4 rfl rfl)
theorem dX0_asksMet_7 : decode cX0_asksMet 7 = .ok (.aload_n 0, 1) := dk_42 (dk_at dksX0_asksMet_0 7 rfl rfl)
theorem dX0_asksMet_8 : decode cX0_asksMet 8 = .ok (.getfield 10, 3) := dk_180 0 10 (dk_at dksX0_asksMet_0 8 rfl rfl)
theorem dX0_asksMet_11 : decode cX0_asksMet 11 = .ok (.getfield 419, 3) := dk_180 1 163 (dk_at dksX0_asksMet_0 11 rfl rfl)
theorem dX0_asksMet_14 : decode cX0_asksMet 14 = .ok (.ifCond .eq 7, 3) := dk_153 0 7 (dk_at dksX0_asksMet_0 14 rfl rfl)
theorem dX0_asksMet_17 : decode cX0_asksMet 17 = .ok (.iload_n 2, 1) := dk_28 (dk_at dksX0_asksMet_0 17 rfl rfl)
theorem dX0_asksMet_18 : decode cX0_asksMet 18 = .ok (.ifCond .ne 6, 3) := dk_154 0 6 (dk_at dksX0_asksMet_0 18 rfl rfl)
theorem dX0_asksMet_21 : decode cX0_asksMet 21 = .ok (.bipush (-2), 2) := dk_16 254 (dk_at dksX0_asksMet_0 21 rfl rfl)
theorem dX0_asksMet_23 : decode cX0_asksMet 23 = .ok (.ireturn, 1) := dk_172 (dk_at dksX0_asksMet_0 23 rfl rfl)
theorem dX0_asksMet_24 : decode cX0_asksMet 24 = .ok (.aload_n 0, 1) := dk_42 (dk_at dksX0_asksMet_1 0 rfl rfl)
theorem dX0_asksMet_25 : decode cX0_asksMet 25 = .ok (.getfield 118, 3) := dk_180 0 118 (dk_at dksX0_asksMet_1 1 rfl rfl)
theorem dX0_asksMet_28 : decode cX0_asksMet 28 = .ok (.iload_n 1, 1) := dk_27 (dk_at dksX0_asksMet_1 4 rfl rfl)
theorem dX0_asksMet_29 : decode cX0_asksMet 29 = .ok (.aaload, 1) := dk_50 (dk_at dksX0_asksMet_1 5 rfl rfl)
theorem dX0_asksMet_30 : decode cX0_asksMet 30 = .ok (.invokevirtual 391, 3) := dk_182 1 135 (dk_at dksX0_asksMet_1 6 rfl rfl)
theorem dX0_asksMet_33 : decode cX0_asksMet 33 = .ok (.istore_n 3, 1) := dk_62 (dk_at dksX0_asksMet_1 9 rfl rfl)
theorem dX0_asksMet_34 : decode cX0_asksMet 34 = .ok (.aload_n 0, 1) := dk_42 (dk_at dksX0_asksMet_1 10 rfl rfl)
theorem dX0_asksMet_35 : decode cX0_asksMet 35 = .ok (.getfield 10, 3) := dk_180 0 10 (dk_at dksX0_asksMet_1 11 rfl rfl)
theorem dX0_asksMet_38 : decode cX0_asksMet 38 = .ok (.getfield 158, 3) := dk_180 0 158 (dk_at dksX0_asksMet_1 14 rfl rfl)
theorem dX0_asksMet_41 : decode cX0_asksMet 41 = .ok (.iconst 5, 1) := dk_8 (dk_at dksX0_asksMet_1 17 rfl rfl)
theorem dX0_asksMet_42 : decode cX0_asksMet 42 = .ok (.if_icmp .eq 14, 3) := dk_159 0 14 (dk_at dksX0_asksMet_1 18 rfl rfl)
theorem dX0_asksMet_45 : decode cX0_asksMet 45 = .ok (.aload_n 0, 1) := dk_42 (dk_at dksX0_asksMet_1 21 rfl rfl)
theorem dX0_asksMet_46 : decode cX0_asksMet 46 = .ok (.getfield 10, 3) := dk_180 0 10 (dk_at dksX0_asksMet_2 0 rfl rfl)
theorem dX0_asksMet_49 : decode cX0_asksMet 49 = .ok (.getfield 419, 3) := dk_180 1 163 (dk_at dksX0_asksMet_2 3 rfl rfl)
theorem dX0_asksMet_52 : decode cX0_asksMet 52 = .ok (.iconst 4, 1) := dk_7 (dk_at dksX0_asksMet_2 6 rfl rfl)
theorem dX0_asksMet_53 : decode cX0_asksMet 53 = .ok (.if_icmp .le 6, 3) := dk_164 0 6 (dk_at dksX0_asksMet_2 7 rfl rfl)
theorem dX0_asksMet_56 : decode cX0_asksMet 56 = .ok (.bipush (-9), 2) := dk_16 247 (dk_at dksX0_asksMet_2 10 rfl rfl)
theorem dX0_asksMet_58 : decode cX0_asksMet 58 = .ok (.ireturn, 1) := dk_172 (dk_at dksX0_asksMet_2 12 rfl rfl)
theorem dX0_asksMet_59 : decode cX0_asksMet 59 = .ok (.iload_n 3, 1) := dk_29 (dk_at dksX0_asksMet_2 13 rfl rfl)
theorem dX0_asksMet_60 : decode cX0_asksMet 60 = .ok (.iconst 3, 1) := dk_6 (dk_at dksX0_asksMet_2 14 rfl rfl)
theorem dX0_asksMet_61 : decode cX0_asksMet 61 = .ok (.irem, 1) := dk_112 (dk_at dksX0_asksMet_2 15 rfl rfl)
theorem dX0_asksMet_62 : decode cX0_asksMet 62 = .ok (.ifCond .eq 6, 3) := dk_153 0 6 (dk_at dksX0_asksMet_2 16 rfl rfl)
theorem dX0_asksMet_65 : decode cX0_asksMet 65 = .ok (.bipush (-2), 2) := dk_16 254 (dk_at dksX0_asksMet_2 19 rfl rfl)
theorem dX0_asksMet_67 : decode cX0_asksMet 67 = .ok (.ireturn, 1) := dk_172 (dk_at dksX0_asksMet_2 21 rfl rfl)
theorem dX0_asksMet_68 : decode cX0_asksMet 68 = .ok (.iconst 0, 1) := dk_3 (dk_at dksX0_asksMet_2 22 rfl rfl)
theorem dX0_asksMet_69 : decode cX0_asksMet 69 = .ok (.istore 4, 2) := dk_54 4 (dk_at dksX0_asksMet_3 0 rfl rfl)
theorem dX0_asksMet_71 : decode cX0_asksMet 71 = .ok (.iload 4, 2) := dk_21 4 (dk_at dksX0_asksMet_3 2 rfl rfl)
theorem dX0_asksMet_73 : decode cX0_asksMet 73 = .ok (.iload_n 3, 1) := dk_29 (dk_at dksX0_asksMet_3 4 rfl rfl)
theorem dX0_asksMet_74 : decode cX0_asksMet 74 = .ok (.if_icmp .ge 78, 3) := dk_162 0 78 (dk_at dksX0_asksMet_3 5 rfl rfl)
theorem dX0_asksMet_77 : decode cX0_asksMet 77 = .ok (.aload_n 0, 1) := dk_42 (dk_at dksX0_asksMet_3 8 rfl rfl)
theorem dX0_asksMet_78 : decode cX0_asksMet 78 = .ok (.aload_n 0, 1) := dk_42 (dk_at dksX0_asksMet_3 9 rfl rfl)
theorem dX0_asksMet_79 : decode cX0_asksMet 79 = .ok (.getfield 118, 3) := dk_180 0 118 (dk_at dksX0_asksMet_3 10 rfl rfl)
theorem dX0_asksMet_82 : decode cX0_asksMet 82 = .ok (.iload_n 1, 1) := dk_27 (dk_at dksX0_asksMet_3 13 rfl rfl)
theorem dX0_asksMet_83 : decode cX0_asksMet 83 = .ok (.aaload, 1) := dk_50 (dk_at dksX0_asksMet_3 14 rfl rfl)
theorem dX0_asksMet_84 : decode cX0_asksMet 84 = .ok (.iload 4, 2) := dk_21 4 (dk_at dksX0_asksMet_3 15 rfl rfl)
theorem dX0_asksMet_86 : decode cX0_asksMet 86 = .ok (.invokevirtual 394, 3) := dk_182 1 138 (dk_at dksX0_asksMet_3 17 rfl rfl)
theorem dX0_asksMet_89 : decode cX0_asksMet 89 = .ok (.invokevirtual 422, 3) := dk_182 1 166 (dk_at dksX0_asksMet_3 20 rfl rfl)
theorem dX0_asksMet_92 : decode cX0_asksMet 92 = .ok (.ifCond .eq 51, 3) := dk_153 0 51 (dk_at dksX0_asksMet_4 0 rfl rfl)
theorem dX0_asksMet_95 : decode cX0_asksMet 95 = .ok (.aload_n 0, 1) := dk_42 (dk_at dksX0_asksMet_4 3 rfl rfl)
theorem dX0_asksMet_96 : decode cX0_asksMet 96 = .ok (.aload_n 0, 1) := dk_42 (dk_at dksX0_asksMet_4 4 rfl rfl)
theorem dX0_asksMet_97 : decode cX0_asksMet 97 = .ok (.getfield 118, 3) := dk_180 0 118 (dk_at dksX0_asksMet_4 5 rfl rfl)
theorem dX0_asksMet_100 : decode cX0_asksMet 100 = .ok (.iload_n 1, 1) := dk_27 (dk_at dksX0_asksMet_4 8 rfl rfl)
theorem dX0_asksMet_101 : decode cX0_asksMet 101 = .ok (.aaload, 1) := dk_50 (dk_at dksX0_asksMet_4 9 rfl rfl)
theorem dX0_asksMet_102 : decode cX0_asksMet 102 = .ok (.iload 4, 2) := dk_21 4 (dk_at dksX0_asksMet_4 10 rfl rfl)
theorem dX0_asksMet_104 : decode cX0_asksMet 104 = .ok (.iconst 1, 1) := dk_4 (dk_at dksX0_asksMet_4 12 rfl rfl)
theorem dX0_asksMet_105 : decode cX0_asksMet 105 = .ok (.iadd, 1) := dk_96 (dk_at dksX0_asksMet_4 13 rfl rfl)
theorem dX0_asksMet_106 : decode cX0_asksMet 106 = .ok (.invokevirtual 394, 3) := dk_182 1 138 (dk_at dksX0_asksMet_4 14 rfl rfl)
theorem dX0_asksMet_109 : decode cX0_asksMet 109 = .ok (.invokevirtual 422, 3) := dk_182 1 166 (dk_at dksX0_asksMet_4 17 rfl rfl)
theorem dX0_asksMet_112 : decode cX0_asksMet 112 = .ok (.ifCond .eq 31, 3) := dk_153 0 31 (dk_at dksX0_asksMet_4 20 rfl rfl)
theorem dX0_asksMet_115 : decode cX0_asksMet 115 = .ok (.aload_n 0, 1) := dk_42 (dk_at dksX0_asksMet_4 23 rfl rfl)
theorem dX0_asksMet_116 : decode cX0_asksMet 116 = .ok (.getfield 118, 3) := dk_180 0 118 (dk_at dksX0_asksMet_5 0 rfl rfl)
theorem dX0_asksMet_119 : decode cX0_asksMet 119 = .ok (.iload_n 1, 1) := dk_27 (dk_at dksX0_asksMet_5 3 rfl rfl)
theorem dX0_asksMet_120 : decode cX0_asksMet 120 = .ok (.aaload, 1) := dk_50 (dk_at dksX0_asksMet_5 4 rfl rfl)
theorem dX0_asksMet_121 : decode cX0_asksMet 121 = .ok (.iload 4, 2) := dk_21 4 (dk_at dksX0_asksMet_5 5 rfl rfl)
theorem dX0_asksMet_123 : decode cX0_asksMet 123 = .ok (.invokevirtual 394, 3) := dk_182 1 138 (dk_at dksX0_asksMet_5 7 rfl rfl)
theorem dX0_asksMet_126 : decode cX0_asksMet 126 = .ok (.aload_n 0, 1) := dk_42 (dk_at dksX0_asksMet_5 10 rfl rfl)
theorem dX0_asksMet_127 : decode cX0_asksMet 127 = .ok (.getfield 118, 3) := dk_180 0 118 (dk_at dksX0_asksMet_5 11 rfl rfl)
theorem dX0_asksMet_130 : decode cX0_asksMet 130 = .ok (.iload_n 1, 1) := dk_27 (dk_at dksX0_asksMet_5 14 rfl rfl)
theorem dX0_asksMet_131 : decode cX0_asksMet 131 = .ok (.aaload, 1) := dk_50 (dk_at dksX0_asksMet_5 15 rfl rfl)
theorem dX0_asksMet_132 : decode cX0_asksMet 132 = .ok (.iload 4, 2) := dk_21 4 (dk_at dksX0_asksMet_5 16 rfl rfl)
theorem dX0_asksMet_134 : decode cX0_asksMet 134 = .ok (.iconst 1, 1) := dk_4 (dk_at dksX0_asksMet_5 18 rfl rfl)
theorem dX0_asksMet_135 : decode cX0_asksMet 135 = .ok (.iadd, 1) := dk_96 (dk_at dksX0_asksMet_5 19 rfl rfl)
theorem dX0_asksMet_136 : decode cX0_asksMet 136 = .ok (.invokevirtual 394, 3) := dk_182 1 138 (dk_at dksX0_asksMet_5 20 rfl rfl)
theorem dX0_asksMet_139 : decode cX0_asksMet 139 = .ok (.lcmp, 1) := dk_148 (dk_at dksX0_asksMet_5 23 rfl rfl)
theorem dX0_asksMet_140 : decode cX0_asksMet 140 = .ok (.ifCond .ne 6, 3) := dk_154 0 6 (dk_at dksX0_asksMet_6 0 rfl rfl)
theorem dX0_asksMet_143 : decode cX0_asksMet 143 = .ok (.bipush (-2), 2) := dk_16 254 (dk_at dksX0_asksMet_6 3 rfl rfl)
theorem dX0_asksMet_145 : decode cX0_asksMet 145 = .ok (.ireturn, 1) := dk_172 (dk_at dksX0_asksMet_6 5 rfl rfl)
theorem dX0_asksMet_146 : decode cX0_asksMet 146 = .ok (.iinc 4 3, 3) := dk_132 4 3 (dk_at dksX0_asksMet_6 6 rfl rfl)
theorem dX0_asksMet_149 : decode cX0_asksMet 149 = .ok (.goto (-78), 3) := dk_167 255 178 (dk_at dksX0_asksMet_6 9 rfl rfl)
theorem dX0_asksMet_152 : decode cX0_asksMet 152 = .ok (.iconst 0, 1) := dk_3 (dk_at dksX0_asksMet_6 12 rfl rfl)
theorem dX0_asksMet_153 : decode cX0_asksMet 153 = .ok (.ireturn, 1) := dk_172 (dk_at dksX0_asksMet_6 13 rfl rfl)
theorem dX0_asksMet_154 : decode cX0_asksMet 154 = .ok (.astore_n 3, 1) := dk_78 (dk_at dksX0_asksMet_6 14 rfl rfl)
theorem dX0_asksMet_155 : decode cX0_asksMet 155 = .ok (.bipush (-6), 2) := dk_16 250 (dk_at dksX0_asksMet_6 15 rfl rfl)
theorem dX0_asksMet_157 : decode cX0_asksMet 157 = .ok (.ireturn, 1) := dk_172 (dk_at dksX0_asksMet_6 17 rfl rfl)
abbrev cX0_findsPlacings : ByteArray := prog_1_method_111_code
def yX0_findsPlacings : MethodName := ⟨RX0, "findsPlacings", "(I)V"⟩
def dkwX0_findsPlacings_8 : List UInt8 := [42, 89, 180, 1, 172, 4, 96, 181, 1, 172, 132, 3, 1, 167, 255, 111, 177]
abbrev dktX0_findsPlacings_8 : List UInt8 := dkwX0_findsPlacings_8 ++ []
def dkwX0_findsPlacings_7 : List UInt8 := [21, 5, 46, 160, 0, 13, 42, 180, 0, 94, 21, 5, 46, 167, 0, 4, 2, 79, 132, 5, 1, 167, 255, 199]
abbrev dktX0_findsPlacings_7 : List UInt8 := dkwX0_findsPlacings_7 ++ dktX0_findsPlacings_8
def dkwX0_findsPlacings_6 : List UInt8 := [180, 0, 97, 21, 5, 42, 180, 1, 172, 153, 0, 20, 42, 180, 0, 97, 21, 5, 46, 42, 180, 0, 94]
abbrev dktX0_findsPlacings_6 : List UInt8 := dkwX0_findsPlacings_6 ++ dktX0_findsPlacings_7
def dkwX0_findsPlacings_5 : List UInt8 := [154, 0, 6, 167, 0, 76, 3, 54, 5, 21, 5, 42, 180, 0, 10, 180, 1, 163, 162, 0, 51, 42]
abbrev dktX0_findsPlacings_5 : List UInt8 := dkwX0_findsPlacings_5 ++ dktX0_findsPlacings_6
def dkwX0_findsPlacings_4 : List UInt8 := [21, 4, 42, 180, 0, 10, 182, 0, 161, 108, 54, 4, 132, 5, 1, 167, 255, 212, 42, 27, 182, 1, 175]
abbrev dktX0_findsPlacings_4 : List UInt8 := dkwX0_findsPlacings_4 ++ dktX0_findsPlacings_5
def dkwX0_findsPlacings_3 : List UInt8 := [180, 1, 163, 162, 0, 38, 42, 180, 0, 94, 21, 5, 21, 4, 42, 180, 0, 10, 182, 0, 161, 112, 79]
abbrev dktX0_findsPlacings_3 : List UInt8 := dkwX0_findsPlacings_3 ++ dktX0_findsPlacings_4
def dkwX0_findsPlacings_2 : List UInt8 := [167, 255, 232, 3, 62, 29, 28, 162, 0, 146, 29, 54, 4, 4, 54, 5, 21, 5, 42, 180, 0, 10]
abbrev dktX0_findsPlacings_2 : List UInt8 := dkwX0_findsPlacings_2 ++ dktX0_findsPlacings_3
def dkwX0_findsPlacings_1 : List UInt8 := [29, 42, 180, 0, 10, 180, 1, 163, 162, 0, 19, 28, 42, 180, 0, 10, 182, 0, 161, 104, 61, 132, 3, 1]
abbrev dktX0_findsPlacings_1 : List UInt8 := dkwX0_findsPlacings_1 ++ dktX0_findsPlacings_2
def dkwX0_findsPlacings_0 : List UInt8 := [42, 3, 181, 1, 172, 42, 180, 0, 94, 3, 42, 180, 0, 10, 180, 1, 169, 3, 46, 79, 4, 61, 4, 62]
abbrev dktX0_findsPlacings_0 : List UInt8 := dkwX0_findsPlacings_0 ++ dktX0_findsPlacings_1
theorem dksX0_findsPlacings_0 : cX0_findsPlacings.data.toList.drop 0 = dktX0_findsPlacings_0 := by decide +kernel
theorem dksX0_findsPlacings_1 : cX0_findsPlacings.data.toList.drop 24 = dktX0_findsPlacings_1 := dk_seg dksX0_findsPlacings_0 24 rfl rfl
theorem dksX0_findsPlacings_2 : cX0_findsPlacings.data.toList.drop 48 = dktX0_findsPlacings_2 := dk_seg dksX0_findsPlacings_1 24 rfl rfl
theorem dksX0_findsPlacings_3 : cX0_findsPlacings.data.toList.drop 70 = dktX0_findsPlacings_3 := dk_seg dksX0_findsPlacings_2 22 rfl rfl
theorem dksX0_findsPlacings_4 : cX0_findsPlacings.data.toList.drop 93 = dktX0_findsPlacings_4 := dk_seg dksX0_findsPlacings_3 23 rfl rfl
theorem dksX0_findsPlacings_5 : cX0_findsPlacings.data.toList.drop 116 = dktX0_findsPlacings_5 := dk_seg dksX0_findsPlacings_4 23 rfl rfl
theorem dksX0_findsPlacings_6 : cX0_findsPlacings.data.toList.drop 138 = dktX0_findsPlacings_6 := dk_seg dksX0_findsPlacings_5 22 rfl rfl
theorem dksX0_findsPlacings_7 : cX0_findsPlacings.data.toList.drop 161 = dktX0_findsPlacings_7 := dk_seg dksX0_findsPlacings_6 23 rfl rfl
theorem dksX0_findsPlacings_8 : cX0_findsPlacings.data.toList.drop 185 = dktX0_findsPlacings_8 := dk_seg dksX0_findsPlacings_7 24 rfl rfl
theorem dX0_findsPlacings_0 : decode cX0_findsPlacings 0 = .ok (.aload_n 0, 1) := dk_42 (dk_at dksX0_findsPlacings_0 0 rfl rfl)
theorem dX0_findsPlacings_1 : decode cX0_findsPlacings 1 = .ok (.iconst 0, 1) := dk_3 (dk_at dksX0_findsPlacings_0 1 rfl rfl)
theorem dX0_findsPlacings_2 : decode cX0_findsPlacings 2 = .ok (.putfield 428, 3) := dk_181 1 172 (dk_at dksX0_findsPlacings_0 2 rfl rfl)
theorem dX0_findsPlacings_5 : decode cX0_findsPlacings 5 = .ok (.aload_n 0, 1) := dk_42 (dk_at dksX0_findsPlacings_0 5 rfl rfl)
theorem dX0_findsPlacings_6 : decode cX0_findsPlacings 6 = .ok (.getfield 94, 3) := dk_180 0 94 (dk_at dksX0_findsPlacings_0 6 rfl rfl)
theorem dX0_findsPlacings_9 : decode cX0_findsPlacings 9 = .ok (.iconst 0, 1) := dk_3 (dk_at dksX0_findsPlacings_0 9 rfl rfl)
theorem dX0_findsPlacings_10 : decode cX0_findsPlacings 10 = .ok (.aload_n 0, 1) := dk_42 (dk_at dksX0_findsPlacings_0 10 rfl rfl)
theorem dX0_findsPlacings_11 : decode cX0_findsPlacings 11 = .ok (.getfield 10, 3) := dk_180 0 10 (dk_at dksX0_findsPlacings_0 11 rfl rfl)
theorem dX0_findsPlacings_14 : decode cX0_findsPlacings 14 = .ok (.getfield 425, 3) := dk_180 1 169 (dk_at dksX0_findsPlacings_0 14 rfl rfl)
theorem dX0_findsPlacings_17 : decode cX0_findsPlacings 17 = .ok (.iconst 0, 1) := dk_3 (dk_at dksX0_findsPlacings_0 17 rfl rfl)
theorem dX0_findsPlacings_18 : decode cX0_findsPlacings 18 = .ok (.iaload, 1) := dk_46 (dk_at dksX0_findsPlacings_0 18 rfl rfl)
theorem dX0_findsPlacings_19 : decode cX0_findsPlacings 19 = .ok (.iastore, 1) := dk_79 (dk_at dksX0_findsPlacings_0 19 rfl rfl)
theorem dX0_findsPlacings_20 : decode cX0_findsPlacings 20 = .ok (.iconst 1, 1) := dk_4 (dk_at dksX0_findsPlacings_0 20 rfl rfl)
theorem dX0_findsPlacings_21 : decode cX0_findsPlacings 21 = .ok (.istore_n 2, 1) := dk_61 (dk_at dksX0_findsPlacings_0 21 rfl rfl)
theorem dX0_findsPlacings_22 : decode cX0_findsPlacings 22 = .ok (.iconst 1, 1) := dk_4 (dk_at dksX0_findsPlacings_0 22 rfl rfl)
theorem dX0_findsPlacings_23 : decode cX0_findsPlacings 23 = .ok (.istore_n 3, 1) := dk_62 (dk_at dksX0_findsPlacings_0 23 rfl rfl)
theorem dX0_findsPlacings_24 : decode cX0_findsPlacings 24 = .ok (.iload_n 3, 1) := dk_29 (dk_at dksX0_findsPlacings_1 0 rfl rfl)
theorem dX0_findsPlacings_25 : decode cX0_findsPlacings 25 = .ok (.aload_n 0, 1) := dk_42 (dk_at dksX0_findsPlacings_1 1 rfl rfl)
theorem dX0_findsPlacings_26 : decode cX0_findsPlacings 26 = .ok (.getfield 10, 3) := dk_180 0 10 (dk_at dksX0_findsPlacings_1 2 rfl rfl)
theorem dX0_findsPlacings_29 : decode cX0_findsPlacings 29 = .ok (.getfield 419, 3) := dk_180 1 163 (dk_at dksX0_findsPlacings_1 5 rfl rfl)
theorem dX0_findsPlacings_32 : decode cX0_findsPlacings 32 = .ok (.if_icmp .ge 19, 3) := dk_162 0 19 (dk_at dksX0_findsPlacings_1 8 rfl rfl)
theorem dX0_findsPlacings_35 : decode cX0_findsPlacings 35 = .ok (.iload_n 2, 1) := dk_28 (dk_at dksX0_findsPlacings_1 11 rfl rfl)
theorem dX0_findsPlacings_36 : decode cX0_findsPlacings 36 = .ok (.aload_n 0, 1) := dk_42 (dk_at dksX0_findsPlacings_1 12 rfl rfl)
theorem dX0_findsPlacings_37 : decode cX0_findsPlacings 37 = .ok (.getfield 10, 3) := dk_180 0 10 (dk_at dksX0_findsPlacings_1 13 rfl rfl)
theorem dX0_findsPlacings_40 : decode cX0_findsPlacings 40 = .ok (.invokevirtual 161, 3) := dk_182 0 161 (dk_at dksX0_findsPlacings_1 16 rfl rfl)
theorem dX0_findsPlacings_43 : decode cX0_findsPlacings 43 = .ok (.imul, 1) := dk_104 (dk_at dksX0_findsPlacings_1 19 rfl rfl)
theorem dX0_findsPlacings_44 : decode cX0_findsPlacings 44 = .ok (.istore_n 2, 1) := dk_61 (dk_at dksX0_findsPlacings_1 20 rfl rfl)
theorem dX0_findsPlacings_45 : decode cX0_findsPlacings 45 = .ok (.iinc 3 1, 3) := dk_132 3 1 (dk_at dksX0_findsPlacings_1 21 rfl rfl)
theorem dX0_findsPlacings_48 : decode cX0_findsPlacings 48 = .ok (.goto (-24), 3) := dk_167 255 232 (dk_at dksX0_findsPlacings_2 0 rfl rfl)
theorem dX0_findsPlacings_51 : decode cX0_findsPlacings 51 = .ok (.iconst 0, 1) := dk_3 (dk_at dksX0_findsPlacings_2 3 rfl rfl)
theorem dX0_findsPlacings_52 : decode cX0_findsPlacings 52 = .ok (.istore_n 3, 1) := dk_62 (dk_at dksX0_findsPlacings_2 4 rfl rfl)
theorem dX0_findsPlacings_53 : decode cX0_findsPlacings 53 = .ok (.iload_n 3, 1) := dk_29 (dk_at dksX0_findsPlacings_2 5 rfl rfl)
theorem dX0_findsPlacings_54 : decode cX0_findsPlacings 54 = .ok (.iload_n 2, 1) := dk_28 (dk_at dksX0_findsPlacings_2 6 rfl rfl)
theorem dX0_findsPlacings_55 : decode cX0_findsPlacings 55 = .ok (.if_icmp .ge 146, 3) := dk_162 0 146 (dk_at dksX0_findsPlacings_2 7 rfl rfl)
theorem dX0_findsPlacings_58 : decode cX0_findsPlacings 58 = .ok (.iload_n 3, 1) := dk_29 (dk_at dksX0_findsPlacings_2 10 rfl rfl)
theorem dX0_findsPlacings_59 : decode cX0_findsPlacings 59 = .ok (.istore 4, 2) := dk_54 4 (dk_at dksX0_findsPlacings_2 11 rfl rfl)
theorem dX0_findsPlacings_61 : decode cX0_findsPlacings 61 = .ok (.iconst 1, 1) := dk_4 (dk_at dksX0_findsPlacings_2 13 rfl rfl)
theorem dX0_findsPlacings_62 : decode cX0_findsPlacings 62 = .ok (.istore 5, 2) := dk_54 5 (dk_at dksX0_findsPlacings_2 14 rfl rfl)
theorem dX0_findsPlacings_64 : decode cX0_findsPlacings 64 = .ok (.iload 5, 2) := dk_21 5 (dk_at dksX0_findsPlacings_2 16 rfl rfl)
theorem dX0_findsPlacings_66 : decode cX0_findsPlacings 66 = .ok (.aload_n 0, 1) := dk_42 (dk_at dksX0_findsPlacings_2 18 rfl rfl)
theorem dX0_findsPlacings_67 : decode cX0_findsPlacings 67 = .ok (.getfield 10, 3) := dk_180 0 10 (dk_at dksX0_findsPlacings_2 19 rfl rfl)
theorem dX0_findsPlacings_70 : decode cX0_findsPlacings 70 = .ok (.getfield 419, 3) := dk_180 1 163 (dk_at dksX0_findsPlacings_3 0 rfl rfl)
theorem dX0_findsPlacings_73 : decode cX0_findsPlacings 73 = .ok (.if_icmp .ge 38, 3) := dk_162 0 38 (dk_at dksX0_findsPlacings_3 3 rfl rfl)
theorem dX0_findsPlacings_76 : decode cX0_findsPlacings 76 = .ok (.aload_n 0, 1) := dk_42 (dk_at dksX0_findsPlacings_3 6 rfl rfl)
theorem dX0_findsPlacings_77 : decode cX0_findsPlacings 77 = .ok (.getfield 94, 3) := dk_180 0 94 (dk_at dksX0_findsPlacings_3 7 rfl rfl)
theorem dX0_findsPlacings_80 : decode cX0_findsPlacings 80 = .ok (.iload 5, 2) := dk_21 5 (dk_at dksX0_findsPlacings_3 10 rfl rfl)
theorem dX0_findsPlacings_82 : decode cX0_findsPlacings 82 = .ok (.iload 4, 2) := dk_21 4 (dk_at dksX0_findsPlacings_3 12 rfl rfl)
theorem dX0_findsPlacings_84 : decode cX0_findsPlacings 84 = .ok (.aload_n 0, 1) := dk_42 (dk_at dksX0_findsPlacings_3 14 rfl rfl)
theorem dX0_findsPlacings_85 : decode cX0_findsPlacings 85 = .ok (.getfield 10, 3) := dk_180 0 10 (dk_at dksX0_findsPlacings_3 15 rfl rfl)
theorem dX0_findsPlacings_88 : decode cX0_findsPlacings 88 = .ok (.invokevirtual 161, 3) := dk_182 0 161 (dk_at dksX0_findsPlacings_3 18 rfl rfl)
theorem dX0_findsPlacings_91 : decode cX0_findsPlacings 91 = .ok (.irem, 1) := dk_112 (dk_at dksX0_findsPlacings_3 21 rfl rfl)
theorem dX0_findsPlacings_92 : decode cX0_findsPlacings 92 = .ok (.iastore, 1) := dk_79 (dk_at dksX0_findsPlacings_3 22 rfl rfl)
theorem dX0_findsPlacings_93 : decode cX0_findsPlacings 93 = .ok (.iload 4, 2) := dk_21 4 (dk_at dksX0_findsPlacings_4 0 rfl rfl)
theorem dX0_findsPlacings_95 : decode cX0_findsPlacings 95 = .ok (.aload_n 0, 1) := dk_42 (dk_at dksX0_findsPlacings_4 2 rfl rfl)
theorem dX0_findsPlacings_96 : decode cX0_findsPlacings 96 = .ok (.getfield 10, 3) := dk_180 0 10 (dk_at dksX0_findsPlacings_4 3 rfl rfl)
theorem dX0_findsPlacings_99 : decode cX0_findsPlacings 99 = .ok (.invokevirtual 161, 3) := dk_182 0 161 (dk_at dksX0_findsPlacings_4 6 rfl rfl)
theorem dX0_findsPlacings_102 : decode cX0_findsPlacings 102 = .ok (.idiv, 1) := dk_108 (dk_at dksX0_findsPlacings_4 9 rfl rfl)
theorem dX0_findsPlacings_103 : decode cX0_findsPlacings 103 = .ok (.istore 4, 2) := dk_54 4 (dk_at dksX0_findsPlacings_4 10 rfl rfl)
theorem dX0_findsPlacings_105 : decode cX0_findsPlacings 105 = .ok (.iinc 5 1, 3) := dk_132 5 1 (dk_at dksX0_findsPlacings_4 12 rfl rfl)
theorem dX0_findsPlacings_108 : decode cX0_findsPlacings 108 = .ok (.goto (-44), 3) := dk_167 255 212 (dk_at dksX0_findsPlacings_4 15 rfl rfl)
theorem dX0_findsPlacings_111 : decode cX0_findsPlacings 111 = .ok (.aload_n 0, 1) := dk_42 (dk_at dksX0_findsPlacings_4 18 rfl rfl)
theorem dX0_findsPlacings_112 : decode cX0_findsPlacings 112 = .ok (.iload_n 1, 1) := dk_27 (dk_at dksX0_findsPlacings_4 19 rfl rfl)
theorem dX0_findsPlacings_113 : decode cX0_findsPlacings 113 = .ok (.invokevirtual 431, 3) := dk_182 1 175 (dk_at dksX0_findsPlacings_4 20 rfl rfl)
theorem dX0_findsPlacings_116 : decode cX0_findsPlacings 116 = .ok (.ifCond .ne 6, 3) := dk_154 0 6 (dk_at dksX0_findsPlacings_5 0 rfl rfl)
theorem dX0_findsPlacings_119 : decode cX0_findsPlacings 119 = .ok (.goto 76, 3) := dk_167 0 76 (dk_at dksX0_findsPlacings_5 3 rfl rfl)
theorem dX0_findsPlacings_122 : decode cX0_findsPlacings 122 = .ok (.iconst 0, 1) := dk_3 (dk_at dksX0_findsPlacings_5 6 rfl rfl)
theorem dX0_findsPlacings_123 : decode cX0_findsPlacings 123 = .ok (.istore 5, 2) := dk_54 5 (dk_at dksX0_findsPlacings_5 7 rfl rfl)
theorem dX0_findsPlacings_125 : decode cX0_findsPlacings 125 = .ok (.iload 5, 2) := dk_21 5 (dk_at dksX0_findsPlacings_5 9 rfl rfl)
theorem dX0_findsPlacings_127 : decode cX0_findsPlacings 127 = .ok (.aload_n 0, 1) := dk_42 (dk_at dksX0_findsPlacings_5 11 rfl rfl)
theorem dX0_findsPlacings_128 : decode cX0_findsPlacings 128 = .ok (.getfield 10, 3) := dk_180 0 10 (dk_at dksX0_findsPlacings_5 12 rfl rfl)
theorem dX0_findsPlacings_131 : decode cX0_findsPlacings 131 = .ok (.getfield 419, 3) := dk_180 1 163 (dk_at dksX0_findsPlacings_5 15 rfl rfl)
theorem dX0_findsPlacings_134 : decode cX0_findsPlacings 134 = .ok (.if_icmp .ge 51, 3) := dk_162 0 51 (dk_at dksX0_findsPlacings_5 18 rfl rfl)
theorem dX0_findsPlacings_137 : decode cX0_findsPlacings 137 = .ok (.aload_n 0, 1) := dk_42 (dk_at dksX0_findsPlacings_5 21 rfl rfl)
theorem dX0_findsPlacings_138 : decode cX0_findsPlacings 138 = .ok (.getfield 97, 3) := dk_180 0 97 (dk_at dksX0_findsPlacings_6 0 rfl rfl)
theorem dX0_findsPlacings_141 : decode cX0_findsPlacings 141 = .ok (.iload 5, 2) := dk_21 5 (dk_at dksX0_findsPlacings_6 3 rfl rfl)
theorem dX0_findsPlacings_143 : decode cX0_findsPlacings 143 = .ok (.aload_n 0, 1) := dk_42 (dk_at dksX0_findsPlacings_6 5 rfl rfl)
theorem dX0_findsPlacings_144 : decode cX0_findsPlacings 144 = .ok (.getfield 428, 3) := dk_180 1 172 (dk_at dksX0_findsPlacings_6 6 rfl rfl)
theorem dX0_findsPlacings_147 : decode cX0_findsPlacings 147 = .ok (.ifCond .eq 20, 3) := dk_153 0 20 (dk_at dksX0_findsPlacings_6 9 rfl rfl)
theorem dX0_findsPlacings_150 : decode cX0_findsPlacings 150 = .ok (.aload_n 0, 1) := dk_42 (dk_at dksX0_findsPlacings_6 12 rfl rfl)
theorem dX0_findsPlacings_151 : decode cX0_findsPlacings 151 = .ok (.getfield 97, 3) := dk_180 0 97 (dk_at dksX0_findsPlacings_6 13 rfl rfl)
theorem dX0_findsPlacings_154 : decode cX0_findsPlacings 154 = .ok (.iload 5, 2) := dk_21 5 (dk_at dksX0_findsPlacings_6 16 rfl rfl)
theorem dX0_findsPlacings_156 : decode cX0_findsPlacings 156 = .ok (.iaload, 1) := dk_46 (dk_at dksX0_findsPlacings_6 18 rfl rfl)
theorem dX0_findsPlacings_157 : decode cX0_findsPlacings 157 = .ok (.aload_n 0, 1) := dk_42 (dk_at dksX0_findsPlacings_6 19 rfl rfl)
theorem dX0_findsPlacings_158 : decode cX0_findsPlacings 158 = .ok (.getfield 94, 3) := dk_180 0 94 (dk_at dksX0_findsPlacings_6 20 rfl rfl)
theorem dX0_findsPlacings_161 : decode cX0_findsPlacings 161 = .ok (.iload 5, 2) := dk_21 5 (dk_at dksX0_findsPlacings_7 0 rfl rfl)
theorem dX0_findsPlacings_163 : decode cX0_findsPlacings 163 = .ok (.iaload, 1) := dk_46 (dk_at dksX0_findsPlacings_7 2 rfl rfl)
theorem dX0_findsPlacings_164 : decode cX0_findsPlacings 164 = .ok (.if_icmp .ne 13, 3) := dk_160 0 13 (dk_at dksX0_findsPlacings_7 3 rfl rfl)
theorem dX0_findsPlacings_167 : decode cX0_findsPlacings 167 = .ok (.aload_n 0, 1) := dk_42 (dk_at dksX0_findsPlacings_7 6 rfl rfl)
theorem dX0_findsPlacings_168 : decode cX0_findsPlacings 168 = .ok (.getfield 94, 3) := dk_180 0 94 (dk_at dksX0_findsPlacings_7 7 rfl rfl)
theorem dX0_findsPlacings_171 : decode cX0_findsPlacings 171 = .ok (.iload 5, 2) := dk_21 5 (dk_at dksX0_findsPlacings_7 10 rfl rfl)
theorem dX0_findsPlacings_173 : decode cX0_findsPlacings 173 = .ok (.iaload, 1) := dk_46 (dk_at dksX0_findsPlacings_7 12 rfl rfl)
theorem dX0_findsPlacings_174 : decode cX0_findsPlacings 174 = .ok (.goto 4, 3) := dk_167 0 4 (dk_at dksX0_findsPlacings_7 13 rfl rfl)
theorem dX0_findsPlacings_177 : decode cX0_findsPlacings 177 = .ok (.iconst (-1), 1) := dk_2 (dk_at dksX0_findsPlacings_7 16 rfl rfl)
theorem dX0_findsPlacings_178 : decode cX0_findsPlacings 178 = .ok (.iastore, 1) := dk_79 (dk_at dksX0_findsPlacings_7 17 rfl rfl)
theorem dX0_findsPlacings_179 : decode cX0_findsPlacings 179 = .ok (.iinc 5 1, 3) := dk_132 5 1 (dk_at dksX0_findsPlacings_7 18 rfl rfl)
theorem dX0_findsPlacings_182 : decode cX0_findsPlacings 182 = .ok (.goto (-57), 3) := dk_167 255 199 (dk_at dksX0_findsPlacings_7 21 rfl rfl)
theorem dX0_findsPlacings_185 : decode cX0_findsPlacings 185 = .ok (.aload_n 0, 1) := dk_42 (dk_at dksX0_findsPlacings_8 0 rfl rfl)
theorem dX0_findsPlacings_186 : decode cX0_findsPlacings 186 = .ok (.dup, 1) := dk_89 (dk_at dksX0_findsPlacings_8 1 rfl rfl)
theorem dX0_findsPlacings_187 : decode cX0_findsPlacings 187 = .ok (.getfield 428, 3) := dk_180 1 172 (dk_at dksX0_findsPlacings_8 2 rfl rfl)
theorem dX0_findsPlacings_190 : decode cX0_findsPlacings 190 = .ok (.iconst 1, 1) := dk_4 (dk_at dksX0_findsPlacings_8 5 rfl rfl)
theorem dX0_findsPlacings_191 : decode cX0_findsPlacings 191 = .ok (.iadd, 1) := dk_96 (dk_at dksX0_findsPlacings_8 6 rfl rfl)
theorem dX0_findsPlacings_192 : decode cX0_findsPlacings 192 = .ok (.putfield 428, 3) := dk_181 1 172 (dk_at dksX0_findsPlacings_8 7 rfl rfl)
theorem dX0_findsPlacings_195 : decode cX0_findsPlacings 195 = .ok (.iinc 3 1, 3) := dk_132 3 1 (dk_at dksX0_findsPlacings_8 10 rfl rfl)
theorem dX0_findsPlacings_198 : decode cX0_findsPlacings 198 = .ok (.goto (-145), 3) := dk_167 255 111 (dk_at dksX0_findsPlacings_8 13 rfl rfl)
theorem dX0_findsPlacings_201 : decode cX0_findsPlacings 201 = .ok (.return_, 1) := dk_177 (dk_at dksX0_findsPlacings_8 16 rfl rfl)
abbrev cX0_isMetSo : ByteArray := prog_1_method_110_code
def yX0_isMetSo : MethodName := ⟨RX0, "isMetSo", "(I)Z"⟩
def dkwX0_isMetSo_3 : List UInt8 := [172]
abbrev dktX0_isMetSo_3 : List UInt8 := dkwX0_isMetSo_3 ++ []
def dkwX0_isMetSo_2 : List UInt8 := [180, 0, 118, 27, 50, 28, 5, 96, 182, 1, 138, 148, 153, 0, 5, 3, 172, 132, 2, 3, 167, 255, 193, 4]
abbrev dktX0_isMetSo_2 : List UInt8 := dkwX0_isMetSo_2 ++ dktX0_isMetSo_3
def dkwX0_isMetSo_1 : List UInt8 := [182, 1, 148, 46, 42, 180, 0, 94, 42, 27, 28, 4, 96, 182, 1, 148, 46, 130, 184, 0, 195, 133, 42]
abbrev dktX0_isMetSo_1 : List UInt8 := dkwX0_isMetSo_1 ++ dktX0_isMetSo_2
def dkwX0_isMetSo_0 : List UInt8 := [3, 61, 28, 42, 180, 0, 118, 27, 50, 182, 1, 135, 162, 0, 56, 42, 180, 0, 94, 42, 27, 28]
abbrev dktX0_isMetSo_0 : List UInt8 := dkwX0_isMetSo_0 ++ dktX0_isMetSo_1
theorem dksX0_isMetSo_0 : cX0_isMetSo.data.toList.drop 0 = dktX0_isMetSo_0 := by decide +kernel
theorem dksX0_isMetSo_1 : cX0_isMetSo.data.toList.drop 22 = dktX0_isMetSo_1 := dk_seg dksX0_isMetSo_0 22 rfl rfl
theorem dksX0_isMetSo_2 : cX0_isMetSo.data.toList.drop 45 = dktX0_isMetSo_2 := dk_seg dksX0_isMetSo_1 23 rfl rfl
theorem dksX0_isMetSo_3 : cX0_isMetSo.data.toList.drop 69 = dktX0_isMetSo_3 := dk_seg dksX0_isMetSo_2 24 rfl rfl
theorem dX0_isMetSo_0 : decode cX0_isMetSo 0 = .ok (.iconst 0, 1) := dk_3 (dk_at dksX0_isMetSo_0 0 rfl rfl)
theorem dX0_isMetSo_1 : decode cX0_isMetSo 1 = .ok (.istore_n 2, 1) := dk_61 (dk_at dksX0_isMetSo_0 1 rfl rfl)
theorem dX0_isMetSo_2 : decode cX0_isMetSo 2 = .ok (.iload_n 2, 1) := dk_28 (dk_at dksX0_isMetSo_0 2 rfl rfl)
theorem dX0_isMetSo_3 : decode cX0_isMetSo 3 = .ok (.aload_n 0, 1) := dk_42 (dk_at dksX0_isMetSo_0 3 rfl rfl)
theorem dX0_isMetSo_4 : decode cX0_isMetSo 4 = .ok (.getfield 118, 3) := dk_180 0 118 (dk_at dksX0_isMetSo_0 4 rfl rfl)
theorem dX0_isMetSo_7 : decode cX0_isMetSo 7 = .ok (.iload_n 1, 1) := dk_27 (dk_at dksX0_isMetSo_0 7 rfl rfl)
theorem dX0_isMetSo_8 : decode cX0_isMetSo 8 = .ok (.aaload, 1) := dk_50 (dk_at dksX0_isMetSo_0 8 rfl rfl)
theorem dX0_isMetSo_9 : decode cX0_isMetSo 9 = .ok (.invokevirtual 391, 3) := dk_182 1 135 (dk_at dksX0_isMetSo_0 9 rfl rfl)
theorem dX0_isMetSo_12 : decode cX0_isMetSo 12 = .ok (.if_icmp .ge 56, 3) := dk_162 0 56 (dk_at dksX0_isMetSo_0 12 rfl rfl)
theorem dX0_isMetSo_15 : decode cX0_isMetSo 15 = .ok (.aload_n 0, 1) := dk_42 (dk_at dksX0_isMetSo_0 15 rfl rfl)
theorem dX0_isMetSo_16 : decode cX0_isMetSo 16 = .ok (.getfield 94, 3) := dk_180 0 94 (dk_at dksX0_isMetSo_0 16 rfl rfl)
theorem dX0_isMetSo_19 : decode cX0_isMetSo 19 = .ok (.aload_n 0, 1) := dk_42 (dk_at dksX0_isMetSo_0 19 rfl rfl)
theorem dX0_isMetSo_20 : decode cX0_isMetSo 20 = .ok (.iload_n 1, 1) := dk_27 (dk_at dksX0_isMetSo_0 20 rfl rfl)
theorem dX0_isMetSo_21 : decode cX0_isMetSo 21 = .ok (.iload_n 2, 1) := dk_28 (dk_at dksX0_isMetSo_0 21 rfl rfl)
theorem dX0_isMetSo_22 : decode cX0_isMetSo 22 = .ok (.invokevirtual 404, 3) := dk_182 1 148 (dk_at dksX0_isMetSo_1 0 rfl rfl)
theorem dX0_isMetSo_25 : decode cX0_isMetSo 25 = .ok (.iaload, 1) := dk_46 (dk_at dksX0_isMetSo_1 3 rfl rfl)
theorem dX0_isMetSo_26 : decode cX0_isMetSo 26 = .ok (.aload_n 0, 1) := dk_42 (dk_at dksX0_isMetSo_1 4 rfl rfl)
theorem dX0_isMetSo_27 : decode cX0_isMetSo 27 = .ok (.getfield 94, 3) := dk_180 0 94 (dk_at dksX0_isMetSo_1 5 rfl rfl)
theorem dX0_isMetSo_30 : decode cX0_isMetSo 30 = .ok (.aload_n 0, 1) := dk_42 (dk_at dksX0_isMetSo_1 8 rfl rfl)
theorem dX0_isMetSo_31 : decode cX0_isMetSo 31 = .ok (.iload_n 1, 1) := dk_27 (dk_at dksX0_isMetSo_1 9 rfl rfl)
theorem dX0_isMetSo_32 : decode cX0_isMetSo 32 = .ok (.iload_n 2, 1) := dk_28 (dk_at dksX0_isMetSo_1 10 rfl rfl)
theorem dX0_isMetSo_33 : decode cX0_isMetSo 33 = .ok (.iconst 1, 1) := dk_4 (dk_at dksX0_isMetSo_1 11 rfl rfl)
theorem dX0_isMetSo_34 : decode cX0_isMetSo 34 = .ok (.iadd, 1) := dk_96 (dk_at dksX0_isMetSo_1 12 rfl rfl)
theorem dX0_isMetSo_35 : decode cX0_isMetSo 35 = .ok (.invokevirtual 404, 3) := dk_182 1 148 (dk_at dksX0_isMetSo_1 13 rfl rfl)
theorem dX0_isMetSo_38 : decode cX0_isMetSo 38 = .ok (.iaload, 1) := dk_46 (dk_at dksX0_isMetSo_1 16 rfl rfl)
theorem dX0_isMetSo_39 : decode cX0_isMetSo 39 = .ok (.ixor, 1) := dk_130 (dk_at dksX0_isMetSo_1 17 rfl rfl)
theorem dX0_isMetSo_40 : decode cX0_isMetSo 40 = .ok (.invokestatic 195, 3) := dk_184 0 195 (dk_at dksX0_isMetSo_1 18 rfl rfl)
theorem dX0_isMetSo_43 : decode cX0_isMetSo 43 = .ok (.i2l, 1) := dk_133 (dk_at dksX0_isMetSo_1 21 rfl rfl)
theorem dX0_isMetSo_44 : decode cX0_isMetSo 44 = .ok (.aload_n 0, 1) := dk_42 (dk_at dksX0_isMetSo_1 22 rfl rfl)
theorem dX0_isMetSo_45 : decode cX0_isMetSo 45 = .ok (.getfield 118, 3) := dk_180 0 118 (dk_at dksX0_isMetSo_2 0 rfl rfl)
theorem dX0_isMetSo_48 : decode cX0_isMetSo 48 = .ok (.iload_n 1, 1) := dk_27 (dk_at dksX0_isMetSo_2 3 rfl rfl)
theorem dX0_isMetSo_49 : decode cX0_isMetSo 49 = .ok (.aaload, 1) := dk_50 (dk_at dksX0_isMetSo_2 4 rfl rfl)
theorem dX0_isMetSo_50 : decode cX0_isMetSo 50 = .ok (.iload_n 2, 1) := dk_28 (dk_at dksX0_isMetSo_2 5 rfl rfl)
theorem dX0_isMetSo_51 : decode cX0_isMetSo 51 = .ok (.iconst 2, 1) := dk_5 (dk_at dksX0_isMetSo_2 6 rfl rfl)
theorem dX0_isMetSo_52 : decode cX0_isMetSo 52 = .ok (.iadd, 1) := dk_96 (dk_at dksX0_isMetSo_2 7 rfl rfl)
theorem dX0_isMetSo_53 : decode cX0_isMetSo 53 = .ok (.invokevirtual 394, 3) := dk_182 1 138 (dk_at dksX0_isMetSo_2 8 rfl rfl)
theorem dX0_isMetSo_56 : decode cX0_isMetSo 56 = .ok (.lcmp, 1) := dk_148 (dk_at dksX0_isMetSo_2 11 rfl rfl)
theorem dX0_isMetSo_57 : decode cX0_isMetSo 57 = .ok (.ifCond .eq 5, 3) := dk_153 0 5 (dk_at dksX0_isMetSo_2 12 rfl rfl)
theorem dX0_isMetSo_60 : decode cX0_isMetSo 60 = .ok (.iconst 0, 1) := dk_3 (dk_at dksX0_isMetSo_2 15 rfl rfl)
theorem dX0_isMetSo_61 : decode cX0_isMetSo 61 = .ok (.ireturn, 1) := dk_172 (dk_at dksX0_isMetSo_2 16 rfl rfl)
theorem dX0_isMetSo_62 : decode cX0_isMetSo 62 = .ok (.iinc 2 3, 3) := dk_132 2 3 (dk_at dksX0_isMetSo_2 17 rfl rfl)
theorem dX0_isMetSo_65 : decode cX0_isMetSo 65 = .ok (.goto (-63), 3) := dk_167 255 193 (dk_at dksX0_isMetSo_2 20 rfl rfl)
theorem dX0_isMetSo_68 : decode cX0_isMetSo 68 = .ok (.iconst 1, 1) := dk_4 (dk_at dksX0_isMetSo_2 23 rfl rfl)
theorem dX0_isMetSo_69 : decode cX0_isMetSo 69 = .ok (.ireturn, 1) := dk_172 (dk_at dksX0_isMetSo_3 0 rfl rfl)
abbrev cX0_sure : ByteArray := prog_1_method_113_code
def yX0_sure : MethodName := ⟨RX0, "sure", "(II)I"⟩
def dkwX0_sure_1 : List UInt8 := [180, 1, 172, 154, 0, 7, 2, 167, 0, 9, 42, 180, 0, 97, 28, 46, 172]
abbrev dktX0_sure_1 : List UInt8 := dkwX0_sure_1 ++ []
def dkwX0_sure_0 : List UInt8 := [42, 27, 42, 28, 133, 182, 1, 166, 182, 1, 178, 62, 29, 156, 0, 5, 29, 172, 42, 27, 182, 1, 181, 42]
abbrev dktX0_sure_0 : List UInt8 := dkwX0_sure_0 ++ dktX0_sure_1
theorem dksX0_sure_0 : cX0_sure.data.toList.drop 0 = dktX0_sure_0 := by decide +kernel
theorem dksX0_sure_1 : cX0_sure.data.toList.drop 24 = dktX0_sure_1 := dk_seg dksX0_sure_0 24 rfl rfl
theorem dX0_sure_0 : decode cX0_sure 0 = .ok (.aload_n 0, 1) := dk_42 (dk_at dksX0_sure_0 0 rfl rfl)
theorem dX0_sure_1 : decode cX0_sure 1 = .ok (.iload_n 1, 1) := dk_27 (dk_at dksX0_sure_0 1 rfl rfl)
theorem dX0_sure_2 : decode cX0_sure 2 = .ok (.aload_n 0, 1) := dk_42 (dk_at dksX0_sure_0 2 rfl rfl)
theorem dX0_sure_3 : decode cX0_sure 3 = .ok (.iload_n 2, 1) := dk_28 (dk_at dksX0_sure_0 3 rfl rfl)
theorem dX0_sure_4 : decode cX0_sure 4 = .ok (.i2l, 1) := dk_133 (dk_at dksX0_sure_0 4 rfl rfl)
theorem dX0_sure_5 : decode cX0_sure 5 = .ok (.invokevirtual 422, 3) := dk_182 1 166 (dk_at dksX0_sure_0 5 rfl rfl)
theorem dX0_sure_8 : decode cX0_sure 8 = .ok (.invokevirtual 434, 3) := dk_182 1 178 (dk_at dksX0_sure_0 8 rfl rfl)
theorem dX0_sure_11 : decode cX0_sure 11 = .ok (.istore_n 3, 1) := dk_62 (dk_at dksX0_sure_0 11 rfl rfl)
theorem dX0_sure_12 : decode cX0_sure 12 = .ok (.iload_n 3, 1) := dk_29 (dk_at dksX0_sure_0 12 rfl rfl)
theorem dX0_sure_13 : decode cX0_sure 13 = .ok (.ifCond .ge 5, 3) := dk_156 0 5 (dk_at dksX0_sure_0 13 rfl rfl)
theorem dX0_sure_16 : decode cX0_sure 16 = .ok (.iload_n 3, 1) := dk_29 (dk_at dksX0_sure_0 16 rfl rfl)
theorem dX0_sure_17 : decode cX0_sure 17 = .ok (.ireturn, 1) := dk_172 (dk_at dksX0_sure_0 17 rfl rfl)
theorem dX0_sure_18 : decode cX0_sure 18 = .ok (.aload_n 0, 1) := dk_42 (dk_at dksX0_sure_0 18 rfl rfl)
theorem dX0_sure_19 : decode cX0_sure 19 = .ok (.iload_n 1, 1) := dk_27 (dk_at dksX0_sure_0 19 rfl rfl)
theorem dX0_sure_20 : decode cX0_sure 20 = .ok (.invokevirtual 437, 3) := dk_182 1 181 (dk_at dksX0_sure_0 20 rfl rfl)
theorem dX0_sure_23 : decode cX0_sure 23 = .ok (.aload_n 0, 1) := dk_42 (dk_at dksX0_sure_0 23 rfl rfl)
theorem dX0_sure_24 : decode cX0_sure 24 = .ok (.getfield 428, 3) := dk_180 1 172 (dk_at dksX0_sure_1 0 rfl rfl)
theorem dX0_sure_27 : decode cX0_sure 27 = .ok (.ifCond .ne 7, 3) := dk_154 0 7 (dk_at dksX0_sure_1 3 rfl rfl)
theorem dX0_sure_30 : decode cX0_sure 30 = .ok (.iconst (-1), 1) := dk_2 (dk_at dksX0_sure_1 6 rfl rfl)
theorem dX0_sure_31 : decode cX0_sure 31 = .ok (.goto 9, 3) := dk_167 0 9 (dk_at dksX0_sure_1 7 rfl rfl)
theorem dX0_sure_34 : decode cX0_sure 34 = .ok (.aload_n 0, 1) := dk_42 (dk_at dksX0_sure_1 10 rfl rfl)
theorem dX0_sure_35 : decode cX0_sure 35 = .ok (.getfield 97, 3) := dk_180 0 97 (dk_at dksX0_sure_1 11 rfl rfl)
theorem dX0_sure_38 : decode cX0_sure 38 = .ok (.iload_n 2, 1) := dk_28 (dk_at dksX0_sure_1 14 rfl rfl)
theorem dX0_sure_39 : decode cX0_sure 39 = .ok (.iaload, 1) := dk_46 (dk_at dksX0_sure_1 15 rfl rfl)
theorem dX0_sure_40 : decode cX0_sure 40 = .ok (.ireturn, 1) := dk_172 (dk_at dksX0_sure_1 16 rfl rfl)
abbrev cX0_comes : ByteArray := prog_1_method_118_code
def yX0_comes : MethodName := ⟨RX0, "comes", "(I)I"⟩
def dkwX0_comes_1 : List UInt8 := [46, 172]
abbrev dktX0_comes_1 : List UInt8 := dkwX0_comes_1 ++ []
def dkwX0_comes_0 : List UInt8 := [42, 27, 182, 1, 207, 154, 0, 6, 16, 254, 172, 42, 17, 0, 190, 3, 182, 1, 210, 42, 180, 0, 109, 27]
abbrev dktX0_comes_0 : List UInt8 := dkwX0_comes_0 ++ dktX0_comes_1
theorem dksX0_comes_0 : cX0_comes.data.toList.drop 0 = dktX0_comes_0 := by decide +kernel
theorem dksX0_comes_1 : cX0_comes.data.toList.drop 24 = dktX0_comes_1 := dk_seg dksX0_comes_0 24 rfl rfl
theorem dX0_comes_0 : decode cX0_comes 0 = .ok (.aload_n 0, 1) := dk_42 (dk_at dksX0_comes_0 0 rfl rfl)
theorem dX0_comes_1 : decode cX0_comes 1 = .ok (.iload_n 1, 1) := dk_27 (dk_at dksX0_comes_0 1 rfl rfl)
theorem dX0_comes_2 : decode cX0_comes 2 = .ok (.invokevirtual 463, 3) := dk_182 1 207 (dk_at dksX0_comes_0 2 rfl rfl)
theorem dX0_comes_5 : decode cX0_comes 5 = .ok (.ifCond .ne 6, 3) := dk_154 0 6 (dk_at dksX0_comes_0 5 rfl rfl)
theorem dX0_comes_8 : decode cX0_comes 8 = .ok (.bipush (-2), 2) := dk_16 254 (dk_at dksX0_comes_0 8 rfl rfl)
theorem dX0_comes_10 : decode cX0_comes 10 = .ok (.ireturn, 1) := dk_172 (dk_at dksX0_comes_0 10 rfl rfl)
theorem dX0_comes_11 : decode cX0_comes 11 = .ok (.aload_n 0, 1) := dk_42 (dk_at dksX0_comes_0 11 rfl rfl)
theorem dX0_comes_12 : decode cX0_comes 12 = .ok (.sipush 190, 3) := dk_17 0 190 (dk_at dksX0_comes_0 12 rfl rfl)
theorem dX0_comes_15 : decode cX0_comes 15 = .ok (.iconst 0, 1) := dk_3 (dk_at dksX0_comes_0 15 rfl rfl)
theorem dX0_comes_16 : decode cX0_comes 16 = .ok (.invokevirtual 466, 3) := dk_182 1 210 (dk_at dksX0_comes_0 16 rfl rfl)
theorem dX0_comes_19 : decode cX0_comes 19 = .ok (.aload_n 0, 1) := dk_42 (dk_at dksX0_comes_0 19 rfl rfl)
theorem dX0_comes_20 : decode cX0_comes 20 = .ok (.getfield 109, 3) := dk_180 0 109 (dk_at dksX0_comes_0 20 rfl rfl)
theorem dX0_comes_23 : decode cX0_comes 23 = .ok (.iload_n 1, 1) := dk_27 (dk_at dksX0_comes_0 23 rfl rfl)
theorem dX0_comes_24 : decode cX0_comes 24 = .ok (.iaload, 1) := dk_46 (dk_at dksX0_comes_1 0 rfl rfl)
theorem dX0_comes_25 : decode cX0_comes 25 = .ok (.ireturn, 1) := dk_172 (dk_at dksX0_comes_1 1 rfl rfl)
abbrev cX0_isCarrier : ByteArray := prog_1_method_117_code
def yX0_isCarrier : MethodName := ⟨RX0, "isCarrier", "(I)Z"⟩
def dkwX0_isCarrier_0 : List UInt8 := [27, 133, 9, 42, 180, 0, 10, 180, 1, 197, 4, 100, 133, 184, 0, 133, 172]
abbrev dktX0_isCarrier_0 : List UInt8 := dkwX0_isCarrier_0 ++ []
theorem dksX0_isCarrier_0 : cX0_isCarrier.data.toList.drop 0 = dktX0_isCarrier_0 := by decide +kernel
theorem dX0_isCarrier_0 : decode cX0_isCarrier 0 = .ok (.iload_n 1, 1) := dk_27 (dk_at dksX0_isCarrier_0 0 rfl rfl)
theorem dX0_isCarrier_1 : decode cX0_isCarrier 1 = .ok (.i2l, 1) := dk_133 (dk_at dksX0_isCarrier_0 1 rfl rfl)
theorem dX0_isCarrier_2 : decode cX0_isCarrier 2 = .ok (.lconst 0, 1) := dk_9 (dk_at dksX0_isCarrier_0 2 rfl rfl)
theorem dX0_isCarrier_3 : decode cX0_isCarrier 3 = .ok (.aload_n 0, 1) := dk_42 (dk_at dksX0_isCarrier_0 3 rfl rfl)
theorem dX0_isCarrier_4 : decode cX0_isCarrier 4 = .ok (.getfield 10, 3) := dk_180 0 10 (dk_at dksX0_isCarrier_0 4 rfl rfl)
theorem dX0_isCarrier_7 : decode cX0_isCarrier 7 = .ok (.getfield 453, 3) := dk_180 1 197 (dk_at dksX0_isCarrier_0 7 rfl rfl)
theorem dX0_isCarrier_10 : decode cX0_isCarrier 10 = .ok (.iconst 1, 1) := dk_4 (dk_at dksX0_isCarrier_0 10 rfl rfl)
theorem dX0_isCarrier_11 : decode cX0_isCarrier 11 = .ok (.isub, 1) := dk_100 (dk_at dksX0_isCarrier_0 11 rfl rfl)
theorem dX0_isCarrier_12 : decode cX0_isCarrier 12 = .ok (.i2l, 1) := dk_133 (dk_at dksX0_isCarrier_0 12 rfl rfl)
theorem dX0_isCarrier_13 : decode cX0_isCarrier 13 = .ok (.invokestatic 133, 3) := dk_184 0 133 (dk_at dksX0_isCarrier_0 13 rfl rfl)
theorem dX0_isCarrier_16 : decode cX0_isCarrier 16 = .ok (.ireturn, 1) := dk_172 (dk_at dksX0_isCarrier_0 16 rfl rfl)
abbrev cX0_carries : ByteArray := prog_1_method_116_code
def yX0_carries : MethodName := ⟨RX0, "carries", "(IZ)V"⟩
def dkwX0_carries_9 : List UInt8 := [132, 4, 1, 167, 255, 132, 132, 3, 1, 167, 255, 89, 177]
abbrev dktX0_carries_9 : List UInt8 := dkwX0_carries_9 ++ []
def dkwX0_carries_8 : List UInt8 := [180, 0, 103, 21, 5, 46, 160, 0, 7, 4, 167, 0, 4, 3, 96, 181, 1, 194, 132, 5, 1, 167, 255, 153]
abbrev dktX0_carries_8 : List UInt8 := dkwX0_carries_8 ++ dktX0_carries_9
def dkwX0_carries_7 : List UInt8 := [180, 0, 103, 21, 4, 46, 42, 180, 0, 106, 21, 5, 46, 160, 0, 24, 42, 180, 0, 106, 21, 4, 46, 42]
abbrev dktX0_carries_7 : List UInt8 := dkwX0_carries_7 ++ dktX0_carries_8
def dkwX0_carries_6 : List UInt8 := [46, 160, 0, 20, 42, 180, 0, 106, 21, 4, 46, 42, 180, 0, 106, 21, 5, 46, 159, 0, 37, 42]
abbrev dktX0_carries_6 : List UInt8 := dkwX0_carries_6 ++ dktX0_carries_7
def dkwX0_carries_5 : List UInt8 := [42, 180, 0, 103, 21, 4, 46, 2, 159, 0, 75, 42, 180, 0, 103, 21, 4, 46, 42, 180, 0, 103, 21, 5]
abbrev dktX0_carries_5 : List UInt8 := dkwX0_carries_5 ++ dktX0_carries_6
def dkwX0_carries_4 : List UInt8 := [180, 0, 10, 180, 1, 197, 162, 0, 118, 3, 54, 5, 21, 5, 21, 4, 162, 0, 102, 42, 89, 180, 1, 194]
abbrev dktX0_carries_4 : List UInt8 := dkwX0_carries_4 ++ dktX0_carries_5
def dkwX0_carries_3 : List UInt8 := [162, 0, 17, 42, 21, 4, 29, 28, 182, 1, 203, 132, 4, 1, 167, 255, 233, 3, 54, 4, 21, 4, 42]
abbrev dktX0_carries_3 : List UInt8 := dkwX0_carries_3 ++ dktX0_carries_4
def dkwX0_carries_2 : List UInt8 := [167, 255, 220, 3, 62, 29, 27, 162, 0, 168, 3, 54, 4, 21, 4, 42, 180, 0, 10, 180, 1, 197]
abbrev dktX0_carries_2 : List UInt8 := dkwX0_carries_2 ++ dktX0_carries_3
def dkwX0_carries_1 : List UInt8 := [180, 0, 100, 29, 42, 180, 0, 10, 180, 1, 200, 29, 46, 79, 42, 180, 0, 109, 29, 2, 79, 132, 3, 1]
abbrev dktX0_carries_1 : List UInt8 := dkwX0_carries_1 ++ dktX0_carries_2
def dkwX0_carries_0 : List UInt8 := [42, 3, 181, 1, 191, 42, 3, 181, 1, 194, 3, 62, 29, 42, 180, 0, 10, 180, 1, 197, 162, 0, 31, 42]
abbrev dktX0_carries_0 : List UInt8 := dkwX0_carries_0 ++ dktX0_carries_1
theorem dksX0_carries_0 : cX0_carries.data.toList.drop 0 = dktX0_carries_0 := by decide +kernel
theorem dksX0_carries_1 : cX0_carries.data.toList.drop 24 = dktX0_carries_1 := dk_seg dksX0_carries_0 24 rfl rfl
theorem dksX0_carries_2 : cX0_carries.data.toList.drop 48 = dktX0_carries_2 := dk_seg dksX0_carries_1 24 rfl rfl
theorem dksX0_carries_3 : cX0_carries.data.toList.drop 70 = dktX0_carries_3 := dk_seg dksX0_carries_2 22 rfl rfl
theorem dksX0_carries_4 : cX0_carries.data.toList.drop 93 = dktX0_carries_4 := dk_seg dksX0_carries_3 23 rfl rfl
theorem dksX0_carries_5 : cX0_carries.data.toList.drop 117 = dktX0_carries_5 := dk_seg dksX0_carries_4 24 rfl rfl
theorem dksX0_carries_6 : cX0_carries.data.toList.drop 141 = dktX0_carries_6 := dk_seg dksX0_carries_5 24 rfl rfl
theorem dksX0_carries_7 : cX0_carries.data.toList.drop 163 = dktX0_carries_7 := dk_seg dksX0_carries_6 22 rfl rfl
theorem dksX0_carries_8 : cX0_carries.data.toList.drop 187 = dktX0_carries_8 := dk_seg dksX0_carries_7 24 rfl rfl
theorem dksX0_carries_9 : cX0_carries.data.toList.drop 211 = dktX0_carries_9 := dk_seg dksX0_carries_8 24 rfl rfl
theorem dX0_carries_0 : decode cX0_carries 0 = .ok (.aload_n 0, 1) := dk_42 (dk_at dksX0_carries_0 0 rfl rfl)
theorem dX0_carries_1 : decode cX0_carries 1 = .ok (.iconst 0, 1) := dk_3 (dk_at dksX0_carries_0 1 rfl rfl)
theorem dX0_carries_2 : decode cX0_carries 2 = .ok (.putfield 447, 3) := dk_181 1 191 (dk_at dksX0_carries_0 2 rfl rfl)
theorem dX0_carries_5 : decode cX0_carries 5 = .ok (.aload_n 0, 1) := dk_42 (dk_at dksX0_carries_0 5 rfl rfl)
theorem dX0_carries_6 : decode cX0_carries 6 = .ok (.iconst 0, 1) := dk_3 (dk_at dksX0_carries_0 6 rfl rfl)
theorem dX0_carries_7 : decode cX0_carries 7 = .ok (.putfield 450, 3) := dk_181 1 194 (dk_at dksX0_carries_0 7 rfl rfl)
theorem dX0_carries_10 : decode cX0_carries 10 = .ok (.iconst 0, 1) := dk_3 (dk_at dksX0_carries_0 10 rfl rfl)
theorem dX0_carries_11 : decode cX0_carries 11 = .ok (.istore_n 3, 1) := dk_62 (dk_at dksX0_carries_0 11 rfl rfl)
theorem dX0_carries_12 : decode cX0_carries 12 = .ok (.iload_n 3, 1) := dk_29 (dk_at dksX0_carries_0 12 rfl rfl)
theorem dX0_carries_13 : decode cX0_carries 13 = .ok (.aload_n 0, 1) := dk_42 (dk_at dksX0_carries_0 13 rfl rfl)
theorem dX0_carries_14 : decode cX0_carries 14 = .ok (.getfield 10, 3) := dk_180 0 10 (dk_at dksX0_carries_0 14 rfl rfl)
theorem dX0_carries_17 : decode cX0_carries 17 = .ok (.getfield 453, 3) := dk_180 1 197 (dk_at dksX0_carries_0 17 rfl rfl)
theorem dX0_carries_20 : decode cX0_carries 20 = .ok (.if_icmp .ge 31, 3) := dk_162 0 31 (dk_at dksX0_carries_0 20 rfl rfl)
theorem dX0_carries_23 : decode cX0_carries 23 = .ok (.aload_n 0, 1) := dk_42 (dk_at dksX0_carries_0 23 rfl rfl)
theorem dX0_carries_24 : decode cX0_carries 24 = .ok (.getfield 100, 3) := dk_180 0 100 (dk_at dksX0_carries_1 0 rfl rfl)
theorem dX0_carries_27 : decode cX0_carries 27 = .ok (.iload_n 3, 1) := dk_29 (dk_at dksX0_carries_1 3 rfl rfl)
theorem dX0_carries_28 : decode cX0_carries 28 = .ok (.aload_n 0, 1) := dk_42 (dk_at dksX0_carries_1 4 rfl rfl)
theorem dX0_carries_29 : decode cX0_carries 29 = .ok (.getfield 10, 3) := dk_180 0 10 (dk_at dksX0_carries_1 5 rfl rfl)
theorem dX0_carries_32 : decode cX0_carries 32 = .ok (.getfield 456, 3) := dk_180 1 200 (dk_at dksX0_carries_1 8 rfl rfl)
theorem dX0_carries_35 : decode cX0_carries 35 = .ok (.iload_n 3, 1) := dk_29 (dk_at dksX0_carries_1 11 rfl rfl)
theorem dX0_carries_36 : decode cX0_carries 36 = .ok (.iaload, 1) := dk_46 (dk_at dksX0_carries_1 12 rfl rfl)
theorem dX0_carries_37 : decode cX0_carries 37 = .ok (.iastore, 1) := dk_79 (dk_at dksX0_carries_1 13 rfl rfl)
theorem dX0_carries_38 : decode cX0_carries 38 = .ok (.aload_n 0, 1) := dk_42 (dk_at dksX0_carries_1 14 rfl rfl)
theorem dX0_carries_39 : decode cX0_carries 39 = .ok (.getfield 109, 3) := dk_180 0 109 (dk_at dksX0_carries_1 15 rfl rfl)
theorem dX0_carries_42 : decode cX0_carries 42 = .ok (.iload_n 3, 1) := dk_29 (dk_at dksX0_carries_1 18 rfl rfl)
theorem dX0_carries_43 : decode cX0_carries 43 = .ok (.iconst (-1), 1) := dk_2 (dk_at dksX0_carries_1 19 rfl rfl)
theorem dX0_carries_44 : decode cX0_carries 44 = .ok (.iastore, 1) := dk_79 (dk_at dksX0_carries_1 20 rfl rfl)
theorem dX0_carries_45 : decode cX0_carries 45 = .ok (.iinc 3 1, 3) := dk_132 3 1 (dk_at dksX0_carries_1 21 rfl rfl)
theorem dX0_carries_48 : decode cX0_carries 48 = .ok (.goto (-36), 3) := dk_167 255 220 (dk_at dksX0_carries_2 0 rfl rfl)
theorem dX0_carries_51 : decode cX0_carries 51 = .ok (.iconst 0, 1) := dk_3 (dk_at dksX0_carries_2 3 rfl rfl)
theorem dX0_carries_52 : decode cX0_carries 52 = .ok (.istore_n 3, 1) := dk_62 (dk_at dksX0_carries_2 4 rfl rfl)
theorem dX0_carries_53 : decode cX0_carries 53 = .ok (.iload_n 3, 1) := dk_29 (dk_at dksX0_carries_2 5 rfl rfl)
theorem dX0_carries_54 : decode cX0_carries 54 = .ok (.iload_n 1, 1) := dk_27 (dk_at dksX0_carries_2 6 rfl rfl)
theorem dX0_carries_55 : decode cX0_carries 55 = .ok (.if_icmp .ge 168, 3) := dk_162 0 168 (dk_at dksX0_carries_2 7 rfl rfl)
theorem dX0_carries_58 : decode cX0_carries 58 = .ok (.iconst 0, 1) := dk_3 (dk_at dksX0_carries_2 10 rfl rfl)
theorem dX0_carries_59 : decode cX0_carries 59 = .ok (.istore 4, 2) := dk_54 4 (dk_at dksX0_carries_2 11 rfl rfl)
theorem dX0_carries_61 : decode cX0_carries 61 = .ok (.iload 4, 2) := dk_21 4 (dk_at dksX0_carries_2 13 rfl rfl)
theorem dX0_carries_63 : decode cX0_carries 63 = .ok (.aload_n 0, 1) := dk_42 (dk_at dksX0_carries_2 15 rfl rfl)
theorem dX0_carries_64 : decode cX0_carries 64 = .ok (.getfield 10, 3) := dk_180 0 10 (dk_at dksX0_carries_2 16 rfl rfl)
theorem dX0_carries_67 : decode cX0_carries 67 = .ok (.getfield 453, 3) := dk_180 1 197 (dk_at dksX0_carries_2 19 rfl rfl)
theorem dX0_carries_70 : decode cX0_carries 70 = .ok (.if_icmp .ge 17, 3) := dk_162 0 17 (dk_at dksX0_carries_3 0 rfl rfl)
theorem dX0_carries_73 : decode cX0_carries 73 = .ok (.aload_n 0, 1) := dk_42 (dk_at dksX0_carries_3 3 rfl rfl)
theorem dX0_carries_74 : decode cX0_carries 74 = .ok (.iload 4, 2) := dk_21 4 (dk_at dksX0_carries_3 4 rfl rfl)
theorem dX0_carries_76 : decode cX0_carries 76 = .ok (.iload_n 3, 1) := dk_29 (dk_at dksX0_carries_3 6 rfl rfl)
theorem dX0_carries_77 : decode cX0_carries 77 = .ok (.iload_n 2, 1) := dk_28 (dk_at dksX0_carries_3 7 rfl rfl)
theorem dX0_carries_78 : decode cX0_carries 78 = .ok (.invokevirtual 459, 3) := dk_182 1 203 (dk_at dksX0_carries_3 8 rfl rfl)
theorem dX0_carries_81 : decode cX0_carries 81 = .ok (.iinc 4 1, 3) := dk_132 4 1 (dk_at dksX0_carries_3 11 rfl rfl)
theorem dX0_carries_84 : decode cX0_carries 84 = .ok (.goto (-23), 3) := dk_167 255 233 (dk_at dksX0_carries_3 14 rfl rfl)
theorem dX0_carries_87 : decode cX0_carries 87 = .ok (.iconst 0, 1) := dk_3 (dk_at dksX0_carries_3 17 rfl rfl)
theorem dX0_carries_88 : decode cX0_carries 88 = .ok (.istore 4, 2) := dk_54 4 (dk_at dksX0_carries_3 18 rfl rfl)
theorem dX0_carries_90 : decode cX0_carries 90 = .ok (.iload 4, 2) := dk_21 4 (dk_at dksX0_carries_3 20 rfl rfl)
theorem dX0_carries_92 : decode cX0_carries 92 = .ok (.aload_n 0, 1) := dk_42 (dk_at dksX0_carries_3 22 rfl rfl)
theorem dX0_carries_93 : decode cX0_carries 93 = .ok (.getfield 10, 3) := dk_180 0 10 (dk_at dksX0_carries_4 0 rfl rfl)
theorem dX0_carries_96 : decode cX0_carries 96 = .ok (.getfield 453, 3) := dk_180 1 197 (dk_at dksX0_carries_4 3 rfl rfl)
theorem dX0_carries_99 : decode cX0_carries 99 = .ok (.if_icmp .ge 118, 3) := dk_162 0 118 (dk_at dksX0_carries_4 6 rfl rfl)
theorem dX0_carries_102 : decode cX0_carries 102 = .ok (.iconst 0, 1) := dk_3 (dk_at dksX0_carries_4 9 rfl rfl)
theorem dX0_carries_103 : decode cX0_carries 103 = .ok (.istore 5, 2) := dk_54 5 (dk_at dksX0_carries_4 10 rfl rfl)
theorem dX0_carries_105 : decode cX0_carries 105 = .ok (.iload 5, 2) := dk_21 5 (dk_at dksX0_carries_4 12 rfl rfl)
theorem dX0_carries_107 : decode cX0_carries 107 = .ok (.iload 4, 2) := dk_21 4 (dk_at dksX0_carries_4 14 rfl rfl)
theorem dX0_carries_109 : decode cX0_carries 109 = .ok (.if_icmp .ge 102, 3) := dk_162 0 102 (dk_at dksX0_carries_4 16 rfl rfl)
theorem dX0_carries_112 : decode cX0_carries 112 = .ok (.aload_n 0, 1) := dk_42 (dk_at dksX0_carries_4 19 rfl rfl)
theorem dX0_carries_113 : decode cX0_carries 113 = .ok (.dup, 1) := dk_89 (dk_at dksX0_carries_4 20 rfl rfl)
theorem dX0_carries_114 : decode cX0_carries 114 = .ok (.getfield 450, 3) := dk_180 1 194 (dk_at dksX0_carries_4 21 rfl rfl)
theorem dX0_carries_117 : decode cX0_carries 117 = .ok (.aload_n 0, 1) := dk_42 (dk_at dksX0_carries_5 0 rfl rfl)
theorem dX0_carries_118 : decode cX0_carries 118 = .ok (.getfield 103, 3) := dk_180 0 103 (dk_at dksX0_carries_5 1 rfl rfl)
theorem dX0_carries_121 : decode cX0_carries 121 = .ok (.iload 4, 2) := dk_21 4 (dk_at dksX0_carries_5 4 rfl rfl)
theorem dX0_carries_123 : decode cX0_carries 123 = .ok (.iaload, 1) := dk_46 (dk_at dksX0_carries_5 6 rfl rfl)
theorem dX0_carries_124 : decode cX0_carries 124 = .ok (.iconst (-1), 1) := dk_2 (dk_at dksX0_carries_5 7 rfl rfl)
theorem dX0_carries_125 : decode cX0_carries 125 = .ok (.if_icmp .eq 75, 3) := dk_159 0 75 (dk_at dksX0_carries_5 8 rfl rfl)
theorem dX0_carries_128 : decode cX0_carries 128 = .ok (.aload_n 0, 1) := dk_42 (dk_at dksX0_carries_5 11 rfl rfl)
theorem dX0_carries_129 : decode cX0_carries 129 = .ok (.getfield 103, 3) := dk_180 0 103 (dk_at dksX0_carries_5 12 rfl rfl)
theorem dX0_carries_132 : decode cX0_carries 132 = .ok (.iload 4, 2) := dk_21 4 (dk_at dksX0_carries_5 15 rfl rfl)
theorem dX0_carries_134 : decode cX0_carries 134 = .ok (.iaload, 1) := dk_46 (dk_at dksX0_carries_5 17 rfl rfl)
theorem dX0_carries_135 : decode cX0_carries 135 = .ok (.aload_n 0, 1) := dk_42 (dk_at dksX0_carries_5 18 rfl rfl)
theorem dX0_carries_136 : decode cX0_carries 136 = .ok (.getfield 103, 3) := dk_180 0 103 (dk_at dksX0_carries_5 19 rfl rfl)
theorem dX0_carries_139 : decode cX0_carries 139 = .ok (.iload 5, 2) := dk_21 5 (dk_at dksX0_carries_5 22 rfl rfl)
theorem dX0_carries_141 : decode cX0_carries 141 = .ok (.iaload, 1) := dk_46 (dk_at dksX0_carries_6 0 rfl rfl)
theorem dX0_carries_142 : decode cX0_carries 142 = .ok (.if_icmp .ne 20, 3) := dk_160 0 20 (dk_at dksX0_carries_6 1 rfl rfl)
theorem dX0_carries_145 : decode cX0_carries 145 = .ok (.aload_n 0, 1) := dk_42 (dk_at dksX0_carries_6 4 rfl rfl)
theorem dX0_carries_146 : decode cX0_carries 146 = .ok (.getfield 106, 3) := dk_180 0 106 (dk_at dksX0_carries_6 5 rfl rfl)
theorem dX0_carries_149 : decode cX0_carries 149 = .ok (.iload 4, 2) := dk_21 4 (dk_at dksX0_carries_6 8 rfl rfl)
theorem dX0_carries_151 : decode cX0_carries 151 = .ok (.iaload, 1) := dk_46 (dk_at dksX0_carries_6 10 rfl rfl)
theorem dX0_carries_152 : decode cX0_carries 152 = .ok (.aload_n 0, 1) := dk_42 (dk_at dksX0_carries_6 11 rfl rfl)
theorem dX0_carries_153 : decode cX0_carries 153 = .ok (.getfield 106, 3) := dk_180 0 106 (dk_at dksX0_carries_6 12 rfl rfl)
theorem dX0_carries_156 : decode cX0_carries 156 = .ok (.iload 5, 2) := dk_21 5 (dk_at dksX0_carries_6 15 rfl rfl)
theorem dX0_carries_158 : decode cX0_carries 158 = .ok (.iaload, 1) := dk_46 (dk_at dksX0_carries_6 17 rfl rfl)
theorem dX0_carries_159 : decode cX0_carries 159 = .ok (.if_icmp .eq 37, 3) := dk_159 0 37 (dk_at dksX0_carries_6 18 rfl rfl)
theorem dX0_carries_162 : decode cX0_carries 162 = .ok (.aload_n 0, 1) := dk_42 (dk_at dksX0_carries_6 21 rfl rfl)
theorem dX0_carries_163 : decode cX0_carries 163 = .ok (.getfield 103, 3) := dk_180 0 103 (dk_at dksX0_carries_7 0 rfl rfl)
theorem dX0_carries_166 : decode cX0_carries 166 = .ok (.iload 4, 2) := dk_21 4 (dk_at dksX0_carries_7 3 rfl rfl)
theorem dX0_carries_168 : decode cX0_carries 168 = .ok (.iaload, 1) := dk_46 (dk_at dksX0_carries_7 5 rfl rfl)
theorem dX0_carries_169 : decode cX0_carries 169 = .ok (.aload_n 0, 1) := dk_42 (dk_at dksX0_carries_7 6 rfl rfl)
theorem dX0_carries_170 : decode cX0_carries 170 = .ok (.getfield 106, 3) := dk_180 0 106 (dk_at dksX0_carries_7 7 rfl rfl)
theorem dX0_carries_173 : decode cX0_carries 173 = .ok (.iload 5, 2) := dk_21 5 (dk_at dksX0_carries_7 10 rfl rfl)
theorem dX0_carries_175 : decode cX0_carries 175 = .ok (.iaload, 1) := dk_46 (dk_at dksX0_carries_7 12 rfl rfl)
theorem dX0_carries_176 : decode cX0_carries 176 = .ok (.if_icmp .ne 24, 3) := dk_160 0 24 (dk_at dksX0_carries_7 13 rfl rfl)
theorem dX0_carries_179 : decode cX0_carries 179 = .ok (.aload_n 0, 1) := dk_42 (dk_at dksX0_carries_7 16 rfl rfl)
theorem dX0_carries_180 : decode cX0_carries 180 = .ok (.getfield 106, 3) := dk_180 0 106 (dk_at dksX0_carries_7 17 rfl rfl)
theorem dX0_carries_183 : decode cX0_carries 183 = .ok (.iload 4, 2) := dk_21 4 (dk_at dksX0_carries_7 20 rfl rfl)
theorem dX0_carries_185 : decode cX0_carries 185 = .ok (.iaload, 1) := dk_46 (dk_at dksX0_carries_7 22 rfl rfl)
theorem dX0_carries_186 : decode cX0_carries 186 = .ok (.aload_n 0, 1) := dk_42 (dk_at dksX0_carries_7 23 rfl rfl)
theorem dX0_carries_187 : decode cX0_carries 187 = .ok (.getfield 103, 3) := dk_180 0 103 (dk_at dksX0_carries_8 0 rfl rfl)
theorem dX0_carries_190 : decode cX0_carries 190 = .ok (.iload 5, 2) := dk_21 5 (dk_at dksX0_carries_8 3 rfl rfl)
theorem dX0_carries_192 : decode cX0_carries 192 = .ok (.iaload, 1) := dk_46 (dk_at dksX0_carries_8 5 rfl rfl)
theorem dX0_carries_193 : decode cX0_carries 193 = .ok (.if_icmp .ne 7, 3) := dk_160 0 7 (dk_at dksX0_carries_8 6 rfl rfl)
theorem dX0_carries_196 : decode cX0_carries 196 = .ok (.iconst 1, 1) := dk_4 (dk_at dksX0_carries_8 9 rfl rfl)
theorem dX0_carries_197 : decode cX0_carries 197 = .ok (.goto 4, 3) := dk_167 0 4 (dk_at dksX0_carries_8 10 rfl rfl)
theorem dX0_carries_200 : decode cX0_carries 200 = .ok (.iconst 0, 1) := dk_3 (dk_at dksX0_carries_8 13 rfl rfl)
theorem dX0_carries_201 : decode cX0_carries 201 = .ok (.iadd, 1) := dk_96 (dk_at dksX0_carries_8 14 rfl rfl)
theorem dX0_carries_202 : decode cX0_carries 202 = .ok (.putfield 450, 3) := dk_181 1 194 (dk_at dksX0_carries_8 15 rfl rfl)
theorem dX0_carries_205 : decode cX0_carries 205 = .ok (.iinc 5 1, 3) := dk_132 5 1 (dk_at dksX0_carries_8 18 rfl rfl)
theorem dX0_carries_208 : decode cX0_carries 208 = .ok (.goto (-103), 3) := dk_167 255 153 (dk_at dksX0_carries_8 21 rfl rfl)
theorem dX0_carries_211 : decode cX0_carries 211 = .ok (.iinc 4 1, 3) := dk_132 4 1 (dk_at dksX0_carries_9 0 rfl rfl)
theorem dX0_carries_214 : decode cX0_carries 214 = .ok (.goto (-124), 3) := dk_167 255 132 (dk_at dksX0_carries_9 3 rfl rfl)
theorem dX0_carries_217 : decode cX0_carries 217 = .ok (.iinc 3 1, 3) := dk_132 3 1 (dk_at dksX0_carries_9 6 rfl rfl)
theorem dX0_carries_220 : decode cX0_carries 220 = .ok (.goto (-167), 3) := dk_167 255 89 (dk_at dksX0_carries_9 9 rfl rfl)
theorem dX0_carries_223 : decode cX0_carries 223 = .ok (.return_, 1) := dk_177 (dk_at dksX0_carries_9 12 rfl rfl)
abbrev cX0_stepsOn : ByteArray := prog_1_method_115_code
def yX0_stepsOn : MethodName := ⟨RX0, "stepsOn", "(IIZ)V"⟩
def dkwX0_stepsOn_6 : List UInt8 := [42, 180, 0, 10, 180, 1, 184, 27, 46, 160, 0, 12, 42, 180, 0, 109, 27, 28, 4, 96, 79, 177]
abbrev dktX0_stepsOn_6 : List UInt8 := dkwX0_stepsOn_6 ++ []
def dkwX0_stepsOn_5 : List UInt8 := [180, 0, 100, 27, 46, 79, 42, 180, 0, 106, 27, 21, 4, 79, 42, 180, 0, 100, 27, 21, 4, 79, 21, 4]
abbrev dktX0_stepsOn_5 : List UInt8 := dkwX0_stepsOn_5 ++ dktX0_stepsOn_6
def dkwX0_stepsOn_4 : List UInt8 := [153, 0, 18, 29, 154, 0, 14, 42, 89, 180, 1, 191, 4, 96, 181, 1, 191, 177, 42, 180, 0, 103, 27, 42]
abbrev dktX0_stepsOn_4 : List UInt8 := dkwX0_stepsOn_4 ++ dktX0_stepsOn_5
def dkwX0_stepsOn_3 : List UInt8 := [180, 0, 100, 27, 46, 2, 182, 0, 220, 54, 4, 42, 27, 42, 180, 0, 100, 27, 46, 21, 4, 182, 1, 187]
abbrev dktX0_stepsOn_3 : List UInt8 := dkwX0_stepsOn_3 ++ dktX0_stepsOn_4
def dkwX0_stepsOn_2 : List UInt8 := [182, 0, 207, 42, 180, 0, 29, 180, 0, 210, 42, 180, 0, 100, 27, 46, 46, 2, 160, 0, 4, 177, 42, 42]
abbrev dktX0_stepsOn_2 : List UInt8 := dkwX0_stepsOn_2 ++ dktX0_stepsOn_3
def dkwX0_stepsOn_1 : List UInt8 := [180, 1, 184, 27, 46, 160, 0, 4, 177, 42, 180, 0, 29, 42, 180, 0, 10, 180, 1, 184, 27, 46]
abbrev dktX0_stepsOn_1 : List UInt8 := dkwX0_stepsOn_1 ++ dktX0_stepsOn_2
def dkwX0_stepsOn_0 : List UInt8 := [42, 180, 0, 103, 27, 2, 79, 42, 180, 0, 106, 27, 2, 79, 42, 180, 0, 100, 27, 46, 42, 180, 0, 10]
abbrev dktX0_stepsOn_0 : List UInt8 := dkwX0_stepsOn_0 ++ dktX0_stepsOn_1
theorem dksX0_stepsOn_0 : cX0_stepsOn.data.toList.drop 0 = dktX0_stepsOn_0 := by decide +kernel
theorem dksX0_stepsOn_1 : cX0_stepsOn.data.toList.drop 24 = dktX0_stepsOn_1 := dk_seg dksX0_stepsOn_0 24 rfl rfl
theorem dksX0_stepsOn_2 : cX0_stepsOn.data.toList.drop 46 = dktX0_stepsOn_2 := dk_seg dksX0_stepsOn_1 22 rfl rfl
theorem dksX0_stepsOn_3 : cX0_stepsOn.data.toList.drop 70 = dktX0_stepsOn_3 := dk_seg dksX0_stepsOn_2 24 rfl rfl
theorem dksX0_stepsOn_4 : cX0_stepsOn.data.toList.drop 94 = dktX0_stepsOn_4 := dk_seg dksX0_stepsOn_3 24 rfl rfl
theorem dksX0_stepsOn_5 : cX0_stepsOn.data.toList.drop 118 = dktX0_stepsOn_5 := dk_seg dksX0_stepsOn_4 24 rfl rfl
theorem dksX0_stepsOn_6 : cX0_stepsOn.data.toList.drop 142 = dktX0_stepsOn_6 := dk_seg dksX0_stepsOn_5 24 rfl rfl
theorem dX0_stepsOn_0 : decode cX0_stepsOn 0 = .ok (.aload_n 0, 1) := dk_42 (dk_at dksX0_stepsOn_0 0 rfl rfl)
theorem dX0_stepsOn_1 : decode cX0_stepsOn 1 = .ok (.getfield 103, 3) := dk_180 0 103 (dk_at dksX0_stepsOn_0 1 rfl rfl)
theorem dX0_stepsOn_4 : decode cX0_stepsOn 4 = .ok (.iload_n 1, 1) := dk_27 (dk_at dksX0_stepsOn_0 4 rfl rfl)
theorem dX0_stepsOn_5 : decode cX0_stepsOn 5 = .ok (.iconst (-1), 1) := dk_2 (dk_at dksX0_stepsOn_0 5 rfl rfl)
theorem dX0_stepsOn_6 : decode cX0_stepsOn 6 = .ok (.iastore, 1) := dk_79 (dk_at dksX0_stepsOn_0 6 rfl rfl)
theorem dX0_stepsOn_7 : decode cX0_stepsOn 7 = .ok (.aload_n 0, 1) := dk_42 (dk_at dksX0_stepsOn_0 7 rfl rfl)
theorem dX0_stepsOn_8 : decode cX0_stepsOn 8 = .ok (.getfield 106, 3) := dk_180 0 106 (dk_at dksX0_stepsOn_0 8 rfl rfl)
theorem dX0_stepsOn_11 : decode cX0_stepsOn 11 = .ok (.iload_n 1, 1) := dk_27 (dk_at dksX0_stepsOn_0 11 rfl rfl)
theorem dX0_stepsOn_12 : decode cX0_stepsOn 12 = .ok (.iconst (-1), 1) := dk_2 (dk_at dksX0_stepsOn_0 12 rfl rfl)
theorem dX0_stepsOn_13 : decode cX0_stepsOn 13 = .ok (.iastore, 1) := dk_79 (dk_at dksX0_stepsOn_0 13 rfl rfl)
theorem dX0_stepsOn_14 : decode cX0_stepsOn 14 = .ok (.aload_n 0, 1) := dk_42 (dk_at dksX0_stepsOn_0 14 rfl rfl)
theorem dX0_stepsOn_15 : decode cX0_stepsOn 15 = .ok (.getfield 100, 3) := dk_180 0 100 (dk_at dksX0_stepsOn_0 15 rfl rfl)
theorem dX0_stepsOn_18 : decode cX0_stepsOn 18 = .ok (.iload_n 1, 1) := dk_27 (dk_at dksX0_stepsOn_0 18 rfl rfl)
theorem dX0_stepsOn_19 : decode cX0_stepsOn 19 = .ok (.iaload, 1) := dk_46 (dk_at dksX0_stepsOn_0 19 rfl rfl)
theorem dX0_stepsOn_20 : decode cX0_stepsOn 20 = .ok (.aload_n 0, 1) := dk_42 (dk_at dksX0_stepsOn_0 20 rfl rfl)
theorem dX0_stepsOn_21 : decode cX0_stepsOn 21 = .ok (.getfield 10, 3) := dk_180 0 10 (dk_at dksX0_stepsOn_0 21 rfl rfl)
theorem dX0_stepsOn_24 : decode cX0_stepsOn 24 = .ok (.getfield 440, 3) := dk_180 1 184 (dk_at dksX0_stepsOn_1 0 rfl rfl)
theorem dX0_stepsOn_27 : decode cX0_stepsOn 27 = .ok (.iload_n 1, 1) := dk_27 (dk_at dksX0_stepsOn_1 3 rfl rfl)
theorem dX0_stepsOn_28 : decode cX0_stepsOn 28 = .ok (.iaload, 1) := dk_46 (dk_at dksX0_stepsOn_1 4 rfl rfl)
theorem dX0_stepsOn_29 : decode cX0_stepsOn 29 = .ok (.if_icmp .ne 4, 3) := dk_160 0 4 (dk_at dksX0_stepsOn_1 5 rfl rfl)
theorem dX0_stepsOn_32 : decode cX0_stepsOn 32 = .ok (.return_, 1) := dk_177 (dk_at dksX0_stepsOn_1 8 rfl rfl)
theorem dX0_stepsOn_33 : decode cX0_stepsOn 33 = .ok (.aload_n 0, 1) := dk_42 (dk_at dksX0_stepsOn_1 9 rfl rfl)
theorem dX0_stepsOn_34 : decode cX0_stepsOn 34 = .ok (.getfield 29, 3) := dk_180 0 29 (dk_at dksX0_stepsOn_1 10 rfl rfl)
theorem dX0_stepsOn_37 : decode cX0_stepsOn 37 = .ok (.aload_n 0, 1) := dk_42 (dk_at dksX0_stepsOn_1 13 rfl rfl)
theorem dX0_stepsOn_38 : decode cX0_stepsOn 38 = .ok (.getfield 10, 3) := dk_180 0 10 (dk_at dksX0_stepsOn_1 14 rfl rfl)
theorem dX0_stepsOn_41 : decode cX0_stepsOn 41 = .ok (.getfield 440, 3) := dk_180 1 184 (dk_at dksX0_stepsOn_1 17 rfl rfl)
theorem dX0_stepsOn_44 : decode cX0_stepsOn 44 = .ok (.iload_n 1, 1) := dk_27 (dk_at dksX0_stepsOn_1 20 rfl rfl)
theorem dX0_stepsOn_45 : decode cX0_stepsOn 45 = .ok (.iaload, 1) := dk_46 (dk_at dksX0_stepsOn_1 21 rfl rfl)
theorem dX0_stepsOn_46 : decode cX0_stepsOn 46 = .ok (.invokevirtual 207, 3) := dk_182 0 207 (dk_at dksX0_stepsOn_2 0 rfl rfl)
theorem dX0_stepsOn_49 : decode cX0_stepsOn 49 = .ok (.aload_n 0, 1) := dk_42 (dk_at dksX0_stepsOn_2 3 rfl rfl)
theorem dX0_stepsOn_50 : decode cX0_stepsOn 50 = .ok (.getfield 29, 3) := dk_180 0 29 (dk_at dksX0_stepsOn_2 4 rfl rfl)
theorem dX0_stepsOn_53 : decode cX0_stepsOn 53 = .ok (.getfield 210, 3) := dk_180 0 210 (dk_at dksX0_stepsOn_2 7 rfl rfl)
theorem dX0_stepsOn_56 : decode cX0_stepsOn 56 = .ok (.aload_n 0, 1) := dk_42 (dk_at dksX0_stepsOn_2 10 rfl rfl)
theorem dX0_stepsOn_57 : decode cX0_stepsOn 57 = .ok (.getfield 100, 3) := dk_180 0 100 (dk_at dksX0_stepsOn_2 11 rfl rfl)
theorem dX0_stepsOn_60 : decode cX0_stepsOn 60 = .ok (.iload_n 1, 1) := dk_27 (dk_at dksX0_stepsOn_2 14 rfl rfl)
theorem dX0_stepsOn_61 : decode cX0_stepsOn 61 = .ok (.iaload, 1) := dk_46 (dk_at dksX0_stepsOn_2 15 rfl rfl)
theorem dX0_stepsOn_62 : decode cX0_stepsOn 62 = .ok (.iaload, 1) := dk_46 (dk_at dksX0_stepsOn_2 16 rfl rfl)
theorem dX0_stepsOn_63 : decode cX0_stepsOn 63 = .ok (.iconst (-1), 1) := dk_2 (dk_at dksX0_stepsOn_2 17 rfl rfl)
theorem dX0_stepsOn_64 : decode cX0_stepsOn 64 = .ok (.if_icmp .ne 4, 3) := dk_160 0 4 (dk_at dksX0_stepsOn_2 18 rfl rfl)
theorem dX0_stepsOn_67 : decode cX0_stepsOn 67 = .ok (.return_, 1) := dk_177 (dk_at dksX0_stepsOn_2 21 rfl rfl)
theorem dX0_stepsOn_68 : decode cX0_stepsOn 68 = .ok (.aload_n 0, 1) := dk_42 (dk_at dksX0_stepsOn_2 22 rfl rfl)
theorem dX0_stepsOn_69 : decode cX0_stepsOn 69 = .ok (.aload_n 0, 1) := dk_42 (dk_at dksX0_stepsOn_2 23 rfl rfl)
theorem dX0_stepsOn_70 : decode cX0_stepsOn 70 = .ok (.getfield 100, 3) := dk_180 0 100 (dk_at dksX0_stepsOn_3 0 rfl rfl)
theorem dX0_stepsOn_73 : decode cX0_stepsOn 73 = .ok (.iload_n 1, 1) := dk_27 (dk_at dksX0_stepsOn_3 3 rfl rfl)
theorem dX0_stepsOn_74 : decode cX0_stepsOn 74 = .ok (.iaload, 1) := dk_46 (dk_at dksX0_stepsOn_3 4 rfl rfl)
theorem dX0_stepsOn_75 : decode cX0_stepsOn 75 = .ok (.iconst (-1), 1) := dk_2 (dk_at dksX0_stepsOn_3 5 rfl rfl)
theorem dX0_stepsOn_76 : decode cX0_stepsOn 76 = .ok (.invokevirtual 220, 3) := dk_182 0 220 (dk_at dksX0_stepsOn_3 6 rfl rfl)
theorem dX0_stepsOn_79 : decode cX0_stepsOn 79 = .ok (.istore 4, 2) := dk_54 4 (dk_at dksX0_stepsOn_3 9 rfl rfl)
theorem dX0_stepsOn_81 : decode cX0_stepsOn 81 = .ok (.aload_n 0, 1) := dk_42 (dk_at dksX0_stepsOn_3 11 rfl rfl)
theorem dX0_stepsOn_82 : decode cX0_stepsOn 82 = .ok (.iload_n 1, 1) := dk_27 (dk_at dksX0_stepsOn_3 12 rfl rfl)
theorem dX0_stepsOn_83 : decode cX0_stepsOn 83 = .ok (.aload_n 0, 1) := dk_42 (dk_at dksX0_stepsOn_3 13 rfl rfl)
theorem dX0_stepsOn_84 : decode cX0_stepsOn 84 = .ok (.getfield 100, 3) := dk_180 0 100 (dk_at dksX0_stepsOn_3 14 rfl rfl)
theorem dX0_stepsOn_87 : decode cX0_stepsOn 87 = .ok (.iload_n 1, 1) := dk_27 (dk_at dksX0_stepsOn_3 17 rfl rfl)
theorem dX0_stepsOn_88 : decode cX0_stepsOn 88 = .ok (.iaload, 1) := dk_46 (dk_at dksX0_stepsOn_3 18 rfl rfl)
theorem dX0_stepsOn_89 : decode cX0_stepsOn 89 = .ok (.iload 4, 2) := dk_21 4 (dk_at dksX0_stepsOn_3 19 rfl rfl)
theorem dX0_stepsOn_91 : decode cX0_stepsOn 91 = .ok (.invokevirtual 443, 3) := dk_182 1 187 (dk_at dksX0_stepsOn_3 21 rfl rfl)
theorem dX0_stepsOn_94 : decode cX0_stepsOn 94 = .ok (.ifCond .eq 18, 3) := dk_153 0 18 (dk_at dksX0_stepsOn_4 0 rfl rfl)
theorem dX0_stepsOn_97 : decode cX0_stepsOn 97 = .ok (.iload_n 3, 1) := dk_29 (dk_at dksX0_stepsOn_4 3 rfl rfl)
theorem dX0_stepsOn_98 : decode cX0_stepsOn 98 = .ok (.ifCond .ne 14, 3) := dk_154 0 14 (dk_at dksX0_stepsOn_4 4 rfl rfl)
theorem dX0_stepsOn_101 : decode cX0_stepsOn 101 = .ok (.aload_n 0, 1) := dk_42 (dk_at dksX0_stepsOn_4 7 rfl rfl)
theorem dX0_stepsOn_102 : decode cX0_stepsOn 102 = .ok (.dup, 1) := dk_89 (dk_at dksX0_stepsOn_4 8 rfl rfl)
theorem dX0_stepsOn_103 : decode cX0_stepsOn 103 = .ok (.getfield 447, 3) := dk_180 1 191 (dk_at dksX0_stepsOn_4 9 rfl rfl)
theorem dX0_stepsOn_106 : decode cX0_stepsOn 106 = .ok (.iconst 1, 1) := dk_4 (dk_at dksX0_stepsOn_4 12 rfl rfl)
theorem dX0_stepsOn_107 : decode cX0_stepsOn 107 = .ok (.iadd, 1) := dk_96 (dk_at dksX0_stepsOn_4 13 rfl rfl)
theorem dX0_stepsOn_108 : decode cX0_stepsOn 108 = .ok (.putfield 447, 3) := dk_181 1 191 (dk_at dksX0_stepsOn_4 14 rfl rfl)
theorem dX0_stepsOn_111 : decode cX0_stepsOn 111 = .ok (.return_, 1) := dk_177 (dk_at dksX0_stepsOn_4 17 rfl rfl)
theorem dX0_stepsOn_112 : decode cX0_stepsOn 112 = .ok (.aload_n 0, 1) := dk_42 (dk_at dksX0_stepsOn_4 18 rfl rfl)
theorem dX0_stepsOn_113 : decode cX0_stepsOn 113 = .ok (.getfield 103, 3) := dk_180 0 103 (dk_at dksX0_stepsOn_4 19 rfl rfl)
theorem dX0_stepsOn_116 : decode cX0_stepsOn 116 = .ok (.iload_n 1, 1) := dk_27 (dk_at dksX0_stepsOn_4 22 rfl rfl)
theorem dX0_stepsOn_117 : decode cX0_stepsOn 117 = .ok (.aload_n 0, 1) := dk_42 (dk_at dksX0_stepsOn_4 23 rfl rfl)
theorem dX0_stepsOn_118 : decode cX0_stepsOn 118 = .ok (.getfield 100, 3) := dk_180 0 100 (dk_at dksX0_stepsOn_5 0 rfl rfl)
theorem dX0_stepsOn_121 : decode cX0_stepsOn 121 = .ok (.iload_n 1, 1) := dk_27 (dk_at dksX0_stepsOn_5 3 rfl rfl)
theorem dX0_stepsOn_122 : decode cX0_stepsOn 122 = .ok (.iaload, 1) := dk_46 (dk_at dksX0_stepsOn_5 4 rfl rfl)
theorem dX0_stepsOn_123 : decode cX0_stepsOn 123 = .ok (.iastore, 1) := dk_79 (dk_at dksX0_stepsOn_5 5 rfl rfl)
theorem dX0_stepsOn_124 : decode cX0_stepsOn 124 = .ok (.aload_n 0, 1) := dk_42 (dk_at dksX0_stepsOn_5 6 rfl rfl)
theorem dX0_stepsOn_125 : decode cX0_stepsOn 125 = .ok (.getfield 106, 3) := dk_180 0 106 (dk_at dksX0_stepsOn_5 7 rfl rfl)
theorem dX0_stepsOn_128 : decode cX0_stepsOn 128 = .ok (.iload_n 1, 1) := dk_27 (dk_at dksX0_stepsOn_5 10 rfl rfl)
theorem dX0_stepsOn_129 : decode cX0_stepsOn 129 = .ok (.iload 4, 2) := dk_21 4 (dk_at dksX0_stepsOn_5 11 rfl rfl)
theorem dX0_stepsOn_131 : decode cX0_stepsOn 131 = .ok (.iastore, 1) := dk_79 (dk_at dksX0_stepsOn_5 13 rfl rfl)
theorem dX0_stepsOn_132 : decode cX0_stepsOn 132 = .ok (.aload_n 0, 1) := dk_42 (dk_at dksX0_stepsOn_5 14 rfl rfl)
theorem dX0_stepsOn_133 : decode cX0_stepsOn 133 = .ok (.getfield 100, 3) := dk_180 0 100 (dk_at dksX0_stepsOn_5 15 rfl rfl)
theorem dX0_stepsOn_136 : decode cX0_stepsOn 136 = .ok (.iload_n 1, 1) := dk_27 (dk_at dksX0_stepsOn_5 18 rfl rfl)
theorem dX0_stepsOn_137 : decode cX0_stepsOn 137 = .ok (.iload 4, 2) := dk_21 4 (dk_at dksX0_stepsOn_5 19 rfl rfl)
theorem dX0_stepsOn_139 : decode cX0_stepsOn 139 = .ok (.iastore, 1) := dk_79 (dk_at dksX0_stepsOn_5 21 rfl rfl)
theorem dX0_stepsOn_140 : decode cX0_stepsOn 140 = .ok (.iload 4, 2) := dk_21 4 (dk_at dksX0_stepsOn_5 22 rfl rfl)
theorem dX0_stepsOn_142 : decode cX0_stepsOn 142 = .ok (.aload_n 0, 1) := dk_42 (dk_at dksX0_stepsOn_6 0 rfl rfl)
theorem dX0_stepsOn_143 : decode cX0_stepsOn 143 = .ok (.getfield 10, 3) := dk_180 0 10 (dk_at dksX0_stepsOn_6 1 rfl rfl)
theorem dX0_stepsOn_146 : decode cX0_stepsOn 146 = .ok (.getfield 440, 3) := dk_180 1 184 (dk_at dksX0_stepsOn_6 4 rfl rfl)
theorem dX0_stepsOn_149 : decode cX0_stepsOn 149 = .ok (.iload_n 1, 1) := dk_27 (dk_at dksX0_stepsOn_6 7 rfl rfl)
theorem dX0_stepsOn_150 : decode cX0_stepsOn 150 = .ok (.iaload, 1) := dk_46 (dk_at dksX0_stepsOn_6 8 rfl rfl)
theorem dX0_stepsOn_151 : decode cX0_stepsOn 151 = .ok (.if_icmp .ne 12, 3) := dk_160 0 12 (dk_at dksX0_stepsOn_6 9 rfl rfl)
theorem dX0_stepsOn_154 : decode cX0_stepsOn 154 = .ok (.aload_n 0, 1) := dk_42 (dk_at dksX0_stepsOn_6 12 rfl rfl)
theorem dX0_stepsOn_155 : decode cX0_stepsOn 155 = .ok (.getfield 109, 3) := dk_180 0 109 (dk_at dksX0_stepsOn_6 13 rfl rfl)
theorem dX0_stepsOn_158 : decode cX0_stepsOn 158 = .ok (.iload_n 1, 1) := dk_27 (dk_at dksX0_stepsOn_6 16 rfl rfl)
theorem dX0_stepsOn_159 : decode cX0_stepsOn 159 = .ok (.iload_n 2, 1) := dk_28 (dk_at dksX0_stepsOn_6 17 rfl rfl)
theorem dX0_stepsOn_160 : decode cX0_stepsOn 160 = .ok (.iconst 1, 1) := dk_4 (dk_at dksX0_stepsOn_6 18 rfl rfl)
theorem dX0_stepsOn_161 : decode cX0_stepsOn 161 = .ok (.iadd, 1) := dk_96 (dk_at dksX0_stepsOn_6 19 rfl rfl)
theorem dX0_stepsOn_162 : decode cX0_stepsOn 162 = .ok (.iastore, 1) := dk_79 (dk_at dksX0_stepsOn_6 20 rfl rfl)
theorem dX0_stepsOn_163 : decode cX0_stepsOn 163 = .ok (.return_, 1) := dk_177 (dk_at dksX0_stepsOn_6 21 rfl rfl)
abbrev cX0_isTaken : ByteArray := prog_1_method_114_code
def yX0_isTaken : MethodName := ⟨RX0, "isTaken", "(III)Z"⟩
def dkwX0_isTaken_2 : List UInt8 := [46, 28, 160, 0, 5, 4, 172, 132, 4, 1, 167, 255, 201, 3, 172]
abbrev dktX0_isTaken_2 : List UInt8 := dkwX0_isTaken_2 ++ []
def dkwX0_isTaken_1 : List UInt8 := [21, 4, 46, 29, 159, 0, 25, 42, 180, 0, 103, 21, 4, 46, 29, 160, 0, 16, 42, 180, 0, 106, 21, 4]
abbrev dktX0_isTaken_1 : List UInt8 := dkwX0_isTaken_1 ++ dktX0_isTaken_2
def dkwX0_isTaken_0 : List UInt8 := [3, 54, 4, 21, 4, 27, 162, 0, 55, 42, 180, 0, 103, 21, 4, 46, 28, 160, 0, 14, 42, 180, 0, 106]
abbrev dktX0_isTaken_0 : List UInt8 := dkwX0_isTaken_0 ++ dktX0_isTaken_1
theorem dksX0_isTaken_0 : cX0_isTaken.data.toList.drop 0 = dktX0_isTaken_0 := by decide +kernel
theorem dksX0_isTaken_1 : cX0_isTaken.data.toList.drop 24 = dktX0_isTaken_1 := dk_seg dksX0_isTaken_0 24 rfl rfl
theorem dksX0_isTaken_2 : cX0_isTaken.data.toList.drop 48 = dktX0_isTaken_2 := dk_seg dksX0_isTaken_1 24 rfl rfl
theorem dX0_isTaken_0 : decode cX0_isTaken 0 = .ok (.iconst 0, 1) := dk_3 (dk_at dksX0_isTaken_0 0 rfl rfl)
theorem dX0_isTaken_1 : decode cX0_isTaken 1 = .ok (.istore 4, 2) := dk_54 4 (dk_at dksX0_isTaken_0 1 rfl rfl)
theorem dX0_isTaken_3 : decode cX0_isTaken 3 = .ok (.iload 4, 2) := dk_21 4 (dk_at dksX0_isTaken_0 3 rfl rfl)
theorem dX0_isTaken_5 : decode cX0_isTaken 5 = .ok (.iload_n 1, 1) := dk_27 (dk_at dksX0_isTaken_0 5 rfl rfl)
theorem dX0_isTaken_6 : decode cX0_isTaken 6 = .ok (.if_icmp .ge 55, 3) := dk_162 0 55 (dk_at dksX0_isTaken_0 6 rfl rfl)
theorem dX0_isTaken_9 : decode cX0_isTaken 9 = .ok (.aload_n 0, 1) := dk_42 (dk_at dksX0_isTaken_0 9 rfl rfl)
theorem dX0_isTaken_10 : decode cX0_isTaken 10 = .ok (.getfield 103, 3) := dk_180 0 103 (dk_at dksX0_isTaken_0 10 rfl rfl)
theorem dX0_isTaken_13 : decode cX0_isTaken 13 = .ok (.iload 4, 2) := dk_21 4 (dk_at dksX0_isTaken_0 13 rfl rfl)
theorem dX0_isTaken_15 : decode cX0_isTaken 15 = .ok (.iaload, 1) := dk_46 (dk_at dksX0_isTaken_0 15 rfl rfl)
theorem dX0_isTaken_16 : decode cX0_isTaken 16 = .ok (.iload_n 2, 1) := dk_28 (dk_at dksX0_isTaken_0 16 rfl rfl)
theorem dX0_isTaken_17 : decode cX0_isTaken 17 = .ok (.if_icmp .ne 14, 3) := dk_160 0 14 (dk_at dksX0_isTaken_0 17 rfl rfl)
theorem dX0_isTaken_20 : decode cX0_isTaken 20 = .ok (.aload_n 0, 1) := dk_42 (dk_at dksX0_isTaken_0 20 rfl rfl)
theorem dX0_isTaken_21 : decode cX0_isTaken 21 = .ok (.getfield 106, 3) := dk_180 0 106 (dk_at dksX0_isTaken_0 21 rfl rfl)
theorem dX0_isTaken_24 : decode cX0_isTaken 24 = .ok (.iload 4, 2) := dk_21 4 (dk_at dksX0_isTaken_1 0 rfl rfl)
theorem dX0_isTaken_26 : decode cX0_isTaken 26 = .ok (.iaload, 1) := dk_46 (dk_at dksX0_isTaken_1 2 rfl rfl)
theorem dX0_isTaken_27 : decode cX0_isTaken 27 = .ok (.iload_n 3, 1) := dk_29 (dk_at dksX0_isTaken_1 3 rfl rfl)
theorem dX0_isTaken_28 : decode cX0_isTaken 28 = .ok (.if_icmp .eq 25, 3) := dk_159 0 25 (dk_at dksX0_isTaken_1 4 rfl rfl)
theorem dX0_isTaken_31 : decode cX0_isTaken 31 = .ok (.aload_n 0, 1) := dk_42 (dk_at dksX0_isTaken_1 7 rfl rfl)
theorem dX0_isTaken_32 : decode cX0_isTaken 32 = .ok (.getfield 103, 3) := dk_180 0 103 (dk_at dksX0_isTaken_1 8 rfl rfl)
theorem dX0_isTaken_35 : decode cX0_isTaken 35 = .ok (.iload 4, 2) := dk_21 4 (dk_at dksX0_isTaken_1 11 rfl rfl)
theorem dX0_isTaken_37 : decode cX0_isTaken 37 = .ok (.iaload, 1) := dk_46 (dk_at dksX0_isTaken_1 13 rfl rfl)
theorem dX0_isTaken_38 : decode cX0_isTaken 38 = .ok (.iload_n 3, 1) := dk_29 (dk_at dksX0_isTaken_1 14 rfl rfl)
theorem dX0_isTaken_39 : decode cX0_isTaken 39 = .ok (.if_icmp .ne 16, 3) := dk_160 0 16 (dk_at dksX0_isTaken_1 15 rfl rfl)
theorem dX0_isTaken_42 : decode cX0_isTaken 42 = .ok (.aload_n 0, 1) := dk_42 (dk_at dksX0_isTaken_1 18 rfl rfl)
theorem dX0_isTaken_43 : decode cX0_isTaken 43 = .ok (.getfield 106, 3) := dk_180 0 106 (dk_at dksX0_isTaken_1 19 rfl rfl)
theorem dX0_isTaken_46 : decode cX0_isTaken 46 = .ok (.iload 4, 2) := dk_21 4 (dk_at dksX0_isTaken_1 22 rfl rfl)
theorem dX0_isTaken_48 : decode cX0_isTaken 48 = .ok (.iaload, 1) := dk_46 (dk_at dksX0_isTaken_2 0 rfl rfl)
theorem dX0_isTaken_49 : decode cX0_isTaken 49 = .ok (.iload_n 2, 1) := dk_28 (dk_at dksX0_isTaken_2 1 rfl rfl)
theorem dX0_isTaken_50 : decode cX0_isTaken 50 = .ok (.if_icmp .ne 5, 3) := dk_160 0 5 (dk_at dksX0_isTaken_2 2 rfl rfl)
theorem dX0_isTaken_53 : decode cX0_isTaken 53 = .ok (.iconst 1, 1) := dk_4 (dk_at dksX0_isTaken_2 5 rfl rfl)
theorem dX0_isTaken_54 : decode cX0_isTaken 54 = .ok (.ireturn, 1) := dk_172 (dk_at dksX0_isTaken_2 6 rfl rfl)
theorem dX0_isTaken_55 : decode cX0_isTaken 55 = .ok (.iinc 4 1, 3) := dk_132 4 1 (dk_at dksX0_isTaken_2 7 rfl rfl)
theorem dX0_isTaken_58 : decode cX0_isTaken 58 = .ok (.goto (-55), 3) := dk_167 255 201 (dk_at dksX0_isTaken_2 10 rfl rfl)
theorem dX0_isTaken_61 : decode cX0_isTaken 61 = .ok (.iconst 0, 1) := dk_3 (dk_at dksX0_isTaken_2 13 rfl rfl)
theorem dX0_isTaken_62 : decode cX0_isTaken 62 = .ok (.ireturn, 1) := dk_172 (dk_at dksX0_isTaken_2 14 rfl rfl)
abbrev cX0_post : ByteArray := prog_1_method_119_code
def yX0_post : MethodName := ⟨RX0, "post", "(I)I"⟩
def dkwX0_post_4 : List UInt8 := [160, 0, 10, 42, 180, 1, 191, 167, 0, 4, 29, 172]
abbrev dktX0_post_4 : List UInt8 := dkwX0_post_4 ++ []
def dkwX0_post_3 : List UInt8 := [167, 0, 4, 3, 96, 62, 132, 4, 1, 167, 255, 210, 27, 154, 0, 7, 28, 167, 0, 16, 27, 4]
abbrev dktX0_post_3 : List UInt8 := dkwX0_post_3 ++ dktX0_post_4
def dkwX0_post_2 : List UInt8 := [180, 0, 109, 21, 4, 46, 184, 0, 240, 61, 29, 42, 180, 0, 109, 21, 4, 46, 2, 160, 0, 7, 4]
abbrev dktX0_post_2 : List UInt8 := dkwX0_post_2 ++ dktX0_post_3
def dkwX0_post_1 : List UInt8 := [182, 1, 210, 3, 61, 3, 62, 3, 54, 4, 21, 4, 42, 180, 0, 10, 180, 1, 197, 162, 0, 40, 28, 42]
abbrev dktX0_post_1 : List UInt8 := dkwX0_post_1 ++ dktX0_post_2
def dkwX0_post_0 : List UInt8 := [42, 182, 0, 233, 153, 0, 11, 27, 6, 184, 0, 185, 154, 0, 6, 16, 254, 172, 42, 17, 0, 190, 3]
abbrev dktX0_post_0 : List UInt8 := dkwX0_post_0 ++ dktX0_post_1
theorem dksX0_post_0 : cX0_post.data.toList.drop 0 = dktX0_post_0 := by decide +kernel
theorem dksX0_post_1 : cX0_post.data.toList.drop 23 = dktX0_post_1 := dk_seg dksX0_post_0 23 rfl rfl
theorem dksX0_post_2 : cX0_post.data.toList.drop 47 = dktX0_post_2 := dk_seg dksX0_post_1 24 rfl rfl
theorem dksX0_post_3 : cX0_post.data.toList.drop 70 = dktX0_post_3 := dk_seg dksX0_post_2 23 rfl rfl
theorem dksX0_post_4 : cX0_post.data.toList.drop 92 = dktX0_post_4 := dk_seg dksX0_post_3 22 rfl rfl
theorem dX0_post_0 : decode cX0_post 0 = .ok (.aload_n 0, 1) := dk_42 (dk_at dksX0_post_0 0 rfl rfl)
theorem dX0_post_1 : decode cX0_post 1 = .ok (.invokevirtual 233, 3) := dk_182 0 233 (dk_at dksX0_post_0 1 rfl rfl)
theorem dX0_post_4 : decode cX0_post 4 = .ok (.ifCond .eq 11, 3) := dk_153 0 11 (dk_at dksX0_post_0 4 rfl rfl)
theorem dX0_post_7 : decode cX0_post 7 = .ok (.iload_n 1, 1) := dk_27 (dk_at dksX0_post_0 7 rfl rfl)
theorem dX0_post_8 : decode cX0_post 8 = .ok (.iconst 3, 1) := dk_6 (dk_at dksX0_post_0 8 rfl rfl)
theorem dX0_post_9 : decode cX0_post 9 = .ok (.invokestatic 185, 3) := dk_184 0 185 (dk_at dksX0_post_0 9 rfl rfl)
theorem dX0_post_12 : decode cX0_post 12 = .ok (.ifCond .ne 6, 3) := dk_154 0 6 (dk_at dksX0_post_0 12 rfl rfl)
theorem dX0_post_15 : decode cX0_post 15 = .ok (.bipush (-2), 2) := dk_16 254 (dk_at dksX0_post_0 15 rfl rfl)
theorem dX0_post_17 : decode cX0_post 17 = .ok (.ireturn, 1) := dk_172 (dk_at dksX0_post_0 17 rfl rfl)
theorem dX0_post_18 : decode cX0_post 18 = .ok (.aload_n 0, 1) := dk_42 (dk_at dksX0_post_0 18 rfl rfl)
theorem dX0_post_19 : decode cX0_post 19 = .ok (.sipush 190, 3) := dk_17 0 190 (dk_at dksX0_post_0 19 rfl rfl)
theorem dX0_post_22 : decode cX0_post 22 = .ok (.iconst 0, 1) := dk_3 (dk_at dksX0_post_0 22 rfl rfl)
theorem dX0_post_23 : decode cX0_post 23 = .ok (.invokevirtual 466, 3) := dk_182 1 210 (dk_at dksX0_post_1 0 rfl rfl)
theorem dX0_post_26 : decode cX0_post 26 = .ok (.iconst 0, 1) := dk_3 (dk_at dksX0_post_1 3 rfl rfl)
theorem dX0_post_27 : decode cX0_post 27 = .ok (.istore_n 2, 1) := dk_61 (dk_at dksX0_post_1 4 rfl rfl)
theorem dX0_post_28 : decode cX0_post 28 = .ok (.iconst 0, 1) := dk_3 (dk_at dksX0_post_1 5 rfl rfl)
theorem dX0_post_29 : decode cX0_post 29 = .ok (.istore_n 3, 1) := dk_62 (dk_at dksX0_post_1 6 rfl rfl)
theorem dX0_post_30 : decode cX0_post 30 = .ok (.iconst 0, 1) := dk_3 (dk_at dksX0_post_1 7 rfl rfl)
theorem dX0_post_31 : decode cX0_post 31 = .ok (.istore 4, 2) := dk_54 4 (dk_at dksX0_post_1 8 rfl rfl)
theorem dX0_post_33 : decode cX0_post 33 = .ok (.iload 4, 2) := dk_21 4 (dk_at dksX0_post_1 10 rfl rfl)
theorem dX0_post_35 : decode cX0_post 35 = .ok (.aload_n 0, 1) := dk_42 (dk_at dksX0_post_1 12 rfl rfl)
theorem dX0_post_36 : decode cX0_post 36 = .ok (.getfield 10, 3) := dk_180 0 10 (dk_at dksX0_post_1 13 rfl rfl)
theorem dX0_post_39 : decode cX0_post 39 = .ok (.getfield 453, 3) := dk_180 1 197 (dk_at dksX0_post_1 16 rfl rfl)
theorem dX0_post_42 : decode cX0_post 42 = .ok (.if_icmp .ge 40, 3) := dk_162 0 40 (dk_at dksX0_post_1 19 rfl rfl)
theorem dX0_post_45 : decode cX0_post 45 = .ok (.iload_n 2, 1) := dk_28 (dk_at dksX0_post_1 22 rfl rfl)
theorem dX0_post_46 : decode cX0_post 46 = .ok (.aload_n 0, 1) := dk_42 (dk_at dksX0_post_1 23 rfl rfl)
theorem dX0_post_47 : decode cX0_post 47 = .ok (.getfield 109, 3) := dk_180 0 109 (dk_at dksX0_post_2 0 rfl rfl)
theorem dX0_post_50 : decode cX0_post 50 = .ok (.iload 4, 2) := dk_21 4 (dk_at dksX0_post_2 3 rfl rfl)
theorem dX0_post_52 : decode cX0_post 52 = .ok (.iaload, 1) := dk_46 (dk_at dksX0_post_2 5 rfl rfl)
theorem dX0_post_53 : decode cX0_post 53 = .ok (.invokestatic 240, 3) := dk_184 0 240 (dk_at dksX0_post_2 6 rfl rfl)
theorem dX0_post_56 : decode cX0_post 56 = .ok (.istore_n 2, 1) := dk_61 (dk_at dksX0_post_2 9 rfl rfl)
theorem dX0_post_57 : decode cX0_post 57 = .ok (.iload_n 3, 1) := dk_29 (dk_at dksX0_post_2 10 rfl rfl)
theorem dX0_post_58 : decode cX0_post 58 = .ok (.aload_n 0, 1) := dk_42 (dk_at dksX0_post_2 11 rfl rfl)
theorem dX0_post_59 : decode cX0_post 59 = .ok (.getfield 109, 3) := dk_180 0 109 (dk_at dksX0_post_2 12 rfl rfl)
theorem dX0_post_62 : decode cX0_post 62 = .ok (.iload 4, 2) := dk_21 4 (dk_at dksX0_post_2 15 rfl rfl)
theorem dX0_post_64 : decode cX0_post 64 = .ok (.iaload, 1) := dk_46 (dk_at dksX0_post_2 17 rfl rfl)
theorem dX0_post_65 : decode cX0_post 65 = .ok (.iconst (-1), 1) := dk_2 (dk_at dksX0_post_2 18 rfl rfl)
theorem dX0_post_66 : decode cX0_post 66 = .ok (.if_icmp .ne 7, 3) := dk_160 0 7 (dk_at dksX0_post_2 19 rfl rfl)
theorem dX0_post_69 : decode cX0_post 69 = .ok (.iconst 1, 1) := dk_4 (dk_at dksX0_post_2 22 rfl rfl)
theorem dX0_post_70 : decode cX0_post 70 = .ok (.goto 4, 3) := dk_167 0 4 (dk_at dksX0_post_3 0 rfl rfl)
theorem dX0_post_73 : decode cX0_post 73 = .ok (.iconst 0, 1) := dk_3 (dk_at dksX0_post_3 3 rfl rfl)
theorem dX0_post_74 : decode cX0_post 74 = .ok (.iadd, 1) := dk_96 (dk_at dksX0_post_3 4 rfl rfl)
theorem dX0_post_75 : decode cX0_post 75 = .ok (.istore_n 3, 1) := dk_62 (dk_at dksX0_post_3 5 rfl rfl)
theorem dX0_post_76 : decode cX0_post 76 = .ok (.iinc 4 1, 3) := dk_132 4 1 (dk_at dksX0_post_3 6 rfl rfl)
theorem dX0_post_79 : decode cX0_post 79 = .ok (.goto (-46), 3) := dk_167 255 210 (dk_at dksX0_post_3 9 rfl rfl)
theorem dX0_post_82 : decode cX0_post 82 = .ok (.iload_n 1, 1) := dk_27 (dk_at dksX0_post_3 12 rfl rfl)
theorem dX0_post_83 : decode cX0_post 83 = .ok (.ifCond .ne 7, 3) := dk_154 0 7 (dk_at dksX0_post_3 13 rfl rfl)
theorem dX0_post_86 : decode cX0_post 86 = .ok (.iload_n 2, 1) := dk_28 (dk_at dksX0_post_3 16 rfl rfl)
theorem dX0_post_87 : decode cX0_post 87 = .ok (.goto 16, 3) := dk_167 0 16 (dk_at dksX0_post_3 17 rfl rfl)
theorem dX0_post_90 : decode cX0_post 90 = .ok (.iload_n 1, 1) := dk_27 (dk_at dksX0_post_3 20 rfl rfl)
theorem dX0_post_91 : decode cX0_post 91 = .ok (.iconst 1, 1) := dk_4 (dk_at dksX0_post_3 21 rfl rfl)
theorem dX0_post_92 : decode cX0_post 92 = .ok (.if_icmp .ne 10, 3) := dk_160 0 10 (dk_at dksX0_post_4 0 rfl rfl)
theorem dX0_post_95 : decode cX0_post 95 = .ok (.aload_n 0, 1) := dk_42 (dk_at dksX0_post_4 3 rfl rfl)
theorem dX0_post_96 : decode cX0_post 96 = .ok (.getfield 447, 3) := dk_180 1 191 (dk_at dksX0_post_4 4 rfl rfl)
theorem dX0_post_99 : decode cX0_post 99 = .ok (.goto 4, 3) := dk_167 0 4 (dk_at dksX0_post_4 7 rfl rfl)
theorem dX0_post_102 : decode cX0_post 102 = .ok (.iload_n 3, 1) := dk_29 (dk_at dksX0_post_4 10 rfl rfl)
theorem dX0_post_103 : decode cX0_post 103 = .ok (.ireturn, 1) := dk_172 (dk_at dksX0_post_4 11 rfl rfl)
abbrev cX0_at : ByteArray := prog_1_method_120_code
def yX0_at : MethodName := ⟨RX0, "at", "(II)I"⟩
def dkwX0_at_1 : List UInt8 := [182, 1, 210, 42, 180, 0, 100, 27, 46, 172]
abbrev dktX0_at_1 : List UInt8 := dkwX0_at_1 ++ []
def dkwX0_at_0 : List UInt8 := [42, 27, 182, 1, 207, 153, 0, 12, 28, 16, 100, 184, 0, 185, 154, 0, 6, 16, 254, 172, 42, 28, 3]
abbrev dktX0_at_0 : List UInt8 := dkwX0_at_0 ++ dktX0_at_1
theorem dksX0_at_0 : cX0_at.data.toList.drop 0 = dktX0_at_0 := by decide +kernel
theorem dksX0_at_1 : cX0_at.data.toList.drop 23 = dktX0_at_1 := dk_seg dksX0_at_0 23 rfl rfl
theorem dX0_at_0 : decode cX0_at 0 = .ok (.aload_n 0, 1) := dk_42 (dk_at dksX0_at_0 0 rfl rfl)
theorem dX0_at_1 : decode cX0_at 1 = .ok (.iload_n 1, 1) := dk_27 (dk_at dksX0_at_0 1 rfl rfl)
theorem dX0_at_2 : decode cX0_at 2 = .ok (.invokevirtual 463, 3) := dk_182 1 207 (dk_at dksX0_at_0 2 rfl rfl)
theorem dX0_at_5 : decode cX0_at 5 = .ok (.ifCond .eq 12, 3) := dk_153 0 12 (dk_at dksX0_at_0 5 rfl rfl)
theorem dX0_at_8 : decode cX0_at 8 = .ok (.iload_n 2, 1) := dk_28 (dk_at dksX0_at_0 8 rfl rfl)
theorem dX0_at_9 : decode cX0_at 9 = .ok (.bipush 100, 2) := dk_16 100 (dk_at dksX0_at_0 9 rfl rfl)
theorem dX0_at_11 : decode cX0_at 11 = .ok (.invokestatic 185, 3) := dk_184 0 185 (dk_at dksX0_at_0 11 rfl rfl)
theorem dX0_at_14 : decode cX0_at 14 = .ok (.ifCond .ne 6, 3) := dk_154 0 6 (dk_at dksX0_at_0 14 rfl rfl)
theorem dX0_at_17 : decode cX0_at 17 = .ok (.bipush (-2), 2) := dk_16 254 (dk_at dksX0_at_0 17 rfl rfl)
theorem dX0_at_19 : decode cX0_at 19 = .ok (.ireturn, 1) := dk_172 (dk_at dksX0_at_0 19 rfl rfl)
theorem dX0_at_20 : decode cX0_at 20 = .ok (.aload_n 0, 1) := dk_42 (dk_at dksX0_at_0 20 rfl rfl)
theorem dX0_at_21 : decode cX0_at 21 = .ok (.iload_n 2, 1) := dk_28 (dk_at dksX0_at_0 21 rfl rfl)
theorem dX0_at_22 : decode cX0_at 22 = .ok (.iconst 0, 1) := dk_3 (dk_at dksX0_at_0 22 rfl rfl)
theorem dX0_at_23 : decode cX0_at 23 = .ok (.invokevirtual 466, 3) := dk_182 1 210 (dk_at dksX0_at_1 0 rfl rfl)
theorem dX0_at_26 : decode cX0_at 26 = .ok (.aload_n 0, 1) := dk_42 (dk_at dksX0_at_1 3 rfl rfl)
theorem dX0_at_27 : decode cX0_at 27 = .ok (.getfield 100, 3) := dk_180 0 100 (dk_at dksX0_at_1 4 rfl rfl)
theorem dX0_at_30 : decode cX0_at 30 = .ok (.iload_n 1, 1) := dk_27 (dk_at dksX0_at_1 7 rfl rfl)
theorem dX0_at_31 : decode cX0_at 31 = .ok (.iaload, 1) := dk_46 (dk_at dksX0_at_1 8 rfl rfl)
theorem dX0_at_32 : decode cX0_at 32 = .ok (.ireturn, 1) := dk_172 (dk_at dksX0_at_1 9 rfl rfl)
abbrev cX0_clash : ByteArray := prog_1_method_121_code
def yX0_clash : MethodName := ⟨RX0, "clash", "()I"⟩
def dkwX0_clash_0 : List UInt8 := [42, 182, 0, 233, 154, 0, 6, 16, 254, 172, 42, 16, 32, 4, 182, 1, 210, 42, 180, 1, 194, 172]
abbrev dktX0_clash_0 : List UInt8 := dkwX0_clash_0 ++ []
theorem dksX0_clash_0 : cX0_clash.data.toList.drop 0 = dktX0_clash_0 := by decide +kernel
theorem dX0_clash_0 : decode cX0_clash 0 = .ok (.aload_n 0, 1) := dk_42 (dk_at dksX0_clash_0 0 rfl rfl)
theorem dX0_clash_1 : decode cX0_clash 1 = .ok (.invokevirtual 233, 3) := dk_182 0 233 (dk_at dksX0_clash_0 1 rfl rfl)
theorem dX0_clash_4 : decode cX0_clash 4 = .ok (.ifCond .ne 6, 3) := dk_154 0 6 (dk_at dksX0_clash_0 4 rfl rfl)
theorem dX0_clash_7 : decode cX0_clash 7 = .ok (.bipush (-2), 2) := dk_16 254 (dk_at dksX0_clash_0 7 rfl rfl)
theorem dX0_clash_9 : decode cX0_clash 9 = .ok (.ireturn, 1) := dk_172 (dk_at dksX0_clash_0 9 rfl rfl)
theorem dX0_clash_10 : decode cX0_clash 10 = .ok (.aload_n 0, 1) := dk_42 (dk_at dksX0_clash_0 10 rfl rfl)
theorem dX0_clash_11 : decode cX0_clash 11 = .ok (.bipush 32, 2) := dk_16 32 (dk_at dksX0_clash_0 11 rfl rfl)
theorem dX0_clash_13 : decode cX0_clash 13 = .ok (.iconst 1, 1) := dk_4 (dk_at dksX0_clash_0 13 rfl rfl)
theorem dX0_clash_14 : decode cX0_clash 14 = .ok (.invokevirtual 466, 3) := dk_182 1 210 (dk_at dksX0_clash_0 14 rfl rfl)
theorem dX0_clash_17 : decode cX0_clash 17 = .ok (.aload_n 0, 1) := dk_42 (dk_at dksX0_clash_0 17 rfl rfl)
theorem dX0_clash_18 : decode cX0_clash 18 = .ok (.getfield 450, 3) := dk_180 1 194 (dk_at dksX0_clash_0 18 rfl rfl)
theorem dX0_clash_21 : decode cX0_clash 21 = .ok (.ireturn, 1) := dk_172 (dk_at dksX0_clash_0 21 rfl rfl)
abbrev cX0_law : ByteArray := prog_1_method_122_code
def yX0_law : MethodName := ⟨RX0, "law", "(I)I"⟩
def dkwX0_law_4 : List UInt8 := [159, 0, 10, 16, 100, 28, 104, 29, 96, 172, 132, 3, 1, 167, 255, 215, 132, 2, 1, 167, 255, 172, 2, 172]
abbrev dktX0_law_4 : List UInt8 := dkwX0_law_4 ++ []
def dkwX0_law_3 : List UInt8 := [182, 0, 161, 162, 0, 36, 27, 154, 0, 32, 42, 28, 29, 182, 1, 26, 42, 180, 0, 10, 180, 0, 158]
abbrev dktX0_law_3 : List UInt8 := dkwX0_law_3 ++ dktX0_law_4
def dkwX0_law_2 : List UInt8 := [182, 0, 201, 42, 180, 0, 10, 180, 0, 158, 162, 0, 5, 28, 172, 28, 4, 96, 62, 29, 42, 180, 0, 10]
abbrev dktX0_law_2 : List UInt8 := dkwX0_law_2 ++ dktX0_law_3
def dkwX0_law_1 : List UInt8 := [182, 1, 214, 172, 3, 61, 28, 42, 180, 0, 10, 182, 0, 161, 162, 0, 79, 27, 4, 160, 0, 20, 42, 28]
abbrev dktX0_law_1 : List UInt8 := dkwX0_law_1 ++ dktX0_law_2
def dkwX0_law_0 : List UInt8 := [42, 182, 0, 233, 153, 0, 11, 27, 6, 184, 0, 185, 154, 0, 6, 16, 254, 172, 27, 5, 160, 0, 8, 42]
abbrev dktX0_law_0 : List UInt8 := dkwX0_law_0 ++ dktX0_law_1
theorem dksX0_law_0 : cX0_law.data.toList.drop 0 = dktX0_law_0 := by decide +kernel
theorem dksX0_law_1 : cX0_law.data.toList.drop 24 = dktX0_law_1 := dk_seg dksX0_law_0 24 rfl rfl
theorem dksX0_law_2 : cX0_law.data.toList.drop 48 = dktX0_law_2 := dk_seg dksX0_law_1 24 rfl rfl
theorem dksX0_law_3 : cX0_law.data.toList.drop 72 = dktX0_law_3 := dk_seg dksX0_law_2 24 rfl rfl
theorem dksX0_law_4 : cX0_law.data.toList.drop 95 = dktX0_law_4 := dk_seg dksX0_law_3 23 rfl rfl
theorem dX0_law_0 : decode cX0_law 0 = .ok (.aload_n 0, 1) := dk_42 (dk_at dksX0_law_0 0 rfl rfl)
theorem dX0_law_1 : decode cX0_law 1 = .ok (.invokevirtual 233, 3) := dk_182 0 233 (dk_at dksX0_law_0 1 rfl rfl)
theorem dX0_law_4 : decode cX0_law 4 = .ok (.ifCond .eq 11, 3) := dk_153 0 11 (dk_at dksX0_law_0 4 rfl rfl)
theorem dX0_law_7 : decode cX0_law 7 = .ok (.iload_n 1, 1) := dk_27 (dk_at dksX0_law_0 7 rfl rfl)
theorem dX0_law_8 : decode cX0_law 8 = .ok (.iconst 3, 1) := dk_6 (dk_at dksX0_law_0 8 rfl rfl)
theorem dX0_law_9 : decode cX0_law 9 = .ok (.invokestatic 185, 3) := dk_184 0 185 (dk_at dksX0_law_0 9 rfl rfl)
theorem dX0_law_12 : decode cX0_law 12 = .ok (.ifCond .ne 6, 3) := dk_154 0 6 (dk_at dksX0_law_0 12 rfl rfl)
theorem dX0_law_15 : decode cX0_law 15 = .ok (.bipush (-2), 2) := dk_16 254 (dk_at dksX0_law_0 15 rfl rfl)
theorem dX0_law_17 : decode cX0_law 17 = .ok (.ireturn, 1) := dk_172 (dk_at dksX0_law_0 17 rfl rfl)
theorem dX0_law_18 : decode cX0_law 18 = .ok (.iload_n 1, 1) := dk_27 (dk_at dksX0_law_0 18 rfl rfl)
theorem dX0_law_19 : decode cX0_law 19 = .ok (.iconst 2, 1) := dk_5 (dk_at dksX0_law_0 19 rfl rfl)
theorem dX0_law_20 : decode cX0_law 20 = .ok (.if_icmp .ne 8, 3) := dk_160 0 8 (dk_at dksX0_law_0 20 rfl rfl)
theorem dX0_law_23 : decode cX0_law 23 = .ok (.aload_n 0, 1) := dk_42 (dk_at dksX0_law_0 23 rfl rfl)
theorem dX0_law_24 : decode cX0_law 24 = .ok (.invokevirtual 470, 3) := dk_182 1 214 (dk_at dksX0_law_1 0 rfl rfl)
theorem dX0_law_27 : decode cX0_law 27 = .ok (.ireturn, 1) := dk_172 (dk_at dksX0_law_1 3 rfl rfl)
theorem dX0_law_28 : decode cX0_law 28 = .ok (.iconst 0, 1) := dk_3 (dk_at dksX0_law_1 4 rfl rfl)
theorem dX0_law_29 : decode cX0_law 29 = .ok (.istore_n 2, 1) := dk_61 (dk_at dksX0_law_1 5 rfl rfl)
theorem dX0_law_30 : decode cX0_law 30 = .ok (.iload_n 2, 1) := dk_28 (dk_at dksX0_law_1 6 rfl rfl)
theorem dX0_law_31 : decode cX0_law 31 = .ok (.aload_n 0, 1) := dk_42 (dk_at dksX0_law_1 7 rfl rfl)
theorem dX0_law_32 : decode cX0_law 32 = .ok (.getfield 10, 3) := dk_180 0 10 (dk_at dksX0_law_1 8 rfl rfl)
theorem dX0_law_35 : decode cX0_law 35 = .ok (.invokevirtual 161, 3) := dk_182 0 161 (dk_at dksX0_law_1 11 rfl rfl)
theorem dX0_law_38 : decode cX0_law 38 = .ok (.if_icmp .ge 79, 3) := dk_162 0 79 (dk_at dksX0_law_1 14 rfl rfl)
theorem dX0_law_41 : decode cX0_law 41 = .ok (.iload_n 1, 1) := dk_27 (dk_at dksX0_law_1 17 rfl rfl)
theorem dX0_law_42 : decode cX0_law 42 = .ok (.iconst 1, 1) := dk_4 (dk_at dksX0_law_1 18 rfl rfl)
theorem dX0_law_43 : decode cX0_law 43 = .ok (.if_icmp .ne 20, 3) := dk_160 0 20 (dk_at dksX0_law_1 19 rfl rfl)
theorem dX0_law_46 : decode cX0_law 46 = .ok (.aload_n 0, 1) := dk_42 (dk_at dksX0_law_1 22 rfl rfl)
theorem dX0_law_47 : decode cX0_law 47 = .ok (.iload_n 2, 1) := dk_28 (dk_at dksX0_law_1 23 rfl rfl)
theorem dX0_law_48 : decode cX0_law 48 = .ok (.invokevirtual 201, 3) := dk_182 0 201 (dk_at dksX0_law_2 0 rfl rfl)
theorem dX0_law_51 : decode cX0_law 51 = .ok (.aload_n 0, 1) := dk_42 (dk_at dksX0_law_2 3 rfl rfl)
theorem dX0_law_52 : decode cX0_law 52 = .ok (.getfield 10, 3) := dk_180 0 10 (dk_at dksX0_law_2 4 rfl rfl)
theorem dX0_law_55 : decode cX0_law 55 = .ok (.getfield 158, 3) := dk_180 0 158 (dk_at dksX0_law_2 7 rfl rfl)
theorem dX0_law_58 : decode cX0_law 58 = .ok (.if_icmp .ge 5, 3) := dk_162 0 5 (dk_at dksX0_law_2 10 rfl rfl)
theorem dX0_law_61 : decode cX0_law 61 = .ok (.iload_n 2, 1) := dk_28 (dk_at dksX0_law_2 13 rfl rfl)
theorem dX0_law_62 : decode cX0_law 62 = .ok (.ireturn, 1) := dk_172 (dk_at dksX0_law_2 14 rfl rfl)
theorem dX0_law_63 : decode cX0_law 63 = .ok (.iload_n 2, 1) := dk_28 (dk_at dksX0_law_2 15 rfl rfl)
theorem dX0_law_64 : decode cX0_law 64 = .ok (.iconst 1, 1) := dk_4 (dk_at dksX0_law_2 16 rfl rfl)
theorem dX0_law_65 : decode cX0_law 65 = .ok (.iadd, 1) := dk_96 (dk_at dksX0_law_2 17 rfl rfl)
theorem dX0_law_66 : decode cX0_law 66 = .ok (.istore_n 3, 1) := dk_62 (dk_at dksX0_law_2 18 rfl rfl)
theorem dX0_law_67 : decode cX0_law 67 = .ok (.iload_n 3, 1) := dk_29 (dk_at dksX0_law_2 19 rfl rfl)
theorem dX0_law_68 : decode cX0_law 68 = .ok (.aload_n 0, 1) := dk_42 (dk_at dksX0_law_2 20 rfl rfl)
theorem dX0_law_69 : decode cX0_law 69 = .ok (.getfield 10, 3) := dk_180 0 10 (dk_at dksX0_law_2 21 rfl rfl)
theorem dX0_law_72 : decode cX0_law 72 = .ok (.invokevirtual 161, 3) := dk_182 0 161 (dk_at dksX0_law_3 0 rfl rfl)
theorem dX0_law_75 : decode cX0_law 75 = .ok (.if_icmp .ge 36, 3) := dk_162 0 36 (dk_at dksX0_law_3 3 rfl rfl)
theorem dX0_law_78 : decode cX0_law 78 = .ok (.iload_n 1, 1) := dk_27 (dk_at dksX0_law_3 6 rfl rfl)
theorem dX0_law_79 : decode cX0_law 79 = .ok (.ifCond .ne 32, 3) := dk_154 0 32 (dk_at dksX0_law_3 7 rfl rfl)
theorem dX0_law_82 : decode cX0_law 82 = .ok (.aload_n 0, 1) := dk_42 (dk_at dksX0_law_3 10 rfl rfl)
theorem dX0_law_83 : decode cX0_law 83 = .ok (.iload_n 2, 1) := dk_28 (dk_at dksX0_law_3 11 rfl rfl)
theorem dX0_law_84 : decode cX0_law 84 = .ok (.iload_n 3, 1) := dk_29 (dk_at dksX0_law_3 12 rfl rfl)
theorem dX0_law_85 : decode cX0_law 85 = .ok (.invokevirtual 282, 3) := dk_182 1 26 (dk_at dksX0_law_3 13 rfl rfl)
theorem dX0_law_88 : decode cX0_law 88 = .ok (.aload_n 0, 1) := dk_42 (dk_at dksX0_law_3 16 rfl rfl)
theorem dX0_law_89 : decode cX0_law 89 = .ok (.getfield 10, 3) := dk_180 0 10 (dk_at dksX0_law_3 17 rfl rfl)
theorem dX0_law_92 : decode cX0_law 92 = .ok (.getfield 158, 3) := dk_180 0 158 (dk_at dksX0_law_3 20 rfl rfl)
theorem dX0_law_95 : decode cX0_law 95 = .ok (.if_icmp .eq 10, 3) := dk_159 0 10 (dk_at dksX0_law_4 0 rfl rfl)
theorem dX0_law_98 : decode cX0_law 98 = .ok (.bipush 100, 2) := dk_16 100 (dk_at dksX0_law_4 3 rfl rfl)
theorem dX0_law_100 : decode cX0_law 100 = .ok (.iload_n 2, 1) := dk_28 (dk_at dksX0_law_4 5 rfl rfl)
theorem dX0_law_101 : decode cX0_law 101 = .ok (.imul, 1) := dk_104 (dk_at dksX0_law_4 6 rfl rfl)
theorem dX0_law_102 : decode cX0_law 102 = .ok (.iload_n 3, 1) := dk_29 (dk_at dksX0_law_4 7 rfl rfl)
theorem dX0_law_103 : decode cX0_law 103 = .ok (.iadd, 1) := dk_96 (dk_at dksX0_law_4 8 rfl rfl)
theorem dX0_law_104 : decode cX0_law 104 = .ok (.ireturn, 1) := dk_172 (dk_at dksX0_law_4 9 rfl rfl)
theorem dX0_law_105 : decode cX0_law 105 = .ok (.iinc 3 1, 3) := dk_132 3 1 (dk_at dksX0_law_4 10 rfl rfl)
theorem dX0_law_108 : decode cX0_law 108 = .ok (.goto (-41), 3) := dk_167 255 215 (dk_at dksX0_law_4 13 rfl rfl)
theorem dX0_law_111 : decode cX0_law 111 = .ok (.iinc 2 1, 3) := dk_132 2 1 (dk_at dksX0_law_4 16 rfl rfl)
theorem dX0_law_114 : decode cX0_law 114 = .ok (.goto (-84), 3) := dk_167 255 172 (dk_at dksX0_law_4 19 rfl rfl)
theorem dX0_law_117 : decode cX0_law 117 = .ok (.iconst (-1), 1) := dk_2 (dk_at dksX0_law_4 22 rfl rfl)
theorem dX0_law_118 : decode cX0_law 118 = .ok (.ireturn, 1) := dk_172 (dk_at dksX0_law_4 23 rfl rfl)
abbrev cX0_lawOfWardens : ByteArray := prog_1_method_123_code
def yX0_lawOfWardens : MethodName := ⟨RX0, "lawOfWardens", "()I"⟩
def dkwX0_lawOfWardens_1 : List UInt8 := [182, 0, 161, 42, 180, 0, 10, 180, 0, 158, 4, 96, 108, 163, 0, 7, 2, 167, 0, 4, 3, 172]
abbrev dktX0_lawOfWardens_1 : List UInt8 := dkwX0_lawOfWardens_1 ++ []
def dkwX0_lawOfWardens_0 : List UInt8 := [42, 4, 182, 1, 126, 60, 27, 156, 0, 7, 27, 167, 0, 33, 42, 3, 182, 1, 129, 42, 180, 0, 10]
abbrev dktX0_lawOfWardens_0 : List UInt8 := dkwX0_lawOfWardens_0 ++ dktX0_lawOfWardens_1
theorem dksX0_lawOfWardens_0 : cX0_lawOfWardens.data.toList.drop 0 = dktX0_lawOfWardens_0 := by decide +kernel
theorem dksX0_lawOfWardens_1 : cX0_lawOfWardens.data.toList.drop 23 = dktX0_lawOfWardens_1 := dk_seg dksX0_lawOfWardens_0 23 rfl rfl
theorem dX0_lawOfWardens_0 : decode cX0_lawOfWardens 0 = .ok (.aload_n 0, 1) := dk_42 (dk_at dksX0_lawOfWardens_0 0 rfl rfl)
theorem dX0_lawOfWardens_1 : decode cX0_lawOfWardens 1 = .ok (.iconst 1, 1) := dk_4 (dk_at dksX0_lawOfWardens_0 1 rfl rfl)
theorem dX0_lawOfWardens_2 : decode cX0_lawOfWardens 2 = .ok (.invokevirtual 382, 3) := dk_182 1 126 (dk_at dksX0_lawOfWardens_0 2 rfl rfl)
theorem dX0_lawOfWardens_5 : decode cX0_lawOfWardens 5 = .ok (.istore_n 1, 1) := dk_60 (dk_at dksX0_lawOfWardens_0 5 rfl rfl)
theorem dX0_lawOfWardens_6 : decode cX0_lawOfWardens 6 = .ok (.iload_n 1, 1) := dk_27 (dk_at dksX0_lawOfWardens_0 6 rfl rfl)
theorem dX0_lawOfWardens_7 : decode cX0_lawOfWardens 7 = .ok (.ifCond .ge 7, 3) := dk_156 0 7 (dk_at dksX0_lawOfWardens_0 7 rfl rfl)
theorem dX0_lawOfWardens_10 : decode cX0_lawOfWardens 10 = .ok (.iload_n 1, 1) := dk_27 (dk_at dksX0_lawOfWardens_0 10 rfl rfl)
theorem dX0_lawOfWardens_11 : decode cX0_lawOfWardens 11 = .ok (.goto 33, 3) := dk_167 0 33 (dk_at dksX0_lawOfWardens_0 11 rfl rfl)
theorem dX0_lawOfWardens_14 : decode cX0_lawOfWardens 14 = .ok (.aload_n 0, 1) := dk_42 (dk_at dksX0_lawOfWardens_0 14 rfl rfl)
theorem dX0_lawOfWardens_15 : decode cX0_lawOfWardens 15 = .ok (.iconst 0, 1) := dk_3 (dk_at dksX0_lawOfWardens_0 15 rfl rfl)
theorem dX0_lawOfWardens_16 : decode cX0_lawOfWardens 16 = .ok (.invokevirtual 385, 3) := dk_182 1 129 (dk_at dksX0_lawOfWardens_0 16 rfl rfl)
theorem dX0_lawOfWardens_19 : decode cX0_lawOfWardens 19 = .ok (.aload_n 0, 1) := dk_42 (dk_at dksX0_lawOfWardens_0 19 rfl rfl)
theorem dX0_lawOfWardens_20 : decode cX0_lawOfWardens 20 = .ok (.getfield 10, 3) := dk_180 0 10 (dk_at dksX0_lawOfWardens_0 20 rfl rfl)
theorem dX0_lawOfWardens_23 : decode cX0_lawOfWardens 23 = .ok (.invokevirtual 161, 3) := dk_182 0 161 (dk_at dksX0_lawOfWardens_1 0 rfl rfl)
theorem dX0_lawOfWardens_26 : decode cX0_lawOfWardens 26 = .ok (.aload_n 0, 1) := dk_42 (dk_at dksX0_lawOfWardens_1 3 rfl rfl)
theorem dX0_lawOfWardens_27 : decode cX0_lawOfWardens 27 = .ok (.getfield 10, 3) := dk_180 0 10 (dk_at dksX0_lawOfWardens_1 4 rfl rfl)
theorem dX0_lawOfWardens_30 : decode cX0_lawOfWardens 30 = .ok (.getfield 158, 3) := dk_180 0 158 (dk_at dksX0_lawOfWardens_1 7 rfl rfl)
theorem dX0_lawOfWardens_33 : decode cX0_lawOfWardens 33 = .ok (.iconst 1, 1) := dk_4 (dk_at dksX0_lawOfWardens_1 10 rfl rfl)
theorem dX0_lawOfWardens_34 : decode cX0_lawOfWardens 34 = .ok (.iadd, 1) := dk_96 (dk_at dksX0_lawOfWardens_1 11 rfl rfl)
theorem dX0_lawOfWardens_35 : decode cX0_lawOfWardens 35 = .ok (.idiv, 1) := dk_108 (dk_at dksX0_lawOfWardens_1 12 rfl rfl)
theorem dX0_lawOfWardens_36 : decode cX0_lawOfWardens 36 = .ok (.if_icmp .gt 7, 3) := dk_163 0 7 (dk_at dksX0_lawOfWardens_1 13 rfl rfl)
theorem dX0_lawOfWardens_39 : decode cX0_lawOfWardens 39 = .ok (.iconst (-1), 1) := dk_2 (dk_at dksX0_lawOfWardens_1 16 rfl rfl)
theorem dX0_lawOfWardens_40 : decode cX0_lawOfWardens 40 = .ok (.goto 4, 3) := dk_167 0 4 (dk_at dksX0_lawOfWardens_1 17 rfl rfl)
theorem dX0_lawOfWardens_43 : decode cX0_lawOfWardens 43 = .ok (.iconst 0, 1) := dk_3 (dk_at dksX0_lawOfWardens_1 20 rfl rfl)
theorem dX0_lawOfWardens_44 : decode cX0_lawOfWardens 44 = .ok (.ireturn, 1) := dk_172 (dk_at dksX0_lawOfWardens_1 21 rfl rfl)
abbrev cX0_flood : ByteArray := prog_1_method_126_code
def yX0_flood : MethodName := ⟨RX0, "flood", "(III)I"⟩
def dkwX0_flood_1 : List UInt8 := [167, 0, 5, 16, 254, 172]
abbrev dktX0_flood_1 : List UInt8 := dkwX0_flood_1 ++ []
def dkwX0_flood_0 : List UInt8 := [27, 184, 1, 229, 153, 0, 23, 42, 28, 29, 182, 1, 20, 153, 0, 14, 42, 27, 133, 28, 29, 182, 1, 232]
abbrev dktX0_flood_0 : List UInt8 := dkwX0_flood_0 ++ dktX0_flood_1
theorem dksX0_flood_0 : cX0_flood.data.toList.drop 0 = dktX0_flood_0 := by decide +kernel
theorem dksX0_flood_1 : cX0_flood.data.toList.drop 24 = dktX0_flood_1 := dk_seg dksX0_flood_0 24 rfl rfl
theorem dX0_flood_0 : decode cX0_flood 0 = .ok (.iload_n 1, 1) := dk_27 (dk_at dksX0_flood_0 0 rfl rfl)
theorem dX0_flood_1 : decode cX0_flood 1 = .ok (.invokestatic 485, 3) := dk_184 1 229 (dk_at dksX0_flood_0 1 rfl rfl)
theorem dX0_flood_4 : decode cX0_flood 4 = .ok (.ifCond .eq 23, 3) := dk_153 0 23 (dk_at dksX0_flood_0 4 rfl rfl)
theorem dX0_flood_7 : decode cX0_flood 7 = .ok (.aload_n 0, 1) := dk_42 (dk_at dksX0_flood_0 7 rfl rfl)
theorem dX0_flood_8 : decode cX0_flood 8 = .ok (.iload_n 2, 1) := dk_28 (dk_at dksX0_flood_0 8 rfl rfl)
theorem dX0_flood_9 : decode cX0_flood 9 = .ok (.iload_n 3, 1) := dk_29 (dk_at dksX0_flood_0 9 rfl rfl)
theorem dX0_flood_10 : decode cX0_flood 10 = .ok (.invokevirtual 276, 3) := dk_182 1 20 (dk_at dksX0_flood_0 10 rfl rfl)
theorem dX0_flood_13 : decode cX0_flood 13 = .ok (.ifCond .eq 14, 3) := dk_153 0 14 (dk_at dksX0_flood_0 13 rfl rfl)
theorem dX0_flood_16 : decode cX0_flood 16 = .ok (.aload_n 0, 1) := dk_42 (dk_at dksX0_flood_0 16 rfl rfl)
theorem dX0_flood_17 : decode cX0_flood 17 = .ok (.iload_n 1, 1) := dk_27 (dk_at dksX0_flood_0 17 rfl rfl)
theorem dX0_flood_18 : decode cX0_flood 18 = .ok (.i2l, 1) := dk_133 (dk_at dksX0_flood_0 18 rfl rfl)
theorem dX0_flood_19 : decode cX0_flood 19 = .ok (.iload_n 2, 1) := dk_28 (dk_at dksX0_flood_0 19 rfl rfl)
theorem dX0_flood_20 : decode cX0_flood 20 = .ok (.iload_n 3, 1) := dk_29 (dk_at dksX0_flood_0 20 rfl rfl)
theorem dX0_flood_21 : decode cX0_flood 21 = .ok (.invokevirtual 488, 3) := dk_182 1 232 (dk_at dksX0_flood_0 21 rfl rfl)
theorem dX0_flood_24 : decode cX0_flood 24 = .ok (.goto 5, 3) := dk_167 0 5 (dk_at dksX0_flood_1 0 rfl rfl)
theorem dX0_flood_27 : decode cX0_flood 27 = .ok (.bipush (-2), 2) := dk_16 254 (dk_at dksX0_flood_1 3 rfl rfl)
theorem dX0_flood_29 : decode cX0_flood 29 = .ok (.ireturn, 1) := dk_172 (dk_at dksX0_flood_1 5 rfl rfl)
abbrev cX0_isSeed : ByteArray := prog_1_method_13_code
def yX0_isSeed : MethodName := ⟨RX0, "isSeed", "(I)Z"⟩
def dkwX0_isSeed_0 : List UInt8 := [26, 133, 9, 20, 0, 165, 184, 0, 133, 172]
abbrev dktX0_isSeed_0 : List UInt8 := dkwX0_isSeed_0 ++ []
theorem dksX0_isSeed_0 : cX0_isSeed.data.toList.drop 0 = dktX0_isSeed_0 := by decide +kernel
theorem dX0_isSeed_0 : decode cX0_isSeed 0 = .ok (.iload_n 0, 1) := dk_26 (dk_at dksX0_isSeed_0 0 rfl rfl)
theorem dX0_isSeed_1 : decode cX0_isSeed 1 = .ok (.i2l, 1) := dk_133 (dk_at dksX0_isSeed_0 1 rfl rfl)
theorem dX0_isSeed_2 : decode cX0_isSeed 2 = .ok (.lconst 0, 1) := dk_9 (dk_at dksX0_isSeed_0 2 rfl rfl)
theorem dX0_isSeed_3 : decode cX0_isSeed 3 = .ok (.ldc2_w 165, 3) := dk_20 0 165 (dk_at dksX0_isSeed_0 3 rfl rfl)
theorem dX0_isSeed_6 : decode cX0_isSeed 6 = .ok (.invokestatic 133, 3) := dk_184 0 133 (dk_at dksX0_isSeed_0 6 rfl rfl)
theorem dX0_isSeed_9 : decode cX0_isSeed 9 = .ok (.ireturn, 1) := dk_172 (dk_at dksX0_isSeed_0 9 rfl rfl)
abbrev cX0_daysOf : ByteArray := prog_1_method_125_code
def yX0_daysOf : MethodName := ⟨RX0, "daysOf", "(JII)I"⟩
def dkwX0_daysOf_3 : List UInt8 := [54, 5, 21, 5, 21, 4, 160, 0, 8, 21, 6, 4, 96, 172, 132, 6, 1, 167, 255, 204, 2, 172]
abbrev dktX0_daysOf_3 : List UInt8 := dkwX0_daysOf_3 ++ []
def dkwX0_daysOf_2 : List UInt8 := [180, 0, 112, 21, 6, 46, 182, 0, 220, 54, 7, 21, 7, 2, 160, 0, 8, 21, 5, 167, 0, 5, 21, 7]
abbrev dktX0_daysOf_2 : List UInt8 := dkwX0_daysOf_2 ++ dktX0_daysOf_3
def dkwX0_daysOf_1 : List UInt8 := [160, 0, 5, 2, 172, 29, 54, 5, 3, 54, 6, 21, 6, 16, 60, 162, 0, 51, 42, 21, 5, 42]
abbrev dktX0_daysOf_1 : List UInt8 := dkwX0_daysOf_1 ++ dktX0_daysOf_2
def dkwX0_daysOf_0 : List UInt8 := [42, 31, 182, 1, 225, 42, 180, 0, 29, 21, 4, 182, 0, 207, 42, 180, 0, 29, 180, 0, 210, 29, 46, 2]
abbrev dktX0_daysOf_0 : List UInt8 := dkwX0_daysOf_0 ++ dktX0_daysOf_1
theorem dksX0_daysOf_0 : cX0_daysOf.data.toList.drop 0 = dktX0_daysOf_0 := by decide +kernel
theorem dksX0_daysOf_1 : cX0_daysOf.data.toList.drop 24 = dktX0_daysOf_1 := dk_seg dksX0_daysOf_0 24 rfl rfl
theorem dksX0_daysOf_2 : cX0_daysOf.data.toList.drop 46 = dktX0_daysOf_2 := dk_seg dksX0_daysOf_1 22 rfl rfl
theorem dksX0_daysOf_3 : cX0_daysOf.data.toList.drop 70 = dktX0_daysOf_3 := dk_seg dksX0_daysOf_2 24 rfl rfl
theorem dX0_daysOf_0 : decode cX0_daysOf 0 = .ok (.aload_n 0, 1) := dk_42 (dk_at dksX0_daysOf_0 0 rfl rfl)
theorem dX0_daysOf_1 : decode cX0_daysOf 1 = .ok (.lload_n 1, 1) := dk_31 (dk_at dksX0_daysOf_0 1 rfl rfl)
theorem dX0_daysOf_2 : decode cX0_daysOf 2 = .ok (.invokevirtual 481, 3) := dk_182 1 225 (dk_at dksX0_daysOf_0 2 rfl rfl)
theorem dX0_daysOf_5 : decode cX0_daysOf 5 = .ok (.aload_n 0, 1) := dk_42 (dk_at dksX0_daysOf_0 5 rfl rfl)
theorem dX0_daysOf_6 : decode cX0_daysOf 6 = .ok (.getfield 29, 3) := dk_180 0 29 (dk_at dksX0_daysOf_0 6 rfl rfl)
theorem dX0_daysOf_9 : decode cX0_daysOf 9 = .ok (.iload 4, 2) := dk_21 4 (dk_at dksX0_daysOf_0 9 rfl rfl)
theorem dX0_daysOf_11 : decode cX0_daysOf 11 = .ok (.invokevirtual 207, 3) := dk_182 0 207 (dk_at dksX0_daysOf_0 11 rfl rfl)
theorem dX0_daysOf_14 : decode cX0_daysOf 14 = .ok (.aload_n 0, 1) := dk_42 (dk_at dksX0_daysOf_0 14 rfl rfl)
theorem dX0_daysOf_15 : decode cX0_daysOf 15 = .ok (.getfield 29, 3) := dk_180 0 29 (dk_at dksX0_daysOf_0 15 rfl rfl)
theorem dX0_daysOf_18 : decode cX0_daysOf 18 = .ok (.getfield 210, 3) := dk_180 0 210 (dk_at dksX0_daysOf_0 18 rfl rfl)
theorem dX0_daysOf_21 : decode cX0_daysOf 21 = .ok (.iload_n 3, 1) := dk_29 (dk_at dksX0_daysOf_0 21 rfl rfl)
theorem dX0_daysOf_22 : decode cX0_daysOf 22 = .ok (.iaload, 1) := dk_46 (dk_at dksX0_daysOf_0 22 rfl rfl)
theorem dX0_daysOf_23 : decode cX0_daysOf 23 = .ok (.iconst (-1), 1) := dk_2 (dk_at dksX0_daysOf_0 23 rfl rfl)
theorem dX0_daysOf_24 : decode cX0_daysOf 24 = .ok (.if_icmp .ne 5, 3) := dk_160 0 5 (dk_at dksX0_daysOf_1 0 rfl rfl)
theorem dX0_daysOf_27 : decode cX0_daysOf 27 = .ok (.iconst (-1), 1) := dk_2 (dk_at dksX0_daysOf_1 3 rfl rfl)
theorem dX0_daysOf_28 : decode cX0_daysOf 28 = .ok (.ireturn, 1) := dk_172 (dk_at dksX0_daysOf_1 4 rfl rfl)
theorem dX0_daysOf_29 : decode cX0_daysOf 29 = .ok (.iload_n 3, 1) := dk_29 (dk_at dksX0_daysOf_1 5 rfl rfl)
theorem dX0_daysOf_30 : decode cX0_daysOf 30 = .ok (.istore 5, 2) := dk_54 5 (dk_at dksX0_daysOf_1 6 rfl rfl)
theorem dX0_daysOf_32 : decode cX0_daysOf 32 = .ok (.iconst 0, 1) := dk_3 (dk_at dksX0_daysOf_1 8 rfl rfl)
theorem dX0_daysOf_33 : decode cX0_daysOf 33 = .ok (.istore 6, 2) := dk_54 6 (dk_at dksX0_daysOf_1 9 rfl rfl)
theorem dX0_daysOf_35 : decode cX0_daysOf 35 = .ok (.iload 6, 2) := dk_21 6 (dk_at dksX0_daysOf_1 11 rfl rfl)
theorem dX0_daysOf_37 : decode cX0_daysOf 37 = .ok (.bipush 60, 2) := dk_16 60 (dk_at dksX0_daysOf_1 13 rfl rfl)
theorem dX0_daysOf_39 : decode cX0_daysOf 39 = .ok (.if_icmp .ge 51, 3) := dk_162 0 51 (dk_at dksX0_daysOf_1 15 rfl rfl)
theorem dX0_daysOf_42 : decode cX0_daysOf 42 = .ok (.aload_n 0, 1) := dk_42 (dk_at dksX0_daysOf_1 18 rfl rfl)
theorem dX0_daysOf_43 : decode cX0_daysOf 43 = .ok (.iload 5, 2) := dk_21 5 (dk_at dksX0_daysOf_1 19 rfl rfl)
theorem dX0_daysOf_45 : decode cX0_daysOf 45 = .ok (.aload_n 0, 1) := dk_42 (dk_at dksX0_daysOf_1 21 rfl rfl)
theorem dX0_daysOf_46 : decode cX0_daysOf 46 = .ok (.getfield 112, 3) := dk_180 0 112 (dk_at dksX0_daysOf_2 0 rfl rfl)
theorem dX0_daysOf_49 : decode cX0_daysOf 49 = .ok (.iload 6, 2) := dk_21 6 (dk_at dksX0_daysOf_2 3 rfl rfl)
theorem dX0_daysOf_51 : decode cX0_daysOf 51 = .ok (.iaload, 1) := dk_46 (dk_at dksX0_daysOf_2 5 rfl rfl)
theorem dX0_daysOf_52 : decode cX0_daysOf 52 = .ok (.invokevirtual 220, 3) := dk_182 0 220 (dk_at dksX0_daysOf_2 6 rfl rfl)
theorem dX0_daysOf_55 : decode cX0_daysOf 55 = .ok (.istore 7, 2) := dk_54 7 (dk_at dksX0_daysOf_2 9 rfl rfl)
theorem dX0_daysOf_57 : decode cX0_daysOf 57 = .ok (.iload 7, 2) := dk_21 7 (dk_at dksX0_daysOf_2 11 rfl rfl)
theorem dX0_daysOf_59 : decode cX0_daysOf 59 = .ok (.iconst (-1), 1) := dk_2 (dk_at dksX0_daysOf_2 13 rfl rfl)
theorem dX0_daysOf_60 : decode cX0_daysOf 60 = .ok (.if_icmp .ne 8, 3) := dk_160 0 8 (dk_at dksX0_daysOf_2 14 rfl rfl)
theorem dX0_daysOf_63 : decode cX0_daysOf 63 = .ok (.iload 5, 2) := dk_21 5 (dk_at dksX0_daysOf_2 17 rfl rfl)
theorem dX0_daysOf_65 : decode cX0_daysOf 65 = .ok (.goto 5, 3) := dk_167 0 5 (dk_at dksX0_daysOf_2 19 rfl rfl)
theorem dX0_daysOf_68 : decode cX0_daysOf 68 = .ok (.iload 7, 2) := dk_21 7 (dk_at dksX0_daysOf_2 22 rfl rfl)
theorem dX0_daysOf_70 : decode cX0_daysOf 70 = .ok (.istore 5, 2) := dk_54 5 (dk_at dksX0_daysOf_3 0 rfl rfl)
theorem dX0_daysOf_72 : decode cX0_daysOf 72 = .ok (.iload 5, 2) := dk_21 5 (dk_at dksX0_daysOf_3 2 rfl rfl)
theorem dX0_daysOf_74 : decode cX0_daysOf 74 = .ok (.iload 4, 2) := dk_21 4 (dk_at dksX0_daysOf_3 4 rfl rfl)
theorem dX0_daysOf_76 : decode cX0_daysOf 76 = .ok (.if_icmp .ne 8, 3) := dk_160 0 8 (dk_at dksX0_daysOf_3 6 rfl rfl)
theorem dX0_daysOf_79 : decode cX0_daysOf 79 = .ok (.iload 6, 2) := dk_21 6 (dk_at dksX0_daysOf_3 9 rfl rfl)
theorem dX0_daysOf_81 : decode cX0_daysOf 81 = .ok (.iconst 1, 1) := dk_4 (dk_at dksX0_daysOf_3 11 rfl rfl)
theorem dX0_daysOf_82 : decode cX0_daysOf 82 = .ok (.iadd, 1) := dk_96 (dk_at dksX0_daysOf_3 12 rfl rfl)
theorem dX0_daysOf_83 : decode cX0_daysOf 83 = .ok (.ireturn, 1) := dk_172 (dk_at dksX0_daysOf_3 13 rfl rfl)
theorem dX0_daysOf_84 : decode cX0_daysOf 84 = .ok (.iinc 6 1, 3) := dk_132 6 1 (dk_at dksX0_daysOf_3 14 rfl rfl)
theorem dX0_daysOf_87 : decode cX0_daysOf 87 = .ok (.goto (-52), 3) := dk_167 255 204 (dk_at dksX0_daysOf_3 17 rfl rfl)
theorem dX0_daysOf_90 : decode cX0_daysOf 90 = .ok (.iconst (-1), 1) := dk_2 (dk_at dksX0_daysOf_3 20 rfl rfl)
theorem dX0_daysOf_91 : decode cX0_daysOf 91 = .ok (.ireturn, 1) := dk_172 (dk_at dksX0_daysOf_3 21 rfl rfl)
abbrev cX0_draws : ByteArray := prog_1_method_124_code
def yX0_draws : MethodName := ⟨RX0, "draws", "(J)V"⟩
def dkwX0_draws_2 : List UInt8 := [132, 5, 1, 167, 255, 210, 177]
abbrev dktX0_draws_2 : List UInt8 := dkwX0_draws_2 ++ []
def dkwX0_draws_1 : List UInt8 := [113, 66, 42, 180, 0, 112, 21, 5, 33, 20, 1, 223, 109, 42, 180, 0, 10, 180, 0, 158, 133, 113, 136, 79]
abbrev dktX0_draws_1 : List UInt8 := dkwX0_draws_1 ++ dktX0_draws_2
def dkwX0_draws_0 : List UInt8 := [31, 66, 3, 54, 5, 21, 5, 16, 60, 162, 0, 45, 20, 1, 217, 33, 105, 20, 1, 219, 97, 20, 1, 221]
abbrev dktX0_draws_0 : List UInt8 := dkwX0_draws_0 ++ dktX0_draws_1
theorem dksX0_draws_0 : cX0_draws.data.toList.drop 0 = dktX0_draws_0 := by decide +kernel
theorem dksX0_draws_1 : cX0_draws.data.toList.drop 24 = dktX0_draws_1 := dk_seg dksX0_draws_0 24 rfl rfl
theorem dksX0_draws_2 : cX0_draws.data.toList.drop 48 = dktX0_draws_2 := dk_seg dksX0_draws_1 24 rfl rfl
theorem dX0_draws_0 : decode cX0_draws 0 = .ok (.lload_n 1, 1) := dk_31 (dk_at dksX0_draws_0 0 rfl rfl)
theorem dX0_draws_1 : decode cX0_draws 1 = .ok (.lstore_n 3, 1) := dk_66 (dk_at dksX0_draws_0 1 rfl rfl)
theorem dX0_draws_2 : decode cX0_draws 2 = .ok (.iconst 0, 1) := dk_3 (dk_at dksX0_draws_0 2 rfl rfl)
theorem dX0_draws_3 : decode cX0_draws 3 = .ok (.istore 5, 2) := dk_54 5 (dk_at dksX0_draws_0 3 rfl rfl)
theorem dX0_draws_5 : decode cX0_draws 5 = .ok (.iload 5, 2) := dk_21 5 (dk_at dksX0_draws_0 5 rfl rfl)
theorem dX0_draws_7 : decode cX0_draws 7 = .ok (.bipush 60, 2) := dk_16 60 (dk_at dksX0_draws_0 7 rfl rfl)
theorem dX0_draws_9 : decode cX0_draws 9 = .ok (.if_icmp .ge 45, 3) := dk_162 0 45 (dk_at dksX0_draws_0 9 rfl rfl)
theorem dX0_draws_12 : decode cX0_draws 12 = .ok (.ldc2_w 473, 3) := dk_20 1 217 (dk_at dksX0_draws_0 12 rfl rfl)
theorem dX0_draws_15 : decode cX0_draws 15 = .ok (.lload_n 3, 1) := dk_33 (dk_at dksX0_draws_0 15 rfl rfl)
theorem dX0_draws_16 : decode cX0_draws 16 = .ok (.lmul, 1) := dk_105 (dk_at dksX0_draws_0 16 rfl rfl)
theorem dX0_draws_17 : decode cX0_draws 17 = .ok (.ldc2_w 475, 3) := dk_20 1 219 (dk_at dksX0_draws_0 17 rfl rfl)
theorem dX0_draws_20 : decode cX0_draws 20 = .ok (.ladd, 1) := dk_97 (dk_at dksX0_draws_0 20 rfl rfl)
theorem dX0_draws_21 : decode cX0_draws 21 = .ok (.ldc2_w 477, 3) := dk_20 1 221 (dk_at dksX0_draws_0 21 rfl rfl)
theorem dX0_draws_24 : decode cX0_draws 24 = .ok (.lrem, 1) := dk_113 (dk_at dksX0_draws_1 0 rfl rfl)
theorem dX0_draws_25 : decode cX0_draws 25 = .ok (.lstore_n 3, 1) := dk_66 (dk_at dksX0_draws_1 1 rfl rfl)
theorem dX0_draws_26 : decode cX0_draws 26 = .ok (.aload_n 0, 1) := dk_42 (dk_at dksX0_draws_1 2 rfl rfl)
theorem dX0_draws_27 : decode cX0_draws 27 = .ok (.getfield 112, 3) := dk_180 0 112 (dk_at dksX0_draws_1 3 rfl rfl)
theorem dX0_draws_30 : decode cX0_draws 30 = .ok (.iload 5, 2) := dk_21 5 (dk_at dksX0_draws_1 6 rfl rfl)
theorem dX0_draws_32 : decode cX0_draws 32 = .ok (.lload_n 3, 1) := dk_33 (dk_at dksX0_draws_1 8 rfl rfl)
theorem dX0_draws_33 : decode cX0_draws 33 = .ok (.ldc2_w 479, 3) := dk_20 1 223 (dk_at dksX0_draws_1 9 rfl rfl)
theorem dX0_draws_36 : decode cX0_draws 36 = .ok (.ldiv, 1) := dk_109 (dk_at dksX0_draws_1 12 rfl rfl)
theorem dX0_draws_37 : decode cX0_draws 37 = .ok (.aload_n 0, 1) := dk_42 (dk_at dksX0_draws_1 13 rfl rfl)
theorem dX0_draws_38 : decode cX0_draws 38 = .ok (.getfield 10, 3) := dk_180 0 10 (dk_at dksX0_draws_1 14 rfl rfl)
theorem dX0_draws_41 : decode cX0_draws 41 = .ok (.getfield 158, 3) := dk_180 0 158 (dk_at dksX0_draws_1 17 rfl rfl)
theorem dX0_draws_44 : decode cX0_draws 44 = .ok (.i2l, 1) := dk_133 (dk_at dksX0_draws_1 20 rfl rfl)
theorem dX0_draws_45 : decode cX0_draws 45 = .ok (.lrem, 1) := dk_113 (dk_at dksX0_draws_1 21 rfl rfl)
theorem dX0_draws_46 : decode cX0_draws 46 = .ok (.l2i, 1) := dk_136 (dk_at dksX0_draws_1 22 rfl rfl)
theorem dX0_draws_47 : decode cX0_draws 47 = .ok (.iastore, 1) := dk_79 (dk_at dksX0_draws_1 23 rfl rfl)
theorem dX0_draws_48 : decode cX0_draws 48 = .ok (.iinc 5 1, 3) := dk_132 5 1 (dk_at dksX0_draws_2 0 rfl rfl)
theorem dX0_draws_51 : decode cX0_draws 51 = .ok (.goto (-46), 3) := dk_167 255 210 (dk_at dksX0_draws_2 3 rfl rfl)
theorem dX0_draws_54 : decode cX0_draws 54 = .ok (.return_, 1) := dk_177 (dk_at dksX0_draws_2 6 rfl rfl)
abbrev cX0_day : ByteArray := prog_1_method_127_code
def yX0_day : MethodName := ⟨RX0, "day", "(II)I"⟩
def dkwX0_day_1 : List UInt8 := [16, 254, 172, 42, 27, 133, 182, 1, 225, 42, 180, 0, 112, 28, 46, 172]
abbrev dktX0_day_1 : List UInt8 := dkwX0_day_1 ++ []
def dkwX0_day_0 : List UInt8 := [42, 182, 0, 233, 153, 0, 19, 27, 184, 1, 229, 153, 0, 12, 28, 16, 60, 184, 0, 185, 154, 0, 6]
abbrev dktX0_day_0 : List UInt8 := dkwX0_day_0 ++ dktX0_day_1
theorem dksX0_day_0 : cX0_day.data.toList.drop 0 = dktX0_day_0 := by decide +kernel
theorem dksX0_day_1 : cX0_day.data.toList.drop 23 = dktX0_day_1 := dk_seg dksX0_day_0 23 rfl rfl
theorem dX0_day_0 : decode cX0_day 0 = .ok (.aload_n 0, 1) := dk_42 (dk_at dksX0_day_0 0 rfl rfl)
theorem dX0_day_1 : decode cX0_day 1 = .ok (.invokevirtual 233, 3) := dk_182 0 233 (dk_at dksX0_day_0 1 rfl rfl)
theorem dX0_day_4 : decode cX0_day 4 = .ok (.ifCond .eq 19, 3) := dk_153 0 19 (dk_at dksX0_day_0 4 rfl rfl)
theorem dX0_day_7 : decode cX0_day 7 = .ok (.iload_n 1, 1) := dk_27 (dk_at dksX0_day_0 7 rfl rfl)
theorem dX0_day_8 : decode cX0_day 8 = .ok (.invokestatic 485, 3) := dk_184 1 229 (dk_at dksX0_day_0 8 rfl rfl)
theorem dX0_day_11 : decode cX0_day 11 = .ok (.ifCond .eq 12, 3) := dk_153 0 12 (dk_at dksX0_day_0 11 rfl rfl)
theorem dX0_day_14 : decode cX0_day 14 = .ok (.iload_n 2, 1) := dk_28 (dk_at dksX0_day_0 14 rfl rfl)
theorem dX0_day_15 : decode cX0_day 15 = .ok (.bipush 60, 2) := dk_16 60 (dk_at dksX0_day_0 15 rfl rfl)
theorem dX0_day_17 : decode cX0_day 17 = .ok (.invokestatic 185, 3) := dk_184 0 185 (dk_at dksX0_day_0 17 rfl rfl)
theorem dX0_day_20 : decode cX0_day 20 = .ok (.ifCond .ne 6, 3) := dk_154 0 6 (dk_at dksX0_day_0 20 rfl rfl)
theorem dX0_day_23 : decode cX0_day 23 = .ok (.bipush (-2), 2) := dk_16 254 (dk_at dksX0_day_1 0 rfl rfl)
theorem dX0_day_25 : decode cX0_day 25 = .ok (.ireturn, 1) := dk_172 (dk_at dksX0_day_1 2 rfl rfl)
theorem dX0_day_26 : decode cX0_day 26 = .ok (.aload_n 0, 1) := dk_42 (dk_at dksX0_day_1 3 rfl rfl)
theorem dX0_day_27 : decode cX0_day 27 = .ok (.iload_n 1, 1) := dk_27 (dk_at dksX0_day_1 4 rfl rfl)
theorem dX0_day_28 : decode cX0_day 28 = .ok (.i2l, 1) := dk_133 (dk_at dksX0_day_1 5 rfl rfl)
theorem dX0_day_29 : decode cX0_day 29 = .ok (.invokevirtual 481, 3) := dk_182 1 225 (dk_at dksX0_day_1 6 rfl rfl)
theorem dX0_day_32 : decode cX0_day 32 = .ok (.aload_n 0, 1) := dk_42 (dk_at dksX0_day_1 9 rfl rfl)
theorem dX0_day_33 : decode cX0_day 33 = .ok (.getfield 112, 3) := dk_180 0 112 (dk_at dksX0_day_1 10 rfl rfl)
theorem dX0_day_36 : decode cX0_day 36 = .ok (.iload_n 2, 1) := dk_28 (dk_at dksX0_day_1 13 rfl rfl)
theorem dX0_day_37 : decode cX0_day 37 = .ok (.iaload, 1) := dk_46 (dk_at dksX0_day_1 14 rfl rfl)
theorem dX0_day_38 : decode cX0_day 38 = .ok (.ireturn, 1) := dk_172 (dk_at dksX0_day_1 15 rfl rfl)
abbrev cX0_chance : ByteArray := prog_1_method_128_code
def yX0_chance : MethodName := ⟨RX0, "chance", "(IIIII)I"⟩
def dkwX0_chance_4 : List UInt8 := [132, 7, 1, 167, 255, 213, 21, 6, 172]
abbrev dktX0_chance_4 : List UInt8 := dkwX0_chance_4 ++ []
def dkwX0_chance_3 : List UInt8 := [182, 1, 232, 133, 10, 21, 5, 133, 184, 0, 133, 153, 0, 7, 4, 167, 0, 4, 3, 96, 54, 6]
abbrev dktX0_chance_3 : List UInt8 := dkwX0_chance_3 ++ dktX0_chance_4
def dkwX0_chance_2 : List UInt8 := [54, 6, 3, 54, 7, 21, 7, 28, 162, 0, 43, 21, 6, 42, 27, 133, 21, 7, 133, 97, 29, 21, 4]
abbrev dktX0_chance_2 : List UInt8 := dkwX0_chance_2 ++ dktX0_chance_3
def dkwX0_chance_1 : List UInt8 := [182, 1, 20, 153, 0, 16, 21, 5, 133, 10, 20, 1, 238, 184, 0, 133, 154, 0, 6, 16, 254, 172, 3]
abbrev dktX0_chance_1 : List UInt8 := dkwX0_chance_1 ++ dktX0_chance_2
def dkwX0_chance_0 : List UInt8 := [27, 184, 1, 229, 153, 0, 38, 28, 133, 10, 20, 1, 236, 184, 0, 133, 153, 0, 26, 42, 29, 21, 4]
abbrev dktX0_chance_0 : List UInt8 := dkwX0_chance_0 ++ dktX0_chance_1
theorem dksX0_chance_0 : cX0_chance.data.toList.drop 0 = dktX0_chance_0 := by decide +kernel
theorem dksX0_chance_1 : cX0_chance.data.toList.drop 23 = dktX0_chance_1 := dk_seg dksX0_chance_0 23 rfl rfl
theorem dksX0_chance_2 : cX0_chance.data.toList.drop 46 = dktX0_chance_2 := dk_seg dksX0_chance_1 23 rfl rfl
theorem dksX0_chance_3 : cX0_chance.data.toList.drop 69 = dktX0_chance_3 := dk_seg dksX0_chance_2 23 rfl rfl
theorem dksX0_chance_4 : cX0_chance.data.toList.drop 91 = dktX0_chance_4 := dk_seg dksX0_chance_3 22 rfl rfl
theorem dX0_chance_0 : decode cX0_chance 0 = .ok (.iload_n 1, 1) := dk_27 (dk_at dksX0_chance_0 0 rfl rfl)
theorem dX0_chance_1 : decode cX0_chance 1 = .ok (.invokestatic 485, 3) := dk_184 1 229 (dk_at dksX0_chance_0 1 rfl rfl)
theorem dX0_chance_4 : decode cX0_chance 4 = .ok (.ifCond .eq 38, 3) := dk_153 0 38 (dk_at dksX0_chance_0 4 rfl rfl)
theorem dX0_chance_7 : decode cX0_chance 7 = .ok (.iload_n 2, 1) := dk_28 (dk_at dksX0_chance_0 7 rfl rfl)
theorem dX0_chance_8 : decode cX0_chance 8 = .ok (.i2l, 1) := dk_133 (dk_at dksX0_chance_0 8 rfl rfl)
theorem dX0_chance_9 : decode cX0_chance 9 = .ok (.lconst 1, 1) := dk_10 (dk_at dksX0_chance_0 9 rfl rfl)
theorem dX0_chance_10 : decode cX0_chance 10 = .ok (.ldc2_w 492, 3) := dk_20 1 236 (dk_at dksX0_chance_0 10 rfl rfl)
theorem dX0_chance_13 : decode cX0_chance 13 = .ok (.invokestatic 133, 3) := dk_184 0 133 (dk_at dksX0_chance_0 13 rfl rfl)
theorem dX0_chance_16 : decode cX0_chance 16 = .ok (.ifCond .eq 26, 3) := dk_153 0 26 (dk_at dksX0_chance_0 16 rfl rfl)
theorem dX0_chance_19 : decode cX0_chance 19 = .ok (.aload_n 0, 1) := dk_42 (dk_at dksX0_chance_0 19 rfl rfl)
theorem dX0_chance_20 : decode cX0_chance 20 = .ok (.iload_n 3, 1) := dk_29 (dk_at dksX0_chance_0 20 rfl rfl)
theorem dX0_chance_21 : decode cX0_chance 21 = .ok (.iload 4, 2) := dk_21 4 (dk_at dksX0_chance_0 21 rfl rfl)
theorem dX0_chance_23 : decode cX0_chance 23 = .ok (.invokevirtual 276, 3) := dk_182 1 20 (dk_at dksX0_chance_1 0 rfl rfl)
theorem dX0_chance_26 : decode cX0_chance 26 = .ok (.ifCond .eq 16, 3) := dk_153 0 16 (dk_at dksX0_chance_1 3 rfl rfl)
theorem dX0_chance_29 : decode cX0_chance 29 = .ok (.iload 5, 2) := dk_21 5 (dk_at dksX0_chance_1 6 rfl rfl)
theorem dX0_chance_31 : decode cX0_chance 31 = .ok (.i2l, 1) := dk_133 (dk_at dksX0_chance_1 8 rfl rfl)
theorem dX0_chance_32 : decode cX0_chance 32 = .ok (.lconst 1, 1) := dk_10 (dk_at dksX0_chance_1 9 rfl rfl)
theorem dX0_chance_33 : decode cX0_chance 33 = .ok (.ldc2_w 494, 3) := dk_20 1 238 (dk_at dksX0_chance_1 10 rfl rfl)
theorem dX0_chance_36 : decode cX0_chance 36 = .ok (.invokestatic 133, 3) := dk_184 0 133 (dk_at dksX0_chance_1 13 rfl rfl)
theorem dX0_chance_39 : decode cX0_chance 39 = .ok (.ifCond .ne 6, 3) := dk_154 0 6 (dk_at dksX0_chance_1 16 rfl rfl)
theorem dX0_chance_42 : decode cX0_chance 42 = .ok (.bipush (-2), 2) := dk_16 254 (dk_at dksX0_chance_1 19 rfl rfl)
theorem dX0_chance_44 : decode cX0_chance 44 = .ok (.ireturn, 1) := dk_172 (dk_at dksX0_chance_1 21 rfl rfl)
theorem dX0_chance_45 : decode cX0_chance 45 = .ok (.iconst 0, 1) := dk_3 (dk_at dksX0_chance_1 22 rfl rfl)
theorem dX0_chance_46 : decode cX0_chance 46 = .ok (.istore 6, 2) := dk_54 6 (dk_at dksX0_chance_2 0 rfl rfl)
theorem dX0_chance_48 : decode cX0_chance 48 = .ok (.iconst 0, 1) := dk_3 (dk_at dksX0_chance_2 2 rfl rfl)
theorem dX0_chance_49 : decode cX0_chance 49 = .ok (.istore 7, 2) := dk_54 7 (dk_at dksX0_chance_2 3 rfl rfl)
theorem dX0_chance_51 : decode cX0_chance 51 = .ok (.iload 7, 2) := dk_21 7 (dk_at dksX0_chance_2 5 rfl rfl)
theorem dX0_chance_53 : decode cX0_chance 53 = .ok (.iload_n 2, 1) := dk_28 (dk_at dksX0_chance_2 7 rfl rfl)
theorem dX0_chance_54 : decode cX0_chance 54 = .ok (.if_icmp .ge 43, 3) := dk_162 0 43 (dk_at dksX0_chance_2 8 rfl rfl)
theorem dX0_chance_57 : decode cX0_chance 57 = .ok (.iload 6, 2) := dk_21 6 (dk_at dksX0_chance_2 11 rfl rfl)
theorem dX0_chance_59 : decode cX0_chance 59 = .ok (.aload_n 0, 1) := dk_42 (dk_at dksX0_chance_2 13 rfl rfl)
theorem dX0_chance_60 : decode cX0_chance 60 = .ok (.iload_n 1, 1) := dk_27 (dk_at dksX0_chance_2 14 rfl rfl)
theorem dX0_chance_61 : decode cX0_chance 61 = .ok (.i2l, 1) := dk_133 (dk_at dksX0_chance_2 15 rfl rfl)
theorem dX0_chance_62 : decode cX0_chance 62 = .ok (.iload 7, 2) := dk_21 7 (dk_at dksX0_chance_2 16 rfl rfl)
theorem dX0_chance_64 : decode cX0_chance 64 = .ok (.i2l, 1) := dk_133 (dk_at dksX0_chance_2 18 rfl rfl)
theorem dX0_chance_65 : decode cX0_chance 65 = .ok (.ladd, 1) := dk_97 (dk_at dksX0_chance_2 19 rfl rfl)
theorem dX0_chance_66 : decode cX0_chance 66 = .ok (.iload_n 3, 1) := dk_29 (dk_at dksX0_chance_2 20 rfl rfl)
theorem dX0_chance_67 : decode cX0_chance 67 = .ok (.iload 4, 2) := dk_21 4 (dk_at dksX0_chance_2 21 rfl rfl)
theorem dX0_chance_69 : decode cX0_chance 69 = .ok (.invokevirtual 488, 3) := dk_182 1 232 (dk_at dksX0_chance_3 0 rfl rfl)
theorem dX0_chance_72 : decode cX0_chance 72 = .ok (.i2l, 1) := dk_133 (dk_at dksX0_chance_3 3 rfl rfl)
theorem dX0_chance_73 : decode cX0_chance 73 = .ok (.lconst 1, 1) := dk_10 (dk_at dksX0_chance_3 4 rfl rfl)
theorem dX0_chance_74 : decode cX0_chance 74 = .ok (.iload 5, 2) := dk_21 5 (dk_at dksX0_chance_3 5 rfl rfl)
theorem dX0_chance_76 : decode cX0_chance 76 = .ok (.i2l, 1) := dk_133 (dk_at dksX0_chance_3 7 rfl rfl)
theorem dX0_chance_77 : decode cX0_chance 77 = .ok (.invokestatic 133, 3) := dk_184 0 133 (dk_at dksX0_chance_3 8 rfl rfl)
theorem dX0_chance_80 : decode cX0_chance 80 = .ok (.ifCond .eq 7, 3) := dk_153 0 7 (dk_at dksX0_chance_3 11 rfl rfl)
theorem dX0_chance_83 : decode cX0_chance 83 = .ok (.iconst 1, 1) := dk_4 (dk_at dksX0_chance_3 14 rfl rfl)
theorem dX0_chance_84 : decode cX0_chance 84 = .ok (.goto 4, 3) := dk_167 0 4 (dk_at dksX0_chance_3 15 rfl rfl)
theorem dX0_chance_87 : decode cX0_chance 87 = .ok (.iconst 0, 1) := dk_3 (dk_at dksX0_chance_3 18 rfl rfl)
theorem dX0_chance_88 : decode cX0_chance 88 = .ok (.iadd, 1) := dk_96 (dk_at dksX0_chance_3 19 rfl rfl)
theorem dX0_chance_89 : decode cX0_chance 89 = .ok (.istore 6, 2) := dk_54 6 (dk_at dksX0_chance_3 20 rfl rfl)
theorem dX0_chance_91 : decode cX0_chance 91 = .ok (.iinc 7 1, 3) := dk_132 7 1 (dk_at dksX0_chance_4 0 rfl rfl)
theorem dX0_chance_94 : decode cX0_chance 94 = .ok (.goto (-43), 3) := dk_167 255 213 (dk_at dksX0_chance_4 3 rfl rfl)
theorem dX0_chance_97 : decode cX0_chance 97 = .ok (.iload 6, 2) := dk_21 6 (dk_at dksX0_chance_4 6 rfl rfl)
theorem dX0_chance_99 : decode cX0_chance 99 = .ok (.ireturn, 1) := dk_172 (dk_at dksX0_chance_4 8 rfl rfl)
abbrev cX0_count : ByteArray := prog_1_method_131_code
def yX0_count : MethodName := ⟨RX0, "count", "(I)I"⟩
def dkwX0_count_6 : List UInt8 := [167, 255, 228, 28, 172, 2, 172]
abbrev dktX0_count_6 : List UInt8 := dkwX0_count_6 ++ []
def dkwX0_count_5 : List UInt8 := [28, 42, 180, 0, 118, 29, 50, 180, 1, 243, 199, 0, 7, 3, 167, 0, 4, 4, 96, 61, 132, 3, 1]
abbrev dktX0_count_5 : List UInt8 := dkwX0_count_5 ++ dktX0_count_6
def dkwX0_count_4 : List UInt8 := [184, 0, 195, 172, 42, 180, 0, 10, 180, 0, 147, 172, 42, 180, 0, 126, 172, 3, 62, 29, 7, 162, 0, 29]
abbrev dktX0_count_4 : List UInt8 := dkwX0_count_4 ++ dktX0_count_5
def dkwX0_count_3 : List UInt8 := [180, 0, 10, 180, 1, 163, 172, 42, 180, 0, 10, 180, 1, 197, 172, 42, 180, 0, 10, 180, 1, 112]
abbrev dktX0_count_3 : List UInt8 := dkwX0_count_3 ++ dktX0_count_4
def dkwX0_count_2 : List UInt8 := [42, 180, 0, 10, 180, 0, 158, 172, 42, 180, 0, 10, 182, 0, 161, 172, 42, 182, 1, 240, 172, 42]
abbrev dktX0_count_2 : List UInt8 := dkwX0_count_2 ++ dktX0_count_3
def dkwX0_count_1 : List UInt8 := [170, 0, 0, 0, 145, 0, 0, 0, 0, 0, 0, 0, 8, 0, 0, 0, 49, 0, 0, 0, 57, 0, 0, 0, 65, 0, 0, 0, 70, 0, 0, 0, 78, 0, 0, 0, 86, 0, 0, 0, 97, 0, 0, 0, 105, 0, 0, 0, 110]
abbrev dktX0_count_1 : List UInt8 := dkwX0_count_1 ++ dktX0_count_2
def dkwX0_count_0 : List UInt8 := [3, 61, 27]
abbrev dktX0_count_0 : List UInt8 := dkwX0_count_0 ++ dktX0_count_1
theorem dksX0_count_0 : cX0_count.data.toList.drop 0 = dktX0_count_0 := by decide +kernel
theorem dksX0_count_1 : cX0_count.data.toList.drop 3 = dktX0_count_1 := dk_seg dksX0_count_0 3 rfl rfl
theorem dksX0_count_2 : cX0_count.data.toList.drop 52 = dktX0_count_2 := dk_seg dksX0_count_1 49 rfl rfl
theorem dksX0_count_3 : cX0_count.data.toList.drop 74 = dktX0_count_3 := dk_seg dksX0_count_2 22 rfl rfl
theorem dksX0_count_4 : cX0_count.data.toList.drop 96 = dktX0_count_4 := dk_seg dksX0_count_3 22 rfl rfl
theorem dksX0_count_5 : cX0_count.data.toList.drop 120 = dktX0_count_5 := dk_seg dksX0_count_4 24 rfl rfl
theorem dksX0_count_6 : cX0_count.data.toList.drop 143 = dktX0_count_6 := dk_seg dksX0_count_5 23 rfl rfl
theorem dX0_count_0 : decode cX0_count 0 = .ok (.iconst 0, 1) := dk_3 (dk_at dksX0_count_0 0 rfl rfl)
theorem dX0_count_1 : decode cX0_count 1 = .ok (.istore_n 2, 1) := dk_61 (dk_at dksX0_count_0 1 rfl rfl)
theorem dX0_count_2 : decode cX0_count 2 = .ok (.iload_n 1, 1) := dk_27 (dk_at dksX0_count_0 2 rfl rfl)
theorem dX0_count_3 : decode cX0_count 3 = .ok (.tableswitch 145 0 8 #[49, 57, 65, 70, 78, 86, 97, 105, 110], 49) := by decide +kernel
theorem dX0_count_52 : decode cX0_count 52 = .ok (.aload_n 0, 1) := dk_42 (dk_at dksX0_count_2 0 rfl rfl)
theorem dX0_count_53 : decode cX0_count 53 = .ok (.getfield 10, 3) := dk_180 0 10 (dk_at dksX0_count_2 1 rfl rfl)
theorem dX0_count_56 : decode cX0_count 56 = .ok (.getfield 158, 3) := dk_180 0 158 (dk_at dksX0_count_2 4 rfl rfl)
theorem dX0_count_59 : decode cX0_count 59 = .ok (.ireturn, 1) := dk_172 (dk_at dksX0_count_2 7 rfl rfl)
theorem dX0_count_60 : decode cX0_count 60 = .ok (.aload_n 0, 1) := dk_42 (dk_at dksX0_count_2 8 rfl rfl)
theorem dX0_count_61 : decode cX0_count 61 = .ok (.getfield 10, 3) := dk_180 0 10 (dk_at dksX0_count_2 9 rfl rfl)
theorem dX0_count_64 : decode cX0_count 64 = .ok (.invokevirtual 161, 3) := dk_182 0 161 (dk_at dksX0_count_2 12 rfl rfl)
theorem dX0_count_67 : decode cX0_count 67 = .ok (.ireturn, 1) := dk_172 (dk_at dksX0_count_2 15 rfl rfl)
theorem dX0_count_68 : decode cX0_count 68 = .ok (.aload_n 0, 1) := dk_42 (dk_at dksX0_count_2 16 rfl rfl)
theorem dX0_count_69 : decode cX0_count 69 = .ok (.invokevirtual 496, 3) := dk_182 1 240 (dk_at dksX0_count_2 17 rfl rfl)
theorem dX0_count_72 : decode cX0_count 72 = .ok (.ireturn, 1) := dk_172 (dk_at dksX0_count_2 20 rfl rfl)
theorem dX0_count_73 : decode cX0_count 73 = .ok (.aload_n 0, 1) := dk_42 (dk_at dksX0_count_2 21 rfl rfl)
theorem dX0_count_74 : decode cX0_count 74 = .ok (.getfield 10, 3) := dk_180 0 10 (dk_at dksX0_count_3 0 rfl rfl)
theorem dX0_count_77 : decode cX0_count 77 = .ok (.getfield 419, 3) := dk_180 1 163 (dk_at dksX0_count_3 3 rfl rfl)
theorem dX0_count_80 : decode cX0_count 80 = .ok (.ireturn, 1) := dk_172 (dk_at dksX0_count_3 6 rfl rfl)
theorem dX0_count_81 : decode cX0_count 81 = .ok (.aload_n 0, 1) := dk_42 (dk_at dksX0_count_3 7 rfl rfl)
theorem dX0_count_82 : decode cX0_count 82 = .ok (.getfield 10, 3) := dk_180 0 10 (dk_at dksX0_count_3 8 rfl rfl)
theorem dX0_count_85 : decode cX0_count 85 = .ok (.getfield 453, 3) := dk_180 1 197 (dk_at dksX0_count_3 11 rfl rfl)
theorem dX0_count_88 : decode cX0_count 88 = .ok (.ireturn, 1) := dk_172 (dk_at dksX0_count_3 14 rfl rfl)
theorem dX0_count_89 : decode cX0_count 89 = .ok (.aload_n 0, 1) := dk_42 (dk_at dksX0_count_3 15 rfl rfl)
theorem dX0_count_90 : decode cX0_count 90 = .ok (.getfield 10, 3) := dk_180 0 10 (dk_at dksX0_count_3 16 rfl rfl)
theorem dX0_count_93 : decode cX0_count 93 = .ok (.getfield 368, 3) := dk_180 1 112 (dk_at dksX0_count_3 19 rfl rfl)
theorem dX0_count_96 : decode cX0_count 96 = .ok (.invokestatic 195, 3) := dk_184 0 195 (dk_at dksX0_count_4 0 rfl rfl)
theorem dX0_count_99 : decode cX0_count 99 = .ok (.ireturn, 1) := dk_172 (dk_at dksX0_count_4 3 rfl rfl)
theorem dX0_count_100 : decode cX0_count 100 = .ok (.aload_n 0, 1) := dk_42 (dk_at dksX0_count_4 4 rfl rfl)
theorem dX0_count_101 : decode cX0_count 101 = .ok (.getfield 10, 3) := dk_180 0 10 (dk_at dksX0_count_4 5 rfl rfl)
theorem dX0_count_104 : decode cX0_count 104 = .ok (.getfield 147, 3) := dk_180 0 147 (dk_at dksX0_count_4 8 rfl rfl)
theorem dX0_count_107 : decode cX0_count 107 = .ok (.ireturn, 1) := dk_172 (dk_at dksX0_count_4 11 rfl rfl)
theorem dX0_count_108 : decode cX0_count 108 = .ok (.aload_n 0, 1) := dk_42 (dk_at dksX0_count_4 12 rfl rfl)
theorem dX0_count_109 : decode cX0_count 109 = .ok (.getfield 126, 3) := dk_180 0 126 (dk_at dksX0_count_4 13 rfl rfl)
theorem dX0_count_112 : decode cX0_count 112 = .ok (.ireturn, 1) := dk_172 (dk_at dksX0_count_4 16 rfl rfl)
theorem dX0_count_113 : decode cX0_count 113 = .ok (.iconst 0, 1) := dk_3 (dk_at dksX0_count_4 17 rfl rfl)
theorem dX0_count_114 : decode cX0_count 114 = .ok (.istore_n 3, 1) := dk_62 (dk_at dksX0_count_4 18 rfl rfl)
theorem dX0_count_115 : decode cX0_count 115 = .ok (.iload_n 3, 1) := dk_29 (dk_at dksX0_count_4 19 rfl rfl)
theorem dX0_count_116 : decode cX0_count 116 = .ok (.iconst 4, 1) := dk_7 (dk_at dksX0_count_4 20 rfl rfl)
theorem dX0_count_117 : decode cX0_count 117 = .ok (.if_icmp .ge 29, 3) := dk_162 0 29 (dk_at dksX0_count_4 21 rfl rfl)
theorem dX0_count_120 : decode cX0_count 120 = .ok (.iload_n 2, 1) := dk_28 (dk_at dksX0_count_5 0 rfl rfl)
theorem dX0_count_121 : decode cX0_count 121 = .ok (.aload_n 0, 1) := dk_42 (dk_at dksX0_count_5 1 rfl rfl)
theorem dX0_count_122 : decode cX0_count 122 = .ok (.getfield 118, 3) := dk_180 0 118 (dk_at dksX0_count_5 2 rfl rfl)
theorem dX0_count_125 : decode cX0_count 125 = .ok (.iload_n 3, 1) := dk_29 (dk_at dksX0_count_5 5 rfl rfl)
theorem dX0_count_126 : decode cX0_count 126 = .ok (.aaload, 1) := dk_50 (dk_at dksX0_count_5 6 rfl rfl)
theorem dX0_count_127 : decode cX0_count 127 = .ok (.getfield 499, 3) := dk_180 1 243 (dk_at dksX0_count_5 7 rfl rfl)
theorem dX0_count_130 : decode cX0_count 130 = .ok (.ifnonnull 7, 3) := dk_199 0 7 (dk_at dksX0_count_5 10 rfl rfl)
theorem dX0_count_133 : decode cX0_count 133 = .ok (.iconst 0, 1) := dk_3 (dk_at dksX0_count_5 13 rfl rfl)
theorem dX0_count_134 : decode cX0_count 134 = .ok (.goto 4, 3) := dk_167 0 4 (dk_at dksX0_count_5 14 rfl rfl)
theorem dX0_count_137 : decode cX0_count 137 = .ok (.iconst 1, 1) := dk_4 (dk_at dksX0_count_5 17 rfl rfl)
theorem dX0_count_138 : decode cX0_count 138 = .ok (.iadd, 1) := dk_96 (dk_at dksX0_count_5 18 rfl rfl)
theorem dX0_count_139 : decode cX0_count 139 = .ok (.istore_n 2, 1) := dk_61 (dk_at dksX0_count_5 19 rfl rfl)
theorem dX0_count_140 : decode cX0_count 140 = .ok (.iinc 3 1, 3) := dk_132 3 1 (dk_at dksX0_count_5 20 rfl rfl)
theorem dX0_count_143 : decode cX0_count 143 = .ok (.goto (-28), 3) := dk_167 255 228 (dk_at dksX0_count_6 0 rfl rfl)
theorem dX0_count_146 : decode cX0_count 146 = .ok (.iload_n 2, 1) := dk_28 (dk_at dksX0_count_6 3 rfl rfl)
theorem dX0_count_147 : decode cX0_count 147 = .ok (.ireturn, 1) := dk_172 (dk_at dksX0_count_6 4 rfl rfl)
theorem dX0_count_148 : decode cX0_count 148 = .ok (.iconst (-1), 1) := dk_2 (dk_at dksX0_count_6 5 rfl rfl)
theorem dX0_count_149 : decode cX0_count 149 = .ok (.ireturn, 1) := dk_172 (dk_at dksX0_count_6 6 rfl rfl)
abbrev cX0_shutStreets : ByteArray := prog_1_method_130_code
def yX0_shutStreets : MethodName := ⟨RX0, "shutStreets", "()I"⟩
def dkwX0_shutStreets_1 : List UInt8 := [46, 184, 0, 195, 96, 60, 132, 2, 1, 167, 255, 227, 27, 5, 108, 172]
abbrev dktX0_shutStreets_1 : List UInt8 := dkwX0_shutStreets_1 ++ []
def dkwX0_shutStreets_0 : List UInt8 := [3, 60, 3, 61, 28, 42, 180, 0, 10, 182, 0, 161, 162, 0, 24, 27, 42, 180, 0, 10, 180, 0, 192, 28]
abbrev dktX0_shutStreets_0 : List UInt8 := dkwX0_shutStreets_0 ++ dktX0_shutStreets_1
theorem dksX0_shutStreets_0 : cX0_shutStreets.data.toList.drop 0 = dktX0_shutStreets_0 := by decide +kernel
theorem dksX0_shutStreets_1 : cX0_shutStreets.data.toList.drop 24 = dktX0_shutStreets_1 := dk_seg dksX0_shutStreets_0 24 rfl rfl
theorem dX0_shutStreets_0 : decode cX0_shutStreets 0 = .ok (.iconst 0, 1) := dk_3 (dk_at dksX0_shutStreets_0 0 rfl rfl)
theorem dX0_shutStreets_1 : decode cX0_shutStreets 1 = .ok (.istore_n 1, 1) := dk_60 (dk_at dksX0_shutStreets_0 1 rfl rfl)
theorem dX0_shutStreets_2 : decode cX0_shutStreets 2 = .ok (.iconst 0, 1) := dk_3 (dk_at dksX0_shutStreets_0 2 rfl rfl)
theorem dX0_shutStreets_3 : decode cX0_shutStreets 3 = .ok (.istore_n 2, 1) := dk_61 (dk_at dksX0_shutStreets_0 3 rfl rfl)
theorem dX0_shutStreets_4 : decode cX0_shutStreets 4 = .ok (.iload_n 2, 1) := dk_28 (dk_at dksX0_shutStreets_0 4 rfl rfl)
theorem dX0_shutStreets_5 : decode cX0_shutStreets 5 = .ok (.aload_n 0, 1) := dk_42 (dk_at dksX0_shutStreets_0 5 rfl rfl)
theorem dX0_shutStreets_6 : decode cX0_shutStreets 6 = .ok (.getfield 10, 3) := dk_180 0 10 (dk_at dksX0_shutStreets_0 6 rfl rfl)
theorem dX0_shutStreets_9 : decode cX0_shutStreets 9 = .ok (.invokevirtual 161, 3) := dk_182 0 161 (dk_at dksX0_shutStreets_0 9 rfl rfl)
theorem dX0_shutStreets_12 : decode cX0_shutStreets 12 = .ok (.if_icmp .ge 24, 3) := dk_162 0 24 (dk_at dksX0_shutStreets_0 12 rfl rfl)
theorem dX0_shutStreets_15 : decode cX0_shutStreets 15 = .ok (.iload_n 1, 1) := dk_27 (dk_at dksX0_shutStreets_0 15 rfl rfl)
theorem dX0_shutStreets_16 : decode cX0_shutStreets 16 = .ok (.aload_n 0, 1) := dk_42 (dk_at dksX0_shutStreets_0 16 rfl rfl)
theorem dX0_shutStreets_17 : decode cX0_shutStreets 17 = .ok (.getfield 10, 3) := dk_180 0 10 (dk_at dksX0_shutStreets_0 17 rfl rfl)
theorem dX0_shutStreets_20 : decode cX0_shutStreets 20 = .ok (.getfield 192, 3) := dk_180 0 192 (dk_at dksX0_shutStreets_0 20 rfl rfl)
theorem dX0_shutStreets_23 : decode cX0_shutStreets 23 = .ok (.iload_n 2, 1) := dk_28 (dk_at dksX0_shutStreets_0 23 rfl rfl)
theorem dX0_shutStreets_24 : decode cX0_shutStreets 24 = .ok (.iaload, 1) := dk_46 (dk_at dksX0_shutStreets_1 0 rfl rfl)
theorem dX0_shutStreets_25 : decode cX0_shutStreets 25 = .ok (.invokestatic 195, 3) := dk_184 0 195 (dk_at dksX0_shutStreets_1 1 rfl rfl)
theorem dX0_shutStreets_28 : decode cX0_shutStreets 28 = .ok (.iadd, 1) := dk_96 (dk_at dksX0_shutStreets_1 4 rfl rfl)
theorem dX0_shutStreets_29 : decode cX0_shutStreets 29 = .ok (.istore_n 1, 1) := dk_60 (dk_at dksX0_shutStreets_1 5 rfl rfl)
theorem dX0_shutStreets_30 : decode cX0_shutStreets 30 = .ok (.iinc 2 1, 3) := dk_132 2 1 (dk_at dksX0_shutStreets_1 6 rfl rfl)
theorem dX0_shutStreets_33 : decode cX0_shutStreets 33 = .ok (.goto (-29), 3) := dk_167 255 227 (dk_at dksX0_shutStreets_1 9 rfl rfl)
theorem dX0_shutStreets_36 : decode cX0_shutStreets 36 = .ok (.iload_n 1, 1) := dk_27 (dk_at dksX0_shutStreets_1 12 rfl rfl)
theorem dX0_shutStreets_37 : decode cX0_shutStreets 37 = .ok (.iconst 2, 1) := dk_5 (dk_at dksX0_shutStreets_1 13 rfl rfl)
theorem dX0_shutStreets_38 : decode cX0_shutStreets 38 = .ok (.idiv, 1) := dk_108 (dk_at dksX0_shutStreets_1 14 rfl rfl)
theorem dX0_shutStreets_39 : decode cX0_shutStreets 39 = .ok (.ireturn, 1) := dk_172 (dk_at dksX0_shutStreets_1 15 rfl rfl)
abbrev cX0_keep : ByteArray := prog_1_method_132_code
def yX0_keep : MethodName := ⟨RX0, "keep", "(I)I"⟩
def dkwX0_keep_1 : List UInt8 := [182, 1, 249, 83, 3, 172]
abbrev dktX0_keep_1 : List UInt8 := dkwX0_keep_1 ++ []
def dkwX0_keep_0 : List UInt8 := [27, 133, 9, 20, 1, 247, 184, 0, 133, 154, 0, 6, 16, 254, 172, 42, 180, 0, 122, 27, 42, 180, 0, 10]
abbrev dktX0_keep_0 : List UInt8 := dkwX0_keep_0 ++ dktX0_keep_1
theorem dksX0_keep_0 : cX0_keep.data.toList.drop 0 = dktX0_keep_0 := by decide +kernel
theorem dksX0_keep_1 : cX0_keep.data.toList.drop 24 = dktX0_keep_1 := dk_seg dksX0_keep_0 24 rfl rfl
theorem dX0_keep_0 : decode cX0_keep 0 = .ok (.iload_n 1, 1) := dk_27 (dk_at dksX0_keep_0 0 rfl rfl)
theorem dX0_keep_1 : decode cX0_keep 1 = .ok (.i2l, 1) := dk_133 (dk_at dksX0_keep_0 1 rfl rfl)
theorem dX0_keep_2 : decode cX0_keep 2 = .ok (.lconst 0, 1) := dk_9 (dk_at dksX0_keep_0 2 rfl rfl)
theorem dX0_keep_3 : decode cX0_keep 3 = .ok (.ldc2_w 503, 3) := dk_20 1 247 (dk_at dksX0_keep_0 3 rfl rfl)
theorem dX0_keep_6 : decode cX0_keep 6 = .ok (.invokestatic 133, 3) := dk_184 0 133 (dk_at dksX0_keep_0 6 rfl rfl)
theorem dX0_keep_9 : decode cX0_keep 9 = .ok (.ifCond .ne 6, 3) := dk_154 0 6 (dk_at dksX0_keep_0 9 rfl rfl)
theorem dX0_keep_12 : decode cX0_keep 12 = .ok (.bipush (-2), 2) := dk_16 254 (dk_at dksX0_keep_0 12 rfl rfl)
theorem dX0_keep_14 : decode cX0_keep 14 = .ok (.ireturn, 1) := dk_172 (dk_at dksX0_keep_0 14 rfl rfl)
theorem dX0_keep_15 : decode cX0_keep 15 = .ok (.aload_n 0, 1) := dk_42 (dk_at dksX0_keep_0 15 rfl rfl)
theorem dX0_keep_16 : decode cX0_keep 16 = .ok (.getfield 122, 3) := dk_180 0 122 (dk_at dksX0_keep_0 16 rfl rfl)
theorem dX0_keep_19 : decode cX0_keep 19 = .ok (.iload_n 1, 1) := dk_27 (dk_at dksX0_keep_0 19 rfl rfl)
theorem dX0_keep_20 : decode cX0_keep 20 = .ok (.aload_n 0, 1) := dk_42 (dk_at dksX0_keep_0 20 rfl rfl)
theorem dX0_keep_21 : decode cX0_keep 21 = .ok (.getfield 10, 3) := dk_180 0 10 (dk_at dksX0_keep_0 21 rfl rfl)
theorem dX0_keep_24 : decode cX0_keep 24 = .ok (.invokevirtual 505, 3) := dk_182 1 249 (dk_at dksX0_keep_1 0 rfl rfl)
theorem dX0_keep_27 : decode cX0_keep 27 = .ok (.aastore, 1) := dk_83 (dk_at dksX0_keep_1 3 rfl rfl)
theorem dX0_keep_28 : decode cX0_keep 28 = .ok (.iconst 0, 1) := dk_3 (dk_at dksX0_keep_1 4 rfl rfl)
theorem dX0_keep_29 : decode cX0_keep 29 = .ok (.ireturn, 1) := dk_172 (dk_at dksX0_keep_1 5 rfl rfl)
abbrev cX0_back : ByteArray := prog_1_method_133_code
def yX0_back : MethodName := ⟨RX0, "back", "(I)I"⟩
def dkwX0_back_1 : List UInt8 := [16, 250, 172, 42, 42, 180, 0, 122, 27, 50, 182, 1, 249, 181, 0, 10, 3, 172]
abbrev dktX0_back_1 : List UInt8 := dkwX0_back_1 ++ []
def dkwX0_back_0 : List UInt8 := [27, 133, 9, 20, 1, 247, 184, 0, 133, 154, 0, 6, 16, 254, 172, 42, 180, 0, 122, 27, 50, 199, 0, 6]
abbrev dktX0_back_0 : List UInt8 := dkwX0_back_0 ++ dktX0_back_1
theorem dksX0_back_0 : cX0_back.data.toList.drop 0 = dktX0_back_0 := by decide +kernel
theorem dksX0_back_1 : cX0_back.data.toList.drop 24 = dktX0_back_1 := dk_seg dksX0_back_0 24 rfl rfl
theorem dX0_back_0 : decode cX0_back 0 = .ok (.iload_n 1, 1) := dk_27 (dk_at dksX0_back_0 0 rfl rfl)
theorem dX0_back_1 : decode cX0_back 1 = .ok (.i2l, 1) := dk_133 (dk_at dksX0_back_0 1 rfl rfl)
theorem dX0_back_2 : decode cX0_back 2 = .ok (.lconst 0, 1) := dk_9 (dk_at dksX0_back_0 2 rfl rfl)
theorem dX0_back_3 : decode cX0_back 3 = .ok (.ldc2_w 503, 3) := dk_20 1 247 (dk_at dksX0_back_0 3 rfl rfl)
theorem dX0_back_6 : decode cX0_back 6 = .ok (.invokestatic 133, 3) := dk_184 0 133 (dk_at dksX0_back_0 6 rfl rfl)
theorem dX0_back_9 : decode cX0_back 9 = .ok (.ifCond .ne 6, 3) := dk_154 0 6 (dk_at dksX0_back_0 9 rfl rfl)
theorem dX0_back_12 : decode cX0_back 12 = .ok (.bipush (-2), 2) := dk_16 254 (dk_at dksX0_back_0 12 rfl rfl)
theorem dX0_back_14 : decode cX0_back 14 = .ok (.ireturn, 1) := dk_172 (dk_at dksX0_back_0 14 rfl rfl)
theorem dX0_back_15 : decode cX0_back 15 = .ok (.aload_n 0, 1) := dk_42 (dk_at dksX0_back_0 15 rfl rfl)
theorem dX0_back_16 : decode cX0_back 16 = .ok (.getfield 122, 3) := dk_180 0 122 (dk_at dksX0_back_0 16 rfl rfl)
theorem dX0_back_19 : decode cX0_back 19 = .ok (.iload_n 1, 1) := dk_27 (dk_at dksX0_back_0 19 rfl rfl)
theorem dX0_back_20 : decode cX0_back 20 = .ok (.aaload, 1) := dk_50 (dk_at dksX0_back_0 20 rfl rfl)
theorem dX0_back_21 : decode cX0_back 21 = .ok (.ifnonnull 6, 3) := dk_199 0 6 (dk_at dksX0_back_0 21 rfl rfl)
theorem dX0_back_24 : decode cX0_back 24 = .ok (.bipush (-6), 2) := dk_16 250 (dk_at dksX0_back_1 0 rfl rfl)
theorem dX0_back_26 : decode cX0_back 26 = .ok (.ireturn, 1) := dk_172 (dk_at dksX0_back_1 2 rfl rfl)
theorem dX0_back_27 : decode cX0_back 27 = .ok (.aload_n 0, 1) := dk_42 (dk_at dksX0_back_1 3 rfl rfl)
theorem dX0_back_28 : decode cX0_back 28 = .ok (.aload_n 0, 1) := dk_42 (dk_at dksX0_back_1 4 rfl rfl)
theorem dX0_back_29 : decode cX0_back 29 = .ok (.getfield 122, 3) := dk_180 0 122 (dk_at dksX0_back_1 5 rfl rfl)
theorem dX0_back_32 : decode cX0_back 32 = .ok (.iload_n 1, 1) := dk_27 (dk_at dksX0_back_1 8 rfl rfl)
theorem dX0_back_33 : decode cX0_back 33 = .ok (.aaload, 1) := dk_50 (dk_at dksX0_back_1 9 rfl rfl)
theorem dX0_back_34 : decode cX0_back 34 = .ok (.invokevirtual 505, 3) := dk_182 1 249 (dk_at dksX0_back_1 10 rfl rfl)
theorem dX0_back_37 : decode cX0_back 37 = .ok (.putfield 10, 3) := dk_181 0 10 (dk_at dksX0_back_1 13 rfl rfl)
theorem dX0_back_40 : decode cX0_back 40 = .ok (.iconst 0, 1) := dk_3 (dk_at dksX0_back_1 16 rfl rfl)
theorem dX0_back_41 : decode cX0_back 41 = .ok (.ireturn, 1) := dk_172 (dk_at dksX0_back_1 17 rfl rfl)
abbrev cX0_row : ByteArray := prog_1_method_134_code
def yX0_row : MethodName := ⟨RX0, "row", "(III)I"⟩
def dkwX0_row_1 : List UInt8 := [164, 0, 6, 16, 254, 172, 42, 180, 0, 118, 27, 50, 28, 29, 182, 1, 252, 3, 172, 58, 4, 16, 253, 172]
abbrev dktX0_row_1 : List UInt8 := dkwX0_row_1 ++ []
def dkwX0_row_0 : List UInt8 := [27, 184, 1, 132, 153, 0, 21, 28, 133, 9, 20, 1, 99, 184, 0, 133, 153, 0, 9, 29, 16, 60]
abbrev dktX0_row_0 : List UInt8 := dkwX0_row_0 ++ dktX0_row_1
theorem dksX0_row_0 : cX0_row.data.toList.drop 0 = dktX0_row_0 := by decide +kernel
theorem dksX0_row_1 : cX0_row.data.toList.drop 22 = dktX0_row_1 := dk_seg dksX0_row_0 22 rfl rfl
theorem dX0_row_0 : decode cX0_row 0 = .ok (.iload_n 1, 1) := dk_27 (dk_at dksX0_row_0 0 rfl rfl)
theorem dX0_row_1 : decode cX0_row 1 = .ok (.invokestatic 388, 3) := dk_184 1 132 (dk_at dksX0_row_0 1 rfl rfl)
theorem dX0_row_4 : decode cX0_row 4 = .ok (.ifCond .eq 21, 3) := dk_153 0 21 (dk_at dksX0_row_0 4 rfl rfl)
theorem dX0_row_7 : decode cX0_row 7 = .ok (.iload_n 2, 1) := dk_28 (dk_at dksX0_row_0 7 rfl rfl)
theorem dX0_row_8 : decode cX0_row 8 = .ok (.i2l, 1) := dk_133 (dk_at dksX0_row_0 8 rfl rfl)
theorem dX0_row_9 : decode cX0_row 9 = .ok (.lconst 0, 1) := dk_9 (dk_at dksX0_row_0 9 rfl rfl)
theorem dX0_row_10 : decode cX0_row 10 = .ok (.ldc2_w 355, 3) := dk_20 1 99 (dk_at dksX0_row_0 10 rfl rfl)
theorem dX0_row_13 : decode cX0_row 13 = .ok (.invokestatic 133, 3) := dk_184 0 133 (dk_at dksX0_row_0 13 rfl rfl)
theorem dX0_row_16 : decode cX0_row 16 = .ok (.ifCond .eq 9, 3) := dk_153 0 9 (dk_at dksX0_row_0 16 rfl rfl)
theorem dX0_row_19 : decode cX0_row 19 = .ok (.iload_n 3, 1) := dk_29 (dk_at dksX0_row_0 19 rfl rfl)
theorem dX0_row_20 : decode cX0_row 20 = .ok (.bipush 60, 2) := dk_16 60 (dk_at dksX0_row_0 20 rfl rfl)
theorem dX0_row_22 : decode cX0_row 22 = .ok (.if_icmp .le 6, 3) := dk_164 0 6 (dk_at dksX0_row_1 0 rfl rfl)
theorem dX0_row_25 : decode cX0_row 25 = .ok (.bipush (-2), 2) := dk_16 254 (dk_at dksX0_row_1 3 rfl rfl)
theorem dX0_row_27 : decode cX0_row 27 = .ok (.ireturn, 1) := dk_172 (dk_at dksX0_row_1 5 rfl rfl)
theorem dX0_row_28 : decode cX0_row 28 = .ok (.aload_n 0, 1) := dk_42 (dk_at dksX0_row_1 6 rfl rfl)
theorem dX0_row_29 : decode cX0_row 29 = .ok (.getfield 118, 3) := dk_180 0 118 (dk_at dksX0_row_1 7 rfl rfl)
theorem dX0_row_32 : decode cX0_row 32 = .ok (.iload_n 1, 1) := dk_27 (dk_at dksX0_row_1 10 rfl rfl)
theorem dX0_row_33 : decode cX0_row 33 = .ok (.aaload, 1) := dk_50 (dk_at dksX0_row_1 11 rfl rfl)
theorem dX0_row_34 : decode cX0_row 34 = .ok (.iload_n 2, 1) := dk_28 (dk_at dksX0_row_1 12 rfl rfl)
theorem dX0_row_35 : decode cX0_row 35 = .ok (.iload_n 3, 1) := dk_29 (dk_at dksX0_row_1 13 rfl rfl)
theorem dX0_row_36 : decode cX0_row 36 = .ok (.invokevirtual 508, 3) := dk_182 1 252 (dk_at dksX0_row_1 14 rfl rfl)
theorem dX0_row_39 : decode cX0_row 39 = .ok (.iconst 0, 1) := dk_3 (dk_at dksX0_row_1 17 rfl rfl)
theorem dX0_row_40 : decode cX0_row 40 = .ok (.ireturn, 1) := dk_172 (dk_at dksX0_row_1 18 rfl rfl)
theorem dX0_row_41 : decode cX0_row 41 = .ok (.astore 4, 2) := dk_58 4 (dk_at dksX0_row_1 19 rfl rfl)
theorem dX0_row_43 : decode cX0_row 43 = .ok (.bipush (-3), 2) := dk_16 253 (dk_at dksX0_row_1 21 rfl rfl)
theorem dX0_row_45 : decode cX0_row 45 = .ok (.ireturn, 1) := dk_172 (dk_at dksX0_row_1 23 rfl rfl)
abbrev cX0_write : ByteArray := prog_1_method_135_code
def yX0_write : MethodName := ⟨RX0, "write", "(IIJ)I"⟩
def dkwX0_write_1 : List UInt8 := [58, 5, 16, 250, 172, 58, 5, 16, 249, 172]
abbrev dktX0_write_1 : List UInt8 := dkwX0_write_1 ++ []
def dkwX0_write_0 : List UInt8 := [27, 184, 1, 132, 154, 0, 6, 16, 254, 172, 42, 180, 0, 118, 27, 50, 28, 33, 182, 2, 1, 3, 172]
abbrev dktX0_write_0 : List UInt8 := dkwX0_write_0 ++ dktX0_write_1
theorem dksX0_write_0 : cX0_write.data.toList.drop 0 = dktX0_write_0 := by decide +kernel
theorem dksX0_write_1 : cX0_write.data.toList.drop 23 = dktX0_write_1 := dk_seg dksX0_write_0 23 rfl rfl
theorem dX0_write_0 : decode cX0_write 0 = .ok (.iload_n 1, 1) := dk_27 (dk_at dksX0_write_0 0 rfl rfl)
theorem dX0_write_1 : decode cX0_write 1 = .ok (.invokestatic 388, 3) := dk_184 1 132 (dk_at dksX0_write_0 1 rfl rfl)
theorem dX0_write_4 : decode cX0_write 4 = .ok (.ifCond .ne 6, 3) := dk_154 0 6 (dk_at dksX0_write_0 4 rfl rfl)
theorem dX0_write_7 : decode cX0_write 7 = .ok (.bipush (-2), 2) := dk_16 254 (dk_at dksX0_write_0 7 rfl rfl)
theorem dX0_write_9 : decode cX0_write 9 = .ok (.ireturn, 1) := dk_172 (dk_at dksX0_write_0 9 rfl rfl)
theorem dX0_write_10 : decode cX0_write 10 = .ok (.aload_n 0, 1) := dk_42 (dk_at dksX0_write_0 10 rfl rfl)
theorem dX0_write_11 : decode cX0_write 11 = .ok (.getfield 118, 3) := dk_180 0 118 (dk_at dksX0_write_0 11 rfl rfl)
theorem dX0_write_14 : decode cX0_write 14 = .ok (.iload_n 1, 1) := dk_27 (dk_at dksX0_write_0 14 rfl rfl)
theorem dX0_write_15 : decode cX0_write 15 = .ok (.aaload, 1) := dk_50 (dk_at dksX0_write_0 15 rfl rfl)
theorem dX0_write_16 : decode cX0_write 16 = .ok (.iload_n 2, 1) := dk_28 (dk_at dksX0_write_0 16 rfl rfl)
theorem dX0_write_17 : decode cX0_write 17 = .ok (.lload_n 3, 1) := dk_33 (dk_at dksX0_write_0 17 rfl rfl)
theorem dX0_write_18 : decode cX0_write 18 = .ok (.invokevirtual 513, 3) := dk_182 2 1 (dk_at dksX0_write_0 18 rfl rfl)
theorem dX0_write_21 : decode cX0_write 21 = .ok (.iconst 0, 1) := dk_3 (dk_at dksX0_write_0 21 rfl rfl)
theorem dX0_write_22 : decode cX0_write 22 = .ok (.ireturn, 1) := dk_172 (dk_at dksX0_write_0 22 rfl rfl)
theorem dX0_write_23 : decode cX0_write 23 = .ok (.astore 5, 2) := dk_58 5 (dk_at dksX0_write_1 0 rfl rfl)
theorem dX0_write_25 : decode cX0_write 25 = .ok (.bipush (-6), 2) := dk_16 250 (dk_at dksX0_write_1 2 rfl rfl)
theorem dX0_write_27 : decode cX0_write 27 = .ok (.ireturn, 1) := dk_172 (dk_at dksX0_write_1 4 rfl rfl)
theorem dX0_write_28 : decode cX0_write 28 = .ok (.astore 5, 2) := dk_58 5 (dk_at dksX0_write_1 5 rfl rfl)
theorem dX0_write_30 : decode cX0_write 30 = .ok (.bipush (-7), 2) := dk_16 249 (dk_at dksX0_write_1 7 rfl rfl)
theorem dX0_write_32 : decode cX0_write 32 = .ok (.ireturn, 1) := dk_172 (dk_at dksX0_write_1 9 rfl rfl)
abbrev cX0_paste : ByteArray := prog_1_method_136_code
def yX0_paste : MethodName := ⟨RX0, "paste", "(IIIII)I"⟩
def dkwX0_paste_2 : List UInt8 := [16, 250, 172, 58, 6, 16, 248, 172, 58, 6, 16, 249, 172]
abbrev dktX0_paste_2 : List UInt8 := dkwX0_paste_2 ++ []
def dkwX0_paste_1 : List UInt8 := [180, 1, 243, 28, 42, 180, 0, 118, 29, 50, 180, 1, 243, 21, 4, 21, 5, 184, 1, 59, 3, 172, 58, 6]
abbrev dktX0_paste_1 : List UInt8 := dkwX0_paste_1 ++ dktX0_paste_2
def dkwX0_paste_0 : List UInt8 := [27, 184, 1, 132, 153, 0, 10, 29, 184, 1, 132, 154, 0, 6, 16, 254, 172, 42, 180, 0, 118, 27, 50]
abbrev dktX0_paste_0 : List UInt8 := dkwX0_paste_0 ++ dktX0_paste_1
theorem dksX0_paste_0 : cX0_paste.data.toList.drop 0 = dktX0_paste_0 := by decide +kernel
theorem dksX0_paste_1 : cX0_paste.data.toList.drop 23 = dktX0_paste_1 := dk_seg dksX0_paste_0 23 rfl rfl
theorem dksX0_paste_2 : cX0_paste.data.toList.drop 47 = dktX0_paste_2 := dk_seg dksX0_paste_1 24 rfl rfl
theorem dX0_paste_0 : decode cX0_paste 0 = .ok (.iload_n 1, 1) := dk_27 (dk_at dksX0_paste_0 0 rfl rfl)
theorem dX0_paste_1 : decode cX0_paste 1 = .ok (.invokestatic 388, 3) := dk_184 1 132 (dk_at dksX0_paste_0 1 rfl rfl)
theorem dX0_paste_4 : decode cX0_paste 4 = .ok (.ifCond .eq 10, 3) := dk_153 0 10 (dk_at dksX0_paste_0 4 rfl rfl)
theorem dX0_paste_7 : decode cX0_paste 7 = .ok (.iload_n 3, 1) := dk_29 (dk_at dksX0_paste_0 7 rfl rfl)
theorem dX0_paste_8 : decode cX0_paste 8 = .ok (.invokestatic 388, 3) := dk_184 1 132 (dk_at dksX0_paste_0 8 rfl rfl)
theorem dX0_paste_11 : decode cX0_paste 11 = .ok (.ifCond .ne 6, 3) := dk_154 0 6 (dk_at dksX0_paste_0 11 rfl rfl)
theorem dX0_paste_14 : decode cX0_paste 14 = .ok (.bipush (-2), 2) := dk_16 254 (dk_at dksX0_paste_0 14 rfl rfl)
theorem dX0_paste_16 : decode cX0_paste 16 = .ok (.ireturn, 1) := dk_172 (dk_at dksX0_paste_0 16 rfl rfl)
theorem dX0_paste_17 : decode cX0_paste 17 = .ok (.aload_n 0, 1) := dk_42 (dk_at dksX0_paste_0 17 rfl rfl)
theorem dX0_paste_18 : decode cX0_paste 18 = .ok (.getfield 118, 3) := dk_180 0 118 (dk_at dksX0_paste_0 18 rfl rfl)
theorem dX0_paste_21 : decode cX0_paste 21 = .ok (.iload_n 1, 1) := dk_27 (dk_at dksX0_paste_0 21 rfl rfl)
theorem dX0_paste_22 : decode cX0_paste 22 = .ok (.aaload, 1) := dk_50 (dk_at dksX0_paste_0 22 rfl rfl)
theorem dX0_paste_23 : decode cX0_paste 23 = .ok (.getfield 499, 3) := dk_180 1 243 (dk_at dksX0_paste_1 0 rfl rfl)
theorem dX0_paste_26 : decode cX0_paste 26 = .ok (.iload_n 2, 1) := dk_28 (dk_at dksX0_paste_1 3 rfl rfl)
theorem dX0_paste_27 : decode cX0_paste 27 = .ok (.aload_n 0, 1) := dk_42 (dk_at dksX0_paste_1 4 rfl rfl)
theorem dX0_paste_28 : decode cX0_paste 28 = .ok (.getfield 118, 3) := dk_180 0 118 (dk_at dksX0_paste_1 5 rfl rfl)
theorem dX0_paste_31 : decode cX0_paste 31 = .ok (.iload_n 3, 1) := dk_29 (dk_at dksX0_paste_1 8 rfl rfl)
theorem dX0_paste_32 : decode cX0_paste 32 = .ok (.aaload, 1) := dk_50 (dk_at dksX0_paste_1 9 rfl rfl)
theorem dX0_paste_33 : decode cX0_paste 33 = .ok (.getfield 499, 3) := dk_180 1 243 (dk_at dksX0_paste_1 10 rfl rfl)
theorem dX0_paste_36 : decode cX0_paste 36 = .ok (.iload 4, 2) := dk_21 4 (dk_at dksX0_paste_1 13 rfl rfl)
theorem dX0_paste_38 : decode cX0_paste 38 = .ok (.iload 5, 2) := dk_21 5 (dk_at dksX0_paste_1 15 rfl rfl)
theorem dX0_paste_40 : decode cX0_paste 40 = .ok (.invokestatic 315, 3) := dk_184 1 59 (dk_at dksX0_paste_1 17 rfl rfl)
theorem dX0_paste_43 : decode cX0_paste 43 = .ok (.iconst 0, 1) := dk_3 (dk_at dksX0_paste_1 20 rfl rfl)
theorem dX0_paste_44 : decode cX0_paste 44 = .ok (.ireturn, 1) := dk_172 (dk_at dksX0_paste_1 21 rfl rfl)
theorem dX0_paste_45 : decode cX0_paste 45 = .ok (.astore 6, 2) := dk_58 6 (dk_at dksX0_paste_1 22 rfl rfl)
theorem dX0_paste_47 : decode cX0_paste 47 = .ok (.bipush (-6), 2) := dk_16 250 (dk_at dksX0_paste_2 0 rfl rfl)
theorem dX0_paste_49 : decode cX0_paste 49 = .ok (.ireturn, 1) := dk_172 (dk_at dksX0_paste_2 2 rfl rfl)
theorem dX0_paste_50 : decode cX0_paste 50 = .ok (.astore 6, 2) := dk_58 6 (dk_at dksX0_paste_2 3 rfl rfl)
theorem dX0_paste_52 : decode cX0_paste 52 = .ok (.bipush (-8), 2) := dk_16 248 (dk_at dksX0_paste_2 5 rfl rfl)
theorem dX0_paste_54 : decode cX0_paste 54 = .ok (.ireturn, 1) := dk_172 (dk_at dksX0_paste_2 7 rfl rfl)
theorem dX0_paste_55 : decode cX0_paste 55 = .ok (.astore 6, 2) := dk_58 6 (dk_at dksX0_paste_2 8 rfl rfl)
theorem dX0_paste_57 : decode cX0_paste 57 = .ok (.bipush (-7), 2) := dk_16 249 (dk_at dksX0_paste_2 10 rfl rfl)
theorem dX0_paste_59 : decode cX0_paste 59 = .ok (.ireturn, 1) := dk_172 (dk_at dksX0_paste_2 12 rfl rfl)
theorem q150 : (Jvm.Cond.initialized "HiddenCube") ∈ lw_all := lw_g (lw_at lw_m1 1 rfl) rfl
theorem q176 : (Jvm.Cond.instantiable "HiddenCube" (39 : Nat)) ∈ lw_all := lw_g (lw_at lw_m1 27 rfl) rfl
theorem q178 : (Jvm.Cond.instanceMethod ({ cls := "HiddenCube", name := "<init>", desc := "()V" } : Jvm.MethodName)) ∈ lw_all := lw_g (lw_at lw_m1 29 rfl) rfl
theorem q179 : (Jvm.Cond.code ({ cls := "HiddenCube", name := "<init>", desc := "()V" } : Jvm.MethodName) prog_1_method_3_code (1 : Nat) (Option.none : Option Jvm.ClassFile.FieldType)) ∈ lw_all := lw_g (lw_at lw_m1 30 rfl) rfl
theorem q180 : (Jvm.Cond.methodLink "HiddenCube" (1 : Nat) ({ cls := "java/lang/Object", name := "<init>", desc := "()V" } : Jvm.MethodName)) ∈ lw_all := lw_g (lw_at lw_m1 31 rfl) rfl
theorem q183 : (Jvm.Cond.classLink "HiddenCube" (7 : Nat) "HiddenCube$Town") ∈ lw_all := lw_g (lw_at lw_m1 34 rfl) rfl
theorem q185 : (Jvm.Cond.methodLinkNest "HiddenCube" (9 : Nat) ({ cls := "HiddenCube$Town", name := "<init>", desc := "()V" } : Jvm.MethodName) "HiddenCube") ∈ lw_tbl := lw_at lw_m1 36 rfl
theorem q191 : (Jvm.Cond.fieldLinkNest "HiddenCube" (158 : Nat) "HiddenCube$Town" "names" "I" "HiddenCube") ∈ lw_tbl := lw_at lw_m1 42 rfl
theorem q194 : (Jvm.Cond.fieldLinkNest "HiddenCube" (147 : Nat) "HiddenCube$Town" "lines" "I" "HiddenCube") ∈ lw_tbl := lw_at lw_m1 45 rfl
theorem q198 : (Jvm.Cond.fieldLinkNest "HiddenCube" (178 : Nat) "HiddenCube$Town" "letters" "[B" "HiddenCube") ∈ lw_tbl := lw_at lw_m1 49 rfl
theorem q201 : (Jvm.Cond.fieldLinkNest "HiddenCube" (175 : Nat) "HiddenCube$Town" "lengths" "[I" "HiddenCube") ∈ lw_tbl := lw_at lw_m1 52 rfl
theorem q204 : (Jvm.Cond.fieldLinkNest "HiddenCube" (425 : Nat) "HiddenCube$Town" "people" "[I" "HiddenCube") ∈ lw_tbl := lw_at lw_m1 55 rfl
theorem q207 : (Jvm.Cond.fieldLinkNest "HiddenCube" (456 : Nat) "HiddenCube$Town" "from" "[I" "HiddenCube") ∈ lw_tbl := lw_at lw_m1 58 rfl
theorem q210 : (Jvm.Cond.fieldLinkNest "HiddenCube" (440 : Nat) "HiddenCube$Town" "to" "[I" "HiddenCube") ∈ lw_tbl := lw_at lw_m1 61 rfl
theorem q212 : (Jvm.Cond.fieldLinkNest "HiddenCube" (192 : Nat) "HiddenCube$Town" "shut" "[I" "HiddenCube") ∈ lw_tbl := lw_at lw_m1 63 rfl
theorem q215 : (Jvm.Cond.fieldLinkNest "HiddenCube" (419 : Nat) "HiddenCube$Town" "persons" "I" "HiddenCube") ∈ lw_tbl := lw_at lw_m1 66 rfl
theorem q218 : (Jvm.Cond.fieldLinkNest "HiddenCube" (453 : Nat) "HiddenCube$Town" "carriers" "I" "HiddenCube") ∈ lw_tbl := lw_at lw_m1 69 rfl
theorem q221 : (Jvm.Cond.fieldLinkNest "HiddenCube" (368 : Nat) "HiddenCube$Town" "wardens" "I" "HiddenCube") ∈ lw_tbl := lw_at lw_m1 72 rfl
theorem q247 : (Jvm.Cond.classLink "HiddenCube" (24 : Nat) "HiddenCube$Walk") ∈ lw_all := lw_g (lw_at lw_m1 98 rfl) rfl
theorem q249 : (Jvm.Cond.methodLinkNest "HiddenCube" (26 : Nat) ({ cls := "HiddenCube$Walk", name := "<init>", desc := "(LHiddenCube;)V" } : Jvm.MethodName) "HiddenCube") ∈ lw_tbl := lw_at lw_m1 100 rfl
theorem q254 : (Jvm.Cond.fieldLink "HiddenCube" (210 : Nat) "HiddenCube$Walk" "far" "[I") ∈ lw_all := lw_g (lw_at lw_m1 105 rfl) rfl
theorem q261 : (Jvm.Cond.classLink "HiddenCube" (33 : Nat) "HiddenCube$Without") ∈ lw_all := lw_g (lw_at lw_m1 112 rfl) rfl
theorem q263 : (Jvm.Cond.methodLinkNest "HiddenCube" (35 : Nat) ({ cls := "HiddenCube$Without", name := "<init>", desc := "(LHiddenCube;)V" } : Jvm.MethodName) "HiddenCube") ∈ lw_tbl := lw_at lw_m1 114 rfl
theorem q268 : (Jvm.Cond.fieldLinkNest "HiddenCube" (289 : Nat) "HiddenCube$Without" "square" "I" "HiddenCube") ∈ lw_tbl := lw_at lw_m1 119 rfl
theorem q270 : (Jvm.Cond.fieldLinkNest "HiddenCube" (292 : Nat) "HiddenCube$Without" "name" "I" "HiddenCube") ∈ lw_tbl := lw_at lw_m1 121 rfl
theorem q281 : (Jvm.Cond.constant "HiddenCube" (80 : Nat) (65536 : Int32)) ∈ lw_all := lw_g (lw_at lw_m1 132 rfl) rfl
theorem q282 : (Jvm.Cond.classLink "HiddenCube" (115 : Nat) "HiddenCube$Slot") ∈ lw_all := lw_g (lw_at lw_m1 133 rfl) rfl
theorem q285 : (Jvm.Cond.methodLinkNest "HiddenCube" (117 : Nat) ({ cls := "HiddenCube$Slot", name := "<init>", desc := "()V" } : Jvm.MethodName) "HiddenCube") ∈ lw_tbl := lw_at lw_m1 136 rfl
theorem q290 : (Jvm.Cond.fieldLinkNest "HiddenCube" (499 : Nat) "HiddenCube$Slot" "row" "Ljava/lang/Object;" "HiddenCube") ∈ lw_tbl := lw_at lw_m1 141 rfl
theorem q297 : (Jvm.Cond.fieldLink "HiddenCube" (10 : Nat) "HiddenCube" "town" "LHiddenCube$Town;") ∈ lw_all := lw_g (lw_at lw_m1 148 rfl) rfl
theorem q299 : (Jvm.Cond.fieldLink "HiddenCube" (16 : Nat) "HiddenCube" "tape" "[B") ∈ lw_all := lw_g (lw_at lw_m1 150 rfl) rfl
theorem q301 : (Jvm.Cond.fieldLink "HiddenCube" (126 : Nat) "HiddenCube" "taped" "I") ∈ lw_all := lw_g (lw_at lw_m1 152 rfl) rfl
theorem q302 : (Jvm.Cond.fieldLink "HiddenCube" (144 : Nat) "HiddenCube" "faultKind" "I") ∈ lw_all := lw_g (lw_at lw_m1 153 rfl) rfl
theorem q303 : (Jvm.Cond.fieldLink "HiddenCube" (20 : Nat) "HiddenCube" "faultPlace" "I") ∈ lw_all := lw_g (lw_at lw_m1 154 rfl) rfl
theorem q304 : (Jvm.Cond.fieldLink "HiddenCube" (29 : Nat) "HiddenCube" "walk" "LHiddenCube$Walk;") ∈ lw_all := lw_g (lw_at lw_m1 155 rfl) rfl
theorem q305 : (Jvm.Cond.fieldLink "HiddenCube" (36 : Nat) "HiddenCube" "without" "LHiddenCube$Without;") ∈ lw_all := lw_g (lw_at lw_m1 156 rfl) rfl
theorem q306 : (Jvm.Cond.fieldLink "HiddenCube" (40 : Nat) "HiddenCube" "manyTo" "[I") ∈ lw_all := lw_g (lw_at lw_m1 157 rfl) rfl
theorem q307 : (Jvm.Cond.fieldLink "HiddenCube" (44 : Nat) "HiddenCube" "out" "[I") ∈ lw_all := lw_g (lw_at lw_m1 158 rfl) rfl
theorem q308 : (Jvm.Cond.fieldLink "HiddenCube" (47 : Nat) "HiddenCube" "cameFrom" "[I") ∈ lw_all := lw_g (lw_at lw_m1 159 rfl) rfl
theorem q309 : (Jvm.Cond.fieldLink "HiddenCube" (50 : Nat) "HiddenCube" "queue" "[I") ∈ lw_all := lw_g (lw_at lw_m1 160 rfl) rfl
theorem q310 : (Jvm.Cond.fieldLink "HiddenCube" (261 : Nat) "HiddenCube" "met" "I") ∈ lw_all := lw_g (lw_at lw_m1 161 rfl) rfl
theorem q311 : (Jvm.Cond.fieldLink "HiddenCube" (53 : Nat) "HiddenCube" "round" "[I") ∈ lw_all := lw_g (lw_at lw_m1 162 rfl) rfl
theorem q312 : (Jvm.Cond.fieldLink "HiddenCube" (56 : Nat) "HiddenCube" "tried" "[I") ∈ lw_all := lw_g (lw_at lw_m1 163 rfl) rfl
theorem q313 : (Jvm.Cond.fieldLink "HiddenCube" (59 : Nat) "HiddenCube" "firstRound" "[I") ∈ lw_all := lw_g (lw_at lw_m1 164 rfl) rfl
theorem q314 : (Jvm.Cond.fieldLink "HiddenCube" (62 : Nat) "HiddenCube" "roundStreets" "[I") ∈ lw_all := lw_g (lw_at lw_m1 165 rfl) rfl
theorem q315 : (Jvm.Cond.fieldLink "HiddenCube" (309 : Nat) "HiddenCube" "roundsMany" "I") ∈ lw_all := lw_g (lw_at lw_m1 166 rfl) rfl
theorem q316 : (Jvm.Cond.fieldLink "HiddenCube" (65 : Nat) "HiddenCube" "turnNames" "[I") ∈ lw_all := lw_g (lw_at lw_m1 167 rfl) rfl
theorem q317 : (Jvm.Cond.fieldLink "HiddenCube" (68 : Nat) "HiddenCube" "turnOver" "[I") ∈ lw_all := lw_g (lw_at lw_m1 168 rfl) rfl
theorem q318 : (Jvm.Cond.fieldLink "HiddenCube" (71 : Nat) "HiddenCube" "perm" "[I") ∈ lw_all := lw_g (lw_at lw_m1 169 rfl) rfl
theorem q319 : (Jvm.Cond.fieldLink "HiddenCube" (340 : Nat) "HiddenCube" "turnsMany" "I") ∈ lw_all := lw_g (lw_at lw_m1 170 rfl) rfl
theorem q320 : (Jvm.Cond.fieldLink "HiddenCube" (74 : Nat) "HiddenCube" "streetTo" "[I") ∈ lw_all := lw_g (lw_at lw_m1 171 rfl) rfl
theorem q321 : (Jvm.Cond.fieldLink "HiddenCube" (77 : Nat) "HiddenCube" "leastTurned" "[I") ∈ lw_all := lw_g (lw_at lw_m1 172 rfl) rfl
theorem q322 : (Jvm.Cond.fieldLink "HiddenCube" (81 : Nat) "HiddenCube" "watched" "[I") ∈ lw_all := lw_g (lw_at lw_m1 173 rfl) rfl
theorem q323 : (Jvm.Cond.fieldLink "HiddenCube" (84 : Nat) "HiddenCube" "isFine" "[Z") ∈ lw_all := lw_g (lw_at lw_m1 174 rfl) rfl
theorem q324 : (Jvm.Cond.fieldLink "HiddenCube" (88 : Nat) "HiddenCube" "placeOf" "[I") ∈ lw_all := lw_g (lw_at lw_m1 175 rfl) rfl
theorem q325 : (Jvm.Cond.fieldLink "HiddenCube" (91 : Nat) "HiddenCube" "circle" "[I") ∈ lw_all := lw_g (lw_at lw_m1 176 rfl) rfl
theorem q326 : (Jvm.Cond.fieldLink "HiddenCube" (94 : Nat) "HiddenCube" "stands" "[I") ∈ lw_all := lw_g (lw_at lw_m1 177 rfl) rfl
theorem q327 : (Jvm.Cond.fieldLink "HiddenCube" (97 : Nat) "HiddenCube" "surely" "[I") ∈ lw_all := lw_g (lw_at lw_m1 178 rfl) rfl
theorem q328 : (Jvm.Cond.fieldLink "HiddenCube" (428 : Nat) "HiddenCube" "placings" "I") ∈ lw_all := lw_g (lw_at lw_m1 179 rfl) rfl
theorem q329 : (Jvm.Cond.fieldLink "HiddenCube" (100 : Nat) "HiddenCube" "carrierAt" "[I") ∈ lw_all := lw_g (lw_at lw_m1 180 rfl) rfl
theorem q330 : (Jvm.Cond.fieldLink "HiddenCube" (103 : Nat) "HiddenCube" "wentFrom" "[I") ∈ lw_all := lw_g (lw_at lw_m1 181 rfl) rfl
theorem q331 : (Jvm.Cond.fieldLink "HiddenCube" (106 : Nat) "HiddenCube" "wentTo" "[I") ∈ lw_all := lw_g (lw_at lw_m1 182 rfl) rfl
theorem q332 : (Jvm.Cond.fieldLink "HiddenCube" (109 : Nat) "HiddenCube" "arrived" "[I") ∈ lw_all := lw_g (lw_at lw_m1 183 rfl) rfl
theorem q333 : (Jvm.Cond.fieldLink "HiddenCube" (447 : Nat) "HiddenCube" "waits" "I") ∈ lw_all := lw_g (lw_at lw_m1 184 rfl) rfl
theorem q334 : (Jvm.Cond.fieldLink "HiddenCube" (450 : Nat) "HiddenCube" "clashes" "I") ∈ lw_all := lw_g (lw_at lw_m1 185 rfl) rfl
theorem q335 : (Jvm.Cond.fieldLink "HiddenCube" (112 : Nat) "HiddenCube" "floods" "[I") ∈ lw_all := lw_g (lw_at lw_m1 186 rfl) rfl
theorem q336 : (Jvm.Cond.fieldLink "HiddenCube" (118 : Nat) "HiddenCube" "slots" "[LHiddenCube$Slot;") ∈ lw_all := lw_g (lw_at lw_m1 187 rfl) rfl
theorem q337 : (Jvm.Cond.fieldLink "HiddenCube" (122 : Nat) "HiddenCube" "images" "[LHiddenCube$Town;") ∈ lw_all := lw_g (lw_at lw_m1 188 rfl) rfl
theorem q338 : (Jvm.Cond.lays "HiddenCube" "HiddenCube" "town" "LHiddenCube$Town;") ∈ lw_all := lw_g (lw_at lw_m1 189 rfl) rfl
theorem q339 : (Jvm.Cond.soleField "HiddenCube" "town") ∈ lw_all := lw_g (lw_at lw_m1 190 rfl) rfl
theorem q340 : (Jvm.Cond.laysFinal "HiddenCube" "HiddenCube" "tape" "[B") ∈ lw_all := lw_g (lw_at lw_m1 191 rfl) rfl
theorem q341 : (Jvm.Cond.soleField "HiddenCube" "tape") ∈ lw_all := lw_g (lw_at lw_m1 192 rfl) rfl
theorem q342 : (Jvm.Cond.lays "HiddenCube" "HiddenCube" "taped" "I") ∈ lw_all := lw_g (lw_at lw_m1 193 rfl) rfl
theorem q343 : (Jvm.Cond.soleField "HiddenCube" "taped") ∈ lw_all := lw_g (lw_at lw_m1 194 rfl) rfl
theorem q344 : (Jvm.Cond.lays "HiddenCube" "HiddenCube" "faultKind" "I") ∈ lw_all := lw_g (lw_at lw_m1 195 rfl) rfl
theorem q345 : (Jvm.Cond.soleField "HiddenCube" "faultKind") ∈ lw_all := lw_g (lw_at lw_m1 196 rfl) rfl
theorem q346 : (Jvm.Cond.lays "HiddenCube" "HiddenCube" "faultPlace" "I") ∈ lw_all := lw_g (lw_at lw_m1 197 rfl) rfl
theorem q347 : (Jvm.Cond.soleField "HiddenCube" "faultPlace") ∈ lw_all := lw_g (lw_at lw_m1 198 rfl) rfl
theorem q348 : (Jvm.Cond.laysFinal "HiddenCube" "HiddenCube" "walk" "LHiddenCube$Walk;") ∈ lw_all := lw_g (lw_at lw_m1 199 rfl) rfl
theorem q349 : (Jvm.Cond.soleField "HiddenCube" "walk") ∈ lw_all := lw_g (lw_at lw_m1 200 rfl) rfl
theorem q350 : (Jvm.Cond.laysFinal "HiddenCube" "HiddenCube" "without" "LHiddenCube$Without;") ∈ lw_all := lw_g (lw_at lw_m1 201 rfl) rfl
theorem q351 : (Jvm.Cond.soleField "HiddenCube" "without") ∈ lw_all := lw_g (lw_at lw_m1 202 rfl) rfl
theorem q352 : (Jvm.Cond.laysFinal "HiddenCube" "HiddenCube" "manyTo" "[I") ∈ lw_all := lw_g (lw_at lw_m1 203 rfl) rfl
theorem q353 : (Jvm.Cond.soleField "HiddenCube" "manyTo") ∈ lw_all := lw_g (lw_at lw_m1 204 rfl) rfl
theorem q354 : (Jvm.Cond.laysFinal "HiddenCube" "HiddenCube" "out" "[I") ∈ lw_all := lw_g (lw_at lw_m1 205 rfl) rfl
theorem q355 : (Jvm.Cond.soleField "HiddenCube" "out") ∈ lw_all := lw_g (lw_at lw_m1 206 rfl) rfl
theorem q356 : (Jvm.Cond.laysFinal "HiddenCube" "HiddenCube" "cameFrom" "[I") ∈ lw_all := lw_g (lw_at lw_m1 207 rfl) rfl
theorem q357 : (Jvm.Cond.soleField "HiddenCube" "cameFrom") ∈ lw_all := lw_g (lw_at lw_m1 208 rfl) rfl
theorem q358 : (Jvm.Cond.laysFinal "HiddenCube" "HiddenCube" "queue" "[I") ∈ lw_all := lw_g (lw_at lw_m1 209 rfl) rfl
theorem q359 : (Jvm.Cond.soleField "HiddenCube" "queue") ∈ lw_all := lw_g (lw_at lw_m1 210 rfl) rfl
theorem q360 : (Jvm.Cond.lays "HiddenCube" "HiddenCube" "met" "I") ∈ lw_all := lw_g (lw_at lw_m1 211 rfl) rfl
theorem q361 : (Jvm.Cond.soleField "HiddenCube" "met") ∈ lw_all := lw_g (lw_at lw_m1 212 rfl) rfl
theorem q362 : (Jvm.Cond.laysFinal "HiddenCube" "HiddenCube" "round" "[I") ∈ lw_all := lw_g (lw_at lw_m1 213 rfl) rfl
theorem q363 : (Jvm.Cond.soleField "HiddenCube" "round") ∈ lw_all := lw_g (lw_at lw_m1 214 rfl) rfl
theorem q364 : (Jvm.Cond.laysFinal "HiddenCube" "HiddenCube" "tried" "[I") ∈ lw_all := lw_g (lw_at lw_m1 215 rfl) rfl
theorem q365 : (Jvm.Cond.soleField "HiddenCube" "tried") ∈ lw_all := lw_g (lw_at lw_m1 216 rfl) rfl
theorem q366 : (Jvm.Cond.laysFinal "HiddenCube" "HiddenCube" "firstRound" "[I") ∈ lw_all := lw_g (lw_at lw_m1 217 rfl) rfl
theorem q367 : (Jvm.Cond.soleField "HiddenCube" "firstRound") ∈ lw_all := lw_g (lw_at lw_m1 218 rfl) rfl
theorem q368 : (Jvm.Cond.laysFinal "HiddenCube" "HiddenCube" "roundStreets" "[I") ∈ lw_all := lw_g (lw_at lw_m1 219 rfl) rfl
theorem q369 : (Jvm.Cond.soleField "HiddenCube" "roundStreets") ∈ lw_all := lw_g (lw_at lw_m1 220 rfl) rfl
theorem q370 : (Jvm.Cond.lays "HiddenCube" "HiddenCube" "roundsMany" "I") ∈ lw_all := lw_g (lw_at lw_m1 221 rfl) rfl
theorem q371 : (Jvm.Cond.soleField "HiddenCube" "roundsMany") ∈ lw_all := lw_g (lw_at lw_m1 222 rfl) rfl
theorem q372 : (Jvm.Cond.laysFinal "HiddenCube" "HiddenCube" "turnNames" "[I") ∈ lw_all := lw_g (lw_at lw_m1 223 rfl) rfl
theorem q373 : (Jvm.Cond.soleField "HiddenCube" "turnNames") ∈ lw_all := lw_g (lw_at lw_m1 224 rfl) rfl
theorem q374 : (Jvm.Cond.laysFinal "HiddenCube" "HiddenCube" "turnOver" "[I") ∈ lw_all := lw_g (lw_at lw_m1 225 rfl) rfl
theorem q375 : (Jvm.Cond.soleField "HiddenCube" "turnOver") ∈ lw_all := lw_g (lw_at lw_m1 226 rfl) rfl
theorem q376 : (Jvm.Cond.laysFinal "HiddenCube" "HiddenCube" "perm" "[I") ∈ lw_all := lw_g (lw_at lw_m1 227 rfl) rfl
theorem q377 : (Jvm.Cond.soleField "HiddenCube" "perm") ∈ lw_all := lw_g (lw_at lw_m1 228 rfl) rfl
theorem q378 : (Jvm.Cond.lays "HiddenCube" "HiddenCube" "turnsMany" "I") ∈ lw_all := lw_g (lw_at lw_m1 229 rfl) rfl
theorem q379 : (Jvm.Cond.soleField "HiddenCube" "turnsMany") ∈ lw_all := lw_g (lw_at lw_m1 230 rfl) rfl
theorem q380 : (Jvm.Cond.laysFinal "HiddenCube" "HiddenCube" "streetTo" "[I") ∈ lw_all := lw_g (lw_at lw_m1 231 rfl) rfl
theorem q381 : (Jvm.Cond.soleField "HiddenCube" "streetTo") ∈ lw_all := lw_g (lw_at lw_m1 232 rfl) rfl
theorem q382 : (Jvm.Cond.laysFinal "HiddenCube" "HiddenCube" "leastTurned" "[I") ∈ lw_all := lw_g (lw_at lw_m1 233 rfl) rfl
theorem q383 : (Jvm.Cond.soleField "HiddenCube" "leastTurned") ∈ lw_all := lw_g (lw_at lw_m1 234 rfl) rfl
theorem q384 : (Jvm.Cond.laysFinal "HiddenCube" "HiddenCube" "watched" "[I") ∈ lw_all := lw_g (lw_at lw_m1 235 rfl) rfl
theorem q385 : (Jvm.Cond.soleField "HiddenCube" "watched") ∈ lw_all := lw_g (lw_at lw_m1 236 rfl) rfl
theorem q386 : (Jvm.Cond.laysFinal "HiddenCube" "HiddenCube" "isFine" "[Z") ∈ lw_all := lw_g (lw_at lw_m1 237 rfl) rfl
theorem q387 : (Jvm.Cond.soleField "HiddenCube" "isFine") ∈ lw_all := lw_g (lw_at lw_m1 238 rfl) rfl
theorem q388 : (Jvm.Cond.laysFinal "HiddenCube" "HiddenCube" "placeOf" "[I") ∈ lw_all := lw_g (lw_at lw_m1 239 rfl) rfl
theorem q389 : (Jvm.Cond.soleField "HiddenCube" "placeOf") ∈ lw_all := lw_g (lw_at lw_m2 0 rfl) rfl
theorem q390 : (Jvm.Cond.laysFinal "HiddenCube" "HiddenCube" "circle" "[I") ∈ lw_all := lw_g (lw_at lw_m2 1 rfl) rfl
theorem q391 : (Jvm.Cond.soleField "HiddenCube" "circle") ∈ lw_all := lw_g (lw_at lw_m2 2 rfl) rfl
theorem q392 : (Jvm.Cond.laysFinal "HiddenCube" "HiddenCube" "stands" "[I") ∈ lw_all := lw_g (lw_at lw_m2 3 rfl) rfl
theorem q393 : (Jvm.Cond.soleField "HiddenCube" "stands") ∈ lw_all := lw_g (lw_at lw_m2 4 rfl) rfl
theorem q394 : (Jvm.Cond.laysFinal "HiddenCube" "HiddenCube" "surely" "[I") ∈ lw_all := lw_g (lw_at lw_m2 5 rfl) rfl
theorem q395 : (Jvm.Cond.soleField "HiddenCube" "surely") ∈ lw_all := lw_g (lw_at lw_m2 6 rfl) rfl
theorem q396 : (Jvm.Cond.lays "HiddenCube" "HiddenCube" "placings" "I") ∈ lw_all := lw_g (lw_at lw_m2 7 rfl) rfl
theorem q397 : (Jvm.Cond.soleField "HiddenCube" "placings") ∈ lw_all := lw_g (lw_at lw_m2 8 rfl) rfl
theorem q398 : (Jvm.Cond.laysFinal "HiddenCube" "HiddenCube" "carrierAt" "[I") ∈ lw_all := lw_g (lw_at lw_m2 9 rfl) rfl
theorem q399 : (Jvm.Cond.soleField "HiddenCube" "carrierAt") ∈ lw_all := lw_g (lw_at lw_m2 10 rfl) rfl
theorem q400 : (Jvm.Cond.laysFinal "HiddenCube" "HiddenCube" "wentFrom" "[I") ∈ lw_all := lw_g (lw_at lw_m2 11 rfl) rfl
theorem q401 : (Jvm.Cond.soleField "HiddenCube" "wentFrom") ∈ lw_all := lw_g (lw_at lw_m2 12 rfl) rfl
theorem q402 : (Jvm.Cond.laysFinal "HiddenCube" "HiddenCube" "wentTo" "[I") ∈ lw_all := lw_g (lw_at lw_m2 13 rfl) rfl
theorem q403 : (Jvm.Cond.soleField "HiddenCube" "wentTo") ∈ lw_all := lw_g (lw_at lw_m2 14 rfl) rfl
theorem q404 : (Jvm.Cond.laysFinal "HiddenCube" "HiddenCube" "arrived" "[I") ∈ lw_all := lw_g (lw_at lw_m2 15 rfl) rfl
theorem q405 : (Jvm.Cond.soleField "HiddenCube" "arrived") ∈ lw_all := lw_g (lw_at lw_m2 16 rfl) rfl
theorem q406 : (Jvm.Cond.lays "HiddenCube" "HiddenCube" "waits" "I") ∈ lw_all := lw_g (lw_at lw_m2 17 rfl) rfl
theorem q407 : (Jvm.Cond.soleField "HiddenCube" "waits") ∈ lw_all := lw_g (lw_at lw_m2 18 rfl) rfl
theorem q408 : (Jvm.Cond.lays "HiddenCube" "HiddenCube" "clashes" "I") ∈ lw_all := lw_g (lw_at lw_m2 19 rfl) rfl
theorem q409 : (Jvm.Cond.soleField "HiddenCube" "clashes") ∈ lw_all := lw_g (lw_at lw_m2 20 rfl) rfl
theorem q410 : (Jvm.Cond.laysFinal "HiddenCube" "HiddenCube" "floods" "[I") ∈ lw_all := lw_g (lw_at lw_m2 21 rfl) rfl
theorem q411 : (Jvm.Cond.soleField "HiddenCube" "floods") ∈ lw_all := lw_g (lw_at lw_m2 22 rfl) rfl
theorem q412 : (Jvm.Cond.laysFinal "HiddenCube" "HiddenCube" "slots" "[LHiddenCube$Slot;") ∈ lw_all := lw_g (lw_at lw_m2 23 rfl) rfl
theorem q413 : (Jvm.Cond.soleField "HiddenCube" "slots") ∈ lw_all := lw_g (lw_at lw_m2 24 rfl) rfl
theorem q414 : (Jvm.Cond.laysFinal "HiddenCube" "HiddenCube" "images" "[LHiddenCube$Town;") ∈ lw_all := lw_g (lw_at lw_m2 25 rfl) rfl
theorem q415 : (Jvm.Cond.soleField "HiddenCube" "images") ∈ lw_all := lw_g (lw_at lw_m2 26 rfl) rfl
theorem q416 : (Jvm.Cond.superclass "HiddenCube" "java/lang/Object") ∈ lw_all := lw_g (lw_at lw_m2 27 rfl) rfl
theorem q418 : (Jvm.Cond.instanceMethod ({ cls := "HiddenCube", name := "feed", desc := "(IIIII)I" } : Jvm.MethodName)) ∈ lw_all := lw_g (lw_at lw_m2 29 rfl) rfl
theorem q419 : (Jvm.Cond.selects "HiddenCube" ({ cls := "HiddenCube", name := "feed", desc := "(IIIII)I" } : Jvm.MethodName) ({ cls := "HiddenCube", name := "feed", desc := "(IIIII)I" } : Jvm.MethodName)) ∈ lw_all := lw_g (lw_at lw_m2 30 rfl) rfl
theorem q420 : (Jvm.Cond.code ({ cls := "HiddenCube", name := "feed", desc := "(IIIII)I" } : Jvm.MethodName) prog_1_method_5_code (6 : Nat) (Option.some Jvm.ClassFile.FieldType.int)) ∈ lw_all := lw_g (lw_at lw_m2 31 rfl) rfl
theorem q421 : (Jvm.Cond.methodLink "HiddenCube" (129 : Nat) ({ cls := "HiddenCube", name := "puts", desc := "(I)V" } : Jvm.MethodName)) ∈ lw_all := lw_g (lw_at lw_m2 32 rfl) rfl
theorem q422 : (Jvm.Cond.privateMethod ({ cls := "HiddenCube", name := "puts", desc := "(I)V" } : Jvm.MethodName)) ∈ lw_tbl := lw_at lw_m2 33 rfl
theorem q423 : (Jvm.Cond.instanceMethod ({ cls := "HiddenCube", name := "puts", desc := "(I)V" } : Jvm.MethodName)) ∈ lw_all := lw_g (lw_at lw_m2 34 rfl) rfl
theorem q424 : (Jvm.Cond.code ({ cls := "HiddenCube", name := "puts", desc := "(I)V" } : Jvm.MethodName) prog_1_method_4_code (3 : Nat) (Option.none : Option Jvm.ClassFile.FieldType)) ∈ lw_all := lw_g (lw_at lw_m2 35 rfl) rfl
theorem q426 : (Jvm.Cond.instanceMethod ({ cls := "HiddenCube", name := "end", desc := "(I)I" } : Jvm.MethodName)) ∈ lw_all := lw_g (lw_at lw_m2 37 rfl) rfl
theorem q427 : (Jvm.Cond.selects "HiddenCube" ({ cls := "HiddenCube", name := "end", desc := "(I)I" } : Jvm.MethodName) ({ cls := "HiddenCube", name := "end", desc := "(I)I" } : Jvm.MethodName)) ∈ lw_all := lw_g (lw_at lw_m2 38 rfl) rfl
theorem q428 : (Jvm.Cond.code ({ cls := "HiddenCube", name := "end", desc := "(I)I" } : Jvm.MethodName) prog_1_method_6_code (2 : Nat) (Option.some Jvm.ClassFile.FieldType.int)) ∈ lw_all := lw_g (lw_at lw_m2 39 rfl) rfl
theorem q429 : (Jvm.Cond.methodLink "HiddenCube" (133 : Nat) ({ cls := "HiddenCube", name := "isIn", desc := "(JJJ)Z" } : Jvm.MethodName)) ∈ lw_all := lw_g (lw_at lw_m2 40 rfl) rfl
theorem q430 : (Jvm.Cond.static ({ cls := "HiddenCube", name := "isIn", desc := "(JJJ)Z" } : Jvm.MethodName)) ∈ lw_all := lw_g (lw_at lw_m2 41 rfl) rfl
theorem q431 : (Jvm.Cond.code ({ cls := "HiddenCube", name := "isIn", desc := "(JJJ)Z" } : Jvm.MethodName) prog_1_method_1_code (6 : Nat) (Option.some Jvm.ClassFile.FieldType.boolean)) ∈ lw_all := lw_g (lw_at lw_m2 42 rfl) rfl
theorem q433 : (Jvm.Cond.instanceMethod ({ cls := "HiddenCube", name := "town", desc := "()I" } : Jvm.MethodName)) ∈ lw_all := lw_g (lw_at lw_m2 44 rfl) rfl
theorem q434 : (Jvm.Cond.selects "HiddenCube" ({ cls := "HiddenCube", name := "town", desc := "()I" } : Jvm.MethodName) ({ cls := "HiddenCube", name := "town", desc := "()I" } : Jvm.MethodName)) ∈ lw_all := lw_g (lw_at lw_m2 45 rfl) rfl
theorem q435 : (Jvm.Cond.codeWith ({ cls := "HiddenCube", name := "town", desc := "()I" } : Jvm.MethodName) prog_1_method_7_code (4 : Nat) (Option.some Jvm.ClassFile.FieldType.int) [((0 : Nat), (33 : Nat), (40 : Nat), (150 : Nat)), ((0 : Nat), (33 : Nat), (67 : Nat), (0 : Nat)), ((40 : Nat), (60 : Nat), (67 : Nat), (0 : Nat))]) ∈ lw_all := lw_g (lw_at lw_m2 46 rfl) rfl
theorem q436 : (Jvm.Cond.classLink "HiddenCube" (150 : Nat) "HiddenCube$Fault") ∈ lw_all := lw_g (lw_at lw_m2 47 rfl) rfl
theorem q437 : (Jvm.Cond.classLink "HiddenCube" (137 : Nat) "HiddenCube$Reader") ∈ lw_all := lw_g (lw_at lw_m2 48 rfl) rfl
theorem q439 : (Jvm.Cond.methodLink "HiddenCube" (139 : Nat) ({ cls := "HiddenCube$Reader", name := "<init>", desc := "(LHiddenCube;)V" } : Jvm.MethodName)) ∈ lw_all := lw_g (lw_at lw_m2 50 rfl) rfl
theorem q490 : (Jvm.Cond.methodLink "HiddenCube" (140 : Nat) ({ cls := "HiddenCube$Reader", name := "read", desc := "()LHiddenCube$Town;" } : Jvm.MethodName)) ∈ lw_all := lw_g (lw_at lw_m2 101 rfl) rfl
theorem q627 : (Jvm.Cond.fieldLinkNest "HiddenCube" (152 : Nat) "HiddenCube$Fault" "kind" "I" "HiddenCube") ∈ lw_tbl := lw_at lw_m2 238 rfl
theorem q629 : (Jvm.Cond.fieldLinkNest "HiddenCube" (155 : Nat) "HiddenCube$Fault" "place" "I" "HiddenCube") ∈ lw_tbl := lw_at lw_m3 0 rfl
theorem q682 : (Jvm.Cond.static ({ cls := "HiddenCube", name := "has", desc := "(II)Z" } : Jvm.MethodName)) ∈ lw_all := lw_g (lw_at lw_m3 53 rfl) rfl
theorem q683 : (Jvm.Cond.code ({ cls := "HiddenCube", name := "has", desc := "(II)Z" } : Jvm.MethodName) prog_1_method_2_code (2 : Nat) (Option.some Jvm.ClassFile.FieldType.boolean)) ∈ lw_all := lw_g (lw_at lw_m3 54 rfl) rfl
theorem q708 : (Jvm.Cond.instanceMethod ({ cls := "HiddenCube", name := "fault", desc := "(I)I" } : Jvm.MethodName)) ∈ lw_all := lw_g (lw_at lw_m3 79 rfl) rfl
theorem q709 : (Jvm.Cond.selects "HiddenCube" ({ cls := "HiddenCube", name := "fault", desc := "(I)I" } : Jvm.MethodName) ({ cls := "HiddenCube", name := "fault", desc := "(I)I" } : Jvm.MethodName)) ∈ lw_all := lw_g (lw_at lw_m3 80 rfl) rfl
theorem q710 : (Jvm.Cond.code ({ cls := "HiddenCube", name := "fault", desc := "(I)I" } : Jvm.MethodName) prog_1_method_8_code (2 : Nat) (Option.some Jvm.ClassFile.FieldType.int)) ∈ lw_all := lw_g (lw_at lw_m3 81 rfl) rfl
theorem q712 : (Jvm.Cond.instanceMethod ({ cls := "HiddenCube", name := "letter", desc := "(II)I" } : Jvm.MethodName)) ∈ lw_all := lw_g (lw_at lw_m3 83 rfl) rfl
theorem q713 : (Jvm.Cond.selects "HiddenCube" ({ cls := "HiddenCube", name := "letter", desc := "(II)I" } : Jvm.MethodName) ({ cls := "HiddenCube", name := "letter", desc := "(II)I" } : Jvm.MethodName)) ∈ lw_all := lw_g (lw_at lw_m3 84 rfl) rfl
theorem q714 : (Jvm.Cond.code ({ cls := "HiddenCube", name := "letter", desc := "(II)I" } : Jvm.MethodName) prog_1_method_15_code (3 : Nat) (Option.some Jvm.ClassFile.FieldType.int)) ∈ lw_all := lw_g (lw_at lw_m3 85 rfl) rfl
theorem q715 : (Jvm.Cond.methodLink "HiddenCube" (171 : Nat) ({ cls := "HiddenCube", name := "isName", desc := "(I)Z" } : Jvm.MethodName)) ∈ lw_all := lw_g (lw_at lw_m3 86 rfl) rfl
theorem q716 : (Jvm.Cond.privateMethod ({ cls := "HiddenCube", name := "isName", desc := "(I)Z" } : Jvm.MethodName)) ∈ lw_tbl := lw_at lw_m3 87 rfl
theorem q717 : (Jvm.Cond.instanceMethod ({ cls := "HiddenCube", name := "isName", desc := "(I)Z" } : Jvm.MethodName)) ∈ lw_all := lw_g (lw_at lw_m3 88 rfl) rfl
theorem q718 : (Jvm.Cond.code ({ cls := "HiddenCube", name := "isName", desc := "(I)Z" } : Jvm.MethodName) prog_1_method_11_code (2 : Nat) (Option.some Jvm.ClassFile.FieldType.boolean)) ∈ lw_all := lw_g (lw_at lw_m3 89 rfl) rfl
theorem q720 : (Jvm.Cond.instanceMethod ({ cls := "HiddenCube", name := "open", desc := "(II)I" } : Jvm.MethodName)) ∈ lw_all := lw_g (lw_at lw_m3 91 rfl) rfl
theorem q721 : (Jvm.Cond.selects "HiddenCube" ({ cls := "HiddenCube", name := "open", desc := "(II)I" } : Jvm.MethodName) ({ cls := "HiddenCube", name := "open", desc := "(II)I" } : Jvm.MethodName)) ∈ lw_all := lw_g (lw_at lw_m3 92 rfl) rfl
theorem q722 : (Jvm.Cond.code ({ cls := "HiddenCube", name := "open", desc := "(II)I" } : Jvm.MethodName) prog_1_method_16_code (3 : Nat) (Option.some Jvm.ClassFile.FieldType.int)) ∈ lw_all := lw_g (lw_at lw_m3 93 rfl) rfl
theorem q723 : (Jvm.Cond.methodLink "HiddenCube" (167 : Nat) ({ cls := "HiddenCube", name := "isSquare", desc := "(J)Z" } : Jvm.MethodName)) ∈ lw_all := lw_g (lw_at lw_m3 94 rfl) rfl
theorem q724 : (Jvm.Cond.privateMethod ({ cls := "HiddenCube", name := "isSquare", desc := "(J)Z" } : Jvm.MethodName)) ∈ lw_tbl := lw_at lw_m3 95 rfl
theorem q725 : (Jvm.Cond.instanceMethod ({ cls := "HiddenCube", name := "isSquare", desc := "(J)Z" } : Jvm.MethodName)) ∈ lw_all := lw_g (lw_at lw_m3 96 rfl) rfl
theorem q726 : (Jvm.Cond.code ({ cls := "HiddenCube", name := "isSquare", desc := "(J)Z" } : Jvm.MethodName) prog_1_method_10_code (3 : Nat) (Option.some Jvm.ClassFile.FieldType.boolean)) ∈ lw_all := lw_g (lw_at lw_m3 97 rfl) rfl
theorem q727 : (Jvm.Cond.methodLink "HiddenCube" (161 : Nat) ({ cls := "HiddenCube$Town", name := "squares", desc := "()I" } : Jvm.MethodName)) ∈ lw_all := lw_g (lw_at lw_m3 98 rfl) rfl
theorem q728 : (Jvm.Cond.methodLink "HiddenCube" (181 : Nat) ({ cls := "HiddenCube$Town", name := "isOpen", desc := "(II)Z" } : Jvm.MethodName)) ∈ lw_all := lw_g (lw_at lw_m3 99 rfl) rfl
theorem q730 : (Jvm.Cond.instanceMethod ({ cls := "HiddenCube", name := "step", desc := "(II)I" } : Jvm.MethodName)) ∈ lw_all := lw_g (lw_at lw_m3 101 rfl) rfl
theorem q731 : (Jvm.Cond.selects "HiddenCube" ({ cls := "HiddenCube", name := "step", desc := "(II)I" } : Jvm.MethodName) ({ cls := "HiddenCube", name := "step", desc := "(II)I" } : Jvm.MethodName)) ∈ lw_all := lw_g (lw_at lw_m3 102 rfl) rfl
theorem q732 : (Jvm.Cond.code ({ cls := "HiddenCube", name := "step", desc := "(II)I" } : Jvm.MethodName) prog_1_method_17_code (3 : Nat) (Option.some Jvm.ClassFile.FieldType.int)) ∈ lw_all := lw_g (lw_at lw_m3 103 rfl) rfl
theorem q734 : (Jvm.Cond.instanceMethod ({ cls := "HiddenCube", name := "shut", desc := "(III)I" } : Jvm.MethodName)) ∈ lw_all := lw_g (lw_at lw_m3 105 rfl) rfl
theorem q735 : (Jvm.Cond.selects "HiddenCube" ({ cls := "HiddenCube", name := "shut", desc := "(III)I" } : Jvm.MethodName) ({ cls := "HiddenCube", name := "shut", desc := "(III)I" } : Jvm.MethodName)) ∈ lw_all := lw_g (lw_at lw_m3 106 rfl) rfl
theorem q736 : (Jvm.Cond.code ({ cls := "HiddenCube", name := "shut", desc := "(III)I" } : Jvm.MethodName) prog_1_method_18_code (5 : Nat) (Option.some Jvm.ClassFile.FieldType.int)) ∈ lw_all := lw_g (lw_at lw_m3 107 rfl) rfl
theorem q737 : (Jvm.Cond.methodLink "HiddenCube" (185 : Nat) ({ cls := "HiddenCube", name := "isOneOf", desc := "(II)Z" } : Jvm.MethodName)) ∈ lw_all := lw_g (lw_at lw_m3 108 rfl) rfl
theorem q738 : (Jvm.Cond.static ({ cls := "HiddenCube", name := "isOneOf", desc := "(II)Z" } : Jvm.MethodName)) ∈ lw_all := lw_g (lw_at lw_m3 109 rfl) rfl
theorem q739 : (Jvm.Cond.code ({ cls := "HiddenCube", name := "isOneOf", desc := "(II)Z" } : Jvm.MethodName) prog_1_method_12_code (2 : Nat) (Option.some Jvm.ClassFile.FieldType.boolean)) ∈ lw_all := lw_g (lw_at lw_m3 110 rfl) rfl
theorem q740 : (Jvm.Cond.methodLink "HiddenCube" (188 : Nat) ({ cls := "HiddenCube$Town", name := "sets", desc := "(III)V" } : Jvm.MethodName)) ∈ lw_all := lw_g (lw_at lw_m3 111 rfl) rfl
theorem q742 : (Jvm.Cond.instanceMethod ({ cls := "HiddenCube", name := "ways", desc := "(I)I" } : Jvm.MethodName)) ∈ lw_all := lw_g (lw_at lw_m3 113 rfl) rfl
theorem q743 : (Jvm.Cond.selects "HiddenCube" ({ cls := "HiddenCube", name := "ways", desc := "(I)I" } : Jvm.MethodName) ({ cls := "HiddenCube", name := "ways", desc := "(I)I" } : Jvm.MethodName)) ∈ lw_all := lw_g (lw_at lw_m3 114 rfl) rfl
theorem q744 : (Jvm.Cond.code ({ cls := "HiddenCube", name := "ways", desc := "(I)I" } : Jvm.MethodName) prog_1_method_20_code (2 : Nat) (Option.some Jvm.ClassFile.FieldType.int)) ∈ lw_all := lw_g (lw_at lw_m3 115 rfl) rfl
theorem q745 : (Jvm.Cond.methodLink "HiddenCube" (201 : Nat) ({ cls := "HiddenCube", name := "waysOf", desc := "(I)I" } : Jvm.MethodName)) ∈ lw_all := lw_g (lw_at lw_m3 116 rfl) rfl
theorem q746 : (Jvm.Cond.privateMethod ({ cls := "HiddenCube", name := "waysOf", desc := "(I)I" } : Jvm.MethodName)) ∈ lw_tbl := lw_at lw_m3 117 rfl
theorem q747 : (Jvm.Cond.instanceMethod ({ cls := "HiddenCube", name := "waysOf", desc := "(I)I" } : Jvm.MethodName)) ∈ lw_all := lw_g (lw_at lw_m3 118 rfl) rfl
theorem q748 : (Jvm.Cond.code ({ cls := "HiddenCube", name := "waysOf", desc := "(I)I" } : Jvm.MethodName) prog_1_method_19_code (2 : Nat) (Option.some Jvm.ClassFile.FieldType.int)) ∈ lw_all := lw_g (lw_at lw_m3 119 rfl) rfl
theorem q749 : (Jvm.Cond.methodLink "HiddenCube" (195 : Nat) ({ cls := "java/lang/Integer", name := "bitCount", desc := "(I)I" } : Jvm.MethodName)) ∈ lw_all := lw_g (lw_at lw_m3 120 rfl) rfl
theorem q756 : (Jvm.Cond.instanceMethod ({ cls := "HiddenCube", name := "opposite", desc := "(I)I" } : Jvm.MethodName)) ∈ lw_all := lw_g (lw_at lw_m3 127 rfl) rfl
theorem q757 : (Jvm.Cond.selects "HiddenCube" ({ cls := "HiddenCube", name := "opposite", desc := "(I)I" } : Jvm.MethodName) ({ cls := "HiddenCube", name := "opposite", desc := "(I)I" } : Jvm.MethodName)) ∈ lw_all := lw_g (lw_at lw_m3 128 rfl) rfl
theorem q758 : (Jvm.Cond.code ({ cls := "HiddenCube", name := "opposite", desc := "(I)I" } : Jvm.MethodName) prog_1_method_21_code (2 : Nat) (Option.some Jvm.ClassFile.FieldType.int)) ∈ lw_all := lw_g (lw_at lw_m3 129 rfl) rfl
theorem q760 : (Jvm.Cond.instanceMethod ({ cls := "HiddenCube", name := "apart", desc := "(II)I" } : Jvm.MethodName)) ∈ lw_all := lw_g (lw_at lw_m3 131 rfl) rfl
theorem q761 : (Jvm.Cond.selects "HiddenCube" ({ cls := "HiddenCube", name := "apart", desc := "(II)I" } : Jvm.MethodName) ({ cls := "HiddenCube", name := "apart", desc := "(II)I" } : Jvm.MethodName)) ∈ lw_all := lw_g (lw_at lw_m3 132 rfl) rfl
theorem q762 : (Jvm.Cond.code ({ cls := "HiddenCube", name := "apart", desc := "(II)I" } : Jvm.MethodName) prog_1_method_22_code (3 : Nat) (Option.some Jvm.ClassFile.FieldType.int)) ∈ lw_all := lw_g (lw_at lw_m3 133 rfl) rfl
theorem q764 : (Jvm.Cond.instanceMethod ({ cls := "HiddenCube", name := "streets", desc := "(I)I" } : Jvm.MethodName)) ∈ lw_all := lw_g (lw_at lw_m3 135 rfl) rfl
theorem q765 : (Jvm.Cond.selects "HiddenCube" ({ cls := "HiddenCube", name := "streets", desc := "(I)I" } : Jvm.MethodName) ({ cls := "HiddenCube", name := "streets", desc := "(I)I" } : Jvm.MethodName)) ∈ lw_all := lw_g (lw_at lw_m3 136 rfl) rfl
theorem q766 : (Jvm.Cond.code ({ cls := "HiddenCube", name := "streets", desc := "(I)I" } : Jvm.MethodName) prog_1_method_23_code (4 : Nat) (Option.some Jvm.ClassFile.FieldType.int)) ∈ lw_all := lw_g (lw_at lw_m3 137 rfl) rfl
theorem q767 : (Jvm.Cond.methodLink "HiddenCube" (204 : Nat) ({ cls := "HiddenCube", name := "has", desc := "(II)Z" } : Jvm.MethodName)) ∈ lw_all := lw_g (lw_at lw_m3 138 rfl) rfl
theorem q769 : (Jvm.Cond.instanceMethod ({ cls := "HiddenCube", name := "far", desc := "(II)I" } : Jvm.MethodName)) ∈ lw_all := lw_g (lw_at lw_m3 140 rfl) rfl
theorem q770 : (Jvm.Cond.selects "HiddenCube" ({ cls := "HiddenCube", name := "far", desc := "(II)I" } : Jvm.MethodName) ({ cls := "HiddenCube", name := "far", desc := "(II)I" } : Jvm.MethodName)) ∈ lw_all := lw_g (lw_at lw_m3 141 rfl) rfl
theorem q771 : (Jvm.Cond.code ({ cls := "HiddenCube", name := "far", desc := "(II)I" } : Jvm.MethodName) prog_1_method_25_code (3 : Nat) (Option.some Jvm.ClassFile.FieldType.int)) ∈ lw_all := lw_g (lw_at lw_m3 142 rfl) rfl
theorem q772 : (Jvm.Cond.methodLink "HiddenCube" (213 : Nat) ({ cls := "HiddenCube", name := "farOf", desc := "(II)I" } : Jvm.MethodName)) ∈ lw_all := lw_g (lw_at lw_m3 143 rfl) rfl
theorem q773 : (Jvm.Cond.privateMethod ({ cls := "HiddenCube", name := "farOf", desc := "(II)I" } : Jvm.MethodName)) ∈ lw_tbl := lw_at lw_m3 144 rfl
theorem q774 : (Jvm.Cond.instanceMethod ({ cls := "HiddenCube", name := "farOf", desc := "(II)I" } : Jvm.MethodName)) ∈ lw_all := lw_g (lw_at lw_m3 145 rfl) rfl
theorem q775 : (Jvm.Cond.code ({ cls := "HiddenCube", name := "farOf", desc := "(II)I" } : Jvm.MethodName) prog_1_method_24_code (3 : Nat) (Option.some Jvm.ClassFile.FieldType.int)) ∈ lw_all := lw_g (lw_at lw_m3 146 rfl) rfl
theorem q776 : (Jvm.Cond.methodLink "HiddenCube" (207 : Nat) ({ cls := "HiddenCube$Walk", name := "spreads", desc := "(I)V" } : Jvm.MethodName)) ∈ lw_all := lw_g (lw_at lw_m3 147 rfl) rfl
theorem q794 : (Jvm.Cond.instanceMethod ({ cls := "HiddenCube", name := "many", desc := "(II)I" } : Jvm.MethodName)) ∈ lw_all := lw_g (lw_at lw_m3 165 rfl) rfl
theorem q795 : (Jvm.Cond.selects "HiddenCube" ({ cls := "HiddenCube", name := "many", desc := "(II)I" } : Jvm.MethodName) ({ cls := "HiddenCube", name := "many", desc := "(II)I" } : Jvm.MethodName)) ∈ lw_all := lw_g (lw_at lw_m3 166 rfl) rfl
theorem q796 : (Jvm.Cond.code ({ cls := "HiddenCube", name := "many", desc := "(II)I" } : Jvm.MethodName) prog_1_method_26_code (6 : Nat) (Option.some Jvm.ClassFile.FieldType.int)) ∈ lw_all := lw_g (lw_at lw_m3 167 rfl) rfl
theorem q797 : (Jvm.Cond.methodLink "HiddenCube" (217 : Nat) ({ cls := "HiddenCube$Walk", name := "goes", desc := "(II)Z" } : Jvm.MethodName)) ∈ lw_all := lw_g (lw_at lw_m3 168 rfl) rfl
theorem q799 : (Jvm.Cond.instanceMethod ({ cls := "HiddenCube", name := "goes", desc := "(III)I" } : Jvm.MethodName)) ∈ lw_all := lw_g (lw_at lw_m3 170 rfl) rfl
theorem q800 : (Jvm.Cond.selects "HiddenCube" ({ cls := "HiddenCube", name := "goes", desc := "(III)I" } : Jvm.MethodName) ({ cls := "HiddenCube", name := "goes", desc := "(III)I" } : Jvm.MethodName)) ∈ lw_all := lw_g (lw_at lw_m3 171 rfl) rfl
theorem q801 : (Jvm.Cond.code ({ cls := "HiddenCube", name := "goes", desc := "(III)I" } : Jvm.MethodName) prog_1_method_28_code (6 : Nat) (Option.some Jvm.ClassFile.FieldType.int)) ∈ lw_all := lw_g (lw_at lw_m3 172 rfl) rfl
theorem q802 : (Jvm.Cond.methodLink "HiddenCube" (220 : Nat) ({ cls := "HiddenCube", name := "nextTo", desc := "(II)I" } : Jvm.MethodName)) ∈ lw_all := lw_g (lw_at lw_m3 173 rfl) rfl
theorem q803 : (Jvm.Cond.privateMethod ({ cls := "HiddenCube", name := "nextTo", desc := "(II)I" } : Jvm.MethodName)) ∈ lw_tbl := lw_at lw_m3 174 rfl
theorem q804 : (Jvm.Cond.instanceMethod ({ cls := "HiddenCube", name := "nextTo", desc := "(II)I" } : Jvm.MethodName)) ∈ lw_all := lw_g (lw_at lw_m3 175 rfl) rfl
theorem q805 : (Jvm.Cond.code ({ cls := "HiddenCube", name := "nextTo", desc := "(II)I" } : Jvm.MethodName) prog_1_method_27_code (6 : Nat) (Option.some Jvm.ClassFile.FieldType.int)) ∈ lw_all := lw_g (lw_at lw_m3 176 rfl) rfl
theorem q807 : (Jvm.Cond.instanceMethod ({ cls := "HiddenCube", name := "led", desc := "(III)I" } : Jvm.MethodName)) ∈ lw_all := lw_g (lw_at lw_m3 178 rfl) rfl
theorem q808 : (Jvm.Cond.selects "HiddenCube" ({ cls := "HiddenCube", name := "led", desc := "(III)I" } : Jvm.MethodName) ({ cls := "HiddenCube", name := "led", desc := "(III)I" } : Jvm.MethodName)) ∈ lw_all := lw_g (lw_at lw_m3 179 rfl) rfl
theorem q809 : (Jvm.Cond.code ({ cls := "HiddenCube", name := "led", desc := "(III)I" } : Jvm.MethodName) prog_1_method_30_code (4 : Nat) (Option.some Jvm.ClassFile.FieldType.int)) ∈ lw_all := lw_g (lw_at lw_m3 180 rfl) rfl
theorem q810 : (Jvm.Cond.constant "HiddenCube" (226 : Nat) (2147483647 : Int32)) ∈ lw_all := lw_g (lw_at lw_m3 181 rfl) rfl
theorem q811 : (Jvm.Cond.methodLink "HiddenCube" (227 : Nat) ({ cls := "HiddenCube", name := "goes", desc := "(III)I" } : Jvm.MethodName)) ∈ lw_all := lw_g (lw_at lw_m3 182 rfl) rfl
theorem q812 : (Jvm.Cond.methodLink "HiddenCube" (230 : Nat) ({ cls := "HiddenCube", name := "nameOf", desc := "(II)I" } : Jvm.MethodName)) ∈ lw_all := lw_g (lw_at lw_m3 183 rfl) rfl
theorem q813 : (Jvm.Cond.static ({ cls := "HiddenCube", name := "nameOf", desc := "(II)I" } : Jvm.MethodName)) ∈ lw_all := lw_g (lw_at lw_m3 184 rfl) rfl
theorem q814 : (Jvm.Cond.code ({ cls := "HiddenCube", name := "nameOf", desc := "(II)I" } : Jvm.MethodName) prog_1_method_29_code (2 : Nat) (Option.some Jvm.ClassFile.FieldType.int)) ∈ lw_all := lw_g (lw_at lw_m3 185 rfl) rfl
theorem q815 : (Jvm.Cond.methodLink "HiddenCube" (223 : Nat) ({ cls := "java/lang/Integer", name := "numberOfTrailingZeros", desc := "(I)I" } : Jvm.MethodName)) ∈ lw_all := lw_g (lw_at lw_m3 186 rfl) rfl
theorem q820 : (Jvm.Cond.instanceMethod ({ cls := "HiddenCube", name := "farthest", desc := "(II)I" } : Jvm.MethodName)) ∈ lw_all := lw_g (lw_at lw_m3 191 rfl) rfl
theorem q821 : (Jvm.Cond.selects "HiddenCube" ({ cls := "HiddenCube", name := "farthest", desc := "(II)I" } : Jvm.MethodName) ({ cls := "HiddenCube", name := "farthest", desc := "(II)I" } : Jvm.MethodName)) ∈ lw_all := lw_g (lw_at lw_m3 192 rfl) rfl
theorem q822 : (Jvm.Cond.code ({ cls := "HiddenCube", name := "farthest", desc := "(II)I" } : Jvm.MethodName) prog_1_method_31_code (5 : Nat) (Option.some Jvm.ClassFile.FieldType.int)) ∈ lw_all := lw_g (lw_at lw_m3 193 rfl) rfl
theorem q824 : (Jvm.Cond.instanceMethod ({ cls := "HiddenCube", name := "width", desc := "()I" } : Jvm.MethodName)) ∈ lw_all := lw_g (lw_at lw_m3 195 rfl) rfl
theorem q825 : (Jvm.Cond.selects "HiddenCube" ({ cls := "HiddenCube", name := "width", desc := "()I" } : Jvm.MethodName) ({ cls := "HiddenCube", name := "width", desc := "()I" } : Jvm.MethodName)) ∈ lw_all := lw_g (lw_at lw_m3 196 rfl) rfl
theorem q826 : (Jvm.Cond.code ({ cls := "HiddenCube", name := "width", desc := "()I" } : Jvm.MethodName) prog_1_method_32_code (3 : Nat) (Option.some Jvm.ClassFile.FieldType.int)) ∈ lw_all := lw_g (lw_at lw_m3 197 rfl) rfl
theorem q827 : (Jvm.Cond.methodLink "HiddenCube" (233 : Nat) ({ cls := "HiddenCube", name := "isTown", desc := "()Z" } : Jvm.MethodName)) ∈ lw_all := lw_g (lw_at lw_m3 198 rfl) rfl
theorem q828 : (Jvm.Cond.privateMethod ({ cls := "HiddenCube", name := "isTown", desc := "()Z" } : Jvm.MethodName)) ∈ lw_tbl := lw_at lw_m3 199 rfl
theorem q829 : (Jvm.Cond.instanceMethod ({ cls := "HiddenCube", name := "isTown", desc := "()Z" } : Jvm.MethodName)) ∈ lw_all := lw_g (lw_at lw_m3 200 rfl) rfl
theorem q830 : (Jvm.Cond.code ({ cls := "HiddenCube", name := "isTown", desc := "()Z" } : Jvm.MethodName) prog_1_method_9_code (1 : Nat) (Option.some Jvm.ClassFile.FieldType.boolean)) ∈ lw_all := lw_g (lw_at lw_m3 201 rfl) rfl
theorem q831 : (Jvm.Cond.methodLink "HiddenCube" (237 : Nat) ({ cls := "HiddenCube", name := "farthest", desc := "(II)I" } : Jvm.MethodName)) ∈ lw_all := lw_g (lw_at lw_m3 202 rfl) rfl
theorem q832 : (Jvm.Cond.methodLink "HiddenCube" (240 : Nat) ({ cls := "java/lang/Math", name := "max", desc := "(II)I" } : Jvm.MethodName)) ∈ lw_all := lw_g (lw_at lw_m3 203 rfl) rfl
theorem q836 : (Jvm.Cond.instanceMethod ({ cls := "HiddenCube", name := "within", desc := "(II)I" } : Jvm.MethodName)) ∈ lw_all := lw_g (lw_at lw_m3 207 rfl) rfl
theorem q837 : (Jvm.Cond.selects "HiddenCube" ({ cls := "HiddenCube", name := "within", desc := "(II)I" } : Jvm.MethodName) ({ cls := "HiddenCube", name := "within", desc := "(II)I" } : Jvm.MethodName)) ∈ lw_all := lw_g (lw_at lw_m3 208 rfl) rfl
theorem q838 : (Jvm.Cond.code ({ cls := "HiddenCube", name := "within", desc := "(II)I" } : Jvm.MethodName) prog_1_method_33_code (5 : Nat) (Option.some Jvm.ClassFile.FieldType.int)) ∈ lw_all := lw_g (lw_at lw_m3 209 rfl) rfl
theorem q840 : (Jvm.Cond.instanceMethod ({ cls := "HiddenCube", name := "apartWays", desc := "(III)I" } : Jvm.MethodName)) ∈ lw_all := lw_g (lw_at lw_m3 211 rfl) rfl
theorem q841 : (Jvm.Cond.selects "HiddenCube" ({ cls := "HiddenCube", name := "apartWays", desc := "(III)I" } : Jvm.MethodName) ({ cls := "HiddenCube", name := "apartWays", desc := "(III)I" } : Jvm.MethodName)) ∈ lw_all := lw_g (lw_at lw_m3 212 rfl) rfl
theorem q842 : (Jvm.Cond.code ({ cls := "HiddenCube", name := "apartWays", desc := "(III)I" } : Jvm.MethodName) prog_1_method_45_code (4 : Nat) (Option.some Jvm.ClassFile.FieldType.int)) ∈ lw_all := lw_g (lw_at lw_m3 213 rfl) rfl
theorem q843 : (Jvm.Cond.methodLink "HiddenCube" (276 : Nat) ({ cls := "HiddenCube", name := "areTwo", desc := "(II)Z" } : Jvm.MethodName)) ∈ lw_all := lw_g (lw_at lw_m3 214 rfl) rfl
theorem q844 : (Jvm.Cond.privateMethod ({ cls := "HiddenCube", name := "areTwo", desc := "(II)Z" } : Jvm.MethodName)) ∈ lw_tbl := lw_at lw_m3 215 rfl
theorem q845 : (Jvm.Cond.instanceMethod ({ cls := "HiddenCube", name := "areTwo", desc := "(II)Z" } : Jvm.MethodName)) ∈ lw_all := lw_g (lw_at lw_m3 216 rfl) rfl
theorem q846 : (Jvm.Cond.code ({ cls := "HiddenCube", name := "areTwo", desc := "(II)Z" } : Jvm.MethodName) prog_1_method_14_code (3 : Nat) (Option.some Jvm.ClassFile.FieldType.boolean)) ∈ lw_all := lw_g (lw_at lw_m3 217 rfl) rfl
theorem q847 : (Jvm.Cond.methodLink "HiddenCube" (279 : Nat) ({ cls := "HiddenCube", name := "waysApart", desc := "(II)I" } : Jvm.MethodName)) ∈ lw_all := lw_g (lw_at lw_m3 218 rfl) rfl
theorem q848 : (Jvm.Cond.privateMethod ({ cls := "HiddenCube", name := "waysApart", desc := "(II)I" } : Jvm.MethodName)) ∈ lw_tbl := lw_at lw_m3 219 rfl
theorem q849 : (Jvm.Cond.instanceMethod ({ cls := "HiddenCube", name := "waysApart", desc := "(II)I" } : Jvm.MethodName)) ∈ lw_all := lw_g (lw_at lw_m3 220 rfl) rfl
theorem q850 : (Jvm.Cond.code ({ cls := "HiddenCube", name := "waysApart", desc := "(II)I" } : Jvm.MethodName) prog_1_method_40_code (4 : Nat) (Option.some Jvm.ClassFile.FieldType.int)) ∈ lw_all := lw_g (lw_at lw_m3 221 rfl) rfl
theorem q851 : (Jvm.Cond.methodLink "HiddenCube" (255 : Nat) ({ cls := "HiddenCube", name := "noWays", desc := "()V" } : Jvm.MethodName)) ∈ lw_all := lw_g (lw_at lw_m3 222 rfl) rfl
theorem q852 : (Jvm.Cond.privateMethod ({ cls := "HiddenCube", name := "noWays", desc := "()V" } : Jvm.MethodName)) ∈ lw_tbl := lw_at lw_m3 223 rfl
theorem q853 : (Jvm.Cond.instanceMethod ({ cls := "HiddenCube", name := "noWays", desc := "()V" } : Jvm.MethodName)) ∈ lw_all := lw_g (lw_at lw_m3 224 rfl) rfl
theorem q854 : (Jvm.Cond.code ({ cls := "HiddenCube", name := "noWays", desc := "()V" } : Jvm.MethodName) prog_1_method_39_code (2 : Nat) (Option.none : Option Jvm.ClassFile.FieldType)) ∈ lw_all := lw_g (lw_at lw_m3 225 rfl) rfl
theorem q855 : (Jvm.Cond.methodLink "HiddenCube" (258 : Nat) ({ cls := "HiddenCube", name := "addsWay", desc := "(II)Z" } : Jvm.MethodName)) ∈ lw_all := lw_g (lw_at lw_m3 226 rfl) rfl
theorem q856 : (Jvm.Cond.privateMethod ({ cls := "HiddenCube", name := "addsWay", desc := "(II)Z" } : Jvm.MethodName)) ∈ lw_tbl := lw_at lw_m3 227 rfl
theorem q857 : (Jvm.Cond.instanceMethod ({ cls := "HiddenCube", name := "addsWay", desc := "(II)Z" } : Jvm.MethodName)) ∈ lw_all := lw_g (lw_at lw_m3 228 rfl) rfl
theorem q858 : (Jvm.Cond.code ({ cls := "HiddenCube", name := "addsWay", desc := "(II)Z" } : Jvm.MethodName) prog_1_method_37_code (8 : Nat) (Option.some Jvm.ClassFile.FieldType.boolean)) ∈ lw_all := lw_g (lw_at lw_m3 229 rfl) rfl
theorem q859 : (Jvm.Cond.methodLink "HiddenCube" (248 : Nat) ({ cls := "HiddenCube", name := "canGo", desc := "(II)Z" } : Jvm.MethodName)) ∈ lw_all := lw_g (lw_at lw_m3 230 rfl) rfl
theorem q860 : (Jvm.Cond.privateMethod ({ cls := "HiddenCube", name := "canGo", desc := "(II)Z" } : Jvm.MethodName)) ∈ lw_tbl := lw_at lw_m3 231 rfl
theorem q861 : (Jvm.Cond.instanceMethod ({ cls := "HiddenCube", name := "canGo", desc := "(II)Z" } : Jvm.MethodName)) ∈ lw_all := lw_g (lw_at lw_m3 232 rfl) rfl
theorem q862 : (Jvm.Cond.code ({ cls := "HiddenCube", name := "canGo", desc := "(II)Z" } : Jvm.MethodName) prog_1_method_36_code (3 : Nat) (Option.some Jvm.ClassFile.FieldType.boolean)) ∈ lw_all := lw_g (lw_at lw_m3 233 rfl) rfl
theorem q863 : (Jvm.Cond.methodLink "HiddenCube" (245 : Nat) ({ cls := "HiddenCube", name := "flowsOut", desc := "(II)Z" } : Jvm.MethodName)) ∈ lw_all := lw_g (lw_at lw_m3 234 rfl) rfl
theorem q864 : (Jvm.Cond.privateMethod ({ cls := "HiddenCube", name := "flowsOut", desc := "(II)Z" } : Jvm.MethodName)) ∈ lw_tbl := lw_at lw_m3 235 rfl
theorem q865 : (Jvm.Cond.instanceMethod ({ cls := "HiddenCube", name := "flowsOut", desc := "(II)Z" } : Jvm.MethodName)) ∈ lw_all := lw_g (lw_at lw_m3 236 rfl) rfl
theorem q866 : (Jvm.Cond.code ({ cls := "HiddenCube", name := "flowsOut", desc := "(II)Z" } : Jvm.MethodName) prog_1_method_34_code (3 : Nat) (Option.some Jvm.ClassFile.FieldType.boolean)) ∈ lw_all := lw_g (lw_at lw_m3 237 rfl) rfl
theorem q867 : (Jvm.Cond.methodLink "HiddenCube" (251 : Nat) ({ cls := "HiddenCube", name := "pushes", desc := "(II)V" } : Jvm.MethodName)) ∈ lw_all := lw_g (lw_at lw_m3 238 rfl) rfl
theorem q868 : (Jvm.Cond.privateMethod ({ cls := "HiddenCube", name := "pushes", desc := "(II)V" } : Jvm.MethodName)) ∈ lw_tbl := lw_at lw_m3 239 rfl
theorem q869 : (Jvm.Cond.instanceMethod ({ cls := "HiddenCube", name := "pushes", desc := "(II)V" } : Jvm.MethodName)) ∈ lw_all := lw_g (lw_at lw_m4 0 rfl) rfl
theorem q870 : (Jvm.Cond.code ({ cls := "HiddenCube", name := "pushes", desc := "(II)V" } : Jvm.MethodName) prog_1_method_38_code (4 : Nat) (Option.none : Option Jvm.ClassFile.FieldType)) ∈ lw_all := lw_g (lw_at lw_m4 1 rfl) rfl
theorem q871 : (Jvm.Cond.methodLink "HiddenCube" (282 : Nat) ({ cls := "HiddenCube", name := "waysBetween", desc := "(II)I" } : Jvm.MethodName)) ∈ lw_all := lw_g (lw_at lw_m4 2 rfl) rfl
theorem q872 : (Jvm.Cond.privateMethod ({ cls := "HiddenCube", name := "waysBetween", desc := "(II)I" } : Jvm.MethodName)) ∈ lw_tbl := lw_at lw_m4 3 rfl
theorem q873 : (Jvm.Cond.instanceMethod ({ cls := "HiddenCube", name := "waysBetween", desc := "(II)I" } : Jvm.MethodName)) ∈ lw_all := lw_g (lw_at lw_m4 4 rfl) rfl
theorem q874 : (Jvm.Cond.code ({ cls := "HiddenCube", name := "waysBetween", desc := "(II)I" } : Jvm.MethodName) prog_1_method_44_code (4 : Nat) (Option.some Jvm.ClassFile.FieldType.int)) ∈ lw_all := lw_g (lw_at lw_m4 5 rfl) rfl
theorem q875 : (Jvm.Cond.methodLink "HiddenCube" (273 : Nat) ({ cls := "HiddenCube", name := "addsWayBetween", desc := "(II)Z" } : Jvm.MethodName)) ∈ lw_all := lw_g (lw_at lw_m4 6 rfl) rfl
theorem q876 : (Jvm.Cond.privateMethod ({ cls := "HiddenCube", name := "addsWayBetween", desc := "(II)Z" } : Jvm.MethodName)) ∈ lw_tbl := lw_at lw_m4 7 rfl
theorem q877 : (Jvm.Cond.instanceMethod ({ cls := "HiddenCube", name := "addsWayBetween", desc := "(II)Z" } : Jvm.MethodName)) ∈ lw_all := lw_g (lw_at lw_m4 8 rfl) rfl
theorem q878 : (Jvm.Cond.code ({ cls := "HiddenCube", name := "addsWayBetween", desc := "(II)Z" } : Jvm.MethodName) prog_1_method_42_code (9 : Nat) (Option.some Jvm.ClassFile.FieldType.boolean)) ∈ lw_all := lw_g (lw_at lw_m4 9 rfl) rfl
theorem q879 : (Jvm.Cond.methodLink "HiddenCube" (264 : Nat) ({ cls := "HiddenCube", name := "meets", desc := "(II)V" } : Jvm.MethodName)) ∈ lw_all := lw_g (lw_at lw_m4 10 rfl) rfl
theorem q880 : (Jvm.Cond.privateMethod ({ cls := "HiddenCube", name := "meets", desc := "(II)V" } : Jvm.MethodName)) ∈ lw_tbl := lw_at lw_m4 11 rfl
theorem q881 : (Jvm.Cond.instanceMethod ({ cls := "HiddenCube", name := "meets", desc := "(II)V" } : Jvm.MethodName)) ∈ lw_all := lw_g (lw_at lw_m4 12 rfl) rfl
theorem q882 : (Jvm.Cond.code ({ cls := "HiddenCube", name := "meets", desc := "(II)V" } : Jvm.MethodName) prog_1_method_41_code (3 : Nat) (Option.none : Option Jvm.ClassFile.FieldType)) ∈ lw_all := lw_g (lw_at lw_m4 13 rfl) rfl
theorem q883 : (Jvm.Cond.methodLink "HiddenCube" (267 : Nat) ({ cls := "HiddenCube", name := "isThrough", desc := "(I)Z" } : Jvm.MethodName)) ∈ lw_all := lw_g (lw_at lw_m4 14 rfl) rfl
theorem q884 : (Jvm.Cond.privateMethod ({ cls := "HiddenCube", name := "isThrough", desc := "(I)Z" } : Jvm.MethodName)) ∈ lw_tbl := lw_at lw_m4 15 rfl
theorem q885 : (Jvm.Cond.instanceMethod ({ cls := "HiddenCube", name := "isThrough", desc := "(I)Z" } : Jvm.MethodName)) ∈ lw_all := lw_g (lw_at lw_m4 16 rfl) rfl
theorem q886 : (Jvm.Cond.code ({ cls := "HiddenCube", name := "isThrough", desc := "(I)Z" } : Jvm.MethodName) prog_1_method_35_code (2 : Nat) (Option.some Jvm.ClassFile.FieldType.boolean)) ∈ lw_all := lw_g (lw_at lw_m4 17 rfl) rfl
theorem q887 : (Jvm.Cond.methodLink "HiddenCube" (270 : Nat) ({ cls := "HiddenCube", name := "pushesBetween", desc := "(II)V" } : Jvm.MethodName)) ∈ lw_all := lw_g (lw_at lw_m4 18 rfl) rfl
theorem q888 : (Jvm.Cond.privateMethod ({ cls := "HiddenCube", name := "pushesBetween", desc := "(II)V" } : Jvm.MethodName)) ∈ lw_tbl := lw_at lw_m4 19 rfl
theorem q889 : (Jvm.Cond.instanceMethod ({ cls := "HiddenCube", name := "pushesBetween", desc := "(II)V" } : Jvm.MethodName)) ∈ lw_all := lw_g (lw_at lw_m4 20 rfl) rfl
theorem q890 : (Jvm.Cond.code ({ cls := "HiddenCube", name := "pushesBetween", desc := "(II)V" } : Jvm.MethodName) prog_1_method_43_code (6 : Nat) (Option.none : Option Jvm.ClassFile.FieldType)) ∈ lw_all := lw_g (lw_at lw_m4 21 rfl) rfl
theorem q892 : (Jvm.Cond.instanceMethod ({ cls := "HiddenCube", name := "side", desc := "(II)I" } : Jvm.MethodName)) ∈ lw_all := lw_g (lw_at lw_m4 23 rfl) rfl
theorem q893 : (Jvm.Cond.selects "HiddenCube" ({ cls := "HiddenCube", name := "side", desc := "(II)I" } : Jvm.MethodName) ({ cls := "HiddenCube", name := "side", desc := "(II)I" } : Jvm.MethodName)) ∈ lw_all := lw_g (lw_at lw_m4 24 rfl) rfl
theorem q894 : (Jvm.Cond.code ({ cls := "HiddenCube", name := "side", desc := "(II)I" } : Jvm.MethodName) prog_1_method_46_code (5 : Nat) (Option.some Jvm.ClassFile.FieldType.int)) ∈ lw_all := lw_g (lw_at lw_m4 25 rfl) rfl
theorem q896 : (Jvm.Cond.instanceMethod ({ cls := "HiddenCube", name := "parts", desc := "()I" } : Jvm.MethodName)) ∈ lw_all := lw_g (lw_at lw_m4 27 rfl) rfl
theorem q897 : (Jvm.Cond.selects "HiddenCube" ({ cls := "HiddenCube", name := "parts", desc := "()I" } : Jvm.MethodName) ({ cls := "HiddenCube", name := "parts", desc := "()I" } : Jvm.MethodName)) ∈ lw_all := lw_g (lw_at lw_m4 28 rfl) rfl
theorem q898 : (Jvm.Cond.code ({ cls := "HiddenCube", name := "parts", desc := "()I" } : Jvm.MethodName) prog_1_method_48_code (1 : Nat) (Option.some Jvm.ClassFile.FieldType.int)) ∈ lw_all := lw_g (lw_at lw_m4 29 rfl) rfl
theorem q899 : (Jvm.Cond.methodLink "HiddenCube" (285 : Nat) ({ cls := "HiddenCube", name := "partsBy", desc := "(LHiddenCube$Walk;)I" } : Jvm.MethodName)) ∈ lw_all := lw_g (lw_at lw_m4 30 rfl) rfl
theorem q900 : (Jvm.Cond.privateMethod ({ cls := "HiddenCube", name := "partsBy", desc := "(LHiddenCube$Walk;)I" } : Jvm.MethodName)) ∈ lw_tbl := lw_at lw_m4 31 rfl
theorem q901 : (Jvm.Cond.instanceMethod ({ cls := "HiddenCube", name := "partsBy", desc := "(LHiddenCube$Walk;)I" } : Jvm.MethodName)) ∈ lw_all := lw_g (lw_at lw_m4 32 rfl) rfl
theorem q902 : (Jvm.Cond.code ({ cls := "HiddenCube", name := "partsBy", desc := "(LHiddenCube$Walk;)I" } : Jvm.MethodName) prog_1_method_47_code (6 : Nat) (Option.some Jvm.ClassFile.FieldType.int)) ∈ lw_all := lw_g (lw_at lw_m4 33 rfl) rfl
theorem q904 : (Jvm.Cond.instanceMethod ({ cls := "HiddenCube", name := "part", desc := "(I)I" } : Jvm.MethodName)) ∈ lw_all := lw_g (lw_at lw_m4 35 rfl) rfl
theorem q905 : (Jvm.Cond.selects "HiddenCube" ({ cls := "HiddenCube", name := "part", desc := "(I)I" } : Jvm.MethodName) ({ cls := "HiddenCube", name := "part", desc := "(I)I" } : Jvm.MethodName)) ∈ lw_all := lw_g (lw_at lw_m4 36 rfl) rfl
theorem q906 : (Jvm.Cond.code ({ cls := "HiddenCube", name := "part", desc := "(I)I" } : Jvm.MethodName) prog_1_method_49_code (3 : Nat) (Option.some Jvm.ClassFile.FieldType.int)) ∈ lw_all := lw_g (lw_at lw_m4 37 rfl) rfl
theorem q908 : (Jvm.Cond.instanceMethod ({ cls := "HiddenCube", name := "bridges", desc := "()I" } : Jvm.MethodName)) ∈ lw_all := lw_g (lw_at lw_m4 39 rfl) rfl
theorem q909 : (Jvm.Cond.selects "HiddenCube" ({ cls := "HiddenCube", name := "bridges", desc := "()I" } : Jvm.MethodName) ({ cls := "HiddenCube", name := "bridges", desc := "()I" } : Jvm.MethodName)) ∈ lw_all := lw_g (lw_at lw_m4 40 rfl) rfl
theorem q910 : (Jvm.Cond.code ({ cls := "HiddenCube", name := "bridges", desc := "()I" } : Jvm.MethodName) prog_1_method_51_code (4 : Nat) (Option.some Jvm.ClassFile.FieldType.int)) ∈ lw_all := lw_g (lw_at lw_m4 41 rfl) rfl
theorem q911 : (Jvm.Cond.methodLink "HiddenCube" (295 : Nat) ({ cls := "HiddenCube", name := "isBridge", desc := "(II)Z" } : Jvm.MethodName)) ∈ lw_all := lw_g (lw_at lw_m4 42 rfl) rfl
theorem q912 : (Jvm.Cond.privateMethod ({ cls := "HiddenCube", name := "isBridge", desc := "(II)Z" } : Jvm.MethodName)) ∈ lw_tbl := lw_at lw_m4 43 rfl
theorem q913 : (Jvm.Cond.instanceMethod ({ cls := "HiddenCube", name := "isBridge", desc := "(II)Z" } : Jvm.MethodName)) ∈ lw_all := lw_g (lw_at lw_m4 44 rfl) rfl
theorem q914 : (Jvm.Cond.code ({ cls := "HiddenCube", name := "isBridge", desc := "(II)Z" } : Jvm.MethodName) prog_1_method_50_code (3 : Nat) (Option.some Jvm.ClassFile.FieldType.boolean)) ∈ lw_all := lw_g (lw_at lw_m4 45 rfl) rfl
theorem q916 : (Jvm.Cond.instanceMethod ({ cls := "HiddenCube", name := "bridge", desc := "(II)I" } : Jvm.MethodName)) ∈ lw_all := lw_g (lw_at lw_m4 47 rfl) rfl
theorem q917 : (Jvm.Cond.selects "HiddenCube" ({ cls := "HiddenCube", name := "bridge", desc := "(II)I" } : Jvm.MethodName) ({ cls := "HiddenCube", name := "bridge", desc := "(II)I" } : Jvm.MethodName)) ∈ lw_all := lw_g (lw_at lw_m4 48 rfl) rfl
theorem q918 : (Jvm.Cond.code ({ cls := "HiddenCube", name := "bridge", desc := "(II)I" } : Jvm.MethodName) prog_1_method_52_code (3 : Nat) (Option.some Jvm.ClassFile.FieldType.int)) ∈ lw_all := lw_g (lw_at lw_m4 49 rfl) rfl
theorem q920 : (Jvm.Cond.instanceMethod ({ cls := "HiddenCube", name := "joins", desc := "()I" } : Jvm.MethodName)) ∈ lw_all := lw_g (lw_at lw_m4 51 rfl) rfl
theorem q921 : (Jvm.Cond.selects "HiddenCube" ({ cls := "HiddenCube", name := "joins", desc := "()I" } : Jvm.MethodName) ({ cls := "HiddenCube", name := "joins", desc := "()I" } : Jvm.MethodName)) ∈ lw_all := lw_g (lw_at lw_m4 52 rfl) rfl
theorem q922 : (Jvm.Cond.code ({ cls := "HiddenCube", name := "joins", desc := "()I" } : Jvm.MethodName) prog_1_method_53_code (1 : Nat) (Option.some Jvm.ClassFile.FieldType.int)) ∈ lw_all := lw_g (lw_at lw_m4 53 rfl) rfl
theorem q924 : (Jvm.Cond.instanceMethod ({ cls := "HiddenCube", name := "fours", desc := "()I" } : Jvm.MethodName)) ∈ lw_all := lw_g (lw_at lw_m4 55 rfl) rfl
theorem q925 : (Jvm.Cond.selects "HiddenCube" ({ cls := "HiddenCube", name := "fours", desc := "()I" } : Jvm.MethodName) ({ cls := "HiddenCube", name := "fours", desc := "()I" } : Jvm.MethodName)) ∈ lw_all := lw_g (lw_at lw_m4 56 rfl) rfl
theorem q926 : (Jvm.Cond.code ({ cls := "HiddenCube", name := "fours", desc := "()I" } : Jvm.MethodName) prog_1_method_56_code (1 : Nat) (Option.some Jvm.ClassFile.FieldType.int)) ∈ lw_all := lw_g (lw_at lw_m4 57 rfl) rfl
theorem q927 : (Jvm.Cond.methodLink "HiddenCube" (301 : Nat) ({ cls := "HiddenCube", name := "wallsOf", desc := "(I)I" } : Jvm.MethodName)) ∈ lw_all := lw_g (lw_at lw_m4 58 rfl) rfl
theorem q928 : (Jvm.Cond.privateMethod ({ cls := "HiddenCube", name := "wallsOf", desc := "(I)I" } : Jvm.MethodName)) ∈ lw_tbl := lw_at lw_m4 59 rfl
theorem q929 : (Jvm.Cond.instanceMethod ({ cls := "HiddenCube", name := "wallsOf", desc := "(I)I" } : Jvm.MethodName)) ∈ lw_all := lw_g (lw_at lw_m4 60 rfl) rfl
theorem q930 : (Jvm.Cond.code ({ cls := "HiddenCube", name := "wallsOf", desc := "(I)I" } : Jvm.MethodName) prog_1_method_55_code (5 : Nat) (Option.some Jvm.ClassFile.FieldType.int)) ∈ lw_all := lw_g (lw_at lw_m4 61 rfl) rfl
theorem q931 : (Jvm.Cond.methodLink "HiddenCube" (298 : Nat) ({ cls := "HiddenCube", name := "isWall", desc := "(II)Z" } : Jvm.MethodName)) ∈ lw_all := lw_g (lw_at lw_m4 62 rfl) rfl
theorem q932 : (Jvm.Cond.privateMethod ({ cls := "HiddenCube", name := "isWall", desc := "(II)Z" } : Jvm.MethodName)) ∈ lw_tbl := lw_at lw_m4 63 rfl
theorem q933 : (Jvm.Cond.instanceMethod ({ cls := "HiddenCube", name := "isWall", desc := "(II)Z" } : Jvm.MethodName)) ∈ lw_all := lw_g (lw_at lw_m4 64 rfl) rfl
theorem q934 : (Jvm.Cond.code ({ cls := "HiddenCube", name := "isWall", desc := "(II)Z" } : Jvm.MethodName) prog_1_method_54_code (4 : Nat) (Option.some Jvm.ClassFile.FieldType.boolean)) ∈ lw_all := lw_g (lw_at lw_m4 65 rfl) rfl
theorem q936 : (Jvm.Cond.instanceMethod ({ cls := "HiddenCube", name := "walls", desc := "(I)I" } : Jvm.MethodName)) ∈ lw_all := lw_g (lw_at lw_m4 67 rfl) rfl
theorem q937 : (Jvm.Cond.selects "HiddenCube" ({ cls := "HiddenCube", name := "walls", desc := "(I)I" } : Jvm.MethodName) ({ cls := "HiddenCube", name := "walls", desc := "(I)I" } : Jvm.MethodName)) ∈ lw_all := lw_g (lw_at lw_m4 68 rfl) rfl
theorem q938 : (Jvm.Cond.code ({ cls := "HiddenCube", name := "walls", desc := "(I)I" } : Jvm.MethodName) prog_1_method_57_code (2 : Nat) (Option.some Jvm.ClassFile.FieldType.int)) ∈ lw_all := lw_g (lw_at lw_m4 69 rfl) rfl
theorem q939 : (Jvm.Cond.constantLong "HiddenCube" (304 : Nat) (5 : Int64)) ∈ lw_all := lw_g (lw_at lw_m4 70 rfl) rfl
theorem q941 : (Jvm.Cond.instanceMethod ({ cls := "HiddenCube", name := "wall", desc := "(II)I" } : Jvm.MethodName)) ∈ lw_all := lw_g (lw_at lw_m4 72 rfl) rfl
theorem q942 : (Jvm.Cond.selects "HiddenCube" ({ cls := "HiddenCube", name := "wall", desc := "(II)I" } : Jvm.MethodName) ({ cls := "HiddenCube", name := "wall", desc := "(II)I" } : Jvm.MethodName)) ∈ lw_all := lw_g (lw_at lw_m4 73 rfl) rfl
theorem q943 : (Jvm.Cond.code ({ cls := "HiddenCube", name := "wall", desc := "(II)I" } : Jvm.MethodName) prog_1_method_58_code (3 : Nat) (Option.some Jvm.ClassFile.FieldType.int)) ∈ lw_all := lw_g (lw_at lw_m4 74 rfl) rfl
theorem q945 : (Jvm.Cond.instanceMethod ({ cls := "HiddenCube", name := "rounds", desc := "()I" } : Jvm.MethodName)) ∈ lw_all := lw_g (lw_at lw_m4 76 rfl) rfl
theorem q946 : (Jvm.Cond.selects "HiddenCube" ({ cls := "HiddenCube", name := "rounds", desc := "()I" } : Jvm.MethodName) ({ cls := "HiddenCube", name := "rounds", desc := "()I" } : Jvm.MethodName)) ∈ lw_all := lw_g (lw_at lw_m4 77 rfl) rfl
theorem q947 : (Jvm.Cond.code ({ cls := "HiddenCube", name := "rounds", desc := "()I" } : Jvm.MethodName) prog_1_method_64_code (2 : Nat) (Option.some Jvm.ClassFile.FieldType.int)) ∈ lw_all := lw_g (lw_at lw_m4 78 rfl) rfl
theorem q948 : (Jvm.Cond.methodLink "HiddenCube" (327 : Nat) ({ cls := "HiddenCube", name := "asksRounds", desc := "(Z)I" } : Jvm.MethodName)) ∈ lw_all := lw_g (lw_at lw_m4 79 rfl) rfl
theorem q949 : (Jvm.Cond.privateMethod ({ cls := "HiddenCube", name := "asksRounds", desc := "(Z)I" } : Jvm.MethodName)) ∈ lw_tbl := lw_at lw_m4 80 rfl
theorem q950 : (Jvm.Cond.instanceMethod ({ cls := "HiddenCube", name := "asksRounds", desc := "(Z)I" } : Jvm.MethodName)) ∈ lw_all := lw_g (lw_at lw_m4 81 rfl) rfl
theorem q951 : (Jvm.Cond.code ({ cls := "HiddenCube", name := "asksRounds", desc := "(Z)I" } : Jvm.MethodName) prog_1_method_63_code (2 : Nat) (Option.some Jvm.ClassFile.FieldType.int)) ∈ lw_all := lw_g (lw_at lw_m4 82 rfl) rfl
theorem q952 : (Jvm.Cond.methodLink "HiddenCube" (324 : Nat) ({ cls := "HiddenCube", name := "walksRounds", desc := "()V" } : Jvm.MethodName)) ∈ lw_all := lw_g (lw_at lw_m4 83 rfl) rfl
theorem q953 : (Jvm.Cond.privateMethod ({ cls := "HiddenCube", name := "walksRounds", desc := "()V" } : Jvm.MethodName)) ∈ lw_tbl := lw_at lw_m4 84 rfl
theorem q954 : (Jvm.Cond.instanceMethod ({ cls := "HiddenCube", name := "walksRounds", desc := "()V" } : Jvm.MethodName)) ∈ lw_all := lw_g (lw_at lw_m4 85 rfl) rfl
theorem q955 : (Jvm.Cond.code ({ cls := "HiddenCube", name := "walksRounds", desc := "()V" } : Jvm.MethodName) prog_1_method_61_code (5 : Nat) (Option.none : Option Jvm.ClassFile.FieldType)) ∈ lw_all := lw_g (lw_at lw_m4 86 rfl) rfl
theorem q956 : (Jvm.Cond.methodLink "HiddenCube" (312 : Nat) ({ cls := "HiddenCube", name := "keepsRound", desc := "()V" } : Jvm.MethodName)) ∈ lw_all := lw_g (lw_at lw_m4 87 rfl) rfl
theorem q957 : (Jvm.Cond.privateMethod ({ cls := "HiddenCube", name := "keepsRound", desc := "()V" } : Jvm.MethodName)) ∈ lw_tbl := lw_at lw_m4 88 rfl
theorem q958 : (Jvm.Cond.instanceMethod ({ cls := "HiddenCube", name := "keepsRound", desc := "()V" } : Jvm.MethodName)) ∈ lw_all := lw_g (lw_at lw_m4 89 rfl) rfl
theorem q959 : (Jvm.Cond.code ({ cls := "HiddenCube", name := "keepsRound", desc := "()V" } : Jvm.MethodName) prog_1_method_62_code (1 : Nat) (Option.none : Option Jvm.ClassFile.FieldType)) ∈ lw_all := lw_g (lw_at lw_m4 90 rfl) rfl
theorem q960 : (Jvm.Cond.methodLink "HiddenCube" (315 : Nat) ({ cls := "java/lang/System", name := "arraycopy", desc := "(Ljava/lang/Object;ILjava/lang/Object;II)V" } : Jvm.MethodName)) ∈ lw_all := lw_g (lw_at lw_m4 91 rfl) rfl
theorem q963 : (Jvm.Cond.methodLink "HiddenCube" (321 : Nat) ({ cls := "HiddenCube", name := "streetsOfRound", desc := "()I" } : Jvm.MethodName)) ∈ lw_all := lw_g (lw_at lw_m4 94 rfl) rfl
theorem q964 : (Jvm.Cond.privateMethod ({ cls := "HiddenCube", name := "streetsOfRound", desc := "()I" } : Jvm.MethodName)) ∈ lw_tbl := lw_at lw_m4 95 rfl
theorem q965 : (Jvm.Cond.instanceMethod ({ cls := "HiddenCube", name := "streetsOfRound", desc := "()I" } : Jvm.MethodName)) ∈ lw_all := lw_g (lw_at lw_m4 96 rfl) rfl
theorem q966 : (Jvm.Cond.code ({ cls := "HiddenCube", name := "streetsOfRound", desc := "()I" } : Jvm.MethodName) prog_1_method_60_code (5 : Nat) (Option.some Jvm.ClassFile.FieldType.int)) ∈ lw_all := lw_g (lw_at lw_m4 97 rfl) rfl
theorem q967 : (Jvm.Cond.methodLink "HiddenCube" (306 : Nat) ({ cls := "HiddenCube", name := "streetOf", desc := "(II)I" } : Jvm.MethodName)) ∈ lw_all := lw_g (lw_at lw_m4 98 rfl) rfl
theorem q968 : (Jvm.Cond.privateMethod ({ cls := "HiddenCube", name := "streetOf", desc := "(II)I" } : Jvm.MethodName)) ∈ lw_tbl := lw_at lw_m4 99 rfl
theorem q969 : (Jvm.Cond.instanceMethod ({ cls := "HiddenCube", name := "streetOf", desc := "(II)I" } : Jvm.MethodName)) ∈ lw_all := lw_g (lw_at lw_m4 100 rfl) rfl
theorem q970 : (Jvm.Cond.code ({ cls := "HiddenCube", name := "streetOf", desc := "(II)I" } : Jvm.MethodName) prog_1_method_59_code (5 : Nat) (Option.some Jvm.ClassFile.FieldType.int)) ∈ lw_all := lw_g (lw_at lw_m4 101 rfl) rfl
theorem q972 : (Jvm.Cond.instanceMethod ({ cls := "HiddenCube", name := "round", desc := "(I)I" } : Jvm.MethodName)) ∈ lw_all := lw_g (lw_at lw_m4 103 rfl) rfl
theorem q973 : (Jvm.Cond.selects "HiddenCube" ({ cls := "HiddenCube", name := "round", desc := "(I)I" } : Jvm.MethodName) ({ cls := "HiddenCube", name := "round", desc := "(I)I" } : Jvm.MethodName)) ∈ lw_all := lw_g (lw_at lw_m4 104 rfl) rfl
theorem q974 : (Jvm.Cond.code ({ cls := "HiddenCube", name := "round", desc := "(I)I" } : Jvm.MethodName) prog_1_method_65_code (3 : Nat) (Option.some Jvm.ClassFile.FieldType.int)) ∈ lw_all := lw_g (lw_at lw_m4 105 rfl) rfl
theorem q976 : (Jvm.Cond.instanceMethod ({ cls := "HiddenCube", name := "by", desc := "(I)I" } : Jvm.MethodName)) ∈ lw_all := lw_g (lw_at lw_m4 107 rfl) rfl
theorem q977 : (Jvm.Cond.selects "HiddenCube" ({ cls := "HiddenCube", name := "by", desc := "(I)I" } : Jvm.MethodName) ({ cls := "HiddenCube", name := "by", desc := "(I)I" } : Jvm.MethodName)) ∈ lw_all := lw_g (lw_at lw_m4 108 rfl) rfl
theorem q978 : (Jvm.Cond.code ({ cls := "HiddenCube", name := "by", desc := "(I)I" } : Jvm.MethodName) prog_1_method_67_code (3 : Nat) (Option.some Jvm.ClassFile.FieldType.int)) ∈ lw_all := lw_g (lw_at lw_m4 109 rfl) rfl
theorem q979 : (Jvm.Cond.methodLink "HiddenCube" (331 : Nat) ({ cls := "HiddenCube", name := "stepsBy", desc := "(II)I" } : Jvm.MethodName)) ∈ lw_all := lw_g (lw_at lw_m4 110 rfl) rfl
theorem q980 : (Jvm.Cond.privateMethod ({ cls := "HiddenCube", name := "stepsBy", desc := "(II)I" } : Jvm.MethodName)) ∈ lw_tbl := lw_at lw_m4 111 rfl
theorem q981 : (Jvm.Cond.instanceMethod ({ cls := "HiddenCube", name := "stepsBy", desc := "(II)I" } : Jvm.MethodName)) ∈ lw_all := lw_g (lw_at lw_m4 112 rfl) rfl
theorem q982 : (Jvm.Cond.code ({ cls := "HiddenCube", name := "stepsBy", desc := "(II)I" } : Jvm.MethodName) prog_1_method_66_code (4 : Nat) (Option.some Jvm.ClassFile.FieldType.int)) ∈ lw_all := lw_g (lw_at lw_m4 113 rfl) rfl
theorem q984 : (Jvm.Cond.instanceMethod ({ cls := "HiddenCube", name := "even", desc := "()I" } : Jvm.MethodName)) ∈ lw_all := lw_g (lw_at lw_m4 115 rfl) rfl
theorem q985 : (Jvm.Cond.selects "HiddenCube" ({ cls := "HiddenCube", name := "even", desc := "()I" } : Jvm.MethodName) ({ cls := "HiddenCube", name := "even", desc := "()I" } : Jvm.MethodName)) ∈ lw_all := lw_g (lw_at lw_m4 116 rfl) rfl
theorem q986 : (Jvm.Cond.code ({ cls := "HiddenCube", name := "even", desc := "()I" } : Jvm.MethodName) prog_1_method_68_code (6 : Nat) (Option.some Jvm.ClassFile.FieldType.int)) ∈ lw_all := lw_g (lw_at lw_m4 117 rfl) rfl
theorem q988 : (Jvm.Cond.instanceMethod ({ cls := "HiddenCube", name := "turnings", desc := "()I" } : Jvm.MethodName)) ∈ lw_all := lw_g (lw_at lw_m4 119 rfl) rfl
theorem q989 : (Jvm.Cond.selects "HiddenCube" ({ cls := "HiddenCube", name := "turnings", desc := "()I" } : Jvm.MethodName) ({ cls := "HiddenCube", name := "turnings", desc := "()I" } : Jvm.MethodName)) ∈ lw_all := lw_g (lw_at lw_m4 120 rfl) rfl
theorem q990 : (Jvm.Cond.code ({ cls := "HiddenCube", name := "turnings", desc := "()I" } : Jvm.MethodName) prog_1_method_74_code (1 : Nat) (Option.some Jvm.ClassFile.FieldType.int)) ∈ lw_all := lw_g (lw_at lw_m4 121 rfl) rfl
theorem q991 : (Jvm.Cond.methodLink "HiddenCube" (349 : Nat) ({ cls := "HiddenCube", name := "findsTurnings", desc := "()V" } : Jvm.MethodName)) ∈ lw_all := lw_g (lw_at lw_m4 122 rfl) rfl
theorem q992 : (Jvm.Cond.privateMethod ({ cls := "HiddenCube", name := "findsTurnings", desc := "()V" } : Jvm.MethodName)) ∈ lw_tbl := lw_at lw_m4 123 rfl
theorem q993 : (Jvm.Cond.instanceMethod ({ cls := "HiddenCube", name := "findsTurnings", desc := "()V" } : Jvm.MethodName)) ∈ lw_all := lw_g (lw_at lw_m4 124 rfl) rfl
theorem q994 : (Jvm.Cond.code ({ cls := "HiddenCube", name := "findsTurnings", desc := "()V" } : Jvm.MethodName) prog_1_method_73_code (2 : Nat) (Option.none : Option Jvm.ClassFile.FieldType)) ∈ lw_all := lw_g (lw_at lw_m4 125 rfl) rfl
theorem q995 : (Jvm.Cond.methodLink "HiddenCube" (343 : Nat) ({ cls := "HiddenCube", name := "isTurning", desc := "(I)Z" } : Jvm.MethodName)) ∈ lw_all := lw_g (lw_at lw_m4 126 rfl) rfl
theorem q996 : (Jvm.Cond.privateMethod ({ cls := "HiddenCube", name := "isTurning", desc := "(I)Z" } : Jvm.MethodName)) ∈ lw_tbl := lw_at lw_m4 127 rfl
theorem q997 : (Jvm.Cond.instanceMethod ({ cls := "HiddenCube", name := "isTurning", desc := "(I)Z" } : Jvm.MethodName)) ∈ lw_all := lw_g (lw_at lw_m4 128 rfl) rfl
theorem q998 : (Jvm.Cond.code ({ cls := "HiddenCube", name := "isTurning", desc := "(I)Z" } : Jvm.MethodName) prog_1_method_70_code (5 : Nat) (Option.some Jvm.ClassFile.FieldType.boolean)) ∈ lw_all := lw_g (lw_at lw_m4 129 rfl) rfl
theorem q999 : (Jvm.Cond.methodLink "HiddenCube" (334 : Nat) ({ cls := "HiddenCube", name := "turned", desc := "(II)I" } : Jvm.MethodName)) ∈ lw_all := lw_g (lw_at lw_m4 130 rfl) rfl
theorem q1000 : (Jvm.Cond.privateMethod ({ cls := "HiddenCube", name := "turned", desc := "(II)I" } : Jvm.MethodName)) ∈ lw_tbl := lw_at lw_m4 131 rfl
theorem q1001 : (Jvm.Cond.instanceMethod ({ cls := "HiddenCube", name := "turned", desc := "(II)I" } : Jvm.MethodName)) ∈ lw_all := lw_g (lw_at lw_m4 132 rfl) rfl
theorem q1002 : (Jvm.Cond.code ({ cls := "HiddenCube", name := "turned", desc := "(II)I" } : Jvm.MethodName) prog_1_method_69_code (5 : Nat) (Option.some Jvm.ClassFile.FieldType.int)) ∈ lw_all := lw_g (lw_at lw_m4 133 rfl) rfl
theorem q1003 : (Jvm.Cond.methodLink "HiddenCube" (346 : Nat) ({ cls := "HiddenCube", name := "nextPerm", desc := "()Z" } : Jvm.MethodName)) ∈ lw_all := lw_g (lw_at lw_m4 134 rfl) rfl
theorem q1004 : (Jvm.Cond.privateMethod ({ cls := "HiddenCube", name := "nextPerm", desc := "()Z" } : Jvm.MethodName)) ∈ lw_tbl := lw_at lw_m4 135 rfl
theorem q1005 : (Jvm.Cond.instanceMethod ({ cls := "HiddenCube", name := "nextPerm", desc := "()Z" } : Jvm.MethodName)) ∈ lw_all := lw_g (lw_at lw_m4 136 rfl) rfl
theorem q1006 : (Jvm.Cond.code ({ cls := "HiddenCube", name := "nextPerm", desc := "()Z" } : Jvm.MethodName) prog_1_method_71_code (5 : Nat) (Option.some Jvm.ClassFile.FieldType.boolean)) ∈ lw_all := lw_g (lw_at lw_m4 137 rfl) rfl
theorem q1007 : (Jvm.Cond.methodLink "HiddenCube" (337 : Nat) ({ cls := "HiddenCube", name := "swaps", desc := "(II)V" } : Jvm.MethodName)) ∈ lw_all := lw_g (lw_at lw_m4 138 rfl) rfl
theorem q1008 : (Jvm.Cond.privateMethod ({ cls := "HiddenCube", name := "swaps", desc := "(II)V" } : Jvm.MethodName)) ∈ lw_tbl := lw_at lw_m4 139 rfl
theorem q1009 : (Jvm.Cond.instanceMethod ({ cls := "HiddenCube", name := "swaps", desc := "(II)V" } : Jvm.MethodName)) ∈ lw_all := lw_g (lw_at lw_m4 140 rfl) rfl
theorem q1010 : (Jvm.Cond.code ({ cls := "HiddenCube", name := "swaps", desc := "(II)V" } : Jvm.MethodName) prog_1_method_72_code (4 : Nat) (Option.none : Option Jvm.ClassFile.FieldType)) ∈ lw_all := lw_g (lw_at lw_m4 141 rfl) rfl
theorem q1012 : (Jvm.Cond.instanceMethod ({ cls := "HiddenCube", name := "orbit", desc := "(I)I" } : Jvm.MethodName)) ∈ lw_all := lw_g (lw_at lw_m4 143 rfl) rfl
theorem q1013 : (Jvm.Cond.selects "HiddenCube" ({ cls := "HiddenCube", name := "orbit", desc := "(I)I" } : Jvm.MethodName) ({ cls := "HiddenCube", name := "orbit", desc := "(I)I" } : Jvm.MethodName)) ∈ lw_all := lw_g (lw_at lw_m4 144 rfl) rfl
theorem q1014 : (Jvm.Cond.code ({ cls := "HiddenCube", name := "orbit", desc := "(I)I" } : Jvm.MethodName) prog_1_method_75_code (4 : Nat) (Option.some Jvm.ClassFile.FieldType.int)) ∈ lw_all := lw_g (lw_at lw_m4 145 rfl) rfl
theorem q1015 : (Jvm.Cond.methodLink "HiddenCube" (352 : Nat) ({ cls := "java/lang/Math", name := "min", desc := "(II)I" } : Jvm.MethodName)) ∈ lw_all := lw_g (lw_at lw_m4 146 rfl) rfl
theorem q1017 : (Jvm.Cond.instanceMethod ({ cls := "HiddenCube", name := "still", desc := "(I)I" } : Jvm.MethodName)) ∈ lw_all := lw_g (lw_at lw_m4 148 rfl) rfl
theorem q1018 : (Jvm.Cond.selects "HiddenCube" ({ cls := "HiddenCube", name := "still", desc := "(I)I" } : Jvm.MethodName) ({ cls := "HiddenCube", name := "still", desc := "(I)I" } : Jvm.MethodName)) ∈ lw_all := lw_g (lw_at lw_m4 149 rfl) rfl
theorem q1019 : (Jvm.Cond.code ({ cls := "HiddenCube", name := "still", desc := "(I)I" } : Jvm.MethodName) prog_1_method_76_code (4 : Nat) (Option.some Jvm.ClassFile.FieldType.int)) ∈ lw_all := lw_g (lw_at lw_m4 150 rfl) rfl
theorem q1021 : (Jvm.Cond.instanceMethod ({ cls := "HiddenCube", name := "colours", desc := "(I)J" } : Jvm.MethodName)) ∈ lw_all := lw_g (lw_at lw_m4 152 rfl) rfl
theorem q1022 : (Jvm.Cond.selects "HiddenCube" ({ cls := "HiddenCube", name := "colours", desc := "(I)J" } : Jvm.MethodName) ({ cls := "HiddenCube", name := "colours", desc := "(I)J" } : Jvm.MethodName)) ∈ lw_all := lw_g (lw_at lw_m4 153 rfl) rfl
theorem q1023 : (Jvm.Cond.code ({ cls := "HiddenCube", name := "colours", desc := "(I)J" } : Jvm.MethodName) prog_1_method_78_code (8 : Nat) (Option.some Jvm.ClassFile.FieldType.long)) ∈ lw_all := lw_g (lw_at lw_m4 154 rfl) rfl
theorem q1024 : (Jvm.Cond.constantLong "HiddenCube" (355 : Nat) (3 : Int64)) ∈ lw_all := lw_g (lw_at lw_m4 155 rfl) rfl
theorem q1025 : (Jvm.Cond.constantLong "HiddenCube" (357 : Nat) (-2 : Int64)) ∈ lw_all := lw_g (lw_at lw_m4 156 rfl) rfl
theorem q1026 : (Jvm.Cond.methodLink "HiddenCube" (359 : Nat) ({ cls := "HiddenCube", name := "rowsOf", desc := "(I)I" } : Jvm.MethodName)) ∈ lw_all := lw_g (lw_at lw_m4 157 rfl) rfl
theorem q1027 : (Jvm.Cond.privateMethod ({ cls := "HiddenCube", name := "rowsOf", desc := "(I)I" } : Jvm.MethodName)) ∈ lw_tbl := lw_at lw_m4 158 rfl
theorem q1028 : (Jvm.Cond.instanceMethod ({ cls := "HiddenCube", name := "rowsOf", desc := "(I)I" } : Jvm.MethodName)) ∈ lw_all := lw_g (lw_at lw_m4 159 rfl) rfl
theorem q1029 : (Jvm.Cond.code ({ cls := "HiddenCube", name := "rowsOf", desc := "(I)I" } : Jvm.MethodName) prog_1_method_77_code (6 : Nat) (Option.some Jvm.ClassFile.FieldType.int)) ∈ lw_all := lw_g (lw_at lw_m4 160 rfl) rfl
theorem q1031 : (Jvm.Cond.instanceMethod ({ cls := "HiddenCube", name := "unlike", desc := "()I" } : Jvm.MethodName)) ∈ lw_all := lw_g (lw_at lw_m4 162 rfl) rfl
theorem q1032 : (Jvm.Cond.selects "HiddenCube" ({ cls := "HiddenCube", name := "unlike", desc := "()I" } : Jvm.MethodName) ({ cls := "HiddenCube", name := "unlike", desc := "()I" } : Jvm.MethodName)) ∈ lw_all := lw_g (lw_at lw_m4 163 rfl) rfl
theorem q1033 : (Jvm.Cond.code ({ cls := "HiddenCube", name := "unlike", desc := "()I" } : Jvm.MethodName) prog_1_method_81_code (4 : Nat) (Option.some Jvm.ClassFile.FieldType.int)) ∈ lw_all := lw_g (lw_at lw_m4 164 rfl) rfl
theorem q1034 : (Jvm.Cond.methodLink "HiddenCube" (362 : Nat) ({ cls := "HiddenCube", name := "laysStreets", desc := "(I)V" } : Jvm.MethodName)) ∈ lw_all := lw_g (lw_at lw_m4 165 rfl) rfl
theorem q1035 : (Jvm.Cond.privateMethod ({ cls := "HiddenCube", name := "laysStreets", desc := "(I)V" } : Jvm.MethodName)) ∈ lw_tbl := lw_at lw_m4 166 rfl
theorem q1036 : (Jvm.Cond.instanceMethod ({ cls := "HiddenCube", name := "laysStreets", desc := "(I)V" } : Jvm.MethodName)) ∈ lw_all := lw_g (lw_at lw_m4 167 rfl) rfl
theorem q1037 : (Jvm.Cond.code ({ cls := "HiddenCube", name := "laysStreets", desc := "(I)V" } : Jvm.MethodName) prog_1_method_79_code (5 : Nat) (Option.none : Option Jvm.ClassFile.FieldType)) ∈ lw_all := lw_g (lw_at lw_m4 168 rfl) rfl
theorem q1038 : (Jvm.Cond.methodLink "HiddenCube" (365 : Nat) ({ cls := "HiddenCube", name := "streetsTurned", desc := "(I)I" } : Jvm.MethodName)) ∈ lw_all := lw_g (lw_at lw_m4 169 rfl) rfl
theorem q1039 : (Jvm.Cond.privateMethod ({ cls := "HiddenCube", name := "streetsTurned", desc := "(I)I" } : Jvm.MethodName)) ∈ lw_tbl := lw_at lw_m4 170 rfl
theorem q1040 : (Jvm.Cond.instanceMethod ({ cls := "HiddenCube", name := "streetsTurned", desc := "(I)I" } : Jvm.MethodName)) ∈ lw_all := lw_g (lw_at lw_m4 171 rfl) rfl
theorem q1041 : (Jvm.Cond.code ({ cls := "HiddenCube", name := "streetsTurned", desc := "(I)I" } : Jvm.MethodName) prog_1_method_80_code (4 : Nat) (Option.some Jvm.ClassFile.FieldType.int)) ∈ lw_all := lw_g (lw_at lw_m4 172 rfl) rfl
theorem q1043 : (Jvm.Cond.instanceMethod ({ cls := "HiddenCube", name := "bare", desc := "()I" } : Jvm.MethodName)) ∈ lw_all := lw_g (lw_at lw_m4 174 rfl) rfl
theorem q1044 : (Jvm.Cond.selects "HiddenCube" ({ cls := "HiddenCube", name := "bare", desc := "()I" } : Jvm.MethodName) ({ cls := "HiddenCube", name := "bare", desc := "()I" } : Jvm.MethodName)) ∈ lw_all := lw_g (lw_at lw_m4 175 rfl) rfl
theorem q1045 : (Jvm.Cond.code ({ cls := "HiddenCube", name := "bare", desc := "()I" } : Jvm.MethodName) prog_1_method_84_code (3 : Nat) (Option.some Jvm.ClassFile.FieldType.int)) ∈ lw_all := lw_g (lw_at lw_m4 176 rfl) rfl
theorem q1046 : (Jvm.Cond.methodLink "HiddenCube" (371 : Nat) ({ cls := "HiddenCube", name := "watchedBy", desc := "(I)I" } : Jvm.MethodName)) ∈ lw_all := lw_g (lw_at lw_m4 177 rfl) rfl
theorem q1047 : (Jvm.Cond.privateMethod ({ cls := "HiddenCube", name := "watchedBy", desc := "(I)I" } : Jvm.MethodName)) ∈ lw_tbl := lw_at lw_m4 178 rfl
theorem q1048 : (Jvm.Cond.instanceMethod ({ cls := "HiddenCube", name := "watchedBy", desc := "(I)I" } : Jvm.MethodName)) ∈ lw_all := lw_g (lw_at lw_m4 179 rfl) rfl
theorem q1049 : (Jvm.Cond.code ({ cls := "HiddenCube", name := "watchedBy", desc := "(I)I" } : Jvm.MethodName) prog_1_method_82_code (4 : Nat) (Option.some Jvm.ClassFile.FieldType.int)) ∈ lw_all := lw_g (lw_at lw_m4 180 rfl) rfl
theorem q1050 : (Jvm.Cond.methodLink "HiddenCube" (374 : Nat) ({ cls := "HiddenCube", name := "all", desc := "()I" } : Jvm.MethodName)) ∈ lw_all := lw_g (lw_at lw_m4 181 rfl) rfl
theorem q1051 : (Jvm.Cond.privateMethod ({ cls := "HiddenCube", name := "all", desc := "()I" } : Jvm.MethodName)) ∈ lw_tbl := lw_at lw_m4 182 rfl
theorem q1052 : (Jvm.Cond.instanceMethod ({ cls := "HiddenCube", name := "all", desc := "()I" } : Jvm.MethodName)) ∈ lw_all := lw_g (lw_at lw_m4 183 rfl) rfl
theorem q1053 : (Jvm.Cond.code ({ cls := "HiddenCube", name := "all", desc := "()I" } : Jvm.MethodName) prog_1_method_83_code (1 : Nat) (Option.some Jvm.ClassFile.FieldType.int)) ∈ lw_all := lw_g (lw_at lw_m4 184 rfl) rfl
theorem q1055 : (Jvm.Cond.instanceMethod ({ cls := "HiddenCube", name := "warden", desc := "(II)I" } : Jvm.MethodName)) ∈ lw_all := lw_g (lw_at lw_m4 186 rfl) rfl
theorem q1056 : (Jvm.Cond.selects "HiddenCube" ({ cls := "HiddenCube", name := "warden", desc := "(II)I" } : Jvm.MethodName) ({ cls := "HiddenCube", name := "warden", desc := "(II)I" } : Jvm.MethodName)) ∈ lw_all := lw_g (lw_at lw_m4 187 rfl) rfl
theorem q1057 : (Jvm.Cond.code ({ cls := "HiddenCube", name := "warden", desc := "(II)I" } : Jvm.MethodName) prog_1_method_85_code (4 : Nat) (Option.some Jvm.ClassFile.FieldType.int)) ∈ lw_all := lw_g (lw_at lw_m4 188 rfl) rfl
theorem q1059 : (Jvm.Cond.instanceMethod ({ cls := "HiddenCube", name := "fewest", desc := "(I)I" } : Jvm.MethodName)) ∈ lw_all := lw_g (lw_at lw_m4 190 rfl) rfl
theorem q1060 : (Jvm.Cond.selects "HiddenCube" ({ cls := "HiddenCube", name := "fewest", desc := "(I)I" } : Jvm.MethodName) ({ cls := "HiddenCube", name := "fewest", desc := "(I)I" } : Jvm.MethodName)) ∈ lw_all := lw_g (lw_at lw_m4 191 rfl) rfl
theorem q1061 : (Jvm.Cond.code ({ cls := "HiddenCube", name := "fewest", desc := "(I)I" } : Jvm.MethodName) prog_1_method_90_code (7 : Nat) (Option.some Jvm.ClassFile.FieldType.int)) ∈ lw_all := lw_g (lw_at lw_m4 192 rfl) rfl
theorem q1062 : (Jvm.Cond.methodLink "HiddenCube" (382 : Nat) ({ cls := "HiddenCube", name := "asksWardens", desc := "(Z)I" } : Jvm.MethodName)) ∈ lw_all := lw_g (lw_at lw_m4 193 rfl) rfl
theorem q1063 : (Jvm.Cond.privateMethod ({ cls := "HiddenCube", name := "asksWardens", desc := "(Z)I" } : Jvm.MethodName)) ∈ lw_tbl := lw_at lw_m4 194 rfl
theorem q1064 : (Jvm.Cond.instanceMethod ({ cls := "HiddenCube", name := "asksWardens", desc := "(Z)I" } : Jvm.MethodName)) ∈ lw_all := lw_g (lw_at lw_m4 195 rfl) rfl
theorem q1065 : (Jvm.Cond.code ({ cls := "HiddenCube", name := "asksWardens", desc := "(Z)I" } : Jvm.MethodName) prog_1_method_89_code (2 : Nat) (Option.some Jvm.ClassFile.FieldType.int)) ∈ lw_all := lw_g (lw_at lw_m4 196 rfl) rfl
theorem q1066 : (Jvm.Cond.methodLink "HiddenCube" (379 : Nat) ({ cls := "HiddenCube", name := "fillsWatched", desc := "()V" } : Jvm.MethodName)) ∈ lw_all := lw_g (lw_at lw_m4 197 rfl) rfl
theorem q1067 : (Jvm.Cond.privateMethod ({ cls := "HiddenCube", name := "fillsWatched", desc := "()V" } : Jvm.MethodName)) ∈ lw_tbl := lw_at lw_m4 198 rfl
theorem q1068 : (Jvm.Cond.instanceMethod ({ cls := "HiddenCube", name := "fillsWatched", desc := "()V" } : Jvm.MethodName)) ∈ lw_all := lw_g (lw_at lw_m4 199 rfl) rfl
theorem q1069 : (Jvm.Cond.code ({ cls := "HiddenCube", name := "fillsWatched", desc := "()V" } : Jvm.MethodName) prog_1_method_87_code (2 : Nat) (Option.none : Option Jvm.ClassFile.FieldType)) ∈ lw_all := lw_g (lw_at lw_m4 200 rfl) rfl
theorem q1070 : (Jvm.Cond.methodLink "HiddenCube" (377 : Nat) ({ cls := "HiddenCube", name := "sets", desc := "()I" } : Jvm.MethodName)) ∈ lw_all := lw_g (lw_at lw_m4 201 rfl) rfl
theorem q1071 : (Jvm.Cond.privateMethod ({ cls := "HiddenCube", name := "sets", desc := "()I" } : Jvm.MethodName)) ∈ lw_tbl := lw_at lw_m4 202 rfl
theorem q1072 : (Jvm.Cond.instanceMethod ({ cls := "HiddenCube", name := "sets", desc := "()I" } : Jvm.MethodName)) ∈ lw_all := lw_g (lw_at lw_m4 203 rfl) rfl
theorem q1073 : (Jvm.Cond.code ({ cls := "HiddenCube", name := "sets", desc := "()I" } : Jvm.MethodName) prog_1_method_86_code (1 : Nat) (Option.some Jvm.ClassFile.FieldType.int)) ∈ lw_all := lw_g (lw_at lw_m4 204 rfl) rfl
theorem q1074 : (Jvm.Cond.methodLink "HiddenCube" (385 : Nat) ({ cls := "HiddenCube", name := "fewestWith", desc := "(I)I" } : Jvm.MethodName)) ∈ lw_all := lw_g (lw_at lw_m4 205 rfl) rfl
theorem q1075 : (Jvm.Cond.privateMethod ({ cls := "HiddenCube", name := "fewestWith", desc := "(I)I" } : Jvm.MethodName)) ∈ lw_tbl := lw_at lw_m4 206 rfl
theorem q1076 : (Jvm.Cond.instanceMethod ({ cls := "HiddenCube", name := "fewestWith", desc := "(I)I" } : Jvm.MethodName)) ∈ lw_all := lw_g (lw_at lw_m4 207 rfl) rfl
theorem q1077 : (Jvm.Cond.code ({ cls := "HiddenCube", name := "fewestWith", desc := "(I)I" } : Jvm.MethodName) prog_1_method_88_code (4 : Nat) (Option.some Jvm.ClassFile.FieldType.int)) ∈ lw_all := lw_g (lw_at lw_m4 208 rfl) rfl
theorem q1079 : (Jvm.Cond.instanceMethod ({ cls := "HiddenCube", name := "perfect", desc := "()I" } : Jvm.MethodName)) ∈ lw_all := lw_g (lw_at lw_m4 210 rfl) rfl
theorem q1080 : (Jvm.Cond.selects "HiddenCube" ({ cls := "HiddenCube", name := "perfect", desc := "()I" } : Jvm.MethodName) ({ cls := "HiddenCube", name := "perfect", desc := "()I" } : Jvm.MethodName)) ∈ lw_all := lw_g (lw_at lw_m4 211 rfl) rfl
theorem q1081 : (Jvm.Cond.code ({ cls := "HiddenCube", name := "perfect", desc := "()I" } : Jvm.MethodName) prog_1_method_91_code (4 : Nat) (Option.some Jvm.ClassFile.FieldType.int)) ∈ lw_all := lw_g (lw_at lw_m4 212 rfl) rfl
theorem q1083 : (Jvm.Cond.instanceMethod ({ cls := "HiddenCube", name := "more", desc := "()I" } : Jvm.MethodName)) ∈ lw_all := lw_g (lw_at lw_m4 214 rfl) rfl
theorem q1084 : (Jvm.Cond.selects "HiddenCube" ({ cls := "HiddenCube", name := "more", desc := "()I" } : Jvm.MethodName) ({ cls := "HiddenCube", name := "more", desc := "()I" } : Jvm.MethodName)) ∈ lw_all := lw_g (lw_at lw_m4 215 rfl) rfl
theorem q1085 : (Jvm.Cond.code ({ cls := "HiddenCube", name := "more", desc := "()I" } : Jvm.MethodName) prog_1_method_92_code (2 : Nat) (Option.some Jvm.ClassFile.FieldType.int)) ∈ lw_all := lw_g (lw_at lw_m4 216 rfl) rfl
theorem q1087 : (Jvm.Cond.instanceMethod ({ cls := "HiddenCube", name := "code", desc := "(I)I" } : Jvm.MethodName)) ∈ lw_all := lw_g (lw_at lw_m4 218 rfl) rfl
theorem q1088 : (Jvm.Cond.selects "HiddenCube" ({ cls := "HiddenCube", name := "code", desc := "(I)I" } : Jvm.MethodName) ({ cls := "HiddenCube", name := "code", desc := "(I)I" } : Jvm.MethodName)) ∈ lw_all := lw_g (lw_at lw_m4 219 rfl) rfl
theorem q1089 : (Jvm.Cond.code ({ cls := "HiddenCube", name := "code", desc := "(I)I" } : Jvm.MethodName) prog_1_method_95_code (7 : Nat) (Option.some Jvm.ClassFile.FieldType.int)) ∈ lw_all := lw_g (lw_at lw_m4 220 rfl) rfl
theorem q1090 : (Jvm.Cond.methodLink "HiddenCube" (400 : Nat) ({ cls := "HiddenCube", name := "asksSquares", desc := "(IZ)I" } : Jvm.MethodName)) ∈ lw_all := lw_g (lw_at lw_m4 221 rfl) rfl
theorem q1091 : (Jvm.Cond.privateMethod ({ cls := "HiddenCube", name := "asksSquares", desc := "(IZ)I" } : Jvm.MethodName)) ∈ lw_tbl := lw_at lw_m4 222 rfl
theorem q1092 : (Jvm.Cond.instanceMethod ({ cls := "HiddenCube", name := "asksSquares", desc := "(IZ)I" } : Jvm.MethodName)) ∈ lw_all := lw_g (lw_at lw_m4 223 rfl) rfl
theorem q1093 : (Jvm.Cond.codeWith ({ cls := "HiddenCube", name := "asksSquares", desc := "(IZ)I" } : Jvm.MethodName) prog_1_method_93_code (4 : Nat) (Option.some Jvm.ClassFile.FieldType.int) [((21 : Nat), (55 : Nat), (64 : Nat), (398 : Nat)), ((56 : Nat), (63 : Nat), (64 : Nat), (398 : Nat))]) ∈ lw_all := lw_g (lw_at lw_m4 224 rfl) rfl
theorem q1094 : (Jvm.Cond.classLink "HiddenCube" (398 : Nat) "java/lang/NullPointerException") ∈ lw_all := lw_g (lw_at lw_m4 225 rfl) rfl
theorem q1121 : (Jvm.Cond.methodLink "HiddenCube" (388 : Nat) ({ cls := "HiddenCube", name := "isSlot", desc := "(I)Z" } : Jvm.MethodName)) ∈ lw_all := lw_g (lw_at lw_m5 12 rfl) rfl
theorem q1122 : (Jvm.Cond.static ({ cls := "HiddenCube", name := "isSlot", desc := "(I)Z" } : Jvm.MethodName)) ∈ lw_all := lw_g (lw_at lw_m5 13 rfl) rfl
theorem q1123 : (Jvm.Cond.code ({ cls := "HiddenCube", name := "isSlot", desc := "(I)Z" } : Jvm.MethodName) prog_1_method_129_code (1 : Nat) (Option.some Jvm.ClassFile.FieldType.boolean)) ∈ lw_all := lw_g (lw_at lw_m5 14 rfl) rfl
theorem q1124 : (Jvm.Cond.methodLink "HiddenCube" (391 : Nat) ({ cls := "HiddenCube$Slot", name := "size", desc := "()I" } : Jvm.MethodName)) ∈ lw_all := lw_g (lw_at lw_m5 15 rfl) rfl
theorem q1132 : (Jvm.Cond.methodLink "HiddenCube" (394 : Nat) ({ cls := "HiddenCube$Slot", name := "at", desc := "(I)J" } : Jvm.MethodName)) ∈ lw_all := lw_g (lw_at lw_m5 23 rfl) rfl
theorem q1136 : (Jvm.Cond.methodLink "HiddenCube" (404 : Nat) ({ cls := "HiddenCube", name := "squareAt", desc := "(II)I" } : Jvm.MethodName)) ∈ lw_all := lw_g (lw_at lw_m5 27 rfl) rfl
theorem q1137 : (Jvm.Cond.privateMethod ({ cls := "HiddenCube", name := "squareAt", desc := "(II)I" } : Jvm.MethodName)) ∈ lw_tbl := lw_at lw_m5 28 rfl
theorem q1138 : (Jvm.Cond.instanceMethod ({ cls := "HiddenCube", name := "squareAt", desc := "(II)I" } : Jvm.MethodName)) ∈ lw_all := lw_g (lw_at lw_m5 29 rfl) rfl
theorem q1139 : (Jvm.Cond.code ({ cls := "HiddenCube", name := "squareAt", desc := "(II)I" } : Jvm.MethodName) prog_1_method_94_code (3 : Nat) (Option.some Jvm.ClassFile.FieldType.int)) ∈ lw_all := lw_g (lw_at lw_m5 30 rfl) rfl
theorem q1141 : (Jvm.Cond.instanceMethod ({ cls := "HiddenCube", name := "heard", desc := "(II)I" } : Jvm.MethodName)) ∈ lw_all := lw_g (lw_at lw_m5 32 rfl) rfl
theorem q1142 : (Jvm.Cond.selects "HiddenCube" ({ cls := "HiddenCube", name := "heard", desc := "(II)I" } : Jvm.MethodName) ({ cls := "HiddenCube", name := "heard", desc := "(II)I" } : Jvm.MethodName)) ∈ lw_all := lw_g (lw_at lw_m5 33 rfl) rfl
theorem q1143 : (Jvm.Cond.code ({ cls := "HiddenCube", name := "heard", desc := "(II)I" } : Jvm.MethodName) prog_1_method_96_code (8 : Nat) (Option.some Jvm.ClassFile.FieldType.int)) ∈ lw_all := lw_g (lw_at lw_m5 34 rfl) rfl
theorem q1145 : (Jvm.Cond.instanceMethod ({ cls := "HiddenCube", name := "told", desc := "(II)I" } : Jvm.MethodName)) ∈ lw_all := lw_g (lw_at lw_m5 36 rfl) rfl
theorem q1146 : (Jvm.Cond.selects "HiddenCube" ({ cls := "HiddenCube", name := "told", desc := "(II)I" } : Jvm.MethodName) ({ cls := "HiddenCube", name := "told", desc := "(II)I" } : Jvm.MethodName)) ∈ lw_all := lw_g (lw_at lw_m5 37 rfl) rfl
theorem q1147 : (Jvm.Cond.code ({ cls := "HiddenCube", name := "told", desc := "(II)I" } : Jvm.MethodName) prog_1_method_97_code (8 : Nat) (Option.some Jvm.ClassFile.FieldType.int)) ∈ lw_all := lw_g (lw_at lw_m5 38 rfl) rfl
theorem q1149 : (Jvm.Cond.instanceMethod ({ cls := "HiddenCube", name := "biggest", desc := "(I)I" } : Jvm.MethodName)) ∈ lw_all := lw_g (lw_at lw_m5 40 rfl) rfl
theorem q1150 : (Jvm.Cond.selects "HiddenCube" ({ cls := "HiddenCube", name := "biggest", desc := "(I)I" } : Jvm.MethodName) ({ cls := "HiddenCube", name := "biggest", desc := "(I)I" } : Jvm.MethodName)) ∈ lw_all := lw_g (lw_at lw_m5 41 rfl) rfl
theorem q1151 : (Jvm.Cond.code ({ cls := "HiddenCube", name := "biggest", desc := "(I)I" } : Jvm.MethodName) prog_1_method_98_code (8 : Nat) (Option.some Jvm.ClassFile.FieldType.int)) ∈ lw_all := lw_g (lw_at lw_m5 42 rfl) rfl
theorem q1153 : (Jvm.Cond.instanceMethod ({ cls := "HiddenCube", name := "shadow", desc := "(II)I" } : Jvm.MethodName)) ∈ lw_all := lw_g (lw_at lw_m5 44 rfl) rfl
theorem q1154 : (Jvm.Cond.selects "HiddenCube" ({ cls := "HiddenCube", name := "shadow", desc := "(II)I" } : Jvm.MethodName) ({ cls := "HiddenCube", name := "shadow", desc := "(II)I" } : Jvm.MethodName)) ∈ lw_all := lw_g (lw_at lw_m5 45 rfl) rfl
theorem q1155 : (Jvm.Cond.code ({ cls := "HiddenCube", name := "shadow", desc := "(II)I" } : Jvm.MethodName) prog_1_method_99_code (3 : Nat) (Option.some Jvm.ClassFile.FieldType.int)) ∈ lw_all := lw_g (lw_at lw_m5 46 rfl) rfl
theorem q1157 : (Jvm.Cond.instanceMethod ({ cls := "HiddenCube", name := "crossings", desc := "(I)I" } : Jvm.MethodName)) ∈ lw_all := lw_g (lw_at lw_m5 48 rfl) rfl
theorem q1158 : (Jvm.Cond.selects "HiddenCube" ({ cls := "HiddenCube", name := "crossings", desc := "(I)I" } : Jvm.MethodName) ({ cls := "HiddenCube", name := "crossings", desc := "(I)I" } : Jvm.MethodName)) ∈ lw_all := lw_g (lw_at lw_m5 49 rfl) rfl
theorem q1159 : (Jvm.Cond.codeWith ({ cls := "HiddenCube", name := "crossings", desc := "(I)I" } : Jvm.MethodName) prog_1_method_102_code (4 : Nat) (Option.some Jvm.ClassFile.FieldType.int) [((17 : Nat), (38 : Nat), (121 : Nat), (398 : Nat)), ((39 : Nat), (86 : Nat), (121 : Nat), (398 : Nat)), ((87 : Nat), (120 : Nat), (121 : Nat), (398 : Nat))]) ∈ lw_all := lw_g (lw_at lw_m5 50 rfl) rfl
theorem q1160 : (Jvm.Cond.methodLink "HiddenCube" (410 : Nat) ({ cls := "HiddenCube", name := "crossingsNow", desc := "()I" } : Jvm.MethodName)) ∈ lw_all := lw_g (lw_at lw_m5 51 rfl) rfl
theorem q1161 : (Jvm.Cond.privateMethod ({ cls := "HiddenCube", name := "crossingsNow", desc := "()I" } : Jvm.MethodName)) ∈ lw_tbl := lw_at lw_m5 52 rfl
theorem q1162 : (Jvm.Cond.instanceMethod ({ cls := "HiddenCube", name := "crossingsNow", desc := "()I" } : Jvm.MethodName)) ∈ lw_all := lw_g (lw_at lw_m5 53 rfl) rfl
theorem q1163 : (Jvm.Cond.code ({ cls := "HiddenCube", name := "crossingsNow", desc := "()I" } : Jvm.MethodName) prog_1_method_100_code (4 : Nat) (Option.some Jvm.ClassFile.FieldType.int)) ∈ lw_all := lw_g (lw_at lw_m5 54 rfl) rfl
theorem q1164 : (Jvm.Cond.methodLink "HiddenCube" (407 : Nat) ({ cls := "HiddenCube", name := "crossedBy", desc := "(II)I" } : Jvm.MethodName)) ∈ lw_all := lw_g (lw_at lw_m5 55 rfl) rfl
theorem q1165 : (Jvm.Cond.privateMethod ({ cls := "HiddenCube", name := "crossedBy", desc := "(II)I" } : Jvm.MethodName)) ∈ lw_tbl := lw_at lw_m5 56 rfl
theorem q1166 : (Jvm.Cond.instanceMethod ({ cls := "HiddenCube", name := "crossedBy", desc := "(II)I" } : Jvm.MethodName)) ∈ lw_all := lw_g (lw_at lw_m5 57 rfl) rfl
theorem q1167 : (Jvm.Cond.code ({ cls := "HiddenCube", name := "crossedBy", desc := "(II)I" } : Jvm.MethodName) prog_1_method_101_code (9 : Nat) (Option.some Jvm.ClassFile.FieldType.int)) ∈ lw_all := lw_g (lw_at lw_m5 58 rfl) rfl
theorem q1169 : (Jvm.Cond.instanceMethod ({ cls := "HiddenCube", name := "drawing", desc := "()I" } : Jvm.MethodName)) ∈ lw_all := lw_g (lw_at lw_m5 60 rfl) rfl
theorem q1170 : (Jvm.Cond.selects "HiddenCube" ({ cls := "HiddenCube", name := "drawing", desc := "()I" } : Jvm.MethodName) ({ cls := "HiddenCube", name := "drawing", desc := "()I" } : Jvm.MethodName)) ∈ lw_all := lw_g (lw_at lw_m5 61 rfl) rfl
theorem q1171 : (Jvm.Cond.code ({ cls := "HiddenCube", name := "drawing", desc := "()I" } : Jvm.MethodName) prog_1_method_103_code (4 : Nat) (Option.some Jvm.ClassFile.FieldType.int)) ∈ lw_all := lw_g (lw_at lw_m5 62 rfl) rfl
theorem q1172 : (Jvm.Cond.methodLink "HiddenCube" (413 : Nat) ({ cls := "HiddenCube", name := "nextCircle", desc := "(I)Z" } : Jvm.MethodName)) ∈ lw_all := lw_g (lw_at lw_m5 63 rfl) rfl
theorem q1173 : (Jvm.Cond.privateMethod ({ cls := "HiddenCube", name := "nextCircle", desc := "(I)Z" } : Jvm.MethodName)) ∈ lw_tbl := lw_at lw_m5 64 rfl
theorem q1174 : (Jvm.Cond.instanceMethod ({ cls := "HiddenCube", name := "nextCircle", desc := "(I)Z" } : Jvm.MethodName)) ∈ lw_all := lw_g (lw_at lw_m5 65 rfl) rfl
theorem q1175 : (Jvm.Cond.code ({ cls := "HiddenCube", name := "nextCircle", desc := "(I)Z" } : Jvm.MethodName) prog_1_method_104_code (6 : Nat) (Option.some Jvm.ClassFile.FieldType.boolean)) ∈ lw_all := lw_g (lw_at lw_m5 66 rfl) rfl
theorem q1176 : (Jvm.Cond.methodLink "HiddenCube" (416 : Nat) ({ cls := "HiddenCube", name := "trades", desc := "(II)V" } : Jvm.MethodName)) ∈ lw_all := lw_g (lw_at lw_m5 67 rfl) rfl
theorem q1177 : (Jvm.Cond.privateMethod ({ cls := "HiddenCube", name := "trades", desc := "(II)V" } : Jvm.MethodName)) ∈ lw_tbl := lw_at lw_m5 68 rfl
theorem q1178 : (Jvm.Cond.instanceMethod ({ cls := "HiddenCube", name := "trades", desc := "(II)V" } : Jvm.MethodName)) ∈ lw_all := lw_g (lw_at lw_m5 69 rfl) rfl
theorem q1179 : (Jvm.Cond.code ({ cls := "HiddenCube", name := "trades", desc := "(II)V" } : Jvm.MethodName) prog_1_method_105_code (4 : Nat) (Option.none : Option Jvm.ClassFile.FieldType)) ∈ lw_all := lw_g (lw_at lw_m5 70 rfl) rfl
theorem q1181 : (Jvm.Cond.instanceMethod ({ cls := "HiddenCube", name := "person", desc := "(I)I" } : Jvm.MethodName)) ∈ lw_all := lw_g (lw_at lw_m5 72 rfl) rfl
theorem q1182 : (Jvm.Cond.selects "HiddenCube" ({ cls := "HiddenCube", name := "person", desc := "(I)I" } : Jvm.MethodName) ({ cls := "HiddenCube", name := "person", desc := "(I)I" } : Jvm.MethodName)) ∈ lw_all := lw_g (lw_at lw_m5 73 rfl) rfl
theorem q1183 : (Jvm.Cond.code ({ cls := "HiddenCube", name := "person", desc := "(I)I" } : Jvm.MethodName) prog_1_method_107_code (2 : Nat) (Option.some Jvm.ClassFile.FieldType.int)) ∈ lw_all := lw_g (lw_at lw_m5 74 rfl) rfl
theorem q1184 : (Jvm.Cond.methodLink "HiddenCube" (422 : Nat) ({ cls := "HiddenCube", name := "isPerson", desc := "(J)Z" } : Jvm.MethodName)) ∈ lw_all := lw_g (lw_at lw_m5 75 rfl) rfl
theorem q1185 : (Jvm.Cond.privateMethod ({ cls := "HiddenCube", name := "isPerson", desc := "(J)Z" } : Jvm.MethodName)) ∈ lw_tbl := lw_at lw_m5 76 rfl
theorem q1186 : (Jvm.Cond.instanceMethod ({ cls := "HiddenCube", name := "isPerson", desc := "(J)Z" } : Jvm.MethodName)) ∈ lw_all := lw_g (lw_at lw_m5 77 rfl) rfl
theorem q1187 : (Jvm.Cond.code ({ cls := "HiddenCube", name := "isPerson", desc := "(J)Z" } : Jvm.MethodName) prog_1_method_106_code (3 : Nat) (Option.some Jvm.ClassFile.FieldType.boolean)) ∈ lw_all := lw_g (lw_at lw_m5 78 rfl) rfl
theorem q1189 : (Jvm.Cond.instanceMethod ({ cls := "HiddenCube", name := "moves", desc := "(II)I" } : Jvm.MethodName)) ∈ lw_all := lw_g (lw_at lw_m5 80 rfl) rfl
theorem q1190 : (Jvm.Cond.selects "HiddenCube" ({ cls := "HiddenCube", name := "moves", desc := "(II)I" } : Jvm.MethodName) ({ cls := "HiddenCube", name := "moves", desc := "(II)I" } : Jvm.MethodName)) ∈ lw_all := lw_g (lw_at lw_m5 81 rfl) rfl
theorem q1191 : (Jvm.Cond.code ({ cls := "HiddenCube", name := "moves", desc := "(II)I" } : Jvm.MethodName) prog_1_method_108_code (4 : Nat) (Option.some Jvm.ClassFile.FieldType.int)) ∈ lw_all := lw_g (lw_at lw_m5 82 rfl) rfl
theorem q1193 : (Jvm.Cond.instanceMethod ({ cls := "HiddenCube", name := "met", desc := "(I)I" } : Jvm.MethodName)) ∈ lw_all := lw_g (lw_at lw_m5 84 rfl) rfl
theorem q1194 : (Jvm.Cond.selects "HiddenCube" ({ cls := "HiddenCube", name := "met", desc := "(I)I" } : Jvm.MethodName) ({ cls := "HiddenCube", name := "met", desc := "(I)I" } : Jvm.MethodName)) ∈ lw_all := lw_g (lw_at lw_m5 85 rfl) rfl
theorem q1195 : (Jvm.Cond.code ({ cls := "HiddenCube", name := "met", desc := "(I)I" } : Jvm.MethodName) prog_1_method_112_code (3 : Nat) (Option.some Jvm.ClassFile.FieldType.int)) ∈ lw_all := lw_g (lw_at lw_m5 86 rfl) rfl
theorem q1196 : (Jvm.Cond.methodLink "HiddenCube" (434 : Nat) ({ cls := "HiddenCube", name := "asksMet", desc := "(IZ)I" } : Jvm.MethodName)) ∈ lw_all := lw_g (lw_at lw_m5 87 rfl) rfl
theorem q1197 : (Jvm.Cond.privateMethod ({ cls := "HiddenCube", name := "asksMet", desc := "(IZ)I" } : Jvm.MethodName)) ∈ lw_tbl := lw_at lw_m5 88 rfl
theorem q1198 : (Jvm.Cond.instanceMethod ({ cls := "HiddenCube", name := "asksMet", desc := "(IZ)I" } : Jvm.MethodName)) ∈ lw_all := lw_g (lw_at lw_m5 89 rfl) rfl
theorem q1199 : (Jvm.Cond.codeWith ({ cls := "HiddenCube", name := "asksMet", desc := "(IZ)I" } : Jvm.MethodName) prog_1_method_109_code (5 : Nat) (Option.some Jvm.ClassFile.FieldType.int) [((24 : Nat), (58 : Nat), (154 : Nat), (398 : Nat)), ((59 : Nat), (67 : Nat), (154 : Nat), (398 : Nat)), ((68 : Nat), (145 : Nat), (154 : Nat), (398 : Nat)), ((146 : Nat), (153 : Nat), (154 : Nat), (398 : Nat))]) ∈ lw_all := lw_g (lw_at lw_m5 90 rfl) rfl
theorem q1200 : (Jvm.Cond.methodLink "HiddenCube" (437 : Nat) ({ cls := "HiddenCube", name := "findsPlacings", desc := "(I)V" } : Jvm.MethodName)) ∈ lw_all := lw_g (lw_at lw_m5 91 rfl) rfl
theorem q1201 : (Jvm.Cond.privateMethod ({ cls := "HiddenCube", name := "findsPlacings", desc := "(I)V" } : Jvm.MethodName)) ∈ lw_tbl := lw_at lw_m5 92 rfl
theorem q1202 : (Jvm.Cond.instanceMethod ({ cls := "HiddenCube", name := "findsPlacings", desc := "(I)V" } : Jvm.MethodName)) ∈ lw_all := lw_g (lw_at lw_m5 93 rfl) rfl
theorem q1203 : (Jvm.Cond.code ({ cls := "HiddenCube", name := "findsPlacings", desc := "(I)V" } : Jvm.MethodName) prog_1_method_111_code (6 : Nat) (Option.none : Option Jvm.ClassFile.FieldType)) ∈ lw_all := lw_g (lw_at lw_m5 94 rfl) rfl
theorem q1204 : (Jvm.Cond.methodLink "HiddenCube" (431 : Nat) ({ cls := "HiddenCube", name := "isMetSo", desc := "(I)Z" } : Jvm.MethodName)) ∈ lw_all := lw_g (lw_at lw_m5 95 rfl) rfl
theorem q1205 : (Jvm.Cond.privateMethod ({ cls := "HiddenCube", name := "isMetSo", desc := "(I)Z" } : Jvm.MethodName)) ∈ lw_tbl := lw_at lw_m5 96 rfl
theorem q1206 : (Jvm.Cond.instanceMethod ({ cls := "HiddenCube", name := "isMetSo", desc := "(I)Z" } : Jvm.MethodName)) ∈ lw_all := lw_g (lw_at lw_m5 97 rfl) rfl
theorem q1207 : (Jvm.Cond.code ({ cls := "HiddenCube", name := "isMetSo", desc := "(I)Z" } : Jvm.MethodName) prog_1_method_110_code (3 : Nat) (Option.some Jvm.ClassFile.FieldType.boolean)) ∈ lw_all := lw_g (lw_at lw_m5 98 rfl) rfl
theorem q1209 : (Jvm.Cond.instanceMethod ({ cls := "HiddenCube", name := "sure", desc := "(II)I" } : Jvm.MethodName)) ∈ lw_all := lw_g (lw_at lw_m5 100 rfl) rfl
theorem q1210 : (Jvm.Cond.selects "HiddenCube" ({ cls := "HiddenCube", name := "sure", desc := "(II)I" } : Jvm.MethodName) ({ cls := "HiddenCube", name := "sure", desc := "(II)I" } : Jvm.MethodName)) ∈ lw_all := lw_g (lw_at lw_m5 101 rfl) rfl
theorem q1211 : (Jvm.Cond.code ({ cls := "HiddenCube", name := "sure", desc := "(II)I" } : Jvm.MethodName) prog_1_method_113_code (4 : Nat) (Option.some Jvm.ClassFile.FieldType.int)) ∈ lw_all := lw_g (lw_at lw_m5 102 rfl) rfl
theorem q1213 : (Jvm.Cond.instanceMethod ({ cls := "HiddenCube", name := "comes", desc := "(I)I" } : Jvm.MethodName)) ∈ lw_all := lw_g (lw_at lw_m5 104 rfl) rfl
theorem q1214 : (Jvm.Cond.selects "HiddenCube" ({ cls := "HiddenCube", name := "comes", desc := "(I)I" } : Jvm.MethodName) ({ cls := "HiddenCube", name := "comes", desc := "(I)I" } : Jvm.MethodName)) ∈ lw_all := lw_g (lw_at lw_m5 105 rfl) rfl
theorem q1215 : (Jvm.Cond.code ({ cls := "HiddenCube", name := "comes", desc := "(I)I" } : Jvm.MethodName) prog_1_method_118_code (2 : Nat) (Option.some Jvm.ClassFile.FieldType.int)) ∈ lw_all := lw_g (lw_at lw_m5 106 rfl) rfl
theorem q1216 : (Jvm.Cond.methodLink "HiddenCube" (463 : Nat) ({ cls := "HiddenCube", name := "isCarrier", desc := "(I)Z" } : Jvm.MethodName)) ∈ lw_all := lw_g (lw_at lw_m5 107 rfl) rfl
theorem q1217 : (Jvm.Cond.privateMethod ({ cls := "HiddenCube", name := "isCarrier", desc := "(I)Z" } : Jvm.MethodName)) ∈ lw_tbl := lw_at lw_m5 108 rfl
theorem q1218 : (Jvm.Cond.instanceMethod ({ cls := "HiddenCube", name := "isCarrier", desc := "(I)Z" } : Jvm.MethodName)) ∈ lw_all := lw_g (lw_at lw_m5 109 rfl) rfl
theorem q1219 : (Jvm.Cond.code ({ cls := "HiddenCube", name := "isCarrier", desc := "(I)Z" } : Jvm.MethodName) prog_1_method_117_code (2 : Nat) (Option.some Jvm.ClassFile.FieldType.boolean)) ∈ lw_all := lw_g (lw_at lw_m5 110 rfl) rfl
theorem q1220 : (Jvm.Cond.methodLink "HiddenCube" (466 : Nat) ({ cls := "HiddenCube", name := "carries", desc := "(IZ)V" } : Jvm.MethodName)) ∈ lw_all := lw_g (lw_at lw_m5 111 rfl) rfl
theorem q1221 : (Jvm.Cond.privateMethod ({ cls := "HiddenCube", name := "carries", desc := "(IZ)V" } : Jvm.MethodName)) ∈ lw_tbl := lw_at lw_m5 112 rfl
theorem q1222 : (Jvm.Cond.instanceMethod ({ cls := "HiddenCube", name := "carries", desc := "(IZ)V" } : Jvm.MethodName)) ∈ lw_all := lw_g (lw_at lw_m5 113 rfl) rfl
theorem q1223 : (Jvm.Cond.code ({ cls := "HiddenCube", name := "carries", desc := "(IZ)V" } : Jvm.MethodName) prog_1_method_116_code (6 : Nat) (Option.none : Option Jvm.ClassFile.FieldType)) ∈ lw_all := lw_g (lw_at lw_m5 114 rfl) rfl
theorem q1224 : (Jvm.Cond.methodLink "HiddenCube" (459 : Nat) ({ cls := "HiddenCube", name := "stepsOn", desc := "(IIZ)V" } : Jvm.MethodName)) ∈ lw_all := lw_g (lw_at lw_m5 115 rfl) rfl
theorem q1225 : (Jvm.Cond.privateMethod ({ cls := "HiddenCube", name := "stepsOn", desc := "(IIZ)V" } : Jvm.MethodName)) ∈ lw_tbl := lw_at lw_m5 116 rfl
theorem q1226 : (Jvm.Cond.instanceMethod ({ cls := "HiddenCube", name := "stepsOn", desc := "(IIZ)V" } : Jvm.MethodName)) ∈ lw_all := lw_g (lw_at lw_m5 117 rfl) rfl
theorem q1227 : (Jvm.Cond.code ({ cls := "HiddenCube", name := "stepsOn", desc := "(IIZ)V" } : Jvm.MethodName) prog_1_method_115_code (5 : Nat) (Option.none : Option Jvm.ClassFile.FieldType)) ∈ lw_all := lw_g (lw_at lw_m5 118 rfl) rfl
theorem q1228 : (Jvm.Cond.methodLink "HiddenCube" (443 : Nat) ({ cls := "HiddenCube", name := "isTaken", desc := "(III)Z" } : Jvm.MethodName)) ∈ lw_all := lw_g (lw_at lw_m5 119 rfl) rfl
theorem q1229 : (Jvm.Cond.privateMethod ({ cls := "HiddenCube", name := "isTaken", desc := "(III)Z" } : Jvm.MethodName)) ∈ lw_tbl := lw_at lw_m5 120 rfl
theorem q1230 : (Jvm.Cond.instanceMethod ({ cls := "HiddenCube", name := "isTaken", desc := "(III)Z" } : Jvm.MethodName)) ∈ lw_all := lw_g (lw_at lw_m5 121 rfl) rfl
theorem q1231 : (Jvm.Cond.code ({ cls := "HiddenCube", name := "isTaken", desc := "(III)Z" } : Jvm.MethodName) prog_1_method_114_code (5 : Nat) (Option.some Jvm.ClassFile.FieldType.boolean)) ∈ lw_all := lw_g (lw_at lw_m5 122 rfl) rfl
theorem q1233 : (Jvm.Cond.instanceMethod ({ cls := "HiddenCube", name := "post", desc := "(I)I" } : Jvm.MethodName)) ∈ lw_all := lw_g (lw_at lw_m5 124 rfl) rfl
theorem q1234 : (Jvm.Cond.selects "HiddenCube" ({ cls := "HiddenCube", name := "post", desc := "(I)I" } : Jvm.MethodName) ({ cls := "HiddenCube", name := "post", desc := "(I)I" } : Jvm.MethodName)) ∈ lw_all := lw_g (lw_at lw_m5 125 rfl) rfl
theorem q1235 : (Jvm.Cond.code ({ cls := "HiddenCube", name := "post", desc := "(I)I" } : Jvm.MethodName) prog_1_method_119_code (5 : Nat) (Option.some Jvm.ClassFile.FieldType.int)) ∈ lw_all := lw_g (lw_at lw_m5 126 rfl) rfl
theorem q1237 : (Jvm.Cond.instanceMethod ({ cls := "HiddenCube", name := "at", desc := "(II)I" } : Jvm.MethodName)) ∈ lw_all := lw_g (lw_at lw_m5 128 rfl) rfl
theorem q1238 : (Jvm.Cond.selects "HiddenCube" ({ cls := "HiddenCube", name := "at", desc := "(II)I" } : Jvm.MethodName) ({ cls := "HiddenCube", name := "at", desc := "(II)I" } : Jvm.MethodName)) ∈ lw_all := lw_g (lw_at lw_m5 129 rfl) rfl
theorem q1239 : (Jvm.Cond.code ({ cls := "HiddenCube", name := "at", desc := "(II)I" } : Jvm.MethodName) prog_1_method_120_code (3 : Nat) (Option.some Jvm.ClassFile.FieldType.int)) ∈ lw_all := lw_g (lw_at lw_m5 130 rfl) rfl
theorem q1241 : (Jvm.Cond.instanceMethod ({ cls := "HiddenCube", name := "clash", desc := "()I" } : Jvm.MethodName)) ∈ lw_all := lw_g (lw_at lw_m5 132 rfl) rfl
theorem q1242 : (Jvm.Cond.selects "HiddenCube" ({ cls := "HiddenCube", name := "clash", desc := "()I" } : Jvm.MethodName) ({ cls := "HiddenCube", name := "clash", desc := "()I" } : Jvm.MethodName)) ∈ lw_all := lw_g (lw_at lw_m5 133 rfl) rfl
theorem q1243 : (Jvm.Cond.code ({ cls := "HiddenCube", name := "clash", desc := "()I" } : Jvm.MethodName) prog_1_method_121_code (1 : Nat) (Option.some Jvm.ClassFile.FieldType.int)) ∈ lw_all := lw_g (lw_at lw_m5 134 rfl) rfl
theorem q1245 : (Jvm.Cond.instanceMethod ({ cls := "HiddenCube", name := "law", desc := "(I)I" } : Jvm.MethodName)) ∈ lw_all := lw_g (lw_at lw_m5 136 rfl) rfl
theorem q1246 : (Jvm.Cond.selects "HiddenCube" ({ cls := "HiddenCube", name := "law", desc := "(I)I" } : Jvm.MethodName) ({ cls := "HiddenCube", name := "law", desc := "(I)I" } : Jvm.MethodName)) ∈ lw_all := lw_g (lw_at lw_m5 137 rfl) rfl
theorem q1247 : (Jvm.Cond.code ({ cls := "HiddenCube", name := "law", desc := "(I)I" } : Jvm.MethodName) prog_1_method_122_code (4 : Nat) (Option.some Jvm.ClassFile.FieldType.int)) ∈ lw_all := lw_g (lw_at lw_m5 138 rfl) rfl
theorem q1248 : (Jvm.Cond.methodLink "HiddenCube" (470 : Nat) ({ cls := "HiddenCube", name := "lawOfWardens", desc := "()I" } : Jvm.MethodName)) ∈ lw_all := lw_g (lw_at lw_m5 139 rfl) rfl
theorem q1249 : (Jvm.Cond.privateMethod ({ cls := "HiddenCube", name := "lawOfWardens", desc := "()I" } : Jvm.MethodName)) ∈ lw_tbl := lw_at lw_m5 140 rfl
theorem q1250 : (Jvm.Cond.instanceMethod ({ cls := "HiddenCube", name := "lawOfWardens", desc := "()I" } : Jvm.MethodName)) ∈ lw_all := lw_g (lw_at lw_m5 141 rfl) rfl
theorem q1251 : (Jvm.Cond.code ({ cls := "HiddenCube", name := "lawOfWardens", desc := "()I" } : Jvm.MethodName) prog_1_method_123_code (2 : Nat) (Option.some Jvm.ClassFile.FieldType.int)) ∈ lw_all := lw_g (lw_at lw_m5 142 rfl) rfl
theorem q1253 : (Jvm.Cond.instanceMethod ({ cls := "HiddenCube", name := "flood", desc := "(III)I" } : Jvm.MethodName)) ∈ lw_all := lw_g (lw_at lw_m5 144 rfl) rfl
theorem q1254 : (Jvm.Cond.selects "HiddenCube" ({ cls := "HiddenCube", name := "flood", desc := "(III)I" } : Jvm.MethodName) ({ cls := "HiddenCube", name := "flood", desc := "(III)I" } : Jvm.MethodName)) ∈ lw_all := lw_g (lw_at lw_m5 145 rfl) rfl
theorem q1255 : (Jvm.Cond.code ({ cls := "HiddenCube", name := "flood", desc := "(III)I" } : Jvm.MethodName) prog_1_method_126_code (4 : Nat) (Option.some Jvm.ClassFile.FieldType.int)) ∈ lw_all := lw_g (lw_at lw_m5 146 rfl) rfl
theorem q1256 : (Jvm.Cond.methodLink "HiddenCube" (485 : Nat) ({ cls := "HiddenCube", name := "isSeed", desc := "(I)Z" } : Jvm.MethodName)) ∈ lw_all := lw_g (lw_at lw_m5 147 rfl) rfl
theorem q1257 : (Jvm.Cond.static ({ cls := "HiddenCube", name := "isSeed", desc := "(I)Z" } : Jvm.MethodName)) ∈ lw_all := lw_g (lw_at lw_m5 148 rfl) rfl
theorem q1258 : (Jvm.Cond.code ({ cls := "HiddenCube", name := "isSeed", desc := "(I)Z" } : Jvm.MethodName) prog_1_method_13_code (1 : Nat) (Option.some Jvm.ClassFile.FieldType.boolean)) ∈ lw_all := lw_g (lw_at lw_m5 149 rfl) rfl
theorem q1259 : (Jvm.Cond.constantLong "HiddenCube" (165 : Nat) (2000000000 : Int64)) ∈ lw_all := lw_g (lw_at lw_m5 150 rfl) rfl
theorem q1260 : (Jvm.Cond.methodLink "HiddenCube" (488 : Nat) ({ cls := "HiddenCube", name := "daysOf", desc := "(JII)I" } : Jvm.MethodName)) ∈ lw_all := lw_g (lw_at lw_m5 151 rfl) rfl
theorem q1261 : (Jvm.Cond.privateMethod ({ cls := "HiddenCube", name := "daysOf", desc := "(JII)I" } : Jvm.MethodName)) ∈ lw_tbl := lw_at lw_m5 152 rfl
theorem q1262 : (Jvm.Cond.instanceMethod ({ cls := "HiddenCube", name := "daysOf", desc := "(JII)I" } : Jvm.MethodName)) ∈ lw_all := lw_g (lw_at lw_m5 153 rfl) rfl
theorem q1263 : (Jvm.Cond.code ({ cls := "HiddenCube", name := "daysOf", desc := "(JII)I" } : Jvm.MethodName) prog_1_method_125_code (8 : Nat) (Option.some Jvm.ClassFile.FieldType.int)) ∈ lw_all := lw_g (lw_at lw_m5 154 rfl) rfl
theorem q1264 : (Jvm.Cond.methodLink "HiddenCube" (481 : Nat) ({ cls := "HiddenCube", name := "draws", desc := "(J)V" } : Jvm.MethodName)) ∈ lw_all := lw_g (lw_at lw_m5 155 rfl) rfl
theorem q1265 : (Jvm.Cond.privateMethod ({ cls := "HiddenCube", name := "draws", desc := "(J)V" } : Jvm.MethodName)) ∈ lw_tbl := lw_at lw_m5 156 rfl
theorem q1266 : (Jvm.Cond.instanceMethod ({ cls := "HiddenCube", name := "draws", desc := "(J)V" } : Jvm.MethodName)) ∈ lw_all := lw_g (lw_at lw_m5 157 rfl) rfl
theorem q1267 : (Jvm.Cond.code ({ cls := "HiddenCube", name := "draws", desc := "(J)V" } : Jvm.MethodName) prog_1_method_124_code (6 : Nat) (Option.none : Option Jvm.ClassFile.FieldType)) ∈ lw_all := lw_g (lw_at lw_m5 158 rfl) rfl
theorem q1268 : (Jvm.Cond.constantLong "HiddenCube" (473 : Nat) (1103515245 : Int64)) ∈ lw_all := lw_g (lw_at lw_m5 159 rfl) rfl
theorem q1269 : (Jvm.Cond.constantLong "HiddenCube" (475 : Nat) (12345 : Int64)) ∈ lw_all := lw_g (lw_at lw_m5 160 rfl) rfl
theorem q1270 : (Jvm.Cond.constantLong "HiddenCube" (477 : Nat) (2147483648 : Int64)) ∈ lw_all := lw_g (lw_at lw_m5 161 rfl) rfl
theorem q1271 : (Jvm.Cond.constantLong "HiddenCube" (479 : Nat) (65536 : Int64)) ∈ lw_all := lw_g (lw_at lw_m5 162 rfl) rfl
theorem q1273 : (Jvm.Cond.instanceMethod ({ cls := "HiddenCube", name := "day", desc := "(II)I" } : Jvm.MethodName)) ∈ lw_all := lw_g (lw_at lw_m5 164 rfl) rfl
theorem q1274 : (Jvm.Cond.selects "HiddenCube" ({ cls := "HiddenCube", name := "day", desc := "(II)I" } : Jvm.MethodName) ({ cls := "HiddenCube", name := "day", desc := "(II)I" } : Jvm.MethodName)) ∈ lw_all := lw_g (lw_at lw_m5 165 rfl) rfl
theorem q1275 : (Jvm.Cond.code ({ cls := "HiddenCube", name := "day", desc := "(II)I" } : Jvm.MethodName) prog_1_method_127_code (3 : Nat) (Option.some Jvm.ClassFile.FieldType.int)) ∈ lw_all := lw_g (lw_at lw_m5 166 rfl) rfl
theorem q1277 : (Jvm.Cond.instanceMethod ({ cls := "HiddenCube", name := "chance", desc := "(IIIII)I" } : Jvm.MethodName)) ∈ lw_all := lw_g (lw_at lw_m5 168 rfl) rfl
theorem q1278 : (Jvm.Cond.selects "HiddenCube" ({ cls := "HiddenCube", name := "chance", desc := "(IIIII)I" } : Jvm.MethodName) ({ cls := "HiddenCube", name := "chance", desc := "(IIIII)I" } : Jvm.MethodName)) ∈ lw_all := lw_g (lw_at lw_m5 169 rfl) rfl
theorem q1279 : (Jvm.Cond.code ({ cls := "HiddenCube", name := "chance", desc := "(IIIII)I" } : Jvm.MethodName) prog_1_method_128_code (8 : Nat) (Option.some Jvm.ClassFile.FieldType.int)) ∈ lw_all := lw_g (lw_at lw_m5 170 rfl) rfl
theorem q1280 : (Jvm.Cond.constantLong "HiddenCube" (492 : Nat) (20 : Int64)) ∈ lw_all := lw_g (lw_at lw_m5 171 rfl) rfl
theorem q1281 : (Jvm.Cond.constantLong "HiddenCube" (494 : Nat) (60 : Int64)) ∈ lw_all := lw_g (lw_at lw_m5 172 rfl) rfl
theorem q1283 : (Jvm.Cond.instanceMethod ({ cls := "HiddenCube", name := "count", desc := "(I)I" } : Jvm.MethodName)) ∈ lw_all := lw_g (lw_at lw_m5 174 rfl) rfl
theorem q1284 : (Jvm.Cond.selects "HiddenCube" ({ cls := "HiddenCube", name := "count", desc := "(I)I" } : Jvm.MethodName) ({ cls := "HiddenCube", name := "count", desc := "(I)I" } : Jvm.MethodName)) ∈ lw_all := lw_g (lw_at lw_m5 175 rfl) rfl
theorem q1285 : (Jvm.Cond.code ({ cls := "HiddenCube", name := "count", desc := "(I)I" } : Jvm.MethodName) prog_1_method_131_code (4 : Nat) (Option.some Jvm.ClassFile.FieldType.int)) ∈ lw_all := lw_g (lw_at lw_m5 176 rfl) rfl
theorem q1286 : (Jvm.Cond.methodLink "HiddenCube" (496 : Nat) ({ cls := "HiddenCube", name := "shutStreets", desc := "()I" } : Jvm.MethodName)) ∈ lw_all := lw_g (lw_at lw_m5 177 rfl) rfl
theorem q1287 : (Jvm.Cond.privateMethod ({ cls := "HiddenCube", name := "shutStreets", desc := "()I" } : Jvm.MethodName)) ∈ lw_tbl := lw_at lw_m5 178 rfl
theorem q1288 : (Jvm.Cond.instanceMethod ({ cls := "HiddenCube", name := "shutStreets", desc := "()I" } : Jvm.MethodName)) ∈ lw_all := lw_g (lw_at lw_m5 179 rfl) rfl
theorem q1289 : (Jvm.Cond.code ({ cls := "HiddenCube", name := "shutStreets", desc := "()I" } : Jvm.MethodName) prog_1_method_130_code (3 : Nat) (Option.some Jvm.ClassFile.FieldType.int)) ∈ lw_all := lw_g (lw_at lw_m5 180 rfl) rfl
theorem q1291 : (Jvm.Cond.instanceMethod ({ cls := "HiddenCube", name := "keep", desc := "(I)I" } : Jvm.MethodName)) ∈ lw_all := lw_g (lw_at lw_m5 182 rfl) rfl
theorem q1292 : (Jvm.Cond.selects "HiddenCube" ({ cls := "HiddenCube", name := "keep", desc := "(I)I" } : Jvm.MethodName) ({ cls := "HiddenCube", name := "keep", desc := "(I)I" } : Jvm.MethodName)) ∈ lw_all := lw_g (lw_at lw_m5 183 rfl) rfl
theorem q1293 : (Jvm.Cond.code ({ cls := "HiddenCube", name := "keep", desc := "(I)I" } : Jvm.MethodName) prog_1_method_132_code (2 : Nat) (Option.some Jvm.ClassFile.FieldType.int)) ∈ lw_all := lw_g (lw_at lw_m5 184 rfl) rfl
theorem q1294 : (Jvm.Cond.constantLong "HiddenCube" (503 : Nat) (2 : Int64)) ∈ lw_all := lw_g (lw_at lw_m5 185 rfl) rfl
theorem q1295 : (Jvm.Cond.methodLink "HiddenCube" (505 : Nat) ({ cls := "HiddenCube$Town", name := "copy", desc := "()LHiddenCube$Town;" } : Jvm.MethodName)) ∈ lw_all := lw_g (lw_at lw_m5 186 rfl) rfl
theorem q1303 : (Jvm.Cond.instanceMethod ({ cls := "HiddenCube", name := "back", desc := "(I)I" } : Jvm.MethodName)) ∈ lw_all := lw_g (lw_at lw_m5 194 rfl) rfl
theorem q1304 : (Jvm.Cond.selects "HiddenCube" ({ cls := "HiddenCube", name := "back", desc := "(I)I" } : Jvm.MethodName) ({ cls := "HiddenCube", name := "back", desc := "(I)I" } : Jvm.MethodName)) ∈ lw_all := lw_g (lw_at lw_m5 195 rfl) rfl
theorem q1305 : (Jvm.Cond.code ({ cls := "HiddenCube", name := "back", desc := "(I)I" } : Jvm.MethodName) prog_1_method_133_code (2 : Nat) (Option.some Jvm.ClassFile.FieldType.int)) ∈ lw_all := lw_g (lw_at lw_m5 196 rfl) rfl
theorem q1307 : (Jvm.Cond.instanceMethod ({ cls := "HiddenCube", name := "row", desc := "(III)I" } : Jvm.MethodName)) ∈ lw_all := lw_g (lw_at lw_m5 198 rfl) rfl
theorem q1308 : (Jvm.Cond.selects "HiddenCube" ({ cls := "HiddenCube", name := "row", desc := "(III)I" } : Jvm.MethodName) ({ cls := "HiddenCube", name := "row", desc := "(III)I" } : Jvm.MethodName)) ∈ lw_all := lw_g (lw_at lw_m5 199 rfl) rfl
theorem q1309 : (Jvm.Cond.codeWith ({ cls := "HiddenCube", name := "row", desc := "(III)I" } : Jvm.MethodName) prog_1_method_134_code (5 : Nat) (Option.some Jvm.ClassFile.FieldType.int) [((28 : Nat), (40 : Nat), (41 : Nat), (511 : Nat))]) ∈ lw_all := lw_g (lw_at lw_m5 200 rfl) rfl
theorem q1310 : (Jvm.Cond.classLink "HiddenCube" (511 : Nat) "java/lang/NegativeArraySizeException") ∈ lw_all := lw_g (lw_at lw_m5 201 rfl) rfl
theorem q1337 : (Jvm.Cond.methodLink "HiddenCube" (508 : Nat) ({ cls := "HiddenCube$Slot", name := "make", desc := "(II)V" } : Jvm.MethodName)) ∈ lw_all := lw_g (lw_at lw_m5 228 rfl) rfl
theorem q1344 : (Jvm.Cond.instanceMethod ({ cls := "HiddenCube", name := "write", desc := "(IIJ)I" } : Jvm.MethodName)) ∈ lw_all := lw_g (lw_at lw_m5 235 rfl) rfl
theorem q1345 : (Jvm.Cond.selects "HiddenCube" ({ cls := "HiddenCube", name := "write", desc := "(IIJ)I" } : Jvm.MethodName) ({ cls := "HiddenCube", name := "write", desc := "(IIJ)I" } : Jvm.MethodName)) ∈ lw_all := lw_g (lw_at lw_m5 236 rfl) rfl
theorem q1346 : (Jvm.Cond.codeWith ({ cls := "HiddenCube", name := "write", desc := "(IIJ)I" } : Jvm.MethodName) prog_1_method_135_code (6 : Nat) (Option.some Jvm.ClassFile.FieldType.int) [((10 : Nat), (22 : Nat), (23 : Nat), (398 : Nat)), ((10 : Nat), (22 : Nat), (28 : Nat), (517 : Nat))]) ∈ lw_all := lw_g (lw_at lw_m5 237 rfl) rfl
theorem q1347 : (Jvm.Cond.classLink "HiddenCube" (517 : Nat) "java/lang/ArrayIndexOutOfBoundsException") ∈ lw_all := lw_g (lw_at lw_m5 238 rfl) rfl
theorem q1366 : (Jvm.Cond.methodLink "HiddenCube" (513 : Nat) ({ cls := "HiddenCube$Slot", name := "put", desc := "(IJ)V" } : Jvm.MethodName)) ∈ lw_all := lw_g (lw_at lw_m6 17 rfl) rfl
theorem q1371 : (Jvm.Cond.instanceMethod ({ cls := "HiddenCube", name := "paste", desc := "(IIIII)I" } : Jvm.MethodName)) ∈ lw_all := lw_g (lw_at lw_m6 22 rfl) rfl
theorem q1372 : (Jvm.Cond.selects "HiddenCube" ({ cls := "HiddenCube", name := "paste", desc := "(IIIII)I" } : Jvm.MethodName) ({ cls := "HiddenCube", name := "paste", desc := "(IIIII)I" } : Jvm.MethodName)) ∈ lw_all := lw_g (lw_at lw_m6 23 rfl) rfl
theorem q1373 : (Jvm.Cond.codeWith ({ cls := "HiddenCube", name := "paste", desc := "(IIIII)I" } : Jvm.MethodName) prog_1_method_136_code (7 : Nat) (Option.some Jvm.ClassFile.FieldType.int) [((17 : Nat), (44 : Nat), (45 : Nat), (398 : Nat)), ((17 : Nat), (44 : Nat), (50 : Nat), (519 : Nat)), ((17 : Nat), (44 : Nat), (55 : Nat), (521 : Nat))]) ∈ lw_all := lw_g (lw_at lw_m6 24 rfl) rfl
theorem q1374 : (Jvm.Cond.classLink "HiddenCube" (519 : Nat) "java/lang/ArrayStoreException") ∈ lw_all := lw_g (lw_at lw_m6 25 rfl) rfl
theorem q1388 : (Jvm.Cond.classLink "HiddenCube" (521 : Nat) "java/lang/IndexOutOfBoundsException") ∈ lw_all := lw_g (lw_at lw_m6 39 rfl) rfl
theorem in_X0 : ∀ w ∈ wsX00, w ∈ lw_all := lw_in wsX00 [338, 340, 342, 344, 346, 348, 350, 352, 354, 356, 358, 360, 362, 364, 366, 368, 370, 372, 374, 376, 378, 380, 382, 384, 386, 388, 390, 392, 394, 396, 398, 400, 402, 404, 406, 408, 410, 412, 414] (by decide +kernel) (by decide +kernel)
