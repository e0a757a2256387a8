/-! HiddenCubeModel -/
set_option maxRecDepth 100000
def RX5 : String := "HiddenCubeModel"
def TX5 : u_T := fun k => match k with
  | 0 => ("HiddenCubeModel", "thrown", "I", false)
  | 1 => ("HiddenCubeModel", "width", "[I", true)
  | 2 => ("HiddenCubeModel", "many", "[I", true)
  | 3 => ("HiddenCubeModel", "cells", "[J", true)
  | 4 => ("HiddenCubeModel", "moved", "[J", true)
  | 5 => ("HiddenCubeModel", "tape", "[B", true)
  | 6 => ("HiddenCubeModel", "taped", "I", false)
  | 7 => ("HiddenCubeModel", "at", "I", false)
  | 8 => ("HiddenCubeModel", "token", "I", false)
  | 9 => ("HiddenCubeModel", "place", "I", false)
  | 10 => ("HiddenCubeModel", "value", "I", false)
  | 11 => ("HiddenCubeModel", "word", "J", false)
  | 12 => ("HiddenCubeModel", "bad", "I", false)
  | 13 => ("HiddenCubeModel", "badPlace", "I", false)
  | 14 => ("HiddenCubeModel", "fault", "I", false)
  | 15 => ("HiddenCubeModel", "faultPlace", "I", false)
  | 16 => ("HiddenCubeModel", "lines", "[I", true)
  | 17 => ("HiddenCubeModel", "has", "[I", true)
  | 18 => ("HiddenCubeModel", "name", "[J", true)
  | 19 => ("HiddenCubeModel", "length", "[I", true)
  | 20 => ("HiddenCubeModel", "letter", "[I", true)
  | 21 => ("HiddenCubeModel", "shut", "[I", true)
  | 22 => ("HiddenCubeModel", "warden", "[I", true)
  | 23 => ("HiddenCubeModel", "person", "[I", true)
  | 24 => ("HiddenCubeModel", "carrier", "[I", true)
  | 25 => ("HiddenCubeModel", "isKept", "[Z", true)
  | 26 => ("HiddenCubeModel", "far", "[I", true)
  | 27 => ("HiddenCubeModel", "ways", "[I", true)
  | 28 => ("HiddenCubeModel", "room", "[I", true)
  | 29 => ("HiddenCubeModel", "came", "[I", true)
  | 30 => ("HiddenCubeModel", "queue", "[I", true)
  | 31 => ("HiddenCubeModel", "part", "[I", true)
  | 32 => ("HiddenCubeModel", "goesTo", "[I", true)
  | 33 => ("HiddenCubeModel", "turned", "[I", true)
  | 34 => ("HiddenCubeModel", "turningMany", "I", false)
  | 35 => ("HiddenCubeModel", "order", "[I", true)
  | 36 => ("HiddenCubeModel", "street", "[I", true)
  | 37 => ("HiddenCubeModel", "rounds", "[I", true)
  | 38 => ("HiddenCubeModel", "roundMany", "I", false)
  | 39 => ("HiddenCubeModel", "path", "[I", true)
  | 40 => ("HiddenCubeModel", "firstRound", "[I", true)
  | 41 => ("HiddenCubeModel", "streetTo", "[I", true)
  | 42 => ("HiddenCubeModel", "near", "[I", true)
  | 43 => ("HiddenCubeModel", "fewestMany", "I", false)
  | 44 => ("HiddenCubeModel", "fewestSets", "I", false)
  | 45 => ("HiddenCubeModel", "fewestLeast", "I", false)
  | 46 => ("HiddenCubeModel", "seat", "[I", true)
  | 47 => ("HiddenCubeModel", "low", "[I", true)
  | 48 => ("HiddenCubeModel", "high", "[I", true)
  | 49 => ("HiddenCubeModel", "stands", "[I", true)
  | 50 => ("HiddenCubeModel", "sureOf", "[I", true)
  | 51 => ("HiddenCubeModel", "metMany", "I", false)
  | 52 => ("HiddenCubeModel", "where", "[I", true)
  | 53 => ("HiddenCubeModel", "there", "[I", true)
  | 54 => ("HiddenCubeModel", "went", "[I", true)
  | 55 => ("HiddenCubeModel", "waits", "I", false)
  | 56 => ("HiddenCubeModel", "clashes", "I", false)
  | _ => ("HiddenCubeModel", "x", "J", false)
def tyX5 : Nat → FieldType := fun k => match k with
  | 0 => .int
  | 1 => .array .int
  | 2 => .array .int
  | 3 => .array .long
  | 4 => .array .long
  | 5 => .array .byte
  | 6 => .int
  | 7 => .int
  | 8 => .int
  | 9 => .int
  | 10 => .int
  | 11 => .long
  | 12 => .int
  | 13 => .int
  | 14 => .int
  | 15 => .int
  | 16 => .array .int
  | 17 => .array .int
  | 18 => .array .long
  | 19 => .array .int
  | 20 => .array .int
  | 21 => .array .int
  | 22 => .array .int
  | 23 => .array .int
  | 24 => .array .int
  | 25 => .array .boolean
  | 26 => .array .int
  | 27 => .array .int
  | 28 => .array .int
  | 29 => .array .int
  | 30 => .array .int
  | 31 => .array .int
  | 32 => .array .int
  | 33 => .array .int
  | 34 => .int
  | 35 => .array .int
  | 36 => .array .int
  | 37 => .array .int
  | 38 => .int
  | 39 => .array .int
  | 40 => .array .int
  | 41 => .array .int
  | 42 => .array .int
  | 43 => .int
  | 44 => .int
  | 45 => .int
  | 46 => .array .int
  | 47 => .array .int
  | 48 => .array .int
  | 49 => .array .int
  | 50 => .array .int
  | 51 => .int
  | 52 => .array .int
  | 53 => .array .int
  | 54 => .array .int
  | 55 => .int
  | 56 => .int
  | _ => .long
abbrev wsX50 : List Cond := u_ws RX5 TX5 58
set_option maxRecDepth 100000 in
theorem nmX5 : ∀ a, a < 58 → ∀ b, b < 58 → a ≠ b → (TX5 a).2.1 ≠ (TX5 b).2.1 := by decide +kernel
set_option maxRecDepth 100000 in
theorem tyX5_ok : ∀ k, k < 58 → parseFieldDescriptor (TX5 k).2.2.1 = some (tyX5 k) := by decide +kernel
abbrev cX5_init : ByteArray := prog_10_method_1_code
def yX5_init : MethodName := ⟨RX5, "<init>", "()V"⟩
def dkwX5_init_14 : List UInt8 := [79, 132, 1, 1, 167, 255, 241, 177]
abbrev dktX5_init_14 : List UInt8 := dkwX5_init_14 ++ []
def dkwX5_init_13 : List UInt8 := [181, 0, 125, 42, 16, 6, 188, 10, 181, 0, 128, 3, 60, 27, 7, 162, 0, 16, 42, 180, 0, 7, 27, 2]
abbrev dktX5_init_13 : List UInt8 := dkwX5_init_13 ++ dktX5_init_14
def dkwX5_init_12 : List UInt8 := [181, 0, 116, 42, 16, 6, 188, 10, 181, 0, 119, 42, 16, 6, 188, 10, 181, 0, 122, 42, 16, 6, 188, 10]
abbrev dktX5_init_12 : List UInt8 := dkwX5_init_12 ++ dktX5_init_13
def dkwX5_init_11 : List UInt8 := [181, 0, 107, 42, 16, 80, 188, 10, 181, 0, 110, 42, 16, 80, 188, 10, 181, 0, 113, 42, 16, 6, 188, 10]
abbrev dktX5_init_11 : List UInt8 := dkwX5_init_11 ++ dktX5_init_12
def dkwX5_init_10 : List UInt8 := [181, 0, 98, 42, 16, 32, 188, 10, 181, 0, 101, 42, 16, 32, 188, 10, 181, 0, 104, 42, 16, 32, 188, 10]
abbrev dktX5_init_10 : List UInt8 := dkwX5_init_10 ++ dktX5_init_11
def dkwX5_init_9 : List UInt8 := [42, 17, 5, 120, 188, 10, 181, 0, 92, 42, 16, 17, 188, 10, 181, 0, 95, 42, 16, 16, 188, 10]
abbrev dktX5_init_9 : List UInt8 := dkwX5_init_9 ++ dktX5_init_10
def dkwX5_init_8 : List UInt8 := [42, 17, 15, 0, 188, 10, 181, 0, 83, 42, 8, 188, 10, 181, 0, 86, 42, 16, 80, 188, 10, 181, 0, 89]
abbrev dktX5_init_8 : List UInt8 := dkwX5_init_8 ++ dktX5_init_9
def dkwX5_init_7 : List UInt8 := [16, 64, 188, 10, 181, 0, 74, 42, 16, 32, 188, 10, 181, 0, 77, 42, 17, 75, 0, 188, 10, 181, 0, 80]
abbrev dktX5_init_7 : List UInt8 := dkwX5_init_7 ++ dktX5_init_8
def dkwX5_init_6 : List UInt8 := [188, 10, 181, 0, 65, 42, 17, 16, 0, 188, 10, 181, 0, 68, 42, 16, 64, 188, 10, 181, 0, 71, 42]
abbrev dktX5_init_6 : List UInt8 := dkwX5_init_6 ++ dktX5_init_7
def dkwX5_init_5 : List UInt8 := [188, 10, 181, 0, 55, 42, 6, 188, 4, 181, 0, 58, 42, 16, 32, 188, 10, 181, 0, 62, 42, 16, 32]
abbrev dktX5_init_5 : List UInt8 := dkwX5_init_5 ++ dktX5_init_6
def dkwX5_init_4 : List UInt8 := [188, 10, 181, 0, 46, 42, 8, 188, 10, 181, 0, 49, 42, 16, 30, 188, 10, 181, 0, 52, 42, 16, 60]
abbrev dktX5_init_4 : List UInt8 := dkwX5_init_4 ++ dktX5_init_5
def dkwX5_init_3 : List UInt8 := [181, 0, 37, 42, 16, 25, 188, 10, 181, 0, 40, 42, 17, 0, 200, 188, 10, 181, 0, 43, 42, 17, 0, 160]
abbrev dktX5_init_3 : List UInt8 := dkwX5_init_3 ++ dktX5_init_4
def dkwX5_init_2 : List UInt8 := [181, 0, 27, 42, 8, 188, 10, 181, 0, 31, 42, 16, 15, 188, 10, 181, 0, 34, 42, 16, 25, 188, 11]
abbrev dktX5_init_2 : List UInt8 := dkwX5_init_2 ++ dktX5_init_3
def dkwX5_init_1 : List UInt8 := [181, 0, 16, 42, 16, 60, 188, 11, 181, 0, 20, 42, 17, 5, 120, 188, 8, 181, 0, 23, 42, 2]
abbrev dktX5_init_1 : List UInt8 := dkwX5_init_1 ++ dktX5_init_2
def dkwX5_init_0 : List UInt8 := [42, 183, 0, 1, 42, 7, 188, 10, 181, 0, 7, 42, 7, 188, 10, 181, 0, 13, 42, 17, 0, 240, 188, 11]
abbrev dktX5_init_0 : List UInt8 := dkwX5_init_0 ++ dktX5_init_1
theorem dksX5_init_0 : cX5_init.data.toList.drop 0 = dktX5_init_0 := by decide +kernel
theorem dksX5_init_1 : cX5_init.data.toList.drop 24 = dktX5_init_1 := dk_seg dksX5_init_0 24 rfl rfl
theorem dksX5_init_2 : cX5_init.data.toList.drop 46 = dktX5_init_2 := dk_seg dksX5_init_1 22 rfl rfl
theorem dksX5_init_3 : cX5_init.data.toList.drop 69 = dktX5_init_3 := dk_seg dksX5_init_2 23 rfl rfl
theorem dksX5_init_4 : cX5_init.data.toList.drop 93 = dktX5_init_4 := dk_seg dksX5_init_3 24 rfl rfl
theorem dksX5_init_5 : cX5_init.data.toList.drop 116 = dktX5_init_5 := dk_seg dksX5_init_4 23 rfl rfl
theorem dksX5_init_6 : cX5_init.data.toList.drop 139 = dktX5_init_6 := dk_seg dksX5_init_5 23 rfl rfl
theorem dksX5_init_7 : cX5_init.data.toList.drop 162 = dktX5_init_7 := dk_seg dksX5_init_6 23 rfl rfl
theorem dksX5_init_8 : cX5_init.data.toList.drop 186 = dktX5_init_8 := dk_seg dksX5_init_7 24 rfl rfl
theorem dksX5_init_9 : cX5_init.data.toList.drop 210 = dktX5_init_9 := dk_seg dksX5_init_8 24 rfl rfl
theorem dksX5_init_10 : cX5_init.data.toList.drop 232 = dktX5_init_10 := dk_seg dksX5_init_9 22 rfl rfl
theorem dksX5_init_11 : cX5_init.data.toList.drop 256 = dktX5_init_11 := dk_seg dksX5_init_10 24 rfl rfl
theorem dksX5_init_12 : cX5_init.data.toList.drop 280 = dktX5_init_12 := dk_seg dksX5_init_11 24 rfl rfl
theorem dksX5_init_13 : cX5_init.data.toList.drop 304 = dktX5_init_13 := dk_seg dksX5_init_12 24 rfl rfl
theorem dksX5_init_14 : cX5_init.data.toList.drop 328 = dktX5_init_14 := dk_seg dksX5_init_13 24 rfl rfl
theorem dX5_init_0 : decode cX5_init 0 = .ok (.aload_n 0, 1) := dk_42 (dk_at dksX5_init_0 0 rfl rfl)
theorem dX5_init_1 : decode cX5_init 1 = .ok (.invokespecial 1, 3) := dk_183 0 1 (dk_at dksX5_init_0 1 rfl rfl)
theorem dX5_init_4 : decode cX5_init 4 = .ok (.aload_n 0, 1) := dk_42 (dk_at dksX5_init_0 4 rfl rfl)
theorem dX5_init_5 : decode cX5_init 5 = .ok (.iconst 4, 1) := dk_7 (dk_at dksX5_init_0 5 rfl rfl)
theorem dX5_init_6 : decode cX5_init 6 = .ok (.newarray .int, 2) := dk_188_10 (dk_at dksX5_init_0 6 rfl rfl)
theorem dX5_init_8 : decode cX5_init 8 = .ok (.putfield 7, 3) := dk_181 0 7 (dk_at dksX5_init_0 8 rfl rfl)
theorem dX5_init_11 : decode cX5_init 11 = .ok (.aload_n 0, 1) := dk_42 (dk_at dksX5_init_0 11 rfl rfl)
theorem dX5_init_12 : decode cX5_init 12 = .ok (.iconst 4, 1) := dk_7 (dk_at dksX5_init_0 12 rfl rfl)
theorem dX5_init_13 : decode cX5_init 13 = .ok (.newarray .int, 2) := dk_188_10 (dk_at dksX5_init_0 13 rfl rfl)
theorem dX5_init_15 : decode cX5_init 15 = .ok (.putfield 13, 3) := dk_181 0 13 (dk_at dksX5_init_0 15 rfl rfl)
theorem dX5_init_18 : decode cX5_init 18 = .ok (.aload_n 0, 1) := dk_42 (dk_at dksX5_init_0 18 rfl rfl)
theorem dX5_init_19 : decode cX5_init 19 = .ok (.sipush 240, 3) := dk_17 0 240 (dk_at dksX5_init_0 19 rfl rfl)
theorem dX5_init_22 : decode cX5_init 22 = .ok (.newarray .long, 2) := dk_188_11 (dk_at dksX5_init_0 22 rfl rfl)
theorem dX5_init_24 : decode cX5_init 24 = .ok (.putfield 16, 3) := dk_181 0 16 (dk_at dksX5_init_1 0 rfl rfl)
theorem dX5_init_27 : decode cX5_init 27 = .ok (.aload_n 0, 1) := dk_42 (dk_at dksX5_init_1 3 rfl rfl)
theorem dX5_init_28 : decode cX5_init 28 = .ok (.bipush 60, 2) := dk_16 60 (dk_at dksX5_init_1 4 rfl rfl)
theorem dX5_init_30 : decode cX5_init 30 = .ok (.newarray .long, 2) := dk_188_11 (dk_at dksX5_init_1 6 rfl rfl)
theorem dX5_init_32 : decode cX5_init 32 = .ok (.putfield 20, 3) := dk_181 0 20 (dk_at dksX5_init_1 8 rfl rfl)
theorem dX5_init_35 : decode cX5_init 35 = .ok (.aload_n 0, 1) := dk_42 (dk_at dksX5_init_1 11 rfl rfl)
theorem dX5_init_36 : decode cX5_init 36 = .ok (.sipush 1400, 3) := dk_17 5 120 (dk_at dksX5_init_1 12 rfl rfl)
theorem dX5_init_39 : decode cX5_init 39 = .ok (.newarray .byte, 2) := dk_188_8 (dk_at dksX5_init_1 15 rfl rfl)
theorem dX5_init_41 : decode cX5_init 41 = .ok (.putfield 23, 3) := dk_181 0 23 (dk_at dksX5_init_1 17 rfl rfl)
theorem dX5_init_44 : decode cX5_init 44 = .ok (.aload_n 0, 1) := dk_42 (dk_at dksX5_init_1 20 rfl rfl)
theorem dX5_init_45 : decode cX5_init 45 = .ok (.iconst (-1), 1) := dk_2 (dk_at dksX5_init_1 21 rfl rfl)
theorem dX5_init_46 : decode cX5_init 46 = .ok (.putfield 27, 3) := dk_181 0 27 (dk_at dksX5_init_2 0 rfl rfl)
theorem dX5_init_49 : decode cX5_init 49 = .ok (.aload_n 0, 1) := dk_42 (dk_at dksX5_init_2 3 rfl rfl)
theorem dX5_init_50 : decode cX5_init 50 = .ok (.iconst 5, 1) := dk_8 (dk_at dksX5_init_2 4 rfl rfl)
theorem dX5_init_51 : decode cX5_init 51 = .ok (.newarray .int, 2) := dk_188_10 (dk_at dksX5_init_2 5 rfl rfl)
theorem dX5_init_53 : decode cX5_init 53 = .ok (.putfield 31, 3) := dk_181 0 31 (dk_at dksX5_init_2 7 rfl rfl)
theorem dX5_init_56 : decode cX5_init 56 = .ok (.aload_n 0, 1) := dk_42 (dk_at dksX5_init_2 10 rfl rfl)
theorem dX5_init_57 : decode cX5_init 57 = .ok (.bipush 15, 2) := dk_16 15 (dk_at dksX5_init_2 11 rfl rfl)
theorem dX5_init_59 : decode cX5_init 59 = .ok (.newarray .int, 2) := dk_188_10 (dk_at dksX5_init_2 13 rfl rfl)
theorem dX5_init_61 : decode cX5_init 61 = .ok (.putfield 34, 3) := dk_181 0 34 (dk_at dksX5_init_2 15 rfl rfl)
theorem dX5_init_64 : decode cX5_init 64 = .ok (.aload_n 0, 1) := dk_42 (dk_at dksX5_init_2 18 rfl rfl)
theorem dX5_init_65 : decode cX5_init 65 = .ok (.bipush 25, 2) := dk_16 25 (dk_at dksX5_init_2 19 rfl rfl)
theorem dX5_init_67 : decode cX5_init 67 = .ok (.newarray .long, 2) := dk_188_11 (dk_at dksX5_init_2 21 rfl rfl)
theorem dX5_init_69 : decode cX5_init 69 = .ok (.putfield 37, 3) := dk_181 0 37 (dk_at dksX5_init_3 0 rfl rfl)
theorem dX5_init_72 : decode cX5_init 72 = .ok (.aload_n 0, 1) := dk_42 (dk_at dksX5_init_3 3 rfl rfl)
theorem dX5_init_73 : decode cX5_init 73 = .ok (.bipush 25, 2) := dk_16 25 (dk_at dksX5_init_3 4 rfl rfl)
theorem dX5_init_75 : decode cX5_init 75 = .ok (.newarray .int, 2) := dk_188_10 (dk_at dksX5_init_3 6 rfl rfl)
theorem dX5_init_77 : decode cX5_init 77 = .ok (.putfield 40, 3) := dk_181 0 40 (dk_at dksX5_init_3 8 rfl rfl)
theorem dX5_init_80 : decode cX5_init 80 = .ok (.aload_n 0, 1) := dk_42 (dk_at dksX5_init_3 11 rfl rfl)
theorem dX5_init_81 : decode cX5_init 81 = .ok (.sipush 200, 3) := dk_17 0 200 (dk_at dksX5_init_3 12 rfl rfl)
theorem dX5_init_84 : decode cX5_init 84 = .ok (.newarray .int, 2) := dk_188_10 (dk_at dksX5_init_3 15 rfl rfl)
theorem dX5_init_86 : decode cX5_init 86 = .ok (.putfield 43, 3) := dk_181 0 43 (dk_at dksX5_init_3 17 rfl rfl)
theorem dX5_init_89 : decode cX5_init 89 = .ok (.aload_n 0, 1) := dk_42 (dk_at dksX5_init_3 20 rfl rfl)
theorem dX5_init_90 : decode cX5_init 90 = .ok (.sipush 160, 3) := dk_17 0 160 (dk_at dksX5_init_3 21 rfl rfl)
theorem dX5_init_93 : decode cX5_init 93 = .ok (.newarray .int, 2) := dk_188_10 (dk_at dksX5_init_4 0 rfl rfl)
theorem dX5_init_95 : decode cX5_init 95 = .ok (.putfield 46, 3) := dk_181 0 46 (dk_at dksX5_init_4 2 rfl rfl)
theorem dX5_init_98 : decode cX5_init 98 = .ok (.aload_n 0, 1) := dk_42 (dk_at dksX5_init_4 5 rfl rfl)
theorem dX5_init_99 : decode cX5_init 99 = .ok (.iconst 5, 1) := dk_8 (dk_at dksX5_init_4 6 rfl rfl)
theorem dX5_init_100 : decode cX5_init 100 = .ok (.newarray .int, 2) := dk_188_10 (dk_at dksX5_init_4 7 rfl rfl)
theorem dX5_init_102 : decode cX5_init 102 = .ok (.putfield 49, 3) := dk_181 0 49 (dk_at dksX5_init_4 9 rfl rfl)
theorem dX5_init_105 : decode cX5_init 105 = .ok (.aload_n 0, 1) := dk_42 (dk_at dksX5_init_4 12 rfl rfl)
theorem dX5_init_106 : decode cX5_init 106 = .ok (.bipush 30, 2) := dk_16 30 (dk_at dksX5_init_4 13 rfl rfl)
theorem dX5_init_108 : decode cX5_init 108 = .ok (.newarray .int, 2) := dk_188_10 (dk_at dksX5_init_4 15 rfl rfl)
theorem dX5_init_110 : decode cX5_init 110 = .ok (.putfield 52, 3) := dk_181 0 52 (dk_at dksX5_init_4 17 rfl rfl)
theorem dX5_init_113 : decode cX5_init 113 = .ok (.aload_n 0, 1) := dk_42 (dk_at dksX5_init_4 20 rfl rfl)
theorem dX5_init_114 : decode cX5_init 114 = .ok (.bipush 60, 2) := dk_16 60 (dk_at dksX5_init_4 21 rfl rfl)
theorem dX5_init_116 : decode cX5_init 116 = .ok (.newarray .int, 2) := dk_188_10 (dk_at dksX5_init_5 0 rfl rfl)
theorem dX5_init_118 : decode cX5_init 118 = .ok (.putfield 55, 3) := dk_181 0 55 (dk_at dksX5_init_5 2 rfl rfl)
theorem dX5_init_121 : decode cX5_init 121 = .ok (.aload_n 0, 1) := dk_42 (dk_at dksX5_init_5 5 rfl rfl)
theorem dX5_init_122 : decode cX5_init 122 = .ok (.iconst 3, 1) := dk_6 (dk_at dksX5_init_5 6 rfl rfl)
theorem dX5_init_123 : decode cX5_init 123 = .ok (.newarray .boolean, 2) := dk_188_4 (dk_at dksX5_init_5 7 rfl rfl)
theorem dX5_init_125 : decode cX5_init 125 = .ok (.putfield 58, 3) := dk_181 0 58 (dk_at dksX5_init_5 9 rfl rfl)
theorem dX5_init_128 : decode cX5_init 128 = .ok (.aload_n 0, 1) := dk_42 (dk_at dksX5_init_5 12 rfl rfl)
theorem dX5_init_129 : decode cX5_init 129 = .ok (.bipush 32, 2) := dk_16 32 (dk_at dksX5_init_5 13 rfl rfl)
theorem dX5_init_131 : decode cX5_init 131 = .ok (.newarray .int, 2) := dk_188_10 (dk_at dksX5_init_5 15 rfl rfl)
theorem dX5_init_133 : decode cX5_init 133 = .ok (.putfield 62, 3) := dk_181 0 62 (dk_at dksX5_init_5 17 rfl rfl)
theorem dX5_init_136 : decode cX5_init 136 = .ok (.aload_n 0, 1) := dk_42 (dk_at dksX5_init_5 20 rfl rfl)
theorem dX5_init_137 : decode cX5_init 137 = .ok (.bipush 32, 2) := dk_16 32 (dk_at dksX5_init_5 21 rfl rfl)
theorem dX5_init_139 : decode cX5_init 139 = .ok (.newarray .int, 2) := dk_188_10 (dk_at dksX5_init_6 0 rfl rfl)
theorem dX5_init_141 : decode cX5_init 141 = .ok (.putfield 65, 3) := dk_181 0 65 (dk_at dksX5_init_6 2 rfl rfl)
theorem dX5_init_144 : decode cX5_init 144 = .ok (.aload_n 0, 1) := dk_42 (dk_at dksX5_init_6 5 rfl rfl)
theorem dX5_init_145 : decode cX5_init 145 = .ok (.sipush 4096, 3) := dk_17 16 0 (dk_at dksX5_init_6 6 rfl rfl)
theorem dX5_init_148 : decode cX5_init 148 = .ok (.newarray .int, 2) := dk_188_10 (dk_at dksX5_init_6 9 rfl rfl)
theorem dX5_init_150 : decode cX5_init 150 = .ok (.putfield 68, 3) := dk_181 0 68 (dk_at dksX5_init_6 11 rfl rfl)
theorem dX5_init_153 : decode cX5_init 153 = .ok (.aload_n 0, 1) := dk_42 (dk_at dksX5_init_6 14 rfl rfl)
theorem dX5_init_154 : decode cX5_init 154 = .ok (.bipush 64, 2) := dk_16 64 (dk_at dksX5_init_6 15 rfl rfl)
theorem dX5_init_156 : decode cX5_init 156 = .ok (.newarray .int, 2) := dk_188_10 (dk_at dksX5_init_6 17 rfl rfl)
theorem dX5_init_158 : decode cX5_init 158 = .ok (.putfield 71, 3) := dk_181 0 71 (dk_at dksX5_init_6 19 rfl rfl)
theorem dX5_init_161 : decode cX5_init 161 = .ok (.aload_n 0, 1) := dk_42 (dk_at dksX5_init_6 22 rfl rfl)
theorem dX5_init_162 : decode cX5_init 162 = .ok (.bipush 64, 2) := dk_16 64 (dk_at dksX5_init_7 0 rfl rfl)
theorem dX5_init_164 : decode cX5_init 164 = .ok (.newarray .int, 2) := dk_188_10 (dk_at dksX5_init_7 2 rfl rfl)
theorem dX5_init_166 : decode cX5_init 166 = .ok (.putfield 74, 3) := dk_181 0 74 (dk_at dksX5_init_7 4 rfl rfl)
theorem dX5_init_169 : decode cX5_init 169 = .ok (.aload_n 0, 1) := dk_42 (dk_at dksX5_init_7 7 rfl rfl)
theorem dX5_init_170 : decode cX5_init 170 = .ok (.bipush 32, 2) := dk_16 32 (dk_at dksX5_init_7 8 rfl rfl)
theorem dX5_init_172 : decode cX5_init 172 = .ok (.newarray .int, 2) := dk_188_10 (dk_at dksX5_init_7 10 rfl rfl)
theorem dX5_init_174 : decode cX5_init 174 = .ok (.putfield 77, 3) := dk_181 0 77 (dk_at dksX5_init_7 12 rfl rfl)
theorem dX5_init_177 : decode cX5_init 177 = .ok (.aload_n 0, 1) := dk_42 (dk_at dksX5_init_7 15 rfl rfl)
theorem dX5_init_178 : decode cX5_init 178 = .ok (.sipush 19200, 3) := dk_17 75 0 (dk_at dksX5_init_7 16 rfl rfl)
theorem dX5_init_181 : decode cX5_init 181 = .ok (.newarray .int, 2) := dk_188_10 (dk_at dksX5_init_7 19 rfl rfl)
theorem dX5_init_183 : decode cX5_init 183 = .ok (.putfield 80, 3) := dk_181 0 80 (dk_at dksX5_init_7 21 rfl rfl)
theorem dX5_init_186 : decode cX5_init 186 = .ok (.aload_n 0, 1) := dk_42 (dk_at dksX5_init_8 0 rfl rfl)
theorem dX5_init_187 : decode cX5_init 187 = .ok (.sipush 3840, 3) := dk_17 15 0 (dk_at dksX5_init_8 1 rfl rfl)
theorem dX5_init_190 : decode cX5_init 190 = .ok (.newarray .int, 2) := dk_188_10 (dk_at dksX5_init_8 4 rfl rfl)
theorem dX5_init_192 : decode cX5_init 192 = .ok (.putfield 83, 3) := dk_181 0 83 (dk_at dksX5_init_8 6 rfl rfl)
theorem dX5_init_195 : decode cX5_init 195 = .ok (.aload_n 0, 1) := dk_42 (dk_at dksX5_init_8 9 rfl rfl)
theorem dX5_init_196 : decode cX5_init 196 = .ok (.iconst 5, 1) := dk_8 (dk_at dksX5_init_8 10 rfl rfl)
theorem dX5_init_197 : decode cX5_init 197 = .ok (.newarray .int, 2) := dk_188_10 (dk_at dksX5_init_8 11 rfl rfl)
theorem dX5_init_199 : decode cX5_init 199 = .ok (.putfield 86, 3) := dk_181 0 86 (dk_at dksX5_init_8 13 rfl rfl)
theorem dX5_init_202 : decode cX5_init 202 = .ok (.aload_n 0, 1) := dk_42 (dk_at dksX5_init_8 16 rfl rfl)
theorem dX5_init_203 : decode cX5_init 203 = .ok (.bipush 80, 2) := dk_16 80 (dk_at dksX5_init_8 17 rfl rfl)
theorem dX5_init_205 : decode cX5_init 205 = .ok (.newarray .int, 2) := dk_188_10 (dk_at dksX5_init_8 19 rfl rfl)
theorem dX5_init_207 : decode cX5_init 207 = .ok (.putfield 89, 3) := dk_181 0 89 (dk_at dksX5_init_8 21 rfl rfl)
theorem dX5_init_210 : decode cX5_init 210 = .ok (.aload_n 0, 1) := dk_42 (dk_at dksX5_init_9 0 rfl rfl)
theorem dX5_init_211 : decode cX5_init 211 = .ok (.sipush 1400, 3) := dk_17 5 120 (dk_at dksX5_init_9 1 rfl rfl)
theorem dX5_init_214 : decode cX5_init 214 = .ok (.newarray .int, 2) := dk_188_10 (dk_at dksX5_init_9 4 rfl rfl)
theorem dX5_init_216 : decode cX5_init 216 = .ok (.putfield 92, 3) := dk_181 0 92 (dk_at dksX5_init_9 6 rfl rfl)
theorem dX5_init_219 : decode cX5_init 219 = .ok (.aload_n 0, 1) := dk_42 (dk_at dksX5_init_9 9 rfl rfl)
theorem dX5_init_220 : decode cX5_init 220 = .ok (.bipush 17, 2) := dk_16 17 (dk_at dksX5_init_9 10 rfl rfl)
theorem dX5_init_222 : decode cX5_init 222 = .ok (.newarray .int, 2) := dk_188_10 (dk_at dksX5_init_9 12 rfl rfl)
theorem dX5_init_224 : decode cX5_init 224 = .ok (.putfield 95, 3) := dk_181 0 95 (dk_at dksX5_init_9 14 rfl rfl)
theorem dX5_init_227 : decode cX5_init 227 = .ok (.aload_n 0, 1) := dk_42 (dk_at dksX5_init_9 17 rfl rfl)
theorem dX5_init_228 : decode cX5_init 228 = .ok (.bipush 16, 2) := dk_16 16 (dk_at dksX5_init_9 18 rfl rfl)
theorem dX5_init_230 : decode cX5_init 230 = .ok (.newarray .int, 2) := dk_188_10 (dk_at dksX5_init_9 20 rfl rfl)
theorem dX5_init_232 : decode cX5_init 232 = .ok (.putfield 98, 3) := dk_181 0 98 (dk_at dksX5_init_10 0 rfl rfl)
theorem dX5_init_235 : decode cX5_init 235 = .ok (.aload_n 0, 1) := dk_42 (dk_at dksX5_init_10 3 rfl rfl)
theorem dX5_init_236 : decode cX5_init 236 = .ok (.bipush 32, 2) := dk_16 32 (dk_at dksX5_init_10 4 rfl rfl)
theorem dX5_init_238 : decode cX5_init 238 = .ok (.newarray .int, 2) := dk_188_10 (dk_at dksX5_init_10 6 rfl rfl)
theorem dX5_init_240 : decode cX5_init 240 = .ok (.putfield 101, 3) := dk_181 0 101 (dk_at dksX5_init_10 8 rfl rfl)
theorem dX5_init_243 : decode cX5_init 243 = .ok (.aload_n 0, 1) := dk_42 (dk_at dksX5_init_10 11 rfl rfl)
theorem dX5_init_244 : decode cX5_init 244 = .ok (.bipush 32, 2) := dk_16 32 (dk_at dksX5_init_10 12 rfl rfl)
theorem dX5_init_246 : decode cX5_init 246 = .ok (.newarray .int, 2) := dk_188_10 (dk_at dksX5_init_10 14 rfl rfl)
theorem dX5_init_248 : decode cX5_init 248 = .ok (.putfield 104, 3) := dk_181 0 104 (dk_at dksX5_init_10 16 rfl rfl)
theorem dX5_init_251 : decode cX5_init 251 = .ok (.aload_n 0, 1) := dk_42 (dk_at dksX5_init_10 19 rfl rfl)
theorem dX5_init_252 : decode cX5_init 252 = .ok (.bipush 32, 2) := dk_16 32 (dk_at dksX5_init_10 20 rfl rfl)
theorem dX5_init_254 : decode cX5_init 254 = .ok (.newarray .int, 2) := dk_188_10 (dk_at dksX5_init_10 22 rfl rfl)
theorem dX5_init_256 : decode cX5_init 256 = .ok (.putfield 107, 3) := dk_181 0 107 (dk_at dksX5_init_11 0 rfl rfl)
theorem dX5_init_259 : decode cX5_init 259 = .ok (.aload_n 0, 1) := dk_42 (dk_at dksX5_init_11 3 rfl rfl)
theorem dX5_init_260 : decode cX5_init 260 = .ok (.bipush 80, 2) := dk_16 80 (dk_at dksX5_init_11 4 rfl rfl)
theorem dX5_init_262 : decode cX5_init 262 = .ok (.newarray .int, 2) := dk_188_10 (dk_at dksX5_init_11 6 rfl rfl)
theorem dX5_init_264 : decode cX5_init 264 = .ok (.putfield 110, 3) := dk_181 0 110 (dk_at dksX5_init_11 8 rfl rfl)
theorem dX5_init_267 : decode cX5_init 267 = .ok (.aload_n 0, 1) := dk_42 (dk_at dksX5_init_11 11 rfl rfl)
theorem dX5_init_268 : decode cX5_init 268 = .ok (.bipush 80, 2) := dk_16 80 (dk_at dksX5_init_11 12 rfl rfl)
theorem dX5_init_270 : decode cX5_init 270 = .ok (.newarray .int, 2) := dk_188_10 (dk_at dksX5_init_11 14 rfl rfl)
theorem dX5_init_272 : decode cX5_init 272 = .ok (.putfield 113, 3) := dk_181 0 113 (dk_at dksX5_init_11 16 rfl rfl)
theorem dX5_init_275 : decode cX5_init 275 = .ok (.aload_n 0, 1) := dk_42 (dk_at dksX5_init_11 19 rfl rfl)
theorem dX5_init_276 : decode cX5_init 276 = .ok (.bipush 6, 2) := dk_16 6 (dk_at dksX5_init_11 20 rfl rfl)
theorem dX5_init_278 : decode cX5_init 278 = .ok (.newarray .int, 2) := dk_188_10 (dk_at dksX5_init_11 22 rfl rfl)
theorem dX5_init_280 : decode cX5_init 280 = .ok (.putfield 116, 3) := dk_181 0 116 (dk_at dksX5_init_12 0 rfl rfl)
theorem dX5_init_283 : decode cX5_init 283 = .ok (.aload_n 0, 1) := dk_42 (dk_at dksX5_init_12 3 rfl rfl)
theorem dX5_init_284 : decode cX5_init 284 = .ok (.bipush 6, 2) := dk_16 6 (dk_at dksX5_init_12 4 rfl rfl)
theorem dX5_init_286 : decode cX5_init 286 = .ok (.newarray .int, 2) := dk_188_10 (dk_at dksX5_init_12 6 rfl rfl)
theorem dX5_init_288 : decode cX5_init 288 = .ok (.putfield 119, 3) := dk_181 0 119 (dk_at dksX5_init_12 8 rfl rfl)
theorem dX5_init_291 : decode cX5_init 291 = .ok (.aload_n 0, 1) := dk_42 (dk_at dksX5_init_12 11 rfl rfl)
theorem dX5_init_292 : decode cX5_init 292 = .ok (.bipush 6, 2) := dk_16 6 (dk_at dksX5_init_12 12 rfl rfl)
theorem dX5_init_294 : decode cX5_init 294 = .ok (.newarray .int, 2) := dk_188_10 (dk_at dksX5_init_12 14 rfl rfl)
theorem dX5_init_296 : decode cX5_init 296 = .ok (.putfield 122, 3) := dk_181 0 122 (dk_at dksX5_init_12 16 rfl rfl)
theorem dX5_init_299 : decode cX5_init 299 = .ok (.aload_n 0, 1) := dk_42 (dk_at dksX5_init_12 19 rfl rfl)
theorem dX5_init_300 : decode cX5_init 300 = .ok (.bipush 6, 2) := dk_16 6 (dk_at dksX5_init_12 20 rfl rfl)
theorem dX5_init_302 : decode cX5_init 302 = .ok (.newarray .int, 2) := dk_188_10 (dk_at dksX5_init_12 22 rfl rfl)
theorem dX5_init_304 : decode cX5_init 304 = .ok (.putfield 125, 3) := dk_181 0 125 (dk_at dksX5_init_13 0 rfl rfl)
theorem dX5_init_307 : decode cX5_init 307 = .ok (.aload_n 0, 1) := dk_42 (dk_at dksX5_init_13 3 rfl rfl)
theorem dX5_init_308 : decode cX5_init 308 = .ok (.bipush 6, 2) := dk_16 6 (dk_at dksX5_init_13 4 rfl rfl)
theorem dX5_init_310 : decode cX5_init 310 = .ok (.newarray .int, 2) := dk_188_10 (dk_at dksX5_init_13 6 rfl rfl)
theorem dX5_init_312 : decode cX5_init 312 = .ok (.putfield 128, 3) := dk_181 0 128 (dk_at dksX5_init_13 8 rfl rfl)
theorem dX5_init_315 : decode cX5_init 315 = .ok (.iconst 0, 1) := dk_3 (dk_at dksX5_init_13 11 rfl rfl)
theorem dX5_init_316 : decode cX5_init 316 = .ok (.istore_n 1, 1) := dk_60 (dk_at dksX5_init_13 12 rfl rfl)
theorem dX5_init_317 : decode cX5_init 317 = .ok (.iload_n 1, 1) := dk_27 (dk_at dksX5_init_13 13 rfl rfl)
theorem dX5_init_318 : decode cX5_init 318 = .ok (.iconst 4, 1) := dk_7 (dk_at dksX5_init_13 14 rfl rfl)
theorem dX5_init_319 : decode cX5_init 319 = .ok (.if_icmp .ge 16, 3) := dk_162 0 16 (dk_at dksX5_init_13 15 rfl rfl)
theorem dX5_init_322 : decode cX5_init 322 = .ok (.aload_n 0, 1) := dk_42 (dk_at dksX5_init_13 18 rfl rfl)
theorem dX5_init_323 : decode cX5_init 323 = .ok (.getfield 7, 3) := dk_180 0 7 (dk_at dksX5_init_13 19 rfl rfl)
theorem dX5_init_326 : decode cX5_init 326 = .ok (.iload_n 1, 1) := dk_27 (dk_at dksX5_init_13 22 rfl rfl)
theorem dX5_init_327 : decode cX5_init 327 = .ok (.iconst (-1), 1) := dk_2 (dk_at dksX5_init_13 23 rfl rfl)
theorem dX5_init_328 : decode cX5_init 328 = .ok (.iastore, 1) := dk_79 (dk_at dksX5_init_14 0 rfl rfl)
theorem dX5_init_329 : decode cX5_init 329 = .ok (.iinc 1 1, 3) := dk_132 1 1 (dk_at dksX5_init_14 1 rfl rfl)
theorem dX5_init_332 : decode cX5_init 332 = .ok (.goto (-15), 3) := dk_167 255 241 (dk_at dksX5_init_14 4 rfl rfl)
theorem dX5_init_335 : decode cX5_init 335 = .ok (.return_, 1) := dk_177 (dk_at dksX5_init_14 7 rfl rfl)
abbrev cX5_row : ByteArray := prog_10_method_5_code
def yX5_row : MethodName := ⟨RX5, "row", "(III)I"⟩
def dkwX5_row_3 : List UInt8 := [21, 4, 96, 9, 80, 132, 4, 1, 167, 255, 234, 3, 172]
abbrev dktX5_row_3 : List UInt8 := dkwX5_row_3 ++ []
def dkwX5_row_2 : List UInt8 := [180, 0, 13, 27, 29, 79, 3, 54, 4, 21, 4, 29, 162, 0, 22, 42, 180, 0, 16, 16, 60, 27, 104]
abbrev dktX5_row_2 : List UInt8 := dkwX5_row_2 ++ dktX5_row_3
def dkwX5_row_1 : List UInt8 := [29, 16, 60, 164, 0, 6, 16, 254, 172, 29, 156, 0, 6, 16, 253, 172, 42, 180, 0, 7, 27, 28, 79, 42]
abbrev dktX5_row_1 : List UInt8 := dkwX5_row_1 ++ dktX5_row_2
def dkwX5_row_0 : List UInt8 := [42, 3, 181, 0, 131, 27, 184, 0, 140, 153, 0, 21, 28, 133, 9, 20, 0, 134, 184, 0, 136, 153, 0, 9]
abbrev dktX5_row_0 : List UInt8 := dkwX5_row_0 ++ dktX5_row_1
theorem dksX5_row_0 : cX5_row.data.toList.drop 0 = dktX5_row_0 := by decide +kernel
theorem dksX5_row_1 : cX5_row.data.toList.drop 24 = dktX5_row_1 := dk_seg dksX5_row_0 24 rfl rfl
theorem dksX5_row_2 : cX5_row.data.toList.drop 48 = dktX5_row_2 := dk_seg dksX5_row_1 24 rfl rfl
theorem dksX5_row_3 : cX5_row.data.toList.drop 71 = dktX5_row_3 := dk_seg dksX5_row_2 23 rfl rfl
theorem dX5_row_0 : decode cX5_row 0 = .ok (.aload_n 0, 1) := dk_42 (dk_at dksX5_row_0 0 rfl rfl)
theorem dX5_row_1 : decode cX5_row 1 = .ok (.iconst 0, 1) := dk_3 (dk_at dksX5_row_0 1 rfl rfl)
theorem dX5_row_2 : decode cX5_row 2 = .ok (.putfield 131, 3) := dk_181 0 131 (dk_at dksX5_row_0 2 rfl rfl)
theorem dX5_row_5 : decode cX5_row 5 = .ok (.iload_n 1, 1) := dk_27 (dk_at dksX5_row_0 5 rfl rfl)
theorem dX5_row_6 : decode cX5_row 6 = .ok (.invokestatic 140, 3) := dk_184 0 140 (dk_at dksX5_row_0 6 rfl rfl)
theorem dX5_row_9 : decode cX5_row 9 = .ok (.ifCond .eq 21, 3) := dk_153 0 21 (dk_at dksX5_row_0 9 rfl rfl)
theorem dX5_row_12 : decode cX5_row 12 = .ok (.iload_n 2, 1) := dk_28 (dk_at dksX5_row_0 12 rfl rfl)
theorem dX5_row_13 : decode cX5_row 13 = .ok (.i2l, 1) := dk_133 (dk_at dksX5_row_0 13 rfl rfl)
theorem dX5_row_14 : decode cX5_row 14 = .ok (.lconst 0, 1) := dk_9 (dk_at dksX5_row_0 14 rfl rfl)
theorem dX5_row_15 : decode cX5_row 15 = .ok (.ldc2_w 134, 3) := dk_20 0 134 (dk_at dksX5_row_0 15 rfl rfl)
theorem dX5_row_18 : decode cX5_row 18 = .ok (.invokestatic 136, 3) := dk_184 0 136 (dk_at dksX5_row_0 18 rfl rfl)
theorem dX5_row_21 : decode cX5_row 21 = .ok (.ifCond .eq 9, 3) := dk_153 0 9 (dk_at dksX5_row_0 21 rfl rfl)
theorem dX5_row_24 : decode cX5_row 24 = .ok (.iload_n 3, 1) := dk_29 (dk_at dksX5_row_1 0 rfl rfl)
theorem dX5_row_25 : decode cX5_row 25 = .ok (.bipush 60, 2) := dk_16 60 (dk_at dksX5_row_1 1 rfl rfl)
theorem dX5_row_27 : decode cX5_row 27 = .ok (.if_icmp .le 6, 3) := dk_164 0 6 (dk_at dksX5_row_1 3 rfl rfl)
theorem dX5_row_30 : decode cX5_row 30 = .ok (.bipush (-2), 2) := dk_16 254 (dk_at dksX5_row_1 6 rfl rfl)
theorem dX5_row_32 : decode cX5_row 32 = .ok (.ireturn, 1) := dk_172 (dk_at dksX5_row_1 8 rfl rfl)
theorem dX5_row_33 : decode cX5_row 33 = .ok (.iload_n 3, 1) := dk_29 (dk_at dksX5_row_1 9 rfl rfl)
theorem dX5_row_34 : decode cX5_row 34 = .ok (.ifCond .ge 6, 3) := dk_156 0 6 (dk_at dksX5_row_1 10 rfl rfl)
theorem dX5_row_37 : decode cX5_row 37 = .ok (.bipush (-3), 2) := dk_16 253 (dk_at dksX5_row_1 13 rfl rfl)
theorem dX5_row_39 : decode cX5_row 39 = .ok (.ireturn, 1) := dk_172 (dk_at dksX5_row_1 15 rfl rfl)
theorem dX5_row_40 : decode cX5_row 40 = .ok (.aload_n 0, 1) := dk_42 (dk_at dksX5_row_1 16 rfl rfl)
theorem dX5_row_41 : decode cX5_row 41 = .ok (.getfield 7, 3) := dk_180 0 7 (dk_at dksX5_row_1 17 rfl rfl)
theorem dX5_row_44 : decode cX5_row 44 = .ok (.iload_n 1, 1) := dk_27 (dk_at dksX5_row_1 20 rfl rfl)
theorem dX5_row_45 : decode cX5_row 45 = .ok (.iload_n 2, 1) := dk_28 (dk_at dksX5_row_1 21 rfl rfl)
theorem dX5_row_46 : decode cX5_row 46 = .ok (.iastore, 1) := dk_79 (dk_at dksX5_row_1 22 rfl rfl)
theorem dX5_row_47 : decode cX5_row 47 = .ok (.aload_n 0, 1) := dk_42 (dk_at dksX5_row_1 23 rfl rfl)
theorem dX5_row_48 : decode cX5_row 48 = .ok (.getfield 13, 3) := dk_180 0 13 (dk_at dksX5_row_2 0 rfl rfl)
theorem dX5_row_51 : decode cX5_row 51 = .ok (.iload_n 1, 1) := dk_27 (dk_at dksX5_row_2 3 rfl rfl)
theorem dX5_row_52 : decode cX5_row 52 = .ok (.iload_n 3, 1) := dk_29 (dk_at dksX5_row_2 4 rfl rfl)
theorem dX5_row_53 : decode cX5_row 53 = .ok (.iastore, 1) := dk_79 (dk_at dksX5_row_2 5 rfl rfl)
theorem dX5_row_54 : decode cX5_row 54 = .ok (.iconst 0, 1) := dk_3 (dk_at dksX5_row_2 6 rfl rfl)
theorem dX5_row_55 : decode cX5_row 55 = .ok (.istore 4, 2) := dk_54 4 (dk_at dksX5_row_2 7 rfl rfl)
theorem dX5_row_57 : decode cX5_row 57 = .ok (.iload 4, 2) := dk_21 4 (dk_at dksX5_row_2 9 rfl rfl)
theorem dX5_row_59 : decode cX5_row 59 = .ok (.iload_n 3, 1) := dk_29 (dk_at dksX5_row_2 11 rfl rfl)
theorem dX5_row_60 : decode cX5_row 60 = .ok (.if_icmp .ge 22, 3) := dk_162 0 22 (dk_at dksX5_row_2 12 rfl rfl)
theorem dX5_row_63 : decode cX5_row 63 = .ok (.aload_n 0, 1) := dk_42 (dk_at dksX5_row_2 15 rfl rfl)
theorem dX5_row_64 : decode cX5_row 64 = .ok (.getfield 16, 3) := dk_180 0 16 (dk_at dksX5_row_2 16 rfl rfl)
theorem dX5_row_67 : decode cX5_row 67 = .ok (.bipush 60, 2) := dk_16 60 (dk_at dksX5_row_2 19 rfl rfl)
theorem dX5_row_69 : decode cX5_row 69 = .ok (.iload_n 1, 1) := dk_27 (dk_at dksX5_row_2 21 rfl rfl)
theorem dX5_row_70 : decode cX5_row 70 = .ok (.imul, 1) := dk_104 (dk_at dksX5_row_2 22 rfl rfl)
theorem dX5_row_71 : decode cX5_row 71 = .ok (.iload 4, 2) := dk_21 4 (dk_at dksX5_row_3 0 rfl rfl)
theorem dX5_row_73 : decode cX5_row 73 = .ok (.iadd, 1) := dk_96 (dk_at dksX5_row_3 2 rfl rfl)
theorem dX5_row_74 : decode cX5_row 74 = .ok (.lconst 0, 1) := dk_9 (dk_at dksX5_row_3 3 rfl rfl)
theorem dX5_row_75 : decode cX5_row 75 = .ok (.lastore, 1) := dk_80 (dk_at dksX5_row_3 4 rfl rfl)
theorem dX5_row_76 : decode cX5_row 76 = .ok (.iinc 4 1, 3) := dk_132 4 1 (dk_at dksX5_row_3 5 rfl rfl)
theorem dX5_row_79 : decode cX5_row 79 = .ok (.goto (-22), 3) := dk_167 255 234 (dk_at dksX5_row_3 8 rfl rfl)
theorem dX5_row_82 : decode cX5_row 82 = .ok (.iconst 0, 1) := dk_3 (dk_at dksX5_row_3 11 rfl rfl)
theorem dX5_row_83 : decode cX5_row 83 = .ok (.ireturn, 1) := dk_172 (dk_at dksX5_row_3 12 rfl rfl)
abbrev cX5_isSlot : ByteArray := prog_10_method_4_code
def yX5_isSlot : MethodName := ⟨RX5, "isSlot", "(I)Z"⟩
def dkwX5_isSlot_0 : List UInt8 := [26, 133, 9, 20, 0, 134, 184, 0, 136, 172]
abbrev dktX5_isSlot_0 : List UInt8 := dkwX5_isSlot_0 ++ []
theorem dksX5_isSlot_0 : cX5_isSlot.data.toList.drop 0 = dktX5_isSlot_0 := by decide +kernel
theorem dX5_isSlot_0 : decode cX5_isSlot 0 = .ok (.iload_n 0, 1) := dk_26 (dk_at dksX5_isSlot_0 0 rfl rfl)
theorem dX5_isSlot_1 : decode cX5_isSlot 1 = .ok (.i2l, 1) := dk_133 (dk_at dksX5_isSlot_0 1 rfl rfl)
theorem dX5_isSlot_2 : decode cX5_isSlot 2 = .ok (.lconst 0, 1) := dk_9 (dk_at dksX5_isSlot_0 2 rfl rfl)
theorem dX5_isSlot_3 : decode cX5_isSlot 3 = .ok (.ldc2_w 134, 3) := dk_20 0 134 (dk_at dksX5_isSlot_0 3 rfl rfl)
theorem dX5_isSlot_6 : decode cX5_isSlot 6 = .ok (.invokestatic 136, 3) := dk_184 0 136 (dk_at dksX5_isSlot_0 6 rfl rfl)
theorem dX5_isSlot_9 : decode cX5_isSlot 9 = .ok (.ireturn, 1) := dk_172 (dk_at dksX5_isSlot_0 9 rfl rfl)
abbrev cX5_in : ByteArray := prog_10_method_3_code
def yX5_in : MethodName := ⟨RX5, "in", "(JJJ)Z"⟩
def dkwX5_in_0 : List UInt8 := [30, 32, 148, 155, 0, 14, 30, 22, 4, 148, 157, 0, 7, 4, 167, 0, 4, 3, 172]
abbrev dktX5_in_0 : List UInt8 := dkwX5_in_0 ++ []
theorem dksX5_in_0 : cX5_in.data.toList.drop 0 = dktX5_in_0 := by decide +kernel
theorem dX5_in_0 : decode cX5_in 0 = .ok (.lload_n 0, 1) := dk_30 (dk_at dksX5_in_0 0 rfl rfl)
theorem dX5_in_1 : decode cX5_in 1 = .ok (.lload_n 2, 1) := dk_32 (dk_at dksX5_in_0 1 rfl rfl)
theorem dX5_in_2 : decode cX5_in 2 = .ok (.lcmp, 1) := dk_148 (dk_at dksX5_in_0 2 rfl rfl)
theorem dX5_in_3 : decode cX5_in 3 = .ok (.ifCond .lt 14, 3) := dk_155 0 14 (dk_at dksX5_in_0 3 rfl rfl)
theorem dX5_in_6 : decode cX5_in 6 = .ok (.lload_n 0, 1) := dk_30 (dk_at dksX5_in_0 6 rfl rfl)
theorem dX5_in_7 : decode cX5_in 7 = .ok (.lload 4, 2) := dk_22 4 (dk_at dksX5_in_0 7 rfl rfl)
theorem dX5_in_9 : decode cX5_in 9 = .ok (.lcmp, 1) := dk_148 (dk_at dksX5_in_0 9 rfl rfl)
theorem dX5_in_10 : decode cX5_in 10 = .ok (.ifCond .gt 7, 3) := dk_157 0 7 (dk_at dksX5_in_0 10 rfl rfl)
theorem dX5_in_13 : decode cX5_in 13 = .ok (.iconst 1, 1) := dk_4 (dk_at dksX5_in_0 13 rfl rfl)
theorem dX5_in_14 : decode cX5_in 14 = .ok (.goto 4, 3) := dk_167 0 4 (dk_at dksX5_in_0 14 rfl rfl)
theorem dX5_in_17 : decode cX5_in 17 = .ok (.iconst 0, 1) := dk_3 (dk_at dksX5_in_0 17 rfl rfl)
theorem dX5_in_18 : decode cX5_in 18 = .ok (.ireturn, 1) := dk_172 (dk_at dksX5_in_0 18 rfl rfl)
abbrev cX5_write : ByteArray := prog_10_method_7_code
def yX5_write : MethodName := ⟨RX5, "write", "(IIJ)I"⟩
def dkwX5_write_3 : List UInt8 := [3, 172]
abbrev dktX5_write_3 : List UInt8 := dkwX5_write_3 ++ []
def dkwX5_write_2 : List UInt8 := [16, 249, 172, 42, 180, 0, 16, 16, 60, 27, 104, 28, 96, 33, 42, 180, 0, 7, 27, 46, 184, 0, 144, 80]
abbrev dktX5_write_2 : List UInt8 := dkwX5_write_2 ++ dktX5_write_3
def dkwX5_write_1 : List UInt8 := [160, 0, 6, 16, 250, 172, 28, 133, 9, 42, 180, 0, 13, 27, 46, 4, 100, 133, 184, 0, 136, 154, 0, 6]
abbrev dktX5_write_1 : List UInt8 := dkwX5_write_1 ++ dktX5_write_2
def dkwX5_write_0 : List UInt8 := [42, 3, 181, 0, 131, 27, 184, 0, 140, 154, 0, 6, 16, 254, 172, 42, 180, 0, 7, 27, 46, 2]
abbrev dktX5_write_0 : List UInt8 := dkwX5_write_0 ++ dktX5_write_1
theorem dksX5_write_0 : cX5_write.data.toList.drop 0 = dktX5_write_0 := by decide +kernel
theorem dksX5_write_1 : cX5_write.data.toList.drop 22 = dktX5_write_1 := dk_seg dksX5_write_0 22 rfl rfl
theorem dksX5_write_2 : cX5_write.data.toList.drop 46 = dktX5_write_2 := dk_seg dksX5_write_1 24 rfl rfl
theorem dksX5_write_3 : cX5_write.data.toList.drop 70 = dktX5_write_3 := dk_seg dksX5_write_2 24 rfl rfl
theorem dX5_write_0 : decode cX5_write 0 = .ok (.aload_n 0, 1) := dk_42 (dk_at dksX5_write_0 0 rfl rfl)
theorem dX5_write_1 : decode cX5_write 1 = .ok (.iconst 0, 1) := dk_3 (dk_at dksX5_write_0 1 rfl rfl)
theorem dX5_write_2 : decode cX5_write 2 = .ok (.putfield 131, 3) := dk_181 0 131 (dk_at dksX5_write_0 2 rfl rfl)
theorem dX5_write_5 : decode cX5_write 5 = .ok (.iload_n 1, 1) := dk_27 (dk_at dksX5_write_0 5 rfl rfl)
theorem dX5_write_6 : decode cX5_write 6 = .ok (.invokestatic 140, 3) := dk_184 0 140 (dk_at dksX5_write_0 6 rfl rfl)
theorem dX5_write_9 : decode cX5_write 9 = .ok (.ifCond .ne 6, 3) := dk_154 0 6 (dk_at dksX5_write_0 9 rfl rfl)
theorem dX5_write_12 : decode cX5_write 12 = .ok (.bipush (-2), 2) := dk_16 254 (dk_at dksX5_write_0 12 rfl rfl)
theorem dX5_write_14 : decode cX5_write 14 = .ok (.ireturn, 1) := dk_172 (dk_at dksX5_write_0 14 rfl rfl)
theorem dX5_write_15 : decode cX5_write 15 = .ok (.aload_n 0, 1) := dk_42 (dk_at dksX5_write_0 15 rfl rfl)
theorem dX5_write_16 : decode cX5_write 16 = .ok (.getfield 7, 3) := dk_180 0 7 (dk_at dksX5_write_0 16 rfl rfl)
theorem dX5_write_19 : decode cX5_write 19 = .ok (.iload_n 1, 1) := dk_27 (dk_at dksX5_write_0 19 rfl rfl)
theorem dX5_write_20 : decode cX5_write 20 = .ok (.iaload, 1) := dk_46 (dk_at dksX5_write_0 20 rfl rfl)
theorem dX5_write_21 : decode cX5_write 21 = .ok (.iconst (-1), 1) := dk_2 (dk_at dksX5_write_0 21 rfl rfl)
theorem dX5_write_22 : decode cX5_write 22 = .ok (.if_icmp .ne 6, 3) := dk_160 0 6 (dk_at dksX5_write_1 0 rfl rfl)
theorem dX5_write_25 : decode cX5_write 25 = .ok (.bipush (-6), 2) := dk_16 250 (dk_at dksX5_write_1 3 rfl rfl)
theorem dX5_write_27 : decode cX5_write 27 = .ok (.ireturn, 1) := dk_172 (dk_at dksX5_write_1 5 rfl rfl)
theorem dX5_write_28 : decode cX5_write 28 = .ok (.iload_n 2, 1) := dk_28 (dk_at dksX5_write_1 6 rfl rfl)
theorem dX5_write_29 : decode cX5_write 29 = .ok (.i2l, 1) := dk_133 (dk_at dksX5_write_1 7 rfl rfl)
theorem dX5_write_30 : decode cX5_write 30 = .ok (.lconst 0, 1) := dk_9 (dk_at dksX5_write_1 8 rfl rfl)
theorem dX5_write_31 : decode cX5_write 31 = .ok (.aload_n 0, 1) := dk_42 (dk_at dksX5_write_1 9 rfl rfl)
theorem dX5_write_32 : decode cX5_write 32 = .ok (.getfield 13, 3) := dk_180 0 13 (dk_at dksX5_write_1 10 rfl rfl)
theorem dX5_write_35 : decode cX5_write 35 = .ok (.iload_n 1, 1) := dk_27 (dk_at dksX5_write_1 13 rfl rfl)
theorem dX5_write_36 : decode cX5_write 36 = .ok (.iaload, 1) := dk_46 (dk_at dksX5_write_1 14 rfl rfl)
theorem dX5_write_37 : decode cX5_write 37 = .ok (.iconst 1, 1) := dk_4 (dk_at dksX5_write_1 15 rfl rfl)
theorem dX5_write_38 : decode cX5_write 38 = .ok (.isub, 1) := dk_100 (dk_at dksX5_write_1 16 rfl rfl)
theorem dX5_write_39 : decode cX5_write 39 = .ok (.i2l, 1) := dk_133 (dk_at dksX5_write_1 17 rfl rfl)
theorem dX5_write_40 : decode cX5_write 40 = .ok (.invokestatic 136, 3) := dk_184 0 136 (dk_at dksX5_write_1 18 rfl rfl)
theorem dX5_write_43 : decode cX5_write 43 = .ok (.ifCond .ne 6, 3) := dk_154 0 6 (dk_at dksX5_write_1 21 rfl rfl)
theorem dX5_write_46 : decode cX5_write 46 = .ok (.bipush (-7), 2) := dk_16 249 (dk_at dksX5_write_2 0 rfl rfl)
theorem dX5_write_48 : decode cX5_write 48 = .ok (.ireturn, 1) := dk_172 (dk_at dksX5_write_2 2 rfl rfl)
theorem dX5_write_49 : decode cX5_write 49 = .ok (.aload_n 0, 1) := dk_42 (dk_at dksX5_write_2 3 rfl rfl)
theorem dX5_write_50 : decode cX5_write 50 = .ok (.getfield 16, 3) := dk_180 0 16 (dk_at dksX5_write_2 4 rfl rfl)
theorem dX5_write_53 : decode cX5_write 53 = .ok (.bipush 60, 2) := dk_16 60 (dk_at dksX5_write_2 7 rfl rfl)
theorem dX5_write_55 : decode cX5_write 55 = .ok (.iload_n 1, 1) := dk_27 (dk_at dksX5_write_2 9 rfl rfl)
theorem dX5_write_56 : decode cX5_write 56 = .ok (.imul, 1) := dk_104 (dk_at dksX5_write_2 10 rfl rfl)
theorem dX5_write_57 : decode cX5_write 57 = .ok (.iload_n 2, 1) := dk_28 (dk_at dksX5_write_2 11 rfl rfl)
theorem dX5_write_58 : decode cX5_write 58 = .ok (.iadd, 1) := dk_96 (dk_at dksX5_write_2 12 rfl rfl)
theorem dX5_write_59 : decode cX5_write 59 = .ok (.lload_n 3, 1) := dk_33 (dk_at dksX5_write_2 13 rfl rfl)
theorem dX5_write_60 : decode cX5_write 60 = .ok (.aload_n 0, 1) := dk_42 (dk_at dksX5_write_2 14 rfl rfl)
theorem dX5_write_61 : decode cX5_write 61 = .ok (.getfield 7, 3) := dk_180 0 7 (dk_at dksX5_write_2 15 rfl rfl)
theorem dX5_write_64 : decode cX5_write 64 = .ok (.iload_n 1, 1) := dk_27 (dk_at dksX5_write_2 18 rfl rfl)
theorem dX5_write_65 : decode cX5_write 65 = .ok (.iaload, 1) := dk_46 (dk_at dksX5_write_2 19 rfl rfl)
theorem dX5_write_66 : decode cX5_write 66 = .ok (.invokestatic 144, 3) := dk_184 0 144 (dk_at dksX5_write_2 20 rfl rfl)
theorem dX5_write_69 : decode cX5_write 69 = .ok (.lastore, 1) := dk_80 (dk_at dksX5_write_2 23 rfl rfl)
theorem dX5_write_70 : decode cX5_write 70 = .ok (.iconst 0, 1) := dk_3 (dk_at dksX5_write_3 0 rfl rfl)
theorem dX5_write_71 : decode cX5_write 71 = .ok (.ireturn, 1) := dk_172 (dk_at dksX5_write_3 1 rfl rfl)
abbrev cX5_cut : ByteArray := prog_10_method_6_code
def yX5_cut : MethodName := ⟨RX5, "cut", "(JI)J"⟩
def dkwX5_cut_1 : List UInt8 := [5, 160, 0, 9, 30, 136, 133, 167, 0, 4, 30, 173]
abbrev dktX5_cut_1 : List UInt8 := dkwX5_cut_1 ++ []
def dkwX5_cut_0 : List UInt8 := [28, 154, 0, 10, 30, 136, 145, 133, 167, 0, 27, 28, 4, 160, 0, 10, 30, 136, 147, 133, 167, 0, 15, 28]
abbrev dktX5_cut_0 : List UInt8 := dkwX5_cut_0 ++ dktX5_cut_1
theorem dksX5_cut_0 : cX5_cut.data.toList.drop 0 = dktX5_cut_0 := by decide +kernel
theorem dksX5_cut_1 : cX5_cut.data.toList.drop 24 = dktX5_cut_1 := dk_seg dksX5_cut_0 24 rfl rfl
theorem dX5_cut_0 : decode cX5_cut 0 = .ok (.iload_n 2, 1) := dk_28 (dk_at dksX5_cut_0 0 rfl rfl)
theorem dX5_cut_1 : decode cX5_cut 1 = .ok (.ifCond .ne 10, 3) := dk_154 0 10 (dk_at dksX5_cut_0 1 rfl rfl)
theorem dX5_cut_4 : decode cX5_cut 4 = .ok (.lload_n 0, 1) := dk_30 (dk_at dksX5_cut_0 4 rfl rfl)
theorem dX5_cut_5 : decode cX5_cut 5 = .ok (.l2i, 1) := dk_136 (dk_at dksX5_cut_0 5 rfl rfl)
theorem dX5_cut_6 : decode cX5_cut 6 = .ok (.i2b, 1) := dk_145 (dk_at dksX5_cut_0 6 rfl rfl)
theorem dX5_cut_7 : decode cX5_cut 7 = .ok (.i2l, 1) := dk_133 (dk_at dksX5_cut_0 7 rfl rfl)
theorem dX5_cut_8 : decode cX5_cut 8 = .ok (.goto 27, 3) := dk_167 0 27 (dk_at dksX5_cut_0 8 rfl rfl)
theorem dX5_cut_11 : decode cX5_cut 11 = .ok (.iload_n 2, 1) := dk_28 (dk_at dksX5_cut_0 11 rfl rfl)
theorem dX5_cut_12 : decode cX5_cut 12 = .ok (.iconst 1, 1) := dk_4 (dk_at dksX5_cut_0 12 rfl rfl)
theorem dX5_cut_13 : decode cX5_cut 13 = .ok (.if_icmp .ne 10, 3) := dk_160 0 10 (dk_at dksX5_cut_0 13 rfl rfl)
theorem dX5_cut_16 : decode cX5_cut 16 = .ok (.lload_n 0, 1) := dk_30 (dk_at dksX5_cut_0 16 rfl rfl)
theorem dX5_cut_17 : decode cX5_cut 17 = .ok (.l2i, 1) := dk_136 (dk_at dksX5_cut_0 17 rfl rfl)
theorem dX5_cut_18 : decode cX5_cut 18 = .ok (.i2s, 1) := dk_147 (dk_at dksX5_cut_0 18 rfl rfl)
theorem dX5_cut_19 : decode cX5_cut 19 = .ok (.i2l, 1) := dk_133 (dk_at dksX5_cut_0 19 rfl rfl)
theorem dX5_cut_20 : decode cX5_cut 20 = .ok (.goto 15, 3) := dk_167 0 15 (dk_at dksX5_cut_0 20 rfl rfl)
theorem dX5_cut_23 : decode cX5_cut 23 = .ok (.iload_n 2, 1) := dk_28 (dk_at dksX5_cut_0 23 rfl rfl)
theorem dX5_cut_24 : decode cX5_cut 24 = .ok (.iconst 2, 1) := dk_5 (dk_at dksX5_cut_1 0 rfl rfl)
theorem dX5_cut_25 : decode cX5_cut 25 = .ok (.if_icmp .ne 9, 3) := dk_160 0 9 (dk_at dksX5_cut_1 1 rfl rfl)
theorem dX5_cut_28 : decode cX5_cut 28 = .ok (.lload_n 0, 1) := dk_30 (dk_at dksX5_cut_1 4 rfl rfl)
theorem dX5_cut_29 : decode cX5_cut 29 = .ok (.l2i, 1) := dk_136 (dk_at dksX5_cut_1 5 rfl rfl)
theorem dX5_cut_30 : decode cX5_cut 30 = .ok (.i2l, 1) := dk_133 (dk_at dksX5_cut_1 6 rfl rfl)
theorem dX5_cut_31 : decode cX5_cut 31 = .ok (.goto 4, 3) := dk_167 0 4 (dk_at dksX5_cut_1 7 rfl rfl)
theorem dX5_cut_34 : decode cX5_cut 34 = .ok (.lload_n 0, 1) := dk_30 (dk_at dksX5_cut_1 10 rfl rfl)
theorem dX5_cut_35 : decode cX5_cut 35 = .ok (.lreturn, 1) := dk_173 (dk_at dksX5_cut_1 11 rfl rfl)
abbrev cX5_paste : ByteArray := prog_10_method_8_code
def yX5_paste : MethodName := ⟨RX5, "paste", "(IIIII)I"⟩
def dkwX5_paste_8 : List UInt8 := [167, 255, 224, 3, 172]
abbrev dktX5_paste_8 : List UInt8 := dkwX5_paste_8 ++ []
def dkwX5_paste_7 : List UInt8 := [180, 0, 16, 16, 60, 29, 104, 21, 4, 96, 21, 6, 96, 42, 180, 0, 20, 21, 6, 47, 80, 132, 6, 1]
abbrev dktX5_paste_7 : List UInt8 := dkwX5_paste_7 ++ dktX5_paste_8
def dkwX5_paste_6 : List UInt8 := [28, 96, 21, 6, 96, 47, 80, 132, 6, 1, 167, 255, 225, 3, 54, 6, 21, 6, 21, 5, 162, 0, 31, 42]
abbrev dktX5_paste_6 : List UInt8 := dkwX5_paste_6 ++ dktX5_paste_7
def dkwX5_paste_5 : List UInt8 := [3, 54, 6, 21, 6, 21, 5, 162, 0, 30, 42, 180, 0, 20, 21, 6, 42, 180, 0, 16, 16, 60, 27, 104]
abbrev dktX5_paste_5 : List UInt8 := dkwX5_paste_5 ++ dktX5_paste_6
def dkwX5_paste_4 : List UInt8 := [157, 0, 21, 21, 4, 133, 21, 5, 133, 97, 42, 180, 0, 13, 29, 46, 133, 148, 158, 0, 6, 16, 249, 172]
abbrev dktX5_paste_4 : List UInt8 := dkwX5_paste_4 ++ dktX5_paste_5
def dkwX5_paste_3 : List UInt8 := [155, 0, 43, 21, 5, 155, 0, 38, 28, 133, 21, 5, 133, 97, 42, 180, 0, 13, 27, 46, 133, 148]
abbrev dktX5_paste_3 : List UInt8 := dkwX5_paste_3 ++ dktX5_paste_4
def dkwX5_paste_2 : List UInt8 := [180, 0, 7, 27, 46, 42, 180, 0, 7, 29, 46, 159, 0, 6, 16, 248, 172, 28, 155, 0, 48, 21, 4]
abbrev dktX5_paste_2 : List UInt8 := dkwX5_paste_2 ++ dktX5_paste_3
def dkwX5_paste_1 : List UInt8 := [180, 0, 7, 27, 46, 2, 159, 0, 13, 42, 180, 0, 7, 29, 46, 2, 160, 0, 6, 16, 250, 172, 42]
abbrev dktX5_paste_1 : List UInt8 := dkwX5_paste_1 ++ dktX5_paste_2
def dkwX5_paste_0 : List UInt8 := [42, 3, 181, 0, 131, 27, 184, 0, 140, 153, 0, 10, 29, 184, 0, 140, 154, 0, 6, 16, 254, 172, 42]
abbrev dktX5_paste_0 : List UInt8 := dkwX5_paste_0 ++ dktX5_paste_1
theorem dksX5_paste_0 : cX5_paste.data.toList.drop 0 = dktX5_paste_0 := by decide +kernel
theorem dksX5_paste_1 : cX5_paste.data.toList.drop 23 = dktX5_paste_1 := dk_seg dksX5_paste_0 23 rfl rfl
theorem dksX5_paste_2 : cX5_paste.data.toList.drop 46 = dktX5_paste_2 := dk_seg dksX5_paste_1 23 rfl rfl
theorem dksX5_paste_3 : cX5_paste.data.toList.drop 69 = dktX5_paste_3 := dk_seg dksX5_paste_2 23 rfl rfl
theorem dksX5_paste_4 : cX5_paste.data.toList.drop 91 = dktX5_paste_4 := dk_seg dksX5_paste_3 22 rfl rfl
theorem dksX5_paste_5 : cX5_paste.data.toList.drop 115 = dktX5_paste_5 := dk_seg dksX5_paste_4 24 rfl rfl
theorem dksX5_paste_6 : cX5_paste.data.toList.drop 139 = dktX5_paste_6 := dk_seg dksX5_paste_5 24 rfl rfl
theorem dksX5_paste_7 : cX5_paste.data.toList.drop 163 = dktX5_paste_7 := dk_seg dksX5_paste_6 24 rfl rfl
theorem dksX5_paste_8 : cX5_paste.data.toList.drop 187 = dktX5_paste_8 := dk_seg dksX5_paste_7 24 rfl rfl
theorem dX5_paste_0 : decode cX5_paste 0 = .ok (.aload_n 0, 1) := dk_42 (dk_at dksX5_paste_0 0 rfl rfl)
theorem dX5_paste_1 : decode cX5_paste 1 = .ok (.iconst 0, 1) := dk_3 (dk_at dksX5_paste_0 1 rfl rfl)
theorem dX5_paste_2 : decode cX5_paste 2 = .ok (.putfield 131, 3) := dk_181 0 131 (dk_at dksX5_paste_0 2 rfl rfl)
theorem dX5_paste_5 : decode cX5_paste 5 = .ok (.iload_n 1, 1) := dk_27 (dk_at dksX5_paste_0 5 rfl rfl)
theorem dX5_paste_6 : decode cX5_paste 6 = .ok (.invokestatic 140, 3) := dk_184 0 140 (dk_at dksX5_paste_0 6 rfl rfl)
theorem dX5_paste_9 : decode cX5_paste 9 = .ok (.ifCond .eq 10, 3) := dk_153 0 10 (dk_at dksX5_paste_0 9 rfl rfl)
theorem dX5_paste_12 : decode cX5_paste 12 = .ok (.iload_n 3, 1) := dk_29 (dk_at dksX5_paste_0 12 rfl rfl)
theorem dX5_paste_13 : decode cX5_paste 13 = .ok (.invokestatic 140, 3) := dk_184 0 140 (dk_at dksX5_paste_0 13 rfl rfl)
theorem dX5_paste_16 : decode cX5_paste 16 = .ok (.ifCond .ne 6, 3) := dk_154 0 6 (dk_at dksX5_paste_0 16 rfl rfl)
theorem dX5_paste_19 : decode cX5_paste 19 = .ok (.bipush (-2), 2) := dk_16 254 (dk_at dksX5_paste_0 19 rfl rfl)
theorem dX5_paste_21 : decode cX5_paste 21 = .ok (.ireturn, 1) := dk_172 (dk_at dksX5_paste_0 21 rfl rfl)
theorem dX5_paste_22 : decode cX5_paste 22 = .ok (.aload_n 0, 1) := dk_42 (dk_at dksX5_paste_0 22 rfl rfl)
theorem dX5_paste_23 : decode cX5_paste 23 = .ok (.getfield 7, 3) := dk_180 0 7 (dk_at dksX5_paste_1 0 rfl rfl)
theorem dX5_paste_26 : decode cX5_paste 26 = .ok (.iload_n 1, 1) := dk_27 (dk_at dksX5_paste_1 3 rfl rfl)
theorem dX5_paste_27 : decode cX5_paste 27 = .ok (.iaload, 1) := dk_46 (dk_at dksX5_paste_1 4 rfl rfl)
theorem dX5_paste_28 : decode cX5_paste 28 = .ok (.iconst (-1), 1) := dk_2 (dk_at dksX5_paste_1 5 rfl rfl)
theorem dX5_paste_29 : decode cX5_paste 29 = .ok (.if_icmp .eq 13, 3) := dk_159 0 13 (dk_at dksX5_paste_1 6 rfl rfl)
theorem dX5_paste_32 : decode cX5_paste 32 = .ok (.aload_n 0, 1) := dk_42 (dk_at dksX5_paste_1 9 rfl rfl)
theorem dX5_paste_33 : decode cX5_paste 33 = .ok (.getfield 7, 3) := dk_180 0 7 (dk_at dksX5_paste_1 10 rfl rfl)
theorem dX5_paste_36 : decode cX5_paste 36 = .ok (.iload_n 3, 1) := dk_29 (dk_at dksX5_paste_1 13 rfl rfl)
theorem dX5_paste_37 : decode cX5_paste 37 = .ok (.iaload, 1) := dk_46 (dk_at dksX5_paste_1 14 rfl rfl)
theorem dX5_paste_38 : decode cX5_paste 38 = .ok (.iconst (-1), 1) := dk_2 (dk_at dksX5_paste_1 15 rfl rfl)
theorem dX5_paste_39 : decode cX5_paste 39 = .ok (.if_icmp .ne 6, 3) := dk_160 0 6 (dk_at dksX5_paste_1 16 rfl rfl)
theorem dX5_paste_42 : decode cX5_paste 42 = .ok (.bipush (-6), 2) := dk_16 250 (dk_at dksX5_paste_1 19 rfl rfl)
theorem dX5_paste_44 : decode cX5_paste 44 = .ok (.ireturn, 1) := dk_172 (dk_at dksX5_paste_1 21 rfl rfl)
theorem dX5_paste_45 : decode cX5_paste 45 = .ok (.aload_n 0, 1) := dk_42 (dk_at dksX5_paste_1 22 rfl rfl)
theorem dX5_paste_46 : decode cX5_paste 46 = .ok (.getfield 7, 3) := dk_180 0 7 (dk_at dksX5_paste_2 0 rfl rfl)
theorem dX5_paste_49 : decode cX5_paste 49 = .ok (.iload_n 1, 1) := dk_27 (dk_at dksX5_paste_2 3 rfl rfl)
theorem dX5_paste_50 : decode cX5_paste 50 = .ok (.iaload, 1) := dk_46 (dk_at dksX5_paste_2 4 rfl rfl)
theorem dX5_paste_51 : decode cX5_paste 51 = .ok (.aload_n 0, 1) := dk_42 (dk_at dksX5_paste_2 5 rfl rfl)
theorem dX5_paste_52 : decode cX5_paste 52 = .ok (.getfield 7, 3) := dk_180 0 7 (dk_at dksX5_paste_2 6 rfl rfl)
theorem dX5_paste_55 : decode cX5_paste 55 = .ok (.iload_n 3, 1) := dk_29 (dk_at dksX5_paste_2 9 rfl rfl)
theorem dX5_paste_56 : decode cX5_paste 56 = .ok (.iaload, 1) := dk_46 (dk_at dksX5_paste_2 10 rfl rfl)
theorem dX5_paste_57 : decode cX5_paste 57 = .ok (.if_icmp .eq 6, 3) := dk_159 0 6 (dk_at dksX5_paste_2 11 rfl rfl)
theorem dX5_paste_60 : decode cX5_paste 60 = .ok (.bipush (-8), 2) := dk_16 248 (dk_at dksX5_paste_2 14 rfl rfl)
theorem dX5_paste_62 : decode cX5_paste 62 = .ok (.ireturn, 1) := dk_172 (dk_at dksX5_paste_2 16 rfl rfl)
theorem dX5_paste_63 : decode cX5_paste 63 = .ok (.iload_n 2, 1) := dk_28 (dk_at dksX5_paste_2 17 rfl rfl)
theorem dX5_paste_64 : decode cX5_paste 64 = .ok (.ifCond .lt 48, 3) := dk_155 0 48 (dk_at dksX5_paste_2 18 rfl rfl)
theorem dX5_paste_67 : decode cX5_paste 67 = .ok (.iload 4, 2) := dk_21 4 (dk_at dksX5_paste_2 21 rfl rfl)
theorem dX5_paste_69 : decode cX5_paste 69 = .ok (.ifCond .lt 43, 3) := dk_155 0 43 (dk_at dksX5_paste_3 0 rfl rfl)
theorem dX5_paste_72 : decode cX5_paste 72 = .ok (.iload 5, 2) := dk_21 5 (dk_at dksX5_paste_3 3 rfl rfl)
theorem dX5_paste_74 : decode cX5_paste 74 = .ok (.ifCond .lt 38, 3) := dk_155 0 38 (dk_at dksX5_paste_3 5 rfl rfl)
theorem dX5_paste_77 : decode cX5_paste 77 = .ok (.iload_n 2, 1) := dk_28 (dk_at dksX5_paste_3 8 rfl rfl)
theorem dX5_paste_78 : decode cX5_paste 78 = .ok (.i2l, 1) := dk_133 (dk_at dksX5_paste_3 9 rfl rfl)
theorem dX5_paste_79 : decode cX5_paste 79 = .ok (.iload 5, 2) := dk_21 5 (dk_at dksX5_paste_3 10 rfl rfl)
theorem dX5_paste_81 : decode cX5_paste 81 = .ok (.i2l, 1) := dk_133 (dk_at dksX5_paste_3 12 rfl rfl)
theorem dX5_paste_82 : decode cX5_paste 82 = .ok (.ladd, 1) := dk_97 (dk_at dksX5_paste_3 13 rfl rfl)
theorem dX5_paste_83 : decode cX5_paste 83 = .ok (.aload_n 0, 1) := dk_42 (dk_at dksX5_paste_3 14 rfl rfl)
theorem dX5_paste_84 : decode cX5_paste 84 = .ok (.getfield 13, 3) := dk_180 0 13 (dk_at dksX5_paste_3 15 rfl rfl)
theorem dX5_paste_87 : decode cX5_paste 87 = .ok (.iload_n 1, 1) := dk_27 (dk_at dksX5_paste_3 18 rfl rfl)
theorem dX5_paste_88 : decode cX5_paste 88 = .ok (.iaload, 1) := dk_46 (dk_at dksX5_paste_3 19 rfl rfl)
theorem dX5_paste_89 : decode cX5_paste 89 = .ok (.i2l, 1) := dk_133 (dk_at dksX5_paste_3 20 rfl rfl)
theorem dX5_paste_90 : decode cX5_paste 90 = .ok (.lcmp, 1) := dk_148 (dk_at dksX5_paste_3 21 rfl rfl)
theorem dX5_paste_91 : decode cX5_paste 91 = .ok (.ifCond .gt 21, 3) := dk_157 0 21 (dk_at dksX5_paste_4 0 rfl rfl)
theorem dX5_paste_94 : decode cX5_paste 94 = .ok (.iload 4, 2) := dk_21 4 (dk_at dksX5_paste_4 3 rfl rfl)
theorem dX5_paste_96 : decode cX5_paste 96 = .ok (.i2l, 1) := dk_133 (dk_at dksX5_paste_4 5 rfl rfl)
theorem dX5_paste_97 : decode cX5_paste 97 = .ok (.iload 5, 2) := dk_21 5 (dk_at dksX5_paste_4 6 rfl rfl)
theorem dX5_paste_99 : decode cX5_paste 99 = .ok (.i2l, 1) := dk_133 (dk_at dksX5_paste_4 8 rfl rfl)
theorem dX5_paste_100 : decode cX5_paste 100 = .ok (.ladd, 1) := dk_97 (dk_at dksX5_paste_4 9 rfl rfl)
theorem dX5_paste_101 : decode cX5_paste 101 = .ok (.aload_n 0, 1) := dk_42 (dk_at dksX5_paste_4 10 rfl rfl)
theorem dX5_paste_102 : decode cX5_paste 102 = .ok (.getfield 13, 3) := dk_180 0 13 (dk_at dksX5_paste_4 11 rfl rfl)
theorem dX5_paste_105 : decode cX5_paste 105 = .ok (.iload_n 3, 1) := dk_29 (dk_at dksX5_paste_4 14 rfl rfl)
theorem dX5_paste_106 : decode cX5_paste 106 = .ok (.iaload, 1) := dk_46 (dk_at dksX5_paste_4 15 rfl rfl)
theorem dX5_paste_107 : decode cX5_paste 107 = .ok (.i2l, 1) := dk_133 (dk_at dksX5_paste_4 16 rfl rfl)
theorem dX5_paste_108 : decode cX5_paste 108 = .ok (.lcmp, 1) := dk_148 (dk_at dksX5_paste_4 17 rfl rfl)
theorem dX5_paste_109 : decode cX5_paste 109 = .ok (.ifCond .le 6, 3) := dk_158 0 6 (dk_at dksX5_paste_4 18 rfl rfl)
theorem dX5_paste_112 : decode cX5_paste 112 = .ok (.bipush (-7), 2) := dk_16 249 (dk_at dksX5_paste_4 21 rfl rfl)
theorem dX5_paste_114 : decode cX5_paste 114 = .ok (.ireturn, 1) := dk_172 (dk_at dksX5_paste_4 23 rfl rfl)
theorem dX5_paste_115 : decode cX5_paste 115 = .ok (.iconst 0, 1) := dk_3 (dk_at dksX5_paste_5 0 rfl rfl)
theorem dX5_paste_116 : decode cX5_paste 116 = .ok (.istore 6, 2) := dk_54 6 (dk_at dksX5_paste_5 1 rfl rfl)
theorem dX5_paste_118 : decode cX5_paste 118 = .ok (.iload 6, 2) := dk_21 6 (dk_at dksX5_paste_5 3 rfl rfl)
theorem dX5_paste_120 : decode cX5_paste 120 = .ok (.iload 5, 2) := dk_21 5 (dk_at dksX5_paste_5 5 rfl rfl)
theorem dX5_paste_122 : decode cX5_paste 122 = .ok (.if_icmp .ge 30, 3) := dk_162 0 30 (dk_at dksX5_paste_5 7 rfl rfl)
theorem dX5_paste_125 : decode cX5_paste 125 = .ok (.aload_n 0, 1) := dk_42 (dk_at dksX5_paste_5 10 rfl rfl)
theorem dX5_paste_126 : decode cX5_paste 126 = .ok (.getfield 20, 3) := dk_180 0 20 (dk_at dksX5_paste_5 11 rfl rfl)
theorem dX5_paste_129 : decode cX5_paste 129 = .ok (.iload 6, 2) := dk_21 6 (dk_at dksX5_paste_5 14 rfl rfl)
theorem dX5_paste_131 : decode cX5_paste 131 = .ok (.aload_n 0, 1) := dk_42 (dk_at dksX5_paste_5 16 rfl rfl)
theorem dX5_paste_132 : decode cX5_paste 132 = .ok (.getfield 16, 3) := dk_180 0 16 (dk_at dksX5_paste_5 17 rfl rfl)
theorem dX5_paste_135 : decode cX5_paste 135 = .ok (.bipush 60, 2) := dk_16 60 (dk_at dksX5_paste_5 20 rfl rfl)
theorem dX5_paste_137 : decode cX5_paste 137 = .ok (.iload_n 1, 1) := dk_27 (dk_at dksX5_paste_5 22 rfl rfl)
theorem dX5_paste_138 : decode cX5_paste 138 = .ok (.imul, 1) := dk_104 (dk_at dksX5_paste_5 23 rfl rfl)
theorem dX5_paste_139 : decode cX5_paste 139 = .ok (.iload_n 2, 1) := dk_28 (dk_at dksX5_paste_6 0 rfl rfl)
theorem dX5_paste_140 : decode cX5_paste 140 = .ok (.iadd, 1) := dk_96 (dk_at dksX5_paste_6 1 rfl rfl)
theorem dX5_paste_141 : decode cX5_paste 141 = .ok (.iload 6, 2) := dk_21 6 (dk_at dksX5_paste_6 2 rfl rfl)
theorem dX5_paste_143 : decode cX5_paste 143 = .ok (.iadd, 1) := dk_96 (dk_at dksX5_paste_6 4 rfl rfl)
theorem dX5_paste_144 : decode cX5_paste 144 = .ok (.laload, 1) := dk_47 (dk_at dksX5_paste_6 5 rfl rfl)
theorem dX5_paste_145 : decode cX5_paste 145 = .ok (.lastore, 1) := dk_80 (dk_at dksX5_paste_6 6 rfl rfl)
theorem dX5_paste_146 : decode cX5_paste 146 = .ok (.iinc 6 1, 3) := dk_132 6 1 (dk_at dksX5_paste_6 7 rfl rfl)
theorem dX5_paste_149 : decode cX5_paste 149 = .ok (.goto (-31), 3) := dk_167 255 225 (dk_at dksX5_paste_6 10 rfl rfl)
theorem dX5_paste_152 : decode cX5_paste 152 = .ok (.iconst 0, 1) := dk_3 (dk_at dksX5_paste_6 13 rfl rfl)
theorem dX5_paste_153 : decode cX5_paste 153 = .ok (.istore 6, 2) := dk_54 6 (dk_at dksX5_paste_6 14 rfl rfl)
theorem dX5_paste_155 : decode cX5_paste 155 = .ok (.iload 6, 2) := dk_21 6 (dk_at dksX5_paste_6 16 rfl rfl)
theorem dX5_paste_157 : decode cX5_paste 157 = .ok (.iload 5, 2) := dk_21 5 (dk_at dksX5_paste_6 18 rfl rfl)
theorem dX5_paste_159 : decode cX5_paste 159 = .ok (.if_icmp .ge 31, 3) := dk_162 0 31 (dk_at dksX5_paste_6 20 rfl rfl)
theorem dX5_paste_162 : decode cX5_paste 162 = .ok (.aload_n 0, 1) := dk_42 (dk_at dksX5_paste_6 23 rfl rfl)
theorem dX5_paste_163 : decode cX5_paste 163 = .ok (.getfield 16, 3) := dk_180 0 16 (dk_at dksX5_paste_7 0 rfl rfl)
theorem dX5_paste_166 : decode cX5_paste 166 = .ok (.bipush 60, 2) := dk_16 60 (dk_at dksX5_paste_7 3 rfl rfl)
theorem dX5_paste_168 : decode cX5_paste 168 = .ok (.iload_n 3, 1) := dk_29 (dk_at dksX5_paste_7 5 rfl rfl)
theorem dX5_paste_169 : decode cX5_paste 169 = .ok (.imul, 1) := dk_104 (dk_at dksX5_paste_7 6 rfl rfl)
theorem dX5_paste_170 : decode cX5_paste 170 = .ok (.iload 4, 2) := dk_21 4 (dk_at dksX5_paste_7 7 rfl rfl)
theorem dX5_paste_172 : decode cX5_paste 172 = .ok (.iadd, 1) := dk_96 (dk_at dksX5_paste_7 9 rfl rfl)
theorem dX5_paste_173 : decode cX5_paste 173 = .ok (.iload 6, 2) := dk_21 6 (dk_at dksX5_paste_7 10 rfl rfl)
theorem dX5_paste_175 : decode cX5_paste 175 = .ok (.iadd, 1) := dk_96 (dk_at dksX5_paste_7 12 rfl rfl)
theorem dX5_paste_176 : decode cX5_paste 176 = .ok (.aload_n 0, 1) := dk_42 (dk_at dksX5_paste_7 13 rfl rfl)
theorem dX5_paste_177 : decode cX5_paste 177 = .ok (.getfield 20, 3) := dk_180 0 20 (dk_at dksX5_paste_7 14 rfl rfl)
theorem dX5_paste_180 : decode cX5_paste 180 = .ok (.iload 6, 2) := dk_21 6 (dk_at dksX5_paste_7 17 rfl rfl)
theorem dX5_paste_182 : decode cX5_paste 182 = .ok (.laload, 1) := dk_47 (dk_at dksX5_paste_7 19 rfl rfl)
theorem dX5_paste_183 : decode cX5_paste 183 = .ok (.lastore, 1) := dk_80 (dk_at dksX5_paste_7 20 rfl rfl)
theorem dX5_paste_184 : decode cX5_paste 184 = .ok (.iinc 6 1, 3) := dk_132 6 1 (dk_at dksX5_paste_7 21 rfl rfl)
theorem dX5_paste_187 : decode cX5_paste 187 = .ok (.goto (-32), 3) := dk_167 255 224 (dk_at dksX5_paste_8 0 rfl rfl)
theorem dX5_paste_190 : decode cX5_paste 190 = .ok (.iconst 0, 1) := dk_3 (dk_at dksX5_paste_8 3 rfl rfl)
theorem dX5_paste_191 : decode cX5_paste 191 = .ok (.ireturn, 1) := dk_172 (dk_at dksX5_paste_8 4 rfl rfl)
abbrev cX5_feed : ByteArray := prog_10_method_9_code
def yX5_feed : MethodName := ⟨RX5, "feed", "(IIIII)I"⟩
def dkwX5_feed_2 : List UInt8 := [182, 0, 151, 42, 180, 0, 148, 172]
abbrev dktX5_feed_2 : List UInt8 := dkwX5_feed_2 ++ []
def dkwX5_feed_1 : List UInt8 := [182, 0, 151, 42, 28, 182, 0, 151, 42, 29, 182, 0, 151, 42, 21, 4, 182, 0, 151, 42, 21, 5]
abbrev dktX5_feed_1 : List UInt8 := dkwX5_feed_1 ++ dktX5_feed_2
def dkwX5_feed_0 : List UInt8 := [42, 3, 181, 0, 131, 42, 180, 0, 148, 16, 20, 96, 17, 5, 120, 164, 0, 5, 2, 172, 42, 27]
abbrev dktX5_feed_0 : List UInt8 := dkwX5_feed_0 ++ dktX5_feed_1
theorem dksX5_feed_0 : cX5_feed.data.toList.drop 0 = dktX5_feed_0 := by decide +kernel
theorem dksX5_feed_1 : cX5_feed.data.toList.drop 22 = dktX5_feed_1 := dk_seg dksX5_feed_0 22 rfl rfl
theorem dksX5_feed_2 : cX5_feed.data.toList.drop 44 = dktX5_feed_2 := dk_seg dksX5_feed_1 22 rfl rfl
theorem dX5_feed_0 : decode cX5_feed 0 = .ok (.aload_n 0, 1) := dk_42 (dk_at dksX5_feed_0 0 rfl rfl)
theorem dX5_feed_1 : decode cX5_feed 1 = .ok (.iconst 0, 1) := dk_3 (dk_at dksX5_feed_0 1 rfl rfl)
theorem dX5_feed_2 : decode cX5_feed 2 = .ok (.putfield 131, 3) := dk_181 0 131 (dk_at dksX5_feed_0 2 rfl rfl)
theorem dX5_feed_5 : decode cX5_feed 5 = .ok (.aload_n 0, 1) := dk_42 (dk_at dksX5_feed_0 5 rfl rfl)
theorem dX5_feed_6 : decode cX5_feed 6 = .ok (.getfield 148, 3) := dk_180 0 148 (dk_at dksX5_feed_0 6 rfl rfl)
theorem dX5_feed_9 : decode cX5_feed 9 = .ok (.bipush 20, 2) := dk_16 20 (dk_at dksX5_feed_0 9 rfl rfl)
theorem dX5_feed_11 : decode cX5_feed 11 = .ok (.iadd, 1) := dk_96 (dk_at dksX5_feed_0 11 rfl rfl)
theorem dX5_feed_12 : decode cX5_feed 12 = .ok (.sipush 1400, 3) := dk_17 5 120 (dk_at dksX5_feed_0 12 rfl rfl)
theorem dX5_feed_15 : decode cX5_feed 15 = .ok (.if_icmp .le 5, 3) := dk_164 0 5 (dk_at dksX5_feed_0 15 rfl rfl)
theorem dX5_feed_18 : decode cX5_feed 18 = .ok (.iconst (-1), 1) := dk_2 (dk_at dksX5_feed_0 18 rfl rfl)
theorem dX5_feed_19 : decode cX5_feed 19 = .ok (.ireturn, 1) := dk_172 (dk_at dksX5_feed_0 19 rfl rfl)
theorem dX5_feed_20 : decode cX5_feed 20 = .ok (.aload_n 0, 1) := dk_42 (dk_at dksX5_feed_0 20 rfl rfl)
theorem dX5_feed_21 : decode cX5_feed 21 = .ok (.iload_n 1, 1) := dk_27 (dk_at dksX5_feed_0 21 rfl rfl)
theorem dX5_feed_22 : decode cX5_feed 22 = .ok (.invokevirtual 151, 3) := dk_182 0 151 (dk_at dksX5_feed_1 0 rfl rfl)
theorem dX5_feed_25 : decode cX5_feed 25 = .ok (.aload_n 0, 1) := dk_42 (dk_at dksX5_feed_1 3 rfl rfl)
theorem dX5_feed_26 : decode cX5_feed 26 = .ok (.iload_n 2, 1) := dk_28 (dk_at dksX5_feed_1 4 rfl rfl)
theorem dX5_feed_27 : decode cX5_feed 27 = .ok (.invokevirtual 151, 3) := dk_182 0 151 (dk_at dksX5_feed_1 5 rfl rfl)
theorem dX5_feed_30 : decode cX5_feed 30 = .ok (.aload_n 0, 1) := dk_42 (dk_at dksX5_feed_1 8 rfl rfl)
theorem dX5_feed_31 : decode cX5_feed 31 = .ok (.iload_n 3, 1) := dk_29 (dk_at dksX5_feed_1 9 rfl rfl)
theorem dX5_feed_32 : decode cX5_feed 32 = .ok (.invokevirtual 151, 3) := dk_182 0 151 (dk_at dksX5_feed_1 10 rfl rfl)
theorem dX5_feed_35 : decode cX5_feed 35 = .ok (.aload_n 0, 1) := dk_42 (dk_at dksX5_feed_1 13 rfl rfl)
theorem dX5_feed_36 : decode cX5_feed 36 = .ok (.iload 4, 2) := dk_21 4 (dk_at dksX5_feed_1 14 rfl rfl)
theorem dX5_feed_38 : decode cX5_feed 38 = .ok (.invokevirtual 151, 3) := dk_182 0 151 (dk_at dksX5_feed_1 16 rfl rfl)
theorem dX5_feed_41 : decode cX5_feed 41 = .ok (.aload_n 0, 1) := dk_42 (dk_at dksX5_feed_1 19 rfl rfl)
theorem dX5_feed_42 : decode cX5_feed 42 = .ok (.iload 5, 2) := dk_21 5 (dk_at dksX5_feed_1 20 rfl rfl)
theorem dX5_feed_44 : decode cX5_feed 44 = .ok (.invokevirtual 151, 3) := dk_182 0 151 (dk_at dksX5_feed_2 0 rfl rfl)
theorem dX5_feed_47 : decode cX5_feed 47 = .ok (.aload_n 0, 1) := dk_42 (dk_at dksX5_feed_2 3 rfl rfl)
theorem dX5_feed_48 : decode cX5_feed 48 = .ok (.getfield 148, 3) := dk_180 0 148 (dk_at dksX5_feed_2 4 rfl rfl)
theorem dX5_feed_51 : decode cX5_feed 51 = .ok (.ireturn, 1) := dk_172 (dk_at dksX5_feed_2 7 rfl rfl)
abbrev cX5_four : ByteArray := prog_10_method_10_code
def yX5_four : MethodName := ⟨RX5, "four", "(I)V"⟩
def dkwX5_four_1 : List UInt8 := [180, 0, 148, 4, 96, 181, 0, 148, 132, 2, 248, 167, 255, 226, 177]
abbrev dktX5_four_1 : List UInt8 := dkwX5_four_1 ++ []
def dkwX5_four_0 : List UInt8 := [16, 24, 61, 28, 155, 0, 32, 42, 180, 0, 23, 42, 180, 0, 148, 27, 28, 122, 145, 84, 42, 89]
abbrev dktX5_four_0 : List UInt8 := dkwX5_four_0 ++ dktX5_four_1
theorem dksX5_four_0 : cX5_four.data.toList.drop 0 = dktX5_four_0 := by decide +kernel
theorem dksX5_four_1 : cX5_four.data.toList.drop 22 = dktX5_four_1 := dk_seg dksX5_four_0 22 rfl rfl
theorem dX5_four_0 : decode cX5_four 0 = .ok (.bipush 24, 2) := dk_16 24 (dk_at dksX5_four_0 0 rfl rfl)
theorem dX5_four_2 : decode cX5_four 2 = .ok (.istore_n 2, 1) := dk_61 (dk_at dksX5_four_0 2 rfl rfl)
theorem dX5_four_3 : decode cX5_four 3 = .ok (.iload_n 2, 1) := dk_28 (dk_at dksX5_four_0 3 rfl rfl)
theorem dX5_four_4 : decode cX5_four 4 = .ok (.ifCond .lt 32, 3) := dk_155 0 32 (dk_at dksX5_four_0 4 rfl rfl)
theorem dX5_four_7 : decode cX5_four 7 = .ok (.aload_n 0, 1) := dk_42 (dk_at dksX5_four_0 7 rfl rfl)
theorem dX5_four_8 : decode cX5_four 8 = .ok (.getfield 23, 3) := dk_180 0 23 (dk_at dksX5_four_0 8 rfl rfl)
theorem dX5_four_11 : decode cX5_four 11 = .ok (.aload_n 0, 1) := dk_42 (dk_at dksX5_four_0 11 rfl rfl)
theorem dX5_four_12 : decode cX5_four 12 = .ok (.getfield 148, 3) := dk_180 0 148 (dk_at dksX5_four_0 12 rfl rfl)
theorem dX5_four_15 : decode cX5_four 15 = .ok (.iload_n 1, 1) := dk_27 (dk_at dksX5_four_0 15 rfl rfl)
theorem dX5_four_16 : decode cX5_four 16 = .ok (.iload_n 2, 1) := dk_28 (dk_at dksX5_four_0 16 rfl rfl)
theorem dX5_four_17 : decode cX5_four 17 = .ok (.ishr, 1) := dk_122 (dk_at dksX5_four_0 17 rfl rfl)
theorem dX5_four_18 : decode cX5_four 18 = .ok (.i2b, 1) := dk_145 (dk_at dksX5_four_0 18 rfl rfl)
theorem dX5_four_19 : decode cX5_four 19 = .ok (.bastore, 1) := dk_84 (dk_at dksX5_four_0 19 rfl rfl)
theorem dX5_four_20 : decode cX5_four 20 = .ok (.aload_n 0, 1) := dk_42 (dk_at dksX5_four_0 20 rfl rfl)
theorem dX5_four_21 : decode cX5_four 21 = .ok (.dup, 1) := dk_89 (dk_at dksX5_four_0 21 rfl rfl)
theorem dX5_four_22 : decode cX5_four 22 = .ok (.getfield 148, 3) := dk_180 0 148 (dk_at dksX5_four_1 0 rfl rfl)
theorem dX5_four_25 : decode cX5_four 25 = .ok (.iconst 1, 1) := dk_4 (dk_at dksX5_four_1 3 rfl rfl)
theorem dX5_four_26 : decode cX5_four 26 = .ok (.iadd, 1) := dk_96 (dk_at dksX5_four_1 4 rfl rfl)
theorem dX5_four_27 : decode cX5_four 27 = .ok (.putfield 148, 3) := dk_181 0 148 (dk_at dksX5_four_1 5 rfl rfl)
theorem dX5_four_30 : decode cX5_four 30 = .ok (.iinc 2 (-8), 3) := dk_132 2 248 (dk_at dksX5_four_1 8 rfl rfl)
theorem dX5_four_33 : decode cX5_four 33 = .ok (.goto (-30), 3) := dk_167 255 226 (dk_at dksX5_four_1 11 rfl rfl)
theorem dX5_four_36 : decode cX5_four 36 = .ok (.return_, 1) := dk_177 (dk_at dksX5_four_1 14 rfl rfl)
abbrev cX5_end : ByteArray := prog_10_method_11_code
def yX5_end : MethodName := ⟨RX5, "end", "(I)I"⟩
def dkwX5_end_1 : List UInt8 := [181, 0, 148, 27, 172]
abbrev dktX5_end_1 : List UInt8 := dkwX5_end_1 ++ []
def dkwX5_end_0 : List UInt8 := [42, 3, 181, 0, 131, 27, 133, 9, 42, 180, 0, 148, 133, 184, 0, 136, 154, 0, 5, 2, 172, 42, 27]
abbrev dktX5_end_0 : List UInt8 := dkwX5_end_0 ++ dktX5_end_1
theorem dksX5_end_0 : cX5_end.data.toList.drop 0 = dktX5_end_0 := by decide +kernel
theorem dksX5_end_1 : cX5_end.data.toList.drop 23 = dktX5_end_1 := dk_seg dksX5_end_0 23 rfl rfl
theorem dX5_end_0 : decode cX5_end 0 = .ok (.aload_n 0, 1) := dk_42 (dk_at dksX5_end_0 0 rfl rfl)
theorem dX5_end_1 : decode cX5_end 1 = .ok (.iconst 0, 1) := dk_3 (dk_at dksX5_end_0 1 rfl rfl)
theorem dX5_end_2 : decode cX5_end 2 = .ok (.putfield 131, 3) := dk_181 0 131 (dk_at dksX5_end_0 2 rfl rfl)
theorem dX5_end_5 : decode cX5_end 5 = .ok (.iload_n 1, 1) := dk_27 (dk_at dksX5_end_0 5 rfl rfl)
theorem dX5_end_6 : decode cX5_end 6 = .ok (.i2l, 1) := dk_133 (dk_at dksX5_end_0 6 rfl rfl)
theorem dX5_end_7 : decode cX5_end 7 = .ok (.lconst 0, 1) := dk_9 (dk_at dksX5_end_0 7 rfl rfl)
theorem dX5_end_8 : decode cX5_end 8 = .ok (.aload_n 0, 1) := dk_42 (dk_at dksX5_end_0 8 rfl rfl)
theorem dX5_end_9 : decode cX5_end 9 = .ok (.getfield 148, 3) := dk_180 0 148 (dk_at dksX5_end_0 9 rfl rfl)
theorem dX5_end_12 : decode cX5_end 12 = .ok (.i2l, 1) := dk_133 (dk_at dksX5_end_0 12 rfl rfl)
theorem dX5_end_13 : decode cX5_end 13 = .ok (.invokestatic 136, 3) := dk_184 0 136 (dk_at dksX5_end_0 13 rfl rfl)
theorem dX5_end_16 : decode cX5_end 16 = .ok (.ifCond .ne 5, 3) := dk_154 0 5 (dk_at dksX5_end_0 16 rfl rfl)
theorem dX5_end_19 : decode cX5_end 19 = .ok (.iconst (-1), 1) := dk_2 (dk_at dksX5_end_0 19 rfl rfl)
theorem dX5_end_20 : decode cX5_end 20 = .ok (.ireturn, 1) := dk_172 (dk_at dksX5_end_0 20 rfl rfl)
theorem dX5_end_21 : decode cX5_end 21 = .ok (.aload_n 0, 1) := dk_42 (dk_at dksX5_end_0 21 rfl rfl)
theorem dX5_end_22 : decode cX5_end 22 = .ok (.iload_n 1, 1) := dk_27 (dk_at dksX5_end_0 22 rfl rfl)
theorem dX5_end_23 : decode cX5_end 23 = .ok (.putfield 148, 3) := dk_181 0 148 (dk_at dksX5_end_1 0 rfl rfl)
theorem dX5_end_26 : decode cX5_end 26 = .ok (.iload_n 1, 1) := dk_27 (dk_at dksX5_end_1 3 rfl rfl)
theorem dX5_end_27 : decode cX5_end 27 = .ok (.ireturn, 1) := dk_172 (dk_at dksX5_end_1 4 rfl rfl)
abbrev cX5_fault : ByteArray := prog_10_method_24_code
def yX5_fault : MethodName := ⟨RX5, "fault", "(I)I"⟩
def dkwX5_fault_1 : List UInt8 := [180, 0, 27, 167, 0, 4, 2, 172]
abbrev dktX5_fault_1 : List UInt8 := dkwX5_fault_1 ++ []
def dkwX5_fault_0 : List UInt8 := [42, 3, 181, 0, 131, 27, 154, 0, 10, 42, 180, 0, 210, 167, 0, 16, 27, 4, 160, 0, 10, 42]
abbrev dktX5_fault_0 : List UInt8 := dkwX5_fault_0 ++ dktX5_fault_1
theorem dksX5_fault_0 : cX5_fault.data.toList.drop 0 = dktX5_fault_0 := by decide +kernel
theorem dksX5_fault_1 : cX5_fault.data.toList.drop 22 = dktX5_fault_1 := dk_seg dksX5_fault_0 22 rfl rfl
theorem dX5_fault_0 : decode cX5_fault 0 = .ok (.aload_n 0, 1) := dk_42 (dk_at dksX5_fault_0 0 rfl rfl)
theorem dX5_fault_1 : decode cX5_fault 1 = .ok (.iconst 0, 1) := dk_3 (dk_at dksX5_fault_0 1 rfl rfl)
theorem dX5_fault_2 : decode cX5_fault 2 = .ok (.putfield 131, 3) := dk_181 0 131 (dk_at dksX5_fault_0 2 rfl rfl)
theorem dX5_fault_5 : decode cX5_fault 5 = .ok (.iload_n 1, 1) := dk_27 (dk_at dksX5_fault_0 5 rfl rfl)
theorem dX5_fault_6 : decode cX5_fault 6 = .ok (.ifCond .ne 10, 3) := dk_154 0 10 (dk_at dksX5_fault_0 6 rfl rfl)
theorem dX5_fault_9 : decode cX5_fault 9 = .ok (.aload_n 0, 1) := dk_42 (dk_at dksX5_fault_0 9 rfl rfl)
theorem dX5_fault_10 : decode cX5_fault 10 = .ok (.getfield 210, 3) := dk_180 0 210 (dk_at dksX5_fault_0 10 rfl rfl)
theorem dX5_fault_13 : decode cX5_fault 13 = .ok (.goto 16, 3) := dk_167 0 16 (dk_at dksX5_fault_0 13 rfl rfl)
theorem dX5_fault_16 : decode cX5_fault 16 = .ok (.iload_n 1, 1) := dk_27 (dk_at dksX5_fault_0 16 rfl rfl)
theorem dX5_fault_17 : decode cX5_fault 17 = .ok (.iconst 1, 1) := dk_4 (dk_at dksX5_fault_0 17 rfl rfl)
theorem dX5_fault_18 : decode cX5_fault 18 = .ok (.if_icmp .ne 10, 3) := dk_160 0 10 (dk_at dksX5_fault_0 18 rfl rfl)
theorem dX5_fault_21 : decode cX5_fault 21 = .ok (.aload_n 0, 1) := dk_42 (dk_at dksX5_fault_0 21 rfl rfl)
theorem dX5_fault_22 : decode cX5_fault 22 = .ok (.getfield 27, 3) := dk_180 0 27 (dk_at dksX5_fault_1 0 rfl rfl)
theorem dX5_fault_25 : decode cX5_fault 25 = .ok (.goto 4, 3) := dk_167 0 4 (dk_at dksX5_fault_1 3 rfl rfl)
theorem dX5_fault_28 : decode cX5_fault 28 = .ok (.iconst (-1), 1) := dk_2 (dk_at dksX5_fault_1 6 rfl rfl)
theorem dX5_fault_29 : decode cX5_fault 29 = .ok (.ireturn, 1) := dk_172 (dk_at dksX5_fault_1 7 rfl rfl)
abbrev cX5_town : ByteArray := prog_10_method_33_code
def yX5_town : MethodName := ⟨RX5, "town", "()I"⟩
def dkwX5_town_4 : List UInt8 := [46, 172]
abbrev dktX5_town_4 : List UInt8 := dkwX5_town_4 ++ []
def dkwX5_town_3 : List UInt8 := [182, 1, 12, 42, 180, 0, 183, 153, 0, 6, 16, 252, 172, 42, 7, 3, 182, 1, 15, 42, 180, 0, 31, 3]
abbrev dktX5_town_3 : List UInt8 := dkwX5_town_3 ++ dktX5_town_4
def dkwX5_town_2 : List UInt8 := [182, 0, 228, 153, 0, 7, 42, 182, 1, 9, 42, 180, 0, 31, 7, 92, 46, 4, 96, 79, 167, 255, 201, 42]
abbrev dktX5_town_2 : List UInt8 := dkwX5_town_2 ++ dktX5_town_3
def dkwX5_town_1 : List UInt8 := [153, 0, 47, 42, 180, 0, 31, 7, 46, 154, 0, 10, 42, 182, 1, 3, 167, 0, 7, 42, 182, 1, 6, 42]
abbrev dktX5_town_1 : List UInt8 := dkwX5_town_1 ++ dktX5_town_2
def dkwX5_town_0 : List UInt8 := [42, 3, 181, 0, 131, 42, 182, 0, 253, 42, 182, 1, 0, 42, 182, 0, 228, 153, 0, 54, 42, 180, 0, 172]
abbrev dktX5_town_0 : List UInt8 := dkwX5_town_0 ++ dktX5_town_1
theorem dksX5_town_0 : cX5_town.data.toList.drop 0 = dktX5_town_0 := by decide +kernel
theorem dksX5_town_1 : cX5_town.data.toList.drop 24 = dktX5_town_1 := dk_seg dksX5_town_0 24 rfl rfl
theorem dksX5_town_2 : cX5_town.data.toList.drop 48 = dktX5_town_2 := dk_seg dksX5_town_1 24 rfl rfl
theorem dksX5_town_3 : cX5_town.data.toList.drop 72 = dktX5_town_3 := dk_seg dksX5_town_2 24 rfl rfl
theorem dksX5_town_4 : cX5_town.data.toList.drop 96 = dktX5_town_4 := dk_seg dksX5_town_3 24 rfl rfl
theorem dX5_town_0 : decode cX5_town 0 = .ok (.aload_n 0, 1) := dk_42 (dk_at dksX5_town_0 0 rfl rfl)
theorem dX5_town_1 : decode cX5_town 1 = .ok (.iconst 0, 1) := dk_3 (dk_at dksX5_town_0 1 rfl rfl)
theorem dX5_town_2 : decode cX5_town 2 = .ok (.putfield 131, 3) := dk_181 0 131 (dk_at dksX5_town_0 2 rfl rfl)
theorem dX5_town_5 : decode cX5_town 5 = .ok (.aload_n 0, 1) := dk_42 (dk_at dksX5_town_0 5 rfl rfl)
theorem dX5_town_6 : decode cX5_town 6 = .ok (.invokevirtual 253, 3) := dk_182 0 253 (dk_at dksX5_town_0 6 rfl rfl)
theorem dX5_town_9 : decode cX5_town 9 = .ok (.aload_n 0, 1) := dk_42 (dk_at dksX5_town_0 9 rfl rfl)
theorem dX5_town_10 : decode cX5_town 10 = .ok (.invokevirtual 256, 3) := dk_182 1 0 (dk_at dksX5_town_0 10 rfl rfl)
theorem dX5_town_13 : decode cX5_town 13 = .ok (.aload_n 0, 1) := dk_42 (dk_at dksX5_town_0 13 rfl rfl)
theorem dX5_town_14 : decode cX5_town 14 = .ok (.invokevirtual 228, 3) := dk_182 0 228 (dk_at dksX5_town_0 14 rfl rfl)
theorem dX5_town_17 : decode cX5_town 17 = .ok (.ifCond .eq 54, 3) := dk_153 0 54 (dk_at dksX5_town_0 17 rfl rfl)
theorem dX5_town_20 : decode cX5_town 20 = .ok (.aload_n 0, 1) := dk_42 (dk_at dksX5_town_0 20 rfl rfl)
theorem dX5_town_21 : decode cX5_town 21 = .ok (.getfield 172, 3) := dk_180 0 172 (dk_at dksX5_town_0 21 rfl rfl)
theorem dX5_town_24 : decode cX5_town 24 = .ok (.ifCond .eq 47, 3) := dk_153 0 47 (dk_at dksX5_town_1 0 rfl rfl)
theorem dX5_town_27 : decode cX5_town 27 = .ok (.aload_n 0, 1) := dk_42 (dk_at dksX5_town_1 3 rfl rfl)
theorem dX5_town_28 : decode cX5_town 28 = .ok (.getfield 31, 3) := dk_180 0 31 (dk_at dksX5_town_1 4 rfl rfl)
theorem dX5_town_31 : decode cX5_town 31 = .ok (.iconst 4, 1) := dk_7 (dk_at dksX5_town_1 7 rfl rfl)
theorem dX5_town_32 : decode cX5_town 32 = .ok (.iaload, 1) := dk_46 (dk_at dksX5_town_1 8 rfl rfl)
theorem dX5_town_33 : decode cX5_town 33 = .ok (.ifCond .ne 10, 3) := dk_154 0 10 (dk_at dksX5_town_1 9 rfl rfl)
theorem dX5_town_36 : decode cX5_town 36 = .ok (.aload_n 0, 1) := dk_42 (dk_at dksX5_town_1 12 rfl rfl)
theorem dX5_town_37 : decode cX5_town 37 = .ok (.invokevirtual 259, 3) := dk_182 1 3 (dk_at dksX5_town_1 13 rfl rfl)
theorem dX5_town_40 : decode cX5_town 40 = .ok (.goto 7, 3) := dk_167 0 7 (dk_at dksX5_town_1 16 rfl rfl)
theorem dX5_town_43 : decode cX5_town 43 = .ok (.aload_n 0, 1) := dk_42 (dk_at dksX5_town_1 19 rfl rfl)
theorem dX5_town_44 : decode cX5_town 44 = .ok (.invokevirtual 262, 3) := dk_182 1 6 (dk_at dksX5_town_1 20 rfl rfl)
theorem dX5_town_47 : decode cX5_town 47 = .ok (.aload_n 0, 1) := dk_42 (dk_at dksX5_town_1 23 rfl rfl)
theorem dX5_town_48 : decode cX5_town 48 = .ok (.invokevirtual 228, 3) := dk_182 0 228 (dk_at dksX5_town_2 0 rfl rfl)
theorem dX5_town_51 : decode cX5_town 51 = .ok (.ifCond .eq 7, 3) := dk_153 0 7 (dk_at dksX5_town_2 3 rfl rfl)
theorem dX5_town_54 : decode cX5_town 54 = .ok (.aload_n 0, 1) := dk_42 (dk_at dksX5_town_2 6 rfl rfl)
theorem dX5_town_55 : decode cX5_town 55 = .ok (.invokevirtual 265, 3) := dk_182 1 9 (dk_at dksX5_town_2 7 rfl rfl)
theorem dX5_town_58 : decode cX5_town 58 = .ok (.aload_n 0, 1) := dk_42 (dk_at dksX5_town_2 10 rfl rfl)
theorem dX5_town_59 : decode cX5_town 59 = .ok (.getfield 31, 3) := dk_180 0 31 (dk_at dksX5_town_2 11 rfl rfl)
theorem dX5_town_62 : decode cX5_town 62 = .ok (.iconst 4, 1) := dk_7 (dk_at dksX5_town_2 14 rfl rfl)
theorem dX5_town_63 : decode cX5_town 63 = .ok (.dup2, 1) := dk_92 (dk_at dksX5_town_2 15 rfl rfl)
theorem dX5_town_64 : decode cX5_town 64 = .ok (.iaload, 1) := dk_46 (dk_at dksX5_town_2 16 rfl rfl)
theorem dX5_town_65 : decode cX5_town 65 = .ok (.iconst 1, 1) := dk_4 (dk_at dksX5_town_2 17 rfl rfl)
theorem dX5_town_66 : decode cX5_town 66 = .ok (.iadd, 1) := dk_96 (dk_at dksX5_town_2 18 rfl rfl)
theorem dX5_town_67 : decode cX5_town 67 = .ok (.iastore, 1) := dk_79 (dk_at dksX5_town_2 19 rfl rfl)
theorem dX5_town_68 : decode cX5_town 68 = .ok (.goto (-55), 3) := dk_167 255 201 (dk_at dksX5_town_2 20 rfl rfl)
theorem dX5_town_71 : decode cX5_town 71 = .ok (.aload_n 0, 1) := dk_42 (dk_at dksX5_town_2 23 rfl rfl)
theorem dX5_town_72 : decode cX5_town 72 = .ok (.invokevirtual 268, 3) := dk_182 1 12 (dk_at dksX5_town_3 0 rfl rfl)
theorem dX5_town_75 : decode cX5_town 75 = .ok (.aload_n 0, 1) := dk_42 (dk_at dksX5_town_3 3 rfl rfl)
theorem dX5_town_76 : decode cX5_town 76 = .ok (.getfield 183, 3) := dk_180 0 183 (dk_at dksX5_town_3 4 rfl rfl)
theorem dX5_town_79 : decode cX5_town 79 = .ok (.ifCond .eq 6, 3) := dk_153 0 6 (dk_at dksX5_town_3 7 rfl rfl)
theorem dX5_town_82 : decode cX5_town 82 = .ok (.bipush (-4), 2) := dk_16 252 (dk_at dksX5_town_3 10 rfl rfl)
theorem dX5_town_84 : decode cX5_town 84 = .ok (.ireturn, 1) := dk_172 (dk_at dksX5_town_3 12 rfl rfl)
theorem dX5_town_85 : decode cX5_town 85 = .ok (.aload_n 0, 1) := dk_42 (dk_at dksX5_town_3 13 rfl rfl)
theorem dX5_town_86 : decode cX5_town 86 = .ok (.iconst 4, 1) := dk_7 (dk_at dksX5_town_3 14 rfl rfl)
theorem dX5_town_87 : decode cX5_town 87 = .ok (.iconst 0, 1) := dk_3 (dk_at dksX5_town_3 15 rfl rfl)
theorem dX5_town_88 : decode cX5_town 88 = .ok (.invokevirtual 271, 3) := dk_182 1 15 (dk_at dksX5_town_3 16 rfl rfl)
theorem dX5_town_91 : decode cX5_town 91 = .ok (.aload_n 0, 1) := dk_42 (dk_at dksX5_town_3 19 rfl rfl)
theorem dX5_town_92 : decode cX5_town 92 = .ok (.getfield 31, 3) := dk_180 0 31 (dk_at dksX5_town_3 20 rfl rfl)
theorem dX5_town_95 : decode cX5_town 95 = .ok (.iconst 0, 1) := dk_3 (dk_at dksX5_town_3 23 rfl rfl)
theorem dX5_town_96 : decode cX5_town 96 = .ok (.iaload, 1) := dk_46 (dk_at dksX5_town_4 0 rfl rfl)
theorem dX5_town_97 : decode cX5_town 97 = .ok (.ireturn, 1) := dk_172 (dk_at dksX5_town_4 1 rfl rfl)
abbrev cX5_clears : ByteArray := prog_10_method_32_code
def yX5_clears : MethodName := ⟨RX5, "clears", "()V"⟩
def dkwX5_clears_2 : List UInt8 := [79, 132, 1, 1, 167, 255, 236, 42, 180, 0, 49, 7, 3, 79, 177]
abbrev dktX5_clears_2 : List UInt8 := dkwX5_clears_2 ++ []
def dkwX5_clears_1 : List UInt8 := [132, 1, 1, 167, 255, 238, 3, 60, 27, 16, 32, 162, 0, 20, 42, 180, 0, 46, 17, 0, 128, 27, 96, 3]
abbrev dktX5_clears_1 : List UInt8 := dkwX5_clears_1 ++ dktX5_clears_2
def dkwX5_clears_0 : List UInt8 := [42, 180, 0, 31, 7, 3, 79, 3, 60, 27, 6, 162, 0, 19, 42, 180, 0, 34, 16, 12, 27, 96, 3, 79]
abbrev dktX5_clears_0 : List UInt8 := dkwX5_clears_0 ++ dktX5_clears_1
theorem dksX5_clears_0 : cX5_clears.data.toList.drop 0 = dktX5_clears_0 := by decide +kernel
theorem dksX5_clears_1 : cX5_clears.data.toList.drop 24 = dktX5_clears_1 := dk_seg dksX5_clears_0 24 rfl rfl
theorem dksX5_clears_2 : cX5_clears.data.toList.drop 48 = dktX5_clears_2 := dk_seg dksX5_clears_1 24 rfl rfl
theorem dX5_clears_0 : decode cX5_clears 0 = .ok (.aload_n 0, 1) := dk_42 (dk_at dksX5_clears_0 0 rfl rfl)
theorem dX5_clears_1 : decode cX5_clears 1 = .ok (.getfield 31, 3) := dk_180 0 31 (dk_at dksX5_clears_0 1 rfl rfl)
theorem dX5_clears_4 : decode cX5_clears 4 = .ok (.iconst 4, 1) := dk_7 (dk_at dksX5_clears_0 4 rfl rfl)
theorem dX5_clears_5 : decode cX5_clears 5 = .ok (.iconst 0, 1) := dk_3 (dk_at dksX5_clears_0 5 rfl rfl)
theorem dX5_clears_6 : decode cX5_clears 6 = .ok (.iastore, 1) := dk_79 (dk_at dksX5_clears_0 6 rfl rfl)
theorem dX5_clears_7 : decode cX5_clears 7 = .ok (.iconst 0, 1) := dk_3 (dk_at dksX5_clears_0 7 rfl rfl)
theorem dX5_clears_8 : decode cX5_clears 8 = .ok (.istore_n 1, 1) := dk_60 (dk_at dksX5_clears_0 8 rfl rfl)
theorem dX5_clears_9 : decode cX5_clears 9 = .ok (.iload_n 1, 1) := dk_27 (dk_at dksX5_clears_0 9 rfl rfl)
theorem dX5_clears_10 : decode cX5_clears 10 = .ok (.iconst 3, 1) := dk_6 (dk_at dksX5_clears_0 10 rfl rfl)
theorem dX5_clears_11 : decode cX5_clears 11 = .ok (.if_icmp .ge 19, 3) := dk_162 0 19 (dk_at dksX5_clears_0 11 rfl rfl)
theorem dX5_clears_14 : decode cX5_clears 14 = .ok (.aload_n 0, 1) := dk_42 (dk_at dksX5_clears_0 14 rfl rfl)
theorem dX5_clears_15 : decode cX5_clears 15 = .ok (.getfield 34, 3) := dk_180 0 34 (dk_at dksX5_clears_0 15 rfl rfl)
theorem dX5_clears_18 : decode cX5_clears 18 = .ok (.bipush 12, 2) := dk_16 12 (dk_at dksX5_clears_0 18 rfl rfl)
theorem dX5_clears_20 : decode cX5_clears 20 = .ok (.iload_n 1, 1) := dk_27 (dk_at dksX5_clears_0 20 rfl rfl)
theorem dX5_clears_21 : decode cX5_clears 21 = .ok (.iadd, 1) := dk_96 (dk_at dksX5_clears_0 21 rfl rfl)
theorem dX5_clears_22 : decode cX5_clears 22 = .ok (.iconst 0, 1) := dk_3 (dk_at dksX5_clears_0 22 rfl rfl)
theorem dX5_clears_23 : decode cX5_clears 23 = .ok (.iastore, 1) := dk_79 (dk_at dksX5_clears_0 23 rfl rfl)
theorem dX5_clears_24 : decode cX5_clears 24 = .ok (.iinc 1 1, 3) := dk_132 1 1 (dk_at dksX5_clears_1 0 rfl rfl)
theorem dX5_clears_27 : decode cX5_clears 27 = .ok (.goto (-18), 3) := dk_167 255 238 (dk_at dksX5_clears_1 3 rfl rfl)
theorem dX5_clears_30 : decode cX5_clears 30 = .ok (.iconst 0, 1) := dk_3 (dk_at dksX5_clears_1 6 rfl rfl)
theorem dX5_clears_31 : decode cX5_clears 31 = .ok (.istore_n 1, 1) := dk_60 (dk_at dksX5_clears_1 7 rfl rfl)
theorem dX5_clears_32 : decode cX5_clears 32 = .ok (.iload_n 1, 1) := dk_27 (dk_at dksX5_clears_1 8 rfl rfl)
theorem dX5_clears_33 : decode cX5_clears 33 = .ok (.bipush 32, 2) := dk_16 32 (dk_at dksX5_clears_1 9 rfl rfl)
theorem dX5_clears_35 : decode cX5_clears 35 = .ok (.if_icmp .ge 20, 3) := dk_162 0 20 (dk_at dksX5_clears_1 11 rfl rfl)
theorem dX5_clears_38 : decode cX5_clears 38 = .ok (.aload_n 0, 1) := dk_42 (dk_at dksX5_clears_1 14 rfl rfl)
theorem dX5_clears_39 : decode cX5_clears 39 = .ok (.getfield 46, 3) := dk_180 0 46 (dk_at dksX5_clears_1 15 rfl rfl)
theorem dX5_clears_42 : decode cX5_clears 42 = .ok (.sipush 128, 3) := dk_17 0 128 (dk_at dksX5_clears_1 18 rfl rfl)
theorem dX5_clears_45 : decode cX5_clears 45 = .ok (.iload_n 1, 1) := dk_27 (dk_at dksX5_clears_1 21 rfl rfl)
theorem dX5_clears_46 : decode cX5_clears 46 = .ok (.iadd, 1) := dk_96 (dk_at dksX5_clears_1 22 rfl rfl)
theorem dX5_clears_47 : decode cX5_clears 47 = .ok (.iconst 0, 1) := dk_3 (dk_at dksX5_clears_1 23 rfl rfl)
theorem dX5_clears_48 : decode cX5_clears 48 = .ok (.iastore, 1) := dk_79 (dk_at dksX5_clears_2 0 rfl rfl)
theorem dX5_clears_49 : decode cX5_clears 49 = .ok (.iinc 1 1, 3) := dk_132 1 1 (dk_at dksX5_clears_2 1 rfl rfl)
theorem dX5_clears_52 : decode cX5_clears 52 = .ok (.goto (-20), 3) := dk_167 255 236 (dk_at dksX5_clears_2 4 rfl rfl)
theorem dX5_clears_55 : decode cX5_clears 55 = .ok (.aload_n 0, 1) := dk_42 (dk_at dksX5_clears_2 7 rfl rfl)
theorem dX5_clears_56 : decode cX5_clears 56 = .ok (.getfield 49, 3) := dk_180 0 49 (dk_at dksX5_clears_2 8 rfl rfl)
theorem dX5_clears_59 : decode cX5_clears 59 = .ok (.iconst 4, 1) := dk_7 (dk_at dksX5_clears_2 11 rfl rfl)
theorem dX5_clears_60 : decode cX5_clears 60 = .ok (.iconst 0, 1) := dk_3 (dk_at dksX5_clears_2 12 rfl rfl)
theorem dX5_clears_61 : decode cX5_clears 61 = .ok (.iastore, 1) := dk_79 (dk_at dksX5_clears_2 13 rfl rfl)
theorem dX5_clears_62 : decode cX5_clears 62 = .ok (.return_, 1) := dk_177 (dk_at dksX5_clears_2 14 rfl rfl)
abbrev cX5_begins : ByteArray := prog_10_method_22_code
def yX5_begins : MethodName := ⟨RX5, "begins", "()V"⟩
def dkwX5_begins_0 : List UInt8 := [42, 3, 181, 0, 183, 42, 2, 181, 0, 186, 42, 3, 181, 0, 155, 42, 182, 0, 193, 177]
abbrev dktX5_begins_0 : List UInt8 := dkwX5_begins_0 ++ []
theorem dksX5_begins_0 : cX5_begins.data.toList.drop 0 = dktX5_begins_0 := by decide +kernel
theorem dX5_begins_0 : decode cX5_begins 0 = .ok (.aload_n 0, 1) := dk_42 (dk_at dksX5_begins_0 0 rfl rfl)
theorem dX5_begins_1 : decode cX5_begins 1 = .ok (.iconst 0, 1) := dk_3 (dk_at dksX5_begins_0 1 rfl rfl)
theorem dX5_begins_2 : decode cX5_begins 2 = .ok (.putfield 183, 3) := dk_181 0 183 (dk_at dksX5_begins_0 2 rfl rfl)
theorem dX5_begins_5 : decode cX5_begins 5 = .ok (.aload_n 0, 1) := dk_42 (dk_at dksX5_begins_0 5 rfl rfl)
theorem dX5_begins_6 : decode cX5_begins 6 = .ok (.iconst (-1), 1) := dk_2 (dk_at dksX5_begins_0 6 rfl rfl)
theorem dX5_begins_7 : decode cX5_begins 7 = .ok (.putfield 186, 3) := dk_181 0 186 (dk_at dksX5_begins_0 7 rfl rfl)
theorem dX5_begins_10 : decode cX5_begins 10 = .ok (.aload_n 0, 1) := dk_42 (dk_at dksX5_begins_0 10 rfl rfl)
theorem dX5_begins_11 : decode cX5_begins 11 = .ok (.iconst 0, 1) := dk_3 (dk_at dksX5_begins_0 11 rfl rfl)
theorem dX5_begins_12 : decode cX5_begins 12 = .ok (.putfield 155, 3) := dk_181 0 155 (dk_at dksX5_begins_0 12 rfl rfl)
theorem dX5_begins_15 : decode cX5_begins 15 = .ok (.aload_n 0, 1) := dk_42 (dk_at dksX5_begins_0 15 rfl rfl)
theorem dX5_begins_16 : decode cX5_begins 16 = .ok (.invokevirtual 193, 3) := dk_182 0 193 (dk_at dksX5_begins_0 16 rfl rfl)
theorem dX5_begins_19 : decode cX5_begins 19 = .ok (.return_, 1) := dk_177 (dk_at dksX5_begins_0 19 rfl rfl)
abbrev cX5_next : ByteArray := prog_10_method_13_code
def yX5_next : MethodName := ⟨RX5, "next", "()V"⟩
def dkwX5_next_13 : List UInt8 := [181, 0, 155, 177]
abbrev dktX5_next_13 : List UInt8 := dkwX5_next_13 ++ []
def dkwX5_next_12 : List UInt8 := [180, 0, 155, 51, 16, 59, 160, 0, 7, 6, 167, 0, 4, 7, 181, 0, 172, 42, 89, 180, 0, 155, 4, 96]
abbrev dktX5_next_12 : List UInt8 := dkwX5_next_12 ++ dktX5_next_13
def dkwX5_next_11 : List UInt8 := [181, 0, 165, 42, 89, 180, 0, 155, 4, 96, 181, 0, 155, 167, 255, 193, 42, 42, 180, 0, 23, 42]
abbrev dktX5_next_11 : List UInt8 := dkwX5_next_11 ++ dktX5_next_12
def dkwX5_next_10 : List UInt8 := [167, 0, 23, 16, 10, 42, 180, 0, 165, 104, 42, 180, 0, 23, 42, 180, 0, 155, 51, 96, 16, 48, 100]
abbrev dktX5_next_10 : List UInt8 := dkwX5_next_10 ++ dktX5_next_11
def dkwX5_next_9 : List UInt8 := [16, 48, 16, 57, 182, 0, 158, 153, 0, 87, 42, 42, 180, 0, 165, 18, 181, 164, 0, 8, 18, 182]
abbrev dktX5_next_9 : List UInt8 := dkwX5_next_9 ++ dktX5_next_10
def dkwX5_next_8 : List UInt8 := [180, 0, 155, 16, 48, 16, 57, 182, 0, 158, 153, 0, 74, 42, 5, 181, 0, 172, 42, 42, 180, 0, 155]
abbrev dktX5_next_8 : List UInt8 := dkwX5_next_8 ++ dktX5_next_9
def dkwX5_next_7 : List UInt8 := [181, 0, 168, 42, 89, 180, 0, 155, 4, 96, 181, 0, 155, 132, 1, 1, 167, 255, 176, 167, 0, 122, 42, 42]
abbrev dktX5_next_7 : List UInt8 := dkwX5_next_7 ++ dktX5_next_8
def dkwX5_next_6 : List UInt8 := [180, 0, 155, 51, 133, 97, 20, 0, 179, 101, 181, 0, 168, 27, 16, 11, 164, 0, 10, 42, 20, 0, 175]
abbrev dktX5_next_6 : List UInt8 := dkwX5_next_6 ++ dktX5_next_7
def dkwX5_next_5 : List UInt8 := [16, 11, 164, 0, 9, 20, 0, 175, 167, 0, 26, 20, 0, 177, 42, 180, 0, 168, 105, 42, 180, 0, 23, 42]
abbrev dktX5_next_5 : List UInt8 := dkwX5_next_5 ++ dktX5_next_6
def dkwX5_next_4 : List UInt8 := [4, 181, 0, 172, 3, 60, 42, 42, 180, 0, 155, 16, 97, 16, 122, 182, 0, 158, 153, 0, 71, 42, 27]
abbrev dktX5_next_4 : List UInt8 := dkwX5_next_4 ++ dktX5_next_5
def dkwX5_next_3 : List UInt8 := [42, 3, 181, 0, 172, 167, 0, 230, 42, 42, 180, 0, 155, 16, 97, 16, 122, 182, 0, 158, 153, 0, 96, 42]
abbrev dktX5_next_3 : List UInt8 := dkwX5_next_3 ++ dktX5_next_4
def dkwX5_next_2 : List UInt8 := [181, 0, 162, 42, 3, 181, 0, 165, 42, 9, 181, 0, 168, 42, 180, 0, 155, 42, 180, 0, 148, 160, 0, 11]
abbrev dktX5_next_2 : List UInt8 := dkwX5_next_2 ++ dktX5_next_3
def dkwX5_next_1 : List UInt8 := [182, 0, 158, 153, 0, 16, 42, 89, 180, 0, 155, 4, 96, 181, 0, 155, 167, 255, 216, 42, 42, 180, 0, 155]
abbrev dktX5_next_1 : List UInt8 := dkwX5_next_1 ++ dktX5_next_2
def dkwX5_next_0 : List UInt8 := [42, 42, 180, 0, 155, 16, 32, 16, 32, 182, 0, 158, 154, 0, 18, 42, 42, 180, 0, 155, 16, 10, 16, 10]
abbrev dktX5_next_0 : List UInt8 := dkwX5_next_0 ++ dktX5_next_1
theorem dksX5_next_0 : cX5_next.data.toList.drop 0 = dktX5_next_0 := by decide +kernel
theorem dksX5_next_1 : cX5_next.data.toList.drop 24 = dktX5_next_1 := dk_seg dksX5_next_0 24 rfl rfl
theorem dksX5_next_2 : cX5_next.data.toList.drop 48 = dktX5_next_2 := dk_seg dksX5_next_1 24 rfl rfl
theorem dksX5_next_3 : cX5_next.data.toList.drop 72 = dktX5_next_3 := dk_seg dksX5_next_2 24 rfl rfl
theorem dksX5_next_4 : cX5_next.data.toList.drop 96 = dktX5_next_4 := dk_seg dksX5_next_3 24 rfl rfl
theorem dksX5_next_5 : cX5_next.data.toList.drop 119 = dktX5_next_5 := dk_seg dksX5_next_4 23 rfl rfl
theorem dksX5_next_6 : cX5_next.data.toList.drop 143 = dktX5_next_6 := dk_seg dksX5_next_5 24 rfl rfl
theorem dksX5_next_7 : cX5_next.data.toList.drop 166 = dktX5_next_7 := dk_seg dksX5_next_6 23 rfl rfl
theorem dksX5_next_8 : cX5_next.data.toList.drop 190 = dktX5_next_8 := dk_seg dksX5_next_7 24 rfl rfl
theorem dksX5_next_9 : cX5_next.data.toList.drop 213 = dktX5_next_9 := dk_seg dksX5_next_8 23 rfl rfl
theorem dksX5_next_10 : cX5_next.data.toList.drop 235 = dktX5_next_10 := dk_seg dksX5_next_9 22 rfl rfl
theorem dksX5_next_11 : cX5_next.data.toList.drop 258 = dktX5_next_11 := dk_seg dksX5_next_10 23 rfl rfl
theorem dksX5_next_12 : cX5_next.data.toList.drop 280 = dktX5_next_12 := dk_seg dksX5_next_11 22 rfl rfl
theorem dksX5_next_13 : cX5_next.data.toList.drop 304 = dktX5_next_13 := dk_seg dksX5_next_12 24 rfl rfl
theorem dX5_next_0 : decode cX5_next 0 = .ok (.aload_n 0, 1) := dk_42 (dk_at dksX5_next_0 0 rfl rfl)
theorem dX5_next_1 : decode cX5_next 1 = .ok (.aload_n 0, 1) := dk_42 (dk_at dksX5_next_0 1 rfl rfl)
theorem dX5_next_2 : decode cX5_next 2 = .ok (.getfield 155, 3) := dk_180 0 155 (dk_at dksX5_next_0 2 rfl rfl)
theorem dX5_next_5 : decode cX5_next 5 = .ok (.bipush 32, 2) := dk_16 32 (dk_at dksX5_next_0 5 rfl rfl)
theorem dX5_next_7 : decode cX5_next 7 = .ok (.bipush 32, 2) := dk_16 32 (dk_at dksX5_next_0 7 rfl rfl)
theorem dX5_next_9 : decode cX5_next 9 = .ok (.invokevirtual 158, 3) := dk_182 0 158 (dk_at dksX5_next_0 9 rfl rfl)
theorem dX5_next_12 : decode cX5_next 12 = .ok (.ifCond .ne 18, 3) := dk_154 0 18 (dk_at dksX5_next_0 12 rfl rfl)
theorem dX5_next_15 : decode cX5_next 15 = .ok (.aload_n 0, 1) := dk_42 (dk_at dksX5_next_0 15 rfl rfl)
theorem dX5_next_16 : decode cX5_next 16 = .ok (.aload_n 0, 1) := dk_42 (dk_at dksX5_next_0 16 rfl rfl)
theorem dX5_next_17 : decode cX5_next 17 = .ok (.getfield 155, 3) := dk_180 0 155 (dk_at dksX5_next_0 17 rfl rfl)
theorem dX5_next_20 : decode cX5_next 20 = .ok (.bipush 10, 2) := dk_16 10 (dk_at dksX5_next_0 20 rfl rfl)
theorem dX5_next_22 : decode cX5_next 22 = .ok (.bipush 10, 2) := dk_16 10 (dk_at dksX5_next_0 22 rfl rfl)
theorem dX5_next_24 : decode cX5_next 24 = .ok (.invokevirtual 158, 3) := dk_182 0 158 (dk_at dksX5_next_1 0 rfl rfl)
theorem dX5_next_27 : decode cX5_next 27 = .ok (.ifCond .eq 16, 3) := dk_153 0 16 (dk_at dksX5_next_1 3 rfl rfl)
theorem dX5_next_30 : decode cX5_next 30 = .ok (.aload_n 0, 1) := dk_42 (dk_at dksX5_next_1 6 rfl rfl)
theorem dX5_next_31 : decode cX5_next 31 = .ok (.dup, 1) := dk_89 (dk_at dksX5_next_1 7 rfl rfl)
theorem dX5_next_32 : decode cX5_next 32 = .ok (.getfield 155, 3) := dk_180 0 155 (dk_at dksX5_next_1 8 rfl rfl)
theorem dX5_next_35 : decode cX5_next 35 = .ok (.iconst 1, 1) := dk_4 (dk_at dksX5_next_1 11 rfl rfl)
theorem dX5_next_36 : decode cX5_next 36 = .ok (.iadd, 1) := dk_96 (dk_at dksX5_next_1 12 rfl rfl)
theorem dX5_next_37 : decode cX5_next 37 = .ok (.putfield 155, 3) := dk_181 0 155 (dk_at dksX5_next_1 13 rfl rfl)
theorem dX5_next_40 : decode cX5_next 40 = .ok (.goto (-40), 3) := dk_167 255 216 (dk_at dksX5_next_1 16 rfl rfl)
theorem dX5_next_43 : decode cX5_next 43 = .ok (.aload_n 0, 1) := dk_42 (dk_at dksX5_next_1 19 rfl rfl)
theorem dX5_next_44 : decode cX5_next 44 = .ok (.aload_n 0, 1) := dk_42 (dk_at dksX5_next_1 20 rfl rfl)
theorem dX5_next_45 : decode cX5_next 45 = .ok (.getfield 155, 3) := dk_180 0 155 (dk_at dksX5_next_1 21 rfl rfl)
theorem dX5_next_48 : decode cX5_next 48 = .ok (.putfield 162, 3) := dk_181 0 162 (dk_at dksX5_next_2 0 rfl rfl)
theorem dX5_next_51 : decode cX5_next 51 = .ok (.aload_n 0, 1) := dk_42 (dk_at dksX5_next_2 3 rfl rfl)
theorem dX5_next_52 : decode cX5_next 52 = .ok (.iconst 0, 1) := dk_3 (dk_at dksX5_next_2 4 rfl rfl)
theorem dX5_next_53 : decode cX5_next 53 = .ok (.putfield 165, 3) := dk_181 0 165 (dk_at dksX5_next_2 5 rfl rfl)
theorem dX5_next_56 : decode cX5_next 56 = .ok (.aload_n 0, 1) := dk_42 (dk_at dksX5_next_2 8 rfl rfl)
theorem dX5_next_57 : decode cX5_next 57 = .ok (.lconst 0, 1) := dk_9 (dk_at dksX5_next_2 9 rfl rfl)
theorem dX5_next_58 : decode cX5_next 58 = .ok (.putfield 168, 3) := dk_181 0 168 (dk_at dksX5_next_2 10 rfl rfl)
theorem dX5_next_61 : decode cX5_next 61 = .ok (.aload_n 0, 1) := dk_42 (dk_at dksX5_next_2 13 rfl rfl)
theorem dX5_next_62 : decode cX5_next 62 = .ok (.getfield 155, 3) := dk_180 0 155 (dk_at dksX5_next_2 14 rfl rfl)
theorem dX5_next_65 : decode cX5_next 65 = .ok (.aload_n 0, 1) := dk_42 (dk_at dksX5_next_2 17 rfl rfl)
theorem dX5_next_66 : decode cX5_next 66 = .ok (.getfield 148, 3) := dk_180 0 148 (dk_at dksX5_next_2 18 rfl rfl)
theorem dX5_next_69 : decode cX5_next 69 = .ok (.if_icmp .ne 11, 3) := dk_160 0 11 (dk_at dksX5_next_2 21 rfl rfl)
theorem dX5_next_72 : decode cX5_next 72 = .ok (.aload_n 0, 1) := dk_42 (dk_at dksX5_next_3 0 rfl rfl)
theorem dX5_next_73 : decode cX5_next 73 = .ok (.iconst 0, 1) := dk_3 (dk_at dksX5_next_3 1 rfl rfl)
theorem dX5_next_74 : decode cX5_next 74 = .ok (.putfield 172, 3) := dk_181 0 172 (dk_at dksX5_next_3 2 rfl rfl)
theorem dX5_next_77 : decode cX5_next 77 = .ok (.goto 230, 3) := dk_167 0 230 (dk_at dksX5_next_3 5 rfl rfl)
theorem dX5_next_80 : decode cX5_next 80 = .ok (.aload_n 0, 1) := dk_42 (dk_at dksX5_next_3 8 rfl rfl)
theorem dX5_next_81 : decode cX5_next 81 = .ok (.aload_n 0, 1) := dk_42 (dk_at dksX5_next_3 9 rfl rfl)
theorem dX5_next_82 : decode cX5_next 82 = .ok (.getfield 155, 3) := dk_180 0 155 (dk_at dksX5_next_3 10 rfl rfl)
theorem dX5_next_85 : decode cX5_next 85 = .ok (.bipush 97, 2) := dk_16 97 (dk_at dksX5_next_3 13 rfl rfl)
theorem dX5_next_87 : decode cX5_next 87 = .ok (.bipush 122, 2) := dk_16 122 (dk_at dksX5_next_3 15 rfl rfl)
theorem dX5_next_89 : decode cX5_next 89 = .ok (.invokevirtual 158, 3) := dk_182 0 158 (dk_at dksX5_next_3 17 rfl rfl)
theorem dX5_next_92 : decode cX5_next 92 = .ok (.ifCond .eq 96, 3) := dk_153 0 96 (dk_at dksX5_next_3 20 rfl rfl)
theorem dX5_next_95 : decode cX5_next 95 = .ok (.aload_n 0, 1) := dk_42 (dk_at dksX5_next_3 23 rfl rfl)
theorem dX5_next_96 : decode cX5_next 96 = .ok (.iconst 1, 1) := dk_4 (dk_at dksX5_next_4 0 rfl rfl)
theorem dX5_next_97 : decode cX5_next 97 = .ok (.putfield 172, 3) := dk_181 0 172 (dk_at dksX5_next_4 1 rfl rfl)
theorem dX5_next_100 : decode cX5_next 100 = .ok (.iconst 0, 1) := dk_3 (dk_at dksX5_next_4 4 rfl rfl)
theorem dX5_next_101 : decode cX5_next 101 = .ok (.istore_n 1, 1) := dk_60 (dk_at dksX5_next_4 5 rfl rfl)
theorem dX5_next_102 : decode cX5_next 102 = .ok (.aload_n 0, 1) := dk_42 (dk_at dksX5_next_4 6 rfl rfl)
theorem dX5_next_103 : decode cX5_next 103 = .ok (.aload_n 0, 1) := dk_42 (dk_at dksX5_next_4 7 rfl rfl)
theorem dX5_next_104 : decode cX5_next 104 = .ok (.getfield 155, 3) := dk_180 0 155 (dk_at dksX5_next_4 8 rfl rfl)
theorem dX5_next_107 : decode cX5_next 107 = .ok (.bipush 97, 2) := dk_16 97 (dk_at dksX5_next_4 11 rfl rfl)
theorem dX5_next_109 : decode cX5_next 109 = .ok (.bipush 122, 2) := dk_16 122 (dk_at dksX5_next_4 13 rfl rfl)
theorem dX5_next_111 : decode cX5_next 111 = .ok (.invokevirtual 158, 3) := dk_182 0 158 (dk_at dksX5_next_4 15 rfl rfl)
theorem dX5_next_114 : decode cX5_next 114 = .ok (.ifCond .eq 71, 3) := dk_153 0 71 (dk_at dksX5_next_4 18 rfl rfl)
theorem dX5_next_117 : decode cX5_next 117 = .ok (.aload_n 0, 1) := dk_42 (dk_at dksX5_next_4 21 rfl rfl)
theorem dX5_next_118 : decode cX5_next 118 = .ok (.iload_n 1, 1) := dk_27 (dk_at dksX5_next_4 22 rfl rfl)
theorem dX5_next_119 : decode cX5_next 119 = .ok (.bipush 11, 2) := dk_16 11 (dk_at dksX5_next_5 0 rfl rfl)
theorem dX5_next_121 : decode cX5_next 121 = .ok (.if_icmp .le 9, 3) := dk_164 0 9 (dk_at dksX5_next_5 2 rfl rfl)
theorem dX5_next_124 : decode cX5_next 124 = .ok (.ldc2_w 175, 3) := dk_20 0 175 (dk_at dksX5_next_5 5 rfl rfl)
theorem dX5_next_127 : decode cX5_next 127 = .ok (.goto 26, 3) := dk_167 0 26 (dk_at dksX5_next_5 8 rfl rfl)
theorem dX5_next_130 : decode cX5_next 130 = .ok (.ldc2_w 177, 3) := dk_20 0 177 (dk_at dksX5_next_5 11 rfl rfl)
theorem dX5_next_133 : decode cX5_next 133 = .ok (.aload_n 0, 1) := dk_42 (dk_at dksX5_next_5 14 rfl rfl)
theorem dX5_next_134 : decode cX5_next 134 = .ok (.getfield 168, 3) := dk_180 0 168 (dk_at dksX5_next_5 15 rfl rfl)
theorem dX5_next_137 : decode cX5_next 137 = .ok (.lmul, 1) := dk_105 (dk_at dksX5_next_5 18 rfl rfl)
theorem dX5_next_138 : decode cX5_next 138 = .ok (.aload_n 0, 1) := dk_42 (dk_at dksX5_next_5 19 rfl rfl)
theorem dX5_next_139 : decode cX5_next 139 = .ok (.getfield 23, 3) := dk_180 0 23 (dk_at dksX5_next_5 20 rfl rfl)
theorem dX5_next_142 : decode cX5_next 142 = .ok (.aload_n 0, 1) := dk_42 (dk_at dksX5_next_5 23 rfl rfl)
theorem dX5_next_143 : decode cX5_next 143 = .ok (.getfield 155, 3) := dk_180 0 155 (dk_at dksX5_next_6 0 rfl rfl)
theorem dX5_next_146 : decode cX5_next 146 = .ok (.baload, 1) := dk_51 (dk_at dksX5_next_6 3 rfl rfl)
theorem dX5_next_147 : decode cX5_next 147 = .ok (.i2l, 1) := dk_133 (dk_at dksX5_next_6 4 rfl rfl)
theorem dX5_next_148 : decode cX5_next 148 = .ok (.ladd, 1) := dk_97 (dk_at dksX5_next_6 5 rfl rfl)
theorem dX5_next_149 : decode cX5_next 149 = .ok (.ldc2_w 179, 3) := dk_20 0 179 (dk_at dksX5_next_6 6 rfl rfl)
theorem dX5_next_152 : decode cX5_next 152 = .ok (.lsub, 1) := dk_101 (dk_at dksX5_next_6 9 rfl rfl)
theorem dX5_next_153 : decode cX5_next 153 = .ok (.putfield 168, 3) := dk_181 0 168 (dk_at dksX5_next_6 10 rfl rfl)
theorem dX5_next_156 : decode cX5_next 156 = .ok (.iload_n 1, 1) := dk_27 (dk_at dksX5_next_6 13 rfl rfl)
theorem dX5_next_157 : decode cX5_next 157 = .ok (.bipush 11, 2) := dk_16 11 (dk_at dksX5_next_6 14 rfl rfl)
theorem dX5_next_159 : decode cX5_next 159 = .ok (.if_icmp .le 10, 3) := dk_164 0 10 (dk_at dksX5_next_6 16 rfl rfl)
theorem dX5_next_162 : decode cX5_next 162 = .ok (.aload_n 0, 1) := dk_42 (dk_at dksX5_next_6 19 rfl rfl)
theorem dX5_next_163 : decode cX5_next 163 = .ok (.ldc2_w 175, 3) := dk_20 0 175 (dk_at dksX5_next_6 20 rfl rfl)
theorem dX5_next_166 : decode cX5_next 166 = .ok (.putfield 168, 3) := dk_181 0 168 (dk_at dksX5_next_7 0 rfl rfl)
theorem dX5_next_169 : decode cX5_next 169 = .ok (.aload_n 0, 1) := dk_42 (dk_at dksX5_next_7 3 rfl rfl)
theorem dX5_next_170 : decode cX5_next 170 = .ok (.dup, 1) := dk_89 (dk_at dksX5_next_7 4 rfl rfl)
theorem dX5_next_171 : decode cX5_next 171 = .ok (.getfield 155, 3) := dk_180 0 155 (dk_at dksX5_next_7 5 rfl rfl)
theorem dX5_next_174 : decode cX5_next 174 = .ok (.iconst 1, 1) := dk_4 (dk_at dksX5_next_7 8 rfl rfl)
theorem dX5_next_175 : decode cX5_next 175 = .ok (.iadd, 1) := dk_96 (dk_at dksX5_next_7 9 rfl rfl)
theorem dX5_next_176 : decode cX5_next 176 = .ok (.putfield 155, 3) := dk_181 0 155 (dk_at dksX5_next_7 10 rfl rfl)
theorem dX5_next_179 : decode cX5_next 179 = .ok (.iinc 1 1, 3) := dk_132 1 1 (dk_at dksX5_next_7 13 rfl rfl)
theorem dX5_next_182 : decode cX5_next 182 = .ok (.goto (-80), 3) := dk_167 255 176 (dk_at dksX5_next_7 16 rfl rfl)
theorem dX5_next_185 : decode cX5_next 185 = .ok (.goto 122, 3) := dk_167 0 122 (dk_at dksX5_next_7 19 rfl rfl)
theorem dX5_next_188 : decode cX5_next 188 = .ok (.aload_n 0, 1) := dk_42 (dk_at dksX5_next_7 22 rfl rfl)
theorem dX5_next_189 : decode cX5_next 189 = .ok (.aload_n 0, 1) := dk_42 (dk_at dksX5_next_7 23 rfl rfl)
theorem dX5_next_190 : decode cX5_next 190 = .ok (.getfield 155, 3) := dk_180 0 155 (dk_at dksX5_next_8 0 rfl rfl)
theorem dX5_next_193 : decode cX5_next 193 = .ok (.bipush 48, 2) := dk_16 48 (dk_at dksX5_next_8 3 rfl rfl)
theorem dX5_next_195 : decode cX5_next 195 = .ok (.bipush 57, 2) := dk_16 57 (dk_at dksX5_next_8 5 rfl rfl)
theorem dX5_next_197 : decode cX5_next 197 = .ok (.invokevirtual 158, 3) := dk_182 0 158 (dk_at dksX5_next_8 7 rfl rfl)
theorem dX5_next_200 : decode cX5_next 200 = .ok (.ifCond .eq 74, 3) := dk_153 0 74 (dk_at dksX5_next_8 10 rfl rfl)
theorem dX5_next_203 : decode cX5_next 203 = .ok (.aload_n 0, 1) := dk_42 (dk_at dksX5_next_8 13 rfl rfl)
theorem dX5_next_204 : decode cX5_next 204 = .ok (.iconst 2, 1) := dk_5 (dk_at dksX5_next_8 14 rfl rfl)
theorem dX5_next_205 : decode cX5_next 205 = .ok (.putfield 172, 3) := dk_181 0 172 (dk_at dksX5_next_8 15 rfl rfl)
theorem dX5_next_208 : decode cX5_next 208 = .ok (.aload_n 0, 1) := dk_42 (dk_at dksX5_next_8 18 rfl rfl)
theorem dX5_next_209 : decode cX5_next 209 = .ok (.aload_n 0, 1) := dk_42 (dk_at dksX5_next_8 19 rfl rfl)
theorem dX5_next_210 : decode cX5_next 210 = .ok (.getfield 155, 3) := dk_180 0 155 (dk_at dksX5_next_8 20 rfl rfl)
theorem dX5_next_213 : decode cX5_next 213 = .ok (.bipush 48, 2) := dk_16 48 (dk_at dksX5_next_9 0 rfl rfl)
theorem dX5_next_215 : decode cX5_next 215 = .ok (.bipush 57, 2) := dk_16 57 (dk_at dksX5_next_9 2 rfl rfl)
theorem dX5_next_217 : decode cX5_next 217 = .ok (.invokevirtual 158, 3) := dk_182 0 158 (dk_at dksX5_next_9 4 rfl rfl)
theorem dX5_next_220 : decode cX5_next 220 = .ok (.ifCond .eq 87, 3) := dk_153 0 87 (dk_at dksX5_next_9 7 rfl rfl)
theorem dX5_next_223 : decode cX5_next 223 = .ok (.aload_n 0, 1) := dk_42 (dk_at dksX5_next_9 10 rfl rfl)
theorem dX5_next_224 : decode cX5_next 224 = .ok (.aload_n 0, 1) := dk_42 (dk_at dksX5_next_9 11 rfl rfl)
theorem dX5_next_225 : decode cX5_next 225 = .ok (.getfield 165, 3) := dk_180 0 165 (dk_at dksX5_next_9 12 rfl rfl)
theorem dX5_next_228 : decode cX5_next 228 = .ok (.ldc 181, 2) := dk_18 181 (dk_at dksX5_next_9 15 rfl rfl)
theorem dX5_next_230 : decode cX5_next 230 = .ok (.if_icmp .le 8, 3) := dk_164 0 8 (dk_at dksX5_next_9 17 rfl rfl)
theorem dX5_next_233 : decode cX5_next 233 = .ok (.ldc 182, 2) := dk_18 182 (dk_at dksX5_next_9 20 rfl rfl)
theorem dX5_next_235 : decode cX5_next 235 = .ok (.goto 23, 3) := dk_167 0 23 (dk_at dksX5_next_10 0 rfl rfl)
theorem dX5_next_238 : decode cX5_next 238 = .ok (.bipush 10, 2) := dk_16 10 (dk_at dksX5_next_10 3 rfl rfl)
theorem dX5_next_240 : decode cX5_next 240 = .ok (.aload_n 0, 1) := dk_42 (dk_at dksX5_next_10 5 rfl rfl)
theorem dX5_next_241 : decode cX5_next 241 = .ok (.getfield 165, 3) := dk_180 0 165 (dk_at dksX5_next_10 6 rfl rfl)
theorem dX5_next_244 : decode cX5_next 244 = .ok (.imul, 1) := dk_104 (dk_at dksX5_next_10 9 rfl rfl)
theorem dX5_next_245 : decode cX5_next 245 = .ok (.aload_n 0, 1) := dk_42 (dk_at dksX5_next_10 10 rfl rfl)
theorem dX5_next_246 : decode cX5_next 246 = .ok (.getfield 23, 3) := dk_180 0 23 (dk_at dksX5_next_10 11 rfl rfl)
theorem dX5_next_249 : decode cX5_next 249 = .ok (.aload_n 0, 1) := dk_42 (dk_at dksX5_next_10 14 rfl rfl)
theorem dX5_next_250 : decode cX5_next 250 = .ok (.getfield 155, 3) := dk_180 0 155 (dk_at dksX5_next_10 15 rfl rfl)
theorem dX5_next_253 : decode cX5_next 253 = .ok (.baload, 1) := dk_51 (dk_at dksX5_next_10 18 rfl rfl)
theorem dX5_next_254 : decode cX5_next 254 = .ok (.iadd, 1) := dk_96 (dk_at dksX5_next_10 19 rfl rfl)
theorem dX5_next_255 : decode cX5_next 255 = .ok (.bipush 48, 2) := dk_16 48 (dk_at dksX5_next_10 20 rfl rfl)
theorem dX5_next_257 : decode cX5_next 257 = .ok (.isub, 1) := dk_100 (dk_at dksX5_next_10 22 rfl rfl)
theorem dX5_next_258 : decode cX5_next 258 = .ok (.putfield 165, 3) := dk_181 0 165 (dk_at dksX5_next_11 0 rfl rfl)
theorem dX5_next_261 : decode cX5_next 261 = .ok (.aload_n 0, 1) := dk_42 (dk_at dksX5_next_11 3 rfl rfl)
theorem dX5_next_262 : decode cX5_next 262 = .ok (.dup, 1) := dk_89 (dk_at dksX5_next_11 4 rfl rfl)
theorem dX5_next_263 : decode cX5_next 263 = .ok (.getfield 155, 3) := dk_180 0 155 (dk_at dksX5_next_11 5 rfl rfl)
theorem dX5_next_266 : decode cX5_next 266 = .ok (.iconst 1, 1) := dk_4 (dk_at dksX5_next_11 8 rfl rfl)
theorem dX5_next_267 : decode cX5_next 267 = .ok (.iadd, 1) := dk_96 (dk_at dksX5_next_11 9 rfl rfl)
theorem dX5_next_268 : decode cX5_next 268 = .ok (.putfield 155, 3) := dk_181 0 155 (dk_at dksX5_next_11 10 rfl rfl)
theorem dX5_next_271 : decode cX5_next 271 = .ok (.goto (-63), 3) := dk_167 255 193 (dk_at dksX5_next_11 13 rfl rfl)
theorem dX5_next_274 : decode cX5_next 274 = .ok (.aload_n 0, 1) := dk_42 (dk_at dksX5_next_11 16 rfl rfl)
theorem dX5_next_275 : decode cX5_next 275 = .ok (.aload_n 0, 1) := dk_42 (dk_at dksX5_next_11 17 rfl rfl)
theorem dX5_next_276 : decode cX5_next 276 = .ok (.getfield 23, 3) := dk_180 0 23 (dk_at dksX5_next_11 18 rfl rfl)
theorem dX5_next_279 : decode cX5_next 279 = .ok (.aload_n 0, 1) := dk_42 (dk_at dksX5_next_11 21 rfl rfl)
theorem dX5_next_280 : decode cX5_next 280 = .ok (.getfield 155, 3) := dk_180 0 155 (dk_at dksX5_next_12 0 rfl rfl)
theorem dX5_next_283 : decode cX5_next 283 = .ok (.baload, 1) := dk_51 (dk_at dksX5_next_12 3 rfl rfl)
theorem dX5_next_284 : decode cX5_next 284 = .ok (.bipush 59, 2) := dk_16 59 (dk_at dksX5_next_12 4 rfl rfl)
theorem dX5_next_286 : decode cX5_next 286 = .ok (.if_icmp .ne 7, 3) := dk_160 0 7 (dk_at dksX5_next_12 6 rfl rfl)
theorem dX5_next_289 : decode cX5_next 289 = .ok (.iconst 3, 1) := dk_6 (dk_at dksX5_next_12 9 rfl rfl)
theorem dX5_next_290 : decode cX5_next 290 = .ok (.goto 4, 3) := dk_167 0 4 (dk_at dksX5_next_12 10 rfl rfl)
theorem dX5_next_293 : decode cX5_next 293 = .ok (.iconst 4, 1) := dk_7 (dk_at dksX5_next_12 13 rfl rfl)
theorem dX5_next_294 : decode cX5_next 294 = .ok (.putfield 172, 3) := dk_181 0 172 (dk_at dksX5_next_12 14 rfl rfl)
theorem dX5_next_297 : decode cX5_next 297 = .ok (.aload_n 0, 1) := dk_42 (dk_at dksX5_next_12 17 rfl rfl)
theorem dX5_next_298 : decode cX5_next 298 = .ok (.dup, 1) := dk_89 (dk_at dksX5_next_12 18 rfl rfl)
theorem dX5_next_299 : decode cX5_next 299 = .ok (.getfield 155, 3) := dk_180 0 155 (dk_at dksX5_next_12 19 rfl rfl)
theorem dX5_next_302 : decode cX5_next 302 = .ok (.iconst 1, 1) := dk_4 (dk_at dksX5_next_12 22 rfl rfl)
theorem dX5_next_303 : decode cX5_next 303 = .ok (.iadd, 1) := dk_96 (dk_at dksX5_next_12 23 rfl rfl)
theorem dX5_next_304 : decode cX5_next 304 = .ok (.putfield 155, 3) := dk_181 0 155 (dk_at dksX5_next_13 0 rfl rfl)
theorem dX5_next_307 : decode cX5_next 307 = .ok (.return_, 1) := dk_177 (dk_at dksX5_next_13 3 rfl rfl)
abbrev cX5_isByte : ByteArray := prog_10_method_12_code
def yX5_isByte : MethodName := ⟨RX5, "isByte", "(III)Z"⟩
def dkwX5_isByte_1 : List UInt8 := [29, 163, 0, 7, 4, 167, 0, 4, 3, 172]
abbrev dktX5_isByte_1 : List UInt8 := dkwX5_isByte_1 ++ []
def dkwX5_isByte_0 : List UInt8 := [27, 42, 180, 0, 148, 162, 0, 27, 42, 180, 0, 23, 27, 51, 28, 161, 0, 17, 42, 180, 0, 23, 27, 51]
abbrev dktX5_isByte_0 : List UInt8 := dkwX5_isByte_0 ++ dktX5_isByte_1
theorem dksX5_isByte_0 : cX5_isByte.data.toList.drop 0 = dktX5_isByte_0 := by decide +kernel
theorem dksX5_isByte_1 : cX5_isByte.data.toList.drop 24 = dktX5_isByte_1 := dk_seg dksX5_isByte_0 24 rfl rfl
theorem dX5_isByte_0 : decode cX5_isByte 0 = .ok (.iload_n 1, 1) := dk_27 (dk_at dksX5_isByte_0 0 rfl rfl)
theorem dX5_isByte_1 : decode cX5_isByte 1 = .ok (.aload_n 0, 1) := dk_42 (dk_at dksX5_isByte_0 1 rfl rfl)
theorem dX5_isByte_2 : decode cX5_isByte 2 = .ok (.getfield 148, 3) := dk_180 0 148 (dk_at dksX5_isByte_0 2 rfl rfl)
theorem dX5_isByte_5 : decode cX5_isByte 5 = .ok (.if_icmp .ge 27, 3) := dk_162 0 27 (dk_at dksX5_isByte_0 5 rfl rfl)
theorem dX5_isByte_8 : decode cX5_isByte 8 = .ok (.aload_n 0, 1) := dk_42 (dk_at dksX5_isByte_0 8 rfl rfl)
theorem dX5_isByte_9 : decode cX5_isByte 9 = .ok (.getfield 23, 3) := dk_180 0 23 (dk_at dksX5_isByte_0 9 rfl rfl)
theorem dX5_isByte_12 : decode cX5_isByte 12 = .ok (.iload_n 1, 1) := dk_27 (dk_at dksX5_isByte_0 12 rfl rfl)
theorem dX5_isByte_13 : decode cX5_isByte 13 = .ok (.baload, 1) := dk_51 (dk_at dksX5_isByte_0 13 rfl rfl)
theorem dX5_isByte_14 : decode cX5_isByte 14 = .ok (.iload_n 2, 1) := dk_28 (dk_at dksX5_isByte_0 14 rfl rfl)
theorem dX5_isByte_15 : decode cX5_isByte 15 = .ok (.if_icmp .lt 17, 3) := dk_161 0 17 (dk_at dksX5_isByte_0 15 rfl rfl)
theorem dX5_isByte_18 : decode cX5_isByte 18 = .ok (.aload_n 0, 1) := dk_42 (dk_at dksX5_isByte_0 18 rfl rfl)
theorem dX5_isByte_19 : decode cX5_isByte 19 = .ok (.getfield 23, 3) := dk_180 0 23 (dk_at dksX5_isByte_0 19 rfl rfl)
theorem dX5_isByte_22 : decode cX5_isByte 22 = .ok (.iload_n 1, 1) := dk_27 (dk_at dksX5_isByte_0 22 rfl rfl)
theorem dX5_isByte_23 : decode cX5_isByte 23 = .ok (.baload, 1) := dk_51 (dk_at dksX5_isByte_0 23 rfl rfl)
theorem dX5_isByte_24 : decode cX5_isByte 24 = .ok (.iload_n 3, 1) := dk_29 (dk_at dksX5_isByte_1 0 rfl rfl)
theorem dX5_isByte_25 : decode cX5_isByte 25 = .ok (.if_icmp .gt 7, 3) := dk_163 0 7 (dk_at dksX5_isByte_1 1 rfl rfl)
theorem dX5_isByte_28 : decode cX5_isByte 28 = .ok (.iconst 1, 1) := dk_4 (dk_at dksX5_isByte_1 4 rfl rfl)
theorem dX5_isByte_29 : decode cX5_isByte 29 = .ok (.goto 4, 3) := dk_167 0 4 (dk_at dksX5_isByte_1 5 rfl rfl)
theorem dX5_isByte_32 : decode cX5_isByte 32 = .ok (.iconst 0, 1) := dk_3 (dk_at dksX5_isByte_1 8 rfl rfl)
theorem dX5_isByte_33 : decode cX5_isByte 33 = .ok (.ireturn, 1) := dk_172 (dk_at dksX5_isByte_1 9 rfl rfl)
abbrev cX5_isGood : ByteArray := prog_10_method_14_code
def yX5_isGood : MethodName := ⟨RX5, "isGood", "()Z"⟩
def dkwX5_isGood_0 : List UInt8 := [42, 180, 0, 183, 154, 0, 7, 4, 167, 0, 4, 3, 172]
abbrev dktX5_isGood_0 : List UInt8 := dkwX5_isGood_0 ++ []
theorem dksX5_isGood_0 : cX5_isGood.data.toList.drop 0 = dktX5_isGood_0 := by decide +kernel
theorem dX5_isGood_0 : decode cX5_isGood 0 = .ok (.aload_n 0, 1) := dk_42 (dk_at dksX5_isGood_0 0 rfl rfl)
theorem dX5_isGood_1 : decode cX5_isGood 1 = .ok (.getfield 183, 3) := dk_180 0 183 (dk_at dksX5_isGood_0 1 rfl rfl)
theorem dX5_isGood_4 : decode cX5_isGood 4 = .ok (.ifCond .ne 7, 3) := dk_154 0 7 (dk_at dksX5_isGood_0 4 rfl rfl)
theorem dX5_isGood_7 : decode cX5_isGood 7 = .ok (.iconst 1, 1) := dk_4 (dk_at dksX5_isGood_0 7 rfl rfl)
theorem dX5_isGood_8 : decode cX5_isGood 8 = .ok (.goto 4, 3) := dk_167 0 4 (dk_at dksX5_isGood_0 8 rfl rfl)
theorem dX5_isGood_11 : decode cX5_isGood 11 = .ok (.iconst 0, 1) := dk_3 (dk_at dksX5_isGood_0 11 rfl rfl)
theorem dX5_isGood_12 : decode cX5_isGood 12 = .ok (.ireturn, 1) := dk_172 (dk_at dksX5_isGood_0 12 rfl rfl)
abbrev cX5_first : ByteArray := prog_10_method_28_code
def yX5_first : MethodName := ⟨RX5, "first", "()V"⟩
def dkwX5_first_1 : List UInt8 := [182, 0, 228, 153, 0, 18, 42, 180, 0, 172, 4, 160, 0, 10, 42, 182, 0, 225, 167, 255, 237, 177]
abbrev dktX5_first_1 : List UInt8 := dkwX5_first_1 ++ []
def dkwX5_first_0 : List UInt8 := [42, 20, 0, 221, 182, 0, 202, 42, 20, 0, 223, 182, 0, 202, 42, 182, 0, 225, 42, 182, 0, 225, 42]
abbrev dktX5_first_0 : List UInt8 := dkwX5_first_0 ++ dktX5_first_1
theorem dksX5_first_0 : cX5_first.data.toList.drop 0 = dktX5_first_0 := by decide +kernel
theorem dksX5_first_1 : cX5_first.data.toList.drop 23 = dktX5_first_1 := dk_seg dksX5_first_0 23 rfl rfl
theorem dX5_first_0 : decode cX5_first 0 = .ok (.aload_n 0, 1) := dk_42 (dk_at dksX5_first_0 0 rfl rfl)
theorem dX5_first_1 : decode cX5_first 1 = .ok (.ldc2_w 221, 3) := dk_20 0 221 (dk_at dksX5_first_0 1 rfl rfl)
theorem dX5_first_4 : decode cX5_first 4 = .ok (.invokevirtual 202, 3) := dk_182 0 202 (dk_at dksX5_first_0 4 rfl rfl)
theorem dX5_first_7 : decode cX5_first 7 = .ok (.aload_n 0, 1) := dk_42 (dk_at dksX5_first_0 7 rfl rfl)
theorem dX5_first_8 : decode cX5_first 8 = .ok (.ldc2_w 223, 3) := dk_20 0 223 (dk_at dksX5_first_0 8 rfl rfl)
theorem dX5_first_11 : decode cX5_first 11 = .ok (.invokevirtual 202, 3) := dk_182 0 202 (dk_at dksX5_first_0 11 rfl rfl)
theorem dX5_first_14 : decode cX5_first 14 = .ok (.aload_n 0, 1) := dk_42 (dk_at dksX5_first_0 14 rfl rfl)
theorem dX5_first_15 : decode cX5_first 15 = .ok (.invokevirtual 225, 3) := dk_182 0 225 (dk_at dksX5_first_0 15 rfl rfl)
theorem dX5_first_18 : decode cX5_first 18 = .ok (.aload_n 0, 1) := dk_42 (dk_at dksX5_first_0 18 rfl rfl)
theorem dX5_first_19 : decode cX5_first 19 = .ok (.invokevirtual 225, 3) := dk_182 0 225 (dk_at dksX5_first_0 19 rfl rfl)
theorem dX5_first_22 : decode cX5_first 22 = .ok (.aload_n 0, 1) := dk_42 (dk_at dksX5_first_0 22 rfl rfl)
theorem dX5_first_23 : decode cX5_first 23 = .ok (.invokevirtual 228, 3) := dk_182 0 228 (dk_at dksX5_first_1 0 rfl rfl)
theorem dX5_first_26 : decode cX5_first 26 = .ok (.ifCond .eq 18, 3) := dk_153 0 18 (dk_at dksX5_first_1 3 rfl rfl)
theorem dX5_first_29 : decode cX5_first 29 = .ok (.aload_n 0, 1) := dk_42 (dk_at dksX5_first_1 6 rfl rfl)
theorem dX5_first_30 : decode cX5_first 30 = .ok (.getfield 172, 3) := dk_180 0 172 (dk_at dksX5_first_1 7 rfl rfl)
theorem dX5_first_33 : decode cX5_first 33 = .ok (.iconst 1, 1) := dk_4 (dk_at dksX5_first_1 10 rfl rfl)
theorem dX5_first_34 : decode cX5_first 34 = .ok (.if_icmp .ne 10, 3) := dk_160 0 10 (dk_at dksX5_first_1 11 rfl rfl)
theorem dX5_first_37 : decode cX5_first 37 = .ok (.aload_n 0, 1) := dk_42 (dk_at dksX5_first_1 14 rfl rfl)
theorem dX5_first_38 : decode cX5_first 38 = .ok (.invokevirtual 225, 3) := dk_182 0 225 (dk_at dksX5_first_1 15 rfl rfl)
theorem dX5_first_41 : decode cX5_first 41 = .ok (.goto (-19), 3) := dk_167 255 237 (dk_at dksX5_first_1 18 rfl rfl)
theorem dX5_first_44 : decode cX5_first 44 = .ok (.return_, 1) := dk_177 (dk_at dksX5_first_1 21 rfl rfl)
abbrev cX5_asks : ByteArray := prog_10_method_18_code
def yX5_asks : MethodName := ⟨RX5, "asks", "(J)V"⟩
def dkwX5_asks_0 : List UInt8 := [42, 31, 182, 0, 196, 154, 0, 8, 42, 4, 182, 0, 199, 177]
abbrev dktX5_asks_0 : List UInt8 := dkwX5_asks_0 ++ []
theorem dksX5_asks_0 : cX5_asks.data.toList.drop 0 = dktX5_asks_0 := by decide +kernel
theorem dX5_asks_0 : decode cX5_asks 0 = .ok (.aload_n 0, 1) := dk_42 (dk_at dksX5_asks_0 0 rfl rfl)
theorem dX5_asks_1 : decode cX5_asks 1 = .ok (.lload_n 1, 1) := dk_31 (dk_at dksX5_asks_0 1 rfl rfl)
theorem dX5_asks_2 : decode cX5_asks 2 = .ok (.invokevirtual 196, 3) := dk_182 0 196 (dk_at dksX5_asks_0 2 rfl rfl)
theorem dX5_asks_5 : decode cX5_asks 5 = .ok (.ifCond .ne 8, 3) := dk_154 0 8 (dk_at dksX5_asks_0 5 rfl rfl)
theorem dX5_asks_8 : decode cX5_asks 8 = .ok (.aload_n 0, 1) := dk_42 (dk_at dksX5_asks_0 8 rfl rfl)
theorem dX5_asks_9 : decode cX5_asks 9 = .ok (.iconst 1, 1) := dk_4 (dk_at dksX5_asks_0 9 rfl rfl)
theorem dX5_asks_10 : decode cX5_asks 10 = .ok (.invokevirtual 199, 3) := dk_182 0 199 (dk_at dksX5_asks_0 10 rfl rfl)
theorem dX5_asks_13 : decode cX5_asks 13 = .ok (.return_, 1) := dk_177 (dk_at dksX5_asks_0 13 rfl rfl)
abbrev cX5_takes : ByteArray := prog_10_method_17_code
def yX5_takes : MethodName := ⟨RX5, "takes", "(J)Z"⟩
def dkwX5_takes_0 : List UInt8 := [42, 31, 182, 0, 189, 154, 0, 5, 3, 172, 42, 182, 0, 193, 4, 172]
abbrev dktX5_takes_0 : List UInt8 := dkwX5_takes_0 ++ []
theorem dksX5_takes_0 : cX5_takes.data.toList.drop 0 = dktX5_takes_0 := by decide +kernel
theorem dX5_takes_0 : decode cX5_takes 0 = .ok (.aload_n 0, 1) := dk_42 (dk_at dksX5_takes_0 0 rfl rfl)
theorem dX5_takes_1 : decode cX5_takes 1 = .ok (.lload_n 1, 1) := dk_31 (dk_at dksX5_takes_0 1 rfl rfl)
theorem dX5_takes_2 : decode cX5_takes 2 = .ok (.invokevirtual 189, 3) := dk_182 0 189 (dk_at dksX5_takes_0 2 rfl rfl)
theorem dX5_takes_5 : decode cX5_takes 5 = .ok (.ifCond .ne 5, 3) := dk_154 0 5 (dk_at dksX5_takes_0 5 rfl rfl)
theorem dX5_takes_8 : decode cX5_takes 8 = .ok (.iconst 0, 1) := dk_3 (dk_at dksX5_takes_0 8 rfl rfl)
theorem dX5_takes_9 : decode cX5_takes 9 = .ok (.ireturn, 1) := dk_172 (dk_at dksX5_takes_0 9 rfl rfl)
theorem dX5_takes_10 : decode cX5_takes 10 = .ok (.aload_n 0, 1) := dk_42 (dk_at dksX5_takes_0 10 rfl rfl)
theorem dX5_takes_11 : decode cX5_takes 11 = .ok (.invokevirtual 193, 3) := dk_182 0 193 (dk_at dksX5_takes_0 11 rfl rfl)
theorem dX5_takes_14 : decode cX5_takes 14 = .ok (.iconst 1, 1) := dk_4 (dk_at dksX5_takes_0 14 rfl rfl)
theorem dX5_takes_15 : decode cX5_takes 15 = .ok (.ireturn, 1) := dk_172 (dk_at dksX5_takes_0 15 rfl rfl)
abbrev cX5_is : ByteArray := prog_10_method_16_code
def yX5_is : MethodName := ⟨RX5, "is", "(J)Z"⟩
def dkwX5_is_1 : List UInt8 := [4, 167, 0, 4, 3, 172]
abbrev dktX5_is_1 : List UInt8 := dkwX5_is_1 ++ []
def dkwX5_is_0 : List UInt8 := [42, 180, 0, 183, 154, 0, 24, 42, 180, 0, 172, 4, 160, 0, 16, 42, 180, 0, 168, 31, 148, 154, 0, 7]
abbrev dktX5_is_0 : List UInt8 := dkwX5_is_0 ++ dktX5_is_1
theorem dksX5_is_0 : cX5_is.data.toList.drop 0 = dktX5_is_0 := by decide +kernel
theorem dksX5_is_1 : cX5_is.data.toList.drop 24 = dktX5_is_1 := dk_seg dksX5_is_0 24 rfl rfl
theorem dX5_is_0 : decode cX5_is 0 = .ok (.aload_n 0, 1) := dk_42 (dk_at dksX5_is_0 0 rfl rfl)
theorem dX5_is_1 : decode cX5_is 1 = .ok (.getfield 183, 3) := dk_180 0 183 (dk_at dksX5_is_0 1 rfl rfl)
theorem dX5_is_4 : decode cX5_is 4 = .ok (.ifCond .ne 24, 3) := dk_154 0 24 (dk_at dksX5_is_0 4 rfl rfl)
theorem dX5_is_7 : decode cX5_is 7 = .ok (.aload_n 0, 1) := dk_42 (dk_at dksX5_is_0 7 rfl rfl)
theorem dX5_is_8 : decode cX5_is 8 = .ok (.getfield 172, 3) := dk_180 0 172 (dk_at dksX5_is_0 8 rfl rfl)
theorem dX5_is_11 : decode cX5_is 11 = .ok (.iconst 1, 1) := dk_4 (dk_at dksX5_is_0 11 rfl rfl)
theorem dX5_is_12 : decode cX5_is 12 = .ok (.if_icmp .ne 16, 3) := dk_160 0 16 (dk_at dksX5_is_0 12 rfl rfl)
theorem dX5_is_15 : decode cX5_is 15 = .ok (.aload_n 0, 1) := dk_42 (dk_at dksX5_is_0 15 rfl rfl)
theorem dX5_is_16 : decode cX5_is 16 = .ok (.getfield 168, 3) := dk_180 0 168 (dk_at dksX5_is_0 16 rfl rfl)
theorem dX5_is_19 : decode cX5_is 19 = .ok (.lload_n 1, 1) := dk_31 (dk_at dksX5_is_0 19 rfl rfl)
theorem dX5_is_20 : decode cX5_is 20 = .ok (.lcmp, 1) := dk_148 (dk_at dksX5_is_0 20 rfl rfl)
theorem dX5_is_21 : decode cX5_is 21 = .ok (.ifCond .ne 7, 3) := dk_154 0 7 (dk_at dksX5_is_0 21 rfl rfl)
theorem dX5_is_24 : decode cX5_is 24 = .ok (.iconst 1, 1) := dk_4 (dk_at dksX5_is_1 0 rfl rfl)
theorem dX5_is_25 : decode cX5_is 25 = .ok (.goto 4, 3) := dk_167 0 4 (dk_at dksX5_is_1 1 rfl rfl)
theorem dX5_is_28 : decode cX5_is 28 = .ok (.iconst 0, 1) := dk_3 (dk_at dksX5_is_1 4 rfl rfl)
theorem dX5_is_29 : decode cX5_is 29 = .ok (.ireturn, 1) := dk_172 (dk_at dksX5_is_1 5 rfl rfl)
abbrev cX5_fails : ByteArray := prog_10_method_15_code
def yX5_fails : MethodName := ⟨RX5, "fails", "(I)V"⟩
def dkwX5_fails_0 : List UInt8 := [42, 180, 0, 183, 153, 0, 4, 177, 42, 27, 181, 0, 183, 42, 42, 180, 0, 162, 181, 0, 186, 177]
abbrev dktX5_fails_0 : List UInt8 := dkwX5_fails_0 ++ []
theorem dksX5_fails_0 : cX5_fails.data.toList.drop 0 = dktX5_fails_0 := by decide +kernel
theorem dX5_fails_0 : decode cX5_fails 0 = .ok (.aload_n 0, 1) := dk_42 (dk_at dksX5_fails_0 0 rfl rfl)
theorem dX5_fails_1 : decode cX5_fails 1 = .ok (.getfield 183, 3) := dk_180 0 183 (dk_at dksX5_fails_0 1 rfl rfl)
theorem dX5_fails_4 : decode cX5_fails 4 = .ok (.ifCond .eq 4, 3) := dk_153 0 4 (dk_at dksX5_fails_0 4 rfl rfl)
theorem dX5_fails_7 : decode cX5_fails 7 = .ok (.return_, 1) := dk_177 (dk_at dksX5_fails_0 7 rfl rfl)
theorem dX5_fails_8 : decode cX5_fails 8 = .ok (.aload_n 0, 1) := dk_42 (dk_at dksX5_fails_0 8 rfl rfl)
theorem dX5_fails_9 : decode cX5_fails 9 = .ok (.iload_n 1, 1) := dk_27 (dk_at dksX5_fails_0 9 rfl rfl)
theorem dX5_fails_10 : decode cX5_fails 10 = .ok (.putfield 183, 3) := dk_181 0 183 (dk_at dksX5_fails_0 10 rfl rfl)
theorem dX5_fails_13 : decode cX5_fails 13 = .ok (.aload_n 0, 1) := dk_42 (dk_at dksX5_fails_0 13 rfl rfl)
theorem dX5_fails_14 : decode cX5_fails 14 = .ok (.aload_n 0, 1) := dk_42 (dk_at dksX5_fails_0 14 rfl rfl)
theorem dX5_fails_15 : decode cX5_fails 15 = .ok (.getfield 162, 3) := dk_180 0 162 (dk_at dksX5_fails_0 15 rfl rfl)
theorem dX5_fails_18 : decode cX5_fails 18 = .ok (.putfield 186, 3) := dk_181 0 186 (dk_at dksX5_fails_0 18 rfl rfl)
theorem dX5_fails_21 : decode cX5_fails 21 = .ok (.return_, 1) := dk_177 (dk_at dksX5_fails_0 21 rfl rfl)
abbrev cX5_nameHere : ByteArray := prog_10_method_27_code
def yX5_nameHere : MethodName := ⟨RX5, "nameHere", "()V"⟩
def dkwX5_nameHere_6 : List UInt8 := [42, 180, 0, 34, 16, 12, 92, 46, 4, 96, 79, 42, 182, 0, 193, 177]
abbrev dktX5_nameHere_6 : List UInt8 := dkwX5_nameHere_6 ++ []
def dkwX5_nameHere_5 : List UInt8 := [16, 8, 28, 104, 29, 96, 42, 180, 0, 23, 42, 180, 0, 162, 29, 96, 51, 79, 132, 3, 1, 167, 255, 226]
abbrev dktX5_nameHere_5 : List UInt8 := dkwX5_nameHere_5 ++ dktX5_nameHere_6
def dkwX5_nameHere_4 : List UInt8 := [28, 42, 180, 0, 168, 80, 42, 180, 0, 40, 28, 27, 79, 3, 62, 29, 27, 162, 0, 31, 42, 180, 0, 43]
abbrev dktX5_nameHere_4 : List UInt8 := dkwX5_nameHere_4 ++ dktX5_nameHere_5
def dkwX5_nameHere_3 : List UInt8 := [182, 0, 199, 42, 180, 0, 183, 153, 0, 4, 177, 16, 20, 42, 3, 182, 0, 217, 96, 61, 42, 180, 0, 37]
abbrev dktX5_nameHere_3 : List UInt8 := dkwX5_nameHere_3 ++ dktX5_nameHere_4
def dkwX5_nameHere_2 : List UInt8 := [2, 159, 0, 11, 42, 5, 182, 0, 199, 167, 0, 17, 42, 3, 182, 0, 217, 8, 160, 0, 8, 42, 6]
abbrev dktX5_nameHere_2 : List UInt8 := dkwX5_nameHere_2 ++ dktX5_nameHere_3
def dkwX5_nameHere_1 : List UInt8 := [180, 0, 155, 42, 180, 0, 162, 100, 60, 27, 16, 8, 163, 0, 16, 42, 7, 42, 180, 0, 168, 182, 0, 213]
abbrev dktX5_nameHere_1 : List UInt8 := dkwX5_nameHere_1 ++ dktX5_nameHere_2
def dkwX5_nameHere_0 : List UInt8 := [42, 180, 0, 183, 153, 0, 4, 177, 42, 180, 0, 172, 4, 159, 0, 9, 42, 4, 182, 0, 199, 177, 42]
abbrev dktX5_nameHere_0 : List UInt8 := dkwX5_nameHere_0 ++ dktX5_nameHere_1
theorem dksX5_nameHere_0 : cX5_nameHere.data.toList.drop 0 = dktX5_nameHere_0 := by decide +kernel
theorem dksX5_nameHere_1 : cX5_nameHere.data.toList.drop 23 = dktX5_nameHere_1 := dk_seg dksX5_nameHere_0 23 rfl rfl
theorem dksX5_nameHere_2 : cX5_nameHere.data.toList.drop 47 = dktX5_nameHere_2 := dk_seg dksX5_nameHere_1 24 rfl rfl
theorem dksX5_nameHere_3 : cX5_nameHere.data.toList.drop 70 = dktX5_nameHere_3 := dk_seg dksX5_nameHere_2 23 rfl rfl
theorem dksX5_nameHere_4 : cX5_nameHere.data.toList.drop 94 = dktX5_nameHere_4 := dk_seg dksX5_nameHere_3 24 rfl rfl
theorem dksX5_nameHere_5 : cX5_nameHere.data.toList.drop 118 = dktX5_nameHere_5 := dk_seg dksX5_nameHere_4 24 rfl rfl
theorem dksX5_nameHere_6 : cX5_nameHere.data.toList.drop 142 = dktX5_nameHere_6 := dk_seg dksX5_nameHere_5 24 rfl rfl
theorem dX5_nameHere_0 : decode cX5_nameHere 0 = .ok (.aload_n 0, 1) := dk_42 (dk_at dksX5_nameHere_0 0 rfl rfl)
theorem dX5_nameHere_1 : decode cX5_nameHere 1 = .ok (.getfield 183, 3) := dk_180 0 183 (dk_at dksX5_nameHere_0 1 rfl rfl)
theorem dX5_nameHere_4 : decode cX5_nameHere 4 = .ok (.ifCond .eq 4, 3) := dk_153 0 4 (dk_at dksX5_nameHere_0 4 rfl rfl)
theorem dX5_nameHere_7 : decode cX5_nameHere 7 = .ok (.return_, 1) := dk_177 (dk_at dksX5_nameHere_0 7 rfl rfl)
theorem dX5_nameHere_8 : decode cX5_nameHere 8 = .ok (.aload_n 0, 1) := dk_42 (dk_at dksX5_nameHere_0 8 rfl rfl)
theorem dX5_nameHere_9 : decode cX5_nameHere 9 = .ok (.getfield 172, 3) := dk_180 0 172 (dk_at dksX5_nameHere_0 9 rfl rfl)
theorem dX5_nameHere_12 : decode cX5_nameHere 12 = .ok (.iconst 1, 1) := dk_4 (dk_at dksX5_nameHere_0 12 rfl rfl)
theorem dX5_nameHere_13 : decode cX5_nameHere 13 = .ok (.if_icmp .eq 9, 3) := dk_159 0 9 (dk_at dksX5_nameHere_0 13 rfl rfl)
theorem dX5_nameHere_16 : decode cX5_nameHere 16 = .ok (.aload_n 0, 1) := dk_42 (dk_at dksX5_nameHere_0 16 rfl rfl)
theorem dX5_nameHere_17 : decode cX5_nameHere 17 = .ok (.iconst 1, 1) := dk_4 (dk_at dksX5_nameHere_0 17 rfl rfl)
theorem dX5_nameHere_18 : decode cX5_nameHere 18 = .ok (.invokevirtual 199, 3) := dk_182 0 199 (dk_at dksX5_nameHere_0 18 rfl rfl)
theorem dX5_nameHere_21 : decode cX5_nameHere 21 = .ok (.return_, 1) := dk_177 (dk_at dksX5_nameHere_0 21 rfl rfl)
theorem dX5_nameHere_22 : decode cX5_nameHere 22 = .ok (.aload_n 0, 1) := dk_42 (dk_at dksX5_nameHere_0 22 rfl rfl)
theorem dX5_nameHere_23 : decode cX5_nameHere 23 = .ok (.getfield 155, 3) := dk_180 0 155 (dk_at dksX5_nameHere_1 0 rfl rfl)
theorem dX5_nameHere_26 : decode cX5_nameHere 26 = .ok (.aload_n 0, 1) := dk_42 (dk_at dksX5_nameHere_1 3 rfl rfl)
theorem dX5_nameHere_27 : decode cX5_nameHere 27 = .ok (.getfield 162, 3) := dk_180 0 162 (dk_at dksX5_nameHere_1 4 rfl rfl)
theorem dX5_nameHere_30 : decode cX5_nameHere 30 = .ok (.isub, 1) := dk_100 (dk_at dksX5_nameHere_1 7 rfl rfl)
theorem dX5_nameHere_31 : decode cX5_nameHere 31 = .ok (.istore_n 1, 1) := dk_60 (dk_at dksX5_nameHere_1 8 rfl rfl)
theorem dX5_nameHere_32 : decode cX5_nameHere 32 = .ok (.iload_n 1, 1) := dk_27 (dk_at dksX5_nameHere_1 9 rfl rfl)
theorem dX5_nameHere_33 : decode cX5_nameHere 33 = .ok (.bipush 8, 2) := dk_16 8 (dk_at dksX5_nameHere_1 10 rfl rfl)
theorem dX5_nameHere_35 : decode cX5_nameHere 35 = .ok (.if_icmp .gt 16, 3) := dk_163 0 16 (dk_at dksX5_nameHere_1 12 rfl rfl)
theorem dX5_nameHere_38 : decode cX5_nameHere 38 = .ok (.aload_n 0, 1) := dk_42 (dk_at dksX5_nameHere_1 15 rfl rfl)
theorem dX5_nameHere_39 : decode cX5_nameHere 39 = .ok (.iconst 4, 1) := dk_7 (dk_at dksX5_nameHere_1 16 rfl rfl)
theorem dX5_nameHere_40 : decode cX5_nameHere 40 = .ok (.aload_n 0, 1) := dk_42 (dk_at dksX5_nameHere_1 17 rfl rfl)
theorem dX5_nameHere_41 : decode cX5_nameHere 41 = .ok (.getfield 168, 3) := dk_180 0 168 (dk_at dksX5_nameHere_1 18 rfl rfl)
theorem dX5_nameHere_44 : decode cX5_nameHere 44 = .ok (.invokevirtual 213, 3) := dk_182 0 213 (dk_at dksX5_nameHere_1 21 rfl rfl)
theorem dX5_nameHere_47 : decode cX5_nameHere 47 = .ok (.iconst (-1), 1) := dk_2 (dk_at dksX5_nameHere_2 0 rfl rfl)
theorem dX5_nameHere_48 : decode cX5_nameHere 48 = .ok (.if_icmp .eq 11, 3) := dk_159 0 11 (dk_at dksX5_nameHere_2 1 rfl rfl)
theorem dX5_nameHere_51 : decode cX5_nameHere 51 = .ok (.aload_n 0, 1) := dk_42 (dk_at dksX5_nameHere_2 4 rfl rfl)
theorem dX5_nameHere_52 : decode cX5_nameHere 52 = .ok (.iconst 2, 1) := dk_5 (dk_at dksX5_nameHere_2 5 rfl rfl)
theorem dX5_nameHere_53 : decode cX5_nameHere 53 = .ok (.invokevirtual 199, 3) := dk_182 0 199 (dk_at dksX5_nameHere_2 6 rfl rfl)
theorem dX5_nameHere_56 : decode cX5_nameHere 56 = .ok (.goto 17, 3) := dk_167 0 17 (dk_at dksX5_nameHere_2 9 rfl rfl)
theorem dX5_nameHere_59 : decode cX5_nameHere 59 = .ok (.aload_n 0, 1) := dk_42 (dk_at dksX5_nameHere_2 12 rfl rfl)
theorem dX5_nameHere_60 : decode cX5_nameHere 60 = .ok (.iconst 0, 1) := dk_3 (dk_at dksX5_nameHere_2 13 rfl rfl)
theorem dX5_nameHere_61 : decode cX5_nameHere 61 = .ok (.invokevirtual 217, 3) := dk_182 0 217 (dk_at dksX5_nameHere_2 14 rfl rfl)
theorem dX5_nameHere_64 : decode cX5_nameHere 64 = .ok (.iconst 5, 1) := dk_8 (dk_at dksX5_nameHere_2 17 rfl rfl)
theorem dX5_nameHere_65 : decode cX5_nameHere 65 = .ok (.if_icmp .ne 8, 3) := dk_160 0 8 (dk_at dksX5_nameHere_2 18 rfl rfl)
theorem dX5_nameHere_68 : decode cX5_nameHere 68 = .ok (.aload_n 0, 1) := dk_42 (dk_at dksX5_nameHere_2 21 rfl rfl)
theorem dX5_nameHere_69 : decode cX5_nameHere 69 = .ok (.iconst 3, 1) := dk_6 (dk_at dksX5_nameHere_2 22 rfl rfl)
theorem dX5_nameHere_70 : decode cX5_nameHere 70 = .ok (.invokevirtual 199, 3) := dk_182 0 199 (dk_at dksX5_nameHere_3 0 rfl rfl)
theorem dX5_nameHere_73 : decode cX5_nameHere 73 = .ok (.aload_n 0, 1) := dk_42 (dk_at dksX5_nameHere_3 3 rfl rfl)
theorem dX5_nameHere_74 : decode cX5_nameHere 74 = .ok (.getfield 183, 3) := dk_180 0 183 (dk_at dksX5_nameHere_3 4 rfl rfl)
theorem dX5_nameHere_77 : decode cX5_nameHere 77 = .ok (.ifCond .eq 4, 3) := dk_153 0 4 (dk_at dksX5_nameHere_3 7 rfl rfl)
theorem dX5_nameHere_80 : decode cX5_nameHere 80 = .ok (.return_, 1) := dk_177 (dk_at dksX5_nameHere_3 10 rfl rfl)
theorem dX5_nameHere_81 : decode cX5_nameHere 81 = .ok (.bipush 20, 2) := dk_16 20 (dk_at dksX5_nameHere_3 11 rfl rfl)
theorem dX5_nameHere_83 : decode cX5_nameHere 83 = .ok (.aload_n 0, 1) := dk_42 (dk_at dksX5_nameHere_3 13 rfl rfl)
theorem dX5_nameHere_84 : decode cX5_nameHere 84 = .ok (.iconst 0, 1) := dk_3 (dk_at dksX5_nameHere_3 14 rfl rfl)
theorem dX5_nameHere_85 : decode cX5_nameHere 85 = .ok (.invokevirtual 217, 3) := dk_182 0 217 (dk_at dksX5_nameHere_3 15 rfl rfl)
theorem dX5_nameHere_88 : decode cX5_nameHere 88 = .ok (.iadd, 1) := dk_96 (dk_at dksX5_nameHere_3 18 rfl rfl)
theorem dX5_nameHere_89 : decode cX5_nameHere 89 = .ok (.istore_n 2, 1) := dk_61 (dk_at dksX5_nameHere_3 19 rfl rfl)
theorem dX5_nameHere_90 : decode cX5_nameHere 90 = .ok (.aload_n 0, 1) := dk_42 (dk_at dksX5_nameHere_3 20 rfl rfl)
theorem dX5_nameHere_91 : decode cX5_nameHere 91 = .ok (.getfield 37, 3) := dk_180 0 37 (dk_at dksX5_nameHere_3 21 rfl rfl)
theorem dX5_nameHere_94 : decode cX5_nameHere 94 = .ok (.iload_n 2, 1) := dk_28 (dk_at dksX5_nameHere_4 0 rfl rfl)
theorem dX5_nameHere_95 : decode cX5_nameHere 95 = .ok (.aload_n 0, 1) := dk_42 (dk_at dksX5_nameHere_4 1 rfl rfl)
theorem dX5_nameHere_96 : decode cX5_nameHere 96 = .ok (.getfield 168, 3) := dk_180 0 168 (dk_at dksX5_nameHere_4 2 rfl rfl)
theorem dX5_nameHere_99 : decode cX5_nameHere 99 = .ok (.lastore, 1) := dk_80 (dk_at dksX5_nameHere_4 5 rfl rfl)
theorem dX5_nameHere_100 : decode cX5_nameHere 100 = .ok (.aload_n 0, 1) := dk_42 (dk_at dksX5_nameHere_4 6 rfl rfl)
theorem dX5_nameHere_101 : decode cX5_nameHere 101 = .ok (.getfield 40, 3) := dk_180 0 40 (dk_at dksX5_nameHere_4 7 rfl rfl)
theorem dX5_nameHere_104 : decode cX5_nameHere 104 = .ok (.iload_n 2, 1) := dk_28 (dk_at dksX5_nameHere_4 10 rfl rfl)
theorem dX5_nameHere_105 : decode cX5_nameHere 105 = .ok (.iload_n 1, 1) := dk_27 (dk_at dksX5_nameHere_4 11 rfl rfl)
theorem dX5_nameHere_106 : decode cX5_nameHere 106 = .ok (.iastore, 1) := dk_79 (dk_at dksX5_nameHere_4 12 rfl rfl)
theorem dX5_nameHere_107 : decode cX5_nameHere 107 = .ok (.iconst 0, 1) := dk_3 (dk_at dksX5_nameHere_4 13 rfl rfl)
theorem dX5_nameHere_108 : decode cX5_nameHere 108 = .ok (.istore_n 3, 1) := dk_62 (dk_at dksX5_nameHere_4 14 rfl rfl)
theorem dX5_nameHere_109 : decode cX5_nameHere 109 = .ok (.iload_n 3, 1) := dk_29 (dk_at dksX5_nameHere_4 15 rfl rfl)
theorem dX5_nameHere_110 : decode cX5_nameHere 110 = .ok (.iload_n 1, 1) := dk_27 (dk_at dksX5_nameHere_4 16 rfl rfl)
theorem dX5_nameHere_111 : decode cX5_nameHere 111 = .ok (.if_icmp .ge 31, 3) := dk_162 0 31 (dk_at dksX5_nameHere_4 17 rfl rfl)
theorem dX5_nameHere_114 : decode cX5_nameHere 114 = .ok (.aload_n 0, 1) := dk_42 (dk_at dksX5_nameHere_4 20 rfl rfl)
theorem dX5_nameHere_115 : decode cX5_nameHere 115 = .ok (.getfield 43, 3) := dk_180 0 43 (dk_at dksX5_nameHere_4 21 rfl rfl)
theorem dX5_nameHere_118 : decode cX5_nameHere 118 = .ok (.bipush 8, 2) := dk_16 8 (dk_at dksX5_nameHere_5 0 rfl rfl)
theorem dX5_nameHere_120 : decode cX5_nameHere 120 = .ok (.iload_n 2, 1) := dk_28 (dk_at dksX5_nameHere_5 2 rfl rfl)
theorem dX5_nameHere_121 : decode cX5_nameHere 121 = .ok (.imul, 1) := dk_104 (dk_at dksX5_nameHere_5 3 rfl rfl)
theorem dX5_nameHere_122 : decode cX5_nameHere 122 = .ok (.iload_n 3, 1) := dk_29 (dk_at dksX5_nameHere_5 4 rfl rfl)
theorem dX5_nameHere_123 : decode cX5_nameHere 123 = .ok (.iadd, 1) := dk_96 (dk_at dksX5_nameHere_5 5 rfl rfl)
theorem dX5_nameHere_124 : decode cX5_nameHere 124 = .ok (.aload_n 0, 1) := dk_42 (dk_at dksX5_nameHere_5 6 rfl rfl)
theorem dX5_nameHere_125 : decode cX5_nameHere 125 = .ok (.getfield 23, 3) := dk_180 0 23 (dk_at dksX5_nameHere_5 7 rfl rfl)
theorem dX5_nameHere_128 : decode cX5_nameHere 128 = .ok (.aload_n 0, 1) := dk_42 (dk_at dksX5_nameHere_5 10 rfl rfl)
theorem dX5_nameHere_129 : decode cX5_nameHere 129 = .ok (.getfield 162, 3) := dk_180 0 162 (dk_at dksX5_nameHere_5 11 rfl rfl)
theorem dX5_nameHere_132 : decode cX5_nameHere 132 = .ok (.iload_n 3, 1) := dk_29 (dk_at dksX5_nameHere_5 14 rfl rfl)
theorem dX5_nameHere_133 : decode cX5_nameHere 133 = .ok (.iadd, 1) := dk_96 (dk_at dksX5_nameHere_5 15 rfl rfl)
theorem dX5_nameHere_134 : decode cX5_nameHere 134 = .ok (.baload, 1) := dk_51 (dk_at dksX5_nameHere_5 16 rfl rfl)
theorem dX5_nameHere_135 : decode cX5_nameHere 135 = .ok (.iastore, 1) := dk_79 (dk_at dksX5_nameHere_5 17 rfl rfl)
theorem dX5_nameHere_136 : decode cX5_nameHere 136 = .ok (.iinc 3 1, 3) := dk_132 3 1 (dk_at dksX5_nameHere_5 18 rfl rfl)
theorem dX5_nameHere_139 : decode cX5_nameHere 139 = .ok (.goto (-30), 3) := dk_167 255 226 (dk_at dksX5_nameHere_5 21 rfl rfl)
theorem dX5_nameHere_142 : decode cX5_nameHere 142 = .ok (.aload_n 0, 1) := dk_42 (dk_at dksX5_nameHere_6 0 rfl rfl)
theorem dX5_nameHere_143 : decode cX5_nameHere 143 = .ok (.getfield 34, 3) := dk_180 0 34 (dk_at dksX5_nameHere_6 1 rfl rfl)
theorem dX5_nameHere_146 : decode cX5_nameHere 146 = .ok (.bipush 12, 2) := dk_16 12 (dk_at dksX5_nameHere_6 4 rfl rfl)
theorem dX5_nameHere_148 : decode cX5_nameHere 148 = .ok (.dup2, 1) := dk_92 (dk_at dksX5_nameHere_6 6 rfl rfl)
theorem dX5_nameHere_149 : decode cX5_nameHere 149 = .ok (.iaload, 1) := dk_46 (dk_at dksX5_nameHere_6 7 rfl rfl)
theorem dX5_nameHere_150 : decode cX5_nameHere 150 = .ok (.iconst 1, 1) := dk_4 (dk_at dksX5_nameHere_6 8 rfl rfl)
theorem dX5_nameHere_151 : decode cX5_nameHere 151 = .ok (.iadd, 1) := dk_96 (dk_at dksX5_nameHere_6 9 rfl rfl)
theorem dX5_nameHere_152 : decode cX5_nameHere 152 = .ok (.iastore, 1) := dk_79 (dk_at dksX5_nameHere_6 10 rfl rfl)
theorem dX5_nameHere_153 : decode cX5_nameHere 153 = .ok (.aload_n 0, 1) := dk_42 (dk_at dksX5_nameHere_6 11 rfl rfl)
theorem dX5_nameHere_154 : decode cX5_nameHere 154 = .ok (.invokevirtual 193, 3) := dk_182 0 193 (dk_at dksX5_nameHere_6 12 rfl rfl)
theorem dX5_nameHere_157 : decode cX5_nameHere 157 = .ok (.return_, 1) := dk_177 (dk_at dksX5_nameHere_6 15 rfl rfl)
abbrev cX5_namedIn : ByteArray := prog_10_method_26_code
def yX5_namedIn : MethodName := ⟨RX5, "namedIn", "(IJ)I"⟩
def dkwX5_namedIn_1 : List UInt8 := [21, 4, 96, 47, 32, 148, 154, 0, 6, 21, 4, 172, 132, 4, 1, 167, 255, 221, 2, 172]
abbrev dktX5_namedIn_1 : List UInt8 := dkwX5_namedIn_1 ++ []
def dkwX5_namedIn_0 : List UInt8 := [3, 54, 4, 21, 4, 42, 180, 0, 34, 6, 27, 104, 46, 162, 0, 28, 42, 180, 0, 37, 8, 27, 104]
abbrev dktX5_namedIn_0 : List UInt8 := dkwX5_namedIn_0 ++ dktX5_namedIn_1
theorem dksX5_namedIn_0 : cX5_namedIn.data.toList.drop 0 = dktX5_namedIn_0 := by decide +kernel
theorem dksX5_namedIn_1 : cX5_namedIn.data.toList.drop 23 = dktX5_namedIn_1 := dk_seg dksX5_namedIn_0 23 rfl rfl
theorem dX5_namedIn_0 : decode cX5_namedIn 0 = .ok (.iconst 0, 1) := dk_3 (dk_at dksX5_namedIn_0 0 rfl rfl)
theorem dX5_namedIn_1 : decode cX5_namedIn 1 = .ok (.istore 4, 2) := dk_54 4 (dk_at dksX5_namedIn_0 1 rfl rfl)
theorem dX5_namedIn_3 : decode cX5_namedIn 3 = .ok (.iload 4, 2) := dk_21 4 (dk_at dksX5_namedIn_0 3 rfl rfl)
theorem dX5_namedIn_5 : decode cX5_namedIn 5 = .ok (.aload_n 0, 1) := dk_42 (dk_at dksX5_namedIn_0 5 rfl rfl)
theorem dX5_namedIn_6 : decode cX5_namedIn 6 = .ok (.getfield 34, 3) := dk_180 0 34 (dk_at dksX5_namedIn_0 6 rfl rfl)
theorem dX5_namedIn_9 : decode cX5_namedIn 9 = .ok (.iconst 3, 1) := dk_6 (dk_at dksX5_namedIn_0 9 rfl rfl)
theorem dX5_namedIn_10 : decode cX5_namedIn 10 = .ok (.iload_n 1, 1) := dk_27 (dk_at dksX5_namedIn_0 10 rfl rfl)
theorem dX5_namedIn_11 : decode cX5_namedIn 11 = .ok (.imul, 1) := dk_104 (dk_at dksX5_namedIn_0 11 rfl rfl)
theorem dX5_namedIn_12 : decode cX5_namedIn 12 = .ok (.iaload, 1) := dk_46 (dk_at dksX5_namedIn_0 12 rfl rfl)
theorem dX5_namedIn_13 : decode cX5_namedIn 13 = .ok (.if_icmp .ge 28, 3) := dk_162 0 28 (dk_at dksX5_namedIn_0 13 rfl rfl)
theorem dX5_namedIn_16 : decode cX5_namedIn 16 = .ok (.aload_n 0, 1) := dk_42 (dk_at dksX5_namedIn_0 16 rfl rfl)
theorem dX5_namedIn_17 : decode cX5_namedIn 17 = .ok (.getfield 37, 3) := dk_180 0 37 (dk_at dksX5_namedIn_0 17 rfl rfl)
theorem dX5_namedIn_20 : decode cX5_namedIn 20 = .ok (.iconst 5, 1) := dk_8 (dk_at dksX5_namedIn_0 20 rfl rfl)
theorem dX5_namedIn_21 : decode cX5_namedIn 21 = .ok (.iload_n 1, 1) := dk_27 (dk_at dksX5_namedIn_0 21 rfl rfl)
theorem dX5_namedIn_22 : decode cX5_namedIn 22 = .ok (.imul, 1) := dk_104 (dk_at dksX5_namedIn_0 22 rfl rfl)
theorem dX5_namedIn_23 : decode cX5_namedIn 23 = .ok (.iload 4, 2) := dk_21 4 (dk_at dksX5_namedIn_1 0 rfl rfl)
theorem dX5_namedIn_25 : decode cX5_namedIn 25 = .ok (.iadd, 1) := dk_96 (dk_at dksX5_namedIn_1 2 rfl rfl)
theorem dX5_namedIn_26 : decode cX5_namedIn 26 = .ok (.laload, 1) := dk_47 (dk_at dksX5_namedIn_1 3 rfl rfl)
theorem dX5_namedIn_27 : decode cX5_namedIn 27 = .ok (.lload_n 2, 1) := dk_32 (dk_at dksX5_namedIn_1 4 rfl rfl)
theorem dX5_namedIn_28 : decode cX5_namedIn 28 = .ok (.lcmp, 1) := dk_148 (dk_at dksX5_namedIn_1 5 rfl rfl)
theorem dX5_namedIn_29 : decode cX5_namedIn 29 = .ok (.ifCond .ne 6, 3) := dk_154 0 6 (dk_at dksX5_namedIn_1 6 rfl rfl)
theorem dX5_namedIn_32 : decode cX5_namedIn 32 = .ok (.iload 4, 2) := dk_21 4 (dk_at dksX5_namedIn_1 9 rfl rfl)
theorem dX5_namedIn_34 : decode cX5_namedIn 34 = .ok (.ireturn, 1) := dk_172 (dk_at dksX5_namedIn_1 11 rfl rfl)
theorem dX5_namedIn_35 : decode cX5_namedIn 35 = .ok (.iinc 4 1, 3) := dk_132 4 1 (dk_at dksX5_namedIn_1 12 rfl rfl)
theorem dX5_namedIn_38 : decode cX5_namedIn 38 = .ok (.goto (-35), 3) := dk_167 255 221 (dk_at dksX5_namedIn_1 15 rfl rfl)
theorem dX5_namedIn_41 : decode cX5_namedIn 41 = .ok (.iconst (-1), 1) := dk_2 (dk_at dksX5_namedIn_1 18 rfl rfl)
theorem dX5_namedIn_42 : decode cX5_namedIn 42 = .ok (.ireturn, 1) := dk_172 (dk_at dksX5_namedIn_1 19 rfl rfl)
abbrev cX5_hasRead : ByteArray := prog_10_method_25_code
def yX5_hasRead : MethodName := ⟨RX5, "hasRead", "(I)I"⟩
def dkwX5_hasRead_0 : List UInt8 := [42, 180, 0, 34, 16, 12, 27, 96, 46, 172]
abbrev dktX5_hasRead_0 : List UInt8 := dkwX5_hasRead_0 ++ []
theorem dksX5_hasRead_0 : cX5_hasRead.data.toList.drop 0 = dktX5_hasRead_0 := by decide +kernel
theorem dX5_hasRead_0 : decode cX5_hasRead 0 = .ok (.aload_n 0, 1) := dk_42 (dk_at dksX5_hasRead_0 0 rfl rfl)
theorem dX5_hasRead_1 : decode cX5_hasRead 1 = .ok (.getfield 34, 3) := dk_180 0 34 (dk_at dksX5_hasRead_0 1 rfl rfl)
theorem dX5_hasRead_4 : decode cX5_hasRead 4 = .ok (.bipush 12, 2) := dk_16 12 (dk_at dksX5_hasRead_0 4 rfl rfl)
theorem dX5_hasRead_6 : decode cX5_hasRead 6 = .ok (.iload_n 1, 1) := dk_27 (dk_at dksX5_hasRead_0 6 rfl rfl)
theorem dX5_hasRead_7 : decode cX5_hasRead 7 = .ok (.iadd, 1) := dk_96 (dk_at dksX5_hasRead_0 7 rfl rfl)
theorem dX5_hasRead_8 : decode cX5_hasRead 8 = .ok (.iaload, 1) := dk_46 (dk_at dksX5_hasRead_0 8 rfl rfl)
theorem dX5_hasRead_9 : decode cX5_hasRead 9 = .ok (.ireturn, 1) := dk_172 (dk_at dksX5_hasRead_0 9 rfl rfl)
abbrev cX5_line : ByteArray := prog_10_method_31_code
def yX5_line : MethodName := ⟨RX5, "line", "()V"⟩
def dkwX5_line_13 : List UInt8 := [7, 92, 46, 4, 29, 120, 128, 79, 177]
abbrev dktX5_line_13 : List UInt8 := dkwX5_line_13 ++ []
def dkwX5_line_12 : List UInt8 := [160, 0, 8, 42, 5, 182, 0, 199, 42, 182, 0, 232, 62, 42, 182, 0, 228, 153, 0, 15, 42, 180, 0, 49]
abbrev dktX5_line_12 : List UInt8 := dkwX5_line_12 ++ dktX5_line_13
def dkwX5_line_11 : List UInt8 := [3, 182, 0, 217, 120, 162, 0, 25, 42, 180, 0, 49, 7, 46, 42, 180, 0, 165, 122, 4, 126, 4]
abbrev dktX5_line_11 : List UInt8 := dkwX5_line_11 ++ dktX5_line_12
def dkwX5_line_10 : List UInt8 := [182, 0, 202, 42, 180, 0, 183, 154, 0, 47, 42, 180, 0, 172, 5, 160, 0, 39, 42, 180, 0, 165, 4, 42]
abbrev dktX5_line_10 : List UInt8 := dkwX5_line_10 ++ dktX5_line_11
def dkwX5_line_9 : List UInt8 := [182, 0, 196, 153, 0, 10, 42, 182, 0, 248, 167, 0, 92, 42, 20, 0, 251, 182, 0, 202, 42, 20, 0, 240]
abbrev dktX5_line_9 : List UInt8 := dkwX5_line_9 ++ dktX5_line_10
def dkwX5_line_8 : List UInt8 := [42, 182, 0, 232, 79, 42, 180, 0, 34, 16, 14, 92, 46, 4, 96, 79, 167, 0, 109, 42, 20, 0, 246]
abbrev dktX5_line_8 : List UInt8 := dkwX5_line_8 ++ dktX5_line_9
def dkwX5_line_7 : List UInt8 := [5, 182, 0, 217, 96, 104, 54, 4, 42, 180, 0, 55, 21, 4, 29, 79, 42, 180, 0, 55, 21, 4, 4, 96]
abbrev dktX5_line_7 : List UInt8 := dkwX5_line_7 ++ dktX5_line_8
def dkwX5_line_6 : List UInt8 := [180, 0, 172, 5, 160, 0, 16, 42, 180, 0, 165, 29, 160, 0, 8, 42, 5, 182, 0, 199, 5, 16, 24, 42]
abbrev dktX5_line_6 : List UInt8 := dkwX5_line_6 ++ dktX5_line_7
def dkwX5_line_5 : List UInt8 := [182, 0, 202, 42, 182, 0, 232, 62, 42, 20, 0, 244, 182, 0, 202, 42, 180, 0, 183, 154, 0, 24, 42]
abbrev dktX5_line_5 : List UInt8 := dkwX5_line_5 ++ dktX5_line_6
def dkwX5_line_4 : List UInt8 := [16, 13, 92, 46, 4, 96, 79, 167, 0, 211, 28, 153, 0, 101, 42, 182, 0, 193, 42, 20, 0, 242]
abbrev dktX5_line_4 : List UInt8 := dkwX5_line_4 ++ dktX5_line_5
def dkwX5_line_3 : List UInt8 := [182, 0, 202, 42, 180, 0, 52, 16, 24, 42, 4, 182, 0, 217, 96, 42, 182, 0, 232, 79, 42, 180, 0, 34]
abbrev dktX5_line_3 : List UInt8 := dkwX5_line_3 ++ dktX5_line_4
def dkwX5_line_2 : List UInt8 := [182, 0, 199, 42, 180, 0, 183, 153, 0, 4, 177, 27, 153, 0, 45, 42, 182, 0, 193, 42, 20, 0, 240]
abbrev dktX5_line_2 : List UInt8 := dkwX5_line_2 ++ dktX5_line_3
def dkwX5_line_1 : List UInt8 := [182, 0, 217, 16, 6, 159, 0, 17, 28, 153, 0, 18, 42, 5, 182, 0, 217, 16, 6, 160, 0, 8, 42, 6]
abbrev dktX5_line_1 : List UInt8 := dkwX5_line_1 ++ dktX5_line_2
def dkwX5_line_0 : List UInt8 := [42, 20, 0, 236, 182, 0, 189, 60, 42, 20, 0, 238, 182, 0, 189, 61, 27, 153, 0, 13, 42, 4]
abbrev dktX5_line_0 : List UInt8 := dkwX5_line_0 ++ dktX5_line_1
theorem dksX5_line_0 : cX5_line.data.toList.drop 0 = dktX5_line_0 := by decide +kernel
theorem dksX5_line_1 : cX5_line.data.toList.drop 22 = dktX5_line_1 := dk_seg dksX5_line_0 22 rfl rfl
theorem dksX5_line_2 : cX5_line.data.toList.drop 46 = dktX5_line_2 := dk_seg dksX5_line_1 24 rfl rfl
theorem dksX5_line_3 : cX5_line.data.toList.drop 69 = dktX5_line_3 := dk_seg dksX5_line_2 23 rfl rfl
theorem dksX5_line_4 : cX5_line.data.toList.drop 93 = dktX5_line_4 := dk_seg dksX5_line_3 24 rfl rfl
theorem dksX5_line_5 : cX5_line.data.toList.drop 115 = dktX5_line_5 := dk_seg dksX5_line_4 22 rfl rfl
theorem dksX5_line_6 : cX5_line.data.toList.drop 138 = dktX5_line_6 := dk_seg dksX5_line_5 23 rfl rfl
theorem dksX5_line_7 : cX5_line.data.toList.drop 162 = dktX5_line_7 := dk_seg dksX5_line_6 24 rfl rfl
theorem dksX5_line_8 : cX5_line.data.toList.drop 186 = dktX5_line_8 := dk_seg dksX5_line_7 24 rfl rfl
theorem dksX5_line_9 : cX5_line.data.toList.drop 209 = dktX5_line_9 := dk_seg dksX5_line_8 23 rfl rfl
theorem dksX5_line_10 : cX5_line.data.toList.drop 233 = dktX5_line_10 := dk_seg dksX5_line_9 24 rfl rfl
theorem dksX5_line_11 : cX5_line.data.toList.drop 257 = dktX5_line_11 := dk_seg dksX5_line_10 24 rfl rfl
theorem dksX5_line_12 : cX5_line.data.toList.drop 279 = dktX5_line_12 := dk_seg dksX5_line_11 22 rfl rfl
theorem dksX5_line_13 : cX5_line.data.toList.drop 303 = dktX5_line_13 := dk_seg dksX5_line_12 24 rfl rfl
theorem dX5_line_0 : decode cX5_line 0 = .ok (.aload_n 0, 1) := dk_42 (dk_at dksX5_line_0 0 rfl rfl)
theorem dX5_line_1 : decode cX5_line 1 = .ok (.ldc2_w 236, 3) := dk_20 0 236 (dk_at dksX5_line_0 1 rfl rfl)
theorem dX5_line_4 : decode cX5_line 4 = .ok (.invokevirtual 189, 3) := dk_182 0 189 (dk_at dksX5_line_0 4 rfl rfl)
theorem dX5_line_7 : decode cX5_line 7 = .ok (.istore_n 1, 1) := dk_60 (dk_at dksX5_line_0 7 rfl rfl)
theorem dX5_line_8 : decode cX5_line 8 = .ok (.aload_n 0, 1) := dk_42 (dk_at dksX5_line_0 8 rfl rfl)
theorem dX5_line_9 : decode cX5_line 9 = .ok (.ldc2_w 238, 3) := dk_20 0 238 (dk_at dksX5_line_0 9 rfl rfl)
theorem dX5_line_12 : decode cX5_line 12 = .ok (.invokevirtual 189, 3) := dk_182 0 189 (dk_at dksX5_line_0 12 rfl rfl)
theorem dX5_line_15 : decode cX5_line 15 = .ok (.istore_n 2, 1) := dk_61 (dk_at dksX5_line_0 15 rfl rfl)
theorem dX5_line_16 : decode cX5_line 16 = .ok (.iload_n 1, 1) := dk_27 (dk_at dksX5_line_0 16 rfl rfl)
theorem dX5_line_17 : decode cX5_line 17 = .ok (.ifCond .eq 13, 3) := dk_153 0 13 (dk_at dksX5_line_0 17 rfl rfl)
theorem dX5_line_20 : decode cX5_line 20 = .ok (.aload_n 0, 1) := dk_42 (dk_at dksX5_line_0 20 rfl rfl)
theorem dX5_line_21 : decode cX5_line 21 = .ok (.iconst 1, 1) := dk_4 (dk_at dksX5_line_0 21 rfl rfl)
theorem dX5_line_22 : decode cX5_line 22 = .ok (.invokevirtual 217, 3) := dk_182 0 217 (dk_at dksX5_line_1 0 rfl rfl)
theorem dX5_line_25 : decode cX5_line 25 = .ok (.bipush 6, 2) := dk_16 6 (dk_at dksX5_line_1 3 rfl rfl)
theorem dX5_line_27 : decode cX5_line 27 = .ok (.if_icmp .eq 17, 3) := dk_159 0 17 (dk_at dksX5_line_1 5 rfl rfl)
theorem dX5_line_30 : decode cX5_line 30 = .ok (.iload_n 2, 1) := dk_28 (dk_at dksX5_line_1 8 rfl rfl)
theorem dX5_line_31 : decode cX5_line 31 = .ok (.ifCond .eq 18, 3) := dk_153 0 18 (dk_at dksX5_line_1 9 rfl rfl)
theorem dX5_line_34 : decode cX5_line 34 = .ok (.aload_n 0, 1) := dk_42 (dk_at dksX5_line_1 12 rfl rfl)
theorem dX5_line_35 : decode cX5_line 35 = .ok (.iconst 2, 1) := dk_5 (dk_at dksX5_line_1 13 rfl rfl)
theorem dX5_line_36 : decode cX5_line 36 = .ok (.invokevirtual 217, 3) := dk_182 0 217 (dk_at dksX5_line_1 14 rfl rfl)
theorem dX5_line_39 : decode cX5_line 39 = .ok (.bipush 6, 2) := dk_16 6 (dk_at dksX5_line_1 17 rfl rfl)
theorem dX5_line_41 : decode cX5_line 41 = .ok (.if_icmp .ne 8, 3) := dk_160 0 8 (dk_at dksX5_line_1 19 rfl rfl)
theorem dX5_line_44 : decode cX5_line 44 = .ok (.aload_n 0, 1) := dk_42 (dk_at dksX5_line_1 22 rfl rfl)
theorem dX5_line_45 : decode cX5_line 45 = .ok (.iconst 3, 1) := dk_6 (dk_at dksX5_line_1 23 rfl rfl)
theorem dX5_line_46 : decode cX5_line 46 = .ok (.invokevirtual 199, 3) := dk_182 0 199 (dk_at dksX5_line_2 0 rfl rfl)
theorem dX5_line_49 : decode cX5_line 49 = .ok (.aload_n 0, 1) := dk_42 (dk_at dksX5_line_2 3 rfl rfl)
theorem dX5_line_50 : decode cX5_line 50 = .ok (.getfield 183, 3) := dk_180 0 183 (dk_at dksX5_line_2 4 rfl rfl)
theorem dX5_line_53 : decode cX5_line 53 = .ok (.ifCond .eq 4, 3) := dk_153 0 4 (dk_at dksX5_line_2 7 rfl rfl)
theorem dX5_line_56 : decode cX5_line 56 = .ok (.return_, 1) := dk_177 (dk_at dksX5_line_2 10 rfl rfl)
theorem dX5_line_57 : decode cX5_line 57 = .ok (.iload_n 1, 1) := dk_27 (dk_at dksX5_line_2 11 rfl rfl)
theorem dX5_line_58 : decode cX5_line 58 = .ok (.ifCond .eq 45, 3) := dk_153 0 45 (dk_at dksX5_line_2 12 rfl rfl)
theorem dX5_line_61 : decode cX5_line 61 = .ok (.aload_n 0, 1) := dk_42 (dk_at dksX5_line_2 15 rfl rfl)
theorem dX5_line_62 : decode cX5_line 62 = .ok (.invokevirtual 193, 3) := dk_182 0 193 (dk_at dksX5_line_2 16 rfl rfl)
theorem dX5_line_65 : decode cX5_line 65 = .ok (.aload_n 0, 1) := dk_42 (dk_at dksX5_line_2 19 rfl rfl)
theorem dX5_line_66 : decode cX5_line 66 = .ok (.ldc2_w 240, 3) := dk_20 0 240 (dk_at dksX5_line_2 20 rfl rfl)
theorem dX5_line_69 : decode cX5_line 69 = .ok (.invokevirtual 202, 3) := dk_182 0 202 (dk_at dksX5_line_3 0 rfl rfl)
theorem dX5_line_72 : decode cX5_line 72 = .ok (.aload_n 0, 1) := dk_42 (dk_at dksX5_line_3 3 rfl rfl)
theorem dX5_line_73 : decode cX5_line 73 = .ok (.getfield 52, 3) := dk_180 0 52 (dk_at dksX5_line_3 4 rfl rfl)
theorem dX5_line_76 : decode cX5_line 76 = .ok (.bipush 24, 2) := dk_16 24 (dk_at dksX5_line_3 7 rfl rfl)
theorem dX5_line_78 : decode cX5_line 78 = .ok (.aload_n 0, 1) := dk_42 (dk_at dksX5_line_3 9 rfl rfl)
theorem dX5_line_79 : decode cX5_line 79 = .ok (.iconst 1, 1) := dk_4 (dk_at dksX5_line_3 10 rfl rfl)
theorem dX5_line_80 : decode cX5_line 80 = .ok (.invokevirtual 217, 3) := dk_182 0 217 (dk_at dksX5_line_3 11 rfl rfl)
theorem dX5_line_83 : decode cX5_line 83 = .ok (.iadd, 1) := dk_96 (dk_at dksX5_line_3 14 rfl rfl)
theorem dX5_line_84 : decode cX5_line 84 = .ok (.aload_n 0, 1) := dk_42 (dk_at dksX5_line_3 15 rfl rfl)
theorem dX5_line_85 : decode cX5_line 85 = .ok (.invokevirtual 232, 3) := dk_182 0 232 (dk_at dksX5_line_3 16 rfl rfl)
theorem dX5_line_88 : decode cX5_line 88 = .ok (.iastore, 1) := dk_79 (dk_at dksX5_line_3 19 rfl rfl)
theorem dX5_line_89 : decode cX5_line 89 = .ok (.aload_n 0, 1) := dk_42 (dk_at dksX5_line_3 20 rfl rfl)
theorem dX5_line_90 : decode cX5_line 90 = .ok (.getfield 34, 3) := dk_180 0 34 (dk_at dksX5_line_3 21 rfl rfl)
theorem dX5_line_93 : decode cX5_line 93 = .ok (.bipush 13, 2) := dk_16 13 (dk_at dksX5_line_4 0 rfl rfl)
theorem dX5_line_95 : decode cX5_line 95 = .ok (.dup2, 1) := dk_92 (dk_at dksX5_line_4 2 rfl rfl)
theorem dX5_line_96 : decode cX5_line 96 = .ok (.iaload, 1) := dk_46 (dk_at dksX5_line_4 3 rfl rfl)
theorem dX5_line_97 : decode cX5_line 97 = .ok (.iconst 1, 1) := dk_4 (dk_at dksX5_line_4 4 rfl rfl)
theorem dX5_line_98 : decode cX5_line 98 = .ok (.iadd, 1) := dk_96 (dk_at dksX5_line_4 5 rfl rfl)
theorem dX5_line_99 : decode cX5_line 99 = .ok (.iastore, 1) := dk_79 (dk_at dksX5_line_4 6 rfl rfl)
theorem dX5_line_100 : decode cX5_line 100 = .ok (.goto 211, 3) := dk_167 0 211 (dk_at dksX5_line_4 7 rfl rfl)
theorem dX5_line_103 : decode cX5_line 103 = .ok (.iload_n 2, 1) := dk_28 (dk_at dksX5_line_4 10 rfl rfl)
theorem dX5_line_104 : decode cX5_line 104 = .ok (.ifCond .eq 101, 3) := dk_153 0 101 (dk_at dksX5_line_4 11 rfl rfl)
theorem dX5_line_107 : decode cX5_line 107 = .ok (.aload_n 0, 1) := dk_42 (dk_at dksX5_line_4 14 rfl rfl)
theorem dX5_line_108 : decode cX5_line 108 = .ok (.invokevirtual 193, 3) := dk_182 0 193 (dk_at dksX5_line_4 15 rfl rfl)
theorem dX5_line_111 : decode cX5_line 111 = .ok (.aload_n 0, 1) := dk_42 (dk_at dksX5_line_4 18 rfl rfl)
theorem dX5_line_112 : decode cX5_line 112 = .ok (.ldc2_w 242, 3) := dk_20 0 242 (dk_at dksX5_line_4 19 rfl rfl)
theorem dX5_line_115 : decode cX5_line 115 = .ok (.invokevirtual 202, 3) := dk_182 0 202 (dk_at dksX5_line_5 0 rfl rfl)
theorem dX5_line_118 : decode cX5_line 118 = .ok (.aload_n 0, 1) := dk_42 (dk_at dksX5_line_5 3 rfl rfl)
theorem dX5_line_119 : decode cX5_line 119 = .ok (.invokevirtual 232, 3) := dk_182 0 232 (dk_at dksX5_line_5 4 rfl rfl)
theorem dX5_line_122 : decode cX5_line 122 = .ok (.istore_n 3, 1) := dk_62 (dk_at dksX5_line_5 7 rfl rfl)
theorem dX5_line_123 : decode cX5_line 123 = .ok (.aload_n 0, 1) := dk_42 (dk_at dksX5_line_5 8 rfl rfl)
theorem dX5_line_124 : decode cX5_line 124 = .ok (.ldc2_w 244, 3) := dk_20 0 244 (dk_at dksX5_line_5 9 rfl rfl)
theorem dX5_line_127 : decode cX5_line 127 = .ok (.invokevirtual 202, 3) := dk_182 0 202 (dk_at dksX5_line_5 12 rfl rfl)
theorem dX5_line_130 : decode cX5_line 130 = .ok (.aload_n 0, 1) := dk_42 (dk_at dksX5_line_5 15 rfl rfl)
theorem dX5_line_131 : decode cX5_line 131 = .ok (.getfield 183, 3) := dk_180 0 183 (dk_at dksX5_line_5 16 rfl rfl)
theorem dX5_line_134 : decode cX5_line 134 = .ok (.ifCond .ne 24, 3) := dk_154 0 24 (dk_at dksX5_line_5 19 rfl rfl)
theorem dX5_line_137 : decode cX5_line 137 = .ok (.aload_n 0, 1) := dk_42 (dk_at dksX5_line_5 22 rfl rfl)
theorem dX5_line_138 : decode cX5_line 138 = .ok (.getfield 172, 3) := dk_180 0 172 (dk_at dksX5_line_6 0 rfl rfl)
theorem dX5_line_141 : decode cX5_line 141 = .ok (.iconst 2, 1) := dk_5 (dk_at dksX5_line_6 3 rfl rfl)
theorem dX5_line_142 : decode cX5_line 142 = .ok (.if_icmp .ne 16, 3) := dk_160 0 16 (dk_at dksX5_line_6 4 rfl rfl)
theorem dX5_line_145 : decode cX5_line 145 = .ok (.aload_n 0, 1) := dk_42 (dk_at dksX5_line_6 7 rfl rfl)
theorem dX5_line_146 : decode cX5_line 146 = .ok (.getfield 165, 3) := dk_180 0 165 (dk_at dksX5_line_6 8 rfl rfl)
theorem dX5_line_149 : decode cX5_line 149 = .ok (.iload_n 3, 1) := dk_29 (dk_at dksX5_line_6 11 rfl rfl)
theorem dX5_line_150 : decode cX5_line 150 = .ok (.if_icmp .ne 8, 3) := dk_160 0 8 (dk_at dksX5_line_6 12 rfl rfl)
theorem dX5_line_153 : decode cX5_line 153 = .ok (.aload_n 0, 1) := dk_42 (dk_at dksX5_line_6 15 rfl rfl)
theorem dX5_line_154 : decode cX5_line 154 = .ok (.iconst 2, 1) := dk_5 (dk_at dksX5_line_6 16 rfl rfl)
theorem dX5_line_155 : decode cX5_line 155 = .ok (.invokevirtual 199, 3) := dk_182 0 199 (dk_at dksX5_line_6 17 rfl rfl)
theorem dX5_line_158 : decode cX5_line 158 = .ok (.iconst 2, 1) := dk_5 (dk_at dksX5_line_6 20 rfl rfl)
theorem dX5_line_159 : decode cX5_line 159 = .ok (.bipush 24, 2) := dk_16 24 (dk_at dksX5_line_6 21 rfl rfl)
theorem dX5_line_161 : decode cX5_line 161 = .ok (.aload_n 0, 1) := dk_42 (dk_at dksX5_line_6 23 rfl rfl)
theorem dX5_line_162 : decode cX5_line 162 = .ok (.iconst 2, 1) := dk_5 (dk_at dksX5_line_7 0 rfl rfl)
theorem dX5_line_163 : decode cX5_line 163 = .ok (.invokevirtual 217, 3) := dk_182 0 217 (dk_at dksX5_line_7 1 rfl rfl)
theorem dX5_line_166 : decode cX5_line 166 = .ok (.iadd, 1) := dk_96 (dk_at dksX5_line_7 4 rfl rfl)
theorem dX5_line_167 : decode cX5_line 167 = .ok (.imul, 1) := dk_104 (dk_at dksX5_line_7 5 rfl rfl)
theorem dX5_line_168 : decode cX5_line 168 = .ok (.istore 4, 2) := dk_54 4 (dk_at dksX5_line_7 6 rfl rfl)
theorem dX5_line_170 : decode cX5_line 170 = .ok (.aload_n 0, 1) := dk_42 (dk_at dksX5_line_7 8 rfl rfl)
theorem dX5_line_171 : decode cX5_line 171 = .ok (.getfield 55, 3) := dk_180 0 55 (dk_at dksX5_line_7 9 rfl rfl)
theorem dX5_line_174 : decode cX5_line 174 = .ok (.iload 4, 2) := dk_21 4 (dk_at dksX5_line_7 12 rfl rfl)
theorem dX5_line_176 : decode cX5_line 176 = .ok (.iload_n 3, 1) := dk_29 (dk_at dksX5_line_7 14 rfl rfl)
theorem dX5_line_177 : decode cX5_line 177 = .ok (.iastore, 1) := dk_79 (dk_at dksX5_line_7 15 rfl rfl)
theorem dX5_line_178 : decode cX5_line 178 = .ok (.aload_n 0, 1) := dk_42 (dk_at dksX5_line_7 16 rfl rfl)
theorem dX5_line_179 : decode cX5_line 179 = .ok (.getfield 55, 3) := dk_180 0 55 (dk_at dksX5_line_7 17 rfl rfl)
theorem dX5_line_182 : decode cX5_line 182 = .ok (.iload 4, 2) := dk_21 4 (dk_at dksX5_line_7 20 rfl rfl)
theorem dX5_line_184 : decode cX5_line 184 = .ok (.iconst 1, 1) := dk_4 (dk_at dksX5_line_7 22 rfl rfl)
theorem dX5_line_185 : decode cX5_line 185 = .ok (.iadd, 1) := dk_96 (dk_at dksX5_line_7 23 rfl rfl)
theorem dX5_line_186 : decode cX5_line 186 = .ok (.aload_n 0, 1) := dk_42 (dk_at dksX5_line_8 0 rfl rfl)
theorem dX5_line_187 : decode cX5_line 187 = .ok (.invokevirtual 232, 3) := dk_182 0 232 (dk_at dksX5_line_8 1 rfl rfl)
theorem dX5_line_190 : decode cX5_line 190 = .ok (.iastore, 1) := dk_79 (dk_at dksX5_line_8 4 rfl rfl)
theorem dX5_line_191 : decode cX5_line 191 = .ok (.aload_n 0, 1) := dk_42 (dk_at dksX5_line_8 5 rfl rfl)
theorem dX5_line_192 : decode cX5_line 192 = .ok (.getfield 34, 3) := dk_180 0 34 (dk_at dksX5_line_8 6 rfl rfl)
theorem dX5_line_195 : decode cX5_line 195 = .ok (.bipush 14, 2) := dk_16 14 (dk_at dksX5_line_8 9 rfl rfl)
theorem dX5_line_197 : decode cX5_line 197 = .ok (.dup2, 1) := dk_92 (dk_at dksX5_line_8 11 rfl rfl)
theorem dX5_line_198 : decode cX5_line 198 = .ok (.iaload, 1) := dk_46 (dk_at dksX5_line_8 12 rfl rfl)
theorem dX5_line_199 : decode cX5_line 199 = .ok (.iconst 1, 1) := dk_4 (dk_at dksX5_line_8 13 rfl rfl)
theorem dX5_line_200 : decode cX5_line 200 = .ok (.iadd, 1) := dk_96 (dk_at dksX5_line_8 14 rfl rfl)
theorem dX5_line_201 : decode cX5_line 201 = .ok (.iastore, 1) := dk_79 (dk_at dksX5_line_8 15 rfl rfl)
theorem dX5_line_202 : decode cX5_line 202 = .ok (.goto 109, 3) := dk_167 0 109 (dk_at dksX5_line_8 16 rfl rfl)
theorem dX5_line_205 : decode cX5_line 205 = .ok (.aload_n 0, 1) := dk_42 (dk_at dksX5_line_8 19 rfl rfl)
theorem dX5_line_206 : decode cX5_line 206 = .ok (.ldc2_w 246, 3) := dk_20 0 246 (dk_at dksX5_line_8 20 rfl rfl)
theorem dX5_line_209 : decode cX5_line 209 = .ok (.invokevirtual 196, 3) := dk_182 0 196 (dk_at dksX5_line_9 0 rfl rfl)
theorem dX5_line_212 : decode cX5_line 212 = .ok (.ifCond .eq 10, 3) := dk_153 0 10 (dk_at dksX5_line_9 3 rfl rfl)
theorem dX5_line_215 : decode cX5_line 215 = .ok (.aload_n 0, 1) := dk_42 (dk_at dksX5_line_9 6 rfl rfl)
theorem dX5_line_216 : decode cX5_line 216 = .ok (.invokevirtual 248, 3) := dk_182 0 248 (dk_at dksX5_line_9 7 rfl rfl)
theorem dX5_line_219 : decode cX5_line 219 = .ok (.goto 92, 3) := dk_167 0 92 (dk_at dksX5_line_9 10 rfl rfl)
theorem dX5_line_222 : decode cX5_line 222 = .ok (.aload_n 0, 1) := dk_42 (dk_at dksX5_line_9 13 rfl rfl)
theorem dX5_line_223 : decode cX5_line 223 = .ok (.ldc2_w 251, 3) := dk_20 0 251 (dk_at dksX5_line_9 14 rfl rfl)
theorem dX5_line_226 : decode cX5_line 226 = .ok (.invokevirtual 202, 3) := dk_182 0 202 (dk_at dksX5_line_9 17 rfl rfl)
theorem dX5_line_229 : decode cX5_line 229 = .ok (.aload_n 0, 1) := dk_42 (dk_at dksX5_line_9 20 rfl rfl)
theorem dX5_line_230 : decode cX5_line 230 = .ok (.ldc2_w 240, 3) := dk_20 0 240 (dk_at dksX5_line_9 21 rfl rfl)
theorem dX5_line_233 : decode cX5_line 233 = .ok (.invokevirtual 202, 3) := dk_182 0 202 (dk_at dksX5_line_10 0 rfl rfl)
theorem dX5_line_236 : decode cX5_line 236 = .ok (.aload_n 0, 1) := dk_42 (dk_at dksX5_line_10 3 rfl rfl)
theorem dX5_line_237 : decode cX5_line 237 = .ok (.getfield 183, 3) := dk_180 0 183 (dk_at dksX5_line_10 4 rfl rfl)
theorem dX5_line_240 : decode cX5_line 240 = .ok (.ifCond .ne 47, 3) := dk_154 0 47 (dk_at dksX5_line_10 7 rfl rfl)
theorem dX5_line_243 : decode cX5_line 243 = .ok (.aload_n 0, 1) := dk_42 (dk_at dksX5_line_10 10 rfl rfl)
theorem dX5_line_244 : decode cX5_line 244 = .ok (.getfield 172, 3) := dk_180 0 172 (dk_at dksX5_line_10 11 rfl rfl)
theorem dX5_line_247 : decode cX5_line 247 = .ok (.iconst 2, 1) := dk_5 (dk_at dksX5_line_10 14 rfl rfl)
theorem dX5_line_248 : decode cX5_line 248 = .ok (.if_icmp .ne 39, 3) := dk_160 0 39 (dk_at dksX5_line_10 15 rfl rfl)
theorem dX5_line_251 : decode cX5_line 251 = .ok (.aload_n 0, 1) := dk_42 (dk_at dksX5_line_10 18 rfl rfl)
theorem dX5_line_252 : decode cX5_line 252 = .ok (.getfield 165, 3) := dk_180 0 165 (dk_at dksX5_line_10 19 rfl rfl)
theorem dX5_line_255 : decode cX5_line 255 = .ok (.iconst 1, 1) := dk_4 (dk_at dksX5_line_10 22 rfl rfl)
theorem dX5_line_256 : decode cX5_line 256 = .ok (.aload_n 0, 1) := dk_42 (dk_at dksX5_line_10 23 rfl rfl)
theorem dX5_line_257 : decode cX5_line 257 = .ok (.iconst 0, 1) := dk_3 (dk_at dksX5_line_11 0 rfl rfl)
theorem dX5_line_258 : decode cX5_line 258 = .ok (.invokevirtual 217, 3) := dk_182 0 217 (dk_at dksX5_line_11 1 rfl rfl)
theorem dX5_line_261 : decode cX5_line 261 = .ok (.ishl, 1) := dk_120 (dk_at dksX5_line_11 4 rfl rfl)
theorem dX5_line_262 : decode cX5_line 262 = .ok (.if_icmp .ge 25, 3) := dk_162 0 25 (dk_at dksX5_line_11 5 rfl rfl)
theorem dX5_line_265 : decode cX5_line 265 = .ok (.aload_n 0, 1) := dk_42 (dk_at dksX5_line_11 8 rfl rfl)
theorem dX5_line_266 : decode cX5_line 266 = .ok (.getfield 49, 3) := dk_180 0 49 (dk_at dksX5_line_11 9 rfl rfl)
theorem dX5_line_269 : decode cX5_line 269 = .ok (.iconst 4, 1) := dk_7 (dk_at dksX5_line_11 12 rfl rfl)
theorem dX5_line_270 : decode cX5_line 270 = .ok (.iaload, 1) := dk_46 (dk_at dksX5_line_11 13 rfl rfl)
theorem dX5_line_271 : decode cX5_line 271 = .ok (.aload_n 0, 1) := dk_42 (dk_at dksX5_line_11 14 rfl rfl)
theorem dX5_line_272 : decode cX5_line 272 = .ok (.getfield 165, 3) := dk_180 0 165 (dk_at dksX5_line_11 15 rfl rfl)
theorem dX5_line_275 : decode cX5_line 275 = .ok (.ishr, 1) := dk_122 (dk_at dksX5_line_11 18 rfl rfl)
theorem dX5_line_276 : decode cX5_line 276 = .ok (.iconst 1, 1) := dk_4 (dk_at dksX5_line_11 19 rfl rfl)
theorem dX5_line_277 : decode cX5_line 277 = .ok (.iand, 1) := dk_126 (dk_at dksX5_line_11 20 rfl rfl)
theorem dX5_line_278 : decode cX5_line 278 = .ok (.iconst 1, 1) := dk_4 (dk_at dksX5_line_11 21 rfl rfl)
theorem dX5_line_279 : decode cX5_line 279 = .ok (.if_icmp .ne 8, 3) := dk_160 0 8 (dk_at dksX5_line_12 0 rfl rfl)
theorem dX5_line_282 : decode cX5_line 282 = .ok (.aload_n 0, 1) := dk_42 (dk_at dksX5_line_12 3 rfl rfl)
theorem dX5_line_283 : decode cX5_line 283 = .ok (.iconst 2, 1) := dk_5 (dk_at dksX5_line_12 4 rfl rfl)
theorem dX5_line_284 : decode cX5_line 284 = .ok (.invokevirtual 199, 3) := dk_182 0 199 (dk_at dksX5_line_12 5 rfl rfl)
theorem dX5_line_287 : decode cX5_line 287 = .ok (.aload_n 0, 1) := dk_42 (dk_at dksX5_line_12 8 rfl rfl)
theorem dX5_line_288 : decode cX5_line 288 = .ok (.invokevirtual 232, 3) := dk_182 0 232 (dk_at dksX5_line_12 9 rfl rfl)
theorem dX5_line_291 : decode cX5_line 291 = .ok (.istore_n 3, 1) := dk_62 (dk_at dksX5_line_12 12 rfl rfl)
theorem dX5_line_292 : decode cX5_line 292 = .ok (.aload_n 0, 1) := dk_42 (dk_at dksX5_line_12 13 rfl rfl)
theorem dX5_line_293 : decode cX5_line 293 = .ok (.invokevirtual 228, 3) := dk_182 0 228 (dk_at dksX5_line_12 14 rfl rfl)
theorem dX5_line_296 : decode cX5_line 296 = .ok (.ifCond .eq 15, 3) := dk_153 0 15 (dk_at dksX5_line_12 17 rfl rfl)
theorem dX5_line_299 : decode cX5_line 299 = .ok (.aload_n 0, 1) := dk_42 (dk_at dksX5_line_12 20 rfl rfl)
theorem dX5_line_300 : decode cX5_line 300 = .ok (.getfield 49, 3) := dk_180 0 49 (dk_at dksX5_line_12 21 rfl rfl)
theorem dX5_line_303 : decode cX5_line 303 = .ok (.iconst 4, 1) := dk_7 (dk_at dksX5_line_13 0 rfl rfl)
theorem dX5_line_304 : decode cX5_line 304 = .ok (.dup2, 1) := dk_92 (dk_at dksX5_line_13 1 rfl rfl)
theorem dX5_line_305 : decode cX5_line 305 = .ok (.iaload, 1) := dk_46 (dk_at dksX5_line_13 2 rfl rfl)
theorem dX5_line_306 : decode cX5_line 306 = .ok (.iconst 1, 1) := dk_4 (dk_at dksX5_line_13 3 rfl rfl)
theorem dX5_line_307 : decode cX5_line 307 = .ok (.iload_n 3, 1) := dk_29 (dk_at dksX5_line_13 4 rfl rfl)
theorem dX5_line_308 : decode cX5_line 308 = .ok (.ishl, 1) := dk_120 (dk_at dksX5_line_13 5 rfl rfl)
theorem dX5_line_309 : decode cX5_line 309 = .ok (.ior, 1) := dk_128 (dk_at dksX5_line_13 6 rfl rfl)
theorem dX5_line_310 : decode cX5_line 310 = .ok (.iastore, 1) := dk_79 (dk_at dksX5_line_13 7 rfl rfl)
theorem dX5_line_311 : decode cX5_line 311 = .ok (.return_, 1) := dk_177 (dk_at dksX5_line_13 8 rfl rfl)
abbrev cX5_squareHere : ByteArray := prog_10_method_29_code
def yX5_squareHere : MethodName := ⟨RX5, "squareHere", "()I"⟩
def dkwX5_squareHere_0 : List UInt8 := [42, 3, 4, 42, 3, 182, 0, 217, 120, 4, 100, 182, 0, 206, 172]
abbrev dktX5_squareHere_0 : List UInt8 := dkwX5_squareHere_0 ++ []
theorem dksX5_squareHere_0 : cX5_squareHere.data.toList.drop 0 = dktX5_squareHere_0 := by decide +kernel
theorem dX5_squareHere_0 : decode cX5_squareHere 0 = .ok (.aload_n 0, 1) := dk_42 (dk_at dksX5_squareHere_0 0 rfl rfl)
theorem dX5_squareHere_1 : decode cX5_squareHere 1 = .ok (.iconst 0, 1) := dk_3 (dk_at dksX5_squareHere_0 1 rfl rfl)
theorem dX5_squareHere_2 : decode cX5_squareHere 2 = .ok (.iconst 1, 1) := dk_4 (dk_at dksX5_squareHere_0 2 rfl rfl)
theorem dX5_squareHere_3 : decode cX5_squareHere 3 = .ok (.aload_n 0, 1) := dk_42 (dk_at dksX5_squareHere_0 3 rfl rfl)
theorem dX5_squareHere_4 : decode cX5_squareHere 4 = .ok (.iconst 0, 1) := dk_3 (dk_at dksX5_squareHere_0 4 rfl rfl)
theorem dX5_squareHere_5 : decode cX5_squareHere 5 = .ok (.invokevirtual 217, 3) := dk_182 0 217 (dk_at dksX5_squareHere_0 5 rfl rfl)
theorem dX5_squareHere_8 : decode cX5_squareHere 8 = .ok (.ishl, 1) := dk_120 (dk_at dksX5_squareHere_0 8 rfl rfl)
theorem dX5_squareHere_9 : decode cX5_squareHere 9 = .ok (.iconst 1, 1) := dk_4 (dk_at dksX5_squareHere_0 9 rfl rfl)
theorem dX5_squareHere_10 : decode cX5_squareHere 10 = .ok (.isub, 1) := dk_100 (dk_at dksX5_squareHere_0 10 rfl rfl)
theorem dX5_squareHere_11 : decode cX5_squareHere 11 = .ok (.invokevirtual 206, 3) := dk_182 0 206 (dk_at dksX5_squareHere_0 11 rfl rfl)
theorem dX5_squareHere_14 : decode cX5_squareHere 14 = .ok (.ireturn, 1) := dk_172 (dk_at dksX5_squareHere_0 14 rfl rfl)
abbrev cX5_number : ByteArray := prog_10_method_19_code
def yX5_number : MethodName := ⟨RX5, "number", "(II)I"⟩
def dkwX5_number_2 : List UInt8 := [180, 0, 165, 62, 42, 182, 0, 193, 29, 172]
abbrev dktX5_number_2 : List UInt8 := dkwX5_number_2 ++ []
def dkwX5_number_1 : List UInt8 := [42, 180, 0, 165, 133, 27, 133, 28, 133, 184, 0, 136, 154, 0, 10, 42, 5, 182, 0, 199, 27, 172, 42]
abbrev dktX5_number_1 : List UInt8 := dkwX5_number_1 ++ dktX5_number_2
def dkwX5_number_0 : List UInt8 := [42, 180, 0, 183, 153, 0, 5, 27, 172, 42, 180, 0, 172, 5, 159, 0, 10, 42, 4, 182, 0, 199, 27, 172]
abbrev dktX5_number_0 : List UInt8 := dkwX5_number_0 ++ dktX5_number_1
theorem dksX5_number_0 : cX5_number.data.toList.drop 0 = dktX5_number_0 := by decide +kernel
theorem dksX5_number_1 : cX5_number.data.toList.drop 24 = dktX5_number_1 := dk_seg dksX5_number_0 24 rfl rfl
theorem dksX5_number_2 : cX5_number.data.toList.drop 47 = dktX5_number_2 := dk_seg dksX5_number_1 23 rfl rfl
theorem dX5_number_0 : decode cX5_number 0 = .ok (.aload_n 0, 1) := dk_42 (dk_at dksX5_number_0 0 rfl rfl)
theorem dX5_number_1 : decode cX5_number 1 = .ok (.getfield 183, 3) := dk_180 0 183 (dk_at dksX5_number_0 1 rfl rfl)
theorem dX5_number_4 : decode cX5_number 4 = .ok (.ifCond .eq 5, 3) := dk_153 0 5 (dk_at dksX5_number_0 4 rfl rfl)
theorem dX5_number_7 : decode cX5_number 7 = .ok (.iload_n 1, 1) := dk_27 (dk_at dksX5_number_0 7 rfl rfl)
theorem dX5_number_8 : decode cX5_number 8 = .ok (.ireturn, 1) := dk_172 (dk_at dksX5_number_0 8 rfl rfl)
theorem dX5_number_9 : decode cX5_number 9 = .ok (.aload_n 0, 1) := dk_42 (dk_at dksX5_number_0 9 rfl rfl)
theorem dX5_number_10 : decode cX5_number 10 = .ok (.getfield 172, 3) := dk_180 0 172 (dk_at dksX5_number_0 10 rfl rfl)
theorem dX5_number_13 : decode cX5_number 13 = .ok (.iconst 2, 1) := dk_5 (dk_at dksX5_number_0 13 rfl rfl)
theorem dX5_number_14 : decode cX5_number 14 = .ok (.if_icmp .eq 10, 3) := dk_159 0 10 (dk_at dksX5_number_0 14 rfl rfl)
theorem dX5_number_17 : decode cX5_number 17 = .ok (.aload_n 0, 1) := dk_42 (dk_at dksX5_number_0 17 rfl rfl)
theorem dX5_number_18 : decode cX5_number 18 = .ok (.iconst 1, 1) := dk_4 (dk_at dksX5_number_0 18 rfl rfl)
theorem dX5_number_19 : decode cX5_number 19 = .ok (.invokevirtual 199, 3) := dk_182 0 199 (dk_at dksX5_number_0 19 rfl rfl)
theorem dX5_number_22 : decode cX5_number 22 = .ok (.iload_n 1, 1) := dk_27 (dk_at dksX5_number_0 22 rfl rfl)
theorem dX5_number_23 : decode cX5_number 23 = .ok (.ireturn, 1) := dk_172 (dk_at dksX5_number_0 23 rfl rfl)
theorem dX5_number_24 : decode cX5_number 24 = .ok (.aload_n 0, 1) := dk_42 (dk_at dksX5_number_1 0 rfl rfl)
theorem dX5_number_25 : decode cX5_number 25 = .ok (.getfield 165, 3) := dk_180 0 165 (dk_at dksX5_number_1 1 rfl rfl)
theorem dX5_number_28 : decode cX5_number 28 = .ok (.i2l, 1) := dk_133 (dk_at dksX5_number_1 4 rfl rfl)
theorem dX5_number_29 : decode cX5_number 29 = .ok (.iload_n 1, 1) := dk_27 (dk_at dksX5_number_1 5 rfl rfl)
theorem dX5_number_30 : decode cX5_number 30 = .ok (.i2l, 1) := dk_133 (dk_at dksX5_number_1 6 rfl rfl)
theorem dX5_number_31 : decode cX5_number 31 = .ok (.iload_n 2, 1) := dk_28 (dk_at dksX5_number_1 7 rfl rfl)
theorem dX5_number_32 : decode cX5_number 32 = .ok (.i2l, 1) := dk_133 (dk_at dksX5_number_1 8 rfl rfl)
theorem dX5_number_33 : decode cX5_number 33 = .ok (.invokestatic 136, 3) := dk_184 0 136 (dk_at dksX5_number_1 9 rfl rfl)
theorem dX5_number_36 : decode cX5_number 36 = .ok (.ifCond .ne 10, 3) := dk_154 0 10 (dk_at dksX5_number_1 12 rfl rfl)
theorem dX5_number_39 : decode cX5_number 39 = .ok (.aload_n 0, 1) := dk_42 (dk_at dksX5_number_1 15 rfl rfl)
theorem dX5_number_40 : decode cX5_number 40 = .ok (.iconst 2, 1) := dk_5 (dk_at dksX5_number_1 16 rfl rfl)
theorem dX5_number_41 : decode cX5_number 41 = .ok (.invokevirtual 199, 3) := dk_182 0 199 (dk_at dksX5_number_1 17 rfl rfl)
theorem dX5_number_44 : decode cX5_number 44 = .ok (.iload_n 1, 1) := dk_27 (dk_at dksX5_number_1 20 rfl rfl)
theorem dX5_number_45 : decode cX5_number 45 = .ok (.ireturn, 1) := dk_172 (dk_at dksX5_number_1 21 rfl rfl)
theorem dX5_number_46 : decode cX5_number 46 = .ok (.aload_n 0, 1) := dk_42 (dk_at dksX5_number_1 22 rfl rfl)
theorem dX5_number_47 : decode cX5_number 47 = .ok (.getfield 165, 3) := dk_180 0 165 (dk_at dksX5_number_2 0 rfl rfl)
theorem dX5_number_50 : decode cX5_number 50 = .ok (.istore_n 3, 1) := dk_62 (dk_at dksX5_number_2 3 rfl rfl)
theorem dX5_number_51 : decode cX5_number 51 = .ok (.aload_n 0, 1) := dk_42 (dk_at dksX5_number_2 4 rfl rfl)
theorem dX5_number_52 : decode cX5_number 52 = .ok (.invokevirtual 193, 3) := dk_182 0 193 (dk_at dksX5_number_2 5 rfl rfl)
theorem dX5_number_55 : decode cX5_number 55 = .ok (.iload_n 3, 1) := dk_29 (dk_at dksX5_number_2 8 rfl rfl)
theorem dX5_number_56 : decode cX5_number 56 = .ok (.ireturn, 1) := dk_172 (dk_at dksX5_number_2 9 rfl rfl)
abbrev cX5_shutLine : ByteArray := prog_10_method_30_code
def yX5_shutLine : MethodName := ⟨RX5, "shutLine", "()V"⟩
def dkwX5_shutLine_5 : List UInt8 := [120, 128, 79, 42, 180, 0, 46, 17, 0, 128, 27, 4, 28, 120, 130, 96, 92, 46, 4, 28, 120, 128, 79, 177]
abbrev dktX5_shutLine_5 : List UInt8 := dkwX5_shutLine_5 ++ []
def dkwX5_shutLine_4 : List UInt8 := [180, 0, 183, 153, 0, 4, 177, 42, 182, 0, 193, 42, 180, 0, 46, 17, 0, 128, 27, 96, 92, 46, 4, 28]
abbrev dktX5_shutLine_4 : List UInt8 := dkwX5_shutLine_4 ++ dktX5_shutLine_5
def dkwX5_shutLine_3 : List UInt8 := [180, 0, 46, 17, 0, 128, 27, 96, 46, 28, 122, 4, 126, 4, 160, 0, 8, 42, 5, 182, 0, 199, 42]
abbrev dktX5_shutLine_3 : List UInt8 := dkwX5_shutLine_3 ++ dktX5_shutLine_4
def dkwX5_shutLine_2 : List UInt8 := [164, 0, 7, 2, 167, 0, 12, 42, 7, 42, 180, 0, 168, 182, 0, 213, 61, 28, 2, 159, 0, 21, 42]
abbrev dktX5_shutLine_2 : List UInt8 := dkwX5_shutLine_2 ++ dktX5_shutLine_3
def dkwX5_shutLine_1 : List UInt8 := [182, 0, 199, 42, 180, 0, 183, 153, 0, 4, 177, 42, 180, 0, 155, 42, 180, 0, 162, 100, 16, 8]
abbrev dktX5_shutLine_1 : List UInt8 := dkwX5_shutLine_1 ++ dktX5_shutLine_2
def dkwX5_shutLine_0 : List UInt8 := [42, 182, 0, 232, 60, 42, 180, 0, 183, 154, 0, 16, 42, 180, 0, 172, 4, 159, 0, 8, 42, 4]
abbrev dktX5_shutLine_0 : List UInt8 := dkwX5_shutLine_0 ++ dktX5_shutLine_1
theorem dksX5_shutLine_0 : cX5_shutLine.data.toList.drop 0 = dktX5_shutLine_0 := by decide +kernel
theorem dksX5_shutLine_1 : cX5_shutLine.data.toList.drop 22 = dktX5_shutLine_1 := dk_seg dksX5_shutLine_0 22 rfl rfl
theorem dksX5_shutLine_2 : cX5_shutLine.data.toList.drop 44 = dktX5_shutLine_2 := dk_seg dksX5_shutLine_1 22 rfl rfl
theorem dksX5_shutLine_3 : cX5_shutLine.data.toList.drop 67 = dktX5_shutLine_3 := dk_seg dksX5_shutLine_2 23 rfl rfl
theorem dksX5_shutLine_4 : cX5_shutLine.data.toList.drop 90 = dktX5_shutLine_4 := dk_seg dksX5_shutLine_3 23 rfl rfl
theorem dksX5_shutLine_5 : cX5_shutLine.data.toList.drop 114 = dktX5_shutLine_5 := dk_seg dksX5_shutLine_4 24 rfl rfl
theorem dX5_shutLine_0 : decode cX5_shutLine 0 = .ok (.aload_n 0, 1) := dk_42 (dk_at dksX5_shutLine_0 0 rfl rfl)
theorem dX5_shutLine_1 : decode cX5_shutLine 1 = .ok (.invokevirtual 232, 3) := dk_182 0 232 (dk_at dksX5_shutLine_0 1 rfl rfl)
theorem dX5_shutLine_4 : decode cX5_shutLine 4 = .ok (.istore_n 1, 1) := dk_60 (dk_at dksX5_shutLine_0 4 rfl rfl)
theorem dX5_shutLine_5 : decode cX5_shutLine 5 = .ok (.aload_n 0, 1) := dk_42 (dk_at dksX5_shutLine_0 5 rfl rfl)
theorem dX5_shutLine_6 : decode cX5_shutLine 6 = .ok (.getfield 183, 3) := dk_180 0 183 (dk_at dksX5_shutLine_0 6 rfl rfl)
theorem dX5_shutLine_9 : decode cX5_shutLine 9 = .ok (.ifCond .ne 16, 3) := dk_154 0 16 (dk_at dksX5_shutLine_0 9 rfl rfl)
theorem dX5_shutLine_12 : decode cX5_shutLine 12 = .ok (.aload_n 0, 1) := dk_42 (dk_at dksX5_shutLine_0 12 rfl rfl)
theorem dX5_shutLine_13 : decode cX5_shutLine 13 = .ok (.getfield 172, 3) := dk_180 0 172 (dk_at dksX5_shutLine_0 13 rfl rfl)
theorem dX5_shutLine_16 : decode cX5_shutLine 16 = .ok (.iconst 1, 1) := dk_4 (dk_at dksX5_shutLine_0 16 rfl rfl)
theorem dX5_shutLine_17 : decode cX5_shutLine 17 = .ok (.if_icmp .eq 8, 3) := dk_159 0 8 (dk_at dksX5_shutLine_0 17 rfl rfl)
theorem dX5_shutLine_20 : decode cX5_shutLine 20 = .ok (.aload_n 0, 1) := dk_42 (dk_at dksX5_shutLine_0 20 rfl rfl)
theorem dX5_shutLine_21 : decode cX5_shutLine 21 = .ok (.iconst 1, 1) := dk_4 (dk_at dksX5_shutLine_0 21 rfl rfl)
theorem dX5_shutLine_22 : decode cX5_shutLine 22 = .ok (.invokevirtual 199, 3) := dk_182 0 199 (dk_at dksX5_shutLine_1 0 rfl rfl)
theorem dX5_shutLine_25 : decode cX5_shutLine 25 = .ok (.aload_n 0, 1) := dk_42 (dk_at dksX5_shutLine_1 3 rfl rfl)
theorem dX5_shutLine_26 : decode cX5_shutLine 26 = .ok (.getfield 183, 3) := dk_180 0 183 (dk_at dksX5_shutLine_1 4 rfl rfl)
theorem dX5_shutLine_29 : decode cX5_shutLine 29 = .ok (.ifCond .eq 4, 3) := dk_153 0 4 (dk_at dksX5_shutLine_1 7 rfl rfl)
theorem dX5_shutLine_32 : decode cX5_shutLine 32 = .ok (.return_, 1) := dk_177 (dk_at dksX5_shutLine_1 10 rfl rfl)
theorem dX5_shutLine_33 : decode cX5_shutLine 33 = .ok (.aload_n 0, 1) := dk_42 (dk_at dksX5_shutLine_1 11 rfl rfl)
theorem dX5_shutLine_34 : decode cX5_shutLine 34 = .ok (.getfield 155, 3) := dk_180 0 155 (dk_at dksX5_shutLine_1 12 rfl rfl)
theorem dX5_shutLine_37 : decode cX5_shutLine 37 = .ok (.aload_n 0, 1) := dk_42 (dk_at dksX5_shutLine_1 15 rfl rfl)
theorem dX5_shutLine_38 : decode cX5_shutLine 38 = .ok (.getfield 162, 3) := dk_180 0 162 (dk_at dksX5_shutLine_1 16 rfl rfl)
theorem dX5_shutLine_41 : decode cX5_shutLine 41 = .ok (.isub, 1) := dk_100 (dk_at dksX5_shutLine_1 19 rfl rfl)
theorem dX5_shutLine_42 : decode cX5_shutLine 42 = .ok (.bipush 8, 2) := dk_16 8 (dk_at dksX5_shutLine_1 20 rfl rfl)
theorem dX5_shutLine_44 : decode cX5_shutLine 44 = .ok (.if_icmp .le 7, 3) := dk_164 0 7 (dk_at dksX5_shutLine_2 0 rfl rfl)
theorem dX5_shutLine_47 : decode cX5_shutLine 47 = .ok (.iconst (-1), 1) := dk_2 (dk_at dksX5_shutLine_2 3 rfl rfl)
theorem dX5_shutLine_48 : decode cX5_shutLine 48 = .ok (.goto 12, 3) := dk_167 0 12 (dk_at dksX5_shutLine_2 4 rfl rfl)
theorem dX5_shutLine_51 : decode cX5_shutLine 51 = .ok (.aload_n 0, 1) := dk_42 (dk_at dksX5_shutLine_2 7 rfl rfl)
theorem dX5_shutLine_52 : decode cX5_shutLine 52 = .ok (.iconst 4, 1) := dk_7 (dk_at dksX5_shutLine_2 8 rfl rfl)
theorem dX5_shutLine_53 : decode cX5_shutLine 53 = .ok (.aload_n 0, 1) := dk_42 (dk_at dksX5_shutLine_2 9 rfl rfl)
theorem dX5_shutLine_54 : decode cX5_shutLine 54 = .ok (.getfield 168, 3) := dk_180 0 168 (dk_at dksX5_shutLine_2 10 rfl rfl)
theorem dX5_shutLine_57 : decode cX5_shutLine 57 = .ok (.invokevirtual 213, 3) := dk_182 0 213 (dk_at dksX5_shutLine_2 13 rfl rfl)
theorem dX5_shutLine_60 : decode cX5_shutLine 60 = .ok (.istore_n 2, 1) := dk_61 (dk_at dksX5_shutLine_2 16 rfl rfl)
theorem dX5_shutLine_61 : decode cX5_shutLine 61 = .ok (.iload_n 2, 1) := dk_28 (dk_at dksX5_shutLine_2 17 rfl rfl)
theorem dX5_shutLine_62 : decode cX5_shutLine 62 = .ok (.iconst (-1), 1) := dk_2 (dk_at dksX5_shutLine_2 18 rfl rfl)
theorem dX5_shutLine_63 : decode cX5_shutLine 63 = .ok (.if_icmp .eq 21, 3) := dk_159 0 21 (dk_at dksX5_shutLine_2 19 rfl rfl)
theorem dX5_shutLine_66 : decode cX5_shutLine 66 = .ok (.aload_n 0, 1) := dk_42 (dk_at dksX5_shutLine_2 22 rfl rfl)
theorem dX5_shutLine_67 : decode cX5_shutLine 67 = .ok (.getfield 46, 3) := dk_180 0 46 (dk_at dksX5_shutLine_3 0 rfl rfl)
theorem dX5_shutLine_70 : decode cX5_shutLine 70 = .ok (.sipush 128, 3) := dk_17 0 128 (dk_at dksX5_shutLine_3 3 rfl rfl)
theorem dX5_shutLine_73 : decode cX5_shutLine 73 = .ok (.iload_n 1, 1) := dk_27 (dk_at dksX5_shutLine_3 6 rfl rfl)
theorem dX5_shutLine_74 : decode cX5_shutLine 74 = .ok (.iadd, 1) := dk_96 (dk_at dksX5_shutLine_3 7 rfl rfl)
theorem dX5_shutLine_75 : decode cX5_shutLine 75 = .ok (.iaload, 1) := dk_46 (dk_at dksX5_shutLine_3 8 rfl rfl)
theorem dX5_shutLine_76 : decode cX5_shutLine 76 = .ok (.iload_n 2, 1) := dk_28 (dk_at dksX5_shutLine_3 9 rfl rfl)
theorem dX5_shutLine_77 : decode cX5_shutLine 77 = .ok (.ishr, 1) := dk_122 (dk_at dksX5_shutLine_3 10 rfl rfl)
theorem dX5_shutLine_78 : decode cX5_shutLine 78 = .ok (.iconst 1, 1) := dk_4 (dk_at dksX5_shutLine_3 11 rfl rfl)
theorem dX5_shutLine_79 : decode cX5_shutLine 79 = .ok (.iand, 1) := dk_126 (dk_at dksX5_shutLine_3 12 rfl rfl)
theorem dX5_shutLine_80 : decode cX5_shutLine 80 = .ok (.iconst 1, 1) := dk_4 (dk_at dksX5_shutLine_3 13 rfl rfl)
theorem dX5_shutLine_81 : decode cX5_shutLine 81 = .ok (.if_icmp .ne 8, 3) := dk_160 0 8 (dk_at dksX5_shutLine_3 14 rfl rfl)
theorem dX5_shutLine_84 : decode cX5_shutLine 84 = .ok (.aload_n 0, 1) := dk_42 (dk_at dksX5_shutLine_3 17 rfl rfl)
theorem dX5_shutLine_85 : decode cX5_shutLine 85 = .ok (.iconst 2, 1) := dk_5 (dk_at dksX5_shutLine_3 18 rfl rfl)
theorem dX5_shutLine_86 : decode cX5_shutLine 86 = .ok (.invokevirtual 199, 3) := dk_182 0 199 (dk_at dksX5_shutLine_3 19 rfl rfl)
theorem dX5_shutLine_89 : decode cX5_shutLine 89 = .ok (.aload_n 0, 1) := dk_42 (dk_at dksX5_shutLine_3 22 rfl rfl)
theorem dX5_shutLine_90 : decode cX5_shutLine 90 = .ok (.getfield 183, 3) := dk_180 0 183 (dk_at dksX5_shutLine_4 0 rfl rfl)
theorem dX5_shutLine_93 : decode cX5_shutLine 93 = .ok (.ifCond .eq 4, 3) := dk_153 0 4 (dk_at dksX5_shutLine_4 3 rfl rfl)
theorem dX5_shutLine_96 : decode cX5_shutLine 96 = .ok (.return_, 1) := dk_177 (dk_at dksX5_shutLine_4 6 rfl rfl)
theorem dX5_shutLine_97 : decode cX5_shutLine 97 = .ok (.aload_n 0, 1) := dk_42 (dk_at dksX5_shutLine_4 7 rfl rfl)
theorem dX5_shutLine_98 : decode cX5_shutLine 98 = .ok (.invokevirtual 193, 3) := dk_182 0 193 (dk_at dksX5_shutLine_4 8 rfl rfl)
theorem dX5_shutLine_101 : decode cX5_shutLine 101 = .ok (.aload_n 0, 1) := dk_42 (dk_at dksX5_shutLine_4 11 rfl rfl)
theorem dX5_shutLine_102 : decode cX5_shutLine 102 = .ok (.getfield 46, 3) := dk_180 0 46 (dk_at dksX5_shutLine_4 12 rfl rfl)
theorem dX5_shutLine_105 : decode cX5_shutLine 105 = .ok (.sipush 128, 3) := dk_17 0 128 (dk_at dksX5_shutLine_4 15 rfl rfl)
theorem dX5_shutLine_108 : decode cX5_shutLine 108 = .ok (.iload_n 1, 1) := dk_27 (dk_at dksX5_shutLine_4 18 rfl rfl)
theorem dX5_shutLine_109 : decode cX5_shutLine 109 = .ok (.iadd, 1) := dk_96 (dk_at dksX5_shutLine_4 19 rfl rfl)
theorem dX5_shutLine_110 : decode cX5_shutLine 110 = .ok (.dup2, 1) := dk_92 (dk_at dksX5_shutLine_4 20 rfl rfl)
theorem dX5_shutLine_111 : decode cX5_shutLine 111 = .ok (.iaload, 1) := dk_46 (dk_at dksX5_shutLine_4 21 rfl rfl)
theorem dX5_shutLine_112 : decode cX5_shutLine 112 = .ok (.iconst 1, 1) := dk_4 (dk_at dksX5_shutLine_4 22 rfl rfl)
theorem dX5_shutLine_113 : decode cX5_shutLine 113 = .ok (.iload_n 2, 1) := dk_28 (dk_at dksX5_shutLine_4 23 rfl rfl)
theorem dX5_shutLine_114 : decode cX5_shutLine 114 = .ok (.ishl, 1) := dk_120 (dk_at dksX5_shutLine_5 0 rfl rfl)
theorem dX5_shutLine_115 : decode cX5_shutLine 115 = .ok (.ior, 1) := dk_128 (dk_at dksX5_shutLine_5 1 rfl rfl)
theorem dX5_shutLine_116 : decode cX5_shutLine 116 = .ok (.iastore, 1) := dk_79 (dk_at dksX5_shutLine_5 2 rfl rfl)
theorem dX5_shutLine_117 : decode cX5_shutLine 117 = .ok (.aload_n 0, 1) := dk_42 (dk_at dksX5_shutLine_5 3 rfl rfl)
theorem dX5_shutLine_118 : decode cX5_shutLine 118 = .ok (.getfield 46, 3) := dk_180 0 46 (dk_at dksX5_shutLine_5 4 rfl rfl)
theorem dX5_shutLine_121 : decode cX5_shutLine 121 = .ok (.sipush 128, 3) := dk_17 0 128 (dk_at dksX5_shutLine_5 7 rfl rfl)
theorem dX5_shutLine_124 : decode cX5_shutLine 124 = .ok (.iload_n 1, 1) := dk_27 (dk_at dksX5_shutLine_5 10 rfl rfl)
theorem dX5_shutLine_125 : decode cX5_shutLine 125 = .ok (.iconst 1, 1) := dk_4 (dk_at dksX5_shutLine_5 11 rfl rfl)
theorem dX5_shutLine_126 : decode cX5_shutLine 126 = .ok (.iload_n 2, 1) := dk_28 (dk_at dksX5_shutLine_5 12 rfl rfl)
theorem dX5_shutLine_127 : decode cX5_shutLine 127 = .ok (.ishl, 1) := dk_120 (dk_at dksX5_shutLine_5 13 rfl rfl)
theorem dX5_shutLine_128 : decode cX5_shutLine 128 = .ok (.ixor, 1) := dk_130 (dk_at dksX5_shutLine_5 14 rfl rfl)
theorem dX5_shutLine_129 : decode cX5_shutLine 129 = .ok (.iadd, 1) := dk_96 (dk_at dksX5_shutLine_5 15 rfl rfl)
theorem dX5_shutLine_130 : decode cX5_shutLine 130 = .ok (.dup2, 1) := dk_92 (dk_at dksX5_shutLine_5 16 rfl rfl)
theorem dX5_shutLine_131 : decode cX5_shutLine 131 = .ok (.iaload, 1) := dk_46 (dk_at dksX5_shutLine_5 17 rfl rfl)
theorem dX5_shutLine_132 : decode cX5_shutLine 132 = .ok (.iconst 1, 1) := dk_4 (dk_at dksX5_shutLine_5 18 rfl rfl)
theorem dX5_shutLine_133 : decode cX5_shutLine 133 = .ok (.iload_n 2, 1) := dk_28 (dk_at dksX5_shutLine_5 19 rfl rfl)
theorem dX5_shutLine_134 : decode cX5_shutLine 134 = .ok (.ishl, 1) := dk_120 (dk_at dksX5_shutLine_5 20 rfl rfl)
theorem dX5_shutLine_135 : decode cX5_shutLine 135 = .ok (.ior, 1) := dk_128 (dk_at dksX5_shutLine_5 21 rfl rfl)
theorem dX5_shutLine_136 : decode cX5_shutLine 136 = .ok (.iastore, 1) := dk_79 (dk_at dksX5_shutLine_5 22 rfl rfl)
theorem dX5_shutLine_137 : decode cX5_shutLine 137 = .ok (.return_, 1) := dk_177 (dk_at dksX5_shutLine_5 23 rfl rfl)
abbrev cX5_ends : ByteArray := prog_10_method_21_code
def yX5_ends : MethodName := ⟨RX5, "ends", "()V"⟩
def dkwX5_ends_1 : List UInt8 := [177]
abbrev dktX5_ends_1 : List UInt8 := dkwX5_ends_1 ++ []
def dkwX5_ends_0 : List UInt8 := [42, 180, 0, 172, 6, 159, 0, 8, 42, 4, 182, 0, 199, 42, 180, 0, 183, 154, 0, 7, 42, 182, 0, 193]
abbrev dktX5_ends_0 : List UInt8 := dkwX5_ends_0 ++ dktX5_ends_1
theorem dksX5_ends_0 : cX5_ends.data.toList.drop 0 = dktX5_ends_0 := by decide +kernel
theorem dksX5_ends_1 : cX5_ends.data.toList.drop 24 = dktX5_ends_1 := dk_seg dksX5_ends_0 24 rfl rfl
theorem dX5_ends_0 : decode cX5_ends 0 = .ok (.aload_n 0, 1) := dk_42 (dk_at dksX5_ends_0 0 rfl rfl)
theorem dX5_ends_1 : decode cX5_ends 1 = .ok (.getfield 172, 3) := dk_180 0 172 (dk_at dksX5_ends_0 1 rfl rfl)
theorem dX5_ends_4 : decode cX5_ends 4 = .ok (.iconst 3, 1) := dk_6 (dk_at dksX5_ends_0 4 rfl rfl)
theorem dX5_ends_5 : decode cX5_ends 5 = .ok (.if_icmp .eq 8, 3) := dk_159 0 8 (dk_at dksX5_ends_0 5 rfl rfl)
theorem dX5_ends_8 : decode cX5_ends 8 = .ok (.aload_n 0, 1) := dk_42 (dk_at dksX5_ends_0 8 rfl rfl)
theorem dX5_ends_9 : decode cX5_ends 9 = .ok (.iconst 1, 1) := dk_4 (dk_at dksX5_ends_0 9 rfl rfl)
theorem dX5_ends_10 : decode cX5_ends 10 = .ok (.invokevirtual 199, 3) := dk_182 0 199 (dk_at dksX5_ends_0 10 rfl rfl)
theorem dX5_ends_13 : decode cX5_ends 13 = .ok (.aload_n 0, 1) := dk_42 (dk_at dksX5_ends_0 13 rfl rfl)
theorem dX5_ends_14 : decode cX5_ends 14 = .ok (.getfield 183, 3) := dk_180 0 183 (dk_at dksX5_ends_0 14 rfl rfl)
theorem dX5_ends_17 : decode cX5_ends 17 = .ok (.ifCond .ne 7, 3) := dk_154 0 7 (dk_at dksX5_ends_0 17 rfl rfl)
theorem dX5_ends_20 : decode cX5_ends 20 = .ok (.aload_n 0, 1) := dk_42 (dk_at dksX5_ends_0 20 rfl rfl)
theorem dX5_ends_21 : decode cX5_ends 21 = .ok (.invokevirtual 193, 3) := dk_182 0 193 (dk_at dksX5_ends_0 21 rfl rfl)
theorem dX5_ends_24 : decode cX5_ends 24 = .ok (.return_, 1) := dk_177 (dk_at dksX5_ends_1 0 rfl rfl)
abbrev cX5_isOver : ByteArray := prog_10_method_23_code
def yX5_isOver : MethodName := ⟨RX5, "isOver", "()V"⟩
def dkwX5_isOver_1 : List UInt8 := [167, 0, 7, 42, 180, 0, 186, 181, 0, 27, 177]
abbrev dktX5_isOver_1 : List UInt8 := dkwX5_isOver_1 ++ []
def dkwX5_isOver_0 : List UInt8 := [42, 3, 181, 0, 148, 42, 42, 180, 0, 183, 181, 0, 210, 42, 42, 180, 0, 183, 154, 0, 7, 2]
abbrev dktX5_isOver_0 : List UInt8 := dkwX5_isOver_0 ++ dktX5_isOver_1
theorem dksX5_isOver_0 : cX5_isOver.data.toList.drop 0 = dktX5_isOver_0 := by decide +kernel
theorem dksX5_isOver_1 : cX5_isOver.data.toList.drop 22 = dktX5_isOver_1 := dk_seg dksX5_isOver_0 22 rfl rfl
theorem dX5_isOver_0 : decode cX5_isOver 0 = .ok (.aload_n 0, 1) := dk_42 (dk_at dksX5_isOver_0 0 rfl rfl)
theorem dX5_isOver_1 : decode cX5_isOver 1 = .ok (.iconst 0, 1) := dk_3 (dk_at dksX5_isOver_0 1 rfl rfl)
theorem dX5_isOver_2 : decode cX5_isOver 2 = .ok (.putfield 148, 3) := dk_181 0 148 (dk_at dksX5_isOver_0 2 rfl rfl)
theorem dX5_isOver_5 : decode cX5_isOver 5 = .ok (.aload_n 0, 1) := dk_42 (dk_at dksX5_isOver_0 5 rfl rfl)
theorem dX5_isOver_6 : decode cX5_isOver 6 = .ok (.aload_n 0, 1) := dk_42 (dk_at dksX5_isOver_0 6 rfl rfl)
theorem dX5_isOver_7 : decode cX5_isOver 7 = .ok (.getfield 183, 3) := dk_180 0 183 (dk_at dksX5_isOver_0 7 rfl rfl)
theorem dX5_isOver_10 : decode cX5_isOver 10 = .ok (.putfield 210, 3) := dk_181 0 210 (dk_at dksX5_isOver_0 10 rfl rfl)
theorem dX5_isOver_13 : decode cX5_isOver 13 = .ok (.aload_n 0, 1) := dk_42 (dk_at dksX5_isOver_0 13 rfl rfl)
theorem dX5_isOver_14 : decode cX5_isOver 14 = .ok (.aload_n 0, 1) := dk_42 (dk_at dksX5_isOver_0 14 rfl rfl)
theorem dX5_isOver_15 : decode cX5_isOver 15 = .ok (.getfield 183, 3) := dk_180 0 183 (dk_at dksX5_isOver_0 15 rfl rfl)
theorem dX5_isOver_18 : decode cX5_isOver 18 = .ok (.ifCond .ne 7, 3) := dk_154 0 7 (dk_at dksX5_isOver_0 18 rfl rfl)
theorem dX5_isOver_21 : decode cX5_isOver 21 = .ok (.iconst (-1), 1) := dk_2 (dk_at dksX5_isOver_0 21 rfl rfl)
theorem dX5_isOver_22 : decode cX5_isOver 22 = .ok (.goto 7, 3) := dk_167 0 7 (dk_at dksX5_isOver_1 0 rfl rfl)
theorem dX5_isOver_25 : decode cX5_isOver 25 = .ok (.aload_n 0, 1) := dk_42 (dk_at dksX5_isOver_1 3 rfl rfl)
theorem dX5_isOver_26 : decode cX5_isOver 26 = .ok (.getfield 186, 3) := dk_180 0 186 (dk_at dksX5_isOver_1 4 rfl rfl)
theorem dX5_isOver_29 : decode cX5_isOver 29 = .ok (.putfield 27, 3) := dk_181 0 27 (dk_at dksX5_isOver_1 7 rfl rfl)
theorem dX5_isOver_32 : decode cX5_isOver 32 = .ok (.return_, 1) := dk_177 (dk_at dksX5_isOver_1 10 rfl rfl)
abbrev cX5_copyTown : ByteArray := prog_10_method_35_code
def yX5_copyTown : MethodName := ⟨RX5, "copyTown", "(II)V"⟩
def dkwX5_copyTown_4 : List UInt8 := [42, 180, 0, 52, 16, 6, 27, 28, 184, 1, 19, 42, 180, 0, 55, 16, 12, 27, 28, 184, 1, 19, 177]
abbrev dktX5_copyTown_4 : List UInt8 := dkwX5_copyTown_4 ++ []
def dkwX5_copyTown_3 : List UInt8 := [184, 1, 19, 42, 180, 0, 46, 16, 32, 27, 28, 184, 1, 19, 42, 180, 0, 49, 4, 27, 28, 184, 1, 19]
abbrev dktX5_copyTown_3 : List UInt8 := dkwX5_copyTown_3 ++ dktX5_copyTown_4
def dkwX5_copyTown_2 : List UInt8 := [132, 3, 1, 167, 255, 228, 42, 180, 0, 40, 8, 27, 28, 184, 1, 19, 42, 180, 0, 43, 16, 40, 27, 28]
abbrev dktX5_copyTown_2 : List UInt8 := dkwX5_copyTown_2 ++ dktX5_copyTown_3
def dkwX5_copyTown_1 : List UInt8 := [162, 0, 29, 42, 180, 0, 37, 8, 28, 104, 29, 96, 42, 180, 0, 37, 8, 27, 104, 29, 96, 47, 80]
abbrev dktX5_copyTown_1 : List UInt8 := dkwX5_copyTown_1 ++ dktX5_copyTown_2
def dkwX5_copyTown_0 : List UInt8 := [42, 180, 0, 31, 4, 27, 28, 184, 1, 19, 42, 180, 0, 34, 6, 27, 28, 184, 1, 19, 3, 62, 29, 8]
abbrev dktX5_copyTown_0 : List UInt8 := dkwX5_copyTown_0 ++ dktX5_copyTown_1
theorem dksX5_copyTown_0 : cX5_copyTown.data.toList.drop 0 = dktX5_copyTown_0 := by decide +kernel
theorem dksX5_copyTown_1 : cX5_copyTown.data.toList.drop 24 = dktX5_copyTown_1 := dk_seg dksX5_copyTown_0 24 rfl rfl
theorem dksX5_copyTown_2 : cX5_copyTown.data.toList.drop 47 = dktX5_copyTown_2 := dk_seg dksX5_copyTown_1 23 rfl rfl
theorem dksX5_copyTown_3 : cX5_copyTown.data.toList.drop 71 = dktX5_copyTown_3 := dk_seg dksX5_copyTown_2 24 rfl rfl
theorem dksX5_copyTown_4 : cX5_copyTown.data.toList.drop 95 = dktX5_copyTown_4 := dk_seg dksX5_copyTown_3 24 rfl rfl
theorem dX5_copyTown_0 : decode cX5_copyTown 0 = .ok (.aload_n 0, 1) := dk_42 (dk_at dksX5_copyTown_0 0 rfl rfl)
theorem dX5_copyTown_1 : decode cX5_copyTown 1 = .ok (.getfield 31, 3) := dk_180 0 31 (dk_at dksX5_copyTown_0 1 rfl rfl)
theorem dX5_copyTown_4 : decode cX5_copyTown 4 = .ok (.iconst 1, 1) := dk_4 (dk_at dksX5_copyTown_0 4 rfl rfl)
theorem dX5_copyTown_5 : decode cX5_copyTown 5 = .ok (.iload_n 1, 1) := dk_27 (dk_at dksX5_copyTown_0 5 rfl rfl)
theorem dX5_copyTown_6 : decode cX5_copyTown 6 = .ok (.iload_n 2, 1) := dk_28 (dk_at dksX5_copyTown_0 6 rfl rfl)
theorem dX5_copyTown_7 : decode cX5_copyTown 7 = .ok (.invokestatic 275, 3) := dk_184 1 19 (dk_at dksX5_copyTown_0 7 rfl rfl)
theorem dX5_copyTown_10 : decode cX5_copyTown 10 = .ok (.aload_n 0, 1) := dk_42 (dk_at dksX5_copyTown_0 10 rfl rfl)
theorem dX5_copyTown_11 : decode cX5_copyTown 11 = .ok (.getfield 34, 3) := dk_180 0 34 (dk_at dksX5_copyTown_0 11 rfl rfl)
theorem dX5_copyTown_14 : decode cX5_copyTown 14 = .ok (.iconst 3, 1) := dk_6 (dk_at dksX5_copyTown_0 14 rfl rfl)
theorem dX5_copyTown_15 : decode cX5_copyTown 15 = .ok (.iload_n 1, 1) := dk_27 (dk_at dksX5_copyTown_0 15 rfl rfl)
theorem dX5_copyTown_16 : decode cX5_copyTown 16 = .ok (.iload_n 2, 1) := dk_28 (dk_at dksX5_copyTown_0 16 rfl rfl)
theorem dX5_copyTown_17 : decode cX5_copyTown 17 = .ok (.invokestatic 275, 3) := dk_184 1 19 (dk_at dksX5_copyTown_0 17 rfl rfl)
theorem dX5_copyTown_20 : decode cX5_copyTown 20 = .ok (.iconst 0, 1) := dk_3 (dk_at dksX5_copyTown_0 20 rfl rfl)
theorem dX5_copyTown_21 : decode cX5_copyTown 21 = .ok (.istore_n 3, 1) := dk_62 (dk_at dksX5_copyTown_0 21 rfl rfl)
theorem dX5_copyTown_22 : decode cX5_copyTown 22 = .ok (.iload_n 3, 1) := dk_29 (dk_at dksX5_copyTown_0 22 rfl rfl)
theorem dX5_copyTown_23 : decode cX5_copyTown 23 = .ok (.iconst 5, 1) := dk_8 (dk_at dksX5_copyTown_0 23 rfl rfl)
theorem dX5_copyTown_24 : decode cX5_copyTown 24 = .ok (.if_icmp .ge 29, 3) := dk_162 0 29 (dk_at dksX5_copyTown_1 0 rfl rfl)
theorem dX5_copyTown_27 : decode cX5_copyTown 27 = .ok (.aload_n 0, 1) := dk_42 (dk_at dksX5_copyTown_1 3 rfl rfl)
theorem dX5_copyTown_28 : decode cX5_copyTown 28 = .ok (.getfield 37, 3) := dk_180 0 37 (dk_at dksX5_copyTown_1 4 rfl rfl)
theorem dX5_copyTown_31 : decode cX5_copyTown 31 = .ok (.iconst 5, 1) := dk_8 (dk_at dksX5_copyTown_1 7 rfl rfl)
theorem dX5_copyTown_32 : decode cX5_copyTown 32 = .ok (.iload_n 2, 1) := dk_28 (dk_at dksX5_copyTown_1 8 rfl rfl)
theorem dX5_copyTown_33 : decode cX5_copyTown 33 = .ok (.imul, 1) := dk_104 (dk_at dksX5_copyTown_1 9 rfl rfl)
theorem dX5_copyTown_34 : decode cX5_copyTown 34 = .ok (.iload_n 3, 1) := dk_29 (dk_at dksX5_copyTown_1 10 rfl rfl)
theorem dX5_copyTown_35 : decode cX5_copyTown 35 = .ok (.iadd, 1) := dk_96 (dk_at dksX5_copyTown_1 11 rfl rfl)
theorem dX5_copyTown_36 : decode cX5_copyTown 36 = .ok (.aload_n 0, 1) := dk_42 (dk_at dksX5_copyTown_1 12 rfl rfl)
theorem dX5_copyTown_37 : decode cX5_copyTown 37 = .ok (.getfield 37, 3) := dk_180 0 37 (dk_at dksX5_copyTown_1 13 rfl rfl)
theorem dX5_copyTown_40 : decode cX5_copyTown 40 = .ok (.iconst 5, 1) := dk_8 (dk_at dksX5_copyTown_1 16 rfl rfl)
theorem dX5_copyTown_41 : decode cX5_copyTown 41 = .ok (.iload_n 1, 1) := dk_27 (dk_at dksX5_copyTown_1 17 rfl rfl)
theorem dX5_copyTown_42 : decode cX5_copyTown 42 = .ok (.imul, 1) := dk_104 (dk_at dksX5_copyTown_1 18 rfl rfl)
theorem dX5_copyTown_43 : decode cX5_copyTown 43 = .ok (.iload_n 3, 1) := dk_29 (dk_at dksX5_copyTown_1 19 rfl rfl)
theorem dX5_copyTown_44 : decode cX5_copyTown 44 = .ok (.iadd, 1) := dk_96 (dk_at dksX5_copyTown_1 20 rfl rfl)
theorem dX5_copyTown_45 : decode cX5_copyTown 45 = .ok (.laload, 1) := dk_47 (dk_at dksX5_copyTown_1 21 rfl rfl)
theorem dX5_copyTown_46 : decode cX5_copyTown 46 = .ok (.lastore, 1) := dk_80 (dk_at dksX5_copyTown_1 22 rfl rfl)
theorem dX5_copyTown_47 : decode cX5_copyTown 47 = .ok (.iinc 3 1, 3) := dk_132 3 1 (dk_at dksX5_copyTown_2 0 rfl rfl)
theorem dX5_copyTown_50 : decode cX5_copyTown 50 = .ok (.goto (-28), 3) := dk_167 255 228 (dk_at dksX5_copyTown_2 3 rfl rfl)
theorem dX5_copyTown_53 : decode cX5_copyTown 53 = .ok (.aload_n 0, 1) := dk_42 (dk_at dksX5_copyTown_2 6 rfl rfl)
theorem dX5_copyTown_54 : decode cX5_copyTown 54 = .ok (.getfield 40, 3) := dk_180 0 40 (dk_at dksX5_copyTown_2 7 rfl rfl)
theorem dX5_copyTown_57 : decode cX5_copyTown 57 = .ok (.iconst 5, 1) := dk_8 (dk_at dksX5_copyTown_2 10 rfl rfl)
theorem dX5_copyTown_58 : decode cX5_copyTown 58 = .ok (.iload_n 1, 1) := dk_27 (dk_at dksX5_copyTown_2 11 rfl rfl)
theorem dX5_copyTown_59 : decode cX5_copyTown 59 = .ok (.iload_n 2, 1) := dk_28 (dk_at dksX5_copyTown_2 12 rfl rfl)
theorem dX5_copyTown_60 : decode cX5_copyTown 60 = .ok (.invokestatic 275, 3) := dk_184 1 19 (dk_at dksX5_copyTown_2 13 rfl rfl)
theorem dX5_copyTown_63 : decode cX5_copyTown 63 = .ok (.aload_n 0, 1) := dk_42 (dk_at dksX5_copyTown_2 16 rfl rfl)
theorem dX5_copyTown_64 : decode cX5_copyTown 64 = .ok (.getfield 43, 3) := dk_180 0 43 (dk_at dksX5_copyTown_2 17 rfl rfl)
theorem dX5_copyTown_67 : decode cX5_copyTown 67 = .ok (.bipush 40, 2) := dk_16 40 (dk_at dksX5_copyTown_2 20 rfl rfl)
theorem dX5_copyTown_69 : decode cX5_copyTown 69 = .ok (.iload_n 1, 1) := dk_27 (dk_at dksX5_copyTown_2 22 rfl rfl)
theorem dX5_copyTown_70 : decode cX5_copyTown 70 = .ok (.iload_n 2, 1) := dk_28 (dk_at dksX5_copyTown_2 23 rfl rfl)
theorem dX5_copyTown_71 : decode cX5_copyTown 71 = .ok (.invokestatic 275, 3) := dk_184 1 19 (dk_at dksX5_copyTown_3 0 rfl rfl)
theorem dX5_copyTown_74 : decode cX5_copyTown 74 = .ok (.aload_n 0, 1) := dk_42 (dk_at dksX5_copyTown_3 3 rfl rfl)
theorem dX5_copyTown_75 : decode cX5_copyTown 75 = .ok (.getfield 46, 3) := dk_180 0 46 (dk_at dksX5_copyTown_3 4 rfl rfl)
theorem dX5_copyTown_78 : decode cX5_copyTown 78 = .ok (.bipush 32, 2) := dk_16 32 (dk_at dksX5_copyTown_3 7 rfl rfl)
theorem dX5_copyTown_80 : decode cX5_copyTown 80 = .ok (.iload_n 1, 1) := dk_27 (dk_at dksX5_copyTown_3 9 rfl rfl)
theorem dX5_copyTown_81 : decode cX5_copyTown 81 = .ok (.iload_n 2, 1) := dk_28 (dk_at dksX5_copyTown_3 10 rfl rfl)
theorem dX5_copyTown_82 : decode cX5_copyTown 82 = .ok (.invokestatic 275, 3) := dk_184 1 19 (dk_at dksX5_copyTown_3 11 rfl rfl)
theorem dX5_copyTown_85 : decode cX5_copyTown 85 = .ok (.aload_n 0, 1) := dk_42 (dk_at dksX5_copyTown_3 14 rfl rfl)
theorem dX5_copyTown_86 : decode cX5_copyTown 86 = .ok (.getfield 49, 3) := dk_180 0 49 (dk_at dksX5_copyTown_3 15 rfl rfl)
theorem dX5_copyTown_89 : decode cX5_copyTown 89 = .ok (.iconst 1, 1) := dk_4 (dk_at dksX5_copyTown_3 18 rfl rfl)
theorem dX5_copyTown_90 : decode cX5_copyTown 90 = .ok (.iload_n 1, 1) := dk_27 (dk_at dksX5_copyTown_3 19 rfl rfl)
theorem dX5_copyTown_91 : decode cX5_copyTown 91 = .ok (.iload_n 2, 1) := dk_28 (dk_at dksX5_copyTown_3 20 rfl rfl)
theorem dX5_copyTown_92 : decode cX5_copyTown 92 = .ok (.invokestatic 275, 3) := dk_184 1 19 (dk_at dksX5_copyTown_3 21 rfl rfl)
theorem dX5_copyTown_95 : decode cX5_copyTown 95 = .ok (.aload_n 0, 1) := dk_42 (dk_at dksX5_copyTown_4 0 rfl rfl)
theorem dX5_copyTown_96 : decode cX5_copyTown 96 = .ok (.getfield 52, 3) := dk_180 0 52 (dk_at dksX5_copyTown_4 1 rfl rfl)
theorem dX5_copyTown_99 : decode cX5_copyTown 99 = .ok (.bipush 6, 2) := dk_16 6 (dk_at dksX5_copyTown_4 4 rfl rfl)
theorem dX5_copyTown_101 : decode cX5_copyTown 101 = .ok (.iload_n 1, 1) := dk_27 (dk_at dksX5_copyTown_4 6 rfl rfl)
theorem dX5_copyTown_102 : decode cX5_copyTown 102 = .ok (.iload_n 2, 1) := dk_28 (dk_at dksX5_copyTown_4 7 rfl rfl)
theorem dX5_copyTown_103 : decode cX5_copyTown 103 = .ok (.invokestatic 275, 3) := dk_184 1 19 (dk_at dksX5_copyTown_4 8 rfl rfl)
theorem dX5_copyTown_106 : decode cX5_copyTown 106 = .ok (.aload_n 0, 1) := dk_42 (dk_at dksX5_copyTown_4 11 rfl rfl)
theorem dX5_copyTown_107 : decode cX5_copyTown 107 = .ok (.getfield 55, 3) := dk_180 0 55 (dk_at dksX5_copyTown_4 12 rfl rfl)
theorem dX5_copyTown_110 : decode cX5_copyTown 110 = .ok (.bipush 12, 2) := dk_16 12 (dk_at dksX5_copyTown_4 15 rfl rfl)
theorem dX5_copyTown_112 : decode cX5_copyTown 112 = .ok (.iload_n 1, 1) := dk_27 (dk_at dksX5_copyTown_4 17 rfl rfl)
theorem dX5_copyTown_113 : decode cX5_copyTown 113 = .ok (.iload_n 2, 1) := dk_28 (dk_at dksX5_copyTown_4 18 rfl rfl)
theorem dX5_copyTown_114 : decode cX5_copyTown 114 = .ok (.invokestatic 275, 3) := dk_184 1 19 (dk_at dksX5_copyTown_4 19 rfl rfl)
theorem dX5_copyTown_117 : decode cX5_copyTown 117 = .ok (.return_, 1) := dk_177 (dk_at dksX5_copyTown_4 22 rfl rfl)
abbrev cX5_copyRow : ByteArray := prog_10_method_34_code
def yX5_copyRow : MethodName := ⟨RX5, "copyRow", "([IIII)V"⟩
def dkwX5_copyRow_1 : List UInt8 := [79, 132, 4, 1, 167, 255, 231, 177]
abbrev dktX5_copyRow_1 : List UInt8 := dkwX5_copyRow_1 ++ []
def dkwX5_copyRow_0 : List UInt8 := [3, 54, 4, 21, 4, 27, 162, 0, 25, 42, 27, 29, 104, 21, 4, 96, 42, 27, 28, 104, 21, 4, 96, 46]
abbrev dktX5_copyRow_0 : List UInt8 := dkwX5_copyRow_0 ++ dktX5_copyRow_1
theorem dksX5_copyRow_0 : cX5_copyRow.data.toList.drop 0 = dktX5_copyRow_0 := by decide +kernel
theorem dksX5_copyRow_1 : cX5_copyRow.data.toList.drop 24 = dktX5_copyRow_1 := dk_seg dksX5_copyRow_0 24 rfl rfl
theorem dX5_copyRow_0 : decode cX5_copyRow 0 = .ok (.iconst 0, 1) := dk_3 (dk_at dksX5_copyRow_0 0 rfl rfl)
theorem dX5_copyRow_1 : decode cX5_copyRow 1 = .ok (.istore 4, 2) := dk_54 4 (dk_at dksX5_copyRow_0 1 rfl rfl)
theorem dX5_copyRow_3 : decode cX5_copyRow 3 = .ok (.iload 4, 2) := dk_21 4 (dk_at dksX5_copyRow_0 3 rfl rfl)
theorem dX5_copyRow_5 : decode cX5_copyRow 5 = .ok (.iload_n 1, 1) := dk_27 (dk_at dksX5_copyRow_0 5 rfl rfl)
theorem dX5_copyRow_6 : decode cX5_copyRow 6 = .ok (.if_icmp .ge 25, 3) := dk_162 0 25 (dk_at dksX5_copyRow_0 6 rfl rfl)
theorem dX5_copyRow_9 : decode cX5_copyRow 9 = .ok (.aload_n 0, 1) := dk_42 (dk_at dksX5_copyRow_0 9 rfl rfl)
theorem dX5_copyRow_10 : decode cX5_copyRow 10 = .ok (.iload_n 1, 1) := dk_27 (dk_at dksX5_copyRow_0 10 rfl rfl)
theorem dX5_copyRow_11 : decode cX5_copyRow 11 = .ok (.iload_n 3, 1) := dk_29 (dk_at dksX5_copyRow_0 11 rfl rfl)
theorem dX5_copyRow_12 : decode cX5_copyRow 12 = .ok (.imul, 1) := dk_104 (dk_at dksX5_copyRow_0 12 rfl rfl)
theorem dX5_copyRow_13 : decode cX5_copyRow 13 = .ok (.iload 4, 2) := dk_21 4 (dk_at dksX5_copyRow_0 13 rfl rfl)
theorem dX5_copyRow_15 : decode cX5_copyRow 15 = .ok (.iadd, 1) := dk_96 (dk_at dksX5_copyRow_0 15 rfl rfl)
theorem dX5_copyRow_16 : decode cX5_copyRow 16 = .ok (.aload_n 0, 1) := dk_42 (dk_at dksX5_copyRow_0 16 rfl rfl)
theorem dX5_copyRow_17 : decode cX5_copyRow 17 = .ok (.iload_n 1, 1) := dk_27 (dk_at dksX5_copyRow_0 17 rfl rfl)
theorem dX5_copyRow_18 : decode cX5_copyRow 18 = .ok (.iload_n 2, 1) := dk_28 (dk_at dksX5_copyRow_0 18 rfl rfl)
theorem dX5_copyRow_19 : decode cX5_copyRow 19 = .ok (.imul, 1) := dk_104 (dk_at dksX5_copyRow_0 19 rfl rfl)
theorem dX5_copyRow_20 : decode cX5_copyRow 20 = .ok (.iload 4, 2) := dk_21 4 (dk_at dksX5_copyRow_0 20 rfl rfl)
theorem dX5_copyRow_22 : decode cX5_copyRow 22 = .ok (.iadd, 1) := dk_96 (dk_at dksX5_copyRow_0 22 rfl rfl)
theorem dX5_copyRow_23 : decode cX5_copyRow 23 = .ok (.iaload, 1) := dk_46 (dk_at dksX5_copyRow_0 23 rfl rfl)
theorem dX5_copyRow_24 : decode cX5_copyRow 24 = .ok (.iastore, 1) := dk_79 (dk_at dksX5_copyRow_1 0 rfl rfl)
theorem dX5_copyRow_25 : decode cX5_copyRow 25 = .ok (.iinc 4 1, 3) := dk_132 4 1 (dk_at dksX5_copyRow_1 1 rfl rfl)
theorem dX5_copyRow_28 : decode cX5_copyRow 28 = .ok (.goto (-25), 3) := dk_167 255 231 (dk_at dksX5_copyRow_1 4 rfl rfl)
theorem dX5_copyRow_31 : decode cX5_copyRow 31 = .ok (.return_, 1) := dk_177 (dk_at dksX5_copyRow_1 7 rfl rfl)
abbrev cX5_letter : ByteArray := prog_10_method_44_code
def yX5_letter : MethodName := ⟨RX5, "letter", "(II)I"⟩
def dkwX5_letter_2 : List UInt8 := [46, 167, 0, 4, 2, 172]
abbrev dktX5_letter_2 : List UInt8 := dkwX5_letter_2 ++ []
def dkwX5_letter_1 : List UInt8 := [180, 0, 40, 27, 46, 4, 100, 133, 184, 0, 136, 153, 0, 17, 42, 180, 0, 43, 16, 8, 27, 104, 28, 96]
abbrev dktX5_letter_1 : List UInt8 := dkwX5_letter_1 ++ dktX5_letter_2
def dkwX5_letter_0 : List UInt8 := [42, 3, 181, 0, 131, 42, 27, 182, 1, 36, 154, 0, 8, 16, 254, 167, 0, 36, 28, 133, 9, 42]
abbrev dktX5_letter_0 : List UInt8 := dkwX5_letter_0 ++ dktX5_letter_1
theorem dksX5_letter_0 : cX5_letter.data.toList.drop 0 = dktX5_letter_0 := by decide +kernel
theorem dksX5_letter_1 : cX5_letter.data.toList.drop 22 = dktX5_letter_1 := dk_seg dksX5_letter_0 22 rfl rfl
theorem dksX5_letter_2 : cX5_letter.data.toList.drop 46 = dktX5_letter_2 := dk_seg dksX5_letter_1 24 rfl rfl
theorem dX5_letter_0 : decode cX5_letter 0 = .ok (.aload_n 0, 1) := dk_42 (dk_at dksX5_letter_0 0 rfl rfl)
theorem dX5_letter_1 : decode cX5_letter 1 = .ok (.iconst 0, 1) := dk_3 (dk_at dksX5_letter_0 1 rfl rfl)
theorem dX5_letter_2 : decode cX5_letter 2 = .ok (.putfield 131, 3) := dk_181 0 131 (dk_at dksX5_letter_0 2 rfl rfl)
theorem dX5_letter_5 : decode cX5_letter 5 = .ok (.aload_n 0, 1) := dk_42 (dk_at dksX5_letter_0 5 rfl rfl)
theorem dX5_letter_6 : decode cX5_letter 6 = .ok (.iload_n 1, 1) := dk_27 (dk_at dksX5_letter_0 6 rfl rfl)
theorem dX5_letter_7 : decode cX5_letter 7 = .ok (.invokevirtual 292, 3) := dk_182 1 36 (dk_at dksX5_letter_0 7 rfl rfl)
theorem dX5_letter_10 : decode cX5_letter 10 = .ok (.ifCond .ne 8, 3) := dk_154 0 8 (dk_at dksX5_letter_0 10 rfl rfl)
theorem dX5_letter_13 : decode cX5_letter 13 = .ok (.bipush (-2), 2) := dk_16 254 (dk_at dksX5_letter_0 13 rfl rfl)
theorem dX5_letter_15 : decode cX5_letter 15 = .ok (.goto 36, 3) := dk_167 0 36 (dk_at dksX5_letter_0 15 rfl rfl)
theorem dX5_letter_18 : decode cX5_letter 18 = .ok (.iload_n 2, 1) := dk_28 (dk_at dksX5_letter_0 18 rfl rfl)
theorem dX5_letter_19 : decode cX5_letter 19 = .ok (.i2l, 1) := dk_133 (dk_at dksX5_letter_0 19 rfl rfl)
theorem dX5_letter_20 : decode cX5_letter 20 = .ok (.lconst 0, 1) := dk_9 (dk_at dksX5_letter_0 20 rfl rfl)
theorem dX5_letter_21 : decode cX5_letter 21 = .ok (.aload_n 0, 1) := dk_42 (dk_at dksX5_letter_0 21 rfl rfl)
theorem dX5_letter_22 : decode cX5_letter 22 = .ok (.getfield 40, 3) := dk_180 0 40 (dk_at dksX5_letter_1 0 rfl rfl)
theorem dX5_letter_25 : decode cX5_letter 25 = .ok (.iload_n 1, 1) := dk_27 (dk_at dksX5_letter_1 3 rfl rfl)
theorem dX5_letter_26 : decode cX5_letter 26 = .ok (.iaload, 1) := dk_46 (dk_at dksX5_letter_1 4 rfl rfl)
theorem dX5_letter_27 : decode cX5_letter 27 = .ok (.iconst 1, 1) := dk_4 (dk_at dksX5_letter_1 5 rfl rfl)
theorem dX5_letter_28 : decode cX5_letter 28 = .ok (.isub, 1) := dk_100 (dk_at dksX5_letter_1 6 rfl rfl)
theorem dX5_letter_29 : decode cX5_letter 29 = .ok (.i2l, 1) := dk_133 (dk_at dksX5_letter_1 7 rfl rfl)
theorem dX5_letter_30 : decode cX5_letter 30 = .ok (.invokestatic 136, 3) := dk_184 0 136 (dk_at dksX5_letter_1 8 rfl rfl)
theorem dX5_letter_33 : decode cX5_letter 33 = .ok (.ifCond .eq 17, 3) := dk_153 0 17 (dk_at dksX5_letter_1 11 rfl rfl)
theorem dX5_letter_36 : decode cX5_letter 36 = .ok (.aload_n 0, 1) := dk_42 (dk_at dksX5_letter_1 14 rfl rfl)
theorem dX5_letter_37 : decode cX5_letter 37 = .ok (.getfield 43, 3) := dk_180 0 43 (dk_at dksX5_letter_1 15 rfl rfl)
theorem dX5_letter_40 : decode cX5_letter 40 = .ok (.bipush 8, 2) := dk_16 8 (dk_at dksX5_letter_1 18 rfl rfl)
theorem dX5_letter_42 : decode cX5_letter 42 = .ok (.iload_n 1, 1) := dk_27 (dk_at dksX5_letter_1 20 rfl rfl)
theorem dX5_letter_43 : decode cX5_letter 43 = .ok (.imul, 1) := dk_104 (dk_at dksX5_letter_1 21 rfl rfl)
theorem dX5_letter_44 : decode cX5_letter 44 = .ok (.iload_n 2, 1) := dk_28 (dk_at dksX5_letter_1 22 rfl rfl)
theorem dX5_letter_45 : decode cX5_letter 45 = .ok (.iadd, 1) := dk_96 (dk_at dksX5_letter_1 23 rfl rfl)
theorem dX5_letter_46 : decode cX5_letter 46 = .ok (.iaload, 1) := dk_46 (dk_at dksX5_letter_2 0 rfl rfl)
theorem dX5_letter_47 : decode cX5_letter 47 = .ok (.goto 4, 3) := dk_167 0 4 (dk_at dksX5_letter_2 1 rfl rfl)
theorem dX5_letter_50 : decode cX5_letter 50 = .ok (.iconst (-1), 1) := dk_2 (dk_at dksX5_letter_2 4 rfl rfl)
theorem dX5_letter_51 : decode cX5_letter 51 = .ok (.ireturn, 1) := dk_172 (dk_at dksX5_letter_2 5 rfl rfl)
abbrev cX5_isName : ByteArray := prog_10_method_37_code
def yX5_isName : MethodName := ⟨RX5, "isName", "(I)Z"⟩
def dkwX5_isName_0 : List UInt8 := [27, 133, 9, 42, 180, 0, 34, 3, 46, 4, 100, 133, 184, 0, 136, 172]
abbrev dktX5_isName_0 : List UInt8 := dkwX5_isName_0 ++ []
theorem dksX5_isName_0 : cX5_isName.data.toList.drop 0 = dktX5_isName_0 := by decide +kernel
theorem dX5_isName_0 : decode cX5_isName 0 = .ok (.iload_n 1, 1) := dk_27 (dk_at dksX5_isName_0 0 rfl rfl)
theorem dX5_isName_1 : decode cX5_isName 1 = .ok (.i2l, 1) := dk_133 (dk_at dksX5_isName_0 1 rfl rfl)
theorem dX5_isName_2 : decode cX5_isName 2 = .ok (.lconst 0, 1) := dk_9 (dk_at dksX5_isName_0 2 rfl rfl)
theorem dX5_isName_3 : decode cX5_isName 3 = .ok (.aload_n 0, 1) := dk_42 (dk_at dksX5_isName_0 3 rfl rfl)
theorem dX5_isName_4 : decode cX5_isName 4 = .ok (.getfield 34, 3) := dk_180 0 34 (dk_at dksX5_isName_0 4 rfl rfl)
theorem dX5_isName_7 : decode cX5_isName 7 = .ok (.iconst 0, 1) := dk_3 (dk_at dksX5_isName_0 7 rfl rfl)
theorem dX5_isName_8 : decode cX5_isName 8 = .ok (.iaload, 1) := dk_46 (dk_at dksX5_isName_0 8 rfl rfl)
theorem dX5_isName_9 : decode cX5_isName 9 = .ok (.iconst 1, 1) := dk_4 (dk_at dksX5_isName_0 9 rfl rfl)
theorem dX5_isName_10 : decode cX5_isName 10 = .ok (.isub, 1) := dk_100 (dk_at dksX5_isName_0 10 rfl rfl)
theorem dX5_isName_11 : decode cX5_isName 11 = .ok (.i2l, 1) := dk_133 (dk_at dksX5_isName_0 11 rfl rfl)
theorem dX5_isName_12 : decode cX5_isName 12 = .ok (.invokestatic 136, 3) := dk_184 0 136 (dk_at dksX5_isName_0 12 rfl rfl)
theorem dX5_isName_15 : decode cX5_isName 15 = .ok (.ireturn, 1) := dk_172 (dk_at dksX5_isName_0 15 rfl rfl)
abbrev cX5_open : ByteArray := prog_10_method_45_code
def yX5_open : MethodName := ⟨RX5, "open", "(II)I"⟩
def dkwX5_open_1 : List UInt8 := [28, 182, 1, 39, 153, 0, 7, 4, 167, 0, 9, 3, 167, 0, 5, 16, 254, 172]
abbrev dktX5_open_1 : List UInt8 := dkwX5_open_1 ++ []
def dkwX5_open_0 : List UInt8 := [42, 3, 181, 0, 131, 42, 27, 133, 182, 1, 29, 153, 0, 28, 42, 28, 182, 1, 36, 153, 0, 20, 42, 27]
abbrev dktX5_open_0 : List UInt8 := dkwX5_open_0 ++ dktX5_open_1
theorem dksX5_open_0 : cX5_open.data.toList.drop 0 = dktX5_open_0 := by decide +kernel
theorem dksX5_open_1 : cX5_open.data.toList.drop 24 = dktX5_open_1 := dk_seg dksX5_open_0 24 rfl rfl
theorem dX5_open_0 : decode cX5_open 0 = .ok (.aload_n 0, 1) := dk_42 (dk_at dksX5_open_0 0 rfl rfl)
theorem dX5_open_1 : decode cX5_open 1 = .ok (.iconst 0, 1) := dk_3 (dk_at dksX5_open_0 1 rfl rfl)
theorem dX5_open_2 : decode cX5_open 2 = .ok (.putfield 131, 3) := dk_181 0 131 (dk_at dksX5_open_0 2 rfl rfl)
theorem dX5_open_5 : decode cX5_open 5 = .ok (.aload_n 0, 1) := dk_42 (dk_at dksX5_open_0 5 rfl rfl)
theorem dX5_open_6 : decode cX5_open 6 = .ok (.iload_n 1, 1) := dk_27 (dk_at dksX5_open_0 6 rfl rfl)
theorem dX5_open_7 : decode cX5_open 7 = .ok (.i2l, 1) := dk_133 (dk_at dksX5_open_0 7 rfl rfl)
theorem dX5_open_8 : decode cX5_open 8 = .ok (.invokevirtual 285, 3) := dk_182 1 29 (dk_at dksX5_open_0 8 rfl rfl)
theorem dX5_open_11 : decode cX5_open 11 = .ok (.ifCond .eq 28, 3) := dk_153 0 28 (dk_at dksX5_open_0 11 rfl rfl)
theorem dX5_open_14 : decode cX5_open 14 = .ok (.aload_n 0, 1) := dk_42 (dk_at dksX5_open_0 14 rfl rfl)
theorem dX5_open_15 : decode cX5_open 15 = .ok (.iload_n 2, 1) := dk_28 (dk_at dksX5_open_0 15 rfl rfl)
theorem dX5_open_16 : decode cX5_open 16 = .ok (.invokevirtual 292, 3) := dk_182 1 36 (dk_at dksX5_open_0 16 rfl rfl)
theorem dX5_open_19 : decode cX5_open 19 = .ok (.ifCond .eq 20, 3) := dk_153 0 20 (dk_at dksX5_open_0 19 rfl rfl)
theorem dX5_open_22 : decode cX5_open 22 = .ok (.aload_n 0, 1) := dk_42 (dk_at dksX5_open_0 22 rfl rfl)
theorem dX5_open_23 : decode cX5_open 23 = .ok (.iload_n 1, 1) := dk_27 (dk_at dksX5_open_0 23 rfl rfl)
theorem dX5_open_24 : decode cX5_open 24 = .ok (.iload_n 2, 1) := dk_28 (dk_at dksX5_open_1 0 rfl rfl)
theorem dX5_open_25 : decode cX5_open 25 = .ok (.invokevirtual 295, 3) := dk_182 1 39 (dk_at dksX5_open_1 1 rfl rfl)
theorem dX5_open_28 : decode cX5_open 28 = .ok (.ifCond .eq 7, 3) := dk_153 0 7 (dk_at dksX5_open_1 4 rfl rfl)
theorem dX5_open_31 : decode cX5_open 31 = .ok (.iconst 1, 1) := dk_4 (dk_at dksX5_open_1 7 rfl rfl)
theorem dX5_open_32 : decode cX5_open 32 = .ok (.goto 9, 3) := dk_167 0 9 (dk_at dksX5_open_1 8 rfl rfl)
theorem dX5_open_35 : decode cX5_open 35 = .ok (.iconst 0, 1) := dk_3 (dk_at dksX5_open_1 11 rfl rfl)
theorem dX5_open_36 : decode cX5_open 36 = .ok (.goto 5, 3) := dk_167 0 5 (dk_at dksX5_open_1 12 rfl rfl)
theorem dX5_open_39 : decode cX5_open 39 = .ok (.bipush (-2), 2) := dk_16 254 (dk_at dksX5_open_1 15 rfl rfl)
theorem dX5_open_41 : decode cX5_open 41 = .ok (.ireturn, 1) := dk_172 (dk_at dksX5_open_1 17 rfl rfl)
abbrev cX5_isSquare : ByteArray := prog_10_method_39_code
def yX5_isSquare : MethodName := ⟨RX5, "isSquare", "(J)Z"⟩
def dkwX5_isSquare_0 : List UInt8 := [31, 9, 42, 182, 1, 26, 133, 10, 101, 184, 0, 136, 172]
abbrev dktX5_isSquare_0 : List UInt8 := dkwX5_isSquare_0 ++ []
theorem dksX5_isSquare_0 : cX5_isSquare.data.toList.drop 0 = dktX5_isSquare_0 := by decide +kernel
theorem dX5_isSquare_0 : decode cX5_isSquare 0 = .ok (.lload_n 1, 1) := dk_31 (dk_at dksX5_isSquare_0 0 rfl rfl)
theorem dX5_isSquare_1 : decode cX5_isSquare 1 = .ok (.lconst 0, 1) := dk_9 (dk_at dksX5_isSquare_0 1 rfl rfl)
theorem dX5_isSquare_2 : decode cX5_isSquare 2 = .ok (.aload_n 0, 1) := dk_42 (dk_at dksX5_isSquare_0 2 rfl rfl)
theorem dX5_isSquare_3 : decode cX5_isSquare 3 = .ok (.invokevirtual 282, 3) := dk_182 1 26 (dk_at dksX5_isSquare_0 3 rfl rfl)
theorem dX5_isSquare_6 : decode cX5_isSquare 6 = .ok (.i2l, 1) := dk_133 (dk_at dksX5_isSquare_0 6 rfl rfl)
theorem dX5_isSquare_7 : decode cX5_isSquare 7 = .ok (.lconst 1, 1) := dk_10 (dk_at dksX5_isSquare_0 7 rfl rfl)
theorem dX5_isSquare_8 : decode cX5_isSquare 8 = .ok (.lsub, 1) := dk_101 (dk_at dksX5_isSquare_0 8 rfl rfl)
theorem dX5_isSquare_9 : decode cX5_isSquare 9 = .ok (.invokestatic 136, 3) := dk_184 0 136 (dk_at dksX5_isSquare_0 9 rfl rfl)
theorem dX5_isSquare_12 : decode cX5_isSquare 12 = .ok (.ireturn, 1) := dk_172 (dk_at dksX5_isSquare_0 12 rfl rfl)
abbrev cX5_squares : ByteArray := prog_10_method_38_code
def yX5_squares : MethodName := ⟨RX5, "squares", "()I"⟩
def dkwX5_squares_0 : List UInt8 := [42, 182, 1, 23, 153, 0, 14, 4, 42, 180, 0, 34, 3, 46, 120, 167, 0, 4, 3, 172]
abbrev dktX5_squares_0 : List UInt8 := dkwX5_squares_0 ++ []
theorem dksX5_squares_0 : cX5_squares.data.toList.drop 0 = dktX5_squares_0 := by decide +kernel
theorem dX5_squares_0 : decode cX5_squares 0 = .ok (.aload_n 0, 1) := dk_42 (dk_at dksX5_squares_0 0 rfl rfl)
theorem dX5_squares_1 : decode cX5_squares 1 = .ok (.invokevirtual 279, 3) := dk_182 1 23 (dk_at dksX5_squares_0 1 rfl rfl)
theorem dX5_squares_4 : decode cX5_squares 4 = .ok (.ifCond .eq 14, 3) := dk_153 0 14 (dk_at dksX5_squares_0 4 rfl rfl)
theorem dX5_squares_7 : decode cX5_squares 7 = .ok (.iconst 1, 1) := dk_4 (dk_at dksX5_squares_0 7 rfl rfl)
theorem dX5_squares_8 : decode cX5_squares 8 = .ok (.aload_n 0, 1) := dk_42 (dk_at dksX5_squares_0 8 rfl rfl)
theorem dX5_squares_9 : decode cX5_squares 9 = .ok (.getfield 34, 3) := dk_180 0 34 (dk_at dksX5_squares_0 9 rfl rfl)
theorem dX5_squares_12 : decode cX5_squares 12 = .ok (.iconst 0, 1) := dk_3 (dk_at dksX5_squares_0 12 rfl rfl)
theorem dX5_squares_13 : decode cX5_squares 13 = .ok (.iaload, 1) := dk_46 (dk_at dksX5_squares_0 13 rfl rfl)
theorem dX5_squares_14 : decode cX5_squares 14 = .ok (.ishl, 1) := dk_120 (dk_at dksX5_squares_0 14 rfl rfl)
theorem dX5_squares_15 : decode cX5_squares 15 = .ok (.goto 4, 3) := dk_167 0 4 (dk_at dksX5_squares_0 15 rfl rfl)
theorem dX5_squares_18 : decode cX5_squares 18 = .ok (.iconst 0, 1) := dk_3 (dk_at dksX5_squares_0 18 rfl rfl)
theorem dX5_squares_19 : decode cX5_squares 19 = .ok (.ireturn, 1) := dk_172 (dk_at dksX5_squares_0 19 rfl rfl)
abbrev cX5_isTown : ByteArray := prog_10_method_36_code
def yX5_isTown : MethodName := ⟨RX5, "isTown", "()Z"⟩
def dkwX5_isTown_0 : List UInt8 := [42, 180, 0, 31, 3, 46, 158, 0, 7, 4, 167, 0, 4, 3, 172]
abbrev dktX5_isTown_0 : List UInt8 := dkwX5_isTown_0 ++ []
theorem dksX5_isTown_0 : cX5_isTown.data.toList.drop 0 = dktX5_isTown_0 := by decide +kernel
theorem dX5_isTown_0 : decode cX5_isTown 0 = .ok (.aload_n 0, 1) := dk_42 (dk_at dksX5_isTown_0 0 rfl rfl)
theorem dX5_isTown_1 : decode cX5_isTown 1 = .ok (.getfield 31, 3) := dk_180 0 31 (dk_at dksX5_isTown_0 1 rfl rfl)
theorem dX5_isTown_4 : decode cX5_isTown 4 = .ok (.iconst 0, 1) := dk_3 (dk_at dksX5_isTown_0 4 rfl rfl)
theorem dX5_isTown_5 : decode cX5_isTown 5 = .ok (.iaload, 1) := dk_46 (dk_at dksX5_isTown_0 5 rfl rfl)
theorem dX5_isTown_6 : decode cX5_isTown 6 = .ok (.ifCond .le 7, 3) := dk_158 0 7 (dk_at dksX5_isTown_0 6 rfl rfl)
theorem dX5_isTown_9 : decode cX5_isTown 9 = .ok (.iconst 1, 1) := dk_4 (dk_at dksX5_isTown_0 9 rfl rfl)
theorem dX5_isTown_10 : decode cX5_isTown 10 = .ok (.goto 4, 3) := dk_167 0 4 (dk_at dksX5_isTown_0 10 rfl rfl)
theorem dX5_isTown_13 : decode cX5_isTown 13 = .ok (.iconst 0, 1) := dk_3 (dk_at dksX5_isTown_0 13 rfl rfl)
theorem dX5_isTown_14 : decode cX5_isTown 14 = .ok (.ireturn, 1) := dk_172 (dk_at dksX5_isTown_0 14 rfl rfl)
abbrev cX5_isOpen : ByteArray := prog_10_method_43_code
def yX5_isOpen : MethodName := ⟨RX5, "isOpen", "(II)Z"⟩
def dkwX5_isOpen_0 : List UInt8 := [42, 180, 0, 46, 27, 46, 28, 184, 1, 32, 154, 0, 7, 4, 167, 0, 4, 3, 172]
abbrev dktX5_isOpen_0 : List UInt8 := dkwX5_isOpen_0 ++ []
theorem dksX5_isOpen_0 : cX5_isOpen.data.toList.drop 0 = dktX5_isOpen_0 := by decide +kernel
theorem dX5_isOpen_0 : decode cX5_isOpen 0 = .ok (.aload_n 0, 1) := dk_42 (dk_at dksX5_isOpen_0 0 rfl rfl)
theorem dX5_isOpen_1 : decode cX5_isOpen 1 = .ok (.getfield 46, 3) := dk_180 0 46 (dk_at dksX5_isOpen_0 1 rfl rfl)
theorem dX5_isOpen_4 : decode cX5_isOpen 4 = .ok (.iload_n 1, 1) := dk_27 (dk_at dksX5_isOpen_0 4 rfl rfl)
theorem dX5_isOpen_5 : decode cX5_isOpen 5 = .ok (.iaload, 1) := dk_46 (dk_at dksX5_isOpen_0 5 rfl rfl)
theorem dX5_isOpen_6 : decode cX5_isOpen 6 = .ok (.iload_n 2, 1) := dk_28 (dk_at dksX5_isOpen_0 6 rfl rfl)
theorem dX5_isOpen_7 : decode cX5_isOpen 7 = .ok (.invokestatic 288, 3) := dk_184 1 32 (dk_at dksX5_isOpen_0 7 rfl rfl)
theorem dX5_isOpen_10 : decode cX5_isOpen 10 = .ok (.ifCond .ne 7, 3) := dk_154 0 7 (dk_at dksX5_isOpen_0 10 rfl rfl)
theorem dX5_isOpen_13 : decode cX5_isOpen 13 = .ok (.iconst 1, 1) := dk_4 (dk_at dksX5_isOpen_0 13 rfl rfl)
theorem dX5_isOpen_14 : decode cX5_isOpen 14 = .ok (.goto 4, 3) := dk_167 0 4 (dk_at dksX5_isOpen_0 14 rfl rfl)
theorem dX5_isOpen_17 : decode cX5_isOpen 17 = .ok (.iconst 0, 1) := dk_3 (dk_at dksX5_isOpen_0 17 rfl rfl)
theorem dX5_isOpen_18 : decode cX5_isOpen 18 = .ok (.ireturn, 1) := dk_172 (dk_at dksX5_isOpen_0 18 rfl rfl)
abbrev cX5_isBit : ByteArray := prog_10_method_42_code
def yX5_isBit : MethodName := ⟨RX5, "isBit", "(II)Z"⟩
def dkwX5_isBit_0 : List UInt8 := [26, 27, 122, 4, 126, 4, 160, 0, 7, 4, 167, 0, 4, 3, 172]
abbrev dktX5_isBit_0 : List UInt8 := dkwX5_isBit_0 ++ []
theorem dksX5_isBit_0 : cX5_isBit.data.toList.drop 0 = dktX5_isBit_0 := by decide +kernel
theorem dX5_isBit_0 : decode cX5_isBit 0 = .ok (.iload_n 0, 1) := dk_26 (dk_at dksX5_isBit_0 0 rfl rfl)
theorem dX5_isBit_1 : decode cX5_isBit 1 = .ok (.iload_n 1, 1) := dk_27 (dk_at dksX5_isBit_0 1 rfl rfl)
theorem dX5_isBit_2 : decode cX5_isBit 2 = .ok (.ishr, 1) := dk_122 (dk_at dksX5_isBit_0 2 rfl rfl)
theorem dX5_isBit_3 : decode cX5_isBit 3 = .ok (.iconst 1, 1) := dk_4 (dk_at dksX5_isBit_0 3 rfl rfl)
theorem dX5_isBit_4 : decode cX5_isBit 4 = .ok (.iand, 1) := dk_126 (dk_at dksX5_isBit_0 4 rfl rfl)
theorem dX5_isBit_5 : decode cX5_isBit 5 = .ok (.iconst 1, 1) := dk_4 (dk_at dksX5_isBit_0 5 rfl rfl)
theorem dX5_isBit_6 : decode cX5_isBit 6 = .ok (.if_icmp .ne 7, 3) := dk_160 0 7 (dk_at dksX5_isBit_0 6 rfl rfl)
theorem dX5_isBit_9 : decode cX5_isBit 9 = .ok (.iconst 1, 1) := dk_4 (dk_at dksX5_isBit_0 9 rfl rfl)
theorem dX5_isBit_10 : decode cX5_isBit 10 = .ok (.goto 4, 3) := dk_167 0 4 (dk_at dksX5_isBit_0 10 rfl rfl)
theorem dX5_isBit_13 : decode cX5_isBit 13 = .ok (.iconst 0, 1) := dk_3 (dk_at dksX5_isBit_0 13 rfl rfl)
theorem dX5_isBit_14 : decode cX5_isBit 14 = .ok (.ireturn, 1) := dk_172 (dk_at dksX5_isBit_0 14 rfl rfl)
abbrev cX5_step : ByteArray := prog_10_method_46_code
def yX5_step : MethodName := ⟨RX5, "step", "(II)I"⟩
def dkwX5_step_1 : List UInt8 := [28, 182, 1, 39, 153, 0, 11, 27, 4, 28, 120, 130, 167, 0, 9, 2, 167, 0, 5, 16, 254, 172]
abbrev dktX5_step_1 : List UInt8 := dkwX5_step_1 ++ []
def dkwX5_step_0 : List UInt8 := [42, 3, 181, 0, 131, 42, 27, 133, 182, 1, 29, 153, 0, 32, 42, 28, 182, 1, 36, 153, 0, 24, 42, 27]
abbrev dktX5_step_0 : List UInt8 := dkwX5_step_0 ++ dktX5_step_1
theorem dksX5_step_0 : cX5_step.data.toList.drop 0 = dktX5_step_0 := by decide +kernel
theorem dksX5_step_1 : cX5_step.data.toList.drop 24 = dktX5_step_1 := dk_seg dksX5_step_0 24 rfl rfl
theorem dX5_step_0 : decode cX5_step 0 = .ok (.aload_n 0, 1) := dk_42 (dk_at dksX5_step_0 0 rfl rfl)
theorem dX5_step_1 : decode cX5_step 1 = .ok (.iconst 0, 1) := dk_3 (dk_at dksX5_step_0 1 rfl rfl)
theorem dX5_step_2 : decode cX5_step 2 = .ok (.putfield 131, 3) := dk_181 0 131 (dk_at dksX5_step_0 2 rfl rfl)
theorem dX5_step_5 : decode cX5_step 5 = .ok (.aload_n 0, 1) := dk_42 (dk_at dksX5_step_0 5 rfl rfl)
theorem dX5_step_6 : decode cX5_step 6 = .ok (.iload_n 1, 1) := dk_27 (dk_at dksX5_step_0 6 rfl rfl)
theorem dX5_step_7 : decode cX5_step 7 = .ok (.i2l, 1) := dk_133 (dk_at dksX5_step_0 7 rfl rfl)
theorem dX5_step_8 : decode cX5_step 8 = .ok (.invokevirtual 285, 3) := dk_182 1 29 (dk_at dksX5_step_0 8 rfl rfl)
theorem dX5_step_11 : decode cX5_step 11 = .ok (.ifCond .eq 32, 3) := dk_153 0 32 (dk_at dksX5_step_0 11 rfl rfl)
theorem dX5_step_14 : decode cX5_step 14 = .ok (.aload_n 0, 1) := dk_42 (dk_at dksX5_step_0 14 rfl rfl)
theorem dX5_step_15 : decode cX5_step 15 = .ok (.iload_n 2, 1) := dk_28 (dk_at dksX5_step_0 15 rfl rfl)
theorem dX5_step_16 : decode cX5_step 16 = .ok (.invokevirtual 292, 3) := dk_182 1 36 (dk_at dksX5_step_0 16 rfl rfl)
theorem dX5_step_19 : decode cX5_step 19 = .ok (.ifCond .eq 24, 3) := dk_153 0 24 (dk_at dksX5_step_0 19 rfl rfl)
theorem dX5_step_22 : decode cX5_step 22 = .ok (.aload_n 0, 1) := dk_42 (dk_at dksX5_step_0 22 rfl rfl)
theorem dX5_step_23 : decode cX5_step 23 = .ok (.iload_n 1, 1) := dk_27 (dk_at dksX5_step_0 23 rfl rfl)
theorem dX5_step_24 : decode cX5_step 24 = .ok (.iload_n 2, 1) := dk_28 (dk_at dksX5_step_1 0 rfl rfl)
theorem dX5_step_25 : decode cX5_step 25 = .ok (.invokevirtual 295, 3) := dk_182 1 39 (dk_at dksX5_step_1 1 rfl rfl)
theorem dX5_step_28 : decode cX5_step 28 = .ok (.ifCond .eq 11, 3) := dk_153 0 11 (dk_at dksX5_step_1 4 rfl rfl)
theorem dX5_step_31 : decode cX5_step 31 = .ok (.iload_n 1, 1) := dk_27 (dk_at dksX5_step_1 7 rfl rfl)
theorem dX5_step_32 : decode cX5_step 32 = .ok (.iconst 1, 1) := dk_4 (dk_at dksX5_step_1 8 rfl rfl)
theorem dX5_step_33 : decode cX5_step 33 = .ok (.iload_n 2, 1) := dk_28 (dk_at dksX5_step_1 9 rfl rfl)
theorem dX5_step_34 : decode cX5_step 34 = .ok (.ishl, 1) := dk_120 (dk_at dksX5_step_1 10 rfl rfl)
theorem dX5_step_35 : decode cX5_step 35 = .ok (.ixor, 1) := dk_130 (dk_at dksX5_step_1 11 rfl rfl)
theorem dX5_step_36 : decode cX5_step 36 = .ok (.goto 9, 3) := dk_167 0 9 (dk_at dksX5_step_1 12 rfl rfl)
theorem dX5_step_39 : decode cX5_step 39 = .ok (.iconst (-1), 1) := dk_2 (dk_at dksX5_step_1 15 rfl rfl)
theorem dX5_step_40 : decode cX5_step 40 = .ok (.goto 5, 3) := dk_167 0 5 (dk_at dksX5_step_1 16 rfl rfl)
theorem dX5_step_43 : decode cX5_step 43 = .ok (.bipush (-2), 2) := dk_16 254 (dk_at dksX5_step_1 19 rfl rfl)
theorem dX5_step_45 : decode cX5_step 45 = .ok (.ireturn, 1) := dk_172 (dk_at dksX5_step_1 21 rfl rfl)
abbrev cX5_shut : ByteArray := prog_10_method_48_code
def yX5_shut : MethodName := ⟨RX5, "shut", "(III)I"⟩
def dkwX5_shut_2 : List UInt8 := [27, 28, 29, 4, 160, 0, 7, 4, 167, 0, 4, 3, 182, 1, 42, 21, 4, 172]
abbrev dktX5_shut_2 : List UInt8 := dkwX5_shut_2 ++ []
def dkwX5_shut_1 : List UInt8 := [9, 10, 184, 0, 136, 154, 0, 6, 16, 254, 172, 42, 180, 0, 46, 27, 46, 28, 122, 4, 126, 54, 4, 42]
abbrev dktX5_shut_1 : List UInt8 := dkwX5_shut_1 ++ dktX5_shut_2
def dkwX5_shut_0 : List UInt8 := [42, 3, 181, 0, 131, 42, 27, 133, 182, 1, 29, 153, 0, 21, 42, 28, 182, 1, 36, 153, 0, 13, 29, 133]
abbrev dktX5_shut_0 : List UInt8 := dkwX5_shut_0 ++ dktX5_shut_1
theorem dksX5_shut_0 : cX5_shut.data.toList.drop 0 = dktX5_shut_0 := by decide +kernel
theorem dksX5_shut_1 : cX5_shut.data.toList.drop 24 = dktX5_shut_1 := dk_seg dksX5_shut_0 24 rfl rfl
theorem dksX5_shut_2 : cX5_shut.data.toList.drop 48 = dktX5_shut_2 := dk_seg dksX5_shut_1 24 rfl rfl
theorem dX5_shut_0 : decode cX5_shut 0 = .ok (.aload_n 0, 1) := dk_42 (dk_at dksX5_shut_0 0 rfl rfl)
theorem dX5_shut_1 : decode cX5_shut 1 = .ok (.iconst 0, 1) := dk_3 (dk_at dksX5_shut_0 1 rfl rfl)
theorem dX5_shut_2 : decode cX5_shut 2 = .ok (.putfield 131, 3) := dk_181 0 131 (dk_at dksX5_shut_0 2 rfl rfl)
theorem dX5_shut_5 : decode cX5_shut 5 = .ok (.aload_n 0, 1) := dk_42 (dk_at dksX5_shut_0 5 rfl rfl)
theorem dX5_shut_6 : decode cX5_shut 6 = .ok (.iload_n 1, 1) := dk_27 (dk_at dksX5_shut_0 6 rfl rfl)
theorem dX5_shut_7 : decode cX5_shut 7 = .ok (.i2l, 1) := dk_133 (dk_at dksX5_shut_0 7 rfl rfl)
theorem dX5_shut_8 : decode cX5_shut 8 = .ok (.invokevirtual 285, 3) := dk_182 1 29 (dk_at dksX5_shut_0 8 rfl rfl)
theorem dX5_shut_11 : decode cX5_shut 11 = .ok (.ifCond .eq 21, 3) := dk_153 0 21 (dk_at dksX5_shut_0 11 rfl rfl)
theorem dX5_shut_14 : decode cX5_shut 14 = .ok (.aload_n 0, 1) := dk_42 (dk_at dksX5_shut_0 14 rfl rfl)
theorem dX5_shut_15 : decode cX5_shut 15 = .ok (.iload_n 2, 1) := dk_28 (dk_at dksX5_shut_0 15 rfl rfl)
theorem dX5_shut_16 : decode cX5_shut 16 = .ok (.invokevirtual 292, 3) := dk_182 1 36 (dk_at dksX5_shut_0 16 rfl rfl)
theorem dX5_shut_19 : decode cX5_shut 19 = .ok (.ifCond .eq 13, 3) := dk_153 0 13 (dk_at dksX5_shut_0 19 rfl rfl)
theorem dX5_shut_22 : decode cX5_shut 22 = .ok (.iload_n 3, 1) := dk_29 (dk_at dksX5_shut_0 22 rfl rfl)
theorem dX5_shut_23 : decode cX5_shut 23 = .ok (.i2l, 1) := dk_133 (dk_at dksX5_shut_0 23 rfl rfl)
theorem dX5_shut_24 : decode cX5_shut 24 = .ok (.lconst 0, 1) := dk_9 (dk_at dksX5_shut_1 0 rfl rfl)
theorem dX5_shut_25 : decode cX5_shut 25 = .ok (.lconst 1, 1) := dk_10 (dk_at dksX5_shut_1 1 rfl rfl)
theorem dX5_shut_26 : decode cX5_shut 26 = .ok (.invokestatic 136, 3) := dk_184 0 136 (dk_at dksX5_shut_1 2 rfl rfl)
theorem dX5_shut_29 : decode cX5_shut 29 = .ok (.ifCond .ne 6, 3) := dk_154 0 6 (dk_at dksX5_shut_1 5 rfl rfl)
theorem dX5_shut_32 : decode cX5_shut 32 = .ok (.bipush (-2), 2) := dk_16 254 (dk_at dksX5_shut_1 8 rfl rfl)
theorem dX5_shut_34 : decode cX5_shut 34 = .ok (.ireturn, 1) := dk_172 (dk_at dksX5_shut_1 10 rfl rfl)
theorem dX5_shut_35 : decode cX5_shut 35 = .ok (.aload_n 0, 1) := dk_42 (dk_at dksX5_shut_1 11 rfl rfl)
theorem dX5_shut_36 : decode cX5_shut 36 = .ok (.getfield 46, 3) := dk_180 0 46 (dk_at dksX5_shut_1 12 rfl rfl)
theorem dX5_shut_39 : decode cX5_shut 39 = .ok (.iload_n 1, 1) := dk_27 (dk_at dksX5_shut_1 15 rfl rfl)
theorem dX5_shut_40 : decode cX5_shut 40 = .ok (.iaload, 1) := dk_46 (dk_at dksX5_shut_1 16 rfl rfl)
theorem dX5_shut_41 : decode cX5_shut 41 = .ok (.iload_n 2, 1) := dk_28 (dk_at dksX5_shut_1 17 rfl rfl)
theorem dX5_shut_42 : decode cX5_shut 42 = .ok (.ishr, 1) := dk_122 (dk_at dksX5_shut_1 18 rfl rfl)
theorem dX5_shut_43 : decode cX5_shut 43 = .ok (.iconst 1, 1) := dk_4 (dk_at dksX5_shut_1 19 rfl rfl)
theorem dX5_shut_44 : decode cX5_shut 44 = .ok (.iand, 1) := dk_126 (dk_at dksX5_shut_1 20 rfl rfl)
theorem dX5_shut_45 : decode cX5_shut 45 = .ok (.istore 4, 2) := dk_54 4 (dk_at dksX5_shut_1 21 rfl rfl)
theorem dX5_shut_47 : decode cX5_shut 47 = .ok (.aload_n 0, 1) := dk_42 (dk_at dksX5_shut_1 23 rfl rfl)
theorem dX5_shut_48 : decode cX5_shut 48 = .ok (.iload_n 1, 1) := dk_27 (dk_at dksX5_shut_2 0 rfl rfl)
theorem dX5_shut_49 : decode cX5_shut 49 = .ok (.iload_n 2, 1) := dk_28 (dk_at dksX5_shut_2 1 rfl rfl)
theorem dX5_shut_50 : decode cX5_shut 50 = .ok (.iload_n 3, 1) := dk_29 (dk_at dksX5_shut_2 2 rfl rfl)
theorem dX5_shut_51 : decode cX5_shut 51 = .ok (.iconst 1, 1) := dk_4 (dk_at dksX5_shut_2 3 rfl rfl)
theorem dX5_shut_52 : decode cX5_shut 52 = .ok (.if_icmp .ne 7, 3) := dk_160 0 7 (dk_at dksX5_shut_2 4 rfl rfl)
theorem dX5_shut_55 : decode cX5_shut 55 = .ok (.iconst 1, 1) := dk_4 (dk_at dksX5_shut_2 7 rfl rfl)
theorem dX5_shut_56 : decode cX5_shut 56 = .ok (.goto 4, 3) := dk_167 0 4 (dk_at dksX5_shut_2 8 rfl rfl)
theorem dX5_shut_59 : decode cX5_shut 59 = .ok (.iconst 0, 1) := dk_3 (dk_at dksX5_shut_2 11 rfl rfl)
theorem dX5_shut_60 : decode cX5_shut 60 = .ok (.invokevirtual 298, 3) := dk_182 1 42 (dk_at dksX5_shut_2 12 rfl rfl)
theorem dX5_shut_63 : decode cX5_shut 63 = .ok (.iload 4, 2) := dk_21 4 (dk_at dksX5_shut_2 15 rfl rfl)
theorem dX5_shut_65 : decode cX5_shut 65 = .ok (.ireturn, 1) := dk_172 (dk_at dksX5_shut_2 17 rfl rfl)
abbrev cX5_sets : ByteArray := prog_10_method_47_code
def yX5_sets : MethodName := ⟨RX5, "sets", "(IIZ)V"⟩
def dkwX5_sets_3 : List UInt8 := [21, 4, 46, 4, 28, 120, 2, 130, 126, 79, 177]
abbrev dktX5_sets_3 : List UInt8 := dkwX5_sets_3 ++ []
def dkwX5_sets_2 : List UInt8 := [21, 4, 29, 153, 0, 17, 42, 180, 0, 46, 21, 4, 46, 4, 28, 120, 128, 167, 0, 16, 42, 180, 0, 46]
abbrev dktX5_sets_2 : List UInt8 := dkwX5_sets_2 ++ dktX5_sets_3
def dkwX5_sets_1 : List UInt8 := [180, 0, 46, 27, 46, 4, 28, 120, 2, 130, 126, 79, 27, 4, 28, 120, 130, 54, 4, 42, 180, 0, 46]
abbrev dktX5_sets_1 : List UInt8 := dkwX5_sets_1 ++ dktX5_sets_2
def dkwX5_sets_0 : List UInt8 := [42, 180, 0, 46, 27, 29, 153, 0, 16, 42, 180, 0, 46, 27, 46, 4, 28, 120, 128, 167, 0, 15, 42]
abbrev dktX5_sets_0 : List UInt8 := dkwX5_sets_0 ++ dktX5_sets_1
theorem dksX5_sets_0 : cX5_sets.data.toList.drop 0 = dktX5_sets_0 := by decide +kernel
theorem dksX5_sets_1 : cX5_sets.data.toList.drop 23 = dktX5_sets_1 := dk_seg dksX5_sets_0 23 rfl rfl
theorem dksX5_sets_2 : cX5_sets.data.toList.drop 46 = dktX5_sets_2 := dk_seg dksX5_sets_1 23 rfl rfl
theorem dksX5_sets_3 : cX5_sets.data.toList.drop 70 = dktX5_sets_3 := dk_seg dksX5_sets_2 24 rfl rfl
theorem dX5_sets_0 : decode cX5_sets 0 = .ok (.aload_n 0, 1) := dk_42 (dk_at dksX5_sets_0 0 rfl rfl)
theorem dX5_sets_1 : decode cX5_sets 1 = .ok (.getfield 46, 3) := dk_180 0 46 (dk_at dksX5_sets_0 1 rfl rfl)
theorem dX5_sets_4 : decode cX5_sets 4 = .ok (.iload_n 1, 1) := dk_27 (dk_at dksX5_sets_0 4 rfl rfl)
theorem dX5_sets_5 : decode cX5_sets 5 = .ok (.iload_n 3, 1) := dk_29 (dk_at dksX5_sets_0 5 rfl rfl)
theorem dX5_sets_6 : decode cX5_sets 6 = .ok (.ifCond .eq 16, 3) := dk_153 0 16 (dk_at dksX5_sets_0 6 rfl rfl)
theorem dX5_sets_9 : decode cX5_sets 9 = .ok (.aload_n 0, 1) := dk_42 (dk_at dksX5_sets_0 9 rfl rfl)
theorem dX5_sets_10 : decode cX5_sets 10 = .ok (.getfield 46, 3) := dk_180 0 46 (dk_at dksX5_sets_0 10 rfl rfl)
theorem dX5_sets_13 : decode cX5_sets 13 = .ok (.iload_n 1, 1) := dk_27 (dk_at dksX5_sets_0 13 rfl rfl)
theorem dX5_sets_14 : decode cX5_sets 14 = .ok (.iaload, 1) := dk_46 (dk_at dksX5_sets_0 14 rfl rfl)
theorem dX5_sets_15 : decode cX5_sets 15 = .ok (.iconst 1, 1) := dk_4 (dk_at dksX5_sets_0 15 rfl rfl)
theorem dX5_sets_16 : decode cX5_sets 16 = .ok (.iload_n 2, 1) := dk_28 (dk_at dksX5_sets_0 16 rfl rfl)
theorem dX5_sets_17 : decode cX5_sets 17 = .ok (.ishl, 1) := dk_120 (dk_at dksX5_sets_0 17 rfl rfl)
theorem dX5_sets_18 : decode cX5_sets 18 = .ok (.ior, 1) := dk_128 (dk_at dksX5_sets_0 18 rfl rfl)
theorem dX5_sets_19 : decode cX5_sets 19 = .ok (.goto 15, 3) := dk_167 0 15 (dk_at dksX5_sets_0 19 rfl rfl)
theorem dX5_sets_22 : decode cX5_sets 22 = .ok (.aload_n 0, 1) := dk_42 (dk_at dksX5_sets_0 22 rfl rfl)
theorem dX5_sets_23 : decode cX5_sets 23 = .ok (.getfield 46, 3) := dk_180 0 46 (dk_at dksX5_sets_1 0 rfl rfl)
theorem dX5_sets_26 : decode cX5_sets 26 = .ok (.iload_n 1, 1) := dk_27 (dk_at dksX5_sets_1 3 rfl rfl)
theorem dX5_sets_27 : decode cX5_sets 27 = .ok (.iaload, 1) := dk_46 (dk_at dksX5_sets_1 4 rfl rfl)
theorem dX5_sets_28 : decode cX5_sets 28 = .ok (.iconst 1, 1) := dk_4 (dk_at dksX5_sets_1 5 rfl rfl)
theorem dX5_sets_29 : decode cX5_sets 29 = .ok (.iload_n 2, 1) := dk_28 (dk_at dksX5_sets_1 6 rfl rfl)
theorem dX5_sets_30 : decode cX5_sets 30 = .ok (.ishl, 1) := dk_120 (dk_at dksX5_sets_1 7 rfl rfl)
theorem dX5_sets_31 : decode cX5_sets 31 = .ok (.iconst (-1), 1) := dk_2 (dk_at dksX5_sets_1 8 rfl rfl)
theorem dX5_sets_32 : decode cX5_sets 32 = .ok (.ixor, 1) := dk_130 (dk_at dksX5_sets_1 9 rfl rfl)
theorem dX5_sets_33 : decode cX5_sets 33 = .ok (.iand, 1) := dk_126 (dk_at dksX5_sets_1 10 rfl rfl)
theorem dX5_sets_34 : decode cX5_sets 34 = .ok (.iastore, 1) := dk_79 (dk_at dksX5_sets_1 11 rfl rfl)
theorem dX5_sets_35 : decode cX5_sets 35 = .ok (.iload_n 1, 1) := dk_27 (dk_at dksX5_sets_1 12 rfl rfl)
theorem dX5_sets_36 : decode cX5_sets 36 = .ok (.iconst 1, 1) := dk_4 (dk_at dksX5_sets_1 13 rfl rfl)
theorem dX5_sets_37 : decode cX5_sets 37 = .ok (.iload_n 2, 1) := dk_28 (dk_at dksX5_sets_1 14 rfl rfl)
theorem dX5_sets_38 : decode cX5_sets 38 = .ok (.ishl, 1) := dk_120 (dk_at dksX5_sets_1 15 rfl rfl)
theorem dX5_sets_39 : decode cX5_sets 39 = .ok (.ixor, 1) := dk_130 (dk_at dksX5_sets_1 16 rfl rfl)
theorem dX5_sets_40 : decode cX5_sets 40 = .ok (.istore 4, 2) := dk_54 4 (dk_at dksX5_sets_1 17 rfl rfl)
theorem dX5_sets_42 : decode cX5_sets 42 = .ok (.aload_n 0, 1) := dk_42 (dk_at dksX5_sets_1 19 rfl rfl)
theorem dX5_sets_43 : decode cX5_sets 43 = .ok (.getfield 46, 3) := dk_180 0 46 (dk_at dksX5_sets_1 20 rfl rfl)
theorem dX5_sets_46 : decode cX5_sets 46 = .ok (.iload 4, 2) := dk_21 4 (dk_at dksX5_sets_2 0 rfl rfl)
theorem dX5_sets_48 : decode cX5_sets 48 = .ok (.iload_n 3, 1) := dk_29 (dk_at dksX5_sets_2 2 rfl rfl)
theorem dX5_sets_49 : decode cX5_sets 49 = .ok (.ifCond .eq 17, 3) := dk_153 0 17 (dk_at dksX5_sets_2 3 rfl rfl)
theorem dX5_sets_52 : decode cX5_sets 52 = .ok (.aload_n 0, 1) := dk_42 (dk_at dksX5_sets_2 6 rfl rfl)
theorem dX5_sets_53 : decode cX5_sets 53 = .ok (.getfield 46, 3) := dk_180 0 46 (dk_at dksX5_sets_2 7 rfl rfl)
theorem dX5_sets_56 : decode cX5_sets 56 = .ok (.iload 4, 2) := dk_21 4 (dk_at dksX5_sets_2 10 rfl rfl)
theorem dX5_sets_58 : decode cX5_sets 58 = .ok (.iaload, 1) := dk_46 (dk_at dksX5_sets_2 12 rfl rfl)
theorem dX5_sets_59 : decode cX5_sets 59 = .ok (.iconst 1, 1) := dk_4 (dk_at dksX5_sets_2 13 rfl rfl)
theorem dX5_sets_60 : decode cX5_sets 60 = .ok (.iload_n 2, 1) := dk_28 (dk_at dksX5_sets_2 14 rfl rfl)
theorem dX5_sets_61 : decode cX5_sets 61 = .ok (.ishl, 1) := dk_120 (dk_at dksX5_sets_2 15 rfl rfl)
theorem dX5_sets_62 : decode cX5_sets 62 = .ok (.ior, 1) := dk_128 (dk_at dksX5_sets_2 16 rfl rfl)
theorem dX5_sets_63 : decode cX5_sets 63 = .ok (.goto 16, 3) := dk_167 0 16 (dk_at dksX5_sets_2 17 rfl rfl)
theorem dX5_sets_66 : decode cX5_sets 66 = .ok (.aload_n 0, 1) := dk_42 (dk_at dksX5_sets_2 20 rfl rfl)
theorem dX5_sets_67 : decode cX5_sets 67 = .ok (.getfield 46, 3) := dk_180 0 46 (dk_at dksX5_sets_2 21 rfl rfl)
theorem dX5_sets_70 : decode cX5_sets 70 = .ok (.iload 4, 2) := dk_21 4 (dk_at dksX5_sets_3 0 rfl rfl)
theorem dX5_sets_72 : decode cX5_sets 72 = .ok (.iaload, 1) := dk_46 (dk_at dksX5_sets_3 2 rfl rfl)
theorem dX5_sets_73 : decode cX5_sets 73 = .ok (.iconst 1, 1) := dk_4 (dk_at dksX5_sets_3 3 rfl rfl)
theorem dX5_sets_74 : decode cX5_sets 74 = .ok (.iload_n 2, 1) := dk_28 (dk_at dksX5_sets_3 4 rfl rfl)
theorem dX5_sets_75 : decode cX5_sets 75 = .ok (.ishl, 1) := dk_120 (dk_at dksX5_sets_3 5 rfl rfl)
theorem dX5_sets_76 : decode cX5_sets 76 = .ok (.iconst (-1), 1) := dk_2 (dk_at dksX5_sets_3 6 rfl rfl)
theorem dX5_sets_77 : decode cX5_sets 77 = .ok (.ixor, 1) := dk_130 (dk_at dksX5_sets_3 7 rfl rfl)
theorem dX5_sets_78 : decode cX5_sets 78 = .ok (.iand, 1) := dk_126 (dk_at dksX5_sets_3 8 rfl rfl)
theorem dX5_sets_79 : decode cX5_sets 79 = .ok (.iastore, 1) := dk_79 (dk_at dksX5_sets_3 9 rfl rfl)
theorem dX5_sets_80 : decode cX5_sets 80 = .ok (.return_, 1) := dk_177 (dk_at dksX5_sets_3 10 rfl rfl)
abbrev cX5_ways : ByteArray := prog_10_method_49_code
def yX5_ways : MethodName := ⟨RX5, "ways", "(I)I"⟩
def dkwX5_ways_1 : List UInt8 := [27, 46, 184, 1, 46, 100, 167, 0, 5, 16, 254, 172]
abbrev dktX5_ways_1 : List UInt8 := dkwX5_ways_1 ++ []
def dkwX5_ways_0 : List UInt8 := [42, 3, 181, 0, 131, 42, 27, 133, 182, 1, 29, 153, 0, 22, 42, 180, 0, 34, 3, 46, 42, 180, 0, 46]
abbrev dktX5_ways_0 : List UInt8 := dkwX5_ways_0 ++ dktX5_ways_1
theorem dksX5_ways_0 : cX5_ways.data.toList.drop 0 = dktX5_ways_0 := by decide +kernel
theorem dksX5_ways_1 : cX5_ways.data.toList.drop 24 = dktX5_ways_1 := dk_seg dksX5_ways_0 24 rfl rfl
theorem dX5_ways_0 : decode cX5_ways 0 = .ok (.aload_n 0, 1) := dk_42 (dk_at dksX5_ways_0 0 rfl rfl)
theorem dX5_ways_1 : decode cX5_ways 1 = .ok (.iconst 0, 1) := dk_3 (dk_at dksX5_ways_0 1 rfl rfl)
theorem dX5_ways_2 : decode cX5_ways 2 = .ok (.putfield 131, 3) := dk_181 0 131 (dk_at dksX5_ways_0 2 rfl rfl)
theorem dX5_ways_5 : decode cX5_ways 5 = .ok (.aload_n 0, 1) := dk_42 (dk_at dksX5_ways_0 5 rfl rfl)
theorem dX5_ways_6 : decode cX5_ways 6 = .ok (.iload_n 1, 1) := dk_27 (dk_at dksX5_ways_0 6 rfl rfl)
theorem dX5_ways_7 : decode cX5_ways 7 = .ok (.i2l, 1) := dk_133 (dk_at dksX5_ways_0 7 rfl rfl)
theorem dX5_ways_8 : decode cX5_ways 8 = .ok (.invokevirtual 285, 3) := dk_182 1 29 (dk_at dksX5_ways_0 8 rfl rfl)
theorem dX5_ways_11 : decode cX5_ways 11 = .ok (.ifCond .eq 22, 3) := dk_153 0 22 (dk_at dksX5_ways_0 11 rfl rfl)
theorem dX5_ways_14 : decode cX5_ways 14 = .ok (.aload_n 0, 1) := dk_42 (dk_at dksX5_ways_0 14 rfl rfl)
theorem dX5_ways_15 : decode cX5_ways 15 = .ok (.getfield 34, 3) := dk_180 0 34 (dk_at dksX5_ways_0 15 rfl rfl)
theorem dX5_ways_18 : decode cX5_ways 18 = .ok (.iconst 0, 1) := dk_3 (dk_at dksX5_ways_0 18 rfl rfl)
theorem dX5_ways_19 : decode cX5_ways 19 = .ok (.iaload, 1) := dk_46 (dk_at dksX5_ways_0 19 rfl rfl)
theorem dX5_ways_20 : decode cX5_ways 20 = .ok (.aload_n 0, 1) := dk_42 (dk_at dksX5_ways_0 20 rfl rfl)
theorem dX5_ways_21 : decode cX5_ways 21 = .ok (.getfield 46, 3) := dk_180 0 46 (dk_at dksX5_ways_0 21 rfl rfl)
theorem dX5_ways_24 : decode cX5_ways 24 = .ok (.iload_n 1, 1) := dk_27 (dk_at dksX5_ways_1 0 rfl rfl)
theorem dX5_ways_25 : decode cX5_ways 25 = .ok (.iaload, 1) := dk_46 (dk_at dksX5_ways_1 1 rfl rfl)
theorem dX5_ways_26 : decode cX5_ways 26 = .ok (.invokestatic 302, 3) := dk_184 1 46 (dk_at dksX5_ways_1 2 rfl rfl)
theorem dX5_ways_29 : decode cX5_ways 29 = .ok (.isub, 1) := dk_100 (dk_at dksX5_ways_1 5 rfl rfl)
theorem dX5_ways_30 : decode cX5_ways 30 = .ok (.goto 5, 3) := dk_167 0 5 (dk_at dksX5_ways_1 6 rfl rfl)
theorem dX5_ways_33 : decode cX5_ways 33 = .ok (.bipush (-2), 2) := dk_16 254 (dk_at dksX5_ways_1 9 rfl rfl)
theorem dX5_ways_35 : decode cX5_ways 35 = .ok (.ireturn, 1) := dk_172 (dk_at dksX5_ways_1 11 rfl rfl)
abbrev cX5_bits : ByteArray := prog_10_method_41_code
def yX5_bits : MethodName := ⟨RX5, "bits", "(I)I"⟩
def dkwX5_bits_0 : List UInt8 := [3, 60, 26, 61, 28, 153, 0, 15, 132, 1, 1, 28, 28, 4, 100, 126, 61, 167, 255, 243, 27, 172]
abbrev dktX5_bits_0 : List UInt8 := dkwX5_bits_0 ++ []
theorem dksX5_bits_0 : cX5_bits.data.toList.drop 0 = dktX5_bits_0 := by decide +kernel
theorem dX5_bits_0 : decode cX5_bits 0 = .ok (.iconst 0, 1) := dk_3 (dk_at dksX5_bits_0 0 rfl rfl)
theorem dX5_bits_1 : decode cX5_bits 1 = .ok (.istore_n 1, 1) := dk_60 (dk_at dksX5_bits_0 1 rfl rfl)
theorem dX5_bits_2 : decode cX5_bits 2 = .ok (.iload_n 0, 1) := dk_26 (dk_at dksX5_bits_0 2 rfl rfl)
theorem dX5_bits_3 : decode cX5_bits 3 = .ok (.istore_n 2, 1) := dk_61 (dk_at dksX5_bits_0 3 rfl rfl)
theorem dX5_bits_4 : decode cX5_bits 4 = .ok (.iload_n 2, 1) := dk_28 (dk_at dksX5_bits_0 4 rfl rfl)
theorem dX5_bits_5 : decode cX5_bits 5 = .ok (.ifCond .eq 15, 3) := dk_153 0 15 (dk_at dksX5_bits_0 5 rfl rfl)
theorem dX5_bits_8 : decode cX5_bits 8 = .ok (.iinc 1 1, 3) := dk_132 1 1 (dk_at dksX5_bits_0 8 rfl rfl)
theorem dX5_bits_11 : decode cX5_bits 11 = .ok (.iload_n 2, 1) := dk_28 (dk_at dksX5_bits_0 11 rfl rfl)
theorem dX5_bits_12 : decode cX5_bits 12 = .ok (.iload_n 2, 1) := dk_28 (dk_at dksX5_bits_0 12 rfl rfl)
theorem dX5_bits_13 : decode cX5_bits 13 = .ok (.iconst 1, 1) := dk_4 (dk_at dksX5_bits_0 13 rfl rfl)
theorem dX5_bits_14 : decode cX5_bits 14 = .ok (.isub, 1) := dk_100 (dk_at dksX5_bits_0 14 rfl rfl)
theorem dX5_bits_15 : decode cX5_bits 15 = .ok (.iand, 1) := dk_126 (dk_at dksX5_bits_0 15 rfl rfl)
theorem dX5_bits_16 : decode cX5_bits 16 = .ok (.istore_n 2, 1) := dk_61 (dk_at dksX5_bits_0 16 rfl rfl)
theorem dX5_bits_17 : decode cX5_bits 17 = .ok (.goto (-13), 3) := dk_167 255 243 (dk_at dksX5_bits_0 17 rfl rfl)
theorem dX5_bits_20 : decode cX5_bits 20 = .ok (.iload_n 1, 1) := dk_27 (dk_at dksX5_bits_0 20 rfl rfl)
theorem dX5_bits_21 : decode cX5_bits 21 = .ok (.ireturn, 1) := dk_172 (dk_at dksX5_bits_0 21 rfl rfl)
abbrev cX5_opposite : ByteArray := prog_10_method_50_code
def yX5_opposite : MethodName := ⟨RX5, "opposite", "(I)I"⟩
def dkwX5_opposite_1 : List UInt8 := [167, 0, 5, 16, 254, 172]
abbrev dktX5_opposite_1 : List UInt8 := dkwX5_opposite_1 ++ []
def dkwX5_opposite_0 : List UInt8 := [42, 3, 181, 0, 131, 42, 27, 133, 182, 1, 29, 153, 0, 14, 42, 182, 1, 26, 4, 100, 27, 100]
abbrev dktX5_opposite_0 : List UInt8 := dkwX5_opposite_0 ++ dktX5_opposite_1
theorem dksX5_opposite_0 : cX5_opposite.data.toList.drop 0 = dktX5_opposite_0 := by decide +kernel
theorem dksX5_opposite_1 : cX5_opposite.data.toList.drop 22 = dktX5_opposite_1 := dk_seg dksX5_opposite_0 22 rfl rfl
theorem dX5_opposite_0 : decode cX5_opposite 0 = .ok (.aload_n 0, 1) := dk_42 (dk_at dksX5_opposite_0 0 rfl rfl)
theorem dX5_opposite_1 : decode cX5_opposite 1 = .ok (.iconst 0, 1) := dk_3 (dk_at dksX5_opposite_0 1 rfl rfl)
theorem dX5_opposite_2 : decode cX5_opposite 2 = .ok (.putfield 131, 3) := dk_181 0 131 (dk_at dksX5_opposite_0 2 rfl rfl)
theorem dX5_opposite_5 : decode cX5_opposite 5 = .ok (.aload_n 0, 1) := dk_42 (dk_at dksX5_opposite_0 5 rfl rfl)
theorem dX5_opposite_6 : decode cX5_opposite 6 = .ok (.iload_n 1, 1) := dk_27 (dk_at dksX5_opposite_0 6 rfl rfl)
theorem dX5_opposite_7 : decode cX5_opposite 7 = .ok (.i2l, 1) := dk_133 (dk_at dksX5_opposite_0 7 rfl rfl)
theorem dX5_opposite_8 : decode cX5_opposite 8 = .ok (.invokevirtual 285, 3) := dk_182 1 29 (dk_at dksX5_opposite_0 8 rfl rfl)
theorem dX5_opposite_11 : decode cX5_opposite 11 = .ok (.ifCond .eq 14, 3) := dk_153 0 14 (dk_at dksX5_opposite_0 11 rfl rfl)
theorem dX5_opposite_14 : decode cX5_opposite 14 = .ok (.aload_n 0, 1) := dk_42 (dk_at dksX5_opposite_0 14 rfl rfl)
theorem dX5_opposite_15 : decode cX5_opposite 15 = .ok (.invokevirtual 282, 3) := dk_182 1 26 (dk_at dksX5_opposite_0 15 rfl rfl)
theorem dX5_opposite_18 : decode cX5_opposite 18 = .ok (.iconst 1, 1) := dk_4 (dk_at dksX5_opposite_0 18 rfl rfl)
theorem dX5_opposite_19 : decode cX5_opposite 19 = .ok (.isub, 1) := dk_100 (dk_at dksX5_opposite_0 19 rfl rfl)
theorem dX5_opposite_20 : decode cX5_opposite 20 = .ok (.iload_n 1, 1) := dk_27 (dk_at dksX5_opposite_0 20 rfl rfl)
theorem dX5_opposite_21 : decode cX5_opposite 21 = .ok (.isub, 1) := dk_100 (dk_at dksX5_opposite_0 21 rfl rfl)
theorem dX5_opposite_22 : decode cX5_opposite 22 = .ok (.goto 5, 3) := dk_167 0 5 (dk_at dksX5_opposite_1 0 rfl rfl)
theorem dX5_opposite_25 : decode cX5_opposite 25 = .ok (.bipush (-2), 2) := dk_16 254 (dk_at dksX5_opposite_1 3 rfl rfl)
theorem dX5_opposite_27 : decode cX5_opposite 27 = .ok (.ireturn, 1) := dk_172 (dk_at dksX5_opposite_1 5 rfl rfl)
abbrev cX5_apart : ByteArray := prog_10_method_51_code
def yX5_apart : MethodName := ⟨RX5, "apart", "(II)I"⟩
def dkwX5_apart_1 : List UInt8 := [28, 130, 184, 1, 46, 167, 0, 5, 16, 254, 172]
abbrev dktX5_apart_1 : List UInt8 := dkwX5_apart_1 ++ []
def dkwX5_apart_0 : List UInt8 := [42, 3, 181, 0, 131, 42, 27, 133, 182, 1, 29, 153, 0, 21, 42, 28, 133, 182, 1, 29, 153, 0, 12, 27]
abbrev dktX5_apart_0 : List UInt8 := dkwX5_apart_0 ++ dktX5_apart_1
theorem dksX5_apart_0 : cX5_apart.data.toList.drop 0 = dktX5_apart_0 := by decide +kernel
theorem dksX5_apart_1 : cX5_apart.data.toList.drop 24 = dktX5_apart_1 := dk_seg dksX5_apart_0 24 rfl rfl
theorem dX5_apart_0 : decode cX5_apart 0 = .ok (.aload_n 0, 1) := dk_42 (dk_at dksX5_apart_0 0 rfl rfl)
theorem dX5_apart_1 : decode cX5_apart 1 = .ok (.iconst 0, 1) := dk_3 (dk_at dksX5_apart_0 1 rfl rfl)
theorem dX5_apart_2 : decode cX5_apart 2 = .ok (.putfield 131, 3) := dk_181 0 131 (dk_at dksX5_apart_0 2 rfl rfl)
theorem dX5_apart_5 : decode cX5_apart 5 = .ok (.aload_n 0, 1) := dk_42 (dk_at dksX5_apart_0 5 rfl rfl)
theorem dX5_apart_6 : decode cX5_apart 6 = .ok (.iload_n 1, 1) := dk_27 (dk_at dksX5_apart_0 6 rfl rfl)
theorem dX5_apart_7 : decode cX5_apart 7 = .ok (.i2l, 1) := dk_133 (dk_at dksX5_apart_0 7 rfl rfl)
theorem dX5_apart_8 : decode cX5_apart 8 = .ok (.invokevirtual 285, 3) := dk_182 1 29 (dk_at dksX5_apart_0 8 rfl rfl)
theorem dX5_apart_11 : decode cX5_apart 11 = .ok (.ifCond .eq 21, 3) := dk_153 0 21 (dk_at dksX5_apart_0 11 rfl rfl)
theorem dX5_apart_14 : decode cX5_apart 14 = .ok (.aload_n 0, 1) := dk_42 (dk_at dksX5_apart_0 14 rfl rfl)
theorem dX5_apart_15 : decode cX5_apart 15 = .ok (.iload_n 2, 1) := dk_28 (dk_at dksX5_apart_0 15 rfl rfl)
theorem dX5_apart_16 : decode cX5_apart 16 = .ok (.i2l, 1) := dk_133 (dk_at dksX5_apart_0 16 rfl rfl)
theorem dX5_apart_17 : decode cX5_apart 17 = .ok (.invokevirtual 285, 3) := dk_182 1 29 (dk_at dksX5_apart_0 17 rfl rfl)
theorem dX5_apart_20 : decode cX5_apart 20 = .ok (.ifCond .eq 12, 3) := dk_153 0 12 (dk_at dksX5_apart_0 20 rfl rfl)
theorem dX5_apart_23 : decode cX5_apart 23 = .ok (.iload_n 1, 1) := dk_27 (dk_at dksX5_apart_0 23 rfl rfl)
theorem dX5_apart_24 : decode cX5_apart 24 = .ok (.iload_n 2, 1) := dk_28 (dk_at dksX5_apart_1 0 rfl rfl)
theorem dX5_apart_25 : decode cX5_apart 25 = .ok (.ixor, 1) := dk_130 (dk_at dksX5_apart_1 1 rfl rfl)
theorem dX5_apart_26 : decode cX5_apart 26 = .ok (.invokestatic 302, 3) := dk_184 1 46 (dk_at dksX5_apart_1 2 rfl rfl)
theorem dX5_apart_29 : decode cX5_apart 29 = .ok (.goto 5, 3) := dk_167 0 5 (dk_at dksX5_apart_1 5 rfl rfl)
theorem dX5_apart_32 : decode cX5_apart 32 = .ok (.bipush (-2), 2) := dk_16 254 (dk_at dksX5_apart_1 8 rfl rfl)
theorem dX5_apart_34 : decode cX5_apart 34 = .ok (.ireturn, 1) := dk_172 (dk_at dksX5_apart_1 10 rfl rfl)
abbrev cX5_streets : ByteArray := prog_10_method_53_code
def yX5_streets : MethodName := ⟨RX5, "streets", "(I)I"⟩
def dkwX5_streets_0 : List UInt8 := [42, 3, 181, 0, 131, 42, 27, 182, 1, 36, 153, 0, 11, 42, 27, 182, 1, 49, 167, 0, 5, 16, 254, 172]
abbrev dktX5_streets_0 : List UInt8 := dkwX5_streets_0 ++ []
theorem dksX5_streets_0 : cX5_streets.data.toList.drop 0 = dktX5_streets_0 := by decide +kernel
theorem dX5_streets_0 : decode cX5_streets 0 = .ok (.aload_n 0, 1) := dk_42 (dk_at dksX5_streets_0 0 rfl rfl)
theorem dX5_streets_1 : decode cX5_streets 1 = .ok (.iconst 0, 1) := dk_3 (dk_at dksX5_streets_0 1 rfl rfl)
theorem dX5_streets_2 : decode cX5_streets 2 = .ok (.putfield 131, 3) := dk_181 0 131 (dk_at dksX5_streets_0 2 rfl rfl)
theorem dX5_streets_5 : decode cX5_streets 5 = .ok (.aload_n 0, 1) := dk_42 (dk_at dksX5_streets_0 5 rfl rfl)
theorem dX5_streets_6 : decode cX5_streets 6 = .ok (.iload_n 1, 1) := dk_27 (dk_at dksX5_streets_0 6 rfl rfl)
theorem dX5_streets_7 : decode cX5_streets 7 = .ok (.invokevirtual 292, 3) := dk_182 1 36 (dk_at dksX5_streets_0 7 rfl rfl)
theorem dX5_streets_10 : decode cX5_streets 10 = .ok (.ifCond .eq 11, 3) := dk_153 0 11 (dk_at dksX5_streets_0 10 rfl rfl)
theorem dX5_streets_13 : decode cX5_streets 13 = .ok (.aload_n 0, 1) := dk_42 (dk_at dksX5_streets_0 13 rfl rfl)
theorem dX5_streets_14 : decode cX5_streets 14 = .ok (.iload_n 1, 1) := dk_27 (dk_at dksX5_streets_0 14 rfl rfl)
theorem dX5_streets_15 : decode cX5_streets 15 = .ok (.invokevirtual 305, 3) := dk_182 1 49 (dk_at dksX5_streets_0 15 rfl rfl)
theorem dX5_streets_18 : decode cX5_streets 18 = .ok (.goto 5, 3) := dk_167 0 5 (dk_at dksX5_streets_0 18 rfl rfl)
theorem dX5_streets_21 : decode cX5_streets 21 = .ok (.bipush (-2), 2) := dk_16 254 (dk_at dksX5_streets_0 21 rfl rfl)
theorem dX5_streets_23 : decode cX5_streets 23 = .ok (.ireturn, 1) := dk_172 (dk_at dksX5_streets_0 23 rfl rfl)
abbrev cX5_streetsOf : ByteArray := prog_10_method_52_code
def yX5_streetsOf : MethodName := ⟨RX5, "streetsOf", "(I)I"⟩
def dkwX5_streetsOf_1 : List UInt8 := [182, 1, 39, 153, 0, 7, 4, 167, 0, 4, 3, 96, 61, 132, 3, 1, 167, 255, 220, 28, 172]
abbrev dktX5_streetsOf_1 : List UInt8 := dkwX5_streetsOf_1 ++ []
def dkwX5_streetsOf_0 : List UInt8 := [3, 61, 3, 62, 29, 42, 182, 1, 26, 162, 0, 34, 28, 29, 27, 184, 1, 32, 154, 0, 16, 42, 29, 27]
abbrev dktX5_streetsOf_0 : List UInt8 := dkwX5_streetsOf_0 ++ dktX5_streetsOf_1
theorem dksX5_streetsOf_0 : cX5_streetsOf.data.toList.drop 0 = dktX5_streetsOf_0 := by decide +kernel
theorem dksX5_streetsOf_1 : cX5_streetsOf.data.toList.drop 24 = dktX5_streetsOf_1 := dk_seg dksX5_streetsOf_0 24 rfl rfl
theorem dX5_streetsOf_0 : decode cX5_streetsOf 0 = .ok (.iconst 0, 1) := dk_3 (dk_at dksX5_streetsOf_0 0 rfl rfl)
theorem dX5_streetsOf_1 : decode cX5_streetsOf 1 = .ok (.istore_n 2, 1) := dk_61 (dk_at dksX5_streetsOf_0 1 rfl rfl)
theorem dX5_streetsOf_2 : decode cX5_streetsOf 2 = .ok (.iconst 0, 1) := dk_3 (dk_at dksX5_streetsOf_0 2 rfl rfl)
theorem dX5_streetsOf_3 : decode cX5_streetsOf 3 = .ok (.istore_n 3, 1) := dk_62 (dk_at dksX5_streetsOf_0 3 rfl rfl)
theorem dX5_streetsOf_4 : decode cX5_streetsOf 4 = .ok (.iload_n 3, 1) := dk_29 (dk_at dksX5_streetsOf_0 4 rfl rfl)
theorem dX5_streetsOf_5 : decode cX5_streetsOf 5 = .ok (.aload_n 0, 1) := dk_42 (dk_at dksX5_streetsOf_0 5 rfl rfl)
theorem dX5_streetsOf_6 : decode cX5_streetsOf 6 = .ok (.invokevirtual 282, 3) := dk_182 1 26 (dk_at dksX5_streetsOf_0 6 rfl rfl)
theorem dX5_streetsOf_9 : decode cX5_streetsOf 9 = .ok (.if_icmp .ge 34, 3) := dk_162 0 34 (dk_at dksX5_streetsOf_0 9 rfl rfl)
theorem dX5_streetsOf_12 : decode cX5_streetsOf 12 = .ok (.iload_n 2, 1) := dk_28 (dk_at dksX5_streetsOf_0 12 rfl rfl)
theorem dX5_streetsOf_13 : decode cX5_streetsOf 13 = .ok (.iload_n 3, 1) := dk_29 (dk_at dksX5_streetsOf_0 13 rfl rfl)
theorem dX5_streetsOf_14 : decode cX5_streetsOf 14 = .ok (.iload_n 1, 1) := dk_27 (dk_at dksX5_streetsOf_0 14 rfl rfl)
theorem dX5_streetsOf_15 : decode cX5_streetsOf 15 = .ok (.invokestatic 288, 3) := dk_184 1 32 (dk_at dksX5_streetsOf_0 15 rfl rfl)
theorem dX5_streetsOf_18 : decode cX5_streetsOf 18 = .ok (.ifCond .ne 16, 3) := dk_154 0 16 (dk_at dksX5_streetsOf_0 18 rfl rfl)
theorem dX5_streetsOf_21 : decode cX5_streetsOf 21 = .ok (.aload_n 0, 1) := dk_42 (dk_at dksX5_streetsOf_0 21 rfl rfl)
theorem dX5_streetsOf_22 : decode cX5_streetsOf 22 = .ok (.iload_n 3, 1) := dk_29 (dk_at dksX5_streetsOf_0 22 rfl rfl)
theorem dX5_streetsOf_23 : decode cX5_streetsOf 23 = .ok (.iload_n 1, 1) := dk_27 (dk_at dksX5_streetsOf_0 23 rfl rfl)
theorem dX5_streetsOf_24 : decode cX5_streetsOf 24 = .ok (.invokevirtual 295, 3) := dk_182 1 39 (dk_at dksX5_streetsOf_1 0 rfl rfl)
theorem dX5_streetsOf_27 : decode cX5_streetsOf 27 = .ok (.ifCond .eq 7, 3) := dk_153 0 7 (dk_at dksX5_streetsOf_1 3 rfl rfl)
theorem dX5_streetsOf_30 : decode cX5_streetsOf 30 = .ok (.iconst 1, 1) := dk_4 (dk_at dksX5_streetsOf_1 6 rfl rfl)
theorem dX5_streetsOf_31 : decode cX5_streetsOf 31 = .ok (.goto 4, 3) := dk_167 0 4 (dk_at dksX5_streetsOf_1 7 rfl rfl)
theorem dX5_streetsOf_34 : decode cX5_streetsOf 34 = .ok (.iconst 0, 1) := dk_3 (dk_at dksX5_streetsOf_1 10 rfl rfl)
theorem dX5_streetsOf_35 : decode cX5_streetsOf 35 = .ok (.iadd, 1) := dk_96 (dk_at dksX5_streetsOf_1 11 rfl rfl)
theorem dX5_streetsOf_36 : decode cX5_streetsOf 36 = .ok (.istore_n 2, 1) := dk_61 (dk_at dksX5_streetsOf_1 12 rfl rfl)
theorem dX5_streetsOf_37 : decode cX5_streetsOf 37 = .ok (.iinc 3 1, 3) := dk_132 3 1 (dk_at dksX5_streetsOf_1 13 rfl rfl)
theorem dX5_streetsOf_40 : decode cX5_streetsOf 40 = .ok (.goto (-36), 3) := dk_167 255 220 (dk_at dksX5_streetsOf_1 16 rfl rfl)
theorem dX5_streetsOf_43 : decode cX5_streetsOf 43 = .ok (.iload_n 2, 1) := dk_28 (dk_at dksX5_streetsOf_1 19 rfl rfl)
theorem dX5_streetsOf_44 : decode cX5_streetsOf 44 = .ok (.ireturn, 1) := dk_172 (dk_at dksX5_streetsOf_1 20 rfl rfl)
abbrev cX5_far : ByteArray := prog_10_method_55_code
def yX5_far : MethodName := ⟨RX5, "far", "(II)I"⟩
def dkwX5_far_2 : List UInt8 := [180, 0, 62, 27, 46, 172]
abbrev dktX5_far_2 : List UInt8 := dkwX5_far_2 ++ []
def dkwX5_far_1 : List UInt8 := [16, 254, 172, 42, 28, 182, 1, 52, 42, 180, 0, 62, 27, 46, 18, 182, 160, 0, 7, 2, 167, 0, 9, 42]
abbrev dktX5_far_1 : List UInt8 := dkwX5_far_1 ++ dktX5_far_2
def dkwX5_far_0 : List UInt8 := [42, 3, 181, 0, 131, 42, 27, 133, 182, 1, 29, 153, 0, 12, 42, 28, 133, 182, 1, 29, 154, 0, 6]
abbrev dktX5_far_0 : List UInt8 := dkwX5_far_0 ++ dktX5_far_1
theorem dksX5_far_0 : cX5_far.data.toList.drop 0 = dktX5_far_0 := by decide +kernel
theorem dksX5_far_1 : cX5_far.data.toList.drop 23 = dktX5_far_1 := dk_seg dksX5_far_0 23 rfl rfl
theorem dksX5_far_2 : cX5_far.data.toList.drop 47 = dktX5_far_2 := dk_seg dksX5_far_1 24 rfl rfl
theorem dX5_far_0 : decode cX5_far 0 = .ok (.aload_n 0, 1) := dk_42 (dk_at dksX5_far_0 0 rfl rfl)
theorem dX5_far_1 : decode cX5_far 1 = .ok (.iconst 0, 1) := dk_3 (dk_at dksX5_far_0 1 rfl rfl)
theorem dX5_far_2 : decode cX5_far 2 = .ok (.putfield 131, 3) := dk_181 0 131 (dk_at dksX5_far_0 2 rfl rfl)
theorem dX5_far_5 : decode cX5_far 5 = .ok (.aload_n 0, 1) := dk_42 (dk_at dksX5_far_0 5 rfl rfl)
theorem dX5_far_6 : decode cX5_far 6 = .ok (.iload_n 1, 1) := dk_27 (dk_at dksX5_far_0 6 rfl rfl)
theorem dX5_far_7 : decode cX5_far 7 = .ok (.i2l, 1) := dk_133 (dk_at dksX5_far_0 7 rfl rfl)
theorem dX5_far_8 : decode cX5_far 8 = .ok (.invokevirtual 285, 3) := dk_182 1 29 (dk_at dksX5_far_0 8 rfl rfl)
theorem dX5_far_11 : decode cX5_far 11 = .ok (.ifCond .eq 12, 3) := dk_153 0 12 (dk_at dksX5_far_0 11 rfl rfl)
theorem dX5_far_14 : decode cX5_far 14 = .ok (.aload_n 0, 1) := dk_42 (dk_at dksX5_far_0 14 rfl rfl)
theorem dX5_far_15 : decode cX5_far 15 = .ok (.iload_n 2, 1) := dk_28 (dk_at dksX5_far_0 15 rfl rfl)
theorem dX5_far_16 : decode cX5_far 16 = .ok (.i2l, 1) := dk_133 (dk_at dksX5_far_0 16 rfl rfl)
theorem dX5_far_17 : decode cX5_far 17 = .ok (.invokevirtual 285, 3) := dk_182 1 29 (dk_at dksX5_far_0 17 rfl rfl)
theorem dX5_far_20 : decode cX5_far 20 = .ok (.ifCond .ne 6, 3) := dk_154 0 6 (dk_at dksX5_far_0 20 rfl rfl)
theorem dX5_far_23 : decode cX5_far 23 = .ok (.bipush (-2), 2) := dk_16 254 (dk_at dksX5_far_1 0 rfl rfl)
theorem dX5_far_25 : decode cX5_far 25 = .ok (.ireturn, 1) := dk_172 (dk_at dksX5_far_1 2 rfl rfl)
theorem dX5_far_26 : decode cX5_far 26 = .ok (.aload_n 0, 1) := dk_42 (dk_at dksX5_far_1 3 rfl rfl)
theorem dX5_far_27 : decode cX5_far 27 = .ok (.iload_n 2, 1) := dk_28 (dk_at dksX5_far_1 4 rfl rfl)
theorem dX5_far_28 : decode cX5_far 28 = .ok (.invokevirtual 308, 3) := dk_182 1 52 (dk_at dksX5_far_1 5 rfl rfl)
theorem dX5_far_31 : decode cX5_far 31 = .ok (.aload_n 0, 1) := dk_42 (dk_at dksX5_far_1 8 rfl rfl)
theorem dX5_far_32 : decode cX5_far 32 = .ok (.getfield 62, 3) := dk_180 0 62 (dk_at dksX5_far_1 9 rfl rfl)
theorem dX5_far_35 : decode cX5_far 35 = .ok (.iload_n 1, 1) := dk_27 (dk_at dksX5_far_1 12 rfl rfl)
theorem dX5_far_36 : decode cX5_far 36 = .ok (.iaload, 1) := dk_46 (dk_at dksX5_far_1 13 rfl rfl)
theorem dX5_far_37 : decode cX5_far 37 = .ok (.ldc 182, 2) := dk_18 182 (dk_at dksX5_far_1 14 rfl rfl)
theorem dX5_far_39 : decode cX5_far 39 = .ok (.if_icmp .ne 7, 3) := dk_160 0 7 (dk_at dksX5_far_1 16 rfl rfl)
theorem dX5_far_42 : decode cX5_far 42 = .ok (.iconst (-1), 1) := dk_2 (dk_at dksX5_far_1 19 rfl rfl)
theorem dX5_far_43 : decode cX5_far 43 = .ok (.goto 9, 3) := dk_167 0 9 (dk_at dksX5_far_1 20 rfl rfl)
theorem dX5_far_46 : decode cX5_far 46 = .ok (.aload_n 0, 1) := dk_42 (dk_at dksX5_far_1 23 rfl rfl)
theorem dX5_far_47 : decode cX5_far 47 = .ok (.getfield 62, 3) := dk_180 0 62 (dk_at dksX5_far_2 0 rfl rfl)
theorem dX5_far_50 : decode cX5_far 50 = .ok (.iload_n 1, 1) := dk_27 (dk_at dksX5_far_2 3 rfl rfl)
theorem dX5_far_51 : decode cX5_far 51 = .ok (.iaload, 1) := dk_46 (dk_at dksX5_far_2 4 rfl rfl)
theorem dX5_far_52 : decode cX5_far 52 = .ok (.ireturn, 1) := dk_172 (dk_at dksX5_far_2 5 rfl rfl)
abbrev cX5_laysFar : ByteArray := prog_10_method_54_code
def yX5_laysFar : MethodName := ⟨RX5, "laysFar", "(I)V"⟩
def dkwX5_laysFar_5 : List UInt8 := [167, 255, 202, 132, 3, 1, 167, 255, 175, 132, 2, 1, 167, 255, 159, 177]
abbrev dktX5_laysFar_5 : List UInt8 := dkwX5_laysFar_5 ++ []
def dkwX5_laysFar_4 : List UInt8 := [18, 182, 160, 0, 17, 42, 180, 0, 62, 29, 4, 21, 4, 120, 130, 28, 4, 96, 79, 132, 4, 1]
abbrev dktX5_laysFar_4 : List UInt8 := dkwX5_laysFar_4 ++ dktX5_laysFar_5
def dkwX5_laysFar_3 : List UInt8 := [162, 0, 49, 42, 29, 21, 4, 182, 1, 39, 153, 0, 33, 42, 180, 0, 62, 29, 4, 21, 4, 120, 130, 46]
abbrev dktX5_laysFar_3 : List UInt8 := dkwX5_laysFar_3 ++ dktX5_laysFar_4
def dkwX5_laysFar_2 : List UInt8 := [162, 0, 79, 42, 180, 0, 62, 29, 46, 28, 160, 0, 63, 3, 54, 4, 21, 4, 42, 180, 0, 34, 3, 46]
abbrev dktX5_laysFar_2 : List UInt8 := dkwX5_laysFar_2 ++ dktX5_laysFar_3
def dkwX5_laysFar_1 : List UInt8 := [79, 132, 2, 1, 167, 255, 230, 3, 61, 28, 42, 182, 1, 26, 162, 0, 95, 3, 62, 29, 42, 182, 1, 26]
abbrev dktX5_laysFar_1 : List UInt8 := dkwX5_laysFar_1 ++ dktX5_laysFar_2
def dkwX5_laysFar_0 : List UInt8 := [3, 61, 28, 16, 32, 162, 0, 26, 42, 180, 0, 62, 28, 28, 27, 160, 0, 7, 3, 167, 0, 5, 18, 182]
abbrev dktX5_laysFar_0 : List UInt8 := dkwX5_laysFar_0 ++ dktX5_laysFar_1
theorem dksX5_laysFar_0 : cX5_laysFar.data.toList.drop 0 = dktX5_laysFar_0 := by decide +kernel
theorem dksX5_laysFar_1 : cX5_laysFar.data.toList.drop 24 = dktX5_laysFar_1 := dk_seg dksX5_laysFar_0 24 rfl rfl
theorem dksX5_laysFar_2 : cX5_laysFar.data.toList.drop 48 = dktX5_laysFar_2 := dk_seg dksX5_laysFar_1 24 rfl rfl
theorem dksX5_laysFar_3 : cX5_laysFar.data.toList.drop 72 = dktX5_laysFar_3 := dk_seg dksX5_laysFar_2 24 rfl rfl
theorem dksX5_laysFar_4 : cX5_laysFar.data.toList.drop 96 = dktX5_laysFar_4 := dk_seg dksX5_laysFar_3 24 rfl rfl
theorem dksX5_laysFar_5 : cX5_laysFar.data.toList.drop 118 = dktX5_laysFar_5 := dk_seg dksX5_laysFar_4 22 rfl rfl
theorem dX5_laysFar_0 : decode cX5_laysFar 0 = .ok (.iconst 0, 1) := dk_3 (dk_at dksX5_laysFar_0 0 rfl rfl)
theorem dX5_laysFar_1 : decode cX5_laysFar 1 = .ok (.istore_n 2, 1) := dk_61 (dk_at dksX5_laysFar_0 1 rfl rfl)
theorem dX5_laysFar_2 : decode cX5_laysFar 2 = .ok (.iload_n 2, 1) := dk_28 (dk_at dksX5_laysFar_0 2 rfl rfl)
theorem dX5_laysFar_3 : decode cX5_laysFar 3 = .ok (.bipush 32, 2) := dk_16 32 (dk_at dksX5_laysFar_0 3 rfl rfl)
theorem dX5_laysFar_5 : decode cX5_laysFar 5 = .ok (.if_icmp .ge 26, 3) := dk_162 0 26 (dk_at dksX5_laysFar_0 5 rfl rfl)
theorem dX5_laysFar_8 : decode cX5_laysFar 8 = .ok (.aload_n 0, 1) := dk_42 (dk_at dksX5_laysFar_0 8 rfl rfl)
theorem dX5_laysFar_9 : decode cX5_laysFar 9 = .ok (.getfield 62, 3) := dk_180 0 62 (dk_at dksX5_laysFar_0 9 rfl rfl)
theorem dX5_laysFar_12 : decode cX5_laysFar 12 = .ok (.iload_n 2, 1) := dk_28 (dk_at dksX5_laysFar_0 12 rfl rfl)
theorem dX5_laysFar_13 : decode cX5_laysFar 13 = .ok (.iload_n 2, 1) := dk_28 (dk_at dksX5_laysFar_0 13 rfl rfl)
theorem dX5_laysFar_14 : decode cX5_laysFar 14 = .ok (.iload_n 1, 1) := dk_27 (dk_at dksX5_laysFar_0 14 rfl rfl)
theorem dX5_laysFar_15 : decode cX5_laysFar 15 = .ok (.if_icmp .ne 7, 3) := dk_160 0 7 (dk_at dksX5_laysFar_0 15 rfl rfl)
theorem dX5_laysFar_18 : decode cX5_laysFar 18 = .ok (.iconst 0, 1) := dk_3 (dk_at dksX5_laysFar_0 18 rfl rfl)
theorem dX5_laysFar_19 : decode cX5_laysFar 19 = .ok (.goto 5, 3) := dk_167 0 5 (dk_at dksX5_laysFar_0 19 rfl rfl)
theorem dX5_laysFar_22 : decode cX5_laysFar 22 = .ok (.ldc 182, 2) := dk_18 182 (dk_at dksX5_laysFar_0 22 rfl rfl)
theorem dX5_laysFar_24 : decode cX5_laysFar 24 = .ok (.iastore, 1) := dk_79 (dk_at dksX5_laysFar_1 0 rfl rfl)
theorem dX5_laysFar_25 : decode cX5_laysFar 25 = .ok (.iinc 2 1, 3) := dk_132 2 1 (dk_at dksX5_laysFar_1 1 rfl rfl)
theorem dX5_laysFar_28 : decode cX5_laysFar 28 = .ok (.goto (-26), 3) := dk_167 255 230 (dk_at dksX5_laysFar_1 4 rfl rfl)
theorem dX5_laysFar_31 : decode cX5_laysFar 31 = .ok (.iconst 0, 1) := dk_3 (dk_at dksX5_laysFar_1 7 rfl rfl)
theorem dX5_laysFar_32 : decode cX5_laysFar 32 = .ok (.istore_n 2, 1) := dk_61 (dk_at dksX5_laysFar_1 8 rfl rfl)
theorem dX5_laysFar_33 : decode cX5_laysFar 33 = .ok (.iload_n 2, 1) := dk_28 (dk_at dksX5_laysFar_1 9 rfl rfl)
theorem dX5_laysFar_34 : decode cX5_laysFar 34 = .ok (.aload_n 0, 1) := dk_42 (dk_at dksX5_laysFar_1 10 rfl rfl)
theorem dX5_laysFar_35 : decode cX5_laysFar 35 = .ok (.invokevirtual 282, 3) := dk_182 1 26 (dk_at dksX5_laysFar_1 11 rfl rfl)
theorem dX5_laysFar_38 : decode cX5_laysFar 38 = .ok (.if_icmp .ge 95, 3) := dk_162 0 95 (dk_at dksX5_laysFar_1 14 rfl rfl)
theorem dX5_laysFar_41 : decode cX5_laysFar 41 = .ok (.iconst 0, 1) := dk_3 (dk_at dksX5_laysFar_1 17 rfl rfl)
theorem dX5_laysFar_42 : decode cX5_laysFar 42 = .ok (.istore_n 3, 1) := dk_62 (dk_at dksX5_laysFar_1 18 rfl rfl)
theorem dX5_laysFar_43 : decode cX5_laysFar 43 = .ok (.iload_n 3, 1) := dk_29 (dk_at dksX5_laysFar_1 19 rfl rfl)
theorem dX5_laysFar_44 : decode cX5_laysFar 44 = .ok (.aload_n 0, 1) := dk_42 (dk_at dksX5_laysFar_1 20 rfl rfl)
theorem dX5_laysFar_45 : decode cX5_laysFar 45 = .ok (.invokevirtual 282, 3) := dk_182 1 26 (dk_at dksX5_laysFar_1 21 rfl rfl)
theorem dX5_laysFar_48 : decode cX5_laysFar 48 = .ok (.if_icmp .ge 79, 3) := dk_162 0 79 (dk_at dksX5_laysFar_2 0 rfl rfl)
theorem dX5_laysFar_51 : decode cX5_laysFar 51 = .ok (.aload_n 0, 1) := dk_42 (dk_at dksX5_laysFar_2 3 rfl rfl)
theorem dX5_laysFar_52 : decode cX5_laysFar 52 = .ok (.getfield 62, 3) := dk_180 0 62 (dk_at dksX5_laysFar_2 4 rfl rfl)
theorem dX5_laysFar_55 : decode cX5_laysFar 55 = .ok (.iload_n 3, 1) := dk_29 (dk_at dksX5_laysFar_2 7 rfl rfl)
theorem dX5_laysFar_56 : decode cX5_laysFar 56 = .ok (.iaload, 1) := dk_46 (dk_at dksX5_laysFar_2 8 rfl rfl)
theorem dX5_laysFar_57 : decode cX5_laysFar 57 = .ok (.iload_n 2, 1) := dk_28 (dk_at dksX5_laysFar_2 9 rfl rfl)
theorem dX5_laysFar_58 : decode cX5_laysFar 58 = .ok (.if_icmp .ne 63, 3) := dk_160 0 63 (dk_at dksX5_laysFar_2 10 rfl rfl)
theorem dX5_laysFar_61 : decode cX5_laysFar 61 = .ok (.iconst 0, 1) := dk_3 (dk_at dksX5_laysFar_2 13 rfl rfl)
theorem dX5_laysFar_62 : decode cX5_laysFar 62 = .ok (.istore 4, 2) := dk_54 4 (dk_at dksX5_laysFar_2 14 rfl rfl)
theorem dX5_laysFar_64 : decode cX5_laysFar 64 = .ok (.iload 4, 2) := dk_21 4 (dk_at dksX5_laysFar_2 16 rfl rfl)
theorem dX5_laysFar_66 : decode cX5_laysFar 66 = .ok (.aload_n 0, 1) := dk_42 (dk_at dksX5_laysFar_2 18 rfl rfl)
theorem dX5_laysFar_67 : decode cX5_laysFar 67 = .ok (.getfield 34, 3) := dk_180 0 34 (dk_at dksX5_laysFar_2 19 rfl rfl)
theorem dX5_laysFar_70 : decode cX5_laysFar 70 = .ok (.iconst 0, 1) := dk_3 (dk_at dksX5_laysFar_2 22 rfl rfl)
theorem dX5_laysFar_71 : decode cX5_laysFar 71 = .ok (.iaload, 1) := dk_46 (dk_at dksX5_laysFar_2 23 rfl rfl)
theorem dX5_laysFar_72 : decode cX5_laysFar 72 = .ok (.if_icmp .ge 49, 3) := dk_162 0 49 (dk_at dksX5_laysFar_3 0 rfl rfl)
theorem dX5_laysFar_75 : decode cX5_laysFar 75 = .ok (.aload_n 0, 1) := dk_42 (dk_at dksX5_laysFar_3 3 rfl rfl)
theorem dX5_laysFar_76 : decode cX5_laysFar 76 = .ok (.iload_n 3, 1) := dk_29 (dk_at dksX5_laysFar_3 4 rfl rfl)
theorem dX5_laysFar_77 : decode cX5_laysFar 77 = .ok (.iload 4, 2) := dk_21 4 (dk_at dksX5_laysFar_3 5 rfl rfl)
theorem dX5_laysFar_79 : decode cX5_laysFar 79 = .ok (.invokevirtual 295, 3) := dk_182 1 39 (dk_at dksX5_laysFar_3 7 rfl rfl)
theorem dX5_laysFar_82 : decode cX5_laysFar 82 = .ok (.ifCond .eq 33, 3) := dk_153 0 33 (dk_at dksX5_laysFar_3 10 rfl rfl)
theorem dX5_laysFar_85 : decode cX5_laysFar 85 = .ok (.aload_n 0, 1) := dk_42 (dk_at dksX5_laysFar_3 13 rfl rfl)
theorem dX5_laysFar_86 : decode cX5_laysFar 86 = .ok (.getfield 62, 3) := dk_180 0 62 (dk_at dksX5_laysFar_3 14 rfl rfl)
theorem dX5_laysFar_89 : decode cX5_laysFar 89 = .ok (.iload_n 3, 1) := dk_29 (dk_at dksX5_laysFar_3 17 rfl rfl)
theorem dX5_laysFar_90 : decode cX5_laysFar 90 = .ok (.iconst 1, 1) := dk_4 (dk_at dksX5_laysFar_3 18 rfl rfl)
theorem dX5_laysFar_91 : decode cX5_laysFar 91 = .ok (.iload 4, 2) := dk_21 4 (dk_at dksX5_laysFar_3 19 rfl rfl)
theorem dX5_laysFar_93 : decode cX5_laysFar 93 = .ok (.ishl, 1) := dk_120 (dk_at dksX5_laysFar_3 21 rfl rfl)
theorem dX5_laysFar_94 : decode cX5_laysFar 94 = .ok (.ixor, 1) := dk_130 (dk_at dksX5_laysFar_3 22 rfl rfl)
theorem dX5_laysFar_95 : decode cX5_laysFar 95 = .ok (.iaload, 1) := dk_46 (dk_at dksX5_laysFar_3 23 rfl rfl)
theorem dX5_laysFar_96 : decode cX5_laysFar 96 = .ok (.ldc 182, 2) := dk_18 182 (dk_at dksX5_laysFar_4 0 rfl rfl)
theorem dX5_laysFar_98 : decode cX5_laysFar 98 = .ok (.if_icmp .ne 17, 3) := dk_160 0 17 (dk_at dksX5_laysFar_4 2 rfl rfl)
theorem dX5_laysFar_101 : decode cX5_laysFar 101 = .ok (.aload_n 0, 1) := dk_42 (dk_at dksX5_laysFar_4 5 rfl rfl)
theorem dX5_laysFar_102 : decode cX5_laysFar 102 = .ok (.getfield 62, 3) := dk_180 0 62 (dk_at dksX5_laysFar_4 6 rfl rfl)
theorem dX5_laysFar_105 : decode cX5_laysFar 105 = .ok (.iload_n 3, 1) := dk_29 (dk_at dksX5_laysFar_4 9 rfl rfl)
theorem dX5_laysFar_106 : decode cX5_laysFar 106 = .ok (.iconst 1, 1) := dk_4 (dk_at dksX5_laysFar_4 10 rfl rfl)
theorem dX5_laysFar_107 : decode cX5_laysFar 107 = .ok (.iload 4, 2) := dk_21 4 (dk_at dksX5_laysFar_4 11 rfl rfl)
theorem dX5_laysFar_109 : decode cX5_laysFar 109 = .ok (.ishl, 1) := dk_120 (dk_at dksX5_laysFar_4 13 rfl rfl)
theorem dX5_laysFar_110 : decode cX5_laysFar 110 = .ok (.ixor, 1) := dk_130 (dk_at dksX5_laysFar_4 14 rfl rfl)
theorem dX5_laysFar_111 : decode cX5_laysFar 111 = .ok (.iload_n 2, 1) := dk_28 (dk_at dksX5_laysFar_4 15 rfl rfl)
theorem dX5_laysFar_112 : decode cX5_laysFar 112 = .ok (.iconst 1, 1) := dk_4 (dk_at dksX5_laysFar_4 16 rfl rfl)
theorem dX5_laysFar_113 : decode cX5_laysFar 113 = .ok (.iadd, 1) := dk_96 (dk_at dksX5_laysFar_4 17 rfl rfl)
theorem dX5_laysFar_114 : decode cX5_laysFar 114 = .ok (.iastore, 1) := dk_79 (dk_at dksX5_laysFar_4 18 rfl rfl)
theorem dX5_laysFar_115 : decode cX5_laysFar 115 = .ok (.iinc 4 1, 3) := dk_132 4 1 (dk_at dksX5_laysFar_4 19 rfl rfl)
theorem dX5_laysFar_118 : decode cX5_laysFar 118 = .ok (.goto (-54), 3) := dk_167 255 202 (dk_at dksX5_laysFar_5 0 rfl rfl)
theorem dX5_laysFar_121 : decode cX5_laysFar 121 = .ok (.iinc 3 1, 3) := dk_132 3 1 (dk_at dksX5_laysFar_5 3 rfl rfl)
theorem dX5_laysFar_124 : decode cX5_laysFar 124 = .ok (.goto (-81), 3) := dk_167 255 175 (dk_at dksX5_laysFar_5 6 rfl rfl)
theorem dX5_laysFar_127 : decode cX5_laysFar 127 = .ok (.iinc 2 1, 3) := dk_132 2 1 (dk_at dksX5_laysFar_5 9 rfl rfl)
theorem dX5_laysFar_130 : decode cX5_laysFar 130 = .ok (.goto (-97), 3) := dk_167 255 159 (dk_at dksX5_laysFar_5 12 rfl rfl)
theorem dX5_laysFar_133 : decode cX5_laysFar 133 = .ok (.return_, 1) := dk_177 (dk_at dksX5_laysFar_5 15 rfl rfl)
abbrev cX5_many : ByteArray := prog_10_method_56_code
def yX5_many : MethodName := ⟨RX5, "many", "(II)I"⟩
def dkwX5_many_8 : List UInt8 := [172]
abbrev dktX5_many_8 : List UInt8 := dkwX5_many_8 ++ []
def dkwX5_many_7 : List UInt8 := [132, 5, 1, 167, 255, 191, 132, 4, 1, 167, 255, 143, 132, 3, 1, 167, 255, 124, 42, 180, 0, 65, 27, 46]
abbrev dktX5_many_7 : List UInt8 := dkwX5_many_7 ++ dktX5_many_8
def dkwX5_many_6 : List UInt8 := [42, 180, 0, 65, 21, 4, 92, 46, 42, 180, 0, 65, 21, 4, 4, 21, 5, 120, 130, 46, 96, 79]
abbrev dktX5_many_6 : List UInt8 := dkwX5_many_6 ++ dktX5_many_7
def dkwX5_many_5 : List UInt8 := [182, 1, 39, 153, 0, 43, 42, 180, 0, 62, 21, 4, 4, 21, 5, 120, 130, 46, 29, 4, 100, 160, 0, 25]
abbrev dktX5_many_5 : List UInt8 := dkwX5_many_5 ++ dktX5_many_6
def dkwX5_many_4 : List UInt8 := [167, 0, 4, 3, 79, 3, 54, 5, 21, 5, 42, 180, 0, 34, 3, 46, 162, 0, 60, 42, 21, 4, 21, 5]
abbrev dktX5_many_4 : List UInt8 := dkwX5_many_4 ++ dktX5_many_5
def dkwX5_many_3 : List UInt8 := [180, 0, 62, 21, 4, 46, 29, 159, 0, 6, 167, 0, 90, 42, 180, 0, 65, 21, 4, 29, 154, 0, 7, 4]
abbrev dktX5_many_3 : List UInt8 := dkwX5_many_3 ++ dktX5_many_4
def dkwX5_many_2 : List UInt8 := [42, 180, 0, 62, 27, 46, 163, 0, 128, 3, 54, 4, 21, 4, 42, 182, 1, 26, 162, 0, 110, 42]
abbrev dktX5_many_2 : List UInt8 := dkwX5_many_2 ++ dktX5_many_3
def dkwX5_many_1 : List UInt8 := [16, 254, 172, 42, 28, 182, 1, 52, 42, 180, 0, 62, 27, 46, 18, 182, 160, 0, 5, 3, 172, 3, 62, 29]
abbrev dktX5_many_1 : List UInt8 := dkwX5_many_1 ++ dktX5_many_2
def dkwX5_many_0 : List UInt8 := [42, 3, 181, 0, 131, 42, 27, 133, 182, 1, 29, 153, 0, 12, 42, 28, 133, 182, 1, 29, 154, 0, 6]
abbrev dktX5_many_0 : List UInt8 := dkwX5_many_0 ++ dktX5_many_1
theorem dksX5_many_0 : cX5_many.data.toList.drop 0 = dktX5_many_0 := by decide +kernel
theorem dksX5_many_1 : cX5_many.data.toList.drop 23 = dktX5_many_1 := dk_seg dksX5_many_0 23 rfl rfl
theorem dksX5_many_2 : cX5_many.data.toList.drop 47 = dktX5_many_2 := dk_seg dksX5_many_1 24 rfl rfl
theorem dksX5_many_3 : cX5_many.data.toList.drop 69 = dktX5_many_3 := dk_seg dksX5_many_2 22 rfl rfl
theorem dksX5_many_4 : cX5_many.data.toList.drop 93 = dktX5_many_4 := dk_seg dksX5_many_3 24 rfl rfl
theorem dksX5_many_5 : cX5_many.data.toList.drop 117 = dktX5_many_5 := dk_seg dksX5_many_4 24 rfl rfl
theorem dksX5_many_6 : cX5_many.data.toList.drop 141 = dktX5_many_6 := dk_seg dksX5_many_5 24 rfl rfl
theorem dksX5_many_7 : cX5_many.data.toList.drop 163 = dktX5_many_7 := dk_seg dksX5_many_6 22 rfl rfl
theorem dksX5_many_8 : cX5_many.data.toList.drop 187 = dktX5_many_8 := dk_seg dksX5_many_7 24 rfl rfl
theorem dX5_many_0 : decode cX5_many 0 = .ok (.aload_n 0, 1) := dk_42 (dk_at dksX5_many_0 0 rfl rfl)
theorem dX5_many_1 : decode cX5_many 1 = .ok (.iconst 0, 1) := dk_3 (dk_at dksX5_many_0 1 rfl rfl)
theorem dX5_many_2 : decode cX5_many 2 = .ok (.putfield 131, 3) := dk_181 0 131 (dk_at dksX5_many_0 2 rfl rfl)
theorem dX5_many_5 : decode cX5_many 5 = .ok (.aload_n 0, 1) := dk_42 (dk_at dksX5_many_0 5 rfl rfl)
theorem dX5_many_6 : decode cX5_many 6 = .ok (.iload_n 1, 1) := dk_27 (dk_at dksX5_many_0 6 rfl rfl)
theorem dX5_many_7 : decode cX5_many 7 = .ok (.i2l, 1) := dk_133 (dk_at dksX5_many_0 7 rfl rfl)
theorem dX5_many_8 : decode cX5_many 8 = .ok (.invokevirtual 285, 3) := dk_182 1 29 (dk_at dksX5_many_0 8 rfl rfl)
theorem dX5_many_11 : decode cX5_many 11 = .ok (.ifCond .eq 12, 3) := dk_153 0 12 (dk_at dksX5_many_0 11 rfl rfl)
theorem dX5_many_14 : decode cX5_many 14 = .ok (.aload_n 0, 1) := dk_42 (dk_at dksX5_many_0 14 rfl rfl)
theorem dX5_many_15 : decode cX5_many 15 = .ok (.iload_n 2, 1) := dk_28 (dk_at dksX5_many_0 15 rfl rfl)
theorem dX5_many_16 : decode cX5_many 16 = .ok (.i2l, 1) := dk_133 (dk_at dksX5_many_0 16 rfl rfl)
theorem dX5_many_17 : decode cX5_many 17 = .ok (.invokevirtual 285, 3) := dk_182 1 29 (dk_at dksX5_many_0 17 rfl rfl)
theorem dX5_many_20 : decode cX5_many 20 = .ok (.ifCond .ne 6, 3) := dk_154 0 6 (dk_at dksX5_many_0 20 rfl rfl)
theorem dX5_many_23 : decode cX5_many 23 = .ok (.bipush (-2), 2) := dk_16 254 (dk_at dksX5_many_1 0 rfl rfl)
theorem dX5_many_25 : decode cX5_many 25 = .ok (.ireturn, 1) := dk_172 (dk_at dksX5_many_1 2 rfl rfl)
theorem dX5_many_26 : decode cX5_many 26 = .ok (.aload_n 0, 1) := dk_42 (dk_at dksX5_many_1 3 rfl rfl)
theorem dX5_many_27 : decode cX5_many 27 = .ok (.iload_n 2, 1) := dk_28 (dk_at dksX5_many_1 4 rfl rfl)
theorem dX5_many_28 : decode cX5_many 28 = .ok (.invokevirtual 308, 3) := dk_182 1 52 (dk_at dksX5_many_1 5 rfl rfl)
theorem dX5_many_31 : decode cX5_many 31 = .ok (.aload_n 0, 1) := dk_42 (dk_at dksX5_many_1 8 rfl rfl)
theorem dX5_many_32 : decode cX5_many 32 = .ok (.getfield 62, 3) := dk_180 0 62 (dk_at dksX5_many_1 9 rfl rfl)
theorem dX5_many_35 : decode cX5_many 35 = .ok (.iload_n 1, 1) := dk_27 (dk_at dksX5_many_1 12 rfl rfl)
theorem dX5_many_36 : decode cX5_many 36 = .ok (.iaload, 1) := dk_46 (dk_at dksX5_many_1 13 rfl rfl)
theorem dX5_many_37 : decode cX5_many 37 = .ok (.ldc 182, 2) := dk_18 182 (dk_at dksX5_many_1 14 rfl rfl)
theorem dX5_many_39 : decode cX5_many 39 = .ok (.if_icmp .ne 5, 3) := dk_160 0 5 (dk_at dksX5_many_1 16 rfl rfl)
theorem dX5_many_42 : decode cX5_many 42 = .ok (.iconst 0, 1) := dk_3 (dk_at dksX5_many_1 19 rfl rfl)
theorem dX5_many_43 : decode cX5_many 43 = .ok (.ireturn, 1) := dk_172 (dk_at dksX5_many_1 20 rfl rfl)
theorem dX5_many_44 : decode cX5_many 44 = .ok (.iconst 0, 1) := dk_3 (dk_at dksX5_many_1 21 rfl rfl)
theorem dX5_many_45 : decode cX5_many 45 = .ok (.istore_n 3, 1) := dk_62 (dk_at dksX5_many_1 22 rfl rfl)
theorem dX5_many_46 : decode cX5_many 46 = .ok (.iload_n 3, 1) := dk_29 (dk_at dksX5_many_1 23 rfl rfl)
theorem dX5_many_47 : decode cX5_many 47 = .ok (.aload_n 0, 1) := dk_42 (dk_at dksX5_many_2 0 rfl rfl)
theorem dX5_many_48 : decode cX5_many 48 = .ok (.getfield 62, 3) := dk_180 0 62 (dk_at dksX5_many_2 1 rfl rfl)
theorem dX5_many_51 : decode cX5_many 51 = .ok (.iload_n 1, 1) := dk_27 (dk_at dksX5_many_2 4 rfl rfl)
theorem dX5_many_52 : decode cX5_many 52 = .ok (.iaload, 1) := dk_46 (dk_at dksX5_many_2 5 rfl rfl)
theorem dX5_many_53 : decode cX5_many 53 = .ok (.if_icmp .gt 128, 3) := dk_163 0 128 (dk_at dksX5_many_2 6 rfl rfl)
theorem dX5_many_56 : decode cX5_many 56 = .ok (.iconst 0, 1) := dk_3 (dk_at dksX5_many_2 9 rfl rfl)
theorem dX5_many_57 : decode cX5_many 57 = .ok (.istore 4, 2) := dk_54 4 (dk_at dksX5_many_2 10 rfl rfl)
theorem dX5_many_59 : decode cX5_many 59 = .ok (.iload 4, 2) := dk_21 4 (dk_at dksX5_many_2 12 rfl rfl)
theorem dX5_many_61 : decode cX5_many 61 = .ok (.aload_n 0, 1) := dk_42 (dk_at dksX5_many_2 14 rfl rfl)
theorem dX5_many_62 : decode cX5_many 62 = .ok (.invokevirtual 282, 3) := dk_182 1 26 (dk_at dksX5_many_2 15 rfl rfl)
theorem dX5_many_65 : decode cX5_many 65 = .ok (.if_icmp .ge 110, 3) := dk_162 0 110 (dk_at dksX5_many_2 18 rfl rfl)
theorem dX5_many_68 : decode cX5_many 68 = .ok (.aload_n 0, 1) := dk_42 (dk_at dksX5_many_2 21 rfl rfl)
theorem dX5_many_69 : decode cX5_many 69 = .ok (.getfield 62, 3) := dk_180 0 62 (dk_at dksX5_many_3 0 rfl rfl)
theorem dX5_many_72 : decode cX5_many 72 = .ok (.iload 4, 2) := dk_21 4 (dk_at dksX5_many_3 3 rfl rfl)
theorem dX5_many_74 : decode cX5_many 74 = .ok (.iaload, 1) := dk_46 (dk_at dksX5_many_3 5 rfl rfl)
theorem dX5_many_75 : decode cX5_many 75 = .ok (.iload_n 3, 1) := dk_29 (dk_at dksX5_many_3 6 rfl rfl)
theorem dX5_many_76 : decode cX5_many 76 = .ok (.if_icmp .eq 6, 3) := dk_159 0 6 (dk_at dksX5_many_3 7 rfl rfl)
theorem dX5_many_79 : decode cX5_many 79 = .ok (.goto 90, 3) := dk_167 0 90 (dk_at dksX5_many_3 10 rfl rfl)
theorem dX5_many_82 : decode cX5_many 82 = .ok (.aload_n 0, 1) := dk_42 (dk_at dksX5_many_3 13 rfl rfl)
theorem dX5_many_83 : decode cX5_many 83 = .ok (.getfield 65, 3) := dk_180 0 65 (dk_at dksX5_many_3 14 rfl rfl)
theorem dX5_many_86 : decode cX5_many 86 = .ok (.iload 4, 2) := dk_21 4 (dk_at dksX5_many_3 17 rfl rfl)
theorem dX5_many_88 : decode cX5_many 88 = .ok (.iload_n 3, 1) := dk_29 (dk_at dksX5_many_3 19 rfl rfl)
theorem dX5_many_89 : decode cX5_many 89 = .ok (.ifCond .ne 7, 3) := dk_154 0 7 (dk_at dksX5_many_3 20 rfl rfl)
theorem dX5_many_92 : decode cX5_many 92 = .ok (.iconst 1, 1) := dk_4 (dk_at dksX5_many_3 23 rfl rfl)
theorem dX5_many_93 : decode cX5_many 93 = .ok (.goto 4, 3) := dk_167 0 4 (dk_at dksX5_many_4 0 rfl rfl)
theorem dX5_many_96 : decode cX5_many 96 = .ok (.iconst 0, 1) := dk_3 (dk_at dksX5_many_4 3 rfl rfl)
theorem dX5_many_97 : decode cX5_many 97 = .ok (.iastore, 1) := dk_79 (dk_at dksX5_many_4 4 rfl rfl)
theorem dX5_many_98 : decode cX5_many 98 = .ok (.iconst 0, 1) := dk_3 (dk_at dksX5_many_4 5 rfl rfl)
theorem dX5_many_99 : decode cX5_many 99 = .ok (.istore 5, 2) := dk_54 5 (dk_at dksX5_many_4 6 rfl rfl)
theorem dX5_many_101 : decode cX5_many 101 = .ok (.iload 5, 2) := dk_21 5 (dk_at dksX5_many_4 8 rfl rfl)
theorem dX5_many_103 : decode cX5_many 103 = .ok (.aload_n 0, 1) := dk_42 (dk_at dksX5_many_4 10 rfl rfl)
theorem dX5_many_104 : decode cX5_many 104 = .ok (.getfield 34, 3) := dk_180 0 34 (dk_at dksX5_many_4 11 rfl rfl)
theorem dX5_many_107 : decode cX5_many 107 = .ok (.iconst 0, 1) := dk_3 (dk_at dksX5_many_4 14 rfl rfl)
theorem dX5_many_108 : decode cX5_many 108 = .ok (.iaload, 1) := dk_46 (dk_at dksX5_many_4 15 rfl rfl)
theorem dX5_many_109 : decode cX5_many 109 = .ok (.if_icmp .ge 60, 3) := dk_162 0 60 (dk_at dksX5_many_4 16 rfl rfl)
theorem dX5_many_112 : decode cX5_many 112 = .ok (.aload_n 0, 1) := dk_42 (dk_at dksX5_many_4 19 rfl rfl)
theorem dX5_many_113 : decode cX5_many 113 = .ok (.iload 4, 2) := dk_21 4 (dk_at dksX5_many_4 20 rfl rfl)
theorem dX5_many_115 : decode cX5_many 115 = .ok (.iload 5, 2) := dk_21 5 (dk_at dksX5_many_4 22 rfl rfl)
theorem dX5_many_117 : decode cX5_many 117 = .ok (.invokevirtual 295, 3) := dk_182 1 39 (dk_at dksX5_many_5 0 rfl rfl)
theorem dX5_many_120 : decode cX5_many 120 = .ok (.ifCond .eq 43, 3) := dk_153 0 43 (dk_at dksX5_many_5 3 rfl rfl)
theorem dX5_many_123 : decode cX5_many 123 = .ok (.aload_n 0, 1) := dk_42 (dk_at dksX5_many_5 6 rfl rfl)
theorem dX5_many_124 : decode cX5_many 124 = .ok (.getfield 62, 3) := dk_180 0 62 (dk_at dksX5_many_5 7 rfl rfl)
theorem dX5_many_127 : decode cX5_many 127 = .ok (.iload 4, 2) := dk_21 4 (dk_at dksX5_many_5 10 rfl rfl)
theorem dX5_many_129 : decode cX5_many 129 = .ok (.iconst 1, 1) := dk_4 (dk_at dksX5_many_5 12 rfl rfl)
theorem dX5_many_130 : decode cX5_many 130 = .ok (.iload 5, 2) := dk_21 5 (dk_at dksX5_many_5 13 rfl rfl)
theorem dX5_many_132 : decode cX5_many 132 = .ok (.ishl, 1) := dk_120 (dk_at dksX5_many_5 15 rfl rfl)
theorem dX5_many_133 : decode cX5_many 133 = .ok (.ixor, 1) := dk_130 (dk_at dksX5_many_5 16 rfl rfl)
theorem dX5_many_134 : decode cX5_many 134 = .ok (.iaload, 1) := dk_46 (dk_at dksX5_many_5 17 rfl rfl)
theorem dX5_many_135 : decode cX5_many 135 = .ok (.iload_n 3, 1) := dk_29 (dk_at dksX5_many_5 18 rfl rfl)
theorem dX5_many_136 : decode cX5_many 136 = .ok (.iconst 1, 1) := dk_4 (dk_at dksX5_many_5 19 rfl rfl)
theorem dX5_many_137 : decode cX5_many 137 = .ok (.isub, 1) := dk_100 (dk_at dksX5_many_5 20 rfl rfl)
theorem dX5_many_138 : decode cX5_many 138 = .ok (.if_icmp .ne 25, 3) := dk_160 0 25 (dk_at dksX5_many_5 21 rfl rfl)
theorem dX5_many_141 : decode cX5_many 141 = .ok (.aload_n 0, 1) := dk_42 (dk_at dksX5_many_6 0 rfl rfl)
theorem dX5_many_142 : decode cX5_many 142 = .ok (.getfield 65, 3) := dk_180 0 65 (dk_at dksX5_many_6 1 rfl rfl)
theorem dX5_many_145 : decode cX5_many 145 = .ok (.iload 4, 2) := dk_21 4 (dk_at dksX5_many_6 4 rfl rfl)
theorem dX5_many_147 : decode cX5_many 147 = .ok (.dup2, 1) := dk_92 (dk_at dksX5_many_6 6 rfl rfl)
theorem dX5_many_148 : decode cX5_many 148 = .ok (.iaload, 1) := dk_46 (dk_at dksX5_many_6 7 rfl rfl)
theorem dX5_many_149 : decode cX5_many 149 = .ok (.aload_n 0, 1) := dk_42 (dk_at dksX5_many_6 8 rfl rfl)
theorem dX5_many_150 : decode cX5_many 150 = .ok (.getfield 65, 3) := dk_180 0 65 (dk_at dksX5_many_6 9 rfl rfl)
theorem dX5_many_153 : decode cX5_many 153 = .ok (.iload 4, 2) := dk_21 4 (dk_at dksX5_many_6 12 rfl rfl)
theorem dX5_many_155 : decode cX5_many 155 = .ok (.iconst 1, 1) := dk_4 (dk_at dksX5_many_6 14 rfl rfl)
theorem dX5_many_156 : decode cX5_many 156 = .ok (.iload 5, 2) := dk_21 5 (dk_at dksX5_many_6 15 rfl rfl)
theorem dX5_many_158 : decode cX5_many 158 = .ok (.ishl, 1) := dk_120 (dk_at dksX5_many_6 17 rfl rfl)
theorem dX5_many_159 : decode cX5_many 159 = .ok (.ixor, 1) := dk_130 (dk_at dksX5_many_6 18 rfl rfl)
theorem dX5_many_160 : decode cX5_many 160 = .ok (.iaload, 1) := dk_46 (dk_at dksX5_many_6 19 rfl rfl)
theorem dX5_many_161 : decode cX5_many 161 = .ok (.iadd, 1) := dk_96 (dk_at dksX5_many_6 20 rfl rfl)
theorem dX5_many_162 : decode cX5_many 162 = .ok (.iastore, 1) := dk_79 (dk_at dksX5_many_6 21 rfl rfl)
theorem dX5_many_163 : decode cX5_many 163 = .ok (.iinc 5 1, 3) := dk_132 5 1 (dk_at dksX5_many_7 0 rfl rfl)
theorem dX5_many_166 : decode cX5_many 166 = .ok (.goto (-65), 3) := dk_167 255 191 (dk_at dksX5_many_7 3 rfl rfl)
theorem dX5_many_169 : decode cX5_many 169 = .ok (.iinc 4 1, 3) := dk_132 4 1 (dk_at dksX5_many_7 6 rfl rfl)
theorem dX5_many_172 : decode cX5_many 172 = .ok (.goto (-113), 3) := dk_167 255 143 (dk_at dksX5_many_7 9 rfl rfl)
theorem dX5_many_175 : decode cX5_many 175 = .ok (.iinc 3 1, 3) := dk_132 3 1 (dk_at dksX5_many_7 12 rfl rfl)
theorem dX5_many_178 : decode cX5_many 178 = .ok (.goto (-132), 3) := dk_167 255 124 (dk_at dksX5_many_7 15 rfl rfl)
theorem dX5_many_181 : decode cX5_many 181 = .ok (.aload_n 0, 1) := dk_42 (dk_at dksX5_many_7 18 rfl rfl)
theorem dX5_many_182 : decode cX5_many 182 = .ok (.getfield 65, 3) := dk_180 0 65 (dk_at dksX5_many_7 19 rfl rfl)
theorem dX5_many_185 : decode cX5_many 185 = .ok (.iload_n 1, 1) := dk_27 (dk_at dksX5_many_7 22 rfl rfl)
theorem dX5_many_186 : decode cX5_many 186 = .ok (.iaload, 1) := dk_46 (dk_at dksX5_many_7 23 rfl rfl)
theorem dX5_many_187 : decode cX5_many 187 = .ok (.ireturn, 1) := dk_172 (dk_at dksX5_many_8 0 rfl rfl)
abbrev cX5_goes : ByteArray := prog_10_method_59_code
def yX5_goes : MethodName := ⟨RX5, "goes", "(III)I"⟩
def dkwX5_goes_1 : List UInt8 := [27, 28, 29, 182, 1, 58, 167, 0, 5, 16, 254, 172]
abbrev dktX5_goes_1 : List UInt8 := dkwX5_goes_1 ++ []
def dkwX5_goes_0 : List UInt8 := [42, 3, 181, 0, 131, 42, 27, 133, 182, 1, 29, 153, 0, 22, 42, 28, 133, 182, 1, 29, 153, 0, 13, 42]
abbrev dktX5_goes_0 : List UInt8 := dkwX5_goes_0 ++ dktX5_goes_1
theorem dksX5_goes_0 : cX5_goes.data.toList.drop 0 = dktX5_goes_0 := by decide +kernel
theorem dksX5_goes_1 : cX5_goes.data.toList.drop 24 = dktX5_goes_1 := dk_seg dksX5_goes_0 24 rfl rfl
theorem dX5_goes_0 : decode cX5_goes 0 = .ok (.aload_n 0, 1) := dk_42 (dk_at dksX5_goes_0 0 rfl rfl)
theorem dX5_goes_1 : decode cX5_goes 1 = .ok (.iconst 0, 1) := dk_3 (dk_at dksX5_goes_0 1 rfl rfl)
theorem dX5_goes_2 : decode cX5_goes 2 = .ok (.putfield 131, 3) := dk_181 0 131 (dk_at dksX5_goes_0 2 rfl rfl)
theorem dX5_goes_5 : decode cX5_goes 5 = .ok (.aload_n 0, 1) := dk_42 (dk_at dksX5_goes_0 5 rfl rfl)
theorem dX5_goes_6 : decode cX5_goes 6 = .ok (.iload_n 1, 1) := dk_27 (dk_at dksX5_goes_0 6 rfl rfl)
theorem dX5_goes_7 : decode cX5_goes 7 = .ok (.i2l, 1) := dk_133 (dk_at dksX5_goes_0 7 rfl rfl)
theorem dX5_goes_8 : decode cX5_goes 8 = .ok (.invokevirtual 285, 3) := dk_182 1 29 (dk_at dksX5_goes_0 8 rfl rfl)
theorem dX5_goes_11 : decode cX5_goes 11 = .ok (.ifCond .eq 22, 3) := dk_153 0 22 (dk_at dksX5_goes_0 11 rfl rfl)
theorem dX5_goes_14 : decode cX5_goes 14 = .ok (.aload_n 0, 1) := dk_42 (dk_at dksX5_goes_0 14 rfl rfl)
theorem dX5_goes_15 : decode cX5_goes 15 = .ok (.iload_n 2, 1) := dk_28 (dk_at dksX5_goes_0 15 rfl rfl)
theorem dX5_goes_16 : decode cX5_goes 16 = .ok (.i2l, 1) := dk_133 (dk_at dksX5_goes_0 16 rfl rfl)
theorem dX5_goes_17 : decode cX5_goes 17 = .ok (.invokevirtual 285, 3) := dk_182 1 29 (dk_at dksX5_goes_0 17 rfl rfl)
theorem dX5_goes_20 : decode cX5_goes 20 = .ok (.ifCond .eq 13, 3) := dk_153 0 13 (dk_at dksX5_goes_0 20 rfl rfl)
theorem dX5_goes_23 : decode cX5_goes 23 = .ok (.aload_n 0, 1) := dk_42 (dk_at dksX5_goes_0 23 rfl rfl)
theorem dX5_goes_24 : decode cX5_goes 24 = .ok (.iload_n 1, 1) := dk_27 (dk_at dksX5_goes_1 0 rfl rfl)
theorem dX5_goes_25 : decode cX5_goes 25 = .ok (.iload_n 2, 1) := dk_28 (dk_at dksX5_goes_1 1 rfl rfl)
theorem dX5_goes_26 : decode cX5_goes 26 = .ok (.iload_n 3, 1) := dk_29 (dk_at dksX5_goes_1 2 rfl rfl)
theorem dX5_goes_27 : decode cX5_goes 27 = .ok (.invokevirtual 314, 3) := dk_182 1 58 (dk_at dksX5_goes_1 3 rfl rfl)
theorem dX5_goes_30 : decode cX5_goes 30 = .ok (.goto 5, 3) := dk_167 0 5 (dk_at dksX5_goes_1 6 rfl rfl)
theorem dX5_goes_33 : decode cX5_goes 33 = .ok (.bipush (-2), 2) := dk_16 254 (dk_at dksX5_goes_1 9 rfl rfl)
theorem dX5_goes_35 : decode cX5_goes 35 = .ok (.ireturn, 1) := dk_172 (dk_at dksX5_goes_1 11 rfl rfl)
abbrev cX5_goesOn : ByteArray := prog_10_method_58_code
def yX5_goesOn : MethodName := ⟨RX5, "goesOn", "(III)I"⟩
def dkwX5_goesOn_2 : List UInt8 := [21, 4, 182, 1, 55, 54, 4, 132, 5, 1, 167, 255, 239, 21, 4, 172]
abbrev dktX5_goesOn_2 : List UInt8 := dkwX5_goesOn_2 ++ []
def dkwX5_goesOn_1 : List UInt8 := [180, 0, 62, 27, 46, 164, 0, 5, 2, 172, 27, 54, 4, 3, 54, 5, 21, 5, 29, 162, 0, 17, 42]
abbrev dktX5_goesOn_1 : List UInt8 := dkwX5_goesOn_1 ++ dktX5_goesOn_2
def dkwX5_goesOn_0 : List UInt8 := [42, 28, 182, 1, 52, 42, 180, 0, 62, 27, 46, 18, 182, 159, 0, 17, 29, 155, 0, 13, 29, 42]
abbrev dktX5_goesOn_0 : List UInt8 := dkwX5_goesOn_0 ++ dktX5_goesOn_1
theorem dksX5_goesOn_0 : cX5_goesOn.data.toList.drop 0 = dktX5_goesOn_0 := by decide +kernel
theorem dksX5_goesOn_1 : cX5_goesOn.data.toList.drop 22 = dktX5_goesOn_1 := dk_seg dksX5_goesOn_0 22 rfl rfl
theorem dksX5_goesOn_2 : cX5_goesOn.data.toList.drop 45 = dktX5_goesOn_2 := dk_seg dksX5_goesOn_1 23 rfl rfl
theorem dX5_goesOn_0 : decode cX5_goesOn 0 = .ok (.aload_n 0, 1) := dk_42 (dk_at dksX5_goesOn_0 0 rfl rfl)
theorem dX5_goesOn_1 : decode cX5_goesOn 1 = .ok (.iload_n 2, 1) := dk_28 (dk_at dksX5_goesOn_0 1 rfl rfl)
theorem dX5_goesOn_2 : decode cX5_goesOn 2 = .ok (.invokevirtual 308, 3) := dk_182 1 52 (dk_at dksX5_goesOn_0 2 rfl rfl)
theorem dX5_goesOn_5 : decode cX5_goesOn 5 = .ok (.aload_n 0, 1) := dk_42 (dk_at dksX5_goesOn_0 5 rfl rfl)
theorem dX5_goesOn_6 : decode cX5_goesOn 6 = .ok (.getfield 62, 3) := dk_180 0 62 (dk_at dksX5_goesOn_0 6 rfl rfl)
theorem dX5_goesOn_9 : decode cX5_goesOn 9 = .ok (.iload_n 1, 1) := dk_27 (dk_at dksX5_goesOn_0 9 rfl rfl)
theorem dX5_goesOn_10 : decode cX5_goesOn 10 = .ok (.iaload, 1) := dk_46 (dk_at dksX5_goesOn_0 10 rfl rfl)
theorem dX5_goesOn_11 : decode cX5_goesOn 11 = .ok (.ldc 182, 2) := dk_18 182 (dk_at dksX5_goesOn_0 11 rfl rfl)
theorem dX5_goesOn_13 : decode cX5_goesOn 13 = .ok (.if_icmp .eq 17, 3) := dk_159 0 17 (dk_at dksX5_goesOn_0 13 rfl rfl)
theorem dX5_goesOn_16 : decode cX5_goesOn 16 = .ok (.iload_n 3, 1) := dk_29 (dk_at dksX5_goesOn_0 16 rfl rfl)
theorem dX5_goesOn_17 : decode cX5_goesOn 17 = .ok (.ifCond .lt 13, 3) := dk_155 0 13 (dk_at dksX5_goesOn_0 17 rfl rfl)
theorem dX5_goesOn_20 : decode cX5_goesOn 20 = .ok (.iload_n 3, 1) := dk_29 (dk_at dksX5_goesOn_0 20 rfl rfl)
theorem dX5_goesOn_21 : decode cX5_goesOn 21 = .ok (.aload_n 0, 1) := dk_42 (dk_at dksX5_goesOn_0 21 rfl rfl)
theorem dX5_goesOn_22 : decode cX5_goesOn 22 = .ok (.getfield 62, 3) := dk_180 0 62 (dk_at dksX5_goesOn_1 0 rfl rfl)
theorem dX5_goesOn_25 : decode cX5_goesOn 25 = .ok (.iload_n 1, 1) := dk_27 (dk_at dksX5_goesOn_1 3 rfl rfl)
theorem dX5_goesOn_26 : decode cX5_goesOn 26 = .ok (.iaload, 1) := dk_46 (dk_at dksX5_goesOn_1 4 rfl rfl)
theorem dX5_goesOn_27 : decode cX5_goesOn 27 = .ok (.if_icmp .le 5, 3) := dk_164 0 5 (dk_at dksX5_goesOn_1 5 rfl rfl)
theorem dX5_goesOn_30 : decode cX5_goesOn 30 = .ok (.iconst (-1), 1) := dk_2 (dk_at dksX5_goesOn_1 8 rfl rfl)
theorem dX5_goesOn_31 : decode cX5_goesOn 31 = .ok (.ireturn, 1) := dk_172 (dk_at dksX5_goesOn_1 9 rfl rfl)
theorem dX5_goesOn_32 : decode cX5_goesOn 32 = .ok (.iload_n 1, 1) := dk_27 (dk_at dksX5_goesOn_1 10 rfl rfl)
theorem dX5_goesOn_33 : decode cX5_goesOn 33 = .ok (.istore 4, 2) := dk_54 4 (dk_at dksX5_goesOn_1 11 rfl rfl)
theorem dX5_goesOn_35 : decode cX5_goesOn 35 = .ok (.iconst 0, 1) := dk_3 (dk_at dksX5_goesOn_1 13 rfl rfl)
theorem dX5_goesOn_36 : decode cX5_goesOn 36 = .ok (.istore 5, 2) := dk_54 5 (dk_at dksX5_goesOn_1 14 rfl rfl)
theorem dX5_goesOn_38 : decode cX5_goesOn 38 = .ok (.iload 5, 2) := dk_21 5 (dk_at dksX5_goesOn_1 16 rfl rfl)
theorem dX5_goesOn_40 : decode cX5_goesOn 40 = .ok (.iload_n 3, 1) := dk_29 (dk_at dksX5_goesOn_1 18 rfl rfl)
theorem dX5_goesOn_41 : decode cX5_goesOn 41 = .ok (.if_icmp .ge 17, 3) := dk_162 0 17 (dk_at dksX5_goesOn_1 19 rfl rfl)
theorem dX5_goesOn_44 : decode cX5_goesOn 44 = .ok (.aload_n 0, 1) := dk_42 (dk_at dksX5_goesOn_1 22 rfl rfl)
theorem dX5_goesOn_45 : decode cX5_goesOn 45 = .ok (.iload 4, 2) := dk_21 4 (dk_at dksX5_goesOn_2 0 rfl rfl)
theorem dX5_goesOn_47 : decode cX5_goesOn 47 = .ok (.invokevirtual 311, 3) := dk_182 1 55 (dk_at dksX5_goesOn_2 2 rfl rfl)
theorem dX5_goesOn_50 : decode cX5_goesOn 50 = .ok (.istore 4, 2) := dk_54 4 (dk_at dksX5_goesOn_2 5 rfl rfl)
theorem dX5_goesOn_52 : decode cX5_goesOn 52 = .ok (.iinc 5 1, 3) := dk_132 5 1 (dk_at dksX5_goesOn_2 7 rfl rfl)
theorem dX5_goesOn_55 : decode cX5_goesOn 55 = .ok (.goto (-17), 3) := dk_167 255 239 (dk_at dksX5_goesOn_2 10 rfl rfl)
theorem dX5_goesOn_58 : decode cX5_goesOn 58 = .ok (.iload 4, 2) := dk_21 4 (dk_at dksX5_goesOn_2 13 rfl rfl)
theorem dX5_goesOn_60 : decode cX5_goesOn 60 = .ok (.ireturn, 1) := dk_172 (dk_at dksX5_goesOn_2 15 rfl rfl)
abbrev cX5_nextOf : ByteArray := prog_10_method_57_code
def yX5_nextOf : MethodName := ⟨RX5, "nextOf", "(I)I"⟩
def dkwX5_nextOf_2 : List UInt8 := [28, 2, 159, 0, 9, 21, 4, 28, 162, 0, 6, 21, 4, 61, 132, 3, 1, 167, 255, 195, 28, 172]
abbrev dktX5_nextOf_2 : List UInt8 := dkwX5_nextOf_2 ++ []
def dkwX5_nextOf_1 : List UInt8 := [182, 1, 39, 153, 0, 35, 42, 180, 0, 62, 21, 4, 46, 42, 180, 0, 62, 27, 46, 4, 100, 160, 0, 17]
abbrev dktX5_nextOf_1 : List UInt8 := dkwX5_nextOf_1 ++ dktX5_nextOf_2
def dkwX5_nextOf_0 : List UInt8 := [2, 61, 3, 62, 29, 42, 180, 0, 34, 3, 46, 162, 0, 57, 27, 4, 29, 120, 130, 54, 4, 42, 27, 29]
abbrev dktX5_nextOf_0 : List UInt8 := dkwX5_nextOf_0 ++ dktX5_nextOf_1
theorem dksX5_nextOf_0 : cX5_nextOf.data.toList.drop 0 = dktX5_nextOf_0 := by decide +kernel
theorem dksX5_nextOf_1 : cX5_nextOf.data.toList.drop 24 = dktX5_nextOf_1 := dk_seg dksX5_nextOf_0 24 rfl rfl
theorem dksX5_nextOf_2 : cX5_nextOf.data.toList.drop 48 = dktX5_nextOf_2 := dk_seg dksX5_nextOf_1 24 rfl rfl
theorem dX5_nextOf_0 : decode cX5_nextOf 0 = .ok (.iconst (-1), 1) := dk_2 (dk_at dksX5_nextOf_0 0 rfl rfl)
theorem dX5_nextOf_1 : decode cX5_nextOf 1 = .ok (.istore_n 2, 1) := dk_61 (dk_at dksX5_nextOf_0 1 rfl rfl)
theorem dX5_nextOf_2 : decode cX5_nextOf 2 = .ok (.iconst 0, 1) := dk_3 (dk_at dksX5_nextOf_0 2 rfl rfl)
theorem dX5_nextOf_3 : decode cX5_nextOf 3 = .ok (.istore_n 3, 1) := dk_62 (dk_at dksX5_nextOf_0 3 rfl rfl)
theorem dX5_nextOf_4 : decode cX5_nextOf 4 = .ok (.iload_n 3, 1) := dk_29 (dk_at dksX5_nextOf_0 4 rfl rfl)
theorem dX5_nextOf_5 : decode cX5_nextOf 5 = .ok (.aload_n 0, 1) := dk_42 (dk_at dksX5_nextOf_0 5 rfl rfl)
theorem dX5_nextOf_6 : decode cX5_nextOf 6 = .ok (.getfield 34, 3) := dk_180 0 34 (dk_at dksX5_nextOf_0 6 rfl rfl)
theorem dX5_nextOf_9 : decode cX5_nextOf 9 = .ok (.iconst 0, 1) := dk_3 (dk_at dksX5_nextOf_0 9 rfl rfl)
theorem dX5_nextOf_10 : decode cX5_nextOf 10 = .ok (.iaload, 1) := dk_46 (dk_at dksX5_nextOf_0 10 rfl rfl)
theorem dX5_nextOf_11 : decode cX5_nextOf 11 = .ok (.if_icmp .ge 57, 3) := dk_162 0 57 (dk_at dksX5_nextOf_0 11 rfl rfl)
theorem dX5_nextOf_14 : decode cX5_nextOf 14 = .ok (.iload_n 1, 1) := dk_27 (dk_at dksX5_nextOf_0 14 rfl rfl)
theorem dX5_nextOf_15 : decode cX5_nextOf 15 = .ok (.iconst 1, 1) := dk_4 (dk_at dksX5_nextOf_0 15 rfl rfl)
theorem dX5_nextOf_16 : decode cX5_nextOf 16 = .ok (.iload_n 3, 1) := dk_29 (dk_at dksX5_nextOf_0 16 rfl rfl)
theorem dX5_nextOf_17 : decode cX5_nextOf 17 = .ok (.ishl, 1) := dk_120 (dk_at dksX5_nextOf_0 17 rfl rfl)
theorem dX5_nextOf_18 : decode cX5_nextOf 18 = .ok (.ixor, 1) := dk_130 (dk_at dksX5_nextOf_0 18 rfl rfl)
theorem dX5_nextOf_19 : decode cX5_nextOf 19 = .ok (.istore 4, 2) := dk_54 4 (dk_at dksX5_nextOf_0 19 rfl rfl)
theorem dX5_nextOf_21 : decode cX5_nextOf 21 = .ok (.aload_n 0, 1) := dk_42 (dk_at dksX5_nextOf_0 21 rfl rfl)
theorem dX5_nextOf_22 : decode cX5_nextOf 22 = .ok (.iload_n 1, 1) := dk_27 (dk_at dksX5_nextOf_0 22 rfl rfl)
theorem dX5_nextOf_23 : decode cX5_nextOf 23 = .ok (.iload_n 3, 1) := dk_29 (dk_at dksX5_nextOf_0 23 rfl rfl)
theorem dX5_nextOf_24 : decode cX5_nextOf 24 = .ok (.invokevirtual 295, 3) := dk_182 1 39 (dk_at dksX5_nextOf_1 0 rfl rfl)
theorem dX5_nextOf_27 : decode cX5_nextOf 27 = .ok (.ifCond .eq 35, 3) := dk_153 0 35 (dk_at dksX5_nextOf_1 3 rfl rfl)
theorem dX5_nextOf_30 : decode cX5_nextOf 30 = .ok (.aload_n 0, 1) := dk_42 (dk_at dksX5_nextOf_1 6 rfl rfl)
theorem dX5_nextOf_31 : decode cX5_nextOf 31 = .ok (.getfield 62, 3) := dk_180 0 62 (dk_at dksX5_nextOf_1 7 rfl rfl)
theorem dX5_nextOf_34 : decode cX5_nextOf 34 = .ok (.iload 4, 2) := dk_21 4 (dk_at dksX5_nextOf_1 10 rfl rfl)
theorem dX5_nextOf_36 : decode cX5_nextOf 36 = .ok (.iaload, 1) := dk_46 (dk_at dksX5_nextOf_1 12 rfl rfl)
theorem dX5_nextOf_37 : decode cX5_nextOf 37 = .ok (.aload_n 0, 1) := dk_42 (dk_at dksX5_nextOf_1 13 rfl rfl)
theorem dX5_nextOf_38 : decode cX5_nextOf 38 = .ok (.getfield 62, 3) := dk_180 0 62 (dk_at dksX5_nextOf_1 14 rfl rfl)
theorem dX5_nextOf_41 : decode cX5_nextOf 41 = .ok (.iload_n 1, 1) := dk_27 (dk_at dksX5_nextOf_1 17 rfl rfl)
theorem dX5_nextOf_42 : decode cX5_nextOf 42 = .ok (.iaload, 1) := dk_46 (dk_at dksX5_nextOf_1 18 rfl rfl)
theorem dX5_nextOf_43 : decode cX5_nextOf 43 = .ok (.iconst 1, 1) := dk_4 (dk_at dksX5_nextOf_1 19 rfl rfl)
theorem dX5_nextOf_44 : decode cX5_nextOf 44 = .ok (.isub, 1) := dk_100 (dk_at dksX5_nextOf_1 20 rfl rfl)
theorem dX5_nextOf_45 : decode cX5_nextOf 45 = .ok (.if_icmp .ne 17, 3) := dk_160 0 17 (dk_at dksX5_nextOf_1 21 rfl rfl)
theorem dX5_nextOf_48 : decode cX5_nextOf 48 = .ok (.iload_n 2, 1) := dk_28 (dk_at dksX5_nextOf_2 0 rfl rfl)
theorem dX5_nextOf_49 : decode cX5_nextOf 49 = .ok (.iconst (-1), 1) := dk_2 (dk_at dksX5_nextOf_2 1 rfl rfl)
theorem dX5_nextOf_50 : decode cX5_nextOf 50 = .ok (.if_icmp .eq 9, 3) := dk_159 0 9 (dk_at dksX5_nextOf_2 2 rfl rfl)
theorem dX5_nextOf_53 : decode cX5_nextOf 53 = .ok (.iload 4, 2) := dk_21 4 (dk_at dksX5_nextOf_2 5 rfl rfl)
theorem dX5_nextOf_55 : decode cX5_nextOf 55 = .ok (.iload_n 2, 1) := dk_28 (dk_at dksX5_nextOf_2 7 rfl rfl)
theorem dX5_nextOf_56 : decode cX5_nextOf 56 = .ok (.if_icmp .ge 6, 3) := dk_162 0 6 (dk_at dksX5_nextOf_2 8 rfl rfl)
theorem dX5_nextOf_59 : decode cX5_nextOf 59 = .ok (.iload 4, 2) := dk_21 4 (dk_at dksX5_nextOf_2 11 rfl rfl)
theorem dX5_nextOf_61 : decode cX5_nextOf 61 = .ok (.istore_n 2, 1) := dk_61 (dk_at dksX5_nextOf_2 13 rfl rfl)
theorem dX5_nextOf_62 : decode cX5_nextOf 62 = .ok (.iinc 3 1, 3) := dk_132 3 1 (dk_at dksX5_nextOf_2 14 rfl rfl)
theorem dX5_nextOf_65 : decode cX5_nextOf 65 = .ok (.goto (-61), 3) := dk_167 255 195 (dk_at dksX5_nextOf_2 17 rfl rfl)
theorem dX5_nextOf_68 : decode cX5_nextOf 68 = .ok (.iload_n 2, 1) := dk_28 (dk_at dksX5_nextOf_2 20 rfl rfl)
theorem dX5_nextOf_69 : decode cX5_nextOf 69 = .ok (.ireturn, 1) := dk_172 (dk_at dksX5_nextOf_2 21 rfl rfl)
abbrev cX5_led : ByteArray := prog_10_method_61_code
def yX5_led : MethodName := ⟨RX5, "led", "(III)I"⟩
def dkwX5_led_3 : List UInt8 := [21, 4, 182, 1, 62, 172]
abbrev dktX5_led_3 : List UInt8 := dkwX5_led_3 ++ []
def dkwX5_led_2 : List UInt8 := [182, 1, 58, 54, 4, 21, 4, 2, 160, 0, 7, 2, 167, 0, 16, 42, 42, 27, 28, 29, 182, 1, 58]
abbrev dktX5_led_2 : List UInt8 := dkwX5_led_2 ++ dktX5_led_3
def dkwX5_led_1 : List UInt8 := [16, 254, 172, 29, 155, 0, 11, 29, 42, 182, 1, 26, 161, 0, 5, 2, 172, 42, 27, 28, 29, 4, 96]
abbrev dktX5_led_1 : List UInt8 := dkwX5_led_1 ++ dktX5_led_2
def dkwX5_led_0 : List UInt8 := [42, 3, 181, 0, 131, 42, 27, 133, 182, 1, 29, 153, 0, 12, 42, 28, 133, 182, 1, 29, 154, 0, 6]
abbrev dktX5_led_0 : List UInt8 := dkwX5_led_0 ++ dktX5_led_1
theorem dksX5_led_0 : cX5_led.data.toList.drop 0 = dktX5_led_0 := by decide +kernel
theorem dksX5_led_1 : cX5_led.data.toList.drop 23 = dktX5_led_1 := dk_seg dksX5_led_0 23 rfl rfl
theorem dksX5_led_2 : cX5_led.data.toList.drop 46 = dktX5_led_2 := dk_seg dksX5_led_1 23 rfl rfl
theorem dksX5_led_3 : cX5_led.data.toList.drop 69 = dktX5_led_3 := dk_seg dksX5_led_2 23 rfl rfl
theorem dX5_led_0 : decode cX5_led 0 = .ok (.aload_n 0, 1) := dk_42 (dk_at dksX5_led_0 0 rfl rfl)
theorem dX5_led_1 : decode cX5_led 1 = .ok (.iconst 0, 1) := dk_3 (dk_at dksX5_led_0 1 rfl rfl)
theorem dX5_led_2 : decode cX5_led 2 = .ok (.putfield 131, 3) := dk_181 0 131 (dk_at dksX5_led_0 2 rfl rfl)
theorem dX5_led_5 : decode cX5_led 5 = .ok (.aload_n 0, 1) := dk_42 (dk_at dksX5_led_0 5 rfl rfl)
theorem dX5_led_6 : decode cX5_led 6 = .ok (.iload_n 1, 1) := dk_27 (dk_at dksX5_led_0 6 rfl rfl)
theorem dX5_led_7 : decode cX5_led 7 = .ok (.i2l, 1) := dk_133 (dk_at dksX5_led_0 7 rfl rfl)
theorem dX5_led_8 : decode cX5_led 8 = .ok (.invokevirtual 285, 3) := dk_182 1 29 (dk_at dksX5_led_0 8 rfl rfl)
theorem dX5_led_11 : decode cX5_led 11 = .ok (.ifCond .eq 12, 3) := dk_153 0 12 (dk_at dksX5_led_0 11 rfl rfl)
theorem dX5_led_14 : decode cX5_led 14 = .ok (.aload_n 0, 1) := dk_42 (dk_at dksX5_led_0 14 rfl rfl)
theorem dX5_led_15 : decode cX5_led 15 = .ok (.iload_n 2, 1) := dk_28 (dk_at dksX5_led_0 15 rfl rfl)
theorem dX5_led_16 : decode cX5_led 16 = .ok (.i2l, 1) := dk_133 (dk_at dksX5_led_0 16 rfl rfl)
theorem dX5_led_17 : decode cX5_led 17 = .ok (.invokevirtual 285, 3) := dk_182 1 29 (dk_at dksX5_led_0 17 rfl rfl)
theorem dX5_led_20 : decode cX5_led 20 = .ok (.ifCond .ne 6, 3) := dk_154 0 6 (dk_at dksX5_led_0 20 rfl rfl)
theorem dX5_led_23 : decode cX5_led 23 = .ok (.bipush (-2), 2) := dk_16 254 (dk_at dksX5_led_1 0 rfl rfl)
theorem dX5_led_25 : decode cX5_led 25 = .ok (.ireturn, 1) := dk_172 (dk_at dksX5_led_1 2 rfl rfl)
theorem dX5_led_26 : decode cX5_led 26 = .ok (.iload_n 3, 1) := dk_29 (dk_at dksX5_led_1 3 rfl rfl)
theorem dX5_led_27 : decode cX5_led 27 = .ok (.ifCond .lt 11, 3) := dk_155 0 11 (dk_at dksX5_led_1 4 rfl rfl)
theorem dX5_led_30 : decode cX5_led 30 = .ok (.iload_n 3, 1) := dk_29 (dk_at dksX5_led_1 7 rfl rfl)
theorem dX5_led_31 : decode cX5_led 31 = .ok (.aload_n 0, 1) := dk_42 (dk_at dksX5_led_1 8 rfl rfl)
theorem dX5_led_32 : decode cX5_led 32 = .ok (.invokevirtual 282, 3) := dk_182 1 26 (dk_at dksX5_led_1 9 rfl rfl)
theorem dX5_led_35 : decode cX5_led 35 = .ok (.if_icmp .lt 5, 3) := dk_161 0 5 (dk_at dksX5_led_1 12 rfl rfl)
theorem dX5_led_38 : decode cX5_led 38 = .ok (.iconst (-1), 1) := dk_2 (dk_at dksX5_led_1 15 rfl rfl)
theorem dX5_led_39 : decode cX5_led 39 = .ok (.ireturn, 1) := dk_172 (dk_at dksX5_led_1 16 rfl rfl)
theorem dX5_led_40 : decode cX5_led 40 = .ok (.aload_n 0, 1) := dk_42 (dk_at dksX5_led_1 17 rfl rfl)
theorem dX5_led_41 : decode cX5_led 41 = .ok (.iload_n 1, 1) := dk_27 (dk_at dksX5_led_1 18 rfl rfl)
theorem dX5_led_42 : decode cX5_led 42 = .ok (.iload_n 2, 1) := dk_28 (dk_at dksX5_led_1 19 rfl rfl)
theorem dX5_led_43 : decode cX5_led 43 = .ok (.iload_n 3, 1) := dk_29 (dk_at dksX5_led_1 20 rfl rfl)
theorem dX5_led_44 : decode cX5_led 44 = .ok (.iconst 1, 1) := dk_4 (dk_at dksX5_led_1 21 rfl rfl)
theorem dX5_led_45 : decode cX5_led 45 = .ok (.iadd, 1) := dk_96 (dk_at dksX5_led_1 22 rfl rfl)
theorem dX5_led_46 : decode cX5_led 46 = .ok (.invokevirtual 314, 3) := dk_182 1 58 (dk_at dksX5_led_2 0 rfl rfl)
theorem dX5_led_49 : decode cX5_led 49 = .ok (.istore 4, 2) := dk_54 4 (dk_at dksX5_led_2 3 rfl rfl)
theorem dX5_led_51 : decode cX5_led 51 = .ok (.iload 4, 2) := dk_21 4 (dk_at dksX5_led_2 5 rfl rfl)
theorem dX5_led_53 : decode cX5_led 53 = .ok (.iconst (-1), 1) := dk_2 (dk_at dksX5_led_2 7 rfl rfl)
theorem dX5_led_54 : decode cX5_led 54 = .ok (.if_icmp .ne 7, 3) := dk_160 0 7 (dk_at dksX5_led_2 8 rfl rfl)
theorem dX5_led_57 : decode cX5_led 57 = .ok (.iconst (-1), 1) := dk_2 (dk_at dksX5_led_2 11 rfl rfl)
theorem dX5_led_58 : decode cX5_led 58 = .ok (.goto 16, 3) := dk_167 0 16 (dk_at dksX5_led_2 12 rfl rfl)
theorem dX5_led_61 : decode cX5_led 61 = .ok (.aload_n 0, 1) := dk_42 (dk_at dksX5_led_2 15 rfl rfl)
theorem dX5_led_62 : decode cX5_led 62 = .ok (.aload_n 0, 1) := dk_42 (dk_at dksX5_led_2 16 rfl rfl)
theorem dX5_led_63 : decode cX5_led 63 = .ok (.iload_n 1, 1) := dk_27 (dk_at dksX5_led_2 17 rfl rfl)
theorem dX5_led_64 : decode cX5_led 64 = .ok (.iload_n 2, 1) := dk_28 (dk_at dksX5_led_2 18 rfl rfl)
theorem dX5_led_65 : decode cX5_led 65 = .ok (.iload_n 3, 1) := dk_29 (dk_at dksX5_led_2 19 rfl rfl)
theorem dX5_led_66 : decode cX5_led 66 = .ok (.invokevirtual 314, 3) := dk_182 1 58 (dk_at dksX5_led_2 20 rfl rfl)
theorem dX5_led_69 : decode cX5_led 69 = .ok (.iload 4, 2) := dk_21 4 (dk_at dksX5_led_3 0 rfl rfl)
theorem dX5_led_71 : decode cX5_led 71 = .ok (.invokevirtual 318, 3) := dk_182 1 62 (dk_at dksX5_led_3 2 rfl rfl)
theorem dX5_led_74 : decode cX5_led 74 = .ok (.ireturn, 1) := dk_172 (dk_at dksX5_led_3 5 rfl rfl)
abbrev cX5_nameOf : ByteArray := prog_10_method_60_code
def yX5_nameOf : MethodName := ⟨RX5, "nameOf", "(II)I"⟩
def dkwX5_nameOf_1 : List UInt8 := [132, 3, 1, 167, 255, 232, 2, 172]
abbrev dktX5_nameOf_1 : List UInt8 := dkwX5_nameOf_1 ++ []
def dkwX5_nameOf_0 : List UInt8 := [3, 62, 29, 42, 180, 0, 34, 3, 46, 162, 0, 20, 27, 28, 130, 4, 29, 120, 160, 0, 5, 29, 172]
abbrev dktX5_nameOf_0 : List UInt8 := dkwX5_nameOf_0 ++ dktX5_nameOf_1
theorem dksX5_nameOf_0 : cX5_nameOf.data.toList.drop 0 = dktX5_nameOf_0 := by decide +kernel
theorem dksX5_nameOf_1 : cX5_nameOf.data.toList.drop 23 = dktX5_nameOf_1 := dk_seg dksX5_nameOf_0 23 rfl rfl
theorem dX5_nameOf_0 : decode cX5_nameOf 0 = .ok (.iconst 0, 1) := dk_3 (dk_at dksX5_nameOf_0 0 rfl rfl)
theorem dX5_nameOf_1 : decode cX5_nameOf 1 = .ok (.istore_n 3, 1) := dk_62 (dk_at dksX5_nameOf_0 1 rfl rfl)
theorem dX5_nameOf_2 : decode cX5_nameOf 2 = .ok (.iload_n 3, 1) := dk_29 (dk_at dksX5_nameOf_0 2 rfl rfl)
theorem dX5_nameOf_3 : decode cX5_nameOf 3 = .ok (.aload_n 0, 1) := dk_42 (dk_at dksX5_nameOf_0 3 rfl rfl)
theorem dX5_nameOf_4 : decode cX5_nameOf 4 = .ok (.getfield 34, 3) := dk_180 0 34 (dk_at dksX5_nameOf_0 4 rfl rfl)
theorem dX5_nameOf_7 : decode cX5_nameOf 7 = .ok (.iconst 0, 1) := dk_3 (dk_at dksX5_nameOf_0 7 rfl rfl)
theorem dX5_nameOf_8 : decode cX5_nameOf 8 = .ok (.iaload, 1) := dk_46 (dk_at dksX5_nameOf_0 8 rfl rfl)
theorem dX5_nameOf_9 : decode cX5_nameOf 9 = .ok (.if_icmp .ge 20, 3) := dk_162 0 20 (dk_at dksX5_nameOf_0 9 rfl rfl)
theorem dX5_nameOf_12 : decode cX5_nameOf 12 = .ok (.iload_n 1, 1) := dk_27 (dk_at dksX5_nameOf_0 12 rfl rfl)
theorem dX5_nameOf_13 : decode cX5_nameOf 13 = .ok (.iload_n 2, 1) := dk_28 (dk_at dksX5_nameOf_0 13 rfl rfl)
theorem dX5_nameOf_14 : decode cX5_nameOf 14 = .ok (.ixor, 1) := dk_130 (dk_at dksX5_nameOf_0 14 rfl rfl)
theorem dX5_nameOf_15 : decode cX5_nameOf 15 = .ok (.iconst 1, 1) := dk_4 (dk_at dksX5_nameOf_0 15 rfl rfl)
theorem dX5_nameOf_16 : decode cX5_nameOf 16 = .ok (.iload_n 3, 1) := dk_29 (dk_at dksX5_nameOf_0 16 rfl rfl)
theorem dX5_nameOf_17 : decode cX5_nameOf 17 = .ok (.ishl, 1) := dk_120 (dk_at dksX5_nameOf_0 17 rfl rfl)
theorem dX5_nameOf_18 : decode cX5_nameOf 18 = .ok (.if_icmp .ne 5, 3) := dk_160 0 5 (dk_at dksX5_nameOf_0 18 rfl rfl)
theorem dX5_nameOf_21 : decode cX5_nameOf 21 = .ok (.iload_n 3, 1) := dk_29 (dk_at dksX5_nameOf_0 21 rfl rfl)
theorem dX5_nameOf_22 : decode cX5_nameOf 22 = .ok (.ireturn, 1) := dk_172 (dk_at dksX5_nameOf_0 22 rfl rfl)
theorem dX5_nameOf_23 : decode cX5_nameOf 23 = .ok (.iinc 3 1, 3) := dk_132 3 1 (dk_at dksX5_nameOf_1 0 rfl rfl)
theorem dX5_nameOf_26 : decode cX5_nameOf 26 = .ok (.goto (-24), 3) := dk_167 255 232 (dk_at dksX5_nameOf_1 3 rfl rfl)
theorem dX5_nameOf_29 : decode cX5_nameOf 29 = .ok (.iconst (-1), 1) := dk_2 (dk_at dksX5_nameOf_1 6 rfl rfl)
theorem dX5_nameOf_30 : decode cX5_nameOf 30 = .ok (.ireturn, 1) := dk_172 (dk_at dksX5_nameOf_1 7 rfl rfl)
abbrev cX5_farthest : ByteArray := prog_10_method_62_code
def yX5_farthest : MethodName := ⟨RX5, "farthest", "(II)I"⟩
def dkwX5_farthest_4 : List UInt8 := [167, 0, 9, 42, 180, 0, 62, 29, 46, 172]
abbrev dktX5_farthest_4 : List UInt8 := dkwX5_farthest_4 ++ []
def dkwX5_farthest_3 : List UInt8 := [180, 0, 62, 29, 46, 164, 0, 6, 21, 4, 62, 132, 4, 1, 167, 255, 208, 28, 154, 0, 7, 29]
abbrev dktX5_farthest_3 : List UInt8 := dkwX5_farthest_3 ++ dktX5_farthest_4
def dkwX5_farthest_2 : List UInt8 := [180, 0, 62, 21, 4, 46, 18, 182, 159, 0, 27, 29, 2, 159, 0, 19, 42, 180, 0, 62, 21, 4, 46, 42]
abbrev dktX5_farthest_2 : List UInt8 := dkwX5_farthest_2 ++ dktX5_farthest_3
def dkwX5_farthest_1 : List UInt8 := [16, 254, 172, 42, 27, 182, 1, 52, 2, 62, 3, 54, 4, 21, 4, 42, 182, 1, 26, 162, 0, 45, 42]
abbrev dktX5_farthest_1 : List UInt8 := dkwX5_farthest_1 ++ dktX5_farthest_2
def dkwX5_farthest_0 : List UInt8 := [42, 3, 181, 0, 131, 42, 27, 133, 182, 1, 29, 153, 0, 13, 28, 133, 9, 10, 184, 0, 136, 154, 0, 6]
abbrev dktX5_farthest_0 : List UInt8 := dkwX5_farthest_0 ++ dktX5_farthest_1
theorem dksX5_farthest_0 : cX5_farthest.data.toList.drop 0 = dktX5_farthest_0 := by decide +kernel
theorem dksX5_farthest_1 : cX5_farthest.data.toList.drop 24 = dktX5_farthest_1 := dk_seg dksX5_farthest_0 24 rfl rfl
theorem dksX5_farthest_2 : cX5_farthest.data.toList.drop 47 = dktX5_farthest_2 := dk_seg dksX5_farthest_1 23 rfl rfl
theorem dksX5_farthest_3 : cX5_farthest.data.toList.drop 71 = dktX5_farthest_3 := dk_seg dksX5_farthest_2 24 rfl rfl
theorem dksX5_farthest_4 : cX5_farthest.data.toList.drop 93 = dktX5_farthest_4 := dk_seg dksX5_farthest_3 22 rfl rfl
theorem dX5_farthest_0 : decode cX5_farthest 0 = .ok (.aload_n 0, 1) := dk_42 (dk_at dksX5_farthest_0 0 rfl rfl)
theorem dX5_farthest_1 : decode cX5_farthest 1 = .ok (.iconst 0, 1) := dk_3 (dk_at dksX5_farthest_0 1 rfl rfl)
theorem dX5_farthest_2 : decode cX5_farthest 2 = .ok (.putfield 131, 3) := dk_181 0 131 (dk_at dksX5_farthest_0 2 rfl rfl)
theorem dX5_farthest_5 : decode cX5_farthest 5 = .ok (.aload_n 0, 1) := dk_42 (dk_at dksX5_farthest_0 5 rfl rfl)
theorem dX5_farthest_6 : decode cX5_farthest 6 = .ok (.iload_n 1, 1) := dk_27 (dk_at dksX5_farthest_0 6 rfl rfl)
theorem dX5_farthest_7 : decode cX5_farthest 7 = .ok (.i2l, 1) := dk_133 (dk_at dksX5_farthest_0 7 rfl rfl)
theorem dX5_farthest_8 : decode cX5_farthest 8 = .ok (.invokevirtual 285, 3) := dk_182 1 29 (dk_at dksX5_farthest_0 8 rfl rfl)
theorem dX5_farthest_11 : decode cX5_farthest 11 = .ok (.ifCond .eq 13, 3) := dk_153 0 13 (dk_at dksX5_farthest_0 11 rfl rfl)
theorem dX5_farthest_14 : decode cX5_farthest 14 = .ok (.iload_n 2, 1) := dk_28 (dk_at dksX5_farthest_0 14 rfl rfl)
theorem dX5_farthest_15 : decode cX5_farthest 15 = .ok (.i2l, 1) := dk_133 (dk_at dksX5_farthest_0 15 rfl rfl)
theorem dX5_farthest_16 : decode cX5_farthest 16 = .ok (.lconst 0, 1) := dk_9 (dk_at dksX5_farthest_0 16 rfl rfl)
theorem dX5_farthest_17 : decode cX5_farthest 17 = .ok (.lconst 1, 1) := dk_10 (dk_at dksX5_farthest_0 17 rfl rfl)
theorem dX5_farthest_18 : decode cX5_farthest 18 = .ok (.invokestatic 136, 3) := dk_184 0 136 (dk_at dksX5_farthest_0 18 rfl rfl)
theorem dX5_farthest_21 : decode cX5_farthest 21 = .ok (.ifCond .ne 6, 3) := dk_154 0 6 (dk_at dksX5_farthest_0 21 rfl rfl)
theorem dX5_farthest_24 : decode cX5_farthest 24 = .ok (.bipush (-2), 2) := dk_16 254 (dk_at dksX5_farthest_1 0 rfl rfl)
theorem dX5_farthest_26 : decode cX5_farthest 26 = .ok (.ireturn, 1) := dk_172 (dk_at dksX5_farthest_1 2 rfl rfl)
theorem dX5_farthest_27 : decode cX5_farthest 27 = .ok (.aload_n 0, 1) := dk_42 (dk_at dksX5_farthest_1 3 rfl rfl)
theorem dX5_farthest_28 : decode cX5_farthest 28 = .ok (.iload_n 1, 1) := dk_27 (dk_at dksX5_farthest_1 4 rfl rfl)
theorem dX5_farthest_29 : decode cX5_farthest 29 = .ok (.invokevirtual 308, 3) := dk_182 1 52 (dk_at dksX5_farthest_1 5 rfl rfl)
theorem dX5_farthest_32 : decode cX5_farthest 32 = .ok (.iconst (-1), 1) := dk_2 (dk_at dksX5_farthest_1 8 rfl rfl)
theorem dX5_farthest_33 : decode cX5_farthest 33 = .ok (.istore_n 3, 1) := dk_62 (dk_at dksX5_farthest_1 9 rfl rfl)
theorem dX5_farthest_34 : decode cX5_farthest 34 = .ok (.iconst 0, 1) := dk_3 (dk_at dksX5_farthest_1 10 rfl rfl)
theorem dX5_farthest_35 : decode cX5_farthest 35 = .ok (.istore 4, 2) := dk_54 4 (dk_at dksX5_farthest_1 11 rfl rfl)
theorem dX5_farthest_37 : decode cX5_farthest 37 = .ok (.iload 4, 2) := dk_21 4 (dk_at dksX5_farthest_1 13 rfl rfl)
theorem dX5_farthest_39 : decode cX5_farthest 39 = .ok (.aload_n 0, 1) := dk_42 (dk_at dksX5_farthest_1 15 rfl rfl)
theorem dX5_farthest_40 : decode cX5_farthest 40 = .ok (.invokevirtual 282, 3) := dk_182 1 26 (dk_at dksX5_farthest_1 16 rfl rfl)
theorem dX5_farthest_43 : decode cX5_farthest 43 = .ok (.if_icmp .ge 45, 3) := dk_162 0 45 (dk_at dksX5_farthest_1 19 rfl rfl)
theorem dX5_farthest_46 : decode cX5_farthest 46 = .ok (.aload_n 0, 1) := dk_42 (dk_at dksX5_farthest_1 22 rfl rfl)
theorem dX5_farthest_47 : decode cX5_farthest 47 = .ok (.getfield 62, 3) := dk_180 0 62 (dk_at dksX5_farthest_2 0 rfl rfl)
theorem dX5_farthest_50 : decode cX5_farthest 50 = .ok (.iload 4, 2) := dk_21 4 (dk_at dksX5_farthest_2 3 rfl rfl)
theorem dX5_farthest_52 : decode cX5_farthest 52 = .ok (.iaload, 1) := dk_46 (dk_at dksX5_farthest_2 5 rfl rfl)
theorem dX5_farthest_53 : decode cX5_farthest 53 = .ok (.ldc 182, 2) := dk_18 182 (dk_at dksX5_farthest_2 6 rfl rfl)
theorem dX5_farthest_55 : decode cX5_farthest 55 = .ok (.if_icmp .eq 27, 3) := dk_159 0 27 (dk_at dksX5_farthest_2 8 rfl rfl)
theorem dX5_farthest_58 : decode cX5_farthest 58 = .ok (.iload_n 3, 1) := dk_29 (dk_at dksX5_farthest_2 11 rfl rfl)
theorem dX5_farthest_59 : decode cX5_farthest 59 = .ok (.iconst (-1), 1) := dk_2 (dk_at dksX5_farthest_2 12 rfl rfl)
theorem dX5_farthest_60 : decode cX5_farthest 60 = .ok (.if_icmp .eq 19, 3) := dk_159 0 19 (dk_at dksX5_farthest_2 13 rfl rfl)
theorem dX5_farthest_63 : decode cX5_farthest 63 = .ok (.aload_n 0, 1) := dk_42 (dk_at dksX5_farthest_2 16 rfl rfl)
theorem dX5_farthest_64 : decode cX5_farthest 64 = .ok (.getfield 62, 3) := dk_180 0 62 (dk_at dksX5_farthest_2 17 rfl rfl)
theorem dX5_farthest_67 : decode cX5_farthest 67 = .ok (.iload 4, 2) := dk_21 4 (dk_at dksX5_farthest_2 20 rfl rfl)
theorem dX5_farthest_69 : decode cX5_farthest 69 = .ok (.iaload, 1) := dk_46 (dk_at dksX5_farthest_2 22 rfl rfl)
theorem dX5_farthest_70 : decode cX5_farthest 70 = .ok (.aload_n 0, 1) := dk_42 (dk_at dksX5_farthest_2 23 rfl rfl)
theorem dX5_farthest_71 : decode cX5_farthest 71 = .ok (.getfield 62, 3) := dk_180 0 62 (dk_at dksX5_farthest_3 0 rfl rfl)
theorem dX5_farthest_74 : decode cX5_farthest 74 = .ok (.iload_n 3, 1) := dk_29 (dk_at dksX5_farthest_3 3 rfl rfl)
theorem dX5_farthest_75 : decode cX5_farthest 75 = .ok (.iaload, 1) := dk_46 (dk_at dksX5_farthest_3 4 rfl rfl)
theorem dX5_farthest_76 : decode cX5_farthest 76 = .ok (.if_icmp .le 6, 3) := dk_164 0 6 (dk_at dksX5_farthest_3 5 rfl rfl)
theorem dX5_farthest_79 : decode cX5_farthest 79 = .ok (.iload 4, 2) := dk_21 4 (dk_at dksX5_farthest_3 8 rfl rfl)
theorem dX5_farthest_81 : decode cX5_farthest 81 = .ok (.istore_n 3, 1) := dk_62 (dk_at dksX5_farthest_3 10 rfl rfl)
theorem dX5_farthest_82 : decode cX5_farthest 82 = .ok (.iinc 4 1, 3) := dk_132 4 1 (dk_at dksX5_farthest_3 11 rfl rfl)
theorem dX5_farthest_85 : decode cX5_farthest 85 = .ok (.goto (-48), 3) := dk_167 255 208 (dk_at dksX5_farthest_3 14 rfl rfl)
theorem dX5_farthest_88 : decode cX5_farthest 88 = .ok (.iload_n 2, 1) := dk_28 (dk_at dksX5_farthest_3 17 rfl rfl)
theorem dX5_farthest_89 : decode cX5_farthest 89 = .ok (.ifCond .ne 7, 3) := dk_154 0 7 (dk_at dksX5_farthest_3 18 rfl rfl)
theorem dX5_farthest_92 : decode cX5_farthest 92 = .ok (.iload_n 3, 1) := dk_29 (dk_at dksX5_farthest_3 21 rfl rfl)
theorem dX5_farthest_93 : decode cX5_farthest 93 = .ok (.goto 9, 3) := dk_167 0 9 (dk_at dksX5_farthest_4 0 rfl rfl)
theorem dX5_farthest_96 : decode cX5_farthest 96 = .ok (.aload_n 0, 1) := dk_42 (dk_at dksX5_farthest_4 3 rfl rfl)
theorem dX5_farthest_97 : decode cX5_farthest 97 = .ok (.getfield 62, 3) := dk_180 0 62 (dk_at dksX5_farthest_4 4 rfl rfl)
theorem dX5_farthest_100 : decode cX5_farthest 100 = .ok (.iload_n 3, 1) := dk_29 (dk_at dksX5_farthest_4 7 rfl rfl)
theorem dX5_farthest_101 : decode cX5_farthest 101 = .ok (.iaload, 1) := dk_46 (dk_at dksX5_farthest_4 8 rfl rfl)
theorem dX5_farthest_102 : decode cX5_farthest 102 = .ok (.ireturn, 1) := dk_172 (dk_at dksX5_farthest_4 9 rfl rfl)
abbrev cX5_width : ByteArray := prog_10_method_63_code
def yX5_width : MethodName := ⟨RX5, "width", "()I"⟩
def dkwX5_width_3 : List UInt8 := [27, 60, 132, 3, 1, 167, 255, 213, 132, 2, 1, 167, 255, 192, 27, 172]
abbrev dktX5_width_3 : List UInt8 := dkwX5_width_3 ++ []
def dkwX5_width_2 : List UInt8 := [18, 182, 159, 0, 22, 42, 180, 0, 62, 29, 46, 27, 164, 0, 12, 42, 180, 0, 62, 29, 46, 167, 0, 4]
abbrev dktX5_width_2 : List UInt8 := dkwX5_width_2 ++ dktX5_width_3
def dkwX5_width_1 : List UInt8 := [162, 0, 62, 42, 28, 182, 1, 52, 3, 62, 29, 42, 182, 1, 26, 162, 0, 41, 42, 180, 0, 62, 29, 46]
abbrev dktX5_width_1 : List UInt8 := dkwX5_width_1 ++ dktX5_width_2
def dkwX5_width_0 : List UInt8 := [42, 3, 181, 0, 131, 42, 182, 1, 23, 154, 0, 6, 16, 254, 172, 3, 60, 3, 61, 28, 42, 182, 1, 26]
abbrev dktX5_width_0 : List UInt8 := dkwX5_width_0 ++ dktX5_width_1
theorem dksX5_width_0 : cX5_width.data.toList.drop 0 = dktX5_width_0 := by decide +kernel
theorem dksX5_width_1 : cX5_width.data.toList.drop 24 = dktX5_width_1 := dk_seg dksX5_width_0 24 rfl rfl
theorem dksX5_width_2 : cX5_width.data.toList.drop 48 = dktX5_width_2 := dk_seg dksX5_width_1 24 rfl rfl
theorem dksX5_width_3 : cX5_width.data.toList.drop 72 = dktX5_width_3 := dk_seg dksX5_width_2 24 rfl rfl
theorem dX5_width_0 : decode cX5_width 0 = .ok (.aload_n 0, 1) := dk_42 (dk_at dksX5_width_0 0 rfl rfl)
theorem dX5_width_1 : decode cX5_width 1 = .ok (.iconst 0, 1) := dk_3 (dk_at dksX5_width_0 1 rfl rfl)
theorem dX5_width_2 : decode cX5_width 2 = .ok (.putfield 131, 3) := dk_181 0 131 (dk_at dksX5_width_0 2 rfl rfl)
theorem dX5_width_5 : decode cX5_width 5 = .ok (.aload_n 0, 1) := dk_42 (dk_at dksX5_width_0 5 rfl rfl)
theorem dX5_width_6 : decode cX5_width 6 = .ok (.invokevirtual 279, 3) := dk_182 1 23 (dk_at dksX5_width_0 6 rfl rfl)
theorem dX5_width_9 : decode cX5_width 9 = .ok (.ifCond .ne 6, 3) := dk_154 0 6 (dk_at dksX5_width_0 9 rfl rfl)
theorem dX5_width_12 : decode cX5_width 12 = .ok (.bipush (-2), 2) := dk_16 254 (dk_at dksX5_width_0 12 rfl rfl)
theorem dX5_width_14 : decode cX5_width 14 = .ok (.ireturn, 1) := dk_172 (dk_at dksX5_width_0 14 rfl rfl)
theorem dX5_width_15 : decode cX5_width 15 = .ok (.iconst 0, 1) := dk_3 (dk_at dksX5_width_0 15 rfl rfl)
theorem dX5_width_16 : decode cX5_width 16 = .ok (.istore_n 1, 1) := dk_60 (dk_at dksX5_width_0 16 rfl rfl)
theorem dX5_width_17 : decode cX5_width 17 = .ok (.iconst 0, 1) := dk_3 (dk_at dksX5_width_0 17 rfl rfl)
theorem dX5_width_18 : decode cX5_width 18 = .ok (.istore_n 2, 1) := dk_61 (dk_at dksX5_width_0 18 rfl rfl)
theorem dX5_width_19 : decode cX5_width 19 = .ok (.iload_n 2, 1) := dk_28 (dk_at dksX5_width_0 19 rfl rfl)
theorem dX5_width_20 : decode cX5_width 20 = .ok (.aload_n 0, 1) := dk_42 (dk_at dksX5_width_0 20 rfl rfl)
theorem dX5_width_21 : decode cX5_width 21 = .ok (.invokevirtual 282, 3) := dk_182 1 26 (dk_at dksX5_width_0 21 rfl rfl)
theorem dX5_width_24 : decode cX5_width 24 = .ok (.if_icmp .ge 62, 3) := dk_162 0 62 (dk_at dksX5_width_1 0 rfl rfl)
theorem dX5_width_27 : decode cX5_width 27 = .ok (.aload_n 0, 1) := dk_42 (dk_at dksX5_width_1 3 rfl rfl)
theorem dX5_width_28 : decode cX5_width 28 = .ok (.iload_n 2, 1) := dk_28 (dk_at dksX5_width_1 4 rfl rfl)
theorem dX5_width_29 : decode cX5_width 29 = .ok (.invokevirtual 308, 3) := dk_182 1 52 (dk_at dksX5_width_1 5 rfl rfl)
theorem dX5_width_32 : decode cX5_width 32 = .ok (.iconst 0, 1) := dk_3 (dk_at dksX5_width_1 8 rfl rfl)
theorem dX5_width_33 : decode cX5_width 33 = .ok (.istore_n 3, 1) := dk_62 (dk_at dksX5_width_1 9 rfl rfl)
theorem dX5_width_34 : decode cX5_width 34 = .ok (.iload_n 3, 1) := dk_29 (dk_at dksX5_width_1 10 rfl rfl)
theorem dX5_width_35 : decode cX5_width 35 = .ok (.aload_n 0, 1) := dk_42 (dk_at dksX5_width_1 11 rfl rfl)
theorem dX5_width_36 : decode cX5_width 36 = .ok (.invokevirtual 282, 3) := dk_182 1 26 (dk_at dksX5_width_1 12 rfl rfl)
theorem dX5_width_39 : decode cX5_width 39 = .ok (.if_icmp .ge 41, 3) := dk_162 0 41 (dk_at dksX5_width_1 15 rfl rfl)
theorem dX5_width_42 : decode cX5_width 42 = .ok (.aload_n 0, 1) := dk_42 (dk_at dksX5_width_1 18 rfl rfl)
theorem dX5_width_43 : decode cX5_width 43 = .ok (.getfield 62, 3) := dk_180 0 62 (dk_at dksX5_width_1 19 rfl rfl)
theorem dX5_width_46 : decode cX5_width 46 = .ok (.iload_n 3, 1) := dk_29 (dk_at dksX5_width_1 22 rfl rfl)
theorem dX5_width_47 : decode cX5_width 47 = .ok (.iaload, 1) := dk_46 (dk_at dksX5_width_1 23 rfl rfl)
theorem dX5_width_48 : decode cX5_width 48 = .ok (.ldc 182, 2) := dk_18 182 (dk_at dksX5_width_2 0 rfl rfl)
theorem dX5_width_50 : decode cX5_width 50 = .ok (.if_icmp .eq 22, 3) := dk_159 0 22 (dk_at dksX5_width_2 2 rfl rfl)
theorem dX5_width_53 : decode cX5_width 53 = .ok (.aload_n 0, 1) := dk_42 (dk_at dksX5_width_2 5 rfl rfl)
theorem dX5_width_54 : decode cX5_width 54 = .ok (.getfield 62, 3) := dk_180 0 62 (dk_at dksX5_width_2 6 rfl rfl)
theorem dX5_width_57 : decode cX5_width 57 = .ok (.iload_n 3, 1) := dk_29 (dk_at dksX5_width_2 9 rfl rfl)
theorem dX5_width_58 : decode cX5_width 58 = .ok (.iaload, 1) := dk_46 (dk_at dksX5_width_2 10 rfl rfl)
theorem dX5_width_59 : decode cX5_width 59 = .ok (.iload_n 1, 1) := dk_27 (dk_at dksX5_width_2 11 rfl rfl)
theorem dX5_width_60 : decode cX5_width 60 = .ok (.if_icmp .le 12, 3) := dk_164 0 12 (dk_at dksX5_width_2 12 rfl rfl)
theorem dX5_width_63 : decode cX5_width 63 = .ok (.aload_n 0, 1) := dk_42 (dk_at dksX5_width_2 15 rfl rfl)
theorem dX5_width_64 : decode cX5_width 64 = .ok (.getfield 62, 3) := dk_180 0 62 (dk_at dksX5_width_2 16 rfl rfl)
theorem dX5_width_67 : decode cX5_width 67 = .ok (.iload_n 3, 1) := dk_29 (dk_at dksX5_width_2 19 rfl rfl)
theorem dX5_width_68 : decode cX5_width 68 = .ok (.iaload, 1) := dk_46 (dk_at dksX5_width_2 20 rfl rfl)
theorem dX5_width_69 : decode cX5_width 69 = .ok (.goto 4, 3) := dk_167 0 4 (dk_at dksX5_width_2 21 rfl rfl)
theorem dX5_width_72 : decode cX5_width 72 = .ok (.iload_n 1, 1) := dk_27 (dk_at dksX5_width_3 0 rfl rfl)
theorem dX5_width_73 : decode cX5_width 73 = .ok (.istore_n 1, 1) := dk_60 (dk_at dksX5_width_3 1 rfl rfl)
theorem dX5_width_74 : decode cX5_width 74 = .ok (.iinc 3 1, 3) := dk_132 3 1 (dk_at dksX5_width_3 2 rfl rfl)
theorem dX5_width_77 : decode cX5_width 77 = .ok (.goto (-43), 3) := dk_167 255 213 (dk_at dksX5_width_3 5 rfl rfl)
theorem dX5_width_80 : decode cX5_width 80 = .ok (.iinc 2 1, 3) := dk_132 2 1 (dk_at dksX5_width_3 8 rfl rfl)
theorem dX5_width_83 : decode cX5_width 83 = .ok (.goto (-64), 3) := dk_167 255 192 (dk_at dksX5_width_3 11 rfl rfl)
theorem dX5_width_86 : decode cX5_width 86 = .ok (.iload_n 1, 1) := dk_27 (dk_at dksX5_width_3 14 rfl rfl)
theorem dX5_width_87 : decode cX5_width 87 = .ok (.ireturn, 1) := dk_172 (dk_at dksX5_width_3 15 rfl rfl)
abbrev cX5_within : ByteArray := prog_10_method_64_code
def yX5_within : MethodName := ⟨RX5, "within", "(II)I"⟩
def dkwX5_within_3 : List UInt8 := [132, 4, 1, 167, 255, 213, 29, 172]
abbrev dktX5_within_3 : List UInt8 := dkwX5_within_3 ++ []
def dkwX5_within_2 : List UInt8 := [46, 28, 163, 0, 19, 42, 180, 0, 62, 21, 4, 46, 18, 182, 159, 0, 7, 4, 167, 0, 4, 3, 96, 62]
abbrev dktX5_within_2 : List UInt8 := dkwX5_within_2 ++ dktX5_within_3
def dkwX5_within_1 : List UInt8 := [182, 1, 52, 3, 62, 3, 54, 4, 21, 4, 42, 182, 1, 26, 162, 0, 40, 29, 42, 180, 0, 62, 21, 4]
abbrev dktX5_within_1 : List UInt8 := dkwX5_within_1 ++ dktX5_within_2
def dkwX5_within_0 : List UInt8 := [42, 3, 181, 0, 131, 42, 27, 133, 182, 1, 29, 153, 0, 7, 28, 156, 0, 6, 16, 254, 172, 42, 27]
abbrev dktX5_within_0 : List UInt8 := dkwX5_within_0 ++ dktX5_within_1
theorem dksX5_within_0 : cX5_within.data.toList.drop 0 = dktX5_within_0 := by decide +kernel
theorem dksX5_within_1 : cX5_within.data.toList.drop 23 = dktX5_within_1 := dk_seg dksX5_within_0 23 rfl rfl
theorem dksX5_within_2 : cX5_within.data.toList.drop 47 = dktX5_within_2 := dk_seg dksX5_within_1 24 rfl rfl
theorem dksX5_within_3 : cX5_within.data.toList.drop 71 = dktX5_within_3 := dk_seg dksX5_within_2 24 rfl rfl
theorem dX5_within_0 : decode cX5_within 0 = .ok (.aload_n 0, 1) := dk_42 (dk_at dksX5_within_0 0 rfl rfl)
theorem dX5_within_1 : decode cX5_within 1 = .ok (.iconst 0, 1) := dk_3 (dk_at dksX5_within_0 1 rfl rfl)
theorem dX5_within_2 : decode cX5_within 2 = .ok (.putfield 131, 3) := dk_181 0 131 (dk_at dksX5_within_0 2 rfl rfl)
theorem dX5_within_5 : decode cX5_within 5 = .ok (.aload_n 0, 1) := dk_42 (dk_at dksX5_within_0 5 rfl rfl)
theorem dX5_within_6 : decode cX5_within 6 = .ok (.iload_n 1, 1) := dk_27 (dk_at dksX5_within_0 6 rfl rfl)
theorem dX5_within_7 : decode cX5_within 7 = .ok (.i2l, 1) := dk_133 (dk_at dksX5_within_0 7 rfl rfl)
theorem dX5_within_8 : decode cX5_within 8 = .ok (.invokevirtual 285, 3) := dk_182 1 29 (dk_at dksX5_within_0 8 rfl rfl)
theorem dX5_within_11 : decode cX5_within 11 = .ok (.ifCond .eq 7, 3) := dk_153 0 7 (dk_at dksX5_within_0 11 rfl rfl)
theorem dX5_within_14 : decode cX5_within 14 = .ok (.iload_n 2, 1) := dk_28 (dk_at dksX5_within_0 14 rfl rfl)
theorem dX5_within_15 : decode cX5_within 15 = .ok (.ifCond .ge 6, 3) := dk_156 0 6 (dk_at dksX5_within_0 15 rfl rfl)
theorem dX5_within_18 : decode cX5_within 18 = .ok (.bipush (-2), 2) := dk_16 254 (dk_at dksX5_within_0 18 rfl rfl)
theorem dX5_within_20 : decode cX5_within 20 = .ok (.ireturn, 1) := dk_172 (dk_at dksX5_within_0 20 rfl rfl)
theorem dX5_within_21 : decode cX5_within 21 = .ok (.aload_n 0, 1) := dk_42 (dk_at dksX5_within_0 21 rfl rfl)
theorem dX5_within_22 : decode cX5_within 22 = .ok (.iload_n 1, 1) := dk_27 (dk_at dksX5_within_0 22 rfl rfl)
theorem dX5_within_23 : decode cX5_within 23 = .ok (.invokevirtual 308, 3) := dk_182 1 52 (dk_at dksX5_within_1 0 rfl rfl)
theorem dX5_within_26 : decode cX5_within 26 = .ok (.iconst 0, 1) := dk_3 (dk_at dksX5_within_1 3 rfl rfl)
theorem dX5_within_27 : decode cX5_within 27 = .ok (.istore_n 3, 1) := dk_62 (dk_at dksX5_within_1 4 rfl rfl)
theorem dX5_within_28 : decode cX5_within 28 = .ok (.iconst 0, 1) := dk_3 (dk_at dksX5_within_1 5 rfl rfl)
theorem dX5_within_29 : decode cX5_within 29 = .ok (.istore 4, 2) := dk_54 4 (dk_at dksX5_within_1 6 rfl rfl)
theorem dX5_within_31 : decode cX5_within 31 = .ok (.iload 4, 2) := dk_21 4 (dk_at dksX5_within_1 8 rfl rfl)
theorem dX5_within_33 : decode cX5_within 33 = .ok (.aload_n 0, 1) := dk_42 (dk_at dksX5_within_1 10 rfl rfl)
theorem dX5_within_34 : decode cX5_within 34 = .ok (.invokevirtual 282, 3) := dk_182 1 26 (dk_at dksX5_within_1 11 rfl rfl)
theorem dX5_within_37 : decode cX5_within 37 = .ok (.if_icmp .ge 40, 3) := dk_162 0 40 (dk_at dksX5_within_1 14 rfl rfl)
theorem dX5_within_40 : decode cX5_within 40 = .ok (.iload_n 3, 1) := dk_29 (dk_at dksX5_within_1 17 rfl rfl)
theorem dX5_within_41 : decode cX5_within 41 = .ok (.aload_n 0, 1) := dk_42 (dk_at dksX5_within_1 18 rfl rfl)
theorem dX5_within_42 : decode cX5_within 42 = .ok (.getfield 62, 3) := dk_180 0 62 (dk_at dksX5_within_1 19 rfl rfl)
theorem dX5_within_45 : decode cX5_within 45 = .ok (.iload 4, 2) := dk_21 4 (dk_at dksX5_within_1 22 rfl rfl)
theorem dX5_within_47 : decode cX5_within 47 = .ok (.iaload, 1) := dk_46 (dk_at dksX5_within_2 0 rfl rfl)
theorem dX5_within_48 : decode cX5_within 48 = .ok (.iload_n 2, 1) := dk_28 (dk_at dksX5_within_2 1 rfl rfl)
theorem dX5_within_49 : decode cX5_within 49 = .ok (.if_icmp .gt 19, 3) := dk_163 0 19 (dk_at dksX5_within_2 2 rfl rfl)
theorem dX5_within_52 : decode cX5_within 52 = .ok (.aload_n 0, 1) := dk_42 (dk_at dksX5_within_2 5 rfl rfl)
theorem dX5_within_53 : decode cX5_within 53 = .ok (.getfield 62, 3) := dk_180 0 62 (dk_at dksX5_within_2 6 rfl rfl)
theorem dX5_within_56 : decode cX5_within 56 = .ok (.iload 4, 2) := dk_21 4 (dk_at dksX5_within_2 9 rfl rfl)
theorem dX5_within_58 : decode cX5_within 58 = .ok (.iaload, 1) := dk_46 (dk_at dksX5_within_2 11 rfl rfl)
theorem dX5_within_59 : decode cX5_within 59 = .ok (.ldc 182, 2) := dk_18 182 (dk_at dksX5_within_2 12 rfl rfl)
theorem dX5_within_61 : decode cX5_within 61 = .ok (.if_icmp .eq 7, 3) := dk_159 0 7 (dk_at dksX5_within_2 14 rfl rfl)
theorem dX5_within_64 : decode cX5_within 64 = .ok (.iconst 1, 1) := dk_4 (dk_at dksX5_within_2 17 rfl rfl)
theorem dX5_within_65 : decode cX5_within 65 = .ok (.goto 4, 3) := dk_167 0 4 (dk_at dksX5_within_2 18 rfl rfl)
theorem dX5_within_68 : decode cX5_within 68 = .ok (.iconst 0, 1) := dk_3 (dk_at dksX5_within_2 21 rfl rfl)
theorem dX5_within_69 : decode cX5_within 69 = .ok (.iadd, 1) := dk_96 (dk_at dksX5_within_2 22 rfl rfl)
theorem dX5_within_70 : decode cX5_within 70 = .ok (.istore_n 3, 1) := dk_62 (dk_at dksX5_within_2 23 rfl rfl)
theorem dX5_within_71 : decode cX5_within 71 = .ok (.iinc 4 1, 3) := dk_132 4 1 (dk_at dksX5_within_3 0 rfl rfl)
theorem dX5_within_74 : decode cX5_within 74 = .ok (.goto (-43), 3) := dk_167 255 213 (dk_at dksX5_within_3 3 rfl rfl)
theorem dX5_within_77 : decode cX5_within 77 = .ok (.iload_n 3, 1) := dk_29 (dk_at dksX5_within_3 6 rfl rfl)
theorem dX5_within_78 : decode cX5_within 78 = .ok (.ireturn, 1) := dk_172 (dk_at dksX5_within_3 7 rfl rfl)
abbrev cX5_apartWays : ByteArray := prog_10_method_70_code
def yX5_apartWays : MethodName := ⟨RX5, "apartWays", "(III)I"⟩
def dkwX5_apartWays_2 : List UInt8 := [182, 1, 71, 172]
abbrev dktX5_apartWays_2 : List UInt8 := dkwX5_apartWays_2 ++ []
def dkwX5_apartWays_1 : List UInt8 := [16, 254, 172, 29, 4, 160, 0, 10, 42, 27, 28, 182, 1, 77, 172, 42, 182, 1, 80, 42, 27, 28]
abbrev dktX5_apartWays_1 : List UInt8 := dkwX5_apartWays_1 ++ dktX5_apartWays_2
def dkwX5_apartWays_0 : List UInt8 := [42, 3, 181, 0, 131, 42, 27, 28, 182, 1, 74, 153, 0, 13, 29, 133, 9, 10, 184, 0, 136, 154, 0, 6]
abbrev dktX5_apartWays_0 : List UInt8 := dkwX5_apartWays_0 ++ dktX5_apartWays_1
theorem dksX5_apartWays_0 : cX5_apartWays.data.toList.drop 0 = dktX5_apartWays_0 := by decide +kernel
theorem dksX5_apartWays_1 : cX5_apartWays.data.toList.drop 24 = dktX5_apartWays_1 := dk_seg dksX5_apartWays_0 24 rfl rfl
theorem dksX5_apartWays_2 : cX5_apartWays.data.toList.drop 46 = dktX5_apartWays_2 := dk_seg dksX5_apartWays_1 22 rfl rfl
theorem dX5_apartWays_0 : decode cX5_apartWays 0 = .ok (.aload_n 0, 1) := dk_42 (dk_at dksX5_apartWays_0 0 rfl rfl)
theorem dX5_apartWays_1 : decode cX5_apartWays 1 = .ok (.iconst 0, 1) := dk_3 (dk_at dksX5_apartWays_0 1 rfl rfl)
theorem dX5_apartWays_2 : decode cX5_apartWays 2 = .ok (.putfield 131, 3) := dk_181 0 131 (dk_at dksX5_apartWays_0 2 rfl rfl)
theorem dX5_apartWays_5 : decode cX5_apartWays 5 = .ok (.aload_n 0, 1) := dk_42 (dk_at dksX5_apartWays_0 5 rfl rfl)
theorem dX5_apartWays_6 : decode cX5_apartWays 6 = .ok (.iload_n 1, 1) := dk_27 (dk_at dksX5_apartWays_0 6 rfl rfl)
theorem dX5_apartWays_7 : decode cX5_apartWays 7 = .ok (.iload_n 2, 1) := dk_28 (dk_at dksX5_apartWays_0 7 rfl rfl)
theorem dX5_apartWays_8 : decode cX5_apartWays 8 = .ok (.invokevirtual 330, 3) := dk_182 1 74 (dk_at dksX5_apartWays_0 8 rfl rfl)
theorem dX5_apartWays_11 : decode cX5_apartWays 11 = .ok (.ifCond .eq 13, 3) := dk_153 0 13 (dk_at dksX5_apartWays_0 11 rfl rfl)
theorem dX5_apartWays_14 : decode cX5_apartWays 14 = .ok (.iload_n 3, 1) := dk_29 (dk_at dksX5_apartWays_0 14 rfl rfl)
theorem dX5_apartWays_15 : decode cX5_apartWays 15 = .ok (.i2l, 1) := dk_133 (dk_at dksX5_apartWays_0 15 rfl rfl)
theorem dX5_apartWays_16 : decode cX5_apartWays 16 = .ok (.lconst 0, 1) := dk_9 (dk_at dksX5_apartWays_0 16 rfl rfl)
theorem dX5_apartWays_17 : decode cX5_apartWays 17 = .ok (.lconst 1, 1) := dk_10 (dk_at dksX5_apartWays_0 17 rfl rfl)
theorem dX5_apartWays_18 : decode cX5_apartWays 18 = .ok (.invokestatic 136, 3) := dk_184 0 136 (dk_at dksX5_apartWays_0 18 rfl rfl)
theorem dX5_apartWays_21 : decode cX5_apartWays 21 = .ok (.ifCond .ne 6, 3) := dk_154 0 6 (dk_at dksX5_apartWays_0 21 rfl rfl)
theorem dX5_apartWays_24 : decode cX5_apartWays 24 = .ok (.bipush (-2), 2) := dk_16 254 (dk_at dksX5_apartWays_1 0 rfl rfl)
theorem dX5_apartWays_26 : decode cX5_apartWays 26 = .ok (.ireturn, 1) := dk_172 (dk_at dksX5_apartWays_1 2 rfl rfl)
theorem dX5_apartWays_27 : decode cX5_apartWays 27 = .ok (.iload_n 3, 1) := dk_29 (dk_at dksX5_apartWays_1 3 rfl rfl)
theorem dX5_apartWays_28 : decode cX5_apartWays 28 = .ok (.iconst 1, 1) := dk_4 (dk_at dksX5_apartWays_1 4 rfl rfl)
theorem dX5_apartWays_29 : decode cX5_apartWays 29 = .ok (.if_icmp .ne 10, 3) := dk_160 0 10 (dk_at dksX5_apartWays_1 5 rfl rfl)
theorem dX5_apartWays_32 : decode cX5_apartWays 32 = .ok (.aload_n 0, 1) := dk_42 (dk_at dksX5_apartWays_1 8 rfl rfl)
theorem dX5_apartWays_33 : decode cX5_apartWays 33 = .ok (.iload_n 1, 1) := dk_27 (dk_at dksX5_apartWays_1 9 rfl rfl)
theorem dX5_apartWays_34 : decode cX5_apartWays 34 = .ok (.iload_n 2, 1) := dk_28 (dk_at dksX5_apartWays_1 10 rfl rfl)
theorem dX5_apartWays_35 : decode cX5_apartWays 35 = .ok (.invokevirtual 333, 3) := dk_182 1 77 (dk_at dksX5_apartWays_1 11 rfl rfl)
theorem dX5_apartWays_38 : decode cX5_apartWays 38 = .ok (.ireturn, 1) := dk_172 (dk_at dksX5_apartWays_1 14 rfl rfl)
theorem dX5_apartWays_39 : decode cX5_apartWays 39 = .ok (.aload_n 0, 1) := dk_42 (dk_at dksX5_apartWays_1 15 rfl rfl)
theorem dX5_apartWays_40 : decode cX5_apartWays 40 = .ok (.invokevirtual 336, 3) := dk_182 1 80 (dk_at dksX5_apartWays_1 16 rfl rfl)
theorem dX5_apartWays_43 : decode cX5_apartWays 43 = .ok (.aload_n 0, 1) := dk_42 (dk_at dksX5_apartWays_1 19 rfl rfl)
theorem dX5_apartWays_44 : decode cX5_apartWays 44 = .ok (.iload_n 1, 1) := dk_27 (dk_at dksX5_apartWays_1 20 rfl rfl)
theorem dX5_apartWays_45 : decode cX5_apartWays 45 = .ok (.iload_n 2, 1) := dk_28 (dk_at dksX5_apartWays_1 21 rfl rfl)
theorem dX5_apartWays_46 : decode cX5_apartWays 46 = .ok (.invokevirtual 327, 3) := dk_182 1 71 (dk_at dksX5_apartWays_2 0 rfl rfl)
theorem dX5_apartWays_49 : decode cX5_apartWays 49 = .ok (.ireturn, 1) := dk_172 (dk_at dksX5_apartWays_2 3 rfl rfl)
abbrev cX5_areTwo : ByteArray := prog_10_method_40_code
def yX5_areTwo : MethodName := ⟨RX5, "areTwo", "(II)Z"⟩
def dkwX5_areTwo_1 : List UInt8 := [167, 0, 4, 3, 172]
abbrev dktX5_areTwo_1 : List UInt8 := dkwX5_areTwo_1 ++ []
def dkwX5_areTwo_0 : List UInt8 := [42, 27, 133, 182, 1, 29, 153, 0, 21, 42, 28, 133, 182, 1, 29, 153, 0, 12, 27, 28, 159, 0, 7, 4]
abbrev dktX5_areTwo_0 : List UInt8 := dkwX5_areTwo_0 ++ dktX5_areTwo_1
theorem dksX5_areTwo_0 : cX5_areTwo.data.toList.drop 0 = dktX5_areTwo_0 := by decide +kernel
theorem dksX5_areTwo_1 : cX5_areTwo.data.toList.drop 24 = dktX5_areTwo_1 := dk_seg dksX5_areTwo_0 24 rfl rfl
theorem dX5_areTwo_0 : decode cX5_areTwo 0 = .ok (.aload_n 0, 1) := dk_42 (dk_at dksX5_areTwo_0 0 rfl rfl)
theorem dX5_areTwo_1 : decode cX5_areTwo 1 = .ok (.iload_n 1, 1) := dk_27 (dk_at dksX5_areTwo_0 1 rfl rfl)
theorem dX5_areTwo_2 : decode cX5_areTwo 2 = .ok (.i2l, 1) := dk_133 (dk_at dksX5_areTwo_0 2 rfl rfl)
theorem dX5_areTwo_3 : decode cX5_areTwo 3 = .ok (.invokevirtual 285, 3) := dk_182 1 29 (dk_at dksX5_areTwo_0 3 rfl rfl)
theorem dX5_areTwo_6 : decode cX5_areTwo 6 = .ok (.ifCond .eq 21, 3) := dk_153 0 21 (dk_at dksX5_areTwo_0 6 rfl rfl)
theorem dX5_areTwo_9 : decode cX5_areTwo 9 = .ok (.aload_n 0, 1) := dk_42 (dk_at dksX5_areTwo_0 9 rfl rfl)
theorem dX5_areTwo_10 : decode cX5_areTwo 10 = .ok (.iload_n 2, 1) := dk_28 (dk_at dksX5_areTwo_0 10 rfl rfl)
theorem dX5_areTwo_11 : decode cX5_areTwo 11 = .ok (.i2l, 1) := dk_133 (dk_at dksX5_areTwo_0 11 rfl rfl)
theorem dX5_areTwo_12 : decode cX5_areTwo 12 = .ok (.invokevirtual 285, 3) := dk_182 1 29 (dk_at dksX5_areTwo_0 12 rfl rfl)
theorem dX5_areTwo_15 : decode cX5_areTwo 15 = .ok (.ifCond .eq 12, 3) := dk_153 0 12 (dk_at dksX5_areTwo_0 15 rfl rfl)
theorem dX5_areTwo_18 : decode cX5_areTwo 18 = .ok (.iload_n 1, 1) := dk_27 (dk_at dksX5_areTwo_0 18 rfl rfl)
theorem dX5_areTwo_19 : decode cX5_areTwo 19 = .ok (.iload_n 2, 1) := dk_28 (dk_at dksX5_areTwo_0 19 rfl rfl)
theorem dX5_areTwo_20 : decode cX5_areTwo 20 = .ok (.if_icmp .eq 7, 3) := dk_159 0 7 (dk_at dksX5_areTwo_0 20 rfl rfl)
theorem dX5_areTwo_23 : decode cX5_areTwo 23 = .ok (.iconst 1, 1) := dk_4 (dk_at dksX5_areTwo_0 23 rfl rfl)
theorem dX5_areTwo_24 : decode cX5_areTwo 24 = .ok (.goto 4, 3) := dk_167 0 4 (dk_at dksX5_areTwo_1 0 rfl rfl)
theorem dX5_areTwo_27 : decode cX5_areTwo 27 = .ok (.iconst 0, 1) := dk_3 (dk_at dksX5_areTwo_1 3 rfl rfl)
theorem dX5_areTwo_28 : decode cX5_areTwo 28 = .ok (.ireturn, 1) := dk_172 (dk_at dksX5_areTwo_1 4 rfl rfl)
abbrev cX5_throughSquares : ByteArray := prog_10_method_69_code
def yX5_throughSquares : MethodName := ⟨RX5, "throughSquares", "(II)I"⟩
def dkwX5_throughSquares_0 : List UInt8 := [42, 27, 28, 182, 1, 68, 42, 27, 28, 16, 32, 96, 182, 1, 71, 172]
abbrev dktX5_throughSquares_0 : List UInt8 := dkwX5_throughSquares_0 ++ []
theorem dksX5_throughSquares_0 : cX5_throughSquares.data.toList.drop 0 = dktX5_throughSquares_0 := by decide +kernel
theorem dX5_throughSquares_0 : decode cX5_throughSquares 0 = .ok (.aload_n 0, 1) := dk_42 (dk_at dksX5_throughSquares_0 0 rfl rfl)
theorem dX5_throughSquares_1 : decode cX5_throughSquares 1 = .ok (.iload_n 1, 1) := dk_27 (dk_at dksX5_throughSquares_0 1 rfl rfl)
theorem dX5_throughSquares_2 : decode cX5_throughSquares 2 = .ok (.iload_n 2, 1) := dk_28 (dk_at dksX5_throughSquares_0 2 rfl rfl)
theorem dX5_throughSquares_3 : decode cX5_throughSquares 3 = .ok (.invokevirtual 324, 3) := dk_182 1 68 (dk_at dksX5_throughSquares_0 3 rfl rfl)
theorem dX5_throughSquares_6 : decode cX5_throughSquares 6 = .ok (.aload_n 0, 1) := dk_42 (dk_at dksX5_throughSquares_0 6 rfl rfl)
theorem dX5_throughSquares_7 : decode cX5_throughSquares 7 = .ok (.iload_n 1, 1) := dk_27 (dk_at dksX5_throughSquares_0 7 rfl rfl)
theorem dX5_throughSquares_8 : decode cX5_throughSquares 8 = .ok (.iload_n 2, 1) := dk_28 (dk_at dksX5_throughSquares_0 8 rfl rfl)
theorem dX5_throughSquares_9 : decode cX5_throughSquares 9 = .ok (.bipush 32, 2) := dk_16 32 (dk_at dksX5_throughSquares_0 9 rfl rfl)
theorem dX5_throughSquares_11 : decode cX5_throughSquares 11 = .ok (.iadd, 1) := dk_96 (dk_at dksX5_throughSquares_0 11 rfl rfl)
theorem dX5_throughSquares_12 : decode cX5_throughSquares 12 = .ok (.invokevirtual 327, 3) := dk_182 1 71 (dk_at dksX5_throughSquares_0 12 rfl rfl)
theorem dX5_throughSquares_15 : decode cX5_throughSquares 15 = .ok (.ireturn, 1) := dk_172 (dk_at dksX5_throughSquares_0 15 rfl rfl)
abbrev cX5_laysSquares : ByteArray := prog_10_method_66_code
def yX5_laysSquares : MethodName := ⟨RX5, "laysSquares", "(II)V"⟩
def dkwX5_laysSquares_4 : List UInt8 := [104, 29, 4, 21, 4, 120, 130, 96, 4, 79, 132, 4, 1, 167, 255, 212, 132, 3, 1, 167, 255, 166, 177]
abbrev dktX5_laysSquares_4 : List UInt8 := dkwX5_laysSquares_4 ++ []
def dkwX5_laysSquares_3 : List UInt8 := [46, 162, 0, 39, 42, 29, 21, 4, 182, 1, 39, 153, 0, 23, 42, 180, 0, 68, 16, 64, 29, 16, 32, 96]
abbrev dktX5_laysSquares_3 : List UInt8 := dkwX5_laysSquares_3 ++ dktX5_laysSquares_4
def dkwX5_laysSquares_2 : List UInt8 := [159, 0, 8, 29, 28, 160, 0, 7, 8, 167, 0, 4, 4, 79, 3, 54, 4, 21, 4, 42, 180, 0, 34, 3]
abbrev dktX5_laysSquares_2 : List UInt8 := dkwX5_laysSquares_2 ++ dktX5_laysSquares_3
def dkwX5_laysSquares_1 : List UInt8 := [29, 42, 182, 1, 26, 162, 0, 88, 42, 180, 0, 68, 16, 64, 29, 104, 29, 96, 16, 32, 96, 29, 27]
abbrev dktX5_laysSquares_1 : List UInt8 := dkwX5_laysSquares_1 ++ dktX5_laysSquares_2
def dkwX5_laysSquares_0 : List UInt8 := [3, 62, 29, 17, 16, 0, 162, 0, 16, 42, 180, 0, 68, 29, 3, 79, 132, 3, 1, 167, 255, 239, 3, 62]
abbrev dktX5_laysSquares_0 : List UInt8 := dkwX5_laysSquares_0 ++ dktX5_laysSquares_1
theorem dksX5_laysSquares_0 : cX5_laysSquares.data.toList.drop 0 = dktX5_laysSquares_0 := by decide +kernel
theorem dksX5_laysSquares_1 : cX5_laysSquares.data.toList.drop 24 = dktX5_laysSquares_1 := dk_seg dksX5_laysSquares_0 24 rfl rfl
theorem dksX5_laysSquares_2 : cX5_laysSquares.data.toList.drop 47 = dktX5_laysSquares_2 := dk_seg dksX5_laysSquares_1 23 rfl rfl
theorem dksX5_laysSquares_3 : cX5_laysSquares.data.toList.drop 71 = dktX5_laysSquares_3 := dk_seg dksX5_laysSquares_2 24 rfl rfl
theorem dksX5_laysSquares_4 : cX5_laysSquares.data.toList.drop 95 = dktX5_laysSquares_4 := dk_seg dksX5_laysSquares_3 24 rfl rfl
theorem dX5_laysSquares_0 : decode cX5_laysSquares 0 = .ok (.iconst 0, 1) := dk_3 (dk_at dksX5_laysSquares_0 0 rfl rfl)
theorem dX5_laysSquares_1 : decode cX5_laysSquares 1 = .ok (.istore_n 3, 1) := dk_62 (dk_at dksX5_laysSquares_0 1 rfl rfl)
theorem dX5_laysSquares_2 : decode cX5_laysSquares 2 = .ok (.iload_n 3, 1) := dk_29 (dk_at dksX5_laysSquares_0 2 rfl rfl)
theorem dX5_laysSquares_3 : decode cX5_laysSquares 3 = .ok (.sipush 4096, 3) := dk_17 16 0 (dk_at dksX5_laysSquares_0 3 rfl rfl)
theorem dX5_laysSquares_6 : decode cX5_laysSquares 6 = .ok (.if_icmp .ge 16, 3) := dk_162 0 16 (dk_at dksX5_laysSquares_0 6 rfl rfl)
theorem dX5_laysSquares_9 : decode cX5_laysSquares 9 = .ok (.aload_n 0, 1) := dk_42 (dk_at dksX5_laysSquares_0 9 rfl rfl)
theorem dX5_laysSquares_10 : decode cX5_laysSquares 10 = .ok (.getfield 68, 3) := dk_180 0 68 (dk_at dksX5_laysSquares_0 10 rfl rfl)
theorem dX5_laysSquares_13 : decode cX5_laysSquares 13 = .ok (.iload_n 3, 1) := dk_29 (dk_at dksX5_laysSquares_0 13 rfl rfl)
theorem dX5_laysSquares_14 : decode cX5_laysSquares 14 = .ok (.iconst 0, 1) := dk_3 (dk_at dksX5_laysSquares_0 14 rfl rfl)
theorem dX5_laysSquares_15 : decode cX5_laysSquares 15 = .ok (.iastore, 1) := dk_79 (dk_at dksX5_laysSquares_0 15 rfl rfl)
theorem dX5_laysSquares_16 : decode cX5_laysSquares 16 = .ok (.iinc 3 1, 3) := dk_132 3 1 (dk_at dksX5_laysSquares_0 16 rfl rfl)
theorem dX5_laysSquares_19 : decode cX5_laysSquares 19 = .ok (.goto (-17), 3) := dk_167 255 239 (dk_at dksX5_laysSquares_0 19 rfl rfl)
theorem dX5_laysSquares_22 : decode cX5_laysSquares 22 = .ok (.iconst 0, 1) := dk_3 (dk_at dksX5_laysSquares_0 22 rfl rfl)
theorem dX5_laysSquares_23 : decode cX5_laysSquares 23 = .ok (.istore_n 3, 1) := dk_62 (dk_at dksX5_laysSquares_0 23 rfl rfl)
theorem dX5_laysSquares_24 : decode cX5_laysSquares 24 = .ok (.iload_n 3, 1) := dk_29 (dk_at dksX5_laysSquares_1 0 rfl rfl)
theorem dX5_laysSquares_25 : decode cX5_laysSquares 25 = .ok (.aload_n 0, 1) := dk_42 (dk_at dksX5_laysSquares_1 1 rfl rfl)
theorem dX5_laysSquares_26 : decode cX5_laysSquares 26 = .ok (.invokevirtual 282, 3) := dk_182 1 26 (dk_at dksX5_laysSquares_1 2 rfl rfl)
theorem dX5_laysSquares_29 : decode cX5_laysSquares 29 = .ok (.if_icmp .ge 88, 3) := dk_162 0 88 (dk_at dksX5_laysSquares_1 5 rfl rfl)
theorem dX5_laysSquares_32 : decode cX5_laysSquares 32 = .ok (.aload_n 0, 1) := dk_42 (dk_at dksX5_laysSquares_1 8 rfl rfl)
theorem dX5_laysSquares_33 : decode cX5_laysSquares 33 = .ok (.getfield 68, 3) := dk_180 0 68 (dk_at dksX5_laysSquares_1 9 rfl rfl)
theorem dX5_laysSquares_36 : decode cX5_laysSquares 36 = .ok (.bipush 64, 2) := dk_16 64 (dk_at dksX5_laysSquares_1 12 rfl rfl)
theorem dX5_laysSquares_38 : decode cX5_laysSquares 38 = .ok (.iload_n 3, 1) := dk_29 (dk_at dksX5_laysSquares_1 14 rfl rfl)
theorem dX5_laysSquares_39 : decode cX5_laysSquares 39 = .ok (.imul, 1) := dk_104 (dk_at dksX5_laysSquares_1 15 rfl rfl)
theorem dX5_laysSquares_40 : decode cX5_laysSquares 40 = .ok (.iload_n 3, 1) := dk_29 (dk_at dksX5_laysSquares_1 16 rfl rfl)
theorem dX5_laysSquares_41 : decode cX5_laysSquares 41 = .ok (.iadd, 1) := dk_96 (dk_at dksX5_laysSquares_1 17 rfl rfl)
theorem dX5_laysSquares_42 : decode cX5_laysSquares 42 = .ok (.bipush 32, 2) := dk_16 32 (dk_at dksX5_laysSquares_1 18 rfl rfl)
theorem dX5_laysSquares_44 : decode cX5_laysSquares 44 = .ok (.iadd, 1) := dk_96 (dk_at dksX5_laysSquares_1 20 rfl rfl)
theorem dX5_laysSquares_45 : decode cX5_laysSquares 45 = .ok (.iload_n 3, 1) := dk_29 (dk_at dksX5_laysSquares_1 21 rfl rfl)
theorem dX5_laysSquares_46 : decode cX5_laysSquares 46 = .ok (.iload_n 1, 1) := dk_27 (dk_at dksX5_laysSquares_1 22 rfl rfl)
theorem dX5_laysSquares_47 : decode cX5_laysSquares 47 = .ok (.if_icmp .eq 8, 3) := dk_159 0 8 (dk_at dksX5_laysSquares_2 0 rfl rfl)
theorem dX5_laysSquares_50 : decode cX5_laysSquares 50 = .ok (.iload_n 3, 1) := dk_29 (dk_at dksX5_laysSquares_2 3 rfl rfl)
theorem dX5_laysSquares_51 : decode cX5_laysSquares 51 = .ok (.iload_n 2, 1) := dk_28 (dk_at dksX5_laysSquares_2 4 rfl rfl)
theorem dX5_laysSquares_52 : decode cX5_laysSquares 52 = .ok (.if_icmp .ne 7, 3) := dk_160 0 7 (dk_at dksX5_laysSquares_2 5 rfl rfl)
theorem dX5_laysSquares_55 : decode cX5_laysSquares 55 = .ok (.iconst 5, 1) := dk_8 (dk_at dksX5_laysSquares_2 8 rfl rfl)
theorem dX5_laysSquares_56 : decode cX5_laysSquares 56 = .ok (.goto 4, 3) := dk_167 0 4 (dk_at dksX5_laysSquares_2 9 rfl rfl)
theorem dX5_laysSquares_59 : decode cX5_laysSquares 59 = .ok (.iconst 1, 1) := dk_4 (dk_at dksX5_laysSquares_2 12 rfl rfl)
theorem dX5_laysSquares_60 : decode cX5_laysSquares 60 = .ok (.iastore, 1) := dk_79 (dk_at dksX5_laysSquares_2 13 rfl rfl)
theorem dX5_laysSquares_61 : decode cX5_laysSquares 61 = .ok (.iconst 0, 1) := dk_3 (dk_at dksX5_laysSquares_2 14 rfl rfl)
theorem dX5_laysSquares_62 : decode cX5_laysSquares 62 = .ok (.istore 4, 2) := dk_54 4 (dk_at dksX5_laysSquares_2 15 rfl rfl)
theorem dX5_laysSquares_64 : decode cX5_laysSquares 64 = .ok (.iload 4, 2) := dk_21 4 (dk_at dksX5_laysSquares_2 17 rfl rfl)
theorem dX5_laysSquares_66 : decode cX5_laysSquares 66 = .ok (.aload_n 0, 1) := dk_42 (dk_at dksX5_laysSquares_2 19 rfl rfl)
theorem dX5_laysSquares_67 : decode cX5_laysSquares 67 = .ok (.getfield 34, 3) := dk_180 0 34 (dk_at dksX5_laysSquares_2 20 rfl rfl)
theorem dX5_laysSquares_70 : decode cX5_laysSquares 70 = .ok (.iconst 0, 1) := dk_3 (dk_at dksX5_laysSquares_2 23 rfl rfl)
theorem dX5_laysSquares_71 : decode cX5_laysSquares 71 = .ok (.iaload, 1) := dk_46 (dk_at dksX5_laysSquares_3 0 rfl rfl)
theorem dX5_laysSquares_72 : decode cX5_laysSquares 72 = .ok (.if_icmp .ge 39, 3) := dk_162 0 39 (dk_at dksX5_laysSquares_3 1 rfl rfl)
theorem dX5_laysSquares_75 : decode cX5_laysSquares 75 = .ok (.aload_n 0, 1) := dk_42 (dk_at dksX5_laysSquares_3 4 rfl rfl)
theorem dX5_laysSquares_76 : decode cX5_laysSquares 76 = .ok (.iload_n 3, 1) := dk_29 (dk_at dksX5_laysSquares_3 5 rfl rfl)
theorem dX5_laysSquares_77 : decode cX5_laysSquares 77 = .ok (.iload 4, 2) := dk_21 4 (dk_at dksX5_laysSquares_3 6 rfl rfl)
theorem dX5_laysSquares_79 : decode cX5_laysSquares 79 = .ok (.invokevirtual 295, 3) := dk_182 1 39 (dk_at dksX5_laysSquares_3 8 rfl rfl)
theorem dX5_laysSquares_82 : decode cX5_laysSquares 82 = .ok (.ifCond .eq 23, 3) := dk_153 0 23 (dk_at dksX5_laysSquares_3 11 rfl rfl)
theorem dX5_laysSquares_85 : decode cX5_laysSquares 85 = .ok (.aload_n 0, 1) := dk_42 (dk_at dksX5_laysSquares_3 14 rfl rfl)
theorem dX5_laysSquares_86 : decode cX5_laysSquares 86 = .ok (.getfield 68, 3) := dk_180 0 68 (dk_at dksX5_laysSquares_3 15 rfl rfl)
theorem dX5_laysSquares_89 : decode cX5_laysSquares 89 = .ok (.bipush 64, 2) := dk_16 64 (dk_at dksX5_laysSquares_3 18 rfl rfl)
theorem dX5_laysSquares_91 : decode cX5_laysSquares 91 = .ok (.iload_n 3, 1) := dk_29 (dk_at dksX5_laysSquares_3 20 rfl rfl)
theorem dX5_laysSquares_92 : decode cX5_laysSquares 92 = .ok (.bipush 32, 2) := dk_16 32 (dk_at dksX5_laysSquares_3 21 rfl rfl)
theorem dX5_laysSquares_94 : decode cX5_laysSquares 94 = .ok (.iadd, 1) := dk_96 (dk_at dksX5_laysSquares_3 23 rfl rfl)
theorem dX5_laysSquares_95 : decode cX5_laysSquares 95 = .ok (.imul, 1) := dk_104 (dk_at dksX5_laysSquares_4 0 rfl rfl)
theorem dX5_laysSquares_96 : decode cX5_laysSquares 96 = .ok (.iload_n 3, 1) := dk_29 (dk_at dksX5_laysSquares_4 1 rfl rfl)
theorem dX5_laysSquares_97 : decode cX5_laysSquares 97 = .ok (.iconst 1, 1) := dk_4 (dk_at dksX5_laysSquares_4 2 rfl rfl)
theorem dX5_laysSquares_98 : decode cX5_laysSquares 98 = .ok (.iload 4, 2) := dk_21 4 (dk_at dksX5_laysSquares_4 3 rfl rfl)
theorem dX5_laysSquares_100 : decode cX5_laysSquares 100 = .ok (.ishl, 1) := dk_120 (dk_at dksX5_laysSquares_4 5 rfl rfl)
theorem dX5_laysSquares_101 : decode cX5_laysSquares 101 = .ok (.ixor, 1) := dk_130 (dk_at dksX5_laysSquares_4 6 rfl rfl)
theorem dX5_laysSquares_102 : decode cX5_laysSquares 102 = .ok (.iadd, 1) := dk_96 (dk_at dksX5_laysSquares_4 7 rfl rfl)
theorem dX5_laysSquares_103 : decode cX5_laysSquares 103 = .ok (.iconst 1, 1) := dk_4 (dk_at dksX5_laysSquares_4 8 rfl rfl)
theorem dX5_laysSquares_104 : decode cX5_laysSquares 104 = .ok (.iastore, 1) := dk_79 (dk_at dksX5_laysSquares_4 9 rfl rfl)
theorem dX5_laysSquares_105 : decode cX5_laysSquares 105 = .ok (.iinc 4 1, 3) := dk_132 4 1 (dk_at dksX5_laysSquares_4 10 rfl rfl)
theorem dX5_laysSquares_108 : decode cX5_laysSquares 108 = .ok (.goto (-44), 3) := dk_167 255 212 (dk_at dksX5_laysSquares_4 13 rfl rfl)
theorem dX5_laysSquares_111 : decode cX5_laysSquares 111 = .ok (.iinc 3 1, 3) := dk_132 3 1 (dk_at dksX5_laysSquares_4 16 rfl rfl)
theorem dX5_laysSquares_114 : decode cX5_laysSquares 114 = .ok (.goto (-90), 3) := dk_167 255 166 (dk_at dksX5_laysSquares_4 19 rfl rfl)
theorem dX5_laysSquares_117 : decode cX5_laysSquares 117 = .ok (.return_, 1) := dk_177 (dk_at dksX5_laysSquares_4 22 rfl rfl)
abbrev cX5_flows : ByteArray := prog_10_method_68_code
def yX5_flows : MethodName := ⟨RX5, "flows", "(II)I"⟩
def dkwX5_flows_3 : List UInt8 := [54, 4, 167, 255, 197, 132, 3, 1, 167, 255, 179, 29, 172]
abbrev dktX5_flows_3 : List UInt8 := dkwX5_flows_3 ++ []
def dkwX5_flows_2 : List UInt8 := [21, 4, 104, 42, 180, 0, 71, 21, 4, 46, 96, 92, 46, 4, 96, 79, 42, 180, 0, 71, 21, 4, 46]
abbrev dktX5_flows_2 : List UInt8 := dkwX5_flows_2 ++ dktX5_flows_3
def dkwX5_flows_1 : List UInt8 := [16, 64, 42, 180, 0, 71, 21, 4, 46, 104, 21, 4, 96, 92, 46, 4, 100, 79, 42, 180, 0, 68, 16, 64]
abbrev dktX5_flows_1 : List UInt8 := dkwX5_flows_1 ++ dktX5_flows_2
def dkwX5_flows_0 : List UInt8 := [3, 62, 42, 27, 28, 182, 1, 65, 153, 0, 74, 28, 54, 4, 21, 4, 27, 159, 0, 59, 42, 180, 0, 68]
abbrev dktX5_flows_0 : List UInt8 := dkwX5_flows_0 ++ dktX5_flows_1
theorem dksX5_flows_0 : cX5_flows.data.toList.drop 0 = dktX5_flows_0 := by decide +kernel
theorem dksX5_flows_1 : cX5_flows.data.toList.drop 24 = dktX5_flows_1 := dk_seg dksX5_flows_0 24 rfl rfl
theorem dksX5_flows_2 : cX5_flows.data.toList.drop 48 = dktX5_flows_2 := dk_seg dksX5_flows_1 24 rfl rfl
theorem dksX5_flows_3 : cX5_flows.data.toList.drop 71 = dktX5_flows_3 := dk_seg dksX5_flows_2 23 rfl rfl
theorem dX5_flows_0 : decode cX5_flows 0 = .ok (.iconst 0, 1) := dk_3 (dk_at dksX5_flows_0 0 rfl rfl)
theorem dX5_flows_1 : decode cX5_flows 1 = .ok (.istore_n 3, 1) := dk_62 (dk_at dksX5_flows_0 1 rfl rfl)
theorem dX5_flows_2 : decode cX5_flows 2 = .ok (.aload_n 0, 1) := dk_42 (dk_at dksX5_flows_0 2 rfl rfl)
theorem dX5_flows_3 : decode cX5_flows 3 = .ok (.iload_n 1, 1) := dk_27 (dk_at dksX5_flows_0 3 rfl rfl)
theorem dX5_flows_4 : decode cX5_flows 4 = .ok (.iload_n 2, 1) := dk_28 (dk_at dksX5_flows_0 4 rfl rfl)
theorem dX5_flows_5 : decode cX5_flows 5 = .ok (.invokevirtual 321, 3) := dk_182 1 65 (dk_at dksX5_flows_0 5 rfl rfl)
theorem dX5_flows_8 : decode cX5_flows 8 = .ok (.ifCond .eq 74, 3) := dk_153 0 74 (dk_at dksX5_flows_0 8 rfl rfl)
theorem dX5_flows_11 : decode cX5_flows 11 = .ok (.iload_n 2, 1) := dk_28 (dk_at dksX5_flows_0 11 rfl rfl)
theorem dX5_flows_12 : decode cX5_flows 12 = .ok (.istore 4, 2) := dk_54 4 (dk_at dksX5_flows_0 12 rfl rfl)
theorem dX5_flows_14 : decode cX5_flows 14 = .ok (.iload 4, 2) := dk_21 4 (dk_at dksX5_flows_0 14 rfl rfl)
theorem dX5_flows_16 : decode cX5_flows 16 = .ok (.iload_n 1, 1) := dk_27 (dk_at dksX5_flows_0 16 rfl rfl)
theorem dX5_flows_17 : decode cX5_flows 17 = .ok (.if_icmp .eq 59, 3) := dk_159 0 59 (dk_at dksX5_flows_0 17 rfl rfl)
theorem dX5_flows_20 : decode cX5_flows 20 = .ok (.aload_n 0, 1) := dk_42 (dk_at dksX5_flows_0 20 rfl rfl)
theorem dX5_flows_21 : decode cX5_flows 21 = .ok (.getfield 68, 3) := dk_180 0 68 (dk_at dksX5_flows_0 21 rfl rfl)
theorem dX5_flows_24 : decode cX5_flows 24 = .ok (.bipush 64, 2) := dk_16 64 (dk_at dksX5_flows_1 0 rfl rfl)
theorem dX5_flows_26 : decode cX5_flows 26 = .ok (.aload_n 0, 1) := dk_42 (dk_at dksX5_flows_1 2 rfl rfl)
theorem dX5_flows_27 : decode cX5_flows 27 = .ok (.getfield 71, 3) := dk_180 0 71 (dk_at dksX5_flows_1 3 rfl rfl)
theorem dX5_flows_30 : decode cX5_flows 30 = .ok (.iload 4, 2) := dk_21 4 (dk_at dksX5_flows_1 6 rfl rfl)
theorem dX5_flows_32 : decode cX5_flows 32 = .ok (.iaload, 1) := dk_46 (dk_at dksX5_flows_1 8 rfl rfl)
theorem dX5_flows_33 : decode cX5_flows 33 = .ok (.imul, 1) := dk_104 (dk_at dksX5_flows_1 9 rfl rfl)
theorem dX5_flows_34 : decode cX5_flows 34 = .ok (.iload 4, 2) := dk_21 4 (dk_at dksX5_flows_1 10 rfl rfl)
theorem dX5_flows_36 : decode cX5_flows 36 = .ok (.iadd, 1) := dk_96 (dk_at dksX5_flows_1 12 rfl rfl)
theorem dX5_flows_37 : decode cX5_flows 37 = .ok (.dup2, 1) := dk_92 (dk_at dksX5_flows_1 13 rfl rfl)
theorem dX5_flows_38 : decode cX5_flows 38 = .ok (.iaload, 1) := dk_46 (dk_at dksX5_flows_1 14 rfl rfl)
theorem dX5_flows_39 : decode cX5_flows 39 = .ok (.iconst 1, 1) := dk_4 (dk_at dksX5_flows_1 15 rfl rfl)
theorem dX5_flows_40 : decode cX5_flows 40 = .ok (.isub, 1) := dk_100 (dk_at dksX5_flows_1 16 rfl rfl)
theorem dX5_flows_41 : decode cX5_flows 41 = .ok (.iastore, 1) := dk_79 (dk_at dksX5_flows_1 17 rfl rfl)
theorem dX5_flows_42 : decode cX5_flows 42 = .ok (.aload_n 0, 1) := dk_42 (dk_at dksX5_flows_1 18 rfl rfl)
theorem dX5_flows_43 : decode cX5_flows 43 = .ok (.getfield 68, 3) := dk_180 0 68 (dk_at dksX5_flows_1 19 rfl rfl)
theorem dX5_flows_46 : decode cX5_flows 46 = .ok (.bipush 64, 2) := dk_16 64 (dk_at dksX5_flows_1 22 rfl rfl)
theorem dX5_flows_48 : decode cX5_flows 48 = .ok (.iload 4, 2) := dk_21 4 (dk_at dksX5_flows_2 0 rfl rfl)
theorem dX5_flows_50 : decode cX5_flows 50 = .ok (.imul, 1) := dk_104 (dk_at dksX5_flows_2 2 rfl rfl)
theorem dX5_flows_51 : decode cX5_flows 51 = .ok (.aload_n 0, 1) := dk_42 (dk_at dksX5_flows_2 3 rfl rfl)
theorem dX5_flows_52 : decode cX5_flows 52 = .ok (.getfield 71, 3) := dk_180 0 71 (dk_at dksX5_flows_2 4 rfl rfl)
theorem dX5_flows_55 : decode cX5_flows 55 = .ok (.iload 4, 2) := dk_21 4 (dk_at dksX5_flows_2 7 rfl rfl)
theorem dX5_flows_57 : decode cX5_flows 57 = .ok (.iaload, 1) := dk_46 (dk_at dksX5_flows_2 9 rfl rfl)
theorem dX5_flows_58 : decode cX5_flows 58 = .ok (.iadd, 1) := dk_96 (dk_at dksX5_flows_2 10 rfl rfl)
theorem dX5_flows_59 : decode cX5_flows 59 = .ok (.dup2, 1) := dk_92 (dk_at dksX5_flows_2 11 rfl rfl)
theorem dX5_flows_60 : decode cX5_flows 60 = .ok (.iaload, 1) := dk_46 (dk_at dksX5_flows_2 12 rfl rfl)
theorem dX5_flows_61 : decode cX5_flows 61 = .ok (.iconst 1, 1) := dk_4 (dk_at dksX5_flows_2 13 rfl rfl)
theorem dX5_flows_62 : decode cX5_flows 62 = .ok (.iadd, 1) := dk_96 (dk_at dksX5_flows_2 14 rfl rfl)
theorem dX5_flows_63 : decode cX5_flows 63 = .ok (.iastore, 1) := dk_79 (dk_at dksX5_flows_2 15 rfl rfl)
theorem dX5_flows_64 : decode cX5_flows 64 = .ok (.aload_n 0, 1) := dk_42 (dk_at dksX5_flows_2 16 rfl rfl)
theorem dX5_flows_65 : decode cX5_flows 65 = .ok (.getfield 71, 3) := dk_180 0 71 (dk_at dksX5_flows_2 17 rfl rfl)
theorem dX5_flows_68 : decode cX5_flows 68 = .ok (.iload 4, 2) := dk_21 4 (dk_at dksX5_flows_2 20 rfl rfl)
theorem dX5_flows_70 : decode cX5_flows 70 = .ok (.iaload, 1) := dk_46 (dk_at dksX5_flows_2 22 rfl rfl)
theorem dX5_flows_71 : decode cX5_flows 71 = .ok (.istore 4, 2) := dk_54 4 (dk_at dksX5_flows_3 0 rfl rfl)
theorem dX5_flows_73 : decode cX5_flows 73 = .ok (.goto (-59), 3) := dk_167 255 197 (dk_at dksX5_flows_3 2 rfl rfl)
theorem dX5_flows_76 : decode cX5_flows 76 = .ok (.iinc 3 1, 3) := dk_132 3 1 (dk_at dksX5_flows_3 5 rfl rfl)
theorem dX5_flows_79 : decode cX5_flows 79 = .ok (.goto (-77), 3) := dk_167 255 179 (dk_at dksX5_flows_3 8 rfl rfl)
theorem dX5_flows_82 : decode cX5_flows 82 = .ok (.iload_n 3, 1) := dk_29 (dk_at dksX5_flows_3 11 rfl rfl)
theorem dX5_flows_83 : decode cX5_flows 83 = .ok (.ireturn, 1) := dk_172 (dk_at dksX5_flows_3 12 rfl rfl)
abbrev cX5_reaches : ByteArray := prog_10_method_67_code
def yX5_reaches : MethodName := ⟨RX5, "reaches", "(II)Z"⟩
def dkwX5_reaches_6 : List UInt8 := [167, 0, 4, 3, 172]
abbrev dktX5_reaches_6 : List UInt8 := dkwX5_reaches_6 ++ []
def dkwX5_reaches_5 : List UInt8 := [132, 6, 1, 167, 255, 196, 132, 4, 1, 167, 255, 172, 42, 180, 0, 71, 28, 46, 2, 159, 0, 7, 4]
abbrev dktX5_reaches_5 : List UInt8 := dkwX5_reaches_5 ++ dktX5_reaches_6
def dkwX5_reaches_4 : List UInt8 := [167, 0, 23, 42, 180, 0, 71, 21, 6, 21, 5, 79, 42, 180, 0, 74, 29, 21, 6, 79, 132, 3, 1]
abbrev dktX5_reaches_4 : List UInt8 := dkwX5_reaches_4 ++ dktX5_reaches_5
def dkwX5_reaches_3 : List UInt8 := [21, 6, 46, 2, 160, 0, 42, 42, 180, 0, 68, 16, 64, 21, 5, 104, 21, 6, 96, 46, 154, 0, 6]
abbrev dktX5_reaches_3 : List UInt8 := dkwX5_reaches_3 ++ dktX5_reaches_4
def dkwX5_reaches_2 : List UInt8 := [42, 180, 0, 74, 21, 4, 46, 54, 5, 3, 54, 6, 21, 6, 16, 64, 162, 0, 59, 42, 180, 0, 71]
abbrev dktX5_reaches_2 : List UInt8 := dkwX5_reaches_2 ++ dktX5_reaches_3
def dkwX5_reaches_1 : List UInt8 := [180, 0, 71, 27, 27, 79, 42, 180, 0, 74, 3, 27, 79, 4, 62, 3, 54, 4, 21, 4, 29, 162, 0, 84]
abbrev dktX5_reaches_1 : List UInt8 := dkwX5_reaches_1 ++ dktX5_reaches_2
def dkwX5_reaches_0 : List UInt8 := [3, 62, 29, 16, 64, 162, 0, 16, 42, 180, 0, 71, 29, 2, 79, 132, 3, 1, 167, 255, 240, 42]
abbrev dktX5_reaches_0 : List UInt8 := dkwX5_reaches_0 ++ dktX5_reaches_1
theorem dksX5_reaches_0 : cX5_reaches.data.toList.drop 0 = dktX5_reaches_0 := by decide +kernel
theorem dksX5_reaches_1 : cX5_reaches.data.toList.drop 22 = dktX5_reaches_1 := dk_seg dksX5_reaches_0 22 rfl rfl
theorem dksX5_reaches_2 : cX5_reaches.data.toList.drop 46 = dktX5_reaches_2 := dk_seg dksX5_reaches_1 24 rfl rfl
theorem dksX5_reaches_3 : cX5_reaches.data.toList.drop 69 = dktX5_reaches_3 := dk_seg dksX5_reaches_2 23 rfl rfl
theorem dksX5_reaches_4 : cX5_reaches.data.toList.drop 92 = dktX5_reaches_4 := dk_seg dksX5_reaches_3 23 rfl rfl
theorem dksX5_reaches_5 : cX5_reaches.data.toList.drop 115 = dktX5_reaches_5 := dk_seg dksX5_reaches_4 23 rfl rfl
theorem dksX5_reaches_6 : cX5_reaches.data.toList.drop 138 = dktX5_reaches_6 := dk_seg dksX5_reaches_5 23 rfl rfl
theorem dX5_reaches_0 : decode cX5_reaches 0 = .ok (.iconst 0, 1) := dk_3 (dk_at dksX5_reaches_0 0 rfl rfl)
theorem dX5_reaches_1 : decode cX5_reaches 1 = .ok (.istore_n 3, 1) := dk_62 (dk_at dksX5_reaches_0 1 rfl rfl)
theorem dX5_reaches_2 : decode cX5_reaches 2 = .ok (.iload_n 3, 1) := dk_29 (dk_at dksX5_reaches_0 2 rfl rfl)
theorem dX5_reaches_3 : decode cX5_reaches 3 = .ok (.bipush 64, 2) := dk_16 64 (dk_at dksX5_reaches_0 3 rfl rfl)
theorem dX5_reaches_5 : decode cX5_reaches 5 = .ok (.if_icmp .ge 16, 3) := dk_162 0 16 (dk_at dksX5_reaches_0 5 rfl rfl)
theorem dX5_reaches_8 : decode cX5_reaches 8 = .ok (.aload_n 0, 1) := dk_42 (dk_at dksX5_reaches_0 8 rfl rfl)
theorem dX5_reaches_9 : decode cX5_reaches 9 = .ok (.getfield 71, 3) := dk_180 0 71 (dk_at dksX5_reaches_0 9 rfl rfl)
theorem dX5_reaches_12 : decode cX5_reaches 12 = .ok (.iload_n 3, 1) := dk_29 (dk_at dksX5_reaches_0 12 rfl rfl)
theorem dX5_reaches_13 : decode cX5_reaches 13 = .ok (.iconst (-1), 1) := dk_2 (dk_at dksX5_reaches_0 13 rfl rfl)
theorem dX5_reaches_14 : decode cX5_reaches 14 = .ok (.iastore, 1) := dk_79 (dk_at dksX5_reaches_0 14 rfl rfl)
theorem dX5_reaches_15 : decode cX5_reaches 15 = .ok (.iinc 3 1, 3) := dk_132 3 1 (dk_at dksX5_reaches_0 15 rfl rfl)
theorem dX5_reaches_18 : decode cX5_reaches 18 = .ok (.goto (-16), 3) := dk_167 255 240 (dk_at dksX5_reaches_0 18 rfl rfl)
theorem dX5_reaches_21 : decode cX5_reaches 21 = .ok (.aload_n 0, 1) := dk_42 (dk_at dksX5_reaches_0 21 rfl rfl)
theorem dX5_reaches_22 : decode cX5_reaches 22 = .ok (.getfield 71, 3) := dk_180 0 71 (dk_at dksX5_reaches_1 0 rfl rfl)
theorem dX5_reaches_25 : decode cX5_reaches 25 = .ok (.iload_n 1, 1) := dk_27 (dk_at dksX5_reaches_1 3 rfl rfl)
theorem dX5_reaches_26 : decode cX5_reaches 26 = .ok (.iload_n 1, 1) := dk_27 (dk_at dksX5_reaches_1 4 rfl rfl)
theorem dX5_reaches_27 : decode cX5_reaches 27 = .ok (.iastore, 1) := dk_79 (dk_at dksX5_reaches_1 5 rfl rfl)
theorem dX5_reaches_28 : decode cX5_reaches 28 = .ok (.aload_n 0, 1) := dk_42 (dk_at dksX5_reaches_1 6 rfl rfl)
theorem dX5_reaches_29 : decode cX5_reaches 29 = .ok (.getfield 74, 3) := dk_180 0 74 (dk_at dksX5_reaches_1 7 rfl rfl)
theorem dX5_reaches_32 : decode cX5_reaches 32 = .ok (.iconst 0, 1) := dk_3 (dk_at dksX5_reaches_1 10 rfl rfl)
theorem dX5_reaches_33 : decode cX5_reaches 33 = .ok (.iload_n 1, 1) := dk_27 (dk_at dksX5_reaches_1 11 rfl rfl)
theorem dX5_reaches_34 : decode cX5_reaches 34 = .ok (.iastore, 1) := dk_79 (dk_at dksX5_reaches_1 12 rfl rfl)
theorem dX5_reaches_35 : decode cX5_reaches 35 = .ok (.iconst 1, 1) := dk_4 (dk_at dksX5_reaches_1 13 rfl rfl)
theorem dX5_reaches_36 : decode cX5_reaches 36 = .ok (.istore_n 3, 1) := dk_62 (dk_at dksX5_reaches_1 14 rfl rfl)
theorem dX5_reaches_37 : decode cX5_reaches 37 = .ok (.iconst 0, 1) := dk_3 (dk_at dksX5_reaches_1 15 rfl rfl)
theorem dX5_reaches_38 : decode cX5_reaches 38 = .ok (.istore 4, 2) := dk_54 4 (dk_at dksX5_reaches_1 16 rfl rfl)
theorem dX5_reaches_40 : decode cX5_reaches 40 = .ok (.iload 4, 2) := dk_21 4 (dk_at dksX5_reaches_1 18 rfl rfl)
theorem dX5_reaches_42 : decode cX5_reaches 42 = .ok (.iload_n 3, 1) := dk_29 (dk_at dksX5_reaches_1 20 rfl rfl)
theorem dX5_reaches_43 : decode cX5_reaches 43 = .ok (.if_icmp .ge 84, 3) := dk_162 0 84 (dk_at dksX5_reaches_1 21 rfl rfl)
theorem dX5_reaches_46 : decode cX5_reaches 46 = .ok (.aload_n 0, 1) := dk_42 (dk_at dksX5_reaches_2 0 rfl rfl)
theorem dX5_reaches_47 : decode cX5_reaches 47 = .ok (.getfield 74, 3) := dk_180 0 74 (dk_at dksX5_reaches_2 1 rfl rfl)
theorem dX5_reaches_50 : decode cX5_reaches 50 = .ok (.iload 4, 2) := dk_21 4 (dk_at dksX5_reaches_2 4 rfl rfl)
theorem dX5_reaches_52 : decode cX5_reaches 52 = .ok (.iaload, 1) := dk_46 (dk_at dksX5_reaches_2 6 rfl rfl)
theorem dX5_reaches_53 : decode cX5_reaches 53 = .ok (.istore 5, 2) := dk_54 5 (dk_at dksX5_reaches_2 7 rfl rfl)
theorem dX5_reaches_55 : decode cX5_reaches 55 = .ok (.iconst 0, 1) := dk_3 (dk_at dksX5_reaches_2 9 rfl rfl)
theorem dX5_reaches_56 : decode cX5_reaches 56 = .ok (.istore 6, 2) := dk_54 6 (dk_at dksX5_reaches_2 10 rfl rfl)
theorem dX5_reaches_58 : decode cX5_reaches 58 = .ok (.iload 6, 2) := dk_21 6 (dk_at dksX5_reaches_2 12 rfl rfl)
theorem dX5_reaches_60 : decode cX5_reaches 60 = .ok (.bipush 64, 2) := dk_16 64 (dk_at dksX5_reaches_2 14 rfl rfl)
theorem dX5_reaches_62 : decode cX5_reaches 62 = .ok (.if_icmp .ge 59, 3) := dk_162 0 59 (dk_at dksX5_reaches_2 16 rfl rfl)
theorem dX5_reaches_65 : decode cX5_reaches 65 = .ok (.aload_n 0, 1) := dk_42 (dk_at dksX5_reaches_2 19 rfl rfl)
theorem dX5_reaches_66 : decode cX5_reaches 66 = .ok (.getfield 71, 3) := dk_180 0 71 (dk_at dksX5_reaches_2 20 rfl rfl)
theorem dX5_reaches_69 : decode cX5_reaches 69 = .ok (.iload 6, 2) := dk_21 6 (dk_at dksX5_reaches_3 0 rfl rfl)
theorem dX5_reaches_71 : decode cX5_reaches 71 = .ok (.iaload, 1) := dk_46 (dk_at dksX5_reaches_3 2 rfl rfl)
theorem dX5_reaches_72 : decode cX5_reaches 72 = .ok (.iconst (-1), 1) := dk_2 (dk_at dksX5_reaches_3 3 rfl rfl)
theorem dX5_reaches_73 : decode cX5_reaches 73 = .ok (.if_icmp .ne 42, 3) := dk_160 0 42 (dk_at dksX5_reaches_3 4 rfl rfl)
theorem dX5_reaches_76 : decode cX5_reaches 76 = .ok (.aload_n 0, 1) := dk_42 (dk_at dksX5_reaches_3 7 rfl rfl)
theorem dX5_reaches_77 : decode cX5_reaches 77 = .ok (.getfield 68, 3) := dk_180 0 68 (dk_at dksX5_reaches_3 8 rfl rfl)
theorem dX5_reaches_80 : decode cX5_reaches 80 = .ok (.bipush 64, 2) := dk_16 64 (dk_at dksX5_reaches_3 11 rfl rfl)
theorem dX5_reaches_82 : decode cX5_reaches 82 = .ok (.iload 5, 2) := dk_21 5 (dk_at dksX5_reaches_3 13 rfl rfl)
theorem dX5_reaches_84 : decode cX5_reaches 84 = .ok (.imul, 1) := dk_104 (dk_at dksX5_reaches_3 15 rfl rfl)
theorem dX5_reaches_85 : decode cX5_reaches 85 = .ok (.iload 6, 2) := dk_21 6 (dk_at dksX5_reaches_3 16 rfl rfl)
theorem dX5_reaches_87 : decode cX5_reaches 87 = .ok (.iadd, 1) := dk_96 (dk_at dksX5_reaches_3 18 rfl rfl)
theorem dX5_reaches_88 : decode cX5_reaches 88 = .ok (.iaload, 1) := dk_46 (dk_at dksX5_reaches_3 19 rfl rfl)
theorem dX5_reaches_89 : decode cX5_reaches 89 = .ok (.ifCond .ne 6, 3) := dk_154 0 6 (dk_at dksX5_reaches_3 20 rfl rfl)
theorem dX5_reaches_92 : decode cX5_reaches 92 = .ok (.goto 23, 3) := dk_167 0 23 (dk_at dksX5_reaches_4 0 rfl rfl)
theorem dX5_reaches_95 : decode cX5_reaches 95 = .ok (.aload_n 0, 1) := dk_42 (dk_at dksX5_reaches_4 3 rfl rfl)
theorem dX5_reaches_96 : decode cX5_reaches 96 = .ok (.getfield 71, 3) := dk_180 0 71 (dk_at dksX5_reaches_4 4 rfl rfl)
theorem dX5_reaches_99 : decode cX5_reaches 99 = .ok (.iload 6, 2) := dk_21 6 (dk_at dksX5_reaches_4 7 rfl rfl)
theorem dX5_reaches_101 : decode cX5_reaches 101 = .ok (.iload 5, 2) := dk_21 5 (dk_at dksX5_reaches_4 9 rfl rfl)
theorem dX5_reaches_103 : decode cX5_reaches 103 = .ok (.iastore, 1) := dk_79 (dk_at dksX5_reaches_4 11 rfl rfl)
theorem dX5_reaches_104 : decode cX5_reaches 104 = .ok (.aload_n 0, 1) := dk_42 (dk_at dksX5_reaches_4 12 rfl rfl)
theorem dX5_reaches_105 : decode cX5_reaches 105 = .ok (.getfield 74, 3) := dk_180 0 74 (dk_at dksX5_reaches_4 13 rfl rfl)
theorem dX5_reaches_108 : decode cX5_reaches 108 = .ok (.iload_n 3, 1) := dk_29 (dk_at dksX5_reaches_4 16 rfl rfl)
theorem dX5_reaches_109 : decode cX5_reaches 109 = .ok (.iload 6, 2) := dk_21 6 (dk_at dksX5_reaches_4 17 rfl rfl)
theorem dX5_reaches_111 : decode cX5_reaches 111 = .ok (.iastore, 1) := dk_79 (dk_at dksX5_reaches_4 19 rfl rfl)
theorem dX5_reaches_112 : decode cX5_reaches 112 = .ok (.iinc 3 1, 3) := dk_132 3 1 (dk_at dksX5_reaches_4 20 rfl rfl)
theorem dX5_reaches_115 : decode cX5_reaches 115 = .ok (.iinc 6 1, 3) := dk_132 6 1 (dk_at dksX5_reaches_5 0 rfl rfl)
theorem dX5_reaches_118 : decode cX5_reaches 118 = .ok (.goto (-60), 3) := dk_167 255 196 (dk_at dksX5_reaches_5 3 rfl rfl)
theorem dX5_reaches_121 : decode cX5_reaches 121 = .ok (.iinc 4 1, 3) := dk_132 4 1 (dk_at dksX5_reaches_5 6 rfl rfl)
theorem dX5_reaches_124 : decode cX5_reaches 124 = .ok (.goto (-84), 3) := dk_167 255 172 (dk_at dksX5_reaches_5 9 rfl rfl)
theorem dX5_reaches_127 : decode cX5_reaches 127 = .ok (.aload_n 0, 1) := dk_42 (dk_at dksX5_reaches_5 12 rfl rfl)
theorem dX5_reaches_128 : decode cX5_reaches 128 = .ok (.getfield 71, 3) := dk_180 0 71 (dk_at dksX5_reaches_5 13 rfl rfl)
theorem dX5_reaches_131 : decode cX5_reaches 131 = .ok (.iload_n 2, 1) := dk_28 (dk_at dksX5_reaches_5 16 rfl rfl)
theorem dX5_reaches_132 : decode cX5_reaches 132 = .ok (.iaload, 1) := dk_46 (dk_at dksX5_reaches_5 17 rfl rfl)
theorem dX5_reaches_133 : decode cX5_reaches 133 = .ok (.iconst (-1), 1) := dk_2 (dk_at dksX5_reaches_5 18 rfl rfl)
theorem dX5_reaches_134 : decode cX5_reaches 134 = .ok (.if_icmp .eq 7, 3) := dk_159 0 7 (dk_at dksX5_reaches_5 19 rfl rfl)
theorem dX5_reaches_137 : decode cX5_reaches 137 = .ok (.iconst 1, 1) := dk_4 (dk_at dksX5_reaches_5 22 rfl rfl)
theorem dX5_reaches_138 : decode cX5_reaches 138 = .ok (.goto 4, 3) := dk_167 0 4 (dk_at dksX5_reaches_6 0 rfl rfl)
theorem dX5_reaches_141 : decode cX5_reaches 141 = .ok (.iconst 0, 1) := dk_3 (dk_at dksX5_reaches_6 3 rfl rfl)
theorem dX5_reaches_142 : decode cX5_reaches 142 = .ok (.ireturn, 1) := dk_172 (dk_at dksX5_reaches_6 4 rfl rfl)
abbrev cX5_laysStreets : ByteArray := prog_10_method_65_code
def yX5_laysStreets : MethodName := ⟨RX5, "laysStreets", "()V"⟩
def dkwX5_laysStreets_3 : List UInt8 := [132, 2, 1, 167, 255, 218, 132, 1, 1, 167, 255, 202, 177]
abbrev dktX5_laysStreets_3 : List UInt8 := dkwX5_laysStreets_3 ++ []
def dkwX5_laysStreets_2 : List UInt8 := [182, 1, 39, 153, 0, 19, 42, 180, 0, 68, 16, 64, 27, 104, 27, 4, 28, 120, 130, 96, 4, 79]
abbrev dktX5_laysStreets_2 : List UInt8 := dkwX5_laysStreets_2 ++ dktX5_laysStreets_3
def dkwX5_laysStreets_1 : List UInt8 := [27, 42, 182, 1, 26, 162, 0, 52, 3, 61, 28, 42, 180, 0, 34, 3, 46, 162, 0, 34, 42, 27, 28]
abbrev dktX5_laysStreets_1 : List UInt8 := dkwX5_laysStreets_1 ++ dktX5_laysStreets_2
def dkwX5_laysStreets_0 : List UInt8 := [3, 60, 27, 17, 16, 0, 162, 0, 16, 42, 180, 0, 68, 27, 3, 79, 132, 1, 1, 167, 255, 239, 3, 60]
abbrev dktX5_laysStreets_0 : List UInt8 := dkwX5_laysStreets_0 ++ dktX5_laysStreets_1
theorem dksX5_laysStreets_0 : cX5_laysStreets.data.toList.drop 0 = dktX5_laysStreets_0 := by decide +kernel
theorem dksX5_laysStreets_1 : cX5_laysStreets.data.toList.drop 24 = dktX5_laysStreets_1 := dk_seg dksX5_laysStreets_0 24 rfl rfl
theorem dksX5_laysStreets_2 : cX5_laysStreets.data.toList.drop 47 = dktX5_laysStreets_2 := dk_seg dksX5_laysStreets_1 23 rfl rfl
theorem dksX5_laysStreets_3 : cX5_laysStreets.data.toList.drop 69 = dktX5_laysStreets_3 := dk_seg dksX5_laysStreets_2 22 rfl rfl
theorem dX5_laysStreets_0 : decode cX5_laysStreets 0 = .ok (.iconst 0, 1) := dk_3 (dk_at dksX5_laysStreets_0 0 rfl rfl)
theorem dX5_laysStreets_1 : decode cX5_laysStreets 1 = .ok (.istore_n 1, 1) := dk_60 (dk_at dksX5_laysStreets_0 1 rfl rfl)
theorem dX5_laysStreets_2 : decode cX5_laysStreets 2 = .ok (.iload_n 1, 1) := dk_27 (dk_at dksX5_laysStreets_0 2 rfl rfl)
theorem dX5_laysStreets_3 : decode cX5_laysStreets 3 = .ok (.sipush 4096, 3) := dk_17 16 0 (dk_at dksX5_laysStreets_0 3 rfl rfl)
theorem dX5_laysStreets_6 : decode cX5_laysStreets 6 = .ok (.if_icmp .ge 16, 3) := dk_162 0 16 (dk_at dksX5_laysStreets_0 6 rfl rfl)
theorem dX5_laysStreets_9 : decode cX5_laysStreets 9 = .ok (.aload_n 0, 1) := dk_42 (dk_at dksX5_laysStreets_0 9 rfl rfl)
theorem dX5_laysStreets_10 : decode cX5_laysStreets 10 = .ok (.getfield 68, 3) := dk_180 0 68 (dk_at dksX5_laysStreets_0 10 rfl rfl)
theorem dX5_laysStreets_13 : decode cX5_laysStreets 13 = .ok (.iload_n 1, 1) := dk_27 (dk_at dksX5_laysStreets_0 13 rfl rfl)
theorem dX5_laysStreets_14 : decode cX5_laysStreets 14 = .ok (.iconst 0, 1) := dk_3 (dk_at dksX5_laysStreets_0 14 rfl rfl)
theorem dX5_laysStreets_15 : decode cX5_laysStreets 15 = .ok (.iastore, 1) := dk_79 (dk_at dksX5_laysStreets_0 15 rfl rfl)
theorem dX5_laysStreets_16 : decode cX5_laysStreets 16 = .ok (.iinc 1 1, 3) := dk_132 1 1 (dk_at dksX5_laysStreets_0 16 rfl rfl)
theorem dX5_laysStreets_19 : decode cX5_laysStreets 19 = .ok (.goto (-17), 3) := dk_167 255 239 (dk_at dksX5_laysStreets_0 19 rfl rfl)
theorem dX5_laysStreets_22 : decode cX5_laysStreets 22 = .ok (.iconst 0, 1) := dk_3 (dk_at dksX5_laysStreets_0 22 rfl rfl)
theorem dX5_laysStreets_23 : decode cX5_laysStreets 23 = .ok (.istore_n 1, 1) := dk_60 (dk_at dksX5_laysStreets_0 23 rfl rfl)
theorem dX5_laysStreets_24 : decode cX5_laysStreets 24 = .ok (.iload_n 1, 1) := dk_27 (dk_at dksX5_laysStreets_1 0 rfl rfl)
theorem dX5_laysStreets_25 : decode cX5_laysStreets 25 = .ok (.aload_n 0, 1) := dk_42 (dk_at dksX5_laysStreets_1 1 rfl rfl)
theorem dX5_laysStreets_26 : decode cX5_laysStreets 26 = .ok (.invokevirtual 282, 3) := dk_182 1 26 (dk_at dksX5_laysStreets_1 2 rfl rfl)
theorem dX5_laysStreets_29 : decode cX5_laysStreets 29 = .ok (.if_icmp .ge 52, 3) := dk_162 0 52 (dk_at dksX5_laysStreets_1 5 rfl rfl)
theorem dX5_laysStreets_32 : decode cX5_laysStreets 32 = .ok (.iconst 0, 1) := dk_3 (dk_at dksX5_laysStreets_1 8 rfl rfl)
theorem dX5_laysStreets_33 : decode cX5_laysStreets 33 = .ok (.istore_n 2, 1) := dk_61 (dk_at dksX5_laysStreets_1 9 rfl rfl)
theorem dX5_laysStreets_34 : decode cX5_laysStreets 34 = .ok (.iload_n 2, 1) := dk_28 (dk_at dksX5_laysStreets_1 10 rfl rfl)
theorem dX5_laysStreets_35 : decode cX5_laysStreets 35 = .ok (.aload_n 0, 1) := dk_42 (dk_at dksX5_laysStreets_1 11 rfl rfl)
theorem dX5_laysStreets_36 : decode cX5_laysStreets 36 = .ok (.getfield 34, 3) := dk_180 0 34 (dk_at dksX5_laysStreets_1 12 rfl rfl)
theorem dX5_laysStreets_39 : decode cX5_laysStreets 39 = .ok (.iconst 0, 1) := dk_3 (dk_at dksX5_laysStreets_1 15 rfl rfl)
theorem dX5_laysStreets_40 : decode cX5_laysStreets 40 = .ok (.iaload, 1) := dk_46 (dk_at dksX5_laysStreets_1 16 rfl rfl)
theorem dX5_laysStreets_41 : decode cX5_laysStreets 41 = .ok (.if_icmp .ge 34, 3) := dk_162 0 34 (dk_at dksX5_laysStreets_1 17 rfl rfl)
theorem dX5_laysStreets_44 : decode cX5_laysStreets 44 = .ok (.aload_n 0, 1) := dk_42 (dk_at dksX5_laysStreets_1 20 rfl rfl)
theorem dX5_laysStreets_45 : decode cX5_laysStreets 45 = .ok (.iload_n 1, 1) := dk_27 (dk_at dksX5_laysStreets_1 21 rfl rfl)
theorem dX5_laysStreets_46 : decode cX5_laysStreets 46 = .ok (.iload_n 2, 1) := dk_28 (dk_at dksX5_laysStreets_1 22 rfl rfl)
theorem dX5_laysStreets_47 : decode cX5_laysStreets 47 = .ok (.invokevirtual 295, 3) := dk_182 1 39 (dk_at dksX5_laysStreets_2 0 rfl rfl)
theorem dX5_laysStreets_50 : decode cX5_laysStreets 50 = .ok (.ifCond .eq 19, 3) := dk_153 0 19 (dk_at dksX5_laysStreets_2 3 rfl rfl)
theorem dX5_laysStreets_53 : decode cX5_laysStreets 53 = .ok (.aload_n 0, 1) := dk_42 (dk_at dksX5_laysStreets_2 6 rfl rfl)
theorem dX5_laysStreets_54 : decode cX5_laysStreets 54 = .ok (.getfield 68, 3) := dk_180 0 68 (dk_at dksX5_laysStreets_2 7 rfl rfl)
theorem dX5_laysStreets_57 : decode cX5_laysStreets 57 = .ok (.bipush 64, 2) := dk_16 64 (dk_at dksX5_laysStreets_2 10 rfl rfl)
theorem dX5_laysStreets_59 : decode cX5_laysStreets 59 = .ok (.iload_n 1, 1) := dk_27 (dk_at dksX5_laysStreets_2 12 rfl rfl)
theorem dX5_laysStreets_60 : decode cX5_laysStreets 60 = .ok (.imul, 1) := dk_104 (dk_at dksX5_laysStreets_2 13 rfl rfl)
theorem dX5_laysStreets_61 : decode cX5_laysStreets 61 = .ok (.iload_n 1, 1) := dk_27 (dk_at dksX5_laysStreets_2 14 rfl rfl)
theorem dX5_laysStreets_62 : decode cX5_laysStreets 62 = .ok (.iconst 1, 1) := dk_4 (dk_at dksX5_laysStreets_2 15 rfl rfl)
theorem dX5_laysStreets_63 : decode cX5_laysStreets 63 = .ok (.iload_n 2, 1) := dk_28 (dk_at dksX5_laysStreets_2 16 rfl rfl)
theorem dX5_laysStreets_64 : decode cX5_laysStreets 64 = .ok (.ishl, 1) := dk_120 (dk_at dksX5_laysStreets_2 17 rfl rfl)
theorem dX5_laysStreets_65 : decode cX5_laysStreets 65 = .ok (.ixor, 1) := dk_130 (dk_at dksX5_laysStreets_2 18 rfl rfl)
theorem dX5_laysStreets_66 : decode cX5_laysStreets 66 = .ok (.iadd, 1) := dk_96 (dk_at dksX5_laysStreets_2 19 rfl rfl)
theorem dX5_laysStreets_67 : decode cX5_laysStreets 67 = .ok (.iconst 1, 1) := dk_4 (dk_at dksX5_laysStreets_2 20 rfl rfl)
theorem dX5_laysStreets_68 : decode cX5_laysStreets 68 = .ok (.iastore, 1) := dk_79 (dk_at dksX5_laysStreets_2 21 rfl rfl)
theorem dX5_laysStreets_69 : decode cX5_laysStreets 69 = .ok (.iinc 2 1, 3) := dk_132 2 1 (dk_at dksX5_laysStreets_3 0 rfl rfl)
theorem dX5_laysStreets_72 : decode cX5_laysStreets 72 = .ok (.goto (-38), 3) := dk_167 255 218 (dk_at dksX5_laysStreets_3 3 rfl rfl)
theorem dX5_laysStreets_75 : decode cX5_laysStreets 75 = .ok (.iinc 1 1, 3) := dk_132 1 1 (dk_at dksX5_laysStreets_3 6 rfl rfl)
theorem dX5_laysStreets_78 : decode cX5_laysStreets 78 = .ok (.goto (-54), 3) := dk_167 255 202 (dk_at dksX5_laysStreets_3 9 rfl rfl)
theorem dX5_laysStreets_81 : decode cX5_laysStreets 81 = .ok (.return_, 1) := dk_177 (dk_at dksX5_laysStreets_3 12 rfl rfl)
abbrev cX5_side : ByteArray := prog_10_method_71_code
def yX5_side : MethodName := ⟨RX5, "side", "(II)I"⟩
def dkwX5_side_3 : List UInt8 := [172]
abbrev dktX5_side_3 : List UInt8 := dkwX5_side_3 ++ []
def dkwX5_side_2 : List UInt8 := [21, 4, 46, 2, 159, 0, 10, 4, 21, 4, 120, 167, 0, 4, 3, 128, 62, 132, 4, 1, 167, 255, 222, 29]
abbrev dktX5_side_2 : List UInt8 := dkwX5_side_2 ++ dktX5_side_3
def dkwX5_side_1 : List UInt8 := [182, 1, 71, 87, 3, 62, 3, 54, 4, 21, 4, 42, 182, 1, 26, 162, 0, 31, 29, 42, 180, 0, 71]
abbrev dktX5_side_1 : List UInt8 := dkwX5_side_1 ++ dktX5_side_2
def dkwX5_side_0 : List UInt8 := [42, 3, 181, 0, 131, 42, 27, 28, 182, 1, 74, 154, 0, 6, 16, 254, 172, 42, 182, 1, 80, 42, 27, 28]
abbrev dktX5_side_0 : List UInt8 := dkwX5_side_0 ++ dktX5_side_1
theorem dksX5_side_0 : cX5_side.data.toList.drop 0 = dktX5_side_0 := by decide +kernel
theorem dksX5_side_1 : cX5_side.data.toList.drop 24 = dktX5_side_1 := dk_seg dksX5_side_0 24 rfl rfl
theorem dksX5_side_2 : cX5_side.data.toList.drop 47 = dktX5_side_2 := dk_seg dksX5_side_1 23 rfl rfl
theorem dksX5_side_3 : cX5_side.data.toList.drop 71 = dktX5_side_3 := dk_seg dksX5_side_2 24 rfl rfl
theorem dX5_side_0 : decode cX5_side 0 = .ok (.aload_n 0, 1) := dk_42 (dk_at dksX5_side_0 0 rfl rfl)
theorem dX5_side_1 : decode cX5_side 1 = .ok (.iconst 0, 1) := dk_3 (dk_at dksX5_side_0 1 rfl rfl)
theorem dX5_side_2 : decode cX5_side 2 = .ok (.putfield 131, 3) := dk_181 0 131 (dk_at dksX5_side_0 2 rfl rfl)
theorem dX5_side_5 : decode cX5_side 5 = .ok (.aload_n 0, 1) := dk_42 (dk_at dksX5_side_0 5 rfl rfl)
theorem dX5_side_6 : decode cX5_side 6 = .ok (.iload_n 1, 1) := dk_27 (dk_at dksX5_side_0 6 rfl rfl)
theorem dX5_side_7 : decode cX5_side 7 = .ok (.iload_n 2, 1) := dk_28 (dk_at dksX5_side_0 7 rfl rfl)
theorem dX5_side_8 : decode cX5_side 8 = .ok (.invokevirtual 330, 3) := dk_182 1 74 (dk_at dksX5_side_0 8 rfl rfl)
theorem dX5_side_11 : decode cX5_side 11 = .ok (.ifCond .ne 6, 3) := dk_154 0 6 (dk_at dksX5_side_0 11 rfl rfl)
theorem dX5_side_14 : decode cX5_side 14 = .ok (.bipush (-2), 2) := dk_16 254 (dk_at dksX5_side_0 14 rfl rfl)
theorem dX5_side_16 : decode cX5_side 16 = .ok (.ireturn, 1) := dk_172 (dk_at dksX5_side_0 16 rfl rfl)
theorem dX5_side_17 : decode cX5_side 17 = .ok (.aload_n 0, 1) := dk_42 (dk_at dksX5_side_0 17 rfl rfl)
theorem dX5_side_18 : decode cX5_side 18 = .ok (.invokevirtual 336, 3) := dk_182 1 80 (dk_at dksX5_side_0 18 rfl rfl)
theorem dX5_side_21 : decode cX5_side 21 = .ok (.aload_n 0, 1) := dk_42 (dk_at dksX5_side_0 21 rfl rfl)
theorem dX5_side_22 : decode cX5_side 22 = .ok (.iload_n 1, 1) := dk_27 (dk_at dksX5_side_0 22 rfl rfl)
theorem dX5_side_23 : decode cX5_side 23 = .ok (.iload_n 2, 1) := dk_28 (dk_at dksX5_side_0 23 rfl rfl)
theorem dX5_side_24 : decode cX5_side 24 = .ok (.invokevirtual 327, 3) := dk_182 1 71 (dk_at dksX5_side_1 0 rfl rfl)
theorem dX5_side_27 : decode cX5_side 27 = .ok (.pop, 1) := dk_87 (dk_at dksX5_side_1 3 rfl rfl)
theorem dX5_side_28 : decode cX5_side 28 = .ok (.iconst 0, 1) := dk_3 (dk_at dksX5_side_1 4 rfl rfl)
theorem dX5_side_29 : decode cX5_side 29 = .ok (.istore_n 3, 1) := dk_62 (dk_at dksX5_side_1 5 rfl rfl)
theorem dX5_side_30 : decode cX5_side 30 = .ok (.iconst 0, 1) := dk_3 (dk_at dksX5_side_1 6 rfl rfl)
theorem dX5_side_31 : decode cX5_side 31 = .ok (.istore 4, 2) := dk_54 4 (dk_at dksX5_side_1 7 rfl rfl)
theorem dX5_side_33 : decode cX5_side 33 = .ok (.iload 4, 2) := dk_21 4 (dk_at dksX5_side_1 9 rfl rfl)
theorem dX5_side_35 : decode cX5_side 35 = .ok (.aload_n 0, 1) := dk_42 (dk_at dksX5_side_1 11 rfl rfl)
theorem dX5_side_36 : decode cX5_side 36 = .ok (.invokevirtual 282, 3) := dk_182 1 26 (dk_at dksX5_side_1 12 rfl rfl)
theorem dX5_side_39 : decode cX5_side 39 = .ok (.if_icmp .ge 31, 3) := dk_162 0 31 (dk_at dksX5_side_1 15 rfl rfl)
theorem dX5_side_42 : decode cX5_side 42 = .ok (.iload_n 3, 1) := dk_29 (dk_at dksX5_side_1 18 rfl rfl)
theorem dX5_side_43 : decode cX5_side 43 = .ok (.aload_n 0, 1) := dk_42 (dk_at dksX5_side_1 19 rfl rfl)
theorem dX5_side_44 : decode cX5_side 44 = .ok (.getfield 71, 3) := dk_180 0 71 (dk_at dksX5_side_1 20 rfl rfl)
theorem dX5_side_47 : decode cX5_side 47 = .ok (.iload 4, 2) := dk_21 4 (dk_at dksX5_side_2 0 rfl rfl)
theorem dX5_side_49 : decode cX5_side 49 = .ok (.iaload, 1) := dk_46 (dk_at dksX5_side_2 2 rfl rfl)
theorem dX5_side_50 : decode cX5_side 50 = .ok (.iconst (-1), 1) := dk_2 (dk_at dksX5_side_2 3 rfl rfl)
theorem dX5_side_51 : decode cX5_side 51 = .ok (.if_icmp .eq 10, 3) := dk_159 0 10 (dk_at dksX5_side_2 4 rfl rfl)
theorem dX5_side_54 : decode cX5_side 54 = .ok (.iconst 1, 1) := dk_4 (dk_at dksX5_side_2 7 rfl rfl)
theorem dX5_side_55 : decode cX5_side 55 = .ok (.iload 4, 2) := dk_21 4 (dk_at dksX5_side_2 8 rfl rfl)
theorem dX5_side_57 : decode cX5_side 57 = .ok (.ishl, 1) := dk_120 (dk_at dksX5_side_2 10 rfl rfl)
theorem dX5_side_58 : decode cX5_side 58 = .ok (.goto 4, 3) := dk_167 0 4 (dk_at dksX5_side_2 11 rfl rfl)
theorem dX5_side_61 : decode cX5_side 61 = .ok (.iconst 0, 1) := dk_3 (dk_at dksX5_side_2 14 rfl rfl)
theorem dX5_side_62 : decode cX5_side 62 = .ok (.ior, 1) := dk_128 (dk_at dksX5_side_2 15 rfl rfl)
theorem dX5_side_63 : decode cX5_side 63 = .ok (.istore_n 3, 1) := dk_62 (dk_at dksX5_side_2 16 rfl rfl)
theorem dX5_side_64 : decode cX5_side 64 = .ok (.iinc 4 1, 3) := dk_132 4 1 (dk_at dksX5_side_2 17 rfl rfl)
theorem dX5_side_67 : decode cX5_side 67 = .ok (.goto (-34), 3) := dk_167 255 222 (dk_at dksX5_side_2 20 rfl rfl)
theorem dX5_side_70 : decode cX5_side 70 = .ok (.iload_n 3, 1) := dk_29 (dk_at dksX5_side_2 23 rfl rfl)
theorem dX5_side_71 : decode cX5_side 71 = .ok (.ireturn, 1) := dk_172 (dk_at dksX5_side_3 0 rfl rfl)
abbrev cX5_parts : ByteArray := prog_10_method_73_code
def yX5_parts : MethodName := ⟨RX5, "parts", "()I"⟩
def dkwX5_parts_0 : List UInt8 := [42, 3, 181, 0, 131, 42, 182, 1, 23, 153, 0, 10, 42, 182, 1, 83, 167, 0, 5, 16, 254, 172]
abbrev dktX5_parts_0 : List UInt8 := dkwX5_parts_0 ++ []
theorem dksX5_parts_0 : cX5_parts.data.toList.drop 0 = dktX5_parts_0 := by decide +kernel
theorem dX5_parts_0 : decode cX5_parts 0 = .ok (.aload_n 0, 1) := dk_42 (dk_at dksX5_parts_0 0 rfl rfl)
theorem dX5_parts_1 : decode cX5_parts 1 = .ok (.iconst 0, 1) := dk_3 (dk_at dksX5_parts_0 1 rfl rfl)
theorem dX5_parts_2 : decode cX5_parts 2 = .ok (.putfield 131, 3) := dk_181 0 131 (dk_at dksX5_parts_0 2 rfl rfl)
theorem dX5_parts_5 : decode cX5_parts 5 = .ok (.aload_n 0, 1) := dk_42 (dk_at dksX5_parts_0 5 rfl rfl)
theorem dX5_parts_6 : decode cX5_parts 6 = .ok (.invokevirtual 279, 3) := dk_182 1 23 (dk_at dksX5_parts_0 6 rfl rfl)
theorem dX5_parts_9 : decode cX5_parts 9 = .ok (.ifCond .eq 10, 3) := dk_153 0 10 (dk_at dksX5_parts_0 9 rfl rfl)
theorem dX5_parts_12 : decode cX5_parts 12 = .ok (.aload_n 0, 1) := dk_42 (dk_at dksX5_parts_0 12 rfl rfl)
theorem dX5_parts_13 : decode cX5_parts 13 = .ok (.invokevirtual 339, 3) := dk_182 1 83 (dk_at dksX5_parts_0 13 rfl rfl)
theorem dX5_parts_16 : decode cX5_parts 16 = .ok (.goto 5, 3) := dk_167 0 5 (dk_at dksX5_parts_0 16 rfl rfl)
theorem dX5_parts_19 : decode cX5_parts 19 = .ok (.bipush (-2), 2) := dk_16 254 (dk_at dksX5_parts_0 19 rfl rfl)
theorem dX5_parts_21 : decode cX5_parts 21 = .ok (.ireturn, 1) := dk_172 (dk_at dksX5_parts_0 21 rfl rfl)
abbrev cX5_laysParts : ByteArray := prog_10_method_72_code
def yX5_laysParts : MethodName := ⟨RX5, "laysParts", "()I"⟩
def dkwX5_laysParts_4 : List UInt8 := [28, 79, 132, 3, 1, 167, 255, 218, 132, 2, 1, 167, 255, 181, 27, 172]
abbrev dktX5_laysParts_4 : List UInt8 := dkwX5_laysParts_4 ++ []
def dkwX5_laysParts_3 : List UInt8 := [180, 0, 77, 29, 42, 180, 0, 62, 29, 46, 18, 182, 160, 0, 12, 42, 180, 0, 77, 29, 46, 167, 0, 4]
abbrev dktX5_laysParts_3 : List UInt8 := dkwX5_laysParts_3 ++ dktX5_laysParts_4
def dkwX5_laysParts_2 : List UInt8 := [167, 0, 54, 132, 1, 1, 42, 28, 182, 1, 52, 3, 62, 29, 42, 182, 1, 26, 162, 0, 36, 42]
abbrev dktX5_laysParts_2 : List UInt8 := dkwX5_laysParts_2 ++ dktX5_laysParts_3
def dkwX5_laysParts_1 : List UInt8 := [167, 255, 238, 3, 61, 28, 42, 182, 1, 26, 162, 0, 73, 42, 180, 0, 77, 28, 46, 2, 159, 0, 6]
abbrev dktX5_laysParts_1 : List UInt8 := dkwX5_laysParts_1 ++ dktX5_laysParts_2
def dkwX5_laysParts_0 : List UInt8 := [3, 60, 3, 61, 28, 42, 182, 1, 26, 162, 0, 16, 42, 180, 0, 77, 28, 2, 79, 132, 2, 1]
abbrev dktX5_laysParts_0 : List UInt8 := dkwX5_laysParts_0 ++ dktX5_laysParts_1
theorem dksX5_laysParts_0 : cX5_laysParts.data.toList.drop 0 = dktX5_laysParts_0 := by decide +kernel
theorem dksX5_laysParts_1 : cX5_laysParts.data.toList.drop 22 = dktX5_laysParts_1 := dk_seg dksX5_laysParts_0 22 rfl rfl
theorem dksX5_laysParts_2 : cX5_laysParts.data.toList.drop 45 = dktX5_laysParts_2 := dk_seg dksX5_laysParts_1 23 rfl rfl
theorem dksX5_laysParts_3 : cX5_laysParts.data.toList.drop 67 = dktX5_laysParts_3 := dk_seg dksX5_laysParts_2 22 rfl rfl
theorem dksX5_laysParts_4 : cX5_laysParts.data.toList.drop 91 = dktX5_laysParts_4 := dk_seg dksX5_laysParts_3 24 rfl rfl
theorem dX5_laysParts_0 : decode cX5_laysParts 0 = .ok (.iconst 0, 1) := dk_3 (dk_at dksX5_laysParts_0 0 rfl rfl)
theorem dX5_laysParts_1 : decode cX5_laysParts 1 = .ok (.istore_n 1, 1) := dk_60 (dk_at dksX5_laysParts_0 1 rfl rfl)
theorem dX5_laysParts_2 : decode cX5_laysParts 2 = .ok (.iconst 0, 1) := dk_3 (dk_at dksX5_laysParts_0 2 rfl rfl)
theorem dX5_laysParts_3 : decode cX5_laysParts 3 = .ok (.istore_n 2, 1) := dk_61 (dk_at dksX5_laysParts_0 3 rfl rfl)
theorem dX5_laysParts_4 : decode cX5_laysParts 4 = .ok (.iload_n 2, 1) := dk_28 (dk_at dksX5_laysParts_0 4 rfl rfl)
theorem dX5_laysParts_5 : decode cX5_laysParts 5 = .ok (.aload_n 0, 1) := dk_42 (dk_at dksX5_laysParts_0 5 rfl rfl)
theorem dX5_laysParts_6 : decode cX5_laysParts 6 = .ok (.invokevirtual 282, 3) := dk_182 1 26 (dk_at dksX5_laysParts_0 6 rfl rfl)
theorem dX5_laysParts_9 : decode cX5_laysParts 9 = .ok (.if_icmp .ge 16, 3) := dk_162 0 16 (dk_at dksX5_laysParts_0 9 rfl rfl)
theorem dX5_laysParts_12 : decode cX5_laysParts 12 = .ok (.aload_n 0, 1) := dk_42 (dk_at dksX5_laysParts_0 12 rfl rfl)
theorem dX5_laysParts_13 : decode cX5_laysParts 13 = .ok (.getfield 77, 3) := dk_180 0 77 (dk_at dksX5_laysParts_0 13 rfl rfl)
theorem dX5_laysParts_16 : decode cX5_laysParts 16 = .ok (.iload_n 2, 1) := dk_28 (dk_at dksX5_laysParts_0 16 rfl rfl)
theorem dX5_laysParts_17 : decode cX5_laysParts 17 = .ok (.iconst (-1), 1) := dk_2 (dk_at dksX5_laysParts_0 17 rfl rfl)
theorem dX5_laysParts_18 : decode cX5_laysParts 18 = .ok (.iastore, 1) := dk_79 (dk_at dksX5_laysParts_0 18 rfl rfl)
theorem dX5_laysParts_19 : decode cX5_laysParts 19 = .ok (.iinc 2 1, 3) := dk_132 2 1 (dk_at dksX5_laysParts_0 19 rfl rfl)
theorem dX5_laysParts_22 : decode cX5_laysParts 22 = .ok (.goto (-18), 3) := dk_167 255 238 (dk_at dksX5_laysParts_1 0 rfl rfl)
theorem dX5_laysParts_25 : decode cX5_laysParts 25 = .ok (.iconst 0, 1) := dk_3 (dk_at dksX5_laysParts_1 3 rfl rfl)
theorem dX5_laysParts_26 : decode cX5_laysParts 26 = .ok (.istore_n 2, 1) := dk_61 (dk_at dksX5_laysParts_1 4 rfl rfl)
theorem dX5_laysParts_27 : decode cX5_laysParts 27 = .ok (.iload_n 2, 1) := dk_28 (dk_at dksX5_laysParts_1 5 rfl rfl)
theorem dX5_laysParts_28 : decode cX5_laysParts 28 = .ok (.aload_n 0, 1) := dk_42 (dk_at dksX5_laysParts_1 6 rfl rfl)
theorem dX5_laysParts_29 : decode cX5_laysParts 29 = .ok (.invokevirtual 282, 3) := dk_182 1 26 (dk_at dksX5_laysParts_1 7 rfl rfl)
theorem dX5_laysParts_32 : decode cX5_laysParts 32 = .ok (.if_icmp .ge 73, 3) := dk_162 0 73 (dk_at dksX5_laysParts_1 10 rfl rfl)
theorem dX5_laysParts_35 : decode cX5_laysParts 35 = .ok (.aload_n 0, 1) := dk_42 (dk_at dksX5_laysParts_1 13 rfl rfl)
theorem dX5_laysParts_36 : decode cX5_laysParts 36 = .ok (.getfield 77, 3) := dk_180 0 77 (dk_at dksX5_laysParts_1 14 rfl rfl)
theorem dX5_laysParts_39 : decode cX5_laysParts 39 = .ok (.iload_n 2, 1) := dk_28 (dk_at dksX5_laysParts_1 17 rfl rfl)
theorem dX5_laysParts_40 : decode cX5_laysParts 40 = .ok (.iaload, 1) := dk_46 (dk_at dksX5_laysParts_1 18 rfl rfl)
theorem dX5_laysParts_41 : decode cX5_laysParts 41 = .ok (.iconst (-1), 1) := dk_2 (dk_at dksX5_laysParts_1 19 rfl rfl)
theorem dX5_laysParts_42 : decode cX5_laysParts 42 = .ok (.if_icmp .eq 6, 3) := dk_159 0 6 (dk_at dksX5_laysParts_1 20 rfl rfl)
theorem dX5_laysParts_45 : decode cX5_laysParts 45 = .ok (.goto 54, 3) := dk_167 0 54 (dk_at dksX5_laysParts_2 0 rfl rfl)
theorem dX5_laysParts_48 : decode cX5_laysParts 48 = .ok (.iinc 1 1, 3) := dk_132 1 1 (dk_at dksX5_laysParts_2 3 rfl rfl)
theorem dX5_laysParts_51 : decode cX5_laysParts 51 = .ok (.aload_n 0, 1) := dk_42 (dk_at dksX5_laysParts_2 6 rfl rfl)
theorem dX5_laysParts_52 : decode cX5_laysParts 52 = .ok (.iload_n 2, 1) := dk_28 (dk_at dksX5_laysParts_2 7 rfl rfl)
theorem dX5_laysParts_53 : decode cX5_laysParts 53 = .ok (.invokevirtual 308, 3) := dk_182 1 52 (dk_at dksX5_laysParts_2 8 rfl rfl)
theorem dX5_laysParts_56 : decode cX5_laysParts 56 = .ok (.iconst 0, 1) := dk_3 (dk_at dksX5_laysParts_2 11 rfl rfl)
theorem dX5_laysParts_57 : decode cX5_laysParts 57 = .ok (.istore_n 3, 1) := dk_62 (dk_at dksX5_laysParts_2 12 rfl rfl)
theorem dX5_laysParts_58 : decode cX5_laysParts 58 = .ok (.iload_n 3, 1) := dk_29 (dk_at dksX5_laysParts_2 13 rfl rfl)
theorem dX5_laysParts_59 : decode cX5_laysParts 59 = .ok (.aload_n 0, 1) := dk_42 (dk_at dksX5_laysParts_2 14 rfl rfl)
theorem dX5_laysParts_60 : decode cX5_laysParts 60 = .ok (.invokevirtual 282, 3) := dk_182 1 26 (dk_at dksX5_laysParts_2 15 rfl rfl)
theorem dX5_laysParts_63 : decode cX5_laysParts 63 = .ok (.if_icmp .ge 36, 3) := dk_162 0 36 (dk_at dksX5_laysParts_2 18 rfl rfl)
theorem dX5_laysParts_66 : decode cX5_laysParts 66 = .ok (.aload_n 0, 1) := dk_42 (dk_at dksX5_laysParts_2 21 rfl rfl)
theorem dX5_laysParts_67 : decode cX5_laysParts 67 = .ok (.getfield 77, 3) := dk_180 0 77 (dk_at dksX5_laysParts_3 0 rfl rfl)
theorem dX5_laysParts_70 : decode cX5_laysParts 70 = .ok (.iload_n 3, 1) := dk_29 (dk_at dksX5_laysParts_3 3 rfl rfl)
theorem dX5_laysParts_71 : decode cX5_laysParts 71 = .ok (.aload_n 0, 1) := dk_42 (dk_at dksX5_laysParts_3 4 rfl rfl)
theorem dX5_laysParts_72 : decode cX5_laysParts 72 = .ok (.getfield 62, 3) := dk_180 0 62 (dk_at dksX5_laysParts_3 5 rfl rfl)
theorem dX5_laysParts_75 : decode cX5_laysParts 75 = .ok (.iload_n 3, 1) := dk_29 (dk_at dksX5_laysParts_3 8 rfl rfl)
theorem dX5_laysParts_76 : decode cX5_laysParts 76 = .ok (.iaload, 1) := dk_46 (dk_at dksX5_laysParts_3 9 rfl rfl)
theorem dX5_laysParts_77 : decode cX5_laysParts 77 = .ok (.ldc 182, 2) := dk_18 182 (dk_at dksX5_laysParts_3 10 rfl rfl)
theorem dX5_laysParts_79 : decode cX5_laysParts 79 = .ok (.if_icmp .ne 12, 3) := dk_160 0 12 (dk_at dksX5_laysParts_3 12 rfl rfl)
theorem dX5_laysParts_82 : decode cX5_laysParts 82 = .ok (.aload_n 0, 1) := dk_42 (dk_at dksX5_laysParts_3 15 rfl rfl)
theorem dX5_laysParts_83 : decode cX5_laysParts 83 = .ok (.getfield 77, 3) := dk_180 0 77 (dk_at dksX5_laysParts_3 16 rfl rfl)
theorem dX5_laysParts_86 : decode cX5_laysParts 86 = .ok (.iload_n 3, 1) := dk_29 (dk_at dksX5_laysParts_3 19 rfl rfl)
theorem dX5_laysParts_87 : decode cX5_laysParts 87 = .ok (.iaload, 1) := dk_46 (dk_at dksX5_laysParts_3 20 rfl rfl)
theorem dX5_laysParts_88 : decode cX5_laysParts 88 = .ok (.goto 4, 3) := dk_167 0 4 (dk_at dksX5_laysParts_3 21 rfl rfl)
theorem dX5_laysParts_91 : decode cX5_laysParts 91 = .ok (.iload_n 2, 1) := dk_28 (dk_at dksX5_laysParts_4 0 rfl rfl)
theorem dX5_laysParts_92 : decode cX5_laysParts 92 = .ok (.iastore, 1) := dk_79 (dk_at dksX5_laysParts_4 1 rfl rfl)
theorem dX5_laysParts_93 : decode cX5_laysParts 93 = .ok (.iinc 3 1, 3) := dk_132 3 1 (dk_at dksX5_laysParts_4 2 rfl rfl)
theorem dX5_laysParts_96 : decode cX5_laysParts 96 = .ok (.goto (-38), 3) := dk_167 255 218 (dk_at dksX5_laysParts_4 5 rfl rfl)
theorem dX5_laysParts_99 : decode cX5_laysParts 99 = .ok (.iinc 2 1, 3) := dk_132 2 1 (dk_at dksX5_laysParts_4 8 rfl rfl)
theorem dX5_laysParts_102 : decode cX5_laysParts 102 = .ok (.goto (-75), 3) := dk_167 255 181 (dk_at dksX5_laysParts_4 11 rfl rfl)
theorem dX5_laysParts_105 : decode cX5_laysParts 105 = .ok (.iload_n 1, 1) := dk_27 (dk_at dksX5_laysParts_4 14 rfl rfl)
theorem dX5_laysParts_106 : decode cX5_laysParts 106 = .ok (.ireturn, 1) := dk_172 (dk_at dksX5_laysParts_4 15 rfl rfl)
abbrev cX5_part : ByteArray := prog_10_method_74_code
def yX5_part : MethodName := ⟨RX5, "part", "(I)I"⟩
def dkwX5_part_1 : List UInt8 := [180, 0, 77, 27, 46, 172]
abbrev dktX5_part_1 : List UInt8 := dkwX5_part_1 ++ []
def dkwX5_part_0 : List UInt8 := [42, 3, 181, 0, 131, 42, 27, 133, 182, 1, 29, 154, 0, 6, 16, 254, 172, 42, 182, 1, 83, 87, 42]
abbrev dktX5_part_0 : List UInt8 := dkwX5_part_0 ++ dktX5_part_1
theorem dksX5_part_0 : cX5_part.data.toList.drop 0 = dktX5_part_0 := by decide +kernel
theorem dksX5_part_1 : cX5_part.data.toList.drop 23 = dktX5_part_1 := dk_seg dksX5_part_0 23 rfl rfl
theorem dX5_part_0 : decode cX5_part 0 = .ok (.aload_n 0, 1) := dk_42 (dk_at dksX5_part_0 0 rfl rfl)
theorem dX5_part_1 : decode cX5_part 1 = .ok (.iconst 0, 1) := dk_3 (dk_at dksX5_part_0 1 rfl rfl)
theorem dX5_part_2 : decode cX5_part 2 = .ok (.putfield 131, 3) := dk_181 0 131 (dk_at dksX5_part_0 2 rfl rfl)
theorem dX5_part_5 : decode cX5_part 5 = .ok (.aload_n 0, 1) := dk_42 (dk_at dksX5_part_0 5 rfl rfl)
theorem dX5_part_6 : decode cX5_part 6 = .ok (.iload_n 1, 1) := dk_27 (dk_at dksX5_part_0 6 rfl rfl)
theorem dX5_part_7 : decode cX5_part 7 = .ok (.i2l, 1) := dk_133 (dk_at dksX5_part_0 7 rfl rfl)
theorem dX5_part_8 : decode cX5_part 8 = .ok (.invokevirtual 285, 3) := dk_182 1 29 (dk_at dksX5_part_0 8 rfl rfl)
theorem dX5_part_11 : decode cX5_part 11 = .ok (.ifCond .ne 6, 3) := dk_154 0 6 (dk_at dksX5_part_0 11 rfl rfl)
theorem dX5_part_14 : decode cX5_part 14 = .ok (.bipush (-2), 2) := dk_16 254 (dk_at dksX5_part_0 14 rfl rfl)
theorem dX5_part_16 : decode cX5_part 16 = .ok (.ireturn, 1) := dk_172 (dk_at dksX5_part_0 16 rfl rfl)
theorem dX5_part_17 : decode cX5_part 17 = .ok (.aload_n 0, 1) := dk_42 (dk_at dksX5_part_0 17 rfl rfl)
theorem dX5_part_18 : decode cX5_part 18 = .ok (.invokevirtual 339, 3) := dk_182 1 83 (dk_at dksX5_part_0 18 rfl rfl)
theorem dX5_part_21 : decode cX5_part 21 = .ok (.pop, 1) := dk_87 (dk_at dksX5_part_0 21 rfl rfl)
theorem dX5_part_22 : decode cX5_part 22 = .ok (.aload_n 0, 1) := dk_42 (dk_at dksX5_part_0 22 rfl rfl)
theorem dX5_part_23 : decode cX5_part 23 = .ok (.getfield 77, 3) := dk_180 0 77 (dk_at dksX5_part_1 0 rfl rfl)
theorem dX5_part_26 : decode cX5_part 26 = .ok (.iload_n 1, 1) := dk_27 (dk_at dksX5_part_1 3 rfl rfl)
theorem dX5_part_27 : decode cX5_part 27 = .ok (.iaload, 1) := dk_46 (dk_at dksX5_part_1 4 rfl rfl)
theorem dX5_part_28 : decode cX5_part 28 = .ok (.ireturn, 1) := dk_172 (dk_at dksX5_part_1 5 rfl rfl)
abbrev cX5_bridges : ByteArray := prog_10_method_76_code
def yX5_bridges : MethodName := ⟨RX5, "bridges", "()I"⟩
def dkwX5_bridges_3 : List UInt8 := [132, 2, 1, 167, 255, 202, 27, 172]
abbrev dktX5_bridges_3 : List UInt8 := dkwX5_bridges_3 ++ []
def dkwX5_bridges_2 : List UInt8 := [42, 28, 29, 182, 1, 86, 153, 0, 7, 4, 167, 0, 4, 3, 96, 60, 132, 3, 1, 167, 255, 218]
abbrev dktX5_bridges_2 : List UInt8 := dkwX5_bridges_2 ++ dktX5_bridges_3
def dkwX5_bridges_1 : List UInt8 := [162, 0, 52, 3, 62, 29, 42, 180, 0, 34, 3, 46, 162, 0, 34, 27, 28, 29, 184, 1, 32, 154, 0, 16]
abbrev dktX5_bridges_1 : List UInt8 := dkwX5_bridges_1 ++ dktX5_bridges_2
def dkwX5_bridges_0 : List UInt8 := [42, 3, 181, 0, 131, 42, 182, 1, 23, 154, 0, 6, 16, 254, 172, 3, 60, 3, 61, 28, 42, 182, 1, 26]
abbrev dktX5_bridges_0 : List UInt8 := dkwX5_bridges_0 ++ dktX5_bridges_1
theorem dksX5_bridges_0 : cX5_bridges.data.toList.drop 0 = dktX5_bridges_0 := by decide +kernel
theorem dksX5_bridges_1 : cX5_bridges.data.toList.drop 24 = dktX5_bridges_1 := dk_seg dksX5_bridges_0 24 rfl rfl
theorem dksX5_bridges_2 : cX5_bridges.data.toList.drop 48 = dktX5_bridges_2 := dk_seg dksX5_bridges_1 24 rfl rfl
theorem dksX5_bridges_3 : cX5_bridges.data.toList.drop 70 = dktX5_bridges_3 := dk_seg dksX5_bridges_2 22 rfl rfl
theorem dX5_bridges_0 : decode cX5_bridges 0 = .ok (.aload_n 0, 1) := dk_42 (dk_at dksX5_bridges_0 0 rfl rfl)
theorem dX5_bridges_1 : decode cX5_bridges 1 = .ok (.iconst 0, 1) := dk_3 (dk_at dksX5_bridges_0 1 rfl rfl)
theorem dX5_bridges_2 : decode cX5_bridges 2 = .ok (.putfield 131, 3) := dk_181 0 131 (dk_at dksX5_bridges_0 2 rfl rfl)
theorem dX5_bridges_5 : decode cX5_bridges 5 = .ok (.aload_n 0, 1) := dk_42 (dk_at dksX5_bridges_0 5 rfl rfl)
theorem dX5_bridges_6 : decode cX5_bridges 6 = .ok (.invokevirtual 279, 3) := dk_182 1 23 (dk_at dksX5_bridges_0 6 rfl rfl)
theorem dX5_bridges_9 : decode cX5_bridges 9 = .ok (.ifCond .ne 6, 3) := dk_154 0 6 (dk_at dksX5_bridges_0 9 rfl rfl)
theorem dX5_bridges_12 : decode cX5_bridges 12 = .ok (.bipush (-2), 2) := dk_16 254 (dk_at dksX5_bridges_0 12 rfl rfl)
theorem dX5_bridges_14 : decode cX5_bridges 14 = .ok (.ireturn, 1) := dk_172 (dk_at dksX5_bridges_0 14 rfl rfl)
theorem dX5_bridges_15 : decode cX5_bridges 15 = .ok (.iconst 0, 1) := dk_3 (dk_at dksX5_bridges_0 15 rfl rfl)
theorem dX5_bridges_16 : decode cX5_bridges 16 = .ok (.istore_n 1, 1) := dk_60 (dk_at dksX5_bridges_0 16 rfl rfl)
theorem dX5_bridges_17 : decode cX5_bridges 17 = .ok (.iconst 0, 1) := dk_3 (dk_at dksX5_bridges_0 17 rfl rfl)
theorem dX5_bridges_18 : decode cX5_bridges 18 = .ok (.istore_n 2, 1) := dk_61 (dk_at dksX5_bridges_0 18 rfl rfl)
theorem dX5_bridges_19 : decode cX5_bridges 19 = .ok (.iload_n 2, 1) := dk_28 (dk_at dksX5_bridges_0 19 rfl rfl)
theorem dX5_bridges_20 : decode cX5_bridges 20 = .ok (.aload_n 0, 1) := dk_42 (dk_at dksX5_bridges_0 20 rfl rfl)
theorem dX5_bridges_21 : decode cX5_bridges 21 = .ok (.invokevirtual 282, 3) := dk_182 1 26 (dk_at dksX5_bridges_0 21 rfl rfl)
theorem dX5_bridges_24 : decode cX5_bridges 24 = .ok (.if_icmp .ge 52, 3) := dk_162 0 52 (dk_at dksX5_bridges_1 0 rfl rfl)
theorem dX5_bridges_27 : decode cX5_bridges 27 = .ok (.iconst 0, 1) := dk_3 (dk_at dksX5_bridges_1 3 rfl rfl)
theorem dX5_bridges_28 : decode cX5_bridges 28 = .ok (.istore_n 3, 1) := dk_62 (dk_at dksX5_bridges_1 4 rfl rfl)
theorem dX5_bridges_29 : decode cX5_bridges 29 = .ok (.iload_n 3, 1) := dk_29 (dk_at dksX5_bridges_1 5 rfl rfl)
theorem dX5_bridges_30 : decode cX5_bridges 30 = .ok (.aload_n 0, 1) := dk_42 (dk_at dksX5_bridges_1 6 rfl rfl)
theorem dX5_bridges_31 : decode cX5_bridges 31 = .ok (.getfield 34, 3) := dk_180 0 34 (dk_at dksX5_bridges_1 7 rfl rfl)
theorem dX5_bridges_34 : decode cX5_bridges 34 = .ok (.iconst 0, 1) := dk_3 (dk_at dksX5_bridges_1 10 rfl rfl)
theorem dX5_bridges_35 : decode cX5_bridges 35 = .ok (.iaload, 1) := dk_46 (dk_at dksX5_bridges_1 11 rfl rfl)
theorem dX5_bridges_36 : decode cX5_bridges 36 = .ok (.if_icmp .ge 34, 3) := dk_162 0 34 (dk_at dksX5_bridges_1 12 rfl rfl)
theorem dX5_bridges_39 : decode cX5_bridges 39 = .ok (.iload_n 1, 1) := dk_27 (dk_at dksX5_bridges_1 15 rfl rfl)
theorem dX5_bridges_40 : decode cX5_bridges 40 = .ok (.iload_n 2, 1) := dk_28 (dk_at dksX5_bridges_1 16 rfl rfl)
theorem dX5_bridges_41 : decode cX5_bridges 41 = .ok (.iload_n 3, 1) := dk_29 (dk_at dksX5_bridges_1 17 rfl rfl)
theorem dX5_bridges_42 : decode cX5_bridges 42 = .ok (.invokestatic 288, 3) := dk_184 1 32 (dk_at dksX5_bridges_1 18 rfl rfl)
theorem dX5_bridges_45 : decode cX5_bridges 45 = .ok (.ifCond .ne 16, 3) := dk_154 0 16 (dk_at dksX5_bridges_1 21 rfl rfl)
theorem dX5_bridges_48 : decode cX5_bridges 48 = .ok (.aload_n 0, 1) := dk_42 (dk_at dksX5_bridges_2 0 rfl rfl)
theorem dX5_bridges_49 : decode cX5_bridges 49 = .ok (.iload_n 2, 1) := dk_28 (dk_at dksX5_bridges_2 1 rfl rfl)
theorem dX5_bridges_50 : decode cX5_bridges 50 = .ok (.iload_n 3, 1) := dk_29 (dk_at dksX5_bridges_2 2 rfl rfl)
theorem dX5_bridges_51 : decode cX5_bridges 51 = .ok (.invokevirtual 342, 3) := dk_182 1 86 (dk_at dksX5_bridges_2 3 rfl rfl)
theorem dX5_bridges_54 : decode cX5_bridges 54 = .ok (.ifCond .eq 7, 3) := dk_153 0 7 (dk_at dksX5_bridges_2 6 rfl rfl)
theorem dX5_bridges_57 : decode cX5_bridges 57 = .ok (.iconst 1, 1) := dk_4 (dk_at dksX5_bridges_2 9 rfl rfl)
theorem dX5_bridges_58 : decode cX5_bridges 58 = .ok (.goto 4, 3) := dk_167 0 4 (dk_at dksX5_bridges_2 10 rfl rfl)
theorem dX5_bridges_61 : decode cX5_bridges 61 = .ok (.iconst 0, 1) := dk_3 (dk_at dksX5_bridges_2 13 rfl rfl)
theorem dX5_bridges_62 : decode cX5_bridges 62 = .ok (.iadd, 1) := dk_96 (dk_at dksX5_bridges_2 14 rfl rfl)
theorem dX5_bridges_63 : decode cX5_bridges 63 = .ok (.istore_n 1, 1) := dk_60 (dk_at dksX5_bridges_2 15 rfl rfl)
theorem dX5_bridges_64 : decode cX5_bridges 64 = .ok (.iinc 3 1, 3) := dk_132 3 1 (dk_at dksX5_bridges_2 16 rfl rfl)
theorem dX5_bridges_67 : decode cX5_bridges 67 = .ok (.goto (-38), 3) := dk_167 255 218 (dk_at dksX5_bridges_2 19 rfl rfl)
theorem dX5_bridges_70 : decode cX5_bridges 70 = .ok (.iinc 2 1, 3) := dk_132 2 1 (dk_at dksX5_bridges_3 0 rfl rfl)
theorem dX5_bridges_73 : decode cX5_bridges 73 = .ok (.goto (-54), 3) := dk_167 255 202 (dk_at dksX5_bridges_3 3 rfl rfl)
theorem dX5_bridges_76 : decode cX5_bridges 76 = .ok (.iload_n 1, 1) := dk_27 (dk_at dksX5_bridges_3 6 rfl rfl)
theorem dX5_bridges_77 : decode cX5_bridges 77 = .ok (.ireturn, 1) := dk_172 (dk_at dksX5_bridges_3 7 rfl rfl)
abbrev cX5_isBridge : ByteArray := prog_10_method_75_code
def yX5_isBridge : MethodName := ⟨RX5, "isBridge", "(II)Z"⟩
def dkwX5_isBridge_2 : List UInt8 := [167, 0, 4, 3, 172]
abbrev dktX5_isBridge_2 : List UInt8 := dkwX5_isBridge_2 ++ []
def dkwX5_isBridge_1 : List UInt8 := [27, 28, 3, 182, 1, 42, 42, 180, 0, 62, 27, 4, 28, 120, 130, 46, 18, 182, 160, 0, 7, 4]
abbrev dktX5_isBridge_1 : List UInt8 := dkwX5_isBridge_1 ++ dktX5_isBridge_2
def dkwX5_isBridge_0 : List UInt8 := [42, 27, 28, 182, 1, 39, 154, 0, 5, 3, 172, 42, 27, 28, 4, 182, 1, 42, 42, 27, 182, 1, 52, 42]
abbrev dktX5_isBridge_0 : List UInt8 := dkwX5_isBridge_0 ++ dktX5_isBridge_1
theorem dksX5_isBridge_0 : cX5_isBridge.data.toList.drop 0 = dktX5_isBridge_0 := by decide +kernel
theorem dksX5_isBridge_1 : cX5_isBridge.data.toList.drop 24 = dktX5_isBridge_1 := dk_seg dksX5_isBridge_0 24 rfl rfl
theorem dksX5_isBridge_2 : cX5_isBridge.data.toList.drop 46 = dktX5_isBridge_2 := dk_seg dksX5_isBridge_1 22 rfl rfl
theorem dX5_isBridge_0 : decode cX5_isBridge 0 = .ok (.aload_n 0, 1) := dk_42 (dk_at dksX5_isBridge_0 0 rfl rfl)
theorem dX5_isBridge_1 : decode cX5_isBridge 1 = .ok (.iload_n 1, 1) := dk_27 (dk_at dksX5_isBridge_0 1 rfl rfl)
theorem dX5_isBridge_2 : decode cX5_isBridge 2 = .ok (.iload_n 2, 1) := dk_28 (dk_at dksX5_isBridge_0 2 rfl rfl)
theorem dX5_isBridge_3 : decode cX5_isBridge 3 = .ok (.invokevirtual 295, 3) := dk_182 1 39 (dk_at dksX5_isBridge_0 3 rfl rfl)
theorem dX5_isBridge_6 : decode cX5_isBridge 6 = .ok (.ifCond .ne 5, 3) := dk_154 0 5 (dk_at dksX5_isBridge_0 6 rfl rfl)
theorem dX5_isBridge_9 : decode cX5_isBridge 9 = .ok (.iconst 0, 1) := dk_3 (dk_at dksX5_isBridge_0 9 rfl rfl)
theorem dX5_isBridge_10 : decode cX5_isBridge 10 = .ok (.ireturn, 1) := dk_172 (dk_at dksX5_isBridge_0 10 rfl rfl)
theorem dX5_isBridge_11 : decode cX5_isBridge 11 = .ok (.aload_n 0, 1) := dk_42 (dk_at dksX5_isBridge_0 11 rfl rfl)
theorem dX5_isBridge_12 : decode cX5_isBridge 12 = .ok (.iload_n 1, 1) := dk_27 (dk_at dksX5_isBridge_0 12 rfl rfl)
theorem dX5_isBridge_13 : decode cX5_isBridge 13 = .ok (.iload_n 2, 1) := dk_28 (dk_at dksX5_isBridge_0 13 rfl rfl)
theorem dX5_isBridge_14 : decode cX5_isBridge 14 = .ok (.iconst 1, 1) := dk_4 (dk_at dksX5_isBridge_0 14 rfl rfl)
theorem dX5_isBridge_15 : decode cX5_isBridge 15 = .ok (.invokevirtual 298, 3) := dk_182 1 42 (dk_at dksX5_isBridge_0 15 rfl rfl)
theorem dX5_isBridge_18 : decode cX5_isBridge 18 = .ok (.aload_n 0, 1) := dk_42 (dk_at dksX5_isBridge_0 18 rfl rfl)
theorem dX5_isBridge_19 : decode cX5_isBridge 19 = .ok (.iload_n 1, 1) := dk_27 (dk_at dksX5_isBridge_0 19 rfl rfl)
theorem dX5_isBridge_20 : decode cX5_isBridge 20 = .ok (.invokevirtual 308, 3) := dk_182 1 52 (dk_at dksX5_isBridge_0 20 rfl rfl)
theorem dX5_isBridge_23 : decode cX5_isBridge 23 = .ok (.aload_n 0, 1) := dk_42 (dk_at dksX5_isBridge_0 23 rfl rfl)
theorem dX5_isBridge_24 : decode cX5_isBridge 24 = .ok (.iload_n 1, 1) := dk_27 (dk_at dksX5_isBridge_1 0 rfl rfl)
theorem dX5_isBridge_25 : decode cX5_isBridge 25 = .ok (.iload_n 2, 1) := dk_28 (dk_at dksX5_isBridge_1 1 rfl rfl)
theorem dX5_isBridge_26 : decode cX5_isBridge 26 = .ok (.iconst 0, 1) := dk_3 (dk_at dksX5_isBridge_1 2 rfl rfl)
theorem dX5_isBridge_27 : decode cX5_isBridge 27 = .ok (.invokevirtual 298, 3) := dk_182 1 42 (dk_at dksX5_isBridge_1 3 rfl rfl)
theorem dX5_isBridge_30 : decode cX5_isBridge 30 = .ok (.aload_n 0, 1) := dk_42 (dk_at dksX5_isBridge_1 6 rfl rfl)
theorem dX5_isBridge_31 : decode cX5_isBridge 31 = .ok (.getfield 62, 3) := dk_180 0 62 (dk_at dksX5_isBridge_1 7 rfl rfl)
theorem dX5_isBridge_34 : decode cX5_isBridge 34 = .ok (.iload_n 1, 1) := dk_27 (dk_at dksX5_isBridge_1 10 rfl rfl)
theorem dX5_isBridge_35 : decode cX5_isBridge 35 = .ok (.iconst 1, 1) := dk_4 (dk_at dksX5_isBridge_1 11 rfl rfl)
theorem dX5_isBridge_36 : decode cX5_isBridge 36 = .ok (.iload_n 2, 1) := dk_28 (dk_at dksX5_isBridge_1 12 rfl rfl)
theorem dX5_isBridge_37 : decode cX5_isBridge 37 = .ok (.ishl, 1) := dk_120 (dk_at dksX5_isBridge_1 13 rfl rfl)
theorem dX5_isBridge_38 : decode cX5_isBridge 38 = .ok (.ixor, 1) := dk_130 (dk_at dksX5_isBridge_1 14 rfl rfl)
theorem dX5_isBridge_39 : decode cX5_isBridge 39 = .ok (.iaload, 1) := dk_46 (dk_at dksX5_isBridge_1 15 rfl rfl)
theorem dX5_isBridge_40 : decode cX5_isBridge 40 = .ok (.ldc 182, 2) := dk_18 182 (dk_at dksX5_isBridge_1 16 rfl rfl)
theorem dX5_isBridge_42 : decode cX5_isBridge 42 = .ok (.if_icmp .ne 7, 3) := dk_160 0 7 (dk_at dksX5_isBridge_1 18 rfl rfl)
theorem dX5_isBridge_45 : decode cX5_isBridge 45 = .ok (.iconst 1, 1) := dk_4 (dk_at dksX5_isBridge_1 21 rfl rfl)
theorem dX5_isBridge_46 : decode cX5_isBridge 46 = .ok (.goto 4, 3) := dk_167 0 4 (dk_at dksX5_isBridge_2 0 rfl rfl)
theorem dX5_isBridge_49 : decode cX5_isBridge 49 = .ok (.iconst 0, 1) := dk_3 (dk_at dksX5_isBridge_2 3 rfl rfl)
theorem dX5_isBridge_50 : decode cX5_isBridge 50 = .ok (.ireturn, 1) := dk_172 (dk_at dksX5_isBridge_2 4 rfl rfl)
abbrev cX5_bridge : ByteArray := prog_10_method_77_code
def yX5_bridge : MethodName := ⟨RX5, "bridge", "(II)I"⟩
def dkwX5_bridge_1 : List UInt8 := [28, 182, 1, 86, 153, 0, 7, 4, 167, 0, 9, 3, 167, 0, 5, 16, 254, 172]
abbrev dktX5_bridge_1 : List UInt8 := dkwX5_bridge_1 ++ []
def dkwX5_bridge_0 : List UInt8 := [42, 3, 181, 0, 131, 42, 27, 133, 182, 1, 29, 153, 0, 28, 42, 28, 182, 1, 36, 153, 0, 20, 42, 27]
abbrev dktX5_bridge_0 : List UInt8 := dkwX5_bridge_0 ++ dktX5_bridge_1
theorem dksX5_bridge_0 : cX5_bridge.data.toList.drop 0 = dktX5_bridge_0 := by decide +kernel
theorem dksX5_bridge_1 : cX5_bridge.data.toList.drop 24 = dktX5_bridge_1 := dk_seg dksX5_bridge_0 24 rfl rfl
theorem dX5_bridge_0 : decode cX5_bridge 0 = .ok (.aload_n 0, 1) := dk_42 (dk_at dksX5_bridge_0 0 rfl rfl)
theorem dX5_bridge_1 : decode cX5_bridge 1 = .ok (.iconst 0, 1) := dk_3 (dk_at dksX5_bridge_0 1 rfl rfl)
theorem dX5_bridge_2 : decode cX5_bridge 2 = .ok (.putfield 131, 3) := dk_181 0 131 (dk_at dksX5_bridge_0 2 rfl rfl)
theorem dX5_bridge_5 : decode cX5_bridge 5 = .ok (.aload_n 0, 1) := dk_42 (dk_at dksX5_bridge_0 5 rfl rfl)
theorem dX5_bridge_6 : decode cX5_bridge 6 = .ok (.iload_n 1, 1) := dk_27 (dk_at dksX5_bridge_0 6 rfl rfl)
theorem dX5_bridge_7 : decode cX5_bridge 7 = .ok (.i2l, 1) := dk_133 (dk_at dksX5_bridge_0 7 rfl rfl)
theorem dX5_bridge_8 : decode cX5_bridge 8 = .ok (.invokevirtual 285, 3) := dk_182 1 29 (dk_at dksX5_bridge_0 8 rfl rfl)
theorem dX5_bridge_11 : decode cX5_bridge 11 = .ok (.ifCond .eq 28, 3) := dk_153 0 28 (dk_at dksX5_bridge_0 11 rfl rfl)
theorem dX5_bridge_14 : decode cX5_bridge 14 = .ok (.aload_n 0, 1) := dk_42 (dk_at dksX5_bridge_0 14 rfl rfl)
theorem dX5_bridge_15 : decode cX5_bridge 15 = .ok (.iload_n 2, 1) := dk_28 (dk_at dksX5_bridge_0 15 rfl rfl)
theorem dX5_bridge_16 : decode cX5_bridge 16 = .ok (.invokevirtual 292, 3) := dk_182 1 36 (dk_at dksX5_bridge_0 16 rfl rfl)
theorem dX5_bridge_19 : decode cX5_bridge 19 = .ok (.ifCond .eq 20, 3) := dk_153 0 20 (dk_at dksX5_bridge_0 19 rfl rfl)
theorem dX5_bridge_22 : decode cX5_bridge 22 = .ok (.aload_n 0, 1) := dk_42 (dk_at dksX5_bridge_0 22 rfl rfl)
theorem dX5_bridge_23 : decode cX5_bridge 23 = .ok (.iload_n 1, 1) := dk_27 (dk_at dksX5_bridge_0 23 rfl rfl)
theorem dX5_bridge_24 : decode cX5_bridge 24 = .ok (.iload_n 2, 1) := dk_28 (dk_at dksX5_bridge_1 0 rfl rfl)
theorem dX5_bridge_25 : decode cX5_bridge 25 = .ok (.invokevirtual 342, 3) := dk_182 1 86 (dk_at dksX5_bridge_1 1 rfl rfl)
theorem dX5_bridge_28 : decode cX5_bridge 28 = .ok (.ifCond .eq 7, 3) := dk_153 0 7 (dk_at dksX5_bridge_1 4 rfl rfl)
theorem dX5_bridge_31 : decode cX5_bridge 31 = .ok (.iconst 1, 1) := dk_4 (dk_at dksX5_bridge_1 7 rfl rfl)
theorem dX5_bridge_32 : decode cX5_bridge 32 = .ok (.goto 9, 3) := dk_167 0 9 (dk_at dksX5_bridge_1 8 rfl rfl)
theorem dX5_bridge_35 : decode cX5_bridge 35 = .ok (.iconst 0, 1) := dk_3 (dk_at dksX5_bridge_1 11 rfl rfl)
theorem dX5_bridge_36 : decode cX5_bridge 36 = .ok (.goto 5, 3) := dk_167 0 5 (dk_at dksX5_bridge_1 12 rfl rfl)
theorem dX5_bridge_39 : decode cX5_bridge 39 = .ok (.bipush (-2), 2) := dk_16 254 (dk_at dksX5_bridge_1 15 rfl rfl)
theorem dX5_bridge_41 : decode cX5_bridge 41 = .ok (.ireturn, 1) := dk_172 (dk_at dksX5_bridge_1 17 rfl rfl)
abbrev cX5_joins : ByteArray := prog_10_method_78_code
def yX5_joins : MethodName := ⟨RX5, "joins", "()I"⟩
def dkwX5_joins_0 : List UInt8 := [42, 3, 181, 0, 131, 42, 182, 1, 23, 153, 0, 12, 42, 182, 1, 83, 4, 100, 167, 0, 5, 16, 254, 172]
abbrev dktX5_joins_0 : List UInt8 := dkwX5_joins_0 ++ []
theorem dksX5_joins_0 : cX5_joins.data.toList.drop 0 = dktX5_joins_0 := by decide +kernel
theorem dX5_joins_0 : decode cX5_joins 0 = .ok (.aload_n 0, 1) := dk_42 (dk_at dksX5_joins_0 0 rfl rfl)
theorem dX5_joins_1 : decode cX5_joins 1 = .ok (.iconst 0, 1) := dk_3 (dk_at dksX5_joins_0 1 rfl rfl)
theorem dX5_joins_2 : decode cX5_joins 2 = .ok (.putfield 131, 3) := dk_181 0 131 (dk_at dksX5_joins_0 2 rfl rfl)
theorem dX5_joins_5 : decode cX5_joins 5 = .ok (.aload_n 0, 1) := dk_42 (dk_at dksX5_joins_0 5 rfl rfl)
theorem dX5_joins_6 : decode cX5_joins 6 = .ok (.invokevirtual 279, 3) := dk_182 1 23 (dk_at dksX5_joins_0 6 rfl rfl)
theorem dX5_joins_9 : decode cX5_joins 9 = .ok (.ifCond .eq 12, 3) := dk_153 0 12 (dk_at dksX5_joins_0 9 rfl rfl)
theorem dX5_joins_12 : decode cX5_joins 12 = .ok (.aload_n 0, 1) := dk_42 (dk_at dksX5_joins_0 12 rfl rfl)
theorem dX5_joins_13 : decode cX5_joins 13 = .ok (.invokevirtual 339, 3) := dk_182 1 83 (dk_at dksX5_joins_0 13 rfl rfl)
theorem dX5_joins_16 : decode cX5_joins 16 = .ok (.iconst 1, 1) := dk_4 (dk_at dksX5_joins_0 16 rfl rfl)
theorem dX5_joins_17 : decode cX5_joins 17 = .ok (.isub, 1) := dk_100 (dk_at dksX5_joins_0 17 rfl rfl)
theorem dX5_joins_18 : decode cX5_joins 18 = .ok (.goto 5, 3) := dk_167 0 5 (dk_at dksX5_joins_0 18 rfl rfl)
theorem dX5_joins_21 : decode cX5_joins 21 = .ok (.bipush (-2), 2) := dk_16 254 (dk_at dksX5_joins_0 21 rfl rfl)
theorem dX5_joins_23 : decode cX5_joins 23 = .ok (.ireturn, 1) := dk_172 (dk_at dksX5_joins_0 23 rfl rfl)
abbrev cX5_fours : ByteArray := prog_10_method_81_code
def yX5_fours : MethodName := ⟨RX5, "fours", "()I"⟩
def dkwX5_fours_0 : List UInt8 := [42, 3, 181, 0, 131, 42, 182, 1, 23, 153, 0, 11, 42, 5, 182, 1, 92, 167, 0, 5, 16, 254, 172]
abbrev dktX5_fours_0 : List UInt8 := dkwX5_fours_0 ++ []
theorem dksX5_fours_0 : cX5_fours.data.toList.drop 0 = dktX5_fours_0 := by decide +kernel
theorem dX5_fours_0 : decode cX5_fours 0 = .ok (.aload_n 0, 1) := dk_42 (dk_at dksX5_fours_0 0 rfl rfl)
theorem dX5_fours_1 : decode cX5_fours 1 = .ok (.iconst 0, 1) := dk_3 (dk_at dksX5_fours_0 1 rfl rfl)
theorem dX5_fours_2 : decode cX5_fours 2 = .ok (.putfield 131, 3) := dk_181 0 131 (dk_at dksX5_fours_0 2 rfl rfl)
theorem dX5_fours_5 : decode cX5_fours 5 = .ok (.aload_n 0, 1) := dk_42 (dk_at dksX5_fours_0 5 rfl rfl)
theorem dX5_fours_6 : decode cX5_fours 6 = .ok (.invokevirtual 279, 3) := dk_182 1 23 (dk_at dksX5_fours_0 6 rfl rfl)
theorem dX5_fours_9 : decode cX5_fours 9 = .ok (.ifCond .eq 11, 3) := dk_153 0 11 (dk_at dksX5_fours_0 9 rfl rfl)
theorem dX5_fours_12 : decode cX5_fours 12 = .ok (.aload_n 0, 1) := dk_42 (dk_at dksX5_fours_0 12 rfl rfl)
theorem dX5_fours_13 : decode cX5_fours 13 = .ok (.iconst 2, 1) := dk_5 (dk_at dksX5_fours_0 13 rfl rfl)
theorem dX5_fours_14 : decode cX5_fours 14 = .ok (.invokevirtual 348, 3) := dk_182 1 92 (dk_at dksX5_fours_0 14 rfl rfl)
theorem dX5_fours_17 : decode cX5_fours 17 = .ok (.goto 5, 3) := dk_167 0 5 (dk_at dksX5_fours_0 17 rfl rfl)
theorem dX5_fours_20 : decode cX5_fours 20 = .ok (.bipush (-2), 2) := dk_16 254 (dk_at dksX5_fours_0 20 rfl rfl)
theorem dX5_fours_22 : decode cX5_fours 22 = .ok (.ireturn, 1) := dk_172 (dk_at dksX5_fours_0 22 rfl rfl)
abbrev cX5_wallsOf : ByteArray := prog_10_method_80_code
def yX5_wallsOf : MethodName := ⟨RX5, "wallsOf", "(I)I"⟩
def dkwX5_wallsOf_3 : List UInt8 := [132, 3, 1, 167, 255, 187, 28, 172]
abbrev dktX5_wallsOf_3 : List UInt8 := dkwX5_wallsOf_3 ++ []
def dkwX5_wallsOf_2 : List UInt8 := [21, 4, 29, 182, 1, 89, 153, 0, 7, 4, 167, 0, 4, 3, 96, 61, 132, 4, 1, 167, 255, 219]
abbrev dktX5_wallsOf_2 : List UInt8 := dkwX5_wallsOf_2 ++ dktX5_wallsOf_3
def dkwX5_wallsOf_1 : List UInt8 := [167, 0, 46, 3, 54, 4, 21, 4, 42, 182, 1, 26, 162, 0, 34, 28, 21, 4, 29, 126, 154, 0, 17, 42]
abbrev dktX5_wallsOf_1 : List UInt8 := dkwX5_wallsOf_1 ++ dktX5_wallsOf_2
def dkwX5_wallsOf_0 : List UInt8 := [3, 61, 3, 62, 29, 4, 42, 180, 0, 34, 3, 46, 120, 162, 0, 63, 29, 184, 1, 46, 27, 159, 0, 6]
abbrev dktX5_wallsOf_0 : List UInt8 := dkwX5_wallsOf_0 ++ dktX5_wallsOf_1
theorem dksX5_wallsOf_0 : cX5_wallsOf.data.toList.drop 0 = dktX5_wallsOf_0 := by decide +kernel
theorem dksX5_wallsOf_1 : cX5_wallsOf.data.toList.drop 24 = dktX5_wallsOf_1 := dk_seg dksX5_wallsOf_0 24 rfl rfl
theorem dksX5_wallsOf_2 : cX5_wallsOf.data.toList.drop 48 = dktX5_wallsOf_2 := dk_seg dksX5_wallsOf_1 24 rfl rfl
theorem dksX5_wallsOf_3 : cX5_wallsOf.data.toList.drop 70 = dktX5_wallsOf_3 := dk_seg dksX5_wallsOf_2 22 rfl rfl
theorem dX5_wallsOf_0 : decode cX5_wallsOf 0 = .ok (.iconst 0, 1) := dk_3 (dk_at dksX5_wallsOf_0 0 rfl rfl)
theorem dX5_wallsOf_1 : decode cX5_wallsOf 1 = .ok (.istore_n 2, 1) := dk_61 (dk_at dksX5_wallsOf_0 1 rfl rfl)
theorem dX5_wallsOf_2 : decode cX5_wallsOf 2 = .ok (.iconst 0, 1) := dk_3 (dk_at dksX5_wallsOf_0 2 rfl rfl)
theorem dX5_wallsOf_3 : decode cX5_wallsOf 3 = .ok (.istore_n 3, 1) := dk_62 (dk_at dksX5_wallsOf_0 3 rfl rfl)
theorem dX5_wallsOf_4 : decode cX5_wallsOf 4 = .ok (.iload_n 3, 1) := dk_29 (dk_at dksX5_wallsOf_0 4 rfl rfl)
theorem dX5_wallsOf_5 : decode cX5_wallsOf 5 = .ok (.iconst 1, 1) := dk_4 (dk_at dksX5_wallsOf_0 5 rfl rfl)
theorem dX5_wallsOf_6 : decode cX5_wallsOf 6 = .ok (.aload_n 0, 1) := dk_42 (dk_at dksX5_wallsOf_0 6 rfl rfl)
theorem dX5_wallsOf_7 : decode cX5_wallsOf 7 = .ok (.getfield 34, 3) := dk_180 0 34 (dk_at dksX5_wallsOf_0 7 rfl rfl)
theorem dX5_wallsOf_10 : decode cX5_wallsOf 10 = .ok (.iconst 0, 1) := dk_3 (dk_at dksX5_wallsOf_0 10 rfl rfl)
theorem dX5_wallsOf_11 : decode cX5_wallsOf 11 = .ok (.iaload, 1) := dk_46 (dk_at dksX5_wallsOf_0 11 rfl rfl)
theorem dX5_wallsOf_12 : decode cX5_wallsOf 12 = .ok (.ishl, 1) := dk_120 (dk_at dksX5_wallsOf_0 12 rfl rfl)
theorem dX5_wallsOf_13 : decode cX5_wallsOf 13 = .ok (.if_icmp .ge 63, 3) := dk_162 0 63 (dk_at dksX5_wallsOf_0 13 rfl rfl)
theorem dX5_wallsOf_16 : decode cX5_wallsOf 16 = .ok (.iload_n 3, 1) := dk_29 (dk_at dksX5_wallsOf_0 16 rfl rfl)
theorem dX5_wallsOf_17 : decode cX5_wallsOf 17 = .ok (.invokestatic 302, 3) := dk_184 1 46 (dk_at dksX5_wallsOf_0 17 rfl rfl)
theorem dX5_wallsOf_20 : decode cX5_wallsOf 20 = .ok (.iload_n 1, 1) := dk_27 (dk_at dksX5_wallsOf_0 20 rfl rfl)
theorem dX5_wallsOf_21 : decode cX5_wallsOf 21 = .ok (.if_icmp .eq 6, 3) := dk_159 0 6 (dk_at dksX5_wallsOf_0 21 rfl rfl)
theorem dX5_wallsOf_24 : decode cX5_wallsOf 24 = .ok (.goto 46, 3) := dk_167 0 46 (dk_at dksX5_wallsOf_1 0 rfl rfl)
theorem dX5_wallsOf_27 : decode cX5_wallsOf 27 = .ok (.iconst 0, 1) := dk_3 (dk_at dksX5_wallsOf_1 3 rfl rfl)
theorem dX5_wallsOf_28 : decode cX5_wallsOf 28 = .ok (.istore 4, 2) := dk_54 4 (dk_at dksX5_wallsOf_1 4 rfl rfl)
theorem dX5_wallsOf_30 : decode cX5_wallsOf 30 = .ok (.iload 4, 2) := dk_21 4 (dk_at dksX5_wallsOf_1 6 rfl rfl)
theorem dX5_wallsOf_32 : decode cX5_wallsOf 32 = .ok (.aload_n 0, 1) := dk_42 (dk_at dksX5_wallsOf_1 8 rfl rfl)
theorem dX5_wallsOf_33 : decode cX5_wallsOf 33 = .ok (.invokevirtual 282, 3) := dk_182 1 26 (dk_at dksX5_wallsOf_1 9 rfl rfl)
theorem dX5_wallsOf_36 : decode cX5_wallsOf 36 = .ok (.if_icmp .ge 34, 3) := dk_162 0 34 (dk_at dksX5_wallsOf_1 12 rfl rfl)
theorem dX5_wallsOf_39 : decode cX5_wallsOf 39 = .ok (.iload_n 2, 1) := dk_28 (dk_at dksX5_wallsOf_1 15 rfl rfl)
theorem dX5_wallsOf_40 : decode cX5_wallsOf 40 = .ok (.iload 4, 2) := dk_21 4 (dk_at dksX5_wallsOf_1 16 rfl rfl)
theorem dX5_wallsOf_42 : decode cX5_wallsOf 42 = .ok (.iload_n 3, 1) := dk_29 (dk_at dksX5_wallsOf_1 18 rfl rfl)
theorem dX5_wallsOf_43 : decode cX5_wallsOf 43 = .ok (.iand, 1) := dk_126 (dk_at dksX5_wallsOf_1 19 rfl rfl)
theorem dX5_wallsOf_44 : decode cX5_wallsOf 44 = .ok (.ifCond .ne 17, 3) := dk_154 0 17 (dk_at dksX5_wallsOf_1 20 rfl rfl)
theorem dX5_wallsOf_47 : decode cX5_wallsOf 47 = .ok (.aload_n 0, 1) := dk_42 (dk_at dksX5_wallsOf_1 23 rfl rfl)
theorem dX5_wallsOf_48 : decode cX5_wallsOf 48 = .ok (.iload 4, 2) := dk_21 4 (dk_at dksX5_wallsOf_2 0 rfl rfl)
theorem dX5_wallsOf_50 : decode cX5_wallsOf 50 = .ok (.iload_n 3, 1) := dk_29 (dk_at dksX5_wallsOf_2 2 rfl rfl)
theorem dX5_wallsOf_51 : decode cX5_wallsOf 51 = .ok (.invokevirtual 345, 3) := dk_182 1 89 (dk_at dksX5_wallsOf_2 3 rfl rfl)
theorem dX5_wallsOf_54 : decode cX5_wallsOf 54 = .ok (.ifCond .eq 7, 3) := dk_153 0 7 (dk_at dksX5_wallsOf_2 6 rfl rfl)
theorem dX5_wallsOf_57 : decode cX5_wallsOf 57 = .ok (.iconst 1, 1) := dk_4 (dk_at dksX5_wallsOf_2 9 rfl rfl)
theorem dX5_wallsOf_58 : decode cX5_wallsOf 58 = .ok (.goto 4, 3) := dk_167 0 4 (dk_at dksX5_wallsOf_2 10 rfl rfl)
theorem dX5_wallsOf_61 : decode cX5_wallsOf 61 = .ok (.iconst 0, 1) := dk_3 (dk_at dksX5_wallsOf_2 13 rfl rfl)
theorem dX5_wallsOf_62 : decode cX5_wallsOf 62 = .ok (.iadd, 1) := dk_96 (dk_at dksX5_wallsOf_2 14 rfl rfl)
theorem dX5_wallsOf_63 : decode cX5_wallsOf 63 = .ok (.istore_n 2, 1) := dk_61 (dk_at dksX5_wallsOf_2 15 rfl rfl)
theorem dX5_wallsOf_64 : decode cX5_wallsOf 64 = .ok (.iinc 4 1, 3) := dk_132 4 1 (dk_at dksX5_wallsOf_2 16 rfl rfl)
theorem dX5_wallsOf_67 : decode cX5_wallsOf 67 = .ok (.goto (-37), 3) := dk_167 255 219 (dk_at dksX5_wallsOf_2 19 rfl rfl)
theorem dX5_wallsOf_70 : decode cX5_wallsOf 70 = .ok (.iinc 3 1, 3) := dk_132 3 1 (dk_at dksX5_wallsOf_3 0 rfl rfl)
theorem dX5_wallsOf_73 : decode cX5_wallsOf 73 = .ok (.goto (-69), 3) := dk_167 255 187 (dk_at dksX5_wallsOf_3 3 rfl rfl)
theorem dX5_wallsOf_76 : decode cX5_wallsOf 76 = .ok (.iload_n 2, 1) := dk_28 (dk_at dksX5_wallsOf_3 6 rfl rfl)
theorem dX5_wallsOf_77 : decode cX5_wallsOf 77 = .ok (.ireturn, 1) := dk_172 (dk_at dksX5_wallsOf_3 7 rfl rfl)
abbrev cX5_isWall : ByteArray := prog_10_method_79_code
def yX5_isWall : MethodName := ⟨RX5, "isWall", "(II)Z"⟩
def dkwX5_isWall_1 : List UInt8 := [29, 46, 28, 126, 153, 0, 5, 3, 172, 132, 3, 1, 167, 255, 222, 4, 172]
abbrev dktX5_isWall_1 : List UInt8 := dkwX5_isWall_1 ++ []
def dkwX5_isWall_0 : List UInt8 := [3, 62, 29, 42, 182, 1, 26, 162, 0, 32, 29, 27, 130, 28, 2, 130, 126, 154, 0, 16, 42, 180, 0, 46]
abbrev dktX5_isWall_0 : List UInt8 := dkwX5_isWall_0 ++ dktX5_isWall_1
theorem dksX5_isWall_0 : cX5_isWall.data.toList.drop 0 = dktX5_isWall_0 := by decide +kernel
theorem dksX5_isWall_1 : cX5_isWall.data.toList.drop 24 = dktX5_isWall_1 := dk_seg dksX5_isWall_0 24 rfl rfl
theorem dX5_isWall_0 : decode cX5_isWall 0 = .ok (.iconst 0, 1) := dk_3 (dk_at dksX5_isWall_0 0 rfl rfl)
theorem dX5_isWall_1 : decode cX5_isWall 1 = .ok (.istore_n 3, 1) := dk_62 (dk_at dksX5_isWall_0 1 rfl rfl)
theorem dX5_isWall_2 : decode cX5_isWall 2 = .ok (.iload_n 3, 1) := dk_29 (dk_at dksX5_isWall_0 2 rfl rfl)
theorem dX5_isWall_3 : decode cX5_isWall 3 = .ok (.aload_n 0, 1) := dk_42 (dk_at dksX5_isWall_0 3 rfl rfl)
theorem dX5_isWall_4 : decode cX5_isWall 4 = .ok (.invokevirtual 282, 3) := dk_182 1 26 (dk_at dksX5_isWall_0 4 rfl rfl)
theorem dX5_isWall_7 : decode cX5_isWall 7 = .ok (.if_icmp .ge 32, 3) := dk_162 0 32 (dk_at dksX5_isWall_0 7 rfl rfl)
theorem dX5_isWall_10 : decode cX5_isWall 10 = .ok (.iload_n 3, 1) := dk_29 (dk_at dksX5_isWall_0 10 rfl rfl)
theorem dX5_isWall_11 : decode cX5_isWall 11 = .ok (.iload_n 1, 1) := dk_27 (dk_at dksX5_isWall_0 11 rfl rfl)
theorem dX5_isWall_12 : decode cX5_isWall 12 = .ok (.ixor, 1) := dk_130 (dk_at dksX5_isWall_0 12 rfl rfl)
theorem dX5_isWall_13 : decode cX5_isWall 13 = .ok (.iload_n 2, 1) := dk_28 (dk_at dksX5_isWall_0 13 rfl rfl)
theorem dX5_isWall_14 : decode cX5_isWall 14 = .ok (.iconst (-1), 1) := dk_2 (dk_at dksX5_isWall_0 14 rfl rfl)
theorem dX5_isWall_15 : decode cX5_isWall 15 = .ok (.ixor, 1) := dk_130 (dk_at dksX5_isWall_0 15 rfl rfl)
theorem dX5_isWall_16 : decode cX5_isWall 16 = .ok (.iand, 1) := dk_126 (dk_at dksX5_isWall_0 16 rfl rfl)
theorem dX5_isWall_17 : decode cX5_isWall 17 = .ok (.ifCond .ne 16, 3) := dk_154 0 16 (dk_at dksX5_isWall_0 17 rfl rfl)
theorem dX5_isWall_20 : decode cX5_isWall 20 = .ok (.aload_n 0, 1) := dk_42 (dk_at dksX5_isWall_0 20 rfl rfl)
theorem dX5_isWall_21 : decode cX5_isWall 21 = .ok (.getfield 46, 3) := dk_180 0 46 (dk_at dksX5_isWall_0 21 rfl rfl)
theorem dX5_isWall_24 : decode cX5_isWall 24 = .ok (.iload_n 3, 1) := dk_29 (dk_at dksX5_isWall_1 0 rfl rfl)
theorem dX5_isWall_25 : decode cX5_isWall 25 = .ok (.iaload, 1) := dk_46 (dk_at dksX5_isWall_1 1 rfl rfl)
theorem dX5_isWall_26 : decode cX5_isWall 26 = .ok (.iload_n 2, 1) := dk_28 (dk_at dksX5_isWall_1 2 rfl rfl)
theorem dX5_isWall_27 : decode cX5_isWall 27 = .ok (.iand, 1) := dk_126 (dk_at dksX5_isWall_1 3 rfl rfl)
theorem dX5_isWall_28 : decode cX5_isWall 28 = .ok (.ifCond .eq 5, 3) := dk_153 0 5 (dk_at dksX5_isWall_1 4 rfl rfl)
theorem dX5_isWall_31 : decode cX5_isWall 31 = .ok (.iconst 0, 1) := dk_3 (dk_at dksX5_isWall_1 7 rfl rfl)
theorem dX5_isWall_32 : decode cX5_isWall 32 = .ok (.ireturn, 1) := dk_172 (dk_at dksX5_isWall_1 8 rfl rfl)
theorem dX5_isWall_33 : decode cX5_isWall 33 = .ok (.iinc 3 1, 3) := dk_132 3 1 (dk_at dksX5_isWall_1 9 rfl rfl)
theorem dX5_isWall_36 : decode cX5_isWall 36 = .ok (.goto (-34), 3) := dk_167 255 222 (dk_at dksX5_isWall_1 12 rfl rfl)
theorem dX5_isWall_39 : decode cX5_isWall 39 = .ok (.iconst 1, 1) := dk_4 (dk_at dksX5_isWall_1 15 rfl rfl)
theorem dX5_isWall_40 : decode cX5_isWall 40 = .ok (.ireturn, 1) := dk_172 (dk_at dksX5_isWall_1 16 rfl rfl)
abbrev cX5_walls : ByteArray := prog_10_method_82_code
def yX5_walls : MethodName := ⟨RX5, "walls", "(I)I"⟩
def dkwX5_walls_1 : List UInt8 := [42, 27, 182, 1, 92, 167, 0, 5, 16, 254, 172]
abbrev dktX5_walls_1 : List UInt8 := dkwX5_walls_1 ++ []
def dkwX5_walls_0 : List UInt8 := [42, 3, 181, 0, 131, 42, 182, 1, 23, 153, 0, 23, 27, 133, 9, 20, 1, 95, 184, 0, 136, 153, 0, 11]
abbrev dktX5_walls_0 : List UInt8 := dkwX5_walls_0 ++ dktX5_walls_1
theorem dksX5_walls_0 : cX5_walls.data.toList.drop 0 = dktX5_walls_0 := by decide +kernel
theorem dksX5_walls_1 : cX5_walls.data.toList.drop 24 = dktX5_walls_1 := dk_seg dksX5_walls_0 24 rfl rfl
theorem dX5_walls_0 : decode cX5_walls 0 = .ok (.aload_n 0, 1) := dk_42 (dk_at dksX5_walls_0 0 rfl rfl)
theorem dX5_walls_1 : decode cX5_walls 1 = .ok (.iconst 0, 1) := dk_3 (dk_at dksX5_walls_0 1 rfl rfl)
theorem dX5_walls_2 : decode cX5_walls 2 = .ok (.putfield 131, 3) := dk_181 0 131 (dk_at dksX5_walls_0 2 rfl rfl)
theorem dX5_walls_5 : decode cX5_walls 5 = .ok (.aload_n 0, 1) := dk_42 (dk_at dksX5_walls_0 5 rfl rfl)
theorem dX5_walls_6 : decode cX5_walls 6 = .ok (.invokevirtual 279, 3) := dk_182 1 23 (dk_at dksX5_walls_0 6 rfl rfl)
theorem dX5_walls_9 : decode cX5_walls 9 = .ok (.ifCond .eq 23, 3) := dk_153 0 23 (dk_at dksX5_walls_0 9 rfl rfl)
theorem dX5_walls_12 : decode cX5_walls 12 = .ok (.iload_n 1, 1) := dk_27 (dk_at dksX5_walls_0 12 rfl rfl)
theorem dX5_walls_13 : decode cX5_walls 13 = .ok (.i2l, 1) := dk_133 (dk_at dksX5_walls_0 13 rfl rfl)
theorem dX5_walls_14 : decode cX5_walls 14 = .ok (.lconst 0, 1) := dk_9 (dk_at dksX5_walls_0 14 rfl rfl)
theorem dX5_walls_15 : decode cX5_walls 15 = .ok (.ldc2_w 351, 3) := dk_20 1 95 (dk_at dksX5_walls_0 15 rfl rfl)
theorem dX5_walls_18 : decode cX5_walls 18 = .ok (.invokestatic 136, 3) := dk_184 0 136 (dk_at dksX5_walls_0 18 rfl rfl)
theorem dX5_walls_21 : decode cX5_walls 21 = .ok (.ifCond .eq 11, 3) := dk_153 0 11 (dk_at dksX5_walls_0 21 rfl rfl)
theorem dX5_walls_24 : decode cX5_walls 24 = .ok (.aload_n 0, 1) := dk_42 (dk_at dksX5_walls_1 0 rfl rfl)
theorem dX5_walls_25 : decode cX5_walls 25 = .ok (.iload_n 1, 1) := dk_27 (dk_at dksX5_walls_1 1 rfl rfl)
theorem dX5_walls_26 : decode cX5_walls 26 = .ok (.invokevirtual 348, 3) := dk_182 1 92 (dk_at dksX5_walls_1 2 rfl rfl)
theorem dX5_walls_29 : decode cX5_walls 29 = .ok (.goto 5, 3) := dk_167 0 5 (dk_at dksX5_walls_1 5 rfl rfl)
theorem dX5_walls_32 : decode cX5_walls 32 = .ok (.bipush (-2), 2) := dk_16 254 (dk_at dksX5_walls_1 8 rfl rfl)
theorem dX5_walls_34 : decode cX5_walls 34 = .ok (.ireturn, 1) := dk_172 (dk_at dksX5_walls_1 10 rfl rfl)
abbrev cX5_wall : ByteArray := prog_10_method_83_code
def yX5_wall : MethodName := ⟨RX5, "wall", "(II)I"⟩
def dkwX5_wall_2 : List UInt8 := [167, 0, 5, 16, 254, 172]
abbrev dktX5_wall_2 : List UInt8 := dkwX5_wall_2 ++ []
def dkwX5_wall_1 : List UInt8 := [120, 4, 100, 133, 184, 0, 136, 153, 0, 20, 42, 27, 28, 182, 1, 89, 153, 0, 7, 4, 167, 0, 9, 3]
abbrev dktX5_wall_1 : List UInt8 := dkwX5_wall_1 ++ dktX5_wall_2
def dkwX5_wall_0 : List UInt8 := [42, 3, 181, 0, 131, 42, 27, 133, 182, 1, 29, 153, 0, 40, 28, 133, 9, 4, 42, 180, 0, 34, 3, 46]
abbrev dktX5_wall_0 : List UInt8 := dkwX5_wall_0 ++ dktX5_wall_1
theorem dksX5_wall_0 : cX5_wall.data.toList.drop 0 = dktX5_wall_0 := by decide +kernel
theorem dksX5_wall_1 : cX5_wall.data.toList.drop 24 = dktX5_wall_1 := dk_seg dksX5_wall_0 24 rfl rfl
theorem dksX5_wall_2 : cX5_wall.data.toList.drop 48 = dktX5_wall_2 := dk_seg dksX5_wall_1 24 rfl rfl
theorem dX5_wall_0 : decode cX5_wall 0 = .ok (.aload_n 0, 1) := dk_42 (dk_at dksX5_wall_0 0 rfl rfl)
theorem dX5_wall_1 : decode cX5_wall 1 = .ok (.iconst 0, 1) := dk_3 (dk_at dksX5_wall_0 1 rfl rfl)
theorem dX5_wall_2 : decode cX5_wall 2 = .ok (.putfield 131, 3) := dk_181 0 131 (dk_at dksX5_wall_0 2 rfl rfl)
theorem dX5_wall_5 : decode cX5_wall 5 = .ok (.aload_n 0, 1) := dk_42 (dk_at dksX5_wall_0 5 rfl rfl)
theorem dX5_wall_6 : decode cX5_wall 6 = .ok (.iload_n 1, 1) := dk_27 (dk_at dksX5_wall_0 6 rfl rfl)
theorem dX5_wall_7 : decode cX5_wall 7 = .ok (.i2l, 1) := dk_133 (dk_at dksX5_wall_0 7 rfl rfl)
theorem dX5_wall_8 : decode cX5_wall 8 = .ok (.invokevirtual 285, 3) := dk_182 1 29 (dk_at dksX5_wall_0 8 rfl rfl)
theorem dX5_wall_11 : decode cX5_wall 11 = .ok (.ifCond .eq 40, 3) := dk_153 0 40 (dk_at dksX5_wall_0 11 rfl rfl)
theorem dX5_wall_14 : decode cX5_wall 14 = .ok (.iload_n 2, 1) := dk_28 (dk_at dksX5_wall_0 14 rfl rfl)
theorem dX5_wall_15 : decode cX5_wall 15 = .ok (.i2l, 1) := dk_133 (dk_at dksX5_wall_0 15 rfl rfl)
theorem dX5_wall_16 : decode cX5_wall 16 = .ok (.lconst 0, 1) := dk_9 (dk_at dksX5_wall_0 16 rfl rfl)
theorem dX5_wall_17 : decode cX5_wall 17 = .ok (.iconst 1, 1) := dk_4 (dk_at dksX5_wall_0 17 rfl rfl)
theorem dX5_wall_18 : decode cX5_wall 18 = .ok (.aload_n 0, 1) := dk_42 (dk_at dksX5_wall_0 18 rfl rfl)
theorem dX5_wall_19 : decode cX5_wall 19 = .ok (.getfield 34, 3) := dk_180 0 34 (dk_at dksX5_wall_0 19 rfl rfl)
theorem dX5_wall_22 : decode cX5_wall 22 = .ok (.iconst 0, 1) := dk_3 (dk_at dksX5_wall_0 22 rfl rfl)
theorem dX5_wall_23 : decode cX5_wall 23 = .ok (.iaload, 1) := dk_46 (dk_at dksX5_wall_0 23 rfl rfl)
theorem dX5_wall_24 : decode cX5_wall 24 = .ok (.ishl, 1) := dk_120 (dk_at dksX5_wall_1 0 rfl rfl)
theorem dX5_wall_25 : decode cX5_wall 25 = .ok (.iconst 1, 1) := dk_4 (dk_at dksX5_wall_1 1 rfl rfl)
theorem dX5_wall_26 : decode cX5_wall 26 = .ok (.isub, 1) := dk_100 (dk_at dksX5_wall_1 2 rfl rfl)
theorem dX5_wall_27 : decode cX5_wall 27 = .ok (.i2l, 1) := dk_133 (dk_at dksX5_wall_1 3 rfl rfl)
theorem dX5_wall_28 : decode cX5_wall 28 = .ok (.invokestatic 136, 3) := dk_184 0 136 (dk_at dksX5_wall_1 4 rfl rfl)
theorem dX5_wall_31 : decode cX5_wall 31 = .ok (.ifCond .eq 20, 3) := dk_153 0 20 (dk_at dksX5_wall_1 7 rfl rfl)
theorem dX5_wall_34 : decode cX5_wall 34 = .ok (.aload_n 0, 1) := dk_42 (dk_at dksX5_wall_1 10 rfl rfl)
theorem dX5_wall_35 : decode cX5_wall 35 = .ok (.iload_n 1, 1) := dk_27 (dk_at dksX5_wall_1 11 rfl rfl)
theorem dX5_wall_36 : decode cX5_wall 36 = .ok (.iload_n 2, 1) := dk_28 (dk_at dksX5_wall_1 12 rfl rfl)
theorem dX5_wall_37 : decode cX5_wall 37 = .ok (.invokevirtual 345, 3) := dk_182 1 89 (dk_at dksX5_wall_1 13 rfl rfl)
theorem dX5_wall_40 : decode cX5_wall 40 = .ok (.ifCond .eq 7, 3) := dk_153 0 7 (dk_at dksX5_wall_1 16 rfl rfl)
theorem dX5_wall_43 : decode cX5_wall 43 = .ok (.iconst 1, 1) := dk_4 (dk_at dksX5_wall_1 19 rfl rfl)
theorem dX5_wall_44 : decode cX5_wall 44 = .ok (.goto 9, 3) := dk_167 0 9 (dk_at dksX5_wall_1 20 rfl rfl)
theorem dX5_wall_47 : decode cX5_wall 47 = .ok (.iconst 0, 1) := dk_3 (dk_at dksX5_wall_1 23 rfl rfl)
theorem dX5_wall_48 : decode cX5_wall 48 = .ok (.goto 5, 3) := dk_167 0 5 (dk_at dksX5_wall_2 0 rfl rfl)
theorem dX5_wall_51 : decode cX5_wall 51 = .ok (.bipush (-2), 2) := dk_16 254 (dk_at dksX5_wall_2 3 rfl rfl)
theorem dX5_wall_53 : decode cX5_wall 53 = .ok (.ireturn, 1) := dk_172 (dk_at dksX5_wall_2 5 rfl rfl)
abbrev cX5_turnings : ByteArray := prog_10_method_88_code
def yX5_turnings : MethodName := ⟨RX5, "turnings", "()I"⟩
def dkwX5_turnings_0 : List UInt8 := [42, 3, 181, 0, 131, 42, 182, 1, 23, 154, 0, 6, 16, 254, 172, 42, 182, 1, 109, 42, 180, 1, 97, 172]
abbrev dktX5_turnings_0 : List UInt8 := dkwX5_turnings_0 ++ []
theorem dksX5_turnings_0 : cX5_turnings.data.toList.drop 0 = dktX5_turnings_0 := by decide +kernel
theorem dX5_turnings_0 : decode cX5_turnings 0 = .ok (.aload_n 0, 1) := dk_42 (dk_at dksX5_turnings_0 0 rfl rfl)
theorem dX5_turnings_1 : decode cX5_turnings 1 = .ok (.iconst 0, 1) := dk_3 (dk_at dksX5_turnings_0 1 rfl rfl)
theorem dX5_turnings_2 : decode cX5_turnings 2 = .ok (.putfield 131, 3) := dk_181 0 131 (dk_at dksX5_turnings_0 2 rfl rfl)
theorem dX5_turnings_5 : decode cX5_turnings 5 = .ok (.aload_n 0, 1) := dk_42 (dk_at dksX5_turnings_0 5 rfl rfl)
theorem dX5_turnings_6 : decode cX5_turnings 6 = .ok (.invokevirtual 279, 3) := dk_182 1 23 (dk_at dksX5_turnings_0 6 rfl rfl)
theorem dX5_turnings_9 : decode cX5_turnings 9 = .ok (.ifCond .ne 6, 3) := dk_154 0 6 (dk_at dksX5_turnings_0 9 rfl rfl)
theorem dX5_turnings_12 : decode cX5_turnings 12 = .ok (.bipush (-2), 2) := dk_16 254 (dk_at dksX5_turnings_0 12 rfl rfl)
theorem dX5_turnings_14 : decode cX5_turnings 14 = .ok (.ireturn, 1) := dk_172 (dk_at dksX5_turnings_0 14 rfl rfl)
theorem dX5_turnings_15 : decode cX5_turnings 15 = .ok (.aload_n 0, 1) := dk_42 (dk_at dksX5_turnings_0 15 rfl rfl)
theorem dX5_turnings_16 : decode cX5_turnings 16 = .ok (.invokevirtual 365, 3) := dk_182 1 109 (dk_at dksX5_turnings_0 16 rfl rfl)
theorem dX5_turnings_19 : decode cX5_turnings 19 = .ok (.aload_n 0, 1) := dk_42 (dk_at dksX5_turnings_0 19 rfl rfl)
theorem dX5_turnings_20 : decode cX5_turnings 20 = .ok (.getfield 353, 3) := dk_180 1 97 (dk_at dksX5_turnings_0 20 rfl rfl)
theorem dX5_turnings_23 : decode cX5_turnings 23 = .ok (.ireturn, 1) := dk_172 (dk_at dksX5_turnings_0 23 rfl rfl)
abbrev cX5_laysTurnings : ByteArray := prog_10_method_85_code
def yX5_laysTurnings : MethodName := ⟨RX5, "laysTurnings", "()V"⟩
def dkwX5_laysTurnings_0 : List UInt8 := [42, 3, 181, 1, 97, 42, 3, 3, 182, 1, 100, 177]
abbrev dktX5_laysTurnings_0 : List UInt8 := dkwX5_laysTurnings_0 ++ []
theorem dksX5_laysTurnings_0 : cX5_laysTurnings.data.toList.drop 0 = dktX5_laysTurnings_0 := by decide +kernel
theorem dX5_laysTurnings_0 : decode cX5_laysTurnings 0 = .ok (.aload_n 0, 1) := dk_42 (dk_at dksX5_laysTurnings_0 0 rfl rfl)
theorem dX5_laysTurnings_1 : decode cX5_laysTurnings 1 = .ok (.iconst 0, 1) := dk_3 (dk_at dksX5_laysTurnings_0 1 rfl rfl)
theorem dX5_laysTurnings_2 : decode cX5_laysTurnings 2 = .ok (.putfield 353, 3) := dk_181 1 97 (dk_at dksX5_laysTurnings_0 2 rfl rfl)
theorem dX5_laysTurnings_5 : decode cX5_laysTurnings 5 = .ok (.aload_n 0, 1) := dk_42 (dk_at dksX5_laysTurnings_0 5 rfl rfl)
theorem dX5_laysTurnings_6 : decode cX5_laysTurnings 6 = .ok (.iconst 0, 1) := dk_3 (dk_at dksX5_laysTurnings_0 6 rfl rfl)
theorem dX5_laysTurnings_7 : decode cX5_laysTurnings 7 = .ok (.iconst 0, 1) := dk_3 (dk_at dksX5_laysTurnings_0 7 rfl rfl)
theorem dX5_laysTurnings_8 : decode cX5_laysTurnings 8 = .ok (.invokevirtual 356, 3) := dk_182 1 100 (dk_at dksX5_laysTurnings_0 8 rfl rfl)
theorem dX5_laysTurnings_11 : decode cX5_laysTurnings 11 = .ok (.return_, 1) := dk_177 (dk_at dksX5_laysTurnings_0 11 rfl rfl)
abbrev cX5_orders : ByteArray := prog_10_method_86_code
def yX5_orders : MethodName := ⟨RX5, "orders", "(II)V"⟩
def dkwX5_orders_6 : List UInt8 := [167, 255, 173, 177]
abbrev dktX5_orders_6 : List UInt8 := dkwX5_orders_6 ++ []
def dkwX5_orders_5 : List UInt8 := [42, 42, 180, 1, 97, 182, 1, 103, 153, 0, 13, 42, 89, 180, 1, 97, 4, 96, 181, 1, 97, 132, 3, 1]
abbrev dktX5_orders_5 : List UInt8 := dkwX5_orders_5 ++ dktX5_orders_6
def dkwX5_orders_4 : List UInt8 := [42, 180, 0, 86, 21, 4, 46, 79, 132, 4, 1, 167, 255, 221, 42, 180, 0, 83, 42, 180, 1, 97, 29, 79]
abbrev dktX5_orders_4 : List UInt8 := dkwX5_orders_4 ++ dktX5_orders_5
def dkwX5_orders_3 : List UInt8 := [21, 4, 42, 180, 0, 34, 3, 46, 162, 0, 30, 42, 180, 0, 80, 8, 42, 180, 1, 97, 104, 21, 4, 96]
abbrev dktX5_orders_3 : List UInt8 := dkwX5_orders_3 ++ dktX5_orders_4
def dkwX5_orders_2 : List UInt8 := [128, 182, 1, 100, 132, 3, 1, 167, 255, 213, 177, 3, 62, 29, 42, 182, 1, 26, 162, 0, 81, 3, 54, 4]
abbrev dktX5_orders_2 : List UInt8 := dkwX5_orders_2 ++ dktX5_orders_3
def dkwX5_orders_1 : List UInt8 := [184, 1, 32, 153, 0, 6, 167, 0, 22, 42, 180, 0, 86, 27, 29, 79, 42, 27, 4, 96, 28, 4, 29, 120]
abbrev dktX5_orders_1 : List UInt8 := dkwX5_orders_1 ++ dktX5_orders_2
def dkwX5_orders_0 : List UInt8 := [27, 42, 180, 0, 34, 3, 46, 162, 0, 52, 3, 62, 29, 42, 180, 0, 34, 3, 46, 162, 0, 39, 28, 29]
abbrev dktX5_orders_0 : List UInt8 := dkwX5_orders_0 ++ dktX5_orders_1
theorem dksX5_orders_0 : cX5_orders.data.toList.drop 0 = dktX5_orders_0 := by decide +kernel
theorem dksX5_orders_1 : cX5_orders.data.toList.drop 24 = dktX5_orders_1 := dk_seg dksX5_orders_0 24 rfl rfl
theorem dksX5_orders_2 : cX5_orders.data.toList.drop 48 = dktX5_orders_2 := dk_seg dksX5_orders_1 24 rfl rfl
theorem dksX5_orders_3 : cX5_orders.data.toList.drop 72 = dktX5_orders_3 := dk_seg dksX5_orders_2 24 rfl rfl
theorem dksX5_orders_4 : cX5_orders.data.toList.drop 96 = dktX5_orders_4 := dk_seg dksX5_orders_3 24 rfl rfl
theorem dksX5_orders_5 : cX5_orders.data.toList.drop 120 = dktX5_orders_5 := dk_seg dksX5_orders_4 24 rfl rfl
theorem dksX5_orders_6 : cX5_orders.data.toList.drop 144 = dktX5_orders_6 := dk_seg dksX5_orders_5 24 rfl rfl
theorem dX5_orders_0 : decode cX5_orders 0 = .ok (.iload_n 1, 1) := dk_27 (dk_at dksX5_orders_0 0 rfl rfl)
theorem dX5_orders_1 : decode cX5_orders 1 = .ok (.aload_n 0, 1) := dk_42 (dk_at dksX5_orders_0 1 rfl rfl)
theorem dX5_orders_2 : decode cX5_orders 2 = .ok (.getfield 34, 3) := dk_180 0 34 (dk_at dksX5_orders_0 2 rfl rfl)
theorem dX5_orders_5 : decode cX5_orders 5 = .ok (.iconst 0, 1) := dk_3 (dk_at dksX5_orders_0 5 rfl rfl)
theorem dX5_orders_6 : decode cX5_orders 6 = .ok (.iaload, 1) := dk_46 (dk_at dksX5_orders_0 6 rfl rfl)
theorem dX5_orders_7 : decode cX5_orders 7 = .ok (.if_icmp .ge 52, 3) := dk_162 0 52 (dk_at dksX5_orders_0 7 rfl rfl)
theorem dX5_orders_10 : decode cX5_orders 10 = .ok (.iconst 0, 1) := dk_3 (dk_at dksX5_orders_0 10 rfl rfl)
theorem dX5_orders_11 : decode cX5_orders 11 = .ok (.istore_n 3, 1) := dk_62 (dk_at dksX5_orders_0 11 rfl rfl)
theorem dX5_orders_12 : decode cX5_orders 12 = .ok (.iload_n 3, 1) := dk_29 (dk_at dksX5_orders_0 12 rfl rfl)
theorem dX5_orders_13 : decode cX5_orders 13 = .ok (.aload_n 0, 1) := dk_42 (dk_at dksX5_orders_0 13 rfl rfl)
theorem dX5_orders_14 : decode cX5_orders 14 = .ok (.getfield 34, 3) := dk_180 0 34 (dk_at dksX5_orders_0 14 rfl rfl)
theorem dX5_orders_17 : decode cX5_orders 17 = .ok (.iconst 0, 1) := dk_3 (dk_at dksX5_orders_0 17 rfl rfl)
theorem dX5_orders_18 : decode cX5_orders 18 = .ok (.iaload, 1) := dk_46 (dk_at dksX5_orders_0 18 rfl rfl)
theorem dX5_orders_19 : decode cX5_orders 19 = .ok (.if_icmp .ge 39, 3) := dk_162 0 39 (dk_at dksX5_orders_0 19 rfl rfl)
theorem dX5_orders_22 : decode cX5_orders 22 = .ok (.iload_n 2, 1) := dk_28 (dk_at dksX5_orders_0 22 rfl rfl)
theorem dX5_orders_23 : decode cX5_orders 23 = .ok (.iload_n 3, 1) := dk_29 (dk_at dksX5_orders_0 23 rfl rfl)
theorem dX5_orders_24 : decode cX5_orders 24 = .ok (.invokestatic 288, 3) := dk_184 1 32 (dk_at dksX5_orders_1 0 rfl rfl)
theorem dX5_orders_27 : decode cX5_orders 27 = .ok (.ifCond .eq 6, 3) := dk_153 0 6 (dk_at dksX5_orders_1 3 rfl rfl)
theorem dX5_orders_30 : decode cX5_orders 30 = .ok (.goto 22, 3) := dk_167 0 22 (dk_at dksX5_orders_1 6 rfl rfl)
theorem dX5_orders_33 : decode cX5_orders 33 = .ok (.aload_n 0, 1) := dk_42 (dk_at dksX5_orders_1 9 rfl rfl)
theorem dX5_orders_34 : decode cX5_orders 34 = .ok (.getfield 86, 3) := dk_180 0 86 (dk_at dksX5_orders_1 10 rfl rfl)
theorem dX5_orders_37 : decode cX5_orders 37 = .ok (.iload_n 1, 1) := dk_27 (dk_at dksX5_orders_1 13 rfl rfl)
theorem dX5_orders_38 : decode cX5_orders 38 = .ok (.iload_n 3, 1) := dk_29 (dk_at dksX5_orders_1 14 rfl rfl)
theorem dX5_orders_39 : decode cX5_orders 39 = .ok (.iastore, 1) := dk_79 (dk_at dksX5_orders_1 15 rfl rfl)
theorem dX5_orders_40 : decode cX5_orders 40 = .ok (.aload_n 0, 1) := dk_42 (dk_at dksX5_orders_1 16 rfl rfl)
theorem dX5_orders_41 : decode cX5_orders 41 = .ok (.iload_n 1, 1) := dk_27 (dk_at dksX5_orders_1 17 rfl rfl)
theorem dX5_orders_42 : decode cX5_orders 42 = .ok (.iconst 1, 1) := dk_4 (dk_at dksX5_orders_1 18 rfl rfl)
theorem dX5_orders_43 : decode cX5_orders 43 = .ok (.iadd, 1) := dk_96 (dk_at dksX5_orders_1 19 rfl rfl)
theorem dX5_orders_44 : decode cX5_orders 44 = .ok (.iload_n 2, 1) := dk_28 (dk_at dksX5_orders_1 20 rfl rfl)
theorem dX5_orders_45 : decode cX5_orders 45 = .ok (.iconst 1, 1) := dk_4 (dk_at dksX5_orders_1 21 rfl rfl)
theorem dX5_orders_46 : decode cX5_orders 46 = .ok (.iload_n 3, 1) := dk_29 (dk_at dksX5_orders_1 22 rfl rfl)
theorem dX5_orders_47 : decode cX5_orders 47 = .ok (.ishl, 1) := dk_120 (dk_at dksX5_orders_1 23 rfl rfl)
theorem dX5_orders_48 : decode cX5_orders 48 = .ok (.ior, 1) := dk_128 (dk_at dksX5_orders_2 0 rfl rfl)
theorem dX5_orders_49 : decode cX5_orders 49 = .ok (.invokevirtual 356, 3) := dk_182 1 100 (dk_at dksX5_orders_2 1 rfl rfl)
theorem dX5_orders_52 : decode cX5_orders 52 = .ok (.iinc 3 1, 3) := dk_132 3 1 (dk_at dksX5_orders_2 4 rfl rfl)
theorem dX5_orders_55 : decode cX5_orders 55 = .ok (.goto (-43), 3) := dk_167 255 213 (dk_at dksX5_orders_2 7 rfl rfl)
theorem dX5_orders_58 : decode cX5_orders 58 = .ok (.return_, 1) := dk_177 (dk_at dksX5_orders_2 10 rfl rfl)
theorem dX5_orders_59 : decode cX5_orders 59 = .ok (.iconst 0, 1) := dk_3 (dk_at dksX5_orders_2 11 rfl rfl)
theorem dX5_orders_60 : decode cX5_orders 60 = .ok (.istore_n 3, 1) := dk_62 (dk_at dksX5_orders_2 12 rfl rfl)
theorem dX5_orders_61 : decode cX5_orders 61 = .ok (.iload_n 3, 1) := dk_29 (dk_at dksX5_orders_2 13 rfl rfl)
theorem dX5_orders_62 : decode cX5_orders 62 = .ok (.aload_n 0, 1) := dk_42 (dk_at dksX5_orders_2 14 rfl rfl)
theorem dX5_orders_63 : decode cX5_orders 63 = .ok (.invokevirtual 282, 3) := dk_182 1 26 (dk_at dksX5_orders_2 15 rfl rfl)
theorem dX5_orders_66 : decode cX5_orders 66 = .ok (.if_icmp .ge 81, 3) := dk_162 0 81 (dk_at dksX5_orders_2 18 rfl rfl)
theorem dX5_orders_69 : decode cX5_orders 69 = .ok (.iconst 0, 1) := dk_3 (dk_at dksX5_orders_2 21 rfl rfl)
theorem dX5_orders_70 : decode cX5_orders 70 = .ok (.istore 4, 2) := dk_54 4 (dk_at dksX5_orders_2 22 rfl rfl)
theorem dX5_orders_72 : decode cX5_orders 72 = .ok (.iload 4, 2) := dk_21 4 (dk_at dksX5_orders_3 0 rfl rfl)
theorem dX5_orders_74 : decode cX5_orders 74 = .ok (.aload_n 0, 1) := dk_42 (dk_at dksX5_orders_3 2 rfl rfl)
theorem dX5_orders_75 : decode cX5_orders 75 = .ok (.getfield 34, 3) := dk_180 0 34 (dk_at dksX5_orders_3 3 rfl rfl)
theorem dX5_orders_78 : decode cX5_orders 78 = .ok (.iconst 0, 1) := dk_3 (dk_at dksX5_orders_3 6 rfl rfl)
theorem dX5_orders_79 : decode cX5_orders 79 = .ok (.iaload, 1) := dk_46 (dk_at dksX5_orders_3 7 rfl rfl)
theorem dX5_orders_80 : decode cX5_orders 80 = .ok (.if_icmp .ge 30, 3) := dk_162 0 30 (dk_at dksX5_orders_3 8 rfl rfl)
theorem dX5_orders_83 : decode cX5_orders 83 = .ok (.aload_n 0, 1) := dk_42 (dk_at dksX5_orders_3 11 rfl rfl)
theorem dX5_orders_84 : decode cX5_orders 84 = .ok (.getfield 80, 3) := dk_180 0 80 (dk_at dksX5_orders_3 12 rfl rfl)
theorem dX5_orders_87 : decode cX5_orders 87 = .ok (.iconst 5, 1) := dk_8 (dk_at dksX5_orders_3 15 rfl rfl)
theorem dX5_orders_88 : decode cX5_orders 88 = .ok (.aload_n 0, 1) := dk_42 (dk_at dksX5_orders_3 16 rfl rfl)
theorem dX5_orders_89 : decode cX5_orders 89 = .ok (.getfield 353, 3) := dk_180 1 97 (dk_at dksX5_orders_3 17 rfl rfl)
theorem dX5_orders_92 : decode cX5_orders 92 = .ok (.imul, 1) := dk_104 (dk_at dksX5_orders_3 20 rfl rfl)
theorem dX5_orders_93 : decode cX5_orders 93 = .ok (.iload 4, 2) := dk_21 4 (dk_at dksX5_orders_3 21 rfl rfl)
theorem dX5_orders_95 : decode cX5_orders 95 = .ok (.iadd, 1) := dk_96 (dk_at dksX5_orders_3 23 rfl rfl)
theorem dX5_orders_96 : decode cX5_orders 96 = .ok (.aload_n 0, 1) := dk_42 (dk_at dksX5_orders_4 0 rfl rfl)
theorem dX5_orders_97 : decode cX5_orders 97 = .ok (.getfield 86, 3) := dk_180 0 86 (dk_at dksX5_orders_4 1 rfl rfl)
theorem dX5_orders_100 : decode cX5_orders 100 = .ok (.iload 4, 2) := dk_21 4 (dk_at dksX5_orders_4 4 rfl rfl)
theorem dX5_orders_102 : decode cX5_orders 102 = .ok (.iaload, 1) := dk_46 (dk_at dksX5_orders_4 6 rfl rfl)
theorem dX5_orders_103 : decode cX5_orders 103 = .ok (.iastore, 1) := dk_79 (dk_at dksX5_orders_4 7 rfl rfl)
theorem dX5_orders_104 : decode cX5_orders 104 = .ok (.iinc 4 1, 3) := dk_132 4 1 (dk_at dksX5_orders_4 8 rfl rfl)
theorem dX5_orders_107 : decode cX5_orders 107 = .ok (.goto (-35), 3) := dk_167 255 221 (dk_at dksX5_orders_4 11 rfl rfl)
theorem dX5_orders_110 : decode cX5_orders 110 = .ok (.aload_n 0, 1) := dk_42 (dk_at dksX5_orders_4 14 rfl rfl)
theorem dX5_orders_111 : decode cX5_orders 111 = .ok (.getfield 83, 3) := dk_180 0 83 (dk_at dksX5_orders_4 15 rfl rfl)
theorem dX5_orders_114 : decode cX5_orders 114 = .ok (.aload_n 0, 1) := dk_42 (dk_at dksX5_orders_4 18 rfl rfl)
theorem dX5_orders_115 : decode cX5_orders 115 = .ok (.getfield 353, 3) := dk_180 1 97 (dk_at dksX5_orders_4 19 rfl rfl)
theorem dX5_orders_118 : decode cX5_orders 118 = .ok (.iload_n 3, 1) := dk_29 (dk_at dksX5_orders_4 22 rfl rfl)
theorem dX5_orders_119 : decode cX5_orders 119 = .ok (.iastore, 1) := dk_79 (dk_at dksX5_orders_4 23 rfl rfl)
theorem dX5_orders_120 : decode cX5_orders 120 = .ok (.aload_n 0, 1) := dk_42 (dk_at dksX5_orders_5 0 rfl rfl)
theorem dX5_orders_121 : decode cX5_orders 121 = .ok (.aload_n 0, 1) := dk_42 (dk_at dksX5_orders_5 1 rfl rfl)
theorem dX5_orders_122 : decode cX5_orders 122 = .ok (.getfield 353, 3) := dk_180 1 97 (dk_at dksX5_orders_5 2 rfl rfl)
theorem dX5_orders_125 : decode cX5_orders 125 = .ok (.invokevirtual 359, 3) := dk_182 1 103 (dk_at dksX5_orders_5 5 rfl rfl)
theorem dX5_orders_128 : decode cX5_orders 128 = .ok (.ifCond .eq 13, 3) := dk_153 0 13 (dk_at dksX5_orders_5 8 rfl rfl)
theorem dX5_orders_131 : decode cX5_orders 131 = .ok (.aload_n 0, 1) := dk_42 (dk_at dksX5_orders_5 11 rfl rfl)
theorem dX5_orders_132 : decode cX5_orders 132 = .ok (.dup, 1) := dk_89 (dk_at dksX5_orders_5 12 rfl rfl)
theorem dX5_orders_133 : decode cX5_orders 133 = .ok (.getfield 353, 3) := dk_180 1 97 (dk_at dksX5_orders_5 13 rfl rfl)
theorem dX5_orders_136 : decode cX5_orders 136 = .ok (.iconst 1, 1) := dk_4 (dk_at dksX5_orders_5 16 rfl rfl)
theorem dX5_orders_137 : decode cX5_orders 137 = .ok (.iadd, 1) := dk_96 (dk_at dksX5_orders_5 17 rfl rfl)
theorem dX5_orders_138 : decode cX5_orders 138 = .ok (.putfield 353, 3) := dk_181 1 97 (dk_at dksX5_orders_5 18 rfl rfl)
theorem dX5_orders_141 : decode cX5_orders 141 = .ok (.iinc 3 1, 3) := dk_132 3 1 (dk_at dksX5_orders_5 21 rfl rfl)
theorem dX5_orders_144 : decode cX5_orders 144 = .ok (.goto (-83), 3) := dk_167 255 173 (dk_at dksX5_orders_6 0 rfl rfl)
theorem dX5_orders_147 : decode cX5_orders 147 = .ok (.return_, 1) := dk_177 (dk_at dksX5_orders_6 3 rfl rfl)
abbrev cX5_keepsStreets : ByteArray := prog_10_method_87_code
def yX5_keepsStreets : MethodName := ⟨RX5, "keepsStreets", "(I)Z"⟩
def dkwX5_keepsStreets_3 : List UInt8 := [4, 172]
abbrev dktX5_keepsStreets_3 : List UInt8 := dkwX5_keepsStreets_3 ++ []
def dkwX5_keepsStreets_2 : List UInt8 := [21, 4, 96, 46, 182, 1, 39, 159, 0, 5, 3, 172, 132, 4, 1, 167, 255, 214, 132, 2, 1, 167, 255, 190]
abbrev dktX5_keepsStreets_2 : List UInt8 := dkwX5_keepsStreets_2 ++ dktX5_keepsStreets_3
def dkwX5_keepsStreets_1 : List UInt8 := [180, 0, 34, 3, 46, 162, 0, 37, 42, 28, 21, 4, 182, 1, 39, 42, 29, 42, 180, 0, 80, 8, 27, 104]
abbrev dktX5_keepsStreets_1 : List UInt8 := dkwX5_keepsStreets_1 ++ dktX5_keepsStreets_2
def dkwX5_keepsStreets_0 : List UInt8 := [3, 61, 28, 42, 182, 1, 26, 162, 0, 64, 42, 27, 28, 182, 1, 106, 62, 3, 54, 4, 21, 4, 42]
abbrev dktX5_keepsStreets_0 : List UInt8 := dkwX5_keepsStreets_0 ++ dktX5_keepsStreets_1
theorem dksX5_keepsStreets_0 : cX5_keepsStreets.data.toList.drop 0 = dktX5_keepsStreets_0 := by decide +kernel
theorem dksX5_keepsStreets_1 : cX5_keepsStreets.data.toList.drop 23 = dktX5_keepsStreets_1 := dk_seg dksX5_keepsStreets_0 23 rfl rfl
theorem dksX5_keepsStreets_2 : cX5_keepsStreets.data.toList.drop 47 = dktX5_keepsStreets_2 := dk_seg dksX5_keepsStreets_1 24 rfl rfl
theorem dksX5_keepsStreets_3 : cX5_keepsStreets.data.toList.drop 71 = dktX5_keepsStreets_3 := dk_seg dksX5_keepsStreets_2 24 rfl rfl
theorem dX5_keepsStreets_0 : decode cX5_keepsStreets 0 = .ok (.iconst 0, 1) := dk_3 (dk_at dksX5_keepsStreets_0 0 rfl rfl)
theorem dX5_keepsStreets_1 : decode cX5_keepsStreets 1 = .ok (.istore_n 2, 1) := dk_61 (dk_at dksX5_keepsStreets_0 1 rfl rfl)
theorem dX5_keepsStreets_2 : decode cX5_keepsStreets 2 = .ok (.iload_n 2, 1) := dk_28 (dk_at dksX5_keepsStreets_0 2 rfl rfl)
theorem dX5_keepsStreets_3 : decode cX5_keepsStreets 3 = .ok (.aload_n 0, 1) := dk_42 (dk_at dksX5_keepsStreets_0 3 rfl rfl)
theorem dX5_keepsStreets_4 : decode cX5_keepsStreets 4 = .ok (.invokevirtual 282, 3) := dk_182 1 26 (dk_at dksX5_keepsStreets_0 4 rfl rfl)
theorem dX5_keepsStreets_7 : decode cX5_keepsStreets 7 = .ok (.if_icmp .ge 64, 3) := dk_162 0 64 (dk_at dksX5_keepsStreets_0 7 rfl rfl)
theorem dX5_keepsStreets_10 : decode cX5_keepsStreets 10 = .ok (.aload_n 0, 1) := dk_42 (dk_at dksX5_keepsStreets_0 10 rfl rfl)
theorem dX5_keepsStreets_11 : decode cX5_keepsStreets 11 = .ok (.iload_n 1, 1) := dk_27 (dk_at dksX5_keepsStreets_0 11 rfl rfl)
theorem dX5_keepsStreets_12 : decode cX5_keepsStreets 12 = .ok (.iload_n 2, 1) := dk_28 (dk_at dksX5_keepsStreets_0 12 rfl rfl)
theorem dX5_keepsStreets_13 : decode cX5_keepsStreets 13 = .ok (.invokevirtual 362, 3) := dk_182 1 106 (dk_at dksX5_keepsStreets_0 13 rfl rfl)
theorem dX5_keepsStreets_16 : decode cX5_keepsStreets 16 = .ok (.istore_n 3, 1) := dk_62 (dk_at dksX5_keepsStreets_0 16 rfl rfl)
theorem dX5_keepsStreets_17 : decode cX5_keepsStreets 17 = .ok (.iconst 0, 1) := dk_3 (dk_at dksX5_keepsStreets_0 17 rfl rfl)
theorem dX5_keepsStreets_18 : decode cX5_keepsStreets 18 = .ok (.istore 4, 2) := dk_54 4 (dk_at dksX5_keepsStreets_0 18 rfl rfl)
theorem dX5_keepsStreets_20 : decode cX5_keepsStreets 20 = .ok (.iload 4, 2) := dk_21 4 (dk_at dksX5_keepsStreets_0 20 rfl rfl)
theorem dX5_keepsStreets_22 : decode cX5_keepsStreets 22 = .ok (.aload_n 0, 1) := dk_42 (dk_at dksX5_keepsStreets_0 22 rfl rfl)
theorem dX5_keepsStreets_23 : decode cX5_keepsStreets 23 = .ok (.getfield 34, 3) := dk_180 0 34 (dk_at dksX5_keepsStreets_1 0 rfl rfl)
theorem dX5_keepsStreets_26 : decode cX5_keepsStreets 26 = .ok (.iconst 0, 1) := dk_3 (dk_at dksX5_keepsStreets_1 3 rfl rfl)
theorem dX5_keepsStreets_27 : decode cX5_keepsStreets 27 = .ok (.iaload, 1) := dk_46 (dk_at dksX5_keepsStreets_1 4 rfl rfl)
theorem dX5_keepsStreets_28 : decode cX5_keepsStreets 28 = .ok (.if_icmp .ge 37, 3) := dk_162 0 37 (dk_at dksX5_keepsStreets_1 5 rfl rfl)
theorem dX5_keepsStreets_31 : decode cX5_keepsStreets 31 = .ok (.aload_n 0, 1) := dk_42 (dk_at dksX5_keepsStreets_1 8 rfl rfl)
theorem dX5_keepsStreets_32 : decode cX5_keepsStreets 32 = .ok (.iload_n 2, 1) := dk_28 (dk_at dksX5_keepsStreets_1 9 rfl rfl)
theorem dX5_keepsStreets_33 : decode cX5_keepsStreets 33 = .ok (.iload 4, 2) := dk_21 4 (dk_at dksX5_keepsStreets_1 10 rfl rfl)
theorem dX5_keepsStreets_35 : decode cX5_keepsStreets 35 = .ok (.invokevirtual 295, 3) := dk_182 1 39 (dk_at dksX5_keepsStreets_1 12 rfl rfl)
theorem dX5_keepsStreets_38 : decode cX5_keepsStreets 38 = .ok (.aload_n 0, 1) := dk_42 (dk_at dksX5_keepsStreets_1 15 rfl rfl)
theorem dX5_keepsStreets_39 : decode cX5_keepsStreets 39 = .ok (.iload_n 3, 1) := dk_29 (dk_at dksX5_keepsStreets_1 16 rfl rfl)
theorem dX5_keepsStreets_40 : decode cX5_keepsStreets 40 = .ok (.aload_n 0, 1) := dk_42 (dk_at dksX5_keepsStreets_1 17 rfl rfl)
theorem dX5_keepsStreets_41 : decode cX5_keepsStreets 41 = .ok (.getfield 80, 3) := dk_180 0 80 (dk_at dksX5_keepsStreets_1 18 rfl rfl)
theorem dX5_keepsStreets_44 : decode cX5_keepsStreets 44 = .ok (.iconst 5, 1) := dk_8 (dk_at dksX5_keepsStreets_1 21 rfl rfl)
theorem dX5_keepsStreets_45 : decode cX5_keepsStreets 45 = .ok (.iload_n 1, 1) := dk_27 (dk_at dksX5_keepsStreets_1 22 rfl rfl)
theorem dX5_keepsStreets_46 : decode cX5_keepsStreets 46 = .ok (.imul, 1) := dk_104 (dk_at dksX5_keepsStreets_1 23 rfl rfl)
theorem dX5_keepsStreets_47 : decode cX5_keepsStreets 47 = .ok (.iload 4, 2) := dk_21 4 (dk_at dksX5_keepsStreets_2 0 rfl rfl)
theorem dX5_keepsStreets_49 : decode cX5_keepsStreets 49 = .ok (.iadd, 1) := dk_96 (dk_at dksX5_keepsStreets_2 2 rfl rfl)
theorem dX5_keepsStreets_50 : decode cX5_keepsStreets 50 = .ok (.iaload, 1) := dk_46 (dk_at dksX5_keepsStreets_2 3 rfl rfl)
theorem dX5_keepsStreets_51 : decode cX5_keepsStreets 51 = .ok (.invokevirtual 295, 3) := dk_182 1 39 (dk_at dksX5_keepsStreets_2 4 rfl rfl)
theorem dX5_keepsStreets_54 : decode cX5_keepsStreets 54 = .ok (.if_icmp .eq 5, 3) := dk_159 0 5 (dk_at dksX5_keepsStreets_2 7 rfl rfl)
theorem dX5_keepsStreets_57 : decode cX5_keepsStreets 57 = .ok (.iconst 0, 1) := dk_3 (dk_at dksX5_keepsStreets_2 10 rfl rfl)
theorem dX5_keepsStreets_58 : decode cX5_keepsStreets 58 = .ok (.ireturn, 1) := dk_172 (dk_at dksX5_keepsStreets_2 11 rfl rfl)
theorem dX5_keepsStreets_59 : decode cX5_keepsStreets 59 = .ok (.iinc 4 1, 3) := dk_132 4 1 (dk_at dksX5_keepsStreets_2 12 rfl rfl)
theorem dX5_keepsStreets_62 : decode cX5_keepsStreets 62 = .ok (.goto (-42), 3) := dk_167 255 214 (dk_at dksX5_keepsStreets_2 15 rfl rfl)
theorem dX5_keepsStreets_65 : decode cX5_keepsStreets 65 = .ok (.iinc 2 1, 3) := dk_132 2 1 (dk_at dksX5_keepsStreets_2 18 rfl rfl)
theorem dX5_keepsStreets_68 : decode cX5_keepsStreets 68 = .ok (.goto (-66), 3) := dk_167 255 190 (dk_at dksX5_keepsStreets_2 21 rfl rfl)
theorem dX5_keepsStreets_71 : decode cX5_keepsStreets 71 = .ok (.iconst 1, 1) := dk_4 (dk_at dksX5_keepsStreets_3 0 rfl rfl)
theorem dX5_keepsStreets_72 : decode cX5_keepsStreets 72 = .ok (.ireturn, 1) := dk_172 (dk_at dksX5_keepsStreets_3 1 rfl rfl)
abbrev cX5_turnedBy : ByteArray := prog_10_method_84_code
def yX5_turnedBy : MethodName := ⟨RX5, "turnedBy", "(II)I"⟩
def dkwX5_turnedBy_2 : List UInt8 := [132, 4, 1, 167, 255, 213, 29, 42, 180, 0, 83, 27, 46, 130, 172]
abbrev dktX5_turnedBy_2 : List UInt8 := dkwX5_turnedBy_2 ++ []
def dkwX5_turnedBy_1 : List UInt8 := [153, 0, 19, 4, 42, 180, 0, 80, 8, 27, 104, 21, 4, 96, 46, 120, 167, 0, 4, 3, 128, 62]
abbrev dktX5_turnedBy_1 : List UInt8 := dkwX5_turnedBy_1 ++ dktX5_turnedBy_2
def dkwX5_turnedBy_0 : List UInt8 := [3, 62, 3, 54, 4, 21, 4, 42, 180, 0, 34, 3, 46, 162, 0, 38, 29, 28, 21, 4, 184, 1, 32]
abbrev dktX5_turnedBy_0 : List UInt8 := dkwX5_turnedBy_0 ++ dktX5_turnedBy_1
theorem dksX5_turnedBy_0 : cX5_turnedBy.data.toList.drop 0 = dktX5_turnedBy_0 := by decide +kernel
theorem dksX5_turnedBy_1 : cX5_turnedBy.data.toList.drop 23 = dktX5_turnedBy_1 := dk_seg dksX5_turnedBy_0 23 rfl rfl
theorem dksX5_turnedBy_2 : cX5_turnedBy.data.toList.drop 45 = dktX5_turnedBy_2 := dk_seg dksX5_turnedBy_1 22 rfl rfl
theorem dX5_turnedBy_0 : decode cX5_turnedBy 0 = .ok (.iconst 0, 1) := dk_3 (dk_at dksX5_turnedBy_0 0 rfl rfl)
theorem dX5_turnedBy_1 : decode cX5_turnedBy 1 = .ok (.istore_n 3, 1) := dk_62 (dk_at dksX5_turnedBy_0 1 rfl rfl)
theorem dX5_turnedBy_2 : decode cX5_turnedBy 2 = .ok (.iconst 0, 1) := dk_3 (dk_at dksX5_turnedBy_0 2 rfl rfl)
theorem dX5_turnedBy_3 : decode cX5_turnedBy 3 = .ok (.istore 4, 2) := dk_54 4 (dk_at dksX5_turnedBy_0 3 rfl rfl)
theorem dX5_turnedBy_5 : decode cX5_turnedBy 5 = .ok (.iload 4, 2) := dk_21 4 (dk_at dksX5_turnedBy_0 5 rfl rfl)
theorem dX5_turnedBy_7 : decode cX5_turnedBy 7 = .ok (.aload_n 0, 1) := dk_42 (dk_at dksX5_turnedBy_0 7 rfl rfl)
theorem dX5_turnedBy_8 : decode cX5_turnedBy 8 = .ok (.getfield 34, 3) := dk_180 0 34 (dk_at dksX5_turnedBy_0 8 rfl rfl)
theorem dX5_turnedBy_11 : decode cX5_turnedBy 11 = .ok (.iconst 0, 1) := dk_3 (dk_at dksX5_turnedBy_0 11 rfl rfl)
theorem dX5_turnedBy_12 : decode cX5_turnedBy 12 = .ok (.iaload, 1) := dk_46 (dk_at dksX5_turnedBy_0 12 rfl rfl)
theorem dX5_turnedBy_13 : decode cX5_turnedBy 13 = .ok (.if_icmp .ge 38, 3) := dk_162 0 38 (dk_at dksX5_turnedBy_0 13 rfl rfl)
theorem dX5_turnedBy_16 : decode cX5_turnedBy 16 = .ok (.iload_n 3, 1) := dk_29 (dk_at dksX5_turnedBy_0 16 rfl rfl)
theorem dX5_turnedBy_17 : decode cX5_turnedBy 17 = .ok (.iload_n 2, 1) := dk_28 (dk_at dksX5_turnedBy_0 17 rfl rfl)
theorem dX5_turnedBy_18 : decode cX5_turnedBy 18 = .ok (.iload 4, 2) := dk_21 4 (dk_at dksX5_turnedBy_0 18 rfl rfl)
theorem dX5_turnedBy_20 : decode cX5_turnedBy 20 = .ok (.invokestatic 288, 3) := dk_184 1 32 (dk_at dksX5_turnedBy_0 20 rfl rfl)
theorem dX5_turnedBy_23 : decode cX5_turnedBy 23 = .ok (.ifCond .eq 19, 3) := dk_153 0 19 (dk_at dksX5_turnedBy_1 0 rfl rfl)
theorem dX5_turnedBy_26 : decode cX5_turnedBy 26 = .ok (.iconst 1, 1) := dk_4 (dk_at dksX5_turnedBy_1 3 rfl rfl)
theorem dX5_turnedBy_27 : decode cX5_turnedBy 27 = .ok (.aload_n 0, 1) := dk_42 (dk_at dksX5_turnedBy_1 4 rfl rfl)
theorem dX5_turnedBy_28 : decode cX5_turnedBy 28 = .ok (.getfield 80, 3) := dk_180 0 80 (dk_at dksX5_turnedBy_1 5 rfl rfl)
theorem dX5_turnedBy_31 : decode cX5_turnedBy 31 = .ok (.iconst 5, 1) := dk_8 (dk_at dksX5_turnedBy_1 8 rfl rfl)
theorem dX5_turnedBy_32 : decode cX5_turnedBy 32 = .ok (.iload_n 1, 1) := dk_27 (dk_at dksX5_turnedBy_1 9 rfl rfl)
theorem dX5_turnedBy_33 : decode cX5_turnedBy 33 = .ok (.imul, 1) := dk_104 (dk_at dksX5_turnedBy_1 10 rfl rfl)
theorem dX5_turnedBy_34 : decode cX5_turnedBy 34 = .ok (.iload 4, 2) := dk_21 4 (dk_at dksX5_turnedBy_1 11 rfl rfl)
theorem dX5_turnedBy_36 : decode cX5_turnedBy 36 = .ok (.iadd, 1) := dk_96 (dk_at dksX5_turnedBy_1 13 rfl rfl)
theorem dX5_turnedBy_37 : decode cX5_turnedBy 37 = .ok (.iaload, 1) := dk_46 (dk_at dksX5_turnedBy_1 14 rfl rfl)
theorem dX5_turnedBy_38 : decode cX5_turnedBy 38 = .ok (.ishl, 1) := dk_120 (dk_at dksX5_turnedBy_1 15 rfl rfl)
theorem dX5_turnedBy_39 : decode cX5_turnedBy 39 = .ok (.goto 4, 3) := dk_167 0 4 (dk_at dksX5_turnedBy_1 16 rfl rfl)
theorem dX5_turnedBy_42 : decode cX5_turnedBy 42 = .ok (.iconst 0, 1) := dk_3 (dk_at dksX5_turnedBy_1 19 rfl rfl)
theorem dX5_turnedBy_43 : decode cX5_turnedBy 43 = .ok (.ior, 1) := dk_128 (dk_at dksX5_turnedBy_1 20 rfl rfl)
theorem dX5_turnedBy_44 : decode cX5_turnedBy 44 = .ok (.istore_n 3, 1) := dk_62 (dk_at dksX5_turnedBy_1 21 rfl rfl)
theorem dX5_turnedBy_45 : decode cX5_turnedBy 45 = .ok (.iinc 4 1, 3) := dk_132 4 1 (dk_at dksX5_turnedBy_2 0 rfl rfl)
theorem dX5_turnedBy_48 : decode cX5_turnedBy 48 = .ok (.goto (-43), 3) := dk_167 255 213 (dk_at dksX5_turnedBy_2 3 rfl rfl)
theorem dX5_turnedBy_51 : decode cX5_turnedBy 51 = .ok (.iload_n 3, 1) := dk_29 (dk_at dksX5_turnedBy_2 6 rfl rfl)
theorem dX5_turnedBy_52 : decode cX5_turnedBy 52 = .ok (.aload_n 0, 1) := dk_42 (dk_at dksX5_turnedBy_2 7 rfl rfl)
theorem dX5_turnedBy_53 : decode cX5_turnedBy 53 = .ok (.getfield 83, 3) := dk_180 0 83 (dk_at dksX5_turnedBy_2 8 rfl rfl)
theorem dX5_turnedBy_56 : decode cX5_turnedBy 56 = .ok (.iload_n 1, 1) := dk_27 (dk_at dksX5_turnedBy_2 11 rfl rfl)
theorem dX5_turnedBy_57 : decode cX5_turnedBy 57 = .ok (.iaload, 1) := dk_46 (dk_at dksX5_turnedBy_2 12 rfl rfl)
theorem dX5_turnedBy_58 : decode cX5_turnedBy 58 = .ok (.ixor, 1) := dk_130 (dk_at dksX5_turnedBy_2 13 rfl rfl)
theorem dX5_turnedBy_59 : decode cX5_turnedBy 59 = .ok (.ireturn, 1) := dk_172 (dk_at dksX5_turnedBy_2 14 rfl rfl)
abbrev cX5_orbit : ByteArray := prog_10_method_89_code
def yX5_orbit : MethodName := ⟨RX5, "orbit", "(I)I"⟩
def dkwX5_orbit_2 : List UInt8 := [182, 1, 106, 167, 0, 4, 28, 61, 132, 3, 1, 167, 255, 224, 28, 172]
abbrev dktX5_orbit_2 : List UInt8 := dkwX5_orbit_2 ++ []
def dkwX5_orbit_1 : List UInt8 := [62, 29, 42, 180, 1, 97, 162, 0, 30, 42, 29, 27, 182, 1, 106, 28, 162, 0, 12, 42, 29, 27]
abbrev dktX5_orbit_1 : List UInt8 := dkwX5_orbit_1 ++ dktX5_orbit_2
def dkwX5_orbit_0 : List UInt8 := [42, 3, 181, 0, 131, 42, 27, 133, 182, 1, 29, 154, 0, 6, 16, 254, 172, 42, 182, 1, 109, 27, 61, 3]
abbrev dktX5_orbit_0 : List UInt8 := dkwX5_orbit_0 ++ dktX5_orbit_1
theorem dksX5_orbit_0 : cX5_orbit.data.toList.drop 0 = dktX5_orbit_0 := by decide +kernel
theorem dksX5_orbit_1 : cX5_orbit.data.toList.drop 24 = dktX5_orbit_1 := dk_seg dksX5_orbit_0 24 rfl rfl
theorem dksX5_orbit_2 : cX5_orbit.data.toList.drop 46 = dktX5_orbit_2 := dk_seg dksX5_orbit_1 22 rfl rfl
theorem dX5_orbit_0 : decode cX5_orbit 0 = .ok (.aload_n 0, 1) := dk_42 (dk_at dksX5_orbit_0 0 rfl rfl)
theorem dX5_orbit_1 : decode cX5_orbit 1 = .ok (.iconst 0, 1) := dk_3 (dk_at dksX5_orbit_0 1 rfl rfl)
theorem dX5_orbit_2 : decode cX5_orbit 2 = .ok (.putfield 131, 3) := dk_181 0 131 (dk_at dksX5_orbit_0 2 rfl rfl)
theorem dX5_orbit_5 : decode cX5_orbit 5 = .ok (.aload_n 0, 1) := dk_42 (dk_at dksX5_orbit_0 5 rfl rfl)
theorem dX5_orbit_6 : decode cX5_orbit 6 = .ok (.iload_n 1, 1) := dk_27 (dk_at dksX5_orbit_0 6 rfl rfl)
theorem dX5_orbit_7 : decode cX5_orbit 7 = .ok (.i2l, 1) := dk_133 (dk_at dksX5_orbit_0 7 rfl rfl)
theorem dX5_orbit_8 : decode cX5_orbit 8 = .ok (.invokevirtual 285, 3) := dk_182 1 29 (dk_at dksX5_orbit_0 8 rfl rfl)
theorem dX5_orbit_11 : decode cX5_orbit 11 = .ok (.ifCond .ne 6, 3) := dk_154 0 6 (dk_at dksX5_orbit_0 11 rfl rfl)
theorem dX5_orbit_14 : decode cX5_orbit 14 = .ok (.bipush (-2), 2) := dk_16 254 (dk_at dksX5_orbit_0 14 rfl rfl)
theorem dX5_orbit_16 : decode cX5_orbit 16 = .ok (.ireturn, 1) := dk_172 (dk_at dksX5_orbit_0 16 rfl rfl)
theorem dX5_orbit_17 : decode cX5_orbit 17 = .ok (.aload_n 0, 1) := dk_42 (dk_at dksX5_orbit_0 17 rfl rfl)
theorem dX5_orbit_18 : decode cX5_orbit 18 = .ok (.invokevirtual 365, 3) := dk_182 1 109 (dk_at dksX5_orbit_0 18 rfl rfl)
theorem dX5_orbit_21 : decode cX5_orbit 21 = .ok (.iload_n 1, 1) := dk_27 (dk_at dksX5_orbit_0 21 rfl rfl)
theorem dX5_orbit_22 : decode cX5_orbit 22 = .ok (.istore_n 2, 1) := dk_61 (dk_at dksX5_orbit_0 22 rfl rfl)
theorem dX5_orbit_23 : decode cX5_orbit 23 = .ok (.iconst 0, 1) := dk_3 (dk_at dksX5_orbit_0 23 rfl rfl)
theorem dX5_orbit_24 : decode cX5_orbit 24 = .ok (.istore_n 3, 1) := dk_62 (dk_at dksX5_orbit_1 0 rfl rfl)
theorem dX5_orbit_25 : decode cX5_orbit 25 = .ok (.iload_n 3, 1) := dk_29 (dk_at dksX5_orbit_1 1 rfl rfl)
theorem dX5_orbit_26 : decode cX5_orbit 26 = .ok (.aload_n 0, 1) := dk_42 (dk_at dksX5_orbit_1 2 rfl rfl)
theorem dX5_orbit_27 : decode cX5_orbit 27 = .ok (.getfield 353, 3) := dk_180 1 97 (dk_at dksX5_orbit_1 3 rfl rfl)
theorem dX5_orbit_30 : decode cX5_orbit 30 = .ok (.if_icmp .ge 30, 3) := dk_162 0 30 (dk_at dksX5_orbit_1 6 rfl rfl)
theorem dX5_orbit_33 : decode cX5_orbit 33 = .ok (.aload_n 0, 1) := dk_42 (dk_at dksX5_orbit_1 9 rfl rfl)
theorem dX5_orbit_34 : decode cX5_orbit 34 = .ok (.iload_n 3, 1) := dk_29 (dk_at dksX5_orbit_1 10 rfl rfl)
theorem dX5_orbit_35 : decode cX5_orbit 35 = .ok (.iload_n 1, 1) := dk_27 (dk_at dksX5_orbit_1 11 rfl rfl)
theorem dX5_orbit_36 : decode cX5_orbit 36 = .ok (.invokevirtual 362, 3) := dk_182 1 106 (dk_at dksX5_orbit_1 12 rfl rfl)
theorem dX5_orbit_39 : decode cX5_orbit 39 = .ok (.iload_n 2, 1) := dk_28 (dk_at dksX5_orbit_1 15 rfl rfl)
theorem dX5_orbit_40 : decode cX5_orbit 40 = .ok (.if_icmp .ge 12, 3) := dk_162 0 12 (dk_at dksX5_orbit_1 16 rfl rfl)
theorem dX5_orbit_43 : decode cX5_orbit 43 = .ok (.aload_n 0, 1) := dk_42 (dk_at dksX5_orbit_1 19 rfl rfl)
theorem dX5_orbit_44 : decode cX5_orbit 44 = .ok (.iload_n 3, 1) := dk_29 (dk_at dksX5_orbit_1 20 rfl rfl)
theorem dX5_orbit_45 : decode cX5_orbit 45 = .ok (.iload_n 1, 1) := dk_27 (dk_at dksX5_orbit_1 21 rfl rfl)
theorem dX5_orbit_46 : decode cX5_orbit 46 = .ok (.invokevirtual 362, 3) := dk_182 1 106 (dk_at dksX5_orbit_2 0 rfl rfl)
theorem dX5_orbit_49 : decode cX5_orbit 49 = .ok (.goto 4, 3) := dk_167 0 4 (dk_at dksX5_orbit_2 3 rfl rfl)
theorem dX5_orbit_52 : decode cX5_orbit 52 = .ok (.iload_n 2, 1) := dk_28 (dk_at dksX5_orbit_2 6 rfl rfl)
theorem dX5_orbit_53 : decode cX5_orbit 53 = .ok (.istore_n 2, 1) := dk_61 (dk_at dksX5_orbit_2 7 rfl rfl)
theorem dX5_orbit_54 : decode cX5_orbit 54 = .ok (.iinc 3 1, 3) := dk_132 3 1 (dk_at dksX5_orbit_2 8 rfl rfl)
theorem dX5_orbit_57 : decode cX5_orbit 57 = .ok (.goto (-32), 3) := dk_167 255 224 (dk_at dksX5_orbit_2 11 rfl rfl)
theorem dX5_orbit_60 : decode cX5_orbit 60 = .ok (.iload_n 2, 1) := dk_28 (dk_at dksX5_orbit_2 14 rfl rfl)
theorem dX5_orbit_61 : decode cX5_orbit 61 = .ok (.ireturn, 1) := dk_172 (dk_at dksX5_orbit_2 15 rfl rfl)
abbrev cX5_still : ByteArray := prog_10_method_90_code
def yX5_still : MethodName := ⟨RX5, "still", "(I)I"⟩
def dkwX5_still_2 : List UInt8 := [3, 96, 61, 132, 3, 1, 167, 255, 227, 28, 172]
abbrev dktX5_still_2 : List UInt8 := dkwX5_still_2 ++ []
def dkwX5_still_1 : List UInt8 := [62, 29, 42, 180, 1, 97, 162, 0, 27, 28, 42, 29, 27, 182, 1, 106, 27, 160, 0, 7, 4, 167, 0, 4]
abbrev dktX5_still_1 : List UInt8 := dkwX5_still_1 ++ dktX5_still_2
def dkwX5_still_0 : List UInt8 := [42, 3, 181, 0, 131, 42, 27, 133, 182, 1, 29, 154, 0, 6, 16, 254, 172, 42, 182, 1, 109, 3, 61, 3]
abbrev dktX5_still_0 : List UInt8 := dkwX5_still_0 ++ dktX5_still_1
theorem dksX5_still_0 : cX5_still.data.toList.drop 0 = dktX5_still_0 := by decide +kernel
theorem dksX5_still_1 : cX5_still.data.toList.drop 24 = dktX5_still_1 := dk_seg dksX5_still_0 24 rfl rfl
theorem dksX5_still_2 : cX5_still.data.toList.drop 48 = dktX5_still_2 := dk_seg dksX5_still_1 24 rfl rfl
theorem dX5_still_0 : decode cX5_still 0 = .ok (.aload_n 0, 1) := dk_42 (dk_at dksX5_still_0 0 rfl rfl)
theorem dX5_still_1 : decode cX5_still 1 = .ok (.iconst 0, 1) := dk_3 (dk_at dksX5_still_0 1 rfl rfl)
theorem dX5_still_2 : decode cX5_still 2 = .ok (.putfield 131, 3) := dk_181 0 131 (dk_at dksX5_still_0 2 rfl rfl)
theorem dX5_still_5 : decode cX5_still 5 = .ok (.aload_n 0, 1) := dk_42 (dk_at dksX5_still_0 5 rfl rfl)
theorem dX5_still_6 : decode cX5_still 6 = .ok (.iload_n 1, 1) := dk_27 (dk_at dksX5_still_0 6 rfl rfl)
theorem dX5_still_7 : decode cX5_still 7 = .ok (.i2l, 1) := dk_133 (dk_at dksX5_still_0 7 rfl rfl)
theorem dX5_still_8 : decode cX5_still 8 = .ok (.invokevirtual 285, 3) := dk_182 1 29 (dk_at dksX5_still_0 8 rfl rfl)
theorem dX5_still_11 : decode cX5_still 11 = .ok (.ifCond .ne 6, 3) := dk_154 0 6 (dk_at dksX5_still_0 11 rfl rfl)
theorem dX5_still_14 : decode cX5_still 14 = .ok (.bipush (-2), 2) := dk_16 254 (dk_at dksX5_still_0 14 rfl rfl)
theorem dX5_still_16 : decode cX5_still 16 = .ok (.ireturn, 1) := dk_172 (dk_at dksX5_still_0 16 rfl rfl)
theorem dX5_still_17 : decode cX5_still 17 = .ok (.aload_n 0, 1) := dk_42 (dk_at dksX5_still_0 17 rfl rfl)
theorem dX5_still_18 : decode cX5_still 18 = .ok (.invokevirtual 365, 3) := dk_182 1 109 (dk_at dksX5_still_0 18 rfl rfl)
theorem dX5_still_21 : decode cX5_still 21 = .ok (.iconst 0, 1) := dk_3 (dk_at dksX5_still_0 21 rfl rfl)
theorem dX5_still_22 : decode cX5_still 22 = .ok (.istore_n 2, 1) := dk_61 (dk_at dksX5_still_0 22 rfl rfl)
theorem dX5_still_23 : decode cX5_still 23 = .ok (.iconst 0, 1) := dk_3 (dk_at dksX5_still_0 23 rfl rfl)
theorem dX5_still_24 : decode cX5_still 24 = .ok (.istore_n 3, 1) := dk_62 (dk_at dksX5_still_1 0 rfl rfl)
theorem dX5_still_25 : decode cX5_still 25 = .ok (.iload_n 3, 1) := dk_29 (dk_at dksX5_still_1 1 rfl rfl)
theorem dX5_still_26 : decode cX5_still 26 = .ok (.aload_n 0, 1) := dk_42 (dk_at dksX5_still_1 2 rfl rfl)
theorem dX5_still_27 : decode cX5_still 27 = .ok (.getfield 353, 3) := dk_180 1 97 (dk_at dksX5_still_1 3 rfl rfl)
theorem dX5_still_30 : decode cX5_still 30 = .ok (.if_icmp .ge 27, 3) := dk_162 0 27 (dk_at dksX5_still_1 6 rfl rfl)
theorem dX5_still_33 : decode cX5_still 33 = .ok (.iload_n 2, 1) := dk_28 (dk_at dksX5_still_1 9 rfl rfl)
theorem dX5_still_34 : decode cX5_still 34 = .ok (.aload_n 0, 1) := dk_42 (dk_at dksX5_still_1 10 rfl rfl)
theorem dX5_still_35 : decode cX5_still 35 = .ok (.iload_n 3, 1) := dk_29 (dk_at dksX5_still_1 11 rfl rfl)
theorem dX5_still_36 : decode cX5_still 36 = .ok (.iload_n 1, 1) := dk_27 (dk_at dksX5_still_1 12 rfl rfl)
theorem dX5_still_37 : decode cX5_still 37 = .ok (.invokevirtual 362, 3) := dk_182 1 106 (dk_at dksX5_still_1 13 rfl rfl)
theorem dX5_still_40 : decode cX5_still 40 = .ok (.iload_n 1, 1) := dk_27 (dk_at dksX5_still_1 16 rfl rfl)
theorem dX5_still_41 : decode cX5_still 41 = .ok (.if_icmp .ne 7, 3) := dk_160 0 7 (dk_at dksX5_still_1 17 rfl rfl)
theorem dX5_still_44 : decode cX5_still 44 = .ok (.iconst 1, 1) := dk_4 (dk_at dksX5_still_1 20 rfl rfl)
theorem dX5_still_45 : decode cX5_still 45 = .ok (.goto 4, 3) := dk_167 0 4 (dk_at dksX5_still_1 21 rfl rfl)
theorem dX5_still_48 : decode cX5_still 48 = .ok (.iconst 0, 1) := dk_3 (dk_at dksX5_still_2 0 rfl rfl)
theorem dX5_still_49 : decode cX5_still 49 = .ok (.iadd, 1) := dk_96 (dk_at dksX5_still_2 1 rfl rfl)
theorem dX5_still_50 : decode cX5_still 50 = .ok (.istore_n 2, 1) := dk_61 (dk_at dksX5_still_2 2 rfl rfl)
theorem dX5_still_51 : decode cX5_still 51 = .ok (.iinc 3 1, 3) := dk_132 3 1 (dk_at dksX5_still_2 3 rfl rfl)
theorem dX5_still_54 : decode cX5_still 54 = .ok (.goto (-29), 3) := dk_167 255 227 (dk_at dksX5_still_2 6 rfl rfl)
theorem dX5_still_57 : decode cX5_still 57 = .ok (.iload_n 2, 1) := dk_28 (dk_at dksX5_still_2 9 rfl rfl)
theorem dX5_still_58 : decode cX5_still 58 = .ok (.ireturn, 1) := dk_172 (dk_at dksX5_still_2 10 rfl rfl)
abbrev cX5_colours : ByteArray := prog_10_method_92_code
def yX5_colours : MethodName := ⟨RX5, "colours", "(I)J"⟩
def dkwX5_colours_4 : List UInt8 := [173]
abbrev dktX5_colours_4 : List UInt8 := dkwX5_colours_4 ++ []
def dkwX5_colours_3 : List UInt8 := [132, 7, 255, 167, 255, 241, 32, 22, 5, 97, 65, 132, 4, 1, 167, 255, 210, 32, 42, 180, 1, 97, 133, 109]
abbrev dktX5_colours_3 : List UInt8 := dkwX5_colours_3 ++ dktX5_colours_4
def dkwX5_colours_2 : List UInt8 := [55, 5, 42, 21, 4, 182, 1, 114, 54, 7, 21, 7, 158, 0, 16, 22, 5, 27, 133, 105, 55, 5]
abbrev dktX5_colours_2 : List UInt8 := dkwX5_colours_2 ++ dktX5_colours_3
def dkwX5_colours_1 : List UInt8 := [20, 1, 112, 173, 42, 182, 1, 109, 9, 65, 3, 54, 4, 21, 4, 42, 180, 1, 97, 162, 0, 43, 10]
abbrev dktX5_colours_1 : List UInt8 := dkwX5_colours_1 ++ dktX5_colours_2
def dkwX5_colours_0 : List UInt8 := [42, 3, 181, 0, 131, 42, 182, 1, 23, 153, 0, 15, 27, 133, 10, 20, 0, 134, 184, 0, 136, 154, 0, 7]
abbrev dktX5_colours_0 : List UInt8 := dkwX5_colours_0 ++ dktX5_colours_1
theorem dksX5_colours_0 : cX5_colours.data.toList.drop 0 = dktX5_colours_0 := by decide +kernel
theorem dksX5_colours_1 : cX5_colours.data.toList.drop 24 = dktX5_colours_1 := dk_seg dksX5_colours_0 24 rfl rfl
theorem dksX5_colours_2 : cX5_colours.data.toList.drop 47 = dktX5_colours_2 := dk_seg dksX5_colours_1 23 rfl rfl
theorem dksX5_colours_3 : cX5_colours.data.toList.drop 69 = dktX5_colours_3 := dk_seg dksX5_colours_2 22 rfl rfl
theorem dksX5_colours_4 : cX5_colours.data.toList.drop 93 = dktX5_colours_4 := dk_seg dksX5_colours_3 24 rfl rfl
theorem dX5_colours_0 : decode cX5_colours 0 = .ok (.aload_n 0, 1) := dk_42 (dk_at dksX5_colours_0 0 rfl rfl)
theorem dX5_colours_1 : decode cX5_colours 1 = .ok (.iconst 0, 1) := dk_3 (dk_at dksX5_colours_0 1 rfl rfl)
theorem dX5_colours_2 : decode cX5_colours 2 = .ok (.putfield 131, 3) := dk_181 0 131 (dk_at dksX5_colours_0 2 rfl rfl)
theorem dX5_colours_5 : decode cX5_colours 5 = .ok (.aload_n 0, 1) := dk_42 (dk_at dksX5_colours_0 5 rfl rfl)
theorem dX5_colours_6 : decode cX5_colours 6 = .ok (.invokevirtual 279, 3) := dk_182 1 23 (dk_at dksX5_colours_0 6 rfl rfl)
theorem dX5_colours_9 : decode cX5_colours 9 = .ok (.ifCond .eq 15, 3) := dk_153 0 15 (dk_at dksX5_colours_0 9 rfl rfl)
theorem dX5_colours_12 : decode cX5_colours 12 = .ok (.iload_n 1, 1) := dk_27 (dk_at dksX5_colours_0 12 rfl rfl)
theorem dX5_colours_13 : decode cX5_colours 13 = .ok (.i2l, 1) := dk_133 (dk_at dksX5_colours_0 13 rfl rfl)
theorem dX5_colours_14 : decode cX5_colours 14 = .ok (.lconst 1, 1) := dk_10 (dk_at dksX5_colours_0 14 rfl rfl)
theorem dX5_colours_15 : decode cX5_colours 15 = .ok (.ldc2_w 134, 3) := dk_20 0 134 (dk_at dksX5_colours_0 15 rfl rfl)
theorem dX5_colours_18 : decode cX5_colours 18 = .ok (.invokestatic 136, 3) := dk_184 0 136 (dk_at dksX5_colours_0 18 rfl rfl)
theorem dX5_colours_21 : decode cX5_colours 21 = .ok (.ifCond .ne 7, 3) := dk_154 0 7 (dk_at dksX5_colours_0 21 rfl rfl)
theorem dX5_colours_24 : decode cX5_colours 24 = .ok (.ldc2_w 368, 3) := dk_20 1 112 (dk_at dksX5_colours_1 0 rfl rfl)
theorem dX5_colours_27 : decode cX5_colours 27 = .ok (.lreturn, 1) := dk_173 (dk_at dksX5_colours_1 3 rfl rfl)
theorem dX5_colours_28 : decode cX5_colours 28 = .ok (.aload_n 0, 1) := dk_42 (dk_at dksX5_colours_1 4 rfl rfl)
theorem dX5_colours_29 : decode cX5_colours 29 = .ok (.invokevirtual 365, 3) := dk_182 1 109 (dk_at dksX5_colours_1 5 rfl rfl)
theorem dX5_colours_32 : decode cX5_colours 32 = .ok (.lconst 0, 1) := dk_9 (dk_at dksX5_colours_1 8 rfl rfl)
theorem dX5_colours_33 : decode cX5_colours 33 = .ok (.lstore_n 2, 1) := dk_65 (dk_at dksX5_colours_1 9 rfl rfl)
theorem dX5_colours_34 : decode cX5_colours 34 = .ok (.iconst 0, 1) := dk_3 (dk_at dksX5_colours_1 10 rfl rfl)
theorem dX5_colours_35 : decode cX5_colours 35 = .ok (.istore 4, 2) := dk_54 4 (dk_at dksX5_colours_1 11 rfl rfl)
theorem dX5_colours_37 : decode cX5_colours 37 = .ok (.iload 4, 2) := dk_21 4 (dk_at dksX5_colours_1 13 rfl rfl)
theorem dX5_colours_39 : decode cX5_colours 39 = .ok (.aload_n 0, 1) := dk_42 (dk_at dksX5_colours_1 15 rfl rfl)
theorem dX5_colours_40 : decode cX5_colours 40 = .ok (.getfield 353, 3) := dk_180 1 97 (dk_at dksX5_colours_1 16 rfl rfl)
theorem dX5_colours_43 : decode cX5_colours 43 = .ok (.if_icmp .ge 43, 3) := dk_162 0 43 (dk_at dksX5_colours_1 19 rfl rfl)
theorem dX5_colours_46 : decode cX5_colours 46 = .ok (.lconst 1, 1) := dk_10 (dk_at dksX5_colours_1 22 rfl rfl)
theorem dX5_colours_47 : decode cX5_colours 47 = .ok (.lstore 5, 2) := dk_55 5 (dk_at dksX5_colours_2 0 rfl rfl)
theorem dX5_colours_49 : decode cX5_colours 49 = .ok (.aload_n 0, 1) := dk_42 (dk_at dksX5_colours_2 2 rfl rfl)
theorem dX5_colours_50 : decode cX5_colours 50 = .ok (.iload 4, 2) := dk_21 4 (dk_at dksX5_colours_2 3 rfl rfl)
theorem dX5_colours_52 : decode cX5_colours 52 = .ok (.invokevirtual 370, 3) := dk_182 1 114 (dk_at dksX5_colours_2 5 rfl rfl)
theorem dX5_colours_55 : decode cX5_colours 55 = .ok (.istore 7, 2) := dk_54 7 (dk_at dksX5_colours_2 8 rfl rfl)
theorem dX5_colours_57 : decode cX5_colours 57 = .ok (.iload 7, 2) := dk_21 7 (dk_at dksX5_colours_2 10 rfl rfl)
theorem dX5_colours_59 : decode cX5_colours 59 = .ok (.ifCond .le 16, 3) := dk_158 0 16 (dk_at dksX5_colours_2 12 rfl rfl)
theorem dX5_colours_62 : decode cX5_colours 62 = .ok (.lload 5, 2) := dk_22 5 (dk_at dksX5_colours_2 15 rfl rfl)
theorem dX5_colours_64 : decode cX5_colours 64 = .ok (.iload_n 1, 1) := dk_27 (dk_at dksX5_colours_2 17 rfl rfl)
theorem dX5_colours_65 : decode cX5_colours 65 = .ok (.i2l, 1) := dk_133 (dk_at dksX5_colours_2 18 rfl rfl)
theorem dX5_colours_66 : decode cX5_colours 66 = .ok (.lmul, 1) := dk_105 (dk_at dksX5_colours_2 19 rfl rfl)
theorem dX5_colours_67 : decode cX5_colours 67 = .ok (.lstore 5, 2) := dk_55 5 (dk_at dksX5_colours_2 20 rfl rfl)
theorem dX5_colours_69 : decode cX5_colours 69 = .ok (.iinc 7 (-1), 3) := dk_132 7 255 (dk_at dksX5_colours_3 0 rfl rfl)
theorem dX5_colours_72 : decode cX5_colours 72 = .ok (.goto (-15), 3) := dk_167 255 241 (dk_at dksX5_colours_3 3 rfl rfl)
theorem dX5_colours_75 : decode cX5_colours 75 = .ok (.lload_n 2, 1) := dk_32 (dk_at dksX5_colours_3 6 rfl rfl)
theorem dX5_colours_76 : decode cX5_colours 76 = .ok (.lload 5, 2) := dk_22 5 (dk_at dksX5_colours_3 7 rfl rfl)
theorem dX5_colours_78 : decode cX5_colours 78 = .ok (.ladd, 1) := dk_97 (dk_at dksX5_colours_3 9 rfl rfl)
theorem dX5_colours_79 : decode cX5_colours 79 = .ok (.lstore_n 2, 1) := dk_65 (dk_at dksX5_colours_3 10 rfl rfl)
theorem dX5_colours_80 : decode cX5_colours 80 = .ok (.iinc 4 1, 3) := dk_132 4 1 (dk_at dksX5_colours_3 11 rfl rfl)
theorem dX5_colours_83 : decode cX5_colours 83 = .ok (.goto (-46), 3) := dk_167 255 210 (dk_at dksX5_colours_3 14 rfl rfl)
theorem dX5_colours_86 : decode cX5_colours 86 = .ok (.lload_n 2, 1) := dk_32 (dk_at dksX5_colours_3 17 rfl rfl)
theorem dX5_colours_87 : decode cX5_colours 87 = .ok (.aload_n 0, 1) := dk_42 (dk_at dksX5_colours_3 18 rfl rfl)
theorem dX5_colours_88 : decode cX5_colours 88 = .ok (.getfield 353, 3) := dk_180 1 97 (dk_at dksX5_colours_3 19 rfl rfl)
theorem dX5_colours_91 : decode cX5_colours 91 = .ok (.i2l, 1) := dk_133 (dk_at dksX5_colours_3 22 rfl rfl)
theorem dX5_colours_92 : decode cX5_colours 92 = .ok (.ldiv, 1) := dk_109 (dk_at dksX5_colours_3 23 rfl rfl)
theorem dX5_colours_93 : decode cX5_colours 93 = .ok (.lreturn, 1) := dk_173 (dk_at dksX5_colours_4 0 rfl rfl)
abbrev cX5_ringsOf : ByteArray := prog_10_method_91_code
def yX5_ringsOf : MethodName := ⟨RX5, "ringsOf", "(I)I"⟩
def dkwX5_ringsOf_3 : List UInt8 := [132, 5, 1, 167, 255, 193, 21, 4, 172]
abbrev dktX5_ringsOf_3 : List UInt8 := dkwX5_ringsOf_3 ++ []
def dkwX5_ringsOf_2 : List UInt8 := [154, 0, 22, 32, 10, 21, 6, 121, 129, 65, 42, 27, 21, 6, 182, 1, 106, 54, 6, 167, 255, 229]
abbrev dktX5_ringsOf_2 : List UInt8 := dkwX5_ringsOf_2 ++ dktX5_ringsOf_3
def dkwX5_ringsOf_1 : List UInt8 := [148, 154, 0, 6, 167, 0, 40, 132, 4, 1, 21, 5, 54, 6, 32, 21, 6, 123, 10, 127, 9, 148]
abbrev dktX5_ringsOf_1 : List UInt8 := dkwX5_ringsOf_1 ++ dktX5_ringsOf_2
def dkwX5_ringsOf_0 : List UInt8 := [9, 65, 3, 54, 4, 3, 54, 5, 21, 5, 42, 182, 1, 26, 162, 0, 60, 32, 21, 5, 123, 10, 127, 10]
abbrev dktX5_ringsOf_0 : List UInt8 := dkwX5_ringsOf_0 ++ dktX5_ringsOf_1
theorem dksX5_ringsOf_0 : cX5_ringsOf.data.toList.drop 0 = dktX5_ringsOf_0 := by decide +kernel
theorem dksX5_ringsOf_1 : cX5_ringsOf.data.toList.drop 24 = dktX5_ringsOf_1 := dk_seg dksX5_ringsOf_0 24 rfl rfl
theorem dksX5_ringsOf_2 : cX5_ringsOf.data.toList.drop 46 = dktX5_ringsOf_2 := dk_seg dksX5_ringsOf_1 22 rfl rfl
theorem dksX5_ringsOf_3 : cX5_ringsOf.data.toList.drop 68 = dktX5_ringsOf_3 := dk_seg dksX5_ringsOf_2 22 rfl rfl
theorem dX5_ringsOf_0 : decode cX5_ringsOf 0 = .ok (.lconst 0, 1) := dk_9 (dk_at dksX5_ringsOf_0 0 rfl rfl)
theorem dX5_ringsOf_1 : decode cX5_ringsOf 1 = .ok (.lstore_n 2, 1) := dk_65 (dk_at dksX5_ringsOf_0 1 rfl rfl)
theorem dX5_ringsOf_2 : decode cX5_ringsOf 2 = .ok (.iconst 0, 1) := dk_3 (dk_at dksX5_ringsOf_0 2 rfl rfl)
theorem dX5_ringsOf_3 : decode cX5_ringsOf 3 = .ok (.istore 4, 2) := dk_54 4 (dk_at dksX5_ringsOf_0 3 rfl rfl)
theorem dX5_ringsOf_5 : decode cX5_ringsOf 5 = .ok (.iconst 0, 1) := dk_3 (dk_at dksX5_ringsOf_0 5 rfl rfl)
theorem dX5_ringsOf_6 : decode cX5_ringsOf 6 = .ok (.istore 5, 2) := dk_54 5 (dk_at dksX5_ringsOf_0 6 rfl rfl)
theorem dX5_ringsOf_8 : decode cX5_ringsOf 8 = .ok (.iload 5, 2) := dk_21 5 (dk_at dksX5_ringsOf_0 8 rfl rfl)
theorem dX5_ringsOf_10 : decode cX5_ringsOf 10 = .ok (.aload_n 0, 1) := dk_42 (dk_at dksX5_ringsOf_0 10 rfl rfl)
theorem dX5_ringsOf_11 : decode cX5_ringsOf 11 = .ok (.invokevirtual 282, 3) := dk_182 1 26 (dk_at dksX5_ringsOf_0 11 rfl rfl)
theorem dX5_ringsOf_14 : decode cX5_ringsOf 14 = .ok (.if_icmp .ge 60, 3) := dk_162 0 60 (dk_at dksX5_ringsOf_0 14 rfl rfl)
theorem dX5_ringsOf_17 : decode cX5_ringsOf 17 = .ok (.lload_n 2, 1) := dk_32 (dk_at dksX5_ringsOf_0 17 rfl rfl)
theorem dX5_ringsOf_18 : decode cX5_ringsOf 18 = .ok (.iload 5, 2) := dk_21 5 (dk_at dksX5_ringsOf_0 18 rfl rfl)
theorem dX5_ringsOf_20 : decode cX5_ringsOf 20 = .ok (.lshr, 1) := dk_123 (dk_at dksX5_ringsOf_0 20 rfl rfl)
theorem dX5_ringsOf_21 : decode cX5_ringsOf 21 = .ok (.lconst 1, 1) := dk_10 (dk_at dksX5_ringsOf_0 21 rfl rfl)
theorem dX5_ringsOf_22 : decode cX5_ringsOf 22 = .ok (.land, 1) := dk_127 (dk_at dksX5_ringsOf_0 22 rfl rfl)
theorem dX5_ringsOf_23 : decode cX5_ringsOf 23 = .ok (.lconst 1, 1) := dk_10 (dk_at dksX5_ringsOf_0 23 rfl rfl)
theorem dX5_ringsOf_24 : decode cX5_ringsOf 24 = .ok (.lcmp, 1) := dk_148 (dk_at dksX5_ringsOf_1 0 rfl rfl)
theorem dX5_ringsOf_25 : decode cX5_ringsOf 25 = .ok (.ifCond .ne 6, 3) := dk_154 0 6 (dk_at dksX5_ringsOf_1 1 rfl rfl)
theorem dX5_ringsOf_28 : decode cX5_ringsOf 28 = .ok (.goto 40, 3) := dk_167 0 40 (dk_at dksX5_ringsOf_1 4 rfl rfl)
theorem dX5_ringsOf_31 : decode cX5_ringsOf 31 = .ok (.iinc 4 1, 3) := dk_132 4 1 (dk_at dksX5_ringsOf_1 7 rfl rfl)
theorem dX5_ringsOf_34 : decode cX5_ringsOf 34 = .ok (.iload 5, 2) := dk_21 5 (dk_at dksX5_ringsOf_1 10 rfl rfl)
theorem dX5_ringsOf_36 : decode cX5_ringsOf 36 = .ok (.istore 6, 2) := dk_54 6 (dk_at dksX5_ringsOf_1 12 rfl rfl)
theorem dX5_ringsOf_38 : decode cX5_ringsOf 38 = .ok (.lload_n 2, 1) := dk_32 (dk_at dksX5_ringsOf_1 14 rfl rfl)
theorem dX5_ringsOf_39 : decode cX5_ringsOf 39 = .ok (.iload 6, 2) := dk_21 6 (dk_at dksX5_ringsOf_1 15 rfl rfl)
theorem dX5_ringsOf_41 : decode cX5_ringsOf 41 = .ok (.lshr, 1) := dk_123 (dk_at dksX5_ringsOf_1 17 rfl rfl)
theorem dX5_ringsOf_42 : decode cX5_ringsOf 42 = .ok (.lconst 1, 1) := dk_10 (dk_at dksX5_ringsOf_1 18 rfl rfl)
theorem dX5_ringsOf_43 : decode cX5_ringsOf 43 = .ok (.land, 1) := dk_127 (dk_at dksX5_ringsOf_1 19 rfl rfl)
theorem dX5_ringsOf_44 : decode cX5_ringsOf 44 = .ok (.lconst 0, 1) := dk_9 (dk_at dksX5_ringsOf_1 20 rfl rfl)
theorem dX5_ringsOf_45 : decode cX5_ringsOf 45 = .ok (.lcmp, 1) := dk_148 (dk_at dksX5_ringsOf_1 21 rfl rfl)
theorem dX5_ringsOf_46 : decode cX5_ringsOf 46 = .ok (.ifCond .ne 22, 3) := dk_154 0 22 (dk_at dksX5_ringsOf_2 0 rfl rfl)
theorem dX5_ringsOf_49 : decode cX5_ringsOf 49 = .ok (.lload_n 2, 1) := dk_32 (dk_at dksX5_ringsOf_2 3 rfl rfl)
theorem dX5_ringsOf_50 : decode cX5_ringsOf 50 = .ok (.lconst 1, 1) := dk_10 (dk_at dksX5_ringsOf_2 4 rfl rfl)
theorem dX5_ringsOf_51 : decode cX5_ringsOf 51 = .ok (.iload 6, 2) := dk_21 6 (dk_at dksX5_ringsOf_2 5 rfl rfl)
theorem dX5_ringsOf_53 : decode cX5_ringsOf 53 = .ok (.lshl, 1) := dk_121 (dk_at dksX5_ringsOf_2 7 rfl rfl)
theorem dX5_ringsOf_54 : decode cX5_ringsOf 54 = .ok (.lor, 1) := dk_129 (dk_at dksX5_ringsOf_2 8 rfl rfl)
theorem dX5_ringsOf_55 : decode cX5_ringsOf 55 = .ok (.lstore_n 2, 1) := dk_65 (dk_at dksX5_ringsOf_2 9 rfl rfl)
theorem dX5_ringsOf_56 : decode cX5_ringsOf 56 = .ok (.aload_n 0, 1) := dk_42 (dk_at dksX5_ringsOf_2 10 rfl rfl)
theorem dX5_ringsOf_57 : decode cX5_ringsOf 57 = .ok (.iload_n 1, 1) := dk_27 (dk_at dksX5_ringsOf_2 11 rfl rfl)
theorem dX5_ringsOf_58 : decode cX5_ringsOf 58 = .ok (.iload 6, 2) := dk_21 6 (dk_at dksX5_ringsOf_2 12 rfl rfl)
theorem dX5_ringsOf_60 : decode cX5_ringsOf 60 = .ok (.invokevirtual 362, 3) := dk_182 1 106 (dk_at dksX5_ringsOf_2 14 rfl rfl)
theorem dX5_ringsOf_63 : decode cX5_ringsOf 63 = .ok (.istore 6, 2) := dk_54 6 (dk_at dksX5_ringsOf_2 17 rfl rfl)
theorem dX5_ringsOf_65 : decode cX5_ringsOf 65 = .ok (.goto (-27), 3) := dk_167 255 229 (dk_at dksX5_ringsOf_2 19 rfl rfl)
theorem dX5_ringsOf_68 : decode cX5_ringsOf 68 = .ok (.iinc 5 1, 3) := dk_132 5 1 (dk_at dksX5_ringsOf_3 0 rfl rfl)
theorem dX5_ringsOf_71 : decode cX5_ringsOf 71 = .ok (.goto (-63), 3) := dk_167 255 193 (dk_at dksX5_ringsOf_3 3 rfl rfl)
theorem dX5_ringsOf_74 : decode cX5_ringsOf 74 = .ok (.iload 4, 2) := dk_21 4 (dk_at dksX5_ringsOf_3 6 rfl rfl)
theorem dX5_ringsOf_76 : decode cX5_ringsOf 76 = .ok (.ireturn, 1) := dk_172 (dk_at dksX5_ringsOf_3 8 rfl rfl)
abbrev cX5_rounds : ByteArray := prog_10_method_97_code
def yX5_rounds : MethodName := ⟨RX5, "rounds", "()I"⟩
def dkwX5_rounds_1 : List UInt8 := [172]
abbrev dktX5_rounds_1 : List UInt8 := dkwX5_rounds_1 ++ []
def dkwX5_rounds_0 : List UInt8 := [42, 3, 181, 0, 131, 42, 182, 1, 127, 60, 27, 153, 0, 5, 27, 172, 42, 182, 1, 130, 42, 180, 1, 120]
abbrev dktX5_rounds_0 : List UInt8 := dkwX5_rounds_0 ++ dktX5_rounds_1
theorem dksX5_rounds_0 : cX5_rounds.data.toList.drop 0 = dktX5_rounds_0 := by decide +kernel
theorem dksX5_rounds_1 : cX5_rounds.data.toList.drop 24 = dktX5_rounds_1 := dk_seg dksX5_rounds_0 24 rfl rfl
theorem dX5_rounds_0 : decode cX5_rounds 0 = .ok (.aload_n 0, 1) := dk_42 (dk_at dksX5_rounds_0 0 rfl rfl)
theorem dX5_rounds_1 : decode cX5_rounds 1 = .ok (.iconst 0, 1) := dk_3 (dk_at dksX5_rounds_0 1 rfl rfl)
theorem dX5_rounds_2 : decode cX5_rounds 2 = .ok (.putfield 131, 3) := dk_181 0 131 (dk_at dksX5_rounds_0 2 rfl rfl)
theorem dX5_rounds_5 : decode cX5_rounds 5 = .ok (.aload_n 0, 1) := dk_42 (dk_at dksX5_rounds_0 5 rfl rfl)
theorem dX5_rounds_6 : decode cX5_rounds 6 = .ok (.invokevirtual 383, 3) := dk_182 1 127 (dk_at dksX5_rounds_0 6 rfl rfl)
theorem dX5_rounds_9 : decode cX5_rounds 9 = .ok (.istore_n 1, 1) := dk_60 (dk_at dksX5_rounds_0 9 rfl rfl)
theorem dX5_rounds_10 : decode cX5_rounds 10 = .ok (.iload_n 1, 1) := dk_27 (dk_at dksX5_rounds_0 10 rfl rfl)
theorem dX5_rounds_11 : decode cX5_rounds 11 = .ok (.ifCond .eq 5, 3) := dk_153 0 5 (dk_at dksX5_rounds_0 11 rfl rfl)
theorem dX5_rounds_14 : decode cX5_rounds 14 = .ok (.iload_n 1, 1) := dk_27 (dk_at dksX5_rounds_0 14 rfl rfl)
theorem dX5_rounds_15 : decode cX5_rounds 15 = .ok (.ireturn, 1) := dk_172 (dk_at dksX5_rounds_0 15 rfl rfl)
theorem dX5_rounds_16 : decode cX5_rounds 16 = .ok (.aload_n 0, 1) := dk_42 (dk_at dksX5_rounds_0 16 rfl rfl)
theorem dX5_rounds_17 : decode cX5_rounds 17 = .ok (.invokevirtual 386, 3) := dk_182 1 130 (dk_at dksX5_rounds_0 17 rfl rfl)
theorem dX5_rounds_20 : decode cX5_rounds 20 = .ok (.aload_n 0, 1) := dk_42 (dk_at dksX5_rounds_0 20 rfl rfl)
theorem dX5_rounds_21 : decode cX5_rounds 21 = .ok (.getfield 376, 3) := dk_180 1 120 (dk_at dksX5_rounds_0 21 rfl rfl)
theorem dX5_rounds_24 : decode cX5_rounds 24 = .ok (.ireturn, 1) := dk_172 (dk_at dksX5_rounds_1 0 rfl rfl)
abbrev cX5_whyNoRounds : ByteArray := prog_10_method_96_code
def yX5_whyNoRounds : MethodName := ⟨RX5, "whyNoRounds", "()I"⟩
def dkwX5_whyNoRounds_1 : List UInt8 := [167, 0, 4, 3, 172]
abbrev dktX5_whyNoRounds_1 : List UInt8 := dkwX5_whyNoRounds_1 ++ []
def dkwX5_whyNoRounds_0 : List UInt8 := [42, 182, 1, 23, 154, 0, 8, 16, 254, 167, 0, 19, 42, 180, 0, 34, 3, 46, 8, 160, 0, 8, 16, 247]
abbrev dktX5_whyNoRounds_0 : List UInt8 := dkwX5_whyNoRounds_0 ++ dktX5_whyNoRounds_1
theorem dksX5_whyNoRounds_0 : cX5_whyNoRounds.data.toList.drop 0 = dktX5_whyNoRounds_0 := by decide +kernel
theorem dksX5_whyNoRounds_1 : cX5_whyNoRounds.data.toList.drop 24 = dktX5_whyNoRounds_1 := dk_seg dksX5_whyNoRounds_0 24 rfl rfl
theorem dX5_whyNoRounds_0 : decode cX5_whyNoRounds 0 = .ok (.aload_n 0, 1) := dk_42 (dk_at dksX5_whyNoRounds_0 0 rfl rfl)
theorem dX5_whyNoRounds_1 : decode cX5_whyNoRounds 1 = .ok (.invokevirtual 279, 3) := dk_182 1 23 (dk_at dksX5_whyNoRounds_0 1 rfl rfl)
theorem dX5_whyNoRounds_4 : decode cX5_whyNoRounds 4 = .ok (.ifCond .ne 8, 3) := dk_154 0 8 (dk_at dksX5_whyNoRounds_0 4 rfl rfl)
theorem dX5_whyNoRounds_7 : decode cX5_whyNoRounds 7 = .ok (.bipush (-2), 2) := dk_16 254 (dk_at dksX5_whyNoRounds_0 7 rfl rfl)
theorem dX5_whyNoRounds_9 : decode cX5_whyNoRounds 9 = .ok (.goto 19, 3) := dk_167 0 19 (dk_at dksX5_whyNoRounds_0 9 rfl rfl)
theorem dX5_whyNoRounds_12 : decode cX5_whyNoRounds 12 = .ok (.aload_n 0, 1) := dk_42 (dk_at dksX5_whyNoRounds_0 12 rfl rfl)
theorem dX5_whyNoRounds_13 : decode cX5_whyNoRounds 13 = .ok (.getfield 34, 3) := dk_180 0 34 (dk_at dksX5_whyNoRounds_0 13 rfl rfl)
theorem dX5_whyNoRounds_16 : decode cX5_whyNoRounds 16 = .ok (.iconst 0, 1) := dk_3 (dk_at dksX5_whyNoRounds_0 16 rfl rfl)
theorem dX5_whyNoRounds_17 : decode cX5_whyNoRounds 17 = .ok (.iaload, 1) := dk_46 (dk_at dksX5_whyNoRounds_0 17 rfl rfl)
theorem dX5_whyNoRounds_18 : decode cX5_whyNoRounds 18 = .ok (.iconst 5, 1) := dk_8 (dk_at dksX5_whyNoRounds_0 18 rfl rfl)
theorem dX5_whyNoRounds_19 : decode cX5_whyNoRounds 19 = .ok (.if_icmp .ne 8, 3) := dk_160 0 8 (dk_at dksX5_whyNoRounds_0 19 rfl rfl)
theorem dX5_whyNoRounds_22 : decode cX5_whyNoRounds 22 = .ok (.bipush (-9), 2) := dk_16 247 (dk_at dksX5_whyNoRounds_0 22 rfl rfl)
theorem dX5_whyNoRounds_24 : decode cX5_whyNoRounds 24 = .ok (.goto 4, 3) := dk_167 0 4 (dk_at dksX5_whyNoRounds_1 0 rfl rfl)
theorem dX5_whyNoRounds_27 : decode cX5_whyNoRounds 27 = .ok (.iconst 0, 1) := dk_3 (dk_at dksX5_whyNoRounds_1 3 rfl rfl)
theorem dX5_whyNoRounds_28 : decode cX5_whyNoRounds 28 = .ok (.ireturn, 1) := dk_172 (dk_at dksX5_whyNoRounds_1 4 rfl rfl)
abbrev cX5_laysRounds : ByteArray := prog_10_method_94_code
def yX5_laysRounds : MethodName := ⟨RX5, "laysRounds", "()V"⟩
def dkwX5_laysRounds_0 : List UInt8 := [42, 182, 1, 117, 42, 3, 181, 1, 120, 42, 180, 0, 95, 3, 3, 79, 42, 4, 4, 3, 182, 1, 123, 177]
abbrev dktX5_laysRounds_0 : List UInt8 := dkwX5_laysRounds_0 ++ []
theorem dksX5_laysRounds_0 : cX5_laysRounds.data.toList.drop 0 = dktX5_laysRounds_0 := by decide +kernel
theorem dX5_laysRounds_0 : decode cX5_laysRounds 0 = .ok (.aload_n 0, 1) := dk_42 (dk_at dksX5_laysRounds_0 0 rfl rfl)
theorem dX5_laysRounds_1 : decode cX5_laysRounds 1 = .ok (.invokevirtual 373, 3) := dk_182 1 117 (dk_at dksX5_laysRounds_0 1 rfl rfl)
theorem dX5_laysRounds_4 : decode cX5_laysRounds 4 = .ok (.aload_n 0, 1) := dk_42 (dk_at dksX5_laysRounds_0 4 rfl rfl)
theorem dX5_laysRounds_5 : decode cX5_laysRounds 5 = .ok (.iconst 0, 1) := dk_3 (dk_at dksX5_laysRounds_0 5 rfl rfl)
theorem dX5_laysRounds_6 : decode cX5_laysRounds 6 = .ok (.putfield 376, 3) := dk_181 1 120 (dk_at dksX5_laysRounds_0 6 rfl rfl)
theorem dX5_laysRounds_9 : decode cX5_laysRounds 9 = .ok (.aload_n 0, 1) := dk_42 (dk_at dksX5_laysRounds_0 9 rfl rfl)
theorem dX5_laysRounds_10 : decode cX5_laysRounds 10 = .ok (.getfield 95, 3) := dk_180 0 95 (dk_at dksX5_laysRounds_0 10 rfl rfl)
theorem dX5_laysRounds_13 : decode cX5_laysRounds 13 = .ok (.iconst 0, 1) := dk_3 (dk_at dksX5_laysRounds_0 13 rfl rfl)
theorem dX5_laysRounds_14 : decode cX5_laysRounds 14 = .ok (.iconst 0, 1) := dk_3 (dk_at dksX5_laysRounds_0 14 rfl rfl)
theorem dX5_laysRounds_15 : decode cX5_laysRounds 15 = .ok (.iastore, 1) := dk_79 (dk_at dksX5_laysRounds_0 15 rfl rfl)
theorem dX5_laysRounds_16 : decode cX5_laysRounds 16 = .ok (.aload_n 0, 1) := dk_42 (dk_at dksX5_laysRounds_0 16 rfl rfl)
theorem dX5_laysRounds_17 : decode cX5_laysRounds 17 = .ok (.iconst 1, 1) := dk_4 (dk_at dksX5_laysRounds_0 17 rfl rfl)
theorem dX5_laysRounds_18 : decode cX5_laysRounds 18 = .ok (.iconst 1, 1) := dk_4 (dk_at dksX5_laysRounds_0 18 rfl rfl)
theorem dX5_laysRounds_19 : decode cX5_laysRounds 19 = .ok (.iconst 0, 1) := dk_3 (dk_at dksX5_laysRounds_0 19 rfl rfl)
theorem dX5_laysRounds_20 : decode cX5_laysRounds 20 = .ok (.invokevirtual 379, 3) := dk_182 1 123 (dk_at dksX5_laysRounds_0 20 rfl rfl)
theorem dX5_laysRounds_23 : decode cX5_laysRounds 23 = .ok (.return_, 1) := dk_177 (dk_at dksX5_laysRounds_0 23 rfl rfl)
abbrev cX5_laysNumbers : ByteArray := prog_10_method_93_code
def yX5_laysNumbers : MethodName := ⟨RX5, "laysNumbers", "()V"⟩
def dkwX5_laysNumbers_3 : List UInt8 := [132, 2, 1, 167, 255, 187, 177]
abbrev dktX5_laysNumbers_3 : List UInt8 := dkwX5_laysNumbers_3 ++ []
def dkwX5_laysNumbers_2 : List UInt8 := [180, 0, 89, 8, 28, 4, 29, 120, 130, 104, 29, 96, 27, 79, 132, 1, 1, 132, 3, 1, 167, 255, 203]
abbrev dktX5_laysNumbers_2 : List UInt8 := dkwX5_laysNumbers_2 ++ dktX5_laysNumbers_3
def dkwX5_laysNumbers_1 : List UInt8 := [28, 29, 184, 1, 32, 153, 0, 6, 167, 0, 32, 42, 180, 0, 89, 8, 28, 104, 29, 96, 27, 79, 42]
abbrev dktX5_laysNumbers_1 : List UInt8 := dkwX5_laysNumbers_1 ++ dktX5_laysNumbers_2
def dkwX5_laysNumbers_0 : List UInt8 := [3, 60, 3, 61, 28, 42, 182, 1, 26, 162, 0, 67, 3, 62, 29, 42, 180, 0, 34, 3, 46, 162, 0, 49]
abbrev dktX5_laysNumbers_0 : List UInt8 := dkwX5_laysNumbers_0 ++ dktX5_laysNumbers_1
theorem dksX5_laysNumbers_0 : cX5_laysNumbers.data.toList.drop 0 = dktX5_laysNumbers_0 := by decide +kernel
theorem dksX5_laysNumbers_1 : cX5_laysNumbers.data.toList.drop 24 = dktX5_laysNumbers_1 := dk_seg dksX5_laysNumbers_0 24 rfl rfl
theorem dksX5_laysNumbers_2 : cX5_laysNumbers.data.toList.drop 47 = dktX5_laysNumbers_2 := dk_seg dksX5_laysNumbers_1 23 rfl rfl
theorem dksX5_laysNumbers_3 : cX5_laysNumbers.data.toList.drop 70 = dktX5_laysNumbers_3 := dk_seg dksX5_laysNumbers_2 23 rfl rfl
theorem dX5_laysNumbers_0 : decode cX5_laysNumbers 0 = .ok (.iconst 0, 1) := dk_3 (dk_at dksX5_laysNumbers_0 0 rfl rfl)
theorem dX5_laysNumbers_1 : decode cX5_laysNumbers 1 = .ok (.istore_n 1, 1) := dk_60 (dk_at dksX5_laysNumbers_0 1 rfl rfl)
theorem dX5_laysNumbers_2 : decode cX5_laysNumbers 2 = .ok (.iconst 0, 1) := dk_3 (dk_at dksX5_laysNumbers_0 2 rfl rfl)
theorem dX5_laysNumbers_3 : decode cX5_laysNumbers 3 = .ok (.istore_n 2, 1) := dk_61 (dk_at dksX5_laysNumbers_0 3 rfl rfl)
theorem dX5_laysNumbers_4 : decode cX5_laysNumbers 4 = .ok (.iload_n 2, 1) := dk_28 (dk_at dksX5_laysNumbers_0 4 rfl rfl)
theorem dX5_laysNumbers_5 : decode cX5_laysNumbers 5 = .ok (.aload_n 0, 1) := dk_42 (dk_at dksX5_laysNumbers_0 5 rfl rfl)
theorem dX5_laysNumbers_6 : decode cX5_laysNumbers 6 = .ok (.invokevirtual 282, 3) := dk_182 1 26 (dk_at dksX5_laysNumbers_0 6 rfl rfl)
theorem dX5_laysNumbers_9 : decode cX5_laysNumbers 9 = .ok (.if_icmp .ge 67, 3) := dk_162 0 67 (dk_at dksX5_laysNumbers_0 9 rfl rfl)
theorem dX5_laysNumbers_12 : decode cX5_laysNumbers 12 = .ok (.iconst 0, 1) := dk_3 (dk_at dksX5_laysNumbers_0 12 rfl rfl)
theorem dX5_laysNumbers_13 : decode cX5_laysNumbers 13 = .ok (.istore_n 3, 1) := dk_62 (dk_at dksX5_laysNumbers_0 13 rfl rfl)
theorem dX5_laysNumbers_14 : decode cX5_laysNumbers 14 = .ok (.iload_n 3, 1) := dk_29 (dk_at dksX5_laysNumbers_0 14 rfl rfl)
theorem dX5_laysNumbers_15 : decode cX5_laysNumbers 15 = .ok (.aload_n 0, 1) := dk_42 (dk_at dksX5_laysNumbers_0 15 rfl rfl)
theorem dX5_laysNumbers_16 : decode cX5_laysNumbers 16 = .ok (.getfield 34, 3) := dk_180 0 34 (dk_at dksX5_laysNumbers_0 16 rfl rfl)
theorem dX5_laysNumbers_19 : decode cX5_laysNumbers 19 = .ok (.iconst 0, 1) := dk_3 (dk_at dksX5_laysNumbers_0 19 rfl rfl)
theorem dX5_laysNumbers_20 : decode cX5_laysNumbers 20 = .ok (.iaload, 1) := dk_46 (dk_at dksX5_laysNumbers_0 20 rfl rfl)
theorem dX5_laysNumbers_21 : decode cX5_laysNumbers 21 = .ok (.if_icmp .ge 49, 3) := dk_162 0 49 (dk_at dksX5_laysNumbers_0 21 rfl rfl)
theorem dX5_laysNumbers_24 : decode cX5_laysNumbers 24 = .ok (.iload_n 2, 1) := dk_28 (dk_at dksX5_laysNumbers_1 0 rfl rfl)
theorem dX5_laysNumbers_25 : decode cX5_laysNumbers 25 = .ok (.iload_n 3, 1) := dk_29 (dk_at dksX5_laysNumbers_1 1 rfl rfl)
theorem dX5_laysNumbers_26 : decode cX5_laysNumbers 26 = .ok (.invokestatic 288, 3) := dk_184 1 32 (dk_at dksX5_laysNumbers_1 2 rfl rfl)
theorem dX5_laysNumbers_29 : decode cX5_laysNumbers 29 = .ok (.ifCond .eq 6, 3) := dk_153 0 6 (dk_at dksX5_laysNumbers_1 5 rfl rfl)
theorem dX5_laysNumbers_32 : decode cX5_laysNumbers 32 = .ok (.goto 32, 3) := dk_167 0 32 (dk_at dksX5_laysNumbers_1 8 rfl rfl)
theorem dX5_laysNumbers_35 : decode cX5_laysNumbers 35 = .ok (.aload_n 0, 1) := dk_42 (dk_at dksX5_laysNumbers_1 11 rfl rfl)
theorem dX5_laysNumbers_36 : decode cX5_laysNumbers 36 = .ok (.getfield 89, 3) := dk_180 0 89 (dk_at dksX5_laysNumbers_1 12 rfl rfl)
theorem dX5_laysNumbers_39 : decode cX5_laysNumbers 39 = .ok (.iconst 5, 1) := dk_8 (dk_at dksX5_laysNumbers_1 15 rfl rfl)
theorem dX5_laysNumbers_40 : decode cX5_laysNumbers 40 = .ok (.iload_n 2, 1) := dk_28 (dk_at dksX5_laysNumbers_1 16 rfl rfl)
theorem dX5_laysNumbers_41 : decode cX5_laysNumbers 41 = .ok (.imul, 1) := dk_104 (dk_at dksX5_laysNumbers_1 17 rfl rfl)
theorem dX5_laysNumbers_42 : decode cX5_laysNumbers 42 = .ok (.iload_n 3, 1) := dk_29 (dk_at dksX5_laysNumbers_1 18 rfl rfl)
theorem dX5_laysNumbers_43 : decode cX5_laysNumbers 43 = .ok (.iadd, 1) := dk_96 (dk_at dksX5_laysNumbers_1 19 rfl rfl)
theorem dX5_laysNumbers_44 : decode cX5_laysNumbers 44 = .ok (.iload_n 1, 1) := dk_27 (dk_at dksX5_laysNumbers_1 20 rfl rfl)
theorem dX5_laysNumbers_45 : decode cX5_laysNumbers 45 = .ok (.iastore, 1) := dk_79 (dk_at dksX5_laysNumbers_1 21 rfl rfl)
theorem dX5_laysNumbers_46 : decode cX5_laysNumbers 46 = .ok (.aload_n 0, 1) := dk_42 (dk_at dksX5_laysNumbers_1 22 rfl rfl)
theorem dX5_laysNumbers_47 : decode cX5_laysNumbers 47 = .ok (.getfield 89, 3) := dk_180 0 89 (dk_at dksX5_laysNumbers_2 0 rfl rfl)
theorem dX5_laysNumbers_50 : decode cX5_laysNumbers 50 = .ok (.iconst 5, 1) := dk_8 (dk_at dksX5_laysNumbers_2 3 rfl rfl)
theorem dX5_laysNumbers_51 : decode cX5_laysNumbers 51 = .ok (.iload_n 2, 1) := dk_28 (dk_at dksX5_laysNumbers_2 4 rfl rfl)
theorem dX5_laysNumbers_52 : decode cX5_laysNumbers 52 = .ok (.iconst 1, 1) := dk_4 (dk_at dksX5_laysNumbers_2 5 rfl rfl)
theorem dX5_laysNumbers_53 : decode cX5_laysNumbers 53 = .ok (.iload_n 3, 1) := dk_29 (dk_at dksX5_laysNumbers_2 6 rfl rfl)
theorem dX5_laysNumbers_54 : decode cX5_laysNumbers 54 = .ok (.ishl, 1) := dk_120 (dk_at dksX5_laysNumbers_2 7 rfl rfl)
theorem dX5_laysNumbers_55 : decode cX5_laysNumbers 55 = .ok (.ixor, 1) := dk_130 (dk_at dksX5_laysNumbers_2 8 rfl rfl)
theorem dX5_laysNumbers_56 : decode cX5_laysNumbers 56 = .ok (.imul, 1) := dk_104 (dk_at dksX5_laysNumbers_2 9 rfl rfl)
theorem dX5_laysNumbers_57 : decode cX5_laysNumbers 57 = .ok (.iload_n 3, 1) := dk_29 (dk_at dksX5_laysNumbers_2 10 rfl rfl)
theorem dX5_laysNumbers_58 : decode cX5_laysNumbers 58 = .ok (.iadd, 1) := dk_96 (dk_at dksX5_laysNumbers_2 11 rfl rfl)
theorem dX5_laysNumbers_59 : decode cX5_laysNumbers 59 = .ok (.iload_n 1, 1) := dk_27 (dk_at dksX5_laysNumbers_2 12 rfl rfl)
theorem dX5_laysNumbers_60 : decode cX5_laysNumbers 60 = .ok (.iastore, 1) := dk_79 (dk_at dksX5_laysNumbers_2 13 rfl rfl)
theorem dX5_laysNumbers_61 : decode cX5_laysNumbers 61 = .ok (.iinc 1 1, 3) := dk_132 1 1 (dk_at dksX5_laysNumbers_2 14 rfl rfl)
theorem dX5_laysNumbers_64 : decode cX5_laysNumbers 64 = .ok (.iinc 3 1, 3) := dk_132 3 1 (dk_at dksX5_laysNumbers_2 17 rfl rfl)
theorem dX5_laysNumbers_67 : decode cX5_laysNumbers 67 = .ok (.goto (-53), 3) := dk_167 255 203 (dk_at dksX5_laysNumbers_2 20 rfl rfl)
theorem dX5_laysNumbers_70 : decode cX5_laysNumbers 70 = .ok (.iinc 2 1, 3) := dk_132 2 1 (dk_at dksX5_laysNumbers_3 0 rfl rfl)
theorem dX5_laysNumbers_73 : decode cX5_laysNumbers 73 = .ok (.goto (-69), 3) := dk_167 255 187 (dk_at dksX5_laysNumbers_3 3 rfl rfl)
theorem dX5_laysNumbers_76 : decode cX5_laysNumbers 76 = .ok (.return_, 1) := dk_177 (dk_at dksX5_laysNumbers_3 6 rfl rfl)
abbrev cX5_goesRound : ByteArray := prog_10_method_95_code
def yX5_goesRound : MethodName := ⟨RX5, "goesRound", "(III)V"⟩
def dkwX5_goesRound_9 : List UInt8 := [182, 1, 123, 132, 5, 1, 167, 255, 168, 177]
abbrev dktX5_goesRound_9 : List UInt8 := dkwX5_goesRound_9 ++ []
def dkwX5_goesRound_8 : List UInt8 := [4, 96, 28, 4, 21, 5, 120, 128, 29, 4, 42, 180, 0, 89, 8, 21, 4, 104, 21, 6, 96, 46, 120, 128]
abbrev dktX5_goesRound_8 : List UInt8 := dkwX5_goesRound_8 ++ dktX5_goesRound_9
def dkwX5_goesRound_7 : List UInt8 := [42, 21, 4, 21, 6, 182, 1, 39, 154, 0, 6, 167, 0, 40, 42, 180, 0, 95, 27, 21, 5, 79, 42, 27]
abbrev dktX5_goesRound_7 : List UInt8 := dkwX5_goesRound_7 ++ dktX5_goesRound_8
def dkwX5_goesRound_6 : List UInt8 := [21, 4, 21, 5, 182, 1, 62, 54, 6, 21, 6, 2, 159, 0, 63, 28, 21, 5, 184, 1, 32, 154, 0, 54]
abbrev dktX5_goesRound_6 : List UInt8 := dkwX5_goesRound_6 ++ dktX5_goesRound_7
def dkwX5_goesRound_5 : List UInt8 := [42, 89, 180, 1, 120, 4, 96, 181, 1, 120, 177, 3, 54, 5, 21, 5, 42, 182, 1, 26, 162, 0, 85, 42]
abbrev dktX5_goesRound_5 : List UInt8 := dkwX5_goesRound_5 ++ dktX5_goesRound_6
def dkwX5_goesRound_4 : List UInt8 := [180, 0, 92, 42, 180, 1, 120, 29, 4, 42, 180, 0, 89, 8, 21, 4, 104, 21, 5, 96, 46, 120, 128, 79]
abbrev dktX5_goesRound_4 : List UInt8 := dkwX5_goesRound_4 ++ dktX5_goesRound_5
def dkwX5_goesRound_3 : List UInt8 := [162, 0, 23, 42, 180, 0, 98, 21, 6, 42, 180, 0, 95, 21, 6, 46, 79, 132, 6, 1, 167, 255, 233, 42]
abbrev dktX5_goesRound_3 : List UInt8 := dkwX5_goesRound_3 ++ dktX5_goesRound_4
def dkwX5_goesRound_2 : List UInt8 := [180, 0, 95, 4, 46, 21, 4, 164, 0, 4, 177, 42, 180, 1, 120, 154, 0, 32, 3, 54, 6, 21, 6, 27]
abbrev dktX5_goesRound_2 : List UInt8 := dkwX5_goesRound_2 ++ dktX5_goesRound_3
def dkwX5_goesRound_1 : List UInt8 := [182, 1, 62, 54, 5, 21, 5, 2, 159, 0, 25, 42, 21, 4, 21, 5, 182, 1, 39, 153, 0, 14, 42]
abbrev dktX5_goesRound_1 : List UInt8 := dkwX5_goesRound_1 ++ dktX5_goesRound_2
def dkwX5_goesRound_0 : List UInt8 := [42, 180, 0, 95, 27, 4, 100, 46, 54, 4, 27, 42, 182, 1, 26, 160, 0, 113, 42, 21, 4, 3]
abbrev dktX5_goesRound_0 : List UInt8 := dkwX5_goesRound_0 ++ dktX5_goesRound_1
theorem dksX5_goesRound_0 : cX5_goesRound.data.toList.drop 0 = dktX5_goesRound_0 := by decide +kernel
theorem dksX5_goesRound_1 : cX5_goesRound.data.toList.drop 22 = dktX5_goesRound_1 := dk_seg dksX5_goesRound_0 22 rfl rfl
theorem dksX5_goesRound_2 : cX5_goesRound.data.toList.drop 45 = dktX5_goesRound_2 := dk_seg dksX5_goesRound_1 23 rfl rfl
theorem dksX5_goesRound_3 : cX5_goesRound.data.toList.drop 69 = dktX5_goesRound_3 := dk_seg dksX5_goesRound_2 24 rfl rfl
theorem dksX5_goesRound_4 : cX5_goesRound.data.toList.drop 93 = dktX5_goesRound_4 := dk_seg dksX5_goesRound_3 24 rfl rfl
theorem dksX5_goesRound_5 : cX5_goesRound.data.toList.drop 117 = dktX5_goesRound_5 := dk_seg dksX5_goesRound_4 24 rfl rfl
theorem dksX5_goesRound_6 : cX5_goesRound.data.toList.drop 141 = dktX5_goesRound_6 := dk_seg dksX5_goesRound_5 24 rfl rfl
theorem dksX5_goesRound_7 : cX5_goesRound.data.toList.drop 165 = dktX5_goesRound_7 := dk_seg dksX5_goesRound_6 24 rfl rfl
theorem dksX5_goesRound_8 : cX5_goesRound.data.toList.drop 189 = dktX5_goesRound_8 := dk_seg dksX5_goesRound_7 24 rfl rfl
theorem dksX5_goesRound_9 : cX5_goesRound.data.toList.drop 213 = dktX5_goesRound_9 := dk_seg dksX5_goesRound_8 24 rfl rfl
theorem dX5_goesRound_0 : decode cX5_goesRound 0 = .ok (.aload_n 0, 1) := dk_42 (dk_at dksX5_goesRound_0 0 rfl rfl)
theorem dX5_goesRound_1 : decode cX5_goesRound 1 = .ok (.getfield 95, 3) := dk_180 0 95 (dk_at dksX5_goesRound_0 1 rfl rfl)
theorem dX5_goesRound_4 : decode cX5_goesRound 4 = .ok (.iload_n 1, 1) := dk_27 (dk_at dksX5_goesRound_0 4 rfl rfl)
theorem dX5_goesRound_5 : decode cX5_goesRound 5 = .ok (.iconst 1, 1) := dk_4 (dk_at dksX5_goesRound_0 5 rfl rfl)
theorem dX5_goesRound_6 : decode cX5_goesRound 6 = .ok (.isub, 1) := dk_100 (dk_at dksX5_goesRound_0 6 rfl rfl)
theorem dX5_goesRound_7 : decode cX5_goesRound 7 = .ok (.iaload, 1) := dk_46 (dk_at dksX5_goesRound_0 7 rfl rfl)
theorem dX5_goesRound_8 : decode cX5_goesRound 8 = .ok (.istore 4, 2) := dk_54 4 (dk_at dksX5_goesRound_0 8 rfl rfl)
theorem dX5_goesRound_10 : decode cX5_goesRound 10 = .ok (.iload_n 1, 1) := dk_27 (dk_at dksX5_goesRound_0 10 rfl rfl)
theorem dX5_goesRound_11 : decode cX5_goesRound 11 = .ok (.aload_n 0, 1) := dk_42 (dk_at dksX5_goesRound_0 11 rfl rfl)
theorem dX5_goesRound_12 : decode cX5_goesRound 12 = .ok (.invokevirtual 282, 3) := dk_182 1 26 (dk_at dksX5_goesRound_0 12 rfl rfl)
theorem dX5_goesRound_15 : decode cX5_goesRound 15 = .ok (.if_icmp .ne 113, 3) := dk_160 0 113 (dk_at dksX5_goesRound_0 15 rfl rfl)
theorem dX5_goesRound_18 : decode cX5_goesRound 18 = .ok (.aload_n 0, 1) := dk_42 (dk_at dksX5_goesRound_0 18 rfl rfl)
theorem dX5_goesRound_19 : decode cX5_goesRound 19 = .ok (.iload 4, 2) := dk_21 4 (dk_at dksX5_goesRound_0 19 rfl rfl)
theorem dX5_goesRound_21 : decode cX5_goesRound 21 = .ok (.iconst 0, 1) := dk_3 (dk_at dksX5_goesRound_0 21 rfl rfl)
theorem dX5_goesRound_22 : decode cX5_goesRound 22 = .ok (.invokevirtual 318, 3) := dk_182 1 62 (dk_at dksX5_goesRound_1 0 rfl rfl)
theorem dX5_goesRound_25 : decode cX5_goesRound 25 = .ok (.istore 5, 2) := dk_54 5 (dk_at dksX5_goesRound_1 3 rfl rfl)
theorem dX5_goesRound_27 : decode cX5_goesRound 27 = .ok (.iload 5, 2) := dk_21 5 (dk_at dksX5_goesRound_1 5 rfl rfl)
theorem dX5_goesRound_29 : decode cX5_goesRound 29 = .ok (.iconst (-1), 1) := dk_2 (dk_at dksX5_goesRound_1 7 rfl rfl)
theorem dX5_goesRound_30 : decode cX5_goesRound 30 = .ok (.if_icmp .eq 25, 3) := dk_159 0 25 (dk_at dksX5_goesRound_1 8 rfl rfl)
theorem dX5_goesRound_33 : decode cX5_goesRound 33 = .ok (.aload_n 0, 1) := dk_42 (dk_at dksX5_goesRound_1 11 rfl rfl)
theorem dX5_goesRound_34 : decode cX5_goesRound 34 = .ok (.iload 4, 2) := dk_21 4 (dk_at dksX5_goesRound_1 12 rfl rfl)
theorem dX5_goesRound_36 : decode cX5_goesRound 36 = .ok (.iload 5, 2) := dk_21 5 (dk_at dksX5_goesRound_1 14 rfl rfl)
theorem dX5_goesRound_38 : decode cX5_goesRound 38 = .ok (.invokevirtual 295, 3) := dk_182 1 39 (dk_at dksX5_goesRound_1 16 rfl rfl)
theorem dX5_goesRound_41 : decode cX5_goesRound 41 = .ok (.ifCond .eq 14, 3) := dk_153 0 14 (dk_at dksX5_goesRound_1 19 rfl rfl)
theorem dX5_goesRound_44 : decode cX5_goesRound 44 = .ok (.aload_n 0, 1) := dk_42 (dk_at dksX5_goesRound_1 22 rfl rfl)
theorem dX5_goesRound_45 : decode cX5_goesRound 45 = .ok (.getfield 95, 3) := dk_180 0 95 (dk_at dksX5_goesRound_2 0 rfl rfl)
theorem dX5_goesRound_48 : decode cX5_goesRound 48 = .ok (.iconst 1, 1) := dk_4 (dk_at dksX5_goesRound_2 3 rfl rfl)
theorem dX5_goesRound_49 : decode cX5_goesRound 49 = .ok (.iaload, 1) := dk_46 (dk_at dksX5_goesRound_2 4 rfl rfl)
theorem dX5_goesRound_50 : decode cX5_goesRound 50 = .ok (.iload 4, 2) := dk_21 4 (dk_at dksX5_goesRound_2 5 rfl rfl)
theorem dX5_goesRound_52 : decode cX5_goesRound 52 = .ok (.if_icmp .le 4, 3) := dk_164 0 4 (dk_at dksX5_goesRound_2 7 rfl rfl)
theorem dX5_goesRound_55 : decode cX5_goesRound 55 = .ok (.return_, 1) := dk_177 (dk_at dksX5_goesRound_2 10 rfl rfl)
theorem dX5_goesRound_56 : decode cX5_goesRound 56 = .ok (.aload_n 0, 1) := dk_42 (dk_at dksX5_goesRound_2 11 rfl rfl)
theorem dX5_goesRound_57 : decode cX5_goesRound 57 = .ok (.getfield 376, 3) := dk_180 1 120 (dk_at dksX5_goesRound_2 12 rfl rfl)
theorem dX5_goesRound_60 : decode cX5_goesRound 60 = .ok (.ifCond .ne 32, 3) := dk_154 0 32 (dk_at dksX5_goesRound_2 15 rfl rfl)
theorem dX5_goesRound_63 : decode cX5_goesRound 63 = .ok (.iconst 0, 1) := dk_3 (dk_at dksX5_goesRound_2 18 rfl rfl)
theorem dX5_goesRound_64 : decode cX5_goesRound 64 = .ok (.istore 6, 2) := dk_54 6 (dk_at dksX5_goesRound_2 19 rfl rfl)
theorem dX5_goesRound_66 : decode cX5_goesRound 66 = .ok (.iload 6, 2) := dk_21 6 (dk_at dksX5_goesRound_2 21 rfl rfl)
theorem dX5_goesRound_68 : decode cX5_goesRound 68 = .ok (.iload_n 1, 1) := dk_27 (dk_at dksX5_goesRound_2 23 rfl rfl)
theorem dX5_goesRound_69 : decode cX5_goesRound 69 = .ok (.if_icmp .ge 23, 3) := dk_162 0 23 (dk_at dksX5_goesRound_3 0 rfl rfl)
theorem dX5_goesRound_72 : decode cX5_goesRound 72 = .ok (.aload_n 0, 1) := dk_42 (dk_at dksX5_goesRound_3 3 rfl rfl)
theorem dX5_goesRound_73 : decode cX5_goesRound 73 = .ok (.getfield 98, 3) := dk_180 0 98 (dk_at dksX5_goesRound_3 4 rfl rfl)
theorem dX5_goesRound_76 : decode cX5_goesRound 76 = .ok (.iload 6, 2) := dk_21 6 (dk_at dksX5_goesRound_3 7 rfl rfl)
theorem dX5_goesRound_78 : decode cX5_goesRound 78 = .ok (.aload_n 0, 1) := dk_42 (dk_at dksX5_goesRound_3 9 rfl rfl)
theorem dX5_goesRound_79 : decode cX5_goesRound 79 = .ok (.getfield 95, 3) := dk_180 0 95 (dk_at dksX5_goesRound_3 10 rfl rfl)
theorem dX5_goesRound_82 : decode cX5_goesRound 82 = .ok (.iload 6, 2) := dk_21 6 (dk_at dksX5_goesRound_3 13 rfl rfl)
theorem dX5_goesRound_84 : decode cX5_goesRound 84 = .ok (.iaload, 1) := dk_46 (dk_at dksX5_goesRound_3 15 rfl rfl)
theorem dX5_goesRound_85 : decode cX5_goesRound 85 = .ok (.iastore, 1) := dk_79 (dk_at dksX5_goesRound_3 16 rfl rfl)
theorem dX5_goesRound_86 : decode cX5_goesRound 86 = .ok (.iinc 6 1, 3) := dk_132 6 1 (dk_at dksX5_goesRound_3 17 rfl rfl)
theorem dX5_goesRound_89 : decode cX5_goesRound 89 = .ok (.goto (-23), 3) := dk_167 255 233 (dk_at dksX5_goesRound_3 20 rfl rfl)
theorem dX5_goesRound_92 : decode cX5_goesRound 92 = .ok (.aload_n 0, 1) := dk_42 (dk_at dksX5_goesRound_3 23 rfl rfl)
theorem dX5_goesRound_93 : decode cX5_goesRound 93 = .ok (.getfield 92, 3) := dk_180 0 92 (dk_at dksX5_goesRound_4 0 rfl rfl)
theorem dX5_goesRound_96 : decode cX5_goesRound 96 = .ok (.aload_n 0, 1) := dk_42 (dk_at dksX5_goesRound_4 3 rfl rfl)
theorem dX5_goesRound_97 : decode cX5_goesRound 97 = .ok (.getfield 376, 3) := dk_180 1 120 (dk_at dksX5_goesRound_4 4 rfl rfl)
theorem dX5_goesRound_100 : decode cX5_goesRound 100 = .ok (.iload_n 3, 1) := dk_29 (dk_at dksX5_goesRound_4 7 rfl rfl)
theorem dX5_goesRound_101 : decode cX5_goesRound 101 = .ok (.iconst 1, 1) := dk_4 (dk_at dksX5_goesRound_4 8 rfl rfl)
theorem dX5_goesRound_102 : decode cX5_goesRound 102 = .ok (.aload_n 0, 1) := dk_42 (dk_at dksX5_goesRound_4 9 rfl rfl)
theorem dX5_goesRound_103 : decode cX5_goesRound 103 = .ok (.getfield 89, 3) := dk_180 0 89 (dk_at dksX5_goesRound_4 10 rfl rfl)
theorem dX5_goesRound_106 : decode cX5_goesRound 106 = .ok (.iconst 5, 1) := dk_8 (dk_at dksX5_goesRound_4 13 rfl rfl)
theorem dX5_goesRound_107 : decode cX5_goesRound 107 = .ok (.iload 4, 2) := dk_21 4 (dk_at dksX5_goesRound_4 14 rfl rfl)
theorem dX5_goesRound_109 : decode cX5_goesRound 109 = .ok (.imul, 1) := dk_104 (dk_at dksX5_goesRound_4 16 rfl rfl)
theorem dX5_goesRound_110 : decode cX5_goesRound 110 = .ok (.iload 5, 2) := dk_21 5 (dk_at dksX5_goesRound_4 17 rfl rfl)
theorem dX5_goesRound_112 : decode cX5_goesRound 112 = .ok (.iadd, 1) := dk_96 (dk_at dksX5_goesRound_4 19 rfl rfl)
theorem dX5_goesRound_113 : decode cX5_goesRound 113 = .ok (.iaload, 1) := dk_46 (dk_at dksX5_goesRound_4 20 rfl rfl)
theorem dX5_goesRound_114 : decode cX5_goesRound 114 = .ok (.ishl, 1) := dk_120 (dk_at dksX5_goesRound_4 21 rfl rfl)
theorem dX5_goesRound_115 : decode cX5_goesRound 115 = .ok (.ior, 1) := dk_128 (dk_at dksX5_goesRound_4 22 rfl rfl)
theorem dX5_goesRound_116 : decode cX5_goesRound 116 = .ok (.iastore, 1) := dk_79 (dk_at dksX5_goesRound_4 23 rfl rfl)
theorem dX5_goesRound_117 : decode cX5_goesRound 117 = .ok (.aload_n 0, 1) := dk_42 (dk_at dksX5_goesRound_5 0 rfl rfl)
theorem dX5_goesRound_118 : decode cX5_goesRound 118 = .ok (.dup, 1) := dk_89 (dk_at dksX5_goesRound_5 1 rfl rfl)
theorem dX5_goesRound_119 : decode cX5_goesRound 119 = .ok (.getfield 376, 3) := dk_180 1 120 (dk_at dksX5_goesRound_5 2 rfl rfl)
theorem dX5_goesRound_122 : decode cX5_goesRound 122 = .ok (.iconst 1, 1) := dk_4 (dk_at dksX5_goesRound_5 5 rfl rfl)
theorem dX5_goesRound_123 : decode cX5_goesRound 123 = .ok (.iadd, 1) := dk_96 (dk_at dksX5_goesRound_5 6 rfl rfl)
theorem dX5_goesRound_124 : decode cX5_goesRound 124 = .ok (.putfield 376, 3) := dk_181 1 120 (dk_at dksX5_goesRound_5 7 rfl rfl)
theorem dX5_goesRound_127 : decode cX5_goesRound 127 = .ok (.return_, 1) := dk_177 (dk_at dksX5_goesRound_5 10 rfl rfl)
theorem dX5_goesRound_128 : decode cX5_goesRound 128 = .ok (.iconst 0, 1) := dk_3 (dk_at dksX5_goesRound_5 11 rfl rfl)
theorem dX5_goesRound_129 : decode cX5_goesRound 129 = .ok (.istore 5, 2) := dk_54 5 (dk_at dksX5_goesRound_5 12 rfl rfl)
theorem dX5_goesRound_131 : decode cX5_goesRound 131 = .ok (.iload 5, 2) := dk_21 5 (dk_at dksX5_goesRound_5 14 rfl rfl)
theorem dX5_goesRound_133 : decode cX5_goesRound 133 = .ok (.aload_n 0, 1) := dk_42 (dk_at dksX5_goesRound_5 16 rfl rfl)
theorem dX5_goesRound_134 : decode cX5_goesRound 134 = .ok (.invokevirtual 282, 3) := dk_182 1 26 (dk_at dksX5_goesRound_5 17 rfl rfl)
theorem dX5_goesRound_137 : decode cX5_goesRound 137 = .ok (.if_icmp .ge 85, 3) := dk_162 0 85 (dk_at dksX5_goesRound_5 20 rfl rfl)
theorem dX5_goesRound_140 : decode cX5_goesRound 140 = .ok (.aload_n 0, 1) := dk_42 (dk_at dksX5_goesRound_5 23 rfl rfl)
theorem dX5_goesRound_141 : decode cX5_goesRound 141 = .ok (.iload 4, 2) := dk_21 4 (dk_at dksX5_goesRound_6 0 rfl rfl)
theorem dX5_goesRound_143 : decode cX5_goesRound 143 = .ok (.iload 5, 2) := dk_21 5 (dk_at dksX5_goesRound_6 2 rfl rfl)
theorem dX5_goesRound_145 : decode cX5_goesRound 145 = .ok (.invokevirtual 318, 3) := dk_182 1 62 (dk_at dksX5_goesRound_6 4 rfl rfl)
theorem dX5_goesRound_148 : decode cX5_goesRound 148 = .ok (.istore 6, 2) := dk_54 6 (dk_at dksX5_goesRound_6 7 rfl rfl)
theorem dX5_goesRound_150 : decode cX5_goesRound 150 = .ok (.iload 6, 2) := dk_21 6 (dk_at dksX5_goesRound_6 9 rfl rfl)
theorem dX5_goesRound_152 : decode cX5_goesRound 152 = .ok (.iconst (-1), 1) := dk_2 (dk_at dksX5_goesRound_6 11 rfl rfl)
theorem dX5_goesRound_153 : decode cX5_goesRound 153 = .ok (.if_icmp .eq 63, 3) := dk_159 0 63 (dk_at dksX5_goesRound_6 12 rfl rfl)
theorem dX5_goesRound_156 : decode cX5_goesRound 156 = .ok (.iload_n 2, 1) := dk_28 (dk_at dksX5_goesRound_6 15 rfl rfl)
theorem dX5_goesRound_157 : decode cX5_goesRound 157 = .ok (.iload 5, 2) := dk_21 5 (dk_at dksX5_goesRound_6 16 rfl rfl)
theorem dX5_goesRound_159 : decode cX5_goesRound 159 = .ok (.invokestatic 288, 3) := dk_184 1 32 (dk_at dksX5_goesRound_6 18 rfl rfl)
theorem dX5_goesRound_162 : decode cX5_goesRound 162 = .ok (.ifCond .ne 54, 3) := dk_154 0 54 (dk_at dksX5_goesRound_6 21 rfl rfl)
theorem dX5_goesRound_165 : decode cX5_goesRound 165 = .ok (.aload_n 0, 1) := dk_42 (dk_at dksX5_goesRound_7 0 rfl rfl)
theorem dX5_goesRound_166 : decode cX5_goesRound 166 = .ok (.iload 4, 2) := dk_21 4 (dk_at dksX5_goesRound_7 1 rfl rfl)
theorem dX5_goesRound_168 : decode cX5_goesRound 168 = .ok (.iload 6, 2) := dk_21 6 (dk_at dksX5_goesRound_7 3 rfl rfl)
theorem dX5_goesRound_170 : decode cX5_goesRound 170 = .ok (.invokevirtual 295, 3) := dk_182 1 39 (dk_at dksX5_goesRound_7 5 rfl rfl)
theorem dX5_goesRound_173 : decode cX5_goesRound 173 = .ok (.ifCond .ne 6, 3) := dk_154 0 6 (dk_at dksX5_goesRound_7 8 rfl rfl)
theorem dX5_goesRound_176 : decode cX5_goesRound 176 = .ok (.goto 40, 3) := dk_167 0 40 (dk_at dksX5_goesRound_7 11 rfl rfl)
theorem dX5_goesRound_179 : decode cX5_goesRound 179 = .ok (.aload_n 0, 1) := dk_42 (dk_at dksX5_goesRound_7 14 rfl rfl)
theorem dX5_goesRound_180 : decode cX5_goesRound 180 = .ok (.getfield 95, 3) := dk_180 0 95 (dk_at dksX5_goesRound_7 15 rfl rfl)
theorem dX5_goesRound_183 : decode cX5_goesRound 183 = .ok (.iload_n 1, 1) := dk_27 (dk_at dksX5_goesRound_7 18 rfl rfl)
theorem dX5_goesRound_184 : decode cX5_goesRound 184 = .ok (.iload 5, 2) := dk_21 5 (dk_at dksX5_goesRound_7 19 rfl rfl)
theorem dX5_goesRound_186 : decode cX5_goesRound 186 = .ok (.iastore, 1) := dk_79 (dk_at dksX5_goesRound_7 21 rfl rfl)
theorem dX5_goesRound_187 : decode cX5_goesRound 187 = .ok (.aload_n 0, 1) := dk_42 (dk_at dksX5_goesRound_7 22 rfl rfl)
theorem dX5_goesRound_188 : decode cX5_goesRound 188 = .ok (.iload_n 1, 1) := dk_27 (dk_at dksX5_goesRound_7 23 rfl rfl)
theorem dX5_goesRound_189 : decode cX5_goesRound 189 = .ok (.iconst 1, 1) := dk_4 (dk_at dksX5_goesRound_8 0 rfl rfl)
theorem dX5_goesRound_190 : decode cX5_goesRound 190 = .ok (.iadd, 1) := dk_96 (dk_at dksX5_goesRound_8 1 rfl rfl)
theorem dX5_goesRound_191 : decode cX5_goesRound 191 = .ok (.iload_n 2, 1) := dk_28 (dk_at dksX5_goesRound_8 2 rfl rfl)
theorem dX5_goesRound_192 : decode cX5_goesRound 192 = .ok (.iconst 1, 1) := dk_4 (dk_at dksX5_goesRound_8 3 rfl rfl)
theorem dX5_goesRound_193 : decode cX5_goesRound 193 = .ok (.iload 5, 2) := dk_21 5 (dk_at dksX5_goesRound_8 4 rfl rfl)
theorem dX5_goesRound_195 : decode cX5_goesRound 195 = .ok (.ishl, 1) := dk_120 (dk_at dksX5_goesRound_8 6 rfl rfl)
theorem dX5_goesRound_196 : decode cX5_goesRound 196 = .ok (.ior, 1) := dk_128 (dk_at dksX5_goesRound_8 7 rfl rfl)
theorem dX5_goesRound_197 : decode cX5_goesRound 197 = .ok (.iload_n 3, 1) := dk_29 (dk_at dksX5_goesRound_8 8 rfl rfl)
theorem dX5_goesRound_198 : decode cX5_goesRound 198 = .ok (.iconst 1, 1) := dk_4 (dk_at dksX5_goesRound_8 9 rfl rfl)
theorem dX5_goesRound_199 : decode cX5_goesRound 199 = .ok (.aload_n 0, 1) := dk_42 (dk_at dksX5_goesRound_8 10 rfl rfl)
theorem dX5_goesRound_200 : decode cX5_goesRound 200 = .ok (.getfield 89, 3) := dk_180 0 89 (dk_at dksX5_goesRound_8 11 rfl rfl)
theorem dX5_goesRound_203 : decode cX5_goesRound 203 = .ok (.iconst 5, 1) := dk_8 (dk_at dksX5_goesRound_8 14 rfl rfl)
theorem dX5_goesRound_204 : decode cX5_goesRound 204 = .ok (.iload 4, 2) := dk_21 4 (dk_at dksX5_goesRound_8 15 rfl rfl)
theorem dX5_goesRound_206 : decode cX5_goesRound 206 = .ok (.imul, 1) := dk_104 (dk_at dksX5_goesRound_8 17 rfl rfl)
theorem dX5_goesRound_207 : decode cX5_goesRound 207 = .ok (.iload 6, 2) := dk_21 6 (dk_at dksX5_goesRound_8 18 rfl rfl)
theorem dX5_goesRound_209 : decode cX5_goesRound 209 = .ok (.iadd, 1) := dk_96 (dk_at dksX5_goesRound_8 20 rfl rfl)
theorem dX5_goesRound_210 : decode cX5_goesRound 210 = .ok (.iaload, 1) := dk_46 (dk_at dksX5_goesRound_8 21 rfl rfl)
theorem dX5_goesRound_211 : decode cX5_goesRound 211 = .ok (.ishl, 1) := dk_120 (dk_at dksX5_goesRound_8 22 rfl rfl)
theorem dX5_goesRound_212 : decode cX5_goesRound 212 = .ok (.ior, 1) := dk_128 (dk_at dksX5_goesRound_8 23 rfl rfl)
theorem dX5_goesRound_213 : decode cX5_goesRound 213 = .ok (.invokevirtual 379, 3) := dk_182 1 123 (dk_at dksX5_goesRound_9 0 rfl rfl)
theorem dX5_goesRound_216 : decode cX5_goesRound 216 = .ok (.iinc 5 1, 3) := dk_132 5 1 (dk_at dksX5_goesRound_9 3 rfl rfl)
theorem dX5_goesRound_219 : decode cX5_goesRound 219 = .ok (.goto (-88), 3) := dk_167 255 168 (dk_at dksX5_goesRound_9 6 rfl rfl)
theorem dX5_goesRound_222 : decode cX5_goesRound 222 = .ok (.return_, 1) := dk_177 (dk_at dksX5_goesRound_9 9 rfl rfl)
abbrev cX5_round : ByteArray := prog_10_method_98_code
def yX5_round : MethodName := ⟨RX5, "round", "(I)I"⟩
def dkwX5_round_2 : List UInt8 := [46, 167, 0, 4, 2, 172]
abbrev dktX5_round_2 : List UInt8 := dkwX5_round_2 ++ []
def dkwX5_round_1 : List UInt8 := [158, 0, 28, 27, 133, 9, 42, 182, 1, 26, 4, 100, 133, 184, 0, 136, 153, 0, 12, 42, 180, 0, 98, 27]
abbrev dktX5_round_1 : List UInt8 := dkwX5_round_1 ++ dktX5_round_2
def dkwX5_round_0 : List UInt8 := [42, 3, 181, 0, 131, 42, 182, 1, 127, 61, 28, 153, 0, 5, 28, 172, 42, 182, 1, 130, 42, 180, 1, 120]
abbrev dktX5_round_0 : List UInt8 := dkwX5_round_0 ++ dktX5_round_1
theorem dksX5_round_0 : cX5_round.data.toList.drop 0 = dktX5_round_0 := by decide +kernel
theorem dksX5_round_1 : cX5_round.data.toList.drop 24 = dktX5_round_1 := dk_seg dksX5_round_0 24 rfl rfl
theorem dksX5_round_2 : cX5_round.data.toList.drop 48 = dktX5_round_2 := dk_seg dksX5_round_1 24 rfl rfl
theorem dX5_round_0 : decode cX5_round 0 = .ok (.aload_n 0, 1) := dk_42 (dk_at dksX5_round_0 0 rfl rfl)
theorem dX5_round_1 : decode cX5_round 1 = .ok (.iconst 0, 1) := dk_3 (dk_at dksX5_round_0 1 rfl rfl)
theorem dX5_round_2 : decode cX5_round 2 = .ok (.putfield 131, 3) := dk_181 0 131 (dk_at dksX5_round_0 2 rfl rfl)
theorem dX5_round_5 : decode cX5_round 5 = .ok (.aload_n 0, 1) := dk_42 (dk_at dksX5_round_0 5 rfl rfl)
theorem dX5_round_6 : decode cX5_round 6 = .ok (.invokevirtual 383, 3) := dk_182 1 127 (dk_at dksX5_round_0 6 rfl rfl)
theorem dX5_round_9 : decode cX5_round 9 = .ok (.istore_n 2, 1) := dk_61 (dk_at dksX5_round_0 9 rfl rfl)
theorem dX5_round_10 : decode cX5_round 10 = .ok (.iload_n 2, 1) := dk_28 (dk_at dksX5_round_0 10 rfl rfl)
theorem dX5_round_11 : decode cX5_round 11 = .ok (.ifCond .eq 5, 3) := dk_153 0 5 (dk_at dksX5_round_0 11 rfl rfl)
theorem dX5_round_14 : decode cX5_round 14 = .ok (.iload_n 2, 1) := dk_28 (dk_at dksX5_round_0 14 rfl rfl)
theorem dX5_round_15 : decode cX5_round 15 = .ok (.ireturn, 1) := dk_172 (dk_at dksX5_round_0 15 rfl rfl)
theorem dX5_round_16 : decode cX5_round 16 = .ok (.aload_n 0, 1) := dk_42 (dk_at dksX5_round_0 16 rfl rfl)
theorem dX5_round_17 : decode cX5_round 17 = .ok (.invokevirtual 386, 3) := dk_182 1 130 (dk_at dksX5_round_0 17 rfl rfl)
theorem dX5_round_20 : decode cX5_round 20 = .ok (.aload_n 0, 1) := dk_42 (dk_at dksX5_round_0 20 rfl rfl)
theorem dX5_round_21 : decode cX5_round 21 = .ok (.getfield 376, 3) := dk_180 1 120 (dk_at dksX5_round_0 21 rfl rfl)
theorem dX5_round_24 : decode cX5_round 24 = .ok (.ifCond .le 28, 3) := dk_158 0 28 (dk_at dksX5_round_1 0 rfl rfl)
theorem dX5_round_27 : decode cX5_round 27 = .ok (.iload_n 1, 1) := dk_27 (dk_at dksX5_round_1 3 rfl rfl)
theorem dX5_round_28 : decode cX5_round 28 = .ok (.i2l, 1) := dk_133 (dk_at dksX5_round_1 4 rfl rfl)
theorem dX5_round_29 : decode cX5_round 29 = .ok (.lconst 0, 1) := dk_9 (dk_at dksX5_round_1 5 rfl rfl)
theorem dX5_round_30 : decode cX5_round 30 = .ok (.aload_n 0, 1) := dk_42 (dk_at dksX5_round_1 6 rfl rfl)
theorem dX5_round_31 : decode cX5_round 31 = .ok (.invokevirtual 282, 3) := dk_182 1 26 (dk_at dksX5_round_1 7 rfl rfl)
theorem dX5_round_34 : decode cX5_round 34 = .ok (.iconst 1, 1) := dk_4 (dk_at dksX5_round_1 10 rfl rfl)
theorem dX5_round_35 : decode cX5_round 35 = .ok (.isub, 1) := dk_100 (dk_at dksX5_round_1 11 rfl rfl)
theorem dX5_round_36 : decode cX5_round 36 = .ok (.i2l, 1) := dk_133 (dk_at dksX5_round_1 12 rfl rfl)
theorem dX5_round_37 : decode cX5_round 37 = .ok (.invokestatic 136, 3) := dk_184 0 136 (dk_at dksX5_round_1 13 rfl rfl)
theorem dX5_round_40 : decode cX5_round 40 = .ok (.ifCond .eq 12, 3) := dk_153 0 12 (dk_at dksX5_round_1 16 rfl rfl)
theorem dX5_round_43 : decode cX5_round 43 = .ok (.aload_n 0, 1) := dk_42 (dk_at dksX5_round_1 19 rfl rfl)
theorem dX5_round_44 : decode cX5_round 44 = .ok (.getfield 98, 3) := dk_180 0 98 (dk_at dksX5_round_1 20 rfl rfl)
theorem dX5_round_47 : decode cX5_round 47 = .ok (.iload_n 1, 1) := dk_27 (dk_at dksX5_round_1 23 rfl rfl)
theorem dX5_round_48 : decode cX5_round 48 = .ok (.iaload, 1) := dk_46 (dk_at dksX5_round_2 0 rfl rfl)
theorem dX5_round_49 : decode cX5_round 49 = .ok (.goto 4, 3) := dk_167 0 4 (dk_at dksX5_round_2 1 rfl rfl)
theorem dX5_round_52 : decode cX5_round 52 = .ok (.iconst (-1), 1) := dk_2 (dk_at dksX5_round_2 4 rfl rfl)
theorem dX5_round_53 : decode cX5_round 53 = .ok (.ireturn, 1) := dk_172 (dk_at dksX5_round_2 5 rfl rfl)
abbrev cX5_by : ByteArray := prog_10_method_100_code
def yX5_by : MethodName := ⟨RX5, "by", "(I)I"⟩
def dkwX5_by_4 : List UInt8 := [132, 4, 1, 167, 255, 207, 29, 172]
abbrev dktX5_by_4 : List UInt8 := dkwX5_by_4 ++ []
def dkwX5_by_3 : List UInt8 := [4, 96, 42, 182, 1, 26, 112, 46, 182, 1, 62, 27, 160, 0, 7, 4, 167, 0, 4, 3, 96, 62]
abbrev dktX5_by_3 : List UInt8 := dkwX5_by_3 ++ dktX5_by_4
def dkwX5_by_2 : List UInt8 := [21, 4, 42, 182, 1, 26, 162, 0, 46, 29, 42, 42, 180, 0, 98, 21, 4, 46, 42, 180, 0, 98, 21, 4]
abbrev dktX5_by_2 : List UInt8 := dkwX5_by_2 ++ dktX5_by_3
def dkwX5_by_1 : List UInt8 := [153, 0, 5, 28, 172, 42, 182, 1, 130, 42, 180, 1, 120, 154, 0, 5, 2, 172, 3, 62, 3, 54, 4]
abbrev dktX5_by_1 : List UInt8 := dkwX5_by_1 ++ dktX5_by_2
def dkwX5_by_0 : List UInt8 := [42, 3, 181, 0, 131, 42, 27, 182, 1, 36, 154, 0, 8, 16, 254, 167, 0, 7, 42, 182, 1, 127, 61, 28]
abbrev dktX5_by_0 : List UInt8 := dkwX5_by_0 ++ dktX5_by_1
theorem dksX5_by_0 : cX5_by.data.toList.drop 0 = dktX5_by_0 := by decide +kernel
theorem dksX5_by_1 : cX5_by.data.toList.drop 24 = dktX5_by_1 := dk_seg dksX5_by_0 24 rfl rfl
theorem dksX5_by_2 : cX5_by.data.toList.drop 47 = dktX5_by_2 := dk_seg dksX5_by_1 23 rfl rfl
theorem dksX5_by_3 : cX5_by.data.toList.drop 71 = dktX5_by_3 := dk_seg dksX5_by_2 24 rfl rfl
theorem dksX5_by_4 : cX5_by.data.toList.drop 93 = dktX5_by_4 := dk_seg dksX5_by_3 22 rfl rfl
theorem dX5_by_0 : decode cX5_by 0 = .ok (.aload_n 0, 1) := dk_42 (dk_at dksX5_by_0 0 rfl rfl)
theorem dX5_by_1 : decode cX5_by 1 = .ok (.iconst 0, 1) := dk_3 (dk_at dksX5_by_0 1 rfl rfl)
theorem dX5_by_2 : decode cX5_by 2 = .ok (.putfield 131, 3) := dk_181 0 131 (dk_at dksX5_by_0 2 rfl rfl)
theorem dX5_by_5 : decode cX5_by 5 = .ok (.aload_n 0, 1) := dk_42 (dk_at dksX5_by_0 5 rfl rfl)
theorem dX5_by_6 : decode cX5_by 6 = .ok (.iload_n 1, 1) := dk_27 (dk_at dksX5_by_0 6 rfl rfl)
theorem dX5_by_7 : decode cX5_by 7 = .ok (.invokevirtual 292, 3) := dk_182 1 36 (dk_at dksX5_by_0 7 rfl rfl)
theorem dX5_by_10 : decode cX5_by 10 = .ok (.ifCond .ne 8, 3) := dk_154 0 8 (dk_at dksX5_by_0 10 rfl rfl)
theorem dX5_by_13 : decode cX5_by 13 = .ok (.bipush (-2), 2) := dk_16 254 (dk_at dksX5_by_0 13 rfl rfl)
theorem dX5_by_15 : decode cX5_by 15 = .ok (.goto 7, 3) := dk_167 0 7 (dk_at dksX5_by_0 15 rfl rfl)
theorem dX5_by_18 : decode cX5_by 18 = .ok (.aload_n 0, 1) := dk_42 (dk_at dksX5_by_0 18 rfl rfl)
theorem dX5_by_19 : decode cX5_by 19 = .ok (.invokevirtual 383, 3) := dk_182 1 127 (dk_at dksX5_by_0 19 rfl rfl)
theorem dX5_by_22 : decode cX5_by 22 = .ok (.istore_n 2, 1) := dk_61 (dk_at dksX5_by_0 22 rfl rfl)
theorem dX5_by_23 : decode cX5_by 23 = .ok (.iload_n 2, 1) := dk_28 (dk_at dksX5_by_0 23 rfl rfl)
theorem dX5_by_24 : decode cX5_by 24 = .ok (.ifCond .eq 5, 3) := dk_153 0 5 (dk_at dksX5_by_1 0 rfl rfl)
theorem dX5_by_27 : decode cX5_by 27 = .ok (.iload_n 2, 1) := dk_28 (dk_at dksX5_by_1 3 rfl rfl)
theorem dX5_by_28 : decode cX5_by 28 = .ok (.ireturn, 1) := dk_172 (dk_at dksX5_by_1 4 rfl rfl)
theorem dX5_by_29 : decode cX5_by 29 = .ok (.aload_n 0, 1) := dk_42 (dk_at dksX5_by_1 5 rfl rfl)
theorem dX5_by_30 : decode cX5_by 30 = .ok (.invokevirtual 386, 3) := dk_182 1 130 (dk_at dksX5_by_1 6 rfl rfl)
theorem dX5_by_33 : decode cX5_by 33 = .ok (.aload_n 0, 1) := dk_42 (dk_at dksX5_by_1 9 rfl rfl)
theorem dX5_by_34 : decode cX5_by 34 = .ok (.getfield 376, 3) := dk_180 1 120 (dk_at dksX5_by_1 10 rfl rfl)
theorem dX5_by_37 : decode cX5_by 37 = .ok (.ifCond .ne 5, 3) := dk_154 0 5 (dk_at dksX5_by_1 13 rfl rfl)
theorem dX5_by_40 : decode cX5_by 40 = .ok (.iconst (-1), 1) := dk_2 (dk_at dksX5_by_1 16 rfl rfl)
theorem dX5_by_41 : decode cX5_by 41 = .ok (.ireturn, 1) := dk_172 (dk_at dksX5_by_1 17 rfl rfl)
theorem dX5_by_42 : decode cX5_by 42 = .ok (.iconst 0, 1) := dk_3 (dk_at dksX5_by_1 18 rfl rfl)
theorem dX5_by_43 : decode cX5_by 43 = .ok (.istore_n 3, 1) := dk_62 (dk_at dksX5_by_1 19 rfl rfl)
theorem dX5_by_44 : decode cX5_by 44 = .ok (.iconst 0, 1) := dk_3 (dk_at dksX5_by_1 20 rfl rfl)
theorem dX5_by_45 : decode cX5_by 45 = .ok (.istore 4, 2) := dk_54 4 (dk_at dksX5_by_1 21 rfl rfl)
theorem dX5_by_47 : decode cX5_by 47 = .ok (.iload 4, 2) := dk_21 4 (dk_at dksX5_by_2 0 rfl rfl)
theorem dX5_by_49 : decode cX5_by 49 = .ok (.aload_n 0, 1) := dk_42 (dk_at dksX5_by_2 2 rfl rfl)
theorem dX5_by_50 : decode cX5_by 50 = .ok (.invokevirtual 282, 3) := dk_182 1 26 (dk_at dksX5_by_2 3 rfl rfl)
theorem dX5_by_53 : decode cX5_by 53 = .ok (.if_icmp .ge 46, 3) := dk_162 0 46 (dk_at dksX5_by_2 6 rfl rfl)
theorem dX5_by_56 : decode cX5_by 56 = .ok (.iload_n 3, 1) := dk_29 (dk_at dksX5_by_2 9 rfl rfl)
theorem dX5_by_57 : decode cX5_by 57 = .ok (.aload_n 0, 1) := dk_42 (dk_at dksX5_by_2 10 rfl rfl)
theorem dX5_by_58 : decode cX5_by 58 = .ok (.aload_n 0, 1) := dk_42 (dk_at dksX5_by_2 11 rfl rfl)
theorem dX5_by_59 : decode cX5_by 59 = .ok (.getfield 98, 3) := dk_180 0 98 (dk_at dksX5_by_2 12 rfl rfl)
theorem dX5_by_62 : decode cX5_by 62 = .ok (.iload 4, 2) := dk_21 4 (dk_at dksX5_by_2 15 rfl rfl)
theorem dX5_by_64 : decode cX5_by 64 = .ok (.iaload, 1) := dk_46 (dk_at dksX5_by_2 17 rfl rfl)
theorem dX5_by_65 : decode cX5_by 65 = .ok (.aload_n 0, 1) := dk_42 (dk_at dksX5_by_2 18 rfl rfl)
theorem dX5_by_66 : decode cX5_by 66 = .ok (.getfield 98, 3) := dk_180 0 98 (dk_at dksX5_by_2 19 rfl rfl)
theorem dX5_by_69 : decode cX5_by 69 = .ok (.iload 4, 2) := dk_21 4 (dk_at dksX5_by_2 22 rfl rfl)
theorem dX5_by_71 : decode cX5_by 71 = .ok (.iconst 1, 1) := dk_4 (dk_at dksX5_by_3 0 rfl rfl)
theorem dX5_by_72 : decode cX5_by 72 = .ok (.iadd, 1) := dk_96 (dk_at dksX5_by_3 1 rfl rfl)
theorem dX5_by_73 : decode cX5_by 73 = .ok (.aload_n 0, 1) := dk_42 (dk_at dksX5_by_3 2 rfl rfl)
theorem dX5_by_74 : decode cX5_by 74 = .ok (.invokevirtual 282, 3) := dk_182 1 26 (dk_at dksX5_by_3 3 rfl rfl)
theorem dX5_by_77 : decode cX5_by 77 = .ok (.irem, 1) := dk_112 (dk_at dksX5_by_3 6 rfl rfl)
theorem dX5_by_78 : decode cX5_by 78 = .ok (.iaload, 1) := dk_46 (dk_at dksX5_by_3 7 rfl rfl)
theorem dX5_by_79 : decode cX5_by 79 = .ok (.invokevirtual 318, 3) := dk_182 1 62 (dk_at dksX5_by_3 8 rfl rfl)
theorem dX5_by_82 : decode cX5_by 82 = .ok (.iload_n 1, 1) := dk_27 (dk_at dksX5_by_3 11 rfl rfl)
theorem dX5_by_83 : decode cX5_by 83 = .ok (.if_icmp .ne 7, 3) := dk_160 0 7 (dk_at dksX5_by_3 12 rfl rfl)
theorem dX5_by_86 : decode cX5_by 86 = .ok (.iconst 1, 1) := dk_4 (dk_at dksX5_by_3 15 rfl rfl)
theorem dX5_by_87 : decode cX5_by 87 = .ok (.goto 4, 3) := dk_167 0 4 (dk_at dksX5_by_3 16 rfl rfl)
theorem dX5_by_90 : decode cX5_by 90 = .ok (.iconst 0, 1) := dk_3 (dk_at dksX5_by_3 19 rfl rfl)
theorem dX5_by_91 : decode cX5_by 91 = .ok (.iadd, 1) := dk_96 (dk_at dksX5_by_3 20 rfl rfl)
theorem dX5_by_92 : decode cX5_by 92 = .ok (.istore_n 3, 1) := dk_62 (dk_at dksX5_by_3 21 rfl rfl)
theorem dX5_by_93 : decode cX5_by 93 = .ok (.iinc 4 1, 3) := dk_132 4 1 (dk_at dksX5_by_4 0 rfl rfl)
theorem dX5_by_96 : decode cX5_by 96 = .ok (.goto (-49), 3) := dk_167 255 207 (dk_at dksX5_by_4 3 rfl rfl)
theorem dX5_by_99 : decode cX5_by 99 = .ok (.iload_n 3, 1) := dk_29 (dk_at dksX5_by_4 6 rfl rfl)
theorem dX5_by_100 : decode cX5_by 100 = .ok (.ireturn, 1) := dk_172 (dk_at dksX5_by_4 7 rfl rfl)
abbrev cX5_even : ByteArray := prog_10_method_101_code
def yX5_even : MethodName := ⟨RX5, "even", "()I"⟩
def dkwX5_even_4 : List UInt8 := [167, 255, 204, 28, 21, 4, 153, 0, 7, 4, 167, 0, 4, 3, 96, 61, 132, 3, 1, 167, 255, 171, 28, 172]
abbrev dktX5_even_4 : List UInt8 := dkwX5_even_4 ++ []
def dkwX5_even_3 : List UInt8 := [180, 0, 92, 29, 46, 3, 182, 1, 133, 160, 0, 7, 4, 167, 0, 4, 3, 54, 4, 132, 5, 1]
abbrev dktX5_even_3 : List UInt8 := dkwX5_even_3 ++ dktX5_even_4
def dkwX5_even_2 : List UInt8 := [162, 0, 47, 21, 4, 153, 0, 42, 42, 42, 180, 0, 92, 29, 46, 21, 5, 182, 1, 133, 42, 42]
abbrev dktX5_even_2 : List UInt8 := dkwX5_even_2 ++ dktX5_even_3
def dkwX5_even_1 : List UInt8 := [29, 42, 180, 1, 120, 162, 0, 83, 4, 54, 4, 4, 54, 5, 21, 5, 42, 180, 0, 34, 3, 46]
abbrev dktX5_even_1 : List UInt8 := dkwX5_even_1 ++ dktX5_even_2
def dkwX5_even_0 : List UInt8 := [42, 3, 181, 0, 131, 42, 182, 1, 127, 60, 27, 153, 0, 5, 27, 172, 42, 182, 1, 130, 3, 61, 3, 62]
abbrev dktX5_even_0 : List UInt8 := dkwX5_even_0 ++ dktX5_even_1
theorem dksX5_even_0 : cX5_even.data.toList.drop 0 = dktX5_even_0 := by decide +kernel
theorem dksX5_even_1 : cX5_even.data.toList.drop 24 = dktX5_even_1 := dk_seg dksX5_even_0 24 rfl rfl
theorem dksX5_even_2 : cX5_even.data.toList.drop 46 = dktX5_even_2 := dk_seg dksX5_even_1 22 rfl rfl
theorem dksX5_even_3 : cX5_even.data.toList.drop 68 = dktX5_even_3 := dk_seg dksX5_even_2 22 rfl rfl
theorem dksX5_even_4 : cX5_even.data.toList.drop 90 = dktX5_even_4 := dk_seg dksX5_even_3 22 rfl rfl
theorem dX5_even_0 : decode cX5_even 0 = .ok (.aload_n 0, 1) := dk_42 (dk_at dksX5_even_0 0 rfl rfl)
theorem dX5_even_1 : decode cX5_even 1 = .ok (.iconst 0, 1) := dk_3 (dk_at dksX5_even_0 1 rfl rfl)
theorem dX5_even_2 : decode cX5_even 2 = .ok (.putfield 131, 3) := dk_181 0 131 (dk_at dksX5_even_0 2 rfl rfl)
theorem dX5_even_5 : decode cX5_even 5 = .ok (.aload_n 0, 1) := dk_42 (dk_at dksX5_even_0 5 rfl rfl)
theorem dX5_even_6 : decode cX5_even 6 = .ok (.invokevirtual 383, 3) := dk_182 1 127 (dk_at dksX5_even_0 6 rfl rfl)
theorem dX5_even_9 : decode cX5_even 9 = .ok (.istore_n 1, 1) := dk_60 (dk_at dksX5_even_0 9 rfl rfl)
theorem dX5_even_10 : decode cX5_even 10 = .ok (.iload_n 1, 1) := dk_27 (dk_at dksX5_even_0 10 rfl rfl)
theorem dX5_even_11 : decode cX5_even 11 = .ok (.ifCond .eq 5, 3) := dk_153 0 5 (dk_at dksX5_even_0 11 rfl rfl)
theorem dX5_even_14 : decode cX5_even 14 = .ok (.iload_n 1, 1) := dk_27 (dk_at dksX5_even_0 14 rfl rfl)
theorem dX5_even_15 : decode cX5_even 15 = .ok (.ireturn, 1) := dk_172 (dk_at dksX5_even_0 15 rfl rfl)
theorem dX5_even_16 : decode cX5_even 16 = .ok (.aload_n 0, 1) := dk_42 (dk_at dksX5_even_0 16 rfl rfl)
theorem dX5_even_17 : decode cX5_even 17 = .ok (.invokevirtual 386, 3) := dk_182 1 130 (dk_at dksX5_even_0 17 rfl rfl)
theorem dX5_even_20 : decode cX5_even 20 = .ok (.iconst 0, 1) := dk_3 (dk_at dksX5_even_0 20 rfl rfl)
theorem dX5_even_21 : decode cX5_even 21 = .ok (.istore_n 2, 1) := dk_61 (dk_at dksX5_even_0 21 rfl rfl)
theorem dX5_even_22 : decode cX5_even 22 = .ok (.iconst 0, 1) := dk_3 (dk_at dksX5_even_0 22 rfl rfl)
theorem dX5_even_23 : decode cX5_even 23 = .ok (.istore_n 3, 1) := dk_62 (dk_at dksX5_even_0 23 rfl rfl)
theorem dX5_even_24 : decode cX5_even 24 = .ok (.iload_n 3, 1) := dk_29 (dk_at dksX5_even_1 0 rfl rfl)
theorem dX5_even_25 : decode cX5_even 25 = .ok (.aload_n 0, 1) := dk_42 (dk_at dksX5_even_1 1 rfl rfl)
theorem dX5_even_26 : decode cX5_even 26 = .ok (.getfield 376, 3) := dk_180 1 120 (dk_at dksX5_even_1 2 rfl rfl)
theorem dX5_even_29 : decode cX5_even 29 = .ok (.if_icmp .ge 83, 3) := dk_162 0 83 (dk_at dksX5_even_1 5 rfl rfl)
theorem dX5_even_32 : decode cX5_even 32 = .ok (.iconst 1, 1) := dk_4 (dk_at dksX5_even_1 8 rfl rfl)
theorem dX5_even_33 : decode cX5_even 33 = .ok (.istore 4, 2) := dk_54 4 (dk_at dksX5_even_1 9 rfl rfl)
theorem dX5_even_35 : decode cX5_even 35 = .ok (.iconst 1, 1) := dk_4 (dk_at dksX5_even_1 11 rfl rfl)
theorem dX5_even_36 : decode cX5_even 36 = .ok (.istore 5, 2) := dk_54 5 (dk_at dksX5_even_1 12 rfl rfl)
theorem dX5_even_38 : decode cX5_even 38 = .ok (.iload 5, 2) := dk_21 5 (dk_at dksX5_even_1 14 rfl rfl)
theorem dX5_even_40 : decode cX5_even 40 = .ok (.aload_n 0, 1) := dk_42 (dk_at dksX5_even_1 16 rfl rfl)
theorem dX5_even_41 : decode cX5_even 41 = .ok (.getfield 34, 3) := dk_180 0 34 (dk_at dksX5_even_1 17 rfl rfl)
theorem dX5_even_44 : decode cX5_even 44 = .ok (.iconst 0, 1) := dk_3 (dk_at dksX5_even_1 20 rfl rfl)
theorem dX5_even_45 : decode cX5_even 45 = .ok (.iaload, 1) := dk_46 (dk_at dksX5_even_1 21 rfl rfl)
theorem dX5_even_46 : decode cX5_even 46 = .ok (.if_icmp .ge 47, 3) := dk_162 0 47 (dk_at dksX5_even_2 0 rfl rfl)
theorem dX5_even_49 : decode cX5_even 49 = .ok (.iload 4, 2) := dk_21 4 (dk_at dksX5_even_2 3 rfl rfl)
theorem dX5_even_51 : decode cX5_even 51 = .ok (.ifCond .eq 42, 3) := dk_153 0 42 (dk_at dksX5_even_2 5 rfl rfl)
theorem dX5_even_54 : decode cX5_even 54 = .ok (.aload_n 0, 1) := dk_42 (dk_at dksX5_even_2 8 rfl rfl)
theorem dX5_even_55 : decode cX5_even 55 = .ok (.aload_n 0, 1) := dk_42 (dk_at dksX5_even_2 9 rfl rfl)
theorem dX5_even_56 : decode cX5_even 56 = .ok (.getfield 92, 3) := dk_180 0 92 (dk_at dksX5_even_2 10 rfl rfl)
theorem dX5_even_59 : decode cX5_even 59 = .ok (.iload_n 3, 1) := dk_29 (dk_at dksX5_even_2 13 rfl rfl)
theorem dX5_even_60 : decode cX5_even 60 = .ok (.iaload, 1) := dk_46 (dk_at dksX5_even_2 14 rfl rfl)
theorem dX5_even_61 : decode cX5_even 61 = .ok (.iload 5, 2) := dk_21 5 (dk_at dksX5_even_2 15 rfl rfl)
theorem dX5_even_63 : decode cX5_even 63 = .ok (.invokevirtual 389, 3) := dk_182 1 133 (dk_at dksX5_even_2 17 rfl rfl)
theorem dX5_even_66 : decode cX5_even 66 = .ok (.aload_n 0, 1) := dk_42 (dk_at dksX5_even_2 20 rfl rfl)
theorem dX5_even_67 : decode cX5_even 67 = .ok (.aload_n 0, 1) := dk_42 (dk_at dksX5_even_2 21 rfl rfl)
theorem dX5_even_68 : decode cX5_even 68 = .ok (.getfield 92, 3) := dk_180 0 92 (dk_at dksX5_even_3 0 rfl rfl)
theorem dX5_even_71 : decode cX5_even 71 = .ok (.iload_n 3, 1) := dk_29 (dk_at dksX5_even_3 3 rfl rfl)
theorem dX5_even_72 : decode cX5_even 72 = .ok (.iaload, 1) := dk_46 (dk_at dksX5_even_3 4 rfl rfl)
theorem dX5_even_73 : decode cX5_even 73 = .ok (.iconst 0, 1) := dk_3 (dk_at dksX5_even_3 5 rfl rfl)
theorem dX5_even_74 : decode cX5_even 74 = .ok (.invokevirtual 389, 3) := dk_182 1 133 (dk_at dksX5_even_3 6 rfl rfl)
theorem dX5_even_77 : decode cX5_even 77 = .ok (.if_icmp .ne 7, 3) := dk_160 0 7 (dk_at dksX5_even_3 9 rfl rfl)
theorem dX5_even_80 : decode cX5_even 80 = .ok (.iconst 1, 1) := dk_4 (dk_at dksX5_even_3 12 rfl rfl)
theorem dX5_even_81 : decode cX5_even 81 = .ok (.goto 4, 3) := dk_167 0 4 (dk_at dksX5_even_3 13 rfl rfl)
theorem dX5_even_84 : decode cX5_even 84 = .ok (.iconst 0, 1) := dk_3 (dk_at dksX5_even_3 16 rfl rfl)
theorem dX5_even_85 : decode cX5_even 85 = .ok (.istore 4, 2) := dk_54 4 (dk_at dksX5_even_3 17 rfl rfl)
theorem dX5_even_87 : decode cX5_even 87 = .ok (.iinc 5 1, 3) := dk_132 5 1 (dk_at dksX5_even_3 19 rfl rfl)
theorem dX5_even_90 : decode cX5_even 90 = .ok (.goto (-52), 3) := dk_167 255 204 (dk_at dksX5_even_4 0 rfl rfl)
theorem dX5_even_93 : decode cX5_even 93 = .ok (.iload_n 2, 1) := dk_28 (dk_at dksX5_even_4 3 rfl rfl)
theorem dX5_even_94 : decode cX5_even 94 = .ok (.iload 4, 2) := dk_21 4 (dk_at dksX5_even_4 4 rfl rfl)
theorem dX5_even_96 : decode cX5_even 96 = .ok (.ifCond .eq 7, 3) := dk_153 0 7 (dk_at dksX5_even_4 6 rfl rfl)
theorem dX5_even_99 : decode cX5_even 99 = .ok (.iconst 1, 1) := dk_4 (dk_at dksX5_even_4 9 rfl rfl)
theorem dX5_even_100 : decode cX5_even 100 = .ok (.goto 4, 3) := dk_167 0 4 (dk_at dksX5_even_4 10 rfl rfl)
theorem dX5_even_103 : decode cX5_even 103 = .ok (.iconst 0, 1) := dk_3 (dk_at dksX5_even_4 13 rfl rfl)
theorem dX5_even_104 : decode cX5_even 104 = .ok (.iadd, 1) := dk_96 (dk_at dksX5_even_4 14 rfl rfl)
theorem dX5_even_105 : decode cX5_even 105 = .ok (.istore_n 2, 1) := dk_61 (dk_at dksX5_even_4 15 rfl rfl)
theorem dX5_even_106 : decode cX5_even 106 = .ok (.iinc 3 1, 3) := dk_132 3 1 (dk_at dksX5_even_4 16 rfl rfl)
theorem dX5_even_109 : decode cX5_even 109 = .ok (.goto (-85), 3) := dk_167 255 171 (dk_at dksX5_even_4 19 rfl rfl)
theorem dX5_even_112 : decode cX5_even 112 = .ok (.iload_n 2, 1) := dk_28 (dk_at dksX5_even_4 22 rfl rfl)
theorem dX5_even_113 : decode cX5_even 113 = .ok (.ireturn, 1) := dk_172 (dk_at dksX5_even_4 23 rfl rfl)
abbrev cX5_turnsOf : ByteArray := prog_10_method_99_code
def yX5_turnsOf : MethodName := ⟨RX5, "turnsOf", "(II)I"⟩
def dkwX5_turnsOf_2 : List UInt8 := [62, 132, 4, 1, 167, 255, 209, 29, 172]
abbrev dktX5_turnsOf_2 : List UInt8 := dkwX5_turnsOf_2 ++ []
def dkwX5_turnsOf_1 : List UInt8 := [27, 42, 180, 0, 89, 8, 21, 4, 104, 28, 96, 46, 184, 1, 32, 153, 0, 7, 4, 167, 0, 4, 3, 96]
abbrev dktX5_turnsOf_1 : List UInt8 := dkwX5_turnsOf_1 ++ dktX5_turnsOf_2
def dkwX5_turnsOf_0 : List UInt8 := [3, 62, 3, 54, 4, 21, 4, 42, 182, 1, 26, 162, 0, 44, 29, 21, 4, 28, 184, 1, 32, 154, 0, 25]
abbrev dktX5_turnsOf_0 : List UInt8 := dkwX5_turnsOf_0 ++ dktX5_turnsOf_1
theorem dksX5_turnsOf_0 : cX5_turnsOf.data.toList.drop 0 = dktX5_turnsOf_0 := by decide +kernel
theorem dksX5_turnsOf_1 : cX5_turnsOf.data.toList.drop 24 = dktX5_turnsOf_1 := dk_seg dksX5_turnsOf_0 24 rfl rfl
theorem dksX5_turnsOf_2 : cX5_turnsOf.data.toList.drop 48 = dktX5_turnsOf_2 := dk_seg dksX5_turnsOf_1 24 rfl rfl
theorem dX5_turnsOf_0 : decode cX5_turnsOf 0 = .ok (.iconst 0, 1) := dk_3 (dk_at dksX5_turnsOf_0 0 rfl rfl)
theorem dX5_turnsOf_1 : decode cX5_turnsOf 1 = .ok (.istore_n 3, 1) := dk_62 (dk_at dksX5_turnsOf_0 1 rfl rfl)
theorem dX5_turnsOf_2 : decode cX5_turnsOf 2 = .ok (.iconst 0, 1) := dk_3 (dk_at dksX5_turnsOf_0 2 rfl rfl)
theorem dX5_turnsOf_3 : decode cX5_turnsOf 3 = .ok (.istore 4, 2) := dk_54 4 (dk_at dksX5_turnsOf_0 3 rfl rfl)
theorem dX5_turnsOf_5 : decode cX5_turnsOf 5 = .ok (.iload 4, 2) := dk_21 4 (dk_at dksX5_turnsOf_0 5 rfl rfl)
theorem dX5_turnsOf_7 : decode cX5_turnsOf 7 = .ok (.aload_n 0, 1) := dk_42 (dk_at dksX5_turnsOf_0 7 rfl rfl)
theorem dX5_turnsOf_8 : decode cX5_turnsOf 8 = .ok (.invokevirtual 282, 3) := dk_182 1 26 (dk_at dksX5_turnsOf_0 8 rfl rfl)
theorem dX5_turnsOf_11 : decode cX5_turnsOf 11 = .ok (.if_icmp .ge 44, 3) := dk_162 0 44 (dk_at dksX5_turnsOf_0 11 rfl rfl)
theorem dX5_turnsOf_14 : decode cX5_turnsOf 14 = .ok (.iload_n 3, 1) := dk_29 (dk_at dksX5_turnsOf_0 14 rfl rfl)
theorem dX5_turnsOf_15 : decode cX5_turnsOf 15 = .ok (.iload 4, 2) := dk_21 4 (dk_at dksX5_turnsOf_0 15 rfl rfl)
theorem dX5_turnsOf_17 : decode cX5_turnsOf 17 = .ok (.iload_n 2, 1) := dk_28 (dk_at dksX5_turnsOf_0 17 rfl rfl)
theorem dX5_turnsOf_18 : decode cX5_turnsOf 18 = .ok (.invokestatic 288, 3) := dk_184 1 32 (dk_at dksX5_turnsOf_0 18 rfl rfl)
theorem dX5_turnsOf_21 : decode cX5_turnsOf 21 = .ok (.ifCond .ne 25, 3) := dk_154 0 25 (dk_at dksX5_turnsOf_0 21 rfl rfl)
theorem dX5_turnsOf_24 : decode cX5_turnsOf 24 = .ok (.iload_n 1, 1) := dk_27 (dk_at dksX5_turnsOf_1 0 rfl rfl)
theorem dX5_turnsOf_25 : decode cX5_turnsOf 25 = .ok (.aload_n 0, 1) := dk_42 (dk_at dksX5_turnsOf_1 1 rfl rfl)
theorem dX5_turnsOf_26 : decode cX5_turnsOf 26 = .ok (.getfield 89, 3) := dk_180 0 89 (dk_at dksX5_turnsOf_1 2 rfl rfl)
theorem dX5_turnsOf_29 : decode cX5_turnsOf 29 = .ok (.iconst 5, 1) := dk_8 (dk_at dksX5_turnsOf_1 5 rfl rfl)
theorem dX5_turnsOf_30 : decode cX5_turnsOf 30 = .ok (.iload 4, 2) := dk_21 4 (dk_at dksX5_turnsOf_1 6 rfl rfl)
theorem dX5_turnsOf_32 : decode cX5_turnsOf 32 = .ok (.imul, 1) := dk_104 (dk_at dksX5_turnsOf_1 8 rfl rfl)
theorem dX5_turnsOf_33 : decode cX5_turnsOf 33 = .ok (.iload_n 2, 1) := dk_28 (dk_at dksX5_turnsOf_1 9 rfl rfl)
theorem dX5_turnsOf_34 : decode cX5_turnsOf 34 = .ok (.iadd, 1) := dk_96 (dk_at dksX5_turnsOf_1 10 rfl rfl)
theorem dX5_turnsOf_35 : decode cX5_turnsOf 35 = .ok (.iaload, 1) := dk_46 (dk_at dksX5_turnsOf_1 11 rfl rfl)
theorem dX5_turnsOf_36 : decode cX5_turnsOf 36 = .ok (.invokestatic 288, 3) := dk_184 1 32 (dk_at dksX5_turnsOf_1 12 rfl rfl)
theorem dX5_turnsOf_39 : decode cX5_turnsOf 39 = .ok (.ifCond .eq 7, 3) := dk_153 0 7 (dk_at dksX5_turnsOf_1 15 rfl rfl)
theorem dX5_turnsOf_42 : decode cX5_turnsOf 42 = .ok (.iconst 1, 1) := dk_4 (dk_at dksX5_turnsOf_1 18 rfl rfl)
theorem dX5_turnsOf_43 : decode cX5_turnsOf 43 = .ok (.goto 4, 3) := dk_167 0 4 (dk_at dksX5_turnsOf_1 19 rfl rfl)
theorem dX5_turnsOf_46 : decode cX5_turnsOf 46 = .ok (.iconst 0, 1) := dk_3 (dk_at dksX5_turnsOf_1 22 rfl rfl)
theorem dX5_turnsOf_47 : decode cX5_turnsOf 47 = .ok (.iadd, 1) := dk_96 (dk_at dksX5_turnsOf_1 23 rfl rfl)
theorem dX5_turnsOf_48 : decode cX5_turnsOf 48 = .ok (.istore_n 3, 1) := dk_62 (dk_at dksX5_turnsOf_2 0 rfl rfl)
theorem dX5_turnsOf_49 : decode cX5_turnsOf 49 = .ok (.iinc 4 1, 3) := dk_132 4 1 (dk_at dksX5_turnsOf_2 1 rfl rfl)
theorem dX5_turnsOf_52 : decode cX5_turnsOf 52 = .ok (.goto (-47), 3) := dk_167 255 209 (dk_at dksX5_turnsOf_2 4 rfl rfl)
theorem dX5_turnsOf_55 : decode cX5_turnsOf 55 = .ok (.iload_n 3, 1) := dk_29 (dk_at dksX5_turnsOf_2 7 rfl rfl)
theorem dX5_turnsOf_56 : decode cX5_turnsOf 56 = .ok (.ireturn, 1) := dk_172 (dk_at dksX5_turnsOf_2 8 rfl rfl)
abbrev cX5_unlike : ByteArray := prog_10_method_102_code
def yX5_unlike : MethodName := ⟨RX5, "unlike", "()I"⟩
def dkwX5_unlike_9 : List UInt8 := [132, 4, 1, 167, 255, 172, 132, 3, 1, 167, 255, 64, 28, 42, 180, 1, 97, 108, 172]
abbrev dktX5_unlike_9 : List UInt8 := dkwX5_unlike_9 ++ []
def dkwX5_unlike_8 : List UInt8 := [167, 255, 213, 28, 21, 5, 42, 180, 0, 92, 21, 4, 46, 160, 0, 7, 4, 167, 0, 4, 3, 96, 61]
abbrev dktX5_unlike_8 : List UInt8 := dkwX5_unlike_8 ++ dktX5_unlike_9
def dkwX5_unlike_7 : List UInt8 := [153, 0, 15, 4, 42, 180, 0, 101, 21, 6, 46, 120, 167, 0, 4, 3, 128, 54, 5, 132, 6, 1]
abbrev dktX5_unlike_7 : List UInt8 := dkwX5_unlike_7 ++ dktX5_unlike_8
def dkwX5_unlike_6 : List UInt8 := [3, 54, 6, 21, 6, 16, 32, 162, 0, 42, 21, 5, 42, 180, 0, 92, 21, 4, 46, 21, 6, 184, 1, 32]
abbrev dktX5_unlike_6 : List UInt8 := dkwX5_unlike_6 ++ dktX5_unlike_7
def dkwX5_unlike_5 : List UInt8 := [167, 255, 189, 132, 4, 1, 167, 255, 171, 3, 54, 4, 21, 4, 42, 180, 1, 120, 162, 0, 81, 3, 54, 5]
abbrev dktX5_unlike_5 : List UInt8 := dkwX5_unlike_5 ++ dktX5_unlike_6
def dkwX5_unlike_4 : List UInt8 := [21, 4, 182, 1, 106, 104, 42, 180, 0, 80, 8, 29, 104, 21, 5, 96, 46, 96, 46, 79, 132, 5, 1]
abbrev dktX5_unlike_4 : List UInt8 := dkwX5_unlike_4 ++ dktX5_unlike_5
def dkwX5_unlike_3 : List UInt8 := [42, 180, 0, 101, 42, 180, 0, 89, 8, 21, 4, 104, 21, 5, 96, 46, 42, 180, 0, 89, 8, 42, 29]
abbrev dktX5_unlike_3 : List UInt8 := dkwX5_unlike_3 ++ dktX5_unlike_4
def dkwX5_unlike_2 : List UInt8 := [3, 54, 5, 21, 5, 42, 180, 0, 34, 3, 46, 162, 0, 62, 21, 4, 21, 5, 184, 1, 32, 154, 0, 46]
abbrev dktX5_unlike_2 : List UInt8 := dkwX5_unlike_2 ++ dktX5_unlike_3
def dkwX5_unlike_1 : List UInt8 := [3, 61, 3, 62, 29, 42, 180, 1, 97, 162, 0, 190, 3, 54, 4, 21, 4, 42, 182, 1, 26, 162, 0, 82]
abbrev dktX5_unlike_1 : List UInt8 := dkwX5_unlike_1 ++ dktX5_unlike_2
def dkwX5_unlike_0 : List UInt8 := [42, 3, 181, 0, 131, 42, 182, 1, 127, 60, 27, 153, 0, 5, 27, 172, 42, 182, 1, 130, 42, 182, 1, 109]
abbrev dktX5_unlike_0 : List UInt8 := dkwX5_unlike_0 ++ dktX5_unlike_1
theorem dksX5_unlike_0 : cX5_unlike.data.toList.drop 0 = dktX5_unlike_0 := by decide +kernel
theorem dksX5_unlike_1 : cX5_unlike.data.toList.drop 24 = dktX5_unlike_1 := dk_seg dksX5_unlike_0 24 rfl rfl
theorem dksX5_unlike_2 : cX5_unlike.data.toList.drop 48 = dktX5_unlike_2 := dk_seg dksX5_unlike_1 24 rfl rfl
theorem dksX5_unlike_3 : cX5_unlike.data.toList.drop 72 = dktX5_unlike_3 := dk_seg dksX5_unlike_2 24 rfl rfl
theorem dksX5_unlike_4 : cX5_unlike.data.toList.drop 95 = dktX5_unlike_4 := dk_seg dksX5_unlike_3 23 rfl rfl
theorem dksX5_unlike_5 : cX5_unlike.data.toList.drop 118 = dktX5_unlike_5 := dk_seg dksX5_unlike_4 23 rfl rfl
theorem dksX5_unlike_6 : cX5_unlike.data.toList.drop 142 = dktX5_unlike_6 := dk_seg dksX5_unlike_5 24 rfl rfl
theorem dksX5_unlike_7 : cX5_unlike.data.toList.drop 166 = dktX5_unlike_7 := dk_seg dksX5_unlike_6 24 rfl rfl
theorem dksX5_unlike_8 : cX5_unlike.data.toList.drop 188 = dktX5_unlike_8 := dk_seg dksX5_unlike_7 22 rfl rfl
theorem dksX5_unlike_9 : cX5_unlike.data.toList.drop 211 = dktX5_unlike_9 := dk_seg dksX5_unlike_8 23 rfl rfl
theorem dX5_unlike_0 : decode cX5_unlike 0 = .ok (.aload_n 0, 1) := dk_42 (dk_at dksX5_unlike_0 0 rfl rfl)
theorem dX5_unlike_1 : decode cX5_unlike 1 = .ok (.iconst 0, 1) := dk_3 (dk_at dksX5_unlike_0 1 rfl rfl)
theorem dX5_unlike_2 : decode cX5_unlike 2 = .ok (.putfield 131, 3) := dk_181 0 131 (dk_at dksX5_unlike_0 2 rfl rfl)
theorem dX5_unlike_5 : decode cX5_unlike 5 = .ok (.aload_n 0, 1) := dk_42 (dk_at dksX5_unlike_0 5 rfl rfl)
theorem dX5_unlike_6 : decode cX5_unlike 6 = .ok (.invokevirtual 383, 3) := dk_182 1 127 (dk_at dksX5_unlike_0 6 rfl rfl)
theorem dX5_unlike_9 : decode cX5_unlike 9 = .ok (.istore_n 1, 1) := dk_60 (dk_at dksX5_unlike_0 9 rfl rfl)
theorem dX5_unlike_10 : decode cX5_unlike 10 = .ok (.iload_n 1, 1) := dk_27 (dk_at dksX5_unlike_0 10 rfl rfl)
theorem dX5_unlike_11 : decode cX5_unlike 11 = .ok (.ifCond .eq 5, 3) := dk_153 0 5 (dk_at dksX5_unlike_0 11 rfl rfl)
theorem dX5_unlike_14 : decode cX5_unlike 14 = .ok (.iload_n 1, 1) := dk_27 (dk_at dksX5_unlike_0 14 rfl rfl)
theorem dX5_unlike_15 : decode cX5_unlike 15 = .ok (.ireturn, 1) := dk_172 (dk_at dksX5_unlike_0 15 rfl rfl)
theorem dX5_unlike_16 : decode cX5_unlike 16 = .ok (.aload_n 0, 1) := dk_42 (dk_at dksX5_unlike_0 16 rfl rfl)
theorem dX5_unlike_17 : decode cX5_unlike 17 = .ok (.invokevirtual 386, 3) := dk_182 1 130 (dk_at dksX5_unlike_0 17 rfl rfl)
theorem dX5_unlike_20 : decode cX5_unlike 20 = .ok (.aload_n 0, 1) := dk_42 (dk_at dksX5_unlike_0 20 rfl rfl)
theorem dX5_unlike_21 : decode cX5_unlike 21 = .ok (.invokevirtual 365, 3) := dk_182 1 109 (dk_at dksX5_unlike_0 21 rfl rfl)
theorem dX5_unlike_24 : decode cX5_unlike 24 = .ok (.iconst 0, 1) := dk_3 (dk_at dksX5_unlike_1 0 rfl rfl)
theorem dX5_unlike_25 : decode cX5_unlike 25 = .ok (.istore_n 2, 1) := dk_61 (dk_at dksX5_unlike_1 1 rfl rfl)
theorem dX5_unlike_26 : decode cX5_unlike 26 = .ok (.iconst 0, 1) := dk_3 (dk_at dksX5_unlike_1 2 rfl rfl)
theorem dX5_unlike_27 : decode cX5_unlike 27 = .ok (.istore_n 3, 1) := dk_62 (dk_at dksX5_unlike_1 3 rfl rfl)
theorem dX5_unlike_28 : decode cX5_unlike 28 = .ok (.iload_n 3, 1) := dk_29 (dk_at dksX5_unlike_1 4 rfl rfl)
theorem dX5_unlike_29 : decode cX5_unlike 29 = .ok (.aload_n 0, 1) := dk_42 (dk_at dksX5_unlike_1 5 rfl rfl)
theorem dX5_unlike_30 : decode cX5_unlike 30 = .ok (.getfield 353, 3) := dk_180 1 97 (dk_at dksX5_unlike_1 6 rfl rfl)
theorem dX5_unlike_33 : decode cX5_unlike 33 = .ok (.if_icmp .ge 190, 3) := dk_162 0 190 (dk_at dksX5_unlike_1 9 rfl rfl)
theorem dX5_unlike_36 : decode cX5_unlike 36 = .ok (.iconst 0, 1) := dk_3 (dk_at dksX5_unlike_1 12 rfl rfl)
theorem dX5_unlike_37 : decode cX5_unlike 37 = .ok (.istore 4, 2) := dk_54 4 (dk_at dksX5_unlike_1 13 rfl rfl)
theorem dX5_unlike_39 : decode cX5_unlike 39 = .ok (.iload 4, 2) := dk_21 4 (dk_at dksX5_unlike_1 15 rfl rfl)
theorem dX5_unlike_41 : decode cX5_unlike 41 = .ok (.aload_n 0, 1) := dk_42 (dk_at dksX5_unlike_1 17 rfl rfl)
theorem dX5_unlike_42 : decode cX5_unlike 42 = .ok (.invokevirtual 282, 3) := dk_182 1 26 (dk_at dksX5_unlike_1 18 rfl rfl)
theorem dX5_unlike_45 : decode cX5_unlike 45 = .ok (.if_icmp .ge 82, 3) := dk_162 0 82 (dk_at dksX5_unlike_1 21 rfl rfl)
theorem dX5_unlike_48 : decode cX5_unlike 48 = .ok (.iconst 0, 1) := dk_3 (dk_at dksX5_unlike_2 0 rfl rfl)
theorem dX5_unlike_49 : decode cX5_unlike 49 = .ok (.istore 5, 2) := dk_54 5 (dk_at dksX5_unlike_2 1 rfl rfl)
theorem dX5_unlike_51 : decode cX5_unlike 51 = .ok (.iload 5, 2) := dk_21 5 (dk_at dksX5_unlike_2 3 rfl rfl)
theorem dX5_unlike_53 : decode cX5_unlike 53 = .ok (.aload_n 0, 1) := dk_42 (dk_at dksX5_unlike_2 5 rfl rfl)
theorem dX5_unlike_54 : decode cX5_unlike 54 = .ok (.getfield 34, 3) := dk_180 0 34 (dk_at dksX5_unlike_2 6 rfl rfl)
theorem dX5_unlike_57 : decode cX5_unlike 57 = .ok (.iconst 0, 1) := dk_3 (dk_at dksX5_unlike_2 9 rfl rfl)
theorem dX5_unlike_58 : decode cX5_unlike 58 = .ok (.iaload, 1) := dk_46 (dk_at dksX5_unlike_2 10 rfl rfl)
theorem dX5_unlike_59 : decode cX5_unlike 59 = .ok (.if_icmp .ge 62, 3) := dk_162 0 62 (dk_at dksX5_unlike_2 11 rfl rfl)
theorem dX5_unlike_62 : decode cX5_unlike 62 = .ok (.iload 4, 2) := dk_21 4 (dk_at dksX5_unlike_2 14 rfl rfl)
theorem dX5_unlike_64 : decode cX5_unlike 64 = .ok (.iload 5, 2) := dk_21 5 (dk_at dksX5_unlike_2 16 rfl rfl)
theorem dX5_unlike_66 : decode cX5_unlike 66 = .ok (.invokestatic 288, 3) := dk_184 1 32 (dk_at dksX5_unlike_2 18 rfl rfl)
theorem dX5_unlike_69 : decode cX5_unlike 69 = .ok (.ifCond .ne 46, 3) := dk_154 0 46 (dk_at dksX5_unlike_2 21 rfl rfl)
theorem dX5_unlike_72 : decode cX5_unlike 72 = .ok (.aload_n 0, 1) := dk_42 (dk_at dksX5_unlike_3 0 rfl rfl)
theorem dX5_unlike_73 : decode cX5_unlike 73 = .ok (.getfield 101, 3) := dk_180 0 101 (dk_at dksX5_unlike_3 1 rfl rfl)
theorem dX5_unlike_76 : decode cX5_unlike 76 = .ok (.aload_n 0, 1) := dk_42 (dk_at dksX5_unlike_3 4 rfl rfl)
theorem dX5_unlike_77 : decode cX5_unlike 77 = .ok (.getfield 89, 3) := dk_180 0 89 (dk_at dksX5_unlike_3 5 rfl rfl)
theorem dX5_unlike_80 : decode cX5_unlike 80 = .ok (.iconst 5, 1) := dk_8 (dk_at dksX5_unlike_3 8 rfl rfl)
theorem dX5_unlike_81 : decode cX5_unlike 81 = .ok (.iload 4, 2) := dk_21 4 (dk_at dksX5_unlike_3 9 rfl rfl)
theorem dX5_unlike_83 : decode cX5_unlike 83 = .ok (.imul, 1) := dk_104 (dk_at dksX5_unlike_3 11 rfl rfl)
theorem dX5_unlike_84 : decode cX5_unlike 84 = .ok (.iload 5, 2) := dk_21 5 (dk_at dksX5_unlike_3 12 rfl rfl)
theorem dX5_unlike_86 : decode cX5_unlike 86 = .ok (.iadd, 1) := dk_96 (dk_at dksX5_unlike_3 14 rfl rfl)
theorem dX5_unlike_87 : decode cX5_unlike 87 = .ok (.iaload, 1) := dk_46 (dk_at dksX5_unlike_3 15 rfl rfl)
theorem dX5_unlike_88 : decode cX5_unlike 88 = .ok (.aload_n 0, 1) := dk_42 (dk_at dksX5_unlike_3 16 rfl rfl)
theorem dX5_unlike_89 : decode cX5_unlike 89 = .ok (.getfield 89, 3) := dk_180 0 89 (dk_at dksX5_unlike_3 17 rfl rfl)
theorem dX5_unlike_92 : decode cX5_unlike 92 = .ok (.iconst 5, 1) := dk_8 (dk_at dksX5_unlike_3 20 rfl rfl)
theorem dX5_unlike_93 : decode cX5_unlike 93 = .ok (.aload_n 0, 1) := dk_42 (dk_at dksX5_unlike_3 21 rfl rfl)
theorem dX5_unlike_94 : decode cX5_unlike 94 = .ok (.iload_n 3, 1) := dk_29 (dk_at dksX5_unlike_3 22 rfl rfl)
theorem dX5_unlike_95 : decode cX5_unlike 95 = .ok (.iload 4, 2) := dk_21 4 (dk_at dksX5_unlike_4 0 rfl rfl)
theorem dX5_unlike_97 : decode cX5_unlike 97 = .ok (.invokevirtual 362, 3) := dk_182 1 106 (dk_at dksX5_unlike_4 2 rfl rfl)
theorem dX5_unlike_100 : decode cX5_unlike 100 = .ok (.imul, 1) := dk_104 (dk_at dksX5_unlike_4 5 rfl rfl)
theorem dX5_unlike_101 : decode cX5_unlike 101 = .ok (.aload_n 0, 1) := dk_42 (dk_at dksX5_unlike_4 6 rfl rfl)
theorem dX5_unlike_102 : decode cX5_unlike 102 = .ok (.getfield 80, 3) := dk_180 0 80 (dk_at dksX5_unlike_4 7 rfl rfl)
theorem dX5_unlike_105 : decode cX5_unlike 105 = .ok (.iconst 5, 1) := dk_8 (dk_at dksX5_unlike_4 10 rfl rfl)
theorem dX5_unlike_106 : decode cX5_unlike 106 = .ok (.iload_n 3, 1) := dk_29 (dk_at dksX5_unlike_4 11 rfl rfl)
theorem dX5_unlike_107 : decode cX5_unlike 107 = .ok (.imul, 1) := dk_104 (dk_at dksX5_unlike_4 12 rfl rfl)
theorem dX5_unlike_108 : decode cX5_unlike 108 = .ok (.iload 5, 2) := dk_21 5 (dk_at dksX5_unlike_4 13 rfl rfl)
theorem dX5_unlike_110 : decode cX5_unlike 110 = .ok (.iadd, 1) := dk_96 (dk_at dksX5_unlike_4 15 rfl rfl)
theorem dX5_unlike_111 : decode cX5_unlike 111 = .ok (.iaload, 1) := dk_46 (dk_at dksX5_unlike_4 16 rfl rfl)
theorem dX5_unlike_112 : decode cX5_unlike 112 = .ok (.iadd, 1) := dk_96 (dk_at dksX5_unlike_4 17 rfl rfl)
theorem dX5_unlike_113 : decode cX5_unlike 113 = .ok (.iaload, 1) := dk_46 (dk_at dksX5_unlike_4 18 rfl rfl)
theorem dX5_unlike_114 : decode cX5_unlike 114 = .ok (.iastore, 1) := dk_79 (dk_at dksX5_unlike_4 19 rfl rfl)
theorem dX5_unlike_115 : decode cX5_unlike 115 = .ok (.iinc 5 1, 3) := dk_132 5 1 (dk_at dksX5_unlike_4 20 rfl rfl)
theorem dX5_unlike_118 : decode cX5_unlike 118 = .ok (.goto (-67), 3) := dk_167 255 189 (dk_at dksX5_unlike_5 0 rfl rfl)
theorem dX5_unlike_121 : decode cX5_unlike 121 = .ok (.iinc 4 1, 3) := dk_132 4 1 (dk_at dksX5_unlike_5 3 rfl rfl)
theorem dX5_unlike_124 : decode cX5_unlike 124 = .ok (.goto (-85), 3) := dk_167 255 171 (dk_at dksX5_unlike_5 6 rfl rfl)
theorem dX5_unlike_127 : decode cX5_unlike 127 = .ok (.iconst 0, 1) := dk_3 (dk_at dksX5_unlike_5 9 rfl rfl)
theorem dX5_unlike_128 : decode cX5_unlike 128 = .ok (.istore 4, 2) := dk_54 4 (dk_at dksX5_unlike_5 10 rfl rfl)
theorem dX5_unlike_130 : decode cX5_unlike 130 = .ok (.iload 4, 2) := dk_21 4 (dk_at dksX5_unlike_5 12 rfl rfl)
theorem dX5_unlike_132 : decode cX5_unlike 132 = .ok (.aload_n 0, 1) := dk_42 (dk_at dksX5_unlike_5 14 rfl rfl)
theorem dX5_unlike_133 : decode cX5_unlike 133 = .ok (.getfield 376, 3) := dk_180 1 120 (dk_at dksX5_unlike_5 15 rfl rfl)
theorem dX5_unlike_136 : decode cX5_unlike 136 = .ok (.if_icmp .ge 81, 3) := dk_162 0 81 (dk_at dksX5_unlike_5 18 rfl rfl)
theorem dX5_unlike_139 : decode cX5_unlike 139 = .ok (.iconst 0, 1) := dk_3 (dk_at dksX5_unlike_5 21 rfl rfl)
theorem dX5_unlike_140 : decode cX5_unlike 140 = .ok (.istore 5, 2) := dk_54 5 (dk_at dksX5_unlike_5 22 rfl rfl)
theorem dX5_unlike_142 : decode cX5_unlike 142 = .ok (.iconst 0, 1) := dk_3 (dk_at dksX5_unlike_6 0 rfl rfl)
theorem dX5_unlike_143 : decode cX5_unlike 143 = .ok (.istore 6, 2) := dk_54 6 (dk_at dksX5_unlike_6 1 rfl rfl)
theorem dX5_unlike_145 : decode cX5_unlike 145 = .ok (.iload 6, 2) := dk_21 6 (dk_at dksX5_unlike_6 3 rfl rfl)
theorem dX5_unlike_147 : decode cX5_unlike 147 = .ok (.bipush 32, 2) := dk_16 32 (dk_at dksX5_unlike_6 5 rfl rfl)
theorem dX5_unlike_149 : decode cX5_unlike 149 = .ok (.if_icmp .ge 42, 3) := dk_162 0 42 (dk_at dksX5_unlike_6 7 rfl rfl)
theorem dX5_unlike_152 : decode cX5_unlike 152 = .ok (.iload 5, 2) := dk_21 5 (dk_at dksX5_unlike_6 10 rfl rfl)
theorem dX5_unlike_154 : decode cX5_unlike 154 = .ok (.aload_n 0, 1) := dk_42 (dk_at dksX5_unlike_6 12 rfl rfl)
theorem dX5_unlike_155 : decode cX5_unlike 155 = .ok (.getfield 92, 3) := dk_180 0 92 (dk_at dksX5_unlike_6 13 rfl rfl)
theorem dX5_unlike_158 : decode cX5_unlike 158 = .ok (.iload 4, 2) := dk_21 4 (dk_at dksX5_unlike_6 16 rfl rfl)
theorem dX5_unlike_160 : decode cX5_unlike 160 = .ok (.iaload, 1) := dk_46 (dk_at dksX5_unlike_6 18 rfl rfl)
theorem dX5_unlike_161 : decode cX5_unlike 161 = .ok (.iload 6, 2) := dk_21 6 (dk_at dksX5_unlike_6 19 rfl rfl)
theorem dX5_unlike_163 : decode cX5_unlike 163 = .ok (.invokestatic 288, 3) := dk_184 1 32 (dk_at dksX5_unlike_6 21 rfl rfl)
theorem dX5_unlike_166 : decode cX5_unlike 166 = .ok (.ifCond .eq 15, 3) := dk_153 0 15 (dk_at dksX5_unlike_7 0 rfl rfl)
theorem dX5_unlike_169 : decode cX5_unlike 169 = .ok (.iconst 1, 1) := dk_4 (dk_at dksX5_unlike_7 3 rfl rfl)
theorem dX5_unlike_170 : decode cX5_unlike 170 = .ok (.aload_n 0, 1) := dk_42 (dk_at dksX5_unlike_7 4 rfl rfl)
theorem dX5_unlike_171 : decode cX5_unlike 171 = .ok (.getfield 101, 3) := dk_180 0 101 (dk_at dksX5_unlike_7 5 rfl rfl)
theorem dX5_unlike_174 : decode cX5_unlike 174 = .ok (.iload 6, 2) := dk_21 6 (dk_at dksX5_unlike_7 8 rfl rfl)
theorem dX5_unlike_176 : decode cX5_unlike 176 = .ok (.iaload, 1) := dk_46 (dk_at dksX5_unlike_7 10 rfl rfl)
theorem dX5_unlike_177 : decode cX5_unlike 177 = .ok (.ishl, 1) := dk_120 (dk_at dksX5_unlike_7 11 rfl rfl)
theorem dX5_unlike_178 : decode cX5_unlike 178 = .ok (.goto 4, 3) := dk_167 0 4 (dk_at dksX5_unlike_7 12 rfl rfl)
theorem dX5_unlike_181 : decode cX5_unlike 181 = .ok (.iconst 0, 1) := dk_3 (dk_at dksX5_unlike_7 15 rfl rfl)
theorem dX5_unlike_182 : decode cX5_unlike 182 = .ok (.ior, 1) := dk_128 (dk_at dksX5_unlike_7 16 rfl rfl)
theorem dX5_unlike_183 : decode cX5_unlike 183 = .ok (.istore 5, 2) := dk_54 5 (dk_at dksX5_unlike_7 17 rfl rfl)
theorem dX5_unlike_185 : decode cX5_unlike 185 = .ok (.iinc 6 1, 3) := dk_132 6 1 (dk_at dksX5_unlike_7 19 rfl rfl)
theorem dX5_unlike_188 : decode cX5_unlike 188 = .ok (.goto (-43), 3) := dk_167 255 213 (dk_at dksX5_unlike_8 0 rfl rfl)
theorem dX5_unlike_191 : decode cX5_unlike 191 = .ok (.iload_n 2, 1) := dk_28 (dk_at dksX5_unlike_8 3 rfl rfl)
theorem dX5_unlike_192 : decode cX5_unlike 192 = .ok (.iload 5, 2) := dk_21 5 (dk_at dksX5_unlike_8 4 rfl rfl)
theorem dX5_unlike_194 : decode cX5_unlike 194 = .ok (.aload_n 0, 1) := dk_42 (dk_at dksX5_unlike_8 6 rfl rfl)
theorem dX5_unlike_195 : decode cX5_unlike 195 = .ok (.getfield 92, 3) := dk_180 0 92 (dk_at dksX5_unlike_8 7 rfl rfl)
theorem dX5_unlike_198 : decode cX5_unlike 198 = .ok (.iload 4, 2) := dk_21 4 (dk_at dksX5_unlike_8 10 rfl rfl)
theorem dX5_unlike_200 : decode cX5_unlike 200 = .ok (.iaload, 1) := dk_46 (dk_at dksX5_unlike_8 12 rfl rfl)
theorem dX5_unlike_201 : decode cX5_unlike 201 = .ok (.if_icmp .ne 7, 3) := dk_160 0 7 (dk_at dksX5_unlike_8 13 rfl rfl)
theorem dX5_unlike_204 : decode cX5_unlike 204 = .ok (.iconst 1, 1) := dk_4 (dk_at dksX5_unlike_8 16 rfl rfl)
theorem dX5_unlike_205 : decode cX5_unlike 205 = .ok (.goto 4, 3) := dk_167 0 4 (dk_at dksX5_unlike_8 17 rfl rfl)
theorem dX5_unlike_208 : decode cX5_unlike 208 = .ok (.iconst 0, 1) := dk_3 (dk_at dksX5_unlike_8 20 rfl rfl)
theorem dX5_unlike_209 : decode cX5_unlike 209 = .ok (.iadd, 1) := dk_96 (dk_at dksX5_unlike_8 21 rfl rfl)
theorem dX5_unlike_210 : decode cX5_unlike 210 = .ok (.istore_n 2, 1) := dk_61 (dk_at dksX5_unlike_8 22 rfl rfl)
theorem dX5_unlike_211 : decode cX5_unlike 211 = .ok (.iinc 4 1, 3) := dk_132 4 1 (dk_at dksX5_unlike_9 0 rfl rfl)
theorem dX5_unlike_214 : decode cX5_unlike 214 = .ok (.goto (-84), 3) := dk_167 255 172 (dk_at dksX5_unlike_9 3 rfl rfl)
theorem dX5_unlike_217 : decode cX5_unlike 217 = .ok (.iinc 3 1, 3) := dk_132 3 1 (dk_at dksX5_unlike_9 6 rfl rfl)
theorem dX5_unlike_220 : decode cX5_unlike 220 = .ok (.goto (-192), 3) := dk_167 255 64 (dk_at dksX5_unlike_9 9 rfl rfl)
theorem dX5_unlike_223 : decode cX5_unlike 223 = .ok (.iload_n 2, 1) := dk_28 (dk_at dksX5_unlike_9 12 rfl rfl)
theorem dX5_unlike_224 : decode cX5_unlike 224 = .ok (.aload_n 0, 1) := dk_42 (dk_at dksX5_unlike_9 13 rfl rfl)
theorem dX5_unlike_225 : decode cX5_unlike 225 = .ok (.getfield 353, 3) := dk_180 1 97 (dk_at dksX5_unlike_9 14 rfl rfl)
theorem dX5_unlike_228 : decode cX5_unlike 228 = .ok (.idiv, 1) := dk_108 (dk_at dksX5_unlike_9 17 rfl rfl)
theorem dX5_unlike_229 : decode cX5_unlike 229 = .ok (.ireturn, 1) := dk_172 (dk_at dksX5_unlike_9 18 rfl rfl)
abbrev cX5_bare : ByteArray := prog_10_method_105_code
def yX5_bare : MethodName := ⟨RX5, "bare", "()I"⟩
def dkwX5_bare_2 : List UInt8 := [4, 167, 0, 4, 3, 96, 60, 132, 2, 1, 167, 255, 221, 27, 172]
abbrev dktX5_bare_2 : List UInt8 := dkwX5_bare_2 ++ []
def dkwX5_bare_1 : List UInt8 := [42, 182, 1, 26, 162, 0, 33, 27, 42, 180, 0, 104, 28, 46, 42, 180, 0, 49, 3, 46, 126, 154, 0, 7]
abbrev dktX5_bare_1 : List UInt8 := dkwX5_bare_1 ++ dktX5_bare_2
def dkwX5_bare_0 : List UInt8 := [42, 3, 181, 0, 131, 42, 182, 1, 23, 154, 0, 6, 16, 254, 172, 42, 182, 1, 139, 3, 60, 3, 61, 28]
abbrev dktX5_bare_0 : List UInt8 := dkwX5_bare_0 ++ dktX5_bare_1
theorem dksX5_bare_0 : cX5_bare.data.toList.drop 0 = dktX5_bare_0 := by decide +kernel
theorem dksX5_bare_1 : cX5_bare.data.toList.drop 24 = dktX5_bare_1 := dk_seg dksX5_bare_0 24 rfl rfl
theorem dksX5_bare_2 : cX5_bare.data.toList.drop 48 = dktX5_bare_2 := dk_seg dksX5_bare_1 24 rfl rfl
theorem dX5_bare_0 : decode cX5_bare 0 = .ok (.aload_n 0, 1) := dk_42 (dk_at dksX5_bare_0 0 rfl rfl)
theorem dX5_bare_1 : decode cX5_bare 1 = .ok (.iconst 0, 1) := dk_3 (dk_at dksX5_bare_0 1 rfl rfl)
theorem dX5_bare_2 : decode cX5_bare 2 = .ok (.putfield 131, 3) := dk_181 0 131 (dk_at dksX5_bare_0 2 rfl rfl)
theorem dX5_bare_5 : decode cX5_bare 5 = .ok (.aload_n 0, 1) := dk_42 (dk_at dksX5_bare_0 5 rfl rfl)
theorem dX5_bare_6 : decode cX5_bare 6 = .ok (.invokevirtual 279, 3) := dk_182 1 23 (dk_at dksX5_bare_0 6 rfl rfl)
theorem dX5_bare_9 : decode cX5_bare 9 = .ok (.ifCond .ne 6, 3) := dk_154 0 6 (dk_at dksX5_bare_0 9 rfl rfl)
theorem dX5_bare_12 : decode cX5_bare 12 = .ok (.bipush (-2), 2) := dk_16 254 (dk_at dksX5_bare_0 12 rfl rfl)
theorem dX5_bare_14 : decode cX5_bare 14 = .ok (.ireturn, 1) := dk_172 (dk_at dksX5_bare_0 14 rfl rfl)
theorem dX5_bare_15 : decode cX5_bare 15 = .ok (.aload_n 0, 1) := dk_42 (dk_at dksX5_bare_0 15 rfl rfl)
theorem dX5_bare_16 : decode cX5_bare 16 = .ok (.invokevirtual 395, 3) := dk_182 1 139 (dk_at dksX5_bare_0 16 rfl rfl)
theorem dX5_bare_19 : decode cX5_bare 19 = .ok (.iconst 0, 1) := dk_3 (dk_at dksX5_bare_0 19 rfl rfl)
theorem dX5_bare_20 : decode cX5_bare 20 = .ok (.istore_n 1, 1) := dk_60 (dk_at dksX5_bare_0 20 rfl rfl)
theorem dX5_bare_21 : decode cX5_bare 21 = .ok (.iconst 0, 1) := dk_3 (dk_at dksX5_bare_0 21 rfl rfl)
theorem dX5_bare_22 : decode cX5_bare 22 = .ok (.istore_n 2, 1) := dk_61 (dk_at dksX5_bare_0 22 rfl rfl)
theorem dX5_bare_23 : decode cX5_bare 23 = .ok (.iload_n 2, 1) := dk_28 (dk_at dksX5_bare_0 23 rfl rfl)
theorem dX5_bare_24 : decode cX5_bare 24 = .ok (.aload_n 0, 1) := dk_42 (dk_at dksX5_bare_1 0 rfl rfl)
theorem dX5_bare_25 : decode cX5_bare 25 = .ok (.invokevirtual 282, 3) := dk_182 1 26 (dk_at dksX5_bare_1 1 rfl rfl)
theorem dX5_bare_28 : decode cX5_bare 28 = .ok (.if_icmp .ge 33, 3) := dk_162 0 33 (dk_at dksX5_bare_1 4 rfl rfl)
theorem dX5_bare_31 : decode cX5_bare 31 = .ok (.iload_n 1, 1) := dk_27 (dk_at dksX5_bare_1 7 rfl rfl)
theorem dX5_bare_32 : decode cX5_bare 32 = .ok (.aload_n 0, 1) := dk_42 (dk_at dksX5_bare_1 8 rfl rfl)
theorem dX5_bare_33 : decode cX5_bare 33 = .ok (.getfield 104, 3) := dk_180 0 104 (dk_at dksX5_bare_1 9 rfl rfl)
theorem dX5_bare_36 : decode cX5_bare 36 = .ok (.iload_n 2, 1) := dk_28 (dk_at dksX5_bare_1 12 rfl rfl)
theorem dX5_bare_37 : decode cX5_bare 37 = .ok (.iaload, 1) := dk_46 (dk_at dksX5_bare_1 13 rfl rfl)
theorem dX5_bare_38 : decode cX5_bare 38 = .ok (.aload_n 0, 1) := dk_42 (dk_at dksX5_bare_1 14 rfl rfl)
theorem dX5_bare_39 : decode cX5_bare 39 = .ok (.getfield 49, 3) := dk_180 0 49 (dk_at dksX5_bare_1 15 rfl rfl)
theorem dX5_bare_42 : decode cX5_bare 42 = .ok (.iconst 0, 1) := dk_3 (dk_at dksX5_bare_1 18 rfl rfl)
theorem dX5_bare_43 : decode cX5_bare 43 = .ok (.iaload, 1) := dk_46 (dk_at dksX5_bare_1 19 rfl rfl)
theorem dX5_bare_44 : decode cX5_bare 44 = .ok (.iand, 1) := dk_126 (dk_at dksX5_bare_1 20 rfl rfl)
theorem dX5_bare_45 : decode cX5_bare 45 = .ok (.ifCond .ne 7, 3) := dk_154 0 7 (dk_at dksX5_bare_1 21 rfl rfl)
theorem dX5_bare_48 : decode cX5_bare 48 = .ok (.iconst 1, 1) := dk_4 (dk_at dksX5_bare_2 0 rfl rfl)
theorem dX5_bare_49 : decode cX5_bare 49 = .ok (.goto 4, 3) := dk_167 0 4 (dk_at dksX5_bare_2 1 rfl rfl)
theorem dX5_bare_52 : decode cX5_bare 52 = .ok (.iconst 0, 1) := dk_3 (dk_at dksX5_bare_2 4 rfl rfl)
theorem dX5_bare_53 : decode cX5_bare 53 = .ok (.iadd, 1) := dk_96 (dk_at dksX5_bare_2 5 rfl rfl)
theorem dX5_bare_54 : decode cX5_bare 54 = .ok (.istore_n 1, 1) := dk_60 (dk_at dksX5_bare_2 6 rfl rfl)
theorem dX5_bare_55 : decode cX5_bare 55 = .ok (.iinc 2 1, 3) := dk_132 2 1 (dk_at dksX5_bare_2 7 rfl rfl)
theorem dX5_bare_58 : decode cX5_bare 58 = .ok (.goto (-35), 3) := dk_167 255 221 (dk_at dksX5_bare_2 10 rfl rfl)
theorem dX5_bare_61 : decode cX5_bare 61 = .ok (.iload_n 1, 1) := dk_27 (dk_at dksX5_bare_2 13 rfl rfl)
theorem dX5_bare_62 : decode cX5_bare 62 = .ok (.ireturn, 1) := dk_172 (dk_at dksX5_bare_2 14 rfl rfl)
abbrev cX5_laysNear : ByteArray := prog_10_method_104_code
def yX5_laysNear : MethodName := ⟨RX5, "laysNear", "()V"⟩
def dkwX5_laysNear_1 : List UInt8 := [167, 255, 234, 177]
abbrev dktX5_laysNear_1 : List UInt8 := dkwX5_laysNear_1 ++ []
def dkwX5_laysNear_0 : List UInt8 := [3, 60, 27, 42, 182, 1, 26, 162, 0, 20, 42, 180, 0, 104, 27, 42, 27, 182, 1, 136, 79, 132, 1, 1]
abbrev dktX5_laysNear_0 : List UInt8 := dkwX5_laysNear_0 ++ dktX5_laysNear_1
theorem dksX5_laysNear_0 : cX5_laysNear.data.toList.drop 0 = dktX5_laysNear_0 := by decide +kernel
theorem dksX5_laysNear_1 : cX5_laysNear.data.toList.drop 24 = dktX5_laysNear_1 := dk_seg dksX5_laysNear_0 24 rfl rfl
theorem dX5_laysNear_0 : decode cX5_laysNear 0 = .ok (.iconst 0, 1) := dk_3 (dk_at dksX5_laysNear_0 0 rfl rfl)
theorem dX5_laysNear_1 : decode cX5_laysNear 1 = .ok (.istore_n 1, 1) := dk_60 (dk_at dksX5_laysNear_0 1 rfl rfl)
theorem dX5_laysNear_2 : decode cX5_laysNear 2 = .ok (.iload_n 1, 1) := dk_27 (dk_at dksX5_laysNear_0 2 rfl rfl)
theorem dX5_laysNear_3 : decode cX5_laysNear 3 = .ok (.aload_n 0, 1) := dk_42 (dk_at dksX5_laysNear_0 3 rfl rfl)
theorem dX5_laysNear_4 : decode cX5_laysNear 4 = .ok (.invokevirtual 282, 3) := dk_182 1 26 (dk_at dksX5_laysNear_0 4 rfl rfl)
theorem dX5_laysNear_7 : decode cX5_laysNear 7 = .ok (.if_icmp .ge 20, 3) := dk_162 0 20 (dk_at dksX5_laysNear_0 7 rfl rfl)
theorem dX5_laysNear_10 : decode cX5_laysNear 10 = .ok (.aload_n 0, 1) := dk_42 (dk_at dksX5_laysNear_0 10 rfl rfl)
theorem dX5_laysNear_11 : decode cX5_laysNear 11 = .ok (.getfield 104, 3) := dk_180 0 104 (dk_at dksX5_laysNear_0 11 rfl rfl)
theorem dX5_laysNear_14 : decode cX5_laysNear 14 = .ok (.iload_n 1, 1) := dk_27 (dk_at dksX5_laysNear_0 14 rfl rfl)
theorem dX5_laysNear_15 : decode cX5_laysNear 15 = .ok (.aload_n 0, 1) := dk_42 (dk_at dksX5_laysNear_0 15 rfl rfl)
theorem dX5_laysNear_16 : decode cX5_laysNear 16 = .ok (.iload_n 1, 1) := dk_27 (dk_at dksX5_laysNear_0 16 rfl rfl)
theorem dX5_laysNear_17 : decode cX5_laysNear 17 = .ok (.invokevirtual 392, 3) := dk_182 1 136 (dk_at dksX5_laysNear_0 17 rfl rfl)
theorem dX5_laysNear_20 : decode cX5_laysNear 20 = .ok (.iastore, 1) := dk_79 (dk_at dksX5_laysNear_0 20 rfl rfl)
theorem dX5_laysNear_21 : decode cX5_laysNear 21 = .ok (.iinc 1 1, 3) := dk_132 1 1 (dk_at dksX5_laysNear_0 21 rfl rfl)
theorem dX5_laysNear_24 : decode cX5_laysNear 24 = .ok (.goto (-22), 3) := dk_167 255 234 (dk_at dksX5_laysNear_1 0 rfl rfl)
theorem dX5_laysNear_27 : decode cX5_laysNear 27 = .ok (.return_, 1) := dk_177 (dk_at dksX5_laysNear_1 3 rfl rfl)
abbrev cX5_round0 : ByteArray := prog_10_method_103_code
def yX5_round0 : MethodName := ⟨RX5, "round0", "(I)I"⟩
def dkwX5_round0_1 : List UInt8 := [153, 0, 13, 4, 27, 4, 29, 120, 130, 120, 167, 0, 4, 3, 128, 61, 132, 3, 1, 167, 255, 220, 28, 172]
abbrev dktX5_round0_1 : List UInt8 := dkwX5_round0_1 ++ []
def dkwX5_round0_0 : List UInt8 := [4, 27, 120, 61, 3, 62, 29, 42, 180, 0, 34, 3, 46, 162, 0, 32, 28, 42, 27, 29, 182, 1, 39]
abbrev dktX5_round0_0 : List UInt8 := dkwX5_round0_0 ++ dktX5_round0_1
theorem dksX5_round0_0 : cX5_round0.data.toList.drop 0 = dktX5_round0_0 := by decide +kernel
theorem dksX5_round0_1 : cX5_round0.data.toList.drop 23 = dktX5_round0_1 := dk_seg dksX5_round0_0 23 rfl rfl
theorem dX5_round0_0 : decode cX5_round0 0 = .ok (.iconst 1, 1) := dk_4 (dk_at dksX5_round0_0 0 rfl rfl)
theorem dX5_round0_1 : decode cX5_round0 1 = .ok (.iload_n 1, 1) := dk_27 (dk_at dksX5_round0_0 1 rfl rfl)
theorem dX5_round0_2 : decode cX5_round0 2 = .ok (.ishl, 1) := dk_120 (dk_at dksX5_round0_0 2 rfl rfl)
theorem dX5_round0_3 : decode cX5_round0 3 = .ok (.istore_n 2, 1) := dk_61 (dk_at dksX5_round0_0 3 rfl rfl)
theorem dX5_round0_4 : decode cX5_round0 4 = .ok (.iconst 0, 1) := dk_3 (dk_at dksX5_round0_0 4 rfl rfl)
theorem dX5_round0_5 : decode cX5_round0 5 = .ok (.istore_n 3, 1) := dk_62 (dk_at dksX5_round0_0 5 rfl rfl)
theorem dX5_round0_6 : decode cX5_round0 6 = .ok (.iload_n 3, 1) := dk_29 (dk_at dksX5_round0_0 6 rfl rfl)
theorem dX5_round0_7 : decode cX5_round0 7 = .ok (.aload_n 0, 1) := dk_42 (dk_at dksX5_round0_0 7 rfl rfl)
theorem dX5_round0_8 : decode cX5_round0 8 = .ok (.getfield 34, 3) := dk_180 0 34 (dk_at dksX5_round0_0 8 rfl rfl)
theorem dX5_round0_11 : decode cX5_round0 11 = .ok (.iconst 0, 1) := dk_3 (dk_at dksX5_round0_0 11 rfl rfl)
theorem dX5_round0_12 : decode cX5_round0 12 = .ok (.iaload, 1) := dk_46 (dk_at dksX5_round0_0 12 rfl rfl)
theorem dX5_round0_13 : decode cX5_round0 13 = .ok (.if_icmp .ge 32, 3) := dk_162 0 32 (dk_at dksX5_round0_0 13 rfl rfl)
theorem dX5_round0_16 : decode cX5_round0 16 = .ok (.iload_n 2, 1) := dk_28 (dk_at dksX5_round0_0 16 rfl rfl)
theorem dX5_round0_17 : decode cX5_round0 17 = .ok (.aload_n 0, 1) := dk_42 (dk_at dksX5_round0_0 17 rfl rfl)
theorem dX5_round0_18 : decode cX5_round0 18 = .ok (.iload_n 1, 1) := dk_27 (dk_at dksX5_round0_0 18 rfl rfl)
theorem dX5_round0_19 : decode cX5_round0 19 = .ok (.iload_n 3, 1) := dk_29 (dk_at dksX5_round0_0 19 rfl rfl)
theorem dX5_round0_20 : decode cX5_round0 20 = .ok (.invokevirtual 295, 3) := dk_182 1 39 (dk_at dksX5_round0_0 20 rfl rfl)
theorem dX5_round0_23 : decode cX5_round0 23 = .ok (.ifCond .eq 13, 3) := dk_153 0 13 (dk_at dksX5_round0_1 0 rfl rfl)
theorem dX5_round0_26 : decode cX5_round0 26 = .ok (.iconst 1, 1) := dk_4 (dk_at dksX5_round0_1 3 rfl rfl)
theorem dX5_round0_27 : decode cX5_round0 27 = .ok (.iload_n 1, 1) := dk_27 (dk_at dksX5_round0_1 4 rfl rfl)
theorem dX5_round0_28 : decode cX5_round0 28 = .ok (.iconst 1, 1) := dk_4 (dk_at dksX5_round0_1 5 rfl rfl)
theorem dX5_round0_29 : decode cX5_round0 29 = .ok (.iload_n 3, 1) := dk_29 (dk_at dksX5_round0_1 6 rfl rfl)
theorem dX5_round0_30 : decode cX5_round0 30 = .ok (.ishl, 1) := dk_120 (dk_at dksX5_round0_1 7 rfl rfl)
theorem dX5_round0_31 : decode cX5_round0 31 = .ok (.ixor, 1) := dk_130 (dk_at dksX5_round0_1 8 rfl rfl)
theorem dX5_round0_32 : decode cX5_round0 32 = .ok (.ishl, 1) := dk_120 (dk_at dksX5_round0_1 9 rfl rfl)
theorem dX5_round0_33 : decode cX5_round0 33 = .ok (.goto 4, 3) := dk_167 0 4 (dk_at dksX5_round0_1 10 rfl rfl)
theorem dX5_round0_36 : decode cX5_round0 36 = .ok (.iconst 0, 1) := dk_3 (dk_at dksX5_round0_1 13 rfl rfl)
theorem dX5_round0_37 : decode cX5_round0 37 = .ok (.ior, 1) := dk_128 (dk_at dksX5_round0_1 14 rfl rfl)
theorem dX5_round0_38 : decode cX5_round0 38 = .ok (.istore_n 2, 1) := dk_61 (dk_at dksX5_round0_1 15 rfl rfl)
theorem dX5_round0_39 : decode cX5_round0 39 = .ok (.iinc 3 1, 3) := dk_132 3 1 (dk_at dksX5_round0_1 16 rfl rfl)
theorem dX5_round0_42 : decode cX5_round0 42 = .ok (.goto (-36), 3) := dk_167 255 220 (dk_at dksX5_round0_1 19 rfl rfl)
theorem dX5_round0_45 : decode cX5_round0 45 = .ok (.iload_n 2, 1) := dk_28 (dk_at dksX5_round0_1 22 rfl rfl)
theorem dX5_round0_46 : decode cX5_round0 46 = .ok (.ireturn, 1) := dk_172 (dk_at dksX5_round0_1 23 rfl rfl)
abbrev cX5_warden : ByteArray := prog_10_method_106_code
def yX5_warden : MethodName := ⟨RX5, "warden", "(II)I"⟩
def dkwX5_warden_3 : List UInt8 := [126, 79, 29, 172]
abbrev dktX5_warden_3 : List UInt8 := dkwX5_warden_3 ++ []
def dkwX5_warden_2 : List UInt8 := [42, 180, 0, 49, 3, 46, 4, 27, 120, 128, 167, 0, 15, 42, 180, 0, 49, 3, 46, 4, 27, 120, 2, 130]
abbrev dktX5_warden_2 : List UInt8 := dkwX5_warden_2 ++ dktX5_warden_3
def dkwX5_warden_1 : List UInt8 := [16, 254, 172, 42, 180, 0, 49, 3, 46, 27, 122, 4, 126, 62, 42, 180, 0, 49, 3, 28, 4, 160, 0, 16]
abbrev dktX5_warden_1 : List UInt8 := dkwX5_warden_1 ++ dktX5_warden_2
def dkwX5_warden_0 : List UInt8 := [42, 3, 181, 0, 131, 42, 27, 133, 182, 1, 29, 153, 0, 13, 28, 133, 9, 10, 184, 0, 136, 154, 0, 6]
abbrev dktX5_warden_0 : List UInt8 := dkwX5_warden_0 ++ dktX5_warden_1
theorem dksX5_warden_0 : cX5_warden.data.toList.drop 0 = dktX5_warden_0 := by decide +kernel
theorem dksX5_warden_1 : cX5_warden.data.toList.drop 24 = dktX5_warden_1 := dk_seg dksX5_warden_0 24 rfl rfl
theorem dksX5_warden_2 : cX5_warden.data.toList.drop 48 = dktX5_warden_2 := dk_seg dksX5_warden_1 24 rfl rfl
theorem dksX5_warden_3 : cX5_warden.data.toList.drop 72 = dktX5_warden_3 := dk_seg dksX5_warden_2 24 rfl rfl
theorem dX5_warden_0 : decode cX5_warden 0 = .ok (.aload_n 0, 1) := dk_42 (dk_at dksX5_warden_0 0 rfl rfl)
theorem dX5_warden_1 : decode cX5_warden 1 = .ok (.iconst 0, 1) := dk_3 (dk_at dksX5_warden_0 1 rfl rfl)
theorem dX5_warden_2 : decode cX5_warden 2 = .ok (.putfield 131, 3) := dk_181 0 131 (dk_at dksX5_warden_0 2 rfl rfl)
theorem dX5_warden_5 : decode cX5_warden 5 = .ok (.aload_n 0, 1) := dk_42 (dk_at dksX5_warden_0 5 rfl rfl)
theorem dX5_warden_6 : decode cX5_warden 6 = .ok (.iload_n 1, 1) := dk_27 (dk_at dksX5_warden_0 6 rfl rfl)
theorem dX5_warden_7 : decode cX5_warden 7 = .ok (.i2l, 1) := dk_133 (dk_at dksX5_warden_0 7 rfl rfl)
theorem dX5_warden_8 : decode cX5_warden 8 = .ok (.invokevirtual 285, 3) := dk_182 1 29 (dk_at dksX5_warden_0 8 rfl rfl)
theorem dX5_warden_11 : decode cX5_warden 11 = .ok (.ifCond .eq 13, 3) := dk_153 0 13 (dk_at dksX5_warden_0 11 rfl rfl)
theorem dX5_warden_14 : decode cX5_warden 14 = .ok (.iload_n 2, 1) := dk_28 (dk_at dksX5_warden_0 14 rfl rfl)
theorem dX5_warden_15 : decode cX5_warden 15 = .ok (.i2l, 1) := dk_133 (dk_at dksX5_warden_0 15 rfl rfl)
theorem dX5_warden_16 : decode cX5_warden 16 = .ok (.lconst 0, 1) := dk_9 (dk_at dksX5_warden_0 16 rfl rfl)
theorem dX5_warden_17 : decode cX5_warden 17 = .ok (.lconst 1, 1) := dk_10 (dk_at dksX5_warden_0 17 rfl rfl)
theorem dX5_warden_18 : decode cX5_warden 18 = .ok (.invokestatic 136, 3) := dk_184 0 136 (dk_at dksX5_warden_0 18 rfl rfl)
theorem dX5_warden_21 : decode cX5_warden 21 = .ok (.ifCond .ne 6, 3) := dk_154 0 6 (dk_at dksX5_warden_0 21 rfl rfl)
theorem dX5_warden_24 : decode cX5_warden 24 = .ok (.bipush (-2), 2) := dk_16 254 (dk_at dksX5_warden_1 0 rfl rfl)
theorem dX5_warden_26 : decode cX5_warden 26 = .ok (.ireturn, 1) := dk_172 (dk_at dksX5_warden_1 2 rfl rfl)
theorem dX5_warden_27 : decode cX5_warden 27 = .ok (.aload_n 0, 1) := dk_42 (dk_at dksX5_warden_1 3 rfl rfl)
theorem dX5_warden_28 : decode cX5_warden 28 = .ok (.getfield 49, 3) := dk_180 0 49 (dk_at dksX5_warden_1 4 rfl rfl)
theorem dX5_warden_31 : decode cX5_warden 31 = .ok (.iconst 0, 1) := dk_3 (dk_at dksX5_warden_1 7 rfl rfl)
theorem dX5_warden_32 : decode cX5_warden 32 = .ok (.iaload, 1) := dk_46 (dk_at dksX5_warden_1 8 rfl rfl)
theorem dX5_warden_33 : decode cX5_warden 33 = .ok (.iload_n 1, 1) := dk_27 (dk_at dksX5_warden_1 9 rfl rfl)
theorem dX5_warden_34 : decode cX5_warden 34 = .ok (.ishr, 1) := dk_122 (dk_at dksX5_warden_1 10 rfl rfl)
theorem dX5_warden_35 : decode cX5_warden 35 = .ok (.iconst 1, 1) := dk_4 (dk_at dksX5_warden_1 11 rfl rfl)
theorem dX5_warden_36 : decode cX5_warden 36 = .ok (.iand, 1) := dk_126 (dk_at dksX5_warden_1 12 rfl rfl)
theorem dX5_warden_37 : decode cX5_warden 37 = .ok (.istore_n 3, 1) := dk_62 (dk_at dksX5_warden_1 13 rfl rfl)
theorem dX5_warden_38 : decode cX5_warden 38 = .ok (.aload_n 0, 1) := dk_42 (dk_at dksX5_warden_1 14 rfl rfl)
theorem dX5_warden_39 : decode cX5_warden 39 = .ok (.getfield 49, 3) := dk_180 0 49 (dk_at dksX5_warden_1 15 rfl rfl)
theorem dX5_warden_42 : decode cX5_warden 42 = .ok (.iconst 0, 1) := dk_3 (dk_at dksX5_warden_1 18 rfl rfl)
theorem dX5_warden_43 : decode cX5_warden 43 = .ok (.iload_n 2, 1) := dk_28 (dk_at dksX5_warden_1 19 rfl rfl)
theorem dX5_warden_44 : decode cX5_warden 44 = .ok (.iconst 1, 1) := dk_4 (dk_at dksX5_warden_1 20 rfl rfl)
theorem dX5_warden_45 : decode cX5_warden 45 = .ok (.if_icmp .ne 16, 3) := dk_160 0 16 (dk_at dksX5_warden_1 21 rfl rfl)
theorem dX5_warden_48 : decode cX5_warden 48 = .ok (.aload_n 0, 1) := dk_42 (dk_at dksX5_warden_2 0 rfl rfl)
theorem dX5_warden_49 : decode cX5_warden 49 = .ok (.getfield 49, 3) := dk_180 0 49 (dk_at dksX5_warden_2 1 rfl rfl)
theorem dX5_warden_52 : decode cX5_warden 52 = .ok (.iconst 0, 1) := dk_3 (dk_at dksX5_warden_2 4 rfl rfl)
theorem dX5_warden_53 : decode cX5_warden 53 = .ok (.iaload, 1) := dk_46 (dk_at dksX5_warden_2 5 rfl rfl)
theorem dX5_warden_54 : decode cX5_warden 54 = .ok (.iconst 1, 1) := dk_4 (dk_at dksX5_warden_2 6 rfl rfl)
theorem dX5_warden_55 : decode cX5_warden 55 = .ok (.iload_n 1, 1) := dk_27 (dk_at dksX5_warden_2 7 rfl rfl)
theorem dX5_warden_56 : decode cX5_warden 56 = .ok (.ishl, 1) := dk_120 (dk_at dksX5_warden_2 8 rfl rfl)
theorem dX5_warden_57 : decode cX5_warden 57 = .ok (.ior, 1) := dk_128 (dk_at dksX5_warden_2 9 rfl rfl)
theorem dX5_warden_58 : decode cX5_warden 58 = .ok (.goto 15, 3) := dk_167 0 15 (dk_at dksX5_warden_2 10 rfl rfl)
theorem dX5_warden_61 : decode cX5_warden 61 = .ok (.aload_n 0, 1) := dk_42 (dk_at dksX5_warden_2 13 rfl rfl)
theorem dX5_warden_62 : decode cX5_warden 62 = .ok (.getfield 49, 3) := dk_180 0 49 (dk_at dksX5_warden_2 14 rfl rfl)
theorem dX5_warden_65 : decode cX5_warden 65 = .ok (.iconst 0, 1) := dk_3 (dk_at dksX5_warden_2 17 rfl rfl)
theorem dX5_warden_66 : decode cX5_warden 66 = .ok (.iaload, 1) := dk_46 (dk_at dksX5_warden_2 18 rfl rfl)
theorem dX5_warden_67 : decode cX5_warden 67 = .ok (.iconst 1, 1) := dk_4 (dk_at dksX5_warden_2 19 rfl rfl)
theorem dX5_warden_68 : decode cX5_warden 68 = .ok (.iload_n 1, 1) := dk_27 (dk_at dksX5_warden_2 20 rfl rfl)
theorem dX5_warden_69 : decode cX5_warden 69 = .ok (.ishl, 1) := dk_120 (dk_at dksX5_warden_2 21 rfl rfl)
theorem dX5_warden_70 : decode cX5_warden 70 = .ok (.iconst (-1), 1) := dk_2 (dk_at dksX5_warden_2 22 rfl rfl)
theorem dX5_warden_71 : decode cX5_warden 71 = .ok (.ixor, 1) := dk_130 (dk_at dksX5_warden_2 23 rfl rfl)
theorem dX5_warden_72 : decode cX5_warden 72 = .ok (.iand, 1) := dk_126 (dk_at dksX5_warden_3 0 rfl rfl)
theorem dX5_warden_73 : decode cX5_warden 73 = .ok (.iastore, 1) := dk_79 (dk_at dksX5_warden_3 1 rfl rfl)
theorem dX5_warden_74 : decode cX5_warden 74 = .ok (.iload_n 3, 1) := dk_29 (dk_at dksX5_warden_3 2 rfl rfl)
theorem dX5_warden_75 : decode cX5_warden 75 = .ok (.ireturn, 1) := dk_172 (dk_at dksX5_warden_3 3 rfl rfl)
abbrev cX5_fewest : ByteArray := prog_10_method_109_code
def yX5_fewest : MethodName := ⟨RX5, "fewest", "(I)I"⟩
def dkwX5_fewest_2 : List UInt8 := [4, 160, 0, 10, 42, 180, 1, 145, 167, 0, 7, 42, 180, 1, 148, 172]
abbrev dktX5_fewest_2 : List UInt8 := dkwX5_fewest_2 ++ []
def dkwX5_fewest_1 : List UInt8 := [61, 28, 153, 0, 5, 28, 172, 42, 3, 182, 1, 156, 27, 154, 0, 10, 42, 180, 1, 142, 167, 0, 19, 27]
abbrev dktX5_fewest_1 : List UInt8 := dkwX5_fewest_1 ++ dktX5_fewest_2
def dkwX5_fewest_0 : List UInt8 := [42, 3, 181, 0, 131, 27, 133, 9, 20, 1, 154, 184, 0, 136, 154, 0, 6, 16, 254, 172, 42, 182, 1, 127]
abbrev dktX5_fewest_0 : List UInt8 := dkwX5_fewest_0 ++ dktX5_fewest_1
theorem dksX5_fewest_0 : cX5_fewest.data.toList.drop 0 = dktX5_fewest_0 := by decide +kernel
theorem dksX5_fewest_1 : cX5_fewest.data.toList.drop 24 = dktX5_fewest_1 := dk_seg dksX5_fewest_0 24 rfl rfl
theorem dksX5_fewest_2 : cX5_fewest.data.toList.drop 48 = dktX5_fewest_2 := dk_seg dksX5_fewest_1 24 rfl rfl
theorem dX5_fewest_0 : decode cX5_fewest 0 = .ok (.aload_n 0, 1) := dk_42 (dk_at dksX5_fewest_0 0 rfl rfl)
theorem dX5_fewest_1 : decode cX5_fewest 1 = .ok (.iconst 0, 1) := dk_3 (dk_at dksX5_fewest_0 1 rfl rfl)
theorem dX5_fewest_2 : decode cX5_fewest 2 = .ok (.putfield 131, 3) := dk_181 0 131 (dk_at dksX5_fewest_0 2 rfl rfl)
theorem dX5_fewest_5 : decode cX5_fewest 5 = .ok (.iload_n 1, 1) := dk_27 (dk_at dksX5_fewest_0 5 rfl rfl)
theorem dX5_fewest_6 : decode cX5_fewest 6 = .ok (.i2l, 1) := dk_133 (dk_at dksX5_fewest_0 6 rfl rfl)
theorem dX5_fewest_7 : decode cX5_fewest 7 = .ok (.lconst 0, 1) := dk_9 (dk_at dksX5_fewest_0 7 rfl rfl)
theorem dX5_fewest_8 : decode cX5_fewest 8 = .ok (.ldc2_w 410, 3) := dk_20 1 154 (dk_at dksX5_fewest_0 8 rfl rfl)
theorem dX5_fewest_11 : decode cX5_fewest 11 = .ok (.invokestatic 136, 3) := dk_184 0 136 (dk_at dksX5_fewest_0 11 rfl rfl)
theorem dX5_fewest_14 : decode cX5_fewest 14 = .ok (.ifCond .ne 6, 3) := dk_154 0 6 (dk_at dksX5_fewest_0 14 rfl rfl)
theorem dX5_fewest_17 : decode cX5_fewest 17 = .ok (.bipush (-2), 2) := dk_16 254 (dk_at dksX5_fewest_0 17 rfl rfl)
theorem dX5_fewest_19 : decode cX5_fewest 19 = .ok (.ireturn, 1) := dk_172 (dk_at dksX5_fewest_0 19 rfl rfl)
theorem dX5_fewest_20 : decode cX5_fewest 20 = .ok (.aload_n 0, 1) := dk_42 (dk_at dksX5_fewest_0 20 rfl rfl)
theorem dX5_fewest_21 : decode cX5_fewest 21 = .ok (.invokevirtual 383, 3) := dk_182 1 127 (dk_at dksX5_fewest_0 21 rfl rfl)
theorem dX5_fewest_24 : decode cX5_fewest 24 = .ok (.istore_n 2, 1) := dk_61 (dk_at dksX5_fewest_1 0 rfl rfl)
theorem dX5_fewest_25 : decode cX5_fewest 25 = .ok (.iload_n 2, 1) := dk_28 (dk_at dksX5_fewest_1 1 rfl rfl)
theorem dX5_fewest_26 : decode cX5_fewest 26 = .ok (.ifCond .eq 5, 3) := dk_153 0 5 (dk_at dksX5_fewest_1 2 rfl rfl)
theorem dX5_fewest_29 : decode cX5_fewest 29 = .ok (.iload_n 2, 1) := dk_28 (dk_at dksX5_fewest_1 5 rfl rfl)
theorem dX5_fewest_30 : decode cX5_fewest 30 = .ok (.ireturn, 1) := dk_172 (dk_at dksX5_fewest_1 6 rfl rfl)
theorem dX5_fewest_31 : decode cX5_fewest 31 = .ok (.aload_n 0, 1) := dk_42 (dk_at dksX5_fewest_1 7 rfl rfl)
theorem dX5_fewest_32 : decode cX5_fewest 32 = .ok (.iconst 0, 1) := dk_3 (dk_at dksX5_fewest_1 8 rfl rfl)
theorem dX5_fewest_33 : decode cX5_fewest 33 = .ok (.invokevirtual 412, 3) := dk_182 1 156 (dk_at dksX5_fewest_1 9 rfl rfl)
theorem dX5_fewest_36 : decode cX5_fewest 36 = .ok (.iload_n 1, 1) := dk_27 (dk_at dksX5_fewest_1 12 rfl rfl)
theorem dX5_fewest_37 : decode cX5_fewest 37 = .ok (.ifCond .ne 10, 3) := dk_154 0 10 (dk_at dksX5_fewest_1 13 rfl rfl)
theorem dX5_fewest_40 : decode cX5_fewest 40 = .ok (.aload_n 0, 1) := dk_42 (dk_at dksX5_fewest_1 16 rfl rfl)
theorem dX5_fewest_41 : decode cX5_fewest 41 = .ok (.getfield 398, 3) := dk_180 1 142 (dk_at dksX5_fewest_1 17 rfl rfl)
theorem dX5_fewest_44 : decode cX5_fewest 44 = .ok (.goto 19, 3) := dk_167 0 19 (dk_at dksX5_fewest_1 20 rfl rfl)
theorem dX5_fewest_47 : decode cX5_fewest 47 = .ok (.iload_n 1, 1) := dk_27 (dk_at dksX5_fewest_1 23 rfl rfl)
theorem dX5_fewest_48 : decode cX5_fewest 48 = .ok (.iconst 1, 1) := dk_4 (dk_at dksX5_fewest_2 0 rfl rfl)
theorem dX5_fewest_49 : decode cX5_fewest 49 = .ok (.if_icmp .ne 10, 3) := dk_160 0 10 (dk_at dksX5_fewest_2 1 rfl rfl)
theorem dX5_fewest_52 : decode cX5_fewest 52 = .ok (.aload_n 0, 1) := dk_42 (dk_at dksX5_fewest_2 4 rfl rfl)
theorem dX5_fewest_53 : decode cX5_fewest 53 = .ok (.getfield 401, 3) := dk_180 1 145 (dk_at dksX5_fewest_2 5 rfl rfl)
theorem dX5_fewest_56 : decode cX5_fewest 56 = .ok (.goto 7, 3) := dk_167 0 7 (dk_at dksX5_fewest_2 8 rfl rfl)
theorem dX5_fewest_59 : decode cX5_fewest 59 = .ok (.aload_n 0, 1) := dk_42 (dk_at dksX5_fewest_2 11 rfl rfl)
theorem dX5_fewest_60 : decode cX5_fewest 60 = .ok (.getfield 404, 3) := dk_180 1 148 (dk_at dksX5_fewest_2 12 rfl rfl)
theorem dX5_fewest_63 : decode cX5_fewest 63 = .ok (.ireturn, 1) := dk_172 (dk_at dksX5_fewest_2 15 rfl rfl)
abbrev cX5_laysFewest : ByteArray := prog_10_method_108_code
def yX5_laysFewest : MethodName := ⟨RX5, "laysFewest", "(I)V"⟩
def dkwX5_laysFewest_4 : List UInt8 := [180, 1, 145, 4, 96, 181, 1, 145, 132, 2, 1, 167, 255, 175, 177]
abbrev dktX5_laysFewest_4 : List UInt8 := dkwX5_laysFewest_4 ++ []
def dkwX5_laysFewest_3 : List UInt8 := [162, 0, 21, 42, 28, 184, 1, 46, 181, 1, 142, 42, 3, 181, 1, 145, 42, 28, 181, 1, 148, 42, 89]
abbrev dktX5_laysFewest_3 : List UInt8 := dkwX5_laysFewest_3 ++ dktX5_laysFewest_4
def dkwX5_laysFewest_2 : List UInt8 := [163, 0, 53, 42, 28, 182, 1, 151, 154, 0, 6, 167, 0, 42, 28, 184, 1, 46, 42, 180, 1, 142]
abbrev dktX5_laysFewest_2 : List UInt8 := dkwX5_laysFewest_2 ++ dktX5_laysFewest_3
def dkwX5_laysFewest_1 : List UInt8 := [42, 182, 1, 26, 120, 162, 0, 77, 28, 27, 126, 27, 160, 0, 64, 28, 184, 1, 46, 42, 180, 1, 142]
abbrev dktX5_laysFewest_1 : List UInt8 := dkwX5_laysFewest_1 ++ dktX5_laysFewest_2
def dkwX5_laysFewest_0 : List UInt8 := [42, 182, 1, 139, 42, 18, 182, 181, 1, 142, 42, 3, 181, 1, 145, 42, 3, 181, 1, 148, 3, 61, 28, 4]
abbrev dktX5_laysFewest_0 : List UInt8 := dkwX5_laysFewest_0 ++ dktX5_laysFewest_1
theorem dksX5_laysFewest_0 : cX5_laysFewest.data.toList.drop 0 = dktX5_laysFewest_0 := by decide +kernel
theorem dksX5_laysFewest_1 : cX5_laysFewest.data.toList.drop 24 = dktX5_laysFewest_1 := dk_seg dksX5_laysFewest_0 24 rfl rfl
theorem dksX5_laysFewest_2 : cX5_laysFewest.data.toList.drop 47 = dktX5_laysFewest_2 := dk_seg dksX5_laysFewest_1 23 rfl rfl
theorem dksX5_laysFewest_3 : cX5_laysFewest.data.toList.drop 69 = dktX5_laysFewest_3 := dk_seg dksX5_laysFewest_2 22 rfl rfl
theorem dksX5_laysFewest_4 : cX5_laysFewest.data.toList.drop 92 = dktX5_laysFewest_4 := dk_seg dksX5_laysFewest_3 23 rfl rfl
theorem dX5_laysFewest_0 : decode cX5_laysFewest 0 = .ok (.aload_n 0, 1) := dk_42 (dk_at dksX5_laysFewest_0 0 rfl rfl)
theorem dX5_laysFewest_1 : decode cX5_laysFewest 1 = .ok (.invokevirtual 395, 3) := dk_182 1 139 (dk_at dksX5_laysFewest_0 1 rfl rfl)
theorem dX5_laysFewest_4 : decode cX5_laysFewest 4 = .ok (.aload_n 0, 1) := dk_42 (dk_at dksX5_laysFewest_0 4 rfl rfl)
theorem dX5_laysFewest_5 : decode cX5_laysFewest 5 = .ok (.ldc 182, 2) := dk_18 182 (dk_at dksX5_laysFewest_0 5 rfl rfl)
theorem dX5_laysFewest_7 : decode cX5_laysFewest 7 = .ok (.putfield 398, 3) := dk_181 1 142 (dk_at dksX5_laysFewest_0 7 rfl rfl)
theorem dX5_laysFewest_10 : decode cX5_laysFewest 10 = .ok (.aload_n 0, 1) := dk_42 (dk_at dksX5_laysFewest_0 10 rfl rfl)
theorem dX5_laysFewest_11 : decode cX5_laysFewest 11 = .ok (.iconst 0, 1) := dk_3 (dk_at dksX5_laysFewest_0 11 rfl rfl)
theorem dX5_laysFewest_12 : decode cX5_laysFewest 12 = .ok (.putfield 401, 3) := dk_181 1 145 (dk_at dksX5_laysFewest_0 12 rfl rfl)
theorem dX5_laysFewest_15 : decode cX5_laysFewest 15 = .ok (.aload_n 0, 1) := dk_42 (dk_at dksX5_laysFewest_0 15 rfl rfl)
theorem dX5_laysFewest_16 : decode cX5_laysFewest 16 = .ok (.iconst 0, 1) := dk_3 (dk_at dksX5_laysFewest_0 16 rfl rfl)
theorem dX5_laysFewest_17 : decode cX5_laysFewest 17 = .ok (.putfield 404, 3) := dk_181 1 148 (dk_at dksX5_laysFewest_0 17 rfl rfl)
theorem dX5_laysFewest_20 : decode cX5_laysFewest 20 = .ok (.iconst 0, 1) := dk_3 (dk_at dksX5_laysFewest_0 20 rfl rfl)
theorem dX5_laysFewest_21 : decode cX5_laysFewest 21 = .ok (.istore_n 2, 1) := dk_61 (dk_at dksX5_laysFewest_0 21 rfl rfl)
theorem dX5_laysFewest_22 : decode cX5_laysFewest 22 = .ok (.iload_n 2, 1) := dk_28 (dk_at dksX5_laysFewest_0 22 rfl rfl)
theorem dX5_laysFewest_23 : decode cX5_laysFewest 23 = .ok (.iconst 1, 1) := dk_4 (dk_at dksX5_laysFewest_0 23 rfl rfl)
theorem dX5_laysFewest_24 : decode cX5_laysFewest 24 = .ok (.aload_n 0, 1) := dk_42 (dk_at dksX5_laysFewest_1 0 rfl rfl)
theorem dX5_laysFewest_25 : decode cX5_laysFewest 25 = .ok (.invokevirtual 282, 3) := dk_182 1 26 (dk_at dksX5_laysFewest_1 1 rfl rfl)
theorem dX5_laysFewest_28 : decode cX5_laysFewest 28 = .ok (.ishl, 1) := dk_120 (dk_at dksX5_laysFewest_1 4 rfl rfl)
theorem dX5_laysFewest_29 : decode cX5_laysFewest 29 = .ok (.if_icmp .ge 77, 3) := dk_162 0 77 (dk_at dksX5_laysFewest_1 5 rfl rfl)
theorem dX5_laysFewest_32 : decode cX5_laysFewest 32 = .ok (.iload_n 2, 1) := dk_28 (dk_at dksX5_laysFewest_1 8 rfl rfl)
theorem dX5_laysFewest_33 : decode cX5_laysFewest 33 = .ok (.iload_n 1, 1) := dk_27 (dk_at dksX5_laysFewest_1 9 rfl rfl)
theorem dX5_laysFewest_34 : decode cX5_laysFewest 34 = .ok (.iand, 1) := dk_126 (dk_at dksX5_laysFewest_1 10 rfl rfl)
theorem dX5_laysFewest_35 : decode cX5_laysFewest 35 = .ok (.iload_n 1, 1) := dk_27 (dk_at dksX5_laysFewest_1 11 rfl rfl)
theorem dX5_laysFewest_36 : decode cX5_laysFewest 36 = .ok (.if_icmp .ne 64, 3) := dk_160 0 64 (dk_at dksX5_laysFewest_1 12 rfl rfl)
theorem dX5_laysFewest_39 : decode cX5_laysFewest 39 = .ok (.iload_n 2, 1) := dk_28 (dk_at dksX5_laysFewest_1 15 rfl rfl)
theorem dX5_laysFewest_40 : decode cX5_laysFewest 40 = .ok (.invokestatic 302, 3) := dk_184 1 46 (dk_at dksX5_laysFewest_1 16 rfl rfl)
theorem dX5_laysFewest_43 : decode cX5_laysFewest 43 = .ok (.aload_n 0, 1) := dk_42 (dk_at dksX5_laysFewest_1 19 rfl rfl)
theorem dX5_laysFewest_44 : decode cX5_laysFewest 44 = .ok (.getfield 398, 3) := dk_180 1 142 (dk_at dksX5_laysFewest_1 20 rfl rfl)
theorem dX5_laysFewest_47 : decode cX5_laysFewest 47 = .ok (.if_icmp .gt 53, 3) := dk_163 0 53 (dk_at dksX5_laysFewest_2 0 rfl rfl)
theorem dX5_laysFewest_50 : decode cX5_laysFewest 50 = .ok (.aload_n 0, 1) := dk_42 (dk_at dksX5_laysFewest_2 3 rfl rfl)
theorem dX5_laysFewest_51 : decode cX5_laysFewest 51 = .ok (.iload_n 2, 1) := dk_28 (dk_at dksX5_laysFewest_2 4 rfl rfl)
theorem dX5_laysFewest_52 : decode cX5_laysFewest 52 = .ok (.invokevirtual 407, 3) := dk_182 1 151 (dk_at dksX5_laysFewest_2 5 rfl rfl)
theorem dX5_laysFewest_55 : decode cX5_laysFewest 55 = .ok (.ifCond .ne 6, 3) := dk_154 0 6 (dk_at dksX5_laysFewest_2 8 rfl rfl)
theorem dX5_laysFewest_58 : decode cX5_laysFewest 58 = .ok (.goto 42, 3) := dk_167 0 42 (dk_at dksX5_laysFewest_2 11 rfl rfl)
theorem dX5_laysFewest_61 : decode cX5_laysFewest 61 = .ok (.iload_n 2, 1) := dk_28 (dk_at dksX5_laysFewest_2 14 rfl rfl)
theorem dX5_laysFewest_62 : decode cX5_laysFewest 62 = .ok (.invokestatic 302, 3) := dk_184 1 46 (dk_at dksX5_laysFewest_2 15 rfl rfl)
theorem dX5_laysFewest_65 : decode cX5_laysFewest 65 = .ok (.aload_n 0, 1) := dk_42 (dk_at dksX5_laysFewest_2 18 rfl rfl)
theorem dX5_laysFewest_66 : decode cX5_laysFewest 66 = .ok (.getfield 398, 3) := dk_180 1 142 (dk_at dksX5_laysFewest_2 19 rfl rfl)
theorem dX5_laysFewest_69 : decode cX5_laysFewest 69 = .ok (.if_icmp .ge 21, 3) := dk_162 0 21 (dk_at dksX5_laysFewest_3 0 rfl rfl)
theorem dX5_laysFewest_72 : decode cX5_laysFewest 72 = .ok (.aload_n 0, 1) := dk_42 (dk_at dksX5_laysFewest_3 3 rfl rfl)
theorem dX5_laysFewest_73 : decode cX5_laysFewest 73 = .ok (.iload_n 2, 1) := dk_28 (dk_at dksX5_laysFewest_3 4 rfl rfl)
theorem dX5_laysFewest_74 : decode cX5_laysFewest 74 = .ok (.invokestatic 302, 3) := dk_184 1 46 (dk_at dksX5_laysFewest_3 5 rfl rfl)
theorem dX5_laysFewest_77 : decode cX5_laysFewest 77 = .ok (.putfield 398, 3) := dk_181 1 142 (dk_at dksX5_laysFewest_3 8 rfl rfl)
theorem dX5_laysFewest_80 : decode cX5_laysFewest 80 = .ok (.aload_n 0, 1) := dk_42 (dk_at dksX5_laysFewest_3 11 rfl rfl)
theorem dX5_laysFewest_81 : decode cX5_laysFewest 81 = .ok (.iconst 0, 1) := dk_3 (dk_at dksX5_laysFewest_3 12 rfl rfl)
theorem dX5_laysFewest_82 : decode cX5_laysFewest 82 = .ok (.putfield 401, 3) := dk_181 1 145 (dk_at dksX5_laysFewest_3 13 rfl rfl)
theorem dX5_laysFewest_85 : decode cX5_laysFewest 85 = .ok (.aload_n 0, 1) := dk_42 (dk_at dksX5_laysFewest_3 16 rfl rfl)
theorem dX5_laysFewest_86 : decode cX5_laysFewest 86 = .ok (.iload_n 2, 1) := dk_28 (dk_at dksX5_laysFewest_3 17 rfl rfl)
theorem dX5_laysFewest_87 : decode cX5_laysFewest 87 = .ok (.putfield 404, 3) := dk_181 1 148 (dk_at dksX5_laysFewest_3 18 rfl rfl)
theorem dX5_laysFewest_90 : decode cX5_laysFewest 90 = .ok (.aload_n 0, 1) := dk_42 (dk_at dksX5_laysFewest_3 21 rfl rfl)
theorem dX5_laysFewest_91 : decode cX5_laysFewest 91 = .ok (.dup, 1) := dk_89 (dk_at dksX5_laysFewest_3 22 rfl rfl)
theorem dX5_laysFewest_92 : decode cX5_laysFewest 92 = .ok (.getfield 401, 3) := dk_180 1 145 (dk_at dksX5_laysFewest_4 0 rfl rfl)
theorem dX5_laysFewest_95 : decode cX5_laysFewest 95 = .ok (.iconst 1, 1) := dk_4 (dk_at dksX5_laysFewest_4 3 rfl rfl)
theorem dX5_laysFewest_96 : decode cX5_laysFewest 96 = .ok (.iadd, 1) := dk_96 (dk_at dksX5_laysFewest_4 4 rfl rfl)
theorem dX5_laysFewest_97 : decode cX5_laysFewest 97 = .ok (.putfield 401, 3) := dk_181 1 145 (dk_at dksX5_laysFewest_4 5 rfl rfl)
theorem dX5_laysFewest_100 : decode cX5_laysFewest 100 = .ok (.iinc 2 1, 3) := dk_132 2 1 (dk_at dksX5_laysFewest_4 8 rfl rfl)
theorem dX5_laysFewest_103 : decode cX5_laysFewest 103 = .ok (.goto (-81), 3) := dk_167 255 175 (dk_at dksX5_laysFewest_4 11 rfl rfl)
theorem dX5_laysFewest_106 : decode cX5_laysFewest 106 = .ok (.return_, 1) := dk_177 (dk_at dksX5_laysFewest_4 14 rfl rfl)
abbrev cX5_isGuarded : ByteArray := prog_10_method_107_code
def yX5_isGuarded : MethodName := ⟨RX5, "isGuarded", "(I)Z"⟩
def dkwX5_isGuarded_1 : List UInt8 := [132, 2, 1, 167, 255, 232, 4, 172]
abbrev dktX5_isGuarded_1 : List UInt8 := dkwX5_isGuarded_1 ++ []
def dkwX5_isGuarded_0 : List UInt8 := [3, 61, 28, 42, 182, 1, 26, 162, 0, 22, 42, 180, 0, 104, 28, 46, 27, 126, 154, 0, 5, 3, 172]
abbrev dktX5_isGuarded_0 : List UInt8 := dkwX5_isGuarded_0 ++ dktX5_isGuarded_1
theorem dksX5_isGuarded_0 : cX5_isGuarded.data.toList.drop 0 = dktX5_isGuarded_0 := by decide +kernel
theorem dksX5_isGuarded_1 : cX5_isGuarded.data.toList.drop 23 = dktX5_isGuarded_1 := dk_seg dksX5_isGuarded_0 23 rfl rfl
theorem dX5_isGuarded_0 : decode cX5_isGuarded 0 = .ok (.iconst 0, 1) := dk_3 (dk_at dksX5_isGuarded_0 0 rfl rfl)
theorem dX5_isGuarded_1 : decode cX5_isGuarded 1 = .ok (.istore_n 2, 1) := dk_61 (dk_at dksX5_isGuarded_0 1 rfl rfl)
theorem dX5_isGuarded_2 : decode cX5_isGuarded 2 = .ok (.iload_n 2, 1) := dk_28 (dk_at dksX5_isGuarded_0 2 rfl rfl)
theorem dX5_isGuarded_3 : decode cX5_isGuarded 3 = .ok (.aload_n 0, 1) := dk_42 (dk_at dksX5_isGuarded_0 3 rfl rfl)
theorem dX5_isGuarded_4 : decode cX5_isGuarded 4 = .ok (.invokevirtual 282, 3) := dk_182 1 26 (dk_at dksX5_isGuarded_0 4 rfl rfl)
theorem dX5_isGuarded_7 : decode cX5_isGuarded 7 = .ok (.if_icmp .ge 22, 3) := dk_162 0 22 (dk_at dksX5_isGuarded_0 7 rfl rfl)
theorem dX5_isGuarded_10 : decode cX5_isGuarded 10 = .ok (.aload_n 0, 1) := dk_42 (dk_at dksX5_isGuarded_0 10 rfl rfl)
theorem dX5_isGuarded_11 : decode cX5_isGuarded 11 = .ok (.getfield 104, 3) := dk_180 0 104 (dk_at dksX5_isGuarded_0 11 rfl rfl)
theorem dX5_isGuarded_14 : decode cX5_isGuarded 14 = .ok (.iload_n 2, 1) := dk_28 (dk_at dksX5_isGuarded_0 14 rfl rfl)
theorem dX5_isGuarded_15 : decode cX5_isGuarded 15 = .ok (.iaload, 1) := dk_46 (dk_at dksX5_isGuarded_0 15 rfl rfl)
theorem dX5_isGuarded_16 : decode cX5_isGuarded 16 = .ok (.iload_n 1, 1) := dk_27 (dk_at dksX5_isGuarded_0 16 rfl rfl)
theorem dX5_isGuarded_17 : decode cX5_isGuarded 17 = .ok (.iand, 1) := dk_126 (dk_at dksX5_isGuarded_0 17 rfl rfl)
theorem dX5_isGuarded_18 : decode cX5_isGuarded 18 = .ok (.ifCond .ne 5, 3) := dk_154 0 5 (dk_at dksX5_isGuarded_0 18 rfl rfl)
theorem dX5_isGuarded_21 : decode cX5_isGuarded 21 = .ok (.iconst 0, 1) := dk_3 (dk_at dksX5_isGuarded_0 21 rfl rfl)
theorem dX5_isGuarded_22 : decode cX5_isGuarded 22 = .ok (.ireturn, 1) := dk_172 (dk_at dksX5_isGuarded_0 22 rfl rfl)
theorem dX5_isGuarded_23 : decode cX5_isGuarded 23 = .ok (.iinc 2 1, 3) := dk_132 2 1 (dk_at dksX5_isGuarded_1 0 rfl rfl)
theorem dX5_isGuarded_26 : decode cX5_isGuarded 26 = .ok (.goto (-24), 3) := dk_167 255 232 (dk_at dksX5_isGuarded_1 3 rfl rfl)
theorem dX5_isGuarded_29 : decode cX5_isGuarded 29 = .ok (.iconst 1, 1) := dk_4 (dk_at dksX5_isGuarded_1 6 rfl rfl)
theorem dX5_isGuarded_30 : decode cX5_isGuarded 30 = .ok (.ireturn, 1) := dk_172 (dk_at dksX5_isGuarded_1 7 rfl rfl)
abbrev cX5_perfect : ByteArray := prog_10_method_110_code
def yX5_perfect : MethodName := ⟨RX5, "perfect", "()I"⟩
def dkwX5_perfect_3 : List UInt8 := [62, 132, 4, 1, 167, 255, 218, 29, 153, 0, 5, 4, 172, 132, 2, 1, 167, 255, 191, 3, 172]
abbrev dktX5_perfect_3 : List UInt8 := dkwX5_perfect_3 ++ []
def dkwX5_perfect_2 : List UInt8 := [153, 0, 31, 42, 180, 0, 104, 21, 4, 46, 28, 126, 184, 1, 46, 4, 160, 0, 7, 4, 167, 0, 4, 3]
abbrev dktX5_perfect_2 : List UInt8 := dkwX5_perfect_2 ++ dktX5_perfect_3
def dkwX5_perfect_1 : List UInt8 := [42, 182, 1, 26, 120, 162, 0, 61, 4, 62, 3, 54, 4, 21, 4, 42, 182, 1, 26, 162, 0, 35, 29]
abbrev dktX5_perfect_1 : List UInt8 := dkwX5_perfect_1 ++ dktX5_perfect_2
def dkwX5_perfect_0 : List UInt8 := [42, 3, 181, 0, 131, 42, 182, 1, 127, 60, 27, 153, 0, 5, 27, 172, 42, 182, 1, 139, 3, 61, 28, 4]
abbrev dktX5_perfect_0 : List UInt8 := dkwX5_perfect_0 ++ dktX5_perfect_1
theorem dksX5_perfect_0 : cX5_perfect.data.toList.drop 0 = dktX5_perfect_0 := by decide +kernel
theorem dksX5_perfect_1 : cX5_perfect.data.toList.drop 24 = dktX5_perfect_1 := dk_seg dksX5_perfect_0 24 rfl rfl
theorem dksX5_perfect_2 : cX5_perfect.data.toList.drop 47 = dktX5_perfect_2 := dk_seg dksX5_perfect_1 23 rfl rfl
theorem dksX5_perfect_3 : cX5_perfect.data.toList.drop 71 = dktX5_perfect_3 := dk_seg dksX5_perfect_2 24 rfl rfl
theorem dX5_perfect_0 : decode cX5_perfect 0 = .ok (.aload_n 0, 1) := dk_42 (dk_at dksX5_perfect_0 0 rfl rfl)
theorem dX5_perfect_1 : decode cX5_perfect 1 = .ok (.iconst 0, 1) := dk_3 (dk_at dksX5_perfect_0 1 rfl rfl)
theorem dX5_perfect_2 : decode cX5_perfect 2 = .ok (.putfield 131, 3) := dk_181 0 131 (dk_at dksX5_perfect_0 2 rfl rfl)
theorem dX5_perfect_5 : decode cX5_perfect 5 = .ok (.aload_n 0, 1) := dk_42 (dk_at dksX5_perfect_0 5 rfl rfl)
theorem dX5_perfect_6 : decode cX5_perfect 6 = .ok (.invokevirtual 383, 3) := dk_182 1 127 (dk_at dksX5_perfect_0 6 rfl rfl)
theorem dX5_perfect_9 : decode cX5_perfect 9 = .ok (.istore_n 1, 1) := dk_60 (dk_at dksX5_perfect_0 9 rfl rfl)
theorem dX5_perfect_10 : decode cX5_perfect 10 = .ok (.iload_n 1, 1) := dk_27 (dk_at dksX5_perfect_0 10 rfl rfl)
theorem dX5_perfect_11 : decode cX5_perfect 11 = .ok (.ifCond .eq 5, 3) := dk_153 0 5 (dk_at dksX5_perfect_0 11 rfl rfl)
theorem dX5_perfect_14 : decode cX5_perfect 14 = .ok (.iload_n 1, 1) := dk_27 (dk_at dksX5_perfect_0 14 rfl rfl)
theorem dX5_perfect_15 : decode cX5_perfect 15 = .ok (.ireturn, 1) := dk_172 (dk_at dksX5_perfect_0 15 rfl rfl)
theorem dX5_perfect_16 : decode cX5_perfect 16 = .ok (.aload_n 0, 1) := dk_42 (dk_at dksX5_perfect_0 16 rfl rfl)
theorem dX5_perfect_17 : decode cX5_perfect 17 = .ok (.invokevirtual 395, 3) := dk_182 1 139 (dk_at dksX5_perfect_0 17 rfl rfl)
theorem dX5_perfect_20 : decode cX5_perfect 20 = .ok (.iconst 0, 1) := dk_3 (dk_at dksX5_perfect_0 20 rfl rfl)
theorem dX5_perfect_21 : decode cX5_perfect 21 = .ok (.istore_n 2, 1) := dk_61 (dk_at dksX5_perfect_0 21 rfl rfl)
theorem dX5_perfect_22 : decode cX5_perfect 22 = .ok (.iload_n 2, 1) := dk_28 (dk_at dksX5_perfect_0 22 rfl rfl)
theorem dX5_perfect_23 : decode cX5_perfect 23 = .ok (.iconst 1, 1) := dk_4 (dk_at dksX5_perfect_0 23 rfl rfl)
theorem dX5_perfect_24 : decode cX5_perfect 24 = .ok (.aload_n 0, 1) := dk_42 (dk_at dksX5_perfect_1 0 rfl rfl)
theorem dX5_perfect_25 : decode cX5_perfect 25 = .ok (.invokevirtual 282, 3) := dk_182 1 26 (dk_at dksX5_perfect_1 1 rfl rfl)
theorem dX5_perfect_28 : decode cX5_perfect 28 = .ok (.ishl, 1) := dk_120 (dk_at dksX5_perfect_1 4 rfl rfl)
theorem dX5_perfect_29 : decode cX5_perfect 29 = .ok (.if_icmp .ge 61, 3) := dk_162 0 61 (dk_at dksX5_perfect_1 5 rfl rfl)
theorem dX5_perfect_32 : decode cX5_perfect 32 = .ok (.iconst 1, 1) := dk_4 (dk_at dksX5_perfect_1 8 rfl rfl)
theorem dX5_perfect_33 : decode cX5_perfect 33 = .ok (.istore_n 3, 1) := dk_62 (dk_at dksX5_perfect_1 9 rfl rfl)
theorem dX5_perfect_34 : decode cX5_perfect 34 = .ok (.iconst 0, 1) := dk_3 (dk_at dksX5_perfect_1 10 rfl rfl)
theorem dX5_perfect_35 : decode cX5_perfect 35 = .ok (.istore 4, 2) := dk_54 4 (dk_at dksX5_perfect_1 11 rfl rfl)
theorem dX5_perfect_37 : decode cX5_perfect 37 = .ok (.iload 4, 2) := dk_21 4 (dk_at dksX5_perfect_1 13 rfl rfl)
theorem dX5_perfect_39 : decode cX5_perfect 39 = .ok (.aload_n 0, 1) := dk_42 (dk_at dksX5_perfect_1 15 rfl rfl)
theorem dX5_perfect_40 : decode cX5_perfect 40 = .ok (.invokevirtual 282, 3) := dk_182 1 26 (dk_at dksX5_perfect_1 16 rfl rfl)
theorem dX5_perfect_43 : decode cX5_perfect 43 = .ok (.if_icmp .ge 35, 3) := dk_162 0 35 (dk_at dksX5_perfect_1 19 rfl rfl)
theorem dX5_perfect_46 : decode cX5_perfect 46 = .ok (.iload_n 3, 1) := dk_29 (dk_at dksX5_perfect_1 22 rfl rfl)
theorem dX5_perfect_47 : decode cX5_perfect 47 = .ok (.ifCond .eq 31, 3) := dk_153 0 31 (dk_at dksX5_perfect_2 0 rfl rfl)
theorem dX5_perfect_50 : decode cX5_perfect 50 = .ok (.aload_n 0, 1) := dk_42 (dk_at dksX5_perfect_2 3 rfl rfl)
theorem dX5_perfect_51 : decode cX5_perfect 51 = .ok (.getfield 104, 3) := dk_180 0 104 (dk_at dksX5_perfect_2 4 rfl rfl)
theorem dX5_perfect_54 : decode cX5_perfect 54 = .ok (.iload 4, 2) := dk_21 4 (dk_at dksX5_perfect_2 7 rfl rfl)
theorem dX5_perfect_56 : decode cX5_perfect 56 = .ok (.iaload, 1) := dk_46 (dk_at dksX5_perfect_2 9 rfl rfl)
theorem dX5_perfect_57 : decode cX5_perfect 57 = .ok (.iload_n 2, 1) := dk_28 (dk_at dksX5_perfect_2 10 rfl rfl)
theorem dX5_perfect_58 : decode cX5_perfect 58 = .ok (.iand, 1) := dk_126 (dk_at dksX5_perfect_2 11 rfl rfl)
theorem dX5_perfect_59 : decode cX5_perfect 59 = .ok (.invokestatic 302, 3) := dk_184 1 46 (dk_at dksX5_perfect_2 12 rfl rfl)
theorem dX5_perfect_62 : decode cX5_perfect 62 = .ok (.iconst 1, 1) := dk_4 (dk_at dksX5_perfect_2 15 rfl rfl)
theorem dX5_perfect_63 : decode cX5_perfect 63 = .ok (.if_icmp .ne 7, 3) := dk_160 0 7 (dk_at dksX5_perfect_2 16 rfl rfl)
theorem dX5_perfect_66 : decode cX5_perfect 66 = .ok (.iconst 1, 1) := dk_4 (dk_at dksX5_perfect_2 19 rfl rfl)
theorem dX5_perfect_67 : decode cX5_perfect 67 = .ok (.goto 4, 3) := dk_167 0 4 (dk_at dksX5_perfect_2 20 rfl rfl)
theorem dX5_perfect_70 : decode cX5_perfect 70 = .ok (.iconst 0, 1) := dk_3 (dk_at dksX5_perfect_2 23 rfl rfl)
theorem dX5_perfect_71 : decode cX5_perfect 71 = .ok (.istore_n 3, 1) := dk_62 (dk_at dksX5_perfect_3 0 rfl rfl)
theorem dX5_perfect_72 : decode cX5_perfect 72 = .ok (.iinc 4 1, 3) := dk_132 4 1 (dk_at dksX5_perfect_3 1 rfl rfl)
theorem dX5_perfect_75 : decode cX5_perfect 75 = .ok (.goto (-38), 3) := dk_167 255 218 (dk_at dksX5_perfect_3 4 rfl rfl)
theorem dX5_perfect_78 : decode cX5_perfect 78 = .ok (.iload_n 3, 1) := dk_29 (dk_at dksX5_perfect_3 7 rfl rfl)
theorem dX5_perfect_79 : decode cX5_perfect 79 = .ok (.ifCond .eq 5, 3) := dk_153 0 5 (dk_at dksX5_perfect_3 8 rfl rfl)
theorem dX5_perfect_82 : decode cX5_perfect 82 = .ok (.iconst 1, 1) := dk_4 (dk_at dksX5_perfect_3 11 rfl rfl)
theorem dX5_perfect_83 : decode cX5_perfect 83 = .ok (.ireturn, 1) := dk_172 (dk_at dksX5_perfect_3 12 rfl rfl)
theorem dX5_perfect_84 : decode cX5_perfect 84 = .ok (.iinc 2 1, 3) := dk_132 2 1 (dk_at dksX5_perfect_3 13 rfl rfl)
theorem dX5_perfect_87 : decode cX5_perfect 87 = .ok (.goto (-65), 3) := dk_167 255 191 (dk_at dksX5_perfect_3 16 rfl rfl)
theorem dX5_perfect_90 : decode cX5_perfect 90 = .ok (.iconst 0, 1) := dk_3 (dk_at dksX5_perfect_3 19 rfl rfl)
theorem dX5_perfect_91 : decode cX5_perfect 91 = .ok (.ireturn, 1) := dk_172 (dk_at dksX5_perfect_3 20 rfl rfl)
abbrev cX5_more : ByteArray := prog_10_method_111_code
def yX5_more : MethodName := ⟨RX5, "more", "()I"⟩
def dkwX5_more_1 : List UInt8 := [182, 1, 156, 42, 180, 1, 142, 42, 180, 0, 49, 3, 46, 184, 1, 46, 100, 172]
abbrev dktX5_more_1 : List UInt8 := dkwX5_more_1 ++ []
def dkwX5_more_0 : List UInt8 := [42, 3, 181, 0, 131, 42, 182, 1, 127, 60, 27, 153, 0, 5, 27, 172, 42, 42, 180, 0, 49, 3, 46]
abbrev dktX5_more_0 : List UInt8 := dkwX5_more_0 ++ dktX5_more_1
theorem dksX5_more_0 : cX5_more.data.toList.drop 0 = dktX5_more_0 := by decide +kernel
theorem dksX5_more_1 : cX5_more.data.toList.drop 23 = dktX5_more_1 := dk_seg dksX5_more_0 23 rfl rfl
theorem dX5_more_0 : decode cX5_more 0 = .ok (.aload_n 0, 1) := dk_42 (dk_at dksX5_more_0 0 rfl rfl)
theorem dX5_more_1 : decode cX5_more 1 = .ok (.iconst 0, 1) := dk_3 (dk_at dksX5_more_0 1 rfl rfl)
theorem dX5_more_2 : decode cX5_more 2 = .ok (.putfield 131, 3) := dk_181 0 131 (dk_at dksX5_more_0 2 rfl rfl)
theorem dX5_more_5 : decode cX5_more 5 = .ok (.aload_n 0, 1) := dk_42 (dk_at dksX5_more_0 5 rfl rfl)
theorem dX5_more_6 : decode cX5_more 6 = .ok (.invokevirtual 383, 3) := dk_182 1 127 (dk_at dksX5_more_0 6 rfl rfl)
theorem dX5_more_9 : decode cX5_more 9 = .ok (.istore_n 1, 1) := dk_60 (dk_at dksX5_more_0 9 rfl rfl)
theorem dX5_more_10 : decode cX5_more 10 = .ok (.iload_n 1, 1) := dk_27 (dk_at dksX5_more_0 10 rfl rfl)
theorem dX5_more_11 : decode cX5_more 11 = .ok (.ifCond .eq 5, 3) := dk_153 0 5 (dk_at dksX5_more_0 11 rfl rfl)
theorem dX5_more_14 : decode cX5_more 14 = .ok (.iload_n 1, 1) := dk_27 (dk_at dksX5_more_0 14 rfl rfl)
theorem dX5_more_15 : decode cX5_more 15 = .ok (.ireturn, 1) := dk_172 (dk_at dksX5_more_0 15 rfl rfl)
theorem dX5_more_16 : decode cX5_more 16 = .ok (.aload_n 0, 1) := dk_42 (dk_at dksX5_more_0 16 rfl rfl)
theorem dX5_more_17 : decode cX5_more 17 = .ok (.aload_n 0, 1) := dk_42 (dk_at dksX5_more_0 17 rfl rfl)
theorem dX5_more_18 : decode cX5_more 18 = .ok (.getfield 49, 3) := dk_180 0 49 (dk_at dksX5_more_0 18 rfl rfl)
theorem dX5_more_21 : decode cX5_more 21 = .ok (.iconst 0, 1) := dk_3 (dk_at dksX5_more_0 21 rfl rfl)
theorem dX5_more_22 : decode cX5_more 22 = .ok (.iaload, 1) := dk_46 (dk_at dksX5_more_0 22 rfl rfl)
theorem dX5_more_23 : decode cX5_more 23 = .ok (.invokevirtual 412, 3) := dk_182 1 156 (dk_at dksX5_more_1 0 rfl rfl)
theorem dX5_more_26 : decode cX5_more 26 = .ok (.aload_n 0, 1) := dk_42 (dk_at dksX5_more_1 3 rfl rfl)
theorem dX5_more_27 : decode cX5_more 27 = .ok (.getfield 398, 3) := dk_180 1 142 (dk_at dksX5_more_1 4 rfl rfl)
theorem dX5_more_30 : decode cX5_more 30 = .ok (.aload_n 0, 1) := dk_42 (dk_at dksX5_more_1 7 rfl rfl)
theorem dX5_more_31 : decode cX5_more 31 = .ok (.getfield 49, 3) := dk_180 0 49 (dk_at dksX5_more_1 8 rfl rfl)
theorem dX5_more_34 : decode cX5_more 34 = .ok (.iconst 0, 1) := dk_3 (dk_at dksX5_more_1 11 rfl rfl)
theorem dX5_more_35 : decode cX5_more 35 = .ok (.iaload, 1) := dk_46 (dk_at dksX5_more_1 12 rfl rfl)
theorem dX5_more_36 : decode cX5_more 36 = .ok (.invokestatic 302, 3) := dk_184 1 46 (dk_at dksX5_more_1 13 rfl rfl)
theorem dX5_more_39 : decode cX5_more 39 = .ok (.isub, 1) := dk_100 (dk_at dksX5_more_1 16 rfl rfl)
theorem dX5_more_40 : decode cX5_more 40 = .ok (.ireturn, 1) := dk_172 (dk_at dksX5_more_1 17 rfl rfl)
abbrev cX5_code : ByteArray := prog_10_method_114_code
def yX5_code : MethodName := ⟨RX5, "code", "(I)I"⟩
def dkwX5_code_3 : List UInt8 := [162, 0, 8, 21, 6, 167, 0, 4, 29, 62, 132, 5, 1, 167, 255, 208, 132, 4, 1, 167, 255, 188, 29, 172]
abbrev dktX5_code_3 : List UInt8 := dkwX5_code_3 ++ []
def dkwX5_code_2 : List UInt8 := [182, 1, 162, 42, 27, 21, 5, 182, 1, 162, 130, 184, 1, 46, 54, 6, 29, 2, 159, 0, 9, 21, 6, 29]
abbrev dktX5_code_2 : List UInt8 := dkwX5_code_2 ++ dktX5_code_3
def dkwX5_code_1 : List UInt8 := [42, 180, 0, 13, 27, 46, 162, 0, 63, 3, 54, 5, 21, 5, 21, 4, 162, 0, 47, 42, 27, 21, 4]
abbrev dktX5_code_1 : List UInt8 := dkwX5_code_1 ++ dktX5_code_2
def dkwX5_code_0 : List UInt8 := [42, 3, 181, 0, 131, 42, 27, 182, 1, 159, 61, 28, 153, 0, 5, 28, 172, 2, 62, 3, 54, 4, 21, 4]
abbrev dktX5_code_0 : List UInt8 := dkwX5_code_0 ++ dktX5_code_1
theorem dksX5_code_0 : cX5_code.data.toList.drop 0 = dktX5_code_0 := by decide +kernel
theorem dksX5_code_1 : cX5_code.data.toList.drop 24 = dktX5_code_1 := dk_seg dksX5_code_0 24 rfl rfl
theorem dksX5_code_2 : cX5_code.data.toList.drop 47 = dktX5_code_2 := dk_seg dksX5_code_1 23 rfl rfl
theorem dksX5_code_3 : cX5_code.data.toList.drop 71 = dktX5_code_3 := dk_seg dksX5_code_2 24 rfl rfl
theorem dX5_code_0 : decode cX5_code 0 = .ok (.aload_n 0, 1) := dk_42 (dk_at dksX5_code_0 0 rfl rfl)
theorem dX5_code_1 : decode cX5_code 1 = .ok (.iconst 0, 1) := dk_3 (dk_at dksX5_code_0 1 rfl rfl)
theorem dX5_code_2 : decode cX5_code 2 = .ok (.putfield 131, 3) := dk_181 0 131 (dk_at dksX5_code_0 2 rfl rfl)
theorem dX5_code_5 : decode cX5_code 5 = .ok (.aload_n 0, 1) := dk_42 (dk_at dksX5_code_0 5 rfl rfl)
theorem dX5_code_6 : decode cX5_code 6 = .ok (.iload_n 1, 1) := dk_27 (dk_at dksX5_code_0 6 rfl rfl)
theorem dX5_code_7 : decode cX5_code 7 = .ok (.invokevirtual 415, 3) := dk_182 1 159 (dk_at dksX5_code_0 7 rfl rfl)
theorem dX5_code_10 : decode cX5_code 10 = .ok (.istore_n 2, 1) := dk_61 (dk_at dksX5_code_0 10 rfl rfl)
theorem dX5_code_11 : decode cX5_code 11 = .ok (.iload_n 2, 1) := dk_28 (dk_at dksX5_code_0 11 rfl rfl)
theorem dX5_code_12 : decode cX5_code 12 = .ok (.ifCond .eq 5, 3) := dk_153 0 5 (dk_at dksX5_code_0 12 rfl rfl)
theorem dX5_code_15 : decode cX5_code 15 = .ok (.iload_n 2, 1) := dk_28 (dk_at dksX5_code_0 15 rfl rfl)
theorem dX5_code_16 : decode cX5_code 16 = .ok (.ireturn, 1) := dk_172 (dk_at dksX5_code_0 16 rfl rfl)
theorem dX5_code_17 : decode cX5_code 17 = .ok (.iconst (-1), 1) := dk_2 (dk_at dksX5_code_0 17 rfl rfl)
theorem dX5_code_18 : decode cX5_code 18 = .ok (.istore_n 3, 1) := dk_62 (dk_at dksX5_code_0 18 rfl rfl)
theorem dX5_code_19 : decode cX5_code 19 = .ok (.iconst 0, 1) := dk_3 (dk_at dksX5_code_0 19 rfl rfl)
theorem dX5_code_20 : decode cX5_code 20 = .ok (.istore 4, 2) := dk_54 4 (dk_at dksX5_code_0 20 rfl rfl)
theorem dX5_code_22 : decode cX5_code 22 = .ok (.iload 4, 2) := dk_21 4 (dk_at dksX5_code_0 22 rfl rfl)
theorem dX5_code_24 : decode cX5_code 24 = .ok (.aload_n 0, 1) := dk_42 (dk_at dksX5_code_1 0 rfl rfl)
theorem dX5_code_25 : decode cX5_code 25 = .ok (.getfield 13, 3) := dk_180 0 13 (dk_at dksX5_code_1 1 rfl rfl)
theorem dX5_code_28 : decode cX5_code 28 = .ok (.iload_n 1, 1) := dk_27 (dk_at dksX5_code_1 4 rfl rfl)
theorem dX5_code_29 : decode cX5_code 29 = .ok (.iaload, 1) := dk_46 (dk_at dksX5_code_1 5 rfl rfl)
theorem dX5_code_30 : decode cX5_code 30 = .ok (.if_icmp .ge 63, 3) := dk_162 0 63 (dk_at dksX5_code_1 6 rfl rfl)
theorem dX5_code_33 : decode cX5_code 33 = .ok (.iconst 0, 1) := dk_3 (dk_at dksX5_code_1 9 rfl rfl)
theorem dX5_code_34 : decode cX5_code 34 = .ok (.istore 5, 2) := dk_54 5 (dk_at dksX5_code_1 10 rfl rfl)
theorem dX5_code_36 : decode cX5_code 36 = .ok (.iload 5, 2) := dk_21 5 (dk_at dksX5_code_1 12 rfl rfl)
theorem dX5_code_38 : decode cX5_code 38 = .ok (.iload 4, 2) := dk_21 4 (dk_at dksX5_code_1 14 rfl rfl)
theorem dX5_code_40 : decode cX5_code 40 = .ok (.if_icmp .ge 47, 3) := dk_162 0 47 (dk_at dksX5_code_1 16 rfl rfl)
theorem dX5_code_43 : decode cX5_code 43 = .ok (.aload_n 0, 1) := dk_42 (dk_at dksX5_code_1 19 rfl rfl)
theorem dX5_code_44 : decode cX5_code 44 = .ok (.iload_n 1, 1) := dk_27 (dk_at dksX5_code_1 20 rfl rfl)
theorem dX5_code_45 : decode cX5_code 45 = .ok (.iload 4, 2) := dk_21 4 (dk_at dksX5_code_1 21 rfl rfl)
theorem dX5_code_47 : decode cX5_code 47 = .ok (.invokevirtual 418, 3) := dk_182 1 162 (dk_at dksX5_code_2 0 rfl rfl)
theorem dX5_code_50 : decode cX5_code 50 = .ok (.aload_n 0, 1) := dk_42 (dk_at dksX5_code_2 3 rfl rfl)
theorem dX5_code_51 : decode cX5_code 51 = .ok (.iload_n 1, 1) := dk_27 (dk_at dksX5_code_2 4 rfl rfl)
theorem dX5_code_52 : decode cX5_code 52 = .ok (.iload 5, 2) := dk_21 5 (dk_at dksX5_code_2 5 rfl rfl)
theorem dX5_code_54 : decode cX5_code 54 = .ok (.invokevirtual 418, 3) := dk_182 1 162 (dk_at dksX5_code_2 7 rfl rfl)
theorem dX5_code_57 : decode cX5_code 57 = .ok (.ixor, 1) := dk_130 (dk_at dksX5_code_2 10 rfl rfl)
theorem dX5_code_58 : decode cX5_code 58 = .ok (.invokestatic 302, 3) := dk_184 1 46 (dk_at dksX5_code_2 11 rfl rfl)
theorem dX5_code_61 : decode cX5_code 61 = .ok (.istore 6, 2) := dk_54 6 (dk_at dksX5_code_2 14 rfl rfl)
theorem dX5_code_63 : decode cX5_code 63 = .ok (.iload_n 3, 1) := dk_29 (dk_at dksX5_code_2 16 rfl rfl)
theorem dX5_code_64 : decode cX5_code 64 = .ok (.iconst (-1), 1) := dk_2 (dk_at dksX5_code_2 17 rfl rfl)
theorem dX5_code_65 : decode cX5_code 65 = .ok (.if_icmp .eq 9, 3) := dk_159 0 9 (dk_at dksX5_code_2 18 rfl rfl)
theorem dX5_code_68 : decode cX5_code 68 = .ok (.iload 6, 2) := dk_21 6 (dk_at dksX5_code_2 21 rfl rfl)
theorem dX5_code_70 : decode cX5_code 70 = .ok (.iload_n 3, 1) := dk_29 (dk_at dksX5_code_2 23 rfl rfl)
theorem dX5_code_71 : decode cX5_code 71 = .ok (.if_icmp .ge 8, 3) := dk_162 0 8 (dk_at dksX5_code_3 0 rfl rfl)
theorem dX5_code_74 : decode cX5_code 74 = .ok (.iload 6, 2) := dk_21 6 (dk_at dksX5_code_3 3 rfl rfl)
theorem dX5_code_76 : decode cX5_code 76 = .ok (.goto 4, 3) := dk_167 0 4 (dk_at dksX5_code_3 5 rfl rfl)
theorem dX5_code_79 : decode cX5_code 79 = .ok (.iload_n 3, 1) := dk_29 (dk_at dksX5_code_3 8 rfl rfl)
theorem dX5_code_80 : decode cX5_code 80 = .ok (.istore_n 3, 1) := dk_62 (dk_at dksX5_code_3 9 rfl rfl)
theorem dX5_code_81 : decode cX5_code 81 = .ok (.iinc 5 1, 3) := dk_132 5 1 (dk_at dksX5_code_3 10 rfl rfl)
theorem dX5_code_84 : decode cX5_code 84 = .ok (.goto (-48), 3) := dk_167 255 208 (dk_at dksX5_code_3 13 rfl rfl)
theorem dX5_code_87 : decode cX5_code 87 = .ok (.iinc 4 1, 3) := dk_132 4 1 (dk_at dksX5_code_3 16 rfl rfl)
theorem dX5_code_90 : decode cX5_code 90 = .ok (.goto (-68), 3) := dk_167 255 188 (dk_at dksX5_code_3 19 rfl rfl)
theorem dX5_code_93 : decode cX5_code 93 = .ok (.iload_n 3, 1) := dk_29 (dk_at dksX5_code_3 22 rfl rfl)
theorem dX5_code_94 : decode cX5_code 94 = .ok (.ireturn, 1) := dk_172 (dk_at dksX5_code_3 23 rfl rfl)
abbrev cX5_whyNot : ByteArray := prog_10_method_112_code
def yX5_whyNot : MethodName := ⟨RX5, "whyNot", "(I)I"⟩
def dkwX5_whyNot_2 : List UInt8 := [16, 60, 27, 104, 28, 96, 47, 182, 1, 29, 154, 0, 6, 16, 254, 172, 132, 2, 1, 167, 255, 222, 3, 172]
abbrev dktX5_whyNot_2 : List UInt8 := dkwX5_whyNot_2 ++ []
def dkwX5_whyNot_1 : List UInt8 := [160, 0, 6, 16, 250, 172, 3, 61, 28, 42, 180, 0, 13, 27, 46, 162, 0, 30, 42, 42, 180, 0, 16]
abbrev dktX5_whyNot_1 : List UInt8 := dkwX5_whyNot_1 ++ dktX5_whyNot_2
def dkwX5_whyNot_0 : List UInt8 := [27, 184, 0, 140, 153, 0, 10, 42, 182, 1, 23, 154, 0, 6, 16, 254, 172, 42, 180, 0, 7, 27, 46, 2]
abbrev dktX5_whyNot_0 : List UInt8 := dkwX5_whyNot_0 ++ dktX5_whyNot_1
theorem dksX5_whyNot_0 : cX5_whyNot.data.toList.drop 0 = dktX5_whyNot_0 := by decide +kernel
theorem dksX5_whyNot_1 : cX5_whyNot.data.toList.drop 24 = dktX5_whyNot_1 := dk_seg dksX5_whyNot_0 24 rfl rfl
theorem dksX5_whyNot_2 : cX5_whyNot.data.toList.drop 47 = dktX5_whyNot_2 := dk_seg dksX5_whyNot_1 23 rfl rfl
theorem dX5_whyNot_0 : decode cX5_whyNot 0 = .ok (.iload_n 1, 1) := dk_27 (dk_at dksX5_whyNot_0 0 rfl rfl)
theorem dX5_whyNot_1 : decode cX5_whyNot 1 = .ok (.invokestatic 140, 3) := dk_184 0 140 (dk_at dksX5_whyNot_0 1 rfl rfl)
theorem dX5_whyNot_4 : decode cX5_whyNot 4 = .ok (.ifCond .eq 10, 3) := dk_153 0 10 (dk_at dksX5_whyNot_0 4 rfl rfl)
theorem dX5_whyNot_7 : decode cX5_whyNot 7 = .ok (.aload_n 0, 1) := dk_42 (dk_at dksX5_whyNot_0 7 rfl rfl)
theorem dX5_whyNot_8 : decode cX5_whyNot 8 = .ok (.invokevirtual 279, 3) := dk_182 1 23 (dk_at dksX5_whyNot_0 8 rfl rfl)
theorem dX5_whyNot_11 : decode cX5_whyNot 11 = .ok (.ifCond .ne 6, 3) := dk_154 0 6 (dk_at dksX5_whyNot_0 11 rfl rfl)
theorem dX5_whyNot_14 : decode cX5_whyNot 14 = .ok (.bipush (-2), 2) := dk_16 254 (dk_at dksX5_whyNot_0 14 rfl rfl)
theorem dX5_whyNot_16 : decode cX5_whyNot 16 = .ok (.ireturn, 1) := dk_172 (dk_at dksX5_whyNot_0 16 rfl rfl)
theorem dX5_whyNot_17 : decode cX5_whyNot 17 = .ok (.aload_n 0, 1) := dk_42 (dk_at dksX5_whyNot_0 17 rfl rfl)
theorem dX5_whyNot_18 : decode cX5_whyNot 18 = .ok (.getfield 7, 3) := dk_180 0 7 (dk_at dksX5_whyNot_0 18 rfl rfl)
theorem dX5_whyNot_21 : decode cX5_whyNot 21 = .ok (.iload_n 1, 1) := dk_27 (dk_at dksX5_whyNot_0 21 rfl rfl)
theorem dX5_whyNot_22 : decode cX5_whyNot 22 = .ok (.iaload, 1) := dk_46 (dk_at dksX5_whyNot_0 22 rfl rfl)
theorem dX5_whyNot_23 : decode cX5_whyNot 23 = .ok (.iconst (-1), 1) := dk_2 (dk_at dksX5_whyNot_0 23 rfl rfl)
theorem dX5_whyNot_24 : decode cX5_whyNot 24 = .ok (.if_icmp .ne 6, 3) := dk_160 0 6 (dk_at dksX5_whyNot_1 0 rfl rfl)
theorem dX5_whyNot_27 : decode cX5_whyNot 27 = .ok (.bipush (-6), 2) := dk_16 250 (dk_at dksX5_whyNot_1 3 rfl rfl)
theorem dX5_whyNot_29 : decode cX5_whyNot 29 = .ok (.ireturn, 1) := dk_172 (dk_at dksX5_whyNot_1 5 rfl rfl)
theorem dX5_whyNot_30 : decode cX5_whyNot 30 = .ok (.iconst 0, 1) := dk_3 (dk_at dksX5_whyNot_1 6 rfl rfl)
theorem dX5_whyNot_31 : decode cX5_whyNot 31 = .ok (.istore_n 2, 1) := dk_61 (dk_at dksX5_whyNot_1 7 rfl rfl)
theorem dX5_whyNot_32 : decode cX5_whyNot 32 = .ok (.iload_n 2, 1) := dk_28 (dk_at dksX5_whyNot_1 8 rfl rfl)
theorem dX5_whyNot_33 : decode cX5_whyNot 33 = .ok (.aload_n 0, 1) := dk_42 (dk_at dksX5_whyNot_1 9 rfl rfl)
theorem dX5_whyNot_34 : decode cX5_whyNot 34 = .ok (.getfield 13, 3) := dk_180 0 13 (dk_at dksX5_whyNot_1 10 rfl rfl)
theorem dX5_whyNot_37 : decode cX5_whyNot 37 = .ok (.iload_n 1, 1) := dk_27 (dk_at dksX5_whyNot_1 13 rfl rfl)
theorem dX5_whyNot_38 : decode cX5_whyNot 38 = .ok (.iaload, 1) := dk_46 (dk_at dksX5_whyNot_1 14 rfl rfl)
theorem dX5_whyNot_39 : decode cX5_whyNot 39 = .ok (.if_icmp .ge 30, 3) := dk_162 0 30 (dk_at dksX5_whyNot_1 15 rfl rfl)
theorem dX5_whyNot_42 : decode cX5_whyNot 42 = .ok (.aload_n 0, 1) := dk_42 (dk_at dksX5_whyNot_1 18 rfl rfl)
theorem dX5_whyNot_43 : decode cX5_whyNot 43 = .ok (.aload_n 0, 1) := dk_42 (dk_at dksX5_whyNot_1 19 rfl rfl)
theorem dX5_whyNot_44 : decode cX5_whyNot 44 = .ok (.getfield 16, 3) := dk_180 0 16 (dk_at dksX5_whyNot_1 20 rfl rfl)
theorem dX5_whyNot_47 : decode cX5_whyNot 47 = .ok (.bipush 60, 2) := dk_16 60 (dk_at dksX5_whyNot_2 0 rfl rfl)
theorem dX5_whyNot_49 : decode cX5_whyNot 49 = .ok (.iload_n 1, 1) := dk_27 (dk_at dksX5_whyNot_2 2 rfl rfl)
theorem dX5_whyNot_50 : decode cX5_whyNot 50 = .ok (.imul, 1) := dk_104 (dk_at dksX5_whyNot_2 3 rfl rfl)
theorem dX5_whyNot_51 : decode cX5_whyNot 51 = .ok (.iload_n 2, 1) := dk_28 (dk_at dksX5_whyNot_2 4 rfl rfl)
theorem dX5_whyNot_52 : decode cX5_whyNot 52 = .ok (.iadd, 1) := dk_96 (dk_at dksX5_whyNot_2 5 rfl rfl)
theorem dX5_whyNot_53 : decode cX5_whyNot 53 = .ok (.laload, 1) := dk_47 (dk_at dksX5_whyNot_2 6 rfl rfl)
theorem dX5_whyNot_54 : decode cX5_whyNot 54 = .ok (.invokevirtual 285, 3) := dk_182 1 29 (dk_at dksX5_whyNot_2 7 rfl rfl)
theorem dX5_whyNot_57 : decode cX5_whyNot 57 = .ok (.ifCond .ne 6, 3) := dk_154 0 6 (dk_at dksX5_whyNot_2 10 rfl rfl)
theorem dX5_whyNot_60 : decode cX5_whyNot 60 = .ok (.bipush (-2), 2) := dk_16 254 (dk_at dksX5_whyNot_2 13 rfl rfl)
theorem dX5_whyNot_62 : decode cX5_whyNot 62 = .ok (.ireturn, 1) := dk_172 (dk_at dksX5_whyNot_2 15 rfl rfl)
theorem dX5_whyNot_63 : decode cX5_whyNot 63 = .ok (.iinc 2 1, 3) := dk_132 2 1 (dk_at dksX5_whyNot_2 16 rfl rfl)
theorem dX5_whyNot_66 : decode cX5_whyNot 66 = .ok (.goto (-34), 3) := dk_167 255 222 (dk_at dksX5_whyNot_2 19 rfl rfl)
theorem dX5_whyNot_69 : decode cX5_whyNot 69 = .ok (.iconst 0, 1) := dk_3 (dk_at dksX5_whyNot_2 22 rfl rfl)
theorem dX5_whyNot_70 : decode cX5_whyNot 70 = .ok (.ireturn, 1) := dk_172 (dk_at dksX5_whyNot_2 23 rfl rfl)
abbrev cX5_cellOf : ByteArray := prog_10_method_113_code
def yX5_cellOf : MethodName := ⟨RX5, "cellOf", "(II)I"⟩
def dkwX5_cellOf_0 : List UInt8 := [42, 180, 0, 16, 16, 60, 27, 104, 28, 96, 47, 136, 172]
abbrev dktX5_cellOf_0 : List UInt8 := dkwX5_cellOf_0 ++ []
theorem dksX5_cellOf_0 : cX5_cellOf.data.toList.drop 0 = dktX5_cellOf_0 := by decide +kernel
theorem dX5_cellOf_0 : decode cX5_cellOf 0 = .ok (.aload_n 0, 1) := dk_42 (dk_at dksX5_cellOf_0 0 rfl rfl)
theorem dX5_cellOf_1 : decode cX5_cellOf 1 = .ok (.getfield 16, 3) := dk_180 0 16 (dk_at dksX5_cellOf_0 1 rfl rfl)
theorem dX5_cellOf_4 : decode cX5_cellOf 4 = .ok (.bipush 60, 2) := dk_16 60 (dk_at dksX5_cellOf_0 4 rfl rfl)
theorem dX5_cellOf_6 : decode cX5_cellOf 6 = .ok (.iload_n 1, 1) := dk_27 (dk_at dksX5_cellOf_0 6 rfl rfl)
theorem dX5_cellOf_7 : decode cX5_cellOf 7 = .ok (.imul, 1) := dk_104 (dk_at dksX5_cellOf_0 7 rfl rfl)
theorem dX5_cellOf_8 : decode cX5_cellOf 8 = .ok (.iload_n 2, 1) := dk_28 (dk_at dksX5_cellOf_0 8 rfl rfl)
theorem dX5_cellOf_9 : decode cX5_cellOf 9 = .ok (.iadd, 1) := dk_96 (dk_at dksX5_cellOf_0 9 rfl rfl)
theorem dX5_cellOf_10 : decode cX5_cellOf 10 = .ok (.laload, 1) := dk_47 (dk_at dksX5_cellOf_0 10 rfl rfl)
theorem dX5_cellOf_11 : decode cX5_cellOf 11 = .ok (.l2i, 1) := dk_136 (dk_at dksX5_cellOf_0 11 rfl rfl)
theorem dX5_cellOf_12 : decode cX5_cellOf 12 = .ok (.ireturn, 1) := dk_172 (dk_at dksX5_cellOf_0 12 rfl rfl)
abbrev cX5_heard : ByteArray := prog_10_method_116_code
def yX5_heard : MethodName := ⟨RX5, "heard", "(II)I"⟩
def dkwX5_heard_1 : List UInt8 := [62, 29, 153, 0, 7, 29, 167, 0, 9, 42, 27, 28, 182, 1, 165, 172]
abbrev dktX5_heard_1 : List UInt8 := dkwX5_heard_1 ++ []
def dkwX5_heard_0 : List UInt8 := [42, 3, 181, 0, 131, 42, 28, 133, 182, 1, 29, 153, 0, 11, 42, 27, 182, 1, 159, 167, 0, 5, 16, 254]
abbrev dktX5_heard_0 : List UInt8 := dkwX5_heard_0 ++ dktX5_heard_1
theorem dksX5_heard_0 : cX5_heard.data.toList.drop 0 = dktX5_heard_0 := by decide +kernel
theorem dksX5_heard_1 : cX5_heard.data.toList.drop 24 = dktX5_heard_1 := dk_seg dksX5_heard_0 24 rfl rfl
theorem dX5_heard_0 : decode cX5_heard 0 = .ok (.aload_n 0, 1) := dk_42 (dk_at dksX5_heard_0 0 rfl rfl)
theorem dX5_heard_1 : decode cX5_heard 1 = .ok (.iconst 0, 1) := dk_3 (dk_at dksX5_heard_0 1 rfl rfl)
theorem dX5_heard_2 : decode cX5_heard 2 = .ok (.putfield 131, 3) := dk_181 0 131 (dk_at dksX5_heard_0 2 rfl rfl)
theorem dX5_heard_5 : decode cX5_heard 5 = .ok (.aload_n 0, 1) := dk_42 (dk_at dksX5_heard_0 5 rfl rfl)
theorem dX5_heard_6 : decode cX5_heard 6 = .ok (.iload_n 2, 1) := dk_28 (dk_at dksX5_heard_0 6 rfl rfl)
theorem dX5_heard_7 : decode cX5_heard 7 = .ok (.i2l, 1) := dk_133 (dk_at dksX5_heard_0 7 rfl rfl)
theorem dX5_heard_8 : decode cX5_heard 8 = .ok (.invokevirtual 285, 3) := dk_182 1 29 (dk_at dksX5_heard_0 8 rfl rfl)
theorem dX5_heard_11 : decode cX5_heard 11 = .ok (.ifCond .eq 11, 3) := dk_153 0 11 (dk_at dksX5_heard_0 11 rfl rfl)
theorem dX5_heard_14 : decode cX5_heard 14 = .ok (.aload_n 0, 1) := dk_42 (dk_at dksX5_heard_0 14 rfl rfl)
theorem dX5_heard_15 : decode cX5_heard 15 = .ok (.iload_n 1, 1) := dk_27 (dk_at dksX5_heard_0 15 rfl rfl)
theorem dX5_heard_16 : decode cX5_heard 16 = .ok (.invokevirtual 415, 3) := dk_182 1 159 (dk_at dksX5_heard_0 16 rfl rfl)
theorem dX5_heard_19 : decode cX5_heard 19 = .ok (.goto 5, 3) := dk_167 0 5 (dk_at dksX5_heard_0 19 rfl rfl)
theorem dX5_heard_22 : decode cX5_heard 22 = .ok (.bipush (-2), 2) := dk_16 254 (dk_at dksX5_heard_0 22 rfl rfl)
theorem dX5_heard_24 : decode cX5_heard 24 = .ok (.istore_n 3, 1) := dk_62 (dk_at dksX5_heard_1 0 rfl rfl)
theorem dX5_heard_25 : decode cX5_heard 25 = .ok (.iload_n 3, 1) := dk_29 (dk_at dksX5_heard_1 1 rfl rfl)
theorem dX5_heard_26 : decode cX5_heard 26 = .ok (.ifCond .eq 7, 3) := dk_153 0 7 (dk_at dksX5_heard_1 2 rfl rfl)
theorem dX5_heard_29 : decode cX5_heard 29 = .ok (.iload_n 3, 1) := dk_29 (dk_at dksX5_heard_1 5 rfl rfl)
theorem dX5_heard_30 : decode cX5_heard 30 = .ok (.goto 9, 3) := dk_167 0 9 (dk_at dksX5_heard_1 6 rfl rfl)
theorem dX5_heard_33 : decode cX5_heard 33 = .ok (.aload_n 0, 1) := dk_42 (dk_at dksX5_heard_1 9 rfl rfl)
theorem dX5_heard_34 : decode cX5_heard 34 = .ok (.iload_n 1, 1) := dk_27 (dk_at dksX5_heard_1 10 rfl rfl)
theorem dX5_heard_35 : decode cX5_heard 35 = .ok (.iload_n 2, 1) := dk_28 (dk_at dksX5_heard_1 11 rfl rfl)
theorem dX5_heard_36 : decode cX5_heard 36 = .ok (.invokevirtual 421, 3) := dk_182 1 165 (dk_at dksX5_heard_1 12 rfl rfl)
theorem dX5_heard_39 : decode cX5_heard 39 = .ok (.ireturn, 1) := dk_172 (dk_at dksX5_heard_1 15 rfl rfl)
abbrev cX5_heardOf : ByteArray := prog_10_method_115_code
def yX5_heardOf : MethodName := ⟨RX5, "heardOf", "(II)I"⟩
def dkwX5_heardOf_4 : List UInt8 := [2, 172]
abbrev dktX5_heardOf_4 : List UInt8 := dkwX5_heardOf_4 ++ []
def dkwX5_heardOf_3 : List UInt8 := [167, 0, 4, 29, 62, 21, 7, 54, 4, 132, 6, 1, 167, 255, 186, 21, 5, 153, 0, 7, 29, 167, 0, 4]
abbrev dktX5_heardOf_3 : List UInt8 := dkwX5_heardOf_3 ++ dktX5_heardOf_4
def dkwX5_heardOf_2 : List UInt8 := [21, 7, 21, 4, 162, 0, 7, 4, 167, 0, 4, 3, 54, 5, 21, 7, 21, 4, 162, 0, 8, 21, 6]
abbrev dktX5_heardOf_2 : List UInt8 := dkwX5_heardOf_2 ++ dktX5_heardOf_3
def dkwX5_heardOf_1 : List UInt8 := [27, 21, 6, 182, 1, 162, 28, 130, 184, 1, 46, 54, 7, 21, 7, 21, 4, 164, 0, 6, 167, 0, 35]
abbrev dktX5_heardOf_1 : List UInt8 := dkwX5_heardOf_1 ++ dktX5_heardOf_2
def dkwX5_heardOf_0 : List UInt8 := [2, 62, 18, 182, 54, 4, 3, 54, 5, 3, 54, 6, 21, 6, 42, 180, 0, 13, 27, 46, 162, 0, 65, 42]
abbrev dktX5_heardOf_0 : List UInt8 := dkwX5_heardOf_0 ++ dktX5_heardOf_1
theorem dksX5_heardOf_0 : cX5_heardOf.data.toList.drop 0 = dktX5_heardOf_0 := by decide +kernel
theorem dksX5_heardOf_1 : cX5_heardOf.data.toList.drop 24 = dktX5_heardOf_1 := dk_seg dksX5_heardOf_0 24 rfl rfl
theorem dksX5_heardOf_2 : cX5_heardOf.data.toList.drop 47 = dktX5_heardOf_2 := dk_seg dksX5_heardOf_1 23 rfl rfl
theorem dksX5_heardOf_3 : cX5_heardOf.data.toList.drop 70 = dktX5_heardOf_3 := dk_seg dksX5_heardOf_2 23 rfl rfl
theorem dksX5_heardOf_4 : cX5_heardOf.data.toList.drop 94 = dktX5_heardOf_4 := dk_seg dksX5_heardOf_3 24 rfl rfl
theorem dX5_heardOf_0 : decode cX5_heardOf 0 = .ok (.iconst (-1), 1) := dk_2 (dk_at dksX5_heardOf_0 0 rfl rfl)
theorem dX5_heardOf_1 : decode cX5_heardOf 1 = .ok (.istore_n 3, 1) := dk_62 (dk_at dksX5_heardOf_0 1 rfl rfl)
theorem dX5_heardOf_2 : decode cX5_heardOf 2 = .ok (.ldc 182, 2) := dk_18 182 (dk_at dksX5_heardOf_0 2 rfl rfl)
theorem dX5_heardOf_4 : decode cX5_heardOf 4 = .ok (.istore 4, 2) := dk_54 4 (dk_at dksX5_heardOf_0 4 rfl rfl)
theorem dX5_heardOf_6 : decode cX5_heardOf 6 = .ok (.iconst 0, 1) := dk_3 (dk_at dksX5_heardOf_0 6 rfl rfl)
theorem dX5_heardOf_7 : decode cX5_heardOf 7 = .ok (.istore 5, 2) := dk_54 5 (dk_at dksX5_heardOf_0 7 rfl rfl)
theorem dX5_heardOf_9 : decode cX5_heardOf 9 = .ok (.iconst 0, 1) := dk_3 (dk_at dksX5_heardOf_0 9 rfl rfl)
theorem dX5_heardOf_10 : decode cX5_heardOf 10 = .ok (.istore 6, 2) := dk_54 6 (dk_at dksX5_heardOf_0 10 rfl rfl)
theorem dX5_heardOf_12 : decode cX5_heardOf 12 = .ok (.iload 6, 2) := dk_21 6 (dk_at dksX5_heardOf_0 12 rfl rfl)
theorem dX5_heardOf_14 : decode cX5_heardOf 14 = .ok (.aload_n 0, 1) := dk_42 (dk_at dksX5_heardOf_0 14 rfl rfl)
theorem dX5_heardOf_15 : decode cX5_heardOf 15 = .ok (.getfield 13, 3) := dk_180 0 13 (dk_at dksX5_heardOf_0 15 rfl rfl)
theorem dX5_heardOf_18 : decode cX5_heardOf 18 = .ok (.iload_n 1, 1) := dk_27 (dk_at dksX5_heardOf_0 18 rfl rfl)
theorem dX5_heardOf_19 : decode cX5_heardOf 19 = .ok (.iaload, 1) := dk_46 (dk_at dksX5_heardOf_0 19 rfl rfl)
theorem dX5_heardOf_20 : decode cX5_heardOf 20 = .ok (.if_icmp .ge 65, 3) := dk_162 0 65 (dk_at dksX5_heardOf_0 20 rfl rfl)
theorem dX5_heardOf_23 : decode cX5_heardOf 23 = .ok (.aload_n 0, 1) := dk_42 (dk_at dksX5_heardOf_0 23 rfl rfl)
theorem dX5_heardOf_24 : decode cX5_heardOf 24 = .ok (.iload_n 1, 1) := dk_27 (dk_at dksX5_heardOf_1 0 rfl rfl)
theorem dX5_heardOf_25 : decode cX5_heardOf 25 = .ok (.iload 6, 2) := dk_21 6 (dk_at dksX5_heardOf_1 1 rfl rfl)
theorem dX5_heardOf_27 : decode cX5_heardOf 27 = .ok (.invokevirtual 418, 3) := dk_182 1 162 (dk_at dksX5_heardOf_1 3 rfl rfl)
theorem dX5_heardOf_30 : decode cX5_heardOf 30 = .ok (.iload_n 2, 1) := dk_28 (dk_at dksX5_heardOf_1 6 rfl rfl)
theorem dX5_heardOf_31 : decode cX5_heardOf 31 = .ok (.ixor, 1) := dk_130 (dk_at dksX5_heardOf_1 7 rfl rfl)
theorem dX5_heardOf_32 : decode cX5_heardOf 32 = .ok (.invokestatic 302, 3) := dk_184 1 46 (dk_at dksX5_heardOf_1 8 rfl rfl)
theorem dX5_heardOf_35 : decode cX5_heardOf 35 = .ok (.istore 7, 2) := dk_54 7 (dk_at dksX5_heardOf_1 11 rfl rfl)
theorem dX5_heardOf_37 : decode cX5_heardOf 37 = .ok (.iload 7, 2) := dk_21 7 (dk_at dksX5_heardOf_1 13 rfl rfl)
theorem dX5_heardOf_39 : decode cX5_heardOf 39 = .ok (.iload 4, 2) := dk_21 4 (dk_at dksX5_heardOf_1 15 rfl rfl)
theorem dX5_heardOf_41 : decode cX5_heardOf 41 = .ok (.if_icmp .le 6, 3) := dk_164 0 6 (dk_at dksX5_heardOf_1 17 rfl rfl)
theorem dX5_heardOf_44 : decode cX5_heardOf 44 = .ok (.goto 35, 3) := dk_167 0 35 (dk_at dksX5_heardOf_1 20 rfl rfl)
theorem dX5_heardOf_47 : decode cX5_heardOf 47 = .ok (.iload 7, 2) := dk_21 7 (dk_at dksX5_heardOf_2 0 rfl rfl)
theorem dX5_heardOf_49 : decode cX5_heardOf 49 = .ok (.iload 4, 2) := dk_21 4 (dk_at dksX5_heardOf_2 2 rfl rfl)
theorem dX5_heardOf_51 : decode cX5_heardOf 51 = .ok (.if_icmp .ge 7, 3) := dk_162 0 7 (dk_at dksX5_heardOf_2 4 rfl rfl)
theorem dX5_heardOf_54 : decode cX5_heardOf 54 = .ok (.iconst 1, 1) := dk_4 (dk_at dksX5_heardOf_2 7 rfl rfl)
theorem dX5_heardOf_55 : decode cX5_heardOf 55 = .ok (.goto 4, 3) := dk_167 0 4 (dk_at dksX5_heardOf_2 8 rfl rfl)
theorem dX5_heardOf_58 : decode cX5_heardOf 58 = .ok (.iconst 0, 1) := dk_3 (dk_at dksX5_heardOf_2 11 rfl rfl)
theorem dX5_heardOf_59 : decode cX5_heardOf 59 = .ok (.istore 5, 2) := dk_54 5 (dk_at dksX5_heardOf_2 12 rfl rfl)
theorem dX5_heardOf_61 : decode cX5_heardOf 61 = .ok (.iload 7, 2) := dk_21 7 (dk_at dksX5_heardOf_2 14 rfl rfl)
theorem dX5_heardOf_63 : decode cX5_heardOf 63 = .ok (.iload 4, 2) := dk_21 4 (dk_at dksX5_heardOf_2 16 rfl rfl)
theorem dX5_heardOf_65 : decode cX5_heardOf 65 = .ok (.if_icmp .ge 8, 3) := dk_162 0 8 (dk_at dksX5_heardOf_2 18 rfl rfl)
theorem dX5_heardOf_68 : decode cX5_heardOf 68 = .ok (.iload 6, 2) := dk_21 6 (dk_at dksX5_heardOf_2 21 rfl rfl)
theorem dX5_heardOf_70 : decode cX5_heardOf 70 = .ok (.goto 4, 3) := dk_167 0 4 (dk_at dksX5_heardOf_3 0 rfl rfl)
theorem dX5_heardOf_73 : decode cX5_heardOf 73 = .ok (.iload_n 3, 1) := dk_29 (dk_at dksX5_heardOf_3 3 rfl rfl)
theorem dX5_heardOf_74 : decode cX5_heardOf 74 = .ok (.istore_n 3, 1) := dk_62 (dk_at dksX5_heardOf_3 4 rfl rfl)
theorem dX5_heardOf_75 : decode cX5_heardOf 75 = .ok (.iload 7, 2) := dk_21 7 (dk_at dksX5_heardOf_3 5 rfl rfl)
theorem dX5_heardOf_77 : decode cX5_heardOf 77 = .ok (.istore 4, 2) := dk_54 4 (dk_at dksX5_heardOf_3 7 rfl rfl)
theorem dX5_heardOf_79 : decode cX5_heardOf 79 = .ok (.iinc 6 1, 3) := dk_132 6 1 (dk_at dksX5_heardOf_3 9 rfl rfl)
theorem dX5_heardOf_82 : decode cX5_heardOf 82 = .ok (.goto (-70), 3) := dk_167 255 186 (dk_at dksX5_heardOf_3 12 rfl rfl)
theorem dX5_heardOf_85 : decode cX5_heardOf 85 = .ok (.iload 5, 2) := dk_21 5 (dk_at dksX5_heardOf_3 15 rfl rfl)
theorem dX5_heardOf_87 : decode cX5_heardOf 87 = .ok (.ifCond .eq 7, 3) := dk_153 0 7 (dk_at dksX5_heardOf_3 17 rfl rfl)
theorem dX5_heardOf_90 : decode cX5_heardOf 90 = .ok (.iload_n 3, 1) := dk_29 (dk_at dksX5_heardOf_3 20 rfl rfl)
theorem dX5_heardOf_91 : decode cX5_heardOf 91 = .ok (.goto 4, 3) := dk_167 0 4 (dk_at dksX5_heardOf_3 21 rfl rfl)
theorem dX5_heardOf_94 : decode cX5_heardOf 94 = .ok (.iconst (-1), 1) := dk_2 (dk_at dksX5_heardOf_4 0 rfl rfl)
theorem dX5_heardOf_95 : decode cX5_heardOf 95 = .ok (.ireturn, 1) := dk_172 (dk_at dksX5_heardOf_4 1 rfl rfl)
abbrev cX5_told : ByteArray := prog_10_method_117_code
def yX5_told : MethodName := ⟨RX5, "told", "(II)I"⟩
def dkwX5_told_4 : List UInt8 := [21, 6, 4, 160, 0, 7, 4, 167, 0, 4, 3, 96, 54, 4, 132, 5, 1, 167, 255, 178, 21, 4, 172]
abbrev dktX5_told_4 : List UInt8 := dkwX5_told_4 ++ []
def dkwX5_told_3 : List UInt8 := [184, 1, 46, 28, 163, 0, 7, 4, 167, 0, 4, 3, 96, 54, 6, 132, 7, 1, 167, 255, 215, 21, 4]
abbrev dktX5_told_3 : List UInt8 := dkwX5_told_3 ++ dktX5_told_4
def dkwX5_told_2 : List UInt8 := [21, 7, 42, 180, 0, 13, 27, 46, 162, 0, 36, 21, 6, 42, 27, 21, 7, 182, 1, 162, 21, 5, 130]
abbrev dktX5_told_2 : List UInt8 := dkwX5_told_2 ++ dktX5_told_3
def dkwX5_told_1 : List UInt8 := [29, 172, 3, 54, 4, 3, 54, 5, 21, 5, 42, 182, 1, 26, 162, 0, 75, 3, 54, 6, 3, 54, 7]
abbrev dktX5_told_1 : List UInt8 := dkwX5_told_1 ++ dktX5_told_2
def dkwX5_told_0 : List UInt8 := [42, 3, 181, 0, 131, 28, 156, 0, 8, 16, 254, 167, 0, 8, 42, 27, 182, 1, 159, 62, 29, 153, 0, 5]
abbrev dktX5_told_0 : List UInt8 := dkwX5_told_0 ++ dktX5_told_1
theorem dksX5_told_0 : cX5_told.data.toList.drop 0 = dktX5_told_0 := by decide +kernel
theorem dksX5_told_1 : cX5_told.data.toList.drop 24 = dktX5_told_1 := dk_seg dksX5_told_0 24 rfl rfl
theorem dksX5_told_2 : cX5_told.data.toList.drop 47 = dktX5_told_2 := dk_seg dksX5_told_1 23 rfl rfl
theorem dksX5_told_3 : cX5_told.data.toList.drop 70 = dktX5_told_3 := dk_seg dksX5_told_2 23 rfl rfl
theorem dksX5_told_4 : cX5_told.data.toList.drop 93 = dktX5_told_4 := dk_seg dksX5_told_3 23 rfl rfl
theorem dX5_told_0 : decode cX5_told 0 = .ok (.aload_n 0, 1) := dk_42 (dk_at dksX5_told_0 0 rfl rfl)
theorem dX5_told_1 : decode cX5_told 1 = .ok (.iconst 0, 1) := dk_3 (dk_at dksX5_told_0 1 rfl rfl)
theorem dX5_told_2 : decode cX5_told 2 = .ok (.putfield 131, 3) := dk_181 0 131 (dk_at dksX5_told_0 2 rfl rfl)
theorem dX5_told_5 : decode cX5_told 5 = .ok (.iload_n 2, 1) := dk_28 (dk_at dksX5_told_0 5 rfl rfl)
theorem dX5_told_6 : decode cX5_told 6 = .ok (.ifCond .ge 8, 3) := dk_156 0 8 (dk_at dksX5_told_0 6 rfl rfl)
theorem dX5_told_9 : decode cX5_told 9 = .ok (.bipush (-2), 2) := dk_16 254 (dk_at dksX5_told_0 9 rfl rfl)
theorem dX5_told_11 : decode cX5_told 11 = .ok (.goto 8, 3) := dk_167 0 8 (dk_at dksX5_told_0 11 rfl rfl)
theorem dX5_told_14 : decode cX5_told 14 = .ok (.aload_n 0, 1) := dk_42 (dk_at dksX5_told_0 14 rfl rfl)
theorem dX5_told_15 : decode cX5_told 15 = .ok (.iload_n 1, 1) := dk_27 (dk_at dksX5_told_0 15 rfl rfl)
theorem dX5_told_16 : decode cX5_told 16 = .ok (.invokevirtual 415, 3) := dk_182 1 159 (dk_at dksX5_told_0 16 rfl rfl)
theorem dX5_told_19 : decode cX5_told 19 = .ok (.istore_n 3, 1) := dk_62 (dk_at dksX5_told_0 19 rfl rfl)
theorem dX5_told_20 : decode cX5_told 20 = .ok (.iload_n 3, 1) := dk_29 (dk_at dksX5_told_0 20 rfl rfl)
theorem dX5_told_21 : decode cX5_told 21 = .ok (.ifCond .eq 5, 3) := dk_153 0 5 (dk_at dksX5_told_0 21 rfl rfl)
theorem dX5_told_24 : decode cX5_told 24 = .ok (.iload_n 3, 1) := dk_29 (dk_at dksX5_told_1 0 rfl rfl)
theorem dX5_told_25 : decode cX5_told 25 = .ok (.ireturn, 1) := dk_172 (dk_at dksX5_told_1 1 rfl rfl)
theorem dX5_told_26 : decode cX5_told 26 = .ok (.iconst 0, 1) := dk_3 (dk_at dksX5_told_1 2 rfl rfl)
theorem dX5_told_27 : decode cX5_told 27 = .ok (.istore 4, 2) := dk_54 4 (dk_at dksX5_told_1 3 rfl rfl)
theorem dX5_told_29 : decode cX5_told 29 = .ok (.iconst 0, 1) := dk_3 (dk_at dksX5_told_1 5 rfl rfl)
theorem dX5_told_30 : decode cX5_told 30 = .ok (.istore 5, 2) := dk_54 5 (dk_at dksX5_told_1 6 rfl rfl)
theorem dX5_told_32 : decode cX5_told 32 = .ok (.iload 5, 2) := dk_21 5 (dk_at dksX5_told_1 8 rfl rfl)
theorem dX5_told_34 : decode cX5_told 34 = .ok (.aload_n 0, 1) := dk_42 (dk_at dksX5_told_1 10 rfl rfl)
theorem dX5_told_35 : decode cX5_told 35 = .ok (.invokevirtual 282, 3) := dk_182 1 26 (dk_at dksX5_told_1 11 rfl rfl)
theorem dX5_told_38 : decode cX5_told 38 = .ok (.if_icmp .ge 75, 3) := dk_162 0 75 (dk_at dksX5_told_1 14 rfl rfl)
theorem dX5_told_41 : decode cX5_told 41 = .ok (.iconst 0, 1) := dk_3 (dk_at dksX5_told_1 17 rfl rfl)
theorem dX5_told_42 : decode cX5_told 42 = .ok (.istore 6, 2) := dk_54 6 (dk_at dksX5_told_1 18 rfl rfl)
theorem dX5_told_44 : decode cX5_told 44 = .ok (.iconst 0, 1) := dk_3 (dk_at dksX5_told_1 20 rfl rfl)
theorem dX5_told_45 : decode cX5_told 45 = .ok (.istore 7, 2) := dk_54 7 (dk_at dksX5_told_1 21 rfl rfl)
theorem dX5_told_47 : decode cX5_told 47 = .ok (.iload 7, 2) := dk_21 7 (dk_at dksX5_told_2 0 rfl rfl)
theorem dX5_told_49 : decode cX5_told 49 = .ok (.aload_n 0, 1) := dk_42 (dk_at dksX5_told_2 2 rfl rfl)
theorem dX5_told_50 : decode cX5_told 50 = .ok (.getfield 13, 3) := dk_180 0 13 (dk_at dksX5_told_2 3 rfl rfl)
theorem dX5_told_53 : decode cX5_told 53 = .ok (.iload_n 1, 1) := dk_27 (dk_at dksX5_told_2 6 rfl rfl)
theorem dX5_told_54 : decode cX5_told 54 = .ok (.iaload, 1) := dk_46 (dk_at dksX5_told_2 7 rfl rfl)
theorem dX5_told_55 : decode cX5_told 55 = .ok (.if_icmp .ge 36, 3) := dk_162 0 36 (dk_at dksX5_told_2 8 rfl rfl)
theorem dX5_told_58 : decode cX5_told 58 = .ok (.iload 6, 2) := dk_21 6 (dk_at dksX5_told_2 11 rfl rfl)
theorem dX5_told_60 : decode cX5_told 60 = .ok (.aload_n 0, 1) := dk_42 (dk_at dksX5_told_2 13 rfl rfl)
theorem dX5_told_61 : decode cX5_told 61 = .ok (.iload_n 1, 1) := dk_27 (dk_at dksX5_told_2 14 rfl rfl)
theorem dX5_told_62 : decode cX5_told 62 = .ok (.iload 7, 2) := dk_21 7 (dk_at dksX5_told_2 15 rfl rfl)
theorem dX5_told_64 : decode cX5_told 64 = .ok (.invokevirtual 418, 3) := dk_182 1 162 (dk_at dksX5_told_2 17 rfl rfl)
theorem dX5_told_67 : decode cX5_told 67 = .ok (.iload 5, 2) := dk_21 5 (dk_at dksX5_told_2 20 rfl rfl)
theorem dX5_told_69 : decode cX5_told 69 = .ok (.ixor, 1) := dk_130 (dk_at dksX5_told_2 22 rfl rfl)
theorem dX5_told_70 : decode cX5_told 70 = .ok (.invokestatic 302, 3) := dk_184 1 46 (dk_at dksX5_told_3 0 rfl rfl)
theorem dX5_told_73 : decode cX5_told 73 = .ok (.iload_n 2, 1) := dk_28 (dk_at dksX5_told_3 3 rfl rfl)
theorem dX5_told_74 : decode cX5_told 74 = .ok (.if_icmp .gt 7, 3) := dk_163 0 7 (dk_at dksX5_told_3 4 rfl rfl)
theorem dX5_told_77 : decode cX5_told 77 = .ok (.iconst 1, 1) := dk_4 (dk_at dksX5_told_3 7 rfl rfl)
theorem dX5_told_78 : decode cX5_told 78 = .ok (.goto 4, 3) := dk_167 0 4 (dk_at dksX5_told_3 8 rfl rfl)
theorem dX5_told_81 : decode cX5_told 81 = .ok (.iconst 0, 1) := dk_3 (dk_at dksX5_told_3 11 rfl rfl)
theorem dX5_told_82 : decode cX5_told 82 = .ok (.iadd, 1) := dk_96 (dk_at dksX5_told_3 12 rfl rfl)
theorem dX5_told_83 : decode cX5_told 83 = .ok (.istore 6, 2) := dk_54 6 (dk_at dksX5_told_3 13 rfl rfl)
theorem dX5_told_85 : decode cX5_told 85 = .ok (.iinc 7 1, 3) := dk_132 7 1 (dk_at dksX5_told_3 15 rfl rfl)
theorem dX5_told_88 : decode cX5_told 88 = .ok (.goto (-41), 3) := dk_167 255 215 (dk_at dksX5_told_3 18 rfl rfl)
theorem dX5_told_91 : decode cX5_told 91 = .ok (.iload 4, 2) := dk_21 4 (dk_at dksX5_told_3 21 rfl rfl)
theorem dX5_told_93 : decode cX5_told 93 = .ok (.iload 6, 2) := dk_21 6 (dk_at dksX5_told_4 0 rfl rfl)
theorem dX5_told_95 : decode cX5_told 95 = .ok (.iconst 1, 1) := dk_4 (dk_at dksX5_told_4 2 rfl rfl)
theorem dX5_told_96 : decode cX5_told 96 = .ok (.if_icmp .ne 7, 3) := dk_160 0 7 (dk_at dksX5_told_4 3 rfl rfl)
theorem dX5_told_99 : decode cX5_told 99 = .ok (.iconst 1, 1) := dk_4 (dk_at dksX5_told_4 6 rfl rfl)
theorem dX5_told_100 : decode cX5_told 100 = .ok (.goto 4, 3) := dk_167 0 4 (dk_at dksX5_told_4 7 rfl rfl)
theorem dX5_told_103 : decode cX5_told 103 = .ok (.iconst 0, 1) := dk_3 (dk_at dksX5_told_4 10 rfl rfl)
theorem dX5_told_104 : decode cX5_told 104 = .ok (.iadd, 1) := dk_96 (dk_at dksX5_told_4 11 rfl rfl)
theorem dX5_told_105 : decode cX5_told 105 = .ok (.istore 4, 2) := dk_54 4 (dk_at dksX5_told_4 12 rfl rfl)
theorem dX5_told_107 : decode cX5_told 107 = .ok (.iinc 5 1, 3) := dk_132 5 1 (dk_at dksX5_told_4 14 rfl rfl)
theorem dX5_told_110 : decode cX5_told 110 = .ok (.goto (-78), 3) := dk_167 255 178 (dk_at dksX5_told_4 17 rfl rfl)
theorem dX5_told_113 : decode cX5_told 113 = .ok (.iload 4, 2) := dk_21 4 (dk_at dksX5_told_4 20 rfl rfl)
theorem dX5_told_115 : decode cX5_told 115 = .ok (.ireturn, 1) := dk_172 (dk_at dksX5_told_4 22 rfl rfl)
abbrev cX5_biggest : ByteArray := prog_10_method_119_code
def yX5_biggest : MethodName := ⟨RX5, "biggest", "(I)I"⟩
def dkwX5_biggest_1 : List UInt8 := [61, 28, 153, 0, 7, 28, 167, 0, 11, 42, 27, 3, 3, 3, 182, 1, 168, 172]
abbrev dktX5_biggest_1 : List UInt8 := dkwX5_biggest_1 ++ []
def dkwX5_biggest_0 : List UInt8 := [42, 3, 181, 0, 131, 27, 133, 10, 20, 1, 95, 184, 0, 136, 154, 0, 6, 16, 254, 172, 42, 182, 1, 127]
abbrev dktX5_biggest_0 : List UInt8 := dkwX5_biggest_0 ++ dktX5_biggest_1
theorem dksX5_biggest_0 : cX5_biggest.data.toList.drop 0 = dktX5_biggest_0 := by decide +kernel
theorem dksX5_biggest_1 : cX5_biggest.data.toList.drop 24 = dktX5_biggest_1 := dk_seg dksX5_biggest_0 24 rfl rfl
theorem dX5_biggest_0 : decode cX5_biggest 0 = .ok (.aload_n 0, 1) := dk_42 (dk_at dksX5_biggest_0 0 rfl rfl)
theorem dX5_biggest_1 : decode cX5_biggest 1 = .ok (.iconst 0, 1) := dk_3 (dk_at dksX5_biggest_0 1 rfl rfl)
theorem dX5_biggest_2 : decode cX5_biggest 2 = .ok (.putfield 131, 3) := dk_181 0 131 (dk_at dksX5_biggest_0 2 rfl rfl)
theorem dX5_biggest_5 : decode cX5_biggest 5 = .ok (.iload_n 1, 1) := dk_27 (dk_at dksX5_biggest_0 5 rfl rfl)
theorem dX5_biggest_6 : decode cX5_biggest 6 = .ok (.i2l, 1) := dk_133 (dk_at dksX5_biggest_0 6 rfl rfl)
theorem dX5_biggest_7 : decode cX5_biggest 7 = .ok (.lconst 1, 1) := dk_10 (dk_at dksX5_biggest_0 7 rfl rfl)
theorem dX5_biggest_8 : decode cX5_biggest 8 = .ok (.ldc2_w 351, 3) := dk_20 1 95 (dk_at dksX5_biggest_0 8 rfl rfl)
theorem dX5_biggest_11 : decode cX5_biggest 11 = .ok (.invokestatic 136, 3) := dk_184 0 136 (dk_at dksX5_biggest_0 11 rfl rfl)
theorem dX5_biggest_14 : decode cX5_biggest 14 = .ok (.ifCond .ne 6, 3) := dk_154 0 6 (dk_at dksX5_biggest_0 14 rfl rfl)
theorem dX5_biggest_17 : decode cX5_biggest 17 = .ok (.bipush (-2), 2) := dk_16 254 (dk_at dksX5_biggest_0 17 rfl rfl)
theorem dX5_biggest_19 : decode cX5_biggest 19 = .ok (.ireturn, 1) := dk_172 (dk_at dksX5_biggest_0 19 rfl rfl)
theorem dX5_biggest_20 : decode cX5_biggest 20 = .ok (.aload_n 0, 1) := dk_42 (dk_at dksX5_biggest_0 20 rfl rfl)
theorem dX5_biggest_21 : decode cX5_biggest 21 = .ok (.invokevirtual 383, 3) := dk_182 1 127 (dk_at dksX5_biggest_0 21 rfl rfl)
theorem dX5_biggest_24 : decode cX5_biggest 24 = .ok (.istore_n 2, 1) := dk_61 (dk_at dksX5_biggest_1 0 rfl rfl)
theorem dX5_biggest_25 : decode cX5_biggest 25 = .ok (.iload_n 2, 1) := dk_28 (dk_at dksX5_biggest_1 1 rfl rfl)
theorem dX5_biggest_26 : decode cX5_biggest 26 = .ok (.ifCond .eq 7, 3) := dk_153 0 7 (dk_at dksX5_biggest_1 2 rfl rfl)
theorem dX5_biggest_29 : decode cX5_biggest 29 = .ok (.iload_n 2, 1) := dk_28 (dk_at dksX5_biggest_1 5 rfl rfl)
theorem dX5_biggest_30 : decode cX5_biggest 30 = .ok (.goto 11, 3) := dk_167 0 11 (dk_at dksX5_biggest_1 6 rfl rfl)
theorem dX5_biggest_33 : decode cX5_biggest 33 = .ok (.aload_n 0, 1) := dk_42 (dk_at dksX5_biggest_1 9 rfl rfl)
theorem dX5_biggest_34 : decode cX5_biggest 34 = .ok (.iload_n 1, 1) := dk_27 (dk_at dksX5_biggest_1 10 rfl rfl)
theorem dX5_biggest_35 : decode cX5_biggest 35 = .ok (.iconst 0, 1) := dk_3 (dk_at dksX5_biggest_1 11 rfl rfl)
theorem dX5_biggest_36 : decode cX5_biggest 36 = .ok (.iconst 0, 1) := dk_3 (dk_at dksX5_biggest_1 12 rfl rfl)
theorem dX5_biggest_37 : decode cX5_biggest 37 = .ok (.iconst 0, 1) := dk_3 (dk_at dksX5_biggest_1 13 rfl rfl)
theorem dX5_biggest_38 : decode cX5_biggest 38 = .ok (.invokevirtual 424, 3) := dk_182 1 168 (dk_at dksX5_biggest_1 14 rfl rfl)
theorem dX5_biggest_41 : decode cX5_biggest 41 = .ok (.ireturn, 1) := dk_172 (dk_at dksX5_biggest_1 17 rfl rfl)
abbrev cX5_biggestOf : ByteArray := prog_10_method_118_code
def yX5_biggestOf : MethodName := ⟨RX5, "biggestOf", "(IIII)I"⟩
def dkwX5_biggestOf_5 : List UInt8 := [167, 255, 147, 21, 5, 172]
abbrev dktX5_biggestOf_5 : List UInt8 := dkwX5_biggestOf_5 ++ []
def dkwX5_biggestOf_4 : List UInt8 := [182, 1, 168, 54, 8, 21, 8, 21, 5, 164, 0, 8, 21, 8, 167, 0, 5, 21, 5, 54, 5, 132, 6, 1]
abbrev dktX5_biggestOf_4 : List UInt8 := dkwX5_biggestOf_4 ++ dktX5_biggestOf_5
def dkwX5_biggestOf_3 : List UInt8 := [154, 0, 6, 167, 0, 40, 42, 27, 21, 6, 4, 96, 29, 4, 21, 6, 120, 128, 21, 4, 4, 96]
abbrev dktX5_biggestOf_3 : List UInt8 := dkwX5_biggestOf_3 ++ dktX5_biggestOf_4
def dkwX5_biggestOf_2 : List UInt8 := [184, 1, 46, 27, 161, 0, 7, 4, 167, 0, 4, 3, 54, 7, 132, 8, 1, 167, 255, 213, 21, 7]
abbrev dktX5_biggestOf_2 : List UInt8 := dkwX5_biggestOf_2 ++ dktX5_biggestOf_3
def dkwX5_biggestOf_1 : List UInt8 := [21, 6, 162, 0, 42, 21, 7, 153, 0, 37, 29, 21, 8, 184, 1, 32, 153, 0, 15, 21, 8, 21, 6, 130]
abbrev dktX5_biggestOf_1 : List UInt8 := dkwX5_biggestOf_1 ++ dktX5_biggestOf_2
def dkwX5_biggestOf_0 : List UInt8 := [21, 4, 54, 5, 28, 54, 6, 21, 6, 42, 182, 1, 26, 162, 0, 106, 4, 54, 7, 3, 54, 8, 21, 8]
abbrev dktX5_biggestOf_0 : List UInt8 := dkwX5_biggestOf_0 ++ dktX5_biggestOf_1
theorem dksX5_biggestOf_0 : cX5_biggestOf.data.toList.drop 0 = dktX5_biggestOf_0 := by decide +kernel
theorem dksX5_biggestOf_1 : cX5_biggestOf.data.toList.drop 24 = dktX5_biggestOf_1 := dk_seg dksX5_biggestOf_0 24 rfl rfl
theorem dksX5_biggestOf_2 : cX5_biggestOf.data.toList.drop 48 = dktX5_biggestOf_2 := dk_seg dksX5_biggestOf_1 24 rfl rfl
theorem dksX5_biggestOf_3 : cX5_biggestOf.data.toList.drop 70 = dktX5_biggestOf_3 := dk_seg dksX5_biggestOf_2 22 rfl rfl
theorem dksX5_biggestOf_4 : cX5_biggestOf.data.toList.drop 92 = dktX5_biggestOf_4 := dk_seg dksX5_biggestOf_3 22 rfl rfl
theorem dksX5_biggestOf_5 : cX5_biggestOf.data.toList.drop 116 = dktX5_biggestOf_5 := dk_seg dksX5_biggestOf_4 24 rfl rfl
theorem dX5_biggestOf_0 : decode cX5_biggestOf 0 = .ok (.iload 4, 2) := dk_21 4 (dk_at dksX5_biggestOf_0 0 rfl rfl)
theorem dX5_biggestOf_2 : decode cX5_biggestOf 2 = .ok (.istore 5, 2) := dk_54 5 (dk_at dksX5_biggestOf_0 2 rfl rfl)
theorem dX5_biggestOf_4 : decode cX5_biggestOf 4 = .ok (.iload_n 2, 1) := dk_28 (dk_at dksX5_biggestOf_0 4 rfl rfl)
theorem dX5_biggestOf_5 : decode cX5_biggestOf 5 = .ok (.istore 6, 2) := dk_54 6 (dk_at dksX5_biggestOf_0 5 rfl rfl)
theorem dX5_biggestOf_7 : decode cX5_biggestOf 7 = .ok (.iload 6, 2) := dk_21 6 (dk_at dksX5_biggestOf_0 7 rfl rfl)
theorem dX5_biggestOf_9 : decode cX5_biggestOf 9 = .ok (.aload_n 0, 1) := dk_42 (dk_at dksX5_biggestOf_0 9 rfl rfl)
theorem dX5_biggestOf_10 : decode cX5_biggestOf 10 = .ok (.invokevirtual 282, 3) := dk_182 1 26 (dk_at dksX5_biggestOf_0 10 rfl rfl)
theorem dX5_biggestOf_13 : decode cX5_biggestOf 13 = .ok (.if_icmp .ge 106, 3) := dk_162 0 106 (dk_at dksX5_biggestOf_0 13 rfl rfl)
theorem dX5_biggestOf_16 : decode cX5_biggestOf 16 = .ok (.iconst 1, 1) := dk_4 (dk_at dksX5_biggestOf_0 16 rfl rfl)
theorem dX5_biggestOf_17 : decode cX5_biggestOf 17 = .ok (.istore 7, 2) := dk_54 7 (dk_at dksX5_biggestOf_0 17 rfl rfl)
theorem dX5_biggestOf_19 : decode cX5_biggestOf 19 = .ok (.iconst 0, 1) := dk_3 (dk_at dksX5_biggestOf_0 19 rfl rfl)
theorem dX5_biggestOf_20 : decode cX5_biggestOf 20 = .ok (.istore 8, 2) := dk_54 8 (dk_at dksX5_biggestOf_0 20 rfl rfl)
theorem dX5_biggestOf_22 : decode cX5_biggestOf 22 = .ok (.iload 8, 2) := dk_21 8 (dk_at dksX5_biggestOf_0 22 rfl rfl)
theorem dX5_biggestOf_24 : decode cX5_biggestOf 24 = .ok (.iload 6, 2) := dk_21 6 (dk_at dksX5_biggestOf_1 0 rfl rfl)
theorem dX5_biggestOf_26 : decode cX5_biggestOf 26 = .ok (.if_icmp .ge 42, 3) := dk_162 0 42 (dk_at dksX5_biggestOf_1 2 rfl rfl)
theorem dX5_biggestOf_29 : decode cX5_biggestOf 29 = .ok (.iload 7, 2) := dk_21 7 (dk_at dksX5_biggestOf_1 5 rfl rfl)
theorem dX5_biggestOf_31 : decode cX5_biggestOf 31 = .ok (.ifCond .eq 37, 3) := dk_153 0 37 (dk_at dksX5_biggestOf_1 7 rfl rfl)
theorem dX5_biggestOf_34 : decode cX5_biggestOf 34 = .ok (.iload_n 3, 1) := dk_29 (dk_at dksX5_biggestOf_1 10 rfl rfl)
theorem dX5_biggestOf_35 : decode cX5_biggestOf 35 = .ok (.iload 8, 2) := dk_21 8 (dk_at dksX5_biggestOf_1 11 rfl rfl)
theorem dX5_biggestOf_37 : decode cX5_biggestOf 37 = .ok (.invokestatic 288, 3) := dk_184 1 32 (dk_at dksX5_biggestOf_1 13 rfl rfl)
theorem dX5_biggestOf_40 : decode cX5_biggestOf 40 = .ok (.ifCond .eq 15, 3) := dk_153 0 15 (dk_at dksX5_biggestOf_1 16 rfl rfl)
theorem dX5_biggestOf_43 : decode cX5_biggestOf 43 = .ok (.iload 8, 2) := dk_21 8 (dk_at dksX5_biggestOf_1 19 rfl rfl)
theorem dX5_biggestOf_45 : decode cX5_biggestOf 45 = .ok (.iload 6, 2) := dk_21 6 (dk_at dksX5_biggestOf_1 21 rfl rfl)
theorem dX5_biggestOf_47 : decode cX5_biggestOf 47 = .ok (.ixor, 1) := dk_130 (dk_at dksX5_biggestOf_1 23 rfl rfl)
theorem dX5_biggestOf_48 : decode cX5_biggestOf 48 = .ok (.invokestatic 302, 3) := dk_184 1 46 (dk_at dksX5_biggestOf_2 0 rfl rfl)
theorem dX5_biggestOf_51 : decode cX5_biggestOf 51 = .ok (.iload_n 1, 1) := dk_27 (dk_at dksX5_biggestOf_2 3 rfl rfl)
theorem dX5_biggestOf_52 : decode cX5_biggestOf 52 = .ok (.if_icmp .lt 7, 3) := dk_161 0 7 (dk_at dksX5_biggestOf_2 4 rfl rfl)
theorem dX5_biggestOf_55 : decode cX5_biggestOf 55 = .ok (.iconst 1, 1) := dk_4 (dk_at dksX5_biggestOf_2 7 rfl rfl)
theorem dX5_biggestOf_56 : decode cX5_biggestOf 56 = .ok (.goto 4, 3) := dk_167 0 4 (dk_at dksX5_biggestOf_2 8 rfl rfl)
theorem dX5_biggestOf_59 : decode cX5_biggestOf 59 = .ok (.iconst 0, 1) := dk_3 (dk_at dksX5_biggestOf_2 11 rfl rfl)
theorem dX5_biggestOf_60 : decode cX5_biggestOf 60 = .ok (.istore 7, 2) := dk_54 7 (dk_at dksX5_biggestOf_2 12 rfl rfl)
theorem dX5_biggestOf_62 : decode cX5_biggestOf 62 = .ok (.iinc 8 1, 3) := dk_132 8 1 (dk_at dksX5_biggestOf_2 14 rfl rfl)
theorem dX5_biggestOf_65 : decode cX5_biggestOf 65 = .ok (.goto (-43), 3) := dk_167 255 213 (dk_at dksX5_biggestOf_2 17 rfl rfl)
theorem dX5_biggestOf_68 : decode cX5_biggestOf 68 = .ok (.iload 7, 2) := dk_21 7 (dk_at dksX5_biggestOf_2 20 rfl rfl)
theorem dX5_biggestOf_70 : decode cX5_biggestOf 70 = .ok (.ifCond .ne 6, 3) := dk_154 0 6 (dk_at dksX5_biggestOf_3 0 rfl rfl)
theorem dX5_biggestOf_73 : decode cX5_biggestOf 73 = .ok (.goto 40, 3) := dk_167 0 40 (dk_at dksX5_biggestOf_3 3 rfl rfl)
theorem dX5_biggestOf_76 : decode cX5_biggestOf 76 = .ok (.aload_n 0, 1) := dk_42 (dk_at dksX5_biggestOf_3 6 rfl rfl)
theorem dX5_biggestOf_77 : decode cX5_biggestOf 77 = .ok (.iload_n 1, 1) := dk_27 (dk_at dksX5_biggestOf_3 7 rfl rfl)
theorem dX5_biggestOf_78 : decode cX5_biggestOf 78 = .ok (.iload 6, 2) := dk_21 6 (dk_at dksX5_biggestOf_3 8 rfl rfl)
theorem dX5_biggestOf_80 : decode cX5_biggestOf 80 = .ok (.iconst 1, 1) := dk_4 (dk_at dksX5_biggestOf_3 10 rfl rfl)
theorem dX5_biggestOf_81 : decode cX5_biggestOf 81 = .ok (.iadd, 1) := dk_96 (dk_at dksX5_biggestOf_3 11 rfl rfl)
theorem dX5_biggestOf_82 : decode cX5_biggestOf 82 = .ok (.iload_n 3, 1) := dk_29 (dk_at dksX5_biggestOf_3 12 rfl rfl)
theorem dX5_biggestOf_83 : decode cX5_biggestOf 83 = .ok (.iconst 1, 1) := dk_4 (dk_at dksX5_biggestOf_3 13 rfl rfl)
theorem dX5_biggestOf_84 : decode cX5_biggestOf 84 = .ok (.iload 6, 2) := dk_21 6 (dk_at dksX5_biggestOf_3 14 rfl rfl)
theorem dX5_biggestOf_86 : decode cX5_biggestOf 86 = .ok (.ishl, 1) := dk_120 (dk_at dksX5_biggestOf_3 16 rfl rfl)
theorem dX5_biggestOf_87 : decode cX5_biggestOf 87 = .ok (.ior, 1) := dk_128 (dk_at dksX5_biggestOf_3 17 rfl rfl)
theorem dX5_biggestOf_88 : decode cX5_biggestOf 88 = .ok (.iload 4, 2) := dk_21 4 (dk_at dksX5_biggestOf_3 18 rfl rfl)
theorem dX5_biggestOf_90 : decode cX5_biggestOf 90 = .ok (.iconst 1, 1) := dk_4 (dk_at dksX5_biggestOf_3 20 rfl rfl)
theorem dX5_biggestOf_91 : decode cX5_biggestOf 91 = .ok (.iadd, 1) := dk_96 (dk_at dksX5_biggestOf_3 21 rfl rfl)
theorem dX5_biggestOf_92 : decode cX5_biggestOf 92 = .ok (.invokevirtual 424, 3) := dk_182 1 168 (dk_at dksX5_biggestOf_4 0 rfl rfl)
theorem dX5_biggestOf_95 : decode cX5_biggestOf 95 = .ok (.istore 8, 2) := dk_54 8 (dk_at dksX5_biggestOf_4 3 rfl rfl)
theorem dX5_biggestOf_97 : decode cX5_biggestOf 97 = .ok (.iload 8, 2) := dk_21 8 (dk_at dksX5_biggestOf_4 5 rfl rfl)
theorem dX5_biggestOf_99 : decode cX5_biggestOf 99 = .ok (.iload 5, 2) := dk_21 5 (dk_at dksX5_biggestOf_4 7 rfl rfl)
theorem dX5_biggestOf_101 : decode cX5_biggestOf 101 = .ok (.if_icmp .le 8, 3) := dk_164 0 8 (dk_at dksX5_biggestOf_4 9 rfl rfl)
theorem dX5_biggestOf_104 : decode cX5_biggestOf 104 = .ok (.iload 8, 2) := dk_21 8 (dk_at dksX5_biggestOf_4 12 rfl rfl)
theorem dX5_biggestOf_106 : decode cX5_biggestOf 106 = .ok (.goto 5, 3) := dk_167 0 5 (dk_at dksX5_biggestOf_4 14 rfl rfl)
theorem dX5_biggestOf_109 : decode cX5_biggestOf 109 = .ok (.iload 5, 2) := dk_21 5 (dk_at dksX5_biggestOf_4 17 rfl rfl)
theorem dX5_biggestOf_111 : decode cX5_biggestOf 111 = .ok (.istore 5, 2) := dk_54 5 (dk_at dksX5_biggestOf_4 19 rfl rfl)
theorem dX5_biggestOf_113 : decode cX5_biggestOf 113 = .ok (.iinc 6 1, 3) := dk_132 6 1 (dk_at dksX5_biggestOf_4 21 rfl rfl)
theorem dX5_biggestOf_116 : decode cX5_biggestOf 116 = .ok (.goto (-109), 3) := dk_167 255 147 (dk_at dksX5_biggestOf_5 0 rfl rfl)
theorem dX5_biggestOf_119 : decode cX5_biggestOf 119 = .ok (.iload 5, 2) := dk_21 5 (dk_at dksX5_biggestOf_5 3 rfl rfl)
theorem dX5_biggestOf_121 : decode cX5_biggestOf 121 = .ok (.ireturn, 1) := dk_172 (dk_at dksX5_biggestOf_5 5 rfl rfl)
abbrev cX5_shadow : ByteArray := prog_10_method_120_code
def yX5_shadow : MethodName := ⟨RX5, "shadow", "(II)I"⟩
def dkwX5_shadow_1 : List UInt8 := [28, 120, 4, 100, 126, 27, 28, 4, 96, 122, 28, 120, 128, 167, 0, 5, 16, 254, 172]
abbrev dktX5_shadow_1 : List UInt8 := dkwX5_shadow_1 ++ []
def dkwX5_shadow_0 : List UInt8 := [42, 3, 181, 0, 131, 42, 27, 133, 182, 1, 29, 153, 0, 29, 42, 28, 182, 1, 36, 153, 0, 21, 27, 4]
abbrev dktX5_shadow_0 : List UInt8 := dkwX5_shadow_0 ++ dktX5_shadow_1
theorem dksX5_shadow_0 : cX5_shadow.data.toList.drop 0 = dktX5_shadow_0 := by decide +kernel
theorem dksX5_shadow_1 : cX5_shadow.data.toList.drop 24 = dktX5_shadow_1 := dk_seg dksX5_shadow_0 24 rfl rfl
theorem dX5_shadow_0 : decode cX5_shadow 0 = .ok (.aload_n 0, 1) := dk_42 (dk_at dksX5_shadow_0 0 rfl rfl)
theorem dX5_shadow_1 : decode cX5_shadow 1 = .ok (.iconst 0, 1) := dk_3 (dk_at dksX5_shadow_0 1 rfl rfl)
theorem dX5_shadow_2 : decode cX5_shadow 2 = .ok (.putfield 131, 3) := dk_181 0 131 (dk_at dksX5_shadow_0 2 rfl rfl)
theorem dX5_shadow_5 : decode cX5_shadow 5 = .ok (.aload_n 0, 1) := dk_42 (dk_at dksX5_shadow_0 5 rfl rfl)
theorem dX5_shadow_6 : decode cX5_shadow 6 = .ok (.iload_n 1, 1) := dk_27 (dk_at dksX5_shadow_0 6 rfl rfl)
theorem dX5_shadow_7 : decode cX5_shadow 7 = .ok (.i2l, 1) := dk_133 (dk_at dksX5_shadow_0 7 rfl rfl)
theorem dX5_shadow_8 : decode cX5_shadow 8 = .ok (.invokevirtual 285, 3) := dk_182 1 29 (dk_at dksX5_shadow_0 8 rfl rfl)
theorem dX5_shadow_11 : decode cX5_shadow 11 = .ok (.ifCond .eq 29, 3) := dk_153 0 29 (dk_at dksX5_shadow_0 11 rfl rfl)
theorem dX5_shadow_14 : decode cX5_shadow 14 = .ok (.aload_n 0, 1) := dk_42 (dk_at dksX5_shadow_0 14 rfl rfl)
theorem dX5_shadow_15 : decode cX5_shadow 15 = .ok (.iload_n 2, 1) := dk_28 (dk_at dksX5_shadow_0 15 rfl rfl)
theorem dX5_shadow_16 : decode cX5_shadow 16 = .ok (.invokevirtual 292, 3) := dk_182 1 36 (dk_at dksX5_shadow_0 16 rfl rfl)
theorem dX5_shadow_19 : decode cX5_shadow 19 = .ok (.ifCond .eq 21, 3) := dk_153 0 21 (dk_at dksX5_shadow_0 19 rfl rfl)
theorem dX5_shadow_22 : decode cX5_shadow 22 = .ok (.iload_n 1, 1) := dk_27 (dk_at dksX5_shadow_0 22 rfl rfl)
theorem dX5_shadow_23 : decode cX5_shadow 23 = .ok (.iconst 1, 1) := dk_4 (dk_at dksX5_shadow_0 23 rfl rfl)
theorem dX5_shadow_24 : decode cX5_shadow 24 = .ok (.iload_n 2, 1) := dk_28 (dk_at dksX5_shadow_1 0 rfl rfl)
theorem dX5_shadow_25 : decode cX5_shadow 25 = .ok (.ishl, 1) := dk_120 (dk_at dksX5_shadow_1 1 rfl rfl)
theorem dX5_shadow_26 : decode cX5_shadow 26 = .ok (.iconst 1, 1) := dk_4 (dk_at dksX5_shadow_1 2 rfl rfl)
theorem dX5_shadow_27 : decode cX5_shadow 27 = .ok (.isub, 1) := dk_100 (dk_at dksX5_shadow_1 3 rfl rfl)
theorem dX5_shadow_28 : decode cX5_shadow 28 = .ok (.iand, 1) := dk_126 (dk_at dksX5_shadow_1 4 rfl rfl)
theorem dX5_shadow_29 : decode cX5_shadow 29 = .ok (.iload_n 1, 1) := dk_27 (dk_at dksX5_shadow_1 5 rfl rfl)
theorem dX5_shadow_30 : decode cX5_shadow 30 = .ok (.iload_n 2, 1) := dk_28 (dk_at dksX5_shadow_1 6 rfl rfl)
theorem dX5_shadow_31 : decode cX5_shadow 31 = .ok (.iconst 1, 1) := dk_4 (dk_at dksX5_shadow_1 7 rfl rfl)
theorem dX5_shadow_32 : decode cX5_shadow 32 = .ok (.iadd, 1) := dk_96 (dk_at dksX5_shadow_1 8 rfl rfl)
theorem dX5_shadow_33 : decode cX5_shadow 33 = .ok (.ishr, 1) := dk_122 (dk_at dksX5_shadow_1 9 rfl rfl)
theorem dX5_shadow_34 : decode cX5_shadow 34 = .ok (.iload_n 2, 1) := dk_28 (dk_at dksX5_shadow_1 10 rfl rfl)
theorem dX5_shadow_35 : decode cX5_shadow 35 = .ok (.ishl, 1) := dk_120 (dk_at dksX5_shadow_1 11 rfl rfl)
theorem dX5_shadow_36 : decode cX5_shadow 36 = .ok (.ior, 1) := dk_128 (dk_at dksX5_shadow_1 12 rfl rfl)
theorem dX5_shadow_37 : decode cX5_shadow 37 = .ok (.goto 5, 3) := dk_167 0 5 (dk_at dksX5_shadow_1 13 rfl rfl)
theorem dX5_shadow_40 : decode cX5_shadow 40 = .ok (.bipush (-2), 2) := dk_16 254 (dk_at dksX5_shadow_1 16 rfl rfl)
theorem dX5_shadow_42 : decode cX5_shadow 42 = .ok (.ireturn, 1) := dk_172 (dk_at dksX5_shadow_1 18 rfl rfl)
abbrev cX5_crossings : ByteArray := prog_10_method_122_code
def yX5_crossings : MethodName := ⟨RX5, "crossings", "(I)I"⟩
def dkwX5_crossings_6 : List UInt8 := [167, 255, 195, 42, 182, 1, 172, 172]
abbrev dktX5_crossings_6 : List UInt8 := dkwX5_crossings_6 ++ []
def dkwX5_crossings_5 : List UInt8 := [2, 159, 0, 6, 16, 254, 172, 42, 180, 0, 107, 42, 27, 28, 182, 1, 162, 28, 79, 132, 2, 1]
abbrev dktX5_crossings_5 : List UInt8 := dkwX5_crossings_5 ++ dktX5_crossings_6
def dkwX5_crossings_4 : List UInt8 := [16, 60, 27, 104, 28, 96, 47, 182, 1, 29, 153, 0, 18, 42, 180, 0, 107, 42, 27, 28, 182, 1, 162, 46]
abbrev dktX5_crossings_4 : List UInt8 := dkwX5_crossings_4 ++ dktX5_crossings_5
def dkwX5_crossings_3 : List UInt8 := [132, 2, 1, 167, 255, 238, 3, 61, 28, 42, 180, 0, 13, 27, 46, 162, 0, 57, 42, 42, 180, 0, 16]
abbrev dktX5_crossings_3 : List UInt8 := dkwX5_crossings_3 ++ dktX5_crossings_4
def dkwX5_crossings_2 : List UInt8 := [159, 0, 6, 16, 249, 172, 3, 61, 28, 42, 182, 1, 26, 162, 0, 16, 42, 180, 0, 107, 28, 2, 79]
abbrev dktX5_crossings_2 : List UInt8 := dkwX5_crossings_2 ++ dktX5_crossings_3
def dkwX5_crossings_1 : List UInt8 := [180, 0, 7, 27, 46, 2, 160, 0, 6, 16, 250, 172, 42, 180, 0, 13, 27, 46, 42, 182, 1, 26]
abbrev dktX5_crossings_1 : List UInt8 := dkwX5_crossings_1 ++ dktX5_crossings_2
def dkwX5_crossings_0 : List UInt8 := [42, 3, 181, 0, 131, 27, 184, 0, 140, 153, 0, 10, 42, 182, 1, 23, 154, 0, 6, 16, 254, 172, 42]
abbrev dktX5_crossings_0 : List UInt8 := dkwX5_crossings_0 ++ dktX5_crossings_1
theorem dksX5_crossings_0 : cX5_crossings.data.toList.drop 0 = dktX5_crossings_0 := by decide +kernel
theorem dksX5_crossings_1 : cX5_crossings.data.toList.drop 23 = dktX5_crossings_1 := dk_seg dksX5_crossings_0 23 rfl rfl
theorem dksX5_crossings_2 : cX5_crossings.data.toList.drop 45 = dktX5_crossings_2 := dk_seg dksX5_crossings_1 22 rfl rfl
theorem dksX5_crossings_3 : cX5_crossings.data.toList.drop 68 = dktX5_crossings_3 := dk_seg dksX5_crossings_2 23 rfl rfl
theorem dksX5_crossings_4 : cX5_crossings.data.toList.drop 91 = dktX5_crossings_4 := dk_seg dksX5_crossings_3 23 rfl rfl
theorem dksX5_crossings_5 : cX5_crossings.data.toList.drop 115 = dktX5_crossings_5 := dk_seg dksX5_crossings_4 24 rfl rfl
theorem dksX5_crossings_6 : cX5_crossings.data.toList.drop 137 = dktX5_crossings_6 := dk_seg dksX5_crossings_5 22 rfl rfl
theorem dX5_crossings_0 : decode cX5_crossings 0 = .ok (.aload_n 0, 1) := dk_42 (dk_at dksX5_crossings_0 0 rfl rfl)
theorem dX5_crossings_1 : decode cX5_crossings 1 = .ok (.iconst 0, 1) := dk_3 (dk_at dksX5_crossings_0 1 rfl rfl)
theorem dX5_crossings_2 : decode cX5_crossings 2 = .ok (.putfield 131, 3) := dk_181 0 131 (dk_at dksX5_crossings_0 2 rfl rfl)
theorem dX5_crossings_5 : decode cX5_crossings 5 = .ok (.iload_n 1, 1) := dk_27 (dk_at dksX5_crossings_0 5 rfl rfl)
theorem dX5_crossings_6 : decode cX5_crossings 6 = .ok (.invokestatic 140, 3) := dk_184 0 140 (dk_at dksX5_crossings_0 6 rfl rfl)
theorem dX5_crossings_9 : decode cX5_crossings 9 = .ok (.ifCond .eq 10, 3) := dk_153 0 10 (dk_at dksX5_crossings_0 9 rfl rfl)
theorem dX5_crossings_12 : decode cX5_crossings 12 = .ok (.aload_n 0, 1) := dk_42 (dk_at dksX5_crossings_0 12 rfl rfl)
theorem dX5_crossings_13 : decode cX5_crossings 13 = .ok (.invokevirtual 279, 3) := dk_182 1 23 (dk_at dksX5_crossings_0 13 rfl rfl)
theorem dX5_crossings_16 : decode cX5_crossings 16 = .ok (.ifCond .ne 6, 3) := dk_154 0 6 (dk_at dksX5_crossings_0 16 rfl rfl)
theorem dX5_crossings_19 : decode cX5_crossings 19 = .ok (.bipush (-2), 2) := dk_16 254 (dk_at dksX5_crossings_0 19 rfl rfl)
theorem dX5_crossings_21 : decode cX5_crossings 21 = .ok (.ireturn, 1) := dk_172 (dk_at dksX5_crossings_0 21 rfl rfl)
theorem dX5_crossings_22 : decode cX5_crossings 22 = .ok (.aload_n 0, 1) := dk_42 (dk_at dksX5_crossings_0 22 rfl rfl)
theorem dX5_crossings_23 : decode cX5_crossings 23 = .ok (.getfield 7, 3) := dk_180 0 7 (dk_at dksX5_crossings_1 0 rfl rfl)
theorem dX5_crossings_26 : decode cX5_crossings 26 = .ok (.iload_n 1, 1) := dk_27 (dk_at dksX5_crossings_1 3 rfl rfl)
theorem dX5_crossings_27 : decode cX5_crossings 27 = .ok (.iaload, 1) := dk_46 (dk_at dksX5_crossings_1 4 rfl rfl)
theorem dX5_crossings_28 : decode cX5_crossings 28 = .ok (.iconst (-1), 1) := dk_2 (dk_at dksX5_crossings_1 5 rfl rfl)
theorem dX5_crossings_29 : decode cX5_crossings 29 = .ok (.if_icmp .ne 6, 3) := dk_160 0 6 (dk_at dksX5_crossings_1 6 rfl rfl)
theorem dX5_crossings_32 : decode cX5_crossings 32 = .ok (.bipush (-6), 2) := dk_16 250 (dk_at dksX5_crossings_1 9 rfl rfl)
theorem dX5_crossings_34 : decode cX5_crossings 34 = .ok (.ireturn, 1) := dk_172 (dk_at dksX5_crossings_1 11 rfl rfl)
theorem dX5_crossings_35 : decode cX5_crossings 35 = .ok (.aload_n 0, 1) := dk_42 (dk_at dksX5_crossings_1 12 rfl rfl)
theorem dX5_crossings_36 : decode cX5_crossings 36 = .ok (.getfield 13, 3) := dk_180 0 13 (dk_at dksX5_crossings_1 13 rfl rfl)
theorem dX5_crossings_39 : decode cX5_crossings 39 = .ok (.iload_n 1, 1) := dk_27 (dk_at dksX5_crossings_1 16 rfl rfl)
theorem dX5_crossings_40 : decode cX5_crossings 40 = .ok (.iaload, 1) := dk_46 (dk_at dksX5_crossings_1 17 rfl rfl)
theorem dX5_crossings_41 : decode cX5_crossings 41 = .ok (.aload_n 0, 1) := dk_42 (dk_at dksX5_crossings_1 18 rfl rfl)
theorem dX5_crossings_42 : decode cX5_crossings 42 = .ok (.invokevirtual 282, 3) := dk_182 1 26 (dk_at dksX5_crossings_1 19 rfl rfl)
theorem dX5_crossings_45 : decode cX5_crossings 45 = .ok (.if_icmp .eq 6, 3) := dk_159 0 6 (dk_at dksX5_crossings_2 0 rfl rfl)
theorem dX5_crossings_48 : decode cX5_crossings 48 = .ok (.bipush (-7), 2) := dk_16 249 (dk_at dksX5_crossings_2 3 rfl rfl)
theorem dX5_crossings_50 : decode cX5_crossings 50 = .ok (.ireturn, 1) := dk_172 (dk_at dksX5_crossings_2 5 rfl rfl)
theorem dX5_crossings_51 : decode cX5_crossings 51 = .ok (.iconst 0, 1) := dk_3 (dk_at dksX5_crossings_2 6 rfl rfl)
theorem dX5_crossings_52 : decode cX5_crossings 52 = .ok (.istore_n 2, 1) := dk_61 (dk_at dksX5_crossings_2 7 rfl rfl)
theorem dX5_crossings_53 : decode cX5_crossings 53 = .ok (.iload_n 2, 1) := dk_28 (dk_at dksX5_crossings_2 8 rfl rfl)
theorem dX5_crossings_54 : decode cX5_crossings 54 = .ok (.aload_n 0, 1) := dk_42 (dk_at dksX5_crossings_2 9 rfl rfl)
theorem dX5_crossings_55 : decode cX5_crossings 55 = .ok (.invokevirtual 282, 3) := dk_182 1 26 (dk_at dksX5_crossings_2 10 rfl rfl)
theorem dX5_crossings_58 : decode cX5_crossings 58 = .ok (.if_icmp .ge 16, 3) := dk_162 0 16 (dk_at dksX5_crossings_2 13 rfl rfl)
theorem dX5_crossings_61 : decode cX5_crossings 61 = .ok (.aload_n 0, 1) := dk_42 (dk_at dksX5_crossings_2 16 rfl rfl)
theorem dX5_crossings_62 : decode cX5_crossings 62 = .ok (.getfield 107, 3) := dk_180 0 107 (dk_at dksX5_crossings_2 17 rfl rfl)
theorem dX5_crossings_65 : decode cX5_crossings 65 = .ok (.iload_n 2, 1) := dk_28 (dk_at dksX5_crossings_2 20 rfl rfl)
theorem dX5_crossings_66 : decode cX5_crossings 66 = .ok (.iconst (-1), 1) := dk_2 (dk_at dksX5_crossings_2 21 rfl rfl)
theorem dX5_crossings_67 : decode cX5_crossings 67 = .ok (.iastore, 1) := dk_79 (dk_at dksX5_crossings_2 22 rfl rfl)
theorem dX5_crossings_68 : decode cX5_crossings 68 = .ok (.iinc 2 1, 3) := dk_132 2 1 (dk_at dksX5_crossings_3 0 rfl rfl)
theorem dX5_crossings_71 : decode cX5_crossings 71 = .ok (.goto (-18), 3) := dk_167 255 238 (dk_at dksX5_crossings_3 3 rfl rfl)
theorem dX5_crossings_74 : decode cX5_crossings 74 = .ok (.iconst 0, 1) := dk_3 (dk_at dksX5_crossings_3 6 rfl rfl)
theorem dX5_crossings_75 : decode cX5_crossings 75 = .ok (.istore_n 2, 1) := dk_61 (dk_at dksX5_crossings_3 7 rfl rfl)
theorem dX5_crossings_76 : decode cX5_crossings 76 = .ok (.iload_n 2, 1) := dk_28 (dk_at dksX5_crossings_3 8 rfl rfl)
theorem dX5_crossings_77 : decode cX5_crossings 77 = .ok (.aload_n 0, 1) := dk_42 (dk_at dksX5_crossings_3 9 rfl rfl)
theorem dX5_crossings_78 : decode cX5_crossings 78 = .ok (.getfield 13, 3) := dk_180 0 13 (dk_at dksX5_crossings_3 10 rfl rfl)
theorem dX5_crossings_81 : decode cX5_crossings 81 = .ok (.iload_n 1, 1) := dk_27 (dk_at dksX5_crossings_3 13 rfl rfl)
theorem dX5_crossings_82 : decode cX5_crossings 82 = .ok (.iaload, 1) := dk_46 (dk_at dksX5_crossings_3 14 rfl rfl)
theorem dX5_crossings_83 : decode cX5_crossings 83 = .ok (.if_icmp .ge 57, 3) := dk_162 0 57 (dk_at dksX5_crossings_3 15 rfl rfl)
theorem dX5_crossings_86 : decode cX5_crossings 86 = .ok (.aload_n 0, 1) := dk_42 (dk_at dksX5_crossings_3 18 rfl rfl)
theorem dX5_crossings_87 : decode cX5_crossings 87 = .ok (.aload_n 0, 1) := dk_42 (dk_at dksX5_crossings_3 19 rfl rfl)
theorem dX5_crossings_88 : decode cX5_crossings 88 = .ok (.getfield 16, 3) := dk_180 0 16 (dk_at dksX5_crossings_3 20 rfl rfl)
theorem dX5_crossings_91 : decode cX5_crossings 91 = .ok (.bipush 60, 2) := dk_16 60 (dk_at dksX5_crossings_4 0 rfl rfl)
theorem dX5_crossings_93 : decode cX5_crossings 93 = .ok (.iload_n 1, 1) := dk_27 (dk_at dksX5_crossings_4 2 rfl rfl)
theorem dX5_crossings_94 : decode cX5_crossings 94 = .ok (.imul, 1) := dk_104 (dk_at dksX5_crossings_4 3 rfl rfl)
theorem dX5_crossings_95 : decode cX5_crossings 95 = .ok (.iload_n 2, 1) := dk_28 (dk_at dksX5_crossings_4 4 rfl rfl)
theorem dX5_crossings_96 : decode cX5_crossings 96 = .ok (.iadd, 1) := dk_96 (dk_at dksX5_crossings_4 5 rfl rfl)
theorem dX5_crossings_97 : decode cX5_crossings 97 = .ok (.laload, 1) := dk_47 (dk_at dksX5_crossings_4 6 rfl rfl)
theorem dX5_crossings_98 : decode cX5_crossings 98 = .ok (.invokevirtual 285, 3) := dk_182 1 29 (dk_at dksX5_crossings_4 7 rfl rfl)
theorem dX5_crossings_101 : decode cX5_crossings 101 = .ok (.ifCond .eq 18, 3) := dk_153 0 18 (dk_at dksX5_crossings_4 10 rfl rfl)
theorem dX5_crossings_104 : decode cX5_crossings 104 = .ok (.aload_n 0, 1) := dk_42 (dk_at dksX5_crossings_4 13 rfl rfl)
theorem dX5_crossings_105 : decode cX5_crossings 105 = .ok (.getfield 107, 3) := dk_180 0 107 (dk_at dksX5_crossings_4 14 rfl rfl)
theorem dX5_crossings_108 : decode cX5_crossings 108 = .ok (.aload_n 0, 1) := dk_42 (dk_at dksX5_crossings_4 17 rfl rfl)
theorem dX5_crossings_109 : decode cX5_crossings 109 = .ok (.iload_n 1, 1) := dk_27 (dk_at dksX5_crossings_4 18 rfl rfl)
theorem dX5_crossings_110 : decode cX5_crossings 110 = .ok (.iload_n 2, 1) := dk_28 (dk_at dksX5_crossings_4 19 rfl rfl)
theorem dX5_crossings_111 : decode cX5_crossings 111 = .ok (.invokevirtual 418, 3) := dk_182 1 162 (dk_at dksX5_crossings_4 20 rfl rfl)
theorem dX5_crossings_114 : decode cX5_crossings 114 = .ok (.iaload, 1) := dk_46 (dk_at dksX5_crossings_4 23 rfl rfl)
theorem dX5_crossings_115 : decode cX5_crossings 115 = .ok (.iconst (-1), 1) := dk_2 (dk_at dksX5_crossings_5 0 rfl rfl)
theorem dX5_crossings_116 : decode cX5_crossings 116 = .ok (.if_icmp .eq 6, 3) := dk_159 0 6 (dk_at dksX5_crossings_5 1 rfl rfl)
theorem dX5_crossings_119 : decode cX5_crossings 119 = .ok (.bipush (-2), 2) := dk_16 254 (dk_at dksX5_crossings_5 4 rfl rfl)
theorem dX5_crossings_121 : decode cX5_crossings 121 = .ok (.ireturn, 1) := dk_172 (dk_at dksX5_crossings_5 6 rfl rfl)
theorem dX5_crossings_122 : decode cX5_crossings 122 = .ok (.aload_n 0, 1) := dk_42 (dk_at dksX5_crossings_5 7 rfl rfl)
theorem dX5_crossings_123 : decode cX5_crossings 123 = .ok (.getfield 107, 3) := dk_180 0 107 (dk_at dksX5_crossings_5 8 rfl rfl)
theorem dX5_crossings_126 : decode cX5_crossings 126 = .ok (.aload_n 0, 1) := dk_42 (dk_at dksX5_crossings_5 11 rfl rfl)
theorem dX5_crossings_127 : decode cX5_crossings 127 = .ok (.iload_n 1, 1) := dk_27 (dk_at dksX5_crossings_5 12 rfl rfl)
theorem dX5_crossings_128 : decode cX5_crossings 128 = .ok (.iload_n 2, 1) := dk_28 (dk_at dksX5_crossings_5 13 rfl rfl)
theorem dX5_crossings_129 : decode cX5_crossings 129 = .ok (.invokevirtual 418, 3) := dk_182 1 162 (dk_at dksX5_crossings_5 14 rfl rfl)
theorem dX5_crossings_132 : decode cX5_crossings 132 = .ok (.iload_n 2, 1) := dk_28 (dk_at dksX5_crossings_5 17 rfl rfl)
theorem dX5_crossings_133 : decode cX5_crossings 133 = .ok (.iastore, 1) := dk_79 (dk_at dksX5_crossings_5 18 rfl rfl)
theorem dX5_crossings_134 : decode cX5_crossings 134 = .ok (.iinc 2 1, 3) := dk_132 2 1 (dk_at dksX5_crossings_5 19 rfl rfl)
theorem dX5_crossings_137 : decode cX5_crossings 137 = .ok (.goto (-61), 3) := dk_167 255 195 (dk_at dksX5_crossings_6 0 rfl rfl)
theorem dX5_crossings_140 : decode cX5_crossings 140 = .ok (.aload_n 0, 1) := dk_42 (dk_at dksX5_crossings_6 3 rfl rfl)
theorem dX5_crossings_141 : decode cX5_crossings 141 = .ok (.invokevirtual 428, 3) := dk_182 1 172 (dk_at dksX5_crossings_6 4 rfl rfl)
theorem dX5_crossings_144 : decode cX5_crossings 144 = .ok (.ireturn, 1) := dk_172 (dk_at dksX5_crossings_6 7 rfl rfl)
abbrev cX5_crossingsNow : ByteArray := prog_10_method_121_code
def yX5_crossingsNow : MethodName := ⟨RX5, "crossingsNow", "()I"⟩
def dkwX5_crossingsNow_9 : List UInt8 := [4, 167, 0, 4, 3, 96, 61, 132, 4, 1, 167, 255, 191, 132, 3, 1, 167, 255, 177, 28, 172]
abbrev dktX5_crossingsNow_9 : List UInt8 := dkwX5_crossingsNow_9 ++ []
def dkwX5_crossingsNow_8 : List UInt8 := [180, 0, 113, 29, 46, 162, 0, 23, 42, 180, 0, 113, 29, 46, 42, 180, 0, 113, 21, 4, 46, 162, 0, 7]
abbrev dktX5_crossingsNow_8 : List UInt8 := dkwX5_crossingsNow_8 ++ dktX5_crossingsNow_9
def dkwX5_crossingsNow_7 : List UInt8 := [180, 0, 110, 29, 46, 42, 180, 0, 110, 21, 4, 46, 162, 0, 39, 42, 180, 0, 110, 21, 4, 46, 42]
abbrev dktX5_crossingsNow_7 : List UInt8 := dkwX5_crossingsNow_7 ++ dktX5_crossingsNow_8
def dkwX5_crossingsNow_6 : List UInt8 := [167, 255, 123, 3, 61, 3, 62, 29, 27, 162, 0, 80, 3, 54, 4, 21, 4, 27, 162, 0, 65, 28, 42]
abbrev dktX5_crossingsNow_6 : List UInt8 := dkwX5_crossingsNow_6 ++ dktX5_crossingsNow_7
def dkwX5_crossingsNow_5 : List UInt8 := [167, 0, 9, 42, 180, 0, 107, 28, 46, 79, 132, 1, 1, 132, 3, 1, 167, 255, 139, 132, 2, 1]
abbrev dktX5_crossingsNow_5 : List UInt8 := dkwX5_crossingsNow_5 ++ dktX5_crossingsNow_6
def dkwX5_crossingsNow_4 : List UInt8 := [180, 0, 107, 28, 46, 42, 180, 0, 107, 21, 4, 46, 162, 0, 13, 42, 180, 0, 107, 21, 4, 46]
abbrev dktX5_crossingsNow_4 : List UInt8 := dkwX5_crossingsNow_4 ++ dktX5_crossingsNow_5
def dkwX5_crossingsNow_3 : List UInt8 := [42, 180, 0, 107, 28, 46, 167, 0, 10, 42, 180, 0, 107, 21, 4, 46, 79, 42, 180, 0, 113, 27, 42]
abbrev dktX5_crossingsNow_3 : List UInt8 := dkwX5_crossingsNow_3 ++ dktX5_crossingsNow_4
def dkwX5_crossingsNow_2 : List UInt8 := [167, 0, 82, 42, 180, 0, 110, 27, 42, 180, 0, 107, 28, 46, 42, 180, 0, 107, 21, 4, 46, 162, 0, 12]
abbrev dktX5_crossingsNow_2 : List UInt8 := dkwX5_crossingsNow_2 ++ dktX5_crossingsNow_3
def dkwX5_crossingsNow_1 : List UInt8 := [28, 4, 29, 120, 130, 54, 4, 21, 4, 28, 161, 0, 94, 42, 28, 29, 182, 1, 39, 154, 0, 6]
abbrev dktX5_crossingsNow_1 : List UInt8 := dkwX5_crossingsNow_1 ++ dktX5_crossingsNow_2
def dkwX5_crossingsNow_0 : List UInt8 := [3, 60, 3, 61, 28, 42, 182, 1, 26, 162, 0, 131, 3, 62, 29, 42, 180, 0, 34, 3, 46, 162, 0, 113]
abbrev dktX5_crossingsNow_0 : List UInt8 := dkwX5_crossingsNow_0 ++ dktX5_crossingsNow_1
theorem dksX5_crossingsNow_0 : cX5_crossingsNow.data.toList.drop 0 = dktX5_crossingsNow_0 := by decide +kernel
theorem dksX5_crossingsNow_1 : cX5_crossingsNow.data.toList.drop 24 = dktX5_crossingsNow_1 := dk_seg dksX5_crossingsNow_0 24 rfl rfl
theorem dksX5_crossingsNow_2 : cX5_crossingsNow.data.toList.drop 46 = dktX5_crossingsNow_2 := dk_seg dksX5_crossingsNow_1 22 rfl rfl
theorem dksX5_crossingsNow_3 : cX5_crossingsNow.data.toList.drop 70 = dktX5_crossingsNow_3 := dk_seg dksX5_crossingsNow_2 24 rfl rfl
theorem dksX5_crossingsNow_4 : cX5_crossingsNow.data.toList.drop 93 = dktX5_crossingsNow_4 := dk_seg dksX5_crossingsNow_3 23 rfl rfl
theorem dksX5_crossingsNow_5 : cX5_crossingsNow.data.toList.drop 115 = dktX5_crossingsNow_5 := dk_seg dksX5_crossingsNow_4 22 rfl rfl
theorem dksX5_crossingsNow_6 : cX5_crossingsNow.data.toList.drop 137 = dktX5_crossingsNow_6 := dk_seg dksX5_crossingsNow_5 22 rfl rfl
theorem dksX5_crossingsNow_7 : cX5_crossingsNow.data.toList.drop 160 = dktX5_crossingsNow_7 := dk_seg dksX5_crossingsNow_6 23 rfl rfl
theorem dksX5_crossingsNow_8 : cX5_crossingsNow.data.toList.drop 183 = dktX5_crossingsNow_8 := dk_seg dksX5_crossingsNow_7 23 rfl rfl
theorem dksX5_crossingsNow_9 : cX5_crossingsNow.data.toList.drop 207 = dktX5_crossingsNow_9 := dk_seg dksX5_crossingsNow_8 24 rfl rfl
theorem dX5_crossingsNow_0 : decode cX5_crossingsNow 0 = .ok (.iconst 0, 1) := dk_3 (dk_at dksX5_crossingsNow_0 0 rfl rfl)
theorem dX5_crossingsNow_1 : decode cX5_crossingsNow 1 = .ok (.istore_n 1, 1) := dk_60 (dk_at dksX5_crossingsNow_0 1 rfl rfl)
theorem dX5_crossingsNow_2 : decode cX5_crossingsNow 2 = .ok (.iconst 0, 1) := dk_3 (dk_at dksX5_crossingsNow_0 2 rfl rfl)
theorem dX5_crossingsNow_3 : decode cX5_crossingsNow 3 = .ok (.istore_n 2, 1) := dk_61 (dk_at dksX5_crossingsNow_0 3 rfl rfl)
theorem dX5_crossingsNow_4 : decode cX5_crossingsNow 4 = .ok (.iload_n 2, 1) := dk_28 (dk_at dksX5_crossingsNow_0 4 rfl rfl)
theorem dX5_crossingsNow_5 : decode cX5_crossingsNow 5 = .ok (.aload_n 0, 1) := dk_42 (dk_at dksX5_crossingsNow_0 5 rfl rfl)
theorem dX5_crossingsNow_6 : decode cX5_crossingsNow 6 = .ok (.invokevirtual 282, 3) := dk_182 1 26 (dk_at dksX5_crossingsNow_0 6 rfl rfl)
theorem dX5_crossingsNow_9 : decode cX5_crossingsNow 9 = .ok (.if_icmp .ge 131, 3) := dk_162 0 131 (dk_at dksX5_crossingsNow_0 9 rfl rfl)
theorem dX5_crossingsNow_12 : decode cX5_crossingsNow 12 = .ok (.iconst 0, 1) := dk_3 (dk_at dksX5_crossingsNow_0 12 rfl rfl)
theorem dX5_crossingsNow_13 : decode cX5_crossingsNow 13 = .ok (.istore_n 3, 1) := dk_62 (dk_at dksX5_crossingsNow_0 13 rfl rfl)
theorem dX5_crossingsNow_14 : decode cX5_crossingsNow 14 = .ok (.iload_n 3, 1) := dk_29 (dk_at dksX5_crossingsNow_0 14 rfl rfl)
theorem dX5_crossingsNow_15 : decode cX5_crossingsNow 15 = .ok (.aload_n 0, 1) := dk_42 (dk_at dksX5_crossingsNow_0 15 rfl rfl)
theorem dX5_crossingsNow_16 : decode cX5_crossingsNow 16 = .ok (.getfield 34, 3) := dk_180 0 34 (dk_at dksX5_crossingsNow_0 16 rfl rfl)
theorem dX5_crossingsNow_19 : decode cX5_crossingsNow 19 = .ok (.iconst 0, 1) := dk_3 (dk_at dksX5_crossingsNow_0 19 rfl rfl)
theorem dX5_crossingsNow_20 : decode cX5_crossingsNow 20 = .ok (.iaload, 1) := dk_46 (dk_at dksX5_crossingsNow_0 20 rfl rfl)
theorem dX5_crossingsNow_21 : decode cX5_crossingsNow 21 = .ok (.if_icmp .ge 113, 3) := dk_162 0 113 (dk_at dksX5_crossingsNow_0 21 rfl rfl)
theorem dX5_crossingsNow_24 : decode cX5_crossingsNow 24 = .ok (.iload_n 2, 1) := dk_28 (dk_at dksX5_crossingsNow_1 0 rfl rfl)
theorem dX5_crossingsNow_25 : decode cX5_crossingsNow 25 = .ok (.iconst 1, 1) := dk_4 (dk_at dksX5_crossingsNow_1 1 rfl rfl)
theorem dX5_crossingsNow_26 : decode cX5_crossingsNow 26 = .ok (.iload_n 3, 1) := dk_29 (dk_at dksX5_crossingsNow_1 2 rfl rfl)
theorem dX5_crossingsNow_27 : decode cX5_crossingsNow 27 = .ok (.ishl, 1) := dk_120 (dk_at dksX5_crossingsNow_1 3 rfl rfl)
theorem dX5_crossingsNow_28 : decode cX5_crossingsNow 28 = .ok (.ixor, 1) := dk_130 (dk_at dksX5_crossingsNow_1 4 rfl rfl)
theorem dX5_crossingsNow_29 : decode cX5_crossingsNow 29 = .ok (.istore 4, 2) := dk_54 4 (dk_at dksX5_crossingsNow_1 5 rfl rfl)
theorem dX5_crossingsNow_31 : decode cX5_crossingsNow 31 = .ok (.iload 4, 2) := dk_21 4 (dk_at dksX5_crossingsNow_1 7 rfl rfl)
theorem dX5_crossingsNow_33 : decode cX5_crossingsNow 33 = .ok (.iload_n 2, 1) := dk_28 (dk_at dksX5_crossingsNow_1 9 rfl rfl)
theorem dX5_crossingsNow_34 : decode cX5_crossingsNow 34 = .ok (.if_icmp .lt 94, 3) := dk_161 0 94 (dk_at dksX5_crossingsNow_1 10 rfl rfl)
theorem dX5_crossingsNow_37 : decode cX5_crossingsNow 37 = .ok (.aload_n 0, 1) := dk_42 (dk_at dksX5_crossingsNow_1 13 rfl rfl)
theorem dX5_crossingsNow_38 : decode cX5_crossingsNow 38 = .ok (.iload_n 2, 1) := dk_28 (dk_at dksX5_crossingsNow_1 14 rfl rfl)
theorem dX5_crossingsNow_39 : decode cX5_crossingsNow 39 = .ok (.iload_n 3, 1) := dk_29 (dk_at dksX5_crossingsNow_1 15 rfl rfl)
theorem dX5_crossingsNow_40 : decode cX5_crossingsNow 40 = .ok (.invokevirtual 295, 3) := dk_182 1 39 (dk_at dksX5_crossingsNow_1 16 rfl rfl)
theorem dX5_crossingsNow_43 : decode cX5_crossingsNow 43 = .ok (.ifCond .ne 6, 3) := dk_154 0 6 (dk_at dksX5_crossingsNow_1 19 rfl rfl)
theorem dX5_crossingsNow_46 : decode cX5_crossingsNow 46 = .ok (.goto 82, 3) := dk_167 0 82 (dk_at dksX5_crossingsNow_2 0 rfl rfl)
theorem dX5_crossingsNow_49 : decode cX5_crossingsNow 49 = .ok (.aload_n 0, 1) := dk_42 (dk_at dksX5_crossingsNow_2 3 rfl rfl)
theorem dX5_crossingsNow_50 : decode cX5_crossingsNow 50 = .ok (.getfield 110, 3) := dk_180 0 110 (dk_at dksX5_crossingsNow_2 4 rfl rfl)
theorem dX5_crossingsNow_53 : decode cX5_crossingsNow 53 = .ok (.iload_n 1, 1) := dk_27 (dk_at dksX5_crossingsNow_2 7 rfl rfl)
theorem dX5_crossingsNow_54 : decode cX5_crossingsNow 54 = .ok (.aload_n 0, 1) := dk_42 (dk_at dksX5_crossingsNow_2 8 rfl rfl)
theorem dX5_crossingsNow_55 : decode cX5_crossingsNow 55 = .ok (.getfield 107, 3) := dk_180 0 107 (dk_at dksX5_crossingsNow_2 9 rfl rfl)
theorem dX5_crossingsNow_58 : decode cX5_crossingsNow 58 = .ok (.iload_n 2, 1) := dk_28 (dk_at dksX5_crossingsNow_2 12 rfl rfl)
theorem dX5_crossingsNow_59 : decode cX5_crossingsNow 59 = .ok (.iaload, 1) := dk_46 (dk_at dksX5_crossingsNow_2 13 rfl rfl)
theorem dX5_crossingsNow_60 : decode cX5_crossingsNow 60 = .ok (.aload_n 0, 1) := dk_42 (dk_at dksX5_crossingsNow_2 14 rfl rfl)
theorem dX5_crossingsNow_61 : decode cX5_crossingsNow 61 = .ok (.getfield 107, 3) := dk_180 0 107 (dk_at dksX5_crossingsNow_2 15 rfl rfl)
theorem dX5_crossingsNow_64 : decode cX5_crossingsNow 64 = .ok (.iload 4, 2) := dk_21 4 (dk_at dksX5_crossingsNow_2 18 rfl rfl)
theorem dX5_crossingsNow_66 : decode cX5_crossingsNow 66 = .ok (.iaload, 1) := dk_46 (dk_at dksX5_crossingsNow_2 20 rfl rfl)
theorem dX5_crossingsNow_67 : decode cX5_crossingsNow 67 = .ok (.if_icmp .ge 12, 3) := dk_162 0 12 (dk_at dksX5_crossingsNow_2 21 rfl rfl)
theorem dX5_crossingsNow_70 : decode cX5_crossingsNow 70 = .ok (.aload_n 0, 1) := dk_42 (dk_at dksX5_crossingsNow_3 0 rfl rfl)
theorem dX5_crossingsNow_71 : decode cX5_crossingsNow 71 = .ok (.getfield 107, 3) := dk_180 0 107 (dk_at dksX5_crossingsNow_3 1 rfl rfl)
theorem dX5_crossingsNow_74 : decode cX5_crossingsNow 74 = .ok (.iload_n 2, 1) := dk_28 (dk_at dksX5_crossingsNow_3 4 rfl rfl)
theorem dX5_crossingsNow_75 : decode cX5_crossingsNow 75 = .ok (.iaload, 1) := dk_46 (dk_at dksX5_crossingsNow_3 5 rfl rfl)
theorem dX5_crossingsNow_76 : decode cX5_crossingsNow 76 = .ok (.goto 10, 3) := dk_167 0 10 (dk_at dksX5_crossingsNow_3 6 rfl rfl)
theorem dX5_crossingsNow_79 : decode cX5_crossingsNow 79 = .ok (.aload_n 0, 1) := dk_42 (dk_at dksX5_crossingsNow_3 9 rfl rfl)
theorem dX5_crossingsNow_80 : decode cX5_crossingsNow 80 = .ok (.getfield 107, 3) := dk_180 0 107 (dk_at dksX5_crossingsNow_3 10 rfl rfl)
theorem dX5_crossingsNow_83 : decode cX5_crossingsNow 83 = .ok (.iload 4, 2) := dk_21 4 (dk_at dksX5_crossingsNow_3 13 rfl rfl)
theorem dX5_crossingsNow_85 : decode cX5_crossingsNow 85 = .ok (.iaload, 1) := dk_46 (dk_at dksX5_crossingsNow_3 15 rfl rfl)
theorem dX5_crossingsNow_86 : decode cX5_crossingsNow 86 = .ok (.iastore, 1) := dk_79 (dk_at dksX5_crossingsNow_3 16 rfl rfl)
theorem dX5_crossingsNow_87 : decode cX5_crossingsNow 87 = .ok (.aload_n 0, 1) := dk_42 (dk_at dksX5_crossingsNow_3 17 rfl rfl)
theorem dX5_crossingsNow_88 : decode cX5_crossingsNow 88 = .ok (.getfield 113, 3) := dk_180 0 113 (dk_at dksX5_crossingsNow_3 18 rfl rfl)
theorem dX5_crossingsNow_91 : decode cX5_crossingsNow 91 = .ok (.iload_n 1, 1) := dk_27 (dk_at dksX5_crossingsNow_3 21 rfl rfl)
theorem dX5_crossingsNow_92 : decode cX5_crossingsNow 92 = .ok (.aload_n 0, 1) := dk_42 (dk_at dksX5_crossingsNow_3 22 rfl rfl)
theorem dX5_crossingsNow_93 : decode cX5_crossingsNow 93 = .ok (.getfield 107, 3) := dk_180 0 107 (dk_at dksX5_crossingsNow_4 0 rfl rfl)
theorem dX5_crossingsNow_96 : decode cX5_crossingsNow 96 = .ok (.iload_n 2, 1) := dk_28 (dk_at dksX5_crossingsNow_4 3 rfl rfl)
theorem dX5_crossingsNow_97 : decode cX5_crossingsNow 97 = .ok (.iaload, 1) := dk_46 (dk_at dksX5_crossingsNow_4 4 rfl rfl)
theorem dX5_crossingsNow_98 : decode cX5_crossingsNow 98 = .ok (.aload_n 0, 1) := dk_42 (dk_at dksX5_crossingsNow_4 5 rfl rfl)
theorem dX5_crossingsNow_99 : decode cX5_crossingsNow 99 = .ok (.getfield 107, 3) := dk_180 0 107 (dk_at dksX5_crossingsNow_4 6 rfl rfl)
theorem dX5_crossingsNow_102 : decode cX5_crossingsNow 102 = .ok (.iload 4, 2) := dk_21 4 (dk_at dksX5_crossingsNow_4 9 rfl rfl)
theorem dX5_crossingsNow_104 : decode cX5_crossingsNow 104 = .ok (.iaload, 1) := dk_46 (dk_at dksX5_crossingsNow_4 11 rfl rfl)
theorem dX5_crossingsNow_105 : decode cX5_crossingsNow 105 = .ok (.if_icmp .ge 13, 3) := dk_162 0 13 (dk_at dksX5_crossingsNow_4 12 rfl rfl)
theorem dX5_crossingsNow_108 : decode cX5_crossingsNow 108 = .ok (.aload_n 0, 1) := dk_42 (dk_at dksX5_crossingsNow_4 15 rfl rfl)
theorem dX5_crossingsNow_109 : decode cX5_crossingsNow 109 = .ok (.getfield 107, 3) := dk_180 0 107 (dk_at dksX5_crossingsNow_4 16 rfl rfl)
theorem dX5_crossingsNow_112 : decode cX5_crossingsNow 112 = .ok (.iload 4, 2) := dk_21 4 (dk_at dksX5_crossingsNow_4 19 rfl rfl)
theorem dX5_crossingsNow_114 : decode cX5_crossingsNow 114 = .ok (.iaload, 1) := dk_46 (dk_at dksX5_crossingsNow_4 21 rfl rfl)
theorem dX5_crossingsNow_115 : decode cX5_crossingsNow 115 = .ok (.goto 9, 3) := dk_167 0 9 (dk_at dksX5_crossingsNow_5 0 rfl rfl)
theorem dX5_crossingsNow_118 : decode cX5_crossingsNow 118 = .ok (.aload_n 0, 1) := dk_42 (dk_at dksX5_crossingsNow_5 3 rfl rfl)
theorem dX5_crossingsNow_119 : decode cX5_crossingsNow 119 = .ok (.getfield 107, 3) := dk_180 0 107 (dk_at dksX5_crossingsNow_5 4 rfl rfl)
theorem dX5_crossingsNow_122 : decode cX5_crossingsNow 122 = .ok (.iload_n 2, 1) := dk_28 (dk_at dksX5_crossingsNow_5 7 rfl rfl)
theorem dX5_crossingsNow_123 : decode cX5_crossingsNow 123 = .ok (.iaload, 1) := dk_46 (dk_at dksX5_crossingsNow_5 8 rfl rfl)
theorem dX5_crossingsNow_124 : decode cX5_crossingsNow 124 = .ok (.iastore, 1) := dk_79 (dk_at dksX5_crossingsNow_5 9 rfl rfl)
theorem dX5_crossingsNow_125 : decode cX5_crossingsNow 125 = .ok (.iinc 1 1, 3) := dk_132 1 1 (dk_at dksX5_crossingsNow_5 10 rfl rfl)
theorem dX5_crossingsNow_128 : decode cX5_crossingsNow 128 = .ok (.iinc 3 1, 3) := dk_132 3 1 (dk_at dksX5_crossingsNow_5 13 rfl rfl)
theorem dX5_crossingsNow_131 : decode cX5_crossingsNow 131 = .ok (.goto (-117), 3) := dk_167 255 139 (dk_at dksX5_crossingsNow_5 16 rfl rfl)
theorem dX5_crossingsNow_134 : decode cX5_crossingsNow 134 = .ok (.iinc 2 1, 3) := dk_132 2 1 (dk_at dksX5_crossingsNow_5 19 rfl rfl)
theorem dX5_crossingsNow_137 : decode cX5_crossingsNow 137 = .ok (.goto (-133), 3) := dk_167 255 123 (dk_at dksX5_crossingsNow_6 0 rfl rfl)
theorem dX5_crossingsNow_140 : decode cX5_crossingsNow 140 = .ok (.iconst 0, 1) := dk_3 (dk_at dksX5_crossingsNow_6 3 rfl rfl)
theorem dX5_crossingsNow_141 : decode cX5_crossingsNow 141 = .ok (.istore_n 2, 1) := dk_61 (dk_at dksX5_crossingsNow_6 4 rfl rfl)
theorem dX5_crossingsNow_142 : decode cX5_crossingsNow 142 = .ok (.iconst 0, 1) := dk_3 (dk_at dksX5_crossingsNow_6 5 rfl rfl)
theorem dX5_crossingsNow_143 : decode cX5_crossingsNow 143 = .ok (.istore_n 3, 1) := dk_62 (dk_at dksX5_crossingsNow_6 6 rfl rfl)
theorem dX5_crossingsNow_144 : decode cX5_crossingsNow 144 = .ok (.iload_n 3, 1) := dk_29 (dk_at dksX5_crossingsNow_6 7 rfl rfl)
theorem dX5_crossingsNow_145 : decode cX5_crossingsNow 145 = .ok (.iload_n 1, 1) := dk_27 (dk_at dksX5_crossingsNow_6 8 rfl rfl)
theorem dX5_crossingsNow_146 : decode cX5_crossingsNow 146 = .ok (.if_icmp .ge 80, 3) := dk_162 0 80 (dk_at dksX5_crossingsNow_6 9 rfl rfl)
theorem dX5_crossingsNow_149 : decode cX5_crossingsNow 149 = .ok (.iconst 0, 1) := dk_3 (dk_at dksX5_crossingsNow_6 12 rfl rfl)
theorem dX5_crossingsNow_150 : decode cX5_crossingsNow 150 = .ok (.istore 4, 2) := dk_54 4 (dk_at dksX5_crossingsNow_6 13 rfl rfl)
theorem dX5_crossingsNow_152 : decode cX5_crossingsNow 152 = .ok (.iload 4, 2) := dk_21 4 (dk_at dksX5_crossingsNow_6 15 rfl rfl)
theorem dX5_crossingsNow_154 : decode cX5_crossingsNow 154 = .ok (.iload_n 1, 1) := dk_27 (dk_at dksX5_crossingsNow_6 17 rfl rfl)
theorem dX5_crossingsNow_155 : decode cX5_crossingsNow 155 = .ok (.if_icmp .ge 65, 3) := dk_162 0 65 (dk_at dksX5_crossingsNow_6 18 rfl rfl)
theorem dX5_crossingsNow_158 : decode cX5_crossingsNow 158 = .ok (.iload_n 2, 1) := dk_28 (dk_at dksX5_crossingsNow_6 21 rfl rfl)
theorem dX5_crossingsNow_159 : decode cX5_crossingsNow 159 = .ok (.aload_n 0, 1) := dk_42 (dk_at dksX5_crossingsNow_6 22 rfl rfl)
theorem dX5_crossingsNow_160 : decode cX5_crossingsNow 160 = .ok (.getfield 110, 3) := dk_180 0 110 (dk_at dksX5_crossingsNow_7 0 rfl rfl)
theorem dX5_crossingsNow_163 : decode cX5_crossingsNow 163 = .ok (.iload_n 3, 1) := dk_29 (dk_at dksX5_crossingsNow_7 3 rfl rfl)
theorem dX5_crossingsNow_164 : decode cX5_crossingsNow 164 = .ok (.iaload, 1) := dk_46 (dk_at dksX5_crossingsNow_7 4 rfl rfl)
theorem dX5_crossingsNow_165 : decode cX5_crossingsNow 165 = .ok (.aload_n 0, 1) := dk_42 (dk_at dksX5_crossingsNow_7 5 rfl rfl)
theorem dX5_crossingsNow_166 : decode cX5_crossingsNow 166 = .ok (.getfield 110, 3) := dk_180 0 110 (dk_at dksX5_crossingsNow_7 6 rfl rfl)
theorem dX5_crossingsNow_169 : decode cX5_crossingsNow 169 = .ok (.iload 4, 2) := dk_21 4 (dk_at dksX5_crossingsNow_7 9 rfl rfl)
theorem dX5_crossingsNow_171 : decode cX5_crossingsNow 171 = .ok (.iaload, 1) := dk_46 (dk_at dksX5_crossingsNow_7 11 rfl rfl)
theorem dX5_crossingsNow_172 : decode cX5_crossingsNow 172 = .ok (.if_icmp .ge 39, 3) := dk_162 0 39 (dk_at dksX5_crossingsNow_7 12 rfl rfl)
theorem dX5_crossingsNow_175 : decode cX5_crossingsNow 175 = .ok (.aload_n 0, 1) := dk_42 (dk_at dksX5_crossingsNow_7 15 rfl rfl)
theorem dX5_crossingsNow_176 : decode cX5_crossingsNow 176 = .ok (.getfield 110, 3) := dk_180 0 110 (dk_at dksX5_crossingsNow_7 16 rfl rfl)
theorem dX5_crossingsNow_179 : decode cX5_crossingsNow 179 = .ok (.iload 4, 2) := dk_21 4 (dk_at dksX5_crossingsNow_7 19 rfl rfl)
theorem dX5_crossingsNow_181 : decode cX5_crossingsNow 181 = .ok (.iaload, 1) := dk_46 (dk_at dksX5_crossingsNow_7 21 rfl rfl)
theorem dX5_crossingsNow_182 : decode cX5_crossingsNow 182 = .ok (.aload_n 0, 1) := dk_42 (dk_at dksX5_crossingsNow_7 22 rfl rfl)
theorem dX5_crossingsNow_183 : decode cX5_crossingsNow 183 = .ok (.getfield 113, 3) := dk_180 0 113 (dk_at dksX5_crossingsNow_8 0 rfl rfl)
theorem dX5_crossingsNow_186 : decode cX5_crossingsNow 186 = .ok (.iload_n 3, 1) := dk_29 (dk_at dksX5_crossingsNow_8 3 rfl rfl)
theorem dX5_crossingsNow_187 : decode cX5_crossingsNow 187 = .ok (.iaload, 1) := dk_46 (dk_at dksX5_crossingsNow_8 4 rfl rfl)
theorem dX5_crossingsNow_188 : decode cX5_crossingsNow 188 = .ok (.if_icmp .ge 23, 3) := dk_162 0 23 (dk_at dksX5_crossingsNow_8 5 rfl rfl)
theorem dX5_crossingsNow_191 : decode cX5_crossingsNow 191 = .ok (.aload_n 0, 1) := dk_42 (dk_at dksX5_crossingsNow_8 8 rfl rfl)
theorem dX5_crossingsNow_192 : decode cX5_crossingsNow 192 = .ok (.getfield 113, 3) := dk_180 0 113 (dk_at dksX5_crossingsNow_8 9 rfl rfl)
theorem dX5_crossingsNow_195 : decode cX5_crossingsNow 195 = .ok (.iload_n 3, 1) := dk_29 (dk_at dksX5_crossingsNow_8 12 rfl rfl)
theorem dX5_crossingsNow_196 : decode cX5_crossingsNow 196 = .ok (.iaload, 1) := dk_46 (dk_at dksX5_crossingsNow_8 13 rfl rfl)
theorem dX5_crossingsNow_197 : decode cX5_crossingsNow 197 = .ok (.aload_n 0, 1) := dk_42 (dk_at dksX5_crossingsNow_8 14 rfl rfl)
theorem dX5_crossingsNow_198 : decode cX5_crossingsNow 198 = .ok (.getfield 113, 3) := dk_180 0 113 (dk_at dksX5_crossingsNow_8 15 rfl rfl)
theorem dX5_crossingsNow_201 : decode cX5_crossingsNow 201 = .ok (.iload 4, 2) := dk_21 4 (dk_at dksX5_crossingsNow_8 18 rfl rfl)
theorem dX5_crossingsNow_203 : decode cX5_crossingsNow 203 = .ok (.iaload, 1) := dk_46 (dk_at dksX5_crossingsNow_8 20 rfl rfl)
theorem dX5_crossingsNow_204 : decode cX5_crossingsNow 204 = .ok (.if_icmp .ge 7, 3) := dk_162 0 7 (dk_at dksX5_crossingsNow_8 21 rfl rfl)
theorem dX5_crossingsNow_207 : decode cX5_crossingsNow 207 = .ok (.iconst 1, 1) := dk_4 (dk_at dksX5_crossingsNow_9 0 rfl rfl)
theorem dX5_crossingsNow_208 : decode cX5_crossingsNow 208 = .ok (.goto 4, 3) := dk_167 0 4 (dk_at dksX5_crossingsNow_9 1 rfl rfl)
theorem dX5_crossingsNow_211 : decode cX5_crossingsNow 211 = .ok (.iconst 0, 1) := dk_3 (dk_at dksX5_crossingsNow_9 4 rfl rfl)
theorem dX5_crossingsNow_212 : decode cX5_crossingsNow 212 = .ok (.iadd, 1) := dk_96 (dk_at dksX5_crossingsNow_9 5 rfl rfl)
theorem dX5_crossingsNow_213 : decode cX5_crossingsNow 213 = .ok (.istore_n 2, 1) := dk_61 (dk_at dksX5_crossingsNow_9 6 rfl rfl)
theorem dX5_crossingsNow_214 : decode cX5_crossingsNow 214 = .ok (.iinc 4 1, 3) := dk_132 4 1 (dk_at dksX5_crossingsNow_9 7 rfl rfl)
theorem dX5_crossingsNow_217 : decode cX5_crossingsNow 217 = .ok (.goto (-65), 3) := dk_167 255 191 (dk_at dksX5_crossingsNow_9 10 rfl rfl)
theorem dX5_crossingsNow_220 : decode cX5_crossingsNow 220 = .ok (.iinc 3 1, 3) := dk_132 3 1 (dk_at dksX5_crossingsNow_9 13 rfl rfl)
theorem dX5_crossingsNow_223 : decode cX5_crossingsNow 223 = .ok (.goto (-79), 3) := dk_167 255 177 (dk_at dksX5_crossingsNow_9 16 rfl rfl)
theorem dX5_crossingsNow_226 : decode cX5_crossingsNow 226 = .ok (.iload_n 2, 1) := dk_28 (dk_at dksX5_crossingsNow_9 19 rfl rfl)
theorem dX5_crossingsNow_227 : decode cX5_crossingsNow 227 = .ok (.ireturn, 1) := dk_172 (dk_at dksX5_crossingsNow_9 20 rfl rfl)
abbrev cX5_drawing : ByteArray := prog_10_method_124_code
def yX5_drawing : MethodName := ⟨RX5, "drawing", "()I"⟩
def dkwX5_drawing_1 : List UInt8 := [164, 0, 6, 16, 247, 172, 42, 180, 0, 107, 3, 3, 79, 42, 4, 4, 182, 1, 175, 172]
abbrev dktX5_drawing_1 : List UInt8 := dkwX5_drawing_1 ++ []
def dkwX5_drawing_0 : List UInt8 := [42, 3, 181, 0, 131, 42, 182, 1, 23, 154, 0, 6, 16, 254, 172, 42, 180, 0, 34, 3, 46, 6]
abbrev dktX5_drawing_0 : List UInt8 := dkwX5_drawing_0 ++ dktX5_drawing_1
theorem dksX5_drawing_0 : cX5_drawing.data.toList.drop 0 = dktX5_drawing_0 := by decide +kernel
theorem dksX5_drawing_1 : cX5_drawing.data.toList.drop 22 = dktX5_drawing_1 := dk_seg dksX5_drawing_0 22 rfl rfl
theorem dX5_drawing_0 : decode cX5_drawing 0 = .ok (.aload_n 0, 1) := dk_42 (dk_at dksX5_drawing_0 0 rfl rfl)
theorem dX5_drawing_1 : decode cX5_drawing 1 = .ok (.iconst 0, 1) := dk_3 (dk_at dksX5_drawing_0 1 rfl rfl)
theorem dX5_drawing_2 : decode cX5_drawing 2 = .ok (.putfield 131, 3) := dk_181 0 131 (dk_at dksX5_drawing_0 2 rfl rfl)
theorem dX5_drawing_5 : decode cX5_drawing 5 = .ok (.aload_n 0, 1) := dk_42 (dk_at dksX5_drawing_0 5 rfl rfl)
theorem dX5_drawing_6 : decode cX5_drawing 6 = .ok (.invokevirtual 279, 3) := dk_182 1 23 (dk_at dksX5_drawing_0 6 rfl rfl)
theorem dX5_drawing_9 : decode cX5_drawing 9 = .ok (.ifCond .ne 6, 3) := dk_154 0 6 (dk_at dksX5_drawing_0 9 rfl rfl)
theorem dX5_drawing_12 : decode cX5_drawing 12 = .ok (.bipush (-2), 2) := dk_16 254 (dk_at dksX5_drawing_0 12 rfl rfl)
theorem dX5_drawing_14 : decode cX5_drawing 14 = .ok (.ireturn, 1) := dk_172 (dk_at dksX5_drawing_0 14 rfl rfl)
theorem dX5_drawing_15 : decode cX5_drawing 15 = .ok (.aload_n 0, 1) := dk_42 (dk_at dksX5_drawing_0 15 rfl rfl)
theorem dX5_drawing_16 : decode cX5_drawing 16 = .ok (.getfield 34, 3) := dk_180 0 34 (dk_at dksX5_drawing_0 16 rfl rfl)
theorem dX5_drawing_19 : decode cX5_drawing 19 = .ok (.iconst 0, 1) := dk_3 (dk_at dksX5_drawing_0 19 rfl rfl)
theorem dX5_drawing_20 : decode cX5_drawing 20 = .ok (.iaload, 1) := dk_46 (dk_at dksX5_drawing_0 20 rfl rfl)
theorem dX5_drawing_21 : decode cX5_drawing 21 = .ok (.iconst 3, 1) := dk_6 (dk_at dksX5_drawing_0 21 rfl rfl)
theorem dX5_drawing_22 : decode cX5_drawing 22 = .ok (.if_icmp .le 6, 3) := dk_164 0 6 (dk_at dksX5_drawing_1 0 rfl rfl)
theorem dX5_drawing_25 : decode cX5_drawing 25 = .ok (.bipush (-9), 2) := dk_16 247 (dk_at dksX5_drawing_1 3 rfl rfl)
theorem dX5_drawing_27 : decode cX5_drawing 27 = .ok (.ireturn, 1) := dk_172 (dk_at dksX5_drawing_1 5 rfl rfl)
theorem dX5_drawing_28 : decode cX5_drawing 28 = .ok (.aload_n 0, 1) := dk_42 (dk_at dksX5_drawing_1 6 rfl rfl)
theorem dX5_drawing_29 : decode cX5_drawing 29 = .ok (.getfield 107, 3) := dk_180 0 107 (dk_at dksX5_drawing_1 7 rfl rfl)
theorem dX5_drawing_32 : decode cX5_drawing 32 = .ok (.iconst 0, 1) := dk_3 (dk_at dksX5_drawing_1 10 rfl rfl)
theorem dX5_drawing_33 : decode cX5_drawing 33 = .ok (.iconst 0, 1) := dk_3 (dk_at dksX5_drawing_1 11 rfl rfl)
theorem dX5_drawing_34 : decode cX5_drawing 34 = .ok (.iastore, 1) := dk_79 (dk_at dksX5_drawing_1 12 rfl rfl)
theorem dX5_drawing_35 : decode cX5_drawing 35 = .ok (.aload_n 0, 1) := dk_42 (dk_at dksX5_drawing_1 13 rfl rfl)
theorem dX5_drawing_36 : decode cX5_drawing 36 = .ok (.iconst 1, 1) := dk_4 (dk_at dksX5_drawing_1 14 rfl rfl)
theorem dX5_drawing_37 : decode cX5_drawing 37 = .ok (.iconst 1, 1) := dk_4 (dk_at dksX5_drawing_1 15 rfl rfl)
theorem dX5_drawing_38 : decode cX5_drawing 38 = .ok (.invokevirtual 431, 3) := dk_182 1 175 (dk_at dksX5_drawing_1 16 rfl rfl)
theorem dX5_drawing_41 : decode cX5_drawing 41 = .ok (.ireturn, 1) := dk_172 (dk_at dksX5_drawing_1 19 rfl rfl)
abbrev cX5_drawingOf : ByteArray := prog_10_method_123_code
def yX5_drawingOf : MethodName := ⟨RX5, "drawingOf", "(II)I"⟩
def dkwX5_drawingOf_3 : List UInt8 := [21, 5, 167, 0, 4, 29, 62, 132, 4, 1, 167, 255, 196, 29, 172]
abbrev dktX5_drawingOf_3 : List UInt8 := dkwX5_drawingOf_3 ++ []
def dkwX5_drawingOf_2 : List UInt8 := [27, 79, 42, 27, 4, 96, 28, 4, 21, 4, 120, 128, 182, 1, 175, 54, 5, 21, 5, 29, 162, 0, 8]
abbrev dktX5_drawingOf_2 : List UInt8 := dkwX5_drawingOf_2 ++ dktX5_drawingOf_3
def dkwX5_drawingOf_1 : List UInt8 := [182, 1, 26, 162, 0, 57, 28, 21, 4, 184, 1, 32, 153, 0, 6, 167, 0, 39, 42, 180, 0, 107, 21, 4]
abbrev dktX5_drawingOf_1 : List UInt8 := dkwX5_drawingOf_1 ++ dktX5_drawingOf_2
def dkwX5_drawingOf_0 : List UInt8 := [27, 42, 182, 1, 26, 160, 0, 8, 42, 182, 1, 172, 172, 18, 182, 62, 4, 54, 4, 21, 4, 42]
abbrev dktX5_drawingOf_0 : List UInt8 := dkwX5_drawingOf_0 ++ dktX5_drawingOf_1
theorem dksX5_drawingOf_0 : cX5_drawingOf.data.toList.drop 0 = dktX5_drawingOf_0 := by decide +kernel
theorem dksX5_drawingOf_1 : cX5_drawingOf.data.toList.drop 22 = dktX5_drawingOf_1 := dk_seg dksX5_drawingOf_0 22 rfl rfl
theorem dksX5_drawingOf_2 : cX5_drawingOf.data.toList.drop 46 = dktX5_drawingOf_2 := dk_seg dksX5_drawingOf_1 24 rfl rfl
theorem dksX5_drawingOf_3 : cX5_drawingOf.data.toList.drop 69 = dktX5_drawingOf_3 := dk_seg dksX5_drawingOf_2 23 rfl rfl
theorem dX5_drawingOf_0 : decode cX5_drawingOf 0 = .ok (.iload_n 1, 1) := dk_27 (dk_at dksX5_drawingOf_0 0 rfl rfl)
theorem dX5_drawingOf_1 : decode cX5_drawingOf 1 = .ok (.aload_n 0, 1) := dk_42 (dk_at dksX5_drawingOf_0 1 rfl rfl)
theorem dX5_drawingOf_2 : decode cX5_drawingOf 2 = .ok (.invokevirtual 282, 3) := dk_182 1 26 (dk_at dksX5_drawingOf_0 2 rfl rfl)
theorem dX5_drawingOf_5 : decode cX5_drawingOf 5 = .ok (.if_icmp .ne 8, 3) := dk_160 0 8 (dk_at dksX5_drawingOf_0 5 rfl rfl)
theorem dX5_drawingOf_8 : decode cX5_drawingOf 8 = .ok (.aload_n 0, 1) := dk_42 (dk_at dksX5_drawingOf_0 8 rfl rfl)
theorem dX5_drawingOf_9 : decode cX5_drawingOf 9 = .ok (.invokevirtual 428, 3) := dk_182 1 172 (dk_at dksX5_drawingOf_0 9 rfl rfl)
theorem dX5_drawingOf_12 : decode cX5_drawingOf 12 = .ok (.ireturn, 1) := dk_172 (dk_at dksX5_drawingOf_0 12 rfl rfl)
theorem dX5_drawingOf_13 : decode cX5_drawingOf 13 = .ok (.ldc 182, 2) := dk_18 182 (dk_at dksX5_drawingOf_0 13 rfl rfl)
theorem dX5_drawingOf_15 : decode cX5_drawingOf 15 = .ok (.istore_n 3, 1) := dk_62 (dk_at dksX5_drawingOf_0 15 rfl rfl)
theorem dX5_drawingOf_16 : decode cX5_drawingOf 16 = .ok (.iconst 1, 1) := dk_4 (dk_at dksX5_drawingOf_0 16 rfl rfl)
theorem dX5_drawingOf_17 : decode cX5_drawingOf 17 = .ok (.istore 4, 2) := dk_54 4 (dk_at dksX5_drawingOf_0 17 rfl rfl)
theorem dX5_drawingOf_19 : decode cX5_drawingOf 19 = .ok (.iload 4, 2) := dk_21 4 (dk_at dksX5_drawingOf_0 19 rfl rfl)
theorem dX5_drawingOf_21 : decode cX5_drawingOf 21 = .ok (.aload_n 0, 1) := dk_42 (dk_at dksX5_drawingOf_0 21 rfl rfl)
theorem dX5_drawingOf_22 : decode cX5_drawingOf 22 = .ok (.invokevirtual 282, 3) := dk_182 1 26 (dk_at dksX5_drawingOf_1 0 rfl rfl)
theorem dX5_drawingOf_25 : decode cX5_drawingOf 25 = .ok (.if_icmp .ge 57, 3) := dk_162 0 57 (dk_at dksX5_drawingOf_1 3 rfl rfl)
theorem dX5_drawingOf_28 : decode cX5_drawingOf 28 = .ok (.iload_n 2, 1) := dk_28 (dk_at dksX5_drawingOf_1 6 rfl rfl)
theorem dX5_drawingOf_29 : decode cX5_drawingOf 29 = .ok (.iload 4, 2) := dk_21 4 (dk_at dksX5_drawingOf_1 7 rfl rfl)
theorem dX5_drawingOf_31 : decode cX5_drawingOf 31 = .ok (.invokestatic 288, 3) := dk_184 1 32 (dk_at dksX5_drawingOf_1 9 rfl rfl)
theorem dX5_drawingOf_34 : decode cX5_drawingOf 34 = .ok (.ifCond .eq 6, 3) := dk_153 0 6 (dk_at dksX5_drawingOf_1 12 rfl rfl)
theorem dX5_drawingOf_37 : decode cX5_drawingOf 37 = .ok (.goto 39, 3) := dk_167 0 39 (dk_at dksX5_drawingOf_1 15 rfl rfl)
theorem dX5_drawingOf_40 : decode cX5_drawingOf 40 = .ok (.aload_n 0, 1) := dk_42 (dk_at dksX5_drawingOf_1 18 rfl rfl)
theorem dX5_drawingOf_41 : decode cX5_drawingOf 41 = .ok (.getfield 107, 3) := dk_180 0 107 (dk_at dksX5_drawingOf_1 19 rfl rfl)
theorem dX5_drawingOf_44 : decode cX5_drawingOf 44 = .ok (.iload 4, 2) := dk_21 4 (dk_at dksX5_drawingOf_1 22 rfl rfl)
theorem dX5_drawingOf_46 : decode cX5_drawingOf 46 = .ok (.iload_n 1, 1) := dk_27 (dk_at dksX5_drawingOf_2 0 rfl rfl)
theorem dX5_drawingOf_47 : decode cX5_drawingOf 47 = .ok (.iastore, 1) := dk_79 (dk_at dksX5_drawingOf_2 1 rfl rfl)
theorem dX5_drawingOf_48 : decode cX5_drawingOf 48 = .ok (.aload_n 0, 1) := dk_42 (dk_at dksX5_drawingOf_2 2 rfl rfl)
theorem dX5_drawingOf_49 : decode cX5_drawingOf 49 = .ok (.iload_n 1, 1) := dk_27 (dk_at dksX5_drawingOf_2 3 rfl rfl)
theorem dX5_drawingOf_50 : decode cX5_drawingOf 50 = .ok (.iconst 1, 1) := dk_4 (dk_at dksX5_drawingOf_2 4 rfl rfl)
theorem dX5_drawingOf_51 : decode cX5_drawingOf 51 = .ok (.iadd, 1) := dk_96 (dk_at dksX5_drawingOf_2 5 rfl rfl)
theorem dX5_drawingOf_52 : decode cX5_drawingOf 52 = .ok (.iload_n 2, 1) := dk_28 (dk_at dksX5_drawingOf_2 6 rfl rfl)
theorem dX5_drawingOf_53 : decode cX5_drawingOf 53 = .ok (.iconst 1, 1) := dk_4 (dk_at dksX5_drawingOf_2 7 rfl rfl)
theorem dX5_drawingOf_54 : decode cX5_drawingOf 54 = .ok (.iload 4, 2) := dk_21 4 (dk_at dksX5_drawingOf_2 8 rfl rfl)
theorem dX5_drawingOf_56 : decode cX5_drawingOf 56 = .ok (.ishl, 1) := dk_120 (dk_at dksX5_drawingOf_2 10 rfl rfl)
theorem dX5_drawingOf_57 : decode cX5_drawingOf 57 = .ok (.ior, 1) := dk_128 (dk_at dksX5_drawingOf_2 11 rfl rfl)
theorem dX5_drawingOf_58 : decode cX5_drawingOf 58 = .ok (.invokevirtual 431, 3) := dk_182 1 175 (dk_at dksX5_drawingOf_2 12 rfl rfl)
theorem dX5_drawingOf_61 : decode cX5_drawingOf 61 = .ok (.istore 5, 2) := dk_54 5 (dk_at dksX5_drawingOf_2 15 rfl rfl)
theorem dX5_drawingOf_63 : decode cX5_drawingOf 63 = .ok (.iload 5, 2) := dk_21 5 (dk_at dksX5_drawingOf_2 17 rfl rfl)
theorem dX5_drawingOf_65 : decode cX5_drawingOf 65 = .ok (.iload_n 3, 1) := dk_29 (dk_at dksX5_drawingOf_2 19 rfl rfl)
theorem dX5_drawingOf_66 : decode cX5_drawingOf 66 = .ok (.if_icmp .ge 8, 3) := dk_162 0 8 (dk_at dksX5_drawingOf_2 20 rfl rfl)
theorem dX5_drawingOf_69 : decode cX5_drawingOf 69 = .ok (.iload 5, 2) := dk_21 5 (dk_at dksX5_drawingOf_3 0 rfl rfl)
theorem dX5_drawingOf_71 : decode cX5_drawingOf 71 = .ok (.goto 4, 3) := dk_167 0 4 (dk_at dksX5_drawingOf_3 2 rfl rfl)
theorem dX5_drawingOf_74 : decode cX5_drawingOf 74 = .ok (.iload_n 3, 1) := dk_29 (dk_at dksX5_drawingOf_3 5 rfl rfl)
theorem dX5_drawingOf_75 : decode cX5_drawingOf 75 = .ok (.istore_n 3, 1) := dk_62 (dk_at dksX5_drawingOf_3 6 rfl rfl)
theorem dX5_drawingOf_76 : decode cX5_drawingOf 76 = .ok (.iinc 4 1, 3) := dk_132 4 1 (dk_at dksX5_drawingOf_3 7 rfl rfl)
theorem dX5_drawingOf_79 : decode cX5_drawingOf 79 = .ok (.goto (-60), 3) := dk_167 255 196 (dk_at dksX5_drawingOf_3 10 rfl rfl)
theorem dX5_drawingOf_82 : decode cX5_drawingOf 82 = .ok (.iload_n 3, 1) := dk_29 (dk_at dksX5_drawingOf_3 13 rfl rfl)
theorem dX5_drawingOf_83 : decode cX5_drawingOf 83 = .ok (.ireturn, 1) := dk_172 (dk_at dksX5_drawingOf_3 14 rfl rfl)
abbrev cX5_person : ByteArray := prog_10_method_126_code
def yX5_person : MethodName := ⟨RX5, "person", "(I)I"⟩
def dkwX5_person_1 : List UInt8 := [16, 254, 172]
abbrev dktX5_person_1 : List UInt8 := dkwX5_person_1 ++ []
def dkwX5_person_0 : List UInt8 := [42, 3, 181, 0, 131, 42, 27, 133, 182, 1, 178, 153, 0, 12, 42, 180, 0, 52, 27, 46, 167, 0, 5]
abbrev dktX5_person_0 : List UInt8 := dkwX5_person_0 ++ dktX5_person_1
theorem dksX5_person_0 : cX5_person.data.toList.drop 0 = dktX5_person_0 := by decide +kernel
theorem dksX5_person_1 : cX5_person.data.toList.drop 23 = dktX5_person_1 := dk_seg dksX5_person_0 23 rfl rfl
theorem dX5_person_0 : decode cX5_person 0 = .ok (.aload_n 0, 1) := dk_42 (dk_at dksX5_person_0 0 rfl rfl)
theorem dX5_person_1 : decode cX5_person 1 = .ok (.iconst 0, 1) := dk_3 (dk_at dksX5_person_0 1 rfl rfl)
theorem dX5_person_2 : decode cX5_person 2 = .ok (.putfield 131, 3) := dk_181 0 131 (dk_at dksX5_person_0 2 rfl rfl)
theorem dX5_person_5 : decode cX5_person 5 = .ok (.aload_n 0, 1) := dk_42 (dk_at dksX5_person_0 5 rfl rfl)
theorem dX5_person_6 : decode cX5_person 6 = .ok (.iload_n 1, 1) := dk_27 (dk_at dksX5_person_0 6 rfl rfl)
theorem dX5_person_7 : decode cX5_person 7 = .ok (.i2l, 1) := dk_133 (dk_at dksX5_person_0 7 rfl rfl)
theorem dX5_person_8 : decode cX5_person 8 = .ok (.invokevirtual 434, 3) := dk_182 1 178 (dk_at dksX5_person_0 8 rfl rfl)
theorem dX5_person_11 : decode cX5_person 11 = .ok (.ifCond .eq 12, 3) := dk_153 0 12 (dk_at dksX5_person_0 11 rfl rfl)
theorem dX5_person_14 : decode cX5_person 14 = .ok (.aload_n 0, 1) := dk_42 (dk_at dksX5_person_0 14 rfl rfl)
theorem dX5_person_15 : decode cX5_person 15 = .ok (.getfield 52, 3) := dk_180 0 52 (dk_at dksX5_person_0 15 rfl rfl)
theorem dX5_person_18 : decode cX5_person 18 = .ok (.iload_n 1, 1) := dk_27 (dk_at dksX5_person_0 18 rfl rfl)
theorem dX5_person_19 : decode cX5_person 19 = .ok (.iaload, 1) := dk_46 (dk_at dksX5_person_0 19 rfl rfl)
theorem dX5_person_20 : decode cX5_person 20 = .ok (.goto 5, 3) := dk_167 0 5 (dk_at dksX5_person_0 20 rfl rfl)
theorem dX5_person_23 : decode cX5_person 23 = .ok (.bipush (-2), 2) := dk_16 254 (dk_at dksX5_person_1 0 rfl rfl)
theorem dX5_person_25 : decode cX5_person 25 = .ok (.ireturn, 1) := dk_172 (dk_at dksX5_person_1 2 rfl rfl)
abbrev cX5_isPerson : ByteArray := prog_10_method_125_code
def yX5_isPerson : MethodName := ⟨RX5, "isPerson", "(J)Z"⟩
def dkwX5_isPerson_0 : List UInt8 := [31, 9, 42, 180, 0, 34, 4, 46, 133, 10, 101, 184, 0, 136, 172]
abbrev dktX5_isPerson_0 : List UInt8 := dkwX5_isPerson_0 ++ []
theorem dksX5_isPerson_0 : cX5_isPerson.data.toList.drop 0 = dktX5_isPerson_0 := by decide +kernel
theorem dX5_isPerson_0 : decode cX5_isPerson 0 = .ok (.lload_n 1, 1) := dk_31 (dk_at dksX5_isPerson_0 0 rfl rfl)
theorem dX5_isPerson_1 : decode cX5_isPerson 1 = .ok (.lconst 0, 1) := dk_9 (dk_at dksX5_isPerson_0 1 rfl rfl)
theorem dX5_isPerson_2 : decode cX5_isPerson 2 = .ok (.aload_n 0, 1) := dk_42 (dk_at dksX5_isPerson_0 2 rfl rfl)
theorem dX5_isPerson_3 : decode cX5_isPerson 3 = .ok (.getfield 34, 3) := dk_180 0 34 (dk_at dksX5_isPerson_0 3 rfl rfl)
theorem dX5_isPerson_6 : decode cX5_isPerson 6 = .ok (.iconst 1, 1) := dk_4 (dk_at dksX5_isPerson_0 6 rfl rfl)
theorem dX5_isPerson_7 : decode cX5_isPerson 7 = .ok (.iaload, 1) := dk_46 (dk_at dksX5_isPerson_0 7 rfl rfl)
theorem dX5_isPerson_8 : decode cX5_isPerson 8 = .ok (.i2l, 1) := dk_133 (dk_at dksX5_isPerson_0 8 rfl rfl)
theorem dX5_isPerson_9 : decode cX5_isPerson 9 = .ok (.lconst 1, 1) := dk_10 (dk_at dksX5_isPerson_0 9 rfl rfl)
theorem dX5_isPerson_10 : decode cX5_isPerson 10 = .ok (.lsub, 1) := dk_101 (dk_at dksX5_isPerson_0 10 rfl rfl)
theorem dX5_isPerson_11 : decode cX5_isPerson 11 = .ok (.invokestatic 136, 3) := dk_184 0 136 (dk_at dksX5_isPerson_0 11 rfl rfl)
theorem dX5_isPerson_14 : decode cX5_isPerson 14 = .ok (.ireturn, 1) := dk_172 (dk_at dksX5_isPerson_0 14 rfl rfl)
abbrev cX5_moves : ByteArray := prog_10_method_127_code
def yX5_moves : MethodName := ⟨RX5, "moves", "(II)I"⟩
def dkwX5_moves_1 : List UInt8 := [16, 254, 172, 42, 180, 0, 52, 27, 46, 62, 42, 180, 0, 52, 27, 28, 79, 29, 172]
abbrev dktX5_moves_1 : List UInt8 := dkwX5_moves_1 ++ []
def dkwX5_moves_0 : List UInt8 := [42, 3, 181, 0, 131, 42, 27, 133, 182, 1, 178, 153, 0, 12, 42, 28, 133, 182, 1, 29, 154, 0, 6]
abbrev dktX5_moves_0 : List UInt8 := dkwX5_moves_0 ++ dktX5_moves_1
theorem dksX5_moves_0 : cX5_moves.data.toList.drop 0 = dktX5_moves_0 := by decide +kernel
theorem dksX5_moves_1 : cX5_moves.data.toList.drop 23 = dktX5_moves_1 := dk_seg dksX5_moves_0 23 rfl rfl
theorem dX5_moves_0 : decode cX5_moves 0 = .ok (.aload_n 0, 1) := dk_42 (dk_at dksX5_moves_0 0 rfl rfl)
theorem dX5_moves_1 : decode cX5_moves 1 = .ok (.iconst 0, 1) := dk_3 (dk_at dksX5_moves_0 1 rfl rfl)
theorem dX5_moves_2 : decode cX5_moves 2 = .ok (.putfield 131, 3) := dk_181 0 131 (dk_at dksX5_moves_0 2 rfl rfl)
theorem dX5_moves_5 : decode cX5_moves 5 = .ok (.aload_n 0, 1) := dk_42 (dk_at dksX5_moves_0 5 rfl rfl)
theorem dX5_moves_6 : decode cX5_moves 6 = .ok (.iload_n 1, 1) := dk_27 (dk_at dksX5_moves_0 6 rfl rfl)
theorem dX5_moves_7 : decode cX5_moves 7 = .ok (.i2l, 1) := dk_133 (dk_at dksX5_moves_0 7 rfl rfl)
theorem dX5_moves_8 : decode cX5_moves 8 = .ok (.invokevirtual 434, 3) := dk_182 1 178 (dk_at dksX5_moves_0 8 rfl rfl)
theorem dX5_moves_11 : decode cX5_moves 11 = .ok (.ifCond .eq 12, 3) := dk_153 0 12 (dk_at dksX5_moves_0 11 rfl rfl)
theorem dX5_moves_14 : decode cX5_moves 14 = .ok (.aload_n 0, 1) := dk_42 (dk_at dksX5_moves_0 14 rfl rfl)
theorem dX5_moves_15 : decode cX5_moves 15 = .ok (.iload_n 2, 1) := dk_28 (dk_at dksX5_moves_0 15 rfl rfl)
theorem dX5_moves_16 : decode cX5_moves 16 = .ok (.i2l, 1) := dk_133 (dk_at dksX5_moves_0 16 rfl rfl)
theorem dX5_moves_17 : decode cX5_moves 17 = .ok (.invokevirtual 285, 3) := dk_182 1 29 (dk_at dksX5_moves_0 17 rfl rfl)
theorem dX5_moves_20 : decode cX5_moves 20 = .ok (.ifCond .ne 6, 3) := dk_154 0 6 (dk_at dksX5_moves_0 20 rfl rfl)
theorem dX5_moves_23 : decode cX5_moves 23 = .ok (.bipush (-2), 2) := dk_16 254 (dk_at dksX5_moves_1 0 rfl rfl)
theorem dX5_moves_25 : decode cX5_moves 25 = .ok (.ireturn, 1) := dk_172 (dk_at dksX5_moves_1 2 rfl rfl)
theorem dX5_moves_26 : decode cX5_moves 26 = .ok (.aload_n 0, 1) := dk_42 (dk_at dksX5_moves_1 3 rfl rfl)
theorem dX5_moves_27 : decode cX5_moves 27 = .ok (.getfield 52, 3) := dk_180 0 52 (dk_at dksX5_moves_1 4 rfl rfl)
theorem dX5_moves_30 : decode cX5_moves 30 = .ok (.iload_n 1, 1) := dk_27 (dk_at dksX5_moves_1 7 rfl rfl)
theorem dX5_moves_31 : decode cX5_moves 31 = .ok (.iaload, 1) := dk_46 (dk_at dksX5_moves_1 8 rfl rfl)
theorem dX5_moves_32 : decode cX5_moves 32 = .ok (.istore_n 3, 1) := dk_62 (dk_at dksX5_moves_1 9 rfl rfl)
theorem dX5_moves_33 : decode cX5_moves 33 = .ok (.aload_n 0, 1) := dk_42 (dk_at dksX5_moves_1 10 rfl rfl)
theorem dX5_moves_34 : decode cX5_moves 34 = .ok (.getfield 52, 3) := dk_180 0 52 (dk_at dksX5_moves_1 11 rfl rfl)
theorem dX5_moves_37 : decode cX5_moves 37 = .ok (.iload_n 1, 1) := dk_27 (dk_at dksX5_moves_1 14 rfl rfl)
theorem dX5_moves_38 : decode cX5_moves 38 = .ok (.iload_n 2, 1) := dk_28 (dk_at dksX5_moves_1 15 rfl rfl)
theorem dX5_moves_39 : decode cX5_moves 39 = .ok (.iastore, 1) := dk_79 (dk_at dksX5_moves_1 16 rfl rfl)
theorem dX5_moves_40 : decode cX5_moves 40 = .ok (.iload_n 3, 1) := dk_29 (dk_at dksX5_moves_1 17 rfl rfl)
theorem dX5_moves_41 : decode cX5_moves 41 = .ok (.ireturn, 1) := dk_172 (dk_at dksX5_moves_1 18 rfl rfl)
abbrev cX5_met : ByteArray := prog_10_method_131_code
def yX5_met : MethodName := ⟨RX5, "met", "(I)I"⟩
def dkwX5_met_1 : List UInt8 := [180, 1, 184, 172]
abbrev dktX5_met_1 : List UInt8 := dkwX5_met_1 ++ []
def dkwX5_met_0 : List UInt8 := [42, 3, 181, 0, 131, 42, 27, 182, 1, 187, 61, 28, 153, 0, 5, 28, 172, 42, 27, 182, 1, 190, 42]
abbrev dktX5_met_0 : List UInt8 := dkwX5_met_0 ++ dktX5_met_1
theorem dksX5_met_0 : cX5_met.data.toList.drop 0 = dktX5_met_0 := by decide +kernel
theorem dksX5_met_1 : cX5_met.data.toList.drop 23 = dktX5_met_1 := dk_seg dksX5_met_0 23 rfl rfl
theorem dX5_met_0 : decode cX5_met 0 = .ok (.aload_n 0, 1) := dk_42 (dk_at dksX5_met_0 0 rfl rfl)
theorem dX5_met_1 : decode cX5_met 1 = .ok (.iconst 0, 1) := dk_3 (dk_at dksX5_met_0 1 rfl rfl)
theorem dX5_met_2 : decode cX5_met 2 = .ok (.putfield 131, 3) := dk_181 0 131 (dk_at dksX5_met_0 2 rfl rfl)
theorem dX5_met_5 : decode cX5_met 5 = .ok (.aload_n 0, 1) := dk_42 (dk_at dksX5_met_0 5 rfl rfl)
theorem dX5_met_6 : decode cX5_met 6 = .ok (.iload_n 1, 1) := dk_27 (dk_at dksX5_met_0 6 rfl rfl)
theorem dX5_met_7 : decode cX5_met 7 = .ok (.invokevirtual 443, 3) := dk_182 1 187 (dk_at dksX5_met_0 7 rfl rfl)
theorem dX5_met_10 : decode cX5_met 10 = .ok (.istore_n 2, 1) := dk_61 (dk_at dksX5_met_0 10 rfl rfl)
theorem dX5_met_11 : decode cX5_met 11 = .ok (.iload_n 2, 1) := dk_28 (dk_at dksX5_met_0 11 rfl rfl)
theorem dX5_met_12 : decode cX5_met 12 = .ok (.ifCond .eq 5, 3) := dk_153 0 5 (dk_at dksX5_met_0 12 rfl rfl)
theorem dX5_met_15 : decode cX5_met 15 = .ok (.iload_n 2, 1) := dk_28 (dk_at dksX5_met_0 15 rfl rfl)
theorem dX5_met_16 : decode cX5_met 16 = .ok (.ireturn, 1) := dk_172 (dk_at dksX5_met_0 16 rfl rfl)
theorem dX5_met_17 : decode cX5_met 17 = .ok (.aload_n 0, 1) := dk_42 (dk_at dksX5_met_0 17 rfl rfl)
theorem dX5_met_18 : decode cX5_met 18 = .ok (.iload_n 1, 1) := dk_27 (dk_at dksX5_met_0 18 rfl rfl)
theorem dX5_met_19 : decode cX5_met 19 = .ok (.invokevirtual 446, 3) := dk_182 1 190 (dk_at dksX5_met_0 19 rfl rfl)
theorem dX5_met_22 : decode cX5_met 22 = .ok (.aload_n 0, 1) := dk_42 (dk_at dksX5_met_0 22 rfl rfl)
theorem dX5_met_23 : decode cX5_met 23 = .ok (.getfield 440, 3) := dk_180 1 184 (dk_at dksX5_met_1 0 rfl rfl)
theorem dX5_met_26 : decode cX5_met 26 = .ok (.ireturn, 1) := dk_172 (dk_at dksX5_met_1 3 rfl rfl)
abbrev cX5_whyNotMet : ByteArray := prog_10_method_128_code
def yX5_whyNotMet : MethodName := ⟨RX5, "whyNotMet", "(I)I"⟩
def dkwX5_whyNotMet_6 : List UInt8 := [3, 172]
abbrev dktX5_whyNotMet_6 : List UInt8 := dkwX5_whyNotMet_6 ++ []
def dkwX5_whyNotMet_5 : List UInt8 := [22, 5, 182, 1, 178, 153, 0, 10, 33, 22, 5, 148, 154, 0, 6, 16, 254, 172, 132, 2, 3, 167, 255, 189]
abbrev dktX5_whyNotMet_5 : List UInt8 := dkwX5_whyNotMet_5 ++ dktX5_whyNotMet_6
def dkwX5_whyNotMet_4 : List UInt8 := [180, 0, 16, 16, 60, 27, 104, 28, 96, 4, 96, 47, 55, 5, 42, 33, 182, 1, 178, 153, 0, 19, 42]
abbrev dktX5_whyNotMet_4 : List UInt8 := dkwX5_whyNotMet_4 ++ dktX5_whyNotMet_5
def dkwX5_whyNotMet_3 : List UInt8 := [42, 180, 0, 13, 27, 46, 162, 0, 63, 42, 180, 0, 16, 16, 60, 27, 104, 28, 96, 47, 66, 42]
abbrev dktX5_whyNotMet_3 : List UInt8 := dkwX5_whyNotMet_3 ++ dktX5_whyNotMet_4
def dkwX5_whyNotMet_2 : List UInt8 := [7, 164, 0, 6, 16, 247, 172, 42, 180, 0, 13, 27, 46, 6, 112, 153, 0, 6, 16, 254, 172, 3, 61, 28]
abbrev dktX5_whyNotMet_2 : List UInt8 := dkwX5_whyNotMet_2 ++ dktX5_whyNotMet_3
def dkwX5_whyNotMet_1 : List UInt8 := [46, 2, 160, 0, 6, 16, 250, 172, 42, 180, 0, 34, 3, 46, 8, 159, 0, 13, 42, 180, 0, 34, 4, 46]
abbrev dktX5_whyNotMet_1 : List UInt8 := dkwX5_whyNotMet_1 ++ dktX5_whyNotMet_2
def dkwX5_whyNotMet_0 : List UInt8 := [27, 184, 0, 140, 153, 0, 12, 42, 180, 0, 34, 4, 46, 154, 0, 6, 16, 254, 172, 42, 180, 0, 7, 27]
abbrev dktX5_whyNotMet_0 : List UInt8 := dkwX5_whyNotMet_0 ++ dktX5_whyNotMet_1
theorem dksX5_whyNotMet_0 : cX5_whyNotMet.data.toList.drop 0 = dktX5_whyNotMet_0 := by decide +kernel
theorem dksX5_whyNotMet_1 : cX5_whyNotMet.data.toList.drop 24 = dktX5_whyNotMet_1 := dk_seg dksX5_whyNotMet_0 24 rfl rfl
theorem dksX5_whyNotMet_2 : cX5_whyNotMet.data.toList.drop 48 = dktX5_whyNotMet_2 := dk_seg dksX5_whyNotMet_1 24 rfl rfl
theorem dksX5_whyNotMet_3 : cX5_whyNotMet.data.toList.drop 72 = dktX5_whyNotMet_3 := dk_seg dksX5_whyNotMet_2 24 rfl rfl
theorem dksX5_whyNotMet_4 : cX5_whyNotMet.data.toList.drop 94 = dktX5_whyNotMet_4 := dk_seg dksX5_whyNotMet_3 22 rfl rfl
theorem dksX5_whyNotMet_5 : cX5_whyNotMet.data.toList.drop 117 = dktX5_whyNotMet_5 := dk_seg dksX5_whyNotMet_4 23 rfl rfl
theorem dksX5_whyNotMet_6 : cX5_whyNotMet.data.toList.drop 141 = dktX5_whyNotMet_6 := dk_seg dksX5_whyNotMet_5 24 rfl rfl
theorem dX5_whyNotMet_0 : decode cX5_whyNotMet 0 = .ok (.iload_n 1, 1) := dk_27 (dk_at dksX5_whyNotMet_0 0 rfl rfl)
theorem dX5_whyNotMet_1 : decode cX5_whyNotMet 1 = .ok (.invokestatic 140, 3) := dk_184 0 140 (dk_at dksX5_whyNotMet_0 1 rfl rfl)
theorem dX5_whyNotMet_4 : decode cX5_whyNotMet 4 = .ok (.ifCond .eq 12, 3) := dk_153 0 12 (dk_at dksX5_whyNotMet_0 4 rfl rfl)
theorem dX5_whyNotMet_7 : decode cX5_whyNotMet 7 = .ok (.aload_n 0, 1) := dk_42 (dk_at dksX5_whyNotMet_0 7 rfl rfl)
theorem dX5_whyNotMet_8 : decode cX5_whyNotMet 8 = .ok (.getfield 34, 3) := dk_180 0 34 (dk_at dksX5_whyNotMet_0 8 rfl rfl)
theorem dX5_whyNotMet_11 : decode cX5_whyNotMet 11 = .ok (.iconst 1, 1) := dk_4 (dk_at dksX5_whyNotMet_0 11 rfl rfl)
theorem dX5_whyNotMet_12 : decode cX5_whyNotMet 12 = .ok (.iaload, 1) := dk_46 (dk_at dksX5_whyNotMet_0 12 rfl rfl)
theorem dX5_whyNotMet_13 : decode cX5_whyNotMet 13 = .ok (.ifCond .ne 6, 3) := dk_154 0 6 (dk_at dksX5_whyNotMet_0 13 rfl rfl)
theorem dX5_whyNotMet_16 : decode cX5_whyNotMet 16 = .ok (.bipush (-2), 2) := dk_16 254 (dk_at dksX5_whyNotMet_0 16 rfl rfl)
theorem dX5_whyNotMet_18 : decode cX5_whyNotMet 18 = .ok (.ireturn, 1) := dk_172 (dk_at dksX5_whyNotMet_0 18 rfl rfl)
theorem dX5_whyNotMet_19 : decode cX5_whyNotMet 19 = .ok (.aload_n 0, 1) := dk_42 (dk_at dksX5_whyNotMet_0 19 rfl rfl)
theorem dX5_whyNotMet_20 : decode cX5_whyNotMet 20 = .ok (.getfield 7, 3) := dk_180 0 7 (dk_at dksX5_whyNotMet_0 20 rfl rfl)
theorem dX5_whyNotMet_23 : decode cX5_whyNotMet 23 = .ok (.iload_n 1, 1) := dk_27 (dk_at dksX5_whyNotMet_0 23 rfl rfl)
theorem dX5_whyNotMet_24 : decode cX5_whyNotMet 24 = .ok (.iaload, 1) := dk_46 (dk_at dksX5_whyNotMet_1 0 rfl rfl)
theorem dX5_whyNotMet_25 : decode cX5_whyNotMet 25 = .ok (.iconst (-1), 1) := dk_2 (dk_at dksX5_whyNotMet_1 1 rfl rfl)
theorem dX5_whyNotMet_26 : decode cX5_whyNotMet 26 = .ok (.if_icmp .ne 6, 3) := dk_160 0 6 (dk_at dksX5_whyNotMet_1 2 rfl rfl)
theorem dX5_whyNotMet_29 : decode cX5_whyNotMet 29 = .ok (.bipush (-6), 2) := dk_16 250 (dk_at dksX5_whyNotMet_1 5 rfl rfl)
theorem dX5_whyNotMet_31 : decode cX5_whyNotMet 31 = .ok (.ireturn, 1) := dk_172 (dk_at dksX5_whyNotMet_1 7 rfl rfl)
theorem dX5_whyNotMet_32 : decode cX5_whyNotMet 32 = .ok (.aload_n 0, 1) := dk_42 (dk_at dksX5_whyNotMet_1 8 rfl rfl)
theorem dX5_whyNotMet_33 : decode cX5_whyNotMet 33 = .ok (.getfield 34, 3) := dk_180 0 34 (dk_at dksX5_whyNotMet_1 9 rfl rfl)
theorem dX5_whyNotMet_36 : decode cX5_whyNotMet 36 = .ok (.iconst 0, 1) := dk_3 (dk_at dksX5_whyNotMet_1 12 rfl rfl)
theorem dX5_whyNotMet_37 : decode cX5_whyNotMet 37 = .ok (.iaload, 1) := dk_46 (dk_at dksX5_whyNotMet_1 13 rfl rfl)
theorem dX5_whyNotMet_38 : decode cX5_whyNotMet 38 = .ok (.iconst 5, 1) := dk_8 (dk_at dksX5_whyNotMet_1 14 rfl rfl)
theorem dX5_whyNotMet_39 : decode cX5_whyNotMet 39 = .ok (.if_icmp .eq 13, 3) := dk_159 0 13 (dk_at dksX5_whyNotMet_1 15 rfl rfl)
theorem dX5_whyNotMet_42 : decode cX5_whyNotMet 42 = .ok (.aload_n 0, 1) := dk_42 (dk_at dksX5_whyNotMet_1 18 rfl rfl)
theorem dX5_whyNotMet_43 : decode cX5_whyNotMet 43 = .ok (.getfield 34, 3) := dk_180 0 34 (dk_at dksX5_whyNotMet_1 19 rfl rfl)
theorem dX5_whyNotMet_46 : decode cX5_whyNotMet 46 = .ok (.iconst 1, 1) := dk_4 (dk_at dksX5_whyNotMet_1 22 rfl rfl)
theorem dX5_whyNotMet_47 : decode cX5_whyNotMet 47 = .ok (.iaload, 1) := dk_46 (dk_at dksX5_whyNotMet_1 23 rfl rfl)
theorem dX5_whyNotMet_48 : decode cX5_whyNotMet 48 = .ok (.iconst 4, 1) := dk_7 (dk_at dksX5_whyNotMet_2 0 rfl rfl)
theorem dX5_whyNotMet_49 : decode cX5_whyNotMet 49 = .ok (.if_icmp .le 6, 3) := dk_164 0 6 (dk_at dksX5_whyNotMet_2 1 rfl rfl)
theorem dX5_whyNotMet_52 : decode cX5_whyNotMet 52 = .ok (.bipush (-9), 2) := dk_16 247 (dk_at dksX5_whyNotMet_2 4 rfl rfl)
theorem dX5_whyNotMet_54 : decode cX5_whyNotMet 54 = .ok (.ireturn, 1) := dk_172 (dk_at dksX5_whyNotMet_2 6 rfl rfl)
theorem dX5_whyNotMet_55 : decode cX5_whyNotMet 55 = .ok (.aload_n 0, 1) := dk_42 (dk_at dksX5_whyNotMet_2 7 rfl rfl)
theorem dX5_whyNotMet_56 : decode cX5_whyNotMet 56 = .ok (.getfield 13, 3) := dk_180 0 13 (dk_at dksX5_whyNotMet_2 8 rfl rfl)
theorem dX5_whyNotMet_59 : decode cX5_whyNotMet 59 = .ok (.iload_n 1, 1) := dk_27 (dk_at dksX5_whyNotMet_2 11 rfl rfl)
theorem dX5_whyNotMet_60 : decode cX5_whyNotMet 60 = .ok (.iaload, 1) := dk_46 (dk_at dksX5_whyNotMet_2 12 rfl rfl)
theorem dX5_whyNotMet_61 : decode cX5_whyNotMet 61 = .ok (.iconst 3, 1) := dk_6 (dk_at dksX5_whyNotMet_2 13 rfl rfl)
theorem dX5_whyNotMet_62 : decode cX5_whyNotMet 62 = .ok (.irem, 1) := dk_112 (dk_at dksX5_whyNotMet_2 14 rfl rfl)
theorem dX5_whyNotMet_63 : decode cX5_whyNotMet 63 = .ok (.ifCond .eq 6, 3) := dk_153 0 6 (dk_at dksX5_whyNotMet_2 15 rfl rfl)
theorem dX5_whyNotMet_66 : decode cX5_whyNotMet 66 = .ok (.bipush (-2), 2) := dk_16 254 (dk_at dksX5_whyNotMet_2 18 rfl rfl)
theorem dX5_whyNotMet_68 : decode cX5_whyNotMet 68 = .ok (.ireturn, 1) := dk_172 (dk_at dksX5_whyNotMet_2 20 rfl rfl)
theorem dX5_whyNotMet_69 : decode cX5_whyNotMet 69 = .ok (.iconst 0, 1) := dk_3 (dk_at dksX5_whyNotMet_2 21 rfl rfl)
theorem dX5_whyNotMet_70 : decode cX5_whyNotMet 70 = .ok (.istore_n 2, 1) := dk_61 (dk_at dksX5_whyNotMet_2 22 rfl rfl)
theorem dX5_whyNotMet_71 : decode cX5_whyNotMet 71 = .ok (.iload_n 2, 1) := dk_28 (dk_at dksX5_whyNotMet_2 23 rfl rfl)
theorem dX5_whyNotMet_72 : decode cX5_whyNotMet 72 = .ok (.aload_n 0, 1) := dk_42 (dk_at dksX5_whyNotMet_3 0 rfl rfl)
theorem dX5_whyNotMet_73 : decode cX5_whyNotMet 73 = .ok (.getfield 13, 3) := dk_180 0 13 (dk_at dksX5_whyNotMet_3 1 rfl rfl)
theorem dX5_whyNotMet_76 : decode cX5_whyNotMet 76 = .ok (.iload_n 1, 1) := dk_27 (dk_at dksX5_whyNotMet_3 4 rfl rfl)
theorem dX5_whyNotMet_77 : decode cX5_whyNotMet 77 = .ok (.iaload, 1) := dk_46 (dk_at dksX5_whyNotMet_3 5 rfl rfl)
theorem dX5_whyNotMet_78 : decode cX5_whyNotMet 78 = .ok (.if_icmp .ge 63, 3) := dk_162 0 63 (dk_at dksX5_whyNotMet_3 6 rfl rfl)
theorem dX5_whyNotMet_81 : decode cX5_whyNotMet 81 = .ok (.aload_n 0, 1) := dk_42 (dk_at dksX5_whyNotMet_3 9 rfl rfl)
theorem dX5_whyNotMet_82 : decode cX5_whyNotMet 82 = .ok (.getfield 16, 3) := dk_180 0 16 (dk_at dksX5_whyNotMet_3 10 rfl rfl)
theorem dX5_whyNotMet_85 : decode cX5_whyNotMet 85 = .ok (.bipush 60, 2) := dk_16 60 (dk_at dksX5_whyNotMet_3 13 rfl rfl)
theorem dX5_whyNotMet_87 : decode cX5_whyNotMet 87 = .ok (.iload_n 1, 1) := dk_27 (dk_at dksX5_whyNotMet_3 15 rfl rfl)
theorem dX5_whyNotMet_88 : decode cX5_whyNotMet 88 = .ok (.imul, 1) := dk_104 (dk_at dksX5_whyNotMet_3 16 rfl rfl)
theorem dX5_whyNotMet_89 : decode cX5_whyNotMet 89 = .ok (.iload_n 2, 1) := dk_28 (dk_at dksX5_whyNotMet_3 17 rfl rfl)
theorem dX5_whyNotMet_90 : decode cX5_whyNotMet 90 = .ok (.iadd, 1) := dk_96 (dk_at dksX5_whyNotMet_3 18 rfl rfl)
theorem dX5_whyNotMet_91 : decode cX5_whyNotMet 91 = .ok (.laload, 1) := dk_47 (dk_at dksX5_whyNotMet_3 19 rfl rfl)
theorem dX5_whyNotMet_92 : decode cX5_whyNotMet 92 = .ok (.lstore_n 3, 1) := dk_66 (dk_at dksX5_whyNotMet_3 20 rfl rfl)
theorem dX5_whyNotMet_93 : decode cX5_whyNotMet 93 = .ok (.aload_n 0, 1) := dk_42 (dk_at dksX5_whyNotMet_3 21 rfl rfl)
theorem dX5_whyNotMet_94 : decode cX5_whyNotMet 94 = .ok (.getfield 16, 3) := dk_180 0 16 (dk_at dksX5_whyNotMet_4 0 rfl rfl)
theorem dX5_whyNotMet_97 : decode cX5_whyNotMet 97 = .ok (.bipush 60, 2) := dk_16 60 (dk_at dksX5_whyNotMet_4 3 rfl rfl)
theorem dX5_whyNotMet_99 : decode cX5_whyNotMet 99 = .ok (.iload_n 1, 1) := dk_27 (dk_at dksX5_whyNotMet_4 5 rfl rfl)
theorem dX5_whyNotMet_100 : decode cX5_whyNotMet 100 = .ok (.imul, 1) := dk_104 (dk_at dksX5_whyNotMet_4 6 rfl rfl)
theorem dX5_whyNotMet_101 : decode cX5_whyNotMet 101 = .ok (.iload_n 2, 1) := dk_28 (dk_at dksX5_whyNotMet_4 7 rfl rfl)
theorem dX5_whyNotMet_102 : decode cX5_whyNotMet 102 = .ok (.iadd, 1) := dk_96 (dk_at dksX5_whyNotMet_4 8 rfl rfl)
theorem dX5_whyNotMet_103 : decode cX5_whyNotMet 103 = .ok (.iconst 1, 1) := dk_4 (dk_at dksX5_whyNotMet_4 9 rfl rfl)
theorem dX5_whyNotMet_104 : decode cX5_whyNotMet 104 = .ok (.iadd, 1) := dk_96 (dk_at dksX5_whyNotMet_4 10 rfl rfl)
theorem dX5_whyNotMet_105 : decode cX5_whyNotMet 105 = .ok (.laload, 1) := dk_47 (dk_at dksX5_whyNotMet_4 11 rfl rfl)
theorem dX5_whyNotMet_106 : decode cX5_whyNotMet 106 = .ok (.lstore 5, 2) := dk_55 5 (dk_at dksX5_whyNotMet_4 12 rfl rfl)
theorem dX5_whyNotMet_108 : decode cX5_whyNotMet 108 = .ok (.aload_n 0, 1) := dk_42 (dk_at dksX5_whyNotMet_4 14 rfl rfl)
theorem dX5_whyNotMet_109 : decode cX5_whyNotMet 109 = .ok (.lload_n 3, 1) := dk_33 (dk_at dksX5_whyNotMet_4 15 rfl rfl)
theorem dX5_whyNotMet_110 : decode cX5_whyNotMet 110 = .ok (.invokevirtual 434, 3) := dk_182 1 178 (dk_at dksX5_whyNotMet_4 16 rfl rfl)
theorem dX5_whyNotMet_113 : decode cX5_whyNotMet 113 = .ok (.ifCond .eq 19, 3) := dk_153 0 19 (dk_at dksX5_whyNotMet_4 19 rfl rfl)
theorem dX5_whyNotMet_116 : decode cX5_whyNotMet 116 = .ok (.aload_n 0, 1) := dk_42 (dk_at dksX5_whyNotMet_4 22 rfl rfl)
theorem dX5_whyNotMet_117 : decode cX5_whyNotMet 117 = .ok (.lload 5, 2) := dk_22 5 (dk_at dksX5_whyNotMet_5 0 rfl rfl)
theorem dX5_whyNotMet_119 : decode cX5_whyNotMet 119 = .ok (.invokevirtual 434, 3) := dk_182 1 178 (dk_at dksX5_whyNotMet_5 2 rfl rfl)
theorem dX5_whyNotMet_122 : decode cX5_whyNotMet 122 = .ok (.ifCond .eq 10, 3) := dk_153 0 10 (dk_at dksX5_whyNotMet_5 5 rfl rfl)
theorem dX5_whyNotMet_125 : decode cX5_whyNotMet 125 = .ok (.lload_n 3, 1) := dk_33 (dk_at dksX5_whyNotMet_5 8 rfl rfl)
theorem dX5_whyNotMet_126 : decode cX5_whyNotMet 126 = .ok (.lload 5, 2) := dk_22 5 (dk_at dksX5_whyNotMet_5 9 rfl rfl)
theorem dX5_whyNotMet_128 : decode cX5_whyNotMet 128 = .ok (.lcmp, 1) := dk_148 (dk_at dksX5_whyNotMet_5 11 rfl rfl)
theorem dX5_whyNotMet_129 : decode cX5_whyNotMet 129 = .ok (.ifCond .ne 6, 3) := dk_154 0 6 (dk_at dksX5_whyNotMet_5 12 rfl rfl)
theorem dX5_whyNotMet_132 : decode cX5_whyNotMet 132 = .ok (.bipush (-2), 2) := dk_16 254 (dk_at dksX5_whyNotMet_5 15 rfl rfl)
theorem dX5_whyNotMet_134 : decode cX5_whyNotMet 134 = .ok (.ireturn, 1) := dk_172 (dk_at dksX5_whyNotMet_5 17 rfl rfl)
theorem dX5_whyNotMet_135 : decode cX5_whyNotMet 135 = .ok (.iinc 2 3, 3) := dk_132 2 3 (dk_at dksX5_whyNotMet_5 18 rfl rfl)
theorem dX5_whyNotMet_138 : decode cX5_whyNotMet 138 = .ok (.goto (-67), 3) := dk_167 255 189 (dk_at dksX5_whyNotMet_5 21 rfl rfl)
theorem dX5_whyNotMet_141 : decode cX5_whyNotMet 141 = .ok (.iconst 0, 1) := dk_3 (dk_at dksX5_whyNotMet_6 0 rfl rfl)
theorem dX5_whyNotMet_142 : decode cX5_whyNotMet 142 = .ok (.ireturn, 1) := dk_172 (dk_at dksX5_whyNotMet_6 1 rfl rfl)
abbrev cX5_meets : ByteArray := prog_10_method_130_code
def yX5_meets : MethodName := ⟨RX5, "meets", "(I)V"⟩
def dkwX5_meets_0 : List UInt8 := [42, 3, 181, 1, 184, 42, 180, 0, 116, 3, 42, 180, 0, 52, 3, 46, 79, 42, 27, 4, 182, 1, 181, 177]
abbrev dktX5_meets_0 : List UInt8 := dkwX5_meets_0 ++ []
theorem dksX5_meets_0 : cX5_meets.data.toList.drop 0 = dktX5_meets_0 := by decide +kernel
theorem dX5_meets_0 : decode cX5_meets 0 = .ok (.aload_n 0, 1) := dk_42 (dk_at dksX5_meets_0 0 rfl rfl)
theorem dX5_meets_1 : decode cX5_meets 1 = .ok (.iconst 0, 1) := dk_3 (dk_at dksX5_meets_0 1 rfl rfl)
theorem dX5_meets_2 : decode cX5_meets 2 = .ok (.putfield 440, 3) := dk_181 1 184 (dk_at dksX5_meets_0 2 rfl rfl)
theorem dX5_meets_5 : decode cX5_meets 5 = .ok (.aload_n 0, 1) := dk_42 (dk_at dksX5_meets_0 5 rfl rfl)
theorem dX5_meets_6 : decode cX5_meets 6 = .ok (.getfield 116, 3) := dk_180 0 116 (dk_at dksX5_meets_0 6 rfl rfl)
theorem dX5_meets_9 : decode cX5_meets 9 = .ok (.iconst 0, 1) := dk_3 (dk_at dksX5_meets_0 9 rfl rfl)
theorem dX5_meets_10 : decode cX5_meets 10 = .ok (.aload_n 0, 1) := dk_42 (dk_at dksX5_meets_0 10 rfl rfl)
theorem dX5_meets_11 : decode cX5_meets 11 = .ok (.getfield 52, 3) := dk_180 0 52 (dk_at dksX5_meets_0 11 rfl rfl)
theorem dX5_meets_14 : decode cX5_meets 14 = .ok (.iconst 0, 1) := dk_3 (dk_at dksX5_meets_0 14 rfl rfl)
theorem dX5_meets_15 : decode cX5_meets 15 = .ok (.iaload, 1) := dk_46 (dk_at dksX5_meets_0 15 rfl rfl)
theorem dX5_meets_16 : decode cX5_meets 16 = .ok (.iastore, 1) := dk_79 (dk_at dksX5_meets_0 16 rfl rfl)
theorem dX5_meets_17 : decode cX5_meets 17 = .ok (.aload_n 0, 1) := dk_42 (dk_at dksX5_meets_0 17 rfl rfl)
theorem dX5_meets_18 : decode cX5_meets 18 = .ok (.iload_n 1, 1) := dk_27 (dk_at dksX5_meets_0 18 rfl rfl)
theorem dX5_meets_19 : decode cX5_meets 19 = .ok (.iconst 1, 1) := dk_4 (dk_at dksX5_meets_0 19 rfl rfl)
theorem dX5_meets_20 : decode cX5_meets 20 = .ok (.invokevirtual 437, 3) := dk_182 1 181 (dk_at dksX5_meets_0 20 rfl rfl)
theorem dX5_meets_23 : decode cX5_meets 23 = .ok (.return_, 1) := dk_177 (dk_at dksX5_meets_0 23 rfl rfl)
abbrev cX5_stand : ByteArray := prog_10_method_129_code
def yX5_stand : MethodName := ⟨RX5, "stand", "(II)V"⟩
def dkwX5_stand_7 : List UInt8 := [167, 255, 205, 42, 89, 180, 1, 184, 4, 96, 181, 1, 184, 177]
abbrev dktX5_stand_7 : List UInt8 := dkwX5_stand_7 ++ []
def dkwX5_stand_6 : List UInt8 := [180, 0, 116, 29, 46, 160, 0, 12, 42, 180, 0, 116, 29, 46, 167, 0, 4, 2, 79, 132, 3, 1]
abbrev dktX5_stand_6 : List UInt8 := dkwX5_stand_6 ++ dktX5_stand_7
def dkwX5_stand_5 : List UInt8 := [162, 0, 47, 42, 180, 0, 119, 29, 42, 180, 1, 184, 153, 0, 18, 42, 180, 0, 119, 29, 46, 42]
abbrev dktX5_stand_5 : List UInt8 := dkwX5_stand_5 ++ dktX5_stand_6
def dkwX5_stand_4 : List UInt8 := [96, 47, 148, 153, 0, 4, 177, 132, 3, 3, 167, 255, 196, 3, 62, 29, 42, 180, 0, 34, 4, 46]
abbrev dktX5_stand_4 : List UInt8 := dkwX5_stand_4 ++ dktX5_stand_5
def dkwX5_stand_3 : List UInt8 := [27, 29, 4, 96, 182, 1, 162, 46, 130, 184, 1, 46, 133, 42, 180, 0, 16, 16, 60, 27, 104, 29, 96, 5]
abbrev dktX5_stand_3 : List UInt8 := dkwX5_stand_3 ++ dktX5_stand_4
def dkwX5_stand_2 : List UInt8 := [180, 0, 13, 27, 46, 162, 0, 56, 42, 180, 0, 116, 42, 27, 29, 182, 1, 162, 46, 42, 180, 0, 116, 42]
abbrev dktX5_stand_2 : List UInt8 := dkwX5_stand_2 ++ dktX5_stand_3
def dkwX5_stand_1 : List UInt8 := [28, 29, 79, 42, 27, 28, 4, 96, 182, 1, 181, 132, 3, 1, 167, 255, 230, 177, 3, 62, 29, 42]
abbrev dktX5_stand_1 : List UInt8 := dkwX5_stand_1 ++ dktX5_stand_2
def dkwX5_stand_0 : List UInt8 := [28, 42, 180, 0, 34, 4, 46, 162, 0, 35, 3, 62, 29, 42, 182, 1, 26, 162, 0, 24, 42, 180, 0, 116]
abbrev dktX5_stand_0 : List UInt8 := dkwX5_stand_0 ++ dktX5_stand_1
theorem dksX5_stand_0 : cX5_stand.data.toList.drop 0 = dktX5_stand_0 := by decide +kernel
theorem dksX5_stand_1 : cX5_stand.data.toList.drop 24 = dktX5_stand_1 := dk_seg dksX5_stand_0 24 rfl rfl
theorem dksX5_stand_2 : cX5_stand.data.toList.drop 46 = dktX5_stand_2 := dk_seg dksX5_stand_1 22 rfl rfl
theorem dksX5_stand_3 : cX5_stand.data.toList.drop 70 = dktX5_stand_3 := dk_seg dksX5_stand_2 24 rfl rfl
theorem dksX5_stand_4 : cX5_stand.data.toList.drop 94 = dktX5_stand_4 := dk_seg dksX5_stand_3 24 rfl rfl
theorem dksX5_stand_5 : cX5_stand.data.toList.drop 116 = dktX5_stand_5 := dk_seg dksX5_stand_4 22 rfl rfl
theorem dksX5_stand_6 : cX5_stand.data.toList.drop 138 = dktX5_stand_6 := dk_seg dksX5_stand_5 22 rfl rfl
theorem dksX5_stand_7 : cX5_stand.data.toList.drop 160 = dktX5_stand_7 := dk_seg dksX5_stand_6 22 rfl rfl
theorem dX5_stand_0 : decode cX5_stand 0 = .ok (.iload_n 2, 1) := dk_28 (dk_at dksX5_stand_0 0 rfl rfl)
theorem dX5_stand_1 : decode cX5_stand 1 = .ok (.aload_n 0, 1) := dk_42 (dk_at dksX5_stand_0 1 rfl rfl)
theorem dX5_stand_2 : decode cX5_stand 2 = .ok (.getfield 34, 3) := dk_180 0 34 (dk_at dksX5_stand_0 2 rfl rfl)
theorem dX5_stand_5 : decode cX5_stand 5 = .ok (.iconst 1, 1) := dk_4 (dk_at dksX5_stand_0 5 rfl rfl)
theorem dX5_stand_6 : decode cX5_stand 6 = .ok (.iaload, 1) := dk_46 (dk_at dksX5_stand_0 6 rfl rfl)
theorem dX5_stand_7 : decode cX5_stand 7 = .ok (.if_icmp .ge 35, 3) := dk_162 0 35 (dk_at dksX5_stand_0 7 rfl rfl)
theorem dX5_stand_10 : decode cX5_stand 10 = .ok (.iconst 0, 1) := dk_3 (dk_at dksX5_stand_0 10 rfl rfl)
theorem dX5_stand_11 : decode cX5_stand 11 = .ok (.istore_n 3, 1) := dk_62 (dk_at dksX5_stand_0 11 rfl rfl)
theorem dX5_stand_12 : decode cX5_stand 12 = .ok (.iload_n 3, 1) := dk_29 (dk_at dksX5_stand_0 12 rfl rfl)
theorem dX5_stand_13 : decode cX5_stand 13 = .ok (.aload_n 0, 1) := dk_42 (dk_at dksX5_stand_0 13 rfl rfl)
theorem dX5_stand_14 : decode cX5_stand 14 = .ok (.invokevirtual 282, 3) := dk_182 1 26 (dk_at dksX5_stand_0 14 rfl rfl)
theorem dX5_stand_17 : decode cX5_stand 17 = .ok (.if_icmp .ge 24, 3) := dk_162 0 24 (dk_at dksX5_stand_0 17 rfl rfl)
theorem dX5_stand_20 : decode cX5_stand 20 = .ok (.aload_n 0, 1) := dk_42 (dk_at dksX5_stand_0 20 rfl rfl)
theorem dX5_stand_21 : decode cX5_stand 21 = .ok (.getfield 116, 3) := dk_180 0 116 (dk_at dksX5_stand_0 21 rfl rfl)
theorem dX5_stand_24 : decode cX5_stand 24 = .ok (.iload_n 2, 1) := dk_28 (dk_at dksX5_stand_1 0 rfl rfl)
theorem dX5_stand_25 : decode cX5_stand 25 = .ok (.iload_n 3, 1) := dk_29 (dk_at dksX5_stand_1 1 rfl rfl)
theorem dX5_stand_26 : decode cX5_stand 26 = .ok (.iastore, 1) := dk_79 (dk_at dksX5_stand_1 2 rfl rfl)
theorem dX5_stand_27 : decode cX5_stand 27 = .ok (.aload_n 0, 1) := dk_42 (dk_at dksX5_stand_1 3 rfl rfl)
theorem dX5_stand_28 : decode cX5_stand 28 = .ok (.iload_n 1, 1) := dk_27 (dk_at dksX5_stand_1 4 rfl rfl)
theorem dX5_stand_29 : decode cX5_stand 29 = .ok (.iload_n 2, 1) := dk_28 (dk_at dksX5_stand_1 5 rfl rfl)
theorem dX5_stand_30 : decode cX5_stand 30 = .ok (.iconst 1, 1) := dk_4 (dk_at dksX5_stand_1 6 rfl rfl)
theorem dX5_stand_31 : decode cX5_stand 31 = .ok (.iadd, 1) := dk_96 (dk_at dksX5_stand_1 7 rfl rfl)
theorem dX5_stand_32 : decode cX5_stand 32 = .ok (.invokevirtual 437, 3) := dk_182 1 181 (dk_at dksX5_stand_1 8 rfl rfl)
theorem dX5_stand_35 : decode cX5_stand 35 = .ok (.iinc 3 1, 3) := dk_132 3 1 (dk_at dksX5_stand_1 11 rfl rfl)
theorem dX5_stand_38 : decode cX5_stand 38 = .ok (.goto (-26), 3) := dk_167 255 230 (dk_at dksX5_stand_1 14 rfl rfl)
theorem dX5_stand_41 : decode cX5_stand 41 = .ok (.return_, 1) := dk_177 (dk_at dksX5_stand_1 17 rfl rfl)
theorem dX5_stand_42 : decode cX5_stand 42 = .ok (.iconst 0, 1) := dk_3 (dk_at dksX5_stand_1 18 rfl rfl)
theorem dX5_stand_43 : decode cX5_stand 43 = .ok (.istore_n 3, 1) := dk_62 (dk_at dksX5_stand_1 19 rfl rfl)
theorem dX5_stand_44 : decode cX5_stand 44 = .ok (.iload_n 3, 1) := dk_29 (dk_at dksX5_stand_1 20 rfl rfl)
theorem dX5_stand_45 : decode cX5_stand 45 = .ok (.aload_n 0, 1) := dk_42 (dk_at dksX5_stand_1 21 rfl rfl)
theorem dX5_stand_46 : decode cX5_stand 46 = .ok (.getfield 13, 3) := dk_180 0 13 (dk_at dksX5_stand_2 0 rfl rfl)
theorem dX5_stand_49 : decode cX5_stand 49 = .ok (.iload_n 1, 1) := dk_27 (dk_at dksX5_stand_2 3 rfl rfl)
theorem dX5_stand_50 : decode cX5_stand 50 = .ok (.iaload, 1) := dk_46 (dk_at dksX5_stand_2 4 rfl rfl)
theorem dX5_stand_51 : decode cX5_stand 51 = .ok (.if_icmp .ge 56, 3) := dk_162 0 56 (dk_at dksX5_stand_2 5 rfl rfl)
theorem dX5_stand_54 : decode cX5_stand 54 = .ok (.aload_n 0, 1) := dk_42 (dk_at dksX5_stand_2 8 rfl rfl)
theorem dX5_stand_55 : decode cX5_stand 55 = .ok (.getfield 116, 3) := dk_180 0 116 (dk_at dksX5_stand_2 9 rfl rfl)
theorem dX5_stand_58 : decode cX5_stand 58 = .ok (.aload_n 0, 1) := dk_42 (dk_at dksX5_stand_2 12 rfl rfl)
theorem dX5_stand_59 : decode cX5_stand 59 = .ok (.iload_n 1, 1) := dk_27 (dk_at dksX5_stand_2 13 rfl rfl)
theorem dX5_stand_60 : decode cX5_stand 60 = .ok (.iload_n 3, 1) := dk_29 (dk_at dksX5_stand_2 14 rfl rfl)
theorem dX5_stand_61 : decode cX5_stand 61 = .ok (.invokevirtual 418, 3) := dk_182 1 162 (dk_at dksX5_stand_2 15 rfl rfl)
theorem dX5_stand_64 : decode cX5_stand 64 = .ok (.iaload, 1) := dk_46 (dk_at dksX5_stand_2 18 rfl rfl)
theorem dX5_stand_65 : decode cX5_stand 65 = .ok (.aload_n 0, 1) := dk_42 (dk_at dksX5_stand_2 19 rfl rfl)
theorem dX5_stand_66 : decode cX5_stand 66 = .ok (.getfield 116, 3) := dk_180 0 116 (dk_at dksX5_stand_2 20 rfl rfl)
theorem dX5_stand_69 : decode cX5_stand 69 = .ok (.aload_n 0, 1) := dk_42 (dk_at dksX5_stand_2 23 rfl rfl)
theorem dX5_stand_70 : decode cX5_stand 70 = .ok (.iload_n 1, 1) := dk_27 (dk_at dksX5_stand_3 0 rfl rfl)
theorem dX5_stand_71 : decode cX5_stand 71 = .ok (.iload_n 3, 1) := dk_29 (dk_at dksX5_stand_3 1 rfl rfl)
theorem dX5_stand_72 : decode cX5_stand 72 = .ok (.iconst 1, 1) := dk_4 (dk_at dksX5_stand_3 2 rfl rfl)
theorem dX5_stand_73 : decode cX5_stand 73 = .ok (.iadd, 1) := dk_96 (dk_at dksX5_stand_3 3 rfl rfl)
theorem dX5_stand_74 : decode cX5_stand 74 = .ok (.invokevirtual 418, 3) := dk_182 1 162 (dk_at dksX5_stand_3 4 rfl rfl)
theorem dX5_stand_77 : decode cX5_stand 77 = .ok (.iaload, 1) := dk_46 (dk_at dksX5_stand_3 7 rfl rfl)
theorem dX5_stand_78 : decode cX5_stand 78 = .ok (.ixor, 1) := dk_130 (dk_at dksX5_stand_3 8 rfl rfl)
theorem dX5_stand_79 : decode cX5_stand 79 = .ok (.invokestatic 302, 3) := dk_184 1 46 (dk_at dksX5_stand_3 9 rfl rfl)
theorem dX5_stand_82 : decode cX5_stand 82 = .ok (.i2l, 1) := dk_133 (dk_at dksX5_stand_3 12 rfl rfl)
theorem dX5_stand_83 : decode cX5_stand 83 = .ok (.aload_n 0, 1) := dk_42 (dk_at dksX5_stand_3 13 rfl rfl)
theorem dX5_stand_84 : decode cX5_stand 84 = .ok (.getfield 16, 3) := dk_180 0 16 (dk_at dksX5_stand_3 14 rfl rfl)
theorem dX5_stand_87 : decode cX5_stand 87 = .ok (.bipush 60, 2) := dk_16 60 (dk_at dksX5_stand_3 17 rfl rfl)
theorem dX5_stand_89 : decode cX5_stand 89 = .ok (.iload_n 1, 1) := dk_27 (dk_at dksX5_stand_3 19 rfl rfl)
theorem dX5_stand_90 : decode cX5_stand 90 = .ok (.imul, 1) := dk_104 (dk_at dksX5_stand_3 20 rfl rfl)
theorem dX5_stand_91 : decode cX5_stand 91 = .ok (.iload_n 3, 1) := dk_29 (dk_at dksX5_stand_3 21 rfl rfl)
theorem dX5_stand_92 : decode cX5_stand 92 = .ok (.iadd, 1) := dk_96 (dk_at dksX5_stand_3 22 rfl rfl)
theorem dX5_stand_93 : decode cX5_stand 93 = .ok (.iconst 2, 1) := dk_5 (dk_at dksX5_stand_3 23 rfl rfl)
theorem dX5_stand_94 : decode cX5_stand 94 = .ok (.iadd, 1) := dk_96 (dk_at dksX5_stand_4 0 rfl rfl)
theorem dX5_stand_95 : decode cX5_stand 95 = .ok (.laload, 1) := dk_47 (dk_at dksX5_stand_4 1 rfl rfl)
theorem dX5_stand_96 : decode cX5_stand 96 = .ok (.lcmp, 1) := dk_148 (dk_at dksX5_stand_4 2 rfl rfl)
theorem dX5_stand_97 : decode cX5_stand 97 = .ok (.ifCond .eq 4, 3) := dk_153 0 4 (dk_at dksX5_stand_4 3 rfl rfl)
theorem dX5_stand_100 : decode cX5_stand 100 = .ok (.return_, 1) := dk_177 (dk_at dksX5_stand_4 6 rfl rfl)
theorem dX5_stand_101 : decode cX5_stand 101 = .ok (.iinc 3 3, 3) := dk_132 3 3 (dk_at dksX5_stand_4 7 rfl rfl)
theorem dX5_stand_104 : decode cX5_stand 104 = .ok (.goto (-60), 3) := dk_167 255 196 (dk_at dksX5_stand_4 10 rfl rfl)
theorem dX5_stand_107 : decode cX5_stand 107 = .ok (.iconst 0, 1) := dk_3 (dk_at dksX5_stand_4 13 rfl rfl)
theorem dX5_stand_108 : decode cX5_stand 108 = .ok (.istore_n 3, 1) := dk_62 (dk_at dksX5_stand_4 14 rfl rfl)
theorem dX5_stand_109 : decode cX5_stand 109 = .ok (.iload_n 3, 1) := dk_29 (dk_at dksX5_stand_4 15 rfl rfl)
theorem dX5_stand_110 : decode cX5_stand 110 = .ok (.aload_n 0, 1) := dk_42 (dk_at dksX5_stand_4 16 rfl rfl)
theorem dX5_stand_111 : decode cX5_stand 111 = .ok (.getfield 34, 3) := dk_180 0 34 (dk_at dksX5_stand_4 17 rfl rfl)
theorem dX5_stand_114 : decode cX5_stand 114 = .ok (.iconst 1, 1) := dk_4 (dk_at dksX5_stand_4 20 rfl rfl)
theorem dX5_stand_115 : decode cX5_stand 115 = .ok (.iaload, 1) := dk_46 (dk_at dksX5_stand_4 21 rfl rfl)
theorem dX5_stand_116 : decode cX5_stand 116 = .ok (.if_icmp .ge 47, 3) := dk_162 0 47 (dk_at dksX5_stand_5 0 rfl rfl)
theorem dX5_stand_119 : decode cX5_stand 119 = .ok (.aload_n 0, 1) := dk_42 (dk_at dksX5_stand_5 3 rfl rfl)
theorem dX5_stand_120 : decode cX5_stand 120 = .ok (.getfield 119, 3) := dk_180 0 119 (dk_at dksX5_stand_5 4 rfl rfl)
theorem dX5_stand_123 : decode cX5_stand 123 = .ok (.iload_n 3, 1) := dk_29 (dk_at dksX5_stand_5 7 rfl rfl)
theorem dX5_stand_124 : decode cX5_stand 124 = .ok (.aload_n 0, 1) := dk_42 (dk_at dksX5_stand_5 8 rfl rfl)
theorem dX5_stand_125 : decode cX5_stand 125 = .ok (.getfield 440, 3) := dk_180 1 184 (dk_at dksX5_stand_5 9 rfl rfl)
theorem dX5_stand_128 : decode cX5_stand 128 = .ok (.ifCond .eq 18, 3) := dk_153 0 18 (dk_at dksX5_stand_5 12 rfl rfl)
theorem dX5_stand_131 : decode cX5_stand 131 = .ok (.aload_n 0, 1) := dk_42 (dk_at dksX5_stand_5 15 rfl rfl)
theorem dX5_stand_132 : decode cX5_stand 132 = .ok (.getfield 119, 3) := dk_180 0 119 (dk_at dksX5_stand_5 16 rfl rfl)
theorem dX5_stand_135 : decode cX5_stand 135 = .ok (.iload_n 3, 1) := dk_29 (dk_at dksX5_stand_5 19 rfl rfl)
theorem dX5_stand_136 : decode cX5_stand 136 = .ok (.iaload, 1) := dk_46 (dk_at dksX5_stand_5 20 rfl rfl)
theorem dX5_stand_137 : decode cX5_stand 137 = .ok (.aload_n 0, 1) := dk_42 (dk_at dksX5_stand_5 21 rfl rfl)
theorem dX5_stand_138 : decode cX5_stand 138 = .ok (.getfield 116, 3) := dk_180 0 116 (dk_at dksX5_stand_6 0 rfl rfl)
theorem dX5_stand_141 : decode cX5_stand 141 = .ok (.iload_n 3, 1) := dk_29 (dk_at dksX5_stand_6 3 rfl rfl)
theorem dX5_stand_142 : decode cX5_stand 142 = .ok (.iaload, 1) := dk_46 (dk_at dksX5_stand_6 4 rfl rfl)
theorem dX5_stand_143 : decode cX5_stand 143 = .ok (.if_icmp .ne 12, 3) := dk_160 0 12 (dk_at dksX5_stand_6 5 rfl rfl)
theorem dX5_stand_146 : decode cX5_stand 146 = .ok (.aload_n 0, 1) := dk_42 (dk_at dksX5_stand_6 8 rfl rfl)
theorem dX5_stand_147 : decode cX5_stand 147 = .ok (.getfield 116, 3) := dk_180 0 116 (dk_at dksX5_stand_6 9 rfl rfl)
theorem dX5_stand_150 : decode cX5_stand 150 = .ok (.iload_n 3, 1) := dk_29 (dk_at dksX5_stand_6 12 rfl rfl)
theorem dX5_stand_151 : decode cX5_stand 151 = .ok (.iaload, 1) := dk_46 (dk_at dksX5_stand_6 13 rfl rfl)
theorem dX5_stand_152 : decode cX5_stand 152 = .ok (.goto 4, 3) := dk_167 0 4 (dk_at dksX5_stand_6 14 rfl rfl)
theorem dX5_stand_155 : decode cX5_stand 155 = .ok (.iconst (-1), 1) := dk_2 (dk_at dksX5_stand_6 17 rfl rfl)
theorem dX5_stand_156 : decode cX5_stand 156 = .ok (.iastore, 1) := dk_79 (dk_at dksX5_stand_6 18 rfl rfl)
theorem dX5_stand_157 : decode cX5_stand 157 = .ok (.iinc 3 1, 3) := dk_132 3 1 (dk_at dksX5_stand_6 19 rfl rfl)
theorem dX5_stand_160 : decode cX5_stand 160 = .ok (.goto (-51), 3) := dk_167 255 205 (dk_at dksX5_stand_7 0 rfl rfl)
theorem dX5_stand_163 : decode cX5_stand 163 = .ok (.aload_n 0, 1) := dk_42 (dk_at dksX5_stand_7 3 rfl rfl)
theorem dX5_stand_164 : decode cX5_stand 164 = .ok (.dup, 1) := dk_89 (dk_at dksX5_stand_7 4 rfl rfl)
theorem dX5_stand_165 : decode cX5_stand 165 = .ok (.getfield 440, 3) := dk_180 1 184 (dk_at dksX5_stand_7 5 rfl rfl)
theorem dX5_stand_168 : decode cX5_stand 168 = .ok (.iconst 1, 1) := dk_4 (dk_at dksX5_stand_7 8 rfl rfl)
theorem dX5_stand_169 : decode cX5_stand 169 = .ok (.iadd, 1) := dk_96 (dk_at dksX5_stand_7 9 rfl rfl)
theorem dX5_stand_170 : decode cX5_stand 170 = .ok (.putfield 440, 3) := dk_181 1 184 (dk_at dksX5_stand_7 10 rfl rfl)
theorem dX5_stand_173 : decode cX5_stand 173 = .ok (.return_, 1) := dk_177 (dk_at dksX5_stand_7 13 rfl rfl)
abbrev cX5_sure : ByteArray := prog_10_method_132_code
def yX5_sure : MethodName := ⟨RX5, "sure", "(II)I"⟩
def dkwX5_sure_2 : List UInt8 := [180, 0, 119, 28, 46, 172]
abbrev dktX5_sure_2 : List UInt8 := dkwX5_sure_2 ++ []
def dkwX5_sure_1 : List UInt8 := [62, 29, 153, 0, 5, 29, 172, 42, 27, 182, 1, 190, 42, 180, 1, 184, 154, 0, 7, 2, 167, 0, 9, 42]
abbrev dktX5_sure_1 : List UInt8 := dkwX5_sure_1 ++ dktX5_sure_2
def dkwX5_sure_0 : List UInt8 := [42, 3, 181, 0, 131, 42, 28, 133, 182, 1, 178, 153, 0, 11, 42, 27, 182, 1, 187, 167, 0, 5, 16, 254]
abbrev dktX5_sure_0 : List UInt8 := dkwX5_sure_0 ++ dktX5_sure_1
theorem dksX5_sure_0 : cX5_sure.data.toList.drop 0 = dktX5_sure_0 := by decide +kernel
theorem dksX5_sure_1 : cX5_sure.data.toList.drop 24 = dktX5_sure_1 := dk_seg dksX5_sure_0 24 rfl rfl
theorem dksX5_sure_2 : cX5_sure.data.toList.drop 48 = dktX5_sure_2 := dk_seg dksX5_sure_1 24 rfl rfl
theorem dX5_sure_0 : decode cX5_sure 0 = .ok (.aload_n 0, 1) := dk_42 (dk_at dksX5_sure_0 0 rfl rfl)
theorem dX5_sure_1 : decode cX5_sure 1 = .ok (.iconst 0, 1) := dk_3 (dk_at dksX5_sure_0 1 rfl rfl)
theorem dX5_sure_2 : decode cX5_sure 2 = .ok (.putfield 131, 3) := dk_181 0 131 (dk_at dksX5_sure_0 2 rfl rfl)
theorem dX5_sure_5 : decode cX5_sure 5 = .ok (.aload_n 0, 1) := dk_42 (dk_at dksX5_sure_0 5 rfl rfl)
theorem dX5_sure_6 : decode cX5_sure 6 = .ok (.iload_n 2, 1) := dk_28 (dk_at dksX5_sure_0 6 rfl rfl)
theorem dX5_sure_7 : decode cX5_sure 7 = .ok (.i2l, 1) := dk_133 (dk_at dksX5_sure_0 7 rfl rfl)
theorem dX5_sure_8 : decode cX5_sure 8 = .ok (.invokevirtual 434, 3) := dk_182 1 178 (dk_at dksX5_sure_0 8 rfl rfl)
theorem dX5_sure_11 : decode cX5_sure 11 = .ok (.ifCond .eq 11, 3) := dk_153 0 11 (dk_at dksX5_sure_0 11 rfl rfl)
theorem dX5_sure_14 : decode cX5_sure 14 = .ok (.aload_n 0, 1) := dk_42 (dk_at dksX5_sure_0 14 rfl rfl)
theorem dX5_sure_15 : decode cX5_sure 15 = .ok (.iload_n 1, 1) := dk_27 (dk_at dksX5_sure_0 15 rfl rfl)
theorem dX5_sure_16 : decode cX5_sure 16 = .ok (.invokevirtual 443, 3) := dk_182 1 187 (dk_at dksX5_sure_0 16 rfl rfl)
theorem dX5_sure_19 : decode cX5_sure 19 = .ok (.goto 5, 3) := dk_167 0 5 (dk_at dksX5_sure_0 19 rfl rfl)
theorem dX5_sure_22 : decode cX5_sure 22 = .ok (.bipush (-2), 2) := dk_16 254 (dk_at dksX5_sure_0 22 rfl rfl)
theorem dX5_sure_24 : decode cX5_sure 24 = .ok (.istore_n 3, 1) := dk_62 (dk_at dksX5_sure_1 0 rfl rfl)
theorem dX5_sure_25 : decode cX5_sure 25 = .ok (.iload_n 3, 1) := dk_29 (dk_at dksX5_sure_1 1 rfl rfl)
theorem dX5_sure_26 : decode cX5_sure 26 = .ok (.ifCond .eq 5, 3) := dk_153 0 5 (dk_at dksX5_sure_1 2 rfl rfl)
theorem dX5_sure_29 : decode cX5_sure 29 = .ok (.iload_n 3, 1) := dk_29 (dk_at dksX5_sure_1 5 rfl rfl)
theorem dX5_sure_30 : decode cX5_sure 30 = .ok (.ireturn, 1) := dk_172 (dk_at dksX5_sure_1 6 rfl rfl)
theorem dX5_sure_31 : decode cX5_sure 31 = .ok (.aload_n 0, 1) := dk_42 (dk_at dksX5_sure_1 7 rfl rfl)
theorem dX5_sure_32 : decode cX5_sure 32 = .ok (.iload_n 1, 1) := dk_27 (dk_at dksX5_sure_1 8 rfl rfl)
theorem dX5_sure_33 : decode cX5_sure 33 = .ok (.invokevirtual 446, 3) := dk_182 1 190 (dk_at dksX5_sure_1 9 rfl rfl)
theorem dX5_sure_36 : decode cX5_sure 36 = .ok (.aload_n 0, 1) := dk_42 (dk_at dksX5_sure_1 12 rfl rfl)
theorem dX5_sure_37 : decode cX5_sure 37 = .ok (.getfield 440, 3) := dk_180 1 184 (dk_at dksX5_sure_1 13 rfl rfl)
theorem dX5_sure_40 : decode cX5_sure 40 = .ok (.ifCond .ne 7, 3) := dk_154 0 7 (dk_at dksX5_sure_1 16 rfl rfl)
theorem dX5_sure_43 : decode cX5_sure 43 = .ok (.iconst (-1), 1) := dk_2 (dk_at dksX5_sure_1 19 rfl rfl)
theorem dX5_sure_44 : decode cX5_sure 44 = .ok (.goto 9, 3) := dk_167 0 9 (dk_at dksX5_sure_1 20 rfl rfl)
theorem dX5_sure_47 : decode cX5_sure 47 = .ok (.aload_n 0, 1) := dk_42 (dk_at dksX5_sure_1 23 rfl rfl)
theorem dX5_sure_48 : decode cX5_sure 48 = .ok (.getfield 119, 3) := dk_180 0 119 (dk_at dksX5_sure_2 0 rfl rfl)
theorem dX5_sure_51 : decode cX5_sure 51 = .ok (.iload_n 2, 1) := dk_28 (dk_at dksX5_sure_2 3 rfl rfl)
theorem dX5_sure_52 : decode cX5_sure 52 = .ok (.iaload, 1) := dk_46 (dk_at dksX5_sure_2 4 rfl rfl)
theorem dX5_sure_53 : decode cX5_sure 53 = .ok (.ireturn, 1) := dk_172 (dk_at dksX5_sure_2 5 rfl rfl)
abbrev cX5_comes : ByteArray := prog_10_method_135_code
def yX5_comes : MethodName := ⟨RX5, "comes", "(I)I"⟩
def dkwX5_comes_1 : List UInt8 := [16, 254, 172, 42, 17, 1, 44, 3, 182, 1, 202, 42, 180, 0, 125, 27, 46, 172]
abbrev dktX5_comes_1 : List UInt8 := dkwX5_comes_1 ++ []
def dkwX5_comes_0 : List UInt8 := [42, 3, 181, 0, 131, 27, 133, 9, 42, 180, 0, 34, 5, 46, 4, 100, 133, 184, 0, 136, 154, 0, 6]
abbrev dktX5_comes_0 : List UInt8 := dkwX5_comes_0 ++ dktX5_comes_1
theorem dksX5_comes_0 : cX5_comes.data.toList.drop 0 = dktX5_comes_0 := by decide +kernel
theorem dksX5_comes_1 : cX5_comes.data.toList.drop 23 = dktX5_comes_1 := dk_seg dksX5_comes_0 23 rfl rfl
theorem dX5_comes_0 : decode cX5_comes 0 = .ok (.aload_n 0, 1) := dk_42 (dk_at dksX5_comes_0 0 rfl rfl)
theorem dX5_comes_1 : decode cX5_comes 1 = .ok (.iconst 0, 1) := dk_3 (dk_at dksX5_comes_0 1 rfl rfl)
theorem dX5_comes_2 : decode cX5_comes 2 = .ok (.putfield 131, 3) := dk_181 0 131 (dk_at dksX5_comes_0 2 rfl rfl)
theorem dX5_comes_5 : decode cX5_comes 5 = .ok (.iload_n 1, 1) := dk_27 (dk_at dksX5_comes_0 5 rfl rfl)
theorem dX5_comes_6 : decode cX5_comes 6 = .ok (.i2l, 1) := dk_133 (dk_at dksX5_comes_0 6 rfl rfl)
theorem dX5_comes_7 : decode cX5_comes 7 = .ok (.lconst 0, 1) := dk_9 (dk_at dksX5_comes_0 7 rfl rfl)
theorem dX5_comes_8 : decode cX5_comes 8 = .ok (.aload_n 0, 1) := dk_42 (dk_at dksX5_comes_0 8 rfl rfl)
theorem dX5_comes_9 : decode cX5_comes 9 = .ok (.getfield 34, 3) := dk_180 0 34 (dk_at dksX5_comes_0 9 rfl rfl)
theorem dX5_comes_12 : decode cX5_comes 12 = .ok (.iconst 2, 1) := dk_5 (dk_at dksX5_comes_0 12 rfl rfl)
theorem dX5_comes_13 : decode cX5_comes 13 = .ok (.iaload, 1) := dk_46 (dk_at dksX5_comes_0 13 rfl rfl)
theorem dX5_comes_14 : decode cX5_comes 14 = .ok (.iconst 1, 1) := dk_4 (dk_at dksX5_comes_0 14 rfl rfl)
theorem dX5_comes_15 : decode cX5_comes 15 = .ok (.isub, 1) := dk_100 (dk_at dksX5_comes_0 15 rfl rfl)
theorem dX5_comes_16 : decode cX5_comes 16 = .ok (.i2l, 1) := dk_133 (dk_at dksX5_comes_0 16 rfl rfl)
theorem dX5_comes_17 : decode cX5_comes 17 = .ok (.invokestatic 136, 3) := dk_184 0 136 (dk_at dksX5_comes_0 17 rfl rfl)
theorem dX5_comes_20 : decode cX5_comes 20 = .ok (.ifCond .ne 6, 3) := dk_154 0 6 (dk_at dksX5_comes_0 20 rfl rfl)
theorem dX5_comes_23 : decode cX5_comes 23 = .ok (.bipush (-2), 2) := dk_16 254 (dk_at dksX5_comes_1 0 rfl rfl)
theorem dX5_comes_25 : decode cX5_comes 25 = .ok (.ireturn, 1) := dk_172 (dk_at dksX5_comes_1 2 rfl rfl)
theorem dX5_comes_26 : decode cX5_comes 26 = .ok (.aload_n 0, 1) := dk_42 (dk_at dksX5_comes_1 3 rfl rfl)
theorem dX5_comes_27 : decode cX5_comes 27 = .ok (.sipush 300, 3) := dk_17 1 44 (dk_at dksX5_comes_1 4 rfl rfl)
theorem dX5_comes_30 : decode cX5_comes 30 = .ok (.iconst 0, 1) := dk_3 (dk_at dksX5_comes_1 7 rfl rfl)
theorem dX5_comes_31 : decode cX5_comes 31 = .ok (.invokevirtual 458, 3) := dk_182 1 202 (dk_at dksX5_comes_1 8 rfl rfl)
theorem dX5_comes_34 : decode cX5_comes 34 = .ok (.aload_n 0, 1) := dk_42 (dk_at dksX5_comes_1 11 rfl rfl)
theorem dX5_comes_35 : decode cX5_comes 35 = .ok (.getfield 125, 3) := dk_180 0 125 (dk_at dksX5_comes_1 12 rfl rfl)
theorem dX5_comes_38 : decode cX5_comes 38 = .ok (.iload_n 1, 1) := dk_27 (dk_at dksX5_comes_1 15 rfl rfl)
theorem dX5_comes_39 : decode cX5_comes 39 = .ok (.iaload, 1) := dk_46 (dk_at dksX5_comes_1 16 rfl rfl)
theorem dX5_comes_40 : decode cX5_comes 40 = .ok (.ireturn, 1) := dk_172 (dk_at dksX5_comes_1 17 rfl rfl)
abbrev cX5_carries : ByteArray := prog_10_method_133_code
def yX5_carries : MethodName := ⟨RX5, "carries", "(IZ)V"⟩
def dkwX5_carries_3 : List UInt8 := [42, 21, 4, 29, 28, 182, 1, 199, 132, 4, 1, 167, 255, 234, 132, 3, 1, 167, 255, 220, 177]
abbrev dktX5_carries_3 : List UInt8 := dkwX5_carries_3 ++ []
def dkwX5_carries_2 : List UInt8 := [167, 255, 222, 4, 62, 29, 27, 163, 0, 37, 3, 54, 4, 21, 4, 42, 180, 0, 34, 5, 46, 162, 0, 17]
abbrev dktX5_carries_2 : List UInt8 := dkwX5_carries_2 ++ dktX5_carries_3
def dkwX5_carries_1 : List UInt8 := [180, 0, 122, 29, 42, 180, 0, 55, 5, 29, 104, 46, 79, 42, 180, 0, 125, 29, 2, 79, 132, 3, 1]
abbrev dktX5_carries_1 : List UInt8 := dkwX5_carries_1 ++ dktX5_carries_2
def dkwX5_carries_0 : List UInt8 := [42, 3, 181, 1, 193, 42, 3, 181, 1, 196, 3, 62, 29, 42, 180, 0, 34, 5, 46, 162, 0, 30, 42]
abbrev dktX5_carries_0 : List UInt8 := dkwX5_carries_0 ++ dktX5_carries_1
theorem dksX5_carries_0 : cX5_carries.data.toList.drop 0 = dktX5_carries_0 := by decide +kernel
theorem dksX5_carries_1 : cX5_carries.data.toList.drop 23 = dktX5_carries_1 := dk_seg dksX5_carries_0 23 rfl rfl
theorem dksX5_carries_2 : cX5_carries.data.toList.drop 46 = dktX5_carries_2 := dk_seg dksX5_carries_1 23 rfl rfl
theorem dksX5_carries_3 : cX5_carries.data.toList.drop 70 = dktX5_carries_3 := dk_seg dksX5_carries_2 24 rfl rfl
theorem dX5_carries_0 : decode cX5_carries 0 = .ok (.aload_n 0, 1) := dk_42 (dk_at dksX5_carries_0 0 rfl rfl)
theorem dX5_carries_1 : decode cX5_carries 1 = .ok (.iconst 0, 1) := dk_3 (dk_at dksX5_carries_0 1 rfl rfl)
theorem dX5_carries_2 : decode cX5_carries 2 = .ok (.putfield 449, 3) := dk_181 1 193 (dk_at dksX5_carries_0 2 rfl rfl)
theorem dX5_carries_5 : decode cX5_carries 5 = .ok (.aload_n 0, 1) := dk_42 (dk_at dksX5_carries_0 5 rfl rfl)
theorem dX5_carries_6 : decode cX5_carries 6 = .ok (.iconst 0, 1) := dk_3 (dk_at dksX5_carries_0 6 rfl rfl)
theorem dX5_carries_7 : decode cX5_carries 7 = .ok (.putfield 452, 3) := dk_181 1 196 (dk_at dksX5_carries_0 7 rfl rfl)
theorem dX5_carries_10 : decode cX5_carries 10 = .ok (.iconst 0, 1) := dk_3 (dk_at dksX5_carries_0 10 rfl rfl)
theorem dX5_carries_11 : decode cX5_carries 11 = .ok (.istore_n 3, 1) := dk_62 (dk_at dksX5_carries_0 11 rfl rfl)
theorem dX5_carries_12 : decode cX5_carries 12 = .ok (.iload_n 3, 1) := dk_29 (dk_at dksX5_carries_0 12 rfl rfl)
theorem dX5_carries_13 : decode cX5_carries 13 = .ok (.aload_n 0, 1) := dk_42 (dk_at dksX5_carries_0 13 rfl rfl)
theorem dX5_carries_14 : decode cX5_carries 14 = .ok (.getfield 34, 3) := dk_180 0 34 (dk_at dksX5_carries_0 14 rfl rfl)
theorem dX5_carries_17 : decode cX5_carries 17 = .ok (.iconst 2, 1) := dk_5 (dk_at dksX5_carries_0 17 rfl rfl)
theorem dX5_carries_18 : decode cX5_carries 18 = .ok (.iaload, 1) := dk_46 (dk_at dksX5_carries_0 18 rfl rfl)
theorem dX5_carries_19 : decode cX5_carries 19 = .ok (.if_icmp .ge 30, 3) := dk_162 0 30 (dk_at dksX5_carries_0 19 rfl rfl)
theorem dX5_carries_22 : decode cX5_carries 22 = .ok (.aload_n 0, 1) := dk_42 (dk_at dksX5_carries_0 22 rfl rfl)
theorem dX5_carries_23 : decode cX5_carries 23 = .ok (.getfield 122, 3) := dk_180 0 122 (dk_at dksX5_carries_1 0 rfl rfl)
theorem dX5_carries_26 : decode cX5_carries 26 = .ok (.iload_n 3, 1) := dk_29 (dk_at dksX5_carries_1 3 rfl rfl)
theorem dX5_carries_27 : decode cX5_carries 27 = .ok (.aload_n 0, 1) := dk_42 (dk_at dksX5_carries_1 4 rfl rfl)
theorem dX5_carries_28 : decode cX5_carries 28 = .ok (.getfield 55, 3) := dk_180 0 55 (dk_at dksX5_carries_1 5 rfl rfl)
theorem dX5_carries_31 : decode cX5_carries 31 = .ok (.iconst 2, 1) := dk_5 (dk_at dksX5_carries_1 8 rfl rfl)
theorem dX5_carries_32 : decode cX5_carries 32 = .ok (.iload_n 3, 1) := dk_29 (dk_at dksX5_carries_1 9 rfl rfl)
theorem dX5_carries_33 : decode cX5_carries 33 = .ok (.imul, 1) := dk_104 (dk_at dksX5_carries_1 10 rfl rfl)
theorem dX5_carries_34 : decode cX5_carries 34 = .ok (.iaload, 1) := dk_46 (dk_at dksX5_carries_1 11 rfl rfl)
theorem dX5_carries_35 : decode cX5_carries 35 = .ok (.iastore, 1) := dk_79 (dk_at dksX5_carries_1 12 rfl rfl)
theorem dX5_carries_36 : decode cX5_carries 36 = .ok (.aload_n 0, 1) := dk_42 (dk_at dksX5_carries_1 13 rfl rfl)
theorem dX5_carries_37 : decode cX5_carries 37 = .ok (.getfield 125, 3) := dk_180 0 125 (dk_at dksX5_carries_1 14 rfl rfl)
theorem dX5_carries_40 : decode cX5_carries 40 = .ok (.iload_n 3, 1) := dk_29 (dk_at dksX5_carries_1 17 rfl rfl)
theorem dX5_carries_41 : decode cX5_carries 41 = .ok (.iconst (-1), 1) := dk_2 (dk_at dksX5_carries_1 18 rfl rfl)
theorem dX5_carries_42 : decode cX5_carries 42 = .ok (.iastore, 1) := dk_79 (dk_at dksX5_carries_1 19 rfl rfl)
theorem dX5_carries_43 : decode cX5_carries 43 = .ok (.iinc 3 1, 3) := dk_132 3 1 (dk_at dksX5_carries_1 20 rfl rfl)
theorem dX5_carries_46 : decode cX5_carries 46 = .ok (.goto (-34), 3) := dk_167 255 222 (dk_at dksX5_carries_2 0 rfl rfl)
theorem dX5_carries_49 : decode cX5_carries 49 = .ok (.iconst 1, 1) := dk_4 (dk_at dksX5_carries_2 3 rfl rfl)
theorem dX5_carries_50 : decode cX5_carries 50 = .ok (.istore_n 3, 1) := dk_62 (dk_at dksX5_carries_2 4 rfl rfl)
theorem dX5_carries_51 : decode cX5_carries 51 = .ok (.iload_n 3, 1) := dk_29 (dk_at dksX5_carries_2 5 rfl rfl)
theorem dX5_carries_52 : decode cX5_carries 52 = .ok (.iload_n 1, 1) := dk_27 (dk_at dksX5_carries_2 6 rfl rfl)
theorem dX5_carries_53 : decode cX5_carries 53 = .ok (.if_icmp .gt 37, 3) := dk_163 0 37 (dk_at dksX5_carries_2 7 rfl rfl)
theorem dX5_carries_56 : decode cX5_carries 56 = .ok (.iconst 0, 1) := dk_3 (dk_at dksX5_carries_2 10 rfl rfl)
theorem dX5_carries_57 : decode cX5_carries 57 = .ok (.istore 4, 2) := dk_54 4 (dk_at dksX5_carries_2 11 rfl rfl)
theorem dX5_carries_59 : decode cX5_carries 59 = .ok (.iload 4, 2) := dk_21 4 (dk_at dksX5_carries_2 13 rfl rfl)
theorem dX5_carries_61 : decode cX5_carries 61 = .ok (.aload_n 0, 1) := dk_42 (dk_at dksX5_carries_2 15 rfl rfl)
theorem dX5_carries_62 : decode cX5_carries 62 = .ok (.getfield 34, 3) := dk_180 0 34 (dk_at dksX5_carries_2 16 rfl rfl)
theorem dX5_carries_65 : decode cX5_carries 65 = .ok (.iconst 2, 1) := dk_5 (dk_at dksX5_carries_2 19 rfl rfl)
theorem dX5_carries_66 : decode cX5_carries 66 = .ok (.iaload, 1) := dk_46 (dk_at dksX5_carries_2 20 rfl rfl)
theorem dX5_carries_67 : decode cX5_carries 67 = .ok (.if_icmp .ge 17, 3) := dk_162 0 17 (dk_at dksX5_carries_2 21 rfl rfl)
theorem dX5_carries_70 : decode cX5_carries 70 = .ok (.aload_n 0, 1) := dk_42 (dk_at dksX5_carries_3 0 rfl rfl)
theorem dX5_carries_71 : decode cX5_carries 71 = .ok (.iload 4, 2) := dk_21 4 (dk_at dksX5_carries_3 1 rfl rfl)
theorem dX5_carries_73 : decode cX5_carries 73 = .ok (.iload_n 3, 1) := dk_29 (dk_at dksX5_carries_3 3 rfl rfl)
theorem dX5_carries_74 : decode cX5_carries 74 = .ok (.iload_n 2, 1) := dk_28 (dk_at dksX5_carries_3 4 rfl rfl)
theorem dX5_carries_75 : decode cX5_carries 75 = .ok (.invokevirtual 455, 3) := dk_182 1 199 (dk_at dksX5_carries_3 5 rfl rfl)
theorem dX5_carries_78 : decode cX5_carries 78 = .ok (.iinc 4 1, 3) := dk_132 4 1 (dk_at dksX5_carries_3 8 rfl rfl)
theorem dX5_carries_81 : decode cX5_carries 81 = .ok (.goto (-22), 3) := dk_167 255 234 (dk_at dksX5_carries_3 11 rfl rfl)
theorem dX5_carries_84 : decode cX5_carries 84 = .ok (.iinc 3 1, 3) := dk_132 3 1 (dk_at dksX5_carries_3 14 rfl rfl)
theorem dX5_carries_87 : decode cX5_carries 87 = .ok (.goto (-36), 3) := dk_167 255 220 (dk_at dksX5_carries_3 17 rfl rfl)
theorem dX5_carries_90 : decode cX5_carries 90 = .ok (.return_, 1) := dk_177 (dk_at dksX5_carries_3 20 rfl rfl)
abbrev cX5_stepOf : ByteArray := prog_10_method_134_code
def yX5_stepOf : MethodName := ⟨RX5, "stepOf", "(IIZ)V"⟩
def dkwX5_stepOf_9 : List UInt8 := [180, 0, 125, 27, 28, 79, 177]
abbrev dktX5_stepOf_9 : List UInt8 := dkwX5_stepOf_9 ++ []
def dkwX5_stepOf_8 : List UInt8 := [42, 180, 0, 128, 27, 21, 6, 79, 42, 180, 0, 122, 27, 21, 5, 79, 21, 5, 21, 4, 160, 0, 10, 42]
abbrev dktX5_stepOf_8 : List UInt8 := dkwX5_stepOf_8 ++ dktX5_stepOf_9
def dkwX5_stepOf_7 : List UInt8 := [96, 181, 1, 196, 21, 7, 158, 0, 18, 29, 154, 0, 14, 42, 89, 180, 1, 193, 4, 96, 181, 1, 193, 177]
abbrev dktX5_stepOf_7 : List UInt8 := dkwX5_stepOf_7 ++ dktX5_stepOf_8
def dkwX5_stepOf_6 : List UInt8 := [160, 0, 7, 4, 167, 0, 4, 3, 96, 54, 7, 132, 8, 1, 167, 255, 225, 42, 89, 180, 1, 196, 21, 7]
abbrev dktX5_stepOf_6 : List UInt8 := dkwX5_stepOf_6 ++ dktX5_stepOf_7
def dkwX5_stepOf_5 : List UInt8 := [54, 7, 3, 54, 8, 21, 8, 27, 162, 0, 31, 21, 7, 42, 180, 0, 128, 21, 8, 46, 21, 6]
abbrev dktX5_stepOf_5 : List UInt8 := dkwX5_stepOf_5 ++ dktX5_stepOf_6
def dkwX5_stepOf_4 : List UInt8 := [180, 0, 122, 27, 46, 162, 0, 12, 42, 180, 0, 122, 27, 46, 167, 0, 5, 21, 5, 96, 54, 6, 3]
abbrev dktX5_stepOf_4 : List UInt8 := dkwX5_stepOf_4 ++ dktX5_stepOf_5
def dkwX5_stepOf_3 : List UInt8 := [180, 0, 122, 27, 46, 162, 0, 8, 21, 5, 167, 0, 9, 42, 180, 0, 122, 27, 46, 104, 21, 5, 42]
abbrev dktX5_stepOf_3 : List UInt8 := dkwX5_stepOf_3 ++ dktX5_stepOf_4
def dkwX5_stepOf_2 : List UInt8 := [18, 182, 160, 0, 4, 177, 42, 42, 180, 0, 122, 27, 46, 182, 1, 55, 54, 5, 16, 32, 21, 5, 42]
abbrev dktX5_stepOf_2 : List UInt8 := dkwX5_stepOf_2 ++ dktX5_stepOf_3
def dkwX5_stepOf_1 : List UInt8 := [46, 21, 4, 160, 0, 4, 177, 42, 21, 4, 182, 1, 52, 42, 180, 0, 62, 42, 180, 0, 122, 27, 46, 46]
abbrev dktX5_stepOf_1 : List UInt8 := dkwX5_stepOf_1 ++ dktX5_stepOf_2
def dkwX5_stepOf_0 : List UInt8 := [42, 180, 0, 128, 27, 2, 79, 42, 180, 0, 55, 5, 27, 104, 4, 96, 46, 54, 4, 42, 180, 0, 122, 27]
abbrev dktX5_stepOf_0 : List UInt8 := dkwX5_stepOf_0 ++ dktX5_stepOf_1
theorem dksX5_stepOf_0 : cX5_stepOf.data.toList.drop 0 = dktX5_stepOf_0 := by decide +kernel
theorem dksX5_stepOf_1 : cX5_stepOf.data.toList.drop 24 = dktX5_stepOf_1 := dk_seg dksX5_stepOf_0 24 rfl rfl
theorem dksX5_stepOf_2 : cX5_stepOf.data.toList.drop 48 = dktX5_stepOf_2 := dk_seg dksX5_stepOf_1 24 rfl rfl
theorem dksX5_stepOf_3 : cX5_stepOf.data.toList.drop 71 = dktX5_stepOf_3 := dk_seg dksX5_stepOf_2 23 rfl rfl
theorem dksX5_stepOf_4 : cX5_stepOf.data.toList.drop 94 = dktX5_stepOf_4 := dk_seg dksX5_stepOf_3 23 rfl rfl
theorem dksX5_stepOf_5 : cX5_stepOf.data.toList.drop 117 = dktX5_stepOf_5 := dk_seg dksX5_stepOf_4 23 rfl rfl
theorem dksX5_stepOf_6 : cX5_stepOf.data.toList.drop 139 = dktX5_stepOf_6 := dk_seg dksX5_stepOf_5 22 rfl rfl
theorem dksX5_stepOf_7 : cX5_stepOf.data.toList.drop 163 = dktX5_stepOf_7 := dk_seg dksX5_stepOf_6 24 rfl rfl
theorem dksX5_stepOf_8 : cX5_stepOf.data.toList.drop 187 = dktX5_stepOf_8 := dk_seg dksX5_stepOf_7 24 rfl rfl
theorem dksX5_stepOf_9 : cX5_stepOf.data.toList.drop 211 = dktX5_stepOf_9 := dk_seg dksX5_stepOf_8 24 rfl rfl
theorem dX5_stepOf_0 : decode cX5_stepOf 0 = .ok (.aload_n 0, 1) := dk_42 (dk_at dksX5_stepOf_0 0 rfl rfl)
theorem dX5_stepOf_1 : decode cX5_stepOf 1 = .ok (.getfield 128, 3) := dk_180 0 128 (dk_at dksX5_stepOf_0 1 rfl rfl)
theorem dX5_stepOf_4 : decode cX5_stepOf 4 = .ok (.iload_n 1, 1) := dk_27 (dk_at dksX5_stepOf_0 4 rfl rfl)
theorem dX5_stepOf_5 : decode cX5_stepOf 5 = .ok (.iconst (-1), 1) := dk_2 (dk_at dksX5_stepOf_0 5 rfl rfl)
theorem dX5_stepOf_6 : decode cX5_stepOf 6 = .ok (.iastore, 1) := dk_79 (dk_at dksX5_stepOf_0 6 rfl rfl)
theorem dX5_stepOf_7 : decode cX5_stepOf 7 = .ok (.aload_n 0, 1) := dk_42 (dk_at dksX5_stepOf_0 7 rfl rfl)
theorem dX5_stepOf_8 : decode cX5_stepOf 8 = .ok (.getfield 55, 3) := dk_180 0 55 (dk_at dksX5_stepOf_0 8 rfl rfl)
theorem dX5_stepOf_11 : decode cX5_stepOf 11 = .ok (.iconst 2, 1) := dk_5 (dk_at dksX5_stepOf_0 11 rfl rfl)
theorem dX5_stepOf_12 : decode cX5_stepOf 12 = .ok (.iload_n 1, 1) := dk_27 (dk_at dksX5_stepOf_0 12 rfl rfl)
theorem dX5_stepOf_13 : decode cX5_stepOf 13 = .ok (.imul, 1) := dk_104 (dk_at dksX5_stepOf_0 13 rfl rfl)
theorem dX5_stepOf_14 : decode cX5_stepOf 14 = .ok (.iconst 1, 1) := dk_4 (dk_at dksX5_stepOf_0 14 rfl rfl)
theorem dX5_stepOf_15 : decode cX5_stepOf 15 = .ok (.iadd, 1) := dk_96 (dk_at dksX5_stepOf_0 15 rfl rfl)
theorem dX5_stepOf_16 : decode cX5_stepOf 16 = .ok (.iaload, 1) := dk_46 (dk_at dksX5_stepOf_0 16 rfl rfl)
theorem dX5_stepOf_17 : decode cX5_stepOf 17 = .ok (.istore 4, 2) := dk_54 4 (dk_at dksX5_stepOf_0 17 rfl rfl)
theorem dX5_stepOf_19 : decode cX5_stepOf 19 = .ok (.aload_n 0, 1) := dk_42 (dk_at dksX5_stepOf_0 19 rfl rfl)
theorem dX5_stepOf_20 : decode cX5_stepOf 20 = .ok (.getfield 122, 3) := dk_180 0 122 (dk_at dksX5_stepOf_0 20 rfl rfl)
theorem dX5_stepOf_23 : decode cX5_stepOf 23 = .ok (.iload_n 1, 1) := dk_27 (dk_at dksX5_stepOf_0 23 rfl rfl)
theorem dX5_stepOf_24 : decode cX5_stepOf 24 = .ok (.iaload, 1) := dk_46 (dk_at dksX5_stepOf_1 0 rfl rfl)
theorem dX5_stepOf_25 : decode cX5_stepOf 25 = .ok (.iload 4, 2) := dk_21 4 (dk_at dksX5_stepOf_1 1 rfl rfl)
theorem dX5_stepOf_27 : decode cX5_stepOf 27 = .ok (.if_icmp .ne 4, 3) := dk_160 0 4 (dk_at dksX5_stepOf_1 3 rfl rfl)
theorem dX5_stepOf_30 : decode cX5_stepOf 30 = .ok (.return_, 1) := dk_177 (dk_at dksX5_stepOf_1 6 rfl rfl)
theorem dX5_stepOf_31 : decode cX5_stepOf 31 = .ok (.aload_n 0, 1) := dk_42 (dk_at dksX5_stepOf_1 7 rfl rfl)
theorem dX5_stepOf_32 : decode cX5_stepOf 32 = .ok (.iload 4, 2) := dk_21 4 (dk_at dksX5_stepOf_1 8 rfl rfl)
theorem dX5_stepOf_34 : decode cX5_stepOf 34 = .ok (.invokevirtual 308, 3) := dk_182 1 52 (dk_at dksX5_stepOf_1 10 rfl rfl)
theorem dX5_stepOf_37 : decode cX5_stepOf 37 = .ok (.aload_n 0, 1) := dk_42 (dk_at dksX5_stepOf_1 13 rfl rfl)
theorem dX5_stepOf_38 : decode cX5_stepOf 38 = .ok (.getfield 62, 3) := dk_180 0 62 (dk_at dksX5_stepOf_1 14 rfl rfl)
theorem dX5_stepOf_41 : decode cX5_stepOf 41 = .ok (.aload_n 0, 1) := dk_42 (dk_at dksX5_stepOf_1 17 rfl rfl)
theorem dX5_stepOf_42 : decode cX5_stepOf 42 = .ok (.getfield 122, 3) := dk_180 0 122 (dk_at dksX5_stepOf_1 18 rfl rfl)
theorem dX5_stepOf_45 : decode cX5_stepOf 45 = .ok (.iload_n 1, 1) := dk_27 (dk_at dksX5_stepOf_1 21 rfl rfl)
theorem dX5_stepOf_46 : decode cX5_stepOf 46 = .ok (.iaload, 1) := dk_46 (dk_at dksX5_stepOf_1 22 rfl rfl)
theorem dX5_stepOf_47 : decode cX5_stepOf 47 = .ok (.iaload, 1) := dk_46 (dk_at dksX5_stepOf_1 23 rfl rfl)
theorem dX5_stepOf_48 : decode cX5_stepOf 48 = .ok (.ldc 182, 2) := dk_18 182 (dk_at dksX5_stepOf_2 0 rfl rfl)
theorem dX5_stepOf_50 : decode cX5_stepOf 50 = .ok (.if_icmp .ne 4, 3) := dk_160 0 4 (dk_at dksX5_stepOf_2 2 rfl rfl)
theorem dX5_stepOf_53 : decode cX5_stepOf 53 = .ok (.return_, 1) := dk_177 (dk_at dksX5_stepOf_2 5 rfl rfl)
theorem dX5_stepOf_54 : decode cX5_stepOf 54 = .ok (.aload_n 0, 1) := dk_42 (dk_at dksX5_stepOf_2 6 rfl rfl)
theorem dX5_stepOf_55 : decode cX5_stepOf 55 = .ok (.aload_n 0, 1) := dk_42 (dk_at dksX5_stepOf_2 7 rfl rfl)
theorem dX5_stepOf_56 : decode cX5_stepOf 56 = .ok (.getfield 122, 3) := dk_180 0 122 (dk_at dksX5_stepOf_2 8 rfl rfl)
theorem dX5_stepOf_59 : decode cX5_stepOf 59 = .ok (.iload_n 1, 1) := dk_27 (dk_at dksX5_stepOf_2 11 rfl rfl)
theorem dX5_stepOf_60 : decode cX5_stepOf 60 = .ok (.iaload, 1) := dk_46 (dk_at dksX5_stepOf_2 12 rfl rfl)
theorem dX5_stepOf_61 : decode cX5_stepOf 61 = .ok (.invokevirtual 311, 3) := dk_182 1 55 (dk_at dksX5_stepOf_2 13 rfl rfl)
theorem dX5_stepOf_64 : decode cX5_stepOf 64 = .ok (.istore 5, 2) := dk_54 5 (dk_at dksX5_stepOf_2 16 rfl rfl)
theorem dX5_stepOf_66 : decode cX5_stepOf 66 = .ok (.bipush 32, 2) := dk_16 32 (dk_at dksX5_stepOf_2 18 rfl rfl)
theorem dX5_stepOf_68 : decode cX5_stepOf 68 = .ok (.iload 5, 2) := dk_21 5 (dk_at dksX5_stepOf_2 20 rfl rfl)
theorem dX5_stepOf_70 : decode cX5_stepOf 70 = .ok (.aload_n 0, 1) := dk_42 (dk_at dksX5_stepOf_2 22 rfl rfl)
theorem dX5_stepOf_71 : decode cX5_stepOf 71 = .ok (.getfield 122, 3) := dk_180 0 122 (dk_at dksX5_stepOf_3 0 rfl rfl)
theorem dX5_stepOf_74 : decode cX5_stepOf 74 = .ok (.iload_n 1, 1) := dk_27 (dk_at dksX5_stepOf_3 3 rfl rfl)
theorem dX5_stepOf_75 : decode cX5_stepOf 75 = .ok (.iaload, 1) := dk_46 (dk_at dksX5_stepOf_3 4 rfl rfl)
theorem dX5_stepOf_76 : decode cX5_stepOf 76 = .ok (.if_icmp .ge 8, 3) := dk_162 0 8 (dk_at dksX5_stepOf_3 5 rfl rfl)
theorem dX5_stepOf_79 : decode cX5_stepOf 79 = .ok (.iload 5, 2) := dk_21 5 (dk_at dksX5_stepOf_3 8 rfl rfl)
theorem dX5_stepOf_81 : decode cX5_stepOf 81 = .ok (.goto 9, 3) := dk_167 0 9 (dk_at dksX5_stepOf_3 10 rfl rfl)
theorem dX5_stepOf_84 : decode cX5_stepOf 84 = .ok (.aload_n 0, 1) := dk_42 (dk_at dksX5_stepOf_3 13 rfl rfl)
theorem dX5_stepOf_85 : decode cX5_stepOf 85 = .ok (.getfield 122, 3) := dk_180 0 122 (dk_at dksX5_stepOf_3 14 rfl rfl)
theorem dX5_stepOf_88 : decode cX5_stepOf 88 = .ok (.iload_n 1, 1) := dk_27 (dk_at dksX5_stepOf_3 17 rfl rfl)
theorem dX5_stepOf_89 : decode cX5_stepOf 89 = .ok (.iaload, 1) := dk_46 (dk_at dksX5_stepOf_3 18 rfl rfl)
theorem dX5_stepOf_90 : decode cX5_stepOf 90 = .ok (.imul, 1) := dk_104 (dk_at dksX5_stepOf_3 19 rfl rfl)
theorem dX5_stepOf_91 : decode cX5_stepOf 91 = .ok (.iload 5, 2) := dk_21 5 (dk_at dksX5_stepOf_3 20 rfl rfl)
theorem dX5_stepOf_93 : decode cX5_stepOf 93 = .ok (.aload_n 0, 1) := dk_42 (dk_at dksX5_stepOf_3 22 rfl rfl)
theorem dX5_stepOf_94 : decode cX5_stepOf 94 = .ok (.getfield 122, 3) := dk_180 0 122 (dk_at dksX5_stepOf_4 0 rfl rfl)
theorem dX5_stepOf_97 : decode cX5_stepOf 97 = .ok (.iload_n 1, 1) := dk_27 (dk_at dksX5_stepOf_4 3 rfl rfl)
theorem dX5_stepOf_98 : decode cX5_stepOf 98 = .ok (.iaload, 1) := dk_46 (dk_at dksX5_stepOf_4 4 rfl rfl)
theorem dX5_stepOf_99 : decode cX5_stepOf 99 = .ok (.if_icmp .ge 12, 3) := dk_162 0 12 (dk_at dksX5_stepOf_4 5 rfl rfl)
theorem dX5_stepOf_102 : decode cX5_stepOf 102 = .ok (.aload_n 0, 1) := dk_42 (dk_at dksX5_stepOf_4 8 rfl rfl)
theorem dX5_stepOf_103 : decode cX5_stepOf 103 = .ok (.getfield 122, 3) := dk_180 0 122 (dk_at dksX5_stepOf_4 9 rfl rfl)
theorem dX5_stepOf_106 : decode cX5_stepOf 106 = .ok (.iload_n 1, 1) := dk_27 (dk_at dksX5_stepOf_4 12 rfl rfl)
theorem dX5_stepOf_107 : decode cX5_stepOf 107 = .ok (.iaload, 1) := dk_46 (dk_at dksX5_stepOf_4 13 rfl rfl)
theorem dX5_stepOf_108 : decode cX5_stepOf 108 = .ok (.goto 5, 3) := dk_167 0 5 (dk_at dksX5_stepOf_4 14 rfl rfl)
theorem dX5_stepOf_111 : decode cX5_stepOf 111 = .ok (.iload 5, 2) := dk_21 5 (dk_at dksX5_stepOf_4 17 rfl rfl)
theorem dX5_stepOf_113 : decode cX5_stepOf 113 = .ok (.iadd, 1) := dk_96 (dk_at dksX5_stepOf_4 19 rfl rfl)
theorem dX5_stepOf_114 : decode cX5_stepOf 114 = .ok (.istore 6, 2) := dk_54 6 (dk_at dksX5_stepOf_4 20 rfl rfl)
theorem dX5_stepOf_116 : decode cX5_stepOf 116 = .ok (.iconst 0, 1) := dk_3 (dk_at dksX5_stepOf_4 22 rfl rfl)
theorem dX5_stepOf_117 : decode cX5_stepOf 117 = .ok (.istore 7, 2) := dk_54 7 (dk_at dksX5_stepOf_5 0 rfl rfl)
theorem dX5_stepOf_119 : decode cX5_stepOf 119 = .ok (.iconst 0, 1) := dk_3 (dk_at dksX5_stepOf_5 2 rfl rfl)
theorem dX5_stepOf_120 : decode cX5_stepOf 120 = .ok (.istore 8, 2) := dk_54 8 (dk_at dksX5_stepOf_5 3 rfl rfl)
theorem dX5_stepOf_122 : decode cX5_stepOf 122 = .ok (.iload 8, 2) := dk_21 8 (dk_at dksX5_stepOf_5 5 rfl rfl)
theorem dX5_stepOf_124 : decode cX5_stepOf 124 = .ok (.iload_n 1, 1) := dk_27 (dk_at dksX5_stepOf_5 7 rfl rfl)
theorem dX5_stepOf_125 : decode cX5_stepOf 125 = .ok (.if_icmp .ge 31, 3) := dk_162 0 31 (dk_at dksX5_stepOf_5 8 rfl rfl)
theorem dX5_stepOf_128 : decode cX5_stepOf 128 = .ok (.iload 7, 2) := dk_21 7 (dk_at dksX5_stepOf_5 11 rfl rfl)
theorem dX5_stepOf_130 : decode cX5_stepOf 130 = .ok (.aload_n 0, 1) := dk_42 (dk_at dksX5_stepOf_5 13 rfl rfl)
theorem dX5_stepOf_131 : decode cX5_stepOf 131 = .ok (.getfield 128, 3) := dk_180 0 128 (dk_at dksX5_stepOf_5 14 rfl rfl)
theorem dX5_stepOf_134 : decode cX5_stepOf 134 = .ok (.iload 8, 2) := dk_21 8 (dk_at dksX5_stepOf_5 17 rfl rfl)
theorem dX5_stepOf_136 : decode cX5_stepOf 136 = .ok (.iaload, 1) := dk_46 (dk_at dksX5_stepOf_5 19 rfl rfl)
theorem dX5_stepOf_137 : decode cX5_stepOf 137 = .ok (.iload 6, 2) := dk_21 6 (dk_at dksX5_stepOf_5 20 rfl rfl)
theorem dX5_stepOf_139 : decode cX5_stepOf 139 = .ok (.if_icmp .ne 7, 3) := dk_160 0 7 (dk_at dksX5_stepOf_6 0 rfl rfl)
theorem dX5_stepOf_142 : decode cX5_stepOf 142 = .ok (.iconst 1, 1) := dk_4 (dk_at dksX5_stepOf_6 3 rfl rfl)
theorem dX5_stepOf_143 : decode cX5_stepOf 143 = .ok (.goto 4, 3) := dk_167 0 4 (dk_at dksX5_stepOf_6 4 rfl rfl)
theorem dX5_stepOf_146 : decode cX5_stepOf 146 = .ok (.iconst 0, 1) := dk_3 (dk_at dksX5_stepOf_6 7 rfl rfl)
theorem dX5_stepOf_147 : decode cX5_stepOf 147 = .ok (.iadd, 1) := dk_96 (dk_at dksX5_stepOf_6 8 rfl rfl)
theorem dX5_stepOf_148 : decode cX5_stepOf 148 = .ok (.istore 7, 2) := dk_54 7 (dk_at dksX5_stepOf_6 9 rfl rfl)
theorem dX5_stepOf_150 : decode cX5_stepOf 150 = .ok (.iinc 8 1, 3) := dk_132 8 1 (dk_at dksX5_stepOf_6 11 rfl rfl)
theorem dX5_stepOf_153 : decode cX5_stepOf 153 = .ok (.goto (-31), 3) := dk_167 255 225 (dk_at dksX5_stepOf_6 14 rfl rfl)
theorem dX5_stepOf_156 : decode cX5_stepOf 156 = .ok (.aload_n 0, 1) := dk_42 (dk_at dksX5_stepOf_6 17 rfl rfl)
theorem dX5_stepOf_157 : decode cX5_stepOf 157 = .ok (.dup, 1) := dk_89 (dk_at dksX5_stepOf_6 18 rfl rfl)
theorem dX5_stepOf_158 : decode cX5_stepOf 158 = .ok (.getfield 452, 3) := dk_180 1 196 (dk_at dksX5_stepOf_6 19 rfl rfl)
theorem dX5_stepOf_161 : decode cX5_stepOf 161 = .ok (.iload 7, 2) := dk_21 7 (dk_at dksX5_stepOf_6 22 rfl rfl)
theorem dX5_stepOf_163 : decode cX5_stepOf 163 = .ok (.iadd, 1) := dk_96 (dk_at dksX5_stepOf_7 0 rfl rfl)
theorem dX5_stepOf_164 : decode cX5_stepOf 164 = .ok (.putfield 452, 3) := dk_181 1 196 (dk_at dksX5_stepOf_7 1 rfl rfl)
theorem dX5_stepOf_167 : decode cX5_stepOf 167 = .ok (.iload 7, 2) := dk_21 7 (dk_at dksX5_stepOf_7 4 rfl rfl)
theorem dX5_stepOf_169 : decode cX5_stepOf 169 = .ok (.ifCond .le 18, 3) := dk_158 0 18 (dk_at dksX5_stepOf_7 6 rfl rfl)
theorem dX5_stepOf_172 : decode cX5_stepOf 172 = .ok (.iload_n 3, 1) := dk_29 (dk_at dksX5_stepOf_7 9 rfl rfl)
theorem dX5_stepOf_173 : decode cX5_stepOf 173 = .ok (.ifCond .ne 14, 3) := dk_154 0 14 (dk_at dksX5_stepOf_7 10 rfl rfl)
theorem dX5_stepOf_176 : decode cX5_stepOf 176 = .ok (.aload_n 0, 1) := dk_42 (dk_at dksX5_stepOf_7 13 rfl rfl)
theorem dX5_stepOf_177 : decode cX5_stepOf 177 = .ok (.dup, 1) := dk_89 (dk_at dksX5_stepOf_7 14 rfl rfl)
theorem dX5_stepOf_178 : decode cX5_stepOf 178 = .ok (.getfield 449, 3) := dk_180 1 193 (dk_at dksX5_stepOf_7 15 rfl rfl)
theorem dX5_stepOf_181 : decode cX5_stepOf 181 = .ok (.iconst 1, 1) := dk_4 (dk_at dksX5_stepOf_7 18 rfl rfl)
theorem dX5_stepOf_182 : decode cX5_stepOf 182 = .ok (.iadd, 1) := dk_96 (dk_at dksX5_stepOf_7 19 rfl rfl)
theorem dX5_stepOf_183 : decode cX5_stepOf 183 = .ok (.putfield 449, 3) := dk_181 1 193 (dk_at dksX5_stepOf_7 20 rfl rfl)
theorem dX5_stepOf_186 : decode cX5_stepOf 186 = .ok (.return_, 1) := dk_177 (dk_at dksX5_stepOf_7 23 rfl rfl)
theorem dX5_stepOf_187 : decode cX5_stepOf 187 = .ok (.aload_n 0, 1) := dk_42 (dk_at dksX5_stepOf_8 0 rfl rfl)
theorem dX5_stepOf_188 : decode cX5_stepOf 188 = .ok (.getfield 128, 3) := dk_180 0 128 (dk_at dksX5_stepOf_8 1 rfl rfl)
theorem dX5_stepOf_191 : decode cX5_stepOf 191 = .ok (.iload_n 1, 1) := dk_27 (dk_at dksX5_stepOf_8 4 rfl rfl)
theorem dX5_stepOf_192 : decode cX5_stepOf 192 = .ok (.iload 6, 2) := dk_21 6 (dk_at dksX5_stepOf_8 5 rfl rfl)
theorem dX5_stepOf_194 : decode cX5_stepOf 194 = .ok (.iastore, 1) := dk_79 (dk_at dksX5_stepOf_8 7 rfl rfl)
theorem dX5_stepOf_195 : decode cX5_stepOf 195 = .ok (.aload_n 0, 1) := dk_42 (dk_at dksX5_stepOf_8 8 rfl rfl)
theorem dX5_stepOf_196 : decode cX5_stepOf 196 = .ok (.getfield 122, 3) := dk_180 0 122 (dk_at dksX5_stepOf_8 9 rfl rfl)
theorem dX5_stepOf_199 : decode cX5_stepOf 199 = .ok (.iload_n 1, 1) := dk_27 (dk_at dksX5_stepOf_8 12 rfl rfl)
theorem dX5_stepOf_200 : decode cX5_stepOf 200 = .ok (.iload 5, 2) := dk_21 5 (dk_at dksX5_stepOf_8 13 rfl rfl)
theorem dX5_stepOf_202 : decode cX5_stepOf 202 = .ok (.iastore, 1) := dk_79 (dk_at dksX5_stepOf_8 15 rfl rfl)
theorem dX5_stepOf_203 : decode cX5_stepOf 203 = .ok (.iload 5, 2) := dk_21 5 (dk_at dksX5_stepOf_8 16 rfl rfl)
theorem dX5_stepOf_205 : decode cX5_stepOf 205 = .ok (.iload 4, 2) := dk_21 4 (dk_at dksX5_stepOf_8 18 rfl rfl)
theorem dX5_stepOf_207 : decode cX5_stepOf 207 = .ok (.if_icmp .ne 10, 3) := dk_160 0 10 (dk_at dksX5_stepOf_8 20 rfl rfl)
theorem dX5_stepOf_210 : decode cX5_stepOf 210 = .ok (.aload_n 0, 1) := dk_42 (dk_at dksX5_stepOf_8 23 rfl rfl)
theorem dX5_stepOf_211 : decode cX5_stepOf 211 = .ok (.getfield 125, 3) := dk_180 0 125 (dk_at dksX5_stepOf_9 0 rfl rfl)
theorem dX5_stepOf_214 : decode cX5_stepOf 214 = .ok (.iload_n 1, 1) := dk_27 (dk_at dksX5_stepOf_9 3 rfl rfl)
theorem dX5_stepOf_215 : decode cX5_stepOf 215 = .ok (.iload_n 2, 1) := dk_28 (dk_at dksX5_stepOf_9 4 rfl rfl)
theorem dX5_stepOf_216 : decode cX5_stepOf 216 = .ok (.iastore, 1) := dk_79 (dk_at dksX5_stepOf_9 5 rfl rfl)
theorem dX5_stepOf_217 : decode cX5_stepOf 217 = .ok (.return_, 1) := dk_177 (dk_at dksX5_stepOf_9 6 rfl rfl)
abbrev cX5_post : ByteArray := prog_10_method_136_code
def yX5_post : MethodName := ⟨RX5, "post", "(I)I"⟩
def dkwX5_post_5 : List UInt8 := [167, 0, 4, 29, 172]
abbrev dktX5_post_5 : List UInt8 := dkwX5_post_5 ++ []
def dkwX5_post_4 : List UInt8 := [132, 4, 1, 167, 255, 200, 27, 154, 0, 7, 28, 167, 0, 16, 27, 4, 160, 0, 10, 42, 180, 1, 193]
abbrev dktX5_post_4 : List UInt8 := dkwX5_post_4 ++ dktX5_post_5
def dkwX5_post_3 : List UInt8 := [167, 0, 4, 28, 61, 29, 42, 180, 0, 125, 21, 4, 46, 2, 160, 0, 7, 4, 167, 0, 4, 3, 96, 62]
abbrev dktX5_post_3 : List UInt8 := dkwX5_post_3 ++ dktX5_post_4
def dkwX5_post_2 : List UInt8 := [5, 46, 162, 0, 51, 42, 180, 0, 125, 21, 4, 46, 28, 164, 0, 13, 42, 180, 0, 125, 21, 4, 46]
abbrev dktX5_post_2 : List UInt8 := dkwX5_post_2 ++ dktX5_post_3
def dkwX5_post_1 : List UInt8 := [16, 254, 172, 42, 17, 1, 44, 3, 182, 1, 202, 3, 61, 3, 62, 3, 54, 4, 21, 4, 42, 180, 0, 34]
abbrev dktX5_post_1 : List UInt8 := dkwX5_post_1 ++ dktX5_post_2
def dkwX5_post_0 : List UInt8 := [42, 3, 181, 0, 131, 42, 182, 1, 23, 153, 0, 15, 27, 133, 9, 20, 1, 154, 184, 0, 136, 154, 0, 6]
abbrev dktX5_post_0 : List UInt8 := dkwX5_post_0 ++ dktX5_post_1
theorem dksX5_post_0 : cX5_post.data.toList.drop 0 = dktX5_post_0 := by decide +kernel
theorem dksX5_post_1 : cX5_post.data.toList.drop 24 = dktX5_post_1 := dk_seg dksX5_post_0 24 rfl rfl
theorem dksX5_post_2 : cX5_post.data.toList.drop 48 = dktX5_post_2 := dk_seg dksX5_post_1 24 rfl rfl
theorem dksX5_post_3 : cX5_post.data.toList.drop 71 = dktX5_post_3 := dk_seg dksX5_post_2 23 rfl rfl
theorem dksX5_post_4 : cX5_post.data.toList.drop 95 = dktX5_post_4 := dk_seg dksX5_post_3 24 rfl rfl
theorem dksX5_post_5 : cX5_post.data.toList.drop 118 = dktX5_post_5 := dk_seg dksX5_post_4 23 rfl rfl
theorem dX5_post_0 : decode cX5_post 0 = .ok (.aload_n 0, 1) := dk_42 (dk_at dksX5_post_0 0 rfl rfl)
theorem dX5_post_1 : decode cX5_post 1 = .ok (.iconst 0, 1) := dk_3 (dk_at dksX5_post_0 1 rfl rfl)
theorem dX5_post_2 : decode cX5_post 2 = .ok (.putfield 131, 3) := dk_181 0 131 (dk_at dksX5_post_0 2 rfl rfl)
theorem dX5_post_5 : decode cX5_post 5 = .ok (.aload_n 0, 1) := dk_42 (dk_at dksX5_post_0 5 rfl rfl)
theorem dX5_post_6 : decode cX5_post 6 = .ok (.invokevirtual 279, 3) := dk_182 1 23 (dk_at dksX5_post_0 6 rfl rfl)
theorem dX5_post_9 : decode cX5_post 9 = .ok (.ifCond .eq 15, 3) := dk_153 0 15 (dk_at dksX5_post_0 9 rfl rfl)
theorem dX5_post_12 : decode cX5_post 12 = .ok (.iload_n 1, 1) := dk_27 (dk_at dksX5_post_0 12 rfl rfl)
theorem dX5_post_13 : decode cX5_post 13 = .ok (.i2l, 1) := dk_133 (dk_at dksX5_post_0 13 rfl rfl)
theorem dX5_post_14 : decode cX5_post 14 = .ok (.lconst 0, 1) := dk_9 (dk_at dksX5_post_0 14 rfl rfl)
theorem dX5_post_15 : decode cX5_post 15 = .ok (.ldc2_w 410, 3) := dk_20 1 154 (dk_at dksX5_post_0 15 rfl rfl)
theorem dX5_post_18 : decode cX5_post 18 = .ok (.invokestatic 136, 3) := dk_184 0 136 (dk_at dksX5_post_0 18 rfl rfl)
theorem dX5_post_21 : decode cX5_post 21 = .ok (.ifCond .ne 6, 3) := dk_154 0 6 (dk_at dksX5_post_0 21 rfl rfl)
theorem dX5_post_24 : decode cX5_post 24 = .ok (.bipush (-2), 2) := dk_16 254 (dk_at dksX5_post_1 0 rfl rfl)
theorem dX5_post_26 : decode cX5_post 26 = .ok (.ireturn, 1) := dk_172 (dk_at dksX5_post_1 2 rfl rfl)
theorem dX5_post_27 : decode cX5_post 27 = .ok (.aload_n 0, 1) := dk_42 (dk_at dksX5_post_1 3 rfl rfl)
theorem dX5_post_28 : decode cX5_post 28 = .ok (.sipush 300, 3) := dk_17 1 44 (dk_at dksX5_post_1 4 rfl rfl)
theorem dX5_post_31 : decode cX5_post 31 = .ok (.iconst 0, 1) := dk_3 (dk_at dksX5_post_1 7 rfl rfl)
theorem dX5_post_32 : decode cX5_post 32 = .ok (.invokevirtual 458, 3) := dk_182 1 202 (dk_at dksX5_post_1 8 rfl rfl)
theorem dX5_post_35 : decode cX5_post 35 = .ok (.iconst 0, 1) := dk_3 (dk_at dksX5_post_1 11 rfl rfl)
theorem dX5_post_36 : decode cX5_post 36 = .ok (.istore_n 2, 1) := dk_61 (dk_at dksX5_post_1 12 rfl rfl)
theorem dX5_post_37 : decode cX5_post 37 = .ok (.iconst 0, 1) := dk_3 (dk_at dksX5_post_1 13 rfl rfl)
theorem dX5_post_38 : decode cX5_post 38 = .ok (.istore_n 3, 1) := dk_62 (dk_at dksX5_post_1 14 rfl rfl)
theorem dX5_post_39 : decode cX5_post 39 = .ok (.iconst 0, 1) := dk_3 (dk_at dksX5_post_1 15 rfl rfl)
theorem dX5_post_40 : decode cX5_post 40 = .ok (.istore 4, 2) := dk_54 4 (dk_at dksX5_post_1 16 rfl rfl)
theorem dX5_post_42 : decode cX5_post 42 = .ok (.iload 4, 2) := dk_21 4 (dk_at dksX5_post_1 18 rfl rfl)
theorem dX5_post_44 : decode cX5_post 44 = .ok (.aload_n 0, 1) := dk_42 (dk_at dksX5_post_1 20 rfl rfl)
theorem dX5_post_45 : decode cX5_post 45 = .ok (.getfield 34, 3) := dk_180 0 34 (dk_at dksX5_post_1 21 rfl rfl)
theorem dX5_post_48 : decode cX5_post 48 = .ok (.iconst 2, 1) := dk_5 (dk_at dksX5_post_2 0 rfl rfl)
theorem dX5_post_49 : decode cX5_post 49 = .ok (.iaload, 1) := dk_46 (dk_at dksX5_post_2 1 rfl rfl)
theorem dX5_post_50 : decode cX5_post 50 = .ok (.if_icmp .ge 51, 3) := dk_162 0 51 (dk_at dksX5_post_2 2 rfl rfl)
theorem dX5_post_53 : decode cX5_post 53 = .ok (.aload_n 0, 1) := dk_42 (dk_at dksX5_post_2 5 rfl rfl)
theorem dX5_post_54 : decode cX5_post 54 = .ok (.getfield 125, 3) := dk_180 0 125 (dk_at dksX5_post_2 6 rfl rfl)
theorem dX5_post_57 : decode cX5_post 57 = .ok (.iload 4, 2) := dk_21 4 (dk_at dksX5_post_2 9 rfl rfl)
theorem dX5_post_59 : decode cX5_post 59 = .ok (.iaload, 1) := dk_46 (dk_at dksX5_post_2 11 rfl rfl)
theorem dX5_post_60 : decode cX5_post 60 = .ok (.iload_n 2, 1) := dk_28 (dk_at dksX5_post_2 12 rfl rfl)
theorem dX5_post_61 : decode cX5_post 61 = .ok (.if_icmp .le 13, 3) := dk_164 0 13 (dk_at dksX5_post_2 13 rfl rfl)
theorem dX5_post_64 : decode cX5_post 64 = .ok (.aload_n 0, 1) := dk_42 (dk_at dksX5_post_2 16 rfl rfl)
theorem dX5_post_65 : decode cX5_post 65 = .ok (.getfield 125, 3) := dk_180 0 125 (dk_at dksX5_post_2 17 rfl rfl)
theorem dX5_post_68 : decode cX5_post 68 = .ok (.iload 4, 2) := dk_21 4 (dk_at dksX5_post_2 20 rfl rfl)
theorem dX5_post_70 : decode cX5_post 70 = .ok (.iaload, 1) := dk_46 (dk_at dksX5_post_2 22 rfl rfl)
theorem dX5_post_71 : decode cX5_post 71 = .ok (.goto 4, 3) := dk_167 0 4 (dk_at dksX5_post_3 0 rfl rfl)
theorem dX5_post_74 : decode cX5_post 74 = .ok (.iload_n 2, 1) := dk_28 (dk_at dksX5_post_3 3 rfl rfl)
theorem dX5_post_75 : decode cX5_post 75 = .ok (.istore_n 2, 1) := dk_61 (dk_at dksX5_post_3 4 rfl rfl)
theorem dX5_post_76 : decode cX5_post 76 = .ok (.iload_n 3, 1) := dk_29 (dk_at dksX5_post_3 5 rfl rfl)
theorem dX5_post_77 : decode cX5_post 77 = .ok (.aload_n 0, 1) := dk_42 (dk_at dksX5_post_3 6 rfl rfl)
theorem dX5_post_78 : decode cX5_post 78 = .ok (.getfield 125, 3) := dk_180 0 125 (dk_at dksX5_post_3 7 rfl rfl)
theorem dX5_post_81 : decode cX5_post 81 = .ok (.iload 4, 2) := dk_21 4 (dk_at dksX5_post_3 10 rfl rfl)
theorem dX5_post_83 : decode cX5_post 83 = .ok (.iaload, 1) := dk_46 (dk_at dksX5_post_3 12 rfl rfl)
theorem dX5_post_84 : decode cX5_post 84 = .ok (.iconst (-1), 1) := dk_2 (dk_at dksX5_post_3 13 rfl rfl)
theorem dX5_post_85 : decode cX5_post 85 = .ok (.if_icmp .ne 7, 3) := dk_160 0 7 (dk_at dksX5_post_3 14 rfl rfl)
theorem dX5_post_88 : decode cX5_post 88 = .ok (.iconst 1, 1) := dk_4 (dk_at dksX5_post_3 17 rfl rfl)
theorem dX5_post_89 : decode cX5_post 89 = .ok (.goto 4, 3) := dk_167 0 4 (dk_at dksX5_post_3 18 rfl rfl)
theorem dX5_post_92 : decode cX5_post 92 = .ok (.iconst 0, 1) := dk_3 (dk_at dksX5_post_3 21 rfl rfl)
theorem dX5_post_93 : decode cX5_post 93 = .ok (.iadd, 1) := dk_96 (dk_at dksX5_post_3 22 rfl rfl)
theorem dX5_post_94 : decode cX5_post 94 = .ok (.istore_n 3, 1) := dk_62 (dk_at dksX5_post_3 23 rfl rfl)
theorem dX5_post_95 : decode cX5_post 95 = .ok (.iinc 4 1, 3) := dk_132 4 1 (dk_at dksX5_post_4 0 rfl rfl)
theorem dX5_post_98 : decode cX5_post 98 = .ok (.goto (-56), 3) := dk_167 255 200 (dk_at dksX5_post_4 3 rfl rfl)
theorem dX5_post_101 : decode cX5_post 101 = .ok (.iload_n 1, 1) := dk_27 (dk_at dksX5_post_4 6 rfl rfl)
theorem dX5_post_102 : decode cX5_post 102 = .ok (.ifCond .ne 7, 3) := dk_154 0 7 (dk_at dksX5_post_4 7 rfl rfl)
theorem dX5_post_105 : decode cX5_post 105 = .ok (.iload_n 2, 1) := dk_28 (dk_at dksX5_post_4 10 rfl rfl)
theorem dX5_post_106 : decode cX5_post 106 = .ok (.goto 16, 3) := dk_167 0 16 (dk_at dksX5_post_4 11 rfl rfl)
theorem dX5_post_109 : decode cX5_post 109 = .ok (.iload_n 1, 1) := dk_27 (dk_at dksX5_post_4 14 rfl rfl)
theorem dX5_post_110 : decode cX5_post 110 = .ok (.iconst 1, 1) := dk_4 (dk_at dksX5_post_4 15 rfl rfl)
theorem dX5_post_111 : decode cX5_post 111 = .ok (.if_icmp .ne 10, 3) := dk_160 0 10 (dk_at dksX5_post_4 16 rfl rfl)
theorem dX5_post_114 : decode cX5_post 114 = .ok (.aload_n 0, 1) := dk_42 (dk_at dksX5_post_4 19 rfl rfl)
theorem dX5_post_115 : decode cX5_post 115 = .ok (.getfield 449, 3) := dk_180 1 193 (dk_at dksX5_post_4 20 rfl rfl)
theorem dX5_post_118 : decode cX5_post 118 = .ok (.goto 4, 3) := dk_167 0 4 (dk_at dksX5_post_5 0 rfl rfl)
theorem dX5_post_121 : decode cX5_post 121 = .ok (.iload_n 3, 1) := dk_29 (dk_at dksX5_post_5 3 rfl rfl)
theorem dX5_post_122 : decode cX5_post 122 = .ok (.ireturn, 1) := dk_172 (dk_at dksX5_post_5 4 rfl rfl)
abbrev cX5_at : ByteArray := prog_10_method_137_code
def yX5_at : MethodName := ⟨RX5, "at", "(II)I"⟩
def dkwX5_at_2 : List UInt8 := [27, 46, 172]
abbrev dktX5_at_2 : List UInt8 := dkwX5_at_2 ++ []
def dkwX5_at_1 : List UInt8 := [133, 9, 20, 1, 206, 184, 0, 136, 154, 0, 6, 16, 254, 172, 42, 28, 3, 182, 1, 202, 42, 180, 0, 122]
abbrev dktX5_at_1 : List UInt8 := dkwX5_at_1 ++ dktX5_at_2
def dkwX5_at_0 : List UInt8 := [42, 3, 181, 0, 131, 27, 133, 9, 42, 180, 0, 34, 5, 46, 4, 100, 133, 184, 0, 136, 153, 0, 15, 28]
abbrev dktX5_at_0 : List UInt8 := dkwX5_at_0 ++ dktX5_at_1
theorem dksX5_at_0 : cX5_at.data.toList.drop 0 = dktX5_at_0 := by decide +kernel
theorem dksX5_at_1 : cX5_at.data.toList.drop 24 = dktX5_at_1 := dk_seg dksX5_at_0 24 rfl rfl
theorem dksX5_at_2 : cX5_at.data.toList.drop 48 = dktX5_at_2 := dk_seg dksX5_at_1 24 rfl rfl
theorem dX5_at_0 : decode cX5_at 0 = .ok (.aload_n 0, 1) := dk_42 (dk_at dksX5_at_0 0 rfl rfl)
theorem dX5_at_1 : decode cX5_at 1 = .ok (.iconst 0, 1) := dk_3 (dk_at dksX5_at_0 1 rfl rfl)
theorem dX5_at_2 : decode cX5_at 2 = .ok (.putfield 131, 3) := dk_181 0 131 (dk_at dksX5_at_0 2 rfl rfl)
theorem dX5_at_5 : decode cX5_at 5 = .ok (.iload_n 1, 1) := dk_27 (dk_at dksX5_at_0 5 rfl rfl)
theorem dX5_at_6 : decode cX5_at 6 = .ok (.i2l, 1) := dk_133 (dk_at dksX5_at_0 6 rfl rfl)
theorem dX5_at_7 : decode cX5_at 7 = .ok (.lconst 0, 1) := dk_9 (dk_at dksX5_at_0 7 rfl rfl)
theorem dX5_at_8 : decode cX5_at 8 = .ok (.aload_n 0, 1) := dk_42 (dk_at dksX5_at_0 8 rfl rfl)
theorem dX5_at_9 : decode cX5_at 9 = .ok (.getfield 34, 3) := dk_180 0 34 (dk_at dksX5_at_0 9 rfl rfl)
theorem dX5_at_12 : decode cX5_at 12 = .ok (.iconst 2, 1) := dk_5 (dk_at dksX5_at_0 12 rfl rfl)
theorem dX5_at_13 : decode cX5_at 13 = .ok (.iaload, 1) := dk_46 (dk_at dksX5_at_0 13 rfl rfl)
theorem dX5_at_14 : decode cX5_at 14 = .ok (.iconst 1, 1) := dk_4 (dk_at dksX5_at_0 14 rfl rfl)
theorem dX5_at_15 : decode cX5_at 15 = .ok (.isub, 1) := dk_100 (dk_at dksX5_at_0 15 rfl rfl)
theorem dX5_at_16 : decode cX5_at 16 = .ok (.i2l, 1) := dk_133 (dk_at dksX5_at_0 16 rfl rfl)
theorem dX5_at_17 : decode cX5_at 17 = .ok (.invokestatic 136, 3) := dk_184 0 136 (dk_at dksX5_at_0 17 rfl rfl)
theorem dX5_at_20 : decode cX5_at 20 = .ok (.ifCond .eq 15, 3) := dk_153 0 15 (dk_at dksX5_at_0 20 rfl rfl)
theorem dX5_at_23 : decode cX5_at 23 = .ok (.iload_n 2, 1) := dk_28 (dk_at dksX5_at_0 23 rfl rfl)
theorem dX5_at_24 : decode cX5_at 24 = .ok (.i2l, 1) := dk_133 (dk_at dksX5_at_1 0 rfl rfl)
theorem dX5_at_25 : decode cX5_at 25 = .ok (.lconst 0, 1) := dk_9 (dk_at dksX5_at_1 1 rfl rfl)
theorem dX5_at_26 : decode cX5_at 26 = .ok (.ldc2_w 462, 3) := dk_20 1 206 (dk_at dksX5_at_1 2 rfl rfl)
theorem dX5_at_29 : decode cX5_at 29 = .ok (.invokestatic 136, 3) := dk_184 0 136 (dk_at dksX5_at_1 5 rfl rfl)
theorem dX5_at_32 : decode cX5_at 32 = .ok (.ifCond .ne 6, 3) := dk_154 0 6 (dk_at dksX5_at_1 8 rfl rfl)
theorem dX5_at_35 : decode cX5_at 35 = .ok (.bipush (-2), 2) := dk_16 254 (dk_at dksX5_at_1 11 rfl rfl)
theorem dX5_at_37 : decode cX5_at 37 = .ok (.ireturn, 1) := dk_172 (dk_at dksX5_at_1 13 rfl rfl)
theorem dX5_at_38 : decode cX5_at 38 = .ok (.aload_n 0, 1) := dk_42 (dk_at dksX5_at_1 14 rfl rfl)
theorem dX5_at_39 : decode cX5_at 39 = .ok (.iload_n 2, 1) := dk_28 (dk_at dksX5_at_1 15 rfl rfl)
theorem dX5_at_40 : decode cX5_at 40 = .ok (.iconst 0, 1) := dk_3 (dk_at dksX5_at_1 16 rfl rfl)
theorem dX5_at_41 : decode cX5_at 41 = .ok (.invokevirtual 458, 3) := dk_182 1 202 (dk_at dksX5_at_1 17 rfl rfl)
theorem dX5_at_44 : decode cX5_at 44 = .ok (.aload_n 0, 1) := dk_42 (dk_at dksX5_at_1 20 rfl rfl)
theorem dX5_at_45 : decode cX5_at 45 = .ok (.getfield 122, 3) := dk_180 0 122 (dk_at dksX5_at_1 21 rfl rfl)
theorem dX5_at_48 : decode cX5_at 48 = .ok (.iload_n 1, 1) := dk_27 (dk_at dksX5_at_2 0 rfl rfl)
theorem dX5_at_49 : decode cX5_at 49 = .ok (.iaload, 1) := dk_46 (dk_at dksX5_at_2 1 rfl rfl)
theorem dX5_at_50 : decode cX5_at 50 = .ok (.ireturn, 1) := dk_172 (dk_at dksX5_at_2 2 rfl rfl)
abbrev cX5_clash : ByteArray := prog_10_method_138_code
def yX5_clash : MethodName := ⟨RX5, "clash", "()I"⟩
def dkwX5_clash_1 : List UInt8 := [180, 1, 196, 172]
abbrev dktX5_clash_1 : List UInt8 := dkwX5_clash_1 ++ []
def dkwX5_clash_0 : List UInt8 := [42, 3, 181, 0, 131, 42, 182, 1, 23, 154, 0, 6, 16, 254, 172, 42, 17, 1, 44, 4, 182, 1, 202, 42]
abbrev dktX5_clash_0 : List UInt8 := dkwX5_clash_0 ++ dktX5_clash_1
theorem dksX5_clash_0 : cX5_clash.data.toList.drop 0 = dktX5_clash_0 := by decide +kernel
theorem dksX5_clash_1 : cX5_clash.data.toList.drop 24 = dktX5_clash_1 := dk_seg dksX5_clash_0 24 rfl rfl
theorem dX5_clash_0 : decode cX5_clash 0 = .ok (.aload_n 0, 1) := dk_42 (dk_at dksX5_clash_0 0 rfl rfl)
theorem dX5_clash_1 : decode cX5_clash 1 = .ok (.iconst 0, 1) := dk_3 (dk_at dksX5_clash_0 1 rfl rfl)
theorem dX5_clash_2 : decode cX5_clash 2 = .ok (.putfield 131, 3) := dk_181 0 131 (dk_at dksX5_clash_0 2 rfl rfl)
theorem dX5_clash_5 : decode cX5_clash 5 = .ok (.aload_n 0, 1) := dk_42 (dk_at dksX5_clash_0 5 rfl rfl)
theorem dX5_clash_6 : decode cX5_clash 6 = .ok (.invokevirtual 279, 3) := dk_182 1 23 (dk_at dksX5_clash_0 6 rfl rfl)
theorem dX5_clash_9 : decode cX5_clash 9 = .ok (.ifCond .ne 6, 3) := dk_154 0 6 (dk_at dksX5_clash_0 9 rfl rfl)
theorem dX5_clash_12 : decode cX5_clash 12 = .ok (.bipush (-2), 2) := dk_16 254 (dk_at dksX5_clash_0 12 rfl rfl)
theorem dX5_clash_14 : decode cX5_clash 14 = .ok (.ireturn, 1) := dk_172 (dk_at dksX5_clash_0 14 rfl rfl)
theorem dX5_clash_15 : decode cX5_clash 15 = .ok (.aload_n 0, 1) := dk_42 (dk_at dksX5_clash_0 15 rfl rfl)
theorem dX5_clash_16 : decode cX5_clash 16 = .ok (.sipush 300, 3) := dk_17 1 44 (dk_at dksX5_clash_0 16 rfl rfl)
theorem dX5_clash_19 : decode cX5_clash 19 = .ok (.iconst 1, 1) := dk_4 (dk_at dksX5_clash_0 19 rfl rfl)
theorem dX5_clash_20 : decode cX5_clash 20 = .ok (.invokevirtual 458, 3) := dk_182 1 202 (dk_at dksX5_clash_0 20 rfl rfl)
theorem dX5_clash_23 : decode cX5_clash 23 = .ok (.aload_n 0, 1) := dk_42 (dk_at dksX5_clash_0 23 rfl rfl)
theorem dX5_clash_24 : decode cX5_clash 24 = .ok (.getfield 452, 3) := dk_180 1 196 (dk_at dksX5_clash_1 0 rfl rfl)
theorem dX5_clash_27 : decode cX5_clash 27 = .ok (.ireturn, 1) := dk_172 (dk_at dksX5_clash_1 3 rfl rfl)
abbrev cX5_law : ByteArray := prog_10_method_139_code
def yX5_law : MethodName := ⟨RX5, "law", "(I)I"⟩
def dkwX5_law_7 : List UInt8 := [167, 0, 4, 3, 172]
abbrev dktX5_law_7 : List UInt8 := dkwX5_law_7 ++ []
def dkwX5_law_6 : List UInt8 := [182, 1, 156, 42, 180, 1, 142, 42, 182, 1, 26, 42, 180, 0, 34, 3, 46, 4, 96, 108, 163, 0, 7, 2]
abbrev dktX5_law_6 : List UInt8 := dkwX5_law_6 ++ dktX5_law_7
def dkwX5_law_5 : List UInt8 := [132, 2, 1, 167, 255, 234, 2, 172, 42, 180, 0, 34, 3, 46, 8, 160, 0, 6, 16, 247, 172, 42, 3]
abbrev dktX5_law_5 : List UInt8 := dkwX5_law_5 ++ dktX5_law_6
def dkwX5_law_4 : List UInt8 := [160, 0, 32, 3, 61, 28, 42, 182, 1, 26, 162, 0, 20, 42, 180, 0, 46, 28, 46, 153, 0, 5, 28, 172]
abbrev dktX5_law_4 : List UInt8 := dkwX5_law_4 ++ dktX5_law_5
def dkwX5_law_3 : List UInt8 := [16, 100, 28, 104, 29, 96, 172, 132, 3, 1, 167, 255, 218, 132, 2, 1, 167, 255, 202, 2, 172, 27, 4]
abbrev dktX5_law_3 : List UInt8 := dkwX5_law_3 ++ dktX5_law_4
def dkwX5_law_2 : List UInt8 := [162, 0, 36, 28, 29, 159, 0, 25, 42, 28, 29, 182, 1, 77, 42, 180, 0, 34, 3, 46, 159, 0, 10]
abbrev dktX5_law_2 : List UInt8 := dkwX5_law_2 ++ dktX5_law_3
def dkwX5_law_1 : List UInt8 := [16, 254, 172, 27, 154, 0, 64, 3, 61, 28, 42, 182, 1, 26, 162, 0, 52, 3, 62, 29, 42, 182, 1, 26]
abbrev dktX5_law_1 : List UInt8 := dkwX5_law_1 ++ dktX5_law_2
def dkwX5_law_0 : List UInt8 := [42, 3, 181, 0, 131, 42, 182, 1, 23, 153, 0, 15, 27, 133, 9, 20, 1, 154, 184, 0, 136, 154, 0, 6]
abbrev dktX5_law_0 : List UInt8 := dkwX5_law_0 ++ dktX5_law_1
theorem dksX5_law_0 : cX5_law.data.toList.drop 0 = dktX5_law_0 := by decide +kernel
theorem dksX5_law_1 : cX5_law.data.toList.drop 24 = dktX5_law_1 := dk_seg dksX5_law_0 24 rfl rfl
theorem dksX5_law_2 : cX5_law.data.toList.drop 48 = dktX5_law_2 := dk_seg dksX5_law_1 24 rfl rfl
theorem dksX5_law_3 : cX5_law.data.toList.drop 71 = dktX5_law_3 := dk_seg dksX5_law_2 23 rfl rfl
theorem dksX5_law_4 : cX5_law.data.toList.drop 94 = dktX5_law_4 := dk_seg dksX5_law_3 23 rfl rfl
theorem dksX5_law_5 : cX5_law.data.toList.drop 118 = dktX5_law_5 := dk_seg dksX5_law_4 24 rfl rfl
theorem dksX5_law_6 : cX5_law.data.toList.drop 141 = dktX5_law_6 := dk_seg dksX5_law_5 23 rfl rfl
theorem dksX5_law_7 : cX5_law.data.toList.drop 165 = dktX5_law_7 := dk_seg dksX5_law_6 24 rfl rfl
theorem dX5_law_0 : decode cX5_law 0 = .ok (.aload_n 0, 1) := dk_42 (dk_at dksX5_law_0 0 rfl rfl)
theorem dX5_law_1 : decode cX5_law 1 = .ok (.iconst 0, 1) := dk_3 (dk_at dksX5_law_0 1 rfl rfl)
theorem dX5_law_2 : decode cX5_law 2 = .ok (.putfield 131, 3) := dk_181 0 131 (dk_at dksX5_law_0 2 rfl rfl)
theorem dX5_law_5 : decode cX5_law 5 = .ok (.aload_n 0, 1) := dk_42 (dk_at dksX5_law_0 5 rfl rfl)
theorem dX5_law_6 : decode cX5_law 6 = .ok (.invokevirtual 279, 3) := dk_182 1 23 (dk_at dksX5_law_0 6 rfl rfl)
theorem dX5_law_9 : decode cX5_law 9 = .ok (.ifCond .eq 15, 3) := dk_153 0 15 (dk_at dksX5_law_0 9 rfl rfl)
theorem dX5_law_12 : decode cX5_law 12 = .ok (.iload_n 1, 1) := dk_27 (dk_at dksX5_law_0 12 rfl rfl)
theorem dX5_law_13 : decode cX5_law 13 = .ok (.i2l, 1) := dk_133 (dk_at dksX5_law_0 13 rfl rfl)
theorem dX5_law_14 : decode cX5_law 14 = .ok (.lconst 0, 1) := dk_9 (dk_at dksX5_law_0 14 rfl rfl)
theorem dX5_law_15 : decode cX5_law 15 = .ok (.ldc2_w 410, 3) := dk_20 1 154 (dk_at dksX5_law_0 15 rfl rfl)
theorem dX5_law_18 : decode cX5_law 18 = .ok (.invokestatic 136, 3) := dk_184 0 136 (dk_at dksX5_law_0 18 rfl rfl)
theorem dX5_law_21 : decode cX5_law 21 = .ok (.ifCond .ne 6, 3) := dk_154 0 6 (dk_at dksX5_law_0 21 rfl rfl)
theorem dX5_law_24 : decode cX5_law 24 = .ok (.bipush (-2), 2) := dk_16 254 (dk_at dksX5_law_1 0 rfl rfl)
theorem dX5_law_26 : decode cX5_law 26 = .ok (.ireturn, 1) := dk_172 (dk_at dksX5_law_1 2 rfl rfl)
theorem dX5_law_27 : decode cX5_law 27 = .ok (.iload_n 1, 1) := dk_27 (dk_at dksX5_law_1 3 rfl rfl)
theorem dX5_law_28 : decode cX5_law 28 = .ok (.ifCond .ne 64, 3) := dk_154 0 64 (dk_at dksX5_law_1 4 rfl rfl)
theorem dX5_law_31 : decode cX5_law 31 = .ok (.iconst 0, 1) := dk_3 (dk_at dksX5_law_1 7 rfl rfl)
theorem dX5_law_32 : decode cX5_law 32 = .ok (.istore_n 2, 1) := dk_61 (dk_at dksX5_law_1 8 rfl rfl)
theorem dX5_law_33 : decode cX5_law 33 = .ok (.iload_n 2, 1) := dk_28 (dk_at dksX5_law_1 9 rfl rfl)
theorem dX5_law_34 : decode cX5_law 34 = .ok (.aload_n 0, 1) := dk_42 (dk_at dksX5_law_1 10 rfl rfl)
theorem dX5_law_35 : decode cX5_law 35 = .ok (.invokevirtual 282, 3) := dk_182 1 26 (dk_at dksX5_law_1 11 rfl rfl)
theorem dX5_law_38 : decode cX5_law 38 = .ok (.if_icmp .ge 52, 3) := dk_162 0 52 (dk_at dksX5_law_1 14 rfl rfl)
theorem dX5_law_41 : decode cX5_law 41 = .ok (.iconst 0, 1) := dk_3 (dk_at dksX5_law_1 17 rfl rfl)
theorem dX5_law_42 : decode cX5_law 42 = .ok (.istore_n 3, 1) := dk_62 (dk_at dksX5_law_1 18 rfl rfl)
theorem dX5_law_43 : decode cX5_law 43 = .ok (.iload_n 3, 1) := dk_29 (dk_at dksX5_law_1 19 rfl rfl)
theorem dX5_law_44 : decode cX5_law 44 = .ok (.aload_n 0, 1) := dk_42 (dk_at dksX5_law_1 20 rfl rfl)
theorem dX5_law_45 : decode cX5_law 45 = .ok (.invokevirtual 282, 3) := dk_182 1 26 (dk_at dksX5_law_1 21 rfl rfl)
theorem dX5_law_48 : decode cX5_law 48 = .ok (.if_icmp .ge 36, 3) := dk_162 0 36 (dk_at dksX5_law_2 0 rfl rfl)
theorem dX5_law_51 : decode cX5_law 51 = .ok (.iload_n 2, 1) := dk_28 (dk_at dksX5_law_2 3 rfl rfl)
theorem dX5_law_52 : decode cX5_law 52 = .ok (.iload_n 3, 1) := dk_29 (dk_at dksX5_law_2 4 rfl rfl)
theorem dX5_law_53 : decode cX5_law 53 = .ok (.if_icmp .eq 25, 3) := dk_159 0 25 (dk_at dksX5_law_2 5 rfl rfl)
theorem dX5_law_56 : decode cX5_law 56 = .ok (.aload_n 0, 1) := dk_42 (dk_at dksX5_law_2 8 rfl rfl)
theorem dX5_law_57 : decode cX5_law 57 = .ok (.iload_n 2, 1) := dk_28 (dk_at dksX5_law_2 9 rfl rfl)
theorem dX5_law_58 : decode cX5_law 58 = .ok (.iload_n 3, 1) := dk_29 (dk_at dksX5_law_2 10 rfl rfl)
theorem dX5_law_59 : decode cX5_law 59 = .ok (.invokevirtual 333, 3) := dk_182 1 77 (dk_at dksX5_law_2 11 rfl rfl)
theorem dX5_law_62 : decode cX5_law 62 = .ok (.aload_n 0, 1) := dk_42 (dk_at dksX5_law_2 14 rfl rfl)
theorem dX5_law_63 : decode cX5_law 63 = .ok (.getfield 34, 3) := dk_180 0 34 (dk_at dksX5_law_2 15 rfl rfl)
theorem dX5_law_66 : decode cX5_law 66 = .ok (.iconst 0, 1) := dk_3 (dk_at dksX5_law_2 18 rfl rfl)
theorem dX5_law_67 : decode cX5_law 67 = .ok (.iaload, 1) := dk_46 (dk_at dksX5_law_2 19 rfl rfl)
theorem dX5_law_68 : decode cX5_law 68 = .ok (.if_icmp .eq 10, 3) := dk_159 0 10 (dk_at dksX5_law_2 20 rfl rfl)
theorem dX5_law_71 : decode cX5_law 71 = .ok (.bipush 100, 2) := dk_16 100 (dk_at dksX5_law_3 0 rfl rfl)
theorem dX5_law_73 : decode cX5_law 73 = .ok (.iload_n 2, 1) := dk_28 (dk_at dksX5_law_3 2 rfl rfl)
theorem dX5_law_74 : decode cX5_law 74 = .ok (.imul, 1) := dk_104 (dk_at dksX5_law_3 3 rfl rfl)
theorem dX5_law_75 : decode cX5_law 75 = .ok (.iload_n 3, 1) := dk_29 (dk_at dksX5_law_3 4 rfl rfl)
theorem dX5_law_76 : decode cX5_law 76 = .ok (.iadd, 1) := dk_96 (dk_at dksX5_law_3 5 rfl rfl)
theorem dX5_law_77 : decode cX5_law 77 = .ok (.ireturn, 1) := dk_172 (dk_at dksX5_law_3 6 rfl rfl)
theorem dX5_law_78 : decode cX5_law 78 = .ok (.iinc 3 1, 3) := dk_132 3 1 (dk_at dksX5_law_3 7 rfl rfl)
theorem dX5_law_81 : decode cX5_law 81 = .ok (.goto (-38), 3) := dk_167 255 218 (dk_at dksX5_law_3 10 rfl rfl)
theorem dX5_law_84 : decode cX5_law 84 = .ok (.iinc 2 1, 3) := dk_132 2 1 (dk_at dksX5_law_3 13 rfl rfl)
theorem dX5_law_87 : decode cX5_law 87 = .ok (.goto (-54), 3) := dk_167 255 202 (dk_at dksX5_law_3 16 rfl rfl)
theorem dX5_law_90 : decode cX5_law 90 = .ok (.iconst (-1), 1) := dk_2 (dk_at dksX5_law_3 19 rfl rfl)
theorem dX5_law_91 : decode cX5_law 91 = .ok (.ireturn, 1) := dk_172 (dk_at dksX5_law_3 20 rfl rfl)
theorem dX5_law_92 : decode cX5_law 92 = .ok (.iload_n 1, 1) := dk_27 (dk_at dksX5_law_3 21 rfl rfl)
theorem dX5_law_93 : decode cX5_law 93 = .ok (.iconst 1, 1) := dk_4 (dk_at dksX5_law_3 22 rfl rfl)
theorem dX5_law_94 : decode cX5_law 94 = .ok (.if_icmp .ne 32, 3) := dk_160 0 32 (dk_at dksX5_law_4 0 rfl rfl)
theorem dX5_law_97 : decode cX5_law 97 = .ok (.iconst 0, 1) := dk_3 (dk_at dksX5_law_4 3 rfl rfl)
theorem dX5_law_98 : decode cX5_law 98 = .ok (.istore_n 2, 1) := dk_61 (dk_at dksX5_law_4 4 rfl rfl)
theorem dX5_law_99 : decode cX5_law 99 = .ok (.iload_n 2, 1) := dk_28 (dk_at dksX5_law_4 5 rfl rfl)
theorem dX5_law_100 : decode cX5_law 100 = .ok (.aload_n 0, 1) := dk_42 (dk_at dksX5_law_4 6 rfl rfl)
theorem dX5_law_101 : decode cX5_law 101 = .ok (.invokevirtual 282, 3) := dk_182 1 26 (dk_at dksX5_law_4 7 rfl rfl)
theorem dX5_law_104 : decode cX5_law 104 = .ok (.if_icmp .ge 20, 3) := dk_162 0 20 (dk_at dksX5_law_4 10 rfl rfl)
theorem dX5_law_107 : decode cX5_law 107 = .ok (.aload_n 0, 1) := dk_42 (dk_at dksX5_law_4 13 rfl rfl)
theorem dX5_law_108 : decode cX5_law 108 = .ok (.getfield 46, 3) := dk_180 0 46 (dk_at dksX5_law_4 14 rfl rfl)
theorem dX5_law_111 : decode cX5_law 111 = .ok (.iload_n 2, 1) := dk_28 (dk_at dksX5_law_4 17 rfl rfl)
theorem dX5_law_112 : decode cX5_law 112 = .ok (.iaload, 1) := dk_46 (dk_at dksX5_law_4 18 rfl rfl)
theorem dX5_law_113 : decode cX5_law 113 = .ok (.ifCond .eq 5, 3) := dk_153 0 5 (dk_at dksX5_law_4 19 rfl rfl)
theorem dX5_law_116 : decode cX5_law 116 = .ok (.iload_n 2, 1) := dk_28 (dk_at dksX5_law_4 22 rfl rfl)
theorem dX5_law_117 : decode cX5_law 117 = .ok (.ireturn, 1) := dk_172 (dk_at dksX5_law_4 23 rfl rfl)
theorem dX5_law_118 : decode cX5_law 118 = .ok (.iinc 2 1, 3) := dk_132 2 1 (dk_at dksX5_law_5 0 rfl rfl)
theorem dX5_law_121 : decode cX5_law 121 = .ok (.goto (-22), 3) := dk_167 255 234 (dk_at dksX5_law_5 3 rfl rfl)
theorem dX5_law_124 : decode cX5_law 124 = .ok (.iconst (-1), 1) := dk_2 (dk_at dksX5_law_5 6 rfl rfl)
theorem dX5_law_125 : decode cX5_law 125 = .ok (.ireturn, 1) := dk_172 (dk_at dksX5_law_5 7 rfl rfl)
theorem dX5_law_126 : decode cX5_law 126 = .ok (.aload_n 0, 1) := dk_42 (dk_at dksX5_law_5 8 rfl rfl)
theorem dX5_law_127 : decode cX5_law 127 = .ok (.getfield 34, 3) := dk_180 0 34 (dk_at dksX5_law_5 9 rfl rfl)
theorem dX5_law_130 : decode cX5_law 130 = .ok (.iconst 0, 1) := dk_3 (dk_at dksX5_law_5 12 rfl rfl)
theorem dX5_law_131 : decode cX5_law 131 = .ok (.iaload, 1) := dk_46 (dk_at dksX5_law_5 13 rfl rfl)
theorem dX5_law_132 : decode cX5_law 132 = .ok (.iconst 5, 1) := dk_8 (dk_at dksX5_law_5 14 rfl rfl)
theorem dX5_law_133 : decode cX5_law 133 = .ok (.if_icmp .ne 6, 3) := dk_160 0 6 (dk_at dksX5_law_5 15 rfl rfl)
theorem dX5_law_136 : decode cX5_law 136 = .ok (.bipush (-9), 2) := dk_16 247 (dk_at dksX5_law_5 18 rfl rfl)
theorem dX5_law_138 : decode cX5_law 138 = .ok (.ireturn, 1) := dk_172 (dk_at dksX5_law_5 20 rfl rfl)
theorem dX5_law_139 : decode cX5_law 139 = .ok (.aload_n 0, 1) := dk_42 (dk_at dksX5_law_5 21 rfl rfl)
theorem dX5_law_140 : decode cX5_law 140 = .ok (.iconst 0, 1) := dk_3 (dk_at dksX5_law_5 22 rfl rfl)
theorem dX5_law_141 : decode cX5_law 141 = .ok (.invokevirtual 412, 3) := dk_182 1 156 (dk_at dksX5_law_6 0 rfl rfl)
theorem dX5_law_144 : decode cX5_law 144 = .ok (.aload_n 0, 1) := dk_42 (dk_at dksX5_law_6 3 rfl rfl)
theorem dX5_law_145 : decode cX5_law 145 = .ok (.getfield 398, 3) := dk_180 1 142 (dk_at dksX5_law_6 4 rfl rfl)
theorem dX5_law_148 : decode cX5_law 148 = .ok (.aload_n 0, 1) := dk_42 (dk_at dksX5_law_6 7 rfl rfl)
theorem dX5_law_149 : decode cX5_law 149 = .ok (.invokevirtual 282, 3) := dk_182 1 26 (dk_at dksX5_law_6 8 rfl rfl)
theorem dX5_law_152 : decode cX5_law 152 = .ok (.aload_n 0, 1) := dk_42 (dk_at dksX5_law_6 11 rfl rfl)
theorem dX5_law_153 : decode cX5_law 153 = .ok (.getfield 34, 3) := dk_180 0 34 (dk_at dksX5_law_6 12 rfl rfl)
theorem dX5_law_156 : decode cX5_law 156 = .ok (.iconst 0, 1) := dk_3 (dk_at dksX5_law_6 15 rfl rfl)
theorem dX5_law_157 : decode cX5_law 157 = .ok (.iaload, 1) := dk_46 (dk_at dksX5_law_6 16 rfl rfl)
theorem dX5_law_158 : decode cX5_law 158 = .ok (.iconst 1, 1) := dk_4 (dk_at dksX5_law_6 17 rfl rfl)
theorem dX5_law_159 : decode cX5_law 159 = .ok (.iadd, 1) := dk_96 (dk_at dksX5_law_6 18 rfl rfl)
theorem dX5_law_160 : decode cX5_law 160 = .ok (.idiv, 1) := dk_108 (dk_at dksX5_law_6 19 rfl rfl)
theorem dX5_law_161 : decode cX5_law 161 = .ok (.if_icmp .gt 7, 3) := dk_163 0 7 (dk_at dksX5_law_6 20 rfl rfl)
theorem dX5_law_164 : decode cX5_law 164 = .ok (.iconst (-1), 1) := dk_2 (dk_at dksX5_law_6 23 rfl rfl)
theorem dX5_law_165 : decode cX5_law 165 = .ok (.goto 4, 3) := dk_167 0 4 (dk_at dksX5_law_7 0 rfl rfl)
theorem dX5_law_168 : decode cX5_law 168 = .ok (.iconst 0, 1) := dk_3 (dk_at dksX5_law_7 3 rfl rfl)
theorem dX5_law_169 : decode cX5_law 169 = .ok (.ireturn, 1) := dk_172 (dk_at dksX5_law_7 4 rfl rfl)
abbrev cX5_flood : ByteArray := prog_10_method_143_code
def yX5_flood : MethodName := ⟨RX5, "flood", "(III)I"⟩
def dkwX5_flood_1 : List UInt8 := [28, 29, 182, 1, 227, 167, 0, 5, 16, 254, 172]
abbrev dktX5_flood_1 : List UInt8 := dkwX5_flood_1 ++ []
def dkwX5_flood_0 : List UInt8 := [42, 3, 181, 0, 131, 27, 184, 1, 224, 153, 0, 23, 42, 28, 29, 182, 1, 74, 153, 0, 14, 42, 27, 133]
abbrev dktX5_flood_0 : List UInt8 := dkwX5_flood_0 ++ dktX5_flood_1
theorem dksX5_flood_0 : cX5_flood.data.toList.drop 0 = dktX5_flood_0 := by decide +kernel
theorem dksX5_flood_1 : cX5_flood.data.toList.drop 24 = dktX5_flood_1 := dk_seg dksX5_flood_0 24 rfl rfl
theorem dX5_flood_0 : decode cX5_flood 0 = .ok (.aload_n 0, 1) := dk_42 (dk_at dksX5_flood_0 0 rfl rfl)
theorem dX5_flood_1 : decode cX5_flood 1 = .ok (.iconst 0, 1) := dk_3 (dk_at dksX5_flood_0 1 rfl rfl)
theorem dX5_flood_2 : decode cX5_flood 2 = .ok (.putfield 131, 3) := dk_181 0 131 (dk_at dksX5_flood_0 2 rfl rfl)
theorem dX5_flood_5 : decode cX5_flood 5 = .ok (.iload_n 1, 1) := dk_27 (dk_at dksX5_flood_0 5 rfl rfl)
theorem dX5_flood_6 : decode cX5_flood 6 = .ok (.invokestatic 480, 3) := dk_184 1 224 (dk_at dksX5_flood_0 6 rfl rfl)
theorem dX5_flood_9 : decode cX5_flood 9 = .ok (.ifCond .eq 23, 3) := dk_153 0 23 (dk_at dksX5_flood_0 9 rfl rfl)
theorem dX5_flood_12 : decode cX5_flood 12 = .ok (.aload_n 0, 1) := dk_42 (dk_at dksX5_flood_0 12 rfl rfl)
theorem dX5_flood_13 : decode cX5_flood 13 = .ok (.iload_n 2, 1) := dk_28 (dk_at dksX5_flood_0 13 rfl rfl)
theorem dX5_flood_14 : decode cX5_flood 14 = .ok (.iload_n 3, 1) := dk_29 (dk_at dksX5_flood_0 14 rfl rfl)
theorem dX5_flood_15 : decode cX5_flood 15 = .ok (.invokevirtual 330, 3) := dk_182 1 74 (dk_at dksX5_flood_0 15 rfl rfl)
theorem dX5_flood_18 : decode cX5_flood 18 = .ok (.ifCond .eq 14, 3) := dk_153 0 14 (dk_at dksX5_flood_0 18 rfl rfl)
theorem dX5_flood_21 : decode cX5_flood 21 = .ok (.aload_n 0, 1) := dk_42 (dk_at dksX5_flood_0 21 rfl rfl)
theorem dX5_flood_22 : decode cX5_flood 22 = .ok (.iload_n 1, 1) := dk_27 (dk_at dksX5_flood_0 22 rfl rfl)
theorem dX5_flood_23 : decode cX5_flood 23 = .ok (.i2l, 1) := dk_133 (dk_at dksX5_flood_0 23 rfl rfl)
theorem dX5_flood_24 : decode cX5_flood 24 = .ok (.iload_n 2, 1) := dk_28 (dk_at dksX5_flood_1 0 rfl rfl)
theorem dX5_flood_25 : decode cX5_flood 25 = .ok (.iload_n 3, 1) := dk_29 (dk_at dksX5_flood_1 1 rfl rfl)
theorem dX5_flood_26 : decode cX5_flood 26 = .ok (.invokevirtual 483, 3) := dk_182 1 227 (dk_at dksX5_flood_1 2 rfl rfl)
theorem dX5_flood_29 : decode cX5_flood 29 = .ok (.goto 5, 3) := dk_167 0 5 (dk_at dksX5_flood_1 5 rfl rfl)
theorem dX5_flood_32 : decode cX5_flood 32 = .ok (.bipush (-2), 2) := dk_16 254 (dk_at dksX5_flood_1 8 rfl rfl)
theorem dX5_flood_34 : decode cX5_flood 34 = .ok (.ireturn, 1) := dk_172 (dk_at dksX5_flood_1 10 rfl rfl)
abbrev cX5_isSeed : ByteArray := prog_10_method_142_code
def yX5_isSeed : MethodName := ⟨RX5, "isSeed", "(I)Z"⟩
def dkwX5_isSeed_0 : List UInt8 := [26, 133, 9, 20, 1, 222, 184, 0, 136, 172]
abbrev dktX5_isSeed_0 : List UInt8 := dkwX5_isSeed_0 ++ []
theorem dksX5_isSeed_0 : cX5_isSeed.data.toList.drop 0 = dktX5_isSeed_0 := by decide +kernel
theorem dX5_isSeed_0 : decode cX5_isSeed 0 = .ok (.iload_n 0, 1) := dk_26 (dk_at dksX5_isSeed_0 0 rfl rfl)
theorem dX5_isSeed_1 : decode cX5_isSeed 1 = .ok (.i2l, 1) := dk_133 (dk_at dksX5_isSeed_0 1 rfl rfl)
theorem dX5_isSeed_2 : decode cX5_isSeed 2 = .ok (.lconst 0, 1) := dk_9 (dk_at dksX5_isSeed_0 2 rfl rfl)
theorem dX5_isSeed_3 : decode cX5_isSeed 3 = .ok (.ldc2_w 478, 3) := dk_20 1 222 (dk_at dksX5_isSeed_0 3 rfl rfl)
theorem dX5_isSeed_6 : decode cX5_isSeed 6 = .ok (.invokestatic 136, 3) := dk_184 0 136 (dk_at dksX5_isSeed_0 6 rfl rfl)
theorem dX5_isSeed_9 : decode cX5_isSeed 9 = .ok (.ireturn, 1) := dk_172 (dk_at dksX5_isSeed_0 9 rfl rfl)
abbrev cX5_floods : ByteArray := prog_10_method_141_code
def yX5_floods : MethodName := ⟨RX5, "floods", "(JII)I"⟩
def dkwX5_floods_6 : List UInt8 := [54, 5, 21, 5, 21, 4, 160, 0, 6, 21, 6, 172, 132, 6, 1, 167, 255, 129, 2, 172]
abbrev dktX5_floods_6 : List UInt8 := dkwX5_floods_6 ++ []
def dkwX5_floods_5 : List UInt8 := [21, 10, 54, 8, 132, 9, 1, 167, 255, 179, 21, 8, 2, 160, 0, 8, 21, 5, 167, 0, 5, 21, 8]
abbrev dktX5_floods_5 : List UInt8 := dkwX5_floods_5 ++ dktX5_floods_6
def dkwX5_floods_4 : List UInt8 := [180, 0, 62, 21, 5, 46, 4, 100, 160, 0, 20, 21, 8, 2, 159, 0, 10, 21, 10, 21, 8, 162, 0, 7]
abbrev dktX5_floods_4 : List UInt8 := dkwX5_floods_4 ++ dktX5_floods_5
def dkwX5_floods_3 : List UInt8 := [21, 7, 159, 0, 50, 42, 21, 5, 21, 9, 182, 1, 39, 153, 0, 39, 42, 180, 0, 62, 21, 10, 46, 42]
abbrev dktX5_floods_3 : List UInt8 := dkwX5_floods_3 ++ dktX5_floods_4
def dkwX5_floods_2 : List UInt8 := [54, 9, 21, 9, 42, 180, 0, 34, 3, 46, 162, 0, 72, 21, 5, 4, 21, 9, 120, 130, 54, 10, 21, 9]
abbrev dktX5_floods_2 : List UInt8 := dkwX5_floods_2 ++ dktX5_floods_3
def dkwX5_floods_1 : List UInt8 := [29, 54, 5, 4, 54, 6, 21, 6, 16, 60, 163, 0, 126, 42, 182, 1, 219, 54, 7, 2, 54, 8, 3]
abbrev dktX5_floods_1 : List UInt8 := dkwX5_floods_1 ++ dktX5_floods_2
def dkwX5_floods_0 : List UInt8 := [42, 31, 181, 1, 210, 42, 21, 4, 182, 1, 52, 42, 180, 0, 62, 29, 46, 18, 182, 160, 0, 5, 2, 172]
abbrev dktX5_floods_0 : List UInt8 := dkwX5_floods_0 ++ dktX5_floods_1
theorem dksX5_floods_0 : cX5_floods.data.toList.drop 0 = dktX5_floods_0 := by decide +kernel
theorem dksX5_floods_1 : cX5_floods.data.toList.drop 24 = dktX5_floods_1 := dk_seg dksX5_floods_0 24 rfl rfl
theorem dksX5_floods_2 : cX5_floods.data.toList.drop 47 = dktX5_floods_2 := dk_seg dksX5_floods_1 23 rfl rfl
theorem dksX5_floods_3 : cX5_floods.data.toList.drop 71 = dktX5_floods_3 := dk_seg dksX5_floods_2 24 rfl rfl
theorem dksX5_floods_4 : cX5_floods.data.toList.drop 95 = dktX5_floods_4 := dk_seg dksX5_floods_3 24 rfl rfl
theorem dksX5_floods_5 : cX5_floods.data.toList.drop 119 = dktX5_floods_5 := dk_seg dksX5_floods_4 24 rfl rfl
theorem dksX5_floods_6 : cX5_floods.data.toList.drop 142 = dktX5_floods_6 := dk_seg dksX5_floods_5 23 rfl rfl
theorem dX5_floods_0 : decode cX5_floods 0 = .ok (.aload_n 0, 1) := dk_42 (dk_at dksX5_floods_0 0 rfl rfl)
theorem dX5_floods_1 : decode cX5_floods 1 = .ok (.lload_n 1, 1) := dk_31 (dk_at dksX5_floods_0 1 rfl rfl)
theorem dX5_floods_2 : decode cX5_floods 2 = .ok (.putfield 466, 3) := dk_181 1 210 (dk_at dksX5_floods_0 2 rfl rfl)
theorem dX5_floods_5 : decode cX5_floods 5 = .ok (.aload_n 0, 1) := dk_42 (dk_at dksX5_floods_0 5 rfl rfl)
theorem dX5_floods_6 : decode cX5_floods 6 = .ok (.iload 4, 2) := dk_21 4 (dk_at dksX5_floods_0 6 rfl rfl)
theorem dX5_floods_8 : decode cX5_floods 8 = .ok (.invokevirtual 308, 3) := dk_182 1 52 (dk_at dksX5_floods_0 8 rfl rfl)
theorem dX5_floods_11 : decode cX5_floods 11 = .ok (.aload_n 0, 1) := dk_42 (dk_at dksX5_floods_0 11 rfl rfl)
theorem dX5_floods_12 : decode cX5_floods 12 = .ok (.getfield 62, 3) := dk_180 0 62 (dk_at dksX5_floods_0 12 rfl rfl)
theorem dX5_floods_15 : decode cX5_floods 15 = .ok (.iload_n 3, 1) := dk_29 (dk_at dksX5_floods_0 15 rfl rfl)
theorem dX5_floods_16 : decode cX5_floods 16 = .ok (.iaload, 1) := dk_46 (dk_at dksX5_floods_0 16 rfl rfl)
theorem dX5_floods_17 : decode cX5_floods 17 = .ok (.ldc 182, 2) := dk_18 182 (dk_at dksX5_floods_0 17 rfl rfl)
theorem dX5_floods_19 : decode cX5_floods 19 = .ok (.if_icmp .ne 5, 3) := dk_160 0 5 (dk_at dksX5_floods_0 19 rfl rfl)
theorem dX5_floods_22 : decode cX5_floods 22 = .ok (.iconst (-1), 1) := dk_2 (dk_at dksX5_floods_0 22 rfl rfl)
theorem dX5_floods_23 : decode cX5_floods 23 = .ok (.ireturn, 1) := dk_172 (dk_at dksX5_floods_0 23 rfl rfl)
theorem dX5_floods_24 : decode cX5_floods 24 = .ok (.iload_n 3, 1) := dk_29 (dk_at dksX5_floods_1 0 rfl rfl)
theorem dX5_floods_25 : decode cX5_floods 25 = .ok (.istore 5, 2) := dk_54 5 (dk_at dksX5_floods_1 1 rfl rfl)
theorem dX5_floods_27 : decode cX5_floods 27 = .ok (.iconst 1, 1) := dk_4 (dk_at dksX5_floods_1 3 rfl rfl)
theorem dX5_floods_28 : decode cX5_floods 28 = .ok (.istore 6, 2) := dk_54 6 (dk_at dksX5_floods_1 4 rfl rfl)
theorem dX5_floods_30 : decode cX5_floods 30 = .ok (.iload 6, 2) := dk_21 6 (dk_at dksX5_floods_1 6 rfl rfl)
theorem dX5_floods_32 : decode cX5_floods 32 = .ok (.bipush 60, 2) := dk_16 60 (dk_at dksX5_floods_1 8 rfl rfl)
theorem dX5_floods_34 : decode cX5_floods 34 = .ok (.if_icmp .gt 126, 3) := dk_163 0 126 (dk_at dksX5_floods_1 10 rfl rfl)
theorem dX5_floods_37 : decode cX5_floods 37 = .ok (.aload_n 0, 1) := dk_42 (dk_at dksX5_floods_1 13 rfl rfl)
theorem dX5_floods_38 : decode cX5_floods 38 = .ok (.invokevirtual 475, 3) := dk_182 1 219 (dk_at dksX5_floods_1 14 rfl rfl)
theorem dX5_floods_41 : decode cX5_floods 41 = .ok (.istore 7, 2) := dk_54 7 (dk_at dksX5_floods_1 17 rfl rfl)
theorem dX5_floods_43 : decode cX5_floods 43 = .ok (.iconst (-1), 1) := dk_2 (dk_at dksX5_floods_1 19 rfl rfl)
theorem dX5_floods_44 : decode cX5_floods 44 = .ok (.istore 8, 2) := dk_54 8 (dk_at dksX5_floods_1 20 rfl rfl)
theorem dX5_floods_46 : decode cX5_floods 46 = .ok (.iconst 0, 1) := dk_3 (dk_at dksX5_floods_1 22 rfl rfl)
theorem dX5_floods_47 : decode cX5_floods 47 = .ok (.istore 9, 2) := dk_54 9 (dk_at dksX5_floods_2 0 rfl rfl)
theorem dX5_floods_49 : decode cX5_floods 49 = .ok (.iload 9, 2) := dk_21 9 (dk_at dksX5_floods_2 2 rfl rfl)
theorem dX5_floods_51 : decode cX5_floods 51 = .ok (.aload_n 0, 1) := dk_42 (dk_at dksX5_floods_2 4 rfl rfl)
theorem dX5_floods_52 : decode cX5_floods 52 = .ok (.getfield 34, 3) := dk_180 0 34 (dk_at dksX5_floods_2 5 rfl rfl)
theorem dX5_floods_55 : decode cX5_floods 55 = .ok (.iconst 0, 1) := dk_3 (dk_at dksX5_floods_2 8 rfl rfl)
theorem dX5_floods_56 : decode cX5_floods 56 = .ok (.iaload, 1) := dk_46 (dk_at dksX5_floods_2 9 rfl rfl)
theorem dX5_floods_57 : decode cX5_floods 57 = .ok (.if_icmp .ge 72, 3) := dk_162 0 72 (dk_at dksX5_floods_2 10 rfl rfl)
theorem dX5_floods_60 : decode cX5_floods 60 = .ok (.iload 5, 2) := dk_21 5 (dk_at dksX5_floods_2 13 rfl rfl)
theorem dX5_floods_62 : decode cX5_floods 62 = .ok (.iconst 1, 1) := dk_4 (dk_at dksX5_floods_2 15 rfl rfl)
theorem dX5_floods_63 : decode cX5_floods 63 = .ok (.iload 9, 2) := dk_21 9 (dk_at dksX5_floods_2 16 rfl rfl)
theorem dX5_floods_65 : decode cX5_floods 65 = .ok (.ishl, 1) := dk_120 (dk_at dksX5_floods_2 18 rfl rfl)
theorem dX5_floods_66 : decode cX5_floods 66 = .ok (.ixor, 1) := dk_130 (dk_at dksX5_floods_2 19 rfl rfl)
theorem dX5_floods_67 : decode cX5_floods 67 = .ok (.istore 10, 2) := dk_54 10 (dk_at dksX5_floods_2 20 rfl rfl)
theorem dX5_floods_69 : decode cX5_floods 69 = .ok (.iload 9, 2) := dk_21 9 (dk_at dksX5_floods_2 22 rfl rfl)
theorem dX5_floods_71 : decode cX5_floods 71 = .ok (.iload 7, 2) := dk_21 7 (dk_at dksX5_floods_3 0 rfl rfl)
theorem dX5_floods_73 : decode cX5_floods 73 = .ok (.if_icmp .eq 50, 3) := dk_159 0 50 (dk_at dksX5_floods_3 2 rfl rfl)
theorem dX5_floods_76 : decode cX5_floods 76 = .ok (.aload_n 0, 1) := dk_42 (dk_at dksX5_floods_3 5 rfl rfl)
theorem dX5_floods_77 : decode cX5_floods 77 = .ok (.iload 5, 2) := dk_21 5 (dk_at dksX5_floods_3 6 rfl rfl)
theorem dX5_floods_79 : decode cX5_floods 79 = .ok (.iload 9, 2) := dk_21 9 (dk_at dksX5_floods_3 8 rfl rfl)
theorem dX5_floods_81 : decode cX5_floods 81 = .ok (.invokevirtual 295, 3) := dk_182 1 39 (dk_at dksX5_floods_3 10 rfl rfl)
theorem dX5_floods_84 : decode cX5_floods 84 = .ok (.ifCond .eq 39, 3) := dk_153 0 39 (dk_at dksX5_floods_3 13 rfl rfl)
theorem dX5_floods_87 : decode cX5_floods 87 = .ok (.aload_n 0, 1) := dk_42 (dk_at dksX5_floods_3 16 rfl rfl)
theorem dX5_floods_88 : decode cX5_floods 88 = .ok (.getfield 62, 3) := dk_180 0 62 (dk_at dksX5_floods_3 17 rfl rfl)
theorem dX5_floods_91 : decode cX5_floods 91 = .ok (.iload 10, 2) := dk_21 10 (dk_at dksX5_floods_3 20 rfl rfl)
theorem dX5_floods_93 : decode cX5_floods 93 = .ok (.iaload, 1) := dk_46 (dk_at dksX5_floods_3 22 rfl rfl)
theorem dX5_floods_94 : decode cX5_floods 94 = .ok (.aload_n 0, 1) := dk_42 (dk_at dksX5_floods_3 23 rfl rfl)
theorem dX5_floods_95 : decode cX5_floods 95 = .ok (.getfield 62, 3) := dk_180 0 62 (dk_at dksX5_floods_4 0 rfl rfl)
theorem dX5_floods_98 : decode cX5_floods 98 = .ok (.iload 5, 2) := dk_21 5 (dk_at dksX5_floods_4 3 rfl rfl)
theorem dX5_floods_100 : decode cX5_floods 100 = .ok (.iaload, 1) := dk_46 (dk_at dksX5_floods_4 5 rfl rfl)
theorem dX5_floods_101 : decode cX5_floods 101 = .ok (.iconst 1, 1) := dk_4 (dk_at dksX5_floods_4 6 rfl rfl)
theorem dX5_floods_102 : decode cX5_floods 102 = .ok (.isub, 1) := dk_100 (dk_at dksX5_floods_4 7 rfl rfl)
theorem dX5_floods_103 : decode cX5_floods 103 = .ok (.if_icmp .ne 20, 3) := dk_160 0 20 (dk_at dksX5_floods_4 8 rfl rfl)
theorem dX5_floods_106 : decode cX5_floods 106 = .ok (.iload 8, 2) := dk_21 8 (dk_at dksX5_floods_4 11 rfl rfl)
theorem dX5_floods_108 : decode cX5_floods 108 = .ok (.iconst (-1), 1) := dk_2 (dk_at dksX5_floods_4 13 rfl rfl)
theorem dX5_floods_109 : decode cX5_floods 109 = .ok (.if_icmp .eq 10, 3) := dk_159 0 10 (dk_at dksX5_floods_4 14 rfl rfl)
theorem dX5_floods_112 : decode cX5_floods 112 = .ok (.iload 10, 2) := dk_21 10 (dk_at dksX5_floods_4 17 rfl rfl)
theorem dX5_floods_114 : decode cX5_floods 114 = .ok (.iload 8, 2) := dk_21 8 (dk_at dksX5_floods_4 19 rfl rfl)
theorem dX5_floods_116 : decode cX5_floods 116 = .ok (.if_icmp .ge 7, 3) := dk_162 0 7 (dk_at dksX5_floods_4 21 rfl rfl)
theorem dX5_floods_119 : decode cX5_floods 119 = .ok (.iload 10, 2) := dk_21 10 (dk_at dksX5_floods_5 0 rfl rfl)
theorem dX5_floods_121 : decode cX5_floods 121 = .ok (.istore 8, 2) := dk_54 8 (dk_at dksX5_floods_5 2 rfl rfl)
theorem dX5_floods_123 : decode cX5_floods 123 = .ok (.iinc 9 1, 3) := dk_132 9 1 (dk_at dksX5_floods_5 4 rfl rfl)
theorem dX5_floods_126 : decode cX5_floods 126 = .ok (.goto (-77), 3) := dk_167 255 179 (dk_at dksX5_floods_5 7 rfl rfl)
theorem dX5_floods_129 : decode cX5_floods 129 = .ok (.iload 8, 2) := dk_21 8 (dk_at dksX5_floods_5 10 rfl rfl)
theorem dX5_floods_131 : decode cX5_floods 131 = .ok (.iconst (-1), 1) := dk_2 (dk_at dksX5_floods_5 12 rfl rfl)
theorem dX5_floods_132 : decode cX5_floods 132 = .ok (.if_icmp .ne 8, 3) := dk_160 0 8 (dk_at dksX5_floods_5 13 rfl rfl)
theorem dX5_floods_135 : decode cX5_floods 135 = .ok (.iload 5, 2) := dk_21 5 (dk_at dksX5_floods_5 16 rfl rfl)
theorem dX5_floods_137 : decode cX5_floods 137 = .ok (.goto 5, 3) := dk_167 0 5 (dk_at dksX5_floods_5 18 rfl rfl)
theorem dX5_floods_140 : decode cX5_floods 140 = .ok (.iload 8, 2) := dk_21 8 (dk_at dksX5_floods_5 21 rfl rfl)
theorem dX5_floods_142 : decode cX5_floods 142 = .ok (.istore 5, 2) := dk_54 5 (dk_at dksX5_floods_6 0 rfl rfl)
theorem dX5_floods_144 : decode cX5_floods 144 = .ok (.iload 5, 2) := dk_21 5 (dk_at dksX5_floods_6 2 rfl rfl)
theorem dX5_floods_146 : decode cX5_floods 146 = .ok (.iload 4, 2) := dk_21 4 (dk_at dksX5_floods_6 4 rfl rfl)
theorem dX5_floods_148 : decode cX5_floods 148 = .ok (.if_icmp .ne 6, 3) := dk_160 0 6 (dk_at dksX5_floods_6 6 rfl rfl)
theorem dX5_floods_151 : decode cX5_floods 151 = .ok (.iload 6, 2) := dk_21 6 (dk_at dksX5_floods_6 9 rfl rfl)
theorem dX5_floods_153 : decode cX5_floods 153 = .ok (.ireturn, 1) := dk_172 (dk_at dksX5_floods_6 11 rfl rfl)
theorem dX5_floods_154 : decode cX5_floods 154 = .ok (.iinc 6 1, 3) := dk_132 6 1 (dk_at dksX5_floods_6 12 rfl rfl)
theorem dX5_floods_157 : decode cX5_floods 157 = .ok (.goto (-127), 3) := dk_167 255 129 (dk_at dksX5_floods_6 15 rfl rfl)
theorem dX5_floods_160 : decode cX5_floods 160 = .ok (.iconst (-1), 1) := dk_2 (dk_at dksX5_floods_6 18 rfl rfl)
theorem dX5_floods_161 : decode cX5_floods 161 = .ok (.ireturn, 1) := dk_172 (dk_at dksX5_floods_6 19 rfl rfl)
abbrev cX5_drawn : ByteArray := prog_10_method_140_code
def yX5_drawn : MethodName := ⟨RX5, "drawn", "()I"⟩
def dkwX5_drawn_1 : List UInt8 := [20, 1, 217, 109, 42, 180, 0, 34, 3, 46, 133, 113, 136, 172]
abbrev dktX5_drawn_1 : List UInt8 := dkwX5_drawn_1 ++ []
def dkwX5_drawn_0 : List UInt8 := [42, 20, 1, 208, 42, 180, 1, 210, 105, 20, 1, 213, 97, 20, 1, 215, 113, 181, 1, 210, 42, 180, 1, 210]
abbrev dktX5_drawn_0 : List UInt8 := dkwX5_drawn_0 ++ dktX5_drawn_1
theorem dksX5_drawn_0 : cX5_drawn.data.toList.drop 0 = dktX5_drawn_0 := by decide +kernel
theorem dksX5_drawn_1 : cX5_drawn.data.toList.drop 24 = dktX5_drawn_1 := dk_seg dksX5_drawn_0 24 rfl rfl
theorem dX5_drawn_0 : decode cX5_drawn 0 = .ok (.aload_n 0, 1) := dk_42 (dk_at dksX5_drawn_0 0 rfl rfl)
theorem dX5_drawn_1 : decode cX5_drawn 1 = .ok (.ldc2_w 464, 3) := dk_20 1 208 (dk_at dksX5_drawn_0 1 rfl rfl)
theorem dX5_drawn_4 : decode cX5_drawn 4 = .ok (.aload_n 0, 1) := dk_42 (dk_at dksX5_drawn_0 4 rfl rfl)
theorem dX5_drawn_5 : decode cX5_drawn 5 = .ok (.getfield 466, 3) := dk_180 1 210 (dk_at dksX5_drawn_0 5 rfl rfl)
theorem dX5_drawn_8 : decode cX5_drawn 8 = .ok (.lmul, 1) := dk_105 (dk_at dksX5_drawn_0 8 rfl rfl)
theorem dX5_drawn_9 : decode cX5_drawn 9 = .ok (.ldc2_w 469, 3) := dk_20 1 213 (dk_at dksX5_drawn_0 9 rfl rfl)
theorem dX5_drawn_12 : decode cX5_drawn 12 = .ok (.ladd, 1) := dk_97 (dk_at dksX5_drawn_0 12 rfl rfl)
theorem dX5_drawn_13 : decode cX5_drawn 13 = .ok (.ldc2_w 471, 3) := dk_20 1 215 (dk_at dksX5_drawn_0 13 rfl rfl)
theorem dX5_drawn_16 : decode cX5_drawn 16 = .ok (.lrem, 1) := dk_113 (dk_at dksX5_drawn_0 16 rfl rfl)
theorem dX5_drawn_17 : decode cX5_drawn 17 = .ok (.putfield 466, 3) := dk_181 1 210 (dk_at dksX5_drawn_0 17 rfl rfl)
theorem dX5_drawn_20 : decode cX5_drawn 20 = .ok (.aload_n 0, 1) := dk_42 (dk_at dksX5_drawn_0 20 rfl rfl)
theorem dX5_drawn_21 : decode cX5_drawn 21 = .ok (.getfield 466, 3) := dk_180 1 210 (dk_at dksX5_drawn_0 21 rfl rfl)
theorem dX5_drawn_24 : decode cX5_drawn 24 = .ok (.ldc2_w 473, 3) := dk_20 1 217 (dk_at dksX5_drawn_1 0 rfl rfl)
theorem dX5_drawn_27 : decode cX5_drawn 27 = .ok (.ldiv, 1) := dk_109 (dk_at dksX5_drawn_1 3 rfl rfl)
theorem dX5_drawn_28 : decode cX5_drawn 28 = .ok (.aload_n 0, 1) := dk_42 (dk_at dksX5_drawn_1 4 rfl rfl)
theorem dX5_drawn_29 : decode cX5_drawn 29 = .ok (.getfield 34, 3) := dk_180 0 34 (dk_at dksX5_drawn_1 5 rfl rfl)
theorem dX5_drawn_32 : decode cX5_drawn 32 = .ok (.iconst 0, 1) := dk_3 (dk_at dksX5_drawn_1 8 rfl rfl)
theorem dX5_drawn_33 : decode cX5_drawn 33 = .ok (.iaload, 1) := dk_46 (dk_at dksX5_drawn_1 9 rfl rfl)
theorem dX5_drawn_34 : decode cX5_drawn 34 = .ok (.i2l, 1) := dk_133 (dk_at dksX5_drawn_1 10 rfl rfl)
theorem dX5_drawn_35 : decode cX5_drawn 35 = .ok (.lrem, 1) := dk_113 (dk_at dksX5_drawn_1 11 rfl rfl)
theorem dX5_drawn_36 : decode cX5_drawn 36 = .ok (.l2i, 1) := dk_136 (dk_at dksX5_drawn_1 12 rfl rfl)
theorem dX5_drawn_37 : decode cX5_drawn 37 = .ok (.ireturn, 1) := dk_172 (dk_at dksX5_drawn_1 13 rfl rfl)
abbrev cX5_day : ByteArray := prog_10_method_144_code
def yX5_day : MethodName := ⟨RX5, "day", "(II)I"⟩
def dkwX5_day_2 : List UInt8 := [54, 4, 21, 4, 28, 162, 0, 14, 42, 182, 1, 219, 62, 132, 4, 1, 167, 255, 242, 29, 172]
abbrev dktX5_day_2 : List UInt8 := dkwX5_day_2 ++ []
def dkwX5_day_1 : List UInt8 := [20, 1, 231, 184, 0, 136, 154, 0, 6, 16, 254, 172, 42, 27, 133, 181, 1, 210, 42, 182, 1, 219, 62, 3]
abbrev dktX5_day_1 : List UInt8 := dkwX5_day_1 ++ dktX5_day_2
def dkwX5_day_0 : List UInt8 := [42, 3, 181, 0, 131, 42, 182, 1, 23, 153, 0, 22, 27, 184, 1, 224, 153, 0, 15, 28, 133, 9]
abbrev dktX5_day_0 : List UInt8 := dkwX5_day_0 ++ dktX5_day_1
theorem dksX5_day_0 : cX5_day.data.toList.drop 0 = dktX5_day_0 := by decide +kernel
theorem dksX5_day_1 : cX5_day.data.toList.drop 22 = dktX5_day_1 := dk_seg dksX5_day_0 22 rfl rfl
theorem dksX5_day_2 : cX5_day.data.toList.drop 46 = dktX5_day_2 := dk_seg dksX5_day_1 24 rfl rfl
theorem dX5_day_0 : decode cX5_day 0 = .ok (.aload_n 0, 1) := dk_42 (dk_at dksX5_day_0 0 rfl rfl)
theorem dX5_day_1 : decode cX5_day 1 = .ok (.iconst 0, 1) := dk_3 (dk_at dksX5_day_0 1 rfl rfl)
theorem dX5_day_2 : decode cX5_day 2 = .ok (.putfield 131, 3) := dk_181 0 131 (dk_at dksX5_day_0 2 rfl rfl)
theorem dX5_day_5 : decode cX5_day 5 = .ok (.aload_n 0, 1) := dk_42 (dk_at dksX5_day_0 5 rfl rfl)
theorem dX5_day_6 : decode cX5_day 6 = .ok (.invokevirtual 279, 3) := dk_182 1 23 (dk_at dksX5_day_0 6 rfl rfl)
theorem dX5_day_9 : decode cX5_day 9 = .ok (.ifCond .eq 22, 3) := dk_153 0 22 (dk_at dksX5_day_0 9 rfl rfl)
theorem dX5_day_12 : decode cX5_day 12 = .ok (.iload_n 1, 1) := dk_27 (dk_at dksX5_day_0 12 rfl rfl)
theorem dX5_day_13 : decode cX5_day 13 = .ok (.invokestatic 480, 3) := dk_184 1 224 (dk_at dksX5_day_0 13 rfl rfl)
theorem dX5_day_16 : decode cX5_day 16 = .ok (.ifCond .eq 15, 3) := dk_153 0 15 (dk_at dksX5_day_0 16 rfl rfl)
theorem dX5_day_19 : decode cX5_day 19 = .ok (.iload_n 2, 1) := dk_28 (dk_at dksX5_day_0 19 rfl rfl)
theorem dX5_day_20 : decode cX5_day 20 = .ok (.i2l, 1) := dk_133 (dk_at dksX5_day_0 20 rfl rfl)
theorem dX5_day_21 : decode cX5_day 21 = .ok (.lconst 0, 1) := dk_9 (dk_at dksX5_day_0 21 rfl rfl)
theorem dX5_day_22 : decode cX5_day 22 = .ok (.ldc2_w 487, 3) := dk_20 1 231 (dk_at dksX5_day_1 0 rfl rfl)
theorem dX5_day_25 : decode cX5_day 25 = .ok (.invokestatic 136, 3) := dk_184 0 136 (dk_at dksX5_day_1 3 rfl rfl)
theorem dX5_day_28 : decode cX5_day 28 = .ok (.ifCond .ne 6, 3) := dk_154 0 6 (dk_at dksX5_day_1 6 rfl rfl)
theorem dX5_day_31 : decode cX5_day 31 = .ok (.bipush (-2), 2) := dk_16 254 (dk_at dksX5_day_1 9 rfl rfl)
theorem dX5_day_33 : decode cX5_day 33 = .ok (.ireturn, 1) := dk_172 (dk_at dksX5_day_1 11 rfl rfl)
theorem dX5_day_34 : decode cX5_day 34 = .ok (.aload_n 0, 1) := dk_42 (dk_at dksX5_day_1 12 rfl rfl)
theorem dX5_day_35 : decode cX5_day 35 = .ok (.iload_n 1, 1) := dk_27 (dk_at dksX5_day_1 13 rfl rfl)
theorem dX5_day_36 : decode cX5_day 36 = .ok (.i2l, 1) := dk_133 (dk_at dksX5_day_1 14 rfl rfl)
theorem dX5_day_37 : decode cX5_day 37 = .ok (.putfield 466, 3) := dk_181 1 210 (dk_at dksX5_day_1 15 rfl rfl)
theorem dX5_day_40 : decode cX5_day 40 = .ok (.aload_n 0, 1) := dk_42 (dk_at dksX5_day_1 18 rfl rfl)
theorem dX5_day_41 : decode cX5_day 41 = .ok (.invokevirtual 475, 3) := dk_182 1 219 (dk_at dksX5_day_1 19 rfl rfl)
theorem dX5_day_44 : decode cX5_day 44 = .ok (.istore_n 3, 1) := dk_62 (dk_at dksX5_day_1 22 rfl rfl)
theorem dX5_day_45 : decode cX5_day 45 = .ok (.iconst 0, 1) := dk_3 (dk_at dksX5_day_1 23 rfl rfl)
theorem dX5_day_46 : decode cX5_day 46 = .ok (.istore 4, 2) := dk_54 4 (dk_at dksX5_day_2 0 rfl rfl)
theorem dX5_day_48 : decode cX5_day 48 = .ok (.iload 4, 2) := dk_21 4 (dk_at dksX5_day_2 2 rfl rfl)
theorem dX5_day_50 : decode cX5_day 50 = .ok (.iload_n 2, 1) := dk_28 (dk_at dksX5_day_2 4 rfl rfl)
theorem dX5_day_51 : decode cX5_day 51 = .ok (.if_icmp .ge 14, 3) := dk_162 0 14 (dk_at dksX5_day_2 5 rfl rfl)
theorem dX5_day_54 : decode cX5_day 54 = .ok (.aload_n 0, 1) := dk_42 (dk_at dksX5_day_2 8 rfl rfl)
theorem dX5_day_55 : decode cX5_day 55 = .ok (.invokevirtual 475, 3) := dk_182 1 219 (dk_at dksX5_day_2 9 rfl rfl)
theorem dX5_day_58 : decode cX5_day 58 = .ok (.istore_n 3, 1) := dk_62 (dk_at dksX5_day_2 12 rfl rfl)
theorem dX5_day_59 : decode cX5_day 59 = .ok (.iinc 4 1, 3) := dk_132 4 1 (dk_at dksX5_day_2 13 rfl rfl)
theorem dX5_day_62 : decode cX5_day 62 = .ok (.goto (-14), 3) := dk_167 255 242 (dk_at dksX5_day_2 16 rfl rfl)
theorem dX5_day_65 : decode cX5_day 65 = .ok (.iload_n 3, 1) := dk_29 (dk_at dksX5_day_2 19 rfl rfl)
theorem dX5_day_66 : decode cX5_day 66 = .ok (.ireturn, 1) := dk_172 (dk_at dksX5_day_2 20 rfl rfl)
abbrev cX5_chance : ByteArray := prog_10_method_145_code
def yX5_chance : MethodName := ⟨RX5, "chance", "(IIIII)I"⟩
def dkwX5_chance_4 : List UInt8 := [167, 0, 4, 3, 96, 54, 6, 132, 7, 1, 167, 255, 209, 21, 6, 172]
abbrev dktX5_chance_4 : List UInt8 := dkwX5_chance_4 ++ []
def dkwX5_chance_3 : List UInt8 := [21, 4, 182, 1, 227, 54, 8, 21, 6, 21, 8, 2, 159, 0, 14, 21, 8, 21, 5, 163, 0, 7, 4]
abbrev dktX5_chance_3 : List UInt8 := dkwX5_chance_3 ++ dktX5_chance_4
def dkwX5_chance_2 : List UInt8 := [16, 254, 172, 3, 54, 6, 3, 54, 7, 21, 7, 28, 162, 0, 47, 42, 27, 133, 21, 7, 133, 97, 29]
abbrev dktX5_chance_2 : List UInt8 := dkwX5_chance_2 ++ dktX5_chance_3
def dkwX5_chance_1 : List UInt8 := [42, 29, 21, 4, 182, 1, 74, 153, 0, 16, 21, 5, 133, 10, 20, 1, 235, 184, 0, 136, 154, 0, 6]
abbrev dktX5_chance_1 : List UInt8 := dkwX5_chance_1 ++ dktX5_chance_2
def dkwX5_chance_0 : List UInt8 := [42, 3, 181, 0, 131, 27, 184, 1, 224, 153, 0, 38, 28, 133, 10, 20, 1, 233, 184, 0, 136, 153, 0, 26]
abbrev dktX5_chance_0 : List UInt8 := dkwX5_chance_0 ++ dktX5_chance_1
theorem dksX5_chance_0 : cX5_chance.data.toList.drop 0 = dktX5_chance_0 := by decide +kernel
theorem dksX5_chance_1 : cX5_chance.data.toList.drop 24 = dktX5_chance_1 := dk_seg dksX5_chance_0 24 rfl rfl
theorem dksX5_chance_2 : cX5_chance.data.toList.drop 47 = dktX5_chance_2 := dk_seg dksX5_chance_1 23 rfl rfl
theorem dksX5_chance_3 : cX5_chance.data.toList.drop 70 = dktX5_chance_3 := dk_seg dksX5_chance_2 23 rfl rfl
theorem dksX5_chance_4 : cX5_chance.data.toList.drop 93 = dktX5_chance_4 := dk_seg dksX5_chance_3 23 rfl rfl
theorem dX5_chance_0 : decode cX5_chance 0 = .ok (.aload_n 0, 1) := dk_42 (dk_at dksX5_chance_0 0 rfl rfl)
theorem dX5_chance_1 : decode cX5_chance 1 = .ok (.iconst 0, 1) := dk_3 (dk_at dksX5_chance_0 1 rfl rfl)
theorem dX5_chance_2 : decode cX5_chance 2 = .ok (.putfield 131, 3) := dk_181 0 131 (dk_at dksX5_chance_0 2 rfl rfl)
theorem dX5_chance_5 : decode cX5_chance 5 = .ok (.iload_n 1, 1) := dk_27 (dk_at dksX5_chance_0 5 rfl rfl)
theorem dX5_chance_6 : decode cX5_chance 6 = .ok (.invokestatic 480, 3) := dk_184 1 224 (dk_at dksX5_chance_0 6 rfl rfl)
theorem dX5_chance_9 : decode cX5_chance 9 = .ok (.ifCond .eq 38, 3) := dk_153 0 38 (dk_at dksX5_chance_0 9 rfl rfl)
theorem dX5_chance_12 : decode cX5_chance 12 = .ok (.iload_n 2, 1) := dk_28 (dk_at dksX5_chance_0 12 rfl rfl)
theorem dX5_chance_13 : decode cX5_chance 13 = .ok (.i2l, 1) := dk_133 (dk_at dksX5_chance_0 13 rfl rfl)
theorem dX5_chance_14 : decode cX5_chance 14 = .ok (.lconst 1, 1) := dk_10 (dk_at dksX5_chance_0 14 rfl rfl)
theorem dX5_chance_15 : decode cX5_chance 15 = .ok (.ldc2_w 489, 3) := dk_20 1 233 (dk_at dksX5_chance_0 15 rfl rfl)
theorem dX5_chance_18 : decode cX5_chance 18 = .ok (.invokestatic 136, 3) := dk_184 0 136 (dk_at dksX5_chance_0 18 rfl rfl)
theorem dX5_chance_21 : decode cX5_chance 21 = .ok (.ifCond .eq 26, 3) := dk_153 0 26 (dk_at dksX5_chance_0 21 rfl rfl)
theorem dX5_chance_24 : decode cX5_chance 24 = .ok (.aload_n 0, 1) := dk_42 (dk_at dksX5_chance_1 0 rfl rfl)
theorem dX5_chance_25 : decode cX5_chance 25 = .ok (.iload_n 3, 1) := dk_29 (dk_at dksX5_chance_1 1 rfl rfl)
theorem dX5_chance_26 : decode cX5_chance 26 = .ok (.iload 4, 2) := dk_21 4 (dk_at dksX5_chance_1 2 rfl rfl)
theorem dX5_chance_28 : decode cX5_chance 28 = .ok (.invokevirtual 330, 3) := dk_182 1 74 (dk_at dksX5_chance_1 4 rfl rfl)
theorem dX5_chance_31 : decode cX5_chance 31 = .ok (.ifCond .eq 16, 3) := dk_153 0 16 (dk_at dksX5_chance_1 7 rfl rfl)
theorem dX5_chance_34 : decode cX5_chance 34 = .ok (.iload 5, 2) := dk_21 5 (dk_at dksX5_chance_1 10 rfl rfl)
theorem dX5_chance_36 : decode cX5_chance 36 = .ok (.i2l, 1) := dk_133 (dk_at dksX5_chance_1 12 rfl rfl)
theorem dX5_chance_37 : decode cX5_chance 37 = .ok (.lconst 1, 1) := dk_10 (dk_at dksX5_chance_1 13 rfl rfl)
theorem dX5_chance_38 : decode cX5_chance 38 = .ok (.ldc2_w 491, 3) := dk_20 1 235 (dk_at dksX5_chance_1 14 rfl rfl)
theorem dX5_chance_41 : decode cX5_chance 41 = .ok (.invokestatic 136, 3) := dk_184 0 136 (dk_at dksX5_chance_1 17 rfl rfl)
theorem dX5_chance_44 : decode cX5_chance 44 = .ok (.ifCond .ne 6, 3) := dk_154 0 6 (dk_at dksX5_chance_1 20 rfl rfl)
theorem dX5_chance_47 : decode cX5_chance 47 = .ok (.bipush (-2), 2) := dk_16 254 (dk_at dksX5_chance_2 0 rfl rfl)
theorem dX5_chance_49 : decode cX5_chance 49 = .ok (.ireturn, 1) := dk_172 (dk_at dksX5_chance_2 2 rfl rfl)
theorem dX5_chance_50 : decode cX5_chance 50 = .ok (.iconst 0, 1) := dk_3 (dk_at dksX5_chance_2 3 rfl rfl)
theorem dX5_chance_51 : decode cX5_chance 51 = .ok (.istore 6, 2) := dk_54 6 (dk_at dksX5_chance_2 4 rfl rfl)
theorem dX5_chance_53 : decode cX5_chance 53 = .ok (.iconst 0, 1) := dk_3 (dk_at dksX5_chance_2 6 rfl rfl)
theorem dX5_chance_54 : decode cX5_chance 54 = .ok (.istore 7, 2) := dk_54 7 (dk_at dksX5_chance_2 7 rfl rfl)
theorem dX5_chance_56 : decode cX5_chance 56 = .ok (.iload 7, 2) := dk_21 7 (dk_at dksX5_chance_2 9 rfl rfl)
theorem dX5_chance_58 : decode cX5_chance 58 = .ok (.iload_n 2, 1) := dk_28 (dk_at dksX5_chance_2 11 rfl rfl)
theorem dX5_chance_59 : decode cX5_chance 59 = .ok (.if_icmp .ge 47, 3) := dk_162 0 47 (dk_at dksX5_chance_2 12 rfl rfl)
theorem dX5_chance_62 : decode cX5_chance 62 = .ok (.aload_n 0, 1) := dk_42 (dk_at dksX5_chance_2 15 rfl rfl)
theorem dX5_chance_63 : decode cX5_chance 63 = .ok (.iload_n 1, 1) := dk_27 (dk_at dksX5_chance_2 16 rfl rfl)
theorem dX5_chance_64 : decode cX5_chance 64 = .ok (.i2l, 1) := dk_133 (dk_at dksX5_chance_2 17 rfl rfl)
theorem dX5_chance_65 : decode cX5_chance 65 = .ok (.iload 7, 2) := dk_21 7 (dk_at dksX5_chance_2 18 rfl rfl)
theorem dX5_chance_67 : decode cX5_chance 67 = .ok (.i2l, 1) := dk_133 (dk_at dksX5_chance_2 20 rfl rfl)
theorem dX5_chance_68 : decode cX5_chance 68 = .ok (.ladd, 1) := dk_97 (dk_at dksX5_chance_2 21 rfl rfl)
theorem dX5_chance_69 : decode cX5_chance 69 = .ok (.iload_n 3, 1) := dk_29 (dk_at dksX5_chance_2 22 rfl rfl)
theorem dX5_chance_70 : decode cX5_chance 70 = .ok (.iload 4, 2) := dk_21 4 (dk_at dksX5_chance_3 0 rfl rfl)
theorem dX5_chance_72 : decode cX5_chance 72 = .ok (.invokevirtual 483, 3) := dk_182 1 227 (dk_at dksX5_chance_3 2 rfl rfl)
theorem dX5_chance_75 : decode cX5_chance 75 = .ok (.istore 8, 2) := dk_54 8 (dk_at dksX5_chance_3 5 rfl rfl)
theorem dX5_chance_77 : decode cX5_chance 77 = .ok (.iload 6, 2) := dk_21 6 (dk_at dksX5_chance_3 7 rfl rfl)
theorem dX5_chance_79 : decode cX5_chance 79 = .ok (.iload 8, 2) := dk_21 8 (dk_at dksX5_chance_3 9 rfl rfl)
theorem dX5_chance_81 : decode cX5_chance 81 = .ok (.iconst (-1), 1) := dk_2 (dk_at dksX5_chance_3 11 rfl rfl)
theorem dX5_chance_82 : decode cX5_chance 82 = .ok (.if_icmp .eq 14, 3) := dk_159 0 14 (dk_at dksX5_chance_3 12 rfl rfl)
theorem dX5_chance_85 : decode cX5_chance 85 = .ok (.iload 8, 2) := dk_21 8 (dk_at dksX5_chance_3 15 rfl rfl)
theorem dX5_chance_87 : decode cX5_chance 87 = .ok (.iload 5, 2) := dk_21 5 (dk_at dksX5_chance_3 17 rfl rfl)
theorem dX5_chance_89 : decode cX5_chance 89 = .ok (.if_icmp .gt 7, 3) := dk_163 0 7 (dk_at dksX5_chance_3 19 rfl rfl)
theorem dX5_chance_92 : decode cX5_chance 92 = .ok (.iconst 1, 1) := dk_4 (dk_at dksX5_chance_3 22 rfl rfl)
theorem dX5_chance_93 : decode cX5_chance 93 = .ok (.goto 4, 3) := dk_167 0 4 (dk_at dksX5_chance_4 0 rfl rfl)
theorem dX5_chance_96 : decode cX5_chance 96 = .ok (.iconst 0, 1) := dk_3 (dk_at dksX5_chance_4 3 rfl rfl)
theorem dX5_chance_97 : decode cX5_chance 97 = .ok (.iadd, 1) := dk_96 (dk_at dksX5_chance_4 4 rfl rfl)
theorem dX5_chance_98 : decode cX5_chance 98 = .ok (.istore 6, 2) := dk_54 6 (dk_at dksX5_chance_4 5 rfl rfl)
theorem dX5_chance_100 : decode cX5_chance 100 = .ok (.iinc 7 1, 3) := dk_132 7 1 (dk_at dksX5_chance_4 7 rfl rfl)
theorem dX5_chance_103 : decode cX5_chance 103 = .ok (.goto (-47), 3) := dk_167 255 209 (dk_at dksX5_chance_4 10 rfl rfl)
theorem dX5_chance_106 : decode cX5_chance 106 = .ok (.iload 6, 2) := dk_21 6 (dk_at dksX5_chance_4 13 rfl rfl)
theorem dX5_chance_108 : decode cX5_chance 108 = .ok (.ireturn, 1) := dk_172 (dk_at dksX5_chance_4 15 rfl rfl)
abbrev cX5_count : ByteArray := prog_10_method_146_code
def yX5_count : MethodName := ⟨RX5, "count", "(I)I"⟩
def dkwX5_count_6 : List UInt8 := [160, 0, 7, 3, 167, 0, 4, 4, 96, 61, 132, 3, 1, 167, 255, 230, 28, 172, 2, 172]
abbrev dktX5_count_6 : List UInt8 := dkwX5_count_6 ++ []
def dkwX5_count_5 : List UInt8 := [3, 46, 172, 42, 180, 0, 148, 172, 3, 62, 29, 7, 162, 0, 27, 28, 42, 180, 0, 7, 29, 46, 2]
abbrev dktX5_count_5 : List UInt8 := dkwX5_count_5 ++ dktX5_count_6
def dkwX5_count_4 : List UInt8 := [4, 46, 172, 42, 180, 0, 34, 5, 46, 172, 42, 180, 0, 49, 3, 46, 184, 1, 46, 172, 42, 180, 0, 31]
abbrev dktX5_count_4 : List UInt8 := dkwX5_count_4 ++ dktX5_count_5
def dkwX5_count_3 : List UInt8 := [180, 0, 46, 29, 46, 184, 1, 46, 96, 61, 132, 3, 1, 167, 255, 233, 28, 5, 108, 172, 42, 180, 0, 34]
abbrev dktX5_count_3 : List UInt8 := dkwX5_count_3 ++ dktX5_count_4
def dkwX5_count_2 : List UInt8 := [42, 180, 0, 34, 3, 46, 172, 42, 182, 1, 26, 172, 3, 62, 29, 42, 182, 1, 26, 162, 0, 21, 28, 42]
abbrev dktX5_count_2 : List UInt8 := dkwX5_count_2 ++ dktX5_count_3
def dkwX5_count_1 : List UInt8 := [170, 0, 0, 0, 0, 0, 0, 165, 0, 0, 0, 0, 0, 0, 0, 8, 0, 0, 0, 52, 0, 0, 0, 59, 0, 0, 0, 64, 0, 0, 0, 96, 0, 0, 0, 103, 0, 0, 0, 110, 0, 0, 0, 120, 0, 0, 0, 127, 0, 0, 0, 132]
abbrev dktX5_count_1 : List UInt8 := dkwX5_count_1 ++ dktX5_count_2
def dkwX5_count_0 : List UInt8 := [42, 3, 181, 0, 131, 3, 61, 27]
abbrev dktX5_count_0 : List UInt8 := dkwX5_count_0 ++ dktX5_count_1
theorem dksX5_count_0 : cX5_count.data.toList.drop 0 = dktX5_count_0 := by decide +kernel
theorem dksX5_count_1 : cX5_count.data.toList.drop 8 = dktX5_count_1 := dk_seg dksX5_count_0 8 rfl rfl
theorem dksX5_count_2 : cX5_count.data.toList.drop 60 = dktX5_count_2 := dk_seg dksX5_count_1 52 rfl rfl
theorem dksX5_count_3 : cX5_count.data.toList.drop 84 = dktX5_count_3 := dk_seg dksX5_count_2 24 rfl rfl
theorem dksX5_count_4 : cX5_count.data.toList.drop 108 = dktX5_count_4 := dk_seg dksX5_count_3 24 rfl rfl
theorem dksX5_count_5 : cX5_count.data.toList.drop 132 = dktX5_count_5 := dk_seg dksX5_count_4 24 rfl rfl
theorem dksX5_count_6 : cX5_count.data.toList.drop 155 = dktX5_count_6 := dk_seg dksX5_count_5 23 rfl rfl
theorem dX5_count_0 : decode cX5_count 0 = .ok (.aload_n 0, 1) := dk_42 (dk_at dksX5_count_0 0 rfl rfl)
theorem dX5_count_1 : decode cX5_count 1 = .ok (.iconst 0, 1) := dk_3 (dk_at dksX5_count_0 1 rfl rfl)
theorem dX5_count_2 : decode cX5_count 2 = .ok (.putfield 131, 3) := dk_181 0 131 (dk_at dksX5_count_0 2 rfl rfl)
theorem dX5_count_5 : decode cX5_count 5 = .ok (.iconst 0, 1) := dk_3 (dk_at dksX5_count_0 5 rfl rfl)
theorem dX5_count_6 : decode cX5_count 6 = .ok (.istore_n 2, 1) := dk_61 (dk_at dksX5_count_0 6 rfl rfl)
theorem dX5_count_7 : decode cX5_count 7 = .ok (.iload_n 1, 1) := dk_27 (dk_at dksX5_count_0 7 rfl rfl)
theorem dX5_count_8 : decode cX5_count 8 = .ok (.tableswitch 165 0 8 #[52, 59, 64, 96, 103, 110, 120, 127, 132], 52) := by decide +kernel
theorem dX5_count_60 : decode cX5_count 60 = .ok (.aload_n 0, 1) := dk_42 (dk_at dksX5_count_2 0 rfl rfl)
theorem dX5_count_61 : decode cX5_count 61 = .ok (.getfield 34, 3) := dk_180 0 34 (dk_at dksX5_count_2 1 rfl rfl)
theorem dX5_count_64 : decode cX5_count 64 = .ok (.iconst 0, 1) := dk_3 (dk_at dksX5_count_2 4 rfl rfl)
theorem dX5_count_65 : decode cX5_count 65 = .ok (.iaload, 1) := dk_46 (dk_at dksX5_count_2 5 rfl rfl)
theorem dX5_count_66 : decode cX5_count 66 = .ok (.ireturn, 1) := dk_172 (dk_at dksX5_count_2 6 rfl rfl)
theorem dX5_count_67 : decode cX5_count 67 = .ok (.aload_n 0, 1) := dk_42 (dk_at dksX5_count_2 7 rfl rfl)
theorem dX5_count_68 : decode cX5_count 68 = .ok (.invokevirtual 282, 3) := dk_182 1 26 (dk_at dksX5_count_2 8 rfl rfl)
theorem dX5_count_71 : decode cX5_count 71 = .ok (.ireturn, 1) := dk_172 (dk_at dksX5_count_2 11 rfl rfl)
theorem dX5_count_72 : decode cX5_count 72 = .ok (.iconst 0, 1) := dk_3 (dk_at dksX5_count_2 12 rfl rfl)
theorem dX5_count_73 : decode cX5_count 73 = .ok (.istore_n 3, 1) := dk_62 (dk_at dksX5_count_2 13 rfl rfl)
theorem dX5_count_74 : decode cX5_count 74 = .ok (.iload_n 3, 1) := dk_29 (dk_at dksX5_count_2 14 rfl rfl)
theorem dX5_count_75 : decode cX5_count 75 = .ok (.aload_n 0, 1) := dk_42 (dk_at dksX5_count_2 15 rfl rfl)
theorem dX5_count_76 : decode cX5_count 76 = .ok (.invokevirtual 282, 3) := dk_182 1 26 (dk_at dksX5_count_2 16 rfl rfl)
theorem dX5_count_79 : decode cX5_count 79 = .ok (.if_icmp .ge 21, 3) := dk_162 0 21 (dk_at dksX5_count_2 19 rfl rfl)
theorem dX5_count_82 : decode cX5_count 82 = .ok (.iload_n 2, 1) := dk_28 (dk_at dksX5_count_2 22 rfl rfl)
theorem dX5_count_83 : decode cX5_count 83 = .ok (.aload_n 0, 1) := dk_42 (dk_at dksX5_count_2 23 rfl rfl)
theorem dX5_count_84 : decode cX5_count 84 = .ok (.getfield 46, 3) := dk_180 0 46 (dk_at dksX5_count_3 0 rfl rfl)
theorem dX5_count_87 : decode cX5_count 87 = .ok (.iload_n 3, 1) := dk_29 (dk_at dksX5_count_3 3 rfl rfl)
theorem dX5_count_88 : decode cX5_count 88 = .ok (.iaload, 1) := dk_46 (dk_at dksX5_count_3 4 rfl rfl)
theorem dX5_count_89 : decode cX5_count 89 = .ok (.invokestatic 302, 3) := dk_184 1 46 (dk_at dksX5_count_3 5 rfl rfl)
theorem dX5_count_92 : decode cX5_count 92 = .ok (.iadd, 1) := dk_96 (dk_at dksX5_count_3 8 rfl rfl)
theorem dX5_count_93 : decode cX5_count 93 = .ok (.istore_n 2, 1) := dk_61 (dk_at dksX5_count_3 9 rfl rfl)
theorem dX5_count_94 : decode cX5_count 94 = .ok (.iinc 3 1, 3) := dk_132 3 1 (dk_at dksX5_count_3 10 rfl rfl)
theorem dX5_count_97 : decode cX5_count 97 = .ok (.goto (-23), 3) := dk_167 255 233 (dk_at dksX5_count_3 13 rfl rfl)
theorem dX5_count_100 : decode cX5_count 100 = .ok (.iload_n 2, 1) := dk_28 (dk_at dksX5_count_3 16 rfl rfl)
theorem dX5_count_101 : decode cX5_count 101 = .ok (.iconst 2, 1) := dk_5 (dk_at dksX5_count_3 17 rfl rfl)
theorem dX5_count_102 : decode cX5_count 102 = .ok (.idiv, 1) := dk_108 (dk_at dksX5_count_3 18 rfl rfl)
theorem dX5_count_103 : decode cX5_count 103 = .ok (.ireturn, 1) := dk_172 (dk_at dksX5_count_3 19 rfl rfl)
theorem dX5_count_104 : decode cX5_count 104 = .ok (.aload_n 0, 1) := dk_42 (dk_at dksX5_count_3 20 rfl rfl)
theorem dX5_count_105 : decode cX5_count 105 = .ok (.getfield 34, 3) := dk_180 0 34 (dk_at dksX5_count_3 21 rfl rfl)
theorem dX5_count_108 : decode cX5_count 108 = .ok (.iconst 1, 1) := dk_4 (dk_at dksX5_count_4 0 rfl rfl)
theorem dX5_count_109 : decode cX5_count 109 = .ok (.iaload, 1) := dk_46 (dk_at dksX5_count_4 1 rfl rfl)
theorem dX5_count_110 : decode cX5_count 110 = .ok (.ireturn, 1) := dk_172 (dk_at dksX5_count_4 2 rfl rfl)
theorem dX5_count_111 : decode cX5_count 111 = .ok (.aload_n 0, 1) := dk_42 (dk_at dksX5_count_4 3 rfl rfl)
theorem dX5_count_112 : decode cX5_count 112 = .ok (.getfield 34, 3) := dk_180 0 34 (dk_at dksX5_count_4 4 rfl rfl)
theorem dX5_count_115 : decode cX5_count 115 = .ok (.iconst 2, 1) := dk_5 (dk_at dksX5_count_4 7 rfl rfl)
theorem dX5_count_116 : decode cX5_count 116 = .ok (.iaload, 1) := dk_46 (dk_at dksX5_count_4 8 rfl rfl)
theorem dX5_count_117 : decode cX5_count 117 = .ok (.ireturn, 1) := dk_172 (dk_at dksX5_count_4 9 rfl rfl)
theorem dX5_count_118 : decode cX5_count 118 = .ok (.aload_n 0, 1) := dk_42 (dk_at dksX5_count_4 10 rfl rfl)
theorem dX5_count_119 : decode cX5_count 119 = .ok (.getfield 49, 3) := dk_180 0 49 (dk_at dksX5_count_4 11 rfl rfl)
theorem dX5_count_122 : decode cX5_count 122 = .ok (.iconst 0, 1) := dk_3 (dk_at dksX5_count_4 14 rfl rfl)
theorem dX5_count_123 : decode cX5_count 123 = .ok (.iaload, 1) := dk_46 (dk_at dksX5_count_4 15 rfl rfl)
theorem dX5_count_124 : decode cX5_count 124 = .ok (.invokestatic 302, 3) := dk_184 1 46 (dk_at dksX5_count_4 16 rfl rfl)
theorem dX5_count_127 : decode cX5_count 127 = .ok (.ireturn, 1) := dk_172 (dk_at dksX5_count_4 19 rfl rfl)
theorem dX5_count_128 : decode cX5_count 128 = .ok (.aload_n 0, 1) := dk_42 (dk_at dksX5_count_4 20 rfl rfl)
theorem dX5_count_129 : decode cX5_count 129 = .ok (.getfield 31, 3) := dk_180 0 31 (dk_at dksX5_count_4 21 rfl rfl)
theorem dX5_count_132 : decode cX5_count 132 = .ok (.iconst 0, 1) := dk_3 (dk_at dksX5_count_5 0 rfl rfl)
theorem dX5_count_133 : decode cX5_count 133 = .ok (.iaload, 1) := dk_46 (dk_at dksX5_count_5 1 rfl rfl)
theorem dX5_count_134 : decode cX5_count 134 = .ok (.ireturn, 1) := dk_172 (dk_at dksX5_count_5 2 rfl rfl)
theorem dX5_count_135 : decode cX5_count 135 = .ok (.aload_n 0, 1) := dk_42 (dk_at dksX5_count_5 3 rfl rfl)
theorem dX5_count_136 : decode cX5_count 136 = .ok (.getfield 148, 3) := dk_180 0 148 (dk_at dksX5_count_5 4 rfl rfl)
theorem dX5_count_139 : decode cX5_count 139 = .ok (.ireturn, 1) := dk_172 (dk_at dksX5_count_5 7 rfl rfl)
theorem dX5_count_140 : decode cX5_count 140 = .ok (.iconst 0, 1) := dk_3 (dk_at dksX5_count_5 8 rfl rfl)
theorem dX5_count_141 : decode cX5_count 141 = .ok (.istore_n 3, 1) := dk_62 (dk_at dksX5_count_5 9 rfl rfl)
theorem dX5_count_142 : decode cX5_count 142 = .ok (.iload_n 3, 1) := dk_29 (dk_at dksX5_count_5 10 rfl rfl)
theorem dX5_count_143 : decode cX5_count 143 = .ok (.iconst 4, 1) := dk_7 (dk_at dksX5_count_5 11 rfl rfl)
theorem dX5_count_144 : decode cX5_count 144 = .ok (.if_icmp .ge 27, 3) := dk_162 0 27 (dk_at dksX5_count_5 12 rfl rfl)
theorem dX5_count_147 : decode cX5_count 147 = .ok (.iload_n 2, 1) := dk_28 (dk_at dksX5_count_5 15 rfl rfl)
theorem dX5_count_148 : decode cX5_count 148 = .ok (.aload_n 0, 1) := dk_42 (dk_at dksX5_count_5 16 rfl rfl)
theorem dX5_count_149 : decode cX5_count 149 = .ok (.getfield 7, 3) := dk_180 0 7 (dk_at dksX5_count_5 17 rfl rfl)
theorem dX5_count_152 : decode cX5_count 152 = .ok (.iload_n 3, 1) := dk_29 (dk_at dksX5_count_5 20 rfl rfl)
theorem dX5_count_153 : decode cX5_count 153 = .ok (.iaload, 1) := dk_46 (dk_at dksX5_count_5 21 rfl rfl)
theorem dX5_count_154 : decode cX5_count 154 = .ok (.iconst (-1), 1) := dk_2 (dk_at dksX5_count_5 22 rfl rfl)
theorem dX5_count_155 : decode cX5_count 155 = .ok (.if_icmp .ne 7, 3) := dk_160 0 7 (dk_at dksX5_count_6 0 rfl rfl)
theorem dX5_count_158 : decode cX5_count 158 = .ok (.iconst 0, 1) := dk_3 (dk_at dksX5_count_6 3 rfl rfl)
theorem dX5_count_159 : decode cX5_count 159 = .ok (.goto 4, 3) := dk_167 0 4 (dk_at dksX5_count_6 4 rfl rfl)
theorem dX5_count_162 : decode cX5_count 162 = .ok (.iconst 1, 1) := dk_4 (dk_at dksX5_count_6 7 rfl rfl)
theorem dX5_count_163 : decode cX5_count 163 = .ok (.iadd, 1) := dk_96 (dk_at dksX5_count_6 8 rfl rfl)
theorem dX5_count_164 : decode cX5_count 164 = .ok (.istore_n 2, 1) := dk_61 (dk_at dksX5_count_6 9 rfl rfl)
theorem dX5_count_165 : decode cX5_count 165 = .ok (.iinc 3 1, 3) := dk_132 3 1 (dk_at dksX5_count_6 10 rfl rfl)
theorem dX5_count_168 : decode cX5_count 168 = .ok (.goto (-26), 3) := dk_167 255 230 (dk_at dksX5_count_6 13 rfl rfl)
theorem dX5_count_171 : decode cX5_count 171 = .ok (.iload_n 2, 1) := dk_28 (dk_at dksX5_count_6 16 rfl rfl)
theorem dX5_count_172 : decode cX5_count 172 = .ok (.ireturn, 1) := dk_172 (dk_at dksX5_count_6 17 rfl rfl)
theorem dX5_count_173 : decode cX5_count 173 = .ok (.iconst (-1), 1) := dk_2 (dk_at dksX5_count_6 18 rfl rfl)
theorem dX5_count_174 : decode cX5_count 174 = .ok (.ireturn, 1) := dk_172 (dk_at dksX5_count_6 19 rfl rfl)
abbrev cX5_keep : ByteArray := prog_10_method_147_code
def yX5_keep : MethodName := ⟨RX5, "keep", "(I)I"⟩
def dkwX5_keep_1 : List UInt8 := [96, 182, 1, 15, 42, 180, 0, 58, 27, 4, 84, 3, 172]
abbrev dktX5_keep_1 : List UInt8 := dkwX5_keep_1 ++ []
def dkwX5_keep_0 : List UInt8 := [42, 3, 181, 0, 131, 27, 133, 9, 20, 1, 154, 184, 0, 136, 154, 0, 6, 16, 254, 172, 42, 3, 4, 27]
abbrev dktX5_keep_0 : List UInt8 := dkwX5_keep_0 ++ dktX5_keep_1
theorem dksX5_keep_0 : cX5_keep.data.toList.drop 0 = dktX5_keep_0 := by decide +kernel
theorem dksX5_keep_1 : cX5_keep.data.toList.drop 24 = dktX5_keep_1 := dk_seg dksX5_keep_0 24 rfl rfl
theorem dX5_keep_0 : decode cX5_keep 0 = .ok (.aload_n 0, 1) := dk_42 (dk_at dksX5_keep_0 0 rfl rfl)
theorem dX5_keep_1 : decode cX5_keep 1 = .ok (.iconst 0, 1) := dk_3 (dk_at dksX5_keep_0 1 rfl rfl)
theorem dX5_keep_2 : decode cX5_keep 2 = .ok (.putfield 131, 3) := dk_181 0 131 (dk_at dksX5_keep_0 2 rfl rfl)
theorem dX5_keep_5 : decode cX5_keep 5 = .ok (.iload_n 1, 1) := dk_27 (dk_at dksX5_keep_0 5 rfl rfl)
theorem dX5_keep_6 : decode cX5_keep 6 = .ok (.i2l, 1) := dk_133 (dk_at dksX5_keep_0 6 rfl rfl)
theorem dX5_keep_7 : decode cX5_keep 7 = .ok (.lconst 0, 1) := dk_9 (dk_at dksX5_keep_0 7 rfl rfl)
theorem dX5_keep_8 : decode cX5_keep 8 = .ok (.ldc2_w 410, 3) := dk_20 1 154 (dk_at dksX5_keep_0 8 rfl rfl)
theorem dX5_keep_11 : decode cX5_keep 11 = .ok (.invokestatic 136, 3) := dk_184 0 136 (dk_at dksX5_keep_0 11 rfl rfl)
theorem dX5_keep_14 : decode cX5_keep 14 = .ok (.ifCond .ne 6, 3) := dk_154 0 6 (dk_at dksX5_keep_0 14 rfl rfl)
theorem dX5_keep_17 : decode cX5_keep 17 = .ok (.bipush (-2), 2) := dk_16 254 (dk_at dksX5_keep_0 17 rfl rfl)
theorem dX5_keep_19 : decode cX5_keep 19 = .ok (.ireturn, 1) := dk_172 (dk_at dksX5_keep_0 19 rfl rfl)
theorem dX5_keep_20 : decode cX5_keep 20 = .ok (.aload_n 0, 1) := dk_42 (dk_at dksX5_keep_0 20 rfl rfl)
theorem dX5_keep_21 : decode cX5_keep 21 = .ok (.iconst 0, 1) := dk_3 (dk_at dksX5_keep_0 21 rfl rfl)
theorem dX5_keep_22 : decode cX5_keep 22 = .ok (.iconst 1, 1) := dk_4 (dk_at dksX5_keep_0 22 rfl rfl)
theorem dX5_keep_23 : decode cX5_keep 23 = .ok (.iload_n 1, 1) := dk_27 (dk_at dksX5_keep_0 23 rfl rfl)
theorem dX5_keep_24 : decode cX5_keep 24 = .ok (.iadd, 1) := dk_96 (dk_at dksX5_keep_1 0 rfl rfl)
theorem dX5_keep_25 : decode cX5_keep 25 = .ok (.invokevirtual 271, 3) := dk_182 1 15 (dk_at dksX5_keep_1 1 rfl rfl)
theorem dX5_keep_28 : decode cX5_keep 28 = .ok (.aload_n 0, 1) := dk_42 (dk_at dksX5_keep_1 4 rfl rfl)
theorem dX5_keep_29 : decode cX5_keep 29 = .ok (.getfield 58, 3) := dk_180 0 58 (dk_at dksX5_keep_1 5 rfl rfl)
theorem dX5_keep_32 : decode cX5_keep 32 = .ok (.iload_n 1, 1) := dk_27 (dk_at dksX5_keep_1 8 rfl rfl)
theorem dX5_keep_33 : decode cX5_keep 33 = .ok (.iconst 1, 1) := dk_4 (dk_at dksX5_keep_1 9 rfl rfl)
theorem dX5_keep_34 : decode cX5_keep 34 = .ok (.bastore, 1) := dk_84 (dk_at dksX5_keep_1 10 rfl rfl)
theorem dX5_keep_35 : decode cX5_keep 35 = .ok (.iconst 0, 1) := dk_3 (dk_at dksX5_keep_1 11 rfl rfl)
theorem dX5_keep_36 : decode cX5_keep 36 = .ok (.ireturn, 1) := dk_172 (dk_at dksX5_keep_1 12 rfl rfl)
abbrev cX5_back : ByteArray := prog_10_method_148_code
def yX5_back : MethodName := ⟨RX5, "back", "(I)I"⟩
def dkwX5_back_1 : List UInt8 := [27, 51, 154, 0, 6, 16, 250, 172, 42, 4, 27, 96, 3, 182, 1, 15, 3, 172]
abbrev dktX5_back_1 : List UInt8 := dkwX5_back_1 ++ []
def dkwX5_back_0 : List UInt8 := [42, 3, 181, 0, 131, 27, 133, 9, 20, 1, 154, 184, 0, 136, 154, 0, 6, 16, 254, 172, 42, 180, 0, 58]
abbrev dktX5_back_0 : List UInt8 := dkwX5_back_0 ++ dktX5_back_1
theorem dksX5_back_0 : cX5_back.data.toList.drop 0 = dktX5_back_0 := by decide +kernel
theorem dksX5_back_1 : cX5_back.data.toList.drop 24 = dktX5_back_1 := dk_seg dksX5_back_0 24 rfl rfl
theorem dX5_back_0 : decode cX5_back 0 = .ok (.aload_n 0, 1) := dk_42 (dk_at dksX5_back_0 0 rfl rfl)
theorem dX5_back_1 : decode cX5_back 1 = .ok (.iconst 0, 1) := dk_3 (dk_at dksX5_back_0 1 rfl rfl)
theorem dX5_back_2 : decode cX5_back 2 = .ok (.putfield 131, 3) := dk_181 0 131 (dk_at dksX5_back_0 2 rfl rfl)
theorem dX5_back_5 : decode cX5_back 5 = .ok (.iload_n 1, 1) := dk_27 (dk_at dksX5_back_0 5 rfl rfl)
theorem dX5_back_6 : decode cX5_back 6 = .ok (.i2l, 1) := dk_133 (dk_at dksX5_back_0 6 rfl rfl)
theorem dX5_back_7 : decode cX5_back 7 = .ok (.lconst 0, 1) := dk_9 (dk_at dksX5_back_0 7 rfl rfl)
theorem dX5_back_8 : decode cX5_back 8 = .ok (.ldc2_w 410, 3) := dk_20 1 154 (dk_at dksX5_back_0 8 rfl rfl)
theorem dX5_back_11 : decode cX5_back 11 = .ok (.invokestatic 136, 3) := dk_184 0 136 (dk_at dksX5_back_0 11 rfl rfl)
theorem dX5_back_14 : decode cX5_back 14 = .ok (.ifCond .ne 6, 3) := dk_154 0 6 (dk_at dksX5_back_0 14 rfl rfl)
theorem dX5_back_17 : decode cX5_back 17 = .ok (.bipush (-2), 2) := dk_16 254 (dk_at dksX5_back_0 17 rfl rfl)
theorem dX5_back_19 : decode cX5_back 19 = .ok (.ireturn, 1) := dk_172 (dk_at dksX5_back_0 19 rfl rfl)
theorem dX5_back_20 : decode cX5_back 20 = .ok (.aload_n 0, 1) := dk_42 (dk_at dksX5_back_0 20 rfl rfl)
theorem dX5_back_21 : decode cX5_back 21 = .ok (.getfield 58, 3) := dk_180 0 58 (dk_at dksX5_back_0 21 rfl rfl)
theorem dX5_back_24 : decode cX5_back 24 = .ok (.iload_n 1, 1) := dk_27 (dk_at dksX5_back_1 0 rfl rfl)
theorem dX5_back_25 : decode cX5_back 25 = .ok (.baload, 1) := dk_51 (dk_at dksX5_back_1 1 rfl rfl)
theorem dX5_back_26 : decode cX5_back 26 = .ok (.ifCond .ne 6, 3) := dk_154 0 6 (dk_at dksX5_back_1 2 rfl rfl)
theorem dX5_back_29 : decode cX5_back 29 = .ok (.bipush (-6), 2) := dk_16 250 (dk_at dksX5_back_1 5 rfl rfl)
theorem dX5_back_31 : decode cX5_back 31 = .ok (.ireturn, 1) := dk_172 (dk_at dksX5_back_1 7 rfl rfl)
theorem dX5_back_32 : decode cX5_back 32 = .ok (.aload_n 0, 1) := dk_42 (dk_at dksX5_back_1 8 rfl rfl)
theorem dX5_back_33 : decode cX5_back 33 = .ok (.iconst 1, 1) := dk_4 (dk_at dksX5_back_1 9 rfl rfl)
theorem dX5_back_34 : decode cX5_back 34 = .ok (.iload_n 1, 1) := dk_27 (dk_at dksX5_back_1 10 rfl rfl)
theorem dX5_back_35 : decode cX5_back 35 = .ok (.iadd, 1) := dk_96 (dk_at dksX5_back_1 11 rfl rfl)
theorem dX5_back_36 : decode cX5_back 36 = .ok (.iconst 0, 1) := dk_3 (dk_at dksX5_back_1 12 rfl rfl)
theorem dX5_back_37 : decode cX5_back 37 = .ok (.invokevirtual 271, 3) := dk_182 1 15 (dk_at dksX5_back_1 13 rfl rfl)
theorem dX5_back_40 : decode cX5_back 40 = .ok (.iconst 0, 1) := dk_3 (dk_at dksX5_back_1 16 rfl rfl)
theorem dX5_back_41 : decode cX5_back 41 = .ok (.ireturn, 1) := dk_172 (dk_at dksX5_back_1 17 rfl rfl)
theorem q155 : (Jvm.Cond.initialized "HiddenCubeModel") ∈ lw_all := lw_g (lw_at lw_m1 6 rfl) rfl
theorem q1390 : (Jvm.Cond.instantiable "HiddenCubeModel" (58 : Nat)) ∈ lw_all := lw_g (lw_at lw_m6 41 rfl) rfl
theorem q1392 : (Jvm.Cond.instanceMethod ({ cls := "HiddenCubeModel", name := "<init>", desc := "()V" } : Jvm.MethodName)) ∈ lw_all := lw_g (lw_at lw_m6 43 rfl) rfl
theorem q1393 : (Jvm.Cond.code ({ cls := "HiddenCubeModel", name := "<init>", desc := "()V" } : Jvm.MethodName) prog_10_method_1_code (2 : Nat) (Option.none : Option Jvm.ClassFile.FieldType)) ∈ lw_all := lw_g (lw_at lw_m6 44 rfl) rfl
theorem q1394 : (Jvm.Cond.methodLink "HiddenCubeModel" (1 : Nat) ({ cls := "java/lang/Object", name := "<init>", desc := "()V" } : Jvm.MethodName)) ∈ lw_all := lw_g (lw_at lw_m6 45 rfl) rfl
theorem q1395 : (Jvm.Cond.fieldLink "HiddenCubeModel" (131 : Nat) "HiddenCubeModel" "thrown" "I") ∈ lw_all := lw_g (lw_at lw_m6 46 rfl) rfl
theorem q1396 : (Jvm.Cond.fieldLink "HiddenCubeModel" (7 : Nat) "HiddenCubeModel" "width" "[I") ∈ lw_all := lw_g (lw_at lw_m6 47 rfl) rfl
theorem q1397 : (Jvm.Cond.fieldLink "HiddenCubeModel" (13 : Nat) "HiddenCubeModel" "many" "[I") ∈ lw_all := lw_g (lw_at lw_m6 48 rfl) rfl
theorem q1398 : (Jvm.Cond.fieldLink "HiddenCubeModel" (16 : Nat) "HiddenCubeModel" "cells" "[J") ∈ lw_all := lw_g (lw_at lw_m6 49 rfl) rfl
theorem q1399 : (Jvm.Cond.fieldLink "HiddenCubeModel" (20 : Nat) "HiddenCubeModel" "moved" "[J") ∈ lw_all := lw_g (lw_at lw_m6 50 rfl) rfl
theorem q1400 : (Jvm.Cond.fieldLink "HiddenCubeModel" (23 : Nat) "HiddenCubeModel" "tape" "[B") ∈ lw_all := lw_g (lw_at lw_m6 51 rfl) rfl
theorem q1401 : (Jvm.Cond.fieldLink "HiddenCubeModel" (148 : Nat) "HiddenCubeModel" "taped" "I") ∈ lw_all := lw_g (lw_at lw_m6 52 rfl) rfl
theorem q1402 : (Jvm.Cond.fieldLink "HiddenCubeModel" (155 : Nat) "HiddenCubeModel" "at" "I") ∈ lw_all := lw_g (lw_at lw_m6 53 rfl) rfl
theorem q1403 : (Jvm.Cond.fieldLink "HiddenCubeModel" (172 : Nat) "HiddenCubeModel" "token" "I") ∈ lw_all := lw_g (lw_at lw_m6 54 rfl) rfl
theorem q1404 : (Jvm.Cond.fieldLink "HiddenCubeModel" (162 : Nat) "HiddenCubeModel" "place" "I") ∈ lw_all := lw_g (lw_at lw_m6 55 rfl) rfl
theorem q1405 : (Jvm.Cond.fieldLink "HiddenCubeModel" (165 : Nat) "HiddenCubeModel" "value" "I") ∈ lw_all := lw_g (lw_at lw_m6 56 rfl) rfl
theorem q1406 : (Jvm.Cond.fieldLink "HiddenCubeModel" (168 : Nat) "HiddenCubeModel" "word" "J") ∈ lw_all := lw_g (lw_at lw_m6 57 rfl) rfl
theorem q1407 : (Jvm.Cond.fieldLink "HiddenCubeModel" (183 : Nat) "HiddenCubeModel" "bad" "I") ∈ lw_all := lw_g (lw_at lw_m6 58 rfl) rfl
theorem q1408 : (Jvm.Cond.fieldLink "HiddenCubeModel" (186 : Nat) "HiddenCubeModel" "badPlace" "I") ∈ lw_all := lw_g (lw_at lw_m6 59 rfl) rfl
theorem q1409 : (Jvm.Cond.fieldLink "HiddenCubeModel" (210 : Nat) "HiddenCubeModel" "fault" "I") ∈ lw_all := lw_g (lw_at lw_m6 60 rfl) rfl
theorem q1410 : (Jvm.Cond.fieldLink "HiddenCubeModel" (27 : Nat) "HiddenCubeModel" "faultPlace" "I") ∈ lw_all := lw_g (lw_at lw_m6 61 rfl) rfl
theorem q1411 : (Jvm.Cond.fieldLink "HiddenCubeModel" (31 : Nat) "HiddenCubeModel" "lines" "[I") ∈ lw_all := lw_g (lw_at lw_m6 62 rfl) rfl
theorem q1412 : (Jvm.Cond.fieldLink "HiddenCubeModel" (34 : Nat) "HiddenCubeModel" "has" "[I") ∈ lw_all := lw_g (lw_at lw_m6 63 rfl) rfl
theorem q1413 : (Jvm.Cond.fieldLink "HiddenCubeModel" (37 : Nat) "HiddenCubeModel" "name" "[J") ∈ lw_all := lw_g (lw_at lw_m6 64 rfl) rfl
theorem q1414 : (Jvm.Cond.fieldLink "HiddenCubeModel" (40 : Nat) "HiddenCubeModel" "length" "[I") ∈ lw_all := lw_g (lw_at lw_m6 65 rfl) rfl
theorem q1415 : (Jvm.Cond.fieldLink "HiddenCubeModel" (43 : Nat) "HiddenCubeModel" "letter" "[I") ∈ lw_all := lw_g (lw_at lw_m6 66 rfl) rfl
theorem q1416 : (Jvm.Cond.fieldLink "HiddenCubeModel" (46 : Nat) "HiddenCubeModel" "shut" "[I") ∈ lw_all := lw_g (lw_at lw_m6 67 rfl) rfl
theorem q1417 : (Jvm.Cond.fieldLink "HiddenCubeModel" (49 : Nat) "HiddenCubeModel" "warden" "[I") ∈ lw_all := lw_g (lw_at lw_m6 68 rfl) rfl
theorem q1418 : (Jvm.Cond.fieldLink "HiddenCubeModel" (52 : Nat) "HiddenCubeModel" "person" "[I") ∈ lw_all := lw_g (lw_at lw_m6 69 rfl) rfl
theorem q1419 : (Jvm.Cond.fieldLink "HiddenCubeModel" (55 : Nat) "HiddenCubeModel" "carrier" "[I") ∈ lw_all := lw_g (lw_at lw_m6 70 rfl) rfl
theorem q1420 : (Jvm.Cond.fieldLink "HiddenCubeModel" (58 : Nat) "HiddenCubeModel" "isKept" "[Z") ∈ lw_all := lw_g (lw_at lw_m6 71 rfl) rfl
theorem q1421 : (Jvm.Cond.fieldLink "HiddenCubeModel" (62 : Nat) "HiddenCubeModel" "far" "[I") ∈ lw_all := lw_g (lw_at lw_m6 72 rfl) rfl
theorem q1422 : (Jvm.Cond.fieldLink "HiddenCubeModel" (65 : Nat) "HiddenCubeModel" "ways" "[I") ∈ lw_all := lw_g (lw_at lw_m6 73 rfl) rfl
theorem q1423 : (Jvm.Cond.fieldLink "HiddenCubeModel" (68 : Nat) "HiddenCubeModel" "room" "[I") ∈ lw_all := lw_g (lw_at lw_m6 74 rfl) rfl
theorem q1424 : (Jvm.Cond.fieldLink "HiddenCubeModel" (71 : Nat) "HiddenCubeModel" "came" "[I") ∈ lw_all := lw_g (lw_at lw_m6 75 rfl) rfl
theorem q1425 : (Jvm.Cond.fieldLink "HiddenCubeModel" (74 : Nat) "HiddenCubeModel" "queue" "[I") ∈ lw_all := lw_g (lw_at lw_m6 76 rfl) rfl
theorem q1426 : (Jvm.Cond.fieldLink "HiddenCubeModel" (77 : Nat) "HiddenCubeModel" "part" "[I") ∈ lw_all := lw_g (lw_at lw_m6 77 rfl) rfl
theorem q1427 : (Jvm.Cond.fieldLink "HiddenCubeModel" (80 : Nat) "HiddenCubeModel" "goesTo" "[I") ∈ lw_all := lw_g (lw_at lw_m6 78 rfl) rfl
theorem q1428 : (Jvm.Cond.fieldLink "HiddenCubeModel" (83 : Nat) "HiddenCubeModel" "turned" "[I") ∈ lw_all := lw_g (lw_at lw_m6 79 rfl) rfl
theorem q1429 : (Jvm.Cond.fieldLink "HiddenCubeModel" (353 : Nat) "HiddenCubeModel" "turningMany" "I") ∈ lw_all := lw_g (lw_at lw_m6 80 rfl) rfl
theorem q1430 : (Jvm.Cond.fieldLink "HiddenCubeModel" (86 : Nat) "HiddenCubeModel" "order" "[I") ∈ lw_all := lw_g (lw_at lw_m6 81 rfl) rfl
theorem q1431 : (Jvm.Cond.fieldLink "HiddenCubeModel" (89 : Nat) "HiddenCubeModel" "street" "[I") ∈ lw_all := lw_g (lw_at lw_m6 82 rfl) rfl
theorem q1432 : (Jvm.Cond.fieldLink "HiddenCubeModel" (92 : Nat) "HiddenCubeModel" "rounds" "[I") ∈ lw_all := lw_g (lw_at lw_m6 83 rfl) rfl
theorem q1433 : (Jvm.Cond.fieldLink "HiddenCubeModel" (376 : Nat) "HiddenCubeModel" "roundMany" "I") ∈ lw_all := lw_g (lw_at lw_m6 84 rfl) rfl
theorem q1434 : (Jvm.Cond.fieldLink "HiddenCubeModel" (95 : Nat) "HiddenCubeModel" "path" "[I") ∈ lw_all := lw_g (lw_at lw_m6 85 rfl) rfl
theorem q1435 : (Jvm.Cond.fieldLink "HiddenCubeModel" (98 : Nat) "HiddenCubeModel" "firstRound" "[I") ∈ lw_all := lw_g (lw_at lw_m6 86 rfl) rfl
theorem q1436 : (Jvm.Cond.fieldLink "HiddenCubeModel" (101 : Nat) "HiddenCubeModel" "streetTo" "[I") ∈ lw_all := lw_g (lw_at lw_m6 87 rfl) rfl
theorem q1437 : (Jvm.Cond.fieldLink "HiddenCubeModel" (104 : Nat) "HiddenCubeModel" "near" "[I") ∈ lw_all := lw_g (lw_at lw_m6 88 rfl) rfl
theorem q1438 : (Jvm.Cond.fieldLink "HiddenCubeModel" (398 : Nat) "HiddenCubeModel" "fewestMany" "I") ∈ lw_all := lw_g (lw_at lw_m6 89 rfl) rfl
theorem q1439 : (Jvm.Cond.fieldLink "HiddenCubeModel" (401 : Nat) "HiddenCubeModel" "fewestSets" "I") ∈ lw_all := lw_g (lw_at lw_m6 90 rfl) rfl
theorem q1440 : (Jvm.Cond.fieldLink "HiddenCubeModel" (404 : Nat) "HiddenCubeModel" "fewestLeast" "I") ∈ lw_all := lw_g (lw_at lw_m6 91 rfl) rfl
theorem q1441 : (Jvm.Cond.fieldLink "HiddenCubeModel" (107 : Nat) "HiddenCubeModel" "seat" "[I") ∈ lw_all := lw_g (lw_at lw_m6 92 rfl) rfl
theorem q1442 : (Jvm.Cond.fieldLink "HiddenCubeModel" (110 : Nat) "HiddenCubeModel" "low" "[I") ∈ lw_all := lw_g (lw_at lw_m6 93 rfl) rfl
theorem q1443 : (Jvm.Cond.fieldLink "HiddenCubeModel" (113 : Nat) "HiddenCubeModel" "high" "[I") ∈ lw_all := lw_g (lw_at lw_m6 94 rfl) rfl
theorem q1444 : (Jvm.Cond.fieldLink "HiddenCubeModel" (116 : Nat) "HiddenCubeModel" "stands" "[I") ∈ lw_all := lw_g (lw_at lw_m6 95 rfl) rfl
theorem q1445 : (Jvm.Cond.fieldLink "HiddenCubeModel" (119 : Nat) "HiddenCubeModel" "sureOf" "[I") ∈ lw_all := lw_g (lw_at lw_m6 96 rfl) rfl
theorem q1446 : (Jvm.Cond.fieldLink "HiddenCubeModel" (440 : Nat) "HiddenCubeModel" "metMany" "I") ∈ lw_all := lw_g (lw_at lw_m6 97 rfl) rfl
theorem q1447 : (Jvm.Cond.fieldLink "HiddenCubeModel" (122 : Nat) "HiddenCubeModel" "where" "[I") ∈ lw_all := lw_g (lw_at lw_m6 98 rfl) rfl
theorem q1448 : (Jvm.Cond.fieldLink "HiddenCubeModel" (125 : Nat) "HiddenCubeModel" "there" "[I") ∈ lw_all := lw_g (lw_at lw_m6 99 rfl) rfl
theorem q1449 : (Jvm.Cond.fieldLink "HiddenCubeModel" (128 : Nat) "HiddenCubeModel" "went" "[I") ∈ lw_all := lw_g (lw_at lw_m6 100 rfl) rfl
theorem q1450 : (Jvm.Cond.fieldLink "HiddenCubeModel" (449 : Nat) "HiddenCubeModel" "waits" "I") ∈ lw_all := lw_g (lw_at lw_m6 101 rfl) rfl
theorem q1451 : (Jvm.Cond.fieldLink "HiddenCubeModel" (452 : Nat) "HiddenCubeModel" "clashes" "I") ∈ lw_all := lw_g (lw_at lw_m6 102 rfl) rfl
theorem q1452 : (Jvm.Cond.fieldLink "HiddenCubeModel" (466 : Nat) "HiddenCubeModel" "x" "J") ∈ lw_all := lw_g (lw_at lw_m6 103 rfl) rfl
theorem q1453 : (Jvm.Cond.lays "HiddenCubeModel" "HiddenCubeModel" "thrown" "I") ∈ lw_all := lw_g (lw_at lw_m6 104 rfl) rfl
theorem q1454 : (Jvm.Cond.soleField "HiddenCubeModel" "thrown") ∈ lw_all := lw_g (lw_at lw_m6 105 rfl) rfl
theorem q1455 : (Jvm.Cond.laysFinal "HiddenCubeModel" "HiddenCubeModel" "width" "[I") ∈ lw_all := lw_g (lw_at lw_m6 106 rfl) rfl
theorem q1456 : (Jvm.Cond.soleField "HiddenCubeModel" "width") ∈ lw_all := lw_g (lw_at lw_m6 107 rfl) rfl
theorem q1457 : (Jvm.Cond.laysFinal "HiddenCubeModel" "HiddenCubeModel" "many" "[I") ∈ lw_all := lw_g (lw_at lw_m6 108 rfl) rfl
theorem q1458 : (Jvm.Cond.soleField "HiddenCubeModel" "many") ∈ lw_all := lw_g (lw_at lw_m6 109 rfl) rfl
theorem q1459 : (Jvm.Cond.laysFinal "HiddenCubeModel" "HiddenCubeModel" "cells" "[J") ∈ lw_all := lw_g (lw_at lw_m6 110 rfl) rfl
theorem q1460 : (Jvm.Cond.soleField "HiddenCubeModel" "cells") ∈ lw_all := lw_g (lw_at lw_m6 111 rfl) rfl
theorem q1461 : (Jvm.Cond.laysFinal "HiddenCubeModel" "HiddenCubeModel" "moved" "[J") ∈ lw_all := lw_g (lw_at lw_m6 112 rfl) rfl
theorem q1462 : (Jvm.Cond.soleField "HiddenCubeModel" "moved") ∈ lw_all := lw_g (lw_at lw_m6 113 rfl) rfl
theorem q1463 : (Jvm.Cond.laysFinal "HiddenCubeModel" "HiddenCubeModel" "tape" "[B") ∈ lw_all := lw_g (lw_at lw_m6 114 rfl) rfl
theorem q1464 : (Jvm.Cond.soleField "HiddenCubeModel" "tape") ∈ lw_all := lw_g (lw_at lw_m6 115 rfl) rfl
theorem q1465 : (Jvm.Cond.lays "HiddenCubeModel" "HiddenCubeModel" "taped" "I") ∈ lw_all := lw_g (lw_at lw_m6 116 rfl) rfl
theorem q1466 : (Jvm.Cond.soleField "HiddenCubeModel" "taped") ∈ lw_all := lw_g (lw_at lw_m6 117 rfl) rfl
theorem q1467 : (Jvm.Cond.lays "HiddenCubeModel" "HiddenCubeModel" "at" "I") ∈ lw_all := lw_g (lw_at lw_m6 118 rfl) rfl
theorem q1468 : (Jvm.Cond.soleField "HiddenCubeModel" "at") ∈ lw_all := lw_g (lw_at lw_m6 119 rfl) rfl
theorem q1469 : (Jvm.Cond.lays "HiddenCubeModel" "HiddenCubeModel" "token" "I") ∈ lw_all := lw_g (lw_at lw_m6 120 rfl) rfl
theorem q1470 : (Jvm.Cond.soleField "HiddenCubeModel" "token") ∈ lw_all := lw_g (lw_at lw_m6 121 rfl) rfl
theorem q1471 : (Jvm.Cond.lays "HiddenCubeModel" "HiddenCubeModel" "place" "I") ∈ lw_all := lw_g (lw_at lw_m6 122 rfl) rfl
theorem q1472 : (Jvm.Cond.soleField "HiddenCubeModel" "place") ∈ lw_all := lw_g (lw_at lw_m6 123 rfl) rfl
theorem q1473 : (Jvm.Cond.lays "HiddenCubeModel" "HiddenCubeModel" "value" "I") ∈ lw_all := lw_g (lw_at lw_m6 124 rfl) rfl
theorem q1474 : (Jvm.Cond.soleField "HiddenCubeModel" "value") ∈ lw_all := lw_g (lw_at lw_m6 125 rfl) rfl
theorem q1475 : (Jvm.Cond.lays "HiddenCubeModel" "HiddenCubeModel" "word" "J") ∈ lw_all := lw_g (lw_at lw_m6 126 rfl) rfl
theorem q1476 : (Jvm.Cond.soleField "HiddenCubeModel" "word") ∈ lw_all := lw_g (lw_at lw_m6 127 rfl) rfl
theorem q1477 : (Jvm.Cond.lays "HiddenCubeModel" "HiddenCubeModel" "bad" "I") ∈ lw_all := lw_g (lw_at lw_m6 128 rfl) rfl
theorem q1478 : (Jvm.Cond.soleField "HiddenCubeModel" "bad") ∈ lw_all := lw_g (lw_at lw_m6 129 rfl) rfl
theorem q1479 : (Jvm.Cond.lays "HiddenCubeModel" "HiddenCubeModel" "badPlace" "I") ∈ lw_all := lw_g (lw_at lw_m6 130 rfl) rfl
theorem q1480 : (Jvm.Cond.soleField "HiddenCubeModel" "badPlace") ∈ lw_all := lw_g (lw_at lw_m6 131 rfl) rfl
theorem q1481 : (Jvm.Cond.lays "HiddenCubeModel" "HiddenCubeModel" "fault" "I") ∈ lw_all := lw_g (lw_at lw_m6 132 rfl) rfl
theorem q1482 : (Jvm.Cond.soleField "HiddenCubeModel" "fault") ∈ lw_all := lw_g (lw_at lw_m6 133 rfl) rfl
theorem q1483 : (Jvm.Cond.lays "HiddenCubeModel" "HiddenCubeModel" "faultPlace" "I") ∈ lw_all := lw_g (lw_at lw_m6 134 rfl) rfl
theorem q1484 : (Jvm.Cond.soleField "HiddenCubeModel" "faultPlace") ∈ lw_all := lw_g (lw_at lw_m6 135 rfl) rfl
theorem q1485 : (Jvm.Cond.laysFinal "HiddenCubeModel" "HiddenCubeModel" "lines" "[I") ∈ lw_all := lw_g (lw_at lw_m6 136 rfl) rfl
theorem q1486 : (Jvm.Cond.soleField "HiddenCubeModel" "lines") ∈ lw_all := lw_g (lw_at lw_m6 137 rfl) rfl
theorem q1487 : (Jvm.Cond.laysFinal "HiddenCubeModel" "HiddenCubeModel" "has" "[I") ∈ lw_all := lw_g (lw_at lw_m6 138 rfl) rfl
theorem q1488 : (Jvm.Cond.soleField "HiddenCubeModel" "has") ∈ lw_all := lw_g (lw_at lw_m6 139 rfl) rfl
theorem q1489 : (Jvm.Cond.laysFinal "HiddenCubeModel" "HiddenCubeModel" "name" "[J") ∈ lw_all := lw_g (lw_at lw_m6 140 rfl) rfl
theorem q1490 : (Jvm.Cond.soleField "HiddenCubeModel" "name") ∈ lw_all := lw_g (lw_at lw_m6 141 rfl) rfl
theorem q1491 : (Jvm.Cond.laysFinal "HiddenCubeModel" "HiddenCubeModel" "length" "[I") ∈ lw_all := lw_g (lw_at lw_m6 142 rfl) rfl
theorem q1492 : (Jvm.Cond.soleField "HiddenCubeModel" "length") ∈ lw_all := lw_g (lw_at lw_m6 143 rfl) rfl
theorem q1493 : (Jvm.Cond.laysFinal "HiddenCubeModel" "HiddenCubeModel" "letter" "[I") ∈ lw_all := lw_g (lw_at lw_m6 144 rfl) rfl
theorem q1494 : (Jvm.Cond.soleField "HiddenCubeModel" "letter") ∈ lw_all := lw_g (lw_at lw_m6 145 rfl) rfl
theorem q1495 : (Jvm.Cond.laysFinal "HiddenCubeModel" "HiddenCubeModel" "shut" "[I") ∈ lw_all := lw_g (lw_at lw_m6 146 rfl) rfl
theorem q1496 : (Jvm.Cond.soleField "HiddenCubeModel" "shut") ∈ lw_all := lw_g (lw_at lw_m6 147 rfl) rfl
theorem q1497 : (Jvm.Cond.laysFinal "HiddenCubeModel" "HiddenCubeModel" "warden" "[I") ∈ lw_all := lw_g (lw_at lw_m6 148 rfl) rfl
theorem q1498 : (Jvm.Cond.soleField "HiddenCubeModel" "warden") ∈ lw_all := lw_g (lw_at lw_m6 149 rfl) rfl
theorem q1499 : (Jvm.Cond.laysFinal "HiddenCubeModel" "HiddenCubeModel" "person" "[I") ∈ lw_all := lw_g (lw_at lw_m6 150 rfl) rfl
theorem q1500 : (Jvm.Cond.soleField "HiddenCubeModel" "person") ∈ lw_all := lw_g (lw_at lw_m6 151 rfl) rfl
theorem q1501 : (Jvm.Cond.laysFinal "HiddenCubeModel" "HiddenCubeModel" "carrier" "[I") ∈ lw_all := lw_g (lw_at lw_m6 152 rfl) rfl
theorem q1502 : (Jvm.Cond.soleField "HiddenCubeModel" "carrier") ∈ lw_all := lw_g (lw_at lw_m6 153 rfl) rfl
theorem q1503 : (Jvm.Cond.laysFinal "HiddenCubeModel" "HiddenCubeModel" "isKept" "[Z") ∈ lw_all := lw_g (lw_at lw_m6 154 rfl) rfl
theorem q1504 : (Jvm.Cond.soleField "HiddenCubeModel" "isKept") ∈ lw_all := lw_g (lw_at lw_m6 155 rfl) rfl
theorem q1505 : (Jvm.Cond.laysFinal "HiddenCubeModel" "HiddenCubeModel" "far" "[I") ∈ lw_all := lw_g (lw_at lw_m6 156 rfl) rfl
theorem q1506 : (Jvm.Cond.soleField "HiddenCubeModel" "far") ∈ lw_all := lw_g (lw_at lw_m6 157 rfl) rfl
theorem q1507 : (Jvm.Cond.laysFinal "HiddenCubeModel" "HiddenCubeModel" "ways" "[I") ∈ lw_all := lw_g (lw_at lw_m6 158 rfl) rfl
theorem q1508 : (Jvm.Cond.soleField "HiddenCubeModel" "ways") ∈ lw_all := lw_g (lw_at lw_m6 159 rfl) rfl
theorem q1509 : (Jvm.Cond.laysFinal "HiddenCubeModel" "HiddenCubeModel" "room" "[I") ∈ lw_all := lw_g (lw_at lw_m6 160 rfl) rfl
theorem q1510 : (Jvm.Cond.soleField "HiddenCubeModel" "room") ∈ lw_all := lw_g (lw_at lw_m6 161 rfl) rfl
theorem q1511 : (Jvm.Cond.laysFinal "HiddenCubeModel" "HiddenCubeModel" "came" "[I") ∈ lw_all := lw_g (lw_at lw_m6 162 rfl) rfl
theorem q1512 : (Jvm.Cond.soleField "HiddenCubeModel" "came") ∈ lw_all := lw_g (lw_at lw_m6 163 rfl) rfl
theorem q1513 : (Jvm.Cond.laysFinal "HiddenCubeModel" "HiddenCubeModel" "queue" "[I") ∈ lw_all := lw_g (lw_at lw_m6 164 rfl) rfl
theorem q1514 : (Jvm.Cond.soleField "HiddenCubeModel" "queue") ∈ lw_all := lw_g (lw_at lw_m6 165 rfl) rfl
theorem q1515 : (Jvm.Cond.laysFinal "HiddenCubeModel" "HiddenCubeModel" "part" "[I") ∈ lw_all := lw_g (lw_at lw_m6 166 rfl) rfl
theorem q1516 : (Jvm.Cond.soleField "HiddenCubeModel" "part") ∈ lw_all := lw_g (lw_at lw_m6 167 rfl) rfl
theorem q1517 : (Jvm.Cond.laysFinal "HiddenCubeModel" "HiddenCubeModel" "goesTo" "[I") ∈ lw_all := lw_g (lw_at lw_m6 168 rfl) rfl
theorem q1518 : (Jvm.Cond.soleField "HiddenCubeModel" "goesTo") ∈ lw_all := lw_g (lw_at lw_m6 169 rfl) rfl
theorem q1519 : (Jvm.Cond.laysFinal "HiddenCubeModel" "HiddenCubeModel" "turned" "[I") ∈ lw_all := lw_g (lw_at lw_m6 170 rfl) rfl
theorem q1520 : (Jvm.Cond.soleField "HiddenCubeModel" "turned") ∈ lw_all := lw_g (lw_at lw_m6 171 rfl) rfl
theorem q1521 : (Jvm.Cond.lays "HiddenCubeModel" "HiddenCubeModel" "turningMany" "I") ∈ lw_all := lw_g (lw_at lw_m6 172 rfl) rfl
theorem q1522 : (Jvm.Cond.soleField "HiddenCubeModel" "turningMany") ∈ lw_all := lw_g (lw_at lw_m6 173 rfl) rfl
theorem q1523 : (Jvm.Cond.laysFinal "HiddenCubeModel" "HiddenCubeModel" "order" "[I") ∈ lw_all := lw_g (lw_at lw_m6 174 rfl) rfl
theorem q1524 : (Jvm.Cond.soleField "HiddenCubeModel" "order") ∈ lw_all := lw_g (lw_at lw_m6 175 rfl) rfl
theorem q1525 : (Jvm.Cond.laysFinal "HiddenCubeModel" "HiddenCubeModel" "street" "[I") ∈ lw_all := lw_g (lw_at lw_m6 176 rfl) rfl
theorem q1526 : (Jvm.Cond.soleField "HiddenCubeModel" "street") ∈ lw_all := lw_g (lw_at lw_m6 177 rfl) rfl
theorem q1527 : (Jvm.Cond.laysFinal "HiddenCubeModel" "HiddenCubeModel" "rounds" "[I") ∈ lw_all := lw_g (lw_at lw_m6 178 rfl) rfl
theorem q1528 : (Jvm.Cond.soleField "HiddenCubeModel" "rounds") ∈ lw_all := lw_g (lw_at lw_m6 179 rfl) rfl
theorem q1529 : (Jvm.Cond.lays "HiddenCubeModel" "HiddenCubeModel" "roundMany" "I") ∈ lw_all := lw_g (lw_at lw_m6 180 rfl) rfl
theorem q1530 : (Jvm.Cond.soleField "HiddenCubeModel" "roundMany") ∈ lw_all := lw_g (lw_at lw_m6 181 rfl) rfl
theorem q1531 : (Jvm.Cond.laysFinal "HiddenCubeModel" "HiddenCubeModel" "path" "[I") ∈ lw_all := lw_g (lw_at lw_m6 182 rfl) rfl
theorem q1532 : (Jvm.Cond.soleField "HiddenCubeModel" "path") ∈ lw_all := lw_g (lw_at lw_m6 183 rfl) rfl
theorem q1533 : (Jvm.Cond.laysFinal "HiddenCubeModel" "HiddenCubeModel" "firstRound" "[I") ∈ lw_all := lw_g (lw_at lw_m6 184 rfl) rfl
theorem q1534 : (Jvm.Cond.soleField "HiddenCubeModel" "firstRound") ∈ lw_all := lw_g (lw_at lw_m6 185 rfl) rfl
theorem q1535 : (Jvm.Cond.laysFinal "HiddenCubeModel" "HiddenCubeModel" "streetTo" "[I") ∈ lw_all := lw_g (lw_at lw_m6 186 rfl) rfl
theorem q1536 : (Jvm.Cond.soleField "HiddenCubeModel" "streetTo") ∈ lw_all := lw_g (lw_at lw_m6 187 rfl) rfl
theorem q1537 : (Jvm.Cond.laysFinal "HiddenCubeModel" "HiddenCubeModel" "near" "[I") ∈ lw_all := lw_g (lw_at lw_m6 188 rfl) rfl
theorem q1538 : (Jvm.Cond.soleField "HiddenCubeModel" "near") ∈ lw_all := lw_g (lw_at lw_m6 189 rfl) rfl
theorem q1539 : (Jvm.Cond.lays "HiddenCubeModel" "HiddenCubeModel" "fewestMany" "I") ∈ lw_all := lw_g (lw_at lw_m6 190 rfl) rfl
theorem q1540 : (Jvm.Cond.soleField "HiddenCubeModel" "fewestMany") ∈ lw_all := lw_g (lw_at lw_m6 191 rfl) rfl
theorem q1541 : (Jvm.Cond.lays "HiddenCubeModel" "HiddenCubeModel" "fewestSets" "I") ∈ lw_all := lw_g (lw_at lw_m6 192 rfl) rfl
theorem q1542 : (Jvm.Cond.soleField "HiddenCubeModel" "fewestSets") ∈ lw_all := lw_g (lw_at lw_m6 193 rfl) rfl
theorem q1543 : (Jvm.Cond.lays "HiddenCubeModel" "HiddenCubeModel" "fewestLeast" "I") ∈ lw_all := lw_g (lw_at lw_m6 194 rfl) rfl
theorem q1544 : (Jvm.Cond.soleField "HiddenCubeModel" "fewestLeast") ∈ lw_all := lw_g (lw_at lw_m6 195 rfl) rfl
theorem q1545 : (Jvm.Cond.laysFinal "HiddenCubeModel" "HiddenCubeModel" "seat" "[I") ∈ lw_all := lw_g (lw_at lw_m6 196 rfl) rfl
theorem q1546 : (Jvm.Cond.soleField "HiddenCubeModel" "seat") ∈ lw_all := lw_g (lw_at lw_m6 197 rfl) rfl
theorem q1547 : (Jvm.Cond.laysFinal "HiddenCubeModel" "HiddenCubeModel" "low" "[I") ∈ lw_all := lw_g (lw_at lw_m6 198 rfl) rfl
theorem q1548 : (Jvm.Cond.soleField "HiddenCubeModel" "low") ∈ lw_all := lw_g (lw_at lw_m6 199 rfl) rfl
theorem q1549 : (Jvm.Cond.laysFinal "HiddenCubeModel" "HiddenCubeModel" "high" "[I") ∈ lw_all := lw_g (lw_at lw_m6 200 rfl) rfl
theorem q1550 : (Jvm.Cond.soleField "HiddenCubeModel" "high") ∈ lw_all := lw_g (lw_at lw_m6 201 rfl) rfl
theorem q1551 : (Jvm.Cond.laysFinal "HiddenCubeModel" "HiddenCubeModel" "stands" "[I") ∈ lw_all := lw_g (lw_at lw_m6 202 rfl) rfl
theorem q1552 : (Jvm.Cond.soleField "HiddenCubeModel" "stands") ∈ lw_all := lw_g (lw_at lw_m6 203 rfl) rfl
theorem q1553 : (Jvm.Cond.laysFinal "HiddenCubeModel" "HiddenCubeModel" "sureOf" "[I") ∈ lw_all := lw_g (lw_at lw_m6 204 rfl) rfl
theorem q1554 : (Jvm.Cond.soleField "HiddenCubeModel" "sureOf") ∈ lw_all := lw_g (lw_at lw_m6 205 rfl) rfl
theorem q1555 : (Jvm.Cond.lays "HiddenCubeModel" "HiddenCubeModel" "metMany" "I") ∈ lw_all := lw_g (lw_at lw_m6 206 rfl) rfl
theorem q1556 : (Jvm.Cond.soleField "HiddenCubeModel" "metMany") ∈ lw_all := lw_g (lw_at lw_m6 207 rfl) rfl
theorem q1557 : (Jvm.Cond.laysFinal "HiddenCubeModel" "HiddenCubeModel" "where" "[I") ∈ lw_all := lw_g (lw_at lw_m6 208 rfl) rfl
theorem q1558 : (Jvm.Cond.soleField "HiddenCubeModel" "where") ∈ lw_all := lw_g (lw_at lw_m6 209 rfl) rfl
theorem q1559 : (Jvm.Cond.laysFinal "HiddenCubeModel" "HiddenCubeModel" "there" "[I") ∈ lw_all := lw_g (lw_at lw_m6 210 rfl) rfl
theorem q1560 : (Jvm.Cond.soleField "HiddenCubeModel" "there") ∈ lw_all := lw_g (lw_at lw_m6 211 rfl) rfl
theorem q1561 : (Jvm.Cond.laysFinal "HiddenCubeModel" "HiddenCubeModel" "went" "[I") ∈ lw_all := lw_g (lw_at lw_m6 212 rfl) rfl
theorem q1562 : (Jvm.Cond.soleField "HiddenCubeModel" "went") ∈ lw_all := lw_g (lw_at lw_m6 213 rfl) rfl
theorem q1563 : (Jvm.Cond.lays "HiddenCubeModel" "HiddenCubeModel" "waits" "I") ∈ lw_all := lw_g (lw_at lw_m6 214 rfl) rfl
theorem q1564 : (Jvm.Cond.soleField "HiddenCubeModel" "waits") ∈ lw_all := lw_g (lw_at lw_m6 215 rfl) rfl
theorem q1565 : (Jvm.Cond.lays "HiddenCubeModel" "HiddenCubeModel" "clashes" "I") ∈ lw_all := lw_g (lw_at lw_m6 216 rfl) rfl
theorem q1566 : (Jvm.Cond.soleField "HiddenCubeModel" "clashes") ∈ lw_all := lw_g (lw_at lw_m6 217 rfl) rfl
theorem q1567 : (Jvm.Cond.lays "HiddenCubeModel" "HiddenCubeModel" "x" "J") ∈ lw_all := lw_g (lw_at lw_m6 218 rfl) rfl
theorem q1568 : (Jvm.Cond.soleField "HiddenCubeModel" "x") ∈ lw_all := lw_g (lw_at lw_m6 219 rfl) rfl
theorem q1569 : (Jvm.Cond.superclass "HiddenCubeModel" "java/lang/Object") ∈ lw_all := lw_g (lw_at lw_m6 220 rfl) rfl
theorem q1571 : (Jvm.Cond.instanceMethod ({ cls := "HiddenCubeModel", name := "row", desc := "(III)I" } : Jvm.MethodName)) ∈ lw_all := lw_g (lw_at lw_m6 222 rfl) rfl
theorem q1572 : (Jvm.Cond.selects "HiddenCubeModel" ({ cls := "HiddenCubeModel", name := "row", desc := "(III)I" } : Jvm.MethodName) ({ cls := "HiddenCubeModel", name := "row", desc := "(III)I" } : Jvm.MethodName)) ∈ lw_all := lw_g (lw_at lw_m6 223 rfl) rfl
theorem q1573 : (Jvm.Cond.code ({ cls := "HiddenCubeModel", name := "row", desc := "(III)I" } : Jvm.MethodName) prog_10_method_5_code (5 : Nat) (Option.some Jvm.ClassFile.FieldType.int)) ∈ lw_all := lw_g (lw_at lw_m6 224 rfl) rfl
theorem q1574 : (Jvm.Cond.methodLink "HiddenCubeModel" (140 : Nat) ({ cls := "HiddenCubeModel", name := "isSlot", desc := "(I)Z" } : Jvm.MethodName)) ∈ lw_all := lw_g (lw_at lw_m6 225 rfl) rfl
theorem q1575 : (Jvm.Cond.static ({ cls := "HiddenCubeModel", name := "isSlot", desc := "(I)Z" } : Jvm.MethodName)) ∈ lw_all := lw_g (lw_at lw_m6 226 rfl) rfl
theorem q1576 : (Jvm.Cond.code ({ cls := "HiddenCubeModel", name := "isSlot", desc := "(I)Z" } : Jvm.MethodName) prog_10_method_4_code (1 : Nat) (Option.some Jvm.ClassFile.FieldType.boolean)) ∈ lw_all := lw_g (lw_at lw_m6 227 rfl) rfl
theorem q1577 : (Jvm.Cond.constantLong "HiddenCubeModel" (134 : Nat) (3 : Int64)) ∈ lw_all := lw_g (lw_at lw_m6 228 rfl) rfl
theorem q1578 : (Jvm.Cond.methodLink "HiddenCubeModel" (136 : Nat) ({ cls := "HiddenCubeModel", name := "in", desc := "(JJJ)Z" } : Jvm.MethodName)) ∈ lw_all := lw_g (lw_at lw_m6 229 rfl) rfl
theorem q1579 : (Jvm.Cond.static ({ cls := "HiddenCubeModel", name := "in", desc := "(JJJ)Z" } : Jvm.MethodName)) ∈ lw_all := lw_g (lw_at lw_m6 230 rfl) rfl
theorem q1580 : (Jvm.Cond.code ({ cls := "HiddenCubeModel", name := "in", desc := "(JJJ)Z" } : Jvm.MethodName) prog_10_method_3_code (6 : Nat) (Option.some Jvm.ClassFile.FieldType.boolean)) ∈ lw_all := lw_g (lw_at lw_m6 231 rfl) rfl
theorem q1582 : (Jvm.Cond.instanceMethod ({ cls := "HiddenCubeModel", name := "write", desc := "(IIJ)I" } : Jvm.MethodName)) ∈ lw_all := lw_g (lw_at lw_m6 233 rfl) rfl
theorem q1583 : (Jvm.Cond.selects "HiddenCubeModel" ({ cls := "HiddenCubeModel", name := "write", desc := "(IIJ)I" } : Jvm.MethodName) ({ cls := "HiddenCubeModel", name := "write", desc := "(IIJ)I" } : Jvm.MethodName)) ∈ lw_all := lw_g (lw_at lw_m6 234 rfl) rfl
theorem q1584 : (Jvm.Cond.code ({ cls := "HiddenCubeModel", name := "write", desc := "(IIJ)I" } : Jvm.MethodName) prog_10_method_7_code (5 : Nat) (Option.some Jvm.ClassFile.FieldType.int)) ∈ lw_all := lw_g (lw_at lw_m6 235 rfl) rfl
theorem q1585 : (Jvm.Cond.methodLink "HiddenCubeModel" (144 : Nat) ({ cls := "HiddenCubeModel", name := "cut", desc := "(JI)J" } : Jvm.MethodName)) ∈ lw_all := lw_g (lw_at lw_m6 236 rfl) rfl
theorem q1586 : (Jvm.Cond.static ({ cls := "HiddenCubeModel", name := "cut", desc := "(JI)J" } : Jvm.MethodName)) ∈ lw_all := lw_g (lw_at lw_m6 237 rfl) rfl
theorem q1587 : (Jvm.Cond.code ({ cls := "HiddenCubeModel", name := "cut", desc := "(JI)J" } : Jvm.MethodName) prog_10_method_6_code (3 : Nat) (Option.some Jvm.ClassFile.FieldType.long)) ∈ lw_all := lw_g (lw_at lw_m6 238 rfl) rfl
theorem q1589 : (Jvm.Cond.instanceMethod ({ cls := "HiddenCubeModel", name := "paste", desc := "(IIIII)I" } : Jvm.MethodName)) ∈ lw_all := lw_g (lw_at lw_m7 0 rfl) rfl
theorem q1590 : (Jvm.Cond.selects "HiddenCubeModel" ({ cls := "HiddenCubeModel", name := "paste", desc := "(IIIII)I" } : Jvm.MethodName) ({ cls := "HiddenCubeModel", name := "paste", desc := "(IIIII)I" } : Jvm.MethodName)) ∈ lw_all := lw_g (lw_at lw_m7 1 rfl) rfl
theorem q1591 : (Jvm.Cond.code ({ cls := "HiddenCubeModel", name := "paste", desc := "(IIIII)I" } : Jvm.MethodName) prog_10_method_8_code (7 : Nat) (Option.some Jvm.ClassFile.FieldType.int)) ∈ lw_all := lw_g (lw_at lw_m7 2 rfl) rfl
theorem q1593 : (Jvm.Cond.instanceMethod ({ cls := "HiddenCubeModel", name := "feed", desc := "(IIIII)I" } : Jvm.MethodName)) ∈ lw_all := lw_g (lw_at lw_m7 4 rfl) rfl
theorem q1594 : (Jvm.Cond.selects "HiddenCubeModel" ({ cls := "HiddenCubeModel", name := "feed", desc := "(IIIII)I" } : Jvm.MethodName) ({ cls := "HiddenCubeModel", name := "feed", desc := "(IIIII)I" } : Jvm.MethodName)) ∈ lw_all := lw_g (lw_at lw_m7 5 rfl) rfl
theorem q1595 : (Jvm.Cond.code ({ cls := "HiddenCubeModel", name := "feed", desc := "(IIIII)I" } : Jvm.MethodName) prog_10_method_9_code (6 : Nat) (Option.some Jvm.ClassFile.FieldType.int)) ∈ lw_all := lw_g (lw_at lw_m7 6 rfl) rfl
theorem q1596 : (Jvm.Cond.methodLink "HiddenCubeModel" (151 : Nat) ({ cls := "HiddenCubeModel", name := "four", desc := "(I)V" } : Jvm.MethodName)) ∈ lw_all := lw_g (lw_at lw_m7 7 rfl) rfl
theorem q1597 : (Jvm.Cond.privateMethod ({ cls := "HiddenCubeModel", name := "four", desc := "(I)V" } : Jvm.MethodName)) ∈ lw_tbl := lw_at lw_m7 8 rfl
theorem q1598 : (Jvm.Cond.instanceMethod ({ cls := "HiddenCubeModel", name := "four", desc := "(I)V" } : Jvm.MethodName)) ∈ lw_all := lw_g (lw_at lw_m7 9 rfl) rfl
theorem q1599 : (Jvm.Cond.code ({ cls := "HiddenCubeModel", name := "four", desc := "(I)V" } : Jvm.MethodName) prog_10_method_10_code (3 : Nat) (Option.none : Option Jvm.ClassFile.FieldType)) ∈ lw_all := lw_g (lw_at lw_m7 10 rfl) rfl
theorem q1601 : (Jvm.Cond.instanceMethod ({ cls := "HiddenCubeModel", name := "end", desc := "(I)I" } : Jvm.MethodName)) ∈ lw_all := lw_g (lw_at lw_m7 12 rfl) rfl
theorem q1602 : (Jvm.Cond.selects "HiddenCubeModel" ({ cls := "HiddenCubeModel", name := "end", desc := "(I)I" } : Jvm.MethodName) ({ cls := "HiddenCubeModel", name := "end", desc := "(I)I" } : Jvm.MethodName)) ∈ lw_all := lw_g (lw_at lw_m7 13 rfl) rfl
theorem q1603 : (Jvm.Cond.code ({ cls := "HiddenCubeModel", name := "end", desc := "(I)I" } : Jvm.MethodName) prog_10_method_11_code (2 : Nat) (Option.some Jvm.ClassFile.FieldType.int)) ∈ lw_all := lw_g (lw_at lw_m7 14 rfl) rfl
theorem q1605 : (Jvm.Cond.instanceMethod ({ cls := "HiddenCubeModel", name := "fault", desc := "(I)I" } : Jvm.MethodName)) ∈ lw_all := lw_g (lw_at lw_m7 16 rfl) rfl
theorem q1606 : (Jvm.Cond.selects "HiddenCubeModel" ({ cls := "HiddenCubeModel", name := "fault", desc := "(I)I" } : Jvm.MethodName) ({ cls := "HiddenCubeModel", name := "fault", desc := "(I)I" } : Jvm.MethodName)) ∈ lw_all := lw_g (lw_at lw_m7 17 rfl) rfl
theorem q1607 : (Jvm.Cond.code ({ cls := "HiddenCubeModel", name := "fault", desc := "(I)I" } : Jvm.MethodName) prog_10_method_24_code (2 : Nat) (Option.some Jvm.ClassFile.FieldType.int)) ∈ lw_all := lw_g (lw_at lw_m7 18 rfl) rfl
theorem q1609 : (Jvm.Cond.instanceMethod ({ cls := "HiddenCubeModel", name := "town", desc := "()I" } : Jvm.MethodName)) ∈ lw_all := lw_g (lw_at lw_m7 20 rfl) rfl
theorem q1610 : (Jvm.Cond.selects "HiddenCubeModel" ({ cls := "HiddenCubeModel", name := "town", desc := "()I" } : Jvm.MethodName) ({ cls := "HiddenCubeModel", name := "town", desc := "()I" } : Jvm.MethodName)) ∈ lw_all := lw_g (lw_at lw_m7 21 rfl) rfl
theorem q1611 : (Jvm.Cond.code ({ cls := "HiddenCubeModel", name := "town", desc := "()I" } : Jvm.MethodName) prog_10_method_33_code (1 : Nat) (Option.some Jvm.ClassFile.FieldType.int)) ∈ lw_all := lw_g (lw_at lw_m7 22 rfl) rfl
theorem q1612 : (Jvm.Cond.methodLink "HiddenCubeModel" (253 : Nat) ({ cls := "HiddenCubeModel", name := "clears", desc := "()V" } : Jvm.MethodName)) ∈ lw_all := lw_g (lw_at lw_m7 23 rfl) rfl
theorem q1613 : (Jvm.Cond.privateMethod ({ cls := "HiddenCubeModel", name := "clears", desc := "()V" } : Jvm.MethodName)) ∈ lw_tbl := lw_at lw_m7 24 rfl
theorem q1614 : (Jvm.Cond.instanceMethod ({ cls := "HiddenCubeModel", name := "clears", desc := "()V" } : Jvm.MethodName)) ∈ lw_all := lw_g (lw_at lw_m7 25 rfl) rfl
theorem q1615 : (Jvm.Cond.code ({ cls := "HiddenCubeModel", name := "clears", desc := "()V" } : Jvm.MethodName) prog_10_method_32_code (2 : Nat) (Option.none : Option Jvm.ClassFile.FieldType)) ∈ lw_all := lw_g (lw_at lw_m7 26 rfl) rfl
theorem q1616 : (Jvm.Cond.methodLink "HiddenCubeModel" (256 : Nat) ({ cls := "HiddenCubeModel", name := "begins", desc := "()V" } : Jvm.MethodName)) ∈ lw_all := lw_g (lw_at lw_m7 27 rfl) rfl
theorem q1617 : (Jvm.Cond.privateMethod ({ cls := "HiddenCubeModel", name := "begins", desc := "()V" } : Jvm.MethodName)) ∈ lw_tbl := lw_at lw_m7 28 rfl
theorem q1618 : (Jvm.Cond.instanceMethod ({ cls := "HiddenCubeModel", name := "begins", desc := "()V" } : Jvm.MethodName)) ∈ lw_all := lw_g (lw_at lw_m7 29 rfl) rfl
theorem q1619 : (Jvm.Cond.code ({ cls := "HiddenCubeModel", name := "begins", desc := "()V" } : Jvm.MethodName) prog_10_method_22_code (1 : Nat) (Option.none : Option Jvm.ClassFile.FieldType)) ∈ lw_all := lw_g (lw_at lw_m7 30 rfl) rfl
theorem q1620 : (Jvm.Cond.methodLink "HiddenCubeModel" (193 : Nat) ({ cls := "HiddenCubeModel", name := "next", desc := "()V" } : Jvm.MethodName)) ∈ lw_all := lw_g (lw_at lw_m7 31 rfl) rfl
theorem q1621 : (Jvm.Cond.privateMethod ({ cls := "HiddenCubeModel", name := "next", desc := "()V" } : Jvm.MethodName)) ∈ lw_tbl := lw_at lw_m7 32 rfl
theorem q1622 : (Jvm.Cond.instanceMethod ({ cls := "HiddenCubeModel", name := "next", desc := "()V" } : Jvm.MethodName)) ∈ lw_all := lw_g (lw_at lw_m7 33 rfl) rfl
theorem q1623 : (Jvm.Cond.code ({ cls := "HiddenCubeModel", name := "next", desc := "()V" } : Jvm.MethodName) prog_10_method_13_code (2 : Nat) (Option.none : Option Jvm.ClassFile.FieldType)) ∈ lw_all := lw_g (lw_at lw_m7 34 rfl) rfl
theorem q1624 : (Jvm.Cond.methodLink "HiddenCubeModel" (158 : Nat) ({ cls := "HiddenCubeModel", name := "isByte", desc := "(III)Z" } : Jvm.MethodName)) ∈ lw_all := lw_g (lw_at lw_m7 35 rfl) rfl
theorem q1625 : (Jvm.Cond.privateMethod ({ cls := "HiddenCubeModel", name := "isByte", desc := "(III)Z" } : Jvm.MethodName)) ∈ lw_tbl := lw_at lw_m7 36 rfl
theorem q1626 : (Jvm.Cond.instanceMethod ({ cls := "HiddenCubeModel", name := "isByte", desc := "(III)Z" } : Jvm.MethodName)) ∈ lw_all := lw_g (lw_at lw_m7 37 rfl) rfl
theorem q1627 : (Jvm.Cond.code ({ cls := "HiddenCubeModel", name := "isByte", desc := "(III)Z" } : Jvm.MethodName) prog_10_method_12_code (4 : Nat) (Option.some Jvm.ClassFile.FieldType.boolean)) ∈ lw_all := lw_g (lw_at lw_m7 38 rfl) rfl
theorem q1628 : (Jvm.Cond.constantLong "HiddenCubeModel" (175 : Nat) (-1 : Int64)) ∈ lw_all := lw_g (lw_at lw_m7 39 rfl) rfl
theorem q1629 : (Jvm.Cond.constantLong "HiddenCubeModel" (177 : Nat) (27 : Int64)) ∈ lw_all := lw_g (lw_at lw_m7 40 rfl) rfl
theorem q1630 : (Jvm.Cond.constantLong "HiddenCubeModel" (179 : Nat) (96 : Int64)) ∈ lw_all := lw_g (lw_at lw_m7 41 rfl) rfl
theorem q1631 : (Jvm.Cond.constant "HiddenCubeModel" (181 : Nat) (100000 : Int32)) ∈ lw_all := lw_g (lw_at lw_m7 42 rfl) rfl
theorem q1632 : (Jvm.Cond.constant "HiddenCubeModel" (182 : Nat) (1000000 : Int32)) ∈ lw_all := lw_g (lw_at lw_m7 43 rfl) rfl
theorem q1633 : (Jvm.Cond.methodLink "HiddenCubeModel" (228 : Nat) ({ cls := "HiddenCubeModel", name := "isGood", desc := "()Z" } : Jvm.MethodName)) ∈ lw_all := lw_g (lw_at lw_m7 44 rfl) rfl
theorem q1634 : (Jvm.Cond.privateMethod ({ cls := "HiddenCubeModel", name := "isGood", desc := "()Z" } : Jvm.MethodName)) ∈ lw_tbl := lw_at lw_m7 45 rfl
theorem q1635 : (Jvm.Cond.instanceMethod ({ cls := "HiddenCubeModel", name := "isGood", desc := "()Z" } : Jvm.MethodName)) ∈ lw_all := lw_g (lw_at lw_m7 46 rfl) rfl
theorem q1636 : (Jvm.Cond.code ({ cls := "HiddenCubeModel", name := "isGood", desc := "()Z" } : Jvm.MethodName) prog_10_method_14_code (1 : Nat) (Option.some Jvm.ClassFile.FieldType.boolean)) ∈ lw_all := lw_g (lw_at lw_m7 47 rfl) rfl
theorem q1637 : (Jvm.Cond.methodLink "HiddenCubeModel" (259 : Nat) ({ cls := "HiddenCubeModel", name := "first", desc := "()V" } : Jvm.MethodName)) ∈ lw_all := lw_g (lw_at lw_m7 48 rfl) rfl
theorem q1638 : (Jvm.Cond.privateMethod ({ cls := "HiddenCubeModel", name := "first", desc := "()V" } : Jvm.MethodName)) ∈ lw_tbl := lw_at lw_m7 49 rfl
theorem q1639 : (Jvm.Cond.instanceMethod ({ cls := "HiddenCubeModel", name := "first", desc := "()V" } : Jvm.MethodName)) ∈ lw_all := lw_g (lw_at lw_m7 50 rfl) rfl
theorem q1640 : (Jvm.Cond.code ({ cls := "HiddenCubeModel", name := "first", desc := "()V" } : Jvm.MethodName) prog_10_method_28_code (1 : Nat) (Option.none : Option Jvm.ClassFile.FieldType)) ∈ lw_all := lw_g (lw_at lw_m7 51 rfl) rfl
theorem q1641 : (Jvm.Cond.constantLong "HiddenCubeModel" (221 : Nat) (405230 : Int64)) ∈ lw_all := lw_g (lw_at lw_m7 52 rfl) rfl
theorem q1642 : (Jvm.Cond.methodLink "HiddenCubeModel" (202 : Nat) ({ cls := "HiddenCubeModel", name := "asks", desc := "(J)V" } : Jvm.MethodName)) ∈ lw_all := lw_g (lw_at lw_m7 53 rfl) rfl
theorem q1643 : (Jvm.Cond.privateMethod ({ cls := "HiddenCubeModel", name := "asks", desc := "(J)V" } : Jvm.MethodName)) ∈ lw_tbl := lw_at lw_m7 54 rfl
theorem q1644 : (Jvm.Cond.instanceMethod ({ cls := "HiddenCubeModel", name := "asks", desc := "(J)V" } : Jvm.MethodName)) ∈ lw_all := lw_g (lw_at lw_m7 55 rfl) rfl
theorem q1645 : (Jvm.Cond.code ({ cls := "HiddenCubeModel", name := "asks", desc := "(J)V" } : Jvm.MethodName) prog_10_method_18_code (3 : Nat) (Option.none : Option Jvm.ClassFile.FieldType)) ∈ lw_all := lw_g (lw_at lw_m7 56 rfl) rfl
theorem q1646 : (Jvm.Cond.methodLink "HiddenCubeModel" (196 : Nat) ({ cls := "HiddenCubeModel", name := "takes", desc := "(J)Z" } : Jvm.MethodName)) ∈ lw_all := lw_g (lw_at lw_m7 57 rfl) rfl
theorem q1647 : (Jvm.Cond.privateMethod ({ cls := "HiddenCubeModel", name := "takes", desc := "(J)Z" } : Jvm.MethodName)) ∈ lw_tbl := lw_at lw_m7 58 rfl
theorem q1648 : (Jvm.Cond.instanceMethod ({ cls := "HiddenCubeModel", name := "takes", desc := "(J)Z" } : Jvm.MethodName)) ∈ lw_all := lw_g (lw_at lw_m7 59 rfl) rfl
theorem q1649 : (Jvm.Cond.code ({ cls := "HiddenCubeModel", name := "takes", desc := "(J)Z" } : Jvm.MethodName) prog_10_method_17_code (3 : Nat) (Option.some Jvm.ClassFile.FieldType.boolean)) ∈ lw_all := lw_g (lw_at lw_m7 60 rfl) rfl
theorem q1650 : (Jvm.Cond.methodLink "HiddenCubeModel" (189 : Nat) ({ cls := "HiddenCubeModel", name := "is", desc := "(J)Z" } : Jvm.MethodName)) ∈ lw_all := lw_g (lw_at lw_m7 61 rfl) rfl
theorem q1651 : (Jvm.Cond.privateMethod ({ cls := "HiddenCubeModel", name := "is", desc := "(J)Z" } : Jvm.MethodName)) ∈ lw_tbl := lw_at lw_m7 62 rfl
theorem q1652 : (Jvm.Cond.instanceMethod ({ cls := "HiddenCubeModel", name := "is", desc := "(J)Z" } : Jvm.MethodName)) ∈ lw_all := lw_g (lw_at lw_m7 63 rfl) rfl
theorem q1653 : (Jvm.Cond.code ({ cls := "HiddenCubeModel", name := "is", desc := "(J)Z" } : Jvm.MethodName) prog_10_method_16_code (3 : Nat) (Option.some Jvm.ClassFile.FieldType.boolean)) ∈ lw_all := lw_g (lw_at lw_m7 64 rfl) rfl
theorem q1654 : (Jvm.Cond.methodLink "HiddenCubeModel" (199 : Nat) ({ cls := "HiddenCubeModel", name := "fails", desc := "(I)V" } : Jvm.MethodName)) ∈ lw_all := lw_g (lw_at lw_m7 65 rfl) rfl
theorem q1655 : (Jvm.Cond.privateMethod ({ cls := "HiddenCubeModel", name := "fails", desc := "(I)V" } : Jvm.MethodName)) ∈ lw_tbl := lw_at lw_m7 66 rfl
theorem q1656 : (Jvm.Cond.instanceMethod ({ cls := "HiddenCubeModel", name := "fails", desc := "(I)V" } : Jvm.MethodName)) ∈ lw_all := lw_g (lw_at lw_m7 67 rfl) rfl
theorem q1657 : (Jvm.Cond.code ({ cls := "HiddenCubeModel", name := "fails", desc := "(I)V" } : Jvm.MethodName) prog_10_method_15_code (2 : Nat) (Option.none : Option Jvm.ClassFile.FieldType)) ∈ lw_all := lw_g (lw_at lw_m7 68 rfl) rfl
theorem q1658 : (Jvm.Cond.constantLong "HiddenCubeModel" (223 : Nat) (7469488 : Int64)) ∈ lw_all := lw_g (lw_at lw_m7 69 rfl) rfl
theorem q1659 : (Jvm.Cond.methodLink "HiddenCubeModel" (225 : Nat) ({ cls := "HiddenCubeModel", name := "nameHere", desc := "()V" } : Jvm.MethodName)) ∈ lw_all := lw_g (lw_at lw_m7 70 rfl) rfl
theorem q1660 : (Jvm.Cond.privateMethod ({ cls := "HiddenCubeModel", name := "nameHere", desc := "()V" } : Jvm.MethodName)) ∈ lw_tbl := lw_at lw_m7 71 rfl
theorem q1661 : (Jvm.Cond.instanceMethod ({ cls := "HiddenCubeModel", name := "nameHere", desc := "()V" } : Jvm.MethodName)) ∈ lw_all := lw_g (lw_at lw_m7 72 rfl) rfl
theorem q1662 : (Jvm.Cond.code ({ cls := "HiddenCubeModel", name := "nameHere", desc := "()V" } : Jvm.MethodName) prog_10_method_27_code (4 : Nat) (Option.none : Option Jvm.ClassFile.FieldType)) ∈ lw_all := lw_g (lw_at lw_m7 73 rfl) rfl
theorem q1663 : (Jvm.Cond.methodLink "HiddenCubeModel" (213 : Nat) ({ cls := "HiddenCubeModel", name := "namedIn", desc := "(IJ)I" } : Jvm.MethodName)) ∈ lw_all := lw_g (lw_at lw_m7 74 rfl) rfl
theorem q1664 : (Jvm.Cond.privateMethod ({ cls := "HiddenCubeModel", name := "namedIn", desc := "(IJ)I" } : Jvm.MethodName)) ∈ lw_tbl := lw_at lw_m7 75 rfl
theorem q1665 : (Jvm.Cond.instanceMethod ({ cls := "HiddenCubeModel", name := "namedIn", desc := "(IJ)I" } : Jvm.MethodName)) ∈ lw_all := lw_g (lw_at lw_m7 76 rfl) rfl
theorem q1666 : (Jvm.Cond.code ({ cls := "HiddenCubeModel", name := "namedIn", desc := "(IJ)I" } : Jvm.MethodName) prog_10_method_26_code (5 : Nat) (Option.some Jvm.ClassFile.FieldType.int)) ∈ lw_all := lw_g (lw_at lw_m7 77 rfl) rfl
theorem q1667 : (Jvm.Cond.methodLink "HiddenCubeModel" (217 : Nat) ({ cls := "HiddenCubeModel", name := "hasRead", desc := "(I)I" } : Jvm.MethodName)) ∈ lw_all := lw_g (lw_at lw_m7 78 rfl) rfl
theorem q1668 : (Jvm.Cond.privateMethod ({ cls := "HiddenCubeModel", name := "hasRead", desc := "(I)I" } : Jvm.MethodName)) ∈ lw_tbl := lw_at lw_m7 79 rfl
theorem q1669 : (Jvm.Cond.instanceMethod ({ cls := "HiddenCubeModel", name := "hasRead", desc := "(I)I" } : Jvm.MethodName)) ∈ lw_all := lw_g (lw_at lw_m7 80 rfl) rfl
theorem q1670 : (Jvm.Cond.code ({ cls := "HiddenCubeModel", name := "hasRead", desc := "(I)I" } : Jvm.MethodName) prog_10_method_25_code (2 : Nat) (Option.some Jvm.ClassFile.FieldType.int)) ∈ lw_all := lw_g (lw_at lw_m7 81 rfl) rfl
theorem q1671 : (Jvm.Cond.methodLink "HiddenCubeModel" (262 : Nat) ({ cls := "HiddenCubeModel", name := "line", desc := "()V" } : Jvm.MethodName)) ∈ lw_all := lw_g (lw_at lw_m7 82 rfl) rfl
theorem q1672 : (Jvm.Cond.privateMethod ({ cls := "HiddenCubeModel", name := "line", desc := "()V" } : Jvm.MethodName)) ∈ lw_tbl := lw_at lw_m7 83 rfl
theorem q1673 : (Jvm.Cond.instanceMethod ({ cls := "HiddenCubeModel", name := "line", desc := "()V" } : Jvm.MethodName)) ∈ lw_all := lw_g (lw_at lw_m7 84 rfl) rfl
theorem q1674 : (Jvm.Cond.code ({ cls := "HiddenCubeModel", name := "line", desc := "()V" } : Jvm.MethodName) prog_10_method_31_code (5 : Nat) (Option.none : Option Jvm.ClassFile.FieldType)) ∈ lw_all := lw_g (lw_at lw_m7 85 rfl) rfl
theorem q1675 : (Jvm.Cond.constantLong "HiddenCubeModel" (236 : Nat) (232608281 : Int64)) ∈ lw_all := lw_g (lw_at lw_m7 86 rfl) rfl
theorem q1676 : (Jvm.Cond.constantLong "HiddenCubeModel" (238 : Nat) (1186537320 : Int64)) ∈ lw_all := lw_g (lw_at lw_m7 87 rfl) rfl
theorem q1677 : (Jvm.Cond.constantLong "HiddenCubeModel" (240 : Nat) (47 : Int64)) ∈ lw_all := lw_g (lw_at lw_m7 88 rfl) rfl
theorem q1678 : (Jvm.Cond.methodLink "HiddenCubeModel" (232 : Nat) ({ cls := "HiddenCubeModel", name := "squareHere", desc := "()I" } : Jvm.MethodName)) ∈ lw_all := lw_g (lw_at lw_m7 89 rfl) rfl
theorem q1679 : (Jvm.Cond.privateMethod ({ cls := "HiddenCubeModel", name := "squareHere", desc := "()I" } : Jvm.MethodName)) ∈ lw_tbl := lw_at lw_m7 90 rfl
theorem q1680 : (Jvm.Cond.instanceMethod ({ cls := "HiddenCubeModel", name := "squareHere", desc := "()I" } : Jvm.MethodName)) ∈ lw_all := lw_g (lw_at lw_m7 91 rfl) rfl
theorem q1681 : (Jvm.Cond.code ({ cls := "HiddenCubeModel", name := "squareHere", desc := "()I" } : Jvm.MethodName) prog_10_method_29_code (1 : Nat) (Option.some Jvm.ClassFile.FieldType.int)) ∈ lw_all := lw_g (lw_at lw_m7 92 rfl) rfl
theorem q1682 : (Jvm.Cond.methodLink "HiddenCubeModel" (206 : Nat) ({ cls := "HiddenCubeModel", name := "number", desc := "(II)I" } : Jvm.MethodName)) ∈ lw_all := lw_g (lw_at lw_m7 93 rfl) rfl
theorem q1683 : (Jvm.Cond.privateMethod ({ cls := "HiddenCubeModel", name := "number", desc := "(II)I" } : Jvm.MethodName)) ∈ lw_tbl := lw_at lw_m7 94 rfl
theorem q1684 : (Jvm.Cond.instanceMethod ({ cls := "HiddenCubeModel", name := "number", desc := "(II)I" } : Jvm.MethodName)) ∈ lw_all := lw_g (lw_at lw_m7 95 rfl) rfl
theorem q1685 : (Jvm.Cond.code ({ cls := "HiddenCubeModel", name := "number", desc := "(II)I" } : Jvm.MethodName) prog_10_method_19_code (4 : Nat) (Option.some Jvm.ClassFile.FieldType.int)) ∈ lw_all := lw_g (lw_at lw_m7 96 rfl) rfl
theorem q1686 : (Jvm.Cond.constantLong "HiddenCubeModel" (242 : Nat) (131638 : Int64)) ∈ lw_all := lw_g (lw_at lw_m7 97 rfl) rfl
theorem q1687 : (Jvm.Cond.constantLong "HiddenCubeModel" (244 : Nat) (555 : Int64)) ∈ lw_all := lw_g (lw_at lw_m7 98 rfl) rfl
theorem q1688 : (Jvm.Cond.constantLong "HiddenCubeModel" (246 : Nat) (380396 : Int64)) ∈ lw_all := lw_g (lw_at lw_m7 99 rfl) rfl
theorem q1689 : (Jvm.Cond.methodLink "HiddenCubeModel" (248 : Nat) ({ cls := "HiddenCubeModel", name := "shutLine", desc := "()V" } : Jvm.MethodName)) ∈ lw_all := lw_g (lw_at lw_m7 100 rfl) rfl
theorem q1690 : (Jvm.Cond.privateMethod ({ cls := "HiddenCubeModel", name := "shutLine", desc := "()V" } : Jvm.MethodName)) ∈ lw_tbl := lw_at lw_m7 101 rfl
theorem q1691 : (Jvm.Cond.instanceMethod ({ cls := "HiddenCubeModel", name := "shutLine", desc := "()V" } : Jvm.MethodName)) ∈ lw_all := lw_g (lw_at lw_m7 102 rfl) rfl
theorem q1692 : (Jvm.Cond.code ({ cls := "HiddenCubeModel", name := "shutLine", desc := "()V" } : Jvm.MethodName) prog_10_method_30_code (3 : Nat) (Option.none : Option Jvm.ClassFile.FieldType)) ∈ lw_all := lw_g (lw_at lw_m7 103 rfl) rfl
theorem q1693 : (Jvm.Cond.constantLong "HiddenCubeModel" (251 : Nat) (330913661 : Int64)) ∈ lw_all := lw_g (lw_at lw_m7 104 rfl) rfl
theorem q1694 : (Jvm.Cond.methodLink "HiddenCubeModel" (265 : Nat) ({ cls := "HiddenCubeModel", name := "ends", desc := "()V" } : Jvm.MethodName)) ∈ lw_all := lw_g (lw_at lw_m7 105 rfl) rfl
theorem q1695 : (Jvm.Cond.privateMethod ({ cls := "HiddenCubeModel", name := "ends", desc := "()V" } : Jvm.MethodName)) ∈ lw_tbl := lw_at lw_m7 106 rfl
theorem q1696 : (Jvm.Cond.instanceMethod ({ cls := "HiddenCubeModel", name := "ends", desc := "()V" } : Jvm.MethodName)) ∈ lw_all := lw_g (lw_at lw_m7 107 rfl) rfl
theorem q1697 : (Jvm.Cond.code ({ cls := "HiddenCubeModel", name := "ends", desc := "()V" } : Jvm.MethodName) prog_10_method_21_code (1 : Nat) (Option.none : Option Jvm.ClassFile.FieldType)) ∈ lw_all := lw_g (lw_at lw_m7 108 rfl) rfl
theorem q1698 : (Jvm.Cond.methodLink "HiddenCubeModel" (268 : Nat) ({ cls := "HiddenCubeModel", name := "isOver", desc := "()V" } : Jvm.MethodName)) ∈ lw_all := lw_g (lw_at lw_m7 109 rfl) rfl
theorem q1699 : (Jvm.Cond.privateMethod ({ cls := "HiddenCubeModel", name := "isOver", desc := "()V" } : Jvm.MethodName)) ∈ lw_tbl := lw_at lw_m7 110 rfl
theorem q1700 : (Jvm.Cond.instanceMethod ({ cls := "HiddenCubeModel", name := "isOver", desc := "()V" } : Jvm.MethodName)) ∈ lw_all := lw_g (lw_at lw_m7 111 rfl) rfl
theorem q1701 : (Jvm.Cond.code ({ cls := "HiddenCubeModel", name := "isOver", desc := "()V" } : Jvm.MethodName) prog_10_method_23_code (1 : Nat) (Option.none : Option Jvm.ClassFile.FieldType)) ∈ lw_all := lw_g (lw_at lw_m7 112 rfl) rfl
theorem q1702 : (Jvm.Cond.methodLink "HiddenCubeModel" (271 : Nat) ({ cls := "HiddenCubeModel", name := "copyTown", desc := "(II)V" } : Jvm.MethodName)) ∈ lw_all := lw_g (lw_at lw_m7 113 rfl) rfl
theorem q1703 : (Jvm.Cond.privateMethod ({ cls := "HiddenCubeModel", name := "copyTown", desc := "(II)V" } : Jvm.MethodName)) ∈ lw_tbl := lw_at lw_m7 114 rfl
theorem q1704 : (Jvm.Cond.instanceMethod ({ cls := "HiddenCubeModel", name := "copyTown", desc := "(II)V" } : Jvm.MethodName)) ∈ lw_all := lw_g (lw_at lw_m7 115 rfl) rfl
theorem q1705 : (Jvm.Cond.code ({ cls := "HiddenCubeModel", name := "copyTown", desc := "(II)V" } : Jvm.MethodName) prog_10_method_35_code (4 : Nat) (Option.none : Option Jvm.ClassFile.FieldType)) ∈ lw_all := lw_g (lw_at lw_m7 116 rfl) rfl
theorem q1706 : (Jvm.Cond.methodLink "HiddenCubeModel" (275 : Nat) ({ cls := "HiddenCubeModel", name := "copyRow", desc := "([IIII)V" } : Jvm.MethodName)) ∈ lw_all := lw_g (lw_at lw_m7 117 rfl) rfl
theorem q1707 : (Jvm.Cond.static ({ cls := "HiddenCubeModel", name := "copyRow", desc := "([IIII)V" } : Jvm.MethodName)) ∈ lw_all := lw_g (lw_at lw_m7 118 rfl) rfl
theorem q1708 : (Jvm.Cond.code ({ cls := "HiddenCubeModel", name := "copyRow", desc := "([IIII)V" } : Jvm.MethodName) prog_10_method_34_code (5 : Nat) (Option.none : Option Jvm.ClassFile.FieldType)) ∈ lw_all := lw_g (lw_at lw_m7 119 rfl) rfl
theorem q1710 : (Jvm.Cond.instanceMethod ({ cls := "HiddenCubeModel", name := "letter", desc := "(II)I" } : Jvm.MethodName)) ∈ lw_all := lw_g (lw_at lw_m7 121 rfl) rfl
theorem q1711 : (Jvm.Cond.selects "HiddenCubeModel" ({ cls := "HiddenCubeModel", name := "letter", desc := "(II)I" } : Jvm.MethodName) ({ cls := "HiddenCubeModel", name := "letter", desc := "(II)I" } : Jvm.MethodName)) ∈ lw_all := lw_g (lw_at lw_m7 122 rfl) rfl
theorem q1712 : (Jvm.Cond.code ({ cls := "HiddenCubeModel", name := "letter", desc := "(II)I" } : Jvm.MethodName) prog_10_method_44_code (3 : Nat) (Option.some Jvm.ClassFile.FieldType.int)) ∈ lw_all := lw_g (lw_at lw_m7 123 rfl) rfl
theorem q1713 : (Jvm.Cond.methodLink "HiddenCubeModel" (292 : Nat) ({ cls := "HiddenCubeModel", name := "isName", desc := "(I)Z" } : Jvm.MethodName)) ∈ lw_all := lw_g (lw_at lw_m7 124 rfl) rfl
theorem q1714 : (Jvm.Cond.privateMethod ({ cls := "HiddenCubeModel", name := "isName", desc := "(I)Z" } : Jvm.MethodName)) ∈ lw_tbl := lw_at lw_m7 125 rfl
theorem q1715 : (Jvm.Cond.instanceMethod ({ cls := "HiddenCubeModel", name := "isName", desc := "(I)Z" } : Jvm.MethodName)) ∈ lw_all := lw_g (lw_at lw_m7 126 rfl) rfl
theorem q1716 : (Jvm.Cond.code ({ cls := "HiddenCubeModel", name := "isName", desc := "(I)Z" } : Jvm.MethodName) prog_10_method_37_code (2 : Nat) (Option.some Jvm.ClassFile.FieldType.boolean)) ∈ lw_all := lw_g (lw_at lw_m7 127 rfl) rfl
theorem q1718 : (Jvm.Cond.instanceMethod ({ cls := "HiddenCubeModel", name := "open", desc := "(II)I" } : Jvm.MethodName)) ∈ lw_all := lw_g (lw_at lw_m7 129 rfl) rfl
theorem q1719 : (Jvm.Cond.selects "HiddenCubeModel" ({ cls := "HiddenCubeModel", name := "open", desc := "(II)I" } : Jvm.MethodName) ({ cls := "HiddenCubeModel", name := "open", desc := "(II)I" } : Jvm.MethodName)) ∈ lw_all := lw_g (lw_at lw_m7 130 rfl) rfl
theorem q1720 : (Jvm.Cond.code ({ cls := "HiddenCubeModel", name := "open", desc := "(II)I" } : Jvm.MethodName) prog_10_method_45_code (3 : Nat) (Option.some Jvm.ClassFile.FieldType.int)) ∈ lw_all := lw_g (lw_at lw_m7 131 rfl) rfl
theorem q1721 : (Jvm.Cond.methodLink "HiddenCubeModel" (285 : Nat) ({ cls := "HiddenCubeModel", name := "isSquare", desc := "(J)Z" } : Jvm.MethodName)) ∈ lw_all := lw_g (lw_at lw_m7 132 rfl) rfl
theorem q1722 : (Jvm.Cond.privateMethod ({ cls := "HiddenCubeModel", name := "isSquare", desc := "(J)Z" } : Jvm.MethodName)) ∈ lw_tbl := lw_at lw_m7 133 rfl
theorem q1723 : (Jvm.Cond.instanceMethod ({ cls := "HiddenCubeModel", name := "isSquare", desc := "(J)Z" } : Jvm.MethodName)) ∈ lw_all := lw_g (lw_at lw_m7 134 rfl) rfl
theorem q1724 : (Jvm.Cond.code ({ cls := "HiddenCubeModel", name := "isSquare", desc := "(J)Z" } : Jvm.MethodName) prog_10_method_39_code (3 : Nat) (Option.some Jvm.ClassFile.FieldType.boolean)) ∈ lw_all := lw_g (lw_at lw_m7 135 rfl) rfl
theorem q1725 : (Jvm.Cond.methodLink "HiddenCubeModel" (282 : Nat) ({ cls := "HiddenCubeModel", name := "squares", desc := "()I" } : Jvm.MethodName)) ∈ lw_all := lw_g (lw_at lw_m7 136 rfl) rfl
theorem q1726 : (Jvm.Cond.privateMethod ({ cls := "HiddenCubeModel", name := "squares", desc := "()I" } : Jvm.MethodName)) ∈ lw_tbl := lw_at lw_m7 137 rfl
theorem q1727 : (Jvm.Cond.instanceMethod ({ cls := "HiddenCubeModel", name := "squares", desc := "()I" } : Jvm.MethodName)) ∈ lw_all := lw_g (lw_at lw_m7 138 rfl) rfl
theorem q1728 : (Jvm.Cond.code ({ cls := "HiddenCubeModel", name := "squares", desc := "()I" } : Jvm.MethodName) prog_10_method_38_code (1 : Nat) (Option.some Jvm.ClassFile.FieldType.int)) ∈ lw_all := lw_g (lw_at lw_m7 139 rfl) rfl
theorem q1729 : (Jvm.Cond.methodLink "HiddenCubeModel" (279 : Nat) ({ cls := "HiddenCubeModel", name := "isTown", desc := "()Z" } : Jvm.MethodName)) ∈ lw_all := lw_g (lw_at lw_m7 140 rfl) rfl
theorem q1730 : (Jvm.Cond.privateMethod ({ cls := "HiddenCubeModel", name := "isTown", desc := "()Z" } : Jvm.MethodName)) ∈ lw_tbl := lw_at lw_m7 141 rfl
theorem q1731 : (Jvm.Cond.instanceMethod ({ cls := "HiddenCubeModel", name := "isTown", desc := "()Z" } : Jvm.MethodName)) ∈ lw_all := lw_g (lw_at lw_m7 142 rfl) rfl
theorem q1732 : (Jvm.Cond.code ({ cls := "HiddenCubeModel", name := "isTown", desc := "()Z" } : Jvm.MethodName) prog_10_method_36_code (1 : Nat) (Option.some Jvm.ClassFile.FieldType.boolean)) ∈ lw_all := lw_g (lw_at lw_m7 143 rfl) rfl
theorem q1733 : (Jvm.Cond.methodLink "HiddenCubeModel" (295 : Nat) ({ cls := "HiddenCubeModel", name := "isOpen", desc := "(II)Z" } : Jvm.MethodName)) ∈ lw_all := lw_g (lw_at lw_m7 144 rfl) rfl
theorem q1734 : (Jvm.Cond.privateMethod ({ cls := "HiddenCubeModel", name := "isOpen", desc := "(II)Z" } : Jvm.MethodName)) ∈ lw_tbl := lw_at lw_m7 145 rfl
theorem q1735 : (Jvm.Cond.instanceMethod ({ cls := "HiddenCubeModel", name := "isOpen", desc := "(II)Z" } : Jvm.MethodName)) ∈ lw_all := lw_g (lw_at lw_m7 146 rfl) rfl
theorem q1736 : (Jvm.Cond.code ({ cls := "HiddenCubeModel", name := "isOpen", desc := "(II)Z" } : Jvm.MethodName) prog_10_method_43_code (3 : Nat) (Option.some Jvm.ClassFile.FieldType.boolean)) ∈ lw_all := lw_g (lw_at lw_m7 147 rfl) rfl
theorem q1737 : (Jvm.Cond.methodLink "HiddenCubeModel" (288 : Nat) ({ cls := "HiddenCubeModel", name := "isBit", desc := "(II)Z" } : Jvm.MethodName)) ∈ lw_all := lw_g (lw_at lw_m7 148 rfl) rfl
theorem q1738 : (Jvm.Cond.static ({ cls := "HiddenCubeModel", name := "isBit", desc := "(II)Z" } : Jvm.MethodName)) ∈ lw_all := lw_g (lw_at lw_m7 149 rfl) rfl
theorem q1739 : (Jvm.Cond.code ({ cls := "HiddenCubeModel", name := "isBit", desc := "(II)Z" } : Jvm.MethodName) prog_10_method_42_code (2 : Nat) (Option.some Jvm.ClassFile.FieldType.boolean)) ∈ lw_all := lw_g (lw_at lw_m7 150 rfl) rfl
theorem q1741 : (Jvm.Cond.instanceMethod ({ cls := "HiddenCubeModel", name := "step", desc := "(II)I" } : Jvm.MethodName)) ∈ lw_all := lw_g (lw_at lw_m7 152 rfl) rfl
theorem q1742 : (Jvm.Cond.selects "HiddenCubeModel" ({ cls := "HiddenCubeModel", name := "step", desc := "(II)I" } : Jvm.MethodName) ({ cls := "HiddenCubeModel", name := "step", desc := "(II)I" } : Jvm.MethodName)) ∈ lw_all := lw_g (lw_at lw_m7 153 rfl) rfl
theorem q1743 : (Jvm.Cond.code ({ cls := "HiddenCubeModel", name := "step", desc := "(II)I" } : Jvm.MethodName) prog_10_method_46_code (3 : Nat) (Option.some Jvm.ClassFile.FieldType.int)) ∈ lw_all := lw_g (lw_at lw_m7 154 rfl) rfl
theorem q1745 : (Jvm.Cond.instanceMethod ({ cls := "HiddenCubeModel", name := "shut", desc := "(III)I" } : Jvm.MethodName)) ∈ lw_all := lw_g (lw_at lw_m7 156 rfl) rfl
theorem q1746 : (Jvm.Cond.selects "HiddenCubeModel" ({ cls := "HiddenCubeModel", name := "shut", desc := "(III)I" } : Jvm.MethodName) ({ cls := "HiddenCubeModel", name := "shut", desc := "(III)I" } : Jvm.MethodName)) ∈ lw_all := lw_g (lw_at lw_m7 157 rfl) rfl
theorem q1747 : (Jvm.Cond.code ({ cls := "HiddenCubeModel", name := "shut", desc := "(III)I" } : Jvm.MethodName) prog_10_method_48_code (5 : Nat) (Option.some Jvm.ClassFile.FieldType.int)) ∈ lw_all := lw_g (lw_at lw_m7 158 rfl) rfl
theorem q1748 : (Jvm.Cond.methodLink "HiddenCubeModel" (298 : Nat) ({ cls := "HiddenCubeModel", name := "sets", desc := "(IIZ)V" } : Jvm.MethodName)) ∈ lw_all := lw_g (lw_at lw_m7 159 rfl) rfl
theorem q1749 : (Jvm.Cond.privateMethod ({ cls := "HiddenCubeModel", name := "sets", desc := "(IIZ)V" } : Jvm.MethodName)) ∈ lw_tbl := lw_at lw_m7 160 rfl
theorem q1750 : (Jvm.Cond.instanceMethod ({ cls := "HiddenCubeModel", name := "sets", desc := "(IIZ)V" } : Jvm.MethodName)) ∈ lw_all := lw_g (lw_at lw_m7 161 rfl) rfl
theorem q1751 : (Jvm.Cond.code ({ cls := "HiddenCubeModel", name := "sets", desc := "(IIZ)V" } : Jvm.MethodName) prog_10_method_47_code (5 : Nat) (Option.none : Option Jvm.ClassFile.FieldType)) ∈ lw_all := lw_g (lw_at lw_m7 162 rfl) rfl
theorem q1753 : (Jvm.Cond.instanceMethod ({ cls := "HiddenCubeModel", name := "ways", desc := "(I)I" } : Jvm.MethodName)) ∈ lw_all := lw_g (lw_at lw_m7 164 rfl) rfl
theorem q1754 : (Jvm.Cond.selects "HiddenCubeModel" ({ cls := "HiddenCubeModel", name := "ways", desc := "(I)I" } : Jvm.MethodName) ({ cls := "HiddenCubeModel", name := "ways", desc := "(I)I" } : Jvm.MethodName)) ∈ lw_all := lw_g (lw_at lw_m7 165 rfl) rfl
theorem q1755 : (Jvm.Cond.code ({ cls := "HiddenCubeModel", name := "ways", desc := "(I)I" } : Jvm.MethodName) prog_10_method_49_code (2 : Nat) (Option.some Jvm.ClassFile.FieldType.int)) ∈ lw_all := lw_g (lw_at lw_m7 166 rfl) rfl
theorem q1756 : (Jvm.Cond.methodLink "HiddenCubeModel" (302 : Nat) ({ cls := "HiddenCubeModel", name := "bits", desc := "(I)I" } : Jvm.MethodName)) ∈ lw_all := lw_g (lw_at lw_m7 167 rfl) rfl
theorem q1757 : (Jvm.Cond.static ({ cls := "HiddenCubeModel", name := "bits", desc := "(I)I" } : Jvm.MethodName)) ∈ lw_all := lw_g (lw_at lw_m7 168 rfl) rfl
theorem q1758 : (Jvm.Cond.code ({ cls := "HiddenCubeModel", name := "bits", desc := "(I)I" } : Jvm.MethodName) prog_10_method_41_code (3 : Nat) (Option.some Jvm.ClassFile.FieldType.int)) ∈ lw_all := lw_g (lw_at lw_m7 169 rfl) rfl
theorem q1760 : (Jvm.Cond.instanceMethod ({ cls := "HiddenCubeModel", name := "opposite", desc := "(I)I" } : Jvm.MethodName)) ∈ lw_all := lw_g (lw_at lw_m7 171 rfl) rfl
theorem q1761 : (Jvm.Cond.selects "HiddenCubeModel" ({ cls := "HiddenCubeModel", name := "opposite", desc := "(I)I" } : Jvm.MethodName) ({ cls := "HiddenCubeModel", name := "opposite", desc := "(I)I" } : Jvm.MethodName)) ∈ lw_all := lw_g (lw_at lw_m7 172 rfl) rfl
theorem q1762 : (Jvm.Cond.code ({ cls := "HiddenCubeModel", name := "opposite", desc := "(I)I" } : Jvm.MethodName) prog_10_method_50_code (2 : Nat) (Option.some Jvm.ClassFile.FieldType.int)) ∈ lw_all := lw_g (lw_at lw_m7 173 rfl) rfl
theorem q1764 : (Jvm.Cond.instanceMethod ({ cls := "HiddenCubeModel", name := "apart", desc := "(II)I" } : Jvm.MethodName)) ∈ lw_all := lw_g (lw_at lw_m7 175 rfl) rfl
theorem q1765 : (Jvm.Cond.selects "HiddenCubeModel" ({ cls := "HiddenCubeModel", name := "apart", desc := "(II)I" } : Jvm.MethodName) ({ cls := "HiddenCubeModel", name := "apart", desc := "(II)I" } : Jvm.MethodName)) ∈ lw_all := lw_g (lw_at lw_m7 176 rfl) rfl
theorem q1766 : (Jvm.Cond.code ({ cls := "HiddenCubeModel", name := "apart", desc := "(II)I" } : Jvm.MethodName) prog_10_method_51_code (3 : Nat) (Option.some Jvm.ClassFile.FieldType.int)) ∈ lw_all := lw_g (lw_at lw_m7 177 rfl) rfl
theorem q1768 : (Jvm.Cond.instanceMethod ({ cls := "HiddenCubeModel", name := "streets", desc := "(I)I" } : Jvm.MethodName)) ∈ lw_all := lw_g (lw_at lw_m7 179 rfl) rfl
theorem q1769 : (Jvm.Cond.selects "HiddenCubeModel" ({ cls := "HiddenCubeModel", name := "streets", desc := "(I)I" } : Jvm.MethodName) ({ cls := "HiddenCubeModel", name := "streets", desc := "(I)I" } : Jvm.MethodName)) ∈ lw_all := lw_g (lw_at lw_m7 180 rfl) rfl
theorem q1770 : (Jvm.Cond.code ({ cls := "HiddenCubeModel", name := "streets", desc := "(I)I" } : Jvm.MethodName) prog_10_method_53_code (2 : Nat) (Option.some Jvm.ClassFile.FieldType.int)) ∈ lw_all := lw_g (lw_at lw_m7 181 rfl) rfl
theorem q1771 : (Jvm.Cond.methodLink "HiddenCubeModel" (305 : Nat) ({ cls := "HiddenCubeModel", name := "streetsOf", desc := "(I)I" } : Jvm.MethodName)) ∈ lw_all := lw_g (lw_at lw_m7 182 rfl) rfl
theorem q1772 : (Jvm.Cond.privateMethod ({ cls := "HiddenCubeModel", name := "streetsOf", desc := "(I)I" } : Jvm.MethodName)) ∈ lw_tbl := lw_at lw_m7 183 rfl
theorem q1773 : (Jvm.Cond.instanceMethod ({ cls := "HiddenCubeModel", name := "streetsOf", desc := "(I)I" } : Jvm.MethodName)) ∈ lw_all := lw_g (lw_at lw_m7 184 rfl) rfl
theorem q1774 : (Jvm.Cond.code ({ cls := "HiddenCubeModel", name := "streetsOf", desc := "(I)I" } : Jvm.MethodName) prog_10_method_52_code (4 : Nat) (Option.some Jvm.ClassFile.FieldType.int)) ∈ lw_all := lw_g (lw_at lw_m7 185 rfl) rfl
theorem q1776 : (Jvm.Cond.instanceMethod ({ cls := "HiddenCubeModel", name := "far", desc := "(II)I" } : Jvm.MethodName)) ∈ lw_all := lw_g (lw_at lw_m7 187 rfl) rfl
theorem q1777 : (Jvm.Cond.selects "HiddenCubeModel" ({ cls := "HiddenCubeModel", name := "far", desc := "(II)I" } : Jvm.MethodName) ({ cls := "HiddenCubeModel", name := "far", desc := "(II)I" } : Jvm.MethodName)) ∈ lw_all := lw_g (lw_at lw_m7 188 rfl) rfl
theorem q1778 : (Jvm.Cond.code ({ cls := "HiddenCubeModel", name := "far", desc := "(II)I" } : Jvm.MethodName) prog_10_method_55_code (3 : Nat) (Option.some Jvm.ClassFile.FieldType.int)) ∈ lw_all := lw_g (lw_at lw_m7 189 rfl) rfl
theorem q1779 : (Jvm.Cond.methodLink "HiddenCubeModel" (308 : Nat) ({ cls := "HiddenCubeModel", name := "laysFar", desc := "(I)V" } : Jvm.MethodName)) ∈ lw_all := lw_g (lw_at lw_m7 190 rfl) rfl
theorem q1780 : (Jvm.Cond.privateMethod ({ cls := "HiddenCubeModel", name := "laysFar", desc := "(I)V" } : Jvm.MethodName)) ∈ lw_tbl := lw_at lw_m7 191 rfl
theorem q1781 : (Jvm.Cond.instanceMethod ({ cls := "HiddenCubeModel", name := "laysFar", desc := "(I)V" } : Jvm.MethodName)) ∈ lw_all := lw_g (lw_at lw_m7 192 rfl) rfl
theorem q1782 : (Jvm.Cond.code ({ cls := "HiddenCubeModel", name := "laysFar", desc := "(I)V" } : Jvm.MethodName) prog_10_method_54_code (5 : Nat) (Option.none : Option Jvm.ClassFile.FieldType)) ∈ lw_all := lw_g (lw_at lw_m7 193 rfl) rfl
theorem q1784 : (Jvm.Cond.instanceMethod ({ cls := "HiddenCubeModel", name := "many", desc := "(II)I" } : Jvm.MethodName)) ∈ lw_all := lw_g (lw_at lw_m7 195 rfl) rfl
theorem q1785 : (Jvm.Cond.selects "HiddenCubeModel" ({ cls := "HiddenCubeModel", name := "many", desc := "(II)I" } : Jvm.MethodName) ({ cls := "HiddenCubeModel", name := "many", desc := "(II)I" } : Jvm.MethodName)) ∈ lw_all := lw_g (lw_at lw_m7 196 rfl) rfl
theorem q1786 : (Jvm.Cond.code ({ cls := "HiddenCubeModel", name := "many", desc := "(II)I" } : Jvm.MethodName) prog_10_method_56_code (6 : Nat) (Option.some Jvm.ClassFile.FieldType.int)) ∈ lw_all := lw_g (lw_at lw_m7 197 rfl) rfl
theorem q1788 : (Jvm.Cond.instanceMethod ({ cls := "HiddenCubeModel", name := "goes", desc := "(III)I" } : Jvm.MethodName)) ∈ lw_all := lw_g (lw_at lw_m7 199 rfl) rfl
theorem q1789 : (Jvm.Cond.selects "HiddenCubeModel" ({ cls := "HiddenCubeModel", name := "goes", desc := "(III)I" } : Jvm.MethodName) ({ cls := "HiddenCubeModel", name := "goes", desc := "(III)I" } : Jvm.MethodName)) ∈ lw_all := lw_g (lw_at lw_m7 200 rfl) rfl
theorem q1790 : (Jvm.Cond.code ({ cls := "HiddenCubeModel", name := "goes", desc := "(III)I" } : Jvm.MethodName) prog_10_method_59_code (4 : Nat) (Option.some Jvm.ClassFile.FieldType.int)) ∈ lw_all := lw_g (lw_at lw_m7 201 rfl) rfl
theorem q1791 : (Jvm.Cond.methodLink "HiddenCubeModel" (314 : Nat) ({ cls := "HiddenCubeModel", name := "goesOn", desc := "(III)I" } : Jvm.MethodName)) ∈ lw_all := lw_g (lw_at lw_m7 202 rfl) rfl
theorem q1792 : (Jvm.Cond.privateMethod ({ cls := "HiddenCubeModel", name := "goesOn", desc := "(III)I" } : Jvm.MethodName)) ∈ lw_tbl := lw_at lw_m7 203 rfl
theorem q1793 : (Jvm.Cond.instanceMethod ({ cls := "HiddenCubeModel", name := "goesOn", desc := "(III)I" } : Jvm.MethodName)) ∈ lw_all := lw_g (lw_at lw_m7 204 rfl) rfl
theorem q1794 : (Jvm.Cond.code ({ cls := "HiddenCubeModel", name := "goesOn", desc := "(III)I" } : Jvm.MethodName) prog_10_method_58_code (6 : Nat) (Option.some Jvm.ClassFile.FieldType.int)) ∈ lw_all := lw_g (lw_at lw_m7 205 rfl) rfl
theorem q1795 : (Jvm.Cond.methodLink "HiddenCubeModel" (311 : Nat) ({ cls := "HiddenCubeModel", name := "nextOf", desc := "(I)I" } : Jvm.MethodName)) ∈ lw_all := lw_g (lw_at lw_m7 206 rfl) rfl
theorem q1796 : (Jvm.Cond.privateMethod ({ cls := "HiddenCubeModel", name := "nextOf", desc := "(I)I" } : Jvm.MethodName)) ∈ lw_tbl := lw_at lw_m7 207 rfl
theorem q1797 : (Jvm.Cond.instanceMethod ({ cls := "HiddenCubeModel", name := "nextOf", desc := "(I)I" } : Jvm.MethodName)) ∈ lw_all := lw_g (lw_at lw_m7 208 rfl) rfl
theorem q1798 : (Jvm.Cond.code ({ cls := "HiddenCubeModel", name := "nextOf", desc := "(I)I" } : Jvm.MethodName) prog_10_method_57_code (5 : Nat) (Option.some Jvm.ClassFile.FieldType.int)) ∈ lw_all := lw_g (lw_at lw_m7 209 rfl) rfl
theorem q1800 : (Jvm.Cond.instanceMethod ({ cls := "HiddenCubeModel", name := "led", desc := "(III)I" } : Jvm.MethodName)) ∈ lw_all := lw_g (lw_at lw_m7 211 rfl) rfl
theorem q1801 : (Jvm.Cond.selects "HiddenCubeModel" ({ cls := "HiddenCubeModel", name := "led", desc := "(III)I" } : Jvm.MethodName) ({ cls := "HiddenCubeModel", name := "led", desc := "(III)I" } : Jvm.MethodName)) ∈ lw_all := lw_g (lw_at lw_m7 212 rfl) rfl
theorem q1802 : (Jvm.Cond.code ({ cls := "HiddenCubeModel", name := "led", desc := "(III)I" } : Jvm.MethodName) prog_10_method_61_code (5 : Nat) (Option.some Jvm.ClassFile.FieldType.int)) ∈ lw_all := lw_g (lw_at lw_m7 213 rfl) rfl
theorem q1803 : (Jvm.Cond.methodLink "HiddenCubeModel" (318 : Nat) ({ cls := "HiddenCubeModel", name := "nameOf", desc := "(II)I" } : Jvm.MethodName)) ∈ lw_all := lw_g (lw_at lw_m7 214 rfl) rfl
theorem q1804 : (Jvm.Cond.privateMethod ({ cls := "HiddenCubeModel", name := "nameOf", desc := "(II)I" } : Jvm.MethodName)) ∈ lw_tbl := lw_at lw_m7 215 rfl
theorem q1805 : (Jvm.Cond.instanceMethod ({ cls := "HiddenCubeModel", name := "nameOf", desc := "(II)I" } : Jvm.MethodName)) ∈ lw_all := lw_g (lw_at lw_m7 216 rfl) rfl
theorem q1806 : (Jvm.Cond.code ({ cls := "HiddenCubeModel", name := "nameOf", desc := "(II)I" } : Jvm.MethodName) prog_10_method_60_code (4 : Nat) (Option.some Jvm.ClassFile.FieldType.int)) ∈ lw_all := lw_g (lw_at lw_m7 217 rfl) rfl
theorem q1808 : (Jvm.Cond.instanceMethod ({ cls := "HiddenCubeModel", name := "farthest", desc := "(II)I" } : Jvm.MethodName)) ∈ lw_all := lw_g (lw_at lw_m7 219 rfl) rfl
theorem q1809 : (Jvm.Cond.selects "HiddenCubeModel" ({ cls := "HiddenCubeModel", name := "farthest", desc := "(II)I" } : Jvm.MethodName) ({ cls := "HiddenCubeModel", name := "farthest", desc := "(II)I" } : Jvm.MethodName)) ∈ lw_all := lw_g (lw_at lw_m7 220 rfl) rfl
theorem q1810 : (Jvm.Cond.code ({ cls := "HiddenCubeModel", name := "farthest", desc := "(II)I" } : Jvm.MethodName) prog_10_method_62_code (5 : Nat) (Option.some Jvm.ClassFile.FieldType.int)) ∈ lw_all := lw_g (lw_at lw_m7 221 rfl) rfl
theorem q1812 : (Jvm.Cond.instanceMethod ({ cls := "HiddenCubeModel", name := "width", desc := "()I" } : Jvm.MethodName)) ∈ lw_all := lw_g (lw_at lw_m7 223 rfl) rfl
theorem q1813 : (Jvm.Cond.selects "HiddenCubeModel" ({ cls := "HiddenCubeModel", name := "width", desc := "()I" } : Jvm.MethodName) ({ cls := "HiddenCubeModel", name := "width", desc := "()I" } : Jvm.MethodName)) ∈ lw_all := lw_g (lw_at lw_m7 224 rfl) rfl
theorem q1814 : (Jvm.Cond.code ({ cls := "HiddenCubeModel", name := "width", desc := "()I" } : Jvm.MethodName) prog_10_method_63_code (4 : Nat) (Option.some Jvm.ClassFile.FieldType.int)) ∈ lw_all := lw_g (lw_at lw_m7 225 rfl) rfl
theorem q1816 : (Jvm.Cond.instanceMethod ({ cls := "HiddenCubeModel", name := "within", desc := "(II)I" } : Jvm.MethodName)) ∈ lw_all := lw_g (lw_at lw_m7 227 rfl) rfl
theorem q1817 : (Jvm.Cond.selects "HiddenCubeModel" ({ cls := "HiddenCubeModel", name := "within", desc := "(II)I" } : Jvm.MethodName) ({ cls := "HiddenCubeModel", name := "within", desc := "(II)I" } : Jvm.MethodName)) ∈ lw_all := lw_g (lw_at lw_m7 228 rfl) rfl
theorem q1818 : (Jvm.Cond.code ({ cls := "HiddenCubeModel", name := "within", desc := "(II)I" } : Jvm.MethodName) prog_10_method_64_code (5 : Nat) (Option.some Jvm.ClassFile.FieldType.int)) ∈ lw_all := lw_g (lw_at lw_m7 229 rfl) rfl
theorem q1820 : (Jvm.Cond.instanceMethod ({ cls := "HiddenCubeModel", name := "apartWays", desc := "(III)I" } : Jvm.MethodName)) ∈ lw_all := lw_g (lw_at lw_m7 231 rfl) rfl
theorem q1821 : (Jvm.Cond.selects "HiddenCubeModel" ({ cls := "HiddenCubeModel", name := "apartWays", desc := "(III)I" } : Jvm.MethodName) ({ cls := "HiddenCubeModel", name := "apartWays", desc := "(III)I" } : Jvm.MethodName)) ∈ lw_all := lw_g (lw_at lw_m7 232 rfl) rfl
theorem q1822 : (Jvm.Cond.code ({ cls := "HiddenCubeModel", name := "apartWays", desc := "(III)I" } : Jvm.MethodName) prog_10_method_70_code (4 : Nat) (Option.some Jvm.ClassFile.FieldType.int)) ∈ lw_all := lw_g (lw_at lw_m7 233 rfl) rfl
theorem q1823 : (Jvm.Cond.methodLink "HiddenCubeModel" (330 : Nat) ({ cls := "HiddenCubeModel", name := "areTwo", desc := "(II)Z" } : Jvm.MethodName)) ∈ lw_all := lw_g (lw_at lw_m7 234 rfl) rfl
theorem q1824 : (Jvm.Cond.privateMethod ({ cls := "HiddenCubeModel", name := "areTwo", desc := "(II)Z" } : Jvm.MethodName)) ∈ lw_tbl := lw_at lw_m7 235 rfl
theorem q1825 : (Jvm.Cond.instanceMethod ({ cls := "HiddenCubeModel", name := "areTwo", desc := "(II)Z" } : Jvm.MethodName)) ∈ lw_all := lw_g (lw_at lw_m7 236 rfl) rfl
theorem q1826 : (Jvm.Cond.code ({ cls := "HiddenCubeModel", name := "areTwo", desc := "(II)Z" } : Jvm.MethodName) prog_10_method_40_code (3 : Nat) (Option.some Jvm.ClassFile.FieldType.boolean)) ∈ lw_all := lw_g (lw_at lw_m7 237 rfl) rfl
theorem q1827 : (Jvm.Cond.methodLink "HiddenCubeModel" (333 : Nat) ({ cls := "HiddenCubeModel", name := "throughSquares", desc := "(II)I" } : Jvm.MethodName)) ∈ lw_all := lw_g (lw_at lw_m7 238 rfl) rfl
theorem q1828 : (Jvm.Cond.privateMethod ({ cls := "HiddenCubeModel", name := "throughSquares", desc := "(II)I" } : Jvm.MethodName)) ∈ lw_tbl := lw_at lw_m7 239 rfl
theorem q1829 : (Jvm.Cond.instanceMethod ({ cls := "HiddenCubeModel", name := "throughSquares", desc := "(II)I" } : Jvm.MethodName)) ∈ lw_all := lw_g (lw_at lw_m8 0 rfl) rfl
theorem q1830 : (Jvm.Cond.code ({ cls := "HiddenCubeModel", name := "throughSquares", desc := "(II)I" } : Jvm.MethodName) prog_10_method_69_code (3 : Nat) (Option.some Jvm.ClassFile.FieldType.int)) ∈ lw_all := lw_g (lw_at lw_m8 1 rfl) rfl
theorem q1831 : (Jvm.Cond.methodLink "HiddenCubeModel" (324 : Nat) ({ cls := "HiddenCubeModel", name := "laysSquares", desc := "(II)V" } : Jvm.MethodName)) ∈ lw_all := lw_g (lw_at lw_m8 2 rfl) rfl
theorem q1832 : (Jvm.Cond.privateMethod ({ cls := "HiddenCubeModel", name := "laysSquares", desc := "(II)V" } : Jvm.MethodName)) ∈ lw_tbl := lw_at lw_m8 3 rfl
theorem q1833 : (Jvm.Cond.instanceMethod ({ cls := "HiddenCubeModel", name := "laysSquares", desc := "(II)V" } : Jvm.MethodName)) ∈ lw_all := lw_g (lw_at lw_m8 4 rfl) rfl
theorem q1834 : (Jvm.Cond.code ({ cls := "HiddenCubeModel", name := "laysSquares", desc := "(II)V" } : Jvm.MethodName) prog_10_method_66_code (5 : Nat) (Option.none : Option Jvm.ClassFile.FieldType)) ∈ lw_all := lw_g (lw_at lw_m8 5 rfl) rfl
theorem q1835 : (Jvm.Cond.methodLink "HiddenCubeModel" (327 : Nat) ({ cls := "HiddenCubeModel", name := "flows", desc := "(II)I" } : Jvm.MethodName)) ∈ lw_all := lw_g (lw_at lw_m8 6 rfl) rfl
theorem q1836 : (Jvm.Cond.privateMethod ({ cls := "HiddenCubeModel", name := "flows", desc := "(II)I" } : Jvm.MethodName)) ∈ lw_tbl := lw_at lw_m8 7 rfl
theorem q1837 : (Jvm.Cond.instanceMethod ({ cls := "HiddenCubeModel", name := "flows", desc := "(II)I" } : Jvm.MethodName)) ∈ lw_all := lw_g (lw_at lw_m8 8 rfl) rfl
theorem q1838 : (Jvm.Cond.code ({ cls := "HiddenCubeModel", name := "flows", desc := "(II)I" } : Jvm.MethodName) prog_10_method_68_code (5 : Nat) (Option.some Jvm.ClassFile.FieldType.int)) ∈ lw_all := lw_g (lw_at lw_m8 9 rfl) rfl
theorem q1839 : (Jvm.Cond.methodLink "HiddenCubeModel" (321 : Nat) ({ cls := "HiddenCubeModel", name := "reaches", desc := "(II)Z" } : Jvm.MethodName)) ∈ lw_all := lw_g (lw_at lw_m8 10 rfl) rfl
theorem q1840 : (Jvm.Cond.privateMethod ({ cls := "HiddenCubeModel", name := "reaches", desc := "(II)Z" } : Jvm.MethodName)) ∈ lw_tbl := lw_at lw_m8 11 rfl
theorem q1841 : (Jvm.Cond.instanceMethod ({ cls := "HiddenCubeModel", name := "reaches", desc := "(II)Z" } : Jvm.MethodName)) ∈ lw_all := lw_g (lw_at lw_m8 12 rfl) rfl
theorem q1842 : (Jvm.Cond.code ({ cls := "HiddenCubeModel", name := "reaches", desc := "(II)Z" } : Jvm.MethodName) prog_10_method_67_code (7 : Nat) (Option.some Jvm.ClassFile.FieldType.boolean)) ∈ lw_all := lw_g (lw_at lw_m8 13 rfl) rfl
theorem q1843 : (Jvm.Cond.methodLink "HiddenCubeModel" (336 : Nat) ({ cls := "HiddenCubeModel", name := "laysStreets", desc := "()V" } : Jvm.MethodName)) ∈ lw_all := lw_g (lw_at lw_m8 14 rfl) rfl
theorem q1844 : (Jvm.Cond.privateMethod ({ cls := "HiddenCubeModel", name := "laysStreets", desc := "()V" } : Jvm.MethodName)) ∈ lw_tbl := lw_at lw_m8 15 rfl
theorem q1845 : (Jvm.Cond.instanceMethod ({ cls := "HiddenCubeModel", name := "laysStreets", desc := "()V" } : Jvm.MethodName)) ∈ lw_all := lw_g (lw_at lw_m8 16 rfl) rfl
theorem q1846 : (Jvm.Cond.code ({ cls := "HiddenCubeModel", name := "laysStreets", desc := "()V" } : Jvm.MethodName) prog_10_method_65_code (3 : Nat) (Option.none : Option Jvm.ClassFile.FieldType)) ∈ lw_all := lw_g (lw_at lw_m8 17 rfl) rfl
theorem q1848 : (Jvm.Cond.instanceMethod ({ cls := "HiddenCubeModel", name := "side", desc := "(II)I" } : Jvm.MethodName)) ∈ lw_all := lw_g (lw_at lw_m8 19 rfl) rfl
theorem q1849 : (Jvm.Cond.selects "HiddenCubeModel" ({ cls := "HiddenCubeModel", name := "side", desc := "(II)I" } : Jvm.MethodName) ({ cls := "HiddenCubeModel", name := "side", desc := "(II)I" } : Jvm.MethodName)) ∈ lw_all := lw_g (lw_at lw_m8 20 rfl) rfl
theorem q1850 : (Jvm.Cond.code ({ cls := "HiddenCubeModel", name := "side", desc := "(II)I" } : Jvm.MethodName) prog_10_method_71_code (5 : Nat) (Option.some Jvm.ClassFile.FieldType.int)) ∈ lw_all := lw_g (lw_at lw_m8 21 rfl) rfl
theorem q1852 : (Jvm.Cond.instanceMethod ({ cls := "HiddenCubeModel", name := "parts", desc := "()I" } : Jvm.MethodName)) ∈ lw_all := lw_g (lw_at lw_m8 23 rfl) rfl
theorem q1853 : (Jvm.Cond.selects "HiddenCubeModel" ({ cls := "HiddenCubeModel", name := "parts", desc := "()I" } : Jvm.MethodName) ({ cls := "HiddenCubeModel", name := "parts", desc := "()I" } : Jvm.MethodName)) ∈ lw_all := lw_g (lw_at lw_m8 24 rfl) rfl
theorem q1854 : (Jvm.Cond.code ({ cls := "HiddenCubeModel", name := "parts", desc := "()I" } : Jvm.MethodName) prog_10_method_73_code (1 : Nat) (Option.some Jvm.ClassFile.FieldType.int)) ∈ lw_all := lw_g (lw_at lw_m8 25 rfl) rfl
theorem q1855 : (Jvm.Cond.methodLink "HiddenCubeModel" (339 : Nat) ({ cls := "HiddenCubeModel", name := "laysParts", desc := "()I" } : Jvm.MethodName)) ∈ lw_all := lw_g (lw_at lw_m8 26 rfl) rfl
theorem q1856 : (Jvm.Cond.privateMethod ({ cls := "HiddenCubeModel", name := "laysParts", desc := "()I" } : Jvm.MethodName)) ∈ lw_tbl := lw_at lw_m8 27 rfl
theorem q1857 : (Jvm.Cond.instanceMethod ({ cls := "HiddenCubeModel", name := "laysParts", desc := "()I" } : Jvm.MethodName)) ∈ lw_all := lw_g (lw_at lw_m8 28 rfl) rfl
theorem q1858 : (Jvm.Cond.code ({ cls := "HiddenCubeModel", name := "laysParts", desc := "()I" } : Jvm.MethodName) prog_10_method_72_code (4 : Nat) (Option.some Jvm.ClassFile.FieldType.int)) ∈ lw_all := lw_g (lw_at lw_m8 29 rfl) rfl
theorem q1860 : (Jvm.Cond.instanceMethod ({ cls := "HiddenCubeModel", name := "part", desc := "(I)I" } : Jvm.MethodName)) ∈ lw_all := lw_g (lw_at lw_m8 31 rfl) rfl
theorem q1861 : (Jvm.Cond.selects "HiddenCubeModel" ({ cls := "HiddenCubeModel", name := "part", desc := "(I)I" } : Jvm.MethodName) ({ cls := "HiddenCubeModel", name := "part", desc := "(I)I" } : Jvm.MethodName)) ∈ lw_all := lw_g (lw_at lw_m8 32 rfl) rfl
theorem q1862 : (Jvm.Cond.code ({ cls := "HiddenCubeModel", name := "part", desc := "(I)I" } : Jvm.MethodName) prog_10_method_74_code (2 : Nat) (Option.some Jvm.ClassFile.FieldType.int)) ∈ lw_all := lw_g (lw_at lw_m8 33 rfl) rfl
theorem q1864 : (Jvm.Cond.instanceMethod ({ cls := "HiddenCubeModel", name := "bridges", desc := "()I" } : Jvm.MethodName)) ∈ lw_all := lw_g (lw_at lw_m8 35 rfl) rfl
theorem q1865 : (Jvm.Cond.selects "HiddenCubeModel" ({ cls := "HiddenCubeModel", name := "bridges", desc := "()I" } : Jvm.MethodName) ({ cls := "HiddenCubeModel", name := "bridges", desc := "()I" } : Jvm.MethodName)) ∈ lw_all := lw_g (lw_at lw_m8 36 rfl) rfl
theorem q1866 : (Jvm.Cond.code ({ cls := "HiddenCubeModel", name := "bridges", desc := "()I" } : Jvm.MethodName) prog_10_method_76_code (4 : Nat) (Option.some Jvm.ClassFile.FieldType.int)) ∈ lw_all := lw_g (lw_at lw_m8 37 rfl) rfl
theorem q1867 : (Jvm.Cond.methodLink "HiddenCubeModel" (342 : Nat) ({ cls := "HiddenCubeModel", name := "isBridge", desc := "(II)Z" } : Jvm.MethodName)) ∈ lw_all := lw_g (lw_at lw_m8 38 rfl) rfl
theorem q1868 : (Jvm.Cond.privateMethod ({ cls := "HiddenCubeModel", name := "isBridge", desc := "(II)Z" } : Jvm.MethodName)) ∈ lw_tbl := lw_at lw_m8 39 rfl
theorem q1869 : (Jvm.Cond.instanceMethod ({ cls := "HiddenCubeModel", name := "isBridge", desc := "(II)Z" } : Jvm.MethodName)) ∈ lw_all := lw_g (lw_at lw_m8 40 rfl) rfl
theorem q1870 : (Jvm.Cond.code ({ cls := "HiddenCubeModel", name := "isBridge", desc := "(II)Z" } : Jvm.MethodName) prog_10_method_75_code (3 : Nat) (Option.some Jvm.ClassFile.FieldType.boolean)) ∈ lw_all := lw_g (lw_at lw_m8 41 rfl) rfl
theorem q1872 : (Jvm.Cond.instanceMethod ({ cls := "HiddenCubeModel", name := "bridge", desc := "(II)I" } : Jvm.MethodName)) ∈ lw_all := lw_g (lw_at lw_m8 43 rfl) rfl
theorem q1873 : (Jvm.Cond.selects "HiddenCubeModel" ({ cls := "HiddenCubeModel", name := "bridge", desc := "(II)I" } : Jvm.MethodName) ({ cls := "HiddenCubeModel", name := "bridge", desc := "(II)I" } : Jvm.MethodName)) ∈ lw_all := lw_g (lw_at lw_m8 44 rfl) rfl
theorem q1874 : (Jvm.Cond.code ({ cls := "HiddenCubeModel", name := "bridge", desc := "(II)I" } : Jvm.MethodName) prog_10_method_77_code (3 : Nat) (Option.some Jvm.ClassFile.FieldType.int)) ∈ lw_all := lw_g (lw_at lw_m8 45 rfl) rfl
theorem q1876 : (Jvm.Cond.instanceMethod ({ cls := "HiddenCubeModel", name := "joins", desc := "()I" } : Jvm.MethodName)) ∈ lw_all := lw_g (lw_at lw_m8 47 rfl) rfl
theorem q1877 : (Jvm.Cond.selects "HiddenCubeModel" ({ cls := "HiddenCubeModel", name := "joins", desc := "()I" } : Jvm.MethodName) ({ cls := "HiddenCubeModel", name := "joins", desc := "()I" } : Jvm.MethodName)) ∈ lw_all := lw_g (lw_at lw_m8 48 rfl) rfl
theorem q1878 : (Jvm.Cond.code ({ cls := "HiddenCubeModel", name := "joins", desc := "()I" } : Jvm.MethodName) prog_10_method_78_code (1 : Nat) (Option.some Jvm.ClassFile.FieldType.int)) ∈ lw_all := lw_g (lw_at lw_m8 49 rfl) rfl
theorem q1880 : (Jvm.Cond.instanceMethod ({ cls := "HiddenCubeModel", name := "fours", desc := "()I" } : Jvm.MethodName)) ∈ lw_all := lw_g (lw_at lw_m8 51 rfl) rfl
theorem q1881 : (Jvm.Cond.selects "HiddenCubeModel" ({ cls := "HiddenCubeModel", name := "fours", desc := "()I" } : Jvm.MethodName) ({ cls := "HiddenCubeModel", name := "fours", desc := "()I" } : Jvm.MethodName)) ∈ lw_all := lw_g (lw_at lw_m8 52 rfl) rfl
theorem q1882 : (Jvm.Cond.code ({ cls := "HiddenCubeModel", name := "fours", desc := "()I" } : Jvm.MethodName) prog_10_method_81_code (1 : Nat) (Option.some Jvm.ClassFile.FieldType.int)) ∈ lw_all := lw_g (lw_at lw_m8 53 rfl) rfl
theorem q1883 : (Jvm.Cond.methodLink "HiddenCubeModel" (348 : Nat) ({ cls := "HiddenCubeModel", name := "wallsOf", desc := "(I)I" } : Jvm.MethodName)) ∈ lw_all := lw_g (lw_at lw_m8 54 rfl) rfl
theorem q1884 : (Jvm.Cond.privateMethod ({ cls := "HiddenCubeModel", name := "wallsOf", desc := "(I)I" } : Jvm.MethodName)) ∈ lw_tbl := lw_at lw_m8 55 rfl
theorem q1885 : (Jvm.Cond.instanceMethod ({ cls := "HiddenCubeModel", name := "wallsOf", desc := "(I)I" } : Jvm.MethodName)) ∈ lw_all := lw_g (lw_at lw_m8 56 rfl) rfl
theorem q1886 : (Jvm.Cond.code ({ cls := "HiddenCubeModel", name := "wallsOf", desc := "(I)I" } : Jvm.MethodName) prog_10_method_80_code (5 : Nat) (Option.some Jvm.ClassFile.FieldType.int)) ∈ lw_all := lw_g (lw_at lw_m8 57 rfl) rfl
theorem q1887 : (Jvm.Cond.methodLink "HiddenCubeModel" (345 : Nat) ({ cls := "HiddenCubeModel", name := "isWall", desc := "(II)Z" } : Jvm.MethodName)) ∈ lw_all := lw_g (lw_at lw_m8 58 rfl) rfl
theorem q1888 : (Jvm.Cond.privateMethod ({ cls := "HiddenCubeModel", name := "isWall", desc := "(II)Z" } : Jvm.MethodName)) ∈ lw_tbl := lw_at lw_m8 59 rfl
theorem q1889 : (Jvm.Cond.instanceMethod ({ cls := "HiddenCubeModel", name := "isWall", desc := "(II)Z" } : Jvm.MethodName)) ∈ lw_all := lw_g (lw_at lw_m8 60 rfl) rfl
theorem q1890 : (Jvm.Cond.code ({ cls := "HiddenCubeModel", name := "isWall", desc := "(II)Z" } : Jvm.MethodName) prog_10_method_79_code (4 : Nat) (Option.some Jvm.ClassFile.FieldType.boolean)) ∈ lw_all := lw_g (lw_at lw_m8 61 rfl) rfl
theorem q1892 : (Jvm.Cond.instanceMethod ({ cls := "HiddenCubeModel", name := "walls", desc := "(I)I" } : Jvm.MethodName)) ∈ lw_all := lw_g (lw_at lw_m8 63 rfl) rfl
theorem q1893 : (Jvm.Cond.selects "HiddenCubeModel" ({ cls := "HiddenCubeModel", name := "walls", desc := "(I)I" } : Jvm.MethodName) ({ cls := "HiddenCubeModel", name := "walls", desc := "(I)I" } : Jvm.MethodName)) ∈ lw_all := lw_g (lw_at lw_m8 64 rfl) rfl
theorem q1894 : (Jvm.Cond.code ({ cls := "HiddenCubeModel", name := "walls", desc := "(I)I" } : Jvm.MethodName) prog_10_method_82_code (2 : Nat) (Option.some Jvm.ClassFile.FieldType.int)) ∈ lw_all := lw_g (lw_at lw_m8 65 rfl) rfl
theorem q1895 : (Jvm.Cond.constantLong "HiddenCubeModel" (351 : Nat) (5 : Int64)) ∈ lw_all := lw_g (lw_at lw_m8 66 rfl) rfl
theorem q1897 : (Jvm.Cond.instanceMethod ({ cls := "HiddenCubeModel", name := "wall", desc := "(II)I" } : Jvm.MethodName)) ∈ lw_all := lw_g (lw_at lw_m8 68 rfl) rfl
theorem q1898 : (Jvm.Cond.selects "HiddenCubeModel" ({ cls := "HiddenCubeModel", name := "wall", desc := "(II)I" } : Jvm.MethodName) ({ cls := "HiddenCubeModel", name := "wall", desc := "(II)I" } : Jvm.MethodName)) ∈ lw_all := lw_g (lw_at lw_m8 69 rfl) rfl
theorem q1899 : (Jvm.Cond.code ({ cls := "HiddenCubeModel", name := "wall", desc := "(II)I" } : Jvm.MethodName) prog_10_method_83_code (3 : Nat) (Option.some Jvm.ClassFile.FieldType.int)) ∈ lw_all := lw_g (lw_at lw_m8 70 rfl) rfl
theorem q1901 : (Jvm.Cond.instanceMethod ({ cls := "HiddenCubeModel", name := "turnings", desc := "()I" } : Jvm.MethodName)) ∈ lw_all := lw_g (lw_at lw_m8 72 rfl) rfl
theorem q1902 : (Jvm.Cond.selects "HiddenCubeModel" ({ cls := "HiddenCubeModel", name := "turnings", desc := "()I" } : Jvm.MethodName) ({ cls := "HiddenCubeModel", name := "turnings", desc := "()I" } : Jvm.MethodName)) ∈ lw_all := lw_g (lw_at lw_m8 73 rfl) rfl
theorem q1903 : (Jvm.Cond.code ({ cls := "HiddenCubeModel", name := "turnings", desc := "()I" } : Jvm.MethodName) prog_10_method_88_code (1 : Nat) (Option.some Jvm.ClassFile.FieldType.int)) ∈ lw_all := lw_g (lw_at lw_m8 74 rfl) rfl
theorem q1904 : (Jvm.Cond.methodLink "HiddenCubeModel" (365 : Nat) ({ cls := "HiddenCubeModel", name := "laysTurnings", desc := "()V" } : Jvm.MethodName)) ∈ lw_all := lw_g (lw_at lw_m8 75 rfl) rfl
theorem q1905 : (Jvm.Cond.privateMethod ({ cls := "HiddenCubeModel", name := "laysTurnings", desc := "()V" } : Jvm.MethodName)) ∈ lw_tbl := lw_at lw_m8 76 rfl
theorem q1906 : (Jvm.Cond.instanceMethod ({ cls := "HiddenCubeModel", name := "laysTurnings", desc := "()V" } : Jvm.MethodName)) ∈ lw_all := lw_g (lw_at lw_m8 77 rfl) rfl
theorem q1907 : (Jvm.Cond.code ({ cls := "HiddenCubeModel", name := "laysTurnings", desc := "()V" } : Jvm.MethodName) prog_10_method_85_code (1 : Nat) (Option.none : Option Jvm.ClassFile.FieldType)) ∈ lw_all := lw_g (lw_at lw_m8 78 rfl) rfl
theorem q1908 : (Jvm.Cond.methodLink "HiddenCubeModel" (356 : Nat) ({ cls := "HiddenCubeModel", name := "orders", desc := "(II)V" } : Jvm.MethodName)) ∈ lw_all := lw_g (lw_at lw_m8 79 rfl) rfl
theorem q1909 : (Jvm.Cond.privateMethod ({ cls := "HiddenCubeModel", name := "orders", desc := "(II)V" } : Jvm.MethodName)) ∈ lw_tbl := lw_at lw_m8 80 rfl
theorem q1910 : (Jvm.Cond.instanceMethod ({ cls := "HiddenCubeModel", name := "orders", desc := "(II)V" } : Jvm.MethodName)) ∈ lw_all := lw_g (lw_at lw_m8 81 rfl) rfl
theorem q1911 : (Jvm.Cond.code ({ cls := "HiddenCubeModel", name := "orders", desc := "(II)V" } : Jvm.MethodName) prog_10_method_86_code (5 : Nat) (Option.none : Option Jvm.ClassFile.FieldType)) ∈ lw_all := lw_g (lw_at lw_m8 82 rfl) rfl
theorem q1912 : (Jvm.Cond.methodLink "HiddenCubeModel" (359 : Nat) ({ cls := "HiddenCubeModel", name := "keepsStreets", desc := "(I)Z" } : Jvm.MethodName)) ∈ lw_all := lw_g (lw_at lw_m8 83 rfl) rfl
theorem q1913 : (Jvm.Cond.privateMethod ({ cls := "HiddenCubeModel", name := "keepsStreets", desc := "(I)Z" } : Jvm.MethodName)) ∈ lw_tbl := lw_at lw_m8 84 rfl
theorem q1914 : (Jvm.Cond.instanceMethod ({ cls := "HiddenCubeModel", name := "keepsStreets", desc := "(I)Z" } : Jvm.MethodName)) ∈ lw_all := lw_g (lw_at lw_m8 85 rfl) rfl
theorem q1915 : (Jvm.Cond.code ({ cls := "HiddenCubeModel", name := "keepsStreets", desc := "(I)Z" } : Jvm.MethodName) prog_10_method_87_code (5 : Nat) (Option.some Jvm.ClassFile.FieldType.boolean)) ∈ lw_all := lw_g (lw_at lw_m8 86 rfl) rfl
theorem q1916 : (Jvm.Cond.methodLink "HiddenCubeModel" (362 : Nat) ({ cls := "HiddenCubeModel", name := "turnedBy", desc := "(II)I" } : Jvm.MethodName)) ∈ lw_all := lw_g (lw_at lw_m8 87 rfl) rfl
theorem q1917 : (Jvm.Cond.privateMethod ({ cls := "HiddenCubeModel", name := "turnedBy", desc := "(II)I" } : Jvm.MethodName)) ∈ lw_tbl := lw_at lw_m8 88 rfl
theorem q1918 : (Jvm.Cond.instanceMethod ({ cls := "HiddenCubeModel", name := "turnedBy", desc := "(II)I" } : Jvm.MethodName)) ∈ lw_all := lw_g (lw_at lw_m8 89 rfl) rfl
theorem q1919 : (Jvm.Cond.code ({ cls := "HiddenCubeModel", name := "turnedBy", desc := "(II)I" } : Jvm.MethodName) prog_10_method_84_code (5 : Nat) (Option.some Jvm.ClassFile.FieldType.int)) ∈ lw_all := lw_g (lw_at lw_m8 90 rfl) rfl
theorem q1921 : (Jvm.Cond.instanceMethod ({ cls := "HiddenCubeModel", name := "orbit", desc := "(I)I" } : Jvm.MethodName)) ∈ lw_all := lw_g (lw_at lw_m8 92 rfl) rfl
theorem q1922 : (Jvm.Cond.selects "HiddenCubeModel" ({ cls := "HiddenCubeModel", name := "orbit", desc := "(I)I" } : Jvm.MethodName) ({ cls := "HiddenCubeModel", name := "orbit", desc := "(I)I" } : Jvm.MethodName)) ∈ lw_all := lw_g (lw_at lw_m8 93 rfl) rfl
theorem q1923 : (Jvm.Cond.code ({ cls := "HiddenCubeModel", name := "orbit", desc := "(I)I" } : Jvm.MethodName) prog_10_method_89_code (4 : Nat) (Option.some Jvm.ClassFile.FieldType.int)) ∈ lw_all := lw_g (lw_at lw_m8 94 rfl) rfl
theorem q1925 : (Jvm.Cond.instanceMethod ({ cls := "HiddenCubeModel", name := "still", desc := "(I)I" } : Jvm.MethodName)) ∈ lw_all := lw_g (lw_at lw_m8 96 rfl) rfl
theorem q1926 : (Jvm.Cond.selects "HiddenCubeModel" ({ cls := "HiddenCubeModel", name := "still", desc := "(I)I" } : Jvm.MethodName) ({ cls := "HiddenCubeModel", name := "still", desc := "(I)I" } : Jvm.MethodName)) ∈ lw_all := lw_g (lw_at lw_m8 97 rfl) rfl
theorem q1927 : (Jvm.Cond.code ({ cls := "HiddenCubeModel", name := "still", desc := "(I)I" } : Jvm.MethodName) prog_10_method_90_code (4 : Nat) (Option.some Jvm.ClassFile.FieldType.int)) ∈ lw_all := lw_g (lw_at lw_m8 98 rfl) rfl
theorem q1929 : (Jvm.Cond.instanceMethod ({ cls := "HiddenCubeModel", name := "colours", desc := "(I)J" } : Jvm.MethodName)) ∈ lw_all := lw_g (lw_at lw_m8 100 rfl) rfl
theorem q1930 : (Jvm.Cond.selects "HiddenCubeModel" ({ cls := "HiddenCubeModel", name := "colours", desc := "(I)J" } : Jvm.MethodName) ({ cls := "HiddenCubeModel", name := "colours", desc := "(I)J" } : Jvm.MethodName)) ∈ lw_all := lw_g (lw_at lw_m8 101 rfl) rfl
theorem q1931 : (Jvm.Cond.code ({ cls := "HiddenCubeModel", name := "colours", desc := "(I)J" } : Jvm.MethodName) prog_10_method_92_code (8 : Nat) (Option.some Jvm.ClassFile.FieldType.long)) ∈ lw_all := lw_g (lw_at lw_m8 102 rfl) rfl
theorem q1932 : (Jvm.Cond.constantLong "HiddenCubeModel" (368 : Nat) (-2 : Int64)) ∈ lw_all := lw_g (lw_at lw_m8 103 rfl) rfl
theorem q1933 : (Jvm.Cond.methodLink "HiddenCubeModel" (370 : Nat) ({ cls := "HiddenCubeModel", name := "ringsOf", desc := "(I)I" } : Jvm.MethodName)) ∈ lw_all := lw_g (lw_at lw_m8 104 rfl) rfl
theorem q1934 : (Jvm.Cond.privateMethod ({ cls := "HiddenCubeModel", name := "ringsOf", desc := "(I)I" } : Jvm.MethodName)) ∈ lw_tbl := lw_at lw_m8 105 rfl
theorem q1935 : (Jvm.Cond.instanceMethod ({ cls := "HiddenCubeModel", name := "ringsOf", desc := "(I)I" } : Jvm.MethodName)) ∈ lw_all := lw_g (lw_at lw_m8 106 rfl) rfl
theorem q1936 : (Jvm.Cond.code ({ cls := "HiddenCubeModel", name := "ringsOf", desc := "(I)I" } : Jvm.MethodName) prog_10_method_91_code (7 : Nat) (Option.some Jvm.ClassFile.FieldType.int)) ∈ lw_all := lw_g (lw_at lw_m8 107 rfl) rfl
theorem q1938 : (Jvm.Cond.instanceMethod ({ cls := "HiddenCubeModel", name := "rounds", desc := "()I" } : Jvm.MethodName)) ∈ lw_all := lw_g (lw_at lw_m8 109 rfl) rfl
theorem q1939 : (Jvm.Cond.selects "HiddenCubeModel" ({ cls := "HiddenCubeModel", name := "rounds", desc := "()I" } : Jvm.MethodName) ({ cls := "HiddenCubeModel", name := "rounds", desc := "()I" } : Jvm.MethodName)) ∈ lw_all := lw_g (lw_at lw_m8 110 rfl) rfl
theorem q1940 : (Jvm.Cond.code ({ cls := "HiddenCubeModel", name := "rounds", desc := "()I" } : Jvm.MethodName) prog_10_method_97_code (2 : Nat) (Option.some Jvm.ClassFile.FieldType.int)) ∈ lw_all := lw_g (lw_at lw_m8 111 rfl) rfl
theorem q1941 : (Jvm.Cond.methodLink "HiddenCubeModel" (383 : Nat) ({ cls := "HiddenCubeModel", name := "whyNoRounds", desc := "()I" } : Jvm.MethodName)) ∈ lw_all := lw_g (lw_at lw_m8 112 rfl) rfl
theorem q1942 : (Jvm.Cond.privateMethod ({ cls := "HiddenCubeModel", name := "whyNoRounds", desc := "()I" } : Jvm.MethodName)) ∈ lw_tbl := lw_at lw_m8 113 rfl
theorem q1943 : (Jvm.Cond.instanceMethod ({ cls := "HiddenCubeModel", name := "whyNoRounds", desc := "()I" } : Jvm.MethodName)) ∈ lw_all := lw_g (lw_at lw_m8 114 rfl) rfl
theorem q1944 : (Jvm.Cond.code ({ cls := "HiddenCubeModel", name := "whyNoRounds", desc := "()I" } : Jvm.MethodName) prog_10_method_96_code (1 : Nat) (Option.some Jvm.ClassFile.FieldType.int)) ∈ lw_all := lw_g (lw_at lw_m8 115 rfl) rfl
theorem q1945 : (Jvm.Cond.methodLink "HiddenCubeModel" (386 : Nat) ({ cls := "HiddenCubeModel", name := "laysRounds", desc := "()V" } : Jvm.MethodName)) ∈ lw_all := lw_g (lw_at lw_m8 116 rfl) rfl
theorem q1946 : (Jvm.Cond.privateMethod ({ cls := "HiddenCubeModel", name := "laysRounds", desc := "()V" } : Jvm.MethodName)) ∈ lw_tbl := lw_at lw_m8 117 rfl
theorem q1947 : (Jvm.Cond.instanceMethod ({ cls := "HiddenCubeModel", name := "laysRounds", desc := "()V" } : Jvm.MethodName)) ∈ lw_all := lw_g (lw_at lw_m8 118 rfl) rfl
theorem q1948 : (Jvm.Cond.code ({ cls := "HiddenCubeModel", name := "laysRounds", desc := "()V" } : Jvm.MethodName) prog_10_method_94_code (1 : Nat) (Option.none : Option Jvm.ClassFile.FieldType)) ∈ lw_all := lw_g (lw_at lw_m8 119 rfl) rfl
theorem q1949 : (Jvm.Cond.methodLink "HiddenCubeModel" (373 : Nat) ({ cls := "HiddenCubeModel", name := "laysNumbers", desc := "()V" } : Jvm.MethodName)) ∈ lw_all := lw_g (lw_at lw_m8 120 rfl) rfl
theorem q1950 : (Jvm.Cond.privateMethod ({ cls := "HiddenCubeModel", name := "laysNumbers", desc := "()V" } : Jvm.MethodName)) ∈ lw_tbl := lw_at lw_m8 121 rfl
theorem q1951 : (Jvm.Cond.instanceMethod ({ cls := "HiddenCubeModel", name := "laysNumbers", desc := "()V" } : Jvm.MethodName)) ∈ lw_all := lw_g (lw_at lw_m8 122 rfl) rfl
theorem q1952 : (Jvm.Cond.code ({ cls := "HiddenCubeModel", name := "laysNumbers", desc := "()V" } : Jvm.MethodName) prog_10_method_93_code (4 : Nat) (Option.none : Option Jvm.ClassFile.FieldType)) ∈ lw_all := lw_g (lw_at lw_m8 123 rfl) rfl
theorem q1953 : (Jvm.Cond.methodLink "HiddenCubeModel" (379 : Nat) ({ cls := "HiddenCubeModel", name := "goesRound", desc := "(III)V" } : Jvm.MethodName)) ∈ lw_all := lw_g (lw_at lw_m8 124 rfl) rfl
theorem q1954 : (Jvm.Cond.privateMethod ({ cls := "HiddenCubeModel", name := "goesRound", desc := "(III)V" } : Jvm.MethodName)) ∈ lw_tbl := lw_at lw_m8 125 rfl
theorem q1955 : (Jvm.Cond.instanceMethod ({ cls := "HiddenCubeModel", name := "goesRound", desc := "(III)V" } : Jvm.MethodName)) ∈ lw_all := lw_g (lw_at lw_m8 126 rfl) rfl
theorem q1956 : (Jvm.Cond.code ({ cls := "HiddenCubeModel", name := "goesRound", desc := "(III)V" } : Jvm.MethodName) prog_10_method_95_code (7 : Nat) (Option.none : Option Jvm.ClassFile.FieldType)) ∈ lw_all := lw_g (lw_at lw_m8 127 rfl) rfl
theorem q1958 : (Jvm.Cond.instanceMethod ({ cls := "HiddenCubeModel", name := "round", desc := "(I)I" } : Jvm.MethodName)) ∈ lw_all := lw_g (lw_at lw_m8 129 rfl) rfl
theorem q1959 : (Jvm.Cond.selects "HiddenCubeModel" ({ cls := "HiddenCubeModel", name := "round", desc := "(I)I" } : Jvm.MethodName) ({ cls := "HiddenCubeModel", name := "round", desc := "(I)I" } : Jvm.MethodName)) ∈ lw_all := lw_g (lw_at lw_m8 130 rfl) rfl
theorem q1960 : (Jvm.Cond.code ({ cls := "HiddenCubeModel", name := "round", desc := "(I)I" } : Jvm.MethodName) prog_10_method_98_code (3 : Nat) (Option.some Jvm.ClassFile.FieldType.int)) ∈ lw_all := lw_g (lw_at lw_m8 131 rfl) rfl
theorem q1962 : (Jvm.Cond.instanceMethod ({ cls := "HiddenCubeModel", name := "by", desc := "(I)I" } : Jvm.MethodName)) ∈ lw_all := lw_g (lw_at lw_m8 133 rfl) rfl
theorem q1963 : (Jvm.Cond.selects "HiddenCubeModel" ({ cls := "HiddenCubeModel", name := "by", desc := "(I)I" } : Jvm.MethodName) ({ cls := "HiddenCubeModel", name := "by", desc := "(I)I" } : Jvm.MethodName)) ∈ lw_all := lw_g (lw_at lw_m8 134 rfl) rfl
theorem q1964 : (Jvm.Cond.code ({ cls := "HiddenCubeModel", name := "by", desc := "(I)I" } : Jvm.MethodName) prog_10_method_100_code (5 : Nat) (Option.some Jvm.ClassFile.FieldType.int)) ∈ lw_all := lw_g (lw_at lw_m8 135 rfl) rfl
theorem q1966 : (Jvm.Cond.instanceMethod ({ cls := "HiddenCubeModel", name := "even", desc := "()I" } : Jvm.MethodName)) ∈ lw_all := lw_g (lw_at lw_m8 137 rfl) rfl
theorem q1967 : (Jvm.Cond.selects "HiddenCubeModel" ({ cls := "HiddenCubeModel", name := "even", desc := "()I" } : Jvm.MethodName) ({ cls := "HiddenCubeModel", name := "even", desc := "()I" } : Jvm.MethodName)) ∈ lw_all := lw_g (lw_at lw_m8 138 rfl) rfl
theorem q1968 : (Jvm.Cond.code ({ cls := "HiddenCubeModel", name := "even", desc := "()I" } : Jvm.MethodName) prog_10_method_101_code (6 : Nat) (Option.some Jvm.ClassFile.FieldType.int)) ∈ lw_all := lw_g (lw_at lw_m8 139 rfl) rfl
theorem q1969 : (Jvm.Cond.methodLink "HiddenCubeModel" (389 : Nat) ({ cls := "HiddenCubeModel", name := "turnsOf", desc := "(II)I" } : Jvm.MethodName)) ∈ lw_all := lw_g (lw_at lw_m8 140 rfl) rfl
theorem q1970 : (Jvm.Cond.privateMethod ({ cls := "HiddenCubeModel", name := "turnsOf", desc := "(II)I" } : Jvm.MethodName)) ∈ lw_tbl := lw_at lw_m8 141 rfl
theorem q1971 : (Jvm.Cond.instanceMethod ({ cls := "HiddenCubeModel", name := "turnsOf", desc := "(II)I" } : Jvm.MethodName)) ∈ lw_all := lw_g (lw_at lw_m8 142 rfl) rfl
theorem q1972 : (Jvm.Cond.code ({ cls := "HiddenCubeModel", name := "turnsOf", desc := "(II)I" } : Jvm.MethodName) prog_10_method_99_code (5 : Nat) (Option.some Jvm.ClassFile.FieldType.int)) ∈ lw_all := lw_g (lw_at lw_m8 143 rfl) rfl
theorem q1974 : (Jvm.Cond.instanceMethod ({ cls := "HiddenCubeModel", name := "unlike", desc := "()I" } : Jvm.MethodName)) ∈ lw_all := lw_g (lw_at lw_m8 145 rfl) rfl
theorem q1975 : (Jvm.Cond.selects "HiddenCubeModel" ({ cls := "HiddenCubeModel", name := "unlike", desc := "()I" } : Jvm.MethodName) ({ cls := "HiddenCubeModel", name := "unlike", desc := "()I" } : Jvm.MethodName)) ∈ lw_all := lw_g (lw_at lw_m8 146 rfl) rfl
theorem q1976 : (Jvm.Cond.code ({ cls := "HiddenCubeModel", name := "unlike", desc := "()I" } : Jvm.MethodName) prog_10_method_102_code (7 : Nat) (Option.some Jvm.ClassFile.FieldType.int)) ∈ lw_all := lw_g (lw_at lw_m8 147 rfl) rfl
theorem q1978 : (Jvm.Cond.instanceMethod ({ cls := "HiddenCubeModel", name := "bare", desc := "()I" } : Jvm.MethodName)) ∈ lw_all := lw_g (lw_at lw_m8 149 rfl) rfl
theorem q1979 : (Jvm.Cond.selects "HiddenCubeModel" ({ cls := "HiddenCubeModel", name := "bare", desc := "()I" } : Jvm.MethodName) ({ cls := "HiddenCubeModel", name := "bare", desc := "()I" } : Jvm.MethodName)) ∈ lw_all := lw_g (lw_at lw_m8 150 rfl) rfl
theorem q1980 : (Jvm.Cond.code ({ cls := "HiddenCubeModel", name := "bare", desc := "()I" } : Jvm.MethodName) prog_10_method_105_code (3 : Nat) (Option.some Jvm.ClassFile.FieldType.int)) ∈ lw_all := lw_g (lw_at lw_m8 151 rfl) rfl
theorem q1981 : (Jvm.Cond.methodLink "HiddenCubeModel" (395 : Nat) ({ cls := "HiddenCubeModel", name := "laysNear", desc := "()V" } : Jvm.MethodName)) ∈ lw_all := lw_g (lw_at lw_m8 152 rfl) rfl
theorem q1982 : (Jvm.Cond.privateMethod ({ cls := "HiddenCubeModel", name := "laysNear", desc := "()V" } : Jvm.MethodName)) ∈ lw_tbl := lw_at lw_m8 153 rfl
theorem q1983 : (Jvm.Cond.instanceMethod ({ cls := "HiddenCubeModel", name := "laysNear", desc := "()V" } : Jvm.MethodName)) ∈ lw_all := lw_g (lw_at lw_m8 154 rfl) rfl
theorem q1984 : (Jvm.Cond.code ({ cls := "HiddenCubeModel", name := "laysNear", desc := "()V" } : Jvm.MethodName) prog_10_method_104_code (2 : Nat) (Option.none : Option Jvm.ClassFile.FieldType)) ∈ lw_all := lw_g (lw_at lw_m8 155 rfl) rfl
theorem q1985 : (Jvm.Cond.methodLink "HiddenCubeModel" (392 : Nat) ({ cls := "HiddenCubeModel", name := "round0", desc := "(I)I" } : Jvm.MethodName)) ∈ lw_all := lw_g (lw_at lw_m8 156 rfl) rfl
theorem q1986 : (Jvm.Cond.privateMethod ({ cls := "HiddenCubeModel", name := "round0", desc := "(I)I" } : Jvm.MethodName)) ∈ lw_tbl := lw_at lw_m8 157 rfl
theorem q1987 : (Jvm.Cond.instanceMethod ({ cls := "HiddenCubeModel", name := "round0", desc := "(I)I" } : Jvm.MethodName)) ∈ lw_all := lw_g (lw_at lw_m8 158 rfl) rfl
theorem q1988 : (Jvm.Cond.code ({ cls := "HiddenCubeModel", name := "round0", desc := "(I)I" } : Jvm.MethodName) prog_10_method_103_code (4 : Nat) (Option.some Jvm.ClassFile.FieldType.int)) ∈ lw_all := lw_g (lw_at lw_m8 159 rfl) rfl
theorem q1990 : (Jvm.Cond.instanceMethod ({ cls := "HiddenCubeModel", name := "warden", desc := "(II)I" } : Jvm.MethodName)) ∈ lw_all := lw_g (lw_at lw_m8 161 rfl) rfl
theorem q1991 : (Jvm.Cond.selects "HiddenCubeModel" ({ cls := "HiddenCubeModel", name := "warden", desc := "(II)I" } : Jvm.MethodName) ({ cls := "HiddenCubeModel", name := "warden", desc := "(II)I" } : Jvm.MethodName)) ∈ lw_all := lw_g (lw_at lw_m8 162 rfl) rfl
theorem q1992 : (Jvm.Cond.code ({ cls := "HiddenCubeModel", name := "warden", desc := "(II)I" } : Jvm.MethodName) prog_10_method_106_code (4 : Nat) (Option.some Jvm.ClassFile.FieldType.int)) ∈ lw_all := lw_g (lw_at lw_m8 163 rfl) rfl
theorem q1994 : (Jvm.Cond.instanceMethod ({ cls := "HiddenCubeModel", name := "fewest", desc := "(I)I" } : Jvm.MethodName)) ∈ lw_all := lw_g (lw_at lw_m8 165 rfl) rfl
theorem q1995 : (Jvm.Cond.selects "HiddenCubeModel" ({ cls := "HiddenCubeModel", name := "fewest", desc := "(I)I" } : Jvm.MethodName) ({ cls := "HiddenCubeModel", name := "fewest", desc := "(I)I" } : Jvm.MethodName)) ∈ lw_all := lw_g (lw_at lw_m8 166 rfl) rfl
theorem q1996 : (Jvm.Cond.code ({ cls := "HiddenCubeModel", name := "fewest", desc := "(I)I" } : Jvm.MethodName) prog_10_method_109_code (3 : Nat) (Option.some Jvm.ClassFile.FieldType.int)) ∈ lw_all := lw_g (lw_at lw_m8 167 rfl) rfl
theorem q1997 : (Jvm.Cond.constantLong "HiddenCubeModel" (410 : Nat) (2 : Int64)) ∈ lw_all := lw_g (lw_at lw_m8 168 rfl) rfl
theorem q1998 : (Jvm.Cond.methodLink "HiddenCubeModel" (412 : Nat) ({ cls := "HiddenCubeModel", name := "laysFewest", desc := "(I)V" } : Jvm.MethodName)) ∈ lw_all := lw_g (lw_at lw_m8 169 rfl) rfl
theorem q1999 : (Jvm.Cond.privateMethod ({ cls := "HiddenCubeModel", name := "laysFewest", desc := "(I)V" } : Jvm.MethodName)) ∈ lw_tbl := lw_at lw_m8 170 rfl
theorem q2000 : (Jvm.Cond.instanceMethod ({ cls := "HiddenCubeModel", name := "laysFewest", desc := "(I)V" } : Jvm.MethodName)) ∈ lw_all := lw_g (lw_at lw_m8 171 rfl) rfl
theorem q2001 : (Jvm.Cond.code ({ cls := "HiddenCubeModel", name := "laysFewest", desc := "(I)V" } : Jvm.MethodName) prog_10_method_108_code (3 : Nat) (Option.none : Option Jvm.ClassFile.FieldType)) ∈ lw_all := lw_g (lw_at lw_m8 172 rfl) rfl
theorem q2002 : (Jvm.Cond.methodLink "HiddenCubeModel" (407 : Nat) ({ cls := "HiddenCubeModel", name := "isGuarded", desc := "(I)Z" } : Jvm.MethodName)) ∈ lw_all := lw_g (lw_at lw_m8 173 rfl) rfl
theorem q2003 : (Jvm.Cond.privateMethod ({ cls := "HiddenCubeModel", name := "isGuarded", desc := "(I)Z" } : Jvm.MethodName)) ∈ lw_tbl := lw_at lw_m8 174 rfl
theorem q2004 : (Jvm.Cond.instanceMethod ({ cls := "HiddenCubeModel", name := "isGuarded", desc := "(I)Z" } : Jvm.MethodName)) ∈ lw_all := lw_g (lw_at lw_m8 175 rfl) rfl
theorem q2005 : (Jvm.Cond.code ({ cls := "HiddenCubeModel", name := "isGuarded", desc := "(I)Z" } : Jvm.MethodName) prog_10_method_107_code (3 : Nat) (Option.some Jvm.ClassFile.FieldType.boolean)) ∈ lw_all := lw_g (lw_at lw_m8 176 rfl) rfl
theorem q2007 : (Jvm.Cond.instanceMethod ({ cls := "HiddenCubeModel", name := "perfect", desc := "()I" } : Jvm.MethodName)) ∈ lw_all := lw_g (lw_at lw_m8 178 rfl) rfl
theorem q2008 : (Jvm.Cond.selects "HiddenCubeModel" ({ cls := "HiddenCubeModel", name := "perfect", desc := "()I" } : Jvm.MethodName) ({ cls := "HiddenCubeModel", name := "perfect", desc := "()I" } : Jvm.MethodName)) ∈ lw_all := lw_g (lw_at lw_m8 179 rfl) rfl
theorem q2009 : (Jvm.Cond.code ({ cls := "HiddenCubeModel", name := "perfect", desc := "()I" } : Jvm.MethodName) prog_10_method_110_code (5 : Nat) (Option.some Jvm.ClassFile.FieldType.int)) ∈ lw_all := lw_g (lw_at lw_m8 180 rfl) rfl
theorem q2011 : (Jvm.Cond.instanceMethod ({ cls := "HiddenCubeModel", name := "more", desc := "()I" } : Jvm.MethodName)) ∈ lw_all := lw_g (lw_at lw_m8 182 rfl) rfl
theorem q2012 : (Jvm.Cond.selects "HiddenCubeModel" ({ cls := "HiddenCubeModel", name := "more", desc := "()I" } : Jvm.MethodName) ({ cls := "HiddenCubeModel", name := "more", desc := "()I" } : Jvm.MethodName)) ∈ lw_all := lw_g (lw_at lw_m8 183 rfl) rfl
theorem q2013 : (Jvm.Cond.code ({ cls := "HiddenCubeModel", name := "more", desc := "()I" } : Jvm.MethodName) prog_10_method_111_code (2 : Nat) (Option.some Jvm.ClassFile.FieldType.int)) ∈ lw_all := lw_g (lw_at lw_m8 184 rfl) rfl
theorem q2015 : (Jvm.Cond.instanceMethod ({ cls := "HiddenCubeModel", name := "code", desc := "(I)I" } : Jvm.MethodName)) ∈ lw_all := lw_g (lw_at lw_m8 186 rfl) rfl
theorem q2016 : (Jvm.Cond.selects "HiddenCubeModel" ({ cls := "HiddenCubeModel", name := "code", desc := "(I)I" } : Jvm.MethodName) ({ cls := "HiddenCubeModel", name := "code", desc := "(I)I" } : Jvm.MethodName)) ∈ lw_all := lw_g (lw_at lw_m8 187 rfl) rfl
theorem q2017 : (Jvm.Cond.code ({ cls := "HiddenCubeModel", name := "code", desc := "(I)I" } : Jvm.MethodName) prog_10_method_114_code (7 : Nat) (Option.some Jvm.ClassFile.FieldType.int)) ∈ lw_all := lw_g (lw_at lw_m8 188 rfl) rfl
theorem q2018 : (Jvm.Cond.methodLink "HiddenCubeModel" (415 : Nat) ({ cls := "HiddenCubeModel", name := "whyNot", desc := "(I)I" } : Jvm.MethodName)) ∈ lw_all := lw_g (lw_at lw_m8 189 rfl) rfl
theorem q2019 : (Jvm.Cond.privateMethod ({ cls := "HiddenCubeModel", name := "whyNot", desc := "(I)I" } : Jvm.MethodName)) ∈ lw_tbl := lw_at lw_m8 190 rfl
theorem q2020 : (Jvm.Cond.instanceMethod ({ cls := "HiddenCubeModel", name := "whyNot", desc := "(I)I" } : Jvm.MethodName)) ∈ lw_all := lw_g (lw_at lw_m8 191 rfl) rfl
theorem q2021 : (Jvm.Cond.code ({ cls := "HiddenCubeModel", name := "whyNot", desc := "(I)I" } : Jvm.MethodName) prog_10_method_112_code (3 : Nat) (Option.some Jvm.ClassFile.FieldType.int)) ∈ lw_all := lw_g (lw_at lw_m8 192 rfl) rfl
theorem q2022 : (Jvm.Cond.methodLink "HiddenCubeModel" (418 : Nat) ({ cls := "HiddenCubeModel", name := "cellOf", desc := "(II)I" } : Jvm.MethodName)) ∈ lw_all := lw_g (lw_at lw_m8 193 rfl) rfl
theorem q2023 : (Jvm.Cond.privateMethod ({ cls := "HiddenCubeModel", name := "cellOf", desc := "(II)I" } : Jvm.MethodName)) ∈ lw_tbl := lw_at lw_m8 194 rfl
theorem q2024 : (Jvm.Cond.instanceMethod ({ cls := "HiddenCubeModel", name := "cellOf", desc := "(II)I" } : Jvm.MethodName)) ∈ lw_all := lw_g (lw_at lw_m8 195 rfl) rfl
theorem q2025 : (Jvm.Cond.code ({ cls := "HiddenCubeModel", name := "cellOf", desc := "(II)I" } : Jvm.MethodName) prog_10_method_113_code (3 : Nat) (Option.some Jvm.ClassFile.FieldType.int)) ∈ lw_all := lw_g (lw_at lw_m8 196 rfl) rfl
theorem q2027 : (Jvm.Cond.instanceMethod ({ cls := "HiddenCubeModel", name := "heard", desc := "(II)I" } : Jvm.MethodName)) ∈ lw_all := lw_g (lw_at lw_m8 198 rfl) rfl
theorem q2028 : (Jvm.Cond.selects "HiddenCubeModel" ({ cls := "HiddenCubeModel", name := "heard", desc := "(II)I" } : Jvm.MethodName) ({ cls := "HiddenCubeModel", name := "heard", desc := "(II)I" } : Jvm.MethodName)) ∈ lw_all := lw_g (lw_at lw_m8 199 rfl) rfl
theorem q2029 : (Jvm.Cond.code ({ cls := "HiddenCubeModel", name := "heard", desc := "(II)I" } : Jvm.MethodName) prog_10_method_116_code (4 : Nat) (Option.some Jvm.ClassFile.FieldType.int)) ∈ lw_all := lw_g (lw_at lw_m8 200 rfl) rfl
theorem q2030 : (Jvm.Cond.methodLink "HiddenCubeModel" (421 : Nat) ({ cls := "HiddenCubeModel", name := "heardOf", desc := "(II)I" } : Jvm.MethodName)) ∈ lw_all := lw_g (lw_at lw_m8 201 rfl) rfl
theorem q2031 : (Jvm.Cond.privateMethod ({ cls := "HiddenCubeModel", name := "heardOf", desc := "(II)I" } : Jvm.MethodName)) ∈ lw_tbl := lw_at lw_m8 202 rfl
theorem q2032 : (Jvm.Cond.instanceMethod ({ cls := "HiddenCubeModel", name := "heardOf", desc := "(II)I" } : Jvm.MethodName)) ∈ lw_all := lw_g (lw_at lw_m8 203 rfl) rfl
theorem q2033 : (Jvm.Cond.code ({ cls := "HiddenCubeModel", name := "heardOf", desc := "(II)I" } : Jvm.MethodName) prog_10_method_115_code (8 : Nat) (Option.some Jvm.ClassFile.FieldType.int)) ∈ lw_all := lw_g (lw_at lw_m8 204 rfl) rfl
theorem q2035 : (Jvm.Cond.instanceMethod ({ cls := "HiddenCubeModel", name := "told", desc := "(II)I" } : Jvm.MethodName)) ∈ lw_all := lw_g (lw_at lw_m8 206 rfl) rfl
theorem q2036 : (Jvm.Cond.selects "HiddenCubeModel" ({ cls := "HiddenCubeModel", name := "told", desc := "(II)I" } : Jvm.MethodName) ({ cls := "HiddenCubeModel", name := "told", desc := "(II)I" } : Jvm.MethodName)) ∈ lw_all := lw_g (lw_at lw_m8 207 rfl) rfl
theorem q2037 : (Jvm.Cond.code ({ cls := "HiddenCubeModel", name := "told", desc := "(II)I" } : Jvm.MethodName) prog_10_method_117_code (8 : Nat) (Option.some Jvm.ClassFile.FieldType.int)) ∈ lw_all := lw_g (lw_at lw_m8 208 rfl) rfl
theorem q2039 : (Jvm.Cond.instanceMethod ({ cls := "HiddenCubeModel", name := "biggest", desc := "(I)I" } : Jvm.MethodName)) ∈ lw_all := lw_g (lw_at lw_m8 210 rfl) rfl
theorem q2040 : (Jvm.Cond.selects "HiddenCubeModel" ({ cls := "HiddenCubeModel", name := "biggest", desc := "(I)I" } : Jvm.MethodName) ({ cls := "HiddenCubeModel", name := "biggest", desc := "(I)I" } : Jvm.MethodName)) ∈ lw_all := lw_g (lw_at lw_m8 211 rfl) rfl
theorem q2041 : (Jvm.Cond.code ({ cls := "HiddenCubeModel", name := "biggest", desc := "(I)I" } : Jvm.MethodName) prog_10_method_119_code (3 : Nat) (Option.some Jvm.ClassFile.FieldType.int)) ∈ lw_all := lw_g (lw_at lw_m8 212 rfl) rfl
theorem q2042 : (Jvm.Cond.methodLink "HiddenCubeModel" (424 : Nat) ({ cls := "HiddenCubeModel", name := "biggestOf", desc := "(IIII)I" } : Jvm.MethodName)) ∈ lw_all := lw_g (lw_at lw_m8 213 rfl) rfl
theorem q2043 : (Jvm.Cond.privateMethod ({ cls := "HiddenCubeModel", name := "biggestOf", desc := "(IIII)I" } : Jvm.MethodName)) ∈ lw_tbl := lw_at lw_m8 214 rfl
theorem q2044 : (Jvm.Cond.instanceMethod ({ cls := "HiddenCubeModel", name := "biggestOf", desc := "(IIII)I" } : Jvm.MethodName)) ∈ lw_all := lw_g (lw_at lw_m8 215 rfl) rfl
theorem q2045 : (Jvm.Cond.code ({ cls := "HiddenCubeModel", name := "biggestOf", desc := "(IIII)I" } : Jvm.MethodName) prog_10_method_118_code (9 : Nat) (Option.some Jvm.ClassFile.FieldType.int)) ∈ lw_all := lw_g (lw_at lw_m8 216 rfl) rfl
theorem q2047 : (Jvm.Cond.instanceMethod ({ cls := "HiddenCubeModel", name := "shadow", desc := "(II)I" } : Jvm.MethodName)) ∈ lw_all := lw_g (lw_at lw_m8 218 rfl) rfl
theorem q2048 : (Jvm.Cond.selects "HiddenCubeModel" ({ cls := "HiddenCubeModel", name := "shadow", desc := "(II)I" } : Jvm.MethodName) ({ cls := "HiddenCubeModel", name := "shadow", desc := "(II)I" } : Jvm.MethodName)) ∈ lw_all := lw_g (lw_at lw_m8 219 rfl) rfl
theorem q2049 : (Jvm.Cond.code ({ cls := "HiddenCubeModel", name := "shadow", desc := "(II)I" } : Jvm.MethodName) prog_10_method_120_code (3 : Nat) (Option.some Jvm.ClassFile.FieldType.int)) ∈ lw_all := lw_g (lw_at lw_m8 220 rfl) rfl
theorem q2051 : (Jvm.Cond.instanceMethod ({ cls := "HiddenCubeModel", name := "crossings", desc := "(I)I" } : Jvm.MethodName)) ∈ lw_all := lw_g (lw_at lw_m8 222 rfl) rfl
theorem q2052 : (Jvm.Cond.selects "HiddenCubeModel" ({ cls := "HiddenCubeModel", name := "crossings", desc := "(I)I" } : Jvm.MethodName) ({ cls := "HiddenCubeModel", name := "crossings", desc := "(I)I" } : Jvm.MethodName)) ∈ lw_all := lw_g (lw_at lw_m8 223 rfl) rfl
theorem q2053 : (Jvm.Cond.code ({ cls := "HiddenCubeModel", name := "crossings", desc := "(I)I" } : Jvm.MethodName) prog_10_method_122_code (3 : Nat) (Option.some Jvm.ClassFile.FieldType.int)) ∈ lw_all := lw_g (lw_at lw_m8 224 rfl) rfl
theorem q2054 : (Jvm.Cond.methodLink "HiddenCubeModel" (428 : Nat) ({ cls := "HiddenCubeModel", name := "crossingsNow", desc := "()I" } : Jvm.MethodName)) ∈ lw_all := lw_g (lw_at lw_m8 225 rfl) rfl
theorem q2055 : (Jvm.Cond.privateMethod ({ cls := "HiddenCubeModel", name := "crossingsNow", desc := "()I" } : Jvm.MethodName)) ∈ lw_tbl := lw_at lw_m8 226 rfl
theorem q2056 : (Jvm.Cond.instanceMethod ({ cls := "HiddenCubeModel", name := "crossingsNow", desc := "()I" } : Jvm.MethodName)) ∈ lw_all := lw_g (lw_at lw_m8 227 rfl) rfl
theorem q2057 : (Jvm.Cond.code ({ cls := "HiddenCubeModel", name := "crossingsNow", desc := "()I" } : Jvm.MethodName) prog_10_method_121_code (5 : Nat) (Option.some Jvm.ClassFile.FieldType.int)) ∈ lw_all := lw_g (lw_at lw_m8 228 rfl) rfl
theorem q2059 : (Jvm.Cond.instanceMethod ({ cls := "HiddenCubeModel", name := "drawing", desc := "()I" } : Jvm.MethodName)) ∈ lw_all := lw_g (lw_at lw_m8 230 rfl) rfl
theorem q2060 : (Jvm.Cond.selects "HiddenCubeModel" ({ cls := "HiddenCubeModel", name := "drawing", desc := "()I" } : Jvm.MethodName) ({ cls := "HiddenCubeModel", name := "drawing", desc := "()I" } : Jvm.MethodName)) ∈ lw_all := lw_g (lw_at lw_m8 231 rfl) rfl
theorem q2061 : (Jvm.Cond.code ({ cls := "HiddenCubeModel", name := "drawing", desc := "()I" } : Jvm.MethodName) prog_10_method_124_code (1 : Nat) (Option.some Jvm.ClassFile.FieldType.int)) ∈ lw_all := lw_g (lw_at lw_m8 232 rfl) rfl
theorem q2062 : (Jvm.Cond.methodLink "HiddenCubeModel" (431 : Nat) ({ cls := "HiddenCubeModel", name := "drawingOf", desc := "(II)I" } : Jvm.MethodName)) ∈ lw_all := lw_g (lw_at lw_m8 233 rfl) rfl
theorem q2063 : (Jvm.Cond.privateMethod ({ cls := "HiddenCubeModel", name := "drawingOf", desc := "(II)I" } : Jvm.MethodName)) ∈ lw_tbl := lw_at lw_m8 234 rfl
theorem q2064 : (Jvm.Cond.instanceMethod ({ cls := "HiddenCubeModel", name := "drawingOf", desc := "(II)I" } : Jvm.MethodName)) ∈ lw_all := lw_g (lw_at lw_m8 235 rfl) rfl
theorem q2065 : (Jvm.Cond.code ({ cls := "HiddenCubeModel", name := "drawingOf", desc := "(II)I" } : Jvm.MethodName) prog_10_method_123_code (6 : Nat) (Option.some Jvm.ClassFile.FieldType.int)) ∈ lw_all := lw_g (lw_at lw_m8 236 rfl) rfl
theorem q2067 : (Jvm.Cond.instanceMethod ({ cls := "HiddenCubeModel", name := "person", desc := "(I)I" } : Jvm.MethodName)) ∈ lw_all := lw_g (lw_at lw_m8 238 rfl) rfl
theorem q2068 : (Jvm.Cond.selects "HiddenCubeModel" ({ cls := "HiddenCubeModel", name := "person", desc := "(I)I" } : Jvm.MethodName) ({ cls := "HiddenCubeModel", name := "person", desc := "(I)I" } : Jvm.MethodName)) ∈ lw_all := lw_g (lw_at lw_m8 239 rfl) rfl
theorem q2069 : (Jvm.Cond.code ({ cls := "HiddenCubeModel", name := "person", desc := "(I)I" } : Jvm.MethodName) prog_10_method_126_code (2 : Nat) (Option.some Jvm.ClassFile.FieldType.int)) ∈ lw_all := lw_g (lw_at lw_m9 0 rfl) rfl
theorem q2070 : (Jvm.Cond.methodLink "HiddenCubeModel" (434 : Nat) ({ cls := "HiddenCubeModel", name := "isPerson", desc := "(J)Z" } : Jvm.MethodName)) ∈ lw_all := lw_g (lw_at lw_m9 1 rfl) rfl
theorem q2071 : (Jvm.Cond.privateMethod ({ cls := "HiddenCubeModel", name := "isPerson", desc := "(J)Z" } : Jvm.MethodName)) ∈ lw_tbl := lw_at lw_m9 2 rfl
theorem q2072 : (Jvm.Cond.instanceMethod ({ cls := "HiddenCubeModel", name := "isPerson", desc := "(J)Z" } : Jvm.MethodName)) ∈ lw_all := lw_g (lw_at lw_m9 3 rfl) rfl
theorem q2073 : (Jvm.Cond.code ({ cls := "HiddenCubeModel", name := "isPerson", desc := "(J)Z" } : Jvm.MethodName) prog_10_method_125_code (3 : Nat) (Option.some Jvm.ClassFile.FieldType.boolean)) ∈ lw_all := lw_g (lw_at lw_m9 4 rfl) rfl
theorem q2075 : (Jvm.Cond.instanceMethod ({ cls := "HiddenCubeModel", name := "moves", desc := "(II)I" } : Jvm.MethodName)) ∈ lw_all := lw_g (lw_at lw_m9 6 rfl) rfl
theorem q2076 : (Jvm.Cond.selects "HiddenCubeModel" ({ cls := "HiddenCubeModel", name := "moves", desc := "(II)I" } : Jvm.MethodName) ({ cls := "HiddenCubeModel", name := "moves", desc := "(II)I" } : Jvm.MethodName)) ∈ lw_all := lw_g (lw_at lw_m9 7 rfl) rfl
theorem q2077 : (Jvm.Cond.code ({ cls := "HiddenCubeModel", name := "moves", desc := "(II)I" } : Jvm.MethodName) prog_10_method_127_code (4 : Nat) (Option.some Jvm.ClassFile.FieldType.int)) ∈ lw_all := lw_g (lw_at lw_m9 8 rfl) rfl
theorem q2079 : (Jvm.Cond.instanceMethod ({ cls := "HiddenCubeModel", name := "met", desc := "(I)I" } : Jvm.MethodName)) ∈ lw_all := lw_g (lw_at lw_m9 10 rfl) rfl
theorem q2080 : (Jvm.Cond.selects "HiddenCubeModel" ({ cls := "HiddenCubeModel", name := "met", desc := "(I)I" } : Jvm.MethodName) ({ cls := "HiddenCubeModel", name := "met", desc := "(I)I" } : Jvm.MethodName)) ∈ lw_all := lw_g (lw_at lw_m9 11 rfl) rfl
theorem q2081 : (Jvm.Cond.code ({ cls := "HiddenCubeModel", name := "met", desc := "(I)I" } : Jvm.MethodName) prog_10_method_131_code (3 : Nat) (Option.some Jvm.ClassFile.FieldType.int)) ∈ lw_all := lw_g (lw_at lw_m9 12 rfl) rfl
theorem q2082 : (Jvm.Cond.methodLink "HiddenCubeModel" (443 : Nat) ({ cls := "HiddenCubeModel", name := "whyNotMet", desc := "(I)I" } : Jvm.MethodName)) ∈ lw_all := lw_g (lw_at lw_m9 13 rfl) rfl
theorem q2083 : (Jvm.Cond.privateMethod ({ cls := "HiddenCubeModel", name := "whyNotMet", desc := "(I)I" } : Jvm.MethodName)) ∈ lw_tbl := lw_at lw_m9 14 rfl
theorem q2084 : (Jvm.Cond.instanceMethod ({ cls := "HiddenCubeModel", name := "whyNotMet", desc := "(I)I" } : Jvm.MethodName)) ∈ lw_all := lw_g (lw_at lw_m9 15 rfl) rfl
theorem q2085 : (Jvm.Cond.code ({ cls := "HiddenCubeModel", name := "whyNotMet", desc := "(I)I" } : Jvm.MethodName) prog_10_method_128_code (7 : Nat) (Option.some Jvm.ClassFile.FieldType.int)) ∈ lw_all := lw_g (lw_at lw_m9 16 rfl) rfl
theorem q2086 : (Jvm.Cond.methodLink "HiddenCubeModel" (446 : Nat) ({ cls := "HiddenCubeModel", name := "meets", desc := "(I)V" } : Jvm.MethodName)) ∈ lw_all := lw_g (lw_at lw_m9 17 rfl) rfl
theorem q2087 : (Jvm.Cond.privateMethod ({ cls := "HiddenCubeModel", name := "meets", desc := "(I)V" } : Jvm.MethodName)) ∈ lw_tbl := lw_at lw_m9 18 rfl
theorem q2088 : (Jvm.Cond.instanceMethod ({ cls := "HiddenCubeModel", name := "meets", desc := "(I)V" } : Jvm.MethodName)) ∈ lw_all := lw_g (lw_at lw_m9 19 rfl) rfl
theorem q2089 : (Jvm.Cond.code ({ cls := "HiddenCubeModel", name := "meets", desc := "(I)V" } : Jvm.MethodName) prog_10_method_130_code (2 : Nat) (Option.none : Option Jvm.ClassFile.FieldType)) ∈ lw_all := lw_g (lw_at lw_m9 20 rfl) rfl
theorem q2090 : (Jvm.Cond.methodLink "HiddenCubeModel" (437 : Nat) ({ cls := "HiddenCubeModel", name := "stand", desc := "(II)V" } : Jvm.MethodName)) ∈ lw_all := lw_g (lw_at lw_m9 21 rfl) rfl
theorem q2091 : (Jvm.Cond.privateMethod ({ cls := "HiddenCubeModel", name := "stand", desc := "(II)V" } : Jvm.MethodName)) ∈ lw_tbl := lw_at lw_m9 22 rfl
theorem q2092 : (Jvm.Cond.instanceMethod ({ cls := "HiddenCubeModel", name := "stand", desc := "(II)V" } : Jvm.MethodName)) ∈ lw_all := lw_g (lw_at lw_m9 23 rfl) rfl
theorem q2093 : (Jvm.Cond.code ({ cls := "HiddenCubeModel", name := "stand", desc := "(II)V" } : Jvm.MethodName) prog_10_method_129_code (4 : Nat) (Option.none : Option Jvm.ClassFile.FieldType)) ∈ lw_all := lw_g (lw_at lw_m9 24 rfl) rfl
theorem q2095 : (Jvm.Cond.instanceMethod ({ cls := "HiddenCubeModel", name := "sure", desc := "(II)I" } : Jvm.MethodName)) ∈ lw_all := lw_g (lw_at lw_m9 26 rfl) rfl
theorem q2096 : (Jvm.Cond.selects "HiddenCubeModel" ({ cls := "HiddenCubeModel", name := "sure", desc := "(II)I" } : Jvm.MethodName) ({ cls := "HiddenCubeModel", name := "sure", desc := "(II)I" } : Jvm.MethodName)) ∈ lw_all := lw_g (lw_at lw_m9 27 rfl) rfl
theorem q2097 : (Jvm.Cond.code ({ cls := "HiddenCubeModel", name := "sure", desc := "(II)I" } : Jvm.MethodName) prog_10_method_132_code (4 : Nat) (Option.some Jvm.ClassFile.FieldType.int)) ∈ lw_all := lw_g (lw_at lw_m9 28 rfl) rfl
theorem q2099 : (Jvm.Cond.instanceMethod ({ cls := "HiddenCubeModel", name := "comes", desc := "(I)I" } : Jvm.MethodName)) ∈ lw_all := lw_g (lw_at lw_m9 30 rfl) rfl
theorem q2100 : (Jvm.Cond.selects "HiddenCubeModel" ({ cls := "HiddenCubeModel", name := "comes", desc := "(I)I" } : Jvm.MethodName) ({ cls := "HiddenCubeModel", name := "comes", desc := "(I)I" } : Jvm.MethodName)) ∈ lw_all := lw_g (lw_at lw_m9 31 rfl) rfl
theorem q2101 : (Jvm.Cond.code ({ cls := "HiddenCubeModel", name := "comes", desc := "(I)I" } : Jvm.MethodName) prog_10_method_135_code (2 : Nat) (Option.some Jvm.ClassFile.FieldType.int)) ∈ lw_all := lw_g (lw_at lw_m9 32 rfl) rfl
theorem q2102 : (Jvm.Cond.methodLink "HiddenCubeModel" (458 : Nat) ({ cls := "HiddenCubeModel", name := "carries", desc := "(IZ)V" } : Jvm.MethodName)) ∈ lw_all := lw_g (lw_at lw_m9 33 rfl) rfl
theorem q2103 : (Jvm.Cond.privateMethod ({ cls := "HiddenCubeModel", name := "carries", desc := "(IZ)V" } : Jvm.MethodName)) ∈ lw_tbl := lw_at lw_m9 34 rfl
theorem q2104 : (Jvm.Cond.instanceMethod ({ cls := "HiddenCubeModel", name := "carries", desc := "(IZ)V" } : Jvm.MethodName)) ∈ lw_all := lw_g (lw_at lw_m9 35 rfl) rfl
theorem q2105 : (Jvm.Cond.code ({ cls := "HiddenCubeModel", name := "carries", desc := "(IZ)V" } : Jvm.MethodName) prog_10_method_133_code (5 : Nat) (Option.none : Option Jvm.ClassFile.FieldType)) ∈ lw_all := lw_g (lw_at lw_m9 36 rfl) rfl
theorem q2106 : (Jvm.Cond.methodLink "HiddenCubeModel" (455 : Nat) ({ cls := "HiddenCubeModel", name := "stepOf", desc := "(IIZ)V" } : Jvm.MethodName)) ∈ lw_all := lw_g (lw_at lw_m9 37 rfl) rfl
theorem q2107 : (Jvm.Cond.privateMethod ({ cls := "HiddenCubeModel", name := "stepOf", desc := "(IIZ)V" } : Jvm.MethodName)) ∈ lw_tbl := lw_at lw_m9 38 rfl
theorem q2108 : (Jvm.Cond.instanceMethod ({ cls := "HiddenCubeModel", name := "stepOf", desc := "(IIZ)V" } : Jvm.MethodName)) ∈ lw_all := lw_g (lw_at lw_m9 39 rfl) rfl
theorem q2109 : (Jvm.Cond.code ({ cls := "HiddenCubeModel", name := "stepOf", desc := "(IIZ)V" } : Jvm.MethodName) prog_10_method_134_code (9 : Nat) (Option.none : Option Jvm.ClassFile.FieldType)) ∈ lw_all := lw_g (lw_at lw_m9 40 rfl) rfl
theorem q2111 : (Jvm.Cond.instanceMethod ({ cls := "HiddenCubeModel", name := "post", desc := "(I)I" } : Jvm.MethodName)) ∈ lw_all := lw_g (lw_at lw_m9 42 rfl) rfl
theorem q2112 : (Jvm.Cond.selects "HiddenCubeModel" ({ cls := "HiddenCubeModel", name := "post", desc := "(I)I" } : Jvm.MethodName) ({ cls := "HiddenCubeModel", name := "post", desc := "(I)I" } : Jvm.MethodName)) ∈ lw_all := lw_g (lw_at lw_m9 43 rfl) rfl
theorem q2113 : (Jvm.Cond.code ({ cls := "HiddenCubeModel", name := "post", desc := "(I)I" } : Jvm.MethodName) prog_10_method_136_code (5 : Nat) (Option.some Jvm.ClassFile.FieldType.int)) ∈ lw_all := lw_g (lw_at lw_m9 44 rfl) rfl
theorem q2115 : (Jvm.Cond.instanceMethod ({ cls := "HiddenCubeModel", name := "at", desc := "(II)I" } : Jvm.MethodName)) ∈ lw_all := lw_g (lw_at lw_m9 46 rfl) rfl
theorem q2116 : (Jvm.Cond.selects "HiddenCubeModel" ({ cls := "HiddenCubeModel", name := "at", desc := "(II)I" } : Jvm.MethodName) ({ cls := "HiddenCubeModel", name := "at", desc := "(II)I" } : Jvm.MethodName)) ∈ lw_all := lw_g (lw_at lw_m9 47 rfl) rfl
theorem q2117 : (Jvm.Cond.code ({ cls := "HiddenCubeModel", name := "at", desc := "(II)I" } : Jvm.MethodName) prog_10_method_137_code (3 : Nat) (Option.some Jvm.ClassFile.FieldType.int)) ∈ lw_all := lw_g (lw_at lw_m9 48 rfl) rfl
theorem q2118 : (Jvm.Cond.constantLong "HiddenCubeModel" (462 : Nat) (99 : Int64)) ∈ lw_all := lw_g (lw_at lw_m9 49 rfl) rfl
theorem q2120 : (Jvm.Cond.instanceMethod ({ cls := "HiddenCubeModel", name := "clash", desc := "()I" } : Jvm.MethodName)) ∈ lw_all := lw_g (lw_at lw_m9 51 rfl) rfl
theorem q2121 : (Jvm.Cond.selects "HiddenCubeModel" ({ cls := "HiddenCubeModel", name := "clash", desc := "()I" } : Jvm.MethodName) ({ cls := "HiddenCubeModel", name := "clash", desc := "()I" } : Jvm.MethodName)) ∈ lw_all := lw_g (lw_at lw_m9 52 rfl) rfl
theorem q2122 : (Jvm.Cond.code ({ cls := "HiddenCubeModel", name := "clash", desc := "()I" } : Jvm.MethodName) prog_10_method_138_code (1 : Nat) (Option.some Jvm.ClassFile.FieldType.int)) ∈ lw_all := lw_g (lw_at lw_m9 53 rfl) rfl
theorem q2124 : (Jvm.Cond.instanceMethod ({ cls := "HiddenCubeModel", name := "law", desc := "(I)I" } : Jvm.MethodName)) ∈ lw_all := lw_g (lw_at lw_m9 55 rfl) rfl
theorem q2125 : (Jvm.Cond.selects "HiddenCubeModel" ({ cls := "HiddenCubeModel", name := "law", desc := "(I)I" } : Jvm.MethodName) ({ cls := "HiddenCubeModel", name := "law", desc := "(I)I" } : Jvm.MethodName)) ∈ lw_all := lw_g (lw_at lw_m9 56 rfl) rfl
theorem q2126 : (Jvm.Cond.code ({ cls := "HiddenCubeModel", name := "law", desc := "(I)I" } : Jvm.MethodName) prog_10_method_139_code (4 : Nat) (Option.some Jvm.ClassFile.FieldType.int)) ∈ lw_all := lw_g (lw_at lw_m9 57 rfl) rfl
theorem q2128 : (Jvm.Cond.instanceMethod ({ cls := "HiddenCubeModel", name := "flood", desc := "(III)I" } : Jvm.MethodName)) ∈ lw_all := lw_g (lw_at lw_m9 59 rfl) rfl
theorem q2129 : (Jvm.Cond.selects "HiddenCubeModel" ({ cls := "HiddenCubeModel", name := "flood", desc := "(III)I" } : Jvm.MethodName) ({ cls := "HiddenCubeModel", name := "flood", desc := "(III)I" } : Jvm.MethodName)) ∈ lw_all := lw_g (lw_at lw_m9 60 rfl) rfl
theorem q2130 : (Jvm.Cond.code ({ cls := "HiddenCubeModel", name := "flood", desc := "(III)I" } : Jvm.MethodName) prog_10_method_143_code (4 : Nat) (Option.some Jvm.ClassFile.FieldType.int)) ∈ lw_all := lw_g (lw_at lw_m9 61 rfl) rfl
theorem q2131 : (Jvm.Cond.methodLink "HiddenCubeModel" (480 : Nat) ({ cls := "HiddenCubeModel", name := "isSeed", desc := "(I)Z" } : Jvm.MethodName)) ∈ lw_all := lw_g (lw_at lw_m9 62 rfl) rfl
theorem q2132 : (Jvm.Cond.static ({ cls := "HiddenCubeModel", name := "isSeed", desc := "(I)Z" } : Jvm.MethodName)) ∈ lw_all := lw_g (lw_at lw_m9 63 rfl) rfl
theorem q2133 : (Jvm.Cond.code ({ cls := "HiddenCubeModel", name := "isSeed", desc := "(I)Z" } : Jvm.MethodName) prog_10_method_142_code (1 : Nat) (Option.some Jvm.ClassFile.FieldType.boolean)) ∈ lw_all := lw_g (lw_at lw_m9 64 rfl) rfl
theorem q2134 : (Jvm.Cond.constantLong "HiddenCubeModel" (478 : Nat) (2000000000 : Int64)) ∈ lw_all := lw_g (lw_at lw_m9 65 rfl) rfl
theorem q2135 : (Jvm.Cond.methodLink "HiddenCubeModel" (483 : Nat) ({ cls := "HiddenCubeModel", name := "floods", desc := "(JII)I" } : Jvm.MethodName)) ∈ lw_all := lw_g (lw_at lw_m9 66 rfl) rfl
theorem q2136 : (Jvm.Cond.privateMethod ({ cls := "HiddenCubeModel", name := "floods", desc := "(JII)I" } : Jvm.MethodName)) ∈ lw_tbl := lw_at lw_m9 67 rfl
theorem q2137 : (Jvm.Cond.instanceMethod ({ cls := "HiddenCubeModel", name := "floods", desc := "(JII)I" } : Jvm.MethodName)) ∈ lw_all := lw_g (lw_at lw_m9 68 rfl) rfl
theorem q2138 : (Jvm.Cond.code ({ cls := "HiddenCubeModel", name := "floods", desc := "(JII)I" } : Jvm.MethodName) prog_10_method_141_code (11 : Nat) (Option.some Jvm.ClassFile.FieldType.int)) ∈ lw_all := lw_g (lw_at lw_m9 69 rfl) rfl
theorem q2139 : (Jvm.Cond.methodLink "HiddenCubeModel" (475 : Nat) ({ cls := "HiddenCubeModel", name := "drawn", desc := "()I" } : Jvm.MethodName)) ∈ lw_all := lw_g (lw_at lw_m9 70 rfl) rfl
theorem q2140 : (Jvm.Cond.privateMethod ({ cls := "HiddenCubeModel", name := "drawn", desc := "()I" } : Jvm.MethodName)) ∈ lw_tbl := lw_at lw_m9 71 rfl
theorem q2141 : (Jvm.Cond.instanceMethod ({ cls := "HiddenCubeModel", name := "drawn", desc := "()I" } : Jvm.MethodName)) ∈ lw_all := lw_g (lw_at lw_m9 72 rfl) rfl
theorem q2142 : (Jvm.Cond.code ({ cls := "HiddenCubeModel", name := "drawn", desc := "()I" } : Jvm.MethodName) prog_10_method_140_code (1 : Nat) (Option.some Jvm.ClassFile.FieldType.int)) ∈ lw_all := lw_g (lw_at lw_m9 73 rfl) rfl
theorem q2143 : (Jvm.Cond.constantLong "HiddenCubeModel" (464 : Nat) (1103515245 : Int64)) ∈ lw_all := lw_g (lw_at lw_m9 74 rfl) rfl
theorem q2144 : (Jvm.Cond.constantLong "HiddenCubeModel" (469 : Nat) (12345 : Int64)) ∈ lw_all := lw_g (lw_at lw_m9 75 rfl) rfl
theorem q2145 : (Jvm.Cond.constantLong "HiddenCubeModel" (471 : Nat) (2147483648 : Int64)) ∈ lw_all := lw_g (lw_at lw_m9 76 rfl) rfl
theorem q2146 : (Jvm.Cond.constantLong "HiddenCubeModel" (473 : Nat) (65536 : Int64)) ∈ lw_all := lw_g (lw_at lw_m9 77 rfl) rfl
theorem q2148 : (Jvm.Cond.instanceMethod ({ cls := "HiddenCubeModel", name := "day", desc := "(II)I" } : Jvm.MethodName)) ∈ lw_all := lw_g (lw_at lw_m9 79 rfl) rfl
theorem q2149 : (Jvm.Cond.selects "HiddenCubeModel" ({ cls := "HiddenCubeModel", name := "day", desc := "(II)I" } : Jvm.MethodName) ({ cls := "HiddenCubeModel", name := "day", desc := "(II)I" } : Jvm.MethodName)) ∈ lw_all := lw_g (lw_at lw_m9 80 rfl) rfl
theorem q2150 : (Jvm.Cond.code ({ cls := "HiddenCubeModel", name := "day", desc := "(II)I" } : Jvm.MethodName) prog_10_method_144_code (5 : Nat) (Option.some Jvm.ClassFile.FieldType.int)) ∈ lw_all := lw_g (lw_at lw_m9 81 rfl) rfl
theorem q2151 : (Jvm.Cond.constantLong "HiddenCubeModel" (487 : Nat) (59 : Int64)) ∈ lw_all := lw_g (lw_at lw_m9 82 rfl) rfl
theorem q2153 : (Jvm.Cond.instanceMethod ({ cls := "HiddenCubeModel", name := "chance", desc := "(IIIII)I" } : Jvm.MethodName)) ∈ lw_all := lw_g (lw_at lw_m9 84 rfl) rfl
theorem q2154 : (Jvm.Cond.selects "HiddenCubeModel" ({ cls := "HiddenCubeModel", name := "chance", desc := "(IIIII)I" } : Jvm.MethodName) ({ cls := "HiddenCubeModel", name := "chance", desc := "(IIIII)I" } : Jvm.MethodName)) ∈ lw_all := lw_g (lw_at lw_m9 85 rfl) rfl
theorem q2155 : (Jvm.Cond.code ({ cls := "HiddenCubeModel", name := "chance", desc := "(IIIII)I" } : Jvm.MethodName) prog_10_method_145_code (9 : Nat) (Option.some Jvm.ClassFile.FieldType.int)) ∈ lw_all := lw_g (lw_at lw_m9 86 rfl) rfl
theorem q2156 : (Jvm.Cond.constantLong "HiddenCubeModel" (489 : Nat) (20 : Int64)) ∈ lw_all := lw_g (lw_at lw_m9 87 rfl) rfl
theorem q2157 : (Jvm.Cond.constantLong "HiddenCubeModel" (491 : Nat) (60 : Int64)) ∈ lw_all := lw_g (lw_at lw_m9 88 rfl) rfl
theorem q2159 : (Jvm.Cond.instanceMethod ({ cls := "HiddenCubeModel", name := "count", desc := "(I)I" } : Jvm.MethodName)) ∈ lw_all := lw_g (lw_at lw_m9 90 rfl) rfl
theorem q2160 : (Jvm.Cond.selects "HiddenCubeModel" ({ cls := "HiddenCubeModel", name := "count", desc := "(I)I" } : Jvm.MethodName) ({ cls := "HiddenCubeModel", name := "count", desc := "(I)I" } : Jvm.MethodName)) ∈ lw_all := lw_g (lw_at lw_m9 91 rfl) rfl
theorem q2161 : (Jvm.Cond.code ({ cls := "HiddenCubeModel", name := "count", desc := "(I)I" } : Jvm.MethodName) prog_10_method_146_code (4 : Nat) (Option.some Jvm.ClassFile.FieldType.int)) ∈ lw_all := lw_g (lw_at lw_m9 92 rfl) rfl
theorem q2163 : (Jvm.Cond.instanceMethod ({ cls := "HiddenCubeModel", name := "keep", desc := "(I)I" } : Jvm.MethodName)) ∈ lw_all := lw_g (lw_at lw_m9 94 rfl) rfl
theorem q2164 : (Jvm.Cond.selects "HiddenCubeModel" ({ cls := "HiddenCubeModel", name := "keep", desc := "(I)I" } : Jvm.MethodName) ({ cls := "HiddenCubeModel", name := "keep", desc := "(I)I" } : Jvm.MethodName)) ∈ lw_all := lw_g (lw_at lw_m9 95 rfl) rfl
theorem q2165 : (Jvm.Cond.code ({ cls := "HiddenCubeModel", name := "keep", desc := "(I)I" } : Jvm.MethodName) prog_10_method_147_code (2 : Nat) (Option.some Jvm.ClassFile.FieldType.int)) ∈ lw_all := lw_g (lw_at lw_m9 96 rfl) rfl
theorem q2167 : (Jvm.Cond.instanceMethod ({ cls := "HiddenCubeModel", name := "back", desc := "(I)I" } : Jvm.MethodName)) ∈ lw_all := lw_g (lw_at lw_m9 98 rfl) rfl
theorem q2168 : (Jvm.Cond.selects "HiddenCubeModel" ({ cls := "HiddenCubeModel", name := "back", desc := "(I)I" } : Jvm.MethodName) ({ cls := "HiddenCubeModel", name := "back", desc := "(I)I" } : Jvm.MethodName)) ∈ lw_all := lw_g (lw_at lw_m9 99 rfl) rfl
theorem q2169 : (Jvm.Cond.code ({ cls := "HiddenCubeModel", name := "back", desc := "(I)I" } : Jvm.MethodName) prog_10_method_148_code (2 : Nat) (Option.some Jvm.ClassFile.FieldType.int)) ∈ lw_all := lw_g (lw_at lw_m9 100 rfl) rfl
theorem in_X5 : ∀ w ∈ wsX50, w ∈ lw_all := lw_in wsX50 [1453, 1455, 1457, 1459, 1461, 1463, 1465, 1467, 1469, 1471, 1473, 1475, 1477, 1479, 1481, 1483, 1485, 1487, 1489, 1491, 1493, 1495, 1497, 1499, 1501, 1503, 1505, 1507, 1509, 1511, 1513, 1515, 1517, 1519, 1521, 1523, 1525, 1527, 1529, 1531, 1533, 1535, 1537, 1539, 1541, 1543, 1545, 1547, 1549, 1551, 1553, 1555, 1557, 1559, 1561, 1563, 1565, 1567] (by decide +kernel) (by decide +kernel)
