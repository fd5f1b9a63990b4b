/-! KalmanQuayModel -/
set_option maxRecDepth 100000
def RX2 : String := "KalmanQuayModel"
def TX2 : u_T := fun k => match k with
  | 0 => ("KalmanQuayModel", "noise", "I", false)
  | 1 => ("KalmanQuayModel", "gate", "I", false)
  | 2 => ("KalmanQuayModel", "patience", "I", false)
  | 3 => ("KalmanQuayModel", "proof", "I", false)
  | 4 => ("KalmanQuayModel", "startVariance", "I", false)
  | 5 => ("KalmanQuayModel", "sensors", "I", false)
  | 6 => ("KalmanQuayModel", "variance", "[I", true)
  | 7 => ("KalmanQuayModel", "beats", "I", false)
  | 8 => ("KalmanQuayModel", "told", "I", false)
  | 9 => ("KalmanQuayModel", "toldSensor", "[I", true)
  | 10 => ("KalmanQuayModel", "toldPlace", "[I", true)
  | 11 => ("KalmanQuayModel", "hits", "I", false)
  | 12 => ("KalmanQuayModel", "wentTo", "[I", true)
  | 13 => ("KalmanQuayModel", "allHits", "I", false)
  | 14 => ("KalmanQuayModel", "allAssigned", "I", false)
  | 15 => ("KalmanQuayModel", "tracks", "I", false)
  | 16 => ("KalmanQuayModel", "isAlive", "[Z", true)
  | 17 => ("KalmanQuayModel", "isProven", "[Z", true)
  | 18 => ("KalmanQuayModel", "isNew", "[Z", true)
  | 19 => ("KalmanQuayModel", "isCorrected", "[Z", true)
  | 20 => ("KalmanQuayModel", "begin", "[I", true)
  | 21 => ("KalmanQuayModel", "end", "[I", true)
  | 22 => ("KalmanQuayModel", "hitBeats", "[I", true)
  | 23 => ("KalmanQuayModel", "misses", "[I", true)
  | 24 => ("KalmanQuayModel", "hitCount", "[I", true)
  | 25 => ("KalmanQuayModel", "now", "[[J", true)
  | 26 => ("KalmanQuayModel", "behind", "[[[J", true)
  | 27 => ("KalmanQuayModel", "foretold", "[[[J", true)
  | 28 => ("KalmanQuayModel", "sumW", "[J", true)
  | 29 => ("KalmanQuayModel", "sumA", "[J", true)
  | 30 => ("KalmanQuayModel", "sumB", "[J", true)
  | 31 => ("KalmanQuayModel", "sumZ", "[J", true)
  | 32 => ("KalmanQuayModel", "sumY", "[J", true)
  | 33 => ("KalmanQuayModel", "candidate", "[I", true)
  | 34 => ("KalmanQuayModel", "candidates", "I", false)
  | 35 => ("KalmanQuayModel", "seeker", "[I", true)
  | 36 => ("KalmanQuayModel", "seekers", "I", false)
  | 37 => ("KalmanQuayModel", "given", "[I", true)
  | 38 => ("KalmanQuayModel", "best", "[I", true)
  | 39 => ("KalmanQuayModel", "mostPairs", "I", false)
  | 40 => ("KalmanQuayModel", "leastCost", "J", false)
  | 41 => ("KalmanQuayModel", "smoothX", "J", false)
  | 42 => ("KalmanQuayModel", "smoothV", "J", false)
  | _ => ("KalmanQuayModel", "thrown", "I", false)
def tyX2 : Nat → FieldType := fun k => match k with
  | 0 => .int
  | 1 => .int
  | 2 => .int
  | 3 => .int
  | 4 => .int
  | 5 => .int
  | 6 => .array .int
  | 7 => .int
  | 8 => .int
  | 9 => .array .int
  | 10 => .array .int
  | 11 => .int
  | 12 => .array .int
  | 13 => .int
  | 14 => .int
  | 15 => .int
  | 16 => .array .boolean
  | 17 => .array .boolean
  | 18 => .array .boolean
  | 19 => .array .boolean
  | 20 => .array .int
  | 21 => .array .int
  | 22 => .array .int
  | 23 => .array .int
  | 24 => .array .int
  | 25 => .array (.array .long)
  | 26 => .array (.array (.array .long))
  | 27 => .array (.array (.array .long))
  | 28 => .array .long
  | 29 => .array .long
  | 30 => .array .long
  | 31 => .array .long
  | 32 => .array .long
  | 33 => .array .int
  | 34 => .int
  | 35 => .array .int
  | 36 => .int
  | 37 => .array .int
  | 38 => .array .int
  | 39 => .int
  | 40 => .long
  | 41 => .long
  | 42 => .long
  | _ => .int
abbrev wsX20 : List Cond := u_ws RX2 TX2 44
set_option maxRecDepth 100000 in
theorem nmX2 : ∀ a, a < 44 → ∀ b, b < 44 → a ≠ b → (TX2 a).2.1 ≠ (TX2 b).2.1 := by decide +kernel
set_option maxRecDepth 100000 in
theorem tyX2_ok : ∀ k, k < 44 → parseFieldDescriptor (TX2 k).2.2.1 = some (tyX2 k) := by decide +kernel
abbrev cX2_init : ByteArray := prog_9_method_1_code
def yX2_init : MethodName := ⟨RX2, "<init>", "()V"⟩
def dkwX2_init_10 : List UInt8 := [16, 6, 188, 10, 181, 0, 105, 177]
abbrev dktX2_init_10 : List UInt8 := dkwX2_init_10 ++ []
def dkwX2_init_9 : List UInt8 := [16, 8, 188, 10, 181, 0, 96, 42, 16, 6, 188, 10, 181, 0, 99, 42, 16, 6, 188, 10, 181, 0, 102, 42]
abbrev dktX2_init_9 : List UInt8 := dkwX2_init_9 ++ dktX2_init_10
def dkwX2_init_8 : List UInt8 := [16, 40, 188, 11, 181, 0, 87, 42, 16, 40, 188, 11, 181, 0, 90, 42, 16, 40, 188, 11, 181, 0, 93, 42]
abbrev dktX2_init_8 : List UInt8 := dkwX2_init_8 ++ dktX2_init_9
def dkwX2_init_7 : List UInt8 := [197, 0, 72, 3, 181, 0, 77, 42, 16, 40, 188, 11, 181, 0, 80, 42, 16, 40, 188, 11, 181, 0, 84, 42]
abbrev dktX2_init_7 : List UInt8 := dkwX2_init_7 ++ dktX2_init_8
def dkwX2_init_6 : List UInt8 := [181, 0, 69, 42, 16, 40, 16, 64, 8, 197, 0, 72, 3, 181, 0, 74, 42, 16, 40, 16, 64, 8]
abbrev dktX2_init_6 : List UInt8 := dkwX2_init_6 ++ dktX2_init_7
def dkwX2_init_5 : List UInt8 := [42, 16, 40, 188, 10, 181, 0, 61, 42, 16, 40, 188, 10, 181, 0, 64, 42, 16, 40, 8, 197, 0, 67, 2]
abbrev dktX2_init_5 : List UInt8 := dkwX2_init_5 ++ dktX2_init_6
def dkwX2_init_4 : List UInt8 := [42, 16, 40, 188, 10, 181, 0, 52, 42, 16, 40, 188, 10, 181, 0, 55, 42, 16, 40, 188, 10, 181, 0, 58]
abbrev dktX2_init_4 : List UInt8 := dkwX2_init_4 ++ dktX2_init_5
def dkwX2_init_3 : List UInt8 := [42, 16, 40, 188, 4, 181, 0, 43, 42, 16, 40, 188, 4, 181, 0, 46, 42, 16, 40, 188, 4, 181, 0, 49]
abbrev dktX2_init_3 : List UInt8 := dkwX2_init_3 ++ dktX2_init_4
def dkwX2_init_2 : List UInt8 := [42, 16, 8, 188, 10, 181, 0, 33, 42, 16, 8, 188, 10, 181, 0, 36, 42, 16, 40, 188, 4, 181, 0, 39]
abbrev dktX2_init_2 : List UInt8 := dkwX2_init_2 ++ dktX2_init_3
def dkwX2_init_1 : List UInt8 := [181, 0, 19, 42, 18, 22, 181, 0, 23, 42, 7, 188, 10, 181, 0, 26, 42, 16, 8, 188, 10, 181, 0, 30]
abbrev dktX2_init_1 : List UInt8 := dkwX2_init_1 ++ dktX2_init_2
def dkwX2_init_0 : List UInt8 := [42, 183, 0, 1, 42, 16, 16, 181, 0, 7, 42, 16, 12, 181, 0, 13, 42, 5, 181, 0, 16, 42, 5]
abbrev dktX2_init_0 : List UInt8 := dkwX2_init_0 ++ dktX2_init_1
theorem dksX2_init_0 : cX2_init.data.toList.drop 0 = dktX2_init_0 := by decide +kernel
theorem dksX2_init_1 : cX2_init.data.toList.drop 23 = dktX2_init_1 := dk_seg dksX2_init_0 23 rfl rfl
theorem dksX2_init_2 : cX2_init.data.toList.drop 47 = dktX2_init_2 := dk_seg dksX2_init_1 24 rfl rfl
theorem dksX2_init_3 : cX2_init.data.toList.drop 71 = dktX2_init_3 := dk_seg dksX2_init_2 24 rfl rfl
theorem dksX2_init_4 : cX2_init.data.toList.drop 95 = dktX2_init_4 := dk_seg dksX2_init_3 24 rfl rfl
theorem dksX2_init_5 : cX2_init.data.toList.drop 119 = dktX2_init_5 := dk_seg dksX2_init_4 24 rfl rfl
theorem dksX2_init_6 : cX2_init.data.toList.drop 143 = dktX2_init_6 := dk_seg dksX2_init_5 24 rfl rfl
theorem dksX2_init_7 : cX2_init.data.toList.drop 165 = dktX2_init_7 := dk_seg dksX2_init_6 22 rfl rfl
theorem dksX2_init_8 : cX2_init.data.toList.drop 189 = dktX2_init_8 := dk_seg dksX2_init_7 24 rfl rfl
theorem dksX2_init_9 : cX2_init.data.toList.drop 213 = dktX2_init_9 := dk_seg dksX2_init_8 24 rfl rfl
theorem dksX2_init_10 : cX2_init.data.toList.drop 237 = dktX2_init_10 := dk_seg dksX2_init_9 24 rfl rfl
theorem dX2_init_0 : decode cX2_init 0 = .ok (.aload_n 0, 1) := dk_42 (dk_at dksX2_init_0 0 rfl rfl)
theorem dX2_init_1 : decode cX2_init 1 = .ok (.invokespecial 1, 3) := dk_183 0 1 (dk_at dksX2_init_0 1 rfl rfl)
theorem dX2_init_4 : decode cX2_init 4 = .ok (.aload_n 0, 1) := dk_42 (dk_at dksX2_init_0 4 rfl rfl)
theorem dX2_init_5 : decode cX2_init 5 = .ok (.bipush 16, 2) := dk_16 16 (dk_at dksX2_init_0 5 rfl rfl)
theorem dX2_init_7 : decode cX2_init 7 = .ok (.putfield 7, 3) := dk_181 0 7 (dk_at dksX2_init_0 7 rfl rfl)
theorem dX2_init_10 : decode cX2_init 10 = .ok (.aload_n 0, 1) := dk_42 (dk_at dksX2_init_0 10 rfl rfl)
theorem dX2_init_11 : decode cX2_init 11 = .ok (.bipush 12, 2) := dk_16 12 (dk_at dksX2_init_0 11 rfl rfl)
theorem dX2_init_13 : decode cX2_init 13 = .ok (.putfield 13, 3) := dk_181 0 13 (dk_at dksX2_init_0 13 rfl rfl)
theorem dX2_init_16 : decode cX2_init 16 = .ok (.aload_n 0, 1) := dk_42 (dk_at dksX2_init_0 16 rfl rfl)
theorem dX2_init_17 : decode cX2_init 17 = .ok (.iconst 2, 1) := dk_5 (dk_at dksX2_init_0 17 rfl rfl)
theorem dX2_init_18 : decode cX2_init 18 = .ok (.putfield 16, 3) := dk_181 0 16 (dk_at dksX2_init_0 18 rfl rfl)
theorem dX2_init_21 : decode cX2_init 21 = .ok (.aload_n 0, 1) := dk_42 (dk_at dksX2_init_0 21 rfl rfl)
theorem dX2_init_22 : decode cX2_init 22 = .ok (.iconst 2, 1) := dk_5 (dk_at dksX2_init_0 22 rfl rfl)
theorem dX2_init_23 : decode cX2_init 23 = .ok (.putfield 19, 3) := dk_181 0 19 (dk_at dksX2_init_1 0 rfl rfl)
theorem dX2_init_26 : decode cX2_init 26 = .ok (.aload_n 0, 1) := dk_42 (dk_at dksX2_init_1 3 rfl rfl)
theorem dX2_init_27 : decode cX2_init 27 = .ok (.ldc 22, 2) := dk_18 22 (dk_at dksX2_init_1 4 rfl rfl)
theorem dX2_init_29 : decode cX2_init 29 = .ok (.putfield 23, 3) := dk_181 0 23 (dk_at dksX2_init_1 6 rfl rfl)
theorem dX2_init_32 : decode cX2_init 32 = .ok (.aload_n 0, 1) := dk_42 (dk_at dksX2_init_1 9 rfl rfl)
theorem dX2_init_33 : decode cX2_init 33 = .ok (.iconst 4, 1) := dk_7 (dk_at dksX2_init_1 10 rfl rfl)
theorem dX2_init_34 : decode cX2_init 34 = .ok (.newarray .int, 2) := dk_188_10 (dk_at dksX2_init_1 11 rfl rfl)
theorem dX2_init_36 : decode cX2_init 36 = .ok (.putfield 26, 3) := dk_181 0 26 (dk_at dksX2_init_1 13 rfl rfl)
theorem dX2_init_39 : decode cX2_init 39 = .ok (.aload_n 0, 1) := dk_42 (dk_at dksX2_init_1 16 rfl rfl)
theorem dX2_init_40 : decode cX2_init 40 = .ok (.bipush 8, 2) := dk_16 8 (dk_at dksX2_init_1 17 rfl rfl)
theorem dX2_init_42 : decode cX2_init 42 = .ok (.newarray .int, 2) := dk_188_10 (dk_at dksX2_init_1 19 rfl rfl)
theorem dX2_init_44 : decode cX2_init 44 = .ok (.putfield 30, 3) := dk_181 0 30 (dk_at dksX2_init_1 21 rfl rfl)
theorem dX2_init_47 : decode cX2_init 47 = .ok (.aload_n 0, 1) := dk_42 (dk_at dksX2_init_2 0 rfl rfl)
theorem dX2_init_48 : decode cX2_init 48 = .ok (.bipush 8, 2) := dk_16 8 (dk_at dksX2_init_2 1 rfl rfl)
theorem dX2_init_50 : decode cX2_init 50 = .ok (.newarray .int, 2) := dk_188_10 (dk_at dksX2_init_2 3 rfl rfl)
theorem dX2_init_52 : decode cX2_init 52 = .ok (.putfield 33, 3) := dk_181 0 33 (dk_at dksX2_init_2 5 rfl rfl)
theorem dX2_init_55 : decode cX2_init 55 = .ok (.aload_n 0, 1) := dk_42 (dk_at dksX2_init_2 8 rfl rfl)
theorem dX2_init_56 : decode cX2_init 56 = .ok (.bipush 8, 2) := dk_16 8 (dk_at dksX2_init_2 9 rfl rfl)
theorem dX2_init_58 : decode cX2_init 58 = .ok (.newarray .int, 2) := dk_188_10 (dk_at dksX2_init_2 11 rfl rfl)
theorem dX2_init_60 : decode cX2_init 60 = .ok (.putfield 36, 3) := dk_181 0 36 (dk_at dksX2_init_2 13 rfl rfl)
theorem dX2_init_63 : decode cX2_init 63 = .ok (.aload_n 0, 1) := dk_42 (dk_at dksX2_init_2 16 rfl rfl)
theorem dX2_init_64 : decode cX2_init 64 = .ok (.bipush 40, 2) := dk_16 40 (dk_at dksX2_init_2 17 rfl rfl)
theorem dX2_init_66 : decode cX2_init 66 = .ok (.newarray .boolean, 2) := dk_188_4 (dk_at dksX2_init_2 19 rfl rfl)
theorem dX2_init_68 : decode cX2_init 68 = .ok (.putfield 39, 3) := dk_181 0 39 (dk_at dksX2_init_2 21 rfl rfl)
theorem dX2_init_71 : decode cX2_init 71 = .ok (.aload_n 0, 1) := dk_42 (dk_at dksX2_init_3 0 rfl rfl)
theorem dX2_init_72 : decode cX2_init 72 = .ok (.bipush 40, 2) := dk_16 40 (dk_at dksX2_init_3 1 rfl rfl)
theorem dX2_init_74 : decode cX2_init 74 = .ok (.newarray .boolean, 2) := dk_188_4 (dk_at dksX2_init_3 3 rfl rfl)
theorem dX2_init_76 : decode cX2_init 76 = .ok (.putfield 43, 3) := dk_181 0 43 (dk_at dksX2_init_3 5 rfl rfl)
theorem dX2_init_79 : decode cX2_init 79 = .ok (.aload_n 0, 1) := dk_42 (dk_at dksX2_init_3 8 rfl rfl)
theorem dX2_init_80 : decode cX2_init 80 = .ok (.bipush 40, 2) := dk_16 40 (dk_at dksX2_init_3 9 rfl rfl)
theorem dX2_init_82 : decode cX2_init 82 = .ok (.newarray .boolean, 2) := dk_188_4 (dk_at dksX2_init_3 11 rfl rfl)
theorem dX2_init_84 : decode cX2_init 84 = .ok (.putfield 46, 3) := dk_181 0 46 (dk_at dksX2_init_3 13 rfl rfl)
theorem dX2_init_87 : decode cX2_init 87 = .ok (.aload_n 0, 1) := dk_42 (dk_at dksX2_init_3 16 rfl rfl)
theorem dX2_init_88 : decode cX2_init 88 = .ok (.bipush 40, 2) := dk_16 40 (dk_at dksX2_init_3 17 rfl rfl)
theorem dX2_init_90 : decode cX2_init 90 = .ok (.newarray .boolean, 2) := dk_188_4 (dk_at dksX2_init_3 19 rfl rfl)
theorem dX2_init_92 : decode cX2_init 92 = .ok (.putfield 49, 3) := dk_181 0 49 (dk_at dksX2_init_3 21 rfl rfl)
theorem dX2_init_95 : decode cX2_init 95 = .ok (.aload_n 0, 1) := dk_42 (dk_at dksX2_init_4 0 rfl rfl)
theorem dX2_init_96 : decode cX2_init 96 = .ok (.bipush 40, 2) := dk_16 40 (dk_at dksX2_init_4 1 rfl rfl)
theorem dX2_init_98 : decode cX2_init 98 = .ok (.newarray .int, 2) := dk_188_10 (dk_at dksX2_init_4 3 rfl rfl)
theorem dX2_init_100 : decode cX2_init 100 = .ok (.putfield 52, 3) := dk_181 0 52 (dk_at dksX2_init_4 5 rfl rfl)
theorem dX2_init_103 : decode cX2_init 103 = .ok (.aload_n 0, 1) := dk_42 (dk_at dksX2_init_4 8 rfl rfl)
theorem dX2_init_104 : decode cX2_init 104 = .ok (.bipush 40, 2) := dk_16 40 (dk_at dksX2_init_4 9 rfl rfl)
theorem dX2_init_106 : decode cX2_init 106 = .ok (.newarray .int, 2) := dk_188_10 (dk_at dksX2_init_4 11 rfl rfl)
theorem dX2_init_108 : decode cX2_init 108 = .ok (.putfield 55, 3) := dk_181 0 55 (dk_at dksX2_init_4 13 rfl rfl)
theorem dX2_init_111 : decode cX2_init 111 = .ok (.aload_n 0, 1) := dk_42 (dk_at dksX2_init_4 16 rfl rfl)
theorem dX2_init_112 : decode cX2_init 112 = .ok (.bipush 40, 2) := dk_16 40 (dk_at dksX2_init_4 17 rfl rfl)
theorem dX2_init_114 : decode cX2_init 114 = .ok (.newarray .int, 2) := dk_188_10 (dk_at dksX2_init_4 19 rfl rfl)
theorem dX2_init_116 : decode cX2_init 116 = .ok (.putfield 58, 3) := dk_181 0 58 (dk_at dksX2_init_4 21 rfl rfl)
theorem dX2_init_119 : decode cX2_init 119 = .ok (.aload_n 0, 1) := dk_42 (dk_at dksX2_init_5 0 rfl rfl)
theorem dX2_init_120 : decode cX2_init 120 = .ok (.bipush 40, 2) := dk_16 40 (dk_at dksX2_init_5 1 rfl rfl)
theorem dX2_init_122 : decode cX2_init 122 = .ok (.newarray .int, 2) := dk_188_10 (dk_at dksX2_init_5 3 rfl rfl)
theorem dX2_init_124 : decode cX2_init 124 = .ok (.putfield 61, 3) := dk_181 0 61 (dk_at dksX2_init_5 5 rfl rfl)
theorem dX2_init_127 : decode cX2_init 127 = .ok (.aload_n 0, 1) := dk_42 (dk_at dksX2_init_5 8 rfl rfl)
theorem dX2_init_128 : decode cX2_init 128 = .ok (.bipush 40, 2) := dk_16 40 (dk_at dksX2_init_5 9 rfl rfl)
theorem dX2_init_130 : decode cX2_init 130 = .ok (.newarray .int, 2) := dk_188_10 (dk_at dksX2_init_5 11 rfl rfl)
theorem dX2_init_132 : decode cX2_init 132 = .ok (.putfield 64, 3) := dk_181 0 64 (dk_at dksX2_init_5 13 rfl rfl)
theorem dX2_init_135 : decode cX2_init 135 = .ok (.aload_n 0, 1) := dk_42 (dk_at dksX2_init_5 16 rfl rfl)
theorem dX2_init_136 : decode cX2_init 136 = .ok (.bipush 40, 2) := dk_16 40 (dk_at dksX2_init_5 17 rfl rfl)
theorem dX2_init_138 : decode cX2_init 138 = .ok (.iconst 5, 1) := dk_8 (dk_at dksX2_init_5 19 rfl rfl)
theorem dX2_init_139 : decode cX2_init 139 = .ok (.multianewarray 67 2, 4) := by decide +kernel
theorem dX2_init_143 : decode cX2_init 143 = .ok (.putfield 69, 3) := dk_181 0 69 (dk_at dksX2_init_6 0 rfl rfl)
theorem dX2_init_146 : decode cX2_init 146 = .ok (.aload_n 0, 1) := dk_42 (dk_at dksX2_init_6 3 rfl rfl)
theorem dX2_init_147 : decode cX2_init 147 = .ok (.bipush 40, 2) := dk_16 40 (dk_at dksX2_init_6 4 rfl rfl)
theorem dX2_init_149 : decode cX2_init 149 = .ok (.bipush 64, 2) := dk_16 64 (dk_at dksX2_init_6 6 rfl rfl)
theorem dX2_init_151 : decode cX2_init 151 = .ok (.iconst 5, 1) := dk_8 (dk_at dksX2_init_6 8 rfl rfl)
theorem dX2_init_152 : decode cX2_init 152 = .ok (.multianewarray 72 3, 4) := by decide +kernel
theorem dX2_init_156 : decode cX2_init 156 = .ok (.putfield 74, 3) := dk_181 0 74 (dk_at dksX2_init_6 13 rfl rfl)
theorem dX2_init_159 : decode cX2_init 159 = .ok (.aload_n 0, 1) := dk_42 (dk_at dksX2_init_6 16 rfl rfl)
theorem dX2_init_160 : decode cX2_init 160 = .ok (.bipush 40, 2) := dk_16 40 (dk_at dksX2_init_6 17 rfl rfl)
theorem dX2_init_162 : decode cX2_init 162 = .ok (.bipush 64, 2) := dk_16 64 (dk_at dksX2_init_6 19 rfl rfl)
theorem dX2_init_164 : decode cX2_init 164 = .ok (.iconst 5, 1) := dk_8 (dk_at dksX2_init_6 21 rfl rfl)
theorem dX2_init_165 : decode cX2_init 165 = .ok (.multianewarray 72 3, 4) := by decide +kernel
theorem dX2_init_169 : decode cX2_init 169 = .ok (.putfield 77, 3) := dk_181 0 77 (dk_at dksX2_init_7 4 rfl rfl)
theorem dX2_init_172 : decode cX2_init 172 = .ok (.aload_n 0, 1) := dk_42 (dk_at dksX2_init_7 7 rfl rfl)
theorem dX2_init_173 : decode cX2_init 173 = .ok (.bipush 40, 2) := dk_16 40 (dk_at dksX2_init_7 8 rfl rfl)
theorem dX2_init_175 : decode cX2_init 175 = .ok (.newarray .long, 2) := dk_188_11 (dk_at dksX2_init_7 10 rfl rfl)
theorem dX2_init_177 : decode cX2_init 177 = .ok (.putfield 80, 3) := dk_181 0 80 (dk_at dksX2_init_7 12 rfl rfl)
theorem dX2_init_180 : decode cX2_init 180 = .ok (.aload_n 0, 1) := dk_42 (dk_at dksX2_init_7 15 rfl rfl)
theorem dX2_init_181 : decode cX2_init 181 = .ok (.bipush 40, 2) := dk_16 40 (dk_at dksX2_init_7 16 rfl rfl)
theorem dX2_init_183 : decode cX2_init 183 = .ok (.newarray .long, 2) := dk_188_11 (dk_at dksX2_init_7 18 rfl rfl)
theorem dX2_init_185 : decode cX2_init 185 = .ok (.putfield 84, 3) := dk_181 0 84 (dk_at dksX2_init_7 20 rfl rfl)
theorem dX2_init_188 : decode cX2_init 188 = .ok (.aload_n 0, 1) := dk_42 (dk_at dksX2_init_7 23 rfl rfl)
theorem dX2_init_189 : decode cX2_init 189 = .ok (.bipush 40, 2) := dk_16 40 (dk_at dksX2_init_8 0 rfl rfl)
theorem dX2_init_191 : decode cX2_init 191 = .ok (.newarray .long, 2) := dk_188_11 (dk_at dksX2_init_8 2 rfl rfl)
theorem dX2_init_193 : decode cX2_init 193 = .ok (.putfield 87, 3) := dk_181 0 87 (dk_at dksX2_init_8 4 rfl rfl)
theorem dX2_init_196 : decode cX2_init 196 = .ok (.aload_n 0, 1) := dk_42 (dk_at dksX2_init_8 7 rfl rfl)
theorem dX2_init_197 : decode cX2_init 197 = .ok (.bipush 40, 2) := dk_16 40 (dk_at dksX2_init_8 8 rfl rfl)
theorem dX2_init_199 : decode cX2_init 199 = .ok (.newarray .long, 2) := dk_188_11 (dk_at dksX2_init_8 10 rfl rfl)
theorem dX2_init_201 : decode cX2_init 201 = .ok (.putfield 90, 3) := dk_181 0 90 (dk_at dksX2_init_8 12 rfl rfl)
theorem dX2_init_204 : decode cX2_init 204 = .ok (.aload_n 0, 1) := dk_42 (dk_at dksX2_init_8 15 rfl rfl)
theorem dX2_init_205 : decode cX2_init 205 = .ok (.bipush 40, 2) := dk_16 40 (dk_at dksX2_init_8 16 rfl rfl)
theorem dX2_init_207 : decode cX2_init 207 = .ok (.newarray .long, 2) := dk_188_11 (dk_at dksX2_init_8 18 rfl rfl)
theorem dX2_init_209 : decode cX2_init 209 = .ok (.putfield 93, 3) := dk_181 0 93 (dk_at dksX2_init_8 20 rfl rfl)
theorem dX2_init_212 : decode cX2_init 212 = .ok (.aload_n 0, 1) := dk_42 (dk_at dksX2_init_8 23 rfl rfl)
theorem dX2_init_213 : decode cX2_init 213 = .ok (.bipush 8, 2) := dk_16 8 (dk_at dksX2_init_9 0 rfl rfl)
theorem dX2_init_215 : decode cX2_init 215 = .ok (.newarray .int, 2) := dk_188_10 (dk_at dksX2_init_9 2 rfl rfl)
theorem dX2_init_217 : decode cX2_init 217 = .ok (.putfield 96, 3) := dk_181 0 96 (dk_at dksX2_init_9 4 rfl rfl)
theorem dX2_init_220 : decode cX2_init 220 = .ok (.aload_n 0, 1) := dk_42 (dk_at dksX2_init_9 7 rfl rfl)
theorem dX2_init_221 : decode cX2_init 221 = .ok (.bipush 6, 2) := dk_16 6 (dk_at dksX2_init_9 8 rfl rfl)
theorem dX2_init_223 : decode cX2_init 223 = .ok (.newarray .int, 2) := dk_188_10 (dk_at dksX2_init_9 10 rfl rfl)
theorem dX2_init_225 : decode cX2_init 225 = .ok (.putfield 99, 3) := dk_181 0 99 (dk_at dksX2_init_9 12 rfl rfl)
theorem dX2_init_228 : decode cX2_init 228 = .ok (.aload_n 0, 1) := dk_42 (dk_at dksX2_init_9 15 rfl rfl)
theorem dX2_init_229 : decode cX2_init 229 = .ok (.bipush 6, 2) := dk_16 6 (dk_at dksX2_init_9 16 rfl rfl)
theorem dX2_init_231 : decode cX2_init 231 = .ok (.newarray .int, 2) := dk_188_10 (dk_at dksX2_init_9 18 rfl rfl)
theorem dX2_init_233 : decode cX2_init 233 = .ok (.putfield 102, 3) := dk_181 0 102 (dk_at dksX2_init_9 20 rfl rfl)
theorem dX2_init_236 : decode cX2_init 236 = .ok (.aload_n 0, 1) := dk_42 (dk_at dksX2_init_9 23 rfl rfl)
theorem dX2_init_237 : decode cX2_init 237 = .ok (.bipush 6, 2) := dk_16 6 (dk_at dksX2_init_10 0 rfl rfl)
theorem dX2_init_239 : decode cX2_init 239 = .ok (.newarray .int, 2) := dk_188_10 (dk_at dksX2_init_10 2 rfl rfl)
theorem dX2_init_241 : decode cX2_init 241 = .ok (.putfield 105, 3) := dk_181 0 105 (dk_at dksX2_init_10 4 rfl rfl)
theorem dX2_init_244 : decode cX2_init 244 = .ok (.return_, 1) := dk_177 (dk_at dksX2_init_10 7 rfl rfl)
abbrev cX2_thrown : ByteArray := prog_9_method_2_code
def yX2_thrown : MethodName := ⟨RX2, "thrown", "()I"⟩
theorem dX2_thrown_0 : decode cX2_thrown 0 = .ok (.aload_n 0, 1) := by decide +kernel
theorem dX2_thrown_1 : decode cX2_thrown 1 = .ok (.getfield 108, 3) := by decide +kernel
theorem dX2_thrown_4 : decode cX2_thrown 4 = .ok (.ireturn, 1) := by decide +kernel
abbrev cX2_begin : ByteArray := prog_9_method_7_code
def yX2_begin : MethodName := ⟨RX2, "begin", "()I"⟩
def dkwX2_begin_1 : List UInt8 := [181, 0, 124, 42, 3, 181, 0, 127, 42, 3, 181, 0, 130, 42, 3, 181, 0, 133, 42, 27, 182, 0, 136, 172]
abbrev dktX2_begin_1 : List UInt8 := dkwX2_begin_1 ++ []
def dkwX2_begin_0 : List UInt8 := [42, 180, 0, 115, 60, 42, 3, 181, 0, 115, 42, 3, 181, 0, 118, 42, 3, 181, 0, 121, 42, 3]
abbrev dktX2_begin_0 : List UInt8 := dkwX2_begin_0 ++ dktX2_begin_1
theorem dksX2_begin_0 : cX2_begin.data.toList.drop 0 = dktX2_begin_0 := by decide +kernel
theorem dksX2_begin_1 : cX2_begin.data.toList.drop 22 = dktX2_begin_1 := dk_seg dksX2_begin_0 22 rfl rfl
theorem dX2_begin_0 : decode cX2_begin 0 = .ok (.aload_n 0, 1) := dk_42 (dk_at dksX2_begin_0 0 rfl rfl)
theorem dX2_begin_1 : decode cX2_begin 1 = .ok (.getfield 115, 3) := dk_180 0 115 (dk_at dksX2_begin_0 1 rfl rfl)
theorem dX2_begin_4 : decode cX2_begin 4 = .ok (.istore_n 1, 1) := dk_60 (dk_at dksX2_begin_0 4 rfl rfl)
theorem dX2_begin_5 : decode cX2_begin 5 = .ok (.aload_n 0, 1) := dk_42 (dk_at dksX2_begin_0 5 rfl rfl)
theorem dX2_begin_6 : decode cX2_begin 6 = .ok (.iconst 0, 1) := dk_3 (dk_at dksX2_begin_0 6 rfl rfl)
theorem dX2_begin_7 : decode cX2_begin 7 = .ok (.putfield 115, 3) := dk_181 0 115 (dk_at dksX2_begin_0 7 rfl rfl)
theorem dX2_begin_10 : decode cX2_begin 10 = .ok (.aload_n 0, 1) := dk_42 (dk_at dksX2_begin_0 10 rfl rfl)
theorem dX2_begin_11 : decode cX2_begin 11 = .ok (.iconst 0, 1) := dk_3 (dk_at dksX2_begin_0 11 rfl rfl)
theorem dX2_begin_12 : decode cX2_begin 12 = .ok (.putfield 118, 3) := dk_181 0 118 (dk_at dksX2_begin_0 12 rfl rfl)
theorem dX2_begin_15 : decode cX2_begin 15 = .ok (.aload_n 0, 1) := dk_42 (dk_at dksX2_begin_0 15 rfl rfl)
theorem dX2_begin_16 : decode cX2_begin 16 = .ok (.iconst 0, 1) := dk_3 (dk_at dksX2_begin_0 16 rfl rfl)
theorem dX2_begin_17 : decode cX2_begin 17 = .ok (.putfield 121, 3) := dk_181 0 121 (dk_at dksX2_begin_0 17 rfl rfl)
theorem dX2_begin_20 : decode cX2_begin 20 = .ok (.aload_n 0, 1) := dk_42 (dk_at dksX2_begin_0 20 rfl rfl)
theorem dX2_begin_21 : decode cX2_begin 21 = .ok (.iconst 0, 1) := dk_3 (dk_at dksX2_begin_0 21 rfl rfl)
theorem dX2_begin_22 : decode cX2_begin 22 = .ok (.putfield 124, 3) := dk_181 0 124 (dk_at dksX2_begin_1 0 rfl rfl)
theorem dX2_begin_25 : decode cX2_begin 25 = .ok (.aload_n 0, 1) := dk_42 (dk_at dksX2_begin_1 3 rfl rfl)
theorem dX2_begin_26 : decode cX2_begin 26 = .ok (.iconst 0, 1) := dk_3 (dk_at dksX2_begin_1 4 rfl rfl)
theorem dX2_begin_27 : decode cX2_begin 27 = .ok (.putfield 127, 3) := dk_181 0 127 (dk_at dksX2_begin_1 5 rfl rfl)
theorem dX2_begin_30 : decode cX2_begin 30 = .ok (.aload_n 0, 1) := dk_42 (dk_at dksX2_begin_1 8 rfl rfl)
theorem dX2_begin_31 : decode cX2_begin 31 = .ok (.iconst 0, 1) := dk_3 (dk_at dksX2_begin_1 9 rfl rfl)
theorem dX2_begin_32 : decode cX2_begin 32 = .ok (.putfield 130, 3) := dk_181 0 130 (dk_at dksX2_begin_1 10 rfl rfl)
theorem dX2_begin_35 : decode cX2_begin 35 = .ok (.aload_n 0, 1) := dk_42 (dk_at dksX2_begin_1 13 rfl rfl)
theorem dX2_begin_36 : decode cX2_begin 36 = .ok (.iconst 0, 1) := dk_3 (dk_at dksX2_begin_1 14 rfl rfl)
theorem dX2_begin_37 : decode cX2_begin 37 = .ok (.putfield 133, 3) := dk_181 0 133 (dk_at dksX2_begin_1 15 rfl rfl)
theorem dX2_begin_40 : decode cX2_begin 40 = .ok (.aload_n 0, 1) := dk_42 (dk_at dksX2_begin_1 18 rfl rfl)
theorem dX2_begin_41 : decode cX2_begin 41 = .ok (.iload_n 1, 1) := dk_27 (dk_at dksX2_begin_1 19 rfl rfl)
theorem dX2_begin_42 : decode cX2_begin 42 = .ok (.invokevirtual 136, 3) := dk_182 0 136 (dk_at dksX2_begin_1 20 rfl rfl)
theorem dX2_begin_45 : decode cX2_begin 45 = .ok (.ireturn, 1) := dk_172 (dk_at dksX2_begin_1 23 rfl rfl)
abbrev cX2_tell : ByteArray := prog_9_method_6_code
def yX2_tell : MethodName := ⟨RX2, "tell", "(I)I"⟩
def dkwX2_tell_0 : List UInt8 := [42, 3, 181, 0, 108, 27, 172]
abbrev dktX2_tell_0 : List UInt8 := dkwX2_tell_0 ++ []
theorem dksX2_tell_0 : cX2_tell.data.toList.drop 0 = dktX2_tell_0 := by decide +kernel
theorem dX2_tell_0 : decode cX2_tell 0 = .ok (.aload_n 0, 1) := dk_42 (dk_at dksX2_tell_0 0 rfl rfl)
theorem dX2_tell_1 : decode cX2_tell 1 = .ok (.iconst 0, 1) := dk_3 (dk_at dksX2_tell_0 1 rfl rfl)
theorem dX2_tell_2 : decode cX2_tell 2 = .ok (.putfield 108, 3) := dk_181 0 108 (dk_at dksX2_tell_0 2 rfl rfl)
theorem dX2_tell_5 : decode cX2_tell 5 = .ok (.iload_n 1, 1) := dk_27 (dk_at dksX2_tell_0 5 rfl rfl)
theorem dX2_tell_6 : decode cX2_tell 6 = .ok (.ireturn, 1) := dk_172 (dk_at dksX2_tell_0 6 rfl rfl)
abbrev cX2_setFilter : ByteArray := prog_9_method_8_code
def yX2_setFilter : MethodName := ⟨RX2, "setFilter", "(II)I"⟩
def dkwX2_setFilter_2 : List UInt8 := [42, 27, 181, 0, 7, 42, 28, 181, 0, 13, 29, 172]
abbrev dktX2_setFilter_2 : List UInt8 := dkwX2_setFilter_2 ++ []
def dkwX2_setFilter_1 : List UInt8 := [184, 0, 140, 153, 0, 7, 4, 167, 0, 4, 3, 182, 0, 144, 154, 0, 5, 3, 172, 42, 180, 0, 7, 62]
abbrev dktX2_setFilter_1 : List UInt8 := dkwX2_setFilter_1 ++ dktX2_setFilter_2
def dkwX2_setFilter_0 : List UInt8 := [42, 27, 3, 17, 15, 160, 184, 0, 140, 153, 0, 23, 27, 7, 112, 154, 0, 17, 28, 4, 16, 40]
abbrev dktX2_setFilter_0 : List UInt8 := dkwX2_setFilter_0 ++ dktX2_setFilter_1
theorem dksX2_setFilter_0 : cX2_setFilter.data.toList.drop 0 = dktX2_setFilter_0 := by decide +kernel
theorem dksX2_setFilter_1 : cX2_setFilter.data.toList.drop 22 = dktX2_setFilter_1 := dk_seg dksX2_setFilter_0 22 rfl rfl
theorem dksX2_setFilter_2 : cX2_setFilter.data.toList.drop 46 = dktX2_setFilter_2 := dk_seg dksX2_setFilter_1 24 rfl rfl
theorem dX2_setFilter_0 : decode cX2_setFilter 0 = .ok (.aload_n 0, 1) := dk_42 (dk_at dksX2_setFilter_0 0 rfl rfl)
theorem dX2_setFilter_1 : decode cX2_setFilter 1 = .ok (.iload_n 1, 1) := dk_27 (dk_at dksX2_setFilter_0 1 rfl rfl)
theorem dX2_setFilter_2 : decode cX2_setFilter 2 = .ok (.iconst 0, 1) := dk_3 (dk_at dksX2_setFilter_0 2 rfl rfl)
theorem dX2_setFilter_3 : decode cX2_setFilter 3 = .ok (.sipush 4000, 3) := dk_17 15 160 (dk_at dksX2_setFilter_0 3 rfl rfl)
theorem dX2_setFilter_6 : decode cX2_setFilter 6 = .ok (.invokestatic 140, 3) := dk_184 0 140 (dk_at dksX2_setFilter_0 6 rfl rfl)
theorem dX2_setFilter_9 : decode cX2_setFilter 9 = .ok (.ifCond .eq 23, 3) := dk_153 0 23 (dk_at dksX2_setFilter_0 9 rfl rfl)
theorem dX2_setFilter_12 : decode cX2_setFilter 12 = .ok (.iload_n 1, 1) := dk_27 (dk_at dksX2_setFilter_0 12 rfl rfl)
theorem dX2_setFilter_13 : decode cX2_setFilter 13 = .ok (.iconst 4, 1) := dk_7 (dk_at dksX2_setFilter_0 13 rfl rfl)
theorem dX2_setFilter_14 : decode cX2_setFilter 14 = .ok (.irem, 1) := dk_112 (dk_at dksX2_setFilter_0 14 rfl rfl)
theorem dX2_setFilter_15 : decode cX2_setFilter 15 = .ok (.ifCond .ne 17, 3) := dk_154 0 17 (dk_at dksX2_setFilter_0 15 rfl rfl)
theorem dX2_setFilter_18 : decode cX2_setFilter 18 = .ok (.iload_n 2, 1) := dk_28 (dk_at dksX2_setFilter_0 18 rfl rfl)
theorem dX2_setFilter_19 : decode cX2_setFilter 19 = .ok (.iconst 1, 1) := dk_4 (dk_at dksX2_setFilter_0 19 rfl rfl)
theorem dX2_setFilter_20 : decode cX2_setFilter 20 = .ok (.bipush 40, 2) := dk_16 40 (dk_at dksX2_setFilter_0 20 rfl rfl)
theorem dX2_setFilter_22 : decode cX2_setFilter 22 = .ok (.invokestatic 140, 3) := dk_184 0 140 (dk_at dksX2_setFilter_1 0 rfl rfl)
theorem dX2_setFilter_25 : decode cX2_setFilter 25 = .ok (.ifCond .eq 7, 3) := dk_153 0 7 (dk_at dksX2_setFilter_1 3 rfl rfl)
theorem dX2_setFilter_28 : decode cX2_setFilter 28 = .ok (.iconst 1, 1) := dk_4 (dk_at dksX2_setFilter_1 6 rfl rfl)
theorem dX2_setFilter_29 : decode cX2_setFilter 29 = .ok (.goto 4, 3) := dk_167 0 4 (dk_at dksX2_setFilter_1 7 rfl rfl)
theorem dX2_setFilter_32 : decode cX2_setFilter 32 = .ok (.iconst 0, 1) := dk_3 (dk_at dksX2_setFilter_1 10 rfl rfl)
theorem dX2_setFilter_33 : decode cX2_setFilter 33 = .ok (.invokevirtual 144, 3) := dk_182 0 144 (dk_at dksX2_setFilter_1 11 rfl rfl)
theorem dX2_setFilter_36 : decode cX2_setFilter 36 = .ok (.ifCond .ne 5, 3) := dk_154 0 5 (dk_at dksX2_setFilter_1 14 rfl rfl)
theorem dX2_setFilter_39 : decode cX2_setFilter 39 = .ok (.iconst 0, 1) := dk_3 (dk_at dksX2_setFilter_1 17 rfl rfl)
theorem dX2_setFilter_40 : decode cX2_setFilter 40 = .ok (.ireturn, 1) := dk_172 (dk_at dksX2_setFilter_1 18 rfl rfl)
theorem dX2_setFilter_41 : decode cX2_setFilter 41 = .ok (.aload_n 0, 1) := dk_42 (dk_at dksX2_setFilter_1 19 rfl rfl)
theorem dX2_setFilter_42 : decode cX2_setFilter 42 = .ok (.getfield 7, 3) := dk_180 0 7 (dk_at dksX2_setFilter_1 20 rfl rfl)
theorem dX2_setFilter_45 : decode cX2_setFilter 45 = .ok (.istore_n 3, 1) := dk_62 (dk_at dksX2_setFilter_1 23 rfl rfl)
theorem dX2_setFilter_46 : decode cX2_setFilter 46 = .ok (.aload_n 0, 1) := dk_42 (dk_at dksX2_setFilter_2 0 rfl rfl)
theorem dX2_setFilter_47 : decode cX2_setFilter 47 = .ok (.iload_n 1, 1) := dk_27 (dk_at dksX2_setFilter_2 1 rfl rfl)
theorem dX2_setFilter_48 : decode cX2_setFilter 48 = .ok (.putfield 7, 3) := dk_181 0 7 (dk_at dksX2_setFilter_2 2 rfl rfl)
theorem dX2_setFilter_51 : decode cX2_setFilter 51 = .ok (.aload_n 0, 1) := dk_42 (dk_at dksX2_setFilter_2 5 rfl rfl)
theorem dX2_setFilter_52 : decode cX2_setFilter 52 = .ok (.iload_n 2, 1) := dk_28 (dk_at dksX2_setFilter_2 6 rfl rfl)
theorem dX2_setFilter_53 : decode cX2_setFilter 53 = .ok (.putfield 13, 3) := dk_181 0 13 (dk_at dksX2_setFilter_2 7 rfl rfl)
theorem dX2_setFilter_56 : decode cX2_setFilter 56 = .ok (.iload_n 3, 1) := dk_29 (dk_at dksX2_setFilter_2 10 rfl rfl)
theorem dX2_setFilter_57 : decode cX2_setFilter 57 = .ok (.ireturn, 1) := dk_172 (dk_at dksX2_setFilter_2 11 rfl rfl)
abbrev cX2_in : ByteArray := prog_9_method_3_code
def yX2_in : MethodName := ⟨RX2, "in", "(III)Z"⟩
def dkwX2_in_0 : List UInt8 := [27, 26, 163, 0, 12, 26, 28, 163, 0, 7, 4, 167, 0, 4, 3, 172]
abbrev dktX2_in_0 : List UInt8 := dkwX2_in_0 ++ []
theorem dksX2_in_0 : cX2_in.data.toList.drop 0 = dktX2_in_0 := by decide +kernel
theorem dX2_in_0 : decode cX2_in 0 = .ok (.iload_n 1, 1) := dk_27 (dk_at dksX2_in_0 0 rfl rfl)
theorem dX2_in_1 : decode cX2_in 1 = .ok (.iload_n 0, 1) := dk_26 (dk_at dksX2_in_0 1 rfl rfl)
theorem dX2_in_2 : decode cX2_in 2 = .ok (.if_icmp .gt 12, 3) := dk_163 0 12 (dk_at dksX2_in_0 2 rfl rfl)
theorem dX2_in_5 : decode cX2_in 5 = .ok (.iload_n 0, 1) := dk_26 (dk_at dksX2_in_0 5 rfl rfl)
theorem dX2_in_6 : decode cX2_in 6 = .ok (.iload_n 2, 1) := dk_28 (dk_at dksX2_in_0 6 rfl rfl)
theorem dX2_in_7 : decode cX2_in 7 = .ok (.if_icmp .gt 7, 3) := dk_163 0 7 (dk_at dksX2_in_0 7 rfl rfl)
theorem dX2_in_10 : decode cX2_in 10 = .ok (.iconst 1, 1) := dk_4 (dk_at dksX2_in_0 10 rfl rfl)
theorem dX2_in_11 : decode cX2_in 11 = .ok (.goto 4, 3) := dk_167 0 4 (dk_at dksX2_in_0 11 rfl rfl)
theorem dX2_in_14 : decode cX2_in 14 = .ok (.iconst 0, 1) := dk_3 (dk_at dksX2_in_0 14 rfl rfl)
theorem dX2_in_15 : decode cX2_in 15 = .ok (.ireturn, 1) := dk_172 (dk_at dksX2_in_0 15 rfl rfl)
abbrev cX2_claimFirst : ByteArray := prog_9_method_5_code
def yX2_claimFirst : MethodName := ⟨RX2, "claimFirst", "(Z)Z"⟩
def dkwX2_claimFirst_0 : List UInt8 := [42, 3, 181, 0, 108, 42, 27, 4, 182, 0, 111, 172]
abbrev dktX2_claimFirst_0 : List UInt8 := dkwX2_claimFirst_0 ++ []
theorem dksX2_claimFirst_0 : cX2_claimFirst.data.toList.drop 0 = dktX2_claimFirst_0 := by decide +kernel
theorem dX2_claimFirst_0 : decode cX2_claimFirst 0 = .ok (.aload_n 0, 1) := dk_42 (dk_at dksX2_claimFirst_0 0 rfl rfl)
theorem dX2_claimFirst_1 : decode cX2_claimFirst 1 = .ok (.iconst 0, 1) := dk_3 (dk_at dksX2_claimFirst_0 1 rfl rfl)
theorem dX2_claimFirst_2 : decode cX2_claimFirst 2 = .ok (.putfield 108, 3) := dk_181 0 108 (dk_at dksX2_claimFirst_0 2 rfl rfl)
theorem dX2_claimFirst_5 : decode cX2_claimFirst 5 = .ok (.aload_n 0, 1) := dk_42 (dk_at dksX2_claimFirst_0 5 rfl rfl)
theorem dX2_claimFirst_6 : decode cX2_claimFirst 6 = .ok (.iload_n 1, 1) := dk_27 (dk_at dksX2_claimFirst_0 6 rfl rfl)
theorem dX2_claimFirst_7 : decode cX2_claimFirst 7 = .ok (.iconst 1, 1) := dk_4 (dk_at dksX2_claimFirst_0 7 rfl rfl)
theorem dX2_claimFirst_8 : decode cX2_claimFirst 8 = .ok (.invokevirtual 111, 3) := dk_182 0 111 (dk_at dksX2_claimFirst_0 8 rfl rfl)
theorem dX2_claimFirst_11 : decode cX2_claimFirst 11 = .ok (.ireturn, 1) := dk_172 (dk_at dksX2_claimFirst_0 11 rfl rfl)
abbrev cX2_claim : ByteArray := prog_9_method_4_code
def yX2_claim : MethodName := ⟨RX2, "claim", "(ZI)Z"⟩
def dkwX2_claim_0 : List UInt8 := [27, 154, 0, 8, 42, 28, 181, 0, 108, 27, 172]
abbrev dktX2_claim_0 : List UInt8 := dkwX2_claim_0 ++ []
theorem dksX2_claim_0 : cX2_claim.data.toList.drop 0 = dktX2_claim_0 := by decide +kernel
theorem dX2_claim_0 : decode cX2_claim 0 = .ok (.iload_n 1, 1) := dk_27 (dk_at dksX2_claim_0 0 rfl rfl)
theorem dX2_claim_1 : decode cX2_claim 1 = .ok (.ifCond .ne 8, 3) := dk_154 0 8 (dk_at dksX2_claim_0 1 rfl rfl)
theorem dX2_claim_4 : decode cX2_claim 4 = .ok (.aload_n 0, 1) := dk_42 (dk_at dksX2_claim_0 4 rfl rfl)
theorem dX2_claim_5 : decode cX2_claim 5 = .ok (.iload_n 2, 1) := dk_28 (dk_at dksX2_claim_0 5 rfl rfl)
theorem dX2_claim_6 : decode cX2_claim 6 = .ok (.putfield 108, 3) := dk_181 0 108 (dk_at dksX2_claim_0 6 rfl rfl)
theorem dX2_claim_9 : decode cX2_claim 9 = .ok (.iload_n 1, 1) := dk_27 (dk_at dksX2_claim_0 9 rfl rfl)
theorem dX2_claim_10 : decode cX2_claim 10 = .ok (.ireturn, 1) := dk_172 (dk_at dksX2_claim_0 10 rfl rfl)
abbrev cX2_setTracks : ByteArray := prog_9_method_9_code
def yX2_setTracks : MethodName := ⟨RX2, "setTracks", "(III)I"⟩
def dkwX2_setTracks_2 : List UInt8 := [54, 4, 42, 27, 181, 0, 16, 42, 28, 181, 0, 19, 42, 29, 181, 0, 23, 21, 4, 172]
abbrev dktX2_setTracks_2 : List UInt8 := dkwX2_setTracks_2 ++ []
def dkwX2_setTracks_1 : List UInt8 := [184, 0, 140, 153, 0, 7, 4, 167, 0, 4, 3, 182, 0, 144, 154, 0, 5, 3, 172, 42, 180, 0, 16]
abbrev dktX2_setTracks_1 : List UInt8 := dkwX2_setTracks_1 ++ dktX2_setTracks_2
def dkwX2_setTracks_0 : List UInt8 := [42, 27, 3, 16, 9, 184, 0, 140, 153, 0, 26, 28, 4, 8, 184, 0, 140, 153, 0, 17, 29, 4, 18, 148]
abbrev dktX2_setTracks_0 : List UInt8 := dkwX2_setTracks_0 ++ dktX2_setTracks_1
theorem dksX2_setTracks_0 : cX2_setTracks.data.toList.drop 0 = dktX2_setTracks_0 := by decide +kernel
theorem dksX2_setTracks_1 : cX2_setTracks.data.toList.drop 24 = dktX2_setTracks_1 := dk_seg dksX2_setTracks_0 24 rfl rfl
theorem dksX2_setTracks_2 : cX2_setTracks.data.toList.drop 47 = dktX2_setTracks_2 := dk_seg dksX2_setTracks_1 23 rfl rfl
theorem dX2_setTracks_0 : decode cX2_setTracks 0 = .ok (.aload_n 0, 1) := dk_42 (dk_at dksX2_setTracks_0 0 rfl rfl)
theorem dX2_setTracks_1 : decode cX2_setTracks 1 = .ok (.iload_n 1, 1) := dk_27 (dk_at dksX2_setTracks_0 1 rfl rfl)
theorem dX2_setTracks_2 : decode cX2_setTracks 2 = .ok (.iconst 0, 1) := dk_3 (dk_at dksX2_setTracks_0 2 rfl rfl)
theorem dX2_setTracks_3 : decode cX2_setTracks 3 = .ok (.bipush 9, 2) := dk_16 9 (dk_at dksX2_setTracks_0 3 rfl rfl)
theorem dX2_setTracks_5 : decode cX2_setTracks 5 = .ok (.invokestatic 140, 3) := dk_184 0 140 (dk_at dksX2_setTracks_0 5 rfl rfl)
theorem dX2_setTracks_8 : decode cX2_setTracks 8 = .ok (.ifCond .eq 26, 3) := dk_153 0 26 (dk_at dksX2_setTracks_0 8 rfl rfl)
theorem dX2_setTracks_11 : decode cX2_setTracks 11 = .ok (.iload_n 2, 1) := dk_28 (dk_at dksX2_setTracks_0 11 rfl rfl)
theorem dX2_setTracks_12 : decode cX2_setTracks 12 = .ok (.iconst 1, 1) := dk_4 (dk_at dksX2_setTracks_0 12 rfl rfl)
theorem dX2_setTracks_13 : decode cX2_setTracks 13 = .ok (.iconst 5, 1) := dk_8 (dk_at dksX2_setTracks_0 13 rfl rfl)
theorem dX2_setTracks_14 : decode cX2_setTracks 14 = .ok (.invokestatic 140, 3) := dk_184 0 140 (dk_at dksX2_setTracks_0 14 rfl rfl)
theorem dX2_setTracks_17 : decode cX2_setTracks 17 = .ok (.ifCond .eq 17, 3) := dk_153 0 17 (dk_at dksX2_setTracks_0 17 rfl rfl)
theorem dX2_setTracks_20 : decode cX2_setTracks 20 = .ok (.iload_n 3, 1) := dk_29 (dk_at dksX2_setTracks_0 20 rfl rfl)
theorem dX2_setTracks_21 : decode cX2_setTracks 21 = .ok (.iconst 1, 1) := dk_4 (dk_at dksX2_setTracks_0 21 rfl rfl)
theorem dX2_setTracks_22 : decode cX2_setTracks 22 = .ok (.ldc 148, 2) := dk_18 148 (dk_at dksX2_setTracks_0 22 rfl rfl)
theorem dX2_setTracks_24 : decode cX2_setTracks 24 = .ok (.invokestatic 140, 3) := dk_184 0 140 (dk_at dksX2_setTracks_1 0 rfl rfl)
theorem dX2_setTracks_27 : decode cX2_setTracks 27 = .ok (.ifCond .eq 7, 3) := dk_153 0 7 (dk_at dksX2_setTracks_1 3 rfl rfl)
theorem dX2_setTracks_30 : decode cX2_setTracks 30 = .ok (.iconst 1, 1) := dk_4 (dk_at dksX2_setTracks_1 6 rfl rfl)
theorem dX2_setTracks_31 : decode cX2_setTracks 31 = .ok (.goto 4, 3) := dk_167 0 4 (dk_at dksX2_setTracks_1 7 rfl rfl)
theorem dX2_setTracks_34 : decode cX2_setTracks 34 = .ok (.iconst 0, 1) := dk_3 (dk_at dksX2_setTracks_1 10 rfl rfl)
theorem dX2_setTracks_35 : decode cX2_setTracks 35 = .ok (.invokevirtual 144, 3) := dk_182 0 144 (dk_at dksX2_setTracks_1 11 rfl rfl)
theorem dX2_setTracks_38 : decode cX2_setTracks 38 = .ok (.ifCond .ne 5, 3) := dk_154 0 5 (dk_at dksX2_setTracks_1 14 rfl rfl)
theorem dX2_setTracks_41 : decode cX2_setTracks 41 = .ok (.iconst 0, 1) := dk_3 (dk_at dksX2_setTracks_1 17 rfl rfl)
theorem dX2_setTracks_42 : decode cX2_setTracks 42 = .ok (.ireturn, 1) := dk_172 (dk_at dksX2_setTracks_1 18 rfl rfl)
theorem dX2_setTracks_43 : decode cX2_setTracks 43 = .ok (.aload_n 0, 1) := dk_42 (dk_at dksX2_setTracks_1 19 rfl rfl)
theorem dX2_setTracks_44 : decode cX2_setTracks 44 = .ok (.getfield 16, 3) := dk_180 0 16 (dk_at dksX2_setTracks_1 20 rfl rfl)
theorem dX2_setTracks_47 : decode cX2_setTracks 47 = .ok (.istore 4, 2) := dk_54 4 (dk_at dksX2_setTracks_2 0 rfl rfl)
theorem dX2_setTracks_49 : decode cX2_setTracks 49 = .ok (.aload_n 0, 1) := dk_42 (dk_at dksX2_setTracks_2 2 rfl rfl)
theorem dX2_setTracks_50 : decode cX2_setTracks 50 = .ok (.iload_n 1, 1) := dk_27 (dk_at dksX2_setTracks_2 3 rfl rfl)
theorem dX2_setTracks_51 : decode cX2_setTracks 51 = .ok (.putfield 16, 3) := dk_181 0 16 (dk_at dksX2_setTracks_2 4 rfl rfl)
theorem dX2_setTracks_54 : decode cX2_setTracks 54 = .ok (.aload_n 0, 1) := dk_42 (dk_at dksX2_setTracks_2 7 rfl rfl)
theorem dX2_setTracks_55 : decode cX2_setTracks 55 = .ok (.iload_n 2, 1) := dk_28 (dk_at dksX2_setTracks_2 8 rfl rfl)
theorem dX2_setTracks_56 : decode cX2_setTracks 56 = .ok (.putfield 19, 3) := dk_181 0 19 (dk_at dksX2_setTracks_2 9 rfl rfl)
theorem dX2_setTracks_59 : decode cX2_setTracks 59 = .ok (.aload_n 0, 1) := dk_42 (dk_at dksX2_setTracks_2 12 rfl rfl)
theorem dX2_setTracks_60 : decode cX2_setTracks 60 = .ok (.iload_n 3, 1) := dk_29 (dk_at dksX2_setTracks_2 13 rfl rfl)
theorem dX2_setTracks_61 : decode cX2_setTracks 61 = .ok (.putfield 23, 3) := dk_181 0 23 (dk_at dksX2_setTracks_2 14 rfl rfl)
theorem dX2_setTracks_64 : decode cX2_setTracks 64 = .ok (.iload 4, 2) := dk_21 4 (dk_at dksX2_setTracks_2 17 rfl rfl)
theorem dX2_setTracks_66 : decode cX2_setTracks 66 = .ok (.ireturn, 1) := dk_172 (dk_at dksX2_setTracks_2 19 rfl rfl)
abbrev cX2_addSensor : ByteArray := prog_9_method_10_code
def yX2_addSensor : MethodName := ⟨RX2, "addSensor", "(I)I"⟩
def dkwX2_addSensor_2 : List UInt8 := [89, 180, 0, 133, 4, 96, 181, 0, 133, 42, 180, 0, 133, 4, 100, 172]
abbrev dktX2_addSensor_2 : List UInt8 := dkwX2_addSensor_2 ++ []
def dkwX2_addSensor_1 : List UInt8 := [167, 0, 4, 3, 5, 182, 0, 111, 154, 0, 5, 3, 172, 42, 180, 0, 26, 42, 180, 0, 133, 27, 79, 42]
abbrev dktX2_addSensor_1 : List UInt8 := dkwX2_addSensor_1 ++ dktX2_addSensor_2
def dkwX2_addSensor_0 : List UInt8 := [42, 27, 4, 18, 22, 184, 0, 140, 182, 0, 144, 153, 0, 24, 42, 42, 180, 0, 133, 7, 162, 0, 7, 4]
abbrev dktX2_addSensor_0 : List UInt8 := dkwX2_addSensor_0 ++ dktX2_addSensor_1
theorem dksX2_addSensor_0 : cX2_addSensor.data.toList.drop 0 = dktX2_addSensor_0 := by decide +kernel
theorem dksX2_addSensor_1 : cX2_addSensor.data.toList.drop 24 = dktX2_addSensor_1 := dk_seg dksX2_addSensor_0 24 rfl rfl
theorem dksX2_addSensor_2 : cX2_addSensor.data.toList.drop 48 = dktX2_addSensor_2 := dk_seg dksX2_addSensor_1 24 rfl rfl
theorem dX2_addSensor_0 : decode cX2_addSensor 0 = .ok (.aload_n 0, 1) := dk_42 (dk_at dksX2_addSensor_0 0 rfl rfl)
theorem dX2_addSensor_1 : decode cX2_addSensor 1 = .ok (.iload_n 1, 1) := dk_27 (dk_at dksX2_addSensor_0 1 rfl rfl)
theorem dX2_addSensor_2 : decode cX2_addSensor 2 = .ok (.iconst 1, 1) := dk_4 (dk_at dksX2_addSensor_0 2 rfl rfl)
theorem dX2_addSensor_3 : decode cX2_addSensor 3 = .ok (.ldc 22, 2) := dk_18 22 (dk_at dksX2_addSensor_0 3 rfl rfl)
theorem dX2_addSensor_5 : decode cX2_addSensor 5 = .ok (.invokestatic 140, 3) := dk_184 0 140 (dk_at dksX2_addSensor_0 5 rfl rfl)
theorem dX2_addSensor_8 : decode cX2_addSensor 8 = .ok (.invokevirtual 144, 3) := dk_182 0 144 (dk_at dksX2_addSensor_0 8 rfl rfl)
theorem dX2_addSensor_11 : decode cX2_addSensor 11 = .ok (.ifCond .eq 24, 3) := dk_153 0 24 (dk_at dksX2_addSensor_0 11 rfl rfl)
theorem dX2_addSensor_14 : decode cX2_addSensor 14 = .ok (.aload_n 0, 1) := dk_42 (dk_at dksX2_addSensor_0 14 rfl rfl)
theorem dX2_addSensor_15 : decode cX2_addSensor 15 = .ok (.aload_n 0, 1) := dk_42 (dk_at dksX2_addSensor_0 15 rfl rfl)
theorem dX2_addSensor_16 : decode cX2_addSensor 16 = .ok (.getfield 133, 3) := dk_180 0 133 (dk_at dksX2_addSensor_0 16 rfl rfl)
theorem dX2_addSensor_19 : decode cX2_addSensor 19 = .ok (.iconst 4, 1) := dk_7 (dk_at dksX2_addSensor_0 19 rfl rfl)
theorem dX2_addSensor_20 : decode cX2_addSensor 20 = .ok (.if_icmp .ge 7, 3) := dk_162 0 7 (dk_at dksX2_addSensor_0 20 rfl rfl)
theorem dX2_addSensor_23 : decode cX2_addSensor 23 = .ok (.iconst 1, 1) := dk_4 (dk_at dksX2_addSensor_0 23 rfl rfl)
theorem dX2_addSensor_24 : decode cX2_addSensor 24 = .ok (.goto 4, 3) := dk_167 0 4 (dk_at dksX2_addSensor_1 0 rfl rfl)
theorem dX2_addSensor_27 : decode cX2_addSensor 27 = .ok (.iconst 0, 1) := dk_3 (dk_at dksX2_addSensor_1 3 rfl rfl)
theorem dX2_addSensor_28 : decode cX2_addSensor 28 = .ok (.iconst 2, 1) := dk_5 (dk_at dksX2_addSensor_1 4 rfl rfl)
theorem dX2_addSensor_29 : decode cX2_addSensor 29 = .ok (.invokevirtual 111, 3) := dk_182 0 111 (dk_at dksX2_addSensor_1 5 rfl rfl)
theorem dX2_addSensor_32 : decode cX2_addSensor 32 = .ok (.ifCond .ne 5, 3) := dk_154 0 5 (dk_at dksX2_addSensor_1 8 rfl rfl)
theorem dX2_addSensor_35 : decode cX2_addSensor 35 = .ok (.iconst 0, 1) := dk_3 (dk_at dksX2_addSensor_1 11 rfl rfl)
theorem dX2_addSensor_36 : decode cX2_addSensor 36 = .ok (.ireturn, 1) := dk_172 (dk_at dksX2_addSensor_1 12 rfl rfl)
theorem dX2_addSensor_37 : decode cX2_addSensor 37 = .ok (.aload_n 0, 1) := dk_42 (dk_at dksX2_addSensor_1 13 rfl rfl)
theorem dX2_addSensor_38 : decode cX2_addSensor 38 = .ok (.getfield 26, 3) := dk_180 0 26 (dk_at dksX2_addSensor_1 14 rfl rfl)
theorem dX2_addSensor_41 : decode cX2_addSensor 41 = .ok (.aload_n 0, 1) := dk_42 (dk_at dksX2_addSensor_1 17 rfl rfl)
theorem dX2_addSensor_42 : decode cX2_addSensor 42 = .ok (.getfield 133, 3) := dk_180 0 133 (dk_at dksX2_addSensor_1 18 rfl rfl)
theorem dX2_addSensor_45 : decode cX2_addSensor 45 = .ok (.iload_n 1, 1) := dk_27 (dk_at dksX2_addSensor_1 21 rfl rfl)
theorem dX2_addSensor_46 : decode cX2_addSensor 46 = .ok (.iastore, 1) := dk_79 (dk_at dksX2_addSensor_1 22 rfl rfl)
theorem dX2_addSensor_47 : decode cX2_addSensor 47 = .ok (.aload_n 0, 1) := dk_42 (dk_at dksX2_addSensor_1 23 rfl rfl)
theorem dX2_addSensor_48 : decode cX2_addSensor 48 = .ok (.dup, 1) := dk_89 (dk_at dksX2_addSensor_2 0 rfl rfl)
theorem dX2_addSensor_49 : decode cX2_addSensor 49 = .ok (.getfield 133, 3) := dk_180 0 133 (dk_at dksX2_addSensor_2 1 rfl rfl)
theorem dX2_addSensor_52 : decode cX2_addSensor 52 = .ok (.iconst 1, 1) := dk_4 (dk_at dksX2_addSensor_2 4 rfl rfl)
theorem dX2_addSensor_53 : decode cX2_addSensor 53 = .ok (.iadd, 1) := dk_96 (dk_at dksX2_addSensor_2 5 rfl rfl)
theorem dX2_addSensor_54 : decode cX2_addSensor 54 = .ok (.putfield 133, 3) := dk_181 0 133 (dk_at dksX2_addSensor_2 6 rfl rfl)
theorem dX2_addSensor_57 : decode cX2_addSensor 57 = .ok (.aload_n 0, 1) := dk_42 (dk_at dksX2_addSensor_2 9 rfl rfl)
theorem dX2_addSensor_58 : decode cX2_addSensor 58 = .ok (.getfield 133, 3) := dk_180 0 133 (dk_at dksX2_addSensor_2 10 rfl rfl)
theorem dX2_addSensor_61 : decode cX2_addSensor 61 = .ok (.iconst 1, 1) := dk_4 (dk_at dksX2_addSensor_2 13 rfl rfl)
theorem dX2_addSensor_62 : decode cX2_addSensor 62 = .ok (.isub, 1) := dk_100 (dk_at dksX2_addSensor_2 14 rfl rfl)
theorem dX2_addSensor_63 : decode cX2_addSensor 63 = .ok (.ireturn, 1) := dk_172 (dk_at dksX2_addSensor_2 15 rfl rfl)
abbrev cX2_sensorCount : ByteArray := prog_9_method_11_code
def yX2_sensorCount : MethodName := ⟨RX2, "sensorCount", "()I"⟩
def dkwX2_sensorCount_0 : List UInt8 := [42, 42, 180, 0, 133, 182, 0, 136, 172]
abbrev dktX2_sensorCount_0 : List UInt8 := dkwX2_sensorCount_0 ++ []
theorem dksX2_sensorCount_0 : cX2_sensorCount.data.toList.drop 0 = dktX2_sensorCount_0 := by decide +kernel
theorem dX2_sensorCount_0 : decode cX2_sensorCount 0 = .ok (.aload_n 0, 1) := dk_42 (dk_at dksX2_sensorCount_0 0 rfl rfl)
theorem dX2_sensorCount_1 : decode cX2_sensorCount 1 = .ok (.aload_n 0, 1) := dk_42 (dk_at dksX2_sensorCount_0 1 rfl rfl)
theorem dX2_sensorCount_2 : decode cX2_sensorCount 2 = .ok (.getfield 133, 3) := dk_180 0 133 (dk_at dksX2_sensorCount_0 2 rfl rfl)
theorem dX2_sensorCount_5 : decode cX2_sensorCount 5 = .ok (.invokevirtual 136, 3) := dk_182 0 136 (dk_at dksX2_sensorCount_0 5 rfl rfl)
theorem dX2_sensorCount_8 : decode cX2_sensorCount 8 = .ok (.ireturn, 1) := dk_172 (dk_at dksX2_sensorCount_0 8 rfl rfl)
abbrev cX2_hit : ByteArray := prog_9_method_12_code
def yX2_hit : MethodName := ⟨RX2, "hit", "(II)I"⟩
def dkwX2_hit_4 : List UInt8 := [181, 0, 118, 42, 180, 0, 118, 4, 100, 172]
abbrev dktX2_hit_4 : List UInt8 := dkwX2_hit_4 ++ []
def dkwX2_hit_3 : List UInt8 := [180, 0, 118, 27, 79, 42, 180, 0, 33, 42, 180, 0, 118, 28, 79, 42, 89, 180, 0, 118, 4, 96]
abbrev dktX2_hit_3 : List UInt8 := dkwX2_hit_3 ++ dktX2_hit_4
def dkwX2_hit_2 : List UInt8 := [16, 64, 162, 0, 7, 4, 167, 0, 4, 3, 6, 182, 0, 111, 154, 0, 5, 3, 172, 42, 180, 0, 30, 42]
abbrev dktX2_hit_2 : List UInt8 := dkwX2_hit_2 ++ dktX2_hit_3
def dkwX2_hit_1 : List UInt8 := [184, 0, 140, 5, 182, 0, 111, 153, 0, 34, 42, 42, 180, 0, 118, 16, 8, 162, 0, 16, 42, 180, 0, 115]
abbrev dktX2_hit_1 : List UInt8 := dkwX2_hit_1 ++ dktX2_hit_2
def dkwX2_hit_0 : List UInt8 := [42, 27, 3, 42, 180, 0, 133, 4, 100, 184, 0, 140, 182, 0, 144, 153, 0, 50, 42, 28, 18, 149, 18, 150]
abbrev dktX2_hit_0 : List UInt8 := dkwX2_hit_0 ++ dktX2_hit_1
theorem dksX2_hit_0 : cX2_hit.data.toList.drop 0 = dktX2_hit_0 := by decide +kernel
theorem dksX2_hit_1 : cX2_hit.data.toList.drop 24 = dktX2_hit_1 := dk_seg dksX2_hit_0 24 rfl rfl
theorem dksX2_hit_2 : cX2_hit.data.toList.drop 48 = dktX2_hit_2 := dk_seg dksX2_hit_1 24 rfl rfl
theorem dksX2_hit_3 : cX2_hit.data.toList.drop 72 = dktX2_hit_3 := dk_seg dksX2_hit_2 24 rfl rfl
theorem dksX2_hit_4 : cX2_hit.data.toList.drop 94 = dktX2_hit_4 := dk_seg dksX2_hit_3 22 rfl rfl
theorem dX2_hit_0 : decode cX2_hit 0 = .ok (.aload_n 0, 1) := dk_42 (dk_at dksX2_hit_0 0 rfl rfl)
theorem dX2_hit_1 : decode cX2_hit 1 = .ok (.iload_n 1, 1) := dk_27 (dk_at dksX2_hit_0 1 rfl rfl)
theorem dX2_hit_2 : decode cX2_hit 2 = .ok (.iconst 0, 1) := dk_3 (dk_at dksX2_hit_0 2 rfl rfl)
theorem dX2_hit_3 : decode cX2_hit 3 = .ok (.aload_n 0, 1) := dk_42 (dk_at dksX2_hit_0 3 rfl rfl)
theorem dX2_hit_4 : decode cX2_hit 4 = .ok (.getfield 133, 3) := dk_180 0 133 (dk_at dksX2_hit_0 4 rfl rfl)
theorem dX2_hit_7 : decode cX2_hit 7 = .ok (.iconst 1, 1) := dk_4 (dk_at dksX2_hit_0 7 rfl rfl)
theorem dX2_hit_8 : decode cX2_hit 8 = .ok (.isub, 1) := dk_100 (dk_at dksX2_hit_0 8 rfl rfl)
theorem dX2_hit_9 : decode cX2_hit 9 = .ok (.invokestatic 140, 3) := dk_184 0 140 (dk_at dksX2_hit_0 9 rfl rfl)
theorem dX2_hit_12 : decode cX2_hit 12 = .ok (.invokevirtual 144, 3) := dk_182 0 144 (dk_at dksX2_hit_0 12 rfl rfl)
theorem dX2_hit_15 : decode cX2_hit 15 = .ok (.ifCond .eq 50, 3) := dk_153 0 50 (dk_at dksX2_hit_0 15 rfl rfl)
theorem dX2_hit_18 : decode cX2_hit 18 = .ok (.aload_n 0, 1) := dk_42 (dk_at dksX2_hit_0 18 rfl rfl)
theorem dX2_hit_19 : decode cX2_hit 19 = .ok (.iload_n 2, 1) := dk_28 (dk_at dksX2_hit_0 19 rfl rfl)
theorem dX2_hit_20 : decode cX2_hit 20 = .ok (.ldc 149, 2) := dk_18 149 (dk_at dksX2_hit_0 20 rfl rfl)
theorem dX2_hit_22 : decode cX2_hit 22 = .ok (.ldc 150, 2) := dk_18 150 (dk_at dksX2_hit_0 22 rfl rfl)
theorem dX2_hit_24 : decode cX2_hit 24 = .ok (.invokestatic 140, 3) := dk_184 0 140 (dk_at dksX2_hit_1 0 rfl rfl)
theorem dX2_hit_27 : decode cX2_hit 27 = .ok (.iconst 2, 1) := dk_5 (dk_at dksX2_hit_1 3 rfl rfl)
theorem dX2_hit_28 : decode cX2_hit 28 = .ok (.invokevirtual 111, 3) := dk_182 0 111 (dk_at dksX2_hit_1 4 rfl rfl)
theorem dX2_hit_31 : decode cX2_hit 31 = .ok (.ifCond .eq 34, 3) := dk_153 0 34 (dk_at dksX2_hit_1 7 rfl rfl)
theorem dX2_hit_34 : decode cX2_hit 34 = .ok (.aload_n 0, 1) := dk_42 (dk_at dksX2_hit_1 10 rfl rfl)
theorem dX2_hit_35 : decode cX2_hit 35 = .ok (.aload_n 0, 1) := dk_42 (dk_at dksX2_hit_1 11 rfl rfl)
theorem dX2_hit_36 : decode cX2_hit 36 = .ok (.getfield 118, 3) := dk_180 0 118 (dk_at dksX2_hit_1 12 rfl rfl)
theorem dX2_hit_39 : decode cX2_hit 39 = .ok (.bipush 8, 2) := dk_16 8 (dk_at dksX2_hit_1 15 rfl rfl)
theorem dX2_hit_41 : decode cX2_hit 41 = .ok (.if_icmp .ge 16, 3) := dk_162 0 16 (dk_at dksX2_hit_1 17 rfl rfl)
theorem dX2_hit_44 : decode cX2_hit 44 = .ok (.aload_n 0, 1) := dk_42 (dk_at dksX2_hit_1 20 rfl rfl)
theorem dX2_hit_45 : decode cX2_hit 45 = .ok (.getfield 115, 3) := dk_180 0 115 (dk_at dksX2_hit_1 21 rfl rfl)
theorem dX2_hit_48 : decode cX2_hit 48 = .ok (.bipush 64, 2) := dk_16 64 (dk_at dksX2_hit_2 0 rfl rfl)
theorem dX2_hit_50 : decode cX2_hit 50 = .ok (.if_icmp .ge 7, 3) := dk_162 0 7 (dk_at dksX2_hit_2 2 rfl rfl)
theorem dX2_hit_53 : decode cX2_hit 53 = .ok (.iconst 1, 1) := dk_4 (dk_at dksX2_hit_2 5 rfl rfl)
theorem dX2_hit_54 : decode cX2_hit 54 = .ok (.goto 4, 3) := dk_167 0 4 (dk_at dksX2_hit_2 6 rfl rfl)
theorem dX2_hit_57 : decode cX2_hit 57 = .ok (.iconst 0, 1) := dk_3 (dk_at dksX2_hit_2 9 rfl rfl)
theorem dX2_hit_58 : decode cX2_hit 58 = .ok (.iconst 3, 1) := dk_6 (dk_at dksX2_hit_2 10 rfl rfl)
theorem dX2_hit_59 : decode cX2_hit 59 = .ok (.invokevirtual 111, 3) := dk_182 0 111 (dk_at dksX2_hit_2 11 rfl rfl)
theorem dX2_hit_62 : decode cX2_hit 62 = .ok (.ifCond .ne 5, 3) := dk_154 0 5 (dk_at dksX2_hit_2 14 rfl rfl)
theorem dX2_hit_65 : decode cX2_hit 65 = .ok (.iconst 0, 1) := dk_3 (dk_at dksX2_hit_2 17 rfl rfl)
theorem dX2_hit_66 : decode cX2_hit 66 = .ok (.ireturn, 1) := dk_172 (dk_at dksX2_hit_2 18 rfl rfl)
theorem dX2_hit_67 : decode cX2_hit 67 = .ok (.aload_n 0, 1) := dk_42 (dk_at dksX2_hit_2 19 rfl rfl)
theorem dX2_hit_68 : decode cX2_hit 68 = .ok (.getfield 30, 3) := dk_180 0 30 (dk_at dksX2_hit_2 20 rfl rfl)
theorem dX2_hit_71 : decode cX2_hit 71 = .ok (.aload_n 0, 1) := dk_42 (dk_at dksX2_hit_2 23 rfl rfl)
theorem dX2_hit_72 : decode cX2_hit 72 = .ok (.getfield 118, 3) := dk_180 0 118 (dk_at dksX2_hit_3 0 rfl rfl)
theorem dX2_hit_75 : decode cX2_hit 75 = .ok (.iload_n 1, 1) := dk_27 (dk_at dksX2_hit_3 3 rfl rfl)
theorem dX2_hit_76 : decode cX2_hit 76 = .ok (.iastore, 1) := dk_79 (dk_at dksX2_hit_3 4 rfl rfl)
theorem dX2_hit_77 : decode cX2_hit 77 = .ok (.aload_n 0, 1) := dk_42 (dk_at dksX2_hit_3 5 rfl rfl)
theorem dX2_hit_78 : decode cX2_hit 78 = .ok (.getfield 33, 3) := dk_180 0 33 (dk_at dksX2_hit_3 6 rfl rfl)
theorem dX2_hit_81 : decode cX2_hit 81 = .ok (.aload_n 0, 1) := dk_42 (dk_at dksX2_hit_3 9 rfl rfl)
theorem dX2_hit_82 : decode cX2_hit 82 = .ok (.getfield 118, 3) := dk_180 0 118 (dk_at dksX2_hit_3 10 rfl rfl)
theorem dX2_hit_85 : decode cX2_hit 85 = .ok (.iload_n 2, 1) := dk_28 (dk_at dksX2_hit_3 13 rfl rfl)
theorem dX2_hit_86 : decode cX2_hit 86 = .ok (.iastore, 1) := dk_79 (dk_at dksX2_hit_3 14 rfl rfl)
theorem dX2_hit_87 : decode cX2_hit 87 = .ok (.aload_n 0, 1) := dk_42 (dk_at dksX2_hit_3 15 rfl rfl)
theorem dX2_hit_88 : decode cX2_hit 88 = .ok (.dup, 1) := dk_89 (dk_at dksX2_hit_3 16 rfl rfl)
theorem dX2_hit_89 : decode cX2_hit 89 = .ok (.getfield 118, 3) := dk_180 0 118 (dk_at dksX2_hit_3 17 rfl rfl)
theorem dX2_hit_92 : decode cX2_hit 92 = .ok (.iconst 1, 1) := dk_4 (dk_at dksX2_hit_3 20 rfl rfl)
theorem dX2_hit_93 : decode cX2_hit 93 = .ok (.iadd, 1) := dk_96 (dk_at dksX2_hit_3 21 rfl rfl)
theorem dX2_hit_94 : decode cX2_hit 94 = .ok (.putfield 118, 3) := dk_181 0 118 (dk_at dksX2_hit_4 0 rfl rfl)
theorem dX2_hit_97 : decode cX2_hit 97 = .ok (.aload_n 0, 1) := dk_42 (dk_at dksX2_hit_4 3 rfl rfl)
theorem dX2_hit_98 : decode cX2_hit 98 = .ok (.getfield 118, 3) := dk_180 0 118 (dk_at dksX2_hit_4 4 rfl rfl)
theorem dX2_hit_101 : decode cX2_hit 101 = .ok (.iconst 1, 1) := dk_4 (dk_at dksX2_hit_4 7 rfl rfl)
theorem dX2_hit_102 : decode cX2_hit 102 = .ok (.isub, 1) := dk_100 (dk_at dksX2_hit_4 8 rfl rfl)
theorem dX2_hit_103 : decode cX2_hit 103 = .ok (.ireturn, 1) := dk_172 (dk_at dksX2_hit_4 9 rfl rfl)
abbrev cX2_hits : ByteArray := prog_9_method_13_code
def yX2_hits : MethodName := ⟨RX2, "hits", "()I"⟩
def dkwX2_hits_0 : List UInt8 := [42, 42, 180, 0, 118, 182, 0, 136, 172]
abbrev dktX2_hits_0 : List UInt8 := dkwX2_hits_0 ++ []
theorem dksX2_hits_0 : cX2_hits.data.toList.drop 0 = dktX2_hits_0 := by decide +kernel
theorem dX2_hits_0 : decode cX2_hits 0 = .ok (.aload_n 0, 1) := dk_42 (dk_at dksX2_hits_0 0 rfl rfl)
theorem dX2_hits_1 : decode cX2_hits 1 = .ok (.aload_n 0, 1) := dk_42 (dk_at dksX2_hits_0 1 rfl rfl)
theorem dX2_hits_2 : decode cX2_hits 2 = .ok (.getfield 118, 3) := dk_180 0 118 (dk_at dksX2_hits_0 2 rfl rfl)
theorem dX2_hits_5 : decode cX2_hits 5 = .ok (.invokevirtual 136, 3) := dk_182 0 136 (dk_at dksX2_hits_0 5 rfl rfl)
theorem dX2_hits_8 : decode cX2_hits 8 = .ok (.ireturn, 1) := dk_172 (dk_at dksX2_hits_0 8 rfl rfl)
abbrev cX2_beat : ByteArray := prog_9_method_30_code
def yX2_beat : MethodName := ⟨RX2, "beat", "()I"⟩
def dkwX2_beat_1 : List UInt8 := [182, 0, 245, 42, 182, 0, 235, 172]
abbrev dktX2_beat_1 : List UInt8 := dkwX2_beat_1 ++ []
def dkwX2_beat_0 : List UInt8 := [42, 42, 180, 0, 115, 16, 64, 162, 0, 7, 4, 167, 0, 4, 3, 182, 0, 144, 154, 0, 5, 3, 172, 42]
abbrev dktX2_beat_0 : List UInt8 := dkwX2_beat_0 ++ dktX2_beat_1
theorem dksX2_beat_0 : cX2_beat.data.toList.drop 0 = dktX2_beat_0 := by decide +kernel
theorem dksX2_beat_1 : cX2_beat.data.toList.drop 24 = dktX2_beat_1 := dk_seg dksX2_beat_0 24 rfl rfl
theorem dX2_beat_0 : decode cX2_beat 0 = .ok (.aload_n 0, 1) := dk_42 (dk_at dksX2_beat_0 0 rfl rfl)
theorem dX2_beat_1 : decode cX2_beat 1 = .ok (.aload_n 0, 1) := dk_42 (dk_at dksX2_beat_0 1 rfl rfl)
theorem dX2_beat_2 : decode cX2_beat 2 = .ok (.getfield 115, 3) := dk_180 0 115 (dk_at dksX2_beat_0 2 rfl rfl)
theorem dX2_beat_5 : decode cX2_beat 5 = .ok (.bipush 64, 2) := dk_16 64 (dk_at dksX2_beat_0 5 rfl rfl)
theorem dX2_beat_7 : decode cX2_beat 7 = .ok (.if_icmp .ge 7, 3) := dk_162 0 7 (dk_at dksX2_beat_0 7 rfl rfl)
theorem dX2_beat_10 : decode cX2_beat 10 = .ok (.iconst 1, 1) := dk_4 (dk_at dksX2_beat_0 10 rfl rfl)
theorem dX2_beat_11 : decode cX2_beat 11 = .ok (.goto 4, 3) := dk_167 0 4 (dk_at dksX2_beat_0 11 rfl rfl)
theorem dX2_beat_14 : decode cX2_beat 14 = .ok (.iconst 0, 1) := dk_3 (dk_at dksX2_beat_0 14 rfl rfl)
theorem dX2_beat_15 : decode cX2_beat 15 = .ok (.invokevirtual 144, 3) := dk_182 0 144 (dk_at dksX2_beat_0 15 rfl rfl)
theorem dX2_beat_18 : decode cX2_beat 18 = .ok (.ifCond .ne 5, 3) := dk_154 0 5 (dk_at dksX2_beat_0 18 rfl rfl)
theorem dX2_beat_21 : decode cX2_beat 21 = .ok (.iconst 0, 1) := dk_3 (dk_at dksX2_beat_0 21 rfl rfl)
theorem dX2_beat_22 : decode cX2_beat 22 = .ok (.ireturn, 1) := dk_172 (dk_at dksX2_beat_0 22 rfl rfl)
theorem dX2_beat_23 : decode cX2_beat 23 = .ok (.aload_n 0, 1) := dk_42 (dk_at dksX2_beat_0 23 rfl rfl)
theorem dX2_beat_24 : decode cX2_beat 24 = .ok (.invokevirtual 245, 3) := dk_182 0 245 (dk_at dksX2_beat_1 0 rfl rfl)
theorem dX2_beat_27 : decode cX2_beat 27 = .ok (.aload_n 0, 1) := dk_42 (dk_at dksX2_beat_1 3 rfl rfl)
theorem dX2_beat_28 : decode cX2_beat 28 = .ok (.invokevirtual 235, 3) := dk_182 0 235 (dk_at dksX2_beat_1 4 rfl rfl)
theorem dX2_beat_31 : decode cX2_beat 31 = .ok (.ireturn, 1) := dk_172 (dk_at dksX2_beat_1 7 rfl rfl)
abbrev cX2_doBeat : ByteArray := prog_9_method_29_code
def yX2_doBeat : MethodName := ⟨RX2, "doBeat", "()V"⟩
def dkwX2_doBeat_8 : List UInt8 := [181, 0, 124, 42, 3, 181, 0, 118, 42, 89, 180, 0, 115, 4, 96, 181, 0, 115, 177]
abbrev dktX2_doBeat_8 : List UInt8 := dkwX2_doBeat_8 ++ []
def dkwX2_doBeat_7 : List UInt8 := [153, 0, 8, 42, 27, 182, 0, 242, 132, 1, 1, 167, 255, 231, 42, 89, 180, 0, 124, 42, 180, 0, 121, 96]
abbrev dktX2_doBeat_7 : List UInt8 := dkwX2_doBeat_7 ++ dktX2_doBeat_8
def dkwX2_doBeat_6 : List UInt8 := [132, 1, 1, 167, 255, 212, 3, 60, 27, 42, 180, 0, 130, 162, 0, 23, 42, 180, 0, 39, 27, 51]
abbrev dktX2_doBeat_6 : List UInt8 := dkwX2_doBeat_6 ++ dktX2_doBeat_7
def dkwX2_doBeat_5 : List UInt8 := [182, 0, 235, 16, 6, 162, 0, 17, 42, 180, 0, 130, 16, 40, 162, 0, 8, 42, 27, 182, 0, 239]
abbrev dktX2_doBeat_5 : List UInt8 := dkwX2_doBeat_5 ++ dktX2_doBeat_6
def dkwX2_doBeat_4 : List UInt8 := [167, 255, 240, 3, 60, 27, 42, 180, 0, 121, 162, 0, 42, 42, 180, 0, 36, 27, 46, 2, 160, 0, 26, 42]
abbrev dktX2_doBeat_4 : List UInt8 := dkwX2_doBeat_4 ++ dktX2_doBeat_5
def dkwX2_doBeat_3 : List UInt8 := [132, 1, 1, 167, 255, 238, 3, 60, 27, 42, 180, 0, 133, 162, 0, 14, 42, 27, 182, 0, 232, 132, 1, 1]
abbrev dktX2_doBeat_3 : List UInt8 := dkwX2_doBeat_3 ++ dktX2_doBeat_4
def dkwX2_doBeat_2 : List UInt8 := [132, 1, 1, 167, 255, 217, 3, 60, 27, 42, 180, 0, 121, 162, 0, 16, 42, 180, 0, 36, 27, 2, 79]
abbrev dktX2_doBeat_2 : List UInt8 := dkwX2_doBeat_2 ++ dktX2_doBeat_3
def dkwX2_doBeat_1 : List UInt8 := [84, 42, 180, 0, 49, 27, 3, 84, 42, 180, 0, 39, 27, 51, 153, 0, 8, 42, 27, 182, 0, 229]
abbrev dktX2_doBeat_1 : List UInt8 := dkwX2_doBeat_1 ++ dktX2_doBeat_2
def dkwX2_doBeat_0 : List UInt8 := [42, 42, 180, 0, 118, 181, 0, 121, 3, 60, 27, 42, 180, 0, 130, 162, 0, 37, 42, 180, 0, 46, 27, 3]
abbrev dktX2_doBeat_0 : List UInt8 := dkwX2_doBeat_0 ++ dktX2_doBeat_1
theorem dksX2_doBeat_0 : cX2_doBeat.data.toList.drop 0 = dktX2_doBeat_0 := by decide +kernel
theorem dksX2_doBeat_1 : cX2_doBeat.data.toList.drop 24 = dktX2_doBeat_1 := dk_seg dksX2_doBeat_0 24 rfl rfl
theorem dksX2_doBeat_2 : cX2_doBeat.data.toList.drop 46 = dktX2_doBeat_2 := dk_seg dksX2_doBeat_1 22 rfl rfl
theorem dksX2_doBeat_3 : cX2_doBeat.data.toList.drop 69 = dktX2_doBeat_3 := dk_seg dksX2_doBeat_2 23 rfl rfl
theorem dksX2_doBeat_4 : cX2_doBeat.data.toList.drop 93 = dktX2_doBeat_4 := dk_seg dksX2_doBeat_3 24 rfl rfl
theorem dksX2_doBeat_5 : cX2_doBeat.data.toList.drop 117 = dktX2_doBeat_5 := dk_seg dksX2_doBeat_4 24 rfl rfl
theorem dksX2_doBeat_6 : cX2_doBeat.data.toList.drop 139 = dktX2_doBeat_6 := dk_seg dksX2_doBeat_5 22 rfl rfl
theorem dksX2_doBeat_7 : cX2_doBeat.data.toList.drop 161 = dktX2_doBeat_7 := dk_seg dksX2_doBeat_6 22 rfl rfl
theorem dksX2_doBeat_8 : cX2_doBeat.data.toList.drop 185 = dktX2_doBeat_8 := dk_seg dksX2_doBeat_7 24 rfl rfl
theorem dX2_doBeat_0 : decode cX2_doBeat 0 = .ok (.aload_n 0, 1) := dk_42 (dk_at dksX2_doBeat_0 0 rfl rfl)
theorem dX2_doBeat_1 : decode cX2_doBeat 1 = .ok (.aload_n 0, 1) := dk_42 (dk_at dksX2_doBeat_0 1 rfl rfl)
theorem dX2_doBeat_2 : decode cX2_doBeat 2 = .ok (.getfield 118, 3) := dk_180 0 118 (dk_at dksX2_doBeat_0 2 rfl rfl)
theorem dX2_doBeat_5 : decode cX2_doBeat 5 = .ok (.putfield 121, 3) := dk_181 0 121 (dk_at dksX2_doBeat_0 5 rfl rfl)
theorem dX2_doBeat_8 : decode cX2_doBeat 8 = .ok (.iconst 0, 1) := dk_3 (dk_at dksX2_doBeat_0 8 rfl rfl)
theorem dX2_doBeat_9 : decode cX2_doBeat 9 = .ok (.istore_n 1, 1) := dk_60 (dk_at dksX2_doBeat_0 9 rfl rfl)
theorem dX2_doBeat_10 : decode cX2_doBeat 10 = .ok (.iload_n 1, 1) := dk_27 (dk_at dksX2_doBeat_0 10 rfl rfl)
theorem dX2_doBeat_11 : decode cX2_doBeat 11 = .ok (.aload_n 0, 1) := dk_42 (dk_at dksX2_doBeat_0 11 rfl rfl)
theorem dX2_doBeat_12 : decode cX2_doBeat 12 = .ok (.getfield 130, 3) := dk_180 0 130 (dk_at dksX2_doBeat_0 12 rfl rfl)
theorem dX2_doBeat_15 : decode cX2_doBeat 15 = .ok (.if_icmp .ge 37, 3) := dk_162 0 37 (dk_at dksX2_doBeat_0 15 rfl rfl)
theorem dX2_doBeat_18 : decode cX2_doBeat 18 = .ok (.aload_n 0, 1) := dk_42 (dk_at dksX2_doBeat_0 18 rfl rfl)
theorem dX2_doBeat_19 : decode cX2_doBeat 19 = .ok (.getfield 46, 3) := dk_180 0 46 (dk_at dksX2_doBeat_0 19 rfl rfl)
theorem dX2_doBeat_22 : decode cX2_doBeat 22 = .ok (.iload_n 1, 1) := dk_27 (dk_at dksX2_doBeat_0 22 rfl rfl)
theorem dX2_doBeat_23 : decode cX2_doBeat 23 = .ok (.iconst 0, 1) := dk_3 (dk_at dksX2_doBeat_0 23 rfl rfl)
theorem dX2_doBeat_24 : decode cX2_doBeat 24 = .ok (.bastore, 1) := dk_84 (dk_at dksX2_doBeat_1 0 rfl rfl)
theorem dX2_doBeat_25 : decode cX2_doBeat 25 = .ok (.aload_n 0, 1) := dk_42 (dk_at dksX2_doBeat_1 1 rfl rfl)
theorem dX2_doBeat_26 : decode cX2_doBeat 26 = .ok (.getfield 49, 3) := dk_180 0 49 (dk_at dksX2_doBeat_1 2 rfl rfl)
theorem dX2_doBeat_29 : decode cX2_doBeat 29 = .ok (.iload_n 1, 1) := dk_27 (dk_at dksX2_doBeat_1 5 rfl rfl)
theorem dX2_doBeat_30 : decode cX2_doBeat 30 = .ok (.iconst 0, 1) := dk_3 (dk_at dksX2_doBeat_1 6 rfl rfl)
theorem dX2_doBeat_31 : decode cX2_doBeat 31 = .ok (.bastore, 1) := dk_84 (dk_at dksX2_doBeat_1 7 rfl rfl)
theorem dX2_doBeat_32 : decode cX2_doBeat 32 = .ok (.aload_n 0, 1) := dk_42 (dk_at dksX2_doBeat_1 8 rfl rfl)
theorem dX2_doBeat_33 : decode cX2_doBeat 33 = .ok (.getfield 39, 3) := dk_180 0 39 (dk_at dksX2_doBeat_1 9 rfl rfl)
theorem dX2_doBeat_36 : decode cX2_doBeat 36 = .ok (.iload_n 1, 1) := dk_27 (dk_at dksX2_doBeat_1 12 rfl rfl)
theorem dX2_doBeat_37 : decode cX2_doBeat 37 = .ok (.baload, 1) := dk_51 (dk_at dksX2_doBeat_1 13 rfl rfl)
theorem dX2_doBeat_38 : decode cX2_doBeat 38 = .ok (.ifCond .eq 8, 3) := dk_153 0 8 (dk_at dksX2_doBeat_1 14 rfl rfl)
theorem dX2_doBeat_41 : decode cX2_doBeat 41 = .ok (.aload_n 0, 1) := dk_42 (dk_at dksX2_doBeat_1 17 rfl rfl)
theorem dX2_doBeat_42 : decode cX2_doBeat 42 = .ok (.iload_n 1, 1) := dk_27 (dk_at dksX2_doBeat_1 18 rfl rfl)
theorem dX2_doBeat_43 : decode cX2_doBeat 43 = .ok (.invokevirtual 229, 3) := dk_182 0 229 (dk_at dksX2_doBeat_1 19 rfl rfl)
theorem dX2_doBeat_46 : decode cX2_doBeat 46 = .ok (.iinc 1 1, 3) := dk_132 1 1 (dk_at dksX2_doBeat_2 0 rfl rfl)
theorem dX2_doBeat_49 : decode cX2_doBeat 49 = .ok (.goto (-39), 3) := dk_167 255 217 (dk_at dksX2_doBeat_2 3 rfl rfl)
theorem dX2_doBeat_52 : decode cX2_doBeat 52 = .ok (.iconst 0, 1) := dk_3 (dk_at dksX2_doBeat_2 6 rfl rfl)
theorem dX2_doBeat_53 : decode cX2_doBeat 53 = .ok (.istore_n 1, 1) := dk_60 (dk_at dksX2_doBeat_2 7 rfl rfl)
theorem dX2_doBeat_54 : decode cX2_doBeat 54 = .ok (.iload_n 1, 1) := dk_27 (dk_at dksX2_doBeat_2 8 rfl rfl)
theorem dX2_doBeat_55 : decode cX2_doBeat 55 = .ok (.aload_n 0, 1) := dk_42 (dk_at dksX2_doBeat_2 9 rfl rfl)
theorem dX2_doBeat_56 : decode cX2_doBeat 56 = .ok (.getfield 121, 3) := dk_180 0 121 (dk_at dksX2_doBeat_2 10 rfl rfl)
theorem dX2_doBeat_59 : decode cX2_doBeat 59 = .ok (.if_icmp .ge 16, 3) := dk_162 0 16 (dk_at dksX2_doBeat_2 13 rfl rfl)
theorem dX2_doBeat_62 : decode cX2_doBeat 62 = .ok (.aload_n 0, 1) := dk_42 (dk_at dksX2_doBeat_2 16 rfl rfl)
theorem dX2_doBeat_63 : decode cX2_doBeat 63 = .ok (.getfield 36, 3) := dk_180 0 36 (dk_at dksX2_doBeat_2 17 rfl rfl)
theorem dX2_doBeat_66 : decode cX2_doBeat 66 = .ok (.iload_n 1, 1) := dk_27 (dk_at dksX2_doBeat_2 20 rfl rfl)
theorem dX2_doBeat_67 : decode cX2_doBeat 67 = .ok (.iconst (-1), 1) := dk_2 (dk_at dksX2_doBeat_2 21 rfl rfl)
theorem dX2_doBeat_68 : decode cX2_doBeat 68 = .ok (.iastore, 1) := dk_79 (dk_at dksX2_doBeat_2 22 rfl rfl)
theorem dX2_doBeat_69 : decode cX2_doBeat 69 = .ok (.iinc 1 1, 3) := dk_132 1 1 (dk_at dksX2_doBeat_3 0 rfl rfl)
theorem dX2_doBeat_72 : decode cX2_doBeat 72 = .ok (.goto (-18), 3) := dk_167 255 238 (dk_at dksX2_doBeat_3 3 rfl rfl)
theorem dX2_doBeat_75 : decode cX2_doBeat 75 = .ok (.iconst 0, 1) := dk_3 (dk_at dksX2_doBeat_3 6 rfl rfl)
theorem dX2_doBeat_76 : decode cX2_doBeat 76 = .ok (.istore_n 1, 1) := dk_60 (dk_at dksX2_doBeat_3 7 rfl rfl)
theorem dX2_doBeat_77 : decode cX2_doBeat 77 = .ok (.iload_n 1, 1) := dk_27 (dk_at dksX2_doBeat_3 8 rfl rfl)
theorem dX2_doBeat_78 : decode cX2_doBeat 78 = .ok (.aload_n 0, 1) := dk_42 (dk_at dksX2_doBeat_3 9 rfl rfl)
theorem dX2_doBeat_79 : decode cX2_doBeat 79 = .ok (.getfield 133, 3) := dk_180 0 133 (dk_at dksX2_doBeat_3 10 rfl rfl)
theorem dX2_doBeat_82 : decode cX2_doBeat 82 = .ok (.if_icmp .ge 14, 3) := dk_162 0 14 (dk_at dksX2_doBeat_3 13 rfl rfl)
theorem dX2_doBeat_85 : decode cX2_doBeat 85 = .ok (.aload_n 0, 1) := dk_42 (dk_at dksX2_doBeat_3 16 rfl rfl)
theorem dX2_doBeat_86 : decode cX2_doBeat 86 = .ok (.iload_n 1, 1) := dk_27 (dk_at dksX2_doBeat_3 17 rfl rfl)
theorem dX2_doBeat_87 : decode cX2_doBeat 87 = .ok (.invokevirtual 232, 3) := dk_182 0 232 (dk_at dksX2_doBeat_3 18 rfl rfl)
theorem dX2_doBeat_90 : decode cX2_doBeat 90 = .ok (.iinc 1 1, 3) := dk_132 1 1 (dk_at dksX2_doBeat_3 21 rfl rfl)
theorem dX2_doBeat_93 : decode cX2_doBeat 93 = .ok (.goto (-16), 3) := dk_167 255 240 (dk_at dksX2_doBeat_4 0 rfl rfl)
theorem dX2_doBeat_96 : decode cX2_doBeat 96 = .ok (.iconst 0, 1) := dk_3 (dk_at dksX2_doBeat_4 3 rfl rfl)
theorem dX2_doBeat_97 : decode cX2_doBeat 97 = .ok (.istore_n 1, 1) := dk_60 (dk_at dksX2_doBeat_4 4 rfl rfl)
theorem dX2_doBeat_98 : decode cX2_doBeat 98 = .ok (.iload_n 1, 1) := dk_27 (dk_at dksX2_doBeat_4 5 rfl rfl)
theorem dX2_doBeat_99 : decode cX2_doBeat 99 = .ok (.aload_n 0, 1) := dk_42 (dk_at dksX2_doBeat_4 6 rfl rfl)
theorem dX2_doBeat_100 : decode cX2_doBeat 100 = .ok (.getfield 121, 3) := dk_180 0 121 (dk_at dksX2_doBeat_4 7 rfl rfl)
theorem dX2_doBeat_103 : decode cX2_doBeat 103 = .ok (.if_icmp .ge 42, 3) := dk_162 0 42 (dk_at dksX2_doBeat_4 10 rfl rfl)
theorem dX2_doBeat_106 : decode cX2_doBeat 106 = .ok (.aload_n 0, 1) := dk_42 (dk_at dksX2_doBeat_4 13 rfl rfl)
theorem dX2_doBeat_107 : decode cX2_doBeat 107 = .ok (.getfield 36, 3) := dk_180 0 36 (dk_at dksX2_doBeat_4 14 rfl rfl)
theorem dX2_doBeat_110 : decode cX2_doBeat 110 = .ok (.iload_n 1, 1) := dk_27 (dk_at dksX2_doBeat_4 17 rfl rfl)
theorem dX2_doBeat_111 : decode cX2_doBeat 111 = .ok (.iaload, 1) := dk_46 (dk_at dksX2_doBeat_4 18 rfl rfl)
theorem dX2_doBeat_112 : decode cX2_doBeat 112 = .ok (.iconst (-1), 1) := dk_2 (dk_at dksX2_doBeat_4 19 rfl rfl)
theorem dX2_doBeat_113 : decode cX2_doBeat 113 = .ok (.if_icmp .ne 26, 3) := dk_160 0 26 (dk_at dksX2_doBeat_4 20 rfl rfl)
theorem dX2_doBeat_116 : decode cX2_doBeat 116 = .ok (.aload_n 0, 1) := dk_42 (dk_at dksX2_doBeat_4 23 rfl rfl)
theorem dX2_doBeat_117 : decode cX2_doBeat 117 = .ok (.invokevirtual 235, 3) := dk_182 0 235 (dk_at dksX2_doBeat_5 0 rfl rfl)
theorem dX2_doBeat_120 : decode cX2_doBeat 120 = .ok (.bipush 6, 2) := dk_16 6 (dk_at dksX2_doBeat_5 3 rfl rfl)
theorem dX2_doBeat_122 : decode cX2_doBeat 122 = .ok (.if_icmp .ge 17, 3) := dk_162 0 17 (dk_at dksX2_doBeat_5 5 rfl rfl)
theorem dX2_doBeat_125 : decode cX2_doBeat 125 = .ok (.aload_n 0, 1) := dk_42 (dk_at dksX2_doBeat_5 8 rfl rfl)
theorem dX2_doBeat_126 : decode cX2_doBeat 126 = .ok (.getfield 130, 3) := dk_180 0 130 (dk_at dksX2_doBeat_5 9 rfl rfl)
theorem dX2_doBeat_129 : decode cX2_doBeat 129 = .ok (.bipush 40, 2) := dk_16 40 (dk_at dksX2_doBeat_5 12 rfl rfl)
theorem dX2_doBeat_131 : decode cX2_doBeat 131 = .ok (.if_icmp .ge 8, 3) := dk_162 0 8 (dk_at dksX2_doBeat_5 14 rfl rfl)
theorem dX2_doBeat_134 : decode cX2_doBeat 134 = .ok (.aload_n 0, 1) := dk_42 (dk_at dksX2_doBeat_5 17 rfl rfl)
theorem dX2_doBeat_135 : decode cX2_doBeat 135 = .ok (.iload_n 1, 1) := dk_27 (dk_at dksX2_doBeat_5 18 rfl rfl)
theorem dX2_doBeat_136 : decode cX2_doBeat 136 = .ok (.invokevirtual 239, 3) := dk_182 0 239 (dk_at dksX2_doBeat_5 19 rfl rfl)
theorem dX2_doBeat_139 : decode cX2_doBeat 139 = .ok (.iinc 1 1, 3) := dk_132 1 1 (dk_at dksX2_doBeat_6 0 rfl rfl)
theorem dX2_doBeat_142 : decode cX2_doBeat 142 = .ok (.goto (-44), 3) := dk_167 255 212 (dk_at dksX2_doBeat_6 3 rfl rfl)
theorem dX2_doBeat_145 : decode cX2_doBeat 145 = .ok (.iconst 0, 1) := dk_3 (dk_at dksX2_doBeat_6 6 rfl rfl)
theorem dX2_doBeat_146 : decode cX2_doBeat 146 = .ok (.istore_n 1, 1) := dk_60 (dk_at dksX2_doBeat_6 7 rfl rfl)
theorem dX2_doBeat_147 : decode cX2_doBeat 147 = .ok (.iload_n 1, 1) := dk_27 (dk_at dksX2_doBeat_6 8 rfl rfl)
theorem dX2_doBeat_148 : decode cX2_doBeat 148 = .ok (.aload_n 0, 1) := dk_42 (dk_at dksX2_doBeat_6 9 rfl rfl)
theorem dX2_doBeat_149 : decode cX2_doBeat 149 = .ok (.getfield 130, 3) := dk_180 0 130 (dk_at dksX2_doBeat_6 10 rfl rfl)
theorem dX2_doBeat_152 : decode cX2_doBeat 152 = .ok (.if_icmp .ge 23, 3) := dk_162 0 23 (dk_at dksX2_doBeat_6 13 rfl rfl)
theorem dX2_doBeat_155 : decode cX2_doBeat 155 = .ok (.aload_n 0, 1) := dk_42 (dk_at dksX2_doBeat_6 16 rfl rfl)
theorem dX2_doBeat_156 : decode cX2_doBeat 156 = .ok (.getfield 39, 3) := dk_180 0 39 (dk_at dksX2_doBeat_6 17 rfl rfl)
theorem dX2_doBeat_159 : decode cX2_doBeat 159 = .ok (.iload_n 1, 1) := dk_27 (dk_at dksX2_doBeat_6 20 rfl rfl)
theorem dX2_doBeat_160 : decode cX2_doBeat 160 = .ok (.baload, 1) := dk_51 (dk_at dksX2_doBeat_6 21 rfl rfl)
theorem dX2_doBeat_161 : decode cX2_doBeat 161 = .ok (.ifCond .eq 8, 3) := dk_153 0 8 (dk_at dksX2_doBeat_7 0 rfl rfl)
theorem dX2_doBeat_164 : decode cX2_doBeat 164 = .ok (.aload_n 0, 1) := dk_42 (dk_at dksX2_doBeat_7 3 rfl rfl)
theorem dX2_doBeat_165 : decode cX2_doBeat 165 = .ok (.iload_n 1, 1) := dk_27 (dk_at dksX2_doBeat_7 4 rfl rfl)
theorem dX2_doBeat_166 : decode cX2_doBeat 166 = .ok (.invokevirtual 242, 3) := dk_182 0 242 (dk_at dksX2_doBeat_7 5 rfl rfl)
theorem dX2_doBeat_169 : decode cX2_doBeat 169 = .ok (.iinc 1 1, 3) := dk_132 1 1 (dk_at dksX2_doBeat_7 8 rfl rfl)
theorem dX2_doBeat_172 : decode cX2_doBeat 172 = .ok (.goto (-25), 3) := dk_167 255 231 (dk_at dksX2_doBeat_7 11 rfl rfl)
theorem dX2_doBeat_175 : decode cX2_doBeat 175 = .ok (.aload_n 0, 1) := dk_42 (dk_at dksX2_doBeat_7 14 rfl rfl)
theorem dX2_doBeat_176 : decode cX2_doBeat 176 = .ok (.dup, 1) := dk_89 (dk_at dksX2_doBeat_7 15 rfl rfl)
theorem dX2_doBeat_177 : decode cX2_doBeat 177 = .ok (.getfield 124, 3) := dk_180 0 124 (dk_at dksX2_doBeat_7 16 rfl rfl)
theorem dX2_doBeat_180 : decode cX2_doBeat 180 = .ok (.aload_n 0, 1) := dk_42 (dk_at dksX2_doBeat_7 19 rfl rfl)
theorem dX2_doBeat_181 : decode cX2_doBeat 181 = .ok (.getfield 121, 3) := dk_180 0 121 (dk_at dksX2_doBeat_7 20 rfl rfl)
theorem dX2_doBeat_184 : decode cX2_doBeat 184 = .ok (.iadd, 1) := dk_96 (dk_at dksX2_doBeat_7 23 rfl rfl)
theorem dX2_doBeat_185 : decode cX2_doBeat 185 = .ok (.putfield 124, 3) := dk_181 0 124 (dk_at dksX2_doBeat_8 0 rfl rfl)
theorem dX2_doBeat_188 : decode cX2_doBeat 188 = .ok (.aload_n 0, 1) := dk_42 (dk_at dksX2_doBeat_8 3 rfl rfl)
theorem dX2_doBeat_189 : decode cX2_doBeat 189 = .ok (.iconst 0, 1) := dk_3 (dk_at dksX2_doBeat_8 4 rfl rfl)
theorem dX2_doBeat_190 : decode cX2_doBeat 190 = .ok (.putfield 118, 3) := dk_181 0 118 (dk_at dksX2_doBeat_8 5 rfl rfl)
theorem dX2_doBeat_193 : decode cX2_doBeat 193 = .ok (.aload_n 0, 1) := dk_42 (dk_at dksX2_doBeat_8 8 rfl rfl)
theorem dX2_doBeat_194 : decode cX2_doBeat 194 = .ok (.dup, 1) := dk_89 (dk_at dksX2_doBeat_8 9 rfl rfl)
theorem dX2_doBeat_195 : decode cX2_doBeat 195 = .ok (.getfield 115, 3) := dk_180 0 115 (dk_at dksX2_doBeat_8 10 rfl rfl)
theorem dX2_doBeat_198 : decode cX2_doBeat 198 = .ok (.iconst 1, 1) := dk_4 (dk_at dksX2_doBeat_8 13 rfl rfl)
theorem dX2_doBeat_199 : decode cX2_doBeat 199 = .ok (.iadd, 1) := dk_96 (dk_at dksX2_doBeat_8 14 rfl rfl)
theorem dX2_doBeat_200 : decode cX2_doBeat 200 = .ok (.putfield 115, 3) := dk_181 0 115 (dk_at dksX2_doBeat_8 15 rfl rfl)
theorem dX2_doBeat_203 : decode cX2_doBeat 203 = .ok (.return_, 1) := dk_177 (dk_at dksX2_doBeat_8 18 rfl rfl)
abbrev cX2_foretell : ByteArray := prog_9_method_17_code
def yX2_foretell : MethodName := ⟨RX2, "foretell", "(I)V"⟩
def dkwX2_foretell_5 : List UInt8 := [180, 0, 69, 27, 50, 42, 180, 0, 77, 27, 50, 42, 180, 0, 115, 50, 184, 0, 178, 177]
abbrev dktX2_foretell_5 : List UInt8 := dkwX2_foretell_5 ++ []
def dkwX2_foretell_4 : List UInt8 := [42, 180, 0, 69, 27, 50, 7, 22, 6, 42, 180, 0, 7, 133, 97, 80, 42, 27, 182, 0, 174, 42]
abbrev dktX2_foretell_4 : List UInt8 := dkwX2_foretell_4 ++ dktX2_foretell_5
def dkwX2_foretell_3 : List UInt8 := [133, 97, 80, 42, 180, 0, 69, 27, 50, 6, 22, 4, 22, 6, 97, 42, 180, 0, 7, 5, 108, 133, 97, 80]
abbrev dktX2_foretell_3 : List UInt8 := dkwX2_foretell_3 ++ dktX2_foretell_4
def dkwX2_foretell_2 : List UInt8 := [42, 180, 0, 69, 27, 50, 5, 32, 20, 0, 172, 22, 4, 105, 97, 22, 6, 97, 42, 180, 0, 7, 7, 108]
abbrev dktX2_foretell_2 : List UInt8 := dkwX2_foretell_2 ++ dktX2_foretell_3
def dkwX2_foretell_1 : List UInt8 := [50, 7, 47, 55, 6, 42, 180, 0, 69, 27, 50, 3, 92, 47, 42, 180, 0, 69, 27, 50, 4, 47, 97, 80]
abbrev dktX2_foretell_1 : List UInt8 := dkwX2_foretell_1 ++ dktX2_foretell_2
def dkwX2_foretell_0 : List UInt8 := [42, 180, 0, 69, 27, 50, 5, 47, 65, 42, 180, 0, 69, 27, 50, 6, 47, 55, 4, 42, 180, 0, 69, 27]
abbrev dktX2_foretell_0 : List UInt8 := dkwX2_foretell_0 ++ dktX2_foretell_1
theorem dksX2_foretell_0 : cX2_foretell.data.toList.drop 0 = dktX2_foretell_0 := by decide +kernel
theorem dksX2_foretell_1 : cX2_foretell.data.toList.drop 24 = dktX2_foretell_1 := dk_seg dksX2_foretell_0 24 rfl rfl
theorem dksX2_foretell_2 : cX2_foretell.data.toList.drop 48 = dktX2_foretell_2 := dk_seg dksX2_foretell_1 24 rfl rfl
theorem dksX2_foretell_3 : cX2_foretell.data.toList.drop 72 = dktX2_foretell_3 := dk_seg dksX2_foretell_2 24 rfl rfl
theorem dksX2_foretell_4 : cX2_foretell.data.toList.drop 96 = dktX2_foretell_4 := dk_seg dksX2_foretell_3 24 rfl rfl
theorem dksX2_foretell_5 : cX2_foretell.data.toList.drop 118 = dktX2_foretell_5 := dk_seg dksX2_foretell_4 22 rfl rfl
theorem dX2_foretell_0 : decode cX2_foretell 0 = .ok (.aload_n 0, 1) := dk_42 (dk_at dksX2_foretell_0 0 rfl rfl)
theorem dX2_foretell_1 : decode cX2_foretell 1 = .ok (.getfield 69, 3) := dk_180 0 69 (dk_at dksX2_foretell_0 1 rfl rfl)
theorem dX2_foretell_4 : decode cX2_foretell 4 = .ok (.iload_n 1, 1) := dk_27 (dk_at dksX2_foretell_0 4 rfl rfl)
theorem dX2_foretell_5 : decode cX2_foretell 5 = .ok (.aaload, 1) := dk_50 (dk_at dksX2_foretell_0 5 rfl rfl)
theorem dX2_foretell_6 : decode cX2_foretell 6 = .ok (.iconst 2, 1) := dk_5 (dk_at dksX2_foretell_0 6 rfl rfl)
theorem dX2_foretell_7 : decode cX2_foretell 7 = .ok (.laload, 1) := dk_47 (dk_at dksX2_foretell_0 7 rfl rfl)
theorem dX2_foretell_8 : decode cX2_foretell 8 = .ok (.lstore_n 2, 1) := dk_65 (dk_at dksX2_foretell_0 8 rfl rfl)
theorem dX2_foretell_9 : decode cX2_foretell 9 = .ok (.aload_n 0, 1) := dk_42 (dk_at dksX2_foretell_0 9 rfl rfl)
theorem dX2_foretell_10 : decode cX2_foretell 10 = .ok (.getfield 69, 3) := dk_180 0 69 (dk_at dksX2_foretell_0 10 rfl rfl)
theorem dX2_foretell_13 : decode cX2_foretell 13 = .ok (.iload_n 1, 1) := dk_27 (dk_at dksX2_foretell_0 13 rfl rfl)
theorem dX2_foretell_14 : decode cX2_foretell 14 = .ok (.aaload, 1) := dk_50 (dk_at dksX2_foretell_0 14 rfl rfl)
theorem dX2_foretell_15 : decode cX2_foretell 15 = .ok (.iconst 3, 1) := dk_6 (dk_at dksX2_foretell_0 15 rfl rfl)
theorem dX2_foretell_16 : decode cX2_foretell 16 = .ok (.laload, 1) := dk_47 (dk_at dksX2_foretell_0 16 rfl rfl)
theorem dX2_foretell_17 : decode cX2_foretell 17 = .ok (.lstore 4, 2) := dk_55 4 (dk_at dksX2_foretell_0 17 rfl rfl)
theorem dX2_foretell_19 : decode cX2_foretell 19 = .ok (.aload_n 0, 1) := dk_42 (dk_at dksX2_foretell_0 19 rfl rfl)
theorem dX2_foretell_20 : decode cX2_foretell 20 = .ok (.getfield 69, 3) := dk_180 0 69 (dk_at dksX2_foretell_0 20 rfl rfl)
theorem dX2_foretell_23 : decode cX2_foretell 23 = .ok (.iload_n 1, 1) := dk_27 (dk_at dksX2_foretell_0 23 rfl rfl)
theorem dX2_foretell_24 : decode cX2_foretell 24 = .ok (.aaload, 1) := dk_50 (dk_at dksX2_foretell_1 0 rfl rfl)
theorem dX2_foretell_25 : decode cX2_foretell 25 = .ok (.iconst 4, 1) := dk_7 (dk_at dksX2_foretell_1 1 rfl rfl)
theorem dX2_foretell_26 : decode cX2_foretell 26 = .ok (.laload, 1) := dk_47 (dk_at dksX2_foretell_1 2 rfl rfl)
theorem dX2_foretell_27 : decode cX2_foretell 27 = .ok (.lstore 6, 2) := dk_55 6 (dk_at dksX2_foretell_1 3 rfl rfl)
theorem dX2_foretell_29 : decode cX2_foretell 29 = .ok (.aload_n 0, 1) := dk_42 (dk_at dksX2_foretell_1 5 rfl rfl)
theorem dX2_foretell_30 : decode cX2_foretell 30 = .ok (.getfield 69, 3) := dk_180 0 69 (dk_at dksX2_foretell_1 6 rfl rfl)
theorem dX2_foretell_33 : decode cX2_foretell 33 = .ok (.iload_n 1, 1) := dk_27 (dk_at dksX2_foretell_1 9 rfl rfl)
theorem dX2_foretell_34 : decode cX2_foretell 34 = .ok (.aaload, 1) := dk_50 (dk_at dksX2_foretell_1 10 rfl rfl)
theorem dX2_foretell_35 : decode cX2_foretell 35 = .ok (.iconst 0, 1) := dk_3 (dk_at dksX2_foretell_1 11 rfl rfl)
theorem dX2_foretell_36 : decode cX2_foretell 36 = .ok (.dup2, 1) := dk_92 (dk_at dksX2_foretell_1 12 rfl rfl)
theorem dX2_foretell_37 : decode cX2_foretell 37 = .ok (.laload, 1) := dk_47 (dk_at dksX2_foretell_1 13 rfl rfl)
theorem dX2_foretell_38 : decode cX2_foretell 38 = .ok (.aload_n 0, 1) := dk_42 (dk_at dksX2_foretell_1 14 rfl rfl)
theorem dX2_foretell_39 : decode cX2_foretell 39 = .ok (.getfield 69, 3) := dk_180 0 69 (dk_at dksX2_foretell_1 15 rfl rfl)
theorem dX2_foretell_42 : decode cX2_foretell 42 = .ok (.iload_n 1, 1) := dk_27 (dk_at dksX2_foretell_1 18 rfl rfl)
theorem dX2_foretell_43 : decode cX2_foretell 43 = .ok (.aaload, 1) := dk_50 (dk_at dksX2_foretell_1 19 rfl rfl)
theorem dX2_foretell_44 : decode cX2_foretell 44 = .ok (.iconst 1, 1) := dk_4 (dk_at dksX2_foretell_1 20 rfl rfl)
theorem dX2_foretell_45 : decode cX2_foretell 45 = .ok (.laload, 1) := dk_47 (dk_at dksX2_foretell_1 21 rfl rfl)
theorem dX2_foretell_46 : decode cX2_foretell 46 = .ok (.ladd, 1) := dk_97 (dk_at dksX2_foretell_1 22 rfl rfl)
theorem dX2_foretell_47 : decode cX2_foretell 47 = .ok (.lastore, 1) := dk_80 (dk_at dksX2_foretell_1 23 rfl rfl)
theorem dX2_foretell_48 : decode cX2_foretell 48 = .ok (.aload_n 0, 1) := dk_42 (dk_at dksX2_foretell_2 0 rfl rfl)
theorem dX2_foretell_49 : decode cX2_foretell 49 = .ok (.getfield 69, 3) := dk_180 0 69 (dk_at dksX2_foretell_2 1 rfl rfl)
theorem dX2_foretell_52 : decode cX2_foretell 52 = .ok (.iload_n 1, 1) := dk_27 (dk_at dksX2_foretell_2 4 rfl rfl)
theorem dX2_foretell_53 : decode cX2_foretell 53 = .ok (.aaload, 1) := dk_50 (dk_at dksX2_foretell_2 5 rfl rfl)
theorem dX2_foretell_54 : decode cX2_foretell 54 = .ok (.iconst 2, 1) := dk_5 (dk_at dksX2_foretell_2 6 rfl rfl)
theorem dX2_foretell_55 : decode cX2_foretell 55 = .ok (.lload_n 2, 1) := dk_32 (dk_at dksX2_foretell_2 7 rfl rfl)
theorem dX2_foretell_56 : decode cX2_foretell 56 = .ok (.ldc2_w 172, 3) := dk_20 0 172 (dk_at dksX2_foretell_2 8 rfl rfl)
theorem dX2_foretell_59 : decode cX2_foretell 59 = .ok (.lload 4, 2) := dk_22 4 (dk_at dksX2_foretell_2 11 rfl rfl)
theorem dX2_foretell_61 : decode cX2_foretell 61 = .ok (.lmul, 1) := dk_105 (dk_at dksX2_foretell_2 13 rfl rfl)
theorem dX2_foretell_62 : decode cX2_foretell 62 = .ok (.ladd, 1) := dk_97 (dk_at dksX2_foretell_2 14 rfl rfl)
theorem dX2_foretell_63 : decode cX2_foretell 63 = .ok (.lload 6, 2) := dk_22 6 (dk_at dksX2_foretell_2 15 rfl rfl)
theorem dX2_foretell_65 : decode cX2_foretell 65 = .ok (.ladd, 1) := dk_97 (dk_at dksX2_foretell_2 17 rfl rfl)
theorem dX2_foretell_66 : decode cX2_foretell 66 = .ok (.aload_n 0, 1) := dk_42 (dk_at dksX2_foretell_2 18 rfl rfl)
theorem dX2_foretell_67 : decode cX2_foretell 67 = .ok (.getfield 7, 3) := dk_180 0 7 (dk_at dksX2_foretell_2 19 rfl rfl)
theorem dX2_foretell_70 : decode cX2_foretell 70 = .ok (.iconst 4, 1) := dk_7 (dk_at dksX2_foretell_2 22 rfl rfl)
theorem dX2_foretell_71 : decode cX2_foretell 71 = .ok (.idiv, 1) := dk_108 (dk_at dksX2_foretell_2 23 rfl rfl)
theorem dX2_foretell_72 : decode cX2_foretell 72 = .ok (.i2l, 1) := dk_133 (dk_at dksX2_foretell_3 0 rfl rfl)
theorem dX2_foretell_73 : decode cX2_foretell 73 = .ok (.ladd, 1) := dk_97 (dk_at dksX2_foretell_3 1 rfl rfl)
theorem dX2_foretell_74 : decode cX2_foretell 74 = .ok (.lastore, 1) := dk_80 (dk_at dksX2_foretell_3 2 rfl rfl)
theorem dX2_foretell_75 : decode cX2_foretell 75 = .ok (.aload_n 0, 1) := dk_42 (dk_at dksX2_foretell_3 3 rfl rfl)
theorem dX2_foretell_76 : decode cX2_foretell 76 = .ok (.getfield 69, 3) := dk_180 0 69 (dk_at dksX2_foretell_3 4 rfl rfl)
theorem dX2_foretell_79 : decode cX2_foretell 79 = .ok (.iload_n 1, 1) := dk_27 (dk_at dksX2_foretell_3 7 rfl rfl)
theorem dX2_foretell_80 : decode cX2_foretell 80 = .ok (.aaload, 1) := dk_50 (dk_at dksX2_foretell_3 8 rfl rfl)
theorem dX2_foretell_81 : decode cX2_foretell 81 = .ok (.iconst 3, 1) := dk_6 (dk_at dksX2_foretell_3 9 rfl rfl)
theorem dX2_foretell_82 : decode cX2_foretell 82 = .ok (.lload 4, 2) := dk_22 4 (dk_at dksX2_foretell_3 10 rfl rfl)
theorem dX2_foretell_84 : decode cX2_foretell 84 = .ok (.lload 6, 2) := dk_22 6 (dk_at dksX2_foretell_3 12 rfl rfl)
theorem dX2_foretell_86 : decode cX2_foretell 86 = .ok (.ladd, 1) := dk_97 (dk_at dksX2_foretell_3 14 rfl rfl)
theorem dX2_foretell_87 : decode cX2_foretell 87 = .ok (.aload_n 0, 1) := dk_42 (dk_at dksX2_foretell_3 15 rfl rfl)
theorem dX2_foretell_88 : decode cX2_foretell 88 = .ok (.getfield 7, 3) := dk_180 0 7 (dk_at dksX2_foretell_3 16 rfl rfl)
theorem dX2_foretell_91 : decode cX2_foretell 91 = .ok (.iconst 2, 1) := dk_5 (dk_at dksX2_foretell_3 19 rfl rfl)
theorem dX2_foretell_92 : decode cX2_foretell 92 = .ok (.idiv, 1) := dk_108 (dk_at dksX2_foretell_3 20 rfl rfl)
theorem dX2_foretell_93 : decode cX2_foretell 93 = .ok (.i2l, 1) := dk_133 (dk_at dksX2_foretell_3 21 rfl rfl)
theorem dX2_foretell_94 : decode cX2_foretell 94 = .ok (.ladd, 1) := dk_97 (dk_at dksX2_foretell_3 22 rfl rfl)
theorem dX2_foretell_95 : decode cX2_foretell 95 = .ok (.lastore, 1) := dk_80 (dk_at dksX2_foretell_3 23 rfl rfl)
theorem dX2_foretell_96 : decode cX2_foretell 96 = .ok (.aload_n 0, 1) := dk_42 (dk_at dksX2_foretell_4 0 rfl rfl)
theorem dX2_foretell_97 : decode cX2_foretell 97 = .ok (.getfield 69, 3) := dk_180 0 69 (dk_at dksX2_foretell_4 1 rfl rfl)
theorem dX2_foretell_100 : decode cX2_foretell 100 = .ok (.iload_n 1, 1) := dk_27 (dk_at dksX2_foretell_4 4 rfl rfl)
theorem dX2_foretell_101 : decode cX2_foretell 101 = .ok (.aaload, 1) := dk_50 (dk_at dksX2_foretell_4 5 rfl rfl)
theorem dX2_foretell_102 : decode cX2_foretell 102 = .ok (.iconst 4, 1) := dk_7 (dk_at dksX2_foretell_4 6 rfl rfl)
theorem dX2_foretell_103 : decode cX2_foretell 103 = .ok (.lload 6, 2) := dk_22 6 (dk_at dksX2_foretell_4 7 rfl rfl)
theorem dX2_foretell_105 : decode cX2_foretell 105 = .ok (.aload_n 0, 1) := dk_42 (dk_at dksX2_foretell_4 9 rfl rfl)
theorem dX2_foretell_106 : decode cX2_foretell 106 = .ok (.getfield 7, 3) := dk_180 0 7 (dk_at dksX2_foretell_4 10 rfl rfl)
theorem dX2_foretell_109 : decode cX2_foretell 109 = .ok (.i2l, 1) := dk_133 (dk_at dksX2_foretell_4 13 rfl rfl)
theorem dX2_foretell_110 : decode cX2_foretell 110 = .ok (.ladd, 1) := dk_97 (dk_at dksX2_foretell_4 14 rfl rfl)
theorem dX2_foretell_111 : decode cX2_foretell 111 = .ok (.lastore, 1) := dk_80 (dk_at dksX2_foretell_4 15 rfl rfl)
theorem dX2_foretell_112 : decode cX2_foretell 112 = .ok (.aload_n 0, 1) := dk_42 (dk_at dksX2_foretell_4 16 rfl rfl)
theorem dX2_foretell_113 : decode cX2_foretell 113 = .ok (.iload_n 1, 1) := dk_27 (dk_at dksX2_foretell_4 17 rfl rfl)
theorem dX2_foretell_114 : decode cX2_foretell 114 = .ok (.invokevirtual 174, 3) := dk_182 0 174 (dk_at dksX2_foretell_4 18 rfl rfl)
theorem dX2_foretell_117 : decode cX2_foretell 117 = .ok (.aload_n 0, 1) := dk_42 (dk_at dksX2_foretell_4 21 rfl rfl)
theorem dX2_foretell_118 : decode cX2_foretell 118 = .ok (.getfield 69, 3) := dk_180 0 69 (dk_at dksX2_foretell_5 0 rfl rfl)
theorem dX2_foretell_121 : decode cX2_foretell 121 = .ok (.iload_n 1, 1) := dk_27 (dk_at dksX2_foretell_5 3 rfl rfl)
theorem dX2_foretell_122 : decode cX2_foretell 122 = .ok (.aaload, 1) := dk_50 (dk_at dksX2_foretell_5 4 rfl rfl)
theorem dX2_foretell_123 : decode cX2_foretell 123 = .ok (.aload_n 0, 1) := dk_42 (dk_at dksX2_foretell_5 5 rfl rfl)
theorem dX2_foretell_124 : decode cX2_foretell 124 = .ok (.getfield 77, 3) := dk_180 0 77 (dk_at dksX2_foretell_5 6 rfl rfl)
theorem dX2_foretell_127 : decode cX2_foretell 127 = .ok (.iload_n 1, 1) := dk_27 (dk_at dksX2_foretell_5 9 rfl rfl)
theorem dX2_foretell_128 : decode cX2_foretell 128 = .ok (.aaload, 1) := dk_50 (dk_at dksX2_foretell_5 10 rfl rfl)
theorem dX2_foretell_129 : decode cX2_foretell 129 = .ok (.aload_n 0, 1) := dk_42 (dk_at dksX2_foretell_5 11 rfl rfl)
theorem dX2_foretell_130 : decode cX2_foretell 130 = .ok (.getfield 115, 3) := dk_180 0 115 (dk_at dksX2_foretell_5 12 rfl rfl)
theorem dX2_foretell_133 : decode cX2_foretell 133 = .ok (.aaload, 1) := dk_50 (dk_at dksX2_foretell_5 15 rfl rfl)
theorem dX2_foretell_134 : decode cX2_foretell 134 = .ok (.invokestatic 178, 3) := dk_184 0 178 (dk_at dksX2_foretell_5 16 rfl rfl)
theorem dX2_foretell_137 : decode cX2_foretell 137 = .ok (.return_, 1) := dk_177 (dk_at dksX2_foretell_5 19 rfl rfl)
abbrev cX2_holdAll : ByteArray := prog_9_method_15_code
def yX2_holdAll : MethodName := ⟨RX2, "holdAll", "(I)V"⟩
def dkwX2_holdAll_5 : List UInt8 := [20, 0, 170, 184, 0, 164, 80, 177]
abbrev dktX2_holdAll_5 : List UInt8 := dkwX2_holdAll_5 ++ []
def dkwX2_holdAll_4 : List UInt8 := [20, 0, 170, 184, 0, 164, 80, 42, 180, 0, 69, 27, 50, 7, 42, 180, 0, 69, 27, 50, 7, 47, 10]
abbrev dktX2_holdAll_4 : List UInt8 := dkwX2_holdAll_4 ++ dktX2_holdAll_5
def dkwX2_holdAll_3 : List UInt8 := [184, 0, 164, 80, 42, 180, 0, 69, 27, 50, 6, 42, 180, 0, 69, 27, 50, 6, 47, 20, 0, 168]
abbrev dktX2_holdAll_3 : List UInt8 := dkwX2_holdAll_3 ++ dktX2_holdAll_4
def dkwX2_holdAll_2 : List UInt8 := [184, 0, 164, 80, 42, 180, 0, 69, 27, 50, 5, 42, 180, 0, 69, 27, 50, 5, 47, 10, 20, 0, 170]
abbrev dktX2_holdAll_2 : List UInt8 := dkwX2_holdAll_2 ++ dktX2_holdAll_3
def dkwX2_holdAll_1 : List UInt8 := [80, 42, 180, 0, 69, 27, 50, 4, 42, 180, 0, 69, 27, 50, 4, 47, 20, 0, 168, 20, 0, 170]
abbrev dktX2_holdAll_1 : List UInt8 := dkwX2_holdAll_1 ++ dktX2_holdAll_2
def dkwX2_holdAll_0 : List UInt8 := [42, 180, 0, 69, 27, 50, 3, 42, 180, 0, 69, 27, 50, 3, 47, 20, 0, 160, 20, 0, 162, 184, 0, 164]
abbrev dktX2_holdAll_0 : List UInt8 := dkwX2_holdAll_0 ++ dktX2_holdAll_1
theorem dksX2_holdAll_0 : cX2_holdAll.data.toList.drop 0 = dktX2_holdAll_0 := by decide +kernel
theorem dksX2_holdAll_1 : cX2_holdAll.data.toList.drop 24 = dktX2_holdAll_1 := dk_seg dksX2_holdAll_0 24 rfl rfl
theorem dksX2_holdAll_2 : cX2_holdAll.data.toList.drop 46 = dktX2_holdAll_2 := dk_seg dksX2_holdAll_1 22 rfl rfl
theorem dksX2_holdAll_3 : cX2_holdAll.data.toList.drop 69 = dktX2_holdAll_3 := dk_seg dksX2_holdAll_2 23 rfl rfl
theorem dksX2_holdAll_4 : cX2_holdAll.data.toList.drop 91 = dktX2_holdAll_4 := dk_seg dksX2_holdAll_3 22 rfl rfl
theorem dksX2_holdAll_5 : cX2_holdAll.data.toList.drop 114 = dktX2_holdAll_5 := dk_seg dksX2_holdAll_4 23 rfl rfl
theorem dX2_holdAll_0 : decode cX2_holdAll 0 = .ok (.aload_n 0, 1) := dk_42 (dk_at dksX2_holdAll_0 0 rfl rfl)
theorem dX2_holdAll_1 : decode cX2_holdAll 1 = .ok (.getfield 69, 3) := dk_180 0 69 (dk_at dksX2_holdAll_0 1 rfl rfl)
theorem dX2_holdAll_4 : decode cX2_holdAll 4 = .ok (.iload_n 1, 1) := dk_27 (dk_at dksX2_holdAll_0 4 rfl rfl)
theorem dX2_holdAll_5 : decode cX2_holdAll 5 = .ok (.aaload, 1) := dk_50 (dk_at dksX2_holdAll_0 5 rfl rfl)
theorem dX2_holdAll_6 : decode cX2_holdAll 6 = .ok (.iconst 0, 1) := dk_3 (dk_at dksX2_holdAll_0 6 rfl rfl)
theorem dX2_holdAll_7 : decode cX2_holdAll 7 = .ok (.aload_n 0, 1) := dk_42 (dk_at dksX2_holdAll_0 7 rfl rfl)
theorem dX2_holdAll_8 : decode cX2_holdAll 8 = .ok (.getfield 69, 3) := dk_180 0 69 (dk_at dksX2_holdAll_0 8 rfl rfl)
theorem dX2_holdAll_11 : decode cX2_holdAll 11 = .ok (.iload_n 1, 1) := dk_27 (dk_at dksX2_holdAll_0 11 rfl rfl)
theorem dX2_holdAll_12 : decode cX2_holdAll 12 = .ok (.aaload, 1) := dk_50 (dk_at dksX2_holdAll_0 12 rfl rfl)
theorem dX2_holdAll_13 : decode cX2_holdAll 13 = .ok (.iconst 0, 1) := dk_3 (dk_at dksX2_holdAll_0 13 rfl rfl)
theorem dX2_holdAll_14 : decode cX2_holdAll 14 = .ok (.laload, 1) := dk_47 (dk_at dksX2_holdAll_0 14 rfl rfl)
theorem dX2_holdAll_15 : decode cX2_holdAll 15 = .ok (.ldc2_w 160, 3) := dk_20 0 160 (dk_at dksX2_holdAll_0 15 rfl rfl)
theorem dX2_holdAll_18 : decode cX2_holdAll 18 = .ok (.ldc2_w 162, 3) := dk_20 0 162 (dk_at dksX2_holdAll_0 18 rfl rfl)
theorem dX2_holdAll_21 : decode cX2_holdAll 21 = .ok (.invokestatic 164, 3) := dk_184 0 164 (dk_at dksX2_holdAll_0 21 rfl rfl)
theorem dX2_holdAll_24 : decode cX2_holdAll 24 = .ok (.lastore, 1) := dk_80 (dk_at dksX2_holdAll_1 0 rfl rfl)
theorem dX2_holdAll_25 : decode cX2_holdAll 25 = .ok (.aload_n 0, 1) := dk_42 (dk_at dksX2_holdAll_1 1 rfl rfl)
theorem dX2_holdAll_26 : decode cX2_holdAll 26 = .ok (.getfield 69, 3) := dk_180 0 69 (dk_at dksX2_holdAll_1 2 rfl rfl)
theorem dX2_holdAll_29 : decode cX2_holdAll 29 = .ok (.iload_n 1, 1) := dk_27 (dk_at dksX2_holdAll_1 5 rfl rfl)
theorem dX2_holdAll_30 : decode cX2_holdAll 30 = .ok (.aaload, 1) := dk_50 (dk_at dksX2_holdAll_1 6 rfl rfl)
theorem dX2_holdAll_31 : decode cX2_holdAll 31 = .ok (.iconst 1, 1) := dk_4 (dk_at dksX2_holdAll_1 7 rfl rfl)
theorem dX2_holdAll_32 : decode cX2_holdAll 32 = .ok (.aload_n 0, 1) := dk_42 (dk_at dksX2_holdAll_1 8 rfl rfl)
theorem dX2_holdAll_33 : decode cX2_holdAll 33 = .ok (.getfield 69, 3) := dk_180 0 69 (dk_at dksX2_holdAll_1 9 rfl rfl)
theorem dX2_holdAll_36 : decode cX2_holdAll 36 = .ok (.iload_n 1, 1) := dk_27 (dk_at dksX2_holdAll_1 12 rfl rfl)
theorem dX2_holdAll_37 : decode cX2_holdAll 37 = .ok (.aaload, 1) := dk_50 (dk_at dksX2_holdAll_1 13 rfl rfl)
theorem dX2_holdAll_38 : decode cX2_holdAll 38 = .ok (.iconst 1, 1) := dk_4 (dk_at dksX2_holdAll_1 14 rfl rfl)
theorem dX2_holdAll_39 : decode cX2_holdAll 39 = .ok (.laload, 1) := dk_47 (dk_at dksX2_holdAll_1 15 rfl rfl)
theorem dX2_holdAll_40 : decode cX2_holdAll 40 = .ok (.ldc2_w 168, 3) := dk_20 0 168 (dk_at dksX2_holdAll_1 16 rfl rfl)
theorem dX2_holdAll_43 : decode cX2_holdAll 43 = .ok (.ldc2_w 170, 3) := dk_20 0 170 (dk_at dksX2_holdAll_1 19 rfl rfl)
theorem dX2_holdAll_46 : decode cX2_holdAll 46 = .ok (.invokestatic 164, 3) := dk_184 0 164 (dk_at dksX2_holdAll_2 0 rfl rfl)
theorem dX2_holdAll_49 : decode cX2_holdAll 49 = .ok (.lastore, 1) := dk_80 (dk_at dksX2_holdAll_2 3 rfl rfl)
theorem dX2_holdAll_50 : decode cX2_holdAll 50 = .ok (.aload_n 0, 1) := dk_42 (dk_at dksX2_holdAll_2 4 rfl rfl)
theorem dX2_holdAll_51 : decode cX2_holdAll 51 = .ok (.getfield 69, 3) := dk_180 0 69 (dk_at dksX2_holdAll_2 5 rfl rfl)
theorem dX2_holdAll_54 : decode cX2_holdAll 54 = .ok (.iload_n 1, 1) := dk_27 (dk_at dksX2_holdAll_2 8 rfl rfl)
theorem dX2_holdAll_55 : decode cX2_holdAll 55 = .ok (.aaload, 1) := dk_50 (dk_at dksX2_holdAll_2 9 rfl rfl)
theorem dX2_holdAll_56 : decode cX2_holdAll 56 = .ok (.iconst 2, 1) := dk_5 (dk_at dksX2_holdAll_2 10 rfl rfl)
theorem dX2_holdAll_57 : decode cX2_holdAll 57 = .ok (.aload_n 0, 1) := dk_42 (dk_at dksX2_holdAll_2 11 rfl rfl)
theorem dX2_holdAll_58 : decode cX2_holdAll 58 = .ok (.getfield 69, 3) := dk_180 0 69 (dk_at dksX2_holdAll_2 12 rfl rfl)
theorem dX2_holdAll_61 : decode cX2_holdAll 61 = .ok (.iload_n 1, 1) := dk_27 (dk_at dksX2_holdAll_2 15 rfl rfl)
theorem dX2_holdAll_62 : decode cX2_holdAll 62 = .ok (.aaload, 1) := dk_50 (dk_at dksX2_holdAll_2 16 rfl rfl)
theorem dX2_holdAll_63 : decode cX2_holdAll 63 = .ok (.iconst 2, 1) := dk_5 (dk_at dksX2_holdAll_2 17 rfl rfl)
theorem dX2_holdAll_64 : decode cX2_holdAll 64 = .ok (.laload, 1) := dk_47 (dk_at dksX2_holdAll_2 18 rfl rfl)
theorem dX2_holdAll_65 : decode cX2_holdAll 65 = .ok (.lconst 1, 1) := dk_10 (dk_at dksX2_holdAll_2 19 rfl rfl)
theorem dX2_holdAll_66 : decode cX2_holdAll 66 = .ok (.ldc2_w 170, 3) := dk_20 0 170 (dk_at dksX2_holdAll_2 20 rfl rfl)
theorem dX2_holdAll_69 : decode cX2_holdAll 69 = .ok (.invokestatic 164, 3) := dk_184 0 164 (dk_at dksX2_holdAll_3 0 rfl rfl)
theorem dX2_holdAll_72 : decode cX2_holdAll 72 = .ok (.lastore, 1) := dk_80 (dk_at dksX2_holdAll_3 3 rfl rfl)
theorem dX2_holdAll_73 : decode cX2_holdAll 73 = .ok (.aload_n 0, 1) := dk_42 (dk_at dksX2_holdAll_3 4 rfl rfl)
theorem dX2_holdAll_74 : decode cX2_holdAll 74 = .ok (.getfield 69, 3) := dk_180 0 69 (dk_at dksX2_holdAll_3 5 rfl rfl)
theorem dX2_holdAll_77 : decode cX2_holdAll 77 = .ok (.iload_n 1, 1) := dk_27 (dk_at dksX2_holdAll_3 8 rfl rfl)
theorem dX2_holdAll_78 : decode cX2_holdAll 78 = .ok (.aaload, 1) := dk_50 (dk_at dksX2_holdAll_3 9 rfl rfl)
theorem dX2_holdAll_79 : decode cX2_holdAll 79 = .ok (.iconst 3, 1) := dk_6 (dk_at dksX2_holdAll_3 10 rfl rfl)
theorem dX2_holdAll_80 : decode cX2_holdAll 80 = .ok (.aload_n 0, 1) := dk_42 (dk_at dksX2_holdAll_3 11 rfl rfl)
theorem dX2_holdAll_81 : decode cX2_holdAll 81 = .ok (.getfield 69, 3) := dk_180 0 69 (dk_at dksX2_holdAll_3 12 rfl rfl)
theorem dX2_holdAll_84 : decode cX2_holdAll 84 = .ok (.iload_n 1, 1) := dk_27 (dk_at dksX2_holdAll_3 15 rfl rfl)
theorem dX2_holdAll_85 : decode cX2_holdAll 85 = .ok (.aaload, 1) := dk_50 (dk_at dksX2_holdAll_3 16 rfl rfl)
theorem dX2_holdAll_86 : decode cX2_holdAll 86 = .ok (.iconst 3, 1) := dk_6 (dk_at dksX2_holdAll_3 17 rfl rfl)
theorem dX2_holdAll_87 : decode cX2_holdAll 87 = .ok (.laload, 1) := dk_47 (dk_at dksX2_holdAll_3 18 rfl rfl)
theorem dX2_holdAll_88 : decode cX2_holdAll 88 = .ok (.ldc2_w 168, 3) := dk_20 0 168 (dk_at dksX2_holdAll_3 19 rfl rfl)
theorem dX2_holdAll_91 : decode cX2_holdAll 91 = .ok (.ldc2_w 170, 3) := dk_20 0 170 (dk_at dksX2_holdAll_4 0 rfl rfl)
theorem dX2_holdAll_94 : decode cX2_holdAll 94 = .ok (.invokestatic 164, 3) := dk_184 0 164 (dk_at dksX2_holdAll_4 3 rfl rfl)
theorem dX2_holdAll_97 : decode cX2_holdAll 97 = .ok (.lastore, 1) := dk_80 (dk_at dksX2_holdAll_4 6 rfl rfl)
theorem dX2_holdAll_98 : decode cX2_holdAll 98 = .ok (.aload_n 0, 1) := dk_42 (dk_at dksX2_holdAll_4 7 rfl rfl)
theorem dX2_holdAll_99 : decode cX2_holdAll 99 = .ok (.getfield 69, 3) := dk_180 0 69 (dk_at dksX2_holdAll_4 8 rfl rfl)
theorem dX2_holdAll_102 : decode cX2_holdAll 102 = .ok (.iload_n 1, 1) := dk_27 (dk_at dksX2_holdAll_4 11 rfl rfl)
theorem dX2_holdAll_103 : decode cX2_holdAll 103 = .ok (.aaload, 1) := dk_50 (dk_at dksX2_holdAll_4 12 rfl rfl)
theorem dX2_holdAll_104 : decode cX2_holdAll 104 = .ok (.iconst 4, 1) := dk_7 (dk_at dksX2_holdAll_4 13 rfl rfl)
theorem dX2_holdAll_105 : decode cX2_holdAll 105 = .ok (.aload_n 0, 1) := dk_42 (dk_at dksX2_holdAll_4 14 rfl rfl)
theorem dX2_holdAll_106 : decode cX2_holdAll 106 = .ok (.getfield 69, 3) := dk_180 0 69 (dk_at dksX2_holdAll_4 15 rfl rfl)
theorem dX2_holdAll_109 : decode cX2_holdAll 109 = .ok (.iload_n 1, 1) := dk_27 (dk_at dksX2_holdAll_4 18 rfl rfl)
theorem dX2_holdAll_110 : decode cX2_holdAll 110 = .ok (.aaload, 1) := dk_50 (dk_at dksX2_holdAll_4 19 rfl rfl)
theorem dX2_holdAll_111 : decode cX2_holdAll 111 = .ok (.iconst 4, 1) := dk_7 (dk_at dksX2_holdAll_4 20 rfl rfl)
theorem dX2_holdAll_112 : decode cX2_holdAll 112 = .ok (.laload, 1) := dk_47 (dk_at dksX2_holdAll_4 21 rfl rfl)
theorem dX2_holdAll_113 : decode cX2_holdAll 113 = .ok (.lconst 1, 1) := dk_10 (dk_at dksX2_holdAll_4 22 rfl rfl)
theorem dX2_holdAll_114 : decode cX2_holdAll 114 = .ok (.ldc2_w 170, 3) := dk_20 0 170 (dk_at dksX2_holdAll_5 0 rfl rfl)
theorem dX2_holdAll_117 : decode cX2_holdAll 117 = .ok (.invokestatic 164, 3) := dk_184 0 164 (dk_at dksX2_holdAll_5 3 rfl rfl)
theorem dX2_holdAll_120 : decode cX2_holdAll 120 = .ok (.lastore, 1) := dk_80 (dk_at dksX2_holdAll_5 6 rfl rfl)
theorem dX2_holdAll_121 : decode cX2_holdAll 121 = .ok (.return_, 1) := dk_177 (dk_at dksX2_holdAll_5 7 rfl rfl)
abbrev cX2_hold : ByteArray := prog_9_method_14_code
def yX2_hold : MethodName := ⟨RX2, "hold", "(JJJ)J"⟩
def dkwX2_hold_0 : List UInt8 := [32, 22, 4, 30, 184, 0, 151, 184, 0, 157, 173]
abbrev dktX2_hold_0 : List UInt8 := dkwX2_hold_0 ++ []
theorem dksX2_hold_0 : cX2_hold.data.toList.drop 0 = dktX2_hold_0 := by decide +kernel
theorem dX2_hold_0 : decode cX2_hold 0 = .ok (.lload_n 2, 1) := dk_32 (dk_at dksX2_hold_0 0 rfl rfl)
theorem dX2_hold_1 : decode cX2_hold 1 = .ok (.lload 4, 2) := dk_22 4 (dk_at dksX2_hold_0 1 rfl rfl)
theorem dX2_hold_3 : decode cX2_hold 3 = .ok (.lload_n 0, 1) := dk_30 (dk_at dksX2_hold_0 3 rfl rfl)
theorem dX2_hold_4 : decode cX2_hold 4 = .ok (.invokestatic 151, 3) := dk_184 0 151 (dk_at dksX2_hold_0 4 rfl rfl)
theorem dX2_hold_7 : decode cX2_hold 7 = .ok (.invokestatic 157, 3) := dk_184 0 157 (dk_at dksX2_hold_0 7 rfl rfl)
theorem dX2_hold_10 : decode cX2_hold 10 = .ok (.lreturn, 1) := dk_173 (dk_at dksX2_hold_0 10 rfl rfl)
abbrev cX2_copy : ByteArray := prog_9_method_16_code
def yX2_copy : MethodName := ⟨RX2, "copy", "([J[J)V"⟩
def dkwX2_copy_0 : List UInt8 := [3, 61, 28, 8, 162, 0, 15, 43, 28, 42, 28, 47, 80, 132, 2, 1, 167, 255, 242, 177]
abbrev dktX2_copy_0 : List UInt8 := dkwX2_copy_0 ++ []
theorem dksX2_copy_0 : cX2_copy.data.toList.drop 0 = dktX2_copy_0 := by decide +kernel
theorem dX2_copy_0 : decode cX2_copy 0 = .ok (.iconst 0, 1) := dk_3 (dk_at dksX2_copy_0 0 rfl rfl)
theorem dX2_copy_1 : decode cX2_copy 1 = .ok (.istore_n 2, 1) := dk_61 (dk_at dksX2_copy_0 1 rfl rfl)
theorem dX2_copy_2 : decode cX2_copy 2 = .ok (.iload_n 2, 1) := dk_28 (dk_at dksX2_copy_0 2 rfl rfl)
theorem dX2_copy_3 : decode cX2_copy 3 = .ok (.iconst 5, 1) := dk_8 (dk_at dksX2_copy_0 3 rfl rfl)
theorem dX2_copy_4 : decode cX2_copy 4 = .ok (.if_icmp .ge 15, 3) := dk_162 0 15 (dk_at dksX2_copy_0 4 rfl rfl)
theorem dX2_copy_7 : decode cX2_copy 7 = .ok (.aload_n 1, 1) := dk_43 (dk_at dksX2_copy_0 7 rfl rfl)
theorem dX2_copy_8 : decode cX2_copy 8 = .ok (.iload_n 2, 1) := dk_28 (dk_at dksX2_copy_0 8 rfl rfl)
theorem dX2_copy_9 : decode cX2_copy 9 = .ok (.aload_n 0, 1) := dk_42 (dk_at dksX2_copy_0 9 rfl rfl)
theorem dX2_copy_10 : decode cX2_copy 10 = .ok (.iload_n 2, 1) := dk_28 (dk_at dksX2_copy_0 10 rfl rfl)
theorem dX2_copy_11 : decode cX2_copy 11 = .ok (.laload, 1) := dk_47 (dk_at dksX2_copy_0 11 rfl rfl)
theorem dX2_copy_12 : decode cX2_copy 12 = .ok (.lastore, 1) := dk_80 (dk_at dksX2_copy_0 12 rfl rfl)
theorem dX2_copy_13 : decode cX2_copy 13 = .ok (.iinc 2 1, 3) := dk_132 2 1 (dk_at dksX2_copy_0 13 rfl rfl)
theorem dX2_copy_16 : decode cX2_copy 16 = .ok (.goto (-14), 3) := dk_167 255 242 (dk_at dksX2_copy_0 16 rfl rfl)
theorem dX2_copy_19 : decode cX2_copy 19 = .ok (.return_, 1) := dk_177 (dk_at dksX2_copy_0 19 rfl rfl)
abbrev cX2_assign : ByteArray := prog_9_method_25_code
def yX2_assign : MethodName := ⟨RX2, "assign", "(I)V"⟩
def dkwX2_assign_7 : List UInt8 := [28, 46, 182, 0, 226, 132, 2, 1, 167, 255, 219, 177]
abbrev dktX2_assign_7 : List UInt8 := dkwX2_assign_7 ++ []
def dkwX2_assign_6 : List UInt8 := [162, 0, 35, 42, 180, 0, 105, 28, 46, 2, 159, 0, 19, 42, 42, 180, 0, 99, 28, 46, 42, 180, 0, 105]
abbrev dktX2_assign_6 : List UInt8 := dkwX2_assign_6 ++ dktX2_assign_7
def dkwX2_assign_5 : List UInt8 := [181, 0, 196, 42, 9, 181, 0, 199, 42, 3, 3, 3, 9, 182, 0, 213, 3, 61, 28, 42, 180, 0, 193]
abbrev dktX2_assign_5 : List UInt8 := dkwX2_assign_5 ++ dktX2_assign_6
def dkwX2_assign_4 : List UInt8 := [180, 0, 193, 28, 79, 42, 89, 180, 0, 193, 4, 96, 181, 0, 193, 132, 2, 1, 167, 255, 207, 42, 2]
abbrev dktX2_assign_4 : List UInt8 := dkwX2_assign_4 ++ dktX2_assign_5
def dkwX2_assign_3 : List UInt8 := [180, 0, 39, 28, 51, 153, 0, 32, 42, 180, 0, 46, 28, 51, 154, 0, 23, 42, 180, 0, 99, 42]
abbrev dktX2_assign_3 : List UInt8 := dkwX2_assign_3 ++ dktX2_assign_4
def dkwX2_assign_2 : List UInt8 := [132, 2, 1, 167, 255, 215, 42, 3, 181, 0, 193, 3, 61, 28, 42, 180, 0, 130, 162, 0, 47, 42]
abbrev dktX2_assign_2 : List UInt8 := dkwX2_assign_2 ++ dktX2_assign_3
def dkwX2_assign_1 : List UInt8 := [160, 0, 23, 42, 180, 0, 96, 42, 180, 0, 203, 28, 79, 42, 89, 180, 0, 203, 4, 96, 181, 0, 203]
abbrev dktX2_assign_1 : List UInt8 := dkwX2_assign_1 ++ dktX2_assign_2
def dkwX2_assign_0 : List UInt8 := [42, 3, 181, 0, 203, 3, 61, 28, 42, 180, 0, 121, 162, 0, 39, 42, 180, 0, 30, 28, 46, 27]
abbrev dktX2_assign_0 : List UInt8 := dkwX2_assign_0 ++ dktX2_assign_1
theorem dksX2_assign_0 : cX2_assign.data.toList.drop 0 = dktX2_assign_0 := by decide +kernel
theorem dksX2_assign_1 : cX2_assign.data.toList.drop 22 = dktX2_assign_1 := dk_seg dksX2_assign_0 22 rfl rfl
theorem dksX2_assign_2 : cX2_assign.data.toList.drop 45 = dktX2_assign_2 := dk_seg dksX2_assign_1 23 rfl rfl
theorem dksX2_assign_3 : cX2_assign.data.toList.drop 67 = dktX2_assign_3 := dk_seg dksX2_assign_2 22 rfl rfl
theorem dksX2_assign_4 : cX2_assign.data.toList.drop 89 = dktX2_assign_4 := dk_seg dksX2_assign_3 22 rfl rfl
theorem dksX2_assign_5 : cX2_assign.data.toList.drop 112 = dktX2_assign_5 := dk_seg dksX2_assign_4 23 rfl rfl
theorem dksX2_assign_6 : cX2_assign.data.toList.drop 135 = dktX2_assign_6 := dk_seg dksX2_assign_5 23 rfl rfl
theorem dksX2_assign_7 : cX2_assign.data.toList.drop 159 = dktX2_assign_7 := dk_seg dksX2_assign_6 24 rfl rfl
theorem dX2_assign_0 : decode cX2_assign 0 = .ok (.aload_n 0, 1) := dk_42 (dk_at dksX2_assign_0 0 rfl rfl)
theorem dX2_assign_1 : decode cX2_assign 1 = .ok (.iconst 0, 1) := dk_3 (dk_at dksX2_assign_0 1 rfl rfl)
theorem dX2_assign_2 : decode cX2_assign 2 = .ok (.putfield 203, 3) := dk_181 0 203 (dk_at dksX2_assign_0 2 rfl rfl)
theorem dX2_assign_5 : decode cX2_assign 5 = .ok (.iconst 0, 1) := dk_3 (dk_at dksX2_assign_0 5 rfl rfl)
theorem dX2_assign_6 : decode cX2_assign 6 = .ok (.istore_n 2, 1) := dk_61 (dk_at dksX2_assign_0 6 rfl rfl)
theorem dX2_assign_7 : decode cX2_assign 7 = .ok (.iload_n 2, 1) := dk_28 (dk_at dksX2_assign_0 7 rfl rfl)
theorem dX2_assign_8 : decode cX2_assign 8 = .ok (.aload_n 0, 1) := dk_42 (dk_at dksX2_assign_0 8 rfl rfl)
theorem dX2_assign_9 : decode cX2_assign 9 = .ok (.getfield 121, 3) := dk_180 0 121 (dk_at dksX2_assign_0 9 rfl rfl)
theorem dX2_assign_12 : decode cX2_assign 12 = .ok (.if_icmp .ge 39, 3) := dk_162 0 39 (dk_at dksX2_assign_0 12 rfl rfl)
theorem dX2_assign_15 : decode cX2_assign 15 = .ok (.aload_n 0, 1) := dk_42 (dk_at dksX2_assign_0 15 rfl rfl)
theorem dX2_assign_16 : decode cX2_assign 16 = .ok (.getfield 30, 3) := dk_180 0 30 (dk_at dksX2_assign_0 16 rfl rfl)
theorem dX2_assign_19 : decode cX2_assign 19 = .ok (.iload_n 2, 1) := dk_28 (dk_at dksX2_assign_0 19 rfl rfl)
theorem dX2_assign_20 : decode cX2_assign 20 = .ok (.iaload, 1) := dk_46 (dk_at dksX2_assign_0 20 rfl rfl)
theorem dX2_assign_21 : decode cX2_assign 21 = .ok (.iload_n 1, 1) := dk_27 (dk_at dksX2_assign_0 21 rfl rfl)
theorem dX2_assign_22 : decode cX2_assign 22 = .ok (.if_icmp .ne 23, 3) := dk_160 0 23 (dk_at dksX2_assign_1 0 rfl rfl)
theorem dX2_assign_25 : decode cX2_assign 25 = .ok (.aload_n 0, 1) := dk_42 (dk_at dksX2_assign_1 3 rfl rfl)
theorem dX2_assign_26 : decode cX2_assign 26 = .ok (.getfield 96, 3) := dk_180 0 96 (dk_at dksX2_assign_1 4 rfl rfl)
theorem dX2_assign_29 : decode cX2_assign 29 = .ok (.aload_n 0, 1) := dk_42 (dk_at dksX2_assign_1 7 rfl rfl)
theorem dX2_assign_30 : decode cX2_assign 30 = .ok (.getfield 203, 3) := dk_180 0 203 (dk_at dksX2_assign_1 8 rfl rfl)
theorem dX2_assign_33 : decode cX2_assign 33 = .ok (.iload_n 2, 1) := dk_28 (dk_at dksX2_assign_1 11 rfl rfl)
theorem dX2_assign_34 : decode cX2_assign 34 = .ok (.iastore, 1) := dk_79 (dk_at dksX2_assign_1 12 rfl rfl)
theorem dX2_assign_35 : decode cX2_assign 35 = .ok (.aload_n 0, 1) := dk_42 (dk_at dksX2_assign_1 13 rfl rfl)
theorem dX2_assign_36 : decode cX2_assign 36 = .ok (.dup, 1) := dk_89 (dk_at dksX2_assign_1 14 rfl rfl)
theorem dX2_assign_37 : decode cX2_assign 37 = .ok (.getfield 203, 3) := dk_180 0 203 (dk_at dksX2_assign_1 15 rfl rfl)
theorem dX2_assign_40 : decode cX2_assign 40 = .ok (.iconst 1, 1) := dk_4 (dk_at dksX2_assign_1 18 rfl rfl)
theorem dX2_assign_41 : decode cX2_assign 41 = .ok (.iadd, 1) := dk_96 (dk_at dksX2_assign_1 19 rfl rfl)
theorem dX2_assign_42 : decode cX2_assign 42 = .ok (.putfield 203, 3) := dk_181 0 203 (dk_at dksX2_assign_1 20 rfl rfl)
theorem dX2_assign_45 : decode cX2_assign 45 = .ok (.iinc 2 1, 3) := dk_132 2 1 (dk_at dksX2_assign_2 0 rfl rfl)
theorem dX2_assign_48 : decode cX2_assign 48 = .ok (.goto (-41), 3) := dk_167 255 215 (dk_at dksX2_assign_2 3 rfl rfl)
theorem dX2_assign_51 : decode cX2_assign 51 = .ok (.aload_n 0, 1) := dk_42 (dk_at dksX2_assign_2 6 rfl rfl)
theorem dX2_assign_52 : decode cX2_assign 52 = .ok (.iconst 0, 1) := dk_3 (dk_at dksX2_assign_2 7 rfl rfl)
theorem dX2_assign_53 : decode cX2_assign 53 = .ok (.putfield 193, 3) := dk_181 0 193 (dk_at dksX2_assign_2 8 rfl rfl)
theorem dX2_assign_56 : decode cX2_assign 56 = .ok (.iconst 0, 1) := dk_3 (dk_at dksX2_assign_2 11 rfl rfl)
theorem dX2_assign_57 : decode cX2_assign 57 = .ok (.istore_n 2, 1) := dk_61 (dk_at dksX2_assign_2 12 rfl rfl)
theorem dX2_assign_58 : decode cX2_assign 58 = .ok (.iload_n 2, 1) := dk_28 (dk_at dksX2_assign_2 13 rfl rfl)
theorem dX2_assign_59 : decode cX2_assign 59 = .ok (.aload_n 0, 1) := dk_42 (dk_at dksX2_assign_2 14 rfl rfl)
theorem dX2_assign_60 : decode cX2_assign 60 = .ok (.getfield 130, 3) := dk_180 0 130 (dk_at dksX2_assign_2 15 rfl rfl)
theorem dX2_assign_63 : decode cX2_assign 63 = .ok (.if_icmp .ge 47, 3) := dk_162 0 47 (dk_at dksX2_assign_2 18 rfl rfl)
theorem dX2_assign_66 : decode cX2_assign 66 = .ok (.aload_n 0, 1) := dk_42 (dk_at dksX2_assign_2 21 rfl rfl)
theorem dX2_assign_67 : decode cX2_assign 67 = .ok (.getfield 39, 3) := dk_180 0 39 (dk_at dksX2_assign_3 0 rfl rfl)
theorem dX2_assign_70 : decode cX2_assign 70 = .ok (.iload_n 2, 1) := dk_28 (dk_at dksX2_assign_3 3 rfl rfl)
theorem dX2_assign_71 : decode cX2_assign 71 = .ok (.baload, 1) := dk_51 (dk_at dksX2_assign_3 4 rfl rfl)
theorem dX2_assign_72 : decode cX2_assign 72 = .ok (.ifCond .eq 32, 3) := dk_153 0 32 (dk_at dksX2_assign_3 5 rfl rfl)
theorem dX2_assign_75 : decode cX2_assign 75 = .ok (.aload_n 0, 1) := dk_42 (dk_at dksX2_assign_3 8 rfl rfl)
theorem dX2_assign_76 : decode cX2_assign 76 = .ok (.getfield 46, 3) := dk_180 0 46 (dk_at dksX2_assign_3 9 rfl rfl)
theorem dX2_assign_79 : decode cX2_assign 79 = .ok (.iload_n 2, 1) := dk_28 (dk_at dksX2_assign_3 12 rfl rfl)
theorem dX2_assign_80 : decode cX2_assign 80 = .ok (.baload, 1) := dk_51 (dk_at dksX2_assign_3 13 rfl rfl)
theorem dX2_assign_81 : decode cX2_assign 81 = .ok (.ifCond .ne 23, 3) := dk_154 0 23 (dk_at dksX2_assign_3 14 rfl rfl)
theorem dX2_assign_84 : decode cX2_assign 84 = .ok (.aload_n 0, 1) := dk_42 (dk_at dksX2_assign_3 17 rfl rfl)
theorem dX2_assign_85 : decode cX2_assign 85 = .ok (.getfield 99, 3) := dk_180 0 99 (dk_at dksX2_assign_3 18 rfl rfl)
theorem dX2_assign_88 : decode cX2_assign 88 = .ok (.aload_n 0, 1) := dk_42 (dk_at dksX2_assign_3 21 rfl rfl)
theorem dX2_assign_89 : decode cX2_assign 89 = .ok (.getfield 193, 3) := dk_180 0 193 (dk_at dksX2_assign_4 0 rfl rfl)
theorem dX2_assign_92 : decode cX2_assign 92 = .ok (.iload_n 2, 1) := dk_28 (dk_at dksX2_assign_4 3 rfl rfl)
theorem dX2_assign_93 : decode cX2_assign 93 = .ok (.iastore, 1) := dk_79 (dk_at dksX2_assign_4 4 rfl rfl)
theorem dX2_assign_94 : decode cX2_assign 94 = .ok (.aload_n 0, 1) := dk_42 (dk_at dksX2_assign_4 5 rfl rfl)
theorem dX2_assign_95 : decode cX2_assign 95 = .ok (.dup, 1) := dk_89 (dk_at dksX2_assign_4 6 rfl rfl)
theorem dX2_assign_96 : decode cX2_assign 96 = .ok (.getfield 193, 3) := dk_180 0 193 (dk_at dksX2_assign_4 7 rfl rfl)
theorem dX2_assign_99 : decode cX2_assign 99 = .ok (.iconst 1, 1) := dk_4 (dk_at dksX2_assign_4 10 rfl rfl)
theorem dX2_assign_100 : decode cX2_assign 100 = .ok (.iadd, 1) := dk_96 (dk_at dksX2_assign_4 11 rfl rfl)
theorem dX2_assign_101 : decode cX2_assign 101 = .ok (.putfield 193, 3) := dk_181 0 193 (dk_at dksX2_assign_4 12 rfl rfl)
theorem dX2_assign_104 : decode cX2_assign 104 = .ok (.iinc 2 1, 3) := dk_132 2 1 (dk_at dksX2_assign_4 15 rfl rfl)
theorem dX2_assign_107 : decode cX2_assign 107 = .ok (.goto (-49), 3) := dk_167 255 207 (dk_at dksX2_assign_4 18 rfl rfl)
theorem dX2_assign_110 : decode cX2_assign 110 = .ok (.aload_n 0, 1) := dk_42 (dk_at dksX2_assign_4 21 rfl rfl)
theorem dX2_assign_111 : decode cX2_assign 111 = .ok (.iconst (-1), 1) := dk_2 (dk_at dksX2_assign_4 22 rfl rfl)
theorem dX2_assign_112 : decode cX2_assign 112 = .ok (.putfield 196, 3) := dk_181 0 196 (dk_at dksX2_assign_5 0 rfl rfl)
theorem dX2_assign_115 : decode cX2_assign 115 = .ok (.aload_n 0, 1) := dk_42 (dk_at dksX2_assign_5 3 rfl rfl)
theorem dX2_assign_116 : decode cX2_assign 116 = .ok (.lconst 0, 1) := dk_9 (dk_at dksX2_assign_5 4 rfl rfl)
theorem dX2_assign_117 : decode cX2_assign 117 = .ok (.putfield 199, 3) := dk_181 0 199 (dk_at dksX2_assign_5 5 rfl rfl)
theorem dX2_assign_120 : decode cX2_assign 120 = .ok (.aload_n 0, 1) := dk_42 (dk_at dksX2_assign_5 8 rfl rfl)
theorem dX2_assign_121 : decode cX2_assign 121 = .ok (.iconst 0, 1) := dk_3 (dk_at dksX2_assign_5 9 rfl rfl)
theorem dX2_assign_122 : decode cX2_assign 122 = .ok (.iconst 0, 1) := dk_3 (dk_at dksX2_assign_5 10 rfl rfl)
theorem dX2_assign_123 : decode cX2_assign 123 = .ok (.iconst 0, 1) := dk_3 (dk_at dksX2_assign_5 11 rfl rfl)
theorem dX2_assign_124 : decode cX2_assign 124 = .ok (.lconst 0, 1) := dk_9 (dk_at dksX2_assign_5 12 rfl rfl)
theorem dX2_assign_125 : decode cX2_assign 125 = .ok (.invokevirtual 213, 3) := dk_182 0 213 (dk_at dksX2_assign_5 13 rfl rfl)
theorem dX2_assign_128 : decode cX2_assign 128 = .ok (.iconst 0, 1) := dk_3 (dk_at dksX2_assign_5 16 rfl rfl)
theorem dX2_assign_129 : decode cX2_assign 129 = .ok (.istore_n 2, 1) := dk_61 (dk_at dksX2_assign_5 17 rfl rfl)
theorem dX2_assign_130 : decode cX2_assign 130 = .ok (.iload_n 2, 1) := dk_28 (dk_at dksX2_assign_5 18 rfl rfl)
theorem dX2_assign_131 : decode cX2_assign 131 = .ok (.aload_n 0, 1) := dk_42 (dk_at dksX2_assign_5 19 rfl rfl)
theorem dX2_assign_132 : decode cX2_assign 132 = .ok (.getfield 193, 3) := dk_180 0 193 (dk_at dksX2_assign_5 20 rfl rfl)
theorem dX2_assign_135 : decode cX2_assign 135 = .ok (.if_icmp .ge 35, 3) := dk_162 0 35 (dk_at dksX2_assign_6 0 rfl rfl)
theorem dX2_assign_138 : decode cX2_assign 138 = .ok (.aload_n 0, 1) := dk_42 (dk_at dksX2_assign_6 3 rfl rfl)
theorem dX2_assign_139 : decode cX2_assign 139 = .ok (.getfield 105, 3) := dk_180 0 105 (dk_at dksX2_assign_6 4 rfl rfl)
theorem dX2_assign_142 : decode cX2_assign 142 = .ok (.iload_n 2, 1) := dk_28 (dk_at dksX2_assign_6 7 rfl rfl)
theorem dX2_assign_143 : decode cX2_assign 143 = .ok (.iaload, 1) := dk_46 (dk_at dksX2_assign_6 8 rfl rfl)
theorem dX2_assign_144 : decode cX2_assign 144 = .ok (.iconst (-1), 1) := dk_2 (dk_at dksX2_assign_6 9 rfl rfl)
theorem dX2_assign_145 : decode cX2_assign 145 = .ok (.if_icmp .eq 19, 3) := dk_159 0 19 (dk_at dksX2_assign_6 10 rfl rfl)
theorem dX2_assign_148 : decode cX2_assign 148 = .ok (.aload_n 0, 1) := dk_42 (dk_at dksX2_assign_6 13 rfl rfl)
theorem dX2_assign_149 : decode cX2_assign 149 = .ok (.aload_n 0, 1) := dk_42 (dk_at dksX2_assign_6 14 rfl rfl)
theorem dX2_assign_150 : decode cX2_assign 150 = .ok (.getfield 99, 3) := dk_180 0 99 (dk_at dksX2_assign_6 15 rfl rfl)
theorem dX2_assign_153 : decode cX2_assign 153 = .ok (.iload_n 2, 1) := dk_28 (dk_at dksX2_assign_6 18 rfl rfl)
theorem dX2_assign_154 : decode cX2_assign 154 = .ok (.iaload, 1) := dk_46 (dk_at dksX2_assign_6 19 rfl rfl)
theorem dX2_assign_155 : decode cX2_assign 155 = .ok (.aload_n 0, 1) := dk_42 (dk_at dksX2_assign_6 20 rfl rfl)
theorem dX2_assign_156 : decode cX2_assign 156 = .ok (.getfield 105, 3) := dk_180 0 105 (dk_at dksX2_assign_6 21 rfl rfl)
theorem dX2_assign_159 : decode cX2_assign 159 = .ok (.iload_n 2, 1) := dk_28 (dk_at dksX2_assign_7 0 rfl rfl)
theorem dX2_assign_160 : decode cX2_assign 160 = .ok (.iaload, 1) := dk_46 (dk_at dksX2_assign_7 1 rfl rfl)
theorem dX2_assign_161 : decode cX2_assign 161 = .ok (.invokevirtual 226, 3) := dk_182 0 226 (dk_at dksX2_assign_7 2 rfl rfl)
theorem dX2_assign_164 : decode cX2_assign 164 = .ok (.iinc 2 1, 3) := dk_132 2 1 (dk_at dksX2_assign_7 5 rfl rfl)
theorem dX2_assign_167 : decode cX2_assign 167 = .ok (.goto (-37), 3) := dk_167 255 219 (dk_at dksX2_assign_7 8 rfl rfl)
theorem dX2_assign_170 : decode cX2_assign 170 = .ok (.return_, 1) := dk_177 (dk_at dksX2_assign_7 11 rfl rfl)
abbrev cX2_tryFrom : ByteArray := prog_9_method_22_code
def yX2_tryFrom : MethodName := ⟨RX2, "tryFrom", "(IIIJ)V"⟩
def dkwX2_tryFrom_8 : List UInt8 := [182, 0, 213, 177]
abbrev dktX2_tryFrom_8 : List UInt8 := dkwX2_tryFrom_8 ++ []
def dkwX2_tryFrom_7 : List UInt8 := [182, 0, 213, 132, 6, 1, 167, 255, 166, 42, 180, 0, 102, 27, 2, 79, 42, 27, 4, 96, 28, 29, 22, 4]
abbrev dktX2_tryFrom_7 : List UInt8 := dkwX2_tryFrom_7 ++ dktX2_tryFrom_8
def dkwX2_tryFrom_6 : List UInt8 := [4, 96, 22, 4, 42, 42, 180, 0, 99, 27, 46, 42, 180, 0, 96, 21, 6, 46, 182, 0, 210, 97]
abbrev dktX2_tryFrom_6 : List UInt8 := dkwX2_tryFrom_6 ++ dktX2_tryFrom_7
def dkwX2_tryFrom_5 : List UInt8 := [42, 180, 0, 102, 27, 42, 180, 0, 96, 21, 6, 46, 79, 42, 27, 4, 96, 28, 4, 21, 6, 120, 128, 29]
abbrev dktX2_tryFrom_5 : List UInt8 := dkwX2_tryFrom_5 ++ dktX2_tryFrom_6
def dkwX2_tryFrom_4 : List UInt8 := [126, 154, 0, 72, 42, 42, 180, 0, 99, 27, 46, 42, 180, 0, 96, 21, 6, 46, 182, 0, 206, 153, 0, 52]
abbrev dktX2_tryFrom_4 : List UInt8 := dkwX2_tryFrom_4 ++ dktX2_tryFrom_5
def dkwX2_tryFrom_3 : List UInt8 := [132, 6, 1, 167, 255, 230, 177, 3, 54, 6, 21, 6, 42, 180, 0, 203, 162, 0, 87, 28, 21, 6, 122, 4]
abbrev dktX2_tryFrom_3 : List UInt8 := dkwX2_tryFrom_3 ++ dktX2_tryFrom_4
def dkwX2_tryFrom_2 : List UInt8 := [21, 6, 42, 180, 0, 193, 162, 0, 23, 42, 180, 0, 105, 21, 6, 42, 180, 0, 102, 21, 6, 46, 79]
abbrev dktX2_tryFrom_2 : List UInt8 := dkwX2_tryFrom_2 ++ dktX2_tryFrom_3
def dkwX2_tryFrom_1 : List UInt8 := [22, 4, 42, 180, 0, 199, 148, 156, 0, 46, 42, 29, 181, 0, 196, 42, 22, 4, 181, 0, 199, 3, 54, 6]
abbrev dktX2_tryFrom_1 : List UInt8 := dkwX2_tryFrom_1 ++ dktX2_tryFrom_2
def dkwX2_tryFrom_0 : List UInt8 := [27, 42, 180, 0, 193, 160, 0, 73, 29, 42, 180, 0, 196, 163, 0, 21, 29, 42, 180, 0, 196, 160, 0, 56]
abbrev dktX2_tryFrom_0 : List UInt8 := dkwX2_tryFrom_0 ++ dktX2_tryFrom_1
theorem dksX2_tryFrom_0 : cX2_tryFrom.data.toList.drop 0 = dktX2_tryFrom_0 := by decide +kernel
theorem dksX2_tryFrom_1 : cX2_tryFrom.data.toList.drop 24 = dktX2_tryFrom_1 := dk_seg dksX2_tryFrom_0 24 rfl rfl
theorem dksX2_tryFrom_2 : cX2_tryFrom.data.toList.drop 48 = dktX2_tryFrom_2 := dk_seg dksX2_tryFrom_1 24 rfl rfl
theorem dksX2_tryFrom_3 : cX2_tryFrom.data.toList.drop 71 = dktX2_tryFrom_3 := dk_seg dksX2_tryFrom_2 23 rfl rfl
theorem dksX2_tryFrom_4 : cX2_tryFrom.data.toList.drop 95 = dktX2_tryFrom_4 := dk_seg dksX2_tryFrom_3 24 rfl rfl
theorem dksX2_tryFrom_5 : cX2_tryFrom.data.toList.drop 119 = dktX2_tryFrom_5 := dk_seg dksX2_tryFrom_4 24 rfl rfl
theorem dksX2_tryFrom_6 : cX2_tryFrom.data.toList.drop 143 = dktX2_tryFrom_6 := dk_seg dksX2_tryFrom_5 24 rfl rfl
theorem dksX2_tryFrom_7 : cX2_tryFrom.data.toList.drop 165 = dktX2_tryFrom_7 := dk_seg dksX2_tryFrom_6 22 rfl rfl
theorem dksX2_tryFrom_8 : cX2_tryFrom.data.toList.drop 189 = dktX2_tryFrom_8 := dk_seg dksX2_tryFrom_7 24 rfl rfl
theorem dX2_tryFrom_0 : decode cX2_tryFrom 0 = .ok (.iload_n 1, 1) := dk_27 (dk_at dksX2_tryFrom_0 0 rfl rfl)
theorem dX2_tryFrom_1 : decode cX2_tryFrom 1 = .ok (.aload_n 0, 1) := dk_42 (dk_at dksX2_tryFrom_0 1 rfl rfl)
theorem dX2_tryFrom_2 : decode cX2_tryFrom 2 = .ok (.getfield 193, 3) := dk_180 0 193 (dk_at dksX2_tryFrom_0 2 rfl rfl)
theorem dX2_tryFrom_5 : decode cX2_tryFrom 5 = .ok (.if_icmp .ne 73, 3) := dk_160 0 73 (dk_at dksX2_tryFrom_0 5 rfl rfl)
theorem dX2_tryFrom_8 : decode cX2_tryFrom 8 = .ok (.iload_n 3, 1) := dk_29 (dk_at dksX2_tryFrom_0 8 rfl rfl)
theorem dX2_tryFrom_9 : decode cX2_tryFrom 9 = .ok (.aload_n 0, 1) := dk_42 (dk_at dksX2_tryFrom_0 9 rfl rfl)
theorem dX2_tryFrom_10 : decode cX2_tryFrom 10 = .ok (.getfield 196, 3) := dk_180 0 196 (dk_at dksX2_tryFrom_0 10 rfl rfl)
theorem dX2_tryFrom_13 : decode cX2_tryFrom 13 = .ok (.if_icmp .gt 21, 3) := dk_163 0 21 (dk_at dksX2_tryFrom_0 13 rfl rfl)
theorem dX2_tryFrom_16 : decode cX2_tryFrom 16 = .ok (.iload_n 3, 1) := dk_29 (dk_at dksX2_tryFrom_0 16 rfl rfl)
theorem dX2_tryFrom_17 : decode cX2_tryFrom 17 = .ok (.aload_n 0, 1) := dk_42 (dk_at dksX2_tryFrom_0 17 rfl rfl)
theorem dX2_tryFrom_18 : decode cX2_tryFrom 18 = .ok (.getfield 196, 3) := dk_180 0 196 (dk_at dksX2_tryFrom_0 18 rfl rfl)
theorem dX2_tryFrom_21 : decode cX2_tryFrom 21 = .ok (.if_icmp .ne 56, 3) := dk_160 0 56 (dk_at dksX2_tryFrom_0 21 rfl rfl)
theorem dX2_tryFrom_24 : decode cX2_tryFrom 24 = .ok (.lload 4, 2) := dk_22 4 (dk_at dksX2_tryFrom_1 0 rfl rfl)
theorem dX2_tryFrom_26 : decode cX2_tryFrom 26 = .ok (.aload_n 0, 1) := dk_42 (dk_at dksX2_tryFrom_1 2 rfl rfl)
theorem dX2_tryFrom_27 : decode cX2_tryFrom 27 = .ok (.getfield 199, 3) := dk_180 0 199 (dk_at dksX2_tryFrom_1 3 rfl rfl)
theorem dX2_tryFrom_30 : decode cX2_tryFrom 30 = .ok (.lcmp, 1) := dk_148 (dk_at dksX2_tryFrom_1 6 rfl rfl)
theorem dX2_tryFrom_31 : decode cX2_tryFrom 31 = .ok (.ifCond .ge 46, 3) := dk_156 0 46 (dk_at dksX2_tryFrom_1 7 rfl rfl)
theorem dX2_tryFrom_34 : decode cX2_tryFrom 34 = .ok (.aload_n 0, 1) := dk_42 (dk_at dksX2_tryFrom_1 10 rfl rfl)
theorem dX2_tryFrom_35 : decode cX2_tryFrom 35 = .ok (.iload_n 3, 1) := dk_29 (dk_at dksX2_tryFrom_1 11 rfl rfl)
theorem dX2_tryFrom_36 : decode cX2_tryFrom 36 = .ok (.putfield 196, 3) := dk_181 0 196 (dk_at dksX2_tryFrom_1 12 rfl rfl)
theorem dX2_tryFrom_39 : decode cX2_tryFrom 39 = .ok (.aload_n 0, 1) := dk_42 (dk_at dksX2_tryFrom_1 15 rfl rfl)
theorem dX2_tryFrom_40 : decode cX2_tryFrom 40 = .ok (.lload 4, 2) := dk_22 4 (dk_at dksX2_tryFrom_1 16 rfl rfl)
theorem dX2_tryFrom_42 : decode cX2_tryFrom 42 = .ok (.putfield 199, 3) := dk_181 0 199 (dk_at dksX2_tryFrom_1 18 rfl rfl)
theorem dX2_tryFrom_45 : decode cX2_tryFrom 45 = .ok (.iconst 0, 1) := dk_3 (dk_at dksX2_tryFrom_1 21 rfl rfl)
theorem dX2_tryFrom_46 : decode cX2_tryFrom 46 = .ok (.istore 6, 2) := dk_54 6 (dk_at dksX2_tryFrom_1 22 rfl rfl)
theorem dX2_tryFrom_48 : decode cX2_tryFrom 48 = .ok (.iload 6, 2) := dk_21 6 (dk_at dksX2_tryFrom_2 0 rfl rfl)
theorem dX2_tryFrom_50 : decode cX2_tryFrom 50 = .ok (.aload_n 0, 1) := dk_42 (dk_at dksX2_tryFrom_2 2 rfl rfl)
theorem dX2_tryFrom_51 : decode cX2_tryFrom 51 = .ok (.getfield 193, 3) := dk_180 0 193 (dk_at dksX2_tryFrom_2 3 rfl rfl)
theorem dX2_tryFrom_54 : decode cX2_tryFrom 54 = .ok (.if_icmp .ge 23, 3) := dk_162 0 23 (dk_at dksX2_tryFrom_2 6 rfl rfl)
theorem dX2_tryFrom_57 : decode cX2_tryFrom 57 = .ok (.aload_n 0, 1) := dk_42 (dk_at dksX2_tryFrom_2 9 rfl rfl)
theorem dX2_tryFrom_58 : decode cX2_tryFrom 58 = .ok (.getfield 105, 3) := dk_180 0 105 (dk_at dksX2_tryFrom_2 10 rfl rfl)
theorem dX2_tryFrom_61 : decode cX2_tryFrom 61 = .ok (.iload 6, 2) := dk_21 6 (dk_at dksX2_tryFrom_2 13 rfl rfl)
theorem dX2_tryFrom_63 : decode cX2_tryFrom 63 = .ok (.aload_n 0, 1) := dk_42 (dk_at dksX2_tryFrom_2 15 rfl rfl)
theorem dX2_tryFrom_64 : decode cX2_tryFrom 64 = .ok (.getfield 102, 3) := dk_180 0 102 (dk_at dksX2_tryFrom_2 16 rfl rfl)
theorem dX2_tryFrom_67 : decode cX2_tryFrom 67 = .ok (.iload 6, 2) := dk_21 6 (dk_at dksX2_tryFrom_2 19 rfl rfl)
theorem dX2_tryFrom_69 : decode cX2_tryFrom 69 = .ok (.iaload, 1) := dk_46 (dk_at dksX2_tryFrom_2 21 rfl rfl)
theorem dX2_tryFrom_70 : decode cX2_tryFrom 70 = .ok (.iastore, 1) := dk_79 (dk_at dksX2_tryFrom_2 22 rfl rfl)
theorem dX2_tryFrom_71 : decode cX2_tryFrom 71 = .ok (.iinc 6 1, 3) := dk_132 6 1 (dk_at dksX2_tryFrom_3 0 rfl rfl)
theorem dX2_tryFrom_74 : decode cX2_tryFrom 74 = .ok (.goto (-26), 3) := dk_167 255 230 (dk_at dksX2_tryFrom_3 3 rfl rfl)
theorem dX2_tryFrom_77 : decode cX2_tryFrom 77 = .ok (.return_, 1) := dk_177 (dk_at dksX2_tryFrom_3 6 rfl rfl)
theorem dX2_tryFrom_78 : decode cX2_tryFrom 78 = .ok (.iconst 0, 1) := dk_3 (dk_at dksX2_tryFrom_3 7 rfl rfl)
theorem dX2_tryFrom_79 : decode cX2_tryFrom 79 = .ok (.istore 6, 2) := dk_54 6 (dk_at dksX2_tryFrom_3 8 rfl rfl)
theorem dX2_tryFrom_81 : decode cX2_tryFrom 81 = .ok (.iload 6, 2) := dk_21 6 (dk_at dksX2_tryFrom_3 10 rfl rfl)
theorem dX2_tryFrom_83 : decode cX2_tryFrom 83 = .ok (.aload_n 0, 1) := dk_42 (dk_at dksX2_tryFrom_3 12 rfl rfl)
theorem dX2_tryFrom_84 : decode cX2_tryFrom 84 = .ok (.getfield 203, 3) := dk_180 0 203 (dk_at dksX2_tryFrom_3 13 rfl rfl)
theorem dX2_tryFrom_87 : decode cX2_tryFrom 87 = .ok (.if_icmp .ge 87, 3) := dk_162 0 87 (dk_at dksX2_tryFrom_3 16 rfl rfl)
theorem dX2_tryFrom_90 : decode cX2_tryFrom 90 = .ok (.iload_n 2, 1) := dk_28 (dk_at dksX2_tryFrom_3 19 rfl rfl)
theorem dX2_tryFrom_91 : decode cX2_tryFrom 91 = .ok (.iload 6, 2) := dk_21 6 (dk_at dksX2_tryFrom_3 20 rfl rfl)
theorem dX2_tryFrom_93 : decode cX2_tryFrom 93 = .ok (.ishr, 1) := dk_122 (dk_at dksX2_tryFrom_3 22 rfl rfl)
theorem dX2_tryFrom_94 : decode cX2_tryFrom 94 = .ok (.iconst 1, 1) := dk_4 (dk_at dksX2_tryFrom_3 23 rfl rfl)
theorem dX2_tryFrom_95 : decode cX2_tryFrom 95 = .ok (.iand, 1) := dk_126 (dk_at dksX2_tryFrom_4 0 rfl rfl)
theorem dX2_tryFrom_96 : decode cX2_tryFrom 96 = .ok (.ifCond .ne 72, 3) := dk_154 0 72 (dk_at dksX2_tryFrom_4 1 rfl rfl)
theorem dX2_tryFrom_99 : decode cX2_tryFrom 99 = .ok (.aload_n 0, 1) := dk_42 (dk_at dksX2_tryFrom_4 4 rfl rfl)
theorem dX2_tryFrom_100 : decode cX2_tryFrom 100 = .ok (.aload_n 0, 1) := dk_42 (dk_at dksX2_tryFrom_4 5 rfl rfl)
theorem dX2_tryFrom_101 : decode cX2_tryFrom 101 = .ok (.getfield 99, 3) := dk_180 0 99 (dk_at dksX2_tryFrom_4 6 rfl rfl)
theorem dX2_tryFrom_104 : decode cX2_tryFrom 104 = .ok (.iload_n 1, 1) := dk_27 (dk_at dksX2_tryFrom_4 9 rfl rfl)
theorem dX2_tryFrom_105 : decode cX2_tryFrom 105 = .ok (.iaload, 1) := dk_46 (dk_at dksX2_tryFrom_4 10 rfl rfl)
theorem dX2_tryFrom_106 : decode cX2_tryFrom 106 = .ok (.aload_n 0, 1) := dk_42 (dk_at dksX2_tryFrom_4 11 rfl rfl)
theorem dX2_tryFrom_107 : decode cX2_tryFrom 107 = .ok (.getfield 96, 3) := dk_180 0 96 (dk_at dksX2_tryFrom_4 12 rfl rfl)
theorem dX2_tryFrom_110 : decode cX2_tryFrom 110 = .ok (.iload 6, 2) := dk_21 6 (dk_at dksX2_tryFrom_4 15 rfl rfl)
theorem dX2_tryFrom_112 : decode cX2_tryFrom 112 = .ok (.iaload, 1) := dk_46 (dk_at dksX2_tryFrom_4 17 rfl rfl)
theorem dX2_tryFrom_113 : decode cX2_tryFrom 113 = .ok (.invokevirtual 206, 3) := dk_182 0 206 (dk_at dksX2_tryFrom_4 18 rfl rfl)
theorem dX2_tryFrom_116 : decode cX2_tryFrom 116 = .ok (.ifCond .eq 52, 3) := dk_153 0 52 (dk_at dksX2_tryFrom_4 21 rfl rfl)
theorem dX2_tryFrom_119 : decode cX2_tryFrom 119 = .ok (.aload_n 0, 1) := dk_42 (dk_at dksX2_tryFrom_5 0 rfl rfl)
theorem dX2_tryFrom_120 : decode cX2_tryFrom 120 = .ok (.getfield 102, 3) := dk_180 0 102 (dk_at dksX2_tryFrom_5 1 rfl rfl)
theorem dX2_tryFrom_123 : decode cX2_tryFrom 123 = .ok (.iload_n 1, 1) := dk_27 (dk_at dksX2_tryFrom_5 4 rfl rfl)
theorem dX2_tryFrom_124 : decode cX2_tryFrom 124 = .ok (.aload_n 0, 1) := dk_42 (dk_at dksX2_tryFrom_5 5 rfl rfl)
theorem dX2_tryFrom_125 : decode cX2_tryFrom 125 = .ok (.getfield 96, 3) := dk_180 0 96 (dk_at dksX2_tryFrom_5 6 rfl rfl)
theorem dX2_tryFrom_128 : decode cX2_tryFrom 128 = .ok (.iload 6, 2) := dk_21 6 (dk_at dksX2_tryFrom_5 9 rfl rfl)
theorem dX2_tryFrom_130 : decode cX2_tryFrom 130 = .ok (.iaload, 1) := dk_46 (dk_at dksX2_tryFrom_5 11 rfl rfl)
theorem dX2_tryFrom_131 : decode cX2_tryFrom 131 = .ok (.iastore, 1) := dk_79 (dk_at dksX2_tryFrom_5 12 rfl rfl)
theorem dX2_tryFrom_132 : decode cX2_tryFrom 132 = .ok (.aload_n 0, 1) := dk_42 (dk_at dksX2_tryFrom_5 13 rfl rfl)
theorem dX2_tryFrom_133 : decode cX2_tryFrom 133 = .ok (.iload_n 1, 1) := dk_27 (dk_at dksX2_tryFrom_5 14 rfl rfl)
theorem dX2_tryFrom_134 : decode cX2_tryFrom 134 = .ok (.iconst 1, 1) := dk_4 (dk_at dksX2_tryFrom_5 15 rfl rfl)
theorem dX2_tryFrom_135 : decode cX2_tryFrom 135 = .ok (.iadd, 1) := dk_96 (dk_at dksX2_tryFrom_5 16 rfl rfl)
theorem dX2_tryFrom_136 : decode cX2_tryFrom 136 = .ok (.iload_n 2, 1) := dk_28 (dk_at dksX2_tryFrom_5 17 rfl rfl)
theorem dX2_tryFrom_137 : decode cX2_tryFrom 137 = .ok (.iconst 1, 1) := dk_4 (dk_at dksX2_tryFrom_5 18 rfl rfl)
theorem dX2_tryFrom_138 : decode cX2_tryFrom 138 = .ok (.iload 6, 2) := dk_21 6 (dk_at dksX2_tryFrom_5 19 rfl rfl)
theorem dX2_tryFrom_140 : decode cX2_tryFrom 140 = .ok (.ishl, 1) := dk_120 (dk_at dksX2_tryFrom_5 21 rfl rfl)
theorem dX2_tryFrom_141 : decode cX2_tryFrom 141 = .ok (.ior, 1) := dk_128 (dk_at dksX2_tryFrom_5 22 rfl rfl)
theorem dX2_tryFrom_142 : decode cX2_tryFrom 142 = .ok (.iload_n 3, 1) := dk_29 (dk_at dksX2_tryFrom_5 23 rfl rfl)
theorem dX2_tryFrom_143 : decode cX2_tryFrom 143 = .ok (.iconst 1, 1) := dk_4 (dk_at dksX2_tryFrom_6 0 rfl rfl)
theorem dX2_tryFrom_144 : decode cX2_tryFrom 144 = .ok (.iadd, 1) := dk_96 (dk_at dksX2_tryFrom_6 1 rfl rfl)
theorem dX2_tryFrom_145 : decode cX2_tryFrom 145 = .ok (.lload 4, 2) := dk_22 4 (dk_at dksX2_tryFrom_6 2 rfl rfl)
theorem dX2_tryFrom_147 : decode cX2_tryFrom 147 = .ok (.aload_n 0, 1) := dk_42 (dk_at dksX2_tryFrom_6 4 rfl rfl)
theorem dX2_tryFrom_148 : decode cX2_tryFrom 148 = .ok (.aload_n 0, 1) := dk_42 (dk_at dksX2_tryFrom_6 5 rfl rfl)
theorem dX2_tryFrom_149 : decode cX2_tryFrom 149 = .ok (.getfield 99, 3) := dk_180 0 99 (dk_at dksX2_tryFrom_6 6 rfl rfl)
theorem dX2_tryFrom_152 : decode cX2_tryFrom 152 = .ok (.iload_n 1, 1) := dk_27 (dk_at dksX2_tryFrom_6 9 rfl rfl)
theorem dX2_tryFrom_153 : decode cX2_tryFrom 153 = .ok (.iaload, 1) := dk_46 (dk_at dksX2_tryFrom_6 10 rfl rfl)
theorem dX2_tryFrom_154 : decode cX2_tryFrom 154 = .ok (.aload_n 0, 1) := dk_42 (dk_at dksX2_tryFrom_6 11 rfl rfl)
theorem dX2_tryFrom_155 : decode cX2_tryFrom 155 = .ok (.getfield 96, 3) := dk_180 0 96 (dk_at dksX2_tryFrom_6 12 rfl rfl)
theorem dX2_tryFrom_158 : decode cX2_tryFrom 158 = .ok (.iload 6, 2) := dk_21 6 (dk_at dksX2_tryFrom_6 15 rfl rfl)
theorem dX2_tryFrom_160 : decode cX2_tryFrom 160 = .ok (.iaload, 1) := dk_46 (dk_at dksX2_tryFrom_6 17 rfl rfl)
theorem dX2_tryFrom_161 : decode cX2_tryFrom 161 = .ok (.invokevirtual 210, 3) := dk_182 0 210 (dk_at dksX2_tryFrom_6 18 rfl rfl)
theorem dX2_tryFrom_164 : decode cX2_tryFrom 164 = .ok (.ladd, 1) := dk_97 (dk_at dksX2_tryFrom_6 21 rfl rfl)
theorem dX2_tryFrom_165 : decode cX2_tryFrom 165 = .ok (.invokevirtual 213, 3) := dk_182 0 213 (dk_at dksX2_tryFrom_7 0 rfl rfl)
theorem dX2_tryFrom_168 : decode cX2_tryFrom 168 = .ok (.iinc 6 1, 3) := dk_132 6 1 (dk_at dksX2_tryFrom_7 3 rfl rfl)
theorem dX2_tryFrom_171 : decode cX2_tryFrom 171 = .ok (.goto (-90), 3) := dk_167 255 166 (dk_at dksX2_tryFrom_7 6 rfl rfl)
theorem dX2_tryFrom_174 : decode cX2_tryFrom 174 = .ok (.aload_n 0, 1) := dk_42 (dk_at dksX2_tryFrom_7 9 rfl rfl)
theorem dX2_tryFrom_175 : decode cX2_tryFrom 175 = .ok (.getfield 102, 3) := dk_180 0 102 (dk_at dksX2_tryFrom_7 10 rfl rfl)
theorem dX2_tryFrom_178 : decode cX2_tryFrom 178 = .ok (.iload_n 1, 1) := dk_27 (dk_at dksX2_tryFrom_7 13 rfl rfl)
theorem dX2_tryFrom_179 : decode cX2_tryFrom 179 = .ok (.iconst (-1), 1) := dk_2 (dk_at dksX2_tryFrom_7 14 rfl rfl)
theorem dX2_tryFrom_180 : decode cX2_tryFrom 180 = .ok (.iastore, 1) := dk_79 (dk_at dksX2_tryFrom_7 15 rfl rfl)
theorem dX2_tryFrom_181 : decode cX2_tryFrom 181 = .ok (.aload_n 0, 1) := dk_42 (dk_at dksX2_tryFrom_7 16 rfl rfl)
theorem dX2_tryFrom_182 : decode cX2_tryFrom 182 = .ok (.iload_n 1, 1) := dk_27 (dk_at dksX2_tryFrom_7 17 rfl rfl)
theorem dX2_tryFrom_183 : decode cX2_tryFrom 183 = .ok (.iconst 1, 1) := dk_4 (dk_at dksX2_tryFrom_7 18 rfl rfl)
theorem dX2_tryFrom_184 : decode cX2_tryFrom 184 = .ok (.iadd, 1) := dk_96 (dk_at dksX2_tryFrom_7 19 rfl rfl)
theorem dX2_tryFrom_185 : decode cX2_tryFrom 185 = .ok (.iload_n 2, 1) := dk_28 (dk_at dksX2_tryFrom_7 20 rfl rfl)
theorem dX2_tryFrom_186 : decode cX2_tryFrom 186 = .ok (.iload_n 3, 1) := dk_29 (dk_at dksX2_tryFrom_7 21 rfl rfl)
theorem dX2_tryFrom_187 : decode cX2_tryFrom 187 = .ok (.lload 4, 2) := dk_22 4 (dk_at dksX2_tryFrom_7 22 rfl rfl)
theorem dX2_tryFrom_189 : decode cX2_tryFrom 189 = .ok (.invokevirtual 213, 3) := dk_182 0 213 (dk_at dksX2_tryFrom_8 0 rfl rfl)
theorem dX2_tryFrom_192 : decode cX2_tryFrom 192 = .ok (.return_, 1) := dk_177 (dk_at dksX2_tryFrom_8 3 rfl rfl)
abbrev cX2_isInGate : ByteArray := prog_9_method_20_code
def yX2_isInGate : MethodName := ⟨RX2, "isInGate", "(II)Z"⟩
def dkwX2_isInGate_2 : List UInt8 := [167, 0, 4, 3, 172]
abbrev dktX2_isInGate_2 : List UInt8 := dkwX2_isInGate_2 ++ []
def dkwX2_isInGate_1 : List UInt8 := [105, 42, 27, 42, 180, 0, 30, 28, 46, 182, 0, 190, 105, 20, 0, 182, 105, 148, 157, 0, 7, 4]
abbrev dktX2_isInGate_1 : List UInt8 := dkwX2_isInGate_1 ++ dktX2_isInGate_2
def dkwX2_isInGate_0 : List UInt8 := [42, 27, 28, 182, 0, 184, 66, 20, 0, 188, 33, 105, 33, 105, 42, 180, 0, 13, 133, 42, 180, 0, 13, 133]
abbrev dktX2_isInGate_0 : List UInt8 := dkwX2_isInGate_0 ++ dktX2_isInGate_1
theorem dksX2_isInGate_0 : cX2_isInGate.data.toList.drop 0 = dktX2_isInGate_0 := by decide +kernel
theorem dksX2_isInGate_1 : cX2_isInGate.data.toList.drop 24 = dktX2_isInGate_1 := dk_seg dksX2_isInGate_0 24 rfl rfl
theorem dksX2_isInGate_2 : cX2_isInGate.data.toList.drop 46 = dktX2_isInGate_2 := dk_seg dksX2_isInGate_1 22 rfl rfl
theorem dX2_isInGate_0 : decode cX2_isInGate 0 = .ok (.aload_n 0, 1) := dk_42 (dk_at dksX2_isInGate_0 0 rfl rfl)
theorem dX2_isInGate_1 : decode cX2_isInGate 1 = .ok (.iload_n 1, 1) := dk_27 (dk_at dksX2_isInGate_0 1 rfl rfl)
theorem dX2_isInGate_2 : decode cX2_isInGate 2 = .ok (.iload_n 2, 1) := dk_28 (dk_at dksX2_isInGate_0 2 rfl rfl)
theorem dX2_isInGate_3 : decode cX2_isInGate 3 = .ok (.invokevirtual 184, 3) := dk_182 0 184 (dk_at dksX2_isInGate_0 3 rfl rfl)
theorem dX2_isInGate_6 : decode cX2_isInGate 6 = .ok (.lstore_n 3, 1) := dk_66 (dk_at dksX2_isInGate_0 6 rfl rfl)
theorem dX2_isInGate_7 : decode cX2_isInGate 7 = .ok (.ldc2_w 188, 3) := dk_20 0 188 (dk_at dksX2_isInGate_0 7 rfl rfl)
theorem dX2_isInGate_10 : decode cX2_isInGate 10 = .ok (.lload_n 3, 1) := dk_33 (dk_at dksX2_isInGate_0 10 rfl rfl)
theorem dX2_isInGate_11 : decode cX2_isInGate 11 = .ok (.lmul, 1) := dk_105 (dk_at dksX2_isInGate_0 11 rfl rfl)
theorem dX2_isInGate_12 : decode cX2_isInGate 12 = .ok (.lload_n 3, 1) := dk_33 (dk_at dksX2_isInGate_0 12 rfl rfl)
theorem dX2_isInGate_13 : decode cX2_isInGate 13 = .ok (.lmul, 1) := dk_105 (dk_at dksX2_isInGate_0 13 rfl rfl)
theorem dX2_isInGate_14 : decode cX2_isInGate 14 = .ok (.aload_n 0, 1) := dk_42 (dk_at dksX2_isInGate_0 14 rfl rfl)
theorem dX2_isInGate_15 : decode cX2_isInGate 15 = .ok (.getfield 13, 3) := dk_180 0 13 (dk_at dksX2_isInGate_0 15 rfl rfl)
theorem dX2_isInGate_18 : decode cX2_isInGate 18 = .ok (.i2l, 1) := dk_133 (dk_at dksX2_isInGate_0 18 rfl rfl)
theorem dX2_isInGate_19 : decode cX2_isInGate 19 = .ok (.aload_n 0, 1) := dk_42 (dk_at dksX2_isInGate_0 19 rfl rfl)
theorem dX2_isInGate_20 : decode cX2_isInGate 20 = .ok (.getfield 13, 3) := dk_180 0 13 (dk_at dksX2_isInGate_0 20 rfl rfl)
theorem dX2_isInGate_23 : decode cX2_isInGate 23 = .ok (.i2l, 1) := dk_133 (dk_at dksX2_isInGate_0 23 rfl rfl)
theorem dX2_isInGate_24 : decode cX2_isInGate 24 = .ok (.lmul, 1) := dk_105 (dk_at dksX2_isInGate_1 0 rfl rfl)
theorem dX2_isInGate_25 : decode cX2_isInGate 25 = .ok (.aload_n 0, 1) := dk_42 (dk_at dksX2_isInGate_1 1 rfl rfl)
theorem dX2_isInGate_26 : decode cX2_isInGate 26 = .ok (.iload_n 1, 1) := dk_27 (dk_at dksX2_isInGate_1 2 rfl rfl)
theorem dX2_isInGate_27 : decode cX2_isInGate 27 = .ok (.aload_n 0, 1) := dk_42 (dk_at dksX2_isInGate_1 3 rfl rfl)
theorem dX2_isInGate_28 : decode cX2_isInGate 28 = .ok (.getfield 30, 3) := dk_180 0 30 (dk_at dksX2_isInGate_1 4 rfl rfl)
theorem dX2_isInGate_31 : decode cX2_isInGate 31 = .ok (.iload_n 2, 1) := dk_28 (dk_at dksX2_isInGate_1 7 rfl rfl)
theorem dX2_isInGate_32 : decode cX2_isInGate 32 = .ok (.iaload, 1) := dk_46 (dk_at dksX2_isInGate_1 8 rfl rfl)
theorem dX2_isInGate_33 : decode cX2_isInGate 33 = .ok (.invokevirtual 190, 3) := dk_182 0 190 (dk_at dksX2_isInGate_1 9 rfl rfl)
theorem dX2_isInGate_36 : decode cX2_isInGate 36 = .ok (.lmul, 1) := dk_105 (dk_at dksX2_isInGate_1 12 rfl rfl)
theorem dX2_isInGate_37 : decode cX2_isInGate 37 = .ok (.ldc2_w 182, 3) := dk_20 0 182 (dk_at dksX2_isInGate_1 13 rfl rfl)
theorem dX2_isInGate_40 : decode cX2_isInGate 40 = .ok (.lmul, 1) := dk_105 (dk_at dksX2_isInGate_1 16 rfl rfl)
theorem dX2_isInGate_41 : decode cX2_isInGate 41 = .ok (.lcmp, 1) := dk_148 (dk_at dksX2_isInGate_1 17 rfl rfl)
theorem dX2_isInGate_42 : decode cX2_isInGate 42 = .ok (.ifCond .gt 7, 3) := dk_157 0 7 (dk_at dksX2_isInGate_1 18 rfl rfl)
theorem dX2_isInGate_45 : decode cX2_isInGate 45 = .ok (.iconst 1, 1) := dk_4 (dk_at dksX2_isInGate_1 21 rfl rfl)
theorem dX2_isInGate_46 : decode cX2_isInGate 46 = .ok (.goto 4, 3) := dk_167 0 4 (dk_at dksX2_isInGate_2 0 rfl rfl)
theorem dX2_isInGate_49 : decode cX2_isInGate 49 = .ok (.iconst 0, 1) := dk_3 (dk_at dksX2_isInGate_2 3 rfl rfl)
theorem dX2_isInGate_50 : decode cX2_isInGate 50 = .ok (.ireturn, 1) := dk_172 (dk_at dksX2_isInGate_2 4 rfl rfl)
abbrev cX2_apartOf : ByteArray := prog_9_method_19_code
def yX2_apartOf : MethodName := ⟨RX2, "apartOf", "(II)J"⟩
def dkwX2_apartOf_0 : List UInt8 := [20, 0, 182, 42, 180, 0, 33, 28, 46, 133, 105, 42, 180, 0, 69, 27, 50, 3, 47, 101, 173]
abbrev dktX2_apartOf_0 : List UInt8 := dkwX2_apartOf_0 ++ []
theorem dksX2_apartOf_0 : cX2_apartOf.data.toList.drop 0 = dktX2_apartOf_0 := by decide +kernel
theorem dX2_apartOf_0 : decode cX2_apartOf 0 = .ok (.ldc2_w 182, 3) := dk_20 0 182 (dk_at dksX2_apartOf_0 0 rfl rfl)
theorem dX2_apartOf_3 : decode cX2_apartOf 3 = .ok (.aload_n 0, 1) := dk_42 (dk_at dksX2_apartOf_0 3 rfl rfl)
theorem dX2_apartOf_4 : decode cX2_apartOf 4 = .ok (.getfield 33, 3) := dk_180 0 33 (dk_at dksX2_apartOf_0 4 rfl rfl)
theorem dX2_apartOf_7 : decode cX2_apartOf 7 = .ok (.iload_n 2, 1) := dk_28 (dk_at dksX2_apartOf_0 7 rfl rfl)
theorem dX2_apartOf_8 : decode cX2_apartOf 8 = .ok (.iaload, 1) := dk_46 (dk_at dksX2_apartOf_0 8 rfl rfl)
theorem dX2_apartOf_9 : decode cX2_apartOf 9 = .ok (.i2l, 1) := dk_133 (dk_at dksX2_apartOf_0 9 rfl rfl)
theorem dX2_apartOf_10 : decode cX2_apartOf 10 = .ok (.lmul, 1) := dk_105 (dk_at dksX2_apartOf_0 10 rfl rfl)
theorem dX2_apartOf_11 : decode cX2_apartOf 11 = .ok (.aload_n 0, 1) := dk_42 (dk_at dksX2_apartOf_0 11 rfl rfl)
theorem dX2_apartOf_12 : decode cX2_apartOf 12 = .ok (.getfield 69, 3) := dk_180 0 69 (dk_at dksX2_apartOf_0 12 rfl rfl)
theorem dX2_apartOf_15 : decode cX2_apartOf 15 = .ok (.iload_n 1, 1) := dk_27 (dk_at dksX2_apartOf_0 15 rfl rfl)
theorem dX2_apartOf_16 : decode cX2_apartOf 16 = .ok (.aaload, 1) := dk_50 (dk_at dksX2_apartOf_0 16 rfl rfl)
theorem dX2_apartOf_17 : decode cX2_apartOf 17 = .ok (.iconst 0, 1) := dk_3 (dk_at dksX2_apartOf_0 17 rfl rfl)
theorem dX2_apartOf_18 : decode cX2_apartOf 18 = .ok (.laload, 1) := dk_47 (dk_at dksX2_apartOf_0 18 rfl rfl)
theorem dX2_apartOf_19 : decode cX2_apartOf 19 = .ok (.lsub, 1) := dk_101 (dk_at dksX2_apartOf_0 19 rfl rfl)
theorem dX2_apartOf_20 : decode cX2_apartOf 20 = .ok (.lreturn, 1) := dk_173 (dk_at dksX2_apartOf_0 20 rfl rfl)
abbrev cX2_spread : ByteArray := prog_9_method_18_code
def yX2_spread : MethodName := ⟨RX2, "spread", "(II)J"⟩
def dkwX2_spread_0 : List UInt8 := [42, 180, 0, 69, 27, 50, 5, 47, 20, 0, 182, 42, 180, 0, 26, 28, 46, 133, 105, 97, 173]
abbrev dktX2_spread_0 : List UInt8 := dkwX2_spread_0 ++ []
theorem dksX2_spread_0 : cX2_spread.data.toList.drop 0 = dktX2_spread_0 := by decide +kernel
theorem dX2_spread_0 : decode cX2_spread 0 = .ok (.aload_n 0, 1) := dk_42 (dk_at dksX2_spread_0 0 rfl rfl)
theorem dX2_spread_1 : decode cX2_spread 1 = .ok (.getfield 69, 3) := dk_180 0 69 (dk_at dksX2_spread_0 1 rfl rfl)
theorem dX2_spread_4 : decode cX2_spread 4 = .ok (.iload_n 1, 1) := dk_27 (dk_at dksX2_spread_0 4 rfl rfl)
theorem dX2_spread_5 : decode cX2_spread 5 = .ok (.aaload, 1) := dk_50 (dk_at dksX2_spread_0 5 rfl rfl)
theorem dX2_spread_6 : decode cX2_spread 6 = .ok (.iconst 2, 1) := dk_5 (dk_at dksX2_spread_0 6 rfl rfl)
theorem dX2_spread_7 : decode cX2_spread 7 = .ok (.laload, 1) := dk_47 (dk_at dksX2_spread_0 7 rfl rfl)
theorem dX2_spread_8 : decode cX2_spread 8 = .ok (.ldc2_w 182, 3) := dk_20 0 182 (dk_at dksX2_spread_0 8 rfl rfl)
theorem dX2_spread_11 : decode cX2_spread 11 = .ok (.aload_n 0, 1) := dk_42 (dk_at dksX2_spread_0 11 rfl rfl)
theorem dX2_spread_12 : decode cX2_spread 12 = .ok (.getfield 26, 3) := dk_180 0 26 (dk_at dksX2_spread_0 12 rfl rfl)
theorem dX2_spread_15 : decode cX2_spread 15 = .ok (.iload_n 2, 1) := dk_28 (dk_at dksX2_spread_0 15 rfl rfl)
theorem dX2_spread_16 : decode cX2_spread 16 = .ok (.iaload, 1) := dk_46 (dk_at dksX2_spread_0 16 rfl rfl)
theorem dX2_spread_17 : decode cX2_spread 17 = .ok (.i2l, 1) := dk_133 (dk_at dksX2_spread_0 17 rfl rfl)
theorem dX2_spread_18 : decode cX2_spread 18 = .ok (.lmul, 1) := dk_105 (dk_at dksX2_spread_0 18 rfl rfl)
theorem dX2_spread_19 : decode cX2_spread 19 = .ok (.ladd, 1) := dk_97 (dk_at dksX2_spread_0 19 rfl rfl)
theorem dX2_spread_20 : decode cX2_spread 20 = .ok (.lreturn, 1) := dk_173 (dk_at dksX2_spread_0 20 rfl rfl)
abbrev cX2_costOf : ByteArray := prog_9_method_21_code
def yX2_costOf : MethodName := ⟨RX2, "costOf", "(II)J"⟩
def dkwX2_costOf_0 : List UInt8 := [42, 27, 28, 182, 0, 184, 66, 33, 33, 105, 42, 27, 42, 180, 0, 30, 28, 46, 182, 0, 190, 109, 173]
abbrev dktX2_costOf_0 : List UInt8 := dkwX2_costOf_0 ++ []
theorem dksX2_costOf_0 : cX2_costOf.data.toList.drop 0 = dktX2_costOf_0 := by decide +kernel
theorem dX2_costOf_0 : decode cX2_costOf 0 = .ok (.aload_n 0, 1) := dk_42 (dk_at dksX2_costOf_0 0 rfl rfl)
theorem dX2_costOf_1 : decode cX2_costOf 1 = .ok (.iload_n 1, 1) := dk_27 (dk_at dksX2_costOf_0 1 rfl rfl)
theorem dX2_costOf_2 : decode cX2_costOf 2 = .ok (.iload_n 2, 1) := dk_28 (dk_at dksX2_costOf_0 2 rfl rfl)
theorem dX2_costOf_3 : decode cX2_costOf 3 = .ok (.invokevirtual 184, 3) := dk_182 0 184 (dk_at dksX2_costOf_0 3 rfl rfl)
theorem dX2_costOf_6 : decode cX2_costOf 6 = .ok (.lstore_n 3, 1) := dk_66 (dk_at dksX2_costOf_0 6 rfl rfl)
theorem dX2_costOf_7 : decode cX2_costOf 7 = .ok (.lload_n 3, 1) := dk_33 (dk_at dksX2_costOf_0 7 rfl rfl)
theorem dX2_costOf_8 : decode cX2_costOf 8 = .ok (.lload_n 3, 1) := dk_33 (dk_at dksX2_costOf_0 8 rfl rfl)
theorem dX2_costOf_9 : decode cX2_costOf 9 = .ok (.lmul, 1) := dk_105 (dk_at dksX2_costOf_0 9 rfl rfl)
theorem dX2_costOf_10 : decode cX2_costOf 10 = .ok (.aload_n 0, 1) := dk_42 (dk_at dksX2_costOf_0 10 rfl rfl)
theorem dX2_costOf_11 : decode cX2_costOf 11 = .ok (.iload_n 1, 1) := dk_27 (dk_at dksX2_costOf_0 11 rfl rfl)
theorem dX2_costOf_12 : decode cX2_costOf 12 = .ok (.aload_n 0, 1) := dk_42 (dk_at dksX2_costOf_0 12 rfl rfl)
theorem dX2_costOf_13 : decode cX2_costOf 13 = .ok (.getfield 30, 3) := dk_180 0 30 (dk_at dksX2_costOf_0 13 rfl rfl)
theorem dX2_costOf_16 : decode cX2_costOf 16 = .ok (.iload_n 2, 1) := dk_28 (dk_at dksX2_costOf_0 16 rfl rfl)
theorem dX2_costOf_17 : decode cX2_costOf 17 = .ok (.iaload, 1) := dk_46 (dk_at dksX2_costOf_0 17 rfl rfl)
theorem dX2_costOf_18 : decode cX2_costOf 18 = .ok (.invokevirtual 190, 3) := dk_182 0 190 (dk_at dksX2_costOf_0 18 rfl rfl)
theorem dX2_costOf_21 : decode cX2_costOf 21 = .ok (.ldiv, 1) := dk_109 (dk_at dksX2_costOf_0 21 rfl rfl)
theorem dX2_costOf_22 : decode cX2_costOf 22 = .ok (.lreturn, 1) := dk_173 (dk_at dksX2_costOf_0 22 rfl rfl)
abbrev cX2_correct : ByteArray := prog_9_method_24_code
def yX2_correct : MethodName := ⟨RX2, "correct", "(II)V"⟩
def dkwX2_correct_8 : List UInt8 := [28, 27, 79, 42, 89, 180, 0, 127, 4, 96, 181, 0, 127, 42, 27, 28, 182, 0, 222, 177]
abbrev dktX2_correct_8 : List UInt8 := dkwX2_correct_8 ++ []
def dkwX2_correct_7 : List UInt8 := [20, 0, 217, 184, 0, 219, 101, 80, 42, 27, 182, 0, 174, 42, 180, 0, 49, 27, 4, 84, 42, 180, 0, 36]
abbrev dktX2_correct_7 : List UInt8 := dkwX2_correct_7 ++ dktX2_correct_8
def dkwX2_correct_6 : List UInt8 := [105, 20, 0, 217, 184, 0, 219, 101, 80, 42, 180, 0, 69, 27, 50, 5, 22, 7, 22, 11, 22, 7, 105]
abbrev dktX2_correct_6 : List UInt8 := dkwX2_correct_6 ++ dktX2_correct_7
def dkwX2_correct_5 : List UInt8 := [22, 9, 105, 20, 0, 217, 184, 0, 219, 101, 80, 42, 180, 0, 69, 27, 50, 6, 22, 9, 22, 11, 22, 9]
abbrev dktX2_correct_5 : List UInt8 := dkwX2_correct_5 ++ dktX2_correct_6
def dkwX2_correct_4 : List UInt8 := [22, 13, 22, 5, 105, 20, 0, 217, 184, 0, 219, 97, 80, 42, 180, 0, 69, 27, 50, 7, 92, 47, 22, 13]
abbrev dktX2_correct_4 : List UInt8 := dkwX2_correct_4 ++ dktX2_correct_5
def dkwX2_correct_3 : List UInt8 := [92, 47, 22, 11, 22, 5, 105, 20, 0, 217, 184, 0, 219, 97, 80, 42, 180, 0, 69, 27, 50, 4, 92, 47]
abbrev dktX2_correct_3 : List UInt8 := dkwX2_correct_3 ++ dktX2_correct_4
def dkwX2_correct_2 : List UInt8 := [184, 0, 219, 55, 11, 22, 9, 20, 0, 217, 105, 33, 184, 0, 219, 55, 13, 42, 180, 0, 69, 27, 50, 3]
abbrev dktX2_correct_2 : List UInt8 := dkwX2_correct_2 ++ dktX2_correct_3
def dkwX2_correct_1 : List UInt8 := [27, 50, 5, 47, 55, 7, 42, 180, 0, 69, 27, 50, 6, 47, 55, 9, 22, 7, 20, 0, 217, 105, 33]
abbrev dktX2_correct_1 : List UInt8 := dkwX2_correct_1 ++ dktX2_correct_2
def dkwX2_correct_0 : List UInt8 := [42, 27, 42, 180, 0, 30, 28, 46, 182, 0, 190, 66, 42, 27, 28, 182, 0, 184, 55, 5, 42, 180, 0, 69]
abbrev dktX2_correct_0 : List UInt8 := dkwX2_correct_0 ++ dktX2_correct_1
theorem dksX2_correct_0 : cX2_correct.data.toList.drop 0 = dktX2_correct_0 := by decide +kernel
theorem dksX2_correct_1 : cX2_correct.data.toList.drop 24 = dktX2_correct_1 := dk_seg dksX2_correct_0 24 rfl rfl
theorem dksX2_correct_2 : cX2_correct.data.toList.drop 47 = dktX2_correct_2 := dk_seg dksX2_correct_1 23 rfl rfl
theorem dksX2_correct_3 : cX2_correct.data.toList.drop 71 = dktX2_correct_3 := dk_seg dksX2_correct_2 24 rfl rfl
theorem dksX2_correct_4 : cX2_correct.data.toList.drop 95 = dktX2_correct_4 := dk_seg dksX2_correct_3 24 rfl rfl
theorem dksX2_correct_5 : cX2_correct.data.toList.drop 119 = dktX2_correct_5 := dk_seg dksX2_correct_4 24 rfl rfl
theorem dksX2_correct_6 : cX2_correct.data.toList.drop 143 = dktX2_correct_6 := dk_seg dksX2_correct_5 24 rfl rfl
theorem dksX2_correct_7 : cX2_correct.data.toList.drop 166 = dktX2_correct_7 := dk_seg dksX2_correct_6 23 rfl rfl
theorem dksX2_correct_8 : cX2_correct.data.toList.drop 190 = dktX2_correct_8 := dk_seg dksX2_correct_7 24 rfl rfl
theorem dX2_correct_0 : decode cX2_correct 0 = .ok (.aload_n 0, 1) := dk_42 (dk_at dksX2_correct_0 0 rfl rfl)
theorem dX2_correct_1 : decode cX2_correct 1 = .ok (.iload_n 1, 1) := dk_27 (dk_at dksX2_correct_0 1 rfl rfl)
theorem dX2_correct_2 : decode cX2_correct 2 = .ok (.aload_n 0, 1) := dk_42 (dk_at dksX2_correct_0 2 rfl rfl)
theorem dX2_correct_3 : decode cX2_correct 3 = .ok (.getfield 30, 3) := dk_180 0 30 (dk_at dksX2_correct_0 3 rfl rfl)
theorem dX2_correct_6 : decode cX2_correct 6 = .ok (.iload_n 2, 1) := dk_28 (dk_at dksX2_correct_0 6 rfl rfl)
theorem dX2_correct_7 : decode cX2_correct 7 = .ok (.iaload, 1) := dk_46 (dk_at dksX2_correct_0 7 rfl rfl)
theorem dX2_correct_8 : decode cX2_correct 8 = .ok (.invokevirtual 190, 3) := dk_182 0 190 (dk_at dksX2_correct_0 8 rfl rfl)
theorem dX2_correct_11 : decode cX2_correct 11 = .ok (.lstore_n 3, 1) := dk_66 (dk_at dksX2_correct_0 11 rfl rfl)
theorem dX2_correct_12 : decode cX2_correct 12 = .ok (.aload_n 0, 1) := dk_42 (dk_at dksX2_correct_0 12 rfl rfl)
theorem dX2_correct_13 : decode cX2_correct 13 = .ok (.iload_n 1, 1) := dk_27 (dk_at dksX2_correct_0 13 rfl rfl)
theorem dX2_correct_14 : decode cX2_correct 14 = .ok (.iload_n 2, 1) := dk_28 (dk_at dksX2_correct_0 14 rfl rfl)
theorem dX2_correct_15 : decode cX2_correct 15 = .ok (.invokevirtual 184, 3) := dk_182 0 184 (dk_at dksX2_correct_0 15 rfl rfl)
theorem dX2_correct_18 : decode cX2_correct 18 = .ok (.lstore 5, 2) := dk_55 5 (dk_at dksX2_correct_0 18 rfl rfl)
theorem dX2_correct_20 : decode cX2_correct 20 = .ok (.aload_n 0, 1) := dk_42 (dk_at dksX2_correct_0 20 rfl rfl)
theorem dX2_correct_21 : decode cX2_correct 21 = .ok (.getfield 69, 3) := dk_180 0 69 (dk_at dksX2_correct_0 21 rfl rfl)
theorem dX2_correct_24 : decode cX2_correct 24 = .ok (.iload_n 1, 1) := dk_27 (dk_at dksX2_correct_1 0 rfl rfl)
theorem dX2_correct_25 : decode cX2_correct 25 = .ok (.aaload, 1) := dk_50 (dk_at dksX2_correct_1 1 rfl rfl)
theorem dX2_correct_26 : decode cX2_correct 26 = .ok (.iconst 2, 1) := dk_5 (dk_at dksX2_correct_1 2 rfl rfl)
theorem dX2_correct_27 : decode cX2_correct 27 = .ok (.laload, 1) := dk_47 (dk_at dksX2_correct_1 3 rfl rfl)
theorem dX2_correct_28 : decode cX2_correct 28 = .ok (.lstore 7, 2) := dk_55 7 (dk_at dksX2_correct_1 4 rfl rfl)
theorem dX2_correct_30 : decode cX2_correct 30 = .ok (.aload_n 0, 1) := dk_42 (dk_at dksX2_correct_1 6 rfl rfl)
theorem dX2_correct_31 : decode cX2_correct 31 = .ok (.getfield 69, 3) := dk_180 0 69 (dk_at dksX2_correct_1 7 rfl rfl)
theorem dX2_correct_34 : decode cX2_correct 34 = .ok (.iload_n 1, 1) := dk_27 (dk_at dksX2_correct_1 10 rfl rfl)
theorem dX2_correct_35 : decode cX2_correct 35 = .ok (.aaload, 1) := dk_50 (dk_at dksX2_correct_1 11 rfl rfl)
theorem dX2_correct_36 : decode cX2_correct 36 = .ok (.iconst 3, 1) := dk_6 (dk_at dksX2_correct_1 12 rfl rfl)
theorem dX2_correct_37 : decode cX2_correct 37 = .ok (.laload, 1) := dk_47 (dk_at dksX2_correct_1 13 rfl rfl)
theorem dX2_correct_38 : decode cX2_correct 38 = .ok (.lstore 9, 2) := dk_55 9 (dk_at dksX2_correct_1 14 rfl rfl)
theorem dX2_correct_40 : decode cX2_correct 40 = .ok (.lload 7, 2) := dk_22 7 (dk_at dksX2_correct_1 16 rfl rfl)
theorem dX2_correct_42 : decode cX2_correct 42 = .ok (.ldc2_w 217, 3) := dk_20 0 217 (dk_at dksX2_correct_1 18 rfl rfl)
theorem dX2_correct_45 : decode cX2_correct 45 = .ok (.lmul, 1) := dk_105 (dk_at dksX2_correct_1 21 rfl rfl)
theorem dX2_correct_46 : decode cX2_correct 46 = .ok (.lload_n 3, 1) := dk_33 (dk_at dksX2_correct_1 22 rfl rfl)
theorem dX2_correct_47 : decode cX2_correct 47 = .ok (.invokestatic 219, 3) := dk_184 0 219 (dk_at dksX2_correct_2 0 rfl rfl)
theorem dX2_correct_50 : decode cX2_correct 50 = .ok (.lstore 11, 2) := dk_55 11 (dk_at dksX2_correct_2 3 rfl rfl)
theorem dX2_correct_52 : decode cX2_correct 52 = .ok (.lload 9, 2) := dk_22 9 (dk_at dksX2_correct_2 5 rfl rfl)
theorem dX2_correct_54 : decode cX2_correct 54 = .ok (.ldc2_w 217, 3) := dk_20 0 217 (dk_at dksX2_correct_2 7 rfl rfl)
theorem dX2_correct_57 : decode cX2_correct 57 = .ok (.lmul, 1) := dk_105 (dk_at dksX2_correct_2 10 rfl rfl)
theorem dX2_correct_58 : decode cX2_correct 58 = .ok (.lload_n 3, 1) := dk_33 (dk_at dksX2_correct_2 11 rfl rfl)
theorem dX2_correct_59 : decode cX2_correct 59 = .ok (.invokestatic 219, 3) := dk_184 0 219 (dk_at dksX2_correct_2 12 rfl rfl)
theorem dX2_correct_62 : decode cX2_correct 62 = .ok (.lstore 13, 2) := dk_55 13 (dk_at dksX2_correct_2 15 rfl rfl)
theorem dX2_correct_64 : decode cX2_correct 64 = .ok (.aload_n 0, 1) := dk_42 (dk_at dksX2_correct_2 17 rfl rfl)
theorem dX2_correct_65 : decode cX2_correct 65 = .ok (.getfield 69, 3) := dk_180 0 69 (dk_at dksX2_correct_2 18 rfl rfl)
theorem dX2_correct_68 : decode cX2_correct 68 = .ok (.iload_n 1, 1) := dk_27 (dk_at dksX2_correct_2 21 rfl rfl)
theorem dX2_correct_69 : decode cX2_correct 69 = .ok (.aaload, 1) := dk_50 (dk_at dksX2_correct_2 22 rfl rfl)
theorem dX2_correct_70 : decode cX2_correct 70 = .ok (.iconst 0, 1) := dk_3 (dk_at dksX2_correct_2 23 rfl rfl)
theorem dX2_correct_71 : decode cX2_correct 71 = .ok (.dup2, 1) := dk_92 (dk_at dksX2_correct_3 0 rfl rfl)
theorem dX2_correct_72 : decode cX2_correct 72 = .ok (.laload, 1) := dk_47 (dk_at dksX2_correct_3 1 rfl rfl)
theorem dX2_correct_73 : decode cX2_correct 73 = .ok (.lload 11, 2) := dk_22 11 (dk_at dksX2_correct_3 2 rfl rfl)
theorem dX2_correct_75 : decode cX2_correct 75 = .ok (.lload 5, 2) := dk_22 5 (dk_at dksX2_correct_3 4 rfl rfl)
theorem dX2_correct_77 : decode cX2_correct 77 = .ok (.lmul, 1) := dk_105 (dk_at dksX2_correct_3 6 rfl rfl)
theorem dX2_correct_78 : decode cX2_correct 78 = .ok (.ldc2_w 217, 3) := dk_20 0 217 (dk_at dksX2_correct_3 7 rfl rfl)
theorem dX2_correct_81 : decode cX2_correct 81 = .ok (.invokestatic 219, 3) := dk_184 0 219 (dk_at dksX2_correct_3 10 rfl rfl)
theorem dX2_correct_84 : decode cX2_correct 84 = .ok (.ladd, 1) := dk_97 (dk_at dksX2_correct_3 13 rfl rfl)
theorem dX2_correct_85 : decode cX2_correct 85 = .ok (.lastore, 1) := dk_80 (dk_at dksX2_correct_3 14 rfl rfl)
theorem dX2_correct_86 : decode cX2_correct 86 = .ok (.aload_n 0, 1) := dk_42 (dk_at dksX2_correct_3 15 rfl rfl)
theorem dX2_correct_87 : decode cX2_correct 87 = .ok (.getfield 69, 3) := dk_180 0 69 (dk_at dksX2_correct_3 16 rfl rfl)
theorem dX2_correct_90 : decode cX2_correct 90 = .ok (.iload_n 1, 1) := dk_27 (dk_at dksX2_correct_3 19 rfl rfl)
theorem dX2_correct_91 : decode cX2_correct 91 = .ok (.aaload, 1) := dk_50 (dk_at dksX2_correct_3 20 rfl rfl)
theorem dX2_correct_92 : decode cX2_correct 92 = .ok (.iconst 1, 1) := dk_4 (dk_at dksX2_correct_3 21 rfl rfl)
theorem dX2_correct_93 : decode cX2_correct 93 = .ok (.dup2, 1) := dk_92 (dk_at dksX2_correct_3 22 rfl rfl)
theorem dX2_correct_94 : decode cX2_correct 94 = .ok (.laload, 1) := dk_47 (dk_at dksX2_correct_3 23 rfl rfl)
theorem dX2_correct_95 : decode cX2_correct 95 = .ok (.lload 13, 2) := dk_22 13 (dk_at dksX2_correct_4 0 rfl rfl)
theorem dX2_correct_97 : decode cX2_correct 97 = .ok (.lload 5, 2) := dk_22 5 (dk_at dksX2_correct_4 2 rfl rfl)
theorem dX2_correct_99 : decode cX2_correct 99 = .ok (.lmul, 1) := dk_105 (dk_at dksX2_correct_4 4 rfl rfl)
theorem dX2_correct_100 : decode cX2_correct 100 = .ok (.ldc2_w 217, 3) := dk_20 0 217 (dk_at dksX2_correct_4 5 rfl rfl)
theorem dX2_correct_103 : decode cX2_correct 103 = .ok (.invokestatic 219, 3) := dk_184 0 219 (dk_at dksX2_correct_4 8 rfl rfl)
theorem dX2_correct_106 : decode cX2_correct 106 = .ok (.ladd, 1) := dk_97 (dk_at dksX2_correct_4 11 rfl rfl)
theorem dX2_correct_107 : decode cX2_correct 107 = .ok (.lastore, 1) := dk_80 (dk_at dksX2_correct_4 12 rfl rfl)
theorem dX2_correct_108 : decode cX2_correct 108 = .ok (.aload_n 0, 1) := dk_42 (dk_at dksX2_correct_4 13 rfl rfl)
theorem dX2_correct_109 : decode cX2_correct 109 = .ok (.getfield 69, 3) := dk_180 0 69 (dk_at dksX2_correct_4 14 rfl rfl)
theorem dX2_correct_112 : decode cX2_correct 112 = .ok (.iload_n 1, 1) := dk_27 (dk_at dksX2_correct_4 17 rfl rfl)
theorem dX2_correct_113 : decode cX2_correct 113 = .ok (.aaload, 1) := dk_50 (dk_at dksX2_correct_4 18 rfl rfl)
theorem dX2_correct_114 : decode cX2_correct 114 = .ok (.iconst 4, 1) := dk_7 (dk_at dksX2_correct_4 19 rfl rfl)
theorem dX2_correct_115 : decode cX2_correct 115 = .ok (.dup2, 1) := dk_92 (dk_at dksX2_correct_4 20 rfl rfl)
theorem dX2_correct_116 : decode cX2_correct 116 = .ok (.laload, 1) := dk_47 (dk_at dksX2_correct_4 21 rfl rfl)
theorem dX2_correct_117 : decode cX2_correct 117 = .ok (.lload 13, 2) := dk_22 13 (dk_at dksX2_correct_4 22 rfl rfl)
theorem dX2_correct_119 : decode cX2_correct 119 = .ok (.lload 9, 2) := dk_22 9 (dk_at dksX2_correct_5 0 rfl rfl)
theorem dX2_correct_121 : decode cX2_correct 121 = .ok (.lmul, 1) := dk_105 (dk_at dksX2_correct_5 2 rfl rfl)
theorem dX2_correct_122 : decode cX2_correct 122 = .ok (.ldc2_w 217, 3) := dk_20 0 217 (dk_at dksX2_correct_5 3 rfl rfl)
theorem dX2_correct_125 : decode cX2_correct 125 = .ok (.invokestatic 219, 3) := dk_184 0 219 (dk_at dksX2_correct_5 6 rfl rfl)
theorem dX2_correct_128 : decode cX2_correct 128 = .ok (.lsub, 1) := dk_101 (dk_at dksX2_correct_5 9 rfl rfl)
theorem dX2_correct_129 : decode cX2_correct 129 = .ok (.lastore, 1) := dk_80 (dk_at dksX2_correct_5 10 rfl rfl)
theorem dX2_correct_130 : decode cX2_correct 130 = .ok (.aload_n 0, 1) := dk_42 (dk_at dksX2_correct_5 11 rfl rfl)
theorem dX2_correct_131 : decode cX2_correct 131 = .ok (.getfield 69, 3) := dk_180 0 69 (dk_at dksX2_correct_5 12 rfl rfl)
theorem dX2_correct_134 : decode cX2_correct 134 = .ok (.iload_n 1, 1) := dk_27 (dk_at dksX2_correct_5 15 rfl rfl)
theorem dX2_correct_135 : decode cX2_correct 135 = .ok (.aaload, 1) := dk_50 (dk_at dksX2_correct_5 16 rfl rfl)
theorem dX2_correct_136 : decode cX2_correct 136 = .ok (.iconst 3, 1) := dk_6 (dk_at dksX2_correct_5 17 rfl rfl)
theorem dX2_correct_137 : decode cX2_correct 137 = .ok (.lload 9, 2) := dk_22 9 (dk_at dksX2_correct_5 18 rfl rfl)
theorem dX2_correct_139 : decode cX2_correct 139 = .ok (.lload 11, 2) := dk_22 11 (dk_at dksX2_correct_5 20 rfl rfl)
theorem dX2_correct_141 : decode cX2_correct 141 = .ok (.lload 9, 2) := dk_22 9 (dk_at dksX2_correct_5 22 rfl rfl)
theorem dX2_correct_143 : decode cX2_correct 143 = .ok (.lmul, 1) := dk_105 (dk_at dksX2_correct_6 0 rfl rfl)
theorem dX2_correct_144 : decode cX2_correct 144 = .ok (.ldc2_w 217, 3) := dk_20 0 217 (dk_at dksX2_correct_6 1 rfl rfl)
theorem dX2_correct_147 : decode cX2_correct 147 = .ok (.invokestatic 219, 3) := dk_184 0 219 (dk_at dksX2_correct_6 4 rfl rfl)
theorem dX2_correct_150 : decode cX2_correct 150 = .ok (.lsub, 1) := dk_101 (dk_at dksX2_correct_6 7 rfl rfl)
theorem dX2_correct_151 : decode cX2_correct 151 = .ok (.lastore, 1) := dk_80 (dk_at dksX2_correct_6 8 rfl rfl)
theorem dX2_correct_152 : decode cX2_correct 152 = .ok (.aload_n 0, 1) := dk_42 (dk_at dksX2_correct_6 9 rfl rfl)
theorem dX2_correct_153 : decode cX2_correct 153 = .ok (.getfield 69, 3) := dk_180 0 69 (dk_at dksX2_correct_6 10 rfl rfl)
theorem dX2_correct_156 : decode cX2_correct 156 = .ok (.iload_n 1, 1) := dk_27 (dk_at dksX2_correct_6 13 rfl rfl)
theorem dX2_correct_157 : decode cX2_correct 157 = .ok (.aaload, 1) := dk_50 (dk_at dksX2_correct_6 14 rfl rfl)
theorem dX2_correct_158 : decode cX2_correct 158 = .ok (.iconst 2, 1) := dk_5 (dk_at dksX2_correct_6 15 rfl rfl)
theorem dX2_correct_159 : decode cX2_correct 159 = .ok (.lload 7, 2) := dk_22 7 (dk_at dksX2_correct_6 16 rfl rfl)
theorem dX2_correct_161 : decode cX2_correct 161 = .ok (.lload 11, 2) := dk_22 11 (dk_at dksX2_correct_6 18 rfl rfl)
theorem dX2_correct_163 : decode cX2_correct 163 = .ok (.lload 7, 2) := dk_22 7 (dk_at dksX2_correct_6 20 rfl rfl)
theorem dX2_correct_165 : decode cX2_correct 165 = .ok (.lmul, 1) := dk_105 (dk_at dksX2_correct_6 22 rfl rfl)
theorem dX2_correct_166 : decode cX2_correct 166 = .ok (.ldc2_w 217, 3) := dk_20 0 217 (dk_at dksX2_correct_7 0 rfl rfl)
theorem dX2_correct_169 : decode cX2_correct 169 = .ok (.invokestatic 219, 3) := dk_184 0 219 (dk_at dksX2_correct_7 3 rfl rfl)
theorem dX2_correct_172 : decode cX2_correct 172 = .ok (.lsub, 1) := dk_101 (dk_at dksX2_correct_7 6 rfl rfl)
theorem dX2_correct_173 : decode cX2_correct 173 = .ok (.lastore, 1) := dk_80 (dk_at dksX2_correct_7 7 rfl rfl)
theorem dX2_correct_174 : decode cX2_correct 174 = .ok (.aload_n 0, 1) := dk_42 (dk_at dksX2_correct_7 8 rfl rfl)
theorem dX2_correct_175 : decode cX2_correct 175 = .ok (.iload_n 1, 1) := dk_27 (dk_at dksX2_correct_7 9 rfl rfl)
theorem dX2_correct_176 : decode cX2_correct 176 = .ok (.invokevirtual 174, 3) := dk_182 0 174 (dk_at dksX2_correct_7 10 rfl rfl)
theorem dX2_correct_179 : decode cX2_correct 179 = .ok (.aload_n 0, 1) := dk_42 (dk_at dksX2_correct_7 13 rfl rfl)
theorem dX2_correct_180 : decode cX2_correct 180 = .ok (.getfield 49, 3) := dk_180 0 49 (dk_at dksX2_correct_7 14 rfl rfl)
theorem dX2_correct_183 : decode cX2_correct 183 = .ok (.iload_n 1, 1) := dk_27 (dk_at dksX2_correct_7 17 rfl rfl)
theorem dX2_correct_184 : decode cX2_correct 184 = .ok (.iconst 1, 1) := dk_4 (dk_at dksX2_correct_7 18 rfl rfl)
theorem dX2_correct_185 : decode cX2_correct 185 = .ok (.bastore, 1) := dk_84 (dk_at dksX2_correct_7 19 rfl rfl)
theorem dX2_correct_186 : decode cX2_correct 186 = .ok (.aload_n 0, 1) := dk_42 (dk_at dksX2_correct_7 20 rfl rfl)
theorem dX2_correct_187 : decode cX2_correct 187 = .ok (.getfield 36, 3) := dk_180 0 36 (dk_at dksX2_correct_7 21 rfl rfl)
theorem dX2_correct_190 : decode cX2_correct 190 = .ok (.iload_n 2, 1) := dk_28 (dk_at dksX2_correct_8 0 rfl rfl)
theorem dX2_correct_191 : decode cX2_correct 191 = .ok (.iload_n 1, 1) := dk_27 (dk_at dksX2_correct_8 1 rfl rfl)
theorem dX2_correct_192 : decode cX2_correct 192 = .ok (.iastore, 1) := dk_79 (dk_at dksX2_correct_8 2 rfl rfl)
theorem dX2_correct_193 : decode cX2_correct 193 = .ok (.aload_n 0, 1) := dk_42 (dk_at dksX2_correct_8 3 rfl rfl)
theorem dX2_correct_194 : decode cX2_correct 194 = .ok (.dup, 1) := dk_89 (dk_at dksX2_correct_8 4 rfl rfl)
theorem dX2_correct_195 : decode cX2_correct 195 = .ok (.getfield 127, 3) := dk_180 0 127 (dk_at dksX2_correct_8 5 rfl rfl)
theorem dX2_correct_198 : decode cX2_correct 198 = .ok (.iconst 1, 1) := dk_4 (dk_at dksX2_correct_8 8 rfl rfl)
theorem dX2_correct_199 : decode cX2_correct 199 = .ok (.iadd, 1) := dk_96 (dk_at dksX2_correct_8 9 rfl rfl)
theorem dX2_correct_200 : decode cX2_correct 200 = .ok (.putfield 127, 3) := dk_181 0 127 (dk_at dksX2_correct_8 10 rfl rfl)
theorem dX2_correct_203 : decode cX2_correct 203 = .ok (.aload_n 0, 1) := dk_42 (dk_at dksX2_correct_8 13 rfl rfl)
theorem dX2_correct_204 : decode cX2_correct 204 = .ok (.iload_n 1, 1) := dk_27 (dk_at dksX2_correct_8 14 rfl rfl)
theorem dX2_correct_205 : decode cX2_correct 205 = .ok (.iload_n 2, 1) := dk_28 (dk_at dksX2_correct_8 15 rfl rfl)
theorem dX2_correct_206 : decode cX2_correct 206 = .ok (.invokevirtual 222, 3) := dk_182 0 222 (dk_at dksX2_correct_8 16 rfl rfl)
theorem dX2_correct_209 : decode cX2_correct 209 = .ok (.return_, 1) := dk_177 (dk_at dksX2_correct_8 19 rfl rfl)
abbrev cX2_note : ByteArray := prog_9_method_23_code
def yX2_note : MethodName := ⟨RX2, "note", "(II)V"⟩
def dkwX2_note_5 : List UInt8 := [97, 80, 177]
abbrev dktX2_note_5 : List UInt8 := dkwX2_note_5 ++ []
def dkwX2_note_4 : List UInt8 := [47, 33, 22, 5, 105, 97, 80, 42, 180, 0, 93, 27, 92, 47, 33, 42, 180, 0, 115, 133, 105, 22, 5, 105]
abbrev dktX2_note_4 : List UInt8 := dkwX2_note_4 ++ dktX2_note_5
def dkwX2_note_3 : List UInt8 := [27, 92, 47, 33, 42, 180, 0, 115, 133, 105, 42, 180, 0, 115, 133, 105, 97, 80, 42, 180, 0, 90, 27, 92]
abbrev dktX2_note_3 : List UInt8 := dkwX2_note_3 ++ dktX2_note_4
def dkwX2_note_2 : List UInt8 := [47, 33, 97, 80, 42, 180, 0, 84, 27, 92, 47, 33, 42, 180, 0, 115, 133, 105, 97, 80, 42, 180, 0, 87]
abbrev dktX2_note_2 : List UInt8 := dkwX2_note_2 ++ dktX2_note_3
def dkwX2_note_1 : List UInt8 := [180, 0, 33, 28, 46, 133, 55, 5, 42, 180, 0, 64, 27, 92, 46, 4, 96, 79, 42, 180, 0, 80, 27, 92]
abbrev dktX2_note_1 : List UInt8 := dkwX2_note_1 ++ dktX2_note_2
def dkwX2_note_0 : List UInt8 := [10, 20, 0, 182, 42, 180, 0, 26, 42, 180, 0, 30, 28, 46, 46, 133, 109, 184, 0, 157, 66, 42]
abbrev dktX2_note_0 : List UInt8 := dkwX2_note_0 ++ dktX2_note_1
theorem dksX2_note_0 : cX2_note.data.toList.drop 0 = dktX2_note_0 := by decide +kernel
theorem dksX2_note_1 : cX2_note.data.toList.drop 22 = dktX2_note_1 := dk_seg dksX2_note_0 22 rfl rfl
theorem dksX2_note_2 : cX2_note.data.toList.drop 46 = dktX2_note_2 := dk_seg dksX2_note_1 24 rfl rfl
theorem dksX2_note_3 : cX2_note.data.toList.drop 70 = dktX2_note_3 := dk_seg dksX2_note_2 24 rfl rfl
theorem dksX2_note_4 : cX2_note.data.toList.drop 94 = dktX2_note_4 := dk_seg dksX2_note_3 24 rfl rfl
theorem dksX2_note_5 : cX2_note.data.toList.drop 118 = dktX2_note_5 := dk_seg dksX2_note_4 24 rfl rfl
theorem dX2_note_0 : decode cX2_note 0 = .ok (.lconst 1, 1) := dk_10 (dk_at dksX2_note_0 0 rfl rfl)
theorem dX2_note_1 : decode cX2_note 1 = .ok (.ldc2_w 182, 3) := dk_20 0 182 (dk_at dksX2_note_0 1 rfl rfl)
theorem dX2_note_4 : decode cX2_note 4 = .ok (.aload_n 0, 1) := dk_42 (dk_at dksX2_note_0 4 rfl rfl)
theorem dX2_note_5 : decode cX2_note 5 = .ok (.getfield 26, 3) := dk_180 0 26 (dk_at dksX2_note_0 5 rfl rfl)
theorem dX2_note_8 : decode cX2_note 8 = .ok (.aload_n 0, 1) := dk_42 (dk_at dksX2_note_0 8 rfl rfl)
theorem dX2_note_9 : decode cX2_note 9 = .ok (.getfield 30, 3) := dk_180 0 30 (dk_at dksX2_note_0 9 rfl rfl)
theorem dX2_note_12 : decode cX2_note 12 = .ok (.iload_n 2, 1) := dk_28 (dk_at dksX2_note_0 12 rfl rfl)
theorem dX2_note_13 : decode cX2_note 13 = .ok (.iaload, 1) := dk_46 (dk_at dksX2_note_0 13 rfl rfl)
theorem dX2_note_14 : decode cX2_note 14 = .ok (.iaload, 1) := dk_46 (dk_at dksX2_note_0 14 rfl rfl)
theorem dX2_note_15 : decode cX2_note 15 = .ok (.i2l, 1) := dk_133 (dk_at dksX2_note_0 15 rfl rfl)
theorem dX2_note_16 : decode cX2_note 16 = .ok (.ldiv, 1) := dk_109 (dk_at dksX2_note_0 16 rfl rfl)
theorem dX2_note_17 : decode cX2_note 17 = .ok (.invokestatic 157, 3) := dk_184 0 157 (dk_at dksX2_note_0 17 rfl rfl)
theorem dX2_note_20 : decode cX2_note 20 = .ok (.lstore_n 3, 1) := dk_66 (dk_at dksX2_note_0 20 rfl rfl)
theorem dX2_note_21 : decode cX2_note 21 = .ok (.aload_n 0, 1) := dk_42 (dk_at dksX2_note_0 21 rfl rfl)
theorem dX2_note_22 : decode cX2_note 22 = .ok (.getfield 33, 3) := dk_180 0 33 (dk_at dksX2_note_1 0 rfl rfl)
theorem dX2_note_25 : decode cX2_note 25 = .ok (.iload_n 2, 1) := dk_28 (dk_at dksX2_note_1 3 rfl rfl)
theorem dX2_note_26 : decode cX2_note 26 = .ok (.iaload, 1) := dk_46 (dk_at dksX2_note_1 4 rfl rfl)
theorem dX2_note_27 : decode cX2_note 27 = .ok (.i2l, 1) := dk_133 (dk_at dksX2_note_1 5 rfl rfl)
theorem dX2_note_28 : decode cX2_note 28 = .ok (.lstore 5, 2) := dk_55 5 (dk_at dksX2_note_1 6 rfl rfl)
theorem dX2_note_30 : decode cX2_note 30 = .ok (.aload_n 0, 1) := dk_42 (dk_at dksX2_note_1 8 rfl rfl)
theorem dX2_note_31 : decode cX2_note 31 = .ok (.getfield 64, 3) := dk_180 0 64 (dk_at dksX2_note_1 9 rfl rfl)
theorem dX2_note_34 : decode cX2_note 34 = .ok (.iload_n 1, 1) := dk_27 (dk_at dksX2_note_1 12 rfl rfl)
theorem dX2_note_35 : decode cX2_note 35 = .ok (.dup2, 1) := dk_92 (dk_at dksX2_note_1 13 rfl rfl)
theorem dX2_note_36 : decode cX2_note 36 = .ok (.iaload, 1) := dk_46 (dk_at dksX2_note_1 14 rfl rfl)
theorem dX2_note_37 : decode cX2_note 37 = .ok (.iconst 1, 1) := dk_4 (dk_at dksX2_note_1 15 rfl rfl)
theorem dX2_note_38 : decode cX2_note 38 = .ok (.iadd, 1) := dk_96 (dk_at dksX2_note_1 16 rfl rfl)
theorem dX2_note_39 : decode cX2_note 39 = .ok (.iastore, 1) := dk_79 (dk_at dksX2_note_1 17 rfl rfl)
theorem dX2_note_40 : decode cX2_note 40 = .ok (.aload_n 0, 1) := dk_42 (dk_at dksX2_note_1 18 rfl rfl)
theorem dX2_note_41 : decode cX2_note 41 = .ok (.getfield 80, 3) := dk_180 0 80 (dk_at dksX2_note_1 19 rfl rfl)
theorem dX2_note_44 : decode cX2_note 44 = .ok (.iload_n 1, 1) := dk_27 (dk_at dksX2_note_1 22 rfl rfl)
theorem dX2_note_45 : decode cX2_note 45 = .ok (.dup2, 1) := dk_92 (dk_at dksX2_note_1 23 rfl rfl)
theorem dX2_note_46 : decode cX2_note 46 = .ok (.laload, 1) := dk_47 (dk_at dksX2_note_2 0 rfl rfl)
theorem dX2_note_47 : decode cX2_note 47 = .ok (.lload_n 3, 1) := dk_33 (dk_at dksX2_note_2 1 rfl rfl)
theorem dX2_note_48 : decode cX2_note 48 = .ok (.ladd, 1) := dk_97 (dk_at dksX2_note_2 2 rfl rfl)
theorem dX2_note_49 : decode cX2_note 49 = .ok (.lastore, 1) := dk_80 (dk_at dksX2_note_2 3 rfl rfl)
theorem dX2_note_50 : decode cX2_note 50 = .ok (.aload_n 0, 1) := dk_42 (dk_at dksX2_note_2 4 rfl rfl)
theorem dX2_note_51 : decode cX2_note 51 = .ok (.getfield 84, 3) := dk_180 0 84 (dk_at dksX2_note_2 5 rfl rfl)
theorem dX2_note_54 : decode cX2_note 54 = .ok (.iload_n 1, 1) := dk_27 (dk_at dksX2_note_2 8 rfl rfl)
theorem dX2_note_55 : decode cX2_note 55 = .ok (.dup2, 1) := dk_92 (dk_at dksX2_note_2 9 rfl rfl)
theorem dX2_note_56 : decode cX2_note 56 = .ok (.laload, 1) := dk_47 (dk_at dksX2_note_2 10 rfl rfl)
theorem dX2_note_57 : decode cX2_note 57 = .ok (.lload_n 3, 1) := dk_33 (dk_at dksX2_note_2 11 rfl rfl)
theorem dX2_note_58 : decode cX2_note 58 = .ok (.aload_n 0, 1) := dk_42 (dk_at dksX2_note_2 12 rfl rfl)
theorem dX2_note_59 : decode cX2_note 59 = .ok (.getfield 115, 3) := dk_180 0 115 (dk_at dksX2_note_2 13 rfl rfl)
theorem dX2_note_62 : decode cX2_note 62 = .ok (.i2l, 1) := dk_133 (dk_at dksX2_note_2 16 rfl rfl)
theorem dX2_note_63 : decode cX2_note 63 = .ok (.lmul, 1) := dk_105 (dk_at dksX2_note_2 17 rfl rfl)
theorem dX2_note_64 : decode cX2_note 64 = .ok (.ladd, 1) := dk_97 (dk_at dksX2_note_2 18 rfl rfl)
theorem dX2_note_65 : decode cX2_note 65 = .ok (.lastore, 1) := dk_80 (dk_at dksX2_note_2 19 rfl rfl)
theorem dX2_note_66 : decode cX2_note 66 = .ok (.aload_n 0, 1) := dk_42 (dk_at dksX2_note_2 20 rfl rfl)
theorem dX2_note_67 : decode cX2_note 67 = .ok (.getfield 87, 3) := dk_180 0 87 (dk_at dksX2_note_2 21 rfl rfl)
theorem dX2_note_70 : decode cX2_note 70 = .ok (.iload_n 1, 1) := dk_27 (dk_at dksX2_note_3 0 rfl rfl)
theorem dX2_note_71 : decode cX2_note 71 = .ok (.dup2, 1) := dk_92 (dk_at dksX2_note_3 1 rfl rfl)
theorem dX2_note_72 : decode cX2_note 72 = .ok (.laload, 1) := dk_47 (dk_at dksX2_note_3 2 rfl rfl)
theorem dX2_note_73 : decode cX2_note 73 = .ok (.lload_n 3, 1) := dk_33 (dk_at dksX2_note_3 3 rfl rfl)
theorem dX2_note_74 : decode cX2_note 74 = .ok (.aload_n 0, 1) := dk_42 (dk_at dksX2_note_3 4 rfl rfl)
theorem dX2_note_75 : decode cX2_note 75 = .ok (.getfield 115, 3) := dk_180 0 115 (dk_at dksX2_note_3 5 rfl rfl)
theorem dX2_note_78 : decode cX2_note 78 = .ok (.i2l, 1) := dk_133 (dk_at dksX2_note_3 8 rfl rfl)
theorem dX2_note_79 : decode cX2_note 79 = .ok (.lmul, 1) := dk_105 (dk_at dksX2_note_3 9 rfl rfl)
theorem dX2_note_80 : decode cX2_note 80 = .ok (.aload_n 0, 1) := dk_42 (dk_at dksX2_note_3 10 rfl rfl)
theorem dX2_note_81 : decode cX2_note 81 = .ok (.getfield 115, 3) := dk_180 0 115 (dk_at dksX2_note_3 11 rfl rfl)
theorem dX2_note_84 : decode cX2_note 84 = .ok (.i2l, 1) := dk_133 (dk_at dksX2_note_3 14 rfl rfl)
theorem dX2_note_85 : decode cX2_note 85 = .ok (.lmul, 1) := dk_105 (dk_at dksX2_note_3 15 rfl rfl)
theorem dX2_note_86 : decode cX2_note 86 = .ok (.ladd, 1) := dk_97 (dk_at dksX2_note_3 16 rfl rfl)
theorem dX2_note_87 : decode cX2_note 87 = .ok (.lastore, 1) := dk_80 (dk_at dksX2_note_3 17 rfl rfl)
theorem dX2_note_88 : decode cX2_note 88 = .ok (.aload_n 0, 1) := dk_42 (dk_at dksX2_note_3 18 rfl rfl)
theorem dX2_note_89 : decode cX2_note 89 = .ok (.getfield 90, 3) := dk_180 0 90 (dk_at dksX2_note_3 19 rfl rfl)
theorem dX2_note_92 : decode cX2_note 92 = .ok (.iload_n 1, 1) := dk_27 (dk_at dksX2_note_3 22 rfl rfl)
theorem dX2_note_93 : decode cX2_note 93 = .ok (.dup2, 1) := dk_92 (dk_at dksX2_note_3 23 rfl rfl)
theorem dX2_note_94 : decode cX2_note 94 = .ok (.laload, 1) := dk_47 (dk_at dksX2_note_4 0 rfl rfl)
theorem dX2_note_95 : decode cX2_note 95 = .ok (.lload_n 3, 1) := dk_33 (dk_at dksX2_note_4 1 rfl rfl)
theorem dX2_note_96 : decode cX2_note 96 = .ok (.lload 5, 2) := dk_22 5 (dk_at dksX2_note_4 2 rfl rfl)
theorem dX2_note_98 : decode cX2_note 98 = .ok (.lmul, 1) := dk_105 (dk_at dksX2_note_4 4 rfl rfl)
theorem dX2_note_99 : decode cX2_note 99 = .ok (.ladd, 1) := dk_97 (dk_at dksX2_note_4 5 rfl rfl)
theorem dX2_note_100 : decode cX2_note 100 = .ok (.lastore, 1) := dk_80 (dk_at dksX2_note_4 6 rfl rfl)
theorem dX2_note_101 : decode cX2_note 101 = .ok (.aload_n 0, 1) := dk_42 (dk_at dksX2_note_4 7 rfl rfl)
theorem dX2_note_102 : decode cX2_note 102 = .ok (.getfield 93, 3) := dk_180 0 93 (dk_at dksX2_note_4 8 rfl rfl)
theorem dX2_note_105 : decode cX2_note 105 = .ok (.iload_n 1, 1) := dk_27 (dk_at dksX2_note_4 11 rfl rfl)
theorem dX2_note_106 : decode cX2_note 106 = .ok (.dup2, 1) := dk_92 (dk_at dksX2_note_4 12 rfl rfl)
theorem dX2_note_107 : decode cX2_note 107 = .ok (.laload, 1) := dk_47 (dk_at dksX2_note_4 13 rfl rfl)
theorem dX2_note_108 : decode cX2_note 108 = .ok (.lload_n 3, 1) := dk_33 (dk_at dksX2_note_4 14 rfl rfl)
theorem dX2_note_109 : decode cX2_note 109 = .ok (.aload_n 0, 1) := dk_42 (dk_at dksX2_note_4 15 rfl rfl)
theorem dX2_note_110 : decode cX2_note 110 = .ok (.getfield 115, 3) := dk_180 0 115 (dk_at dksX2_note_4 16 rfl rfl)
theorem dX2_note_113 : decode cX2_note 113 = .ok (.i2l, 1) := dk_133 (dk_at dksX2_note_4 19 rfl rfl)
theorem dX2_note_114 : decode cX2_note 114 = .ok (.lmul, 1) := dk_105 (dk_at dksX2_note_4 20 rfl rfl)
theorem dX2_note_115 : decode cX2_note 115 = .ok (.lload 5, 2) := dk_22 5 (dk_at dksX2_note_4 21 rfl rfl)
theorem dX2_note_117 : decode cX2_note 117 = .ok (.lmul, 1) := dk_105 (dk_at dksX2_note_4 23 rfl rfl)
theorem dX2_note_118 : decode cX2_note 118 = .ok (.ladd, 1) := dk_97 (dk_at dksX2_note_5 0 rfl rfl)
theorem dX2_note_119 : decode cX2_note 119 = .ok (.lastore, 1) := dk_80 (dk_at dksX2_note_5 1 rfl rfl)
theorem dX2_note_120 : decode cX2_note 120 = .ok (.return_, 1) := dk_177 (dk_at dksX2_note_5 2 rfl rfl)
abbrev cX2_aliveNow : ByteArray := prog_9_method_26_code
def yX2_aliveNow : MethodName := ⟨RX2, "aliveNow", "()I"⟩
def dkwX2_aliveNow_1 : List UInt8 := [167, 0, 4, 3, 96, 60, 132, 2, 1, 167, 255, 228, 27, 172]
abbrev dktX2_aliveNow_1 : List UInt8 := dkwX2_aliveNow_1 ++ []
def dkwX2_aliveNow_0 : List UInt8 := [3, 60, 3, 61, 28, 42, 180, 0, 130, 162, 0, 26, 27, 42, 180, 0, 39, 28, 51, 153, 0, 7, 4]
abbrev dktX2_aliveNow_0 : List UInt8 := dkwX2_aliveNow_0 ++ dktX2_aliveNow_1
theorem dksX2_aliveNow_0 : cX2_aliveNow.data.toList.drop 0 = dktX2_aliveNow_0 := by decide +kernel
theorem dksX2_aliveNow_1 : cX2_aliveNow.data.toList.drop 23 = dktX2_aliveNow_1 := dk_seg dksX2_aliveNow_0 23 rfl rfl
theorem dX2_aliveNow_0 : decode cX2_aliveNow 0 = .ok (.iconst 0, 1) := dk_3 (dk_at dksX2_aliveNow_0 0 rfl rfl)
theorem dX2_aliveNow_1 : decode cX2_aliveNow 1 = .ok (.istore_n 1, 1) := dk_60 (dk_at dksX2_aliveNow_0 1 rfl rfl)
theorem dX2_aliveNow_2 : decode cX2_aliveNow 2 = .ok (.iconst 0, 1) := dk_3 (dk_at dksX2_aliveNow_0 2 rfl rfl)
theorem dX2_aliveNow_3 : decode cX2_aliveNow 3 = .ok (.istore_n 2, 1) := dk_61 (dk_at dksX2_aliveNow_0 3 rfl rfl)
theorem dX2_aliveNow_4 : decode cX2_aliveNow 4 = .ok (.iload_n 2, 1) := dk_28 (dk_at dksX2_aliveNow_0 4 rfl rfl)
theorem dX2_aliveNow_5 : decode cX2_aliveNow 5 = .ok (.aload_n 0, 1) := dk_42 (dk_at dksX2_aliveNow_0 5 rfl rfl)
theorem dX2_aliveNow_6 : decode cX2_aliveNow 6 = .ok (.getfield 130, 3) := dk_180 0 130 (dk_at dksX2_aliveNow_0 6 rfl rfl)
theorem dX2_aliveNow_9 : decode cX2_aliveNow 9 = .ok (.if_icmp .ge 26, 3) := dk_162 0 26 (dk_at dksX2_aliveNow_0 9 rfl rfl)
theorem dX2_aliveNow_12 : decode cX2_aliveNow 12 = .ok (.iload_n 1, 1) := dk_27 (dk_at dksX2_aliveNow_0 12 rfl rfl)
theorem dX2_aliveNow_13 : decode cX2_aliveNow 13 = .ok (.aload_n 0, 1) := dk_42 (dk_at dksX2_aliveNow_0 13 rfl rfl)
theorem dX2_aliveNow_14 : decode cX2_aliveNow 14 = .ok (.getfield 39, 3) := dk_180 0 39 (dk_at dksX2_aliveNow_0 14 rfl rfl)
theorem dX2_aliveNow_17 : decode cX2_aliveNow 17 = .ok (.iload_n 2, 1) := dk_28 (dk_at dksX2_aliveNow_0 17 rfl rfl)
theorem dX2_aliveNow_18 : decode cX2_aliveNow 18 = .ok (.baload, 1) := dk_51 (dk_at dksX2_aliveNow_0 18 rfl rfl)
theorem dX2_aliveNow_19 : decode cX2_aliveNow 19 = .ok (.ifCond .eq 7, 3) := dk_153 0 7 (dk_at dksX2_aliveNow_0 19 rfl rfl)
theorem dX2_aliveNow_22 : decode cX2_aliveNow 22 = .ok (.iconst 1, 1) := dk_4 (dk_at dksX2_aliveNow_0 22 rfl rfl)
theorem dX2_aliveNow_23 : decode cX2_aliveNow 23 = .ok (.goto 4, 3) := dk_167 0 4 (dk_at dksX2_aliveNow_1 0 rfl rfl)
theorem dX2_aliveNow_26 : decode cX2_aliveNow 26 = .ok (.iconst 0, 1) := dk_3 (dk_at dksX2_aliveNow_1 3 rfl rfl)
theorem dX2_aliveNow_27 : decode cX2_aliveNow 27 = .ok (.iadd, 1) := dk_96 (dk_at dksX2_aliveNow_1 4 rfl rfl)
theorem dX2_aliveNow_28 : decode cX2_aliveNow 28 = .ok (.istore_n 1, 1) := dk_60 (dk_at dksX2_aliveNow_1 5 rfl rfl)
theorem dX2_aliveNow_29 : decode cX2_aliveNow 29 = .ok (.iinc 2 1, 3) := dk_132 2 1 (dk_at dksX2_aliveNow_1 6 rfl rfl)
theorem dX2_aliveNow_32 : decode cX2_aliveNow 32 = .ok (.goto (-28), 3) := dk_167 255 228 (dk_at dksX2_aliveNow_1 9 rfl rfl)
theorem dX2_aliveNow_35 : decode cX2_aliveNow 35 = .ok (.iload_n 1, 1) := dk_27 (dk_at dksX2_aliveNow_1 12 rfl rfl)
theorem dX2_aliveNow_36 : decode cX2_aliveNow 36 = .ok (.ireturn, 1) := dk_172 (dk_at dksX2_aliveNow_1 13 rfl rfl)
abbrev cX2_beginTrack : ByteArray := prog_9_method_27_code
def yX2_beginTrack : MethodName := ⟨RX2, "beginTrack", "(I)V"⟩
def dkwX2_beginTrack_9 : List UInt8 := [27, 28, 79, 177]
abbrev dktX2_beginTrack_9 : List UInt8 := dkwX2_beginTrack_9 ++ []
def dkwX2_beginTrack_8 : List UInt8 := [42, 180, 0, 90, 28, 9, 80, 42, 180, 0, 93, 28, 9, 80, 42, 28, 27, 182, 0, 222, 42, 180, 0, 36]
abbrev dktX2_beginTrack_8 : List UInt8 := dkwX2_beginTrack_8 ++ dktX2_beginTrack_9
def dkwX2_beginTrack_7 : List UInt8 := [28, 3, 79, 42, 180, 0, 80, 28, 9, 80, 42, 180, 0, 84, 28, 9, 80, 42, 180, 0, 87, 28, 9, 80]
abbrev dktX2_beginTrack_7 : List UInt8 := dkwX2_beginTrack_7 ++ dktX2_beginTrack_8
def dkwX2_beginTrack_6 : List UInt8 := [28, 42, 180, 0, 115, 79, 42, 180, 0, 58, 28, 4, 79, 42, 180, 0, 61, 28, 3, 79, 42, 180, 0, 64]
abbrev dktX2_beginTrack_6 : List UInt8 := dkwX2_beginTrack_6 ++ dktX2_beginTrack_7
def dkwX2_beginTrack_5 : List UInt8 := [180, 0, 39, 28, 4, 84, 42, 180, 0, 43, 28, 3, 84, 42, 180, 0, 46, 28, 4, 84, 42, 180, 0, 52]
abbrev dktX2_beginTrack_5 : List UInt8 := dkwX2_beginTrack_5 ++ dktX2_beginTrack_6
def dkwX2_beginTrack_4 : List UInt8 := [182, 0, 174, 42, 180, 0, 69, 28, 50, 42, 180, 0, 77, 28, 50, 42, 180, 0, 115, 50, 184, 0, 178, 42]
abbrev dktX2_beginTrack_4 : List UInt8 := dkwX2_beginTrack_4 ++ dktX2_beginTrack_5
def dkwX2_beginTrack_3 : List UInt8 := [180, 0, 69, 28, 50, 6, 9, 80, 42, 180, 0, 69, 28, 50, 7, 42, 180, 0, 23, 133, 80, 42, 28]
abbrev dktX2_beginTrack_3 : List UInt8 := dkwX2_beginTrack_3 ++ dktX2_beginTrack_4
def dkwX2_beginTrack_2 : List UInt8 := [180, 0, 69, 28, 50, 5, 20, 0, 182, 42, 180, 0, 26, 42, 180, 0, 30, 27, 46, 46, 133, 105, 80, 42]
abbrev dktX2_beginTrack_2 : List UInt8 := dkwX2_beginTrack_2 ++ dktX2_beginTrack_3
def dkwX2_beginTrack_1 : List UInt8 := [20, 0, 182, 42, 180, 0, 33, 27, 46, 133, 105, 80, 42, 180, 0, 69, 28, 50, 4, 9, 80, 42]
abbrev dktX2_beginTrack_1 : List UInt8 := dkwX2_beginTrack_1 ++ dktX2_beginTrack_2
def dkwX2_beginTrack_0 : List UInt8 := [42, 180, 0, 130, 61, 42, 89, 180, 0, 130, 4, 96, 181, 0, 130, 42, 180, 0, 69, 28, 50, 3]
abbrev dktX2_beginTrack_0 : List UInt8 := dkwX2_beginTrack_0 ++ dktX2_beginTrack_1
theorem dksX2_beginTrack_0 : cX2_beginTrack.data.toList.drop 0 = dktX2_beginTrack_0 := by decide +kernel
theorem dksX2_beginTrack_1 : cX2_beginTrack.data.toList.drop 22 = dktX2_beginTrack_1 := dk_seg dksX2_beginTrack_0 22 rfl rfl
theorem dksX2_beginTrack_2 : cX2_beginTrack.data.toList.drop 44 = dktX2_beginTrack_2 := dk_seg dksX2_beginTrack_1 22 rfl rfl
theorem dksX2_beginTrack_3 : cX2_beginTrack.data.toList.drop 68 = dktX2_beginTrack_3 := dk_seg dksX2_beginTrack_2 24 rfl rfl
theorem dksX2_beginTrack_4 : cX2_beginTrack.data.toList.drop 91 = dktX2_beginTrack_4 := dk_seg dksX2_beginTrack_3 23 rfl rfl
theorem dksX2_beginTrack_5 : cX2_beginTrack.data.toList.drop 115 = dktX2_beginTrack_5 := dk_seg dksX2_beginTrack_4 24 rfl rfl
theorem dksX2_beginTrack_6 : cX2_beginTrack.data.toList.drop 139 = dktX2_beginTrack_6 := dk_seg dksX2_beginTrack_5 24 rfl rfl
theorem dksX2_beginTrack_7 : cX2_beginTrack.data.toList.drop 163 = dktX2_beginTrack_7 := dk_seg dksX2_beginTrack_6 24 rfl rfl
theorem dksX2_beginTrack_8 : cX2_beginTrack.data.toList.drop 187 = dktX2_beginTrack_8 := dk_seg dksX2_beginTrack_7 24 rfl rfl
theorem dksX2_beginTrack_9 : cX2_beginTrack.data.toList.drop 211 = dktX2_beginTrack_9 := dk_seg dksX2_beginTrack_8 24 rfl rfl
theorem dX2_beginTrack_0 : decode cX2_beginTrack 0 = .ok (.aload_n 0, 1) := dk_42 (dk_at dksX2_beginTrack_0 0 rfl rfl)
theorem dX2_beginTrack_1 : decode cX2_beginTrack 1 = .ok (.getfield 130, 3) := dk_180 0 130 (dk_at dksX2_beginTrack_0 1 rfl rfl)
theorem dX2_beginTrack_4 : decode cX2_beginTrack 4 = .ok (.istore_n 2, 1) := dk_61 (dk_at dksX2_beginTrack_0 4 rfl rfl)
theorem dX2_beginTrack_5 : decode cX2_beginTrack 5 = .ok (.aload_n 0, 1) := dk_42 (dk_at dksX2_beginTrack_0 5 rfl rfl)
theorem dX2_beginTrack_6 : decode cX2_beginTrack 6 = .ok (.dup, 1) := dk_89 (dk_at dksX2_beginTrack_0 6 rfl rfl)
theorem dX2_beginTrack_7 : decode cX2_beginTrack 7 = .ok (.getfield 130, 3) := dk_180 0 130 (dk_at dksX2_beginTrack_0 7 rfl rfl)
theorem dX2_beginTrack_10 : decode cX2_beginTrack 10 = .ok (.iconst 1, 1) := dk_4 (dk_at dksX2_beginTrack_0 10 rfl rfl)
theorem dX2_beginTrack_11 : decode cX2_beginTrack 11 = .ok (.iadd, 1) := dk_96 (dk_at dksX2_beginTrack_0 11 rfl rfl)
theorem dX2_beginTrack_12 : decode cX2_beginTrack 12 = .ok (.putfield 130, 3) := dk_181 0 130 (dk_at dksX2_beginTrack_0 12 rfl rfl)
theorem dX2_beginTrack_15 : decode cX2_beginTrack 15 = .ok (.aload_n 0, 1) := dk_42 (dk_at dksX2_beginTrack_0 15 rfl rfl)
theorem dX2_beginTrack_16 : decode cX2_beginTrack 16 = .ok (.getfield 69, 3) := dk_180 0 69 (dk_at dksX2_beginTrack_0 16 rfl rfl)
theorem dX2_beginTrack_19 : decode cX2_beginTrack 19 = .ok (.iload_n 2, 1) := dk_28 (dk_at dksX2_beginTrack_0 19 rfl rfl)
theorem dX2_beginTrack_20 : decode cX2_beginTrack 20 = .ok (.aaload, 1) := dk_50 (dk_at dksX2_beginTrack_0 20 rfl rfl)
theorem dX2_beginTrack_21 : decode cX2_beginTrack 21 = .ok (.iconst 0, 1) := dk_3 (dk_at dksX2_beginTrack_0 21 rfl rfl)
theorem dX2_beginTrack_22 : decode cX2_beginTrack 22 = .ok (.ldc2_w 182, 3) := dk_20 0 182 (dk_at dksX2_beginTrack_1 0 rfl rfl)
theorem dX2_beginTrack_25 : decode cX2_beginTrack 25 = .ok (.aload_n 0, 1) := dk_42 (dk_at dksX2_beginTrack_1 3 rfl rfl)
theorem dX2_beginTrack_26 : decode cX2_beginTrack 26 = .ok (.getfield 33, 3) := dk_180 0 33 (dk_at dksX2_beginTrack_1 4 rfl rfl)
theorem dX2_beginTrack_29 : decode cX2_beginTrack 29 = .ok (.iload_n 1, 1) := dk_27 (dk_at dksX2_beginTrack_1 7 rfl rfl)
theorem dX2_beginTrack_30 : decode cX2_beginTrack 30 = .ok (.iaload, 1) := dk_46 (dk_at dksX2_beginTrack_1 8 rfl rfl)
theorem dX2_beginTrack_31 : decode cX2_beginTrack 31 = .ok (.i2l, 1) := dk_133 (dk_at dksX2_beginTrack_1 9 rfl rfl)
theorem dX2_beginTrack_32 : decode cX2_beginTrack 32 = .ok (.lmul, 1) := dk_105 (dk_at dksX2_beginTrack_1 10 rfl rfl)
theorem dX2_beginTrack_33 : decode cX2_beginTrack 33 = .ok (.lastore, 1) := dk_80 (dk_at dksX2_beginTrack_1 11 rfl rfl)
theorem dX2_beginTrack_34 : decode cX2_beginTrack 34 = .ok (.aload_n 0, 1) := dk_42 (dk_at dksX2_beginTrack_1 12 rfl rfl)
theorem dX2_beginTrack_35 : decode cX2_beginTrack 35 = .ok (.getfield 69, 3) := dk_180 0 69 (dk_at dksX2_beginTrack_1 13 rfl rfl)
theorem dX2_beginTrack_38 : decode cX2_beginTrack 38 = .ok (.iload_n 2, 1) := dk_28 (dk_at dksX2_beginTrack_1 16 rfl rfl)
theorem dX2_beginTrack_39 : decode cX2_beginTrack 39 = .ok (.aaload, 1) := dk_50 (dk_at dksX2_beginTrack_1 17 rfl rfl)
theorem dX2_beginTrack_40 : decode cX2_beginTrack 40 = .ok (.iconst 1, 1) := dk_4 (dk_at dksX2_beginTrack_1 18 rfl rfl)
theorem dX2_beginTrack_41 : decode cX2_beginTrack 41 = .ok (.lconst 0, 1) := dk_9 (dk_at dksX2_beginTrack_1 19 rfl rfl)
theorem dX2_beginTrack_42 : decode cX2_beginTrack 42 = .ok (.lastore, 1) := dk_80 (dk_at dksX2_beginTrack_1 20 rfl rfl)
theorem dX2_beginTrack_43 : decode cX2_beginTrack 43 = .ok (.aload_n 0, 1) := dk_42 (dk_at dksX2_beginTrack_1 21 rfl rfl)
theorem dX2_beginTrack_44 : decode cX2_beginTrack 44 = .ok (.getfield 69, 3) := dk_180 0 69 (dk_at dksX2_beginTrack_2 0 rfl rfl)
theorem dX2_beginTrack_47 : decode cX2_beginTrack 47 = .ok (.iload_n 2, 1) := dk_28 (dk_at dksX2_beginTrack_2 3 rfl rfl)
theorem dX2_beginTrack_48 : decode cX2_beginTrack 48 = .ok (.aaload, 1) := dk_50 (dk_at dksX2_beginTrack_2 4 rfl rfl)
theorem dX2_beginTrack_49 : decode cX2_beginTrack 49 = .ok (.iconst 2, 1) := dk_5 (dk_at dksX2_beginTrack_2 5 rfl rfl)
theorem dX2_beginTrack_50 : decode cX2_beginTrack 50 = .ok (.ldc2_w 182, 3) := dk_20 0 182 (dk_at dksX2_beginTrack_2 6 rfl rfl)
theorem dX2_beginTrack_53 : decode cX2_beginTrack 53 = .ok (.aload_n 0, 1) := dk_42 (dk_at dksX2_beginTrack_2 9 rfl rfl)
theorem dX2_beginTrack_54 : decode cX2_beginTrack 54 = .ok (.getfield 26, 3) := dk_180 0 26 (dk_at dksX2_beginTrack_2 10 rfl rfl)
theorem dX2_beginTrack_57 : decode cX2_beginTrack 57 = .ok (.aload_n 0, 1) := dk_42 (dk_at dksX2_beginTrack_2 13 rfl rfl)
theorem dX2_beginTrack_58 : decode cX2_beginTrack 58 = .ok (.getfield 30, 3) := dk_180 0 30 (dk_at dksX2_beginTrack_2 14 rfl rfl)
theorem dX2_beginTrack_61 : decode cX2_beginTrack 61 = .ok (.iload_n 1, 1) := dk_27 (dk_at dksX2_beginTrack_2 17 rfl rfl)
theorem dX2_beginTrack_62 : decode cX2_beginTrack 62 = .ok (.iaload, 1) := dk_46 (dk_at dksX2_beginTrack_2 18 rfl rfl)
theorem dX2_beginTrack_63 : decode cX2_beginTrack 63 = .ok (.iaload, 1) := dk_46 (dk_at dksX2_beginTrack_2 19 rfl rfl)
theorem dX2_beginTrack_64 : decode cX2_beginTrack 64 = .ok (.i2l, 1) := dk_133 (dk_at dksX2_beginTrack_2 20 rfl rfl)
theorem dX2_beginTrack_65 : decode cX2_beginTrack 65 = .ok (.lmul, 1) := dk_105 (dk_at dksX2_beginTrack_2 21 rfl rfl)
theorem dX2_beginTrack_66 : decode cX2_beginTrack 66 = .ok (.lastore, 1) := dk_80 (dk_at dksX2_beginTrack_2 22 rfl rfl)
theorem dX2_beginTrack_67 : decode cX2_beginTrack 67 = .ok (.aload_n 0, 1) := dk_42 (dk_at dksX2_beginTrack_2 23 rfl rfl)
theorem dX2_beginTrack_68 : decode cX2_beginTrack 68 = .ok (.getfield 69, 3) := dk_180 0 69 (dk_at dksX2_beginTrack_3 0 rfl rfl)
theorem dX2_beginTrack_71 : decode cX2_beginTrack 71 = .ok (.iload_n 2, 1) := dk_28 (dk_at dksX2_beginTrack_3 3 rfl rfl)
theorem dX2_beginTrack_72 : decode cX2_beginTrack 72 = .ok (.aaload, 1) := dk_50 (dk_at dksX2_beginTrack_3 4 rfl rfl)
theorem dX2_beginTrack_73 : decode cX2_beginTrack 73 = .ok (.iconst 3, 1) := dk_6 (dk_at dksX2_beginTrack_3 5 rfl rfl)
theorem dX2_beginTrack_74 : decode cX2_beginTrack 74 = .ok (.lconst 0, 1) := dk_9 (dk_at dksX2_beginTrack_3 6 rfl rfl)
theorem dX2_beginTrack_75 : decode cX2_beginTrack 75 = .ok (.lastore, 1) := dk_80 (dk_at dksX2_beginTrack_3 7 rfl rfl)
theorem dX2_beginTrack_76 : decode cX2_beginTrack 76 = .ok (.aload_n 0, 1) := dk_42 (dk_at dksX2_beginTrack_3 8 rfl rfl)
theorem dX2_beginTrack_77 : decode cX2_beginTrack 77 = .ok (.getfield 69, 3) := dk_180 0 69 (dk_at dksX2_beginTrack_3 9 rfl rfl)
theorem dX2_beginTrack_80 : decode cX2_beginTrack 80 = .ok (.iload_n 2, 1) := dk_28 (dk_at dksX2_beginTrack_3 12 rfl rfl)
theorem dX2_beginTrack_81 : decode cX2_beginTrack 81 = .ok (.aaload, 1) := dk_50 (dk_at dksX2_beginTrack_3 13 rfl rfl)
theorem dX2_beginTrack_82 : decode cX2_beginTrack 82 = .ok (.iconst 4, 1) := dk_7 (dk_at dksX2_beginTrack_3 14 rfl rfl)
theorem dX2_beginTrack_83 : decode cX2_beginTrack 83 = .ok (.aload_n 0, 1) := dk_42 (dk_at dksX2_beginTrack_3 15 rfl rfl)
theorem dX2_beginTrack_84 : decode cX2_beginTrack 84 = .ok (.getfield 23, 3) := dk_180 0 23 (dk_at dksX2_beginTrack_3 16 rfl rfl)
theorem dX2_beginTrack_87 : decode cX2_beginTrack 87 = .ok (.i2l, 1) := dk_133 (dk_at dksX2_beginTrack_3 19 rfl rfl)
theorem dX2_beginTrack_88 : decode cX2_beginTrack 88 = .ok (.lastore, 1) := dk_80 (dk_at dksX2_beginTrack_3 20 rfl rfl)
theorem dX2_beginTrack_89 : decode cX2_beginTrack 89 = .ok (.aload_n 0, 1) := dk_42 (dk_at dksX2_beginTrack_3 21 rfl rfl)
theorem dX2_beginTrack_90 : decode cX2_beginTrack 90 = .ok (.iload_n 2, 1) := dk_28 (dk_at dksX2_beginTrack_3 22 rfl rfl)
theorem dX2_beginTrack_91 : decode cX2_beginTrack 91 = .ok (.invokevirtual 174, 3) := dk_182 0 174 (dk_at dksX2_beginTrack_4 0 rfl rfl)
theorem dX2_beginTrack_94 : decode cX2_beginTrack 94 = .ok (.aload_n 0, 1) := dk_42 (dk_at dksX2_beginTrack_4 3 rfl rfl)
theorem dX2_beginTrack_95 : decode cX2_beginTrack 95 = .ok (.getfield 69, 3) := dk_180 0 69 (dk_at dksX2_beginTrack_4 4 rfl rfl)
theorem dX2_beginTrack_98 : decode cX2_beginTrack 98 = .ok (.iload_n 2, 1) := dk_28 (dk_at dksX2_beginTrack_4 7 rfl rfl)
theorem dX2_beginTrack_99 : decode cX2_beginTrack 99 = .ok (.aaload, 1) := dk_50 (dk_at dksX2_beginTrack_4 8 rfl rfl)
theorem dX2_beginTrack_100 : decode cX2_beginTrack 100 = .ok (.aload_n 0, 1) := dk_42 (dk_at dksX2_beginTrack_4 9 rfl rfl)
theorem dX2_beginTrack_101 : decode cX2_beginTrack 101 = .ok (.getfield 77, 3) := dk_180 0 77 (dk_at dksX2_beginTrack_4 10 rfl rfl)
theorem dX2_beginTrack_104 : decode cX2_beginTrack 104 = .ok (.iload_n 2, 1) := dk_28 (dk_at dksX2_beginTrack_4 13 rfl rfl)
theorem dX2_beginTrack_105 : decode cX2_beginTrack 105 = .ok (.aaload, 1) := dk_50 (dk_at dksX2_beginTrack_4 14 rfl rfl)
theorem dX2_beginTrack_106 : decode cX2_beginTrack 106 = .ok (.aload_n 0, 1) := dk_42 (dk_at dksX2_beginTrack_4 15 rfl rfl)
theorem dX2_beginTrack_107 : decode cX2_beginTrack 107 = .ok (.getfield 115, 3) := dk_180 0 115 (dk_at dksX2_beginTrack_4 16 rfl rfl)
theorem dX2_beginTrack_110 : decode cX2_beginTrack 110 = .ok (.aaload, 1) := dk_50 (dk_at dksX2_beginTrack_4 19 rfl rfl)
theorem dX2_beginTrack_111 : decode cX2_beginTrack 111 = .ok (.invokestatic 178, 3) := dk_184 0 178 (dk_at dksX2_beginTrack_4 20 rfl rfl)
theorem dX2_beginTrack_114 : decode cX2_beginTrack 114 = .ok (.aload_n 0, 1) := dk_42 (dk_at dksX2_beginTrack_4 23 rfl rfl)
theorem dX2_beginTrack_115 : decode cX2_beginTrack 115 = .ok (.getfield 39, 3) := dk_180 0 39 (dk_at dksX2_beginTrack_5 0 rfl rfl)
theorem dX2_beginTrack_118 : decode cX2_beginTrack 118 = .ok (.iload_n 2, 1) := dk_28 (dk_at dksX2_beginTrack_5 3 rfl rfl)
theorem dX2_beginTrack_119 : decode cX2_beginTrack 119 = .ok (.iconst 1, 1) := dk_4 (dk_at dksX2_beginTrack_5 4 rfl rfl)
theorem dX2_beginTrack_120 : decode cX2_beginTrack 120 = .ok (.bastore, 1) := dk_84 (dk_at dksX2_beginTrack_5 5 rfl rfl)
theorem dX2_beginTrack_121 : decode cX2_beginTrack 121 = .ok (.aload_n 0, 1) := dk_42 (dk_at dksX2_beginTrack_5 6 rfl rfl)
theorem dX2_beginTrack_122 : decode cX2_beginTrack 122 = .ok (.getfield 43, 3) := dk_180 0 43 (dk_at dksX2_beginTrack_5 7 rfl rfl)
theorem dX2_beginTrack_125 : decode cX2_beginTrack 125 = .ok (.iload_n 2, 1) := dk_28 (dk_at dksX2_beginTrack_5 10 rfl rfl)
theorem dX2_beginTrack_126 : decode cX2_beginTrack 126 = .ok (.iconst 0, 1) := dk_3 (dk_at dksX2_beginTrack_5 11 rfl rfl)
theorem dX2_beginTrack_127 : decode cX2_beginTrack 127 = .ok (.bastore, 1) := dk_84 (dk_at dksX2_beginTrack_5 12 rfl rfl)
theorem dX2_beginTrack_128 : decode cX2_beginTrack 128 = .ok (.aload_n 0, 1) := dk_42 (dk_at dksX2_beginTrack_5 13 rfl rfl)
theorem dX2_beginTrack_129 : decode cX2_beginTrack 129 = .ok (.getfield 46, 3) := dk_180 0 46 (dk_at dksX2_beginTrack_5 14 rfl rfl)
theorem dX2_beginTrack_132 : decode cX2_beginTrack 132 = .ok (.iload_n 2, 1) := dk_28 (dk_at dksX2_beginTrack_5 17 rfl rfl)
theorem dX2_beginTrack_133 : decode cX2_beginTrack 133 = .ok (.iconst 1, 1) := dk_4 (dk_at dksX2_beginTrack_5 18 rfl rfl)
theorem dX2_beginTrack_134 : decode cX2_beginTrack 134 = .ok (.bastore, 1) := dk_84 (dk_at dksX2_beginTrack_5 19 rfl rfl)
theorem dX2_beginTrack_135 : decode cX2_beginTrack 135 = .ok (.aload_n 0, 1) := dk_42 (dk_at dksX2_beginTrack_5 20 rfl rfl)
theorem dX2_beginTrack_136 : decode cX2_beginTrack 136 = .ok (.getfield 52, 3) := dk_180 0 52 (dk_at dksX2_beginTrack_5 21 rfl rfl)
theorem dX2_beginTrack_139 : decode cX2_beginTrack 139 = .ok (.iload_n 2, 1) := dk_28 (dk_at dksX2_beginTrack_6 0 rfl rfl)
theorem dX2_beginTrack_140 : decode cX2_beginTrack 140 = .ok (.aload_n 0, 1) := dk_42 (dk_at dksX2_beginTrack_6 1 rfl rfl)
theorem dX2_beginTrack_141 : decode cX2_beginTrack 141 = .ok (.getfield 115, 3) := dk_180 0 115 (dk_at dksX2_beginTrack_6 2 rfl rfl)
theorem dX2_beginTrack_144 : decode cX2_beginTrack 144 = .ok (.iastore, 1) := dk_79 (dk_at dksX2_beginTrack_6 5 rfl rfl)
theorem dX2_beginTrack_145 : decode cX2_beginTrack 145 = .ok (.aload_n 0, 1) := dk_42 (dk_at dksX2_beginTrack_6 6 rfl rfl)
theorem dX2_beginTrack_146 : decode cX2_beginTrack 146 = .ok (.getfield 58, 3) := dk_180 0 58 (dk_at dksX2_beginTrack_6 7 rfl rfl)
theorem dX2_beginTrack_149 : decode cX2_beginTrack 149 = .ok (.iload_n 2, 1) := dk_28 (dk_at dksX2_beginTrack_6 10 rfl rfl)
theorem dX2_beginTrack_150 : decode cX2_beginTrack 150 = .ok (.iconst 1, 1) := dk_4 (dk_at dksX2_beginTrack_6 11 rfl rfl)
theorem dX2_beginTrack_151 : decode cX2_beginTrack 151 = .ok (.iastore, 1) := dk_79 (dk_at dksX2_beginTrack_6 12 rfl rfl)
theorem dX2_beginTrack_152 : decode cX2_beginTrack 152 = .ok (.aload_n 0, 1) := dk_42 (dk_at dksX2_beginTrack_6 13 rfl rfl)
theorem dX2_beginTrack_153 : decode cX2_beginTrack 153 = .ok (.getfield 61, 3) := dk_180 0 61 (dk_at dksX2_beginTrack_6 14 rfl rfl)
theorem dX2_beginTrack_156 : decode cX2_beginTrack 156 = .ok (.iload_n 2, 1) := dk_28 (dk_at dksX2_beginTrack_6 17 rfl rfl)
theorem dX2_beginTrack_157 : decode cX2_beginTrack 157 = .ok (.iconst 0, 1) := dk_3 (dk_at dksX2_beginTrack_6 18 rfl rfl)
theorem dX2_beginTrack_158 : decode cX2_beginTrack 158 = .ok (.iastore, 1) := dk_79 (dk_at dksX2_beginTrack_6 19 rfl rfl)
theorem dX2_beginTrack_159 : decode cX2_beginTrack 159 = .ok (.aload_n 0, 1) := dk_42 (dk_at dksX2_beginTrack_6 20 rfl rfl)
theorem dX2_beginTrack_160 : decode cX2_beginTrack 160 = .ok (.getfield 64, 3) := dk_180 0 64 (dk_at dksX2_beginTrack_6 21 rfl rfl)
theorem dX2_beginTrack_163 : decode cX2_beginTrack 163 = .ok (.iload_n 2, 1) := dk_28 (dk_at dksX2_beginTrack_7 0 rfl rfl)
theorem dX2_beginTrack_164 : decode cX2_beginTrack 164 = .ok (.iconst 0, 1) := dk_3 (dk_at dksX2_beginTrack_7 1 rfl rfl)
theorem dX2_beginTrack_165 : decode cX2_beginTrack 165 = .ok (.iastore, 1) := dk_79 (dk_at dksX2_beginTrack_7 2 rfl rfl)
theorem dX2_beginTrack_166 : decode cX2_beginTrack 166 = .ok (.aload_n 0, 1) := dk_42 (dk_at dksX2_beginTrack_7 3 rfl rfl)
theorem dX2_beginTrack_167 : decode cX2_beginTrack 167 = .ok (.getfield 80, 3) := dk_180 0 80 (dk_at dksX2_beginTrack_7 4 rfl rfl)
theorem dX2_beginTrack_170 : decode cX2_beginTrack 170 = .ok (.iload_n 2, 1) := dk_28 (dk_at dksX2_beginTrack_7 7 rfl rfl)
theorem dX2_beginTrack_171 : decode cX2_beginTrack 171 = .ok (.lconst 0, 1) := dk_9 (dk_at dksX2_beginTrack_7 8 rfl rfl)
theorem dX2_beginTrack_172 : decode cX2_beginTrack 172 = .ok (.lastore, 1) := dk_80 (dk_at dksX2_beginTrack_7 9 rfl rfl)
theorem dX2_beginTrack_173 : decode cX2_beginTrack 173 = .ok (.aload_n 0, 1) := dk_42 (dk_at dksX2_beginTrack_7 10 rfl rfl)
theorem dX2_beginTrack_174 : decode cX2_beginTrack 174 = .ok (.getfield 84, 3) := dk_180 0 84 (dk_at dksX2_beginTrack_7 11 rfl rfl)
theorem dX2_beginTrack_177 : decode cX2_beginTrack 177 = .ok (.iload_n 2, 1) := dk_28 (dk_at dksX2_beginTrack_7 14 rfl rfl)
theorem dX2_beginTrack_178 : decode cX2_beginTrack 178 = .ok (.lconst 0, 1) := dk_9 (dk_at dksX2_beginTrack_7 15 rfl rfl)
theorem dX2_beginTrack_179 : decode cX2_beginTrack 179 = .ok (.lastore, 1) := dk_80 (dk_at dksX2_beginTrack_7 16 rfl rfl)
theorem dX2_beginTrack_180 : decode cX2_beginTrack 180 = .ok (.aload_n 0, 1) := dk_42 (dk_at dksX2_beginTrack_7 17 rfl rfl)
theorem dX2_beginTrack_181 : decode cX2_beginTrack 181 = .ok (.getfield 87, 3) := dk_180 0 87 (dk_at dksX2_beginTrack_7 18 rfl rfl)
theorem dX2_beginTrack_184 : decode cX2_beginTrack 184 = .ok (.iload_n 2, 1) := dk_28 (dk_at dksX2_beginTrack_7 21 rfl rfl)
theorem dX2_beginTrack_185 : decode cX2_beginTrack 185 = .ok (.lconst 0, 1) := dk_9 (dk_at dksX2_beginTrack_7 22 rfl rfl)
theorem dX2_beginTrack_186 : decode cX2_beginTrack 186 = .ok (.lastore, 1) := dk_80 (dk_at dksX2_beginTrack_7 23 rfl rfl)
theorem dX2_beginTrack_187 : decode cX2_beginTrack 187 = .ok (.aload_n 0, 1) := dk_42 (dk_at dksX2_beginTrack_8 0 rfl rfl)
theorem dX2_beginTrack_188 : decode cX2_beginTrack 188 = .ok (.getfield 90, 3) := dk_180 0 90 (dk_at dksX2_beginTrack_8 1 rfl rfl)
theorem dX2_beginTrack_191 : decode cX2_beginTrack 191 = .ok (.iload_n 2, 1) := dk_28 (dk_at dksX2_beginTrack_8 4 rfl rfl)
theorem dX2_beginTrack_192 : decode cX2_beginTrack 192 = .ok (.lconst 0, 1) := dk_9 (dk_at dksX2_beginTrack_8 5 rfl rfl)
theorem dX2_beginTrack_193 : decode cX2_beginTrack 193 = .ok (.lastore, 1) := dk_80 (dk_at dksX2_beginTrack_8 6 rfl rfl)
theorem dX2_beginTrack_194 : decode cX2_beginTrack 194 = .ok (.aload_n 0, 1) := dk_42 (dk_at dksX2_beginTrack_8 7 rfl rfl)
theorem dX2_beginTrack_195 : decode cX2_beginTrack 195 = .ok (.getfield 93, 3) := dk_180 0 93 (dk_at dksX2_beginTrack_8 8 rfl rfl)
theorem dX2_beginTrack_198 : decode cX2_beginTrack 198 = .ok (.iload_n 2, 1) := dk_28 (dk_at dksX2_beginTrack_8 11 rfl rfl)
theorem dX2_beginTrack_199 : decode cX2_beginTrack 199 = .ok (.lconst 0, 1) := dk_9 (dk_at dksX2_beginTrack_8 12 rfl rfl)
theorem dX2_beginTrack_200 : decode cX2_beginTrack 200 = .ok (.lastore, 1) := dk_80 (dk_at dksX2_beginTrack_8 13 rfl rfl)
theorem dX2_beginTrack_201 : decode cX2_beginTrack 201 = .ok (.aload_n 0, 1) := dk_42 (dk_at dksX2_beginTrack_8 14 rfl rfl)
theorem dX2_beginTrack_202 : decode cX2_beginTrack 202 = .ok (.iload_n 2, 1) := dk_28 (dk_at dksX2_beginTrack_8 15 rfl rfl)
theorem dX2_beginTrack_203 : decode cX2_beginTrack 203 = .ok (.iload_n 1, 1) := dk_27 (dk_at dksX2_beginTrack_8 16 rfl rfl)
theorem dX2_beginTrack_204 : decode cX2_beginTrack 204 = .ok (.invokevirtual 222, 3) := dk_182 0 222 (dk_at dksX2_beginTrack_8 17 rfl rfl)
theorem dX2_beginTrack_207 : decode cX2_beginTrack 207 = .ok (.aload_n 0, 1) := dk_42 (dk_at dksX2_beginTrack_8 20 rfl rfl)
theorem dX2_beginTrack_208 : decode cX2_beginTrack 208 = .ok (.getfield 36, 3) := dk_180 0 36 (dk_at dksX2_beginTrack_8 21 rfl rfl)
theorem dX2_beginTrack_211 : decode cX2_beginTrack 211 = .ok (.iload_n 1, 1) := dk_27 (dk_at dksX2_beginTrack_9 0 rfl rfl)
theorem dX2_beginTrack_212 : decode cX2_beginTrack 212 = .ok (.iload_n 2, 1) := dk_28 (dk_at dksX2_beginTrack_9 1 rfl rfl)
theorem dX2_beginTrack_213 : decode cX2_beginTrack 213 = .ok (.iastore, 1) := dk_79 (dk_at dksX2_beginTrack_9 2 rfl rfl)
theorem dX2_beginTrack_214 : decode cX2_beginTrack 214 = .ok (.return_, 1) := dk_177 (dk_at dksX2_beginTrack_9 3 rfl rfl)
abbrev cX2_endBeat : ByteArray := prog_9_method_28_code
def yX2_endBeat : MethodName := ⟨RX2, "endBeat", "(I)V"⟩
def dkwX2_endBeat_6 : List UInt8 := [180, 0, 19, 161, 0, 7, 4, 167, 0, 4, 3, 84, 177]
abbrev dktX2_endBeat_6 : List UInt8 := dkwX2_endBeat_6 ++ []
def dkwX2_endBeat_5 : List UInt8 := [180, 0, 43, 27, 51, 154, 0, 25, 42, 180, 0, 39, 27, 51, 153, 0, 20, 42, 180, 0, 58, 27, 46, 42]
abbrev dktX2_endBeat_5 : List UInt8 := dkwX2_endBeat_5 ++ dktX2_endBeat_6
def dkwX2_endBeat_4 : List UInt8 := [180, 0, 61, 27, 46, 42, 180, 0, 16, 163, 0, 7, 4, 167, 0, 4, 3, 84, 42, 180, 0, 43, 27, 42]
abbrev dktX2_endBeat_4 : List UInt8 := dkwX2_endBeat_4 ++ dktX2_endBeat_5
def dkwX2_endBeat_3 : List UInt8 := [27, 51, 153, 0, 7, 3, 167, 0, 11, 42, 180, 0, 61, 27, 46, 4, 96, 79, 42, 180, 0, 39, 27, 42]
abbrev dktX2_endBeat_3 : List UInt8 := dkwX2_endBeat_3 ++ dktX2_endBeat_4
def dkwX2_endBeat_2 : List UInt8 := [180, 0, 49, 27, 51, 153, 0, 7, 4, 167, 0, 4, 3, 96, 79, 42, 180, 0, 61, 27, 42, 180, 0, 49]
abbrev dktX2_endBeat_2 : List UInt8 := dkwX2_endBeat_2 ++ dktX2_endBeat_3
def dkwX2_endBeat_1 : List UInt8 := [27, 42, 180, 0, 115, 79, 42, 180, 0, 46, 27, 51, 154, 0, 77, 42, 180, 0, 58, 27, 92, 46, 42]
abbrev dktX2_endBeat_1 : List UInt8 := dkwX2_endBeat_1 ++ dktX2_endBeat_2
def dkwX2_endBeat_0 : List UInt8 := [42, 180, 0, 69, 27, 50, 42, 180, 0, 74, 27, 50, 42, 180, 0, 115, 50, 184, 0, 178, 42, 180, 0, 55]
abbrev dktX2_endBeat_0 : List UInt8 := dkwX2_endBeat_0 ++ dktX2_endBeat_1
theorem dksX2_endBeat_0 : cX2_endBeat.data.toList.drop 0 = dktX2_endBeat_0 := by decide +kernel
theorem dksX2_endBeat_1 : cX2_endBeat.data.toList.drop 24 = dktX2_endBeat_1 := dk_seg dksX2_endBeat_0 24 rfl rfl
theorem dksX2_endBeat_2 : cX2_endBeat.data.toList.drop 47 = dktX2_endBeat_2 := dk_seg dksX2_endBeat_1 23 rfl rfl
theorem dksX2_endBeat_3 : cX2_endBeat.data.toList.drop 71 = dktX2_endBeat_3 := dk_seg dksX2_endBeat_2 24 rfl rfl
theorem dksX2_endBeat_4 : cX2_endBeat.data.toList.drop 95 = dktX2_endBeat_4 := dk_seg dksX2_endBeat_3 24 rfl rfl
theorem dksX2_endBeat_5 : cX2_endBeat.data.toList.drop 119 = dktX2_endBeat_5 := dk_seg dksX2_endBeat_4 24 rfl rfl
theorem dksX2_endBeat_6 : cX2_endBeat.data.toList.drop 143 = dktX2_endBeat_6 := dk_seg dksX2_endBeat_5 24 rfl rfl
theorem dX2_endBeat_0 : decode cX2_endBeat 0 = .ok (.aload_n 0, 1) := dk_42 (dk_at dksX2_endBeat_0 0 rfl rfl)
theorem dX2_endBeat_1 : decode cX2_endBeat 1 = .ok (.getfield 69, 3) := dk_180 0 69 (dk_at dksX2_endBeat_0 1 rfl rfl)
theorem dX2_endBeat_4 : decode cX2_endBeat 4 = .ok (.iload_n 1, 1) := dk_27 (dk_at dksX2_endBeat_0 4 rfl rfl)
theorem dX2_endBeat_5 : decode cX2_endBeat 5 = .ok (.aaload, 1) := dk_50 (dk_at dksX2_endBeat_0 5 rfl rfl)
theorem dX2_endBeat_6 : decode cX2_endBeat 6 = .ok (.aload_n 0, 1) := dk_42 (dk_at dksX2_endBeat_0 6 rfl rfl)
theorem dX2_endBeat_7 : decode cX2_endBeat 7 = .ok (.getfield 74, 3) := dk_180 0 74 (dk_at dksX2_endBeat_0 7 rfl rfl)
theorem dX2_endBeat_10 : decode cX2_endBeat 10 = .ok (.iload_n 1, 1) := dk_27 (dk_at dksX2_endBeat_0 10 rfl rfl)
theorem dX2_endBeat_11 : decode cX2_endBeat 11 = .ok (.aaload, 1) := dk_50 (dk_at dksX2_endBeat_0 11 rfl rfl)
theorem dX2_endBeat_12 : decode cX2_endBeat 12 = .ok (.aload_n 0, 1) := dk_42 (dk_at dksX2_endBeat_0 12 rfl rfl)
theorem dX2_endBeat_13 : decode cX2_endBeat 13 = .ok (.getfield 115, 3) := dk_180 0 115 (dk_at dksX2_endBeat_0 13 rfl rfl)
theorem dX2_endBeat_16 : decode cX2_endBeat 16 = .ok (.aaload, 1) := dk_50 (dk_at dksX2_endBeat_0 16 rfl rfl)
theorem dX2_endBeat_17 : decode cX2_endBeat 17 = .ok (.invokestatic 178, 3) := dk_184 0 178 (dk_at dksX2_endBeat_0 17 rfl rfl)
theorem dX2_endBeat_20 : decode cX2_endBeat 20 = .ok (.aload_n 0, 1) := dk_42 (dk_at dksX2_endBeat_0 20 rfl rfl)
theorem dX2_endBeat_21 : decode cX2_endBeat 21 = .ok (.getfield 55, 3) := dk_180 0 55 (dk_at dksX2_endBeat_0 21 rfl rfl)
theorem dX2_endBeat_24 : decode cX2_endBeat 24 = .ok (.iload_n 1, 1) := dk_27 (dk_at dksX2_endBeat_1 0 rfl rfl)
theorem dX2_endBeat_25 : decode cX2_endBeat 25 = .ok (.aload_n 0, 1) := dk_42 (dk_at dksX2_endBeat_1 1 rfl rfl)
theorem dX2_endBeat_26 : decode cX2_endBeat 26 = .ok (.getfield 115, 3) := dk_180 0 115 (dk_at dksX2_endBeat_1 2 rfl rfl)
theorem dX2_endBeat_29 : decode cX2_endBeat 29 = .ok (.iastore, 1) := dk_79 (dk_at dksX2_endBeat_1 5 rfl rfl)
theorem dX2_endBeat_30 : decode cX2_endBeat 30 = .ok (.aload_n 0, 1) := dk_42 (dk_at dksX2_endBeat_1 6 rfl rfl)
theorem dX2_endBeat_31 : decode cX2_endBeat 31 = .ok (.getfield 46, 3) := dk_180 0 46 (dk_at dksX2_endBeat_1 7 rfl rfl)
theorem dX2_endBeat_34 : decode cX2_endBeat 34 = .ok (.iload_n 1, 1) := dk_27 (dk_at dksX2_endBeat_1 10 rfl rfl)
theorem dX2_endBeat_35 : decode cX2_endBeat 35 = .ok (.baload, 1) := dk_51 (dk_at dksX2_endBeat_1 11 rfl rfl)
theorem dX2_endBeat_36 : decode cX2_endBeat 36 = .ok (.ifCond .ne 77, 3) := dk_154 0 77 (dk_at dksX2_endBeat_1 12 rfl rfl)
theorem dX2_endBeat_39 : decode cX2_endBeat 39 = .ok (.aload_n 0, 1) := dk_42 (dk_at dksX2_endBeat_1 15 rfl rfl)
theorem dX2_endBeat_40 : decode cX2_endBeat 40 = .ok (.getfield 58, 3) := dk_180 0 58 (dk_at dksX2_endBeat_1 16 rfl rfl)
theorem dX2_endBeat_43 : decode cX2_endBeat 43 = .ok (.iload_n 1, 1) := dk_27 (dk_at dksX2_endBeat_1 19 rfl rfl)
theorem dX2_endBeat_44 : decode cX2_endBeat 44 = .ok (.dup2, 1) := dk_92 (dk_at dksX2_endBeat_1 20 rfl rfl)
theorem dX2_endBeat_45 : decode cX2_endBeat 45 = .ok (.iaload, 1) := dk_46 (dk_at dksX2_endBeat_1 21 rfl rfl)
theorem dX2_endBeat_46 : decode cX2_endBeat 46 = .ok (.aload_n 0, 1) := dk_42 (dk_at dksX2_endBeat_1 22 rfl rfl)
theorem dX2_endBeat_47 : decode cX2_endBeat 47 = .ok (.getfield 49, 3) := dk_180 0 49 (dk_at dksX2_endBeat_2 0 rfl rfl)
theorem dX2_endBeat_50 : decode cX2_endBeat 50 = .ok (.iload_n 1, 1) := dk_27 (dk_at dksX2_endBeat_2 3 rfl rfl)
theorem dX2_endBeat_51 : decode cX2_endBeat 51 = .ok (.baload, 1) := dk_51 (dk_at dksX2_endBeat_2 4 rfl rfl)
theorem dX2_endBeat_52 : decode cX2_endBeat 52 = .ok (.ifCond .eq 7, 3) := dk_153 0 7 (dk_at dksX2_endBeat_2 5 rfl rfl)
theorem dX2_endBeat_55 : decode cX2_endBeat 55 = .ok (.iconst 1, 1) := dk_4 (dk_at dksX2_endBeat_2 8 rfl rfl)
theorem dX2_endBeat_56 : decode cX2_endBeat 56 = .ok (.goto 4, 3) := dk_167 0 4 (dk_at dksX2_endBeat_2 9 rfl rfl)
theorem dX2_endBeat_59 : decode cX2_endBeat 59 = .ok (.iconst 0, 1) := dk_3 (dk_at dksX2_endBeat_2 12 rfl rfl)
theorem dX2_endBeat_60 : decode cX2_endBeat 60 = .ok (.iadd, 1) := dk_96 (dk_at dksX2_endBeat_2 13 rfl rfl)
theorem dX2_endBeat_61 : decode cX2_endBeat 61 = .ok (.iastore, 1) := dk_79 (dk_at dksX2_endBeat_2 14 rfl rfl)
theorem dX2_endBeat_62 : decode cX2_endBeat 62 = .ok (.aload_n 0, 1) := dk_42 (dk_at dksX2_endBeat_2 15 rfl rfl)
theorem dX2_endBeat_63 : decode cX2_endBeat 63 = .ok (.getfield 61, 3) := dk_180 0 61 (dk_at dksX2_endBeat_2 16 rfl rfl)
theorem dX2_endBeat_66 : decode cX2_endBeat 66 = .ok (.iload_n 1, 1) := dk_27 (dk_at dksX2_endBeat_2 19 rfl rfl)
theorem dX2_endBeat_67 : decode cX2_endBeat 67 = .ok (.aload_n 0, 1) := dk_42 (dk_at dksX2_endBeat_2 20 rfl rfl)
theorem dX2_endBeat_68 : decode cX2_endBeat 68 = .ok (.getfield 49, 3) := dk_180 0 49 (dk_at dksX2_endBeat_2 21 rfl rfl)
theorem dX2_endBeat_71 : decode cX2_endBeat 71 = .ok (.iload_n 1, 1) := dk_27 (dk_at dksX2_endBeat_3 0 rfl rfl)
theorem dX2_endBeat_72 : decode cX2_endBeat 72 = .ok (.baload, 1) := dk_51 (dk_at dksX2_endBeat_3 1 rfl rfl)
theorem dX2_endBeat_73 : decode cX2_endBeat 73 = .ok (.ifCond .eq 7, 3) := dk_153 0 7 (dk_at dksX2_endBeat_3 2 rfl rfl)
theorem dX2_endBeat_76 : decode cX2_endBeat 76 = .ok (.iconst 0, 1) := dk_3 (dk_at dksX2_endBeat_3 5 rfl rfl)
theorem dX2_endBeat_77 : decode cX2_endBeat 77 = .ok (.goto 11, 3) := dk_167 0 11 (dk_at dksX2_endBeat_3 6 rfl rfl)
theorem dX2_endBeat_80 : decode cX2_endBeat 80 = .ok (.aload_n 0, 1) := dk_42 (dk_at dksX2_endBeat_3 9 rfl rfl)
theorem dX2_endBeat_81 : decode cX2_endBeat 81 = .ok (.getfield 61, 3) := dk_180 0 61 (dk_at dksX2_endBeat_3 10 rfl rfl)
theorem dX2_endBeat_84 : decode cX2_endBeat 84 = .ok (.iload_n 1, 1) := dk_27 (dk_at dksX2_endBeat_3 13 rfl rfl)
theorem dX2_endBeat_85 : decode cX2_endBeat 85 = .ok (.iaload, 1) := dk_46 (dk_at dksX2_endBeat_3 14 rfl rfl)
theorem dX2_endBeat_86 : decode cX2_endBeat 86 = .ok (.iconst 1, 1) := dk_4 (dk_at dksX2_endBeat_3 15 rfl rfl)
theorem dX2_endBeat_87 : decode cX2_endBeat 87 = .ok (.iadd, 1) := dk_96 (dk_at dksX2_endBeat_3 16 rfl rfl)
theorem dX2_endBeat_88 : decode cX2_endBeat 88 = .ok (.iastore, 1) := dk_79 (dk_at dksX2_endBeat_3 17 rfl rfl)
theorem dX2_endBeat_89 : decode cX2_endBeat 89 = .ok (.aload_n 0, 1) := dk_42 (dk_at dksX2_endBeat_3 18 rfl rfl)
theorem dX2_endBeat_90 : decode cX2_endBeat 90 = .ok (.getfield 39, 3) := dk_180 0 39 (dk_at dksX2_endBeat_3 19 rfl rfl)
theorem dX2_endBeat_93 : decode cX2_endBeat 93 = .ok (.iload_n 1, 1) := dk_27 (dk_at dksX2_endBeat_3 22 rfl rfl)
theorem dX2_endBeat_94 : decode cX2_endBeat 94 = .ok (.aload_n 0, 1) := dk_42 (dk_at dksX2_endBeat_3 23 rfl rfl)
theorem dX2_endBeat_95 : decode cX2_endBeat 95 = .ok (.getfield 61, 3) := dk_180 0 61 (dk_at dksX2_endBeat_4 0 rfl rfl)
theorem dX2_endBeat_98 : decode cX2_endBeat 98 = .ok (.iload_n 1, 1) := dk_27 (dk_at dksX2_endBeat_4 3 rfl rfl)
theorem dX2_endBeat_99 : decode cX2_endBeat 99 = .ok (.iaload, 1) := dk_46 (dk_at dksX2_endBeat_4 4 rfl rfl)
theorem dX2_endBeat_100 : decode cX2_endBeat 100 = .ok (.aload_n 0, 1) := dk_42 (dk_at dksX2_endBeat_4 5 rfl rfl)
theorem dX2_endBeat_101 : decode cX2_endBeat 101 = .ok (.getfield 16, 3) := dk_180 0 16 (dk_at dksX2_endBeat_4 6 rfl rfl)
theorem dX2_endBeat_104 : decode cX2_endBeat 104 = .ok (.if_icmp .gt 7, 3) := dk_163 0 7 (dk_at dksX2_endBeat_4 9 rfl rfl)
theorem dX2_endBeat_107 : decode cX2_endBeat 107 = .ok (.iconst 1, 1) := dk_4 (dk_at dksX2_endBeat_4 12 rfl rfl)
theorem dX2_endBeat_108 : decode cX2_endBeat 108 = .ok (.goto 4, 3) := dk_167 0 4 (dk_at dksX2_endBeat_4 13 rfl rfl)
theorem dX2_endBeat_111 : decode cX2_endBeat 111 = .ok (.iconst 0, 1) := dk_3 (dk_at dksX2_endBeat_4 16 rfl rfl)
theorem dX2_endBeat_112 : decode cX2_endBeat 112 = .ok (.bastore, 1) := dk_84 (dk_at dksX2_endBeat_4 17 rfl rfl)
theorem dX2_endBeat_113 : decode cX2_endBeat 113 = .ok (.aload_n 0, 1) := dk_42 (dk_at dksX2_endBeat_4 18 rfl rfl)
theorem dX2_endBeat_114 : decode cX2_endBeat 114 = .ok (.getfield 43, 3) := dk_180 0 43 (dk_at dksX2_endBeat_4 19 rfl rfl)
theorem dX2_endBeat_117 : decode cX2_endBeat 117 = .ok (.iload_n 1, 1) := dk_27 (dk_at dksX2_endBeat_4 22 rfl rfl)
theorem dX2_endBeat_118 : decode cX2_endBeat 118 = .ok (.aload_n 0, 1) := dk_42 (dk_at dksX2_endBeat_4 23 rfl rfl)
theorem dX2_endBeat_119 : decode cX2_endBeat 119 = .ok (.getfield 43, 3) := dk_180 0 43 (dk_at dksX2_endBeat_5 0 rfl rfl)
theorem dX2_endBeat_122 : decode cX2_endBeat 122 = .ok (.iload_n 1, 1) := dk_27 (dk_at dksX2_endBeat_5 3 rfl rfl)
theorem dX2_endBeat_123 : decode cX2_endBeat 123 = .ok (.baload, 1) := dk_51 (dk_at dksX2_endBeat_5 4 rfl rfl)
theorem dX2_endBeat_124 : decode cX2_endBeat 124 = .ok (.ifCond .ne 25, 3) := dk_154 0 25 (dk_at dksX2_endBeat_5 5 rfl rfl)
theorem dX2_endBeat_127 : decode cX2_endBeat 127 = .ok (.aload_n 0, 1) := dk_42 (dk_at dksX2_endBeat_5 8 rfl rfl)
theorem dX2_endBeat_128 : decode cX2_endBeat 128 = .ok (.getfield 39, 3) := dk_180 0 39 (dk_at dksX2_endBeat_5 9 rfl rfl)
theorem dX2_endBeat_131 : decode cX2_endBeat 131 = .ok (.iload_n 1, 1) := dk_27 (dk_at dksX2_endBeat_5 12 rfl rfl)
theorem dX2_endBeat_132 : decode cX2_endBeat 132 = .ok (.baload, 1) := dk_51 (dk_at dksX2_endBeat_5 13 rfl rfl)
theorem dX2_endBeat_133 : decode cX2_endBeat 133 = .ok (.ifCond .eq 20, 3) := dk_153 0 20 (dk_at dksX2_endBeat_5 14 rfl rfl)
theorem dX2_endBeat_136 : decode cX2_endBeat 136 = .ok (.aload_n 0, 1) := dk_42 (dk_at dksX2_endBeat_5 17 rfl rfl)
theorem dX2_endBeat_137 : decode cX2_endBeat 137 = .ok (.getfield 58, 3) := dk_180 0 58 (dk_at dksX2_endBeat_5 18 rfl rfl)
theorem dX2_endBeat_140 : decode cX2_endBeat 140 = .ok (.iload_n 1, 1) := dk_27 (dk_at dksX2_endBeat_5 21 rfl rfl)
theorem dX2_endBeat_141 : decode cX2_endBeat 141 = .ok (.iaload, 1) := dk_46 (dk_at dksX2_endBeat_5 22 rfl rfl)
theorem dX2_endBeat_142 : decode cX2_endBeat 142 = .ok (.aload_n 0, 1) := dk_42 (dk_at dksX2_endBeat_5 23 rfl rfl)
theorem dX2_endBeat_143 : decode cX2_endBeat 143 = .ok (.getfield 19, 3) := dk_180 0 19 (dk_at dksX2_endBeat_6 0 rfl rfl)
theorem dX2_endBeat_146 : decode cX2_endBeat 146 = .ok (.if_icmp .lt 7, 3) := dk_161 0 7 (dk_at dksX2_endBeat_6 3 rfl rfl)
theorem dX2_endBeat_149 : decode cX2_endBeat 149 = .ok (.iconst 1, 1) := dk_4 (dk_at dksX2_endBeat_6 6 rfl rfl)
theorem dX2_endBeat_150 : decode cX2_endBeat 150 = .ok (.goto 4, 3) := dk_167 0 4 (dk_at dksX2_endBeat_6 7 rfl rfl)
theorem dX2_endBeat_153 : decode cX2_endBeat 153 = .ok (.iconst 0, 1) := dk_3 (dk_at dksX2_endBeat_6 10 rfl rfl)
theorem dX2_endBeat_154 : decode cX2_endBeat 154 = .ok (.bastore, 1) := dk_84 (dk_at dksX2_endBeat_6 11 rfl rfl)
theorem dX2_endBeat_155 : decode cX2_endBeat 155 = .ok (.return_, 1) := dk_177 (dk_at dksX2_endBeat_6 12 rfl rfl)
abbrev cX2_beats : ByteArray := prog_9_method_31_code
def yX2_beats : MethodName := ⟨RX2, "beats", "(I)I"⟩
def dkwX2_beats_2 : List UInt8 := [42, 182, 0, 245, 132, 2, 1, 167, 255, 244, 42, 182, 0, 235, 172]
abbrev dktX2_beats_2 : List UInt8 := dkwX2_beats_2 ++ []
def dkwX2_beats_1 : List UInt8 := [163, 0, 7, 4, 167, 0, 4, 3, 5, 182, 0, 111, 154, 0, 5, 3, 172, 3, 61, 28, 27, 162, 0, 13]
abbrev dktX2_beats_1 : List UInt8 := dkwX2_beats_1 ++ dktX2_beats_2
def dkwX2_beats_0 : List UInt8 := [42, 27, 4, 16, 10, 184, 0, 140, 182, 0, 144, 153, 0, 27, 42, 42, 180, 0, 115, 27, 96, 16, 64]
abbrev dktX2_beats_0 : List UInt8 := dkwX2_beats_0 ++ dktX2_beats_1
theorem dksX2_beats_0 : cX2_beats.data.toList.drop 0 = dktX2_beats_0 := by decide +kernel
theorem dksX2_beats_1 : cX2_beats.data.toList.drop 23 = dktX2_beats_1 := dk_seg dksX2_beats_0 23 rfl rfl
theorem dksX2_beats_2 : cX2_beats.data.toList.drop 47 = dktX2_beats_2 := dk_seg dksX2_beats_1 24 rfl rfl
theorem dX2_beats_0 : decode cX2_beats 0 = .ok (.aload_n 0, 1) := dk_42 (dk_at dksX2_beats_0 0 rfl rfl)
theorem dX2_beats_1 : decode cX2_beats 1 = .ok (.iload_n 1, 1) := dk_27 (dk_at dksX2_beats_0 1 rfl rfl)
theorem dX2_beats_2 : decode cX2_beats 2 = .ok (.iconst 1, 1) := dk_4 (dk_at dksX2_beats_0 2 rfl rfl)
theorem dX2_beats_3 : decode cX2_beats 3 = .ok (.bipush 10, 2) := dk_16 10 (dk_at dksX2_beats_0 3 rfl rfl)
theorem dX2_beats_5 : decode cX2_beats 5 = .ok (.invokestatic 140, 3) := dk_184 0 140 (dk_at dksX2_beats_0 5 rfl rfl)
theorem dX2_beats_8 : decode cX2_beats 8 = .ok (.invokevirtual 144, 3) := dk_182 0 144 (dk_at dksX2_beats_0 8 rfl rfl)
theorem dX2_beats_11 : decode cX2_beats 11 = .ok (.ifCond .eq 27, 3) := dk_153 0 27 (dk_at dksX2_beats_0 11 rfl rfl)
theorem dX2_beats_14 : decode cX2_beats 14 = .ok (.aload_n 0, 1) := dk_42 (dk_at dksX2_beats_0 14 rfl rfl)
theorem dX2_beats_15 : decode cX2_beats 15 = .ok (.aload_n 0, 1) := dk_42 (dk_at dksX2_beats_0 15 rfl rfl)
theorem dX2_beats_16 : decode cX2_beats 16 = .ok (.getfield 115, 3) := dk_180 0 115 (dk_at dksX2_beats_0 16 rfl rfl)
theorem dX2_beats_19 : decode cX2_beats 19 = .ok (.iload_n 1, 1) := dk_27 (dk_at dksX2_beats_0 19 rfl rfl)
theorem dX2_beats_20 : decode cX2_beats 20 = .ok (.iadd, 1) := dk_96 (dk_at dksX2_beats_0 20 rfl rfl)
theorem dX2_beats_21 : decode cX2_beats 21 = .ok (.bipush 64, 2) := dk_16 64 (dk_at dksX2_beats_0 21 rfl rfl)
theorem dX2_beats_23 : decode cX2_beats 23 = .ok (.if_icmp .gt 7, 3) := dk_163 0 7 (dk_at dksX2_beats_1 0 rfl rfl)
theorem dX2_beats_26 : decode cX2_beats 26 = .ok (.iconst 1, 1) := dk_4 (dk_at dksX2_beats_1 3 rfl rfl)
theorem dX2_beats_27 : decode cX2_beats 27 = .ok (.goto 4, 3) := dk_167 0 4 (dk_at dksX2_beats_1 4 rfl rfl)
theorem dX2_beats_30 : decode cX2_beats 30 = .ok (.iconst 0, 1) := dk_3 (dk_at dksX2_beats_1 7 rfl rfl)
theorem dX2_beats_31 : decode cX2_beats 31 = .ok (.iconst 2, 1) := dk_5 (dk_at dksX2_beats_1 8 rfl rfl)
theorem dX2_beats_32 : decode cX2_beats 32 = .ok (.invokevirtual 111, 3) := dk_182 0 111 (dk_at dksX2_beats_1 9 rfl rfl)
theorem dX2_beats_35 : decode cX2_beats 35 = .ok (.ifCond .ne 5, 3) := dk_154 0 5 (dk_at dksX2_beats_1 12 rfl rfl)
theorem dX2_beats_38 : decode cX2_beats 38 = .ok (.iconst 0, 1) := dk_3 (dk_at dksX2_beats_1 15 rfl rfl)
theorem dX2_beats_39 : decode cX2_beats 39 = .ok (.ireturn, 1) := dk_172 (dk_at dksX2_beats_1 16 rfl rfl)
theorem dX2_beats_40 : decode cX2_beats 40 = .ok (.iconst 0, 1) := dk_3 (dk_at dksX2_beats_1 17 rfl rfl)
theorem dX2_beats_41 : decode cX2_beats 41 = .ok (.istore_n 2, 1) := dk_61 (dk_at dksX2_beats_1 18 rfl rfl)
theorem dX2_beats_42 : decode cX2_beats 42 = .ok (.iload_n 2, 1) := dk_28 (dk_at dksX2_beats_1 19 rfl rfl)
theorem dX2_beats_43 : decode cX2_beats 43 = .ok (.iload_n 1, 1) := dk_27 (dk_at dksX2_beats_1 20 rfl rfl)
theorem dX2_beats_44 : decode cX2_beats 44 = .ok (.if_icmp .ge 13, 3) := dk_162 0 13 (dk_at dksX2_beats_1 21 rfl rfl)
theorem dX2_beats_47 : decode cX2_beats 47 = .ok (.aload_n 0, 1) := dk_42 (dk_at dksX2_beats_2 0 rfl rfl)
theorem dX2_beats_48 : decode cX2_beats 48 = .ok (.invokevirtual 245, 3) := dk_182 0 245 (dk_at dksX2_beats_2 1 rfl rfl)
theorem dX2_beats_51 : decode cX2_beats 51 = .ok (.iinc 2 1, 3) := dk_132 2 1 (dk_at dksX2_beats_2 4 rfl rfl)
theorem dX2_beats_54 : decode cX2_beats 54 = .ok (.goto (-12), 3) := dk_167 255 244 (dk_at dksX2_beats_2 7 rfl rfl)
theorem dX2_beats_57 : decode cX2_beats 57 = .ok (.aload_n 0, 1) := dk_42 (dk_at dksX2_beats_2 10 rfl rfl)
theorem dX2_beats_58 : decode cX2_beats 58 = .ok (.invokevirtual 235, 3) := dk_182 0 235 (dk_at dksX2_beats_2 11 rfl rfl)
theorem dX2_beats_61 : decode cX2_beats 61 = .ok (.ireturn, 1) := dk_172 (dk_at dksX2_beats_2 14 rfl rfl)
abbrev cX2_beatCount : ByteArray := prog_9_method_32_code
def yX2_beatCount : MethodName := ⟨RX2, "beatCount", "()I"⟩
def dkwX2_beatCount_0 : List UInt8 := [42, 42, 180, 0, 115, 182, 0, 136, 172]
abbrev dktX2_beatCount_0 : List UInt8 := dkwX2_beatCount_0 ++ []
theorem dksX2_beatCount_0 : cX2_beatCount.data.toList.drop 0 = dktX2_beatCount_0 := by decide +kernel
theorem dX2_beatCount_0 : decode cX2_beatCount 0 = .ok (.aload_n 0, 1) := dk_42 (dk_at dksX2_beatCount_0 0 rfl rfl)
theorem dX2_beatCount_1 : decode cX2_beatCount 1 = .ok (.aload_n 0, 1) := dk_42 (dk_at dksX2_beatCount_0 1 rfl rfl)
theorem dX2_beatCount_2 : decode cX2_beatCount 2 = .ok (.getfield 115, 3) := dk_180 0 115 (dk_at dksX2_beatCount_0 2 rfl rfl)
theorem dX2_beatCount_5 : decode cX2_beatCount 5 = .ok (.invokevirtual 136, 3) := dk_182 0 136 (dk_at dksX2_beatCount_0 5 rfl rfl)
theorem dX2_beatCount_8 : decode cX2_beatCount 8 = .ok (.ireturn, 1) := dk_172 (dk_at dksX2_beatCount_0 8 rfl rfl)
abbrev cX2_trackOf : ByteArray := prog_9_method_33_code
def yX2_trackOf : MethodName := ⟨RX2, "trackOf", "(I)I"⟩
def dkwX2_trackOf_1 : List UInt8 := [167, 0, 4, 3, 172]
abbrev dktX2_trackOf_1 : List UInt8 := dkwX2_trackOf_1 ++ []
def dkwX2_trackOf_0 : List UInt8 := [42, 27, 3, 42, 180, 0, 121, 4, 100, 184, 0, 140, 182, 0, 144, 153, 0, 12, 42, 180, 0, 36, 27, 46]
abbrev dktX2_trackOf_0 : List UInt8 := dkwX2_trackOf_0 ++ dktX2_trackOf_1
theorem dksX2_trackOf_0 : cX2_trackOf.data.toList.drop 0 = dktX2_trackOf_0 := by decide +kernel
theorem dksX2_trackOf_1 : cX2_trackOf.data.toList.drop 24 = dktX2_trackOf_1 := dk_seg dksX2_trackOf_0 24 rfl rfl
theorem dX2_trackOf_0 : decode cX2_trackOf 0 = .ok (.aload_n 0, 1) := dk_42 (dk_at dksX2_trackOf_0 0 rfl rfl)
theorem dX2_trackOf_1 : decode cX2_trackOf 1 = .ok (.iload_n 1, 1) := dk_27 (dk_at dksX2_trackOf_0 1 rfl rfl)
theorem dX2_trackOf_2 : decode cX2_trackOf 2 = .ok (.iconst 0, 1) := dk_3 (dk_at dksX2_trackOf_0 2 rfl rfl)
theorem dX2_trackOf_3 : decode cX2_trackOf 3 = .ok (.aload_n 0, 1) := dk_42 (dk_at dksX2_trackOf_0 3 rfl rfl)
theorem dX2_trackOf_4 : decode cX2_trackOf 4 = .ok (.getfield 121, 3) := dk_180 0 121 (dk_at dksX2_trackOf_0 4 rfl rfl)
theorem dX2_trackOf_7 : decode cX2_trackOf 7 = .ok (.iconst 1, 1) := dk_4 (dk_at dksX2_trackOf_0 7 rfl rfl)
theorem dX2_trackOf_8 : decode cX2_trackOf 8 = .ok (.isub, 1) := dk_100 (dk_at dksX2_trackOf_0 8 rfl rfl)
theorem dX2_trackOf_9 : decode cX2_trackOf 9 = .ok (.invokestatic 140, 3) := dk_184 0 140 (dk_at dksX2_trackOf_0 9 rfl rfl)
theorem dX2_trackOf_12 : decode cX2_trackOf 12 = .ok (.invokevirtual 144, 3) := dk_182 0 144 (dk_at dksX2_trackOf_0 12 rfl rfl)
theorem dX2_trackOf_15 : decode cX2_trackOf 15 = .ok (.ifCond .eq 12, 3) := dk_153 0 12 (dk_at dksX2_trackOf_0 15 rfl rfl)
theorem dX2_trackOf_18 : decode cX2_trackOf 18 = .ok (.aload_n 0, 1) := dk_42 (dk_at dksX2_trackOf_0 18 rfl rfl)
theorem dX2_trackOf_19 : decode cX2_trackOf 19 = .ok (.getfield 36, 3) := dk_180 0 36 (dk_at dksX2_trackOf_0 19 rfl rfl)
theorem dX2_trackOf_22 : decode cX2_trackOf 22 = .ok (.iload_n 1, 1) := dk_27 (dk_at dksX2_trackOf_0 22 rfl rfl)
theorem dX2_trackOf_23 : decode cX2_trackOf 23 = .ok (.iaload, 1) := dk_46 (dk_at dksX2_trackOf_0 23 rfl rfl)
theorem dX2_trackOf_24 : decode cX2_trackOf 24 = .ok (.goto 4, 3) := dk_167 0 4 (dk_at dksX2_trackOf_1 0 rfl rfl)
theorem dX2_trackOf_27 : decode cX2_trackOf 27 = .ok (.iconst 0, 1) := dk_3 (dk_at dksX2_trackOf_1 3 rfl rfl)
theorem dX2_trackOf_28 : decode cX2_trackOf 28 = .ok (.ireturn, 1) := dk_172 (dk_at dksX2_trackOf_1 4 rfl rfl)
abbrev cX2_trackCount : ByteArray := prog_9_method_35_code
def yX2_trackCount : MethodName := ⟨RX2, "trackCount", "()I"⟩
def dkwX2_trackCount_0 : List UInt8 := [42, 42, 180, 0, 130, 182, 0, 136, 172]
abbrev dktX2_trackCount_0 : List UInt8 := dkwX2_trackCount_0 ++ []
theorem dksX2_trackCount_0 : cX2_trackCount.data.toList.drop 0 = dktX2_trackCount_0 := by decide +kernel
theorem dX2_trackCount_0 : decode cX2_trackCount 0 = .ok (.aload_n 0, 1) := dk_42 (dk_at dksX2_trackCount_0 0 rfl rfl)
theorem dX2_trackCount_1 : decode cX2_trackCount 1 = .ok (.aload_n 0, 1) := dk_42 (dk_at dksX2_trackCount_0 1 rfl rfl)
theorem dX2_trackCount_2 : decode cX2_trackCount 2 = .ok (.getfield 130, 3) := dk_180 0 130 (dk_at dksX2_trackCount_0 2 rfl rfl)
theorem dX2_trackCount_5 : decode cX2_trackCount 5 = .ok (.invokevirtual 136, 3) := dk_182 0 136 (dk_at dksX2_trackCount_0 5 rfl rfl)
theorem dX2_trackCount_8 : decode cX2_trackCount 8 = .ok (.ireturn, 1) := dk_172 (dk_at dksX2_trackCount_0 8 rfl rfl)
abbrev cX2_alive : ByteArray := prog_9_method_36_code
def yX2_alive : MethodName := ⟨RX2, "alive", "()I"⟩
def dkwX2_alive_0 : List UInt8 := [42, 42, 182, 0, 235, 182, 0, 136, 172]
abbrev dktX2_alive_0 : List UInt8 := dkwX2_alive_0 ++ []
theorem dksX2_alive_0 : cX2_alive.data.toList.drop 0 = dktX2_alive_0 := by decide +kernel
theorem dX2_alive_0 : decode cX2_alive 0 = .ok (.aload_n 0, 1) := dk_42 (dk_at dksX2_alive_0 0 rfl rfl)
theorem dX2_alive_1 : decode cX2_alive 1 = .ok (.aload_n 0, 1) := dk_42 (dk_at dksX2_alive_0 1 rfl rfl)
theorem dX2_alive_2 : decode cX2_alive 2 = .ok (.invokevirtual 235, 3) := dk_182 0 235 (dk_at dksX2_alive_0 2 rfl rfl)
theorem dX2_alive_5 : decode cX2_alive 5 = .ok (.invokevirtual 136, 3) := dk_182 0 136 (dk_at dksX2_alive_0 5 rfl rfl)
theorem dX2_alive_8 : decode cX2_alive 8 = .ok (.ireturn, 1) := dk_172 (dk_at dksX2_alive_0 8 rfl rfl)
abbrev cX2_isAlive : ByteArray := prog_9_method_37_code
def yX2_isAlive : MethodName := ⟨RX2, "isAlive", "(I)Z"⟩
def dkwX2_isAlive_0 : List UInt8 := [42, 27, 182, 0, 248, 153, 0, 16, 42, 180, 0, 39, 27, 51, 153, 0, 7, 4, 167, 0, 4, 3, 172]
abbrev dktX2_isAlive_0 : List UInt8 := dkwX2_isAlive_0 ++ []
theorem dksX2_isAlive_0 : cX2_isAlive.data.toList.drop 0 = dktX2_isAlive_0 := by decide +kernel
theorem dX2_isAlive_0 : decode cX2_isAlive 0 = .ok (.aload_n 0, 1) := dk_42 (dk_at dksX2_isAlive_0 0 rfl rfl)
theorem dX2_isAlive_1 : decode cX2_isAlive 1 = .ok (.iload_n 1, 1) := dk_27 (dk_at dksX2_isAlive_0 1 rfl rfl)
theorem dX2_isAlive_2 : decode cX2_isAlive 2 = .ok (.invokevirtual 248, 3) := dk_182 0 248 (dk_at dksX2_isAlive_0 2 rfl rfl)
theorem dX2_isAlive_5 : decode cX2_isAlive 5 = .ok (.ifCond .eq 16, 3) := dk_153 0 16 (dk_at dksX2_isAlive_0 5 rfl rfl)
theorem dX2_isAlive_8 : decode cX2_isAlive 8 = .ok (.aload_n 0, 1) := dk_42 (dk_at dksX2_isAlive_0 8 rfl rfl)
theorem dX2_isAlive_9 : decode cX2_isAlive 9 = .ok (.getfield 39, 3) := dk_180 0 39 (dk_at dksX2_isAlive_0 9 rfl rfl)
theorem dX2_isAlive_12 : decode cX2_isAlive 12 = .ok (.iload_n 1, 1) := dk_27 (dk_at dksX2_isAlive_0 12 rfl rfl)
theorem dX2_isAlive_13 : decode cX2_isAlive 13 = .ok (.baload, 1) := dk_51 (dk_at dksX2_isAlive_0 13 rfl rfl)
theorem dX2_isAlive_14 : decode cX2_isAlive 14 = .ok (.ifCond .eq 7, 3) := dk_153 0 7 (dk_at dksX2_isAlive_0 14 rfl rfl)
theorem dX2_isAlive_17 : decode cX2_isAlive 17 = .ok (.iconst 1, 1) := dk_4 (dk_at dksX2_isAlive_0 17 rfl rfl)
theorem dX2_isAlive_18 : decode cX2_isAlive 18 = .ok (.goto 4, 3) := dk_167 0 4 (dk_at dksX2_isAlive_0 18 rfl rfl)
theorem dX2_isAlive_21 : decode cX2_isAlive 21 = .ok (.iconst 0, 1) := dk_3 (dk_at dksX2_isAlive_0 21 rfl rfl)
theorem dX2_isAlive_22 : decode cX2_isAlive 22 = .ok (.ireturn, 1) := dk_172 (dk_at dksX2_isAlive_0 22 rfl rfl)
abbrev cX2_claimTrack : ByteArray := prog_9_method_34_code
def yX2_claimTrack : MethodName := ⟨RX2, "claimTrack", "(I)Z"⟩
def dkwX2_claimTrack_0 : List UInt8 := [42, 27, 3, 42, 180, 0, 130, 4, 100, 184, 0, 140, 182, 0, 144, 172]
abbrev dktX2_claimTrack_0 : List UInt8 := dkwX2_claimTrack_0 ++ []
theorem dksX2_claimTrack_0 : cX2_claimTrack.data.toList.drop 0 = dktX2_claimTrack_0 := by decide +kernel
theorem dX2_claimTrack_0 : decode cX2_claimTrack 0 = .ok (.aload_n 0, 1) := dk_42 (dk_at dksX2_claimTrack_0 0 rfl rfl)
theorem dX2_claimTrack_1 : decode cX2_claimTrack 1 = .ok (.iload_n 1, 1) := dk_27 (dk_at dksX2_claimTrack_0 1 rfl rfl)
theorem dX2_claimTrack_2 : decode cX2_claimTrack 2 = .ok (.iconst 0, 1) := dk_3 (dk_at dksX2_claimTrack_0 2 rfl rfl)
theorem dX2_claimTrack_3 : decode cX2_claimTrack 3 = .ok (.aload_n 0, 1) := dk_42 (dk_at dksX2_claimTrack_0 3 rfl rfl)
theorem dX2_claimTrack_4 : decode cX2_claimTrack 4 = .ok (.getfield 130, 3) := dk_180 0 130 (dk_at dksX2_claimTrack_0 4 rfl rfl)
theorem dX2_claimTrack_7 : decode cX2_claimTrack 7 = .ok (.iconst 1, 1) := dk_4 (dk_at dksX2_claimTrack_0 7 rfl rfl)
theorem dX2_claimTrack_8 : decode cX2_claimTrack 8 = .ok (.isub, 1) := dk_100 (dk_at dksX2_claimTrack_0 8 rfl rfl)
theorem dX2_claimTrack_9 : decode cX2_claimTrack 9 = .ok (.invokestatic 140, 3) := dk_184 0 140 (dk_at dksX2_claimTrack_0 9 rfl rfl)
theorem dX2_claimTrack_12 : decode cX2_claimTrack 12 = .ok (.invokevirtual 144, 3) := dk_182 0 144 (dk_at dksX2_claimTrack_0 12 rfl rfl)
theorem dX2_claimTrack_15 : decode cX2_claimTrack 15 = .ok (.ireturn, 1) := dk_172 (dk_at dksX2_claimTrack_0 15 rfl rfl)
abbrev cX2_isProven : ByteArray := prog_9_method_38_code
def yX2_isProven : MethodName := ⟨RX2, "isProven", "(I)Z"⟩
def dkwX2_isProven_0 : List UInt8 := [42, 27, 182, 0, 248, 153, 0, 16, 42, 180, 0, 43, 27, 51, 153, 0, 7, 4, 167, 0, 4, 3, 172]
abbrev dktX2_isProven_0 : List UInt8 := dkwX2_isProven_0 ++ []
theorem dksX2_isProven_0 : cX2_isProven.data.toList.drop 0 = dktX2_isProven_0 := by decide +kernel
theorem dX2_isProven_0 : decode cX2_isProven 0 = .ok (.aload_n 0, 1) := dk_42 (dk_at dksX2_isProven_0 0 rfl rfl)
theorem dX2_isProven_1 : decode cX2_isProven 1 = .ok (.iload_n 1, 1) := dk_27 (dk_at dksX2_isProven_0 1 rfl rfl)
theorem dX2_isProven_2 : decode cX2_isProven 2 = .ok (.invokevirtual 248, 3) := dk_182 0 248 (dk_at dksX2_isProven_0 2 rfl rfl)
theorem dX2_isProven_5 : decode cX2_isProven 5 = .ok (.ifCond .eq 16, 3) := dk_153 0 16 (dk_at dksX2_isProven_0 5 rfl rfl)
theorem dX2_isProven_8 : decode cX2_isProven 8 = .ok (.aload_n 0, 1) := dk_42 (dk_at dksX2_isProven_0 8 rfl rfl)
theorem dX2_isProven_9 : decode cX2_isProven 9 = .ok (.getfield 43, 3) := dk_180 0 43 (dk_at dksX2_isProven_0 9 rfl rfl)
theorem dX2_isProven_12 : decode cX2_isProven 12 = .ok (.iload_n 1, 1) := dk_27 (dk_at dksX2_isProven_0 12 rfl rfl)
theorem dX2_isProven_13 : decode cX2_isProven 13 = .ok (.baload, 1) := dk_51 (dk_at dksX2_isProven_0 13 rfl rfl)
theorem dX2_isProven_14 : decode cX2_isProven 14 = .ok (.ifCond .eq 7, 3) := dk_153 0 7 (dk_at dksX2_isProven_0 14 rfl rfl)
theorem dX2_isProven_17 : decode cX2_isProven 17 = .ok (.iconst 1, 1) := dk_4 (dk_at dksX2_isProven_0 17 rfl rfl)
theorem dX2_isProven_18 : decode cX2_isProven 18 = .ok (.goto 4, 3) := dk_167 0 4 (dk_at dksX2_isProven_0 18 rfl rfl)
theorem dX2_isProven_21 : decode cX2_isProven 21 = .ok (.iconst 0, 1) := dk_3 (dk_at dksX2_isProven_0 21 rfl rfl)
theorem dX2_isProven_22 : decode cX2_isProven 22 = .ok (.ireturn, 1) := dk_172 (dk_at dksX2_isProven_0 22 rfl rfl)
abbrev cX2_placeOf : ByteArray := prog_9_method_39_code
def yX2_placeOf : MethodName := ⟨RX2, "placeOf", "(I)I"⟩
def dkwX2_placeOf_0 : List UInt8 := [42, 27, 182, 0, 248, 153, 0, 15, 42, 180, 0, 69, 27, 50, 3, 47, 136, 167, 0, 4, 3, 172]
abbrev dktX2_placeOf_0 : List UInt8 := dkwX2_placeOf_0 ++ []
theorem dksX2_placeOf_0 : cX2_placeOf.data.toList.drop 0 = dktX2_placeOf_0 := by decide +kernel
theorem dX2_placeOf_0 : decode cX2_placeOf 0 = .ok (.aload_n 0, 1) := dk_42 (dk_at dksX2_placeOf_0 0 rfl rfl)
theorem dX2_placeOf_1 : decode cX2_placeOf 1 = .ok (.iload_n 1, 1) := dk_27 (dk_at dksX2_placeOf_0 1 rfl rfl)
theorem dX2_placeOf_2 : decode cX2_placeOf 2 = .ok (.invokevirtual 248, 3) := dk_182 0 248 (dk_at dksX2_placeOf_0 2 rfl rfl)
theorem dX2_placeOf_5 : decode cX2_placeOf 5 = .ok (.ifCond .eq 15, 3) := dk_153 0 15 (dk_at dksX2_placeOf_0 5 rfl rfl)
theorem dX2_placeOf_8 : decode cX2_placeOf 8 = .ok (.aload_n 0, 1) := dk_42 (dk_at dksX2_placeOf_0 8 rfl rfl)
theorem dX2_placeOf_9 : decode cX2_placeOf 9 = .ok (.getfield 69, 3) := dk_180 0 69 (dk_at dksX2_placeOf_0 9 rfl rfl)
theorem dX2_placeOf_12 : decode cX2_placeOf 12 = .ok (.iload_n 1, 1) := dk_27 (dk_at dksX2_placeOf_0 12 rfl rfl)
theorem dX2_placeOf_13 : decode cX2_placeOf 13 = .ok (.aaload, 1) := dk_50 (dk_at dksX2_placeOf_0 13 rfl rfl)
theorem dX2_placeOf_14 : decode cX2_placeOf 14 = .ok (.iconst 0, 1) := dk_3 (dk_at dksX2_placeOf_0 14 rfl rfl)
theorem dX2_placeOf_15 : decode cX2_placeOf 15 = .ok (.laload, 1) := dk_47 (dk_at dksX2_placeOf_0 15 rfl rfl)
theorem dX2_placeOf_16 : decode cX2_placeOf 16 = .ok (.l2i, 1) := dk_136 (dk_at dksX2_placeOf_0 16 rfl rfl)
theorem dX2_placeOf_17 : decode cX2_placeOf 17 = .ok (.goto 4, 3) := dk_167 0 4 (dk_at dksX2_placeOf_0 17 rfl rfl)
theorem dX2_placeOf_20 : decode cX2_placeOf 20 = .ok (.iconst 0, 1) := dk_3 (dk_at dksX2_placeOf_0 20 rfl rfl)
theorem dX2_placeOf_21 : decode cX2_placeOf 21 = .ok (.ireturn, 1) := dk_172 (dk_at dksX2_placeOf_0 21 rfl rfl)
abbrev cX2_speedOf : ByteArray := prog_9_method_40_code
def yX2_speedOf : MethodName := ⟨RX2, "speedOf", "(I)I"⟩
def dkwX2_speedOf_0 : List UInt8 := [42, 27, 182, 0, 248, 153, 0, 15, 42, 180, 0, 69, 27, 50, 4, 47, 136, 167, 0, 4, 3, 172]
abbrev dktX2_speedOf_0 : List UInt8 := dkwX2_speedOf_0 ++ []
theorem dksX2_speedOf_0 : cX2_speedOf.data.toList.drop 0 = dktX2_speedOf_0 := by decide +kernel
theorem dX2_speedOf_0 : decode cX2_speedOf 0 = .ok (.aload_n 0, 1) := dk_42 (dk_at dksX2_speedOf_0 0 rfl rfl)
theorem dX2_speedOf_1 : decode cX2_speedOf 1 = .ok (.iload_n 1, 1) := dk_27 (dk_at dksX2_speedOf_0 1 rfl rfl)
theorem dX2_speedOf_2 : decode cX2_speedOf 2 = .ok (.invokevirtual 248, 3) := dk_182 0 248 (dk_at dksX2_speedOf_0 2 rfl rfl)
theorem dX2_speedOf_5 : decode cX2_speedOf 5 = .ok (.ifCond .eq 15, 3) := dk_153 0 15 (dk_at dksX2_speedOf_0 5 rfl rfl)
theorem dX2_speedOf_8 : decode cX2_speedOf 8 = .ok (.aload_n 0, 1) := dk_42 (dk_at dksX2_speedOf_0 8 rfl rfl)
theorem dX2_speedOf_9 : decode cX2_speedOf 9 = .ok (.getfield 69, 3) := dk_180 0 69 (dk_at dksX2_speedOf_0 9 rfl rfl)
theorem dX2_speedOf_12 : decode cX2_speedOf 12 = .ok (.iload_n 1, 1) := dk_27 (dk_at dksX2_speedOf_0 12 rfl rfl)
theorem dX2_speedOf_13 : decode cX2_speedOf 13 = .ok (.aaload, 1) := dk_50 (dk_at dksX2_speedOf_0 13 rfl rfl)
theorem dX2_speedOf_14 : decode cX2_speedOf 14 = .ok (.iconst 1, 1) := dk_4 (dk_at dksX2_speedOf_0 14 rfl rfl)
theorem dX2_speedOf_15 : decode cX2_speedOf 15 = .ok (.laload, 1) := dk_47 (dk_at dksX2_speedOf_0 15 rfl rfl)
theorem dX2_speedOf_16 : decode cX2_speedOf 16 = .ok (.l2i, 1) := dk_136 (dk_at dksX2_speedOf_0 16 rfl rfl)
theorem dX2_speedOf_17 : decode cX2_speedOf 17 = .ok (.goto 4, 3) := dk_167 0 4 (dk_at dksX2_speedOf_0 17 rfl rfl)
theorem dX2_speedOf_20 : decode cX2_speedOf 20 = .ok (.iconst 0, 1) := dk_3 (dk_at dksX2_speedOf_0 20 rfl rfl)
theorem dX2_speedOf_21 : decode cX2_speedOf 21 = .ok (.ireturn, 1) := dk_172 (dk_at dksX2_speedOf_0 21 rfl rfl)
abbrev cX2_varianceOf : ByteArray := prog_9_method_41_code
def yX2_varianceOf : MethodName := ⟨RX2, "varianceOf", "(II)I"⟩
def dkwX2_varianceOf_1 : List UInt8 := [180, 0, 69, 27, 50, 5, 28, 96, 47, 136, 167, 0, 4, 3, 172]
abbrev dktX2_varianceOf_1 : List UInt8 := dkwX2_varianceOf_1 ++ []
def dkwX2_varianceOf_0 : List UInt8 := [42, 27, 182, 0, 248, 153, 0, 31, 42, 28, 3, 5, 184, 0, 140, 5, 182, 0, 111, 153, 0, 17, 42]
abbrev dktX2_varianceOf_0 : List UInt8 := dkwX2_varianceOf_0 ++ dktX2_varianceOf_1
theorem dksX2_varianceOf_0 : cX2_varianceOf.data.toList.drop 0 = dktX2_varianceOf_0 := by decide +kernel
theorem dksX2_varianceOf_1 : cX2_varianceOf.data.toList.drop 23 = dktX2_varianceOf_1 := dk_seg dksX2_varianceOf_0 23 rfl rfl
theorem dX2_varianceOf_0 : decode cX2_varianceOf 0 = .ok (.aload_n 0, 1) := dk_42 (dk_at dksX2_varianceOf_0 0 rfl rfl)
theorem dX2_varianceOf_1 : decode cX2_varianceOf 1 = .ok (.iload_n 1, 1) := dk_27 (dk_at dksX2_varianceOf_0 1 rfl rfl)
theorem dX2_varianceOf_2 : decode cX2_varianceOf 2 = .ok (.invokevirtual 248, 3) := dk_182 0 248 (dk_at dksX2_varianceOf_0 2 rfl rfl)
theorem dX2_varianceOf_5 : decode cX2_varianceOf 5 = .ok (.ifCond .eq 31, 3) := dk_153 0 31 (dk_at dksX2_varianceOf_0 5 rfl rfl)
theorem dX2_varianceOf_8 : decode cX2_varianceOf 8 = .ok (.aload_n 0, 1) := dk_42 (dk_at dksX2_varianceOf_0 8 rfl rfl)
theorem dX2_varianceOf_9 : decode cX2_varianceOf 9 = .ok (.iload_n 2, 1) := dk_28 (dk_at dksX2_varianceOf_0 9 rfl rfl)
theorem dX2_varianceOf_10 : decode cX2_varianceOf 10 = .ok (.iconst 0, 1) := dk_3 (dk_at dksX2_varianceOf_0 10 rfl rfl)
theorem dX2_varianceOf_11 : decode cX2_varianceOf 11 = .ok (.iconst 2, 1) := dk_5 (dk_at dksX2_varianceOf_0 11 rfl rfl)
theorem dX2_varianceOf_12 : decode cX2_varianceOf 12 = .ok (.invokestatic 140, 3) := dk_184 0 140 (dk_at dksX2_varianceOf_0 12 rfl rfl)
theorem dX2_varianceOf_15 : decode cX2_varianceOf 15 = .ok (.iconst 2, 1) := dk_5 (dk_at dksX2_varianceOf_0 15 rfl rfl)
theorem dX2_varianceOf_16 : decode cX2_varianceOf 16 = .ok (.invokevirtual 111, 3) := dk_182 0 111 (dk_at dksX2_varianceOf_0 16 rfl rfl)
theorem dX2_varianceOf_19 : decode cX2_varianceOf 19 = .ok (.ifCond .eq 17, 3) := dk_153 0 17 (dk_at dksX2_varianceOf_0 19 rfl rfl)
theorem dX2_varianceOf_22 : decode cX2_varianceOf 22 = .ok (.aload_n 0, 1) := dk_42 (dk_at dksX2_varianceOf_0 22 rfl rfl)
theorem dX2_varianceOf_23 : decode cX2_varianceOf 23 = .ok (.getfield 69, 3) := dk_180 0 69 (dk_at dksX2_varianceOf_1 0 rfl rfl)
theorem dX2_varianceOf_26 : decode cX2_varianceOf 26 = .ok (.iload_n 1, 1) := dk_27 (dk_at dksX2_varianceOf_1 3 rfl rfl)
theorem dX2_varianceOf_27 : decode cX2_varianceOf 27 = .ok (.aaload, 1) := dk_50 (dk_at dksX2_varianceOf_1 4 rfl rfl)
theorem dX2_varianceOf_28 : decode cX2_varianceOf 28 = .ok (.iconst 2, 1) := dk_5 (dk_at dksX2_varianceOf_1 5 rfl rfl)
theorem dX2_varianceOf_29 : decode cX2_varianceOf 29 = .ok (.iload_n 2, 1) := dk_28 (dk_at dksX2_varianceOf_1 6 rfl rfl)
theorem dX2_varianceOf_30 : decode cX2_varianceOf 30 = .ok (.iadd, 1) := dk_96 (dk_at dksX2_varianceOf_1 7 rfl rfl)
theorem dX2_varianceOf_31 : decode cX2_varianceOf 31 = .ok (.laload, 1) := dk_47 (dk_at dksX2_varianceOf_1 8 rfl rfl)
theorem dX2_varianceOf_32 : decode cX2_varianceOf 32 = .ok (.l2i, 1) := dk_136 (dk_at dksX2_varianceOf_1 9 rfl rfl)
theorem dX2_varianceOf_33 : decode cX2_varianceOf 33 = .ok (.goto 4, 3) := dk_167 0 4 (dk_at dksX2_varianceOf_1 10 rfl rfl)
theorem dX2_varianceOf_36 : decode cX2_varianceOf 36 = .ok (.iconst 0, 1) := dk_3 (dk_at dksX2_varianceOf_1 13 rfl rfl)
theorem dX2_varianceOf_37 : decode cX2_varianceOf 37 = .ok (.ireturn, 1) := dk_172 (dk_at dksX2_varianceOf_1 14 rfl rfl)
abbrev cX2_hitBeats : ByteArray := prog_9_method_42_code
def yX2_hitBeats : MethodName := ⟨RX2, "hitBeats", "(I)I"⟩
def dkwX2_hitBeats_0 : List UInt8 := [42, 27, 182, 0, 248, 153, 0, 12, 42, 180, 0, 58, 27, 46, 167, 0, 4, 3, 172]
abbrev dktX2_hitBeats_0 : List UInt8 := dkwX2_hitBeats_0 ++ []
theorem dksX2_hitBeats_0 : cX2_hitBeats.data.toList.drop 0 = dktX2_hitBeats_0 := by decide +kernel
theorem dX2_hitBeats_0 : decode cX2_hitBeats 0 = .ok (.aload_n 0, 1) := dk_42 (dk_at dksX2_hitBeats_0 0 rfl rfl)
theorem dX2_hitBeats_1 : decode cX2_hitBeats 1 = .ok (.iload_n 1, 1) := dk_27 (dk_at dksX2_hitBeats_0 1 rfl rfl)
theorem dX2_hitBeats_2 : decode cX2_hitBeats 2 = .ok (.invokevirtual 248, 3) := dk_182 0 248 (dk_at dksX2_hitBeats_0 2 rfl rfl)
theorem dX2_hitBeats_5 : decode cX2_hitBeats 5 = .ok (.ifCond .eq 12, 3) := dk_153 0 12 (dk_at dksX2_hitBeats_0 5 rfl rfl)
theorem dX2_hitBeats_8 : decode cX2_hitBeats 8 = .ok (.aload_n 0, 1) := dk_42 (dk_at dksX2_hitBeats_0 8 rfl rfl)
theorem dX2_hitBeats_9 : decode cX2_hitBeats 9 = .ok (.getfield 58, 3) := dk_180 0 58 (dk_at dksX2_hitBeats_0 9 rfl rfl)
theorem dX2_hitBeats_12 : decode cX2_hitBeats 12 = .ok (.iload_n 1, 1) := dk_27 (dk_at dksX2_hitBeats_0 12 rfl rfl)
theorem dX2_hitBeats_13 : decode cX2_hitBeats 13 = .ok (.iaload, 1) := dk_46 (dk_at dksX2_hitBeats_0 13 rfl rfl)
theorem dX2_hitBeats_14 : decode cX2_hitBeats 14 = .ok (.goto 4, 3) := dk_167 0 4 (dk_at dksX2_hitBeats_0 14 rfl rfl)
theorem dX2_hitBeats_17 : decode cX2_hitBeats 17 = .ok (.iconst 0, 1) := dk_3 (dk_at dksX2_hitBeats_0 17 rfl rfl)
theorem dX2_hitBeats_18 : decode cX2_hitBeats 18 = .ok (.ireturn, 1) := dk_172 (dk_at dksX2_hitBeats_0 18 rfl rfl)
abbrev cX2_misses : ByteArray := prog_9_method_43_code
def yX2_misses : MethodName := ⟨RX2, "misses", "(I)I"⟩
def dkwX2_misses_0 : List UInt8 := [42, 27, 182, 0, 248, 153, 0, 12, 42, 180, 0, 61, 27, 46, 167, 0, 4, 3, 172]
abbrev dktX2_misses_0 : List UInt8 := dkwX2_misses_0 ++ []
theorem dksX2_misses_0 : cX2_misses.data.toList.drop 0 = dktX2_misses_0 := by decide +kernel
theorem dX2_misses_0 : decode cX2_misses 0 = .ok (.aload_n 0, 1) := dk_42 (dk_at dksX2_misses_0 0 rfl rfl)
theorem dX2_misses_1 : decode cX2_misses 1 = .ok (.iload_n 1, 1) := dk_27 (dk_at dksX2_misses_0 1 rfl rfl)
theorem dX2_misses_2 : decode cX2_misses 2 = .ok (.invokevirtual 248, 3) := dk_182 0 248 (dk_at dksX2_misses_0 2 rfl rfl)
theorem dX2_misses_5 : decode cX2_misses 5 = .ok (.ifCond .eq 12, 3) := dk_153 0 12 (dk_at dksX2_misses_0 5 rfl rfl)
theorem dX2_misses_8 : decode cX2_misses 8 = .ok (.aload_n 0, 1) := dk_42 (dk_at dksX2_misses_0 8 rfl rfl)
theorem dX2_misses_9 : decode cX2_misses 9 = .ok (.getfield 61, 3) := dk_180 0 61 (dk_at dksX2_misses_0 9 rfl rfl)
theorem dX2_misses_12 : decode cX2_misses 12 = .ok (.iload_n 1, 1) := dk_27 (dk_at dksX2_misses_0 12 rfl rfl)
theorem dX2_misses_13 : decode cX2_misses 13 = .ok (.iaload, 1) := dk_46 (dk_at dksX2_misses_0 13 rfl rfl)
theorem dX2_misses_14 : decode cX2_misses 14 = .ok (.goto 4, 3) := dk_167 0 4 (dk_at dksX2_misses_0 14 rfl rfl)
theorem dX2_misses_17 : decode cX2_misses 17 = .ok (.iconst 0, 1) := dk_3 (dk_at dksX2_misses_0 17 rfl rfl)
theorem dX2_misses_18 : decode cX2_misses 18 = .ok (.ireturn, 1) := dk_172 (dk_at dksX2_misses_0 18 rfl rfl)
abbrev cX2_hitsOf : ByteArray := prog_9_method_44_code
def yX2_hitsOf : MethodName := ⟨RX2, "hitsOf", "(I)I"⟩
def dkwX2_hitsOf_0 : List UInt8 := [42, 27, 182, 0, 248, 153, 0, 12, 42, 180, 0, 64, 27, 46, 167, 0, 4, 3, 172]
abbrev dktX2_hitsOf_0 : List UInt8 := dkwX2_hitsOf_0 ++ []
theorem dksX2_hitsOf_0 : cX2_hitsOf.data.toList.drop 0 = dktX2_hitsOf_0 := by decide +kernel
theorem dX2_hitsOf_0 : decode cX2_hitsOf 0 = .ok (.aload_n 0, 1) := dk_42 (dk_at dksX2_hitsOf_0 0 rfl rfl)
theorem dX2_hitsOf_1 : decode cX2_hitsOf 1 = .ok (.iload_n 1, 1) := dk_27 (dk_at dksX2_hitsOf_0 1 rfl rfl)
theorem dX2_hitsOf_2 : decode cX2_hitsOf 2 = .ok (.invokevirtual 248, 3) := dk_182 0 248 (dk_at dksX2_hitsOf_0 2 rfl rfl)
theorem dX2_hitsOf_5 : decode cX2_hitsOf 5 = .ok (.ifCond .eq 12, 3) := dk_153 0 12 (dk_at dksX2_hitsOf_0 5 rfl rfl)
theorem dX2_hitsOf_8 : decode cX2_hitsOf 8 = .ok (.aload_n 0, 1) := dk_42 (dk_at dksX2_hitsOf_0 8 rfl rfl)
theorem dX2_hitsOf_9 : decode cX2_hitsOf 9 = .ok (.getfield 64, 3) := dk_180 0 64 (dk_at dksX2_hitsOf_0 9 rfl rfl)
theorem dX2_hitsOf_12 : decode cX2_hitsOf 12 = .ok (.iload_n 1, 1) := dk_27 (dk_at dksX2_hitsOf_0 12 rfl rfl)
theorem dX2_hitsOf_13 : decode cX2_hitsOf 13 = .ok (.iaload, 1) := dk_46 (dk_at dksX2_hitsOf_0 13 rfl rfl)
theorem dX2_hitsOf_14 : decode cX2_hitsOf 14 = .ok (.goto 4, 3) := dk_167 0 4 (dk_at dksX2_hitsOf_0 14 rfl rfl)
theorem dX2_hitsOf_17 : decode cX2_hitsOf 17 = .ok (.iconst 0, 1) := dk_3 (dk_at dksX2_hitsOf_0 17 rfl rfl)
theorem dX2_hitsOf_18 : decode cX2_hitsOf 18 = .ok (.ireturn, 1) := dk_172 (dk_at dksX2_hitsOf_0 18 rfl rfl)
abbrev cX2_beginOf : ByteArray := prog_9_method_45_code
def yX2_beginOf : MethodName := ⟨RX2, "beginOf", "(I)I"⟩
def dkwX2_beginOf_0 : List UInt8 := [42, 27, 182, 0, 248, 153, 0, 12, 42, 180, 0, 52, 27, 46, 167, 0, 4, 3, 172]
abbrev dktX2_beginOf_0 : List UInt8 := dkwX2_beginOf_0 ++ []
theorem dksX2_beginOf_0 : cX2_beginOf.data.toList.drop 0 = dktX2_beginOf_0 := by decide +kernel
theorem dX2_beginOf_0 : decode cX2_beginOf 0 = .ok (.aload_n 0, 1) := dk_42 (dk_at dksX2_beginOf_0 0 rfl rfl)
theorem dX2_beginOf_1 : decode cX2_beginOf 1 = .ok (.iload_n 1, 1) := dk_27 (dk_at dksX2_beginOf_0 1 rfl rfl)
theorem dX2_beginOf_2 : decode cX2_beginOf 2 = .ok (.invokevirtual 248, 3) := dk_182 0 248 (dk_at dksX2_beginOf_0 2 rfl rfl)
theorem dX2_beginOf_5 : decode cX2_beginOf 5 = .ok (.ifCond .eq 12, 3) := dk_153 0 12 (dk_at dksX2_beginOf_0 5 rfl rfl)
theorem dX2_beginOf_8 : decode cX2_beginOf 8 = .ok (.aload_n 0, 1) := dk_42 (dk_at dksX2_beginOf_0 8 rfl rfl)
theorem dX2_beginOf_9 : decode cX2_beginOf 9 = .ok (.getfield 52, 3) := dk_180 0 52 (dk_at dksX2_beginOf_0 9 rfl rfl)
theorem dX2_beginOf_12 : decode cX2_beginOf 12 = .ok (.iload_n 1, 1) := dk_27 (dk_at dksX2_beginOf_0 12 rfl rfl)
theorem dX2_beginOf_13 : decode cX2_beginOf 13 = .ok (.iaload, 1) := dk_46 (dk_at dksX2_beginOf_0 13 rfl rfl)
theorem dX2_beginOf_14 : decode cX2_beginOf 14 = .ok (.goto 4, 3) := dk_167 0 4 (dk_at dksX2_beginOf_0 14 rfl rfl)
theorem dX2_beginOf_17 : decode cX2_beginOf 17 = .ok (.iconst 0, 1) := dk_3 (dk_at dksX2_beginOf_0 17 rfl rfl)
theorem dX2_beginOf_18 : decode cX2_beginOf 18 = .ok (.ireturn, 1) := dk_172 (dk_at dksX2_beginOf_0 18 rfl rfl)
abbrev cX2_endOf : ByteArray := prog_9_method_46_code
def yX2_endOf : MethodName := ⟨RX2, "endOf", "(I)I"⟩
def dkwX2_endOf_0 : List UInt8 := [42, 27, 182, 0, 248, 153, 0, 12, 42, 180, 0, 55, 27, 46, 167, 0, 4, 3, 172]
abbrev dktX2_endOf_0 : List UInt8 := dkwX2_endOf_0 ++ []
theorem dksX2_endOf_0 : cX2_endOf.data.toList.drop 0 = dktX2_endOf_0 := by decide +kernel
theorem dX2_endOf_0 : decode cX2_endOf 0 = .ok (.aload_n 0, 1) := dk_42 (dk_at dksX2_endOf_0 0 rfl rfl)
theorem dX2_endOf_1 : decode cX2_endOf 1 = .ok (.iload_n 1, 1) := dk_27 (dk_at dksX2_endOf_0 1 rfl rfl)
theorem dX2_endOf_2 : decode cX2_endOf 2 = .ok (.invokevirtual 248, 3) := dk_182 0 248 (dk_at dksX2_endOf_0 2 rfl rfl)
theorem dX2_endOf_5 : decode cX2_endOf 5 = .ok (.ifCond .eq 12, 3) := dk_153 0 12 (dk_at dksX2_endOf_0 5 rfl rfl)
theorem dX2_endOf_8 : decode cX2_endOf 8 = .ok (.aload_n 0, 1) := dk_42 (dk_at dksX2_endOf_0 8 rfl rfl)
theorem dX2_endOf_9 : decode cX2_endOf 9 = .ok (.getfield 55, 3) := dk_180 0 55 (dk_at dksX2_endOf_0 9 rfl rfl)
theorem dX2_endOf_12 : decode cX2_endOf 12 = .ok (.iload_n 1, 1) := dk_27 (dk_at dksX2_endOf_0 12 rfl rfl)
theorem dX2_endOf_13 : decode cX2_endOf 13 = .ok (.iaload, 1) := dk_46 (dk_at dksX2_endOf_0 13 rfl rfl)
theorem dX2_endOf_14 : decode cX2_endOf 14 = .ok (.goto 4, 3) := dk_167 0 4 (dk_at dksX2_endOf_0 14 rfl rfl)
theorem dX2_endOf_17 : decode cX2_endOf 17 = .ok (.iconst 0, 1) := dk_3 (dk_at dksX2_endOf_0 17 rfl rfl)
theorem dX2_endOf_18 : decode cX2_endOf 18 = .ok (.ireturn, 1) := dk_172 (dk_at dksX2_endOf_0 18 rfl rfl)
abbrev cX2_placeAt : ByteArray := prog_9_method_48_code
def yX2_placeAt : MethodName := ⟨RX2, "placeAt", "(II)I"⟩
def dkwX2_placeAt_1 : List UInt8 := [172]
abbrev dktX2_placeAt_1 : List UInt8 := dkwX2_placeAt_1 ++ []
def dkwX2_placeAt_0 : List UInt8 := [42, 27, 28, 182, 0, 252, 153, 0, 17, 42, 180, 0, 74, 27, 50, 28, 50, 3, 47, 136, 167, 0, 4, 3]
abbrev dktX2_placeAt_0 : List UInt8 := dkwX2_placeAt_0 ++ dktX2_placeAt_1
theorem dksX2_placeAt_0 : cX2_placeAt.data.toList.drop 0 = dktX2_placeAt_0 := by decide +kernel
theorem dksX2_placeAt_1 : cX2_placeAt.data.toList.drop 24 = dktX2_placeAt_1 := dk_seg dksX2_placeAt_0 24 rfl rfl
theorem dX2_placeAt_0 : decode cX2_placeAt 0 = .ok (.aload_n 0, 1) := dk_42 (dk_at dksX2_placeAt_0 0 rfl rfl)
theorem dX2_placeAt_1 : decode cX2_placeAt 1 = .ok (.iload_n 1, 1) := dk_27 (dk_at dksX2_placeAt_0 1 rfl rfl)
theorem dX2_placeAt_2 : decode cX2_placeAt 2 = .ok (.iload_n 2, 1) := dk_28 (dk_at dksX2_placeAt_0 2 rfl rfl)
theorem dX2_placeAt_3 : decode cX2_placeAt 3 = .ok (.invokevirtual 252, 3) := dk_182 0 252 (dk_at dksX2_placeAt_0 3 rfl rfl)
theorem dX2_placeAt_6 : decode cX2_placeAt 6 = .ok (.ifCond .eq 17, 3) := dk_153 0 17 (dk_at dksX2_placeAt_0 6 rfl rfl)
theorem dX2_placeAt_9 : decode cX2_placeAt 9 = .ok (.aload_n 0, 1) := dk_42 (dk_at dksX2_placeAt_0 9 rfl rfl)
theorem dX2_placeAt_10 : decode cX2_placeAt 10 = .ok (.getfield 74, 3) := dk_180 0 74 (dk_at dksX2_placeAt_0 10 rfl rfl)
theorem dX2_placeAt_13 : decode cX2_placeAt 13 = .ok (.iload_n 1, 1) := dk_27 (dk_at dksX2_placeAt_0 13 rfl rfl)
theorem dX2_placeAt_14 : decode cX2_placeAt 14 = .ok (.aaload, 1) := dk_50 (dk_at dksX2_placeAt_0 14 rfl rfl)
theorem dX2_placeAt_15 : decode cX2_placeAt 15 = .ok (.iload_n 2, 1) := dk_28 (dk_at dksX2_placeAt_0 15 rfl rfl)
theorem dX2_placeAt_16 : decode cX2_placeAt 16 = .ok (.aaload, 1) := dk_50 (dk_at dksX2_placeAt_0 16 rfl rfl)
theorem dX2_placeAt_17 : decode cX2_placeAt 17 = .ok (.iconst 0, 1) := dk_3 (dk_at dksX2_placeAt_0 17 rfl rfl)
theorem dX2_placeAt_18 : decode cX2_placeAt 18 = .ok (.laload, 1) := dk_47 (dk_at dksX2_placeAt_0 18 rfl rfl)
theorem dX2_placeAt_19 : decode cX2_placeAt 19 = .ok (.l2i, 1) := dk_136 (dk_at dksX2_placeAt_0 19 rfl rfl)
theorem dX2_placeAt_20 : decode cX2_placeAt 20 = .ok (.goto 4, 3) := dk_167 0 4 (dk_at dksX2_placeAt_0 20 rfl rfl)
theorem dX2_placeAt_23 : decode cX2_placeAt 23 = .ok (.iconst 0, 1) := dk_3 (dk_at dksX2_placeAt_0 23 rfl rfl)
theorem dX2_placeAt_24 : decode cX2_placeAt 24 = .ok (.ireturn, 1) := dk_172 (dk_at dksX2_placeAt_1 0 rfl rfl)
abbrev cX2_claimBeat : ByteArray := prog_9_method_47_code
def yX2_claimBeat : MethodName := ⟨RX2, "claimBeat", "(II)Z"⟩
def dkwX2_claimBeat_1 : List UInt8 := [180, 0, 55, 27, 46, 184, 0, 140, 153, 0, 7, 4, 167, 0, 4, 3, 182, 0, 144, 172]
abbrev dktX2_claimBeat_1 : List UInt8 := dkwX2_claimBeat_1 ++ []
def dkwX2_claimBeat_0 : List UInt8 := [42, 27, 3, 42, 180, 0, 130, 4, 100, 184, 0, 140, 153, 0, 26, 28, 42, 180, 0, 52, 27, 46, 42]
abbrev dktX2_claimBeat_0 : List UInt8 := dkwX2_claimBeat_0 ++ dktX2_claimBeat_1
theorem dksX2_claimBeat_0 : cX2_claimBeat.data.toList.drop 0 = dktX2_claimBeat_0 := by decide +kernel
theorem dksX2_claimBeat_1 : cX2_claimBeat.data.toList.drop 23 = dktX2_claimBeat_1 := dk_seg dksX2_claimBeat_0 23 rfl rfl
theorem dX2_claimBeat_0 : decode cX2_claimBeat 0 = .ok (.aload_n 0, 1) := dk_42 (dk_at dksX2_claimBeat_0 0 rfl rfl)
theorem dX2_claimBeat_1 : decode cX2_claimBeat 1 = .ok (.iload_n 1, 1) := dk_27 (dk_at dksX2_claimBeat_0 1 rfl rfl)
theorem dX2_claimBeat_2 : decode cX2_claimBeat 2 = .ok (.iconst 0, 1) := dk_3 (dk_at dksX2_claimBeat_0 2 rfl rfl)
theorem dX2_claimBeat_3 : decode cX2_claimBeat 3 = .ok (.aload_n 0, 1) := dk_42 (dk_at dksX2_claimBeat_0 3 rfl rfl)
theorem dX2_claimBeat_4 : decode cX2_claimBeat 4 = .ok (.getfield 130, 3) := dk_180 0 130 (dk_at dksX2_claimBeat_0 4 rfl rfl)
theorem dX2_claimBeat_7 : decode cX2_claimBeat 7 = .ok (.iconst 1, 1) := dk_4 (dk_at dksX2_claimBeat_0 7 rfl rfl)
theorem dX2_claimBeat_8 : decode cX2_claimBeat 8 = .ok (.isub, 1) := dk_100 (dk_at dksX2_claimBeat_0 8 rfl rfl)
theorem dX2_claimBeat_9 : decode cX2_claimBeat 9 = .ok (.invokestatic 140, 3) := dk_184 0 140 (dk_at dksX2_claimBeat_0 9 rfl rfl)
theorem dX2_claimBeat_12 : decode cX2_claimBeat 12 = .ok (.ifCond .eq 26, 3) := dk_153 0 26 (dk_at dksX2_claimBeat_0 12 rfl rfl)
theorem dX2_claimBeat_15 : decode cX2_claimBeat 15 = .ok (.iload_n 2, 1) := dk_28 (dk_at dksX2_claimBeat_0 15 rfl rfl)
theorem dX2_claimBeat_16 : decode cX2_claimBeat 16 = .ok (.aload_n 0, 1) := dk_42 (dk_at dksX2_claimBeat_0 16 rfl rfl)
theorem dX2_claimBeat_17 : decode cX2_claimBeat 17 = .ok (.getfield 52, 3) := dk_180 0 52 (dk_at dksX2_claimBeat_0 17 rfl rfl)
theorem dX2_claimBeat_20 : decode cX2_claimBeat 20 = .ok (.iload_n 1, 1) := dk_27 (dk_at dksX2_claimBeat_0 20 rfl rfl)
theorem dX2_claimBeat_21 : decode cX2_claimBeat 21 = .ok (.iaload, 1) := dk_46 (dk_at dksX2_claimBeat_0 21 rfl rfl)
theorem dX2_claimBeat_22 : decode cX2_claimBeat 22 = .ok (.aload_n 0, 1) := dk_42 (dk_at dksX2_claimBeat_0 22 rfl rfl)
theorem dX2_claimBeat_23 : decode cX2_claimBeat 23 = .ok (.getfield 55, 3) := dk_180 0 55 (dk_at dksX2_claimBeat_1 0 rfl rfl)
theorem dX2_claimBeat_26 : decode cX2_claimBeat 26 = .ok (.iload_n 1, 1) := dk_27 (dk_at dksX2_claimBeat_1 3 rfl rfl)
theorem dX2_claimBeat_27 : decode cX2_claimBeat 27 = .ok (.iaload, 1) := dk_46 (dk_at dksX2_claimBeat_1 4 rfl rfl)
theorem dX2_claimBeat_28 : decode cX2_claimBeat 28 = .ok (.invokestatic 140, 3) := dk_184 0 140 (dk_at dksX2_claimBeat_1 5 rfl rfl)
theorem dX2_claimBeat_31 : decode cX2_claimBeat 31 = .ok (.ifCond .eq 7, 3) := dk_153 0 7 (dk_at dksX2_claimBeat_1 8 rfl rfl)
theorem dX2_claimBeat_34 : decode cX2_claimBeat 34 = .ok (.iconst 1, 1) := dk_4 (dk_at dksX2_claimBeat_1 11 rfl rfl)
theorem dX2_claimBeat_35 : decode cX2_claimBeat 35 = .ok (.goto 4, 3) := dk_167 0 4 (dk_at dksX2_claimBeat_1 12 rfl rfl)
theorem dX2_claimBeat_38 : decode cX2_claimBeat 38 = .ok (.iconst 0, 1) := dk_3 (dk_at dksX2_claimBeat_1 15 rfl rfl)
theorem dX2_claimBeat_39 : decode cX2_claimBeat 39 = .ok (.invokevirtual 144, 3) := dk_182 0 144 (dk_at dksX2_claimBeat_1 16 rfl rfl)
theorem dX2_claimBeat_42 : decode cX2_claimBeat 42 = .ok (.ireturn, 1) := dk_172 (dk_at dksX2_claimBeat_1 19 rfl rfl)
abbrev cX2_foretoldAt : ByteArray := prog_9_method_49_code
def yX2_foretoldAt : MethodName := ⟨RX2, "foretoldAt", "(II)I"⟩
def dkwX2_foretoldAt_1 : List UInt8 := [172]
abbrev dktX2_foretoldAt_1 : List UInt8 := dkwX2_foretoldAt_1 ++ []
def dkwX2_foretoldAt_0 : List UInt8 := [42, 27, 28, 182, 0, 252, 153, 0, 17, 42, 180, 0, 77, 27, 50, 28, 50, 3, 47, 136, 167, 0, 4, 3]
abbrev dktX2_foretoldAt_0 : List UInt8 := dkwX2_foretoldAt_0 ++ dktX2_foretoldAt_1
theorem dksX2_foretoldAt_0 : cX2_foretoldAt.data.toList.drop 0 = dktX2_foretoldAt_0 := by decide +kernel
theorem dksX2_foretoldAt_1 : cX2_foretoldAt.data.toList.drop 24 = dktX2_foretoldAt_1 := dk_seg dksX2_foretoldAt_0 24 rfl rfl
theorem dX2_foretoldAt_0 : decode cX2_foretoldAt 0 = .ok (.aload_n 0, 1) := dk_42 (dk_at dksX2_foretoldAt_0 0 rfl rfl)
theorem dX2_foretoldAt_1 : decode cX2_foretoldAt 1 = .ok (.iload_n 1, 1) := dk_27 (dk_at dksX2_foretoldAt_0 1 rfl rfl)
theorem dX2_foretoldAt_2 : decode cX2_foretoldAt 2 = .ok (.iload_n 2, 1) := dk_28 (dk_at dksX2_foretoldAt_0 2 rfl rfl)
theorem dX2_foretoldAt_3 : decode cX2_foretoldAt 3 = .ok (.invokevirtual 252, 3) := dk_182 0 252 (dk_at dksX2_foretoldAt_0 3 rfl rfl)
theorem dX2_foretoldAt_6 : decode cX2_foretoldAt 6 = .ok (.ifCond .eq 17, 3) := dk_153 0 17 (dk_at dksX2_foretoldAt_0 6 rfl rfl)
theorem dX2_foretoldAt_9 : decode cX2_foretoldAt 9 = .ok (.aload_n 0, 1) := dk_42 (dk_at dksX2_foretoldAt_0 9 rfl rfl)
theorem dX2_foretoldAt_10 : decode cX2_foretoldAt 10 = .ok (.getfield 77, 3) := dk_180 0 77 (dk_at dksX2_foretoldAt_0 10 rfl rfl)
theorem dX2_foretoldAt_13 : decode cX2_foretoldAt 13 = .ok (.iload_n 1, 1) := dk_27 (dk_at dksX2_foretoldAt_0 13 rfl rfl)
theorem dX2_foretoldAt_14 : decode cX2_foretoldAt 14 = .ok (.aaload, 1) := dk_50 (dk_at dksX2_foretoldAt_0 14 rfl rfl)
theorem dX2_foretoldAt_15 : decode cX2_foretoldAt 15 = .ok (.iload_n 2, 1) := dk_28 (dk_at dksX2_foretoldAt_0 15 rfl rfl)
theorem dX2_foretoldAt_16 : decode cX2_foretoldAt 16 = .ok (.aaload, 1) := dk_50 (dk_at dksX2_foretoldAt_0 16 rfl rfl)
theorem dX2_foretoldAt_17 : decode cX2_foretoldAt 17 = .ok (.iconst 0, 1) := dk_3 (dk_at dksX2_foretoldAt_0 17 rfl rfl)
theorem dX2_foretoldAt_18 : decode cX2_foretoldAt 18 = .ok (.laload, 1) := dk_47 (dk_at dksX2_foretoldAt_0 18 rfl rfl)
theorem dX2_foretoldAt_19 : decode cX2_foretoldAt 19 = .ok (.l2i, 1) := dk_136 (dk_at dksX2_foretoldAt_0 19 rfl rfl)
theorem dX2_foretoldAt_20 : decode cX2_foretoldAt 20 = .ok (.goto 4, 3) := dk_167 0 4 (dk_at dksX2_foretoldAt_0 20 rfl rfl)
theorem dX2_foretoldAt_23 : decode cX2_foretoldAt 23 = .ok (.iconst 0, 1) := dk_3 (dk_at dksX2_foretoldAt_0 23 rfl rfl)
theorem dX2_foretoldAt_24 : decode cX2_foretoldAt 24 = .ok (.ireturn, 1) := dk_172 (dk_at dksX2_foretoldAt_1 0 rfl rfl)
abbrev cX2_smoothedAt : ByteArray := prog_9_method_52_code
def yX2_smoothedAt : MethodName := ⟨RX2, "smoothedAt", "(II)J"⟩
def dkwX2_smoothedAt_0 : List UInt8 := [42, 27, 28, 182, 0, 252, 154, 0, 5, 9, 173, 42, 27, 28, 182, 1, 10, 42, 180, 0, 255, 173]
abbrev dktX2_smoothedAt_0 : List UInt8 := dkwX2_smoothedAt_0 ++ []
theorem dksX2_smoothedAt_0 : cX2_smoothedAt.data.toList.drop 0 = dktX2_smoothedAt_0 := by decide +kernel
theorem dX2_smoothedAt_0 : decode cX2_smoothedAt 0 = .ok (.aload_n 0, 1) := dk_42 (dk_at dksX2_smoothedAt_0 0 rfl rfl)
theorem dX2_smoothedAt_1 : decode cX2_smoothedAt 1 = .ok (.iload_n 1, 1) := dk_27 (dk_at dksX2_smoothedAt_0 1 rfl rfl)
theorem dX2_smoothedAt_2 : decode cX2_smoothedAt 2 = .ok (.iload_n 2, 1) := dk_28 (dk_at dksX2_smoothedAt_0 2 rfl rfl)
theorem dX2_smoothedAt_3 : decode cX2_smoothedAt 3 = .ok (.invokevirtual 252, 3) := dk_182 0 252 (dk_at dksX2_smoothedAt_0 3 rfl rfl)
theorem dX2_smoothedAt_6 : decode cX2_smoothedAt 6 = .ok (.ifCond .ne 5, 3) := dk_154 0 5 (dk_at dksX2_smoothedAt_0 6 rfl rfl)
theorem dX2_smoothedAt_9 : decode cX2_smoothedAt 9 = .ok (.lconst 0, 1) := dk_9 (dk_at dksX2_smoothedAt_0 9 rfl rfl)
theorem dX2_smoothedAt_10 : decode cX2_smoothedAt 10 = .ok (.lreturn, 1) := dk_173 (dk_at dksX2_smoothedAt_0 10 rfl rfl)
theorem dX2_smoothedAt_11 : decode cX2_smoothedAt 11 = .ok (.aload_n 0, 1) := dk_42 (dk_at dksX2_smoothedAt_0 11 rfl rfl)
theorem dX2_smoothedAt_12 : decode cX2_smoothedAt 12 = .ok (.iload_n 1, 1) := dk_27 (dk_at dksX2_smoothedAt_0 12 rfl rfl)
theorem dX2_smoothedAt_13 : decode cX2_smoothedAt 13 = .ok (.iload_n 2, 1) := dk_28 (dk_at dksX2_smoothedAt_0 13 rfl rfl)
theorem dX2_smoothedAt_14 : decode cX2_smoothedAt 14 = .ok (.invokevirtual 266, 3) := dk_182 1 10 (dk_at dksX2_smoothedAt_0 14 rfl rfl)
theorem dX2_smoothedAt_17 : decode cX2_smoothedAt 17 = .ok (.aload_n 0, 1) := dk_42 (dk_at dksX2_smoothedAt_0 17 rfl rfl)
theorem dX2_smoothedAt_18 : decode cX2_smoothedAt 18 = .ok (.getfield 255, 3) := dk_180 0 255 (dk_at dksX2_smoothedAt_0 18 rfl rfl)
theorem dX2_smoothedAt_21 : decode cX2_smoothedAt 21 = .ok (.lreturn, 1) := dk_173 (dk_at dksX2_smoothedAt_0 21 rfl rfl)
abbrev cX2_smooth : ByteArray := prog_9_method_51_code
def yX2_smooth : MethodName := ⟨RX2, "smooth", "(II)V"⟩
def dkwX2_smooth_2 : List UInt8 := [28, 161, 0, 15, 42, 27, 29, 182, 1, 7, 132, 3, 255, 167, 255, 242, 177]
abbrev dktX2_smooth_2 : List UInt8 := dkwX2_smooth_2 ++ []
def dkwX2_smooth_1 : List UInt8 := [27, 50, 42, 180, 0, 55, 27, 46, 50, 4, 47, 181, 1, 2, 42, 180, 0, 55, 27, 46, 4, 100, 62, 29]
abbrev dktX2_smooth_1 : List UInt8 := dkwX2_smooth_1 ++ dktX2_smooth_2
def dkwX2_smooth_0 : List UInt8 := [42, 42, 180, 0, 74, 27, 50, 42, 180, 0, 55, 27, 46, 50, 3, 47, 181, 0, 255, 42, 42, 180, 0, 74]
abbrev dktX2_smooth_0 : List UInt8 := dkwX2_smooth_0 ++ dktX2_smooth_1
theorem dksX2_smooth_0 : cX2_smooth.data.toList.drop 0 = dktX2_smooth_0 := by decide +kernel
theorem dksX2_smooth_1 : cX2_smooth.data.toList.drop 24 = dktX2_smooth_1 := dk_seg dksX2_smooth_0 24 rfl rfl
theorem dksX2_smooth_2 : cX2_smooth.data.toList.drop 48 = dktX2_smooth_2 := dk_seg dksX2_smooth_1 24 rfl rfl
theorem dX2_smooth_0 : decode cX2_smooth 0 = .ok (.aload_n 0, 1) := dk_42 (dk_at dksX2_smooth_0 0 rfl rfl)
theorem dX2_smooth_1 : decode cX2_smooth 1 = .ok (.aload_n 0, 1) := dk_42 (dk_at dksX2_smooth_0 1 rfl rfl)
theorem dX2_smooth_2 : decode cX2_smooth 2 = .ok (.getfield 74, 3) := dk_180 0 74 (dk_at dksX2_smooth_0 2 rfl rfl)
theorem dX2_smooth_5 : decode cX2_smooth 5 = .ok (.iload_n 1, 1) := dk_27 (dk_at dksX2_smooth_0 5 rfl rfl)
theorem dX2_smooth_6 : decode cX2_smooth 6 = .ok (.aaload, 1) := dk_50 (dk_at dksX2_smooth_0 6 rfl rfl)
theorem dX2_smooth_7 : decode cX2_smooth 7 = .ok (.aload_n 0, 1) := dk_42 (dk_at dksX2_smooth_0 7 rfl rfl)
theorem dX2_smooth_8 : decode cX2_smooth 8 = .ok (.getfield 55, 3) := dk_180 0 55 (dk_at dksX2_smooth_0 8 rfl rfl)
theorem dX2_smooth_11 : decode cX2_smooth 11 = .ok (.iload_n 1, 1) := dk_27 (dk_at dksX2_smooth_0 11 rfl rfl)
theorem dX2_smooth_12 : decode cX2_smooth 12 = .ok (.iaload, 1) := dk_46 (dk_at dksX2_smooth_0 12 rfl rfl)
theorem dX2_smooth_13 : decode cX2_smooth 13 = .ok (.aaload, 1) := dk_50 (dk_at dksX2_smooth_0 13 rfl rfl)
theorem dX2_smooth_14 : decode cX2_smooth 14 = .ok (.iconst 0, 1) := dk_3 (dk_at dksX2_smooth_0 14 rfl rfl)
theorem dX2_smooth_15 : decode cX2_smooth 15 = .ok (.laload, 1) := dk_47 (dk_at dksX2_smooth_0 15 rfl rfl)
theorem dX2_smooth_16 : decode cX2_smooth 16 = .ok (.putfield 255, 3) := dk_181 0 255 (dk_at dksX2_smooth_0 16 rfl rfl)
theorem dX2_smooth_19 : decode cX2_smooth 19 = .ok (.aload_n 0, 1) := dk_42 (dk_at dksX2_smooth_0 19 rfl rfl)
theorem dX2_smooth_20 : decode cX2_smooth 20 = .ok (.aload_n 0, 1) := dk_42 (dk_at dksX2_smooth_0 20 rfl rfl)
theorem dX2_smooth_21 : decode cX2_smooth 21 = .ok (.getfield 74, 3) := dk_180 0 74 (dk_at dksX2_smooth_0 21 rfl rfl)
theorem dX2_smooth_24 : decode cX2_smooth 24 = .ok (.iload_n 1, 1) := dk_27 (dk_at dksX2_smooth_1 0 rfl rfl)
theorem dX2_smooth_25 : decode cX2_smooth 25 = .ok (.aaload, 1) := dk_50 (dk_at dksX2_smooth_1 1 rfl rfl)
theorem dX2_smooth_26 : decode cX2_smooth 26 = .ok (.aload_n 0, 1) := dk_42 (dk_at dksX2_smooth_1 2 rfl rfl)
theorem dX2_smooth_27 : decode cX2_smooth 27 = .ok (.getfield 55, 3) := dk_180 0 55 (dk_at dksX2_smooth_1 3 rfl rfl)
theorem dX2_smooth_30 : decode cX2_smooth 30 = .ok (.iload_n 1, 1) := dk_27 (dk_at dksX2_smooth_1 6 rfl rfl)
theorem dX2_smooth_31 : decode cX2_smooth 31 = .ok (.iaload, 1) := dk_46 (dk_at dksX2_smooth_1 7 rfl rfl)
theorem dX2_smooth_32 : decode cX2_smooth 32 = .ok (.aaload, 1) := dk_50 (dk_at dksX2_smooth_1 8 rfl rfl)
theorem dX2_smooth_33 : decode cX2_smooth 33 = .ok (.iconst 1, 1) := dk_4 (dk_at dksX2_smooth_1 9 rfl rfl)
theorem dX2_smooth_34 : decode cX2_smooth 34 = .ok (.laload, 1) := dk_47 (dk_at dksX2_smooth_1 10 rfl rfl)
theorem dX2_smooth_35 : decode cX2_smooth 35 = .ok (.putfield 258, 3) := dk_181 1 2 (dk_at dksX2_smooth_1 11 rfl rfl)
theorem dX2_smooth_38 : decode cX2_smooth 38 = .ok (.aload_n 0, 1) := dk_42 (dk_at dksX2_smooth_1 14 rfl rfl)
theorem dX2_smooth_39 : decode cX2_smooth 39 = .ok (.getfield 55, 3) := dk_180 0 55 (dk_at dksX2_smooth_1 15 rfl rfl)
theorem dX2_smooth_42 : decode cX2_smooth 42 = .ok (.iload_n 1, 1) := dk_27 (dk_at dksX2_smooth_1 18 rfl rfl)
theorem dX2_smooth_43 : decode cX2_smooth 43 = .ok (.iaload, 1) := dk_46 (dk_at dksX2_smooth_1 19 rfl rfl)
theorem dX2_smooth_44 : decode cX2_smooth 44 = .ok (.iconst 1, 1) := dk_4 (dk_at dksX2_smooth_1 20 rfl rfl)
theorem dX2_smooth_45 : decode cX2_smooth 45 = .ok (.isub, 1) := dk_100 (dk_at dksX2_smooth_1 21 rfl rfl)
theorem dX2_smooth_46 : decode cX2_smooth 46 = .ok (.istore_n 3, 1) := dk_62 (dk_at dksX2_smooth_1 22 rfl rfl)
theorem dX2_smooth_47 : decode cX2_smooth 47 = .ok (.iload_n 3, 1) := dk_29 (dk_at dksX2_smooth_1 23 rfl rfl)
theorem dX2_smooth_48 : decode cX2_smooth 48 = .ok (.iload_n 2, 1) := dk_28 (dk_at dksX2_smooth_2 0 rfl rfl)
theorem dX2_smooth_49 : decode cX2_smooth 49 = .ok (.if_icmp .lt 15, 3) := dk_161 0 15 (dk_at dksX2_smooth_2 1 rfl rfl)
theorem dX2_smooth_52 : decode cX2_smooth 52 = .ok (.aload_n 0, 1) := dk_42 (dk_at dksX2_smooth_2 4 rfl rfl)
theorem dX2_smooth_53 : decode cX2_smooth 53 = .ok (.iload_n 1, 1) := dk_27 (dk_at dksX2_smooth_2 5 rfl rfl)
theorem dX2_smooth_54 : decode cX2_smooth 54 = .ok (.iload_n 3, 1) := dk_29 (dk_at dksX2_smooth_2 6 rfl rfl)
theorem dX2_smooth_55 : decode cX2_smooth 55 = .ok (.invokevirtual 263, 3) := dk_182 1 7 (dk_at dksX2_smooth_2 7 rfl rfl)
theorem dX2_smooth_58 : decode cX2_smooth 58 = .ok (.iinc 3 (-1), 3) := dk_132 3 255 (dk_at dksX2_smooth_2 10 rfl rfl)
theorem dX2_smooth_61 : decode cX2_smooth 61 = .ok (.goto (-14), 3) := dk_167 255 242 (dk_at dksX2_smooth_2 13 rfl rfl)
theorem dX2_smooth_64 : decode cX2_smooth 64 = .ok (.return_, 1) := dk_177 (dk_at dksX2_smooth_2 16 rfl rfl)
abbrev cX2_smoothBack : ByteArray := prog_9_method_50_code
def yX2_smoothBack : MethodName := ⟨RX2, "smoothBack", "(II)V"⟩
def dkwX2_smoothBack_11 : List UInt8 := [184, 0, 219, 97, 181, 1, 2, 177]
abbrev dktX2_smoothBack_11 : List UInt8 := dkwX2_smoothBack_11 ++ []
def dkwX2_smoothBack_10 : List UInt8 := [181, 0, 255, 42, 89, 180, 1, 2, 22, 27, 22, 19, 105, 22, 29, 22, 21, 105, 97, 20, 1, 5]
abbrev dktX2_smoothBack_10 : List UInt8 := dkwX2_smoothBack_10 ++ dktX2_smoothBack_11
def dkwX2_smoothBack_9 : List UInt8 := [89, 180, 0, 255, 22, 23, 22, 19, 105, 22, 25, 22, 21, 105, 97, 20, 1, 5, 184, 0, 219, 97]
abbrev dktX2_smoothBack_9 : List UInt8 := dkwX2_smoothBack_9 ++ dktX2_smoothBack_10
def dkwX2_smoothBack_8 : List UInt8 := [22, 11, 105, 22, 7, 22, 9, 97, 22, 13, 105, 101, 20, 1, 5, 105, 22, 17, 184, 0, 219, 55, 29, 42]
abbrev dktX2_smoothBack_8 : List UInt8 := dkwX2_smoothBack_8 ++ dktX2_smoothBack_9
def dkwX2_smoothBack_7 : List UInt8 := [97, 22, 15, 105, 22, 9, 22, 13, 105, 101, 20, 1, 5, 105, 22, 17, 184, 0, 219, 55, 27, 22, 9]
abbrev dktX2_smoothBack_7 : List UInt8 := dkwX2_smoothBack_7 ++ dktX2_smoothBack_8
def dkwX2_smoothBack_6 : List UInt8 := [22, 5, 22, 7, 97, 22, 13, 105, 101, 20, 1, 5, 105, 22, 17, 184, 0, 219, 55, 25, 22, 7, 22, 9]
abbrev dktX2_smoothBack_6 : List UInt8 := dkwX2_smoothBack_6 ++ dktX2_smoothBack_7
def dkwX2_smoothBack_5 : List UInt8 := [105, 22, 7, 22, 13, 105, 101, 20, 1, 5, 105, 22, 17, 184, 0, 219, 55, 23, 22, 7, 22, 11, 105]
abbrev dktX2_smoothBack_5 : List UInt8 := dkwX2_smoothBack_5 ++ dktX2_smoothBack_6
def dkwX2_smoothBack_4 : List UInt8 := [181, 0, 255, 42, 45, 4, 47, 181, 1, 2, 22, 17, 9, 148, 158, 0, 155, 22, 5, 22, 7, 97, 22, 15]
abbrev dktX2_smoothBack_4 : List UInt8 := dkwX2_smoothBack_4 ++ dktX2_smoothBack_5
def dkwX2_smoothBack_3 : List UInt8 := [25, 4, 3, 47, 101, 55, 19, 42, 180, 1, 2, 25, 4, 4, 47, 101, 55, 21, 42, 45, 3, 47]
abbrev dktX2_smoothBack_3 : List UInt8 := dkwX2_smoothBack_3 ++ dktX2_smoothBack_4
def dkwX2_smoothBack_2 : List UInt8 := [25, 4, 7, 47, 55, 15, 22, 11, 22, 15, 105, 22, 13, 22, 13, 105, 101, 55, 17, 42, 180, 0, 255]
abbrev dktX2_smoothBack_2 : List UInt8 := dkwX2_smoothBack_2 ++ dktX2_smoothBack_3
def dkwX2_smoothBack_1 : List UInt8 := [55, 5, 45, 6, 47, 55, 7, 45, 7, 47, 55, 9, 25, 4, 5, 47, 55, 11, 25, 4, 6, 47, 55, 13]
abbrev dktX2_smoothBack_1 : List UInt8 := dkwX2_smoothBack_1 ++ dktX2_smoothBack_2
def dkwX2_smoothBack_0 : List UInt8 := [42, 180, 0, 74, 27, 50, 28, 50, 78, 42, 180, 0, 77, 27, 50, 28, 4, 96, 50, 58, 4, 45, 5, 47]
abbrev dktX2_smoothBack_0 : List UInt8 := dkwX2_smoothBack_0 ++ dktX2_smoothBack_1
theorem dksX2_smoothBack_0 : cX2_smoothBack.data.toList.drop 0 = dktX2_smoothBack_0 := by decide +kernel
theorem dksX2_smoothBack_1 : cX2_smoothBack.data.toList.drop 24 = dktX2_smoothBack_1 := dk_seg dksX2_smoothBack_0 24 rfl rfl
theorem dksX2_smoothBack_2 : cX2_smoothBack.data.toList.drop 48 = dktX2_smoothBack_2 := dk_seg dksX2_smoothBack_1 24 rfl rfl
theorem dksX2_smoothBack_3 : cX2_smoothBack.data.toList.drop 71 = dktX2_smoothBack_3 := dk_seg dksX2_smoothBack_2 23 rfl rfl
theorem dksX2_smoothBack_4 : cX2_smoothBack.data.toList.drop 93 = dktX2_smoothBack_4 := dk_seg dksX2_smoothBack_3 22 rfl rfl
theorem dksX2_smoothBack_5 : cX2_smoothBack.data.toList.drop 117 = dktX2_smoothBack_5 := dk_seg dksX2_smoothBack_4 24 rfl rfl
theorem dksX2_smoothBack_6 : cX2_smoothBack.data.toList.drop 140 = dktX2_smoothBack_6 := dk_seg dksX2_smoothBack_5 23 rfl rfl
theorem dksX2_smoothBack_7 : cX2_smoothBack.data.toList.drop 164 = dktX2_smoothBack_7 := dk_seg dksX2_smoothBack_6 24 rfl rfl
theorem dksX2_smoothBack_8 : cX2_smoothBack.data.toList.drop 187 = dktX2_smoothBack_8 := dk_seg dksX2_smoothBack_7 23 rfl rfl
theorem dksX2_smoothBack_9 : cX2_smoothBack.data.toList.drop 211 = dktX2_smoothBack_9 := dk_seg dksX2_smoothBack_8 24 rfl rfl
theorem dksX2_smoothBack_10 : cX2_smoothBack.data.toList.drop 233 = dktX2_smoothBack_10 := dk_seg dksX2_smoothBack_9 22 rfl rfl
theorem dksX2_smoothBack_11 : cX2_smoothBack.data.toList.drop 255 = dktX2_smoothBack_11 := dk_seg dksX2_smoothBack_10 22 rfl rfl
theorem dX2_smoothBack_0 : decode cX2_smoothBack 0 = .ok (.aload_n 0, 1) := dk_42 (dk_at dksX2_smoothBack_0 0 rfl rfl)
theorem dX2_smoothBack_1 : decode cX2_smoothBack 1 = .ok (.getfield 74, 3) := dk_180 0 74 (dk_at dksX2_smoothBack_0 1 rfl rfl)
theorem dX2_smoothBack_4 : decode cX2_smoothBack 4 = .ok (.iload_n 1, 1) := dk_27 (dk_at dksX2_smoothBack_0 4 rfl rfl)
theorem dX2_smoothBack_5 : decode cX2_smoothBack 5 = .ok (.aaload, 1) := dk_50 (dk_at dksX2_smoothBack_0 5 rfl rfl)
theorem dX2_smoothBack_6 : decode cX2_smoothBack 6 = .ok (.iload_n 2, 1) := dk_28 (dk_at dksX2_smoothBack_0 6 rfl rfl)
theorem dX2_smoothBack_7 : decode cX2_smoothBack 7 = .ok (.aaload, 1) := dk_50 (dk_at dksX2_smoothBack_0 7 rfl rfl)
theorem dX2_smoothBack_8 : decode cX2_smoothBack 8 = .ok (.astore_n 3, 1) := dk_78 (dk_at dksX2_smoothBack_0 8 rfl rfl)
theorem dX2_smoothBack_9 : decode cX2_smoothBack 9 = .ok (.aload_n 0, 1) := dk_42 (dk_at dksX2_smoothBack_0 9 rfl rfl)
theorem dX2_smoothBack_10 : decode cX2_smoothBack 10 = .ok (.getfield 77, 3) := dk_180 0 77 (dk_at dksX2_smoothBack_0 10 rfl rfl)
theorem dX2_smoothBack_13 : decode cX2_smoothBack 13 = .ok (.iload_n 1, 1) := dk_27 (dk_at dksX2_smoothBack_0 13 rfl rfl)
theorem dX2_smoothBack_14 : decode cX2_smoothBack 14 = .ok (.aaload, 1) := dk_50 (dk_at dksX2_smoothBack_0 14 rfl rfl)
theorem dX2_smoothBack_15 : decode cX2_smoothBack 15 = .ok (.iload_n 2, 1) := dk_28 (dk_at dksX2_smoothBack_0 15 rfl rfl)
theorem dX2_smoothBack_16 : decode cX2_smoothBack 16 = .ok (.iconst 1, 1) := dk_4 (dk_at dksX2_smoothBack_0 16 rfl rfl)
theorem dX2_smoothBack_17 : decode cX2_smoothBack 17 = .ok (.iadd, 1) := dk_96 (dk_at dksX2_smoothBack_0 17 rfl rfl)
theorem dX2_smoothBack_18 : decode cX2_smoothBack 18 = .ok (.aaload, 1) := dk_50 (dk_at dksX2_smoothBack_0 18 rfl rfl)
theorem dX2_smoothBack_19 : decode cX2_smoothBack 19 = .ok (.astore 4, 2) := dk_58 4 (dk_at dksX2_smoothBack_0 19 rfl rfl)
theorem dX2_smoothBack_21 : decode cX2_smoothBack 21 = .ok (.aload_n 3, 1) := dk_45 (dk_at dksX2_smoothBack_0 21 rfl rfl)
theorem dX2_smoothBack_22 : decode cX2_smoothBack 22 = .ok (.iconst 2, 1) := dk_5 (dk_at dksX2_smoothBack_0 22 rfl rfl)
theorem dX2_smoothBack_23 : decode cX2_smoothBack 23 = .ok (.laload, 1) := dk_47 (dk_at dksX2_smoothBack_0 23 rfl rfl)
theorem dX2_smoothBack_24 : decode cX2_smoothBack 24 = .ok (.lstore 5, 2) := dk_55 5 (dk_at dksX2_smoothBack_1 0 rfl rfl)
theorem dX2_smoothBack_26 : decode cX2_smoothBack 26 = .ok (.aload_n 3, 1) := dk_45 (dk_at dksX2_smoothBack_1 2 rfl rfl)
theorem dX2_smoothBack_27 : decode cX2_smoothBack 27 = .ok (.iconst 3, 1) := dk_6 (dk_at dksX2_smoothBack_1 3 rfl rfl)
theorem dX2_smoothBack_28 : decode cX2_smoothBack 28 = .ok (.laload, 1) := dk_47 (dk_at dksX2_smoothBack_1 4 rfl rfl)
theorem dX2_smoothBack_29 : decode cX2_smoothBack 29 = .ok (.lstore 7, 2) := dk_55 7 (dk_at dksX2_smoothBack_1 5 rfl rfl)
theorem dX2_smoothBack_31 : decode cX2_smoothBack 31 = .ok (.aload_n 3, 1) := dk_45 (dk_at dksX2_smoothBack_1 7 rfl rfl)
theorem dX2_smoothBack_32 : decode cX2_smoothBack 32 = .ok (.iconst 4, 1) := dk_7 (dk_at dksX2_smoothBack_1 8 rfl rfl)
theorem dX2_smoothBack_33 : decode cX2_smoothBack 33 = .ok (.laload, 1) := dk_47 (dk_at dksX2_smoothBack_1 9 rfl rfl)
theorem dX2_smoothBack_34 : decode cX2_smoothBack 34 = .ok (.lstore 9, 2) := dk_55 9 (dk_at dksX2_smoothBack_1 10 rfl rfl)
theorem dX2_smoothBack_36 : decode cX2_smoothBack 36 = .ok (.aload 4, 2) := dk_25 4 (dk_at dksX2_smoothBack_1 12 rfl rfl)
theorem dX2_smoothBack_38 : decode cX2_smoothBack 38 = .ok (.iconst 2, 1) := dk_5 (dk_at dksX2_smoothBack_1 14 rfl rfl)
theorem dX2_smoothBack_39 : decode cX2_smoothBack 39 = .ok (.laload, 1) := dk_47 (dk_at dksX2_smoothBack_1 15 rfl rfl)
theorem dX2_smoothBack_40 : decode cX2_smoothBack 40 = .ok (.lstore 11, 2) := dk_55 11 (dk_at dksX2_smoothBack_1 16 rfl rfl)
theorem dX2_smoothBack_42 : decode cX2_smoothBack 42 = .ok (.aload 4, 2) := dk_25 4 (dk_at dksX2_smoothBack_1 18 rfl rfl)
theorem dX2_smoothBack_44 : decode cX2_smoothBack 44 = .ok (.iconst 3, 1) := dk_6 (dk_at dksX2_smoothBack_1 20 rfl rfl)
theorem dX2_smoothBack_45 : decode cX2_smoothBack 45 = .ok (.laload, 1) := dk_47 (dk_at dksX2_smoothBack_1 21 rfl rfl)
theorem dX2_smoothBack_46 : decode cX2_smoothBack 46 = .ok (.lstore 13, 2) := dk_55 13 (dk_at dksX2_smoothBack_1 22 rfl rfl)
theorem dX2_smoothBack_48 : decode cX2_smoothBack 48 = .ok (.aload 4, 2) := dk_25 4 (dk_at dksX2_smoothBack_2 0 rfl rfl)
theorem dX2_smoothBack_50 : decode cX2_smoothBack 50 = .ok (.iconst 4, 1) := dk_7 (dk_at dksX2_smoothBack_2 2 rfl rfl)
theorem dX2_smoothBack_51 : decode cX2_smoothBack 51 = .ok (.laload, 1) := dk_47 (dk_at dksX2_smoothBack_2 3 rfl rfl)
theorem dX2_smoothBack_52 : decode cX2_smoothBack 52 = .ok (.lstore 15, 2) := dk_55 15 (dk_at dksX2_smoothBack_2 4 rfl rfl)
theorem dX2_smoothBack_54 : decode cX2_smoothBack 54 = .ok (.lload 11, 2) := dk_22 11 (dk_at dksX2_smoothBack_2 6 rfl rfl)
theorem dX2_smoothBack_56 : decode cX2_smoothBack 56 = .ok (.lload 15, 2) := dk_22 15 (dk_at dksX2_smoothBack_2 8 rfl rfl)
theorem dX2_smoothBack_58 : decode cX2_smoothBack 58 = .ok (.lmul, 1) := dk_105 (dk_at dksX2_smoothBack_2 10 rfl rfl)
theorem dX2_smoothBack_59 : decode cX2_smoothBack 59 = .ok (.lload 13, 2) := dk_22 13 (dk_at dksX2_smoothBack_2 11 rfl rfl)
theorem dX2_smoothBack_61 : decode cX2_smoothBack 61 = .ok (.lload 13, 2) := dk_22 13 (dk_at dksX2_smoothBack_2 13 rfl rfl)
theorem dX2_smoothBack_63 : decode cX2_smoothBack 63 = .ok (.lmul, 1) := dk_105 (dk_at dksX2_smoothBack_2 15 rfl rfl)
theorem dX2_smoothBack_64 : decode cX2_smoothBack 64 = .ok (.lsub, 1) := dk_101 (dk_at dksX2_smoothBack_2 16 rfl rfl)
theorem dX2_smoothBack_65 : decode cX2_smoothBack 65 = .ok (.lstore 17, 2) := dk_55 17 (dk_at dksX2_smoothBack_2 17 rfl rfl)
theorem dX2_smoothBack_67 : decode cX2_smoothBack 67 = .ok (.aload_n 0, 1) := dk_42 (dk_at dksX2_smoothBack_2 19 rfl rfl)
theorem dX2_smoothBack_68 : decode cX2_smoothBack 68 = .ok (.getfield 255, 3) := dk_180 0 255 (dk_at dksX2_smoothBack_2 20 rfl rfl)
theorem dX2_smoothBack_71 : decode cX2_smoothBack 71 = .ok (.aload 4, 2) := dk_25 4 (dk_at dksX2_smoothBack_3 0 rfl rfl)
theorem dX2_smoothBack_73 : decode cX2_smoothBack 73 = .ok (.iconst 0, 1) := dk_3 (dk_at dksX2_smoothBack_3 2 rfl rfl)
theorem dX2_smoothBack_74 : decode cX2_smoothBack 74 = .ok (.laload, 1) := dk_47 (dk_at dksX2_smoothBack_3 3 rfl rfl)
theorem dX2_smoothBack_75 : decode cX2_smoothBack 75 = .ok (.lsub, 1) := dk_101 (dk_at dksX2_smoothBack_3 4 rfl rfl)
theorem dX2_smoothBack_76 : decode cX2_smoothBack 76 = .ok (.lstore 19, 2) := dk_55 19 (dk_at dksX2_smoothBack_3 5 rfl rfl)
theorem dX2_smoothBack_78 : decode cX2_smoothBack 78 = .ok (.aload_n 0, 1) := dk_42 (dk_at dksX2_smoothBack_3 7 rfl rfl)
theorem dX2_smoothBack_79 : decode cX2_smoothBack 79 = .ok (.getfield 258, 3) := dk_180 1 2 (dk_at dksX2_smoothBack_3 8 rfl rfl)
theorem dX2_smoothBack_82 : decode cX2_smoothBack 82 = .ok (.aload 4, 2) := dk_25 4 (dk_at dksX2_smoothBack_3 11 rfl rfl)
theorem dX2_smoothBack_84 : decode cX2_smoothBack 84 = .ok (.iconst 1, 1) := dk_4 (dk_at dksX2_smoothBack_3 13 rfl rfl)
theorem dX2_smoothBack_85 : decode cX2_smoothBack 85 = .ok (.laload, 1) := dk_47 (dk_at dksX2_smoothBack_3 14 rfl rfl)
theorem dX2_smoothBack_86 : decode cX2_smoothBack 86 = .ok (.lsub, 1) := dk_101 (dk_at dksX2_smoothBack_3 15 rfl rfl)
theorem dX2_smoothBack_87 : decode cX2_smoothBack 87 = .ok (.lstore 21, 2) := dk_55 21 (dk_at dksX2_smoothBack_3 16 rfl rfl)
theorem dX2_smoothBack_89 : decode cX2_smoothBack 89 = .ok (.aload_n 0, 1) := dk_42 (dk_at dksX2_smoothBack_3 18 rfl rfl)
theorem dX2_smoothBack_90 : decode cX2_smoothBack 90 = .ok (.aload_n 3, 1) := dk_45 (dk_at dksX2_smoothBack_3 19 rfl rfl)
theorem dX2_smoothBack_91 : decode cX2_smoothBack 91 = .ok (.iconst 0, 1) := dk_3 (dk_at dksX2_smoothBack_3 20 rfl rfl)
theorem dX2_smoothBack_92 : decode cX2_smoothBack 92 = .ok (.laload, 1) := dk_47 (dk_at dksX2_smoothBack_3 21 rfl rfl)
theorem dX2_smoothBack_93 : decode cX2_smoothBack 93 = .ok (.putfield 255, 3) := dk_181 0 255 (dk_at dksX2_smoothBack_4 0 rfl rfl)
theorem dX2_smoothBack_96 : decode cX2_smoothBack 96 = .ok (.aload_n 0, 1) := dk_42 (dk_at dksX2_smoothBack_4 3 rfl rfl)
theorem dX2_smoothBack_97 : decode cX2_smoothBack 97 = .ok (.aload_n 3, 1) := dk_45 (dk_at dksX2_smoothBack_4 4 rfl rfl)
theorem dX2_smoothBack_98 : decode cX2_smoothBack 98 = .ok (.iconst 1, 1) := dk_4 (dk_at dksX2_smoothBack_4 5 rfl rfl)
theorem dX2_smoothBack_99 : decode cX2_smoothBack 99 = .ok (.laload, 1) := dk_47 (dk_at dksX2_smoothBack_4 6 rfl rfl)
theorem dX2_smoothBack_100 : decode cX2_smoothBack 100 = .ok (.putfield 258, 3) := dk_181 1 2 (dk_at dksX2_smoothBack_4 7 rfl rfl)
theorem dX2_smoothBack_103 : decode cX2_smoothBack 103 = .ok (.lload 17, 2) := dk_22 17 (dk_at dksX2_smoothBack_4 10 rfl rfl)
theorem dX2_smoothBack_105 : decode cX2_smoothBack 105 = .ok (.lconst 0, 1) := dk_9 (dk_at dksX2_smoothBack_4 12 rfl rfl)
theorem dX2_smoothBack_106 : decode cX2_smoothBack 106 = .ok (.lcmp, 1) := dk_148 (dk_at dksX2_smoothBack_4 13 rfl rfl)
theorem dX2_smoothBack_107 : decode cX2_smoothBack 107 = .ok (.ifCond .le 155, 3) := dk_158 0 155 (dk_at dksX2_smoothBack_4 14 rfl rfl)
theorem dX2_smoothBack_110 : decode cX2_smoothBack 110 = .ok (.lload 5, 2) := dk_22 5 (dk_at dksX2_smoothBack_4 17 rfl rfl)
theorem dX2_smoothBack_112 : decode cX2_smoothBack 112 = .ok (.lload 7, 2) := dk_22 7 (dk_at dksX2_smoothBack_4 19 rfl rfl)
theorem dX2_smoothBack_114 : decode cX2_smoothBack 114 = .ok (.ladd, 1) := dk_97 (dk_at dksX2_smoothBack_4 21 rfl rfl)
theorem dX2_smoothBack_115 : decode cX2_smoothBack 115 = .ok (.lload 15, 2) := dk_22 15 (dk_at dksX2_smoothBack_4 22 rfl rfl)
theorem dX2_smoothBack_117 : decode cX2_smoothBack 117 = .ok (.lmul, 1) := dk_105 (dk_at dksX2_smoothBack_5 0 rfl rfl)
theorem dX2_smoothBack_118 : decode cX2_smoothBack 118 = .ok (.lload 7, 2) := dk_22 7 (dk_at dksX2_smoothBack_5 1 rfl rfl)
theorem dX2_smoothBack_120 : decode cX2_smoothBack 120 = .ok (.lload 13, 2) := dk_22 13 (dk_at dksX2_smoothBack_5 3 rfl rfl)
theorem dX2_smoothBack_122 : decode cX2_smoothBack 122 = .ok (.lmul, 1) := dk_105 (dk_at dksX2_smoothBack_5 5 rfl rfl)
theorem dX2_smoothBack_123 : decode cX2_smoothBack 123 = .ok (.lsub, 1) := dk_101 (dk_at dksX2_smoothBack_5 6 rfl rfl)
theorem dX2_smoothBack_124 : decode cX2_smoothBack 124 = .ok (.ldc2_w 261, 3) := dk_20 1 5 (dk_at dksX2_smoothBack_5 7 rfl rfl)
theorem dX2_smoothBack_127 : decode cX2_smoothBack 127 = .ok (.lmul, 1) := dk_105 (dk_at dksX2_smoothBack_5 10 rfl rfl)
theorem dX2_smoothBack_128 : decode cX2_smoothBack 128 = .ok (.lload 17, 2) := dk_22 17 (dk_at dksX2_smoothBack_5 11 rfl rfl)
theorem dX2_smoothBack_130 : decode cX2_smoothBack 130 = .ok (.invokestatic 219, 3) := dk_184 0 219 (dk_at dksX2_smoothBack_5 13 rfl rfl)
theorem dX2_smoothBack_133 : decode cX2_smoothBack 133 = .ok (.lstore 23, 2) := dk_55 23 (dk_at dksX2_smoothBack_5 16 rfl rfl)
theorem dX2_smoothBack_135 : decode cX2_smoothBack 135 = .ok (.lload 7, 2) := dk_22 7 (dk_at dksX2_smoothBack_5 18 rfl rfl)
theorem dX2_smoothBack_137 : decode cX2_smoothBack 137 = .ok (.lload 11, 2) := dk_22 11 (dk_at dksX2_smoothBack_5 20 rfl rfl)
theorem dX2_smoothBack_139 : decode cX2_smoothBack 139 = .ok (.lmul, 1) := dk_105 (dk_at dksX2_smoothBack_5 22 rfl rfl)
theorem dX2_smoothBack_140 : decode cX2_smoothBack 140 = .ok (.lload 5, 2) := dk_22 5 (dk_at dksX2_smoothBack_6 0 rfl rfl)
theorem dX2_smoothBack_142 : decode cX2_smoothBack 142 = .ok (.lload 7, 2) := dk_22 7 (dk_at dksX2_smoothBack_6 2 rfl rfl)
theorem dX2_smoothBack_144 : decode cX2_smoothBack 144 = .ok (.ladd, 1) := dk_97 (dk_at dksX2_smoothBack_6 4 rfl rfl)
theorem dX2_smoothBack_145 : decode cX2_smoothBack 145 = .ok (.lload 13, 2) := dk_22 13 (dk_at dksX2_smoothBack_6 5 rfl rfl)
theorem dX2_smoothBack_147 : decode cX2_smoothBack 147 = .ok (.lmul, 1) := dk_105 (dk_at dksX2_smoothBack_6 7 rfl rfl)
theorem dX2_smoothBack_148 : decode cX2_smoothBack 148 = .ok (.lsub, 1) := dk_101 (dk_at dksX2_smoothBack_6 8 rfl rfl)
theorem dX2_smoothBack_149 : decode cX2_smoothBack 149 = .ok (.ldc2_w 261, 3) := dk_20 1 5 (dk_at dksX2_smoothBack_6 9 rfl rfl)
theorem dX2_smoothBack_152 : decode cX2_smoothBack 152 = .ok (.lmul, 1) := dk_105 (dk_at dksX2_smoothBack_6 12 rfl rfl)
theorem dX2_smoothBack_153 : decode cX2_smoothBack 153 = .ok (.lload 17, 2) := dk_22 17 (dk_at dksX2_smoothBack_6 13 rfl rfl)
theorem dX2_smoothBack_155 : decode cX2_smoothBack 155 = .ok (.invokestatic 219, 3) := dk_184 0 219 (dk_at dksX2_smoothBack_6 15 rfl rfl)
theorem dX2_smoothBack_158 : decode cX2_smoothBack 158 = .ok (.lstore 25, 2) := dk_55 25 (dk_at dksX2_smoothBack_6 18 rfl rfl)
theorem dX2_smoothBack_160 : decode cX2_smoothBack 160 = .ok (.lload 7, 2) := dk_22 7 (dk_at dksX2_smoothBack_6 20 rfl rfl)
theorem dX2_smoothBack_162 : decode cX2_smoothBack 162 = .ok (.lload 9, 2) := dk_22 9 (dk_at dksX2_smoothBack_6 22 rfl rfl)
theorem dX2_smoothBack_164 : decode cX2_smoothBack 164 = .ok (.ladd, 1) := dk_97 (dk_at dksX2_smoothBack_7 0 rfl rfl)
theorem dX2_smoothBack_165 : decode cX2_smoothBack 165 = .ok (.lload 15, 2) := dk_22 15 (dk_at dksX2_smoothBack_7 1 rfl rfl)
theorem dX2_smoothBack_167 : decode cX2_smoothBack 167 = .ok (.lmul, 1) := dk_105 (dk_at dksX2_smoothBack_7 3 rfl rfl)
theorem dX2_smoothBack_168 : decode cX2_smoothBack 168 = .ok (.lload 9, 2) := dk_22 9 (dk_at dksX2_smoothBack_7 4 rfl rfl)
theorem dX2_smoothBack_170 : decode cX2_smoothBack 170 = .ok (.lload 13, 2) := dk_22 13 (dk_at dksX2_smoothBack_7 6 rfl rfl)
theorem dX2_smoothBack_172 : decode cX2_smoothBack 172 = .ok (.lmul, 1) := dk_105 (dk_at dksX2_smoothBack_7 8 rfl rfl)
theorem dX2_smoothBack_173 : decode cX2_smoothBack 173 = .ok (.lsub, 1) := dk_101 (dk_at dksX2_smoothBack_7 9 rfl rfl)
theorem dX2_smoothBack_174 : decode cX2_smoothBack 174 = .ok (.ldc2_w 261, 3) := dk_20 1 5 (dk_at dksX2_smoothBack_7 10 rfl rfl)
theorem dX2_smoothBack_177 : decode cX2_smoothBack 177 = .ok (.lmul, 1) := dk_105 (dk_at dksX2_smoothBack_7 13 rfl rfl)
theorem dX2_smoothBack_178 : decode cX2_smoothBack 178 = .ok (.lload 17, 2) := dk_22 17 (dk_at dksX2_smoothBack_7 14 rfl rfl)
theorem dX2_smoothBack_180 : decode cX2_smoothBack 180 = .ok (.invokestatic 219, 3) := dk_184 0 219 (dk_at dksX2_smoothBack_7 16 rfl rfl)
theorem dX2_smoothBack_183 : decode cX2_smoothBack 183 = .ok (.lstore 27, 2) := dk_55 27 (dk_at dksX2_smoothBack_7 19 rfl rfl)
theorem dX2_smoothBack_185 : decode cX2_smoothBack 185 = .ok (.lload 9, 2) := dk_22 9 (dk_at dksX2_smoothBack_7 21 rfl rfl)
theorem dX2_smoothBack_187 : decode cX2_smoothBack 187 = .ok (.lload 11, 2) := dk_22 11 (dk_at dksX2_smoothBack_8 0 rfl rfl)
theorem dX2_smoothBack_189 : decode cX2_smoothBack 189 = .ok (.lmul, 1) := dk_105 (dk_at dksX2_smoothBack_8 2 rfl rfl)
theorem dX2_smoothBack_190 : decode cX2_smoothBack 190 = .ok (.lload 7, 2) := dk_22 7 (dk_at dksX2_smoothBack_8 3 rfl rfl)
theorem dX2_smoothBack_192 : decode cX2_smoothBack 192 = .ok (.lload 9, 2) := dk_22 9 (dk_at dksX2_smoothBack_8 5 rfl rfl)
theorem dX2_smoothBack_194 : decode cX2_smoothBack 194 = .ok (.ladd, 1) := dk_97 (dk_at dksX2_smoothBack_8 7 rfl rfl)
theorem dX2_smoothBack_195 : decode cX2_smoothBack 195 = .ok (.lload 13, 2) := dk_22 13 (dk_at dksX2_smoothBack_8 8 rfl rfl)
theorem dX2_smoothBack_197 : decode cX2_smoothBack 197 = .ok (.lmul, 1) := dk_105 (dk_at dksX2_smoothBack_8 10 rfl rfl)
theorem dX2_smoothBack_198 : decode cX2_smoothBack 198 = .ok (.lsub, 1) := dk_101 (dk_at dksX2_smoothBack_8 11 rfl rfl)
theorem dX2_smoothBack_199 : decode cX2_smoothBack 199 = .ok (.ldc2_w 261, 3) := dk_20 1 5 (dk_at dksX2_smoothBack_8 12 rfl rfl)
theorem dX2_smoothBack_202 : decode cX2_smoothBack 202 = .ok (.lmul, 1) := dk_105 (dk_at dksX2_smoothBack_8 15 rfl rfl)
theorem dX2_smoothBack_203 : decode cX2_smoothBack 203 = .ok (.lload 17, 2) := dk_22 17 (dk_at dksX2_smoothBack_8 16 rfl rfl)
theorem dX2_smoothBack_205 : decode cX2_smoothBack 205 = .ok (.invokestatic 219, 3) := dk_184 0 219 (dk_at dksX2_smoothBack_8 18 rfl rfl)
theorem dX2_smoothBack_208 : decode cX2_smoothBack 208 = .ok (.lstore 29, 2) := dk_55 29 (dk_at dksX2_smoothBack_8 21 rfl rfl)
theorem dX2_smoothBack_210 : decode cX2_smoothBack 210 = .ok (.aload_n 0, 1) := dk_42 (dk_at dksX2_smoothBack_8 23 rfl rfl)
theorem dX2_smoothBack_211 : decode cX2_smoothBack 211 = .ok (.dup, 1) := dk_89 (dk_at dksX2_smoothBack_9 0 rfl rfl)
theorem dX2_smoothBack_212 : decode cX2_smoothBack 212 = .ok (.getfield 255, 3) := dk_180 0 255 (dk_at dksX2_smoothBack_9 1 rfl rfl)
theorem dX2_smoothBack_215 : decode cX2_smoothBack 215 = .ok (.lload 23, 2) := dk_22 23 (dk_at dksX2_smoothBack_9 4 rfl rfl)
theorem dX2_smoothBack_217 : decode cX2_smoothBack 217 = .ok (.lload 19, 2) := dk_22 19 (dk_at dksX2_smoothBack_9 6 rfl rfl)
theorem dX2_smoothBack_219 : decode cX2_smoothBack 219 = .ok (.lmul, 1) := dk_105 (dk_at dksX2_smoothBack_9 8 rfl rfl)
theorem dX2_smoothBack_220 : decode cX2_smoothBack 220 = .ok (.lload 25, 2) := dk_22 25 (dk_at dksX2_smoothBack_9 9 rfl rfl)
theorem dX2_smoothBack_222 : decode cX2_smoothBack 222 = .ok (.lload 21, 2) := dk_22 21 (dk_at dksX2_smoothBack_9 11 rfl rfl)
theorem dX2_smoothBack_224 : decode cX2_smoothBack 224 = .ok (.lmul, 1) := dk_105 (dk_at dksX2_smoothBack_9 13 rfl rfl)
theorem dX2_smoothBack_225 : decode cX2_smoothBack 225 = .ok (.ladd, 1) := dk_97 (dk_at dksX2_smoothBack_9 14 rfl rfl)
theorem dX2_smoothBack_226 : decode cX2_smoothBack 226 = .ok (.ldc2_w 261, 3) := dk_20 1 5 (dk_at dksX2_smoothBack_9 15 rfl rfl)
theorem dX2_smoothBack_229 : decode cX2_smoothBack 229 = .ok (.invokestatic 219, 3) := dk_184 0 219 (dk_at dksX2_smoothBack_9 18 rfl rfl)
theorem dX2_smoothBack_232 : decode cX2_smoothBack 232 = .ok (.ladd, 1) := dk_97 (dk_at dksX2_smoothBack_9 21 rfl rfl)
theorem dX2_smoothBack_233 : decode cX2_smoothBack 233 = .ok (.putfield 255, 3) := dk_181 0 255 (dk_at dksX2_smoothBack_10 0 rfl rfl)
theorem dX2_smoothBack_236 : decode cX2_smoothBack 236 = .ok (.aload_n 0, 1) := dk_42 (dk_at dksX2_smoothBack_10 3 rfl rfl)
theorem dX2_smoothBack_237 : decode cX2_smoothBack 237 = .ok (.dup, 1) := dk_89 (dk_at dksX2_smoothBack_10 4 rfl rfl)
theorem dX2_smoothBack_238 : decode cX2_smoothBack 238 = .ok (.getfield 258, 3) := dk_180 1 2 (dk_at dksX2_smoothBack_10 5 rfl rfl)
theorem dX2_smoothBack_241 : decode cX2_smoothBack 241 = .ok (.lload 27, 2) := dk_22 27 (dk_at dksX2_smoothBack_10 8 rfl rfl)
theorem dX2_smoothBack_243 : decode cX2_smoothBack 243 = .ok (.lload 19, 2) := dk_22 19 (dk_at dksX2_smoothBack_10 10 rfl rfl)
theorem dX2_smoothBack_245 : decode cX2_smoothBack 245 = .ok (.lmul, 1) := dk_105 (dk_at dksX2_smoothBack_10 12 rfl rfl)
theorem dX2_smoothBack_246 : decode cX2_smoothBack 246 = .ok (.lload 29, 2) := dk_22 29 (dk_at dksX2_smoothBack_10 13 rfl rfl)
theorem dX2_smoothBack_248 : decode cX2_smoothBack 248 = .ok (.lload 21, 2) := dk_22 21 (dk_at dksX2_smoothBack_10 15 rfl rfl)
theorem dX2_smoothBack_250 : decode cX2_smoothBack 250 = .ok (.lmul, 1) := dk_105 (dk_at dksX2_smoothBack_10 17 rfl rfl)
theorem dX2_smoothBack_251 : decode cX2_smoothBack 251 = .ok (.ladd, 1) := dk_97 (dk_at dksX2_smoothBack_10 18 rfl rfl)
theorem dX2_smoothBack_252 : decode cX2_smoothBack 252 = .ok (.ldc2_w 261, 3) := dk_20 1 5 (dk_at dksX2_smoothBack_10 19 rfl rfl)
theorem dX2_smoothBack_255 : decode cX2_smoothBack 255 = .ok (.invokestatic 219, 3) := dk_184 0 219 (dk_at dksX2_smoothBack_11 0 rfl rfl)
theorem dX2_smoothBack_258 : decode cX2_smoothBack 258 = .ok (.ladd, 1) := dk_97 (dk_at dksX2_smoothBack_11 3 rfl rfl)
theorem dX2_smoothBack_259 : decode cX2_smoothBack 259 = .ok (.putfield 258, 3) := dk_181 1 2 (dk_at dksX2_smoothBack_11 4 rfl rfl)
theorem dX2_smoothBack_262 : decode cX2_smoothBack 262 = .ok (.return_, 1) := dk_177 (dk_at dksX2_smoothBack_11 7 rfl rfl)
abbrev cX2_smoothedSpeedAt : ByteArray := prog_9_method_53_code
def yX2_smoothedSpeedAt : MethodName := ⟨RX2, "smoothedSpeedAt", "(II)J"⟩
def dkwX2_smoothedSpeedAt_0 : List UInt8 := [42, 27, 28, 182, 0, 252, 154, 0, 5, 9, 173, 42, 27, 28, 182, 1, 10, 42, 180, 1, 2, 173]
abbrev dktX2_smoothedSpeedAt_0 : List UInt8 := dkwX2_smoothedSpeedAt_0 ++ []
theorem dksX2_smoothedSpeedAt_0 : cX2_smoothedSpeedAt.data.toList.drop 0 = dktX2_smoothedSpeedAt_0 := by decide +kernel
theorem dX2_smoothedSpeedAt_0 : decode cX2_smoothedSpeedAt 0 = .ok (.aload_n 0, 1) := dk_42 (dk_at dksX2_smoothedSpeedAt_0 0 rfl rfl)
theorem dX2_smoothedSpeedAt_1 : decode cX2_smoothedSpeedAt 1 = .ok (.iload_n 1, 1) := dk_27 (dk_at dksX2_smoothedSpeedAt_0 1 rfl rfl)
theorem dX2_smoothedSpeedAt_2 : decode cX2_smoothedSpeedAt 2 = .ok (.iload_n 2, 1) := dk_28 (dk_at dksX2_smoothedSpeedAt_0 2 rfl rfl)
theorem dX2_smoothedSpeedAt_3 : decode cX2_smoothedSpeedAt 3 = .ok (.invokevirtual 252, 3) := dk_182 0 252 (dk_at dksX2_smoothedSpeedAt_0 3 rfl rfl)
theorem dX2_smoothedSpeedAt_6 : decode cX2_smoothedSpeedAt 6 = .ok (.ifCond .ne 5, 3) := dk_154 0 5 (dk_at dksX2_smoothedSpeedAt_0 6 rfl rfl)
theorem dX2_smoothedSpeedAt_9 : decode cX2_smoothedSpeedAt 9 = .ok (.lconst 0, 1) := dk_9 (dk_at dksX2_smoothedSpeedAt_0 9 rfl rfl)
theorem dX2_smoothedSpeedAt_10 : decode cX2_smoothedSpeedAt 10 = .ok (.lreturn, 1) := dk_173 (dk_at dksX2_smoothedSpeedAt_0 10 rfl rfl)
theorem dX2_smoothedSpeedAt_11 : decode cX2_smoothedSpeedAt 11 = .ok (.aload_n 0, 1) := dk_42 (dk_at dksX2_smoothedSpeedAt_0 11 rfl rfl)
theorem dX2_smoothedSpeedAt_12 : decode cX2_smoothedSpeedAt 12 = .ok (.iload_n 1, 1) := dk_27 (dk_at dksX2_smoothedSpeedAt_0 12 rfl rfl)
theorem dX2_smoothedSpeedAt_13 : decode cX2_smoothedSpeedAt 13 = .ok (.iload_n 2, 1) := dk_28 (dk_at dksX2_smoothedSpeedAt_0 13 rfl rfl)
theorem dX2_smoothedSpeedAt_14 : decode cX2_smoothedSpeedAt 14 = .ok (.invokevirtual 266, 3) := dk_182 1 10 (dk_at dksX2_smoothedSpeedAt_0 14 rfl rfl)
theorem dX2_smoothedSpeedAt_17 : decode cX2_smoothedSpeedAt 17 = .ok (.aload_n 0, 1) := dk_42 (dk_at dksX2_smoothedSpeedAt_0 17 rfl rfl)
theorem dX2_smoothedSpeedAt_18 : decode cX2_smoothedSpeedAt 18 = .ok (.getfield 258, 3) := dk_180 1 2 (dk_at dksX2_smoothedSpeedAt_0 18 rfl rfl)
theorem dX2_smoothedSpeedAt_21 : decode cX2_smoothedSpeedAt 21 = .ok (.lreturn, 1) := dk_173 (dk_at dksX2_smoothedSpeedAt_0 21 rfl rfl)
abbrev cX2_bend : ByteArray := prog_9_method_54_code
def yX2_bend : MethodName := ⟨RX2, "bend", "(I)J"⟩
def dkwX2_bend_2 : List UInt8 := [27, 50, 21, 4, 50, 3, 47, 101, 184, 1, 13, 184, 0, 157, 65, 132, 4, 1, 167, 255, 211, 32, 173]
abbrev dktX2_bend_2 : List UInt8 := dkwX2_bend_2 ++ []
def dkwX2_bend_1 : List UInt8 := [180, 0, 55, 27, 46, 163, 0, 40, 42, 27, 21, 4, 182, 1, 10, 32, 42, 180, 0, 255, 42, 180, 0, 74]
abbrev dktX2_bend_1 : List UInt8 := dkwX2_bend_1 ++ dktX2_bend_2
def dkwX2_bend_0 : List UInt8 := [42, 27, 182, 0, 248, 154, 0, 5, 9, 173, 9, 65, 42, 180, 0, 52, 27, 46, 54, 4, 21, 4, 42]
abbrev dktX2_bend_0 : List UInt8 := dkwX2_bend_0 ++ dktX2_bend_1
theorem dksX2_bend_0 : cX2_bend.data.toList.drop 0 = dktX2_bend_0 := by decide +kernel
theorem dksX2_bend_1 : cX2_bend.data.toList.drop 23 = dktX2_bend_1 := dk_seg dksX2_bend_0 23 rfl rfl
theorem dksX2_bend_2 : cX2_bend.data.toList.drop 47 = dktX2_bend_2 := dk_seg dksX2_bend_1 24 rfl rfl
theorem dX2_bend_0 : decode cX2_bend 0 = .ok (.aload_n 0, 1) := dk_42 (dk_at dksX2_bend_0 0 rfl rfl)
theorem dX2_bend_1 : decode cX2_bend 1 = .ok (.iload_n 1, 1) := dk_27 (dk_at dksX2_bend_0 1 rfl rfl)
theorem dX2_bend_2 : decode cX2_bend 2 = .ok (.invokevirtual 248, 3) := dk_182 0 248 (dk_at dksX2_bend_0 2 rfl rfl)
theorem dX2_bend_5 : decode cX2_bend 5 = .ok (.ifCond .ne 5, 3) := dk_154 0 5 (dk_at dksX2_bend_0 5 rfl rfl)
theorem dX2_bend_8 : decode cX2_bend 8 = .ok (.lconst 0, 1) := dk_9 (dk_at dksX2_bend_0 8 rfl rfl)
theorem dX2_bend_9 : decode cX2_bend 9 = .ok (.lreturn, 1) := dk_173 (dk_at dksX2_bend_0 9 rfl rfl)
theorem dX2_bend_10 : decode cX2_bend 10 = .ok (.lconst 0, 1) := dk_9 (dk_at dksX2_bend_0 10 rfl rfl)
theorem dX2_bend_11 : decode cX2_bend 11 = .ok (.lstore_n 2, 1) := dk_65 (dk_at dksX2_bend_0 11 rfl rfl)
theorem dX2_bend_12 : decode cX2_bend 12 = .ok (.aload_n 0, 1) := dk_42 (dk_at dksX2_bend_0 12 rfl rfl)
theorem dX2_bend_13 : decode cX2_bend 13 = .ok (.getfield 52, 3) := dk_180 0 52 (dk_at dksX2_bend_0 13 rfl rfl)
theorem dX2_bend_16 : decode cX2_bend 16 = .ok (.iload_n 1, 1) := dk_27 (dk_at dksX2_bend_0 16 rfl rfl)
theorem dX2_bend_17 : decode cX2_bend 17 = .ok (.iaload, 1) := dk_46 (dk_at dksX2_bend_0 17 rfl rfl)
theorem dX2_bend_18 : decode cX2_bend 18 = .ok (.istore 4, 2) := dk_54 4 (dk_at dksX2_bend_0 18 rfl rfl)
theorem dX2_bend_20 : decode cX2_bend 20 = .ok (.iload 4, 2) := dk_21 4 (dk_at dksX2_bend_0 20 rfl rfl)
theorem dX2_bend_22 : decode cX2_bend 22 = .ok (.aload_n 0, 1) := dk_42 (dk_at dksX2_bend_0 22 rfl rfl)
theorem dX2_bend_23 : decode cX2_bend 23 = .ok (.getfield 55, 3) := dk_180 0 55 (dk_at dksX2_bend_1 0 rfl rfl)
theorem dX2_bend_26 : decode cX2_bend 26 = .ok (.iload_n 1, 1) := dk_27 (dk_at dksX2_bend_1 3 rfl rfl)
theorem dX2_bend_27 : decode cX2_bend 27 = .ok (.iaload, 1) := dk_46 (dk_at dksX2_bend_1 4 rfl rfl)
theorem dX2_bend_28 : decode cX2_bend 28 = .ok (.if_icmp .gt 40, 3) := dk_163 0 40 (dk_at dksX2_bend_1 5 rfl rfl)
theorem dX2_bend_31 : decode cX2_bend 31 = .ok (.aload_n 0, 1) := dk_42 (dk_at dksX2_bend_1 8 rfl rfl)
theorem dX2_bend_32 : decode cX2_bend 32 = .ok (.iload_n 1, 1) := dk_27 (dk_at dksX2_bend_1 9 rfl rfl)
theorem dX2_bend_33 : decode cX2_bend 33 = .ok (.iload 4, 2) := dk_21 4 (dk_at dksX2_bend_1 10 rfl rfl)
theorem dX2_bend_35 : decode cX2_bend 35 = .ok (.invokevirtual 266, 3) := dk_182 1 10 (dk_at dksX2_bend_1 12 rfl rfl)
theorem dX2_bend_38 : decode cX2_bend 38 = .ok (.lload_n 2, 1) := dk_32 (dk_at dksX2_bend_1 15 rfl rfl)
theorem dX2_bend_39 : decode cX2_bend 39 = .ok (.aload_n 0, 1) := dk_42 (dk_at dksX2_bend_1 16 rfl rfl)
theorem dX2_bend_40 : decode cX2_bend 40 = .ok (.getfield 255, 3) := dk_180 0 255 (dk_at dksX2_bend_1 17 rfl rfl)
theorem dX2_bend_43 : decode cX2_bend 43 = .ok (.aload_n 0, 1) := dk_42 (dk_at dksX2_bend_1 20 rfl rfl)
theorem dX2_bend_44 : decode cX2_bend 44 = .ok (.getfield 74, 3) := dk_180 0 74 (dk_at dksX2_bend_1 21 rfl rfl)
theorem dX2_bend_47 : decode cX2_bend 47 = .ok (.iload_n 1, 1) := dk_27 (dk_at dksX2_bend_2 0 rfl rfl)
theorem dX2_bend_48 : decode cX2_bend 48 = .ok (.aaload, 1) := dk_50 (dk_at dksX2_bend_2 1 rfl rfl)
theorem dX2_bend_49 : decode cX2_bend 49 = .ok (.iload 4, 2) := dk_21 4 (dk_at dksX2_bend_2 2 rfl rfl)
theorem dX2_bend_51 : decode cX2_bend 51 = .ok (.aaload, 1) := dk_50 (dk_at dksX2_bend_2 4 rfl rfl)
theorem dX2_bend_52 : decode cX2_bend 52 = .ok (.iconst 0, 1) := dk_3 (dk_at dksX2_bend_2 5 rfl rfl)
theorem dX2_bend_53 : decode cX2_bend 53 = .ok (.laload, 1) := dk_47 (dk_at dksX2_bend_2 6 rfl rfl)
theorem dX2_bend_54 : decode cX2_bend 54 = .ok (.lsub, 1) := dk_101 (dk_at dksX2_bend_2 7 rfl rfl)
theorem dX2_bend_55 : decode cX2_bend 55 = .ok (.invokestatic 269, 3) := dk_184 1 13 (dk_at dksX2_bend_2 8 rfl rfl)
theorem dX2_bend_58 : decode cX2_bend 58 = .ok (.invokestatic 157, 3) := dk_184 0 157 (dk_at dksX2_bend_2 11 rfl rfl)
theorem dX2_bend_61 : decode cX2_bend 61 = .ok (.lstore_n 2, 1) := dk_65 (dk_at dksX2_bend_2 14 rfl rfl)
theorem dX2_bend_62 : decode cX2_bend 62 = .ok (.iinc 4 1, 3) := dk_132 4 1 (dk_at dksX2_bend_2 15 rfl rfl)
theorem dX2_bend_65 : decode cX2_bend 65 = .ok (.goto (-45), 3) := dk_167 255 211 (dk_at dksX2_bend_2 18 rfl rfl)
theorem dX2_bend_68 : decode cX2_bend 68 = .ok (.lload_n 2, 1) := dk_32 (dk_at dksX2_bend_2 21 rfl rfl)
theorem dX2_bend_69 : decode cX2_bend 69 = .ok (.lreturn, 1) := dk_173 (dk_at dksX2_bend_2 22 rfl rfl)
abbrev cX2_fittedPlace : ByteArray := prog_9_method_58_code
def yX2_fittedPlace : MethodName := ⟨RX2, "fittedPlace", "(I)J"⟩
def dkwX2_fittedPlace_0 : List UInt8 := [42, 27, 182, 0, 248, 153, 0, 11, 42, 27, 182, 1, 24, 167, 0, 4, 9, 173]
abbrev dktX2_fittedPlace_0 : List UInt8 := dkwX2_fittedPlace_0 ++ []
theorem dksX2_fittedPlace_0 : cX2_fittedPlace.data.toList.drop 0 = dktX2_fittedPlace_0 := by decide +kernel
theorem dX2_fittedPlace_0 : decode cX2_fittedPlace 0 = .ok (.aload_n 0, 1) := dk_42 (dk_at dksX2_fittedPlace_0 0 rfl rfl)
theorem dX2_fittedPlace_1 : decode cX2_fittedPlace 1 = .ok (.iload_n 1, 1) := dk_27 (dk_at dksX2_fittedPlace_0 1 rfl rfl)
theorem dX2_fittedPlace_2 : decode cX2_fittedPlace 2 = .ok (.invokevirtual 248, 3) := dk_182 0 248 (dk_at dksX2_fittedPlace_0 2 rfl rfl)
theorem dX2_fittedPlace_5 : decode cX2_fittedPlace 5 = .ok (.ifCond .eq 11, 3) := dk_153 0 11 (dk_at dksX2_fittedPlace_0 5 rfl rfl)
theorem dX2_fittedPlace_8 : decode cX2_fittedPlace 8 = .ok (.aload_n 0, 1) := dk_42 (dk_at dksX2_fittedPlace_0 8 rfl rfl)
theorem dX2_fittedPlace_9 : decode cX2_fittedPlace 9 = .ok (.iload_n 1, 1) := dk_27 (dk_at dksX2_fittedPlace_0 9 rfl rfl)
theorem dX2_fittedPlace_10 : decode cX2_fittedPlace 10 = .ok (.invokevirtual 280, 3) := dk_182 1 24 (dk_at dksX2_fittedPlace_0 10 rfl rfl)
theorem dX2_fittedPlace_13 : decode cX2_fittedPlace 13 = .ok (.goto 4, 3) := dk_167 0 4 (dk_at dksX2_fittedPlace_0 13 rfl rfl)
theorem dX2_fittedPlace_16 : decode cX2_fittedPlace 16 = .ok (.lconst 0, 1) := dk_9 (dk_at dksX2_fittedPlace_0 16 rfl rfl)
theorem dX2_fittedPlace_17 : decode cX2_fittedPlace 17 = .ok (.lreturn, 1) := dk_173 (dk_at dksX2_fittedPlace_0 17 rfl rfl)
abbrev cX2_placeBy : ByteArray := prog_9_method_57_code
def yX2_placeBy : MethodName := ⟨RX2, "placeBy", "(I)J"⟩
def dkwX2_placeBy_3 : List UInt8 := [180, 0, 80, 27, 47, 184, 0, 219, 173]
abbrev dktX2_placeBy_3 : List UInt8 := dkwX2_placeBy_3 ++ []
def dkwX2_placeBy_2 : List UInt8 := [180, 0, 55, 27, 46, 133, 105, 42, 180, 0, 84, 27, 47, 101, 42, 27, 182, 1, 21, 105, 97, 42]
abbrev dktX2_placeBy_2 : List UInt8 := dkwX2_placeBy_2 ++ dktX2_placeBy_3
def dkwX2_placeBy_1 : List UInt8 := [27, 47, 184, 0, 219, 173, 42, 180, 0, 90, 27, 47, 20, 0, 182, 105, 42, 180, 0, 80, 27, 47, 42]
abbrev dktX2_placeBy_1 : List UInt8 := dkwX2_placeBy_1 ++ dktX2_placeBy_2
def dkwX2_placeBy_0 : List UInt8 := [42, 27, 182, 1, 17, 9, 148, 154, 0, 23, 42, 180, 0, 90, 27, 47, 20, 0, 182, 105, 42, 180, 0, 80]
abbrev dktX2_placeBy_0 : List UInt8 := dkwX2_placeBy_0 ++ dktX2_placeBy_1
theorem dksX2_placeBy_0 : cX2_placeBy.data.toList.drop 0 = dktX2_placeBy_0 := by decide +kernel
theorem dksX2_placeBy_1 : cX2_placeBy.data.toList.drop 24 = dktX2_placeBy_1 := dk_seg dksX2_placeBy_0 24 rfl rfl
theorem dksX2_placeBy_2 : cX2_placeBy.data.toList.drop 47 = dktX2_placeBy_2 := dk_seg dksX2_placeBy_1 23 rfl rfl
theorem dksX2_placeBy_3 : cX2_placeBy.data.toList.drop 69 = dktX2_placeBy_3 := dk_seg dksX2_placeBy_2 22 rfl rfl
theorem dX2_placeBy_0 : decode cX2_placeBy 0 = .ok (.aload_n 0, 1) := dk_42 (dk_at dksX2_placeBy_0 0 rfl rfl)
theorem dX2_placeBy_1 : decode cX2_placeBy 1 = .ok (.iload_n 1, 1) := dk_27 (dk_at dksX2_placeBy_0 1 rfl rfl)
theorem dX2_placeBy_2 : decode cX2_placeBy 2 = .ok (.invokevirtual 273, 3) := dk_182 1 17 (dk_at dksX2_placeBy_0 2 rfl rfl)
theorem dX2_placeBy_5 : decode cX2_placeBy 5 = .ok (.lconst 0, 1) := dk_9 (dk_at dksX2_placeBy_0 5 rfl rfl)
theorem dX2_placeBy_6 : decode cX2_placeBy 6 = .ok (.lcmp, 1) := dk_148 (dk_at dksX2_placeBy_0 6 rfl rfl)
theorem dX2_placeBy_7 : decode cX2_placeBy 7 = .ok (.ifCond .ne 23, 3) := dk_154 0 23 (dk_at dksX2_placeBy_0 7 rfl rfl)
theorem dX2_placeBy_10 : decode cX2_placeBy 10 = .ok (.aload_n 0, 1) := dk_42 (dk_at dksX2_placeBy_0 10 rfl rfl)
theorem dX2_placeBy_11 : decode cX2_placeBy 11 = .ok (.getfield 90, 3) := dk_180 0 90 (dk_at dksX2_placeBy_0 11 rfl rfl)
theorem dX2_placeBy_14 : decode cX2_placeBy 14 = .ok (.iload_n 1, 1) := dk_27 (dk_at dksX2_placeBy_0 14 rfl rfl)
theorem dX2_placeBy_15 : decode cX2_placeBy 15 = .ok (.laload, 1) := dk_47 (dk_at dksX2_placeBy_0 15 rfl rfl)
theorem dX2_placeBy_16 : decode cX2_placeBy 16 = .ok (.ldc2_w 182, 3) := dk_20 0 182 (dk_at dksX2_placeBy_0 16 rfl rfl)
theorem dX2_placeBy_19 : decode cX2_placeBy 19 = .ok (.lmul, 1) := dk_105 (dk_at dksX2_placeBy_0 19 rfl rfl)
theorem dX2_placeBy_20 : decode cX2_placeBy 20 = .ok (.aload_n 0, 1) := dk_42 (dk_at dksX2_placeBy_0 20 rfl rfl)
theorem dX2_placeBy_21 : decode cX2_placeBy 21 = .ok (.getfield 80, 3) := dk_180 0 80 (dk_at dksX2_placeBy_0 21 rfl rfl)
theorem dX2_placeBy_24 : decode cX2_placeBy 24 = .ok (.iload_n 1, 1) := dk_27 (dk_at dksX2_placeBy_1 0 rfl rfl)
theorem dX2_placeBy_25 : decode cX2_placeBy 25 = .ok (.laload, 1) := dk_47 (dk_at dksX2_placeBy_1 1 rfl rfl)
theorem dX2_placeBy_26 : decode cX2_placeBy 26 = .ok (.invokestatic 219, 3) := dk_184 0 219 (dk_at dksX2_placeBy_1 2 rfl rfl)
theorem dX2_placeBy_29 : decode cX2_placeBy 29 = .ok (.lreturn, 1) := dk_173 (dk_at dksX2_placeBy_1 5 rfl rfl)
theorem dX2_placeBy_30 : decode cX2_placeBy 30 = .ok (.aload_n 0, 1) := dk_42 (dk_at dksX2_placeBy_1 6 rfl rfl)
theorem dX2_placeBy_31 : decode cX2_placeBy 31 = .ok (.getfield 90, 3) := dk_180 0 90 (dk_at dksX2_placeBy_1 7 rfl rfl)
theorem dX2_placeBy_34 : decode cX2_placeBy 34 = .ok (.iload_n 1, 1) := dk_27 (dk_at dksX2_placeBy_1 10 rfl rfl)
theorem dX2_placeBy_35 : decode cX2_placeBy 35 = .ok (.laload, 1) := dk_47 (dk_at dksX2_placeBy_1 11 rfl rfl)
theorem dX2_placeBy_36 : decode cX2_placeBy 36 = .ok (.ldc2_w 182, 3) := dk_20 0 182 (dk_at dksX2_placeBy_1 12 rfl rfl)
theorem dX2_placeBy_39 : decode cX2_placeBy 39 = .ok (.lmul, 1) := dk_105 (dk_at dksX2_placeBy_1 15 rfl rfl)
theorem dX2_placeBy_40 : decode cX2_placeBy 40 = .ok (.aload_n 0, 1) := dk_42 (dk_at dksX2_placeBy_1 16 rfl rfl)
theorem dX2_placeBy_41 : decode cX2_placeBy 41 = .ok (.getfield 80, 3) := dk_180 0 80 (dk_at dksX2_placeBy_1 17 rfl rfl)
theorem dX2_placeBy_44 : decode cX2_placeBy 44 = .ok (.iload_n 1, 1) := dk_27 (dk_at dksX2_placeBy_1 20 rfl rfl)
theorem dX2_placeBy_45 : decode cX2_placeBy 45 = .ok (.laload, 1) := dk_47 (dk_at dksX2_placeBy_1 21 rfl rfl)
theorem dX2_placeBy_46 : decode cX2_placeBy 46 = .ok (.aload_n 0, 1) := dk_42 (dk_at dksX2_placeBy_1 22 rfl rfl)
theorem dX2_placeBy_47 : decode cX2_placeBy 47 = .ok (.getfield 55, 3) := dk_180 0 55 (dk_at dksX2_placeBy_2 0 rfl rfl)
theorem dX2_placeBy_50 : decode cX2_placeBy 50 = .ok (.iload_n 1, 1) := dk_27 (dk_at dksX2_placeBy_2 3 rfl rfl)
theorem dX2_placeBy_51 : decode cX2_placeBy 51 = .ok (.iaload, 1) := dk_46 (dk_at dksX2_placeBy_2 4 rfl rfl)
theorem dX2_placeBy_52 : decode cX2_placeBy 52 = .ok (.i2l, 1) := dk_133 (dk_at dksX2_placeBy_2 5 rfl rfl)
theorem dX2_placeBy_53 : decode cX2_placeBy 53 = .ok (.lmul, 1) := dk_105 (dk_at dksX2_placeBy_2 6 rfl rfl)
theorem dX2_placeBy_54 : decode cX2_placeBy 54 = .ok (.aload_n 0, 1) := dk_42 (dk_at dksX2_placeBy_2 7 rfl rfl)
theorem dX2_placeBy_55 : decode cX2_placeBy 55 = .ok (.getfield 84, 3) := dk_180 0 84 (dk_at dksX2_placeBy_2 8 rfl rfl)
theorem dX2_placeBy_58 : decode cX2_placeBy 58 = .ok (.iload_n 1, 1) := dk_27 (dk_at dksX2_placeBy_2 11 rfl rfl)
theorem dX2_placeBy_59 : decode cX2_placeBy 59 = .ok (.laload, 1) := dk_47 (dk_at dksX2_placeBy_2 12 rfl rfl)
theorem dX2_placeBy_60 : decode cX2_placeBy 60 = .ok (.lsub, 1) := dk_101 (dk_at dksX2_placeBy_2 13 rfl rfl)
theorem dX2_placeBy_61 : decode cX2_placeBy 61 = .ok (.aload_n 0, 1) := dk_42 (dk_at dksX2_placeBy_2 14 rfl rfl)
theorem dX2_placeBy_62 : decode cX2_placeBy 62 = .ok (.iload_n 1, 1) := dk_27 (dk_at dksX2_placeBy_2 15 rfl rfl)
theorem dX2_placeBy_63 : decode cX2_placeBy 63 = .ok (.invokevirtual 277, 3) := dk_182 1 21 (dk_at dksX2_placeBy_2 16 rfl rfl)
theorem dX2_placeBy_66 : decode cX2_placeBy 66 = .ok (.lmul, 1) := dk_105 (dk_at dksX2_placeBy_2 19 rfl rfl)
theorem dX2_placeBy_67 : decode cX2_placeBy 67 = .ok (.ladd, 1) := dk_97 (dk_at dksX2_placeBy_2 20 rfl rfl)
theorem dX2_placeBy_68 : decode cX2_placeBy 68 = .ok (.aload_n 0, 1) := dk_42 (dk_at dksX2_placeBy_2 21 rfl rfl)
theorem dX2_placeBy_69 : decode cX2_placeBy 69 = .ok (.getfield 80, 3) := dk_180 0 80 (dk_at dksX2_placeBy_3 0 rfl rfl)
theorem dX2_placeBy_72 : decode cX2_placeBy 72 = .ok (.iload_n 1, 1) := dk_27 (dk_at dksX2_placeBy_3 3 rfl rfl)
theorem dX2_placeBy_73 : decode cX2_placeBy 73 = .ok (.laload, 1) := dk_47 (dk_at dksX2_placeBy_3 4 rfl rfl)
theorem dX2_placeBy_74 : decode cX2_placeBy 74 = .ok (.invokestatic 219, 3) := dk_184 0 219 (dk_at dksX2_placeBy_3 5 rfl rfl)
theorem dX2_placeBy_77 : decode cX2_placeBy 77 = .ok (.lreturn, 1) := dk_173 (dk_at dksX2_placeBy_3 8 rfl rfl)
abbrev cX2_under : ByteArray := prog_9_method_55_code
def yX2_under : MethodName := ⟨RX2, "under", "(I)J"⟩
def dkwX2_under_1 : List UInt8 := [47, 105, 101, 173]
abbrev dktX2_under_1 : List UInt8 := dkwX2_under_1 ++ []
def dkwX2_under_0 : List UInt8 := [42, 180, 0, 80, 27, 47, 42, 180, 0, 87, 27, 47, 105, 42, 180, 0, 84, 27, 47, 42, 180, 0, 84, 27]
abbrev dktX2_under_0 : List UInt8 := dkwX2_under_0 ++ dktX2_under_1
theorem dksX2_under_0 : cX2_under.data.toList.drop 0 = dktX2_under_0 := by decide +kernel
theorem dksX2_under_1 : cX2_under.data.toList.drop 24 = dktX2_under_1 := dk_seg dksX2_under_0 24 rfl rfl
theorem dX2_under_0 : decode cX2_under 0 = .ok (.aload_n 0, 1) := dk_42 (dk_at dksX2_under_0 0 rfl rfl)
theorem dX2_under_1 : decode cX2_under 1 = .ok (.getfield 80, 3) := dk_180 0 80 (dk_at dksX2_under_0 1 rfl rfl)
theorem dX2_under_4 : decode cX2_under 4 = .ok (.iload_n 1, 1) := dk_27 (dk_at dksX2_under_0 4 rfl rfl)
theorem dX2_under_5 : decode cX2_under 5 = .ok (.laload, 1) := dk_47 (dk_at dksX2_under_0 5 rfl rfl)
theorem dX2_under_6 : decode cX2_under 6 = .ok (.aload_n 0, 1) := dk_42 (dk_at dksX2_under_0 6 rfl rfl)
theorem dX2_under_7 : decode cX2_under 7 = .ok (.getfield 87, 3) := dk_180 0 87 (dk_at dksX2_under_0 7 rfl rfl)
theorem dX2_under_10 : decode cX2_under 10 = .ok (.iload_n 1, 1) := dk_27 (dk_at dksX2_under_0 10 rfl rfl)
theorem dX2_under_11 : decode cX2_under 11 = .ok (.laload, 1) := dk_47 (dk_at dksX2_under_0 11 rfl rfl)
theorem dX2_under_12 : decode cX2_under 12 = .ok (.lmul, 1) := dk_105 (dk_at dksX2_under_0 12 rfl rfl)
theorem dX2_under_13 : decode cX2_under 13 = .ok (.aload_n 0, 1) := dk_42 (dk_at dksX2_under_0 13 rfl rfl)
theorem dX2_under_14 : decode cX2_under 14 = .ok (.getfield 84, 3) := dk_180 0 84 (dk_at dksX2_under_0 14 rfl rfl)
theorem dX2_under_17 : decode cX2_under 17 = .ok (.iload_n 1, 1) := dk_27 (dk_at dksX2_under_0 17 rfl rfl)
theorem dX2_under_18 : decode cX2_under 18 = .ok (.laload, 1) := dk_47 (dk_at dksX2_under_0 18 rfl rfl)
theorem dX2_under_19 : decode cX2_under 19 = .ok (.aload_n 0, 1) := dk_42 (dk_at dksX2_under_0 19 rfl rfl)
theorem dX2_under_20 : decode cX2_under 20 = .ok (.getfield 84, 3) := dk_180 0 84 (dk_at dksX2_under_0 20 rfl rfl)
theorem dX2_under_23 : decode cX2_under 23 = .ok (.iload_n 1, 1) := dk_27 (dk_at dksX2_under_0 23 rfl rfl)
theorem dX2_under_24 : decode cX2_under 24 = .ok (.laload, 1) := dk_47 (dk_at dksX2_under_1 0 rfl rfl)
theorem dX2_under_25 : decode cX2_under 25 = .ok (.lmul, 1) := dk_105 (dk_at dksX2_under_1 1 rfl rfl)
theorem dX2_under_26 : decode cX2_under 26 = .ok (.lsub, 1) := dk_101 (dk_at dksX2_under_1 2 rfl rfl)
theorem dX2_under_27 : decode cX2_under 27 = .ok (.lreturn, 1) := dk_173 (dk_at dksX2_under_1 3 rfl rfl)
abbrev cX2_speedBy : ByteArray := prog_9_method_56_code
def yX2_speedBy : MethodName := ⟨RX2, "speedBy", "(I)J"⟩
def dkwX2_speedBy_2 : List UInt8 := [32, 184, 0, 219, 173]
abbrev dktX2_speedBy_2 : List UInt8 := dkwX2_speedBy_2 ++ []
def dkwX2_speedBy_1 : List UInt8 := [180, 0, 93, 27, 47, 105, 42, 180, 0, 84, 27, 47, 42, 180, 0, 90, 27, 47, 105, 101, 20, 0, 182, 105]
abbrev dktX2_speedBy_1 : List UInt8 := dkwX2_speedBy_1 ++ dktX2_speedBy_2
def dkwX2_speedBy_0 : List UInt8 := [42, 27, 182, 1, 17, 65, 32, 9, 148, 154, 0, 7, 9, 167, 0, 38, 42, 180, 0, 80, 27, 47, 42]
abbrev dktX2_speedBy_0 : List UInt8 := dkwX2_speedBy_0 ++ dktX2_speedBy_1
theorem dksX2_speedBy_0 : cX2_speedBy.data.toList.drop 0 = dktX2_speedBy_0 := by decide +kernel
theorem dksX2_speedBy_1 : cX2_speedBy.data.toList.drop 23 = dktX2_speedBy_1 := dk_seg dksX2_speedBy_0 23 rfl rfl
theorem dksX2_speedBy_2 : cX2_speedBy.data.toList.drop 47 = dktX2_speedBy_2 := dk_seg dksX2_speedBy_1 24 rfl rfl
theorem dX2_speedBy_0 : decode cX2_speedBy 0 = .ok (.aload_n 0, 1) := dk_42 (dk_at dksX2_speedBy_0 0 rfl rfl)
theorem dX2_speedBy_1 : decode cX2_speedBy 1 = .ok (.iload_n 1, 1) := dk_27 (dk_at dksX2_speedBy_0 1 rfl rfl)
theorem dX2_speedBy_2 : decode cX2_speedBy 2 = .ok (.invokevirtual 273, 3) := dk_182 1 17 (dk_at dksX2_speedBy_0 2 rfl rfl)
theorem dX2_speedBy_5 : decode cX2_speedBy 5 = .ok (.lstore_n 2, 1) := dk_65 (dk_at dksX2_speedBy_0 5 rfl rfl)
theorem dX2_speedBy_6 : decode cX2_speedBy 6 = .ok (.lload_n 2, 1) := dk_32 (dk_at dksX2_speedBy_0 6 rfl rfl)
theorem dX2_speedBy_7 : decode cX2_speedBy 7 = .ok (.lconst 0, 1) := dk_9 (dk_at dksX2_speedBy_0 7 rfl rfl)
theorem dX2_speedBy_8 : decode cX2_speedBy 8 = .ok (.lcmp, 1) := dk_148 (dk_at dksX2_speedBy_0 8 rfl rfl)
theorem dX2_speedBy_9 : decode cX2_speedBy 9 = .ok (.ifCond .ne 7, 3) := dk_154 0 7 (dk_at dksX2_speedBy_0 9 rfl rfl)
theorem dX2_speedBy_12 : decode cX2_speedBy 12 = .ok (.lconst 0, 1) := dk_9 (dk_at dksX2_speedBy_0 12 rfl rfl)
theorem dX2_speedBy_13 : decode cX2_speedBy 13 = .ok (.goto 38, 3) := dk_167 0 38 (dk_at dksX2_speedBy_0 13 rfl rfl)
theorem dX2_speedBy_16 : decode cX2_speedBy 16 = .ok (.aload_n 0, 1) := dk_42 (dk_at dksX2_speedBy_0 16 rfl rfl)
theorem dX2_speedBy_17 : decode cX2_speedBy 17 = .ok (.getfield 80, 3) := dk_180 0 80 (dk_at dksX2_speedBy_0 17 rfl rfl)
theorem dX2_speedBy_20 : decode cX2_speedBy 20 = .ok (.iload_n 1, 1) := dk_27 (dk_at dksX2_speedBy_0 20 rfl rfl)
theorem dX2_speedBy_21 : decode cX2_speedBy 21 = .ok (.laload, 1) := dk_47 (dk_at dksX2_speedBy_0 21 rfl rfl)
theorem dX2_speedBy_22 : decode cX2_speedBy 22 = .ok (.aload_n 0, 1) := dk_42 (dk_at dksX2_speedBy_0 22 rfl rfl)
theorem dX2_speedBy_23 : decode cX2_speedBy 23 = .ok (.getfield 93, 3) := dk_180 0 93 (dk_at dksX2_speedBy_1 0 rfl rfl)
theorem dX2_speedBy_26 : decode cX2_speedBy 26 = .ok (.iload_n 1, 1) := dk_27 (dk_at dksX2_speedBy_1 3 rfl rfl)
theorem dX2_speedBy_27 : decode cX2_speedBy 27 = .ok (.laload, 1) := dk_47 (dk_at dksX2_speedBy_1 4 rfl rfl)
theorem dX2_speedBy_28 : decode cX2_speedBy 28 = .ok (.lmul, 1) := dk_105 (dk_at dksX2_speedBy_1 5 rfl rfl)
theorem dX2_speedBy_29 : decode cX2_speedBy 29 = .ok (.aload_n 0, 1) := dk_42 (dk_at dksX2_speedBy_1 6 rfl rfl)
theorem dX2_speedBy_30 : decode cX2_speedBy 30 = .ok (.getfield 84, 3) := dk_180 0 84 (dk_at dksX2_speedBy_1 7 rfl rfl)
theorem dX2_speedBy_33 : decode cX2_speedBy 33 = .ok (.iload_n 1, 1) := dk_27 (dk_at dksX2_speedBy_1 10 rfl rfl)
theorem dX2_speedBy_34 : decode cX2_speedBy 34 = .ok (.laload, 1) := dk_47 (dk_at dksX2_speedBy_1 11 rfl rfl)
theorem dX2_speedBy_35 : decode cX2_speedBy 35 = .ok (.aload_n 0, 1) := dk_42 (dk_at dksX2_speedBy_1 12 rfl rfl)
theorem dX2_speedBy_36 : decode cX2_speedBy 36 = .ok (.getfield 90, 3) := dk_180 0 90 (dk_at dksX2_speedBy_1 13 rfl rfl)
theorem dX2_speedBy_39 : decode cX2_speedBy 39 = .ok (.iload_n 1, 1) := dk_27 (dk_at dksX2_speedBy_1 16 rfl rfl)
theorem dX2_speedBy_40 : decode cX2_speedBy 40 = .ok (.laload, 1) := dk_47 (dk_at dksX2_speedBy_1 17 rfl rfl)
theorem dX2_speedBy_41 : decode cX2_speedBy 41 = .ok (.lmul, 1) := dk_105 (dk_at dksX2_speedBy_1 18 rfl rfl)
theorem dX2_speedBy_42 : decode cX2_speedBy 42 = .ok (.lsub, 1) := dk_101 (dk_at dksX2_speedBy_1 19 rfl rfl)
theorem dX2_speedBy_43 : decode cX2_speedBy 43 = .ok (.ldc2_w 182, 3) := dk_20 0 182 (dk_at dksX2_speedBy_1 20 rfl rfl)
theorem dX2_speedBy_46 : decode cX2_speedBy 46 = .ok (.lmul, 1) := dk_105 (dk_at dksX2_speedBy_1 23 rfl rfl)
theorem dX2_speedBy_47 : decode cX2_speedBy 47 = .ok (.lload_n 2, 1) := dk_32 (dk_at dksX2_speedBy_2 0 rfl rfl)
theorem dX2_speedBy_48 : decode cX2_speedBy 48 = .ok (.invokestatic 219, 3) := dk_184 0 219 (dk_at dksX2_speedBy_2 1 rfl rfl)
theorem dX2_speedBy_51 : decode cX2_speedBy 51 = .ok (.lreturn, 1) := dk_173 (dk_at dksX2_speedBy_2 4 rfl rfl)
abbrev cX2_fittedSpeed : ByteArray := prog_9_method_59_code
def yX2_fittedSpeed : MethodName := ⟨RX2, "fittedSpeed", "(I)J"⟩
def dkwX2_fittedSpeed_0 : List UInt8 := [42, 27, 182, 0, 248, 153, 0, 11, 42, 27, 182, 1, 21, 167, 0, 4, 9, 173]
abbrev dktX2_fittedSpeed_0 : List UInt8 := dkwX2_fittedSpeed_0 ++ []
theorem dksX2_fittedSpeed_0 : cX2_fittedSpeed.data.toList.drop 0 = dktX2_fittedSpeed_0 := by decide +kernel
theorem dX2_fittedSpeed_0 : decode cX2_fittedSpeed 0 = .ok (.aload_n 0, 1) := dk_42 (dk_at dksX2_fittedSpeed_0 0 rfl rfl)
theorem dX2_fittedSpeed_1 : decode cX2_fittedSpeed 1 = .ok (.iload_n 1, 1) := dk_27 (dk_at dksX2_fittedSpeed_0 1 rfl rfl)
theorem dX2_fittedSpeed_2 : decode cX2_fittedSpeed 2 = .ok (.invokevirtual 248, 3) := dk_182 0 248 (dk_at dksX2_fittedSpeed_0 2 rfl rfl)
theorem dX2_fittedSpeed_5 : decode cX2_fittedSpeed 5 = .ok (.ifCond .eq 11, 3) := dk_153 0 11 (dk_at dksX2_fittedSpeed_0 5 rfl rfl)
theorem dX2_fittedSpeed_8 : decode cX2_fittedSpeed 8 = .ok (.aload_n 0, 1) := dk_42 (dk_at dksX2_fittedSpeed_0 8 rfl rfl)
theorem dX2_fittedSpeed_9 : decode cX2_fittedSpeed 9 = .ok (.iload_n 1, 1) := dk_27 (dk_at dksX2_fittedSpeed_0 9 rfl rfl)
theorem dX2_fittedSpeed_10 : decode cX2_fittedSpeed 10 = .ok (.invokevirtual 277, 3) := dk_182 1 21 (dk_at dksX2_fittedSpeed_0 10 rfl rfl)
theorem dX2_fittedSpeed_13 : decode cX2_fittedSpeed 13 = .ok (.goto 4, 3) := dk_167 0 4 (dk_at dksX2_fittedSpeed_0 13 rfl rfl)
theorem dX2_fittedSpeed_16 : decode cX2_fittedSpeed 16 = .ok (.lconst 0, 1) := dk_9 (dk_at dksX2_fittedSpeed_0 16 rfl rfl)
theorem dX2_fittedSpeed_17 : decode cX2_fittedSpeed 17 = .ok (.lreturn, 1) := dk_173 (dk_at dksX2_fittedSpeed_0 17 rfl rfl)
abbrev cX2_apart : ByteArray := prog_9_method_60_code
def yX2_apart : MethodName := ⟨RX2, "apart", "(I)J"⟩
def dkwX2_apart_1 : List UInt8 := [184, 1, 13, 167, 0, 4, 9, 173]
abbrev dktX2_apart_1 : List UInt8 := dkwX2_apart_1 ++ []
def dkwX2_apart_0 : List UInt8 := [42, 27, 182, 0, 248, 153, 0, 23, 42, 180, 0, 69, 27, 50, 3, 47, 42, 27, 182, 1, 24, 101]
abbrev dktX2_apart_0 : List UInt8 := dkwX2_apart_0 ++ dktX2_apart_1
theorem dksX2_apart_0 : cX2_apart.data.toList.drop 0 = dktX2_apart_0 := by decide +kernel
theorem dksX2_apart_1 : cX2_apart.data.toList.drop 22 = dktX2_apart_1 := dk_seg dksX2_apart_0 22 rfl rfl
theorem dX2_apart_0 : decode cX2_apart 0 = .ok (.aload_n 0, 1) := dk_42 (dk_at dksX2_apart_0 0 rfl rfl)
theorem dX2_apart_1 : decode cX2_apart 1 = .ok (.iload_n 1, 1) := dk_27 (dk_at dksX2_apart_0 1 rfl rfl)
theorem dX2_apart_2 : decode cX2_apart 2 = .ok (.invokevirtual 248, 3) := dk_182 0 248 (dk_at dksX2_apart_0 2 rfl rfl)
theorem dX2_apart_5 : decode cX2_apart 5 = .ok (.ifCond .eq 23, 3) := dk_153 0 23 (dk_at dksX2_apart_0 5 rfl rfl)
theorem dX2_apart_8 : decode cX2_apart 8 = .ok (.aload_n 0, 1) := dk_42 (dk_at dksX2_apart_0 8 rfl rfl)
theorem dX2_apart_9 : decode cX2_apart 9 = .ok (.getfield 69, 3) := dk_180 0 69 (dk_at dksX2_apart_0 9 rfl rfl)
theorem dX2_apart_12 : decode cX2_apart 12 = .ok (.iload_n 1, 1) := dk_27 (dk_at dksX2_apart_0 12 rfl rfl)
theorem dX2_apart_13 : decode cX2_apart 13 = .ok (.aaload, 1) := dk_50 (dk_at dksX2_apart_0 13 rfl rfl)
theorem dX2_apart_14 : decode cX2_apart 14 = .ok (.iconst 0, 1) := dk_3 (dk_at dksX2_apart_0 14 rfl rfl)
theorem dX2_apart_15 : decode cX2_apart 15 = .ok (.laload, 1) := dk_47 (dk_at dksX2_apart_0 15 rfl rfl)
theorem dX2_apart_16 : decode cX2_apart 16 = .ok (.aload_n 0, 1) := dk_42 (dk_at dksX2_apart_0 16 rfl rfl)
theorem dX2_apart_17 : decode cX2_apart 17 = .ok (.iload_n 1, 1) := dk_27 (dk_at dksX2_apart_0 17 rfl rfl)
theorem dX2_apart_18 : decode cX2_apart 18 = .ok (.invokevirtual 280, 3) := dk_182 1 24 (dk_at dksX2_apart_0 18 rfl rfl)
theorem dX2_apart_21 : decode cX2_apart 21 = .ok (.lsub, 1) := dk_101 (dk_at dksX2_apart_0 21 rfl rfl)
theorem dX2_apart_22 : decode cX2_apart 22 = .ok (.invokestatic 269, 3) := dk_184 1 13 (dk_at dksX2_apart_1 0 rfl rfl)
theorem dX2_apart_25 : decode cX2_apart 25 = .ok (.goto 4, 3) := dk_167 0 4 (dk_at dksX2_apart_1 3 rfl rfl)
theorem dX2_apart_28 : decode cX2_apart 28 = .ok (.lconst 0, 1) := dk_9 (dk_at dksX2_apart_1 6 rfl rfl)
theorem dX2_apart_29 : decode cX2_apart 29 = .ok (.lreturn, 1) := dk_173 (dk_at dksX2_apart_1 7 rfl rfl)
abbrev cX2_nearest : ByteArray := prog_9_method_61_code
def yX2_nearest : MethodName := ⟨RX2, "nearest", "(I)I"⟩
def dkwX2_nearest_6 : List UInt8 := [167, 0, 4, 3, 172]
abbrev dktX2_nearest_6 : List UInt8 := dkwX2_nearest_6 ++ []
def dkwX2_nearest_5 : List UInt8 := [167, 255, 160, 42, 28, 2, 159, 0, 7, 4, 167, 0, 4, 3, 5, 182, 0, 111, 153, 0, 7, 28]
abbrev dktX2_nearest_5 : List UInt8 := dkwX2_nearest_5 ++ dktX2_nearest_6
def dkwX2_nearest_4 : List UInt8 := [47, 20, 0, 182, 27, 133, 105, 101, 184, 1, 13, 148, 156, 0, 7, 29, 167, 0, 4, 28, 61, 132, 3, 1]
abbrev dktX2_nearest_4 : List UInt8 := dkwX2_nearest_4 ++ dktX2_nearest_5
def dkwX2_nearest_3 : List UInt8 := [184, 1, 13, 55, 5, 21, 4, 153, 0, 36, 28, 2, 159, 0, 27, 22, 5, 42, 180, 0, 69, 28, 50, 3]
abbrev dktX2_nearest_3 : List UInt8 := dkwX2_nearest_3 ++ dktX2_nearest_4
def dkwX2_nearest_2 : List UInt8 := [4, 167, 0, 4, 3, 54, 4, 42, 180, 0, 69, 29, 50, 3, 47, 20, 0, 182, 27, 133, 105, 101]
abbrev dktX2_nearest_2 : List UInt8 := dkwX2_nearest_2 ++ dktX2_nearest_3
def dkwX2_nearest_1 : List UInt8 := [180, 0, 130, 162, 0, 94, 42, 180, 0, 39, 29, 51, 153, 0, 16, 42, 180, 0, 43, 29, 51, 153, 0, 7]
abbrev dktX2_nearest_1 : List UInt8 := dkwX2_nearest_1 ++ dktX2_nearest_2
def dkwX2_nearest_0 : List UInt8 := [42, 27, 18, 149, 18, 150, 184, 0, 140, 182, 0, 144, 154, 0, 5, 3, 172, 2, 61, 3, 62, 29, 42]
abbrev dktX2_nearest_0 : List UInt8 := dkwX2_nearest_0 ++ dktX2_nearest_1
theorem dksX2_nearest_0 : cX2_nearest.data.toList.drop 0 = dktX2_nearest_0 := by decide +kernel
theorem dksX2_nearest_1 : cX2_nearest.data.toList.drop 23 = dktX2_nearest_1 := dk_seg dksX2_nearest_0 23 rfl rfl
theorem dksX2_nearest_2 : cX2_nearest.data.toList.drop 47 = dktX2_nearest_2 := dk_seg dksX2_nearest_1 24 rfl rfl
theorem dksX2_nearest_3 : cX2_nearest.data.toList.drop 69 = dktX2_nearest_3 := dk_seg dksX2_nearest_2 22 rfl rfl
theorem dksX2_nearest_4 : cX2_nearest.data.toList.drop 93 = dktX2_nearest_4 := dk_seg dksX2_nearest_3 24 rfl rfl
theorem dksX2_nearest_5 : cX2_nearest.data.toList.drop 117 = dktX2_nearest_5 := dk_seg dksX2_nearest_4 24 rfl rfl
theorem dksX2_nearest_6 : cX2_nearest.data.toList.drop 139 = dktX2_nearest_6 := dk_seg dksX2_nearest_5 22 rfl rfl
theorem dX2_nearest_0 : decode cX2_nearest 0 = .ok (.aload_n 0, 1) := dk_42 (dk_at dksX2_nearest_0 0 rfl rfl)
theorem dX2_nearest_1 : decode cX2_nearest 1 = .ok (.iload_n 1, 1) := dk_27 (dk_at dksX2_nearest_0 1 rfl rfl)
theorem dX2_nearest_2 : decode cX2_nearest 2 = .ok (.ldc 149, 2) := dk_18 149 (dk_at dksX2_nearest_0 2 rfl rfl)
theorem dX2_nearest_4 : decode cX2_nearest 4 = .ok (.ldc 150, 2) := dk_18 150 (dk_at dksX2_nearest_0 4 rfl rfl)
theorem dX2_nearest_6 : decode cX2_nearest 6 = .ok (.invokestatic 140, 3) := dk_184 0 140 (dk_at dksX2_nearest_0 6 rfl rfl)
theorem dX2_nearest_9 : decode cX2_nearest 9 = .ok (.invokevirtual 144, 3) := dk_182 0 144 (dk_at dksX2_nearest_0 9 rfl rfl)
theorem dX2_nearest_12 : decode cX2_nearest 12 = .ok (.ifCond .ne 5, 3) := dk_154 0 5 (dk_at dksX2_nearest_0 12 rfl rfl)
theorem dX2_nearest_15 : decode cX2_nearest 15 = .ok (.iconst 0, 1) := dk_3 (dk_at dksX2_nearest_0 15 rfl rfl)
theorem dX2_nearest_16 : decode cX2_nearest 16 = .ok (.ireturn, 1) := dk_172 (dk_at dksX2_nearest_0 16 rfl rfl)
theorem dX2_nearest_17 : decode cX2_nearest 17 = .ok (.iconst (-1), 1) := dk_2 (dk_at dksX2_nearest_0 17 rfl rfl)
theorem dX2_nearest_18 : decode cX2_nearest 18 = .ok (.istore_n 2, 1) := dk_61 (dk_at dksX2_nearest_0 18 rfl rfl)
theorem dX2_nearest_19 : decode cX2_nearest 19 = .ok (.iconst 0, 1) := dk_3 (dk_at dksX2_nearest_0 19 rfl rfl)
theorem dX2_nearest_20 : decode cX2_nearest 20 = .ok (.istore_n 3, 1) := dk_62 (dk_at dksX2_nearest_0 20 rfl rfl)
theorem dX2_nearest_21 : decode cX2_nearest 21 = .ok (.iload_n 3, 1) := dk_29 (dk_at dksX2_nearest_0 21 rfl rfl)
theorem dX2_nearest_22 : decode cX2_nearest 22 = .ok (.aload_n 0, 1) := dk_42 (dk_at dksX2_nearest_0 22 rfl rfl)
theorem dX2_nearest_23 : decode cX2_nearest 23 = .ok (.getfield 130, 3) := dk_180 0 130 (dk_at dksX2_nearest_1 0 rfl rfl)
theorem dX2_nearest_26 : decode cX2_nearest 26 = .ok (.if_icmp .ge 94, 3) := dk_162 0 94 (dk_at dksX2_nearest_1 3 rfl rfl)
theorem dX2_nearest_29 : decode cX2_nearest 29 = .ok (.aload_n 0, 1) := dk_42 (dk_at dksX2_nearest_1 6 rfl rfl)
theorem dX2_nearest_30 : decode cX2_nearest 30 = .ok (.getfield 39, 3) := dk_180 0 39 (dk_at dksX2_nearest_1 7 rfl rfl)
theorem dX2_nearest_33 : decode cX2_nearest 33 = .ok (.iload_n 3, 1) := dk_29 (dk_at dksX2_nearest_1 10 rfl rfl)
theorem dX2_nearest_34 : decode cX2_nearest 34 = .ok (.baload, 1) := dk_51 (dk_at dksX2_nearest_1 11 rfl rfl)
theorem dX2_nearest_35 : decode cX2_nearest 35 = .ok (.ifCond .eq 16, 3) := dk_153 0 16 (dk_at dksX2_nearest_1 12 rfl rfl)
theorem dX2_nearest_38 : decode cX2_nearest 38 = .ok (.aload_n 0, 1) := dk_42 (dk_at dksX2_nearest_1 15 rfl rfl)
theorem dX2_nearest_39 : decode cX2_nearest 39 = .ok (.getfield 43, 3) := dk_180 0 43 (dk_at dksX2_nearest_1 16 rfl rfl)
theorem dX2_nearest_42 : decode cX2_nearest 42 = .ok (.iload_n 3, 1) := dk_29 (dk_at dksX2_nearest_1 19 rfl rfl)
theorem dX2_nearest_43 : decode cX2_nearest 43 = .ok (.baload, 1) := dk_51 (dk_at dksX2_nearest_1 20 rfl rfl)
theorem dX2_nearest_44 : decode cX2_nearest 44 = .ok (.ifCond .eq 7, 3) := dk_153 0 7 (dk_at dksX2_nearest_1 21 rfl rfl)
theorem dX2_nearest_47 : decode cX2_nearest 47 = .ok (.iconst 1, 1) := dk_4 (dk_at dksX2_nearest_2 0 rfl rfl)
theorem dX2_nearest_48 : decode cX2_nearest 48 = .ok (.goto 4, 3) := dk_167 0 4 (dk_at dksX2_nearest_2 1 rfl rfl)
theorem dX2_nearest_51 : decode cX2_nearest 51 = .ok (.iconst 0, 1) := dk_3 (dk_at dksX2_nearest_2 4 rfl rfl)
theorem dX2_nearest_52 : decode cX2_nearest 52 = .ok (.istore 4, 2) := dk_54 4 (dk_at dksX2_nearest_2 5 rfl rfl)
theorem dX2_nearest_54 : decode cX2_nearest 54 = .ok (.aload_n 0, 1) := dk_42 (dk_at dksX2_nearest_2 7 rfl rfl)
theorem dX2_nearest_55 : decode cX2_nearest 55 = .ok (.getfield 69, 3) := dk_180 0 69 (dk_at dksX2_nearest_2 8 rfl rfl)
theorem dX2_nearest_58 : decode cX2_nearest 58 = .ok (.iload_n 3, 1) := dk_29 (dk_at dksX2_nearest_2 11 rfl rfl)
theorem dX2_nearest_59 : decode cX2_nearest 59 = .ok (.aaload, 1) := dk_50 (dk_at dksX2_nearest_2 12 rfl rfl)
theorem dX2_nearest_60 : decode cX2_nearest 60 = .ok (.iconst 0, 1) := dk_3 (dk_at dksX2_nearest_2 13 rfl rfl)
theorem dX2_nearest_61 : decode cX2_nearest 61 = .ok (.laload, 1) := dk_47 (dk_at dksX2_nearest_2 14 rfl rfl)
theorem dX2_nearest_62 : decode cX2_nearest 62 = .ok (.ldc2_w 182, 3) := dk_20 0 182 (dk_at dksX2_nearest_2 15 rfl rfl)
theorem dX2_nearest_65 : decode cX2_nearest 65 = .ok (.iload_n 1, 1) := dk_27 (dk_at dksX2_nearest_2 18 rfl rfl)
theorem dX2_nearest_66 : decode cX2_nearest 66 = .ok (.i2l, 1) := dk_133 (dk_at dksX2_nearest_2 19 rfl rfl)
theorem dX2_nearest_67 : decode cX2_nearest 67 = .ok (.lmul, 1) := dk_105 (dk_at dksX2_nearest_2 20 rfl rfl)
theorem dX2_nearest_68 : decode cX2_nearest 68 = .ok (.lsub, 1) := dk_101 (dk_at dksX2_nearest_2 21 rfl rfl)
theorem dX2_nearest_69 : decode cX2_nearest 69 = .ok (.invokestatic 269, 3) := dk_184 1 13 (dk_at dksX2_nearest_3 0 rfl rfl)
theorem dX2_nearest_72 : decode cX2_nearest 72 = .ok (.lstore 5, 2) := dk_55 5 (dk_at dksX2_nearest_3 3 rfl rfl)
theorem dX2_nearest_74 : decode cX2_nearest 74 = .ok (.iload 4, 2) := dk_21 4 (dk_at dksX2_nearest_3 5 rfl rfl)
theorem dX2_nearest_76 : decode cX2_nearest 76 = .ok (.ifCond .eq 36, 3) := dk_153 0 36 (dk_at dksX2_nearest_3 7 rfl rfl)
theorem dX2_nearest_79 : decode cX2_nearest 79 = .ok (.iload_n 2, 1) := dk_28 (dk_at dksX2_nearest_3 10 rfl rfl)
theorem dX2_nearest_80 : decode cX2_nearest 80 = .ok (.iconst (-1), 1) := dk_2 (dk_at dksX2_nearest_3 11 rfl rfl)
theorem dX2_nearest_81 : decode cX2_nearest 81 = .ok (.if_icmp .eq 27, 3) := dk_159 0 27 (dk_at dksX2_nearest_3 12 rfl rfl)
theorem dX2_nearest_84 : decode cX2_nearest 84 = .ok (.lload 5, 2) := dk_22 5 (dk_at dksX2_nearest_3 15 rfl rfl)
theorem dX2_nearest_86 : decode cX2_nearest 86 = .ok (.aload_n 0, 1) := dk_42 (dk_at dksX2_nearest_3 17 rfl rfl)
theorem dX2_nearest_87 : decode cX2_nearest 87 = .ok (.getfield 69, 3) := dk_180 0 69 (dk_at dksX2_nearest_3 18 rfl rfl)
theorem dX2_nearest_90 : decode cX2_nearest 90 = .ok (.iload_n 2, 1) := dk_28 (dk_at dksX2_nearest_3 21 rfl rfl)
theorem dX2_nearest_91 : decode cX2_nearest 91 = .ok (.aaload, 1) := dk_50 (dk_at dksX2_nearest_3 22 rfl rfl)
theorem dX2_nearest_92 : decode cX2_nearest 92 = .ok (.iconst 0, 1) := dk_3 (dk_at dksX2_nearest_3 23 rfl rfl)
theorem dX2_nearest_93 : decode cX2_nearest 93 = .ok (.laload, 1) := dk_47 (dk_at dksX2_nearest_4 0 rfl rfl)
theorem dX2_nearest_94 : decode cX2_nearest 94 = .ok (.ldc2_w 182, 3) := dk_20 0 182 (dk_at dksX2_nearest_4 1 rfl rfl)
theorem dX2_nearest_97 : decode cX2_nearest 97 = .ok (.iload_n 1, 1) := dk_27 (dk_at dksX2_nearest_4 4 rfl rfl)
theorem dX2_nearest_98 : decode cX2_nearest 98 = .ok (.i2l, 1) := dk_133 (dk_at dksX2_nearest_4 5 rfl rfl)
theorem dX2_nearest_99 : decode cX2_nearest 99 = .ok (.lmul, 1) := dk_105 (dk_at dksX2_nearest_4 6 rfl rfl)
theorem dX2_nearest_100 : decode cX2_nearest 100 = .ok (.lsub, 1) := dk_101 (dk_at dksX2_nearest_4 7 rfl rfl)
theorem dX2_nearest_101 : decode cX2_nearest 101 = .ok (.invokestatic 269, 3) := dk_184 1 13 (dk_at dksX2_nearest_4 8 rfl rfl)
theorem dX2_nearest_104 : decode cX2_nearest 104 = .ok (.lcmp, 1) := dk_148 (dk_at dksX2_nearest_4 11 rfl rfl)
theorem dX2_nearest_105 : decode cX2_nearest 105 = .ok (.ifCond .ge 7, 3) := dk_156 0 7 (dk_at dksX2_nearest_4 12 rfl rfl)
theorem dX2_nearest_108 : decode cX2_nearest 108 = .ok (.iload_n 3, 1) := dk_29 (dk_at dksX2_nearest_4 15 rfl rfl)
theorem dX2_nearest_109 : decode cX2_nearest 109 = .ok (.goto 4, 3) := dk_167 0 4 (dk_at dksX2_nearest_4 16 rfl rfl)
theorem dX2_nearest_112 : decode cX2_nearest 112 = .ok (.iload_n 2, 1) := dk_28 (dk_at dksX2_nearest_4 19 rfl rfl)
theorem dX2_nearest_113 : decode cX2_nearest 113 = .ok (.istore_n 2, 1) := dk_61 (dk_at dksX2_nearest_4 20 rfl rfl)
theorem dX2_nearest_114 : decode cX2_nearest 114 = .ok (.iinc 3 1, 3) := dk_132 3 1 (dk_at dksX2_nearest_4 21 rfl rfl)
theorem dX2_nearest_117 : decode cX2_nearest 117 = .ok (.goto (-96), 3) := dk_167 255 160 (dk_at dksX2_nearest_5 0 rfl rfl)
theorem dX2_nearest_120 : decode cX2_nearest 120 = .ok (.aload_n 0, 1) := dk_42 (dk_at dksX2_nearest_5 3 rfl rfl)
theorem dX2_nearest_121 : decode cX2_nearest 121 = .ok (.iload_n 2, 1) := dk_28 (dk_at dksX2_nearest_5 4 rfl rfl)
theorem dX2_nearest_122 : decode cX2_nearest 122 = .ok (.iconst (-1), 1) := dk_2 (dk_at dksX2_nearest_5 5 rfl rfl)
theorem dX2_nearest_123 : decode cX2_nearest 123 = .ok (.if_icmp .eq 7, 3) := dk_159 0 7 (dk_at dksX2_nearest_5 6 rfl rfl)
theorem dX2_nearest_126 : decode cX2_nearest 126 = .ok (.iconst 1, 1) := dk_4 (dk_at dksX2_nearest_5 9 rfl rfl)
theorem dX2_nearest_127 : decode cX2_nearest 127 = .ok (.goto 4, 3) := dk_167 0 4 (dk_at dksX2_nearest_5 10 rfl rfl)
theorem dX2_nearest_130 : decode cX2_nearest 130 = .ok (.iconst 0, 1) := dk_3 (dk_at dksX2_nearest_5 13 rfl rfl)
theorem dX2_nearest_131 : decode cX2_nearest 131 = .ok (.iconst 2, 1) := dk_5 (dk_at dksX2_nearest_5 14 rfl rfl)
theorem dX2_nearest_132 : decode cX2_nearest 132 = .ok (.invokevirtual 111, 3) := dk_182 0 111 (dk_at dksX2_nearest_5 15 rfl rfl)
theorem dX2_nearest_135 : decode cX2_nearest 135 = .ok (.ifCond .eq 7, 3) := dk_153 0 7 (dk_at dksX2_nearest_5 18 rfl rfl)
theorem dX2_nearest_138 : decode cX2_nearest 138 = .ok (.iload_n 2, 1) := dk_28 (dk_at dksX2_nearest_5 21 rfl rfl)
theorem dX2_nearest_139 : decode cX2_nearest 139 = .ok (.goto 4, 3) := dk_167 0 4 (dk_at dksX2_nearest_6 0 rfl rfl)
theorem dX2_nearest_142 : decode cX2_nearest 142 = .ok (.iconst 0, 1) := dk_3 (dk_at dksX2_nearest_6 3 rfl rfl)
theorem dX2_nearest_143 : decode cX2_nearest 143 = .ok (.ireturn, 1) := dk_172 (dk_at dksX2_nearest_6 4 rfl rfl)
abbrev cX2_assignedShare : ByteArray := prog_9_method_62_code
def yX2_assignedShare : MethodName := ⟨RX2, "assignedShare", "()F"⟩
def dkwX2_assignedShare_1 : List UInt8 := [180, 0, 124, 134, 110, 174]
abbrev dktX2_assignedShare_1 : List UInt8 := dkwX2_assignedShare_1 ++ []
def dkwX2_assignedShare_0 : List UInt8 := [42, 3, 181, 0, 108, 42, 180, 0, 124, 154, 0, 7, 11, 167, 0, 14, 42, 180, 0, 127, 134, 42]
abbrev dktX2_assignedShare_0 : List UInt8 := dkwX2_assignedShare_0 ++ dktX2_assignedShare_1
theorem dksX2_assignedShare_0 : cX2_assignedShare.data.toList.drop 0 = dktX2_assignedShare_0 := by decide +kernel
theorem dksX2_assignedShare_1 : cX2_assignedShare.data.toList.drop 22 = dktX2_assignedShare_1 := dk_seg dksX2_assignedShare_0 22 rfl rfl
theorem dX2_assignedShare_0 : decode cX2_assignedShare 0 = .ok (.aload_n 0, 1) := dk_42 (dk_at dksX2_assignedShare_0 0 rfl rfl)
theorem dX2_assignedShare_1 : decode cX2_assignedShare 1 = .ok (.iconst 0, 1) := dk_3 (dk_at dksX2_assignedShare_0 1 rfl rfl)
theorem dX2_assignedShare_2 : decode cX2_assignedShare 2 = .ok (.putfield 108, 3) := dk_181 0 108 (dk_at dksX2_assignedShare_0 2 rfl rfl)
theorem dX2_assignedShare_5 : decode cX2_assignedShare 5 = .ok (.aload_n 0, 1) := dk_42 (dk_at dksX2_assignedShare_0 5 rfl rfl)
theorem dX2_assignedShare_6 : decode cX2_assignedShare 6 = .ok (.getfield 124, 3) := dk_180 0 124 (dk_at dksX2_assignedShare_0 6 rfl rfl)
theorem dX2_assignedShare_9 : decode cX2_assignedShare 9 = .ok (.ifCond .ne 7, 3) := dk_154 0 7 (dk_at dksX2_assignedShare_0 9 rfl rfl)
theorem dX2_assignedShare_12 : decode cX2_assignedShare 12 = .ok (.fconst 0, 1) := dk_11 (dk_at dksX2_assignedShare_0 12 rfl rfl)
theorem dX2_assignedShare_13 : decode cX2_assignedShare 13 = .ok (.goto 14, 3) := dk_167 0 14 (dk_at dksX2_assignedShare_0 13 rfl rfl)
theorem dX2_assignedShare_16 : decode cX2_assignedShare 16 = .ok (.aload_n 0, 1) := dk_42 (dk_at dksX2_assignedShare_0 16 rfl rfl)
theorem dX2_assignedShare_17 : decode cX2_assignedShare 17 = .ok (.getfield 127, 3) := dk_180 0 127 (dk_at dksX2_assignedShare_0 17 rfl rfl)
theorem dX2_assignedShare_20 : decode cX2_assignedShare 20 = .ok (.i2f, 1) := dk_134 (dk_at dksX2_assignedShare_0 20 rfl rfl)
theorem dX2_assignedShare_21 : decode cX2_assignedShare 21 = .ok (.aload_n 0, 1) := dk_42 (dk_at dksX2_assignedShare_0 21 rfl rfl)
theorem dX2_assignedShare_22 : decode cX2_assignedShare 22 = .ok (.getfield 124, 3) := dk_180 0 124 (dk_at dksX2_assignedShare_1 0 rfl rfl)
theorem dX2_assignedShare_25 : decode cX2_assignedShare 25 = .ok (.i2f, 1) := dk_134 (dk_at dksX2_assignedShare_1 3 rfl rfl)
theorem dX2_assignedShare_26 : decode cX2_assignedShare 26 = .ok (.fdiv, 1) := dk_110 (dk_at dksX2_assignedShare_1 4 rfl rfl)
theorem dX2_assignedShare_27 : decode cX2_assignedShare 27 = .ok (.freturn, 1) := dk_174 (dk_at dksX2_assignedShare_1 5 rfl rfl)
abbrev cX2_meanLength : ByteArray := prog_9_method_63_code
def yX2_meanLength : MethodName := ⟨RX2, "meanLength", "()D"⟩
def dkwX2_meanLength_2 : List UInt8 := [14, 167, 0, 11, 27, 135, 42, 180, 0, 130, 135, 111, 175]
abbrev dktX2_meanLength_2 : List UInt8 := dkwX2_meanLength_2 ++ []
def dkwX2_meanLength_1 : List UInt8 := [42, 180, 0, 52, 28, 46, 100, 4, 96, 96, 60, 132, 2, 1, 167, 255, 227, 42, 180, 0, 130, 154, 0, 7]
abbrev dktX2_meanLength_1 : List UInt8 := dkwX2_meanLength_1 ++ dktX2_meanLength_2
def dkwX2_meanLength_0 : List UInt8 := [42, 3, 181, 0, 108, 3, 60, 3, 61, 28, 42, 180, 0, 130, 162, 0, 27, 27, 42, 180, 0, 55, 28, 46]
abbrev dktX2_meanLength_0 : List UInt8 := dkwX2_meanLength_0 ++ dktX2_meanLength_1
theorem dksX2_meanLength_0 : cX2_meanLength.data.toList.drop 0 = dktX2_meanLength_0 := by decide +kernel
theorem dksX2_meanLength_1 : cX2_meanLength.data.toList.drop 24 = dktX2_meanLength_1 := dk_seg dksX2_meanLength_0 24 rfl rfl
theorem dksX2_meanLength_2 : cX2_meanLength.data.toList.drop 48 = dktX2_meanLength_2 := dk_seg dksX2_meanLength_1 24 rfl rfl
theorem dX2_meanLength_0 : decode cX2_meanLength 0 = .ok (.aload_n 0, 1) := dk_42 (dk_at dksX2_meanLength_0 0 rfl rfl)
theorem dX2_meanLength_1 : decode cX2_meanLength 1 = .ok (.iconst 0, 1) := dk_3 (dk_at dksX2_meanLength_0 1 rfl rfl)
theorem dX2_meanLength_2 : decode cX2_meanLength 2 = .ok (.putfield 108, 3) := dk_181 0 108 (dk_at dksX2_meanLength_0 2 rfl rfl)
theorem dX2_meanLength_5 : decode cX2_meanLength 5 = .ok (.iconst 0, 1) := dk_3 (dk_at dksX2_meanLength_0 5 rfl rfl)
theorem dX2_meanLength_6 : decode cX2_meanLength 6 = .ok (.istore_n 1, 1) := dk_60 (dk_at dksX2_meanLength_0 6 rfl rfl)
theorem dX2_meanLength_7 : decode cX2_meanLength 7 = .ok (.iconst 0, 1) := dk_3 (dk_at dksX2_meanLength_0 7 rfl rfl)
theorem dX2_meanLength_8 : decode cX2_meanLength 8 = .ok (.istore_n 2, 1) := dk_61 (dk_at dksX2_meanLength_0 8 rfl rfl)
theorem dX2_meanLength_9 : decode cX2_meanLength 9 = .ok (.iload_n 2, 1) := dk_28 (dk_at dksX2_meanLength_0 9 rfl rfl)
theorem dX2_meanLength_10 : decode cX2_meanLength 10 = .ok (.aload_n 0, 1) := dk_42 (dk_at dksX2_meanLength_0 10 rfl rfl)
theorem dX2_meanLength_11 : decode cX2_meanLength 11 = .ok (.getfield 130, 3) := dk_180 0 130 (dk_at dksX2_meanLength_0 11 rfl rfl)
theorem dX2_meanLength_14 : decode cX2_meanLength 14 = .ok (.if_icmp .ge 27, 3) := dk_162 0 27 (dk_at dksX2_meanLength_0 14 rfl rfl)
theorem dX2_meanLength_17 : decode cX2_meanLength 17 = .ok (.iload_n 1, 1) := dk_27 (dk_at dksX2_meanLength_0 17 rfl rfl)
theorem dX2_meanLength_18 : decode cX2_meanLength 18 = .ok (.aload_n 0, 1) := dk_42 (dk_at dksX2_meanLength_0 18 rfl rfl)
theorem dX2_meanLength_19 : decode cX2_meanLength 19 = .ok (.getfield 55, 3) := dk_180 0 55 (dk_at dksX2_meanLength_0 19 rfl rfl)
theorem dX2_meanLength_22 : decode cX2_meanLength 22 = .ok (.iload_n 2, 1) := dk_28 (dk_at dksX2_meanLength_0 22 rfl rfl)
theorem dX2_meanLength_23 : decode cX2_meanLength 23 = .ok (.iaload, 1) := dk_46 (dk_at dksX2_meanLength_0 23 rfl rfl)
theorem dX2_meanLength_24 : decode cX2_meanLength 24 = .ok (.aload_n 0, 1) := dk_42 (dk_at dksX2_meanLength_1 0 rfl rfl)
theorem dX2_meanLength_25 : decode cX2_meanLength 25 = .ok (.getfield 52, 3) := dk_180 0 52 (dk_at dksX2_meanLength_1 1 rfl rfl)
theorem dX2_meanLength_28 : decode cX2_meanLength 28 = .ok (.iload_n 2, 1) := dk_28 (dk_at dksX2_meanLength_1 4 rfl rfl)
theorem dX2_meanLength_29 : decode cX2_meanLength 29 = .ok (.iaload, 1) := dk_46 (dk_at dksX2_meanLength_1 5 rfl rfl)
theorem dX2_meanLength_30 : decode cX2_meanLength 30 = .ok (.isub, 1) := dk_100 (dk_at dksX2_meanLength_1 6 rfl rfl)
theorem dX2_meanLength_31 : decode cX2_meanLength 31 = .ok (.iconst 1, 1) := dk_4 (dk_at dksX2_meanLength_1 7 rfl rfl)
theorem dX2_meanLength_32 : decode cX2_meanLength 32 = .ok (.iadd, 1) := dk_96 (dk_at dksX2_meanLength_1 8 rfl rfl)
theorem dX2_meanLength_33 : decode cX2_meanLength 33 = .ok (.iadd, 1) := dk_96 (dk_at dksX2_meanLength_1 9 rfl rfl)
theorem dX2_meanLength_34 : decode cX2_meanLength 34 = .ok (.istore_n 1, 1) := dk_60 (dk_at dksX2_meanLength_1 10 rfl rfl)
theorem dX2_meanLength_35 : decode cX2_meanLength 35 = .ok (.iinc 2 1, 3) := dk_132 2 1 (dk_at dksX2_meanLength_1 11 rfl rfl)
theorem dX2_meanLength_38 : decode cX2_meanLength 38 = .ok (.goto (-29), 3) := dk_167 255 227 (dk_at dksX2_meanLength_1 14 rfl rfl)
theorem dX2_meanLength_41 : decode cX2_meanLength 41 = .ok (.aload_n 0, 1) := dk_42 (dk_at dksX2_meanLength_1 17 rfl rfl)
theorem dX2_meanLength_42 : decode cX2_meanLength 42 = .ok (.getfield 130, 3) := dk_180 0 130 (dk_at dksX2_meanLength_1 18 rfl rfl)
theorem dX2_meanLength_45 : decode cX2_meanLength 45 = .ok (.ifCond .ne 7, 3) := dk_154 0 7 (dk_at dksX2_meanLength_1 21 rfl rfl)
theorem dX2_meanLength_48 : decode cX2_meanLength 48 = .ok (.dconst 0, 1) := dk_14 (dk_at dksX2_meanLength_2 0 rfl rfl)
theorem dX2_meanLength_49 : decode cX2_meanLength 49 = .ok (.goto 11, 3) := dk_167 0 11 (dk_at dksX2_meanLength_2 1 rfl rfl)
theorem dX2_meanLength_52 : decode cX2_meanLength 52 = .ok (.iload_n 1, 1) := dk_27 (dk_at dksX2_meanLength_2 4 rfl rfl)
theorem dX2_meanLength_53 : decode cX2_meanLength 53 = .ok (.i2d, 1) := dk_135 (dk_at dksX2_meanLength_2 5 rfl rfl)
theorem dX2_meanLength_54 : decode cX2_meanLength 54 = .ok (.aload_n 0, 1) := dk_42 (dk_at dksX2_meanLength_2 6 rfl rfl)
theorem dX2_meanLength_55 : decode cX2_meanLength 55 = .ok (.getfield 130, 3) := dk_180 0 130 (dk_at dksX2_meanLength_2 7 rfl rfl)
theorem dX2_meanLength_58 : decode cX2_meanLength 58 = .ok (.i2d, 1) := dk_135 (dk_at dksX2_meanLength_2 10 rfl rfl)
theorem dX2_meanLength_59 : decode cX2_meanLength 59 = .ok (.ddiv, 1) := dk_111 (dk_at dksX2_meanLength_2 11 rfl rfl)
theorem dX2_meanLength_60 : decode cX2_meanLength 60 = .ok (.dreturn, 1) := dk_175 (dk_at dksX2_meanLength_2 12 rfl rfl)
theorem q42 : (Jvm.Cond.initialized "KalmanQuayModel") ∈ lw_all := lw_g (lw_at lw_m1 5 rfl) rfl
theorem q259 : (Jvm.Cond.selects "KalmanQuayModel" ({ cls := "java/lang/Object", name := "getClass", desc := "()Ljava/lang/Class;" } : Jvm.MethodName) ({ cls := "java/lang/Object", name := "getClass", desc := "()Ljava/lang/Class;" } : Jvm.MethodName)) ∈ lw_all := lw_g (lw_at lw_m1 222 rfl) rfl
theorem q668 : (Jvm.Cond.selects "KalmanQuayModel" ({ cls := "java/lang/Object", name := "hashCode", desc := "()I" } : Jvm.MethodName) ({ cls := "java/lang/Object", name := "hashCode", desc := "()I" } : Jvm.MethodName)) ∈ lw_all := lw_g (lw_at lw_m3 151 rfl) rfl
theorem q817 : (Jvm.Cond.selects "KalmanQuayModel" ({ cls := "java/lang/Object", name := "equals", desc := "(Ljava/lang/Object;)Z" } : Jvm.MethodName) ({ cls := "java/lang/Object", name := "equals", desc := "(Ljava/lang/Object;)Z" } : Jvm.MethodName)) ∈ lw_all := lw_g (lw_at lw_m4 60 rfl) rfl
theorem q1273 : (Jvm.Cond.instantiable "KalmanQuayModel" (44 : Nat)) ∈ lw_all := lw_g (lw_at lw_m6 36 rfl) rfl
theorem q1275 : (Jvm.Cond.instanceMethod ({ cls := "KalmanQuayModel", name := "<init>", desc := "()V" } : Jvm.MethodName)) ∈ lw_all := lw_g (lw_at lw_m6 38 rfl) rfl
theorem q1276 : (Jvm.Cond.code ({ cls := "KalmanQuayModel", name := "<init>", desc := "()V" } : Jvm.MethodName) prog_9_method_1_code (1 : Nat) (Option.none : Option Jvm.ClassFile.FieldType)) ∈ lw_all := lw_g (lw_at lw_m6 39 rfl) rfl
theorem q1277 : (Jvm.Cond.methodLink "KalmanQuayModel" (1 : Nat) ({ cls := "java/lang/Object", name := "<init>", desc := "()V" } : Jvm.MethodName)) ∈ lw_all := lw_g (lw_at lw_m6 40 rfl) rfl
theorem q1278 : (Jvm.Cond.constant "KalmanQuayModel" (22 : Nat) (65536 : Int32)) ∈ lw_all := lw_g (lw_at lw_m6 41 rfl) rfl
theorem q1279 : (Jvm.Cond.classLink "KalmanQuayModel" (67 : Nat) "[[J") ∈ lw_all := lw_g (lw_at lw_m6 42 rfl) rfl
theorem q1280 : (Jvm.Cond.classLink "KalmanQuayModel" (72 : Nat) "[[[J") ∈ lw_all := lw_g (lw_at lw_m6 43 rfl) rfl
theorem q1282 : (Jvm.Cond.fieldLink "KalmanQuayModel" (7 : Nat) "KalmanQuayModel" "noise" "I") ∈ lw_all := lw_g (lw_at lw_m6 45 rfl) rfl
theorem q1283 : (Jvm.Cond.fieldLink "KalmanQuayModel" (13 : Nat) "KalmanQuayModel" "gate" "I") ∈ lw_all := lw_g (lw_at lw_m6 46 rfl) rfl
theorem q1284 : (Jvm.Cond.fieldLink "KalmanQuayModel" (16 : Nat) "KalmanQuayModel" "patience" "I") ∈ lw_all := lw_g (lw_at lw_m6 47 rfl) rfl
theorem q1285 : (Jvm.Cond.fieldLink "KalmanQuayModel" (19 : Nat) "KalmanQuayModel" "proof" "I") ∈ lw_all := lw_g (lw_at lw_m6 48 rfl) rfl
theorem q1286 : (Jvm.Cond.fieldLink "KalmanQuayModel" (23 : Nat) "KalmanQuayModel" "startVariance" "I") ∈ lw_all := lw_g (lw_at lw_m6 49 rfl) rfl
theorem q1287 : (Jvm.Cond.fieldLink "KalmanQuayModel" (133 : Nat) "KalmanQuayModel" "sensors" "I") ∈ lw_all := lw_g (lw_at lw_m6 50 rfl) rfl
theorem q1288 : (Jvm.Cond.fieldLink "KalmanQuayModel" (26 : Nat) "KalmanQuayModel" "variance" "[I") ∈ lw_all := lw_g (lw_at lw_m6 51 rfl) rfl
theorem q1289 : (Jvm.Cond.fieldLink "KalmanQuayModel" (115 : Nat) "KalmanQuayModel" "beats" "I") ∈ lw_all := lw_g (lw_at lw_m6 52 rfl) rfl
theorem q1290 : (Jvm.Cond.fieldLink "KalmanQuayModel" (118 : Nat) "KalmanQuayModel" "told" "I") ∈ lw_all := lw_g (lw_at lw_m6 53 rfl) rfl
theorem q1291 : (Jvm.Cond.fieldLink "KalmanQuayModel" (30 : Nat) "KalmanQuayModel" "toldSensor" "[I") ∈ lw_all := lw_g (lw_at lw_m6 54 rfl) rfl
theorem q1292 : (Jvm.Cond.fieldLink "KalmanQuayModel" (33 : Nat) "KalmanQuayModel" "toldPlace" "[I") ∈ lw_all := lw_g (lw_at lw_m6 55 rfl) rfl
theorem q1293 : (Jvm.Cond.fieldLink "KalmanQuayModel" (121 : Nat) "KalmanQuayModel" "hits" "I") ∈ lw_all := lw_g (lw_at lw_m6 56 rfl) rfl
theorem q1294 : (Jvm.Cond.fieldLink "KalmanQuayModel" (36 : Nat) "KalmanQuayModel" "wentTo" "[I") ∈ lw_all := lw_g (lw_at lw_m6 57 rfl) rfl
theorem q1295 : (Jvm.Cond.fieldLink "KalmanQuayModel" (124 : Nat) "KalmanQuayModel" "allHits" "I") ∈ lw_all := lw_g (lw_at lw_m6 58 rfl) rfl
theorem q1296 : (Jvm.Cond.fieldLink "KalmanQuayModel" (127 : Nat) "KalmanQuayModel" "allAssigned" "I") ∈ lw_all := lw_g (lw_at lw_m6 59 rfl) rfl
theorem q1297 : (Jvm.Cond.fieldLink "KalmanQuayModel" (130 : Nat) "KalmanQuayModel" "tracks" "I") ∈ lw_all := lw_g (lw_at lw_m6 60 rfl) rfl
theorem q1298 : (Jvm.Cond.fieldLink "KalmanQuayModel" (39 : Nat) "KalmanQuayModel" "isAlive" "[Z") ∈ lw_all := lw_g (lw_at lw_m6 61 rfl) rfl
theorem q1299 : (Jvm.Cond.fieldLink "KalmanQuayModel" (43 : Nat) "KalmanQuayModel" "isProven" "[Z") ∈ lw_all := lw_g (lw_at lw_m6 62 rfl) rfl
theorem q1300 : (Jvm.Cond.fieldLink "KalmanQuayModel" (46 : Nat) "KalmanQuayModel" "isNew" "[Z") ∈ lw_all := lw_g (lw_at lw_m6 63 rfl) rfl
theorem q1301 : (Jvm.Cond.fieldLink "KalmanQuayModel" (49 : Nat) "KalmanQuayModel" "isCorrected" "[Z") ∈ lw_all := lw_g (lw_at lw_m6 64 rfl) rfl
theorem q1302 : (Jvm.Cond.fieldLink "KalmanQuayModel" (52 : Nat) "KalmanQuayModel" "begin" "[I") ∈ lw_all := lw_g (lw_at lw_m6 65 rfl) rfl
theorem q1303 : (Jvm.Cond.fieldLink "KalmanQuayModel" (55 : Nat) "KalmanQuayModel" "end" "[I") ∈ lw_all := lw_g (lw_at lw_m6 66 rfl) rfl
theorem q1304 : (Jvm.Cond.fieldLink "KalmanQuayModel" (58 : Nat) "KalmanQuayModel" "hitBeats" "[I") ∈ lw_all := lw_g (lw_at lw_m6 67 rfl) rfl
theorem q1305 : (Jvm.Cond.fieldLink "KalmanQuayModel" (61 : Nat) "KalmanQuayModel" "misses" "[I") ∈ lw_all := lw_g (lw_at lw_m6 68 rfl) rfl
theorem q1306 : (Jvm.Cond.fieldLink "KalmanQuayModel" (64 : Nat) "KalmanQuayModel" "hitCount" "[I") ∈ lw_all := lw_g (lw_at lw_m6 69 rfl) rfl
theorem q1307 : (Jvm.Cond.fieldLink "KalmanQuayModel" (69 : Nat) "KalmanQuayModel" "now" "[[J") ∈ lw_all := lw_g (lw_at lw_m6 70 rfl) rfl
theorem q1308 : (Jvm.Cond.fieldLink "KalmanQuayModel" (74 : Nat) "KalmanQuayModel" "behind" "[[[J") ∈ lw_all := lw_g (lw_at lw_m6 71 rfl) rfl
theorem q1309 : (Jvm.Cond.fieldLink "KalmanQuayModel" (77 : Nat) "KalmanQuayModel" "foretold" "[[[J") ∈ lw_all := lw_g (lw_at lw_m6 72 rfl) rfl
theorem q1310 : (Jvm.Cond.fieldLink "KalmanQuayModel" (80 : Nat) "KalmanQuayModel" "sumW" "[J") ∈ lw_all := lw_g (lw_at lw_m6 73 rfl) rfl
theorem q1311 : (Jvm.Cond.fieldLink "KalmanQuayModel" (84 : Nat) "KalmanQuayModel" "sumA" "[J") ∈ lw_all := lw_g (lw_at lw_m6 74 rfl) rfl
theorem q1312 : (Jvm.Cond.fieldLink "KalmanQuayModel" (87 : Nat) "KalmanQuayModel" "sumB" "[J") ∈ lw_all := lw_g (lw_at lw_m6 75 rfl) rfl
theorem q1313 : (Jvm.Cond.fieldLink "KalmanQuayModel" (90 : Nat) "KalmanQuayModel" "sumZ" "[J") ∈ lw_all := lw_g (lw_at lw_m6 76 rfl) rfl
theorem q1314 : (Jvm.Cond.fieldLink "KalmanQuayModel" (93 : Nat) "KalmanQuayModel" "sumY" "[J") ∈ lw_all := lw_g (lw_at lw_m6 77 rfl) rfl
theorem q1315 : (Jvm.Cond.fieldLink "KalmanQuayModel" (96 : Nat) "KalmanQuayModel" "candidate" "[I") ∈ lw_all := lw_g (lw_at lw_m6 78 rfl) rfl
theorem q1316 : (Jvm.Cond.fieldLink "KalmanQuayModel" (203 : Nat) "KalmanQuayModel" "candidates" "I") ∈ lw_all := lw_g (lw_at lw_m6 79 rfl) rfl
theorem q1317 : (Jvm.Cond.fieldLink "KalmanQuayModel" (99 : Nat) "KalmanQuayModel" "seeker" "[I") ∈ lw_all := lw_g (lw_at lw_m6 80 rfl) rfl
theorem q1318 : (Jvm.Cond.fieldLink "KalmanQuayModel" (193 : Nat) "KalmanQuayModel" "seekers" "I") ∈ lw_all := lw_g (lw_at lw_m6 81 rfl) rfl
theorem q1319 : (Jvm.Cond.fieldLink "KalmanQuayModel" (102 : Nat) "KalmanQuayModel" "given" "[I") ∈ lw_all := lw_g (lw_at lw_m6 82 rfl) rfl
theorem q1320 : (Jvm.Cond.fieldLink "KalmanQuayModel" (105 : Nat) "KalmanQuayModel" "best" "[I") ∈ lw_all := lw_g (lw_at lw_m6 83 rfl) rfl
theorem q1321 : (Jvm.Cond.fieldLink "KalmanQuayModel" (196 : Nat) "KalmanQuayModel" "mostPairs" "I") ∈ lw_all := lw_g (lw_at lw_m6 84 rfl) rfl
theorem q1322 : (Jvm.Cond.fieldLink "KalmanQuayModel" (199 : Nat) "KalmanQuayModel" "leastCost" "J") ∈ lw_all := lw_g (lw_at lw_m6 85 rfl) rfl
theorem q1323 : (Jvm.Cond.fieldLink "KalmanQuayModel" (255 : Nat) "KalmanQuayModel" "smoothX" "J") ∈ lw_all := lw_g (lw_at lw_m6 86 rfl) rfl
theorem q1324 : (Jvm.Cond.fieldLink "KalmanQuayModel" (258 : Nat) "KalmanQuayModel" "smoothV" "J") ∈ lw_all := lw_g (lw_at lw_m6 87 rfl) rfl
theorem q1325 : (Jvm.Cond.fieldLink "KalmanQuayModel" (108 : Nat) "KalmanQuayModel" "thrown" "I") ∈ lw_all := lw_g (lw_at lw_m6 88 rfl) rfl
theorem q1326 : (Jvm.Cond.lays "KalmanQuayModel" "KalmanQuayModel" "noise" "I") ∈ lw_all := lw_g (lw_at lw_m6 89 rfl) rfl
theorem q1327 : (Jvm.Cond.soleField "KalmanQuayModel" "noise") ∈ lw_all := lw_g (lw_at lw_m6 90 rfl) rfl
theorem q1328 : (Jvm.Cond.lays "KalmanQuayModel" "KalmanQuayModel" "gate" "I") ∈ lw_all := lw_g (lw_at lw_m6 91 rfl) rfl
theorem q1329 : (Jvm.Cond.soleField "KalmanQuayModel" "gate") ∈ lw_all := lw_g (lw_at lw_m6 92 rfl) rfl
theorem q1330 : (Jvm.Cond.lays "KalmanQuayModel" "KalmanQuayModel" "patience" "I") ∈ lw_all := lw_g (lw_at lw_m6 93 rfl) rfl
theorem q1331 : (Jvm.Cond.soleField "KalmanQuayModel" "patience") ∈ lw_all := lw_g (lw_at lw_m6 94 rfl) rfl
theorem q1332 : (Jvm.Cond.lays "KalmanQuayModel" "KalmanQuayModel" "proof" "I") ∈ lw_all := lw_g (lw_at lw_m6 95 rfl) rfl
theorem q1333 : (Jvm.Cond.soleField "KalmanQuayModel" "proof") ∈ lw_all := lw_g (lw_at lw_m6 96 rfl) rfl
theorem q1334 : (Jvm.Cond.lays "KalmanQuayModel" "KalmanQuayModel" "startVariance" "I") ∈ lw_all := lw_g (lw_at lw_m6 97 rfl) rfl
theorem q1335 : (Jvm.Cond.soleField "KalmanQuayModel" "startVariance") ∈ lw_all := lw_g (lw_at lw_m6 98 rfl) rfl
theorem q1336 : (Jvm.Cond.lays "KalmanQuayModel" "KalmanQuayModel" "sensors" "I") ∈ lw_all := lw_g (lw_at lw_m6 99 rfl) rfl
theorem q1337 : (Jvm.Cond.soleField "KalmanQuayModel" "sensors") ∈ lw_all := lw_g (lw_at lw_m6 100 rfl) rfl
theorem q1338 : (Jvm.Cond.laysFinal "KalmanQuayModel" "KalmanQuayModel" "variance" "[I") ∈ lw_all := lw_g (lw_at lw_m6 101 rfl) rfl
theorem q1339 : (Jvm.Cond.soleField "KalmanQuayModel" "variance") ∈ lw_all := lw_g (lw_at lw_m6 102 rfl) rfl
theorem q1340 : (Jvm.Cond.lays "KalmanQuayModel" "KalmanQuayModel" "beats" "I") ∈ lw_all := lw_g (lw_at lw_m6 103 rfl) rfl
theorem q1341 : (Jvm.Cond.soleField "KalmanQuayModel" "beats") ∈ lw_all := lw_g (lw_at lw_m6 104 rfl) rfl
theorem q1342 : (Jvm.Cond.lays "KalmanQuayModel" "KalmanQuayModel" "told" "I") ∈ lw_all := lw_g (lw_at lw_m6 105 rfl) rfl
theorem q1343 : (Jvm.Cond.soleField "KalmanQuayModel" "told") ∈ lw_all := lw_g (lw_at lw_m6 106 rfl) rfl
theorem q1344 : (Jvm.Cond.laysFinal "KalmanQuayModel" "KalmanQuayModel" "toldSensor" "[I") ∈ lw_all := lw_g (lw_at lw_m6 107 rfl) rfl
theorem q1345 : (Jvm.Cond.soleField "KalmanQuayModel" "toldSensor") ∈ lw_all := lw_g (lw_at lw_m6 108 rfl) rfl
theorem q1346 : (Jvm.Cond.laysFinal "KalmanQuayModel" "KalmanQuayModel" "toldPlace" "[I") ∈ lw_all := lw_g (lw_at lw_m6 109 rfl) rfl
theorem q1347 : (Jvm.Cond.soleField "KalmanQuayModel" "toldPlace") ∈ lw_all := lw_g (lw_at lw_m6 110 rfl) rfl
theorem q1348 : (Jvm.Cond.lays "KalmanQuayModel" "KalmanQuayModel" "hits" "I") ∈ lw_all := lw_g (lw_at lw_m6 111 rfl) rfl
theorem q1349 : (Jvm.Cond.soleField "KalmanQuayModel" "hits") ∈ lw_all := lw_g (lw_at lw_m6 112 rfl) rfl
theorem q1350 : (Jvm.Cond.laysFinal "KalmanQuayModel" "KalmanQuayModel" "wentTo" "[I") ∈ lw_all := lw_g (lw_at lw_m6 113 rfl) rfl
theorem q1351 : (Jvm.Cond.soleField "KalmanQuayModel" "wentTo") ∈ lw_all := lw_g (lw_at lw_m6 114 rfl) rfl
theorem q1352 : (Jvm.Cond.lays "KalmanQuayModel" "KalmanQuayModel" "allHits" "I") ∈ lw_all := lw_g (lw_at lw_m6 115 rfl) rfl
theorem q1353 : (Jvm.Cond.soleField "KalmanQuayModel" "allHits") ∈ lw_all := lw_g (lw_at lw_m6 116 rfl) rfl
theorem q1354 : (Jvm.Cond.lays "KalmanQuayModel" "KalmanQuayModel" "allAssigned" "I") ∈ lw_all := lw_g (lw_at lw_m6 117 rfl) rfl
theorem q1355 : (Jvm.Cond.soleField "KalmanQuayModel" "allAssigned") ∈ lw_all := lw_g (lw_at lw_m6 118 rfl) rfl
theorem q1356 : (Jvm.Cond.lays "KalmanQuayModel" "KalmanQuayModel" "tracks" "I") ∈ lw_all := lw_g (lw_at lw_m6 119 rfl) rfl
theorem q1357 : (Jvm.Cond.soleField "KalmanQuayModel" "tracks") ∈ lw_all := lw_g (lw_at lw_m6 120 rfl) rfl
theorem q1358 : (Jvm.Cond.laysFinal "KalmanQuayModel" "KalmanQuayModel" "isAlive" "[Z") ∈ lw_all := lw_g (lw_at lw_m6 121 rfl) rfl
theorem q1359 : (Jvm.Cond.soleField "KalmanQuayModel" "isAlive") ∈ lw_all := lw_g (lw_at lw_m6 122 rfl) rfl
theorem q1360 : (Jvm.Cond.laysFinal "KalmanQuayModel" "KalmanQuayModel" "isProven" "[Z") ∈ lw_all := lw_g (lw_at lw_m6 123 rfl) rfl
theorem q1361 : (Jvm.Cond.soleField "KalmanQuayModel" "isProven") ∈ lw_all := lw_g (lw_at lw_m6 124 rfl) rfl
theorem q1362 : (Jvm.Cond.laysFinal "KalmanQuayModel" "KalmanQuayModel" "isNew" "[Z") ∈ lw_all := lw_g (lw_at lw_m6 125 rfl) rfl
theorem q1363 : (Jvm.Cond.soleField "KalmanQuayModel" "isNew") ∈ lw_all := lw_g (lw_at lw_m6 126 rfl) rfl
theorem q1364 : (Jvm.Cond.laysFinal "KalmanQuayModel" "KalmanQuayModel" "isCorrected" "[Z") ∈ lw_all := lw_g (lw_at lw_m6 127 rfl) rfl
theorem q1365 : (Jvm.Cond.soleField "KalmanQuayModel" "isCorrected") ∈ lw_all := lw_g (lw_at lw_m6 128 rfl) rfl
theorem q1366 : (Jvm.Cond.laysFinal "KalmanQuayModel" "KalmanQuayModel" "begin" "[I") ∈ lw_all := lw_g (lw_at lw_m6 129 rfl) rfl
theorem q1367 : (Jvm.Cond.soleField "KalmanQuayModel" "begin") ∈ lw_all := lw_g (lw_at lw_m6 130 rfl) rfl
theorem q1368 : (Jvm.Cond.laysFinal "KalmanQuayModel" "KalmanQuayModel" "end" "[I") ∈ lw_all := lw_g (lw_at lw_m6 131 rfl) rfl
theorem q1369 : (Jvm.Cond.soleField "KalmanQuayModel" "end") ∈ lw_all := lw_g (lw_at lw_m6 132 rfl) rfl
theorem q1370 : (Jvm.Cond.laysFinal "KalmanQuayModel" "KalmanQuayModel" "hitBeats" "[I") ∈ lw_all := lw_g (lw_at lw_m6 133 rfl) rfl
theorem q1371 : (Jvm.Cond.soleField "KalmanQuayModel" "hitBeats") ∈ lw_all := lw_g (lw_at lw_m6 134 rfl) rfl
theorem q1372 : (Jvm.Cond.laysFinal "KalmanQuayModel" "KalmanQuayModel" "misses" "[I") ∈ lw_all := lw_g (lw_at lw_m6 135 rfl) rfl
theorem q1373 : (Jvm.Cond.soleField "KalmanQuayModel" "misses") ∈ lw_all := lw_g (lw_at lw_m6 136 rfl) rfl
theorem q1374 : (Jvm.Cond.laysFinal "KalmanQuayModel" "KalmanQuayModel" "hitCount" "[I") ∈ lw_all := lw_g (lw_at lw_m6 137 rfl) rfl
theorem q1375 : (Jvm.Cond.soleField "KalmanQuayModel" "hitCount") ∈ lw_all := lw_g (lw_at lw_m6 138 rfl) rfl
theorem q1376 : (Jvm.Cond.laysFinal "KalmanQuayModel" "KalmanQuayModel" "now" "[[J") ∈ lw_all := lw_g (lw_at lw_m6 139 rfl) rfl
theorem q1377 : (Jvm.Cond.soleField "KalmanQuayModel" "now") ∈ lw_all := lw_g (lw_at lw_m6 140 rfl) rfl
theorem q1378 : (Jvm.Cond.laysFinal "KalmanQuayModel" "KalmanQuayModel" "behind" "[[[J") ∈ lw_all := lw_g (lw_at lw_m6 141 rfl) rfl
theorem q1379 : (Jvm.Cond.soleField "KalmanQuayModel" "behind") ∈ lw_all := lw_g (lw_at lw_m6 142 rfl) rfl
theorem q1380 : (Jvm.Cond.laysFinal "KalmanQuayModel" "KalmanQuayModel" "foretold" "[[[J") ∈ lw_all := lw_g (lw_at lw_m6 143 rfl) rfl
theorem q1381 : (Jvm.Cond.soleField "KalmanQuayModel" "foretold") ∈ lw_all := lw_g (lw_at lw_m6 144 rfl) rfl
theorem q1382 : (Jvm.Cond.laysFinal "KalmanQuayModel" "KalmanQuayModel" "sumW" "[J") ∈ lw_all := lw_g (lw_at lw_m6 145 rfl) rfl
theorem q1383 : (Jvm.Cond.soleField "KalmanQuayModel" "sumW") ∈ lw_all := lw_g (lw_at lw_m6 146 rfl) rfl
theorem q1384 : (Jvm.Cond.laysFinal "KalmanQuayModel" "KalmanQuayModel" "sumA" "[J") ∈ lw_all := lw_g (lw_at lw_m6 147 rfl) rfl
theorem q1385 : (Jvm.Cond.soleField "KalmanQuayModel" "sumA") ∈ lw_all := lw_g (lw_at lw_m6 148 rfl) rfl
theorem q1386 : (Jvm.Cond.laysFinal "KalmanQuayModel" "KalmanQuayModel" "sumB" "[J") ∈ lw_all := lw_g (lw_at lw_m6 149 rfl) rfl
theorem q1387 : (Jvm.Cond.soleField "KalmanQuayModel" "sumB") ∈ lw_all := lw_g (lw_at lw_m6 150 rfl) rfl
theorem q1388 : (Jvm.Cond.laysFinal "KalmanQuayModel" "KalmanQuayModel" "sumZ" "[J") ∈ lw_all := lw_g (lw_at lw_m6 151 rfl) rfl
theorem q1389 : (Jvm.Cond.soleField "KalmanQuayModel" "sumZ") ∈ lw_all := lw_g (lw_at lw_m6 152 rfl) rfl
theorem q1390 : (Jvm.Cond.laysFinal "KalmanQuayModel" "KalmanQuayModel" "sumY" "[J") ∈ lw_all := lw_g (lw_at lw_m6 153 rfl) rfl
theorem q1391 : (Jvm.Cond.soleField "KalmanQuayModel" "sumY") ∈ lw_all := lw_g (lw_at lw_m6 154 rfl) rfl
theorem q1392 : (Jvm.Cond.laysFinal "KalmanQuayModel" "KalmanQuayModel" "candidate" "[I") ∈ lw_all := lw_g (lw_at lw_m6 155 rfl) rfl
theorem q1393 : (Jvm.Cond.soleField "KalmanQuayModel" "candidate") ∈ lw_all := lw_g (lw_at lw_m6 156 rfl) rfl
theorem q1394 : (Jvm.Cond.lays "KalmanQuayModel" "KalmanQuayModel" "candidates" "I") ∈ lw_all := lw_g (lw_at lw_m6 157 rfl) rfl
theorem q1395 : (Jvm.Cond.soleField "KalmanQuayModel" "candidates") ∈ lw_all := lw_g (lw_at lw_m6 158 rfl) rfl
theorem q1396 : (Jvm.Cond.laysFinal "KalmanQuayModel" "KalmanQuayModel" "seeker" "[I") ∈ lw_all := lw_g (lw_at lw_m6 159 rfl) rfl
theorem q1397 : (Jvm.Cond.soleField "KalmanQuayModel" "seeker") ∈ lw_all := lw_g (lw_at lw_m6 160 rfl) rfl
theorem q1398 : (Jvm.Cond.lays "KalmanQuayModel" "KalmanQuayModel" "seekers" "I") ∈ lw_all := lw_g (lw_at lw_m6 161 rfl) rfl
theorem q1399 : (Jvm.Cond.soleField "KalmanQuayModel" "seekers") ∈ lw_all := lw_g (lw_at lw_m6 162 rfl) rfl
theorem q1400 : (Jvm.Cond.laysFinal "KalmanQuayModel" "KalmanQuayModel" "given" "[I") ∈ lw_all := lw_g (lw_at lw_m6 163 rfl) rfl
theorem q1401 : (Jvm.Cond.soleField "KalmanQuayModel" "given") ∈ lw_all := lw_g (lw_at lw_m6 164 rfl) rfl
theorem q1402 : (Jvm.Cond.laysFinal "KalmanQuayModel" "KalmanQuayModel" "best" "[I") ∈ lw_all := lw_g (lw_at lw_m6 165 rfl) rfl
theorem q1403 : (Jvm.Cond.soleField "KalmanQuayModel" "best") ∈ lw_all := lw_g (lw_at lw_m6 166 rfl) rfl
theorem q1404 : (Jvm.Cond.lays "KalmanQuayModel" "KalmanQuayModel" "mostPairs" "I") ∈ lw_all := lw_g (lw_at lw_m6 167 rfl) rfl
theorem q1405 : (Jvm.Cond.soleField "KalmanQuayModel" "mostPairs") ∈ lw_all := lw_g (lw_at lw_m6 168 rfl) rfl
theorem q1406 : (Jvm.Cond.lays "KalmanQuayModel" "KalmanQuayModel" "leastCost" "J") ∈ lw_all := lw_g (lw_at lw_m6 169 rfl) rfl
theorem q1407 : (Jvm.Cond.soleField "KalmanQuayModel" "leastCost") ∈ lw_all := lw_g (lw_at lw_m6 170 rfl) rfl
theorem q1408 : (Jvm.Cond.lays "KalmanQuayModel" "KalmanQuayModel" "smoothX" "J") ∈ lw_all := lw_g (lw_at lw_m6 171 rfl) rfl
theorem q1409 : (Jvm.Cond.soleField "KalmanQuayModel" "smoothX") ∈ lw_all := lw_g (lw_at lw_m6 172 rfl) rfl
theorem q1410 : (Jvm.Cond.lays "KalmanQuayModel" "KalmanQuayModel" "smoothV" "J") ∈ lw_all := lw_g (lw_at lw_m6 173 rfl) rfl
theorem q1411 : (Jvm.Cond.soleField "KalmanQuayModel" "smoothV") ∈ lw_all := lw_g (lw_at lw_m6 174 rfl) rfl
theorem q1412 : (Jvm.Cond.lays "KalmanQuayModel" "KalmanQuayModel" "thrown" "I") ∈ lw_all := lw_g (lw_at lw_m6 175 rfl) rfl
theorem q1413 : (Jvm.Cond.soleField "KalmanQuayModel" "thrown") ∈ lw_all := lw_g (lw_at lw_m6 176 rfl) rfl
theorem q1414 : (Jvm.Cond.superclass "KalmanQuayModel" "java/lang/Object") ∈ lw_all := lw_g (lw_at lw_m6 177 rfl) rfl
theorem q1417 : (Jvm.Cond.instanceMethod ({ cls := "KalmanQuayModel", name := "thrown", desc := "()I" } : Jvm.MethodName)) ∈ lw_all := lw_g (lw_at lw_m6 180 rfl) rfl
theorem q1418 : (Jvm.Cond.selects "KalmanQuayModel" ({ cls := "KalmanQuayModel", name := "thrown", desc := "()I" } : Jvm.MethodName) ({ cls := "KalmanQuayModel", name := "thrown", desc := "()I" } : Jvm.MethodName)) ∈ lw_all := lw_g (lw_at lw_m6 181 rfl) rfl
theorem q1419 : (Jvm.Cond.code ({ cls := "KalmanQuayModel", name := "thrown", desc := "()I" } : Jvm.MethodName) prog_9_method_2_code (1 : Nat) (Option.some Jvm.ClassFile.FieldType.int)) ∈ lw_all := lw_g (lw_at lw_m6 182 rfl) rfl
theorem q1421 : (Jvm.Cond.instanceMethod ({ cls := "KalmanQuayModel", name := "begin", desc := "()I" } : Jvm.MethodName)) ∈ lw_all := lw_g (lw_at lw_m6 184 rfl) rfl
theorem q1422 : (Jvm.Cond.selects "KalmanQuayModel" ({ cls := "KalmanQuayModel", name := "begin", desc := "()I" } : Jvm.MethodName) ({ cls := "KalmanQuayModel", name := "begin", desc := "()I" } : Jvm.MethodName)) ∈ lw_all := lw_g (lw_at lw_m6 185 rfl) rfl
theorem q1423 : (Jvm.Cond.code ({ cls := "KalmanQuayModel", name := "begin", desc := "()I" } : Jvm.MethodName) prog_9_method_7_code (2 : Nat) (Option.some Jvm.ClassFile.FieldType.int)) ∈ lw_all := lw_g (lw_at lw_m6 186 rfl) rfl
theorem q1424 : (Jvm.Cond.methodLink "KalmanQuayModel" (136 : Nat) ({ cls := "KalmanQuayModel", name := "tell", desc := "(I)I" } : Jvm.MethodName)) ∈ lw_all := lw_g (lw_at lw_m6 187 rfl) rfl
theorem q1425 : (Jvm.Cond.privateMethod ({ cls := "KalmanQuayModel", name := "tell", desc := "(I)I" } : Jvm.MethodName)) ∈ lw_tbl := lw_at lw_m6 188 rfl
theorem q1426 : (Jvm.Cond.instanceMethod ({ cls := "KalmanQuayModel", name := "tell", desc := "(I)I" } : Jvm.MethodName)) ∈ lw_all := lw_g (lw_at lw_m6 189 rfl) rfl
theorem q1427 : (Jvm.Cond.code ({ cls := "KalmanQuayModel", name := "tell", desc := "(I)I" } : Jvm.MethodName) prog_9_method_6_code (2 : Nat) (Option.some Jvm.ClassFile.FieldType.int)) ∈ lw_all := lw_g (lw_at lw_m6 190 rfl) rfl
theorem q1429 : (Jvm.Cond.instanceMethod ({ cls := "KalmanQuayModel", name := "setFilter", desc := "(II)I" } : Jvm.MethodName)) ∈ lw_all := lw_g (lw_at lw_m6 192 rfl) rfl
theorem q1430 : (Jvm.Cond.selects "KalmanQuayModel" ({ cls := "KalmanQuayModel", name := "setFilter", desc := "(II)I" } : Jvm.MethodName) ({ cls := "KalmanQuayModel", name := "setFilter", desc := "(II)I" } : Jvm.MethodName)) ∈ lw_all := lw_g (lw_at lw_m6 193 rfl) rfl
theorem q1431 : (Jvm.Cond.code ({ cls := "KalmanQuayModel", name := "setFilter", desc := "(II)I" } : Jvm.MethodName) prog_9_method_8_code (4 : Nat) (Option.some Jvm.ClassFile.FieldType.int)) ∈ lw_all := lw_g (lw_at lw_m6 194 rfl) rfl
theorem q1432 : (Jvm.Cond.methodLink "KalmanQuayModel" (140 : Nat) ({ cls := "KalmanQuayModel", name := "in", desc := "(III)Z" } : Jvm.MethodName)) ∈ lw_all := lw_g (lw_at lw_m6 195 rfl) rfl
theorem q1433 : (Jvm.Cond.static ({ cls := "KalmanQuayModel", name := "in", desc := "(III)Z" } : Jvm.MethodName)) ∈ lw_all := lw_g (lw_at lw_m6 196 rfl) rfl
theorem q1434 : (Jvm.Cond.code ({ cls := "KalmanQuayModel", name := "in", desc := "(III)Z" } : Jvm.MethodName) prog_9_method_3_code (3 : Nat) (Option.some Jvm.ClassFile.FieldType.boolean)) ∈ lw_all := lw_g (lw_at lw_m6 197 rfl) rfl
theorem q1435 : (Jvm.Cond.methodLink "KalmanQuayModel" (144 : Nat) ({ cls := "KalmanQuayModel", name := "claimFirst", desc := "(Z)Z" } : Jvm.MethodName)) ∈ lw_all := lw_g (lw_at lw_m6 198 rfl) rfl
theorem q1436 : (Jvm.Cond.privateMethod ({ cls := "KalmanQuayModel", name := "claimFirst", desc := "(Z)Z" } : Jvm.MethodName)) ∈ lw_tbl := lw_at lw_m6 199 rfl
theorem q1437 : (Jvm.Cond.instanceMethod ({ cls := "KalmanQuayModel", name := "claimFirst", desc := "(Z)Z" } : Jvm.MethodName)) ∈ lw_all := lw_g (lw_at lw_m6 200 rfl) rfl
theorem q1438 : (Jvm.Cond.code ({ cls := "KalmanQuayModel", name := "claimFirst", desc := "(Z)Z" } : Jvm.MethodName) prog_9_method_5_code (2 : Nat) (Option.some Jvm.ClassFile.FieldType.boolean)) ∈ lw_all := lw_g (lw_at lw_m6 201 rfl) rfl
theorem q1439 : (Jvm.Cond.methodLink "KalmanQuayModel" (111 : Nat) ({ cls := "KalmanQuayModel", name := "claim", desc := "(ZI)Z" } : Jvm.MethodName)) ∈ lw_all := lw_g (lw_at lw_m6 202 rfl) rfl
theorem q1440 : (Jvm.Cond.privateMethod ({ cls := "KalmanQuayModel", name := "claim", desc := "(ZI)Z" } : Jvm.MethodName)) ∈ lw_tbl := lw_at lw_m6 203 rfl
theorem q1441 : (Jvm.Cond.instanceMethod ({ cls := "KalmanQuayModel", name := "claim", desc := "(ZI)Z" } : Jvm.MethodName)) ∈ lw_all := lw_g (lw_at lw_m6 204 rfl) rfl
theorem q1442 : (Jvm.Cond.code ({ cls := "KalmanQuayModel", name := "claim", desc := "(ZI)Z" } : Jvm.MethodName) prog_9_method_4_code (3 : Nat) (Option.some Jvm.ClassFile.FieldType.boolean)) ∈ lw_all := lw_g (lw_at lw_m6 205 rfl) rfl
theorem q1444 : (Jvm.Cond.instanceMethod ({ cls := "KalmanQuayModel", name := "setTracks", desc := "(III)I" } : Jvm.MethodName)) ∈ lw_all := lw_g (lw_at lw_m6 207 rfl) rfl
theorem q1445 : (Jvm.Cond.selects "KalmanQuayModel" ({ cls := "KalmanQuayModel", name := "setTracks", desc := "(III)I" } : Jvm.MethodName) ({ cls := "KalmanQuayModel", name := "setTracks", desc := "(III)I" } : Jvm.MethodName)) ∈ lw_all := lw_g (lw_at lw_m6 208 rfl) rfl
theorem q1446 : (Jvm.Cond.code ({ cls := "KalmanQuayModel", name := "setTracks", desc := "(III)I" } : Jvm.MethodName) prog_9_method_9_code (5 : Nat) (Option.some Jvm.ClassFile.FieldType.int)) ∈ lw_all := lw_g (lw_at lw_m6 209 rfl) rfl
theorem q1447 : (Jvm.Cond.constant "KalmanQuayModel" (148 : Nat) (16777216 : Int32)) ∈ lw_all := lw_g (lw_at lw_m6 210 rfl) rfl
theorem q1449 : (Jvm.Cond.instanceMethod ({ cls := "KalmanQuayModel", name := "addSensor", desc := "(I)I" } : Jvm.MethodName)) ∈ lw_all := lw_g (lw_at lw_m6 212 rfl) rfl
theorem q1450 : (Jvm.Cond.selects "KalmanQuayModel" ({ cls := "KalmanQuayModel", name := "addSensor", desc := "(I)I" } : Jvm.MethodName) ({ cls := "KalmanQuayModel", name := "addSensor", desc := "(I)I" } : Jvm.MethodName)) ∈ lw_all := lw_g (lw_at lw_m6 213 rfl) rfl
theorem q1451 : (Jvm.Cond.code ({ cls := "KalmanQuayModel", name := "addSensor", desc := "(I)I" } : Jvm.MethodName) prog_9_method_10_code (2 : Nat) (Option.some Jvm.ClassFile.FieldType.int)) ∈ lw_all := lw_g (lw_at lw_m6 214 rfl) rfl
theorem q1453 : (Jvm.Cond.instanceMethod ({ cls := "KalmanQuayModel", name := "sensorCount", desc := "()I" } : Jvm.MethodName)) ∈ lw_all := lw_g (lw_at lw_m6 216 rfl) rfl
theorem q1454 : (Jvm.Cond.selects "KalmanQuayModel" ({ cls := "KalmanQuayModel", name := "sensorCount", desc := "()I" } : Jvm.MethodName) ({ cls := "KalmanQuayModel", name := "sensorCount", desc := "()I" } : Jvm.MethodName)) ∈ lw_all := lw_g (lw_at lw_m6 217 rfl) rfl
theorem q1455 : (Jvm.Cond.code ({ cls := "KalmanQuayModel", name := "sensorCount", desc := "()I" } : Jvm.MethodName) prog_9_method_11_code (1 : Nat) (Option.some Jvm.ClassFile.FieldType.int)) ∈ lw_all := lw_g (lw_at lw_m6 218 rfl) rfl
theorem q1457 : (Jvm.Cond.instanceMethod ({ cls := "KalmanQuayModel", name := "hit", desc := "(II)I" } : Jvm.MethodName)) ∈ lw_all := lw_g (lw_at lw_m6 220 rfl) rfl
theorem q1458 : (Jvm.Cond.selects "KalmanQuayModel" ({ cls := "KalmanQuayModel", name := "hit", desc := "(II)I" } : Jvm.MethodName) ({ cls := "KalmanQuayModel", name := "hit", desc := "(II)I" } : Jvm.MethodName)) ∈ lw_all := lw_g (lw_at lw_m6 221 rfl) rfl
theorem q1459 : (Jvm.Cond.code ({ cls := "KalmanQuayModel", name := "hit", desc := "(II)I" } : Jvm.MethodName) prog_9_method_12_code (3 : Nat) (Option.some Jvm.ClassFile.FieldType.int)) ∈ lw_all := lw_g (lw_at lw_m6 222 rfl) rfl
theorem q1460 : (Jvm.Cond.constant "KalmanQuayModel" (149 : Nat) (-100000 : Int32)) ∈ lw_all := lw_g (lw_at lw_m6 223 rfl) rfl
theorem q1461 : (Jvm.Cond.constant "KalmanQuayModel" (150 : Nat) (100000 : Int32)) ∈ lw_all := lw_g (lw_at lw_m6 224 rfl) rfl
theorem q1463 : (Jvm.Cond.instanceMethod ({ cls := "KalmanQuayModel", name := "hits", desc := "()I" } : Jvm.MethodName)) ∈ lw_all := lw_g (lw_at lw_m6 226 rfl) rfl
theorem q1464 : (Jvm.Cond.selects "KalmanQuayModel" ({ cls := "KalmanQuayModel", name := "hits", desc := "()I" } : Jvm.MethodName) ({ cls := "KalmanQuayModel", name := "hits", desc := "()I" } : Jvm.MethodName)) ∈ lw_all := lw_g (lw_at lw_m6 227 rfl) rfl
theorem q1465 : (Jvm.Cond.code ({ cls := "KalmanQuayModel", name := "hits", desc := "()I" } : Jvm.MethodName) prog_9_method_13_code (1 : Nat) (Option.some Jvm.ClassFile.FieldType.int)) ∈ lw_all := lw_g (lw_at lw_m6 228 rfl) rfl
theorem q1467 : (Jvm.Cond.instanceMethod ({ cls := "KalmanQuayModel", name := "beat", desc := "()I" } : Jvm.MethodName)) ∈ lw_all := lw_g (lw_at lw_m6 230 rfl) rfl
theorem q1468 : (Jvm.Cond.selects "KalmanQuayModel" ({ cls := "KalmanQuayModel", name := "beat", desc := "()I" } : Jvm.MethodName) ({ cls := "KalmanQuayModel", name := "beat", desc := "()I" } : Jvm.MethodName)) ∈ lw_all := lw_g (lw_at lw_m6 231 rfl) rfl
theorem q1469 : (Jvm.Cond.code ({ cls := "KalmanQuayModel", name := "beat", desc := "()I" } : Jvm.MethodName) prog_9_method_30_code (1 : Nat) (Option.some Jvm.ClassFile.FieldType.int)) ∈ lw_all := lw_g (lw_at lw_m6 232 rfl) rfl
theorem q1470 : (Jvm.Cond.methodLink "KalmanQuayModel" (245 : Nat) ({ cls := "KalmanQuayModel", name := "doBeat", desc := "()V" } : Jvm.MethodName)) ∈ lw_all := lw_g (lw_at lw_m6 233 rfl) rfl
theorem q1471 : (Jvm.Cond.privateMethod ({ cls := "KalmanQuayModel", name := "doBeat", desc := "()V" } : Jvm.MethodName)) ∈ lw_tbl := lw_at lw_m6 234 rfl
theorem q1472 : (Jvm.Cond.instanceMethod ({ cls := "KalmanQuayModel", name := "doBeat", desc := "()V" } : Jvm.MethodName)) ∈ lw_all := lw_g (lw_at lw_m6 235 rfl) rfl
theorem q1473 : (Jvm.Cond.code ({ cls := "KalmanQuayModel", name := "doBeat", desc := "()V" } : Jvm.MethodName) prog_9_method_29_code (2 : Nat) (Option.none : Option Jvm.ClassFile.FieldType)) ∈ lw_all := lw_g (lw_at lw_m6 236 rfl) rfl
theorem q1474 : (Jvm.Cond.methodLink "KalmanQuayModel" (229 : Nat) ({ cls := "KalmanQuayModel", name := "foretell", desc := "(I)V" } : Jvm.MethodName)) ∈ lw_all := lw_g (lw_at lw_m6 237 rfl) rfl
theorem q1475 : (Jvm.Cond.privateMethod ({ cls := "KalmanQuayModel", name := "foretell", desc := "(I)V" } : Jvm.MethodName)) ∈ lw_tbl := lw_at lw_m6 238 rfl
theorem q1476 : (Jvm.Cond.instanceMethod ({ cls := "KalmanQuayModel", name := "foretell", desc := "(I)V" } : Jvm.MethodName)) ∈ lw_all := lw_g (lw_at lw_m6 239 rfl) rfl
theorem q1477 : (Jvm.Cond.code ({ cls := "KalmanQuayModel", name := "foretell", desc := "(I)V" } : Jvm.MethodName) prog_9_method_17_code (8 : Nat) (Option.none : Option Jvm.ClassFile.FieldType)) ∈ lw_all := lw_g (lw_at lw_m7 0 rfl) rfl
theorem q1478 : (Jvm.Cond.constantLong "KalmanQuayModel" (172 : Nat) (2 : Int64)) ∈ lw_all := lw_g (lw_at lw_m7 1 rfl) rfl
theorem q1479 : (Jvm.Cond.methodLink "KalmanQuayModel" (174 : Nat) ({ cls := "KalmanQuayModel", name := "holdAll", desc := "(I)V" } : Jvm.MethodName)) ∈ lw_all := lw_g (lw_at lw_m7 2 rfl) rfl
theorem q1480 : (Jvm.Cond.privateMethod ({ cls := "KalmanQuayModel", name := "holdAll", desc := "(I)V" } : Jvm.MethodName)) ∈ lw_tbl := lw_at lw_m7 3 rfl
theorem q1481 : (Jvm.Cond.instanceMethod ({ cls := "KalmanQuayModel", name := "holdAll", desc := "(I)V" } : Jvm.MethodName)) ∈ lw_all := lw_g (lw_at lw_m7 4 rfl) rfl
theorem q1482 : (Jvm.Cond.code ({ cls := "KalmanQuayModel", name := "holdAll", desc := "(I)V" } : Jvm.MethodName) prog_9_method_15_code (2 : Nat) (Option.none : Option Jvm.ClassFile.FieldType)) ∈ lw_all := lw_g (lw_at lw_m7 5 rfl) rfl
theorem q1483 : (Jvm.Cond.constantLong "KalmanQuayModel" (160 : Nat) (-33554432 : Int64)) ∈ lw_all := lw_g (lw_at lw_m7 6 rfl) rfl
theorem q1484 : (Jvm.Cond.constantLong "KalmanQuayModel" (162 : Nat) (33554432 : Int64)) ∈ lw_all := lw_g (lw_at lw_m7 7 rfl) rfl
theorem q1485 : (Jvm.Cond.methodLink "KalmanQuayModel" (164 : Nat) ({ cls := "KalmanQuayModel", name := "hold", desc := "(JJJ)J" } : Jvm.MethodName)) ∈ lw_all := lw_g (lw_at lw_m7 8 rfl) rfl
theorem q1486 : (Jvm.Cond.static ({ cls := "KalmanQuayModel", name := "hold", desc := "(JJJ)J" } : Jvm.MethodName)) ∈ lw_all := lw_g (lw_at lw_m7 9 rfl) rfl
theorem q1487 : (Jvm.Cond.code ({ cls := "KalmanQuayModel", name := "hold", desc := "(JJJ)J" } : Jvm.MethodName) prog_9_method_14_code (6 : Nat) (Option.some Jvm.ClassFile.FieldType.long)) ∈ lw_all := lw_g (lw_at lw_m7 10 rfl) rfl
theorem q1488 : (Jvm.Cond.methodLink "KalmanQuayModel" (151 : Nat) ({ cls := "java/lang/Math", name := "min", desc := "(JJ)J" } : Jvm.MethodName)) ∈ lw_all := lw_g (lw_at lw_m7 11 rfl) rfl
theorem q1489 : (Jvm.Cond.methodLink "KalmanQuayModel" (157 : Nat) ({ cls := "java/lang/Math", name := "max", desc := "(JJ)J" } : Jvm.MethodName)) ∈ lw_all := lw_g (lw_at lw_m7 12 rfl) rfl
theorem q1490 : (Jvm.Cond.constantLong "KalmanQuayModel" (168 : Nat) (-16777216 : Int64)) ∈ lw_all := lw_g (lw_at lw_m7 13 rfl) rfl
theorem q1491 : (Jvm.Cond.constantLong "KalmanQuayModel" (170 : Nat) (16777216 : Int64)) ∈ lw_all := lw_g (lw_at lw_m7 14 rfl) rfl
theorem q1492 : (Jvm.Cond.methodLink "KalmanQuayModel" (178 : Nat) ({ cls := "KalmanQuayModel", name := "copy", desc := "([J[J)V" } : Jvm.MethodName)) ∈ lw_all := lw_g (lw_at lw_m7 15 rfl) rfl
theorem q1493 : (Jvm.Cond.static ({ cls := "KalmanQuayModel", name := "copy", desc := "([J[J)V" } : Jvm.MethodName)) ∈ lw_all := lw_g (lw_at lw_m7 16 rfl) rfl
theorem q1494 : (Jvm.Cond.code ({ cls := "KalmanQuayModel", name := "copy", desc := "([J[J)V" } : Jvm.MethodName) prog_9_method_16_code (3 : Nat) (Option.none : Option Jvm.ClassFile.FieldType)) ∈ lw_all := lw_g (lw_at lw_m7 17 rfl) rfl
theorem q1495 : (Jvm.Cond.methodLink "KalmanQuayModel" (232 : Nat) ({ cls := "KalmanQuayModel", name := "assign", desc := "(I)V" } : Jvm.MethodName)) ∈ lw_all := lw_g (lw_at lw_m7 18 rfl) rfl
theorem q1496 : (Jvm.Cond.privateMethod ({ cls := "KalmanQuayModel", name := "assign", desc := "(I)V" } : Jvm.MethodName)) ∈ lw_tbl := lw_at lw_m7 19 rfl
theorem q1497 : (Jvm.Cond.instanceMethod ({ cls := "KalmanQuayModel", name := "assign", desc := "(I)V" } : Jvm.MethodName)) ∈ lw_all := lw_g (lw_at lw_m7 20 rfl) rfl
theorem q1498 : (Jvm.Cond.code ({ cls := "KalmanQuayModel", name := "assign", desc := "(I)V" } : Jvm.MethodName) prog_9_method_25_code (3 : Nat) (Option.none : Option Jvm.ClassFile.FieldType)) ∈ lw_all := lw_g (lw_at lw_m7 21 rfl) rfl
theorem q1499 : (Jvm.Cond.methodLink "KalmanQuayModel" (213 : Nat) ({ cls := "KalmanQuayModel", name := "tryFrom", desc := "(IIIJ)V" } : Jvm.MethodName)) ∈ lw_all := lw_g (lw_at lw_m7 22 rfl) rfl
theorem q1500 : (Jvm.Cond.privateMethod ({ cls := "KalmanQuayModel", name := "tryFrom", desc := "(IIIJ)V" } : Jvm.MethodName)) ∈ lw_tbl := lw_at lw_m7 23 rfl
theorem q1501 : (Jvm.Cond.instanceMethod ({ cls := "KalmanQuayModel", name := "tryFrom", desc := "(IIIJ)V" } : Jvm.MethodName)) ∈ lw_all := lw_g (lw_at lw_m7 24 rfl) rfl
theorem q1502 : (Jvm.Cond.code ({ cls := "KalmanQuayModel", name := "tryFrom", desc := "(IIIJ)V" } : Jvm.MethodName) prog_9_method_22_code (7 : Nat) (Option.none : Option Jvm.ClassFile.FieldType)) ∈ lw_all := lw_g (lw_at lw_m7 25 rfl) rfl
theorem q1503 : (Jvm.Cond.methodLink "KalmanQuayModel" (206 : Nat) ({ cls := "KalmanQuayModel", name := "isInGate", desc := "(II)Z" } : Jvm.MethodName)) ∈ lw_all := lw_g (lw_at lw_m7 26 rfl) rfl
theorem q1504 : (Jvm.Cond.privateMethod ({ cls := "KalmanQuayModel", name := "isInGate", desc := "(II)Z" } : Jvm.MethodName)) ∈ lw_tbl := lw_at lw_m7 27 rfl
theorem q1505 : (Jvm.Cond.instanceMethod ({ cls := "KalmanQuayModel", name := "isInGate", desc := "(II)Z" } : Jvm.MethodName)) ∈ lw_all := lw_g (lw_at lw_m7 28 rfl) rfl
theorem q1506 : (Jvm.Cond.code ({ cls := "KalmanQuayModel", name := "isInGate", desc := "(II)Z" } : Jvm.MethodName) prog_9_method_20_code (5 : Nat) (Option.some Jvm.ClassFile.FieldType.boolean)) ∈ lw_all := lw_g (lw_at lw_m7 29 rfl) rfl
theorem q1507 : (Jvm.Cond.methodLink "KalmanQuayModel" (184 : Nat) ({ cls := "KalmanQuayModel", name := "apartOf", desc := "(II)J" } : Jvm.MethodName)) ∈ lw_all := lw_g (lw_at lw_m7 30 rfl) rfl
theorem q1508 : (Jvm.Cond.privateMethod ({ cls := "KalmanQuayModel", name := "apartOf", desc := "(II)J" } : Jvm.MethodName)) ∈ lw_tbl := lw_at lw_m7 31 rfl
theorem q1509 : (Jvm.Cond.instanceMethod ({ cls := "KalmanQuayModel", name := "apartOf", desc := "(II)J" } : Jvm.MethodName)) ∈ lw_all := lw_g (lw_at lw_m7 32 rfl) rfl
theorem q1510 : (Jvm.Cond.code ({ cls := "KalmanQuayModel", name := "apartOf", desc := "(II)J" } : Jvm.MethodName) prog_9_method_19_code (3 : Nat) (Option.some Jvm.ClassFile.FieldType.long)) ∈ lw_all := lw_g (lw_at lw_m7 33 rfl) rfl
theorem q1511 : (Jvm.Cond.constantLong "KalmanQuayModel" (182 : Nat) (256 : Int64)) ∈ lw_all := lw_g (lw_at lw_m7 34 rfl) rfl
theorem q1512 : (Jvm.Cond.constantLong "KalmanQuayModel" (188 : Nat) (16 : Int64)) ∈ lw_all := lw_g (lw_at lw_m7 35 rfl) rfl
theorem q1513 : (Jvm.Cond.methodLink "KalmanQuayModel" (190 : Nat) ({ cls := "KalmanQuayModel", name := "spread", desc := "(II)J" } : Jvm.MethodName)) ∈ lw_all := lw_g (lw_at lw_m7 36 rfl) rfl
theorem q1514 : (Jvm.Cond.privateMethod ({ cls := "KalmanQuayModel", name := "spread", desc := "(II)J" } : Jvm.MethodName)) ∈ lw_tbl := lw_at lw_m7 37 rfl
theorem q1515 : (Jvm.Cond.instanceMethod ({ cls := "KalmanQuayModel", name := "spread", desc := "(II)J" } : Jvm.MethodName)) ∈ lw_all := lw_g (lw_at lw_m7 38 rfl) rfl
theorem q1516 : (Jvm.Cond.code ({ cls := "KalmanQuayModel", name := "spread", desc := "(II)J" } : Jvm.MethodName) prog_9_method_18_code (3 : Nat) (Option.some Jvm.ClassFile.FieldType.long)) ∈ lw_all := lw_g (lw_at lw_m7 39 rfl) rfl
theorem q1517 : (Jvm.Cond.methodLink "KalmanQuayModel" (210 : Nat) ({ cls := "KalmanQuayModel", name := "costOf", desc := "(II)J" } : Jvm.MethodName)) ∈ lw_all := lw_g (lw_at lw_m7 40 rfl) rfl
theorem q1518 : (Jvm.Cond.privateMethod ({ cls := "KalmanQuayModel", name := "costOf", desc := "(II)J" } : Jvm.MethodName)) ∈ lw_tbl := lw_at lw_m7 41 rfl
theorem q1519 : (Jvm.Cond.instanceMethod ({ cls := "KalmanQuayModel", name := "costOf", desc := "(II)J" } : Jvm.MethodName)) ∈ lw_all := lw_g (lw_at lw_m7 42 rfl) rfl
theorem q1520 : (Jvm.Cond.code ({ cls := "KalmanQuayModel", name := "costOf", desc := "(II)J" } : Jvm.MethodName) prog_9_method_21_code (5 : Nat) (Option.some Jvm.ClassFile.FieldType.long)) ∈ lw_all := lw_g (lw_at lw_m7 43 rfl) rfl
theorem q1521 : (Jvm.Cond.methodLink "KalmanQuayModel" (226 : Nat) ({ cls := "KalmanQuayModel", name := "correct", desc := "(II)V" } : Jvm.MethodName)) ∈ lw_all := lw_g (lw_at lw_m7 44 rfl) rfl
theorem q1522 : (Jvm.Cond.privateMethod ({ cls := "KalmanQuayModel", name := "correct", desc := "(II)V" } : Jvm.MethodName)) ∈ lw_tbl := lw_at lw_m7 45 rfl
theorem q1523 : (Jvm.Cond.instanceMethod ({ cls := "KalmanQuayModel", name := "correct", desc := "(II)V" } : Jvm.MethodName)) ∈ lw_all := lw_g (lw_at lw_m7 46 rfl) rfl
theorem q1524 : (Jvm.Cond.code ({ cls := "KalmanQuayModel", name := "correct", desc := "(II)V" } : Jvm.MethodName) prog_9_method_24_code (15 : Nat) (Option.none : Option Jvm.ClassFile.FieldType)) ∈ lw_all := lw_g (lw_at lw_m7 47 rfl) rfl
theorem q1525 : (Jvm.Cond.constantLong "KalmanQuayModel" (217 : Nat) (65536 : Int64)) ∈ lw_all := lw_g (lw_at lw_m7 48 rfl) rfl
theorem q1526 : (Jvm.Cond.methodLink "KalmanQuayModel" (219 : Nat) ({ cls := "java/lang/Math", name := "floorDiv", desc := "(JJ)J" } : Jvm.MethodName)) ∈ lw_all := lw_g (lw_at lw_m7 49 rfl) rfl
theorem q1527 : (Jvm.Cond.methodLink "KalmanQuayModel" (222 : Nat) ({ cls := "KalmanQuayModel", name := "note", desc := "(II)V" } : Jvm.MethodName)) ∈ lw_all := lw_g (lw_at lw_m7 50 rfl) rfl
theorem q1528 : (Jvm.Cond.privateMethod ({ cls := "KalmanQuayModel", name := "note", desc := "(II)V" } : Jvm.MethodName)) ∈ lw_tbl := lw_at lw_m7 51 rfl
theorem q1529 : (Jvm.Cond.instanceMethod ({ cls := "KalmanQuayModel", name := "note", desc := "(II)V" } : Jvm.MethodName)) ∈ lw_all := lw_g (lw_at lw_m7 52 rfl) rfl
theorem q1530 : (Jvm.Cond.code ({ cls := "KalmanQuayModel", name := "note", desc := "(II)V" } : Jvm.MethodName) prog_9_method_23_code (7 : Nat) (Option.none : Option Jvm.ClassFile.FieldType)) ∈ lw_all := lw_g (lw_at lw_m7 53 rfl) rfl
theorem q1531 : (Jvm.Cond.methodLink "KalmanQuayModel" (235 : Nat) ({ cls := "KalmanQuayModel", name := "aliveNow", desc := "()I" } : Jvm.MethodName)) ∈ lw_all := lw_g (lw_at lw_m7 54 rfl) rfl
theorem q1532 : (Jvm.Cond.privateMethod ({ cls := "KalmanQuayModel", name := "aliveNow", desc := "()I" } : Jvm.MethodName)) ∈ lw_tbl := lw_at lw_m7 55 rfl
theorem q1533 : (Jvm.Cond.instanceMethod ({ cls := "KalmanQuayModel", name := "aliveNow", desc := "()I" } : Jvm.MethodName)) ∈ lw_all := lw_g (lw_at lw_m7 56 rfl) rfl
theorem q1534 : (Jvm.Cond.code ({ cls := "KalmanQuayModel", name := "aliveNow", desc := "()I" } : Jvm.MethodName) prog_9_method_26_code (3 : Nat) (Option.some Jvm.ClassFile.FieldType.int)) ∈ lw_all := lw_g (lw_at lw_m7 57 rfl) rfl
theorem q1535 : (Jvm.Cond.methodLink "KalmanQuayModel" (239 : Nat) ({ cls := "KalmanQuayModel", name := "beginTrack", desc := "(I)V" } : Jvm.MethodName)) ∈ lw_all := lw_g (lw_at lw_m7 58 rfl) rfl
theorem q1536 : (Jvm.Cond.privateMethod ({ cls := "KalmanQuayModel", name := "beginTrack", desc := "(I)V" } : Jvm.MethodName)) ∈ lw_tbl := lw_at lw_m7 59 rfl
theorem q1537 : (Jvm.Cond.instanceMethod ({ cls := "KalmanQuayModel", name := "beginTrack", desc := "(I)V" } : Jvm.MethodName)) ∈ lw_all := lw_g (lw_at lw_m7 60 rfl) rfl
theorem q1538 : (Jvm.Cond.code ({ cls := "KalmanQuayModel", name := "beginTrack", desc := "(I)V" } : Jvm.MethodName) prog_9_method_27_code (3 : Nat) (Option.none : Option Jvm.ClassFile.FieldType)) ∈ lw_all := lw_g (lw_at lw_m7 61 rfl) rfl
theorem q1539 : (Jvm.Cond.methodLink "KalmanQuayModel" (242 : Nat) ({ cls := "KalmanQuayModel", name := "endBeat", desc := "(I)V" } : Jvm.MethodName)) ∈ lw_all := lw_g (lw_at lw_m7 62 rfl) rfl
theorem q1540 : (Jvm.Cond.privateMethod ({ cls := "KalmanQuayModel", name := "endBeat", desc := "(I)V" } : Jvm.MethodName)) ∈ lw_tbl := lw_at lw_m7 63 rfl
theorem q1541 : (Jvm.Cond.instanceMethod ({ cls := "KalmanQuayModel", name := "endBeat", desc := "(I)V" } : Jvm.MethodName)) ∈ lw_all := lw_g (lw_at lw_m7 64 rfl) rfl
theorem q1542 : (Jvm.Cond.code ({ cls := "KalmanQuayModel", name := "endBeat", desc := "(I)V" } : Jvm.MethodName) prog_9_method_28_code (2 : Nat) (Option.none : Option Jvm.ClassFile.FieldType)) ∈ lw_all := lw_g (lw_at lw_m7 65 rfl) rfl
theorem q1544 : (Jvm.Cond.instanceMethod ({ cls := "KalmanQuayModel", name := "beats", desc := "(I)I" } : Jvm.MethodName)) ∈ lw_all := lw_g (lw_at lw_m7 67 rfl) rfl
theorem q1545 : (Jvm.Cond.selects "KalmanQuayModel" ({ cls := "KalmanQuayModel", name := "beats", desc := "(I)I" } : Jvm.MethodName) ({ cls := "KalmanQuayModel", name := "beats", desc := "(I)I" } : Jvm.MethodName)) ∈ lw_all := lw_g (lw_at lw_m7 68 rfl) rfl
theorem q1546 : (Jvm.Cond.code ({ cls := "KalmanQuayModel", name := "beats", desc := "(I)I" } : Jvm.MethodName) prog_9_method_31_code (3 : Nat) (Option.some Jvm.ClassFile.FieldType.int)) ∈ lw_all := lw_g (lw_at lw_m7 69 rfl) rfl
theorem q1548 : (Jvm.Cond.instanceMethod ({ cls := "KalmanQuayModel", name := "beatCount", desc := "()I" } : Jvm.MethodName)) ∈ lw_all := lw_g (lw_at lw_m7 71 rfl) rfl
theorem q1549 : (Jvm.Cond.selects "KalmanQuayModel" ({ cls := "KalmanQuayModel", name := "beatCount", desc := "()I" } : Jvm.MethodName) ({ cls := "KalmanQuayModel", name := "beatCount", desc := "()I" } : Jvm.MethodName)) ∈ lw_all := lw_g (lw_at lw_m7 72 rfl) rfl
theorem q1550 : (Jvm.Cond.code ({ cls := "KalmanQuayModel", name := "beatCount", desc := "()I" } : Jvm.MethodName) prog_9_method_32_code (1 : Nat) (Option.some Jvm.ClassFile.FieldType.int)) ∈ lw_all := lw_g (lw_at lw_m7 73 rfl) rfl
theorem q1552 : (Jvm.Cond.instanceMethod ({ cls := "KalmanQuayModel", name := "trackOf", desc := "(I)I" } : Jvm.MethodName)) ∈ lw_all := lw_g (lw_at lw_m7 75 rfl) rfl
theorem q1553 : (Jvm.Cond.selects "KalmanQuayModel" ({ cls := "KalmanQuayModel", name := "trackOf", desc := "(I)I" } : Jvm.MethodName) ({ cls := "KalmanQuayModel", name := "trackOf", desc := "(I)I" } : Jvm.MethodName)) ∈ lw_all := lw_g (lw_at lw_m7 76 rfl) rfl
theorem q1554 : (Jvm.Cond.code ({ cls := "KalmanQuayModel", name := "trackOf", desc := "(I)I" } : Jvm.MethodName) prog_9_method_33_code (2 : Nat) (Option.some Jvm.ClassFile.FieldType.int)) ∈ lw_all := lw_g (lw_at lw_m7 77 rfl) rfl
theorem q1556 : (Jvm.Cond.instanceMethod ({ cls := "KalmanQuayModel", name := "trackCount", desc := "()I" } : Jvm.MethodName)) ∈ lw_all := lw_g (lw_at lw_m7 79 rfl) rfl
theorem q1557 : (Jvm.Cond.selects "KalmanQuayModel" ({ cls := "KalmanQuayModel", name := "trackCount", desc := "()I" } : Jvm.MethodName) ({ cls := "KalmanQuayModel", name := "trackCount", desc := "()I" } : Jvm.MethodName)) ∈ lw_all := lw_g (lw_at lw_m7 80 rfl) rfl
theorem q1558 : (Jvm.Cond.code ({ cls := "KalmanQuayModel", name := "trackCount", desc := "()I" } : Jvm.MethodName) prog_9_method_35_code (1 : Nat) (Option.some Jvm.ClassFile.FieldType.int)) ∈ lw_all := lw_g (lw_at lw_m7 81 rfl) rfl
theorem q1560 : (Jvm.Cond.instanceMethod ({ cls := "KalmanQuayModel", name := "alive", desc := "()I" } : Jvm.MethodName)) ∈ lw_all := lw_g (lw_at lw_m7 83 rfl) rfl
theorem q1561 : (Jvm.Cond.selects "KalmanQuayModel" ({ cls := "KalmanQuayModel", name := "alive", desc := "()I" } : Jvm.MethodName) ({ cls := "KalmanQuayModel", name := "alive", desc := "()I" } : Jvm.MethodName)) ∈ lw_all := lw_g (lw_at lw_m7 84 rfl) rfl
theorem q1562 : (Jvm.Cond.code ({ cls := "KalmanQuayModel", name := "alive", desc := "()I" } : Jvm.MethodName) prog_9_method_36_code (1 : Nat) (Option.some Jvm.ClassFile.FieldType.int)) ∈ lw_all := lw_g (lw_at lw_m7 85 rfl) rfl
theorem q1564 : (Jvm.Cond.instanceMethod ({ cls := "KalmanQuayModel", name := "isAlive", desc := "(I)Z" } : Jvm.MethodName)) ∈ lw_all := lw_g (lw_at lw_m7 87 rfl) rfl
theorem q1565 : (Jvm.Cond.selects "KalmanQuayModel" ({ cls := "KalmanQuayModel", name := "isAlive", desc := "(I)Z" } : Jvm.MethodName) ({ cls := "KalmanQuayModel", name := "isAlive", desc := "(I)Z" } : Jvm.MethodName)) ∈ lw_all := lw_g (lw_at lw_m7 88 rfl) rfl
theorem q1566 : (Jvm.Cond.code ({ cls := "KalmanQuayModel", name := "isAlive", desc := "(I)Z" } : Jvm.MethodName) prog_9_method_37_code (2 : Nat) (Option.some Jvm.ClassFile.FieldType.boolean)) ∈ lw_all := lw_g (lw_at lw_m7 89 rfl) rfl
theorem q1567 : (Jvm.Cond.methodLink "KalmanQuayModel" (248 : Nat) ({ cls := "KalmanQuayModel", name := "claimTrack", desc := "(I)Z" } : Jvm.MethodName)) ∈ lw_all := lw_g (lw_at lw_m7 90 rfl) rfl
theorem q1568 : (Jvm.Cond.privateMethod ({ cls := "KalmanQuayModel", name := "claimTrack", desc := "(I)Z" } : Jvm.MethodName)) ∈ lw_tbl := lw_at lw_m7 91 rfl
theorem q1569 : (Jvm.Cond.instanceMethod ({ cls := "KalmanQuayModel", name := "claimTrack", desc := "(I)Z" } : Jvm.MethodName)) ∈ lw_all := lw_g (lw_at lw_m7 92 rfl) rfl
theorem q1570 : (Jvm.Cond.code ({ cls := "KalmanQuayModel", name := "claimTrack", desc := "(I)Z" } : Jvm.MethodName) prog_9_method_34_code (2 : Nat) (Option.some Jvm.ClassFile.FieldType.boolean)) ∈ lw_all := lw_g (lw_at lw_m7 93 rfl) rfl
theorem q1572 : (Jvm.Cond.instanceMethod ({ cls := "KalmanQuayModel", name := "isProven", desc := "(I)Z" } : Jvm.MethodName)) ∈ lw_all := lw_g (lw_at lw_m7 95 rfl) rfl
theorem q1573 : (Jvm.Cond.selects "KalmanQuayModel" ({ cls := "KalmanQuayModel", name := "isProven", desc := "(I)Z" } : Jvm.MethodName) ({ cls := "KalmanQuayModel", name := "isProven", desc := "(I)Z" } : Jvm.MethodName)) ∈ lw_all := lw_g (lw_at lw_m7 96 rfl) rfl
theorem q1574 : (Jvm.Cond.code ({ cls := "KalmanQuayModel", name := "isProven", desc := "(I)Z" } : Jvm.MethodName) prog_9_method_38_code (2 : Nat) (Option.some Jvm.ClassFile.FieldType.boolean)) ∈ lw_all := lw_g (lw_at lw_m7 97 rfl) rfl
theorem q1576 : (Jvm.Cond.instanceMethod ({ cls := "KalmanQuayModel", name := "placeOf", desc := "(I)I" } : Jvm.MethodName)) ∈ lw_all := lw_g (lw_at lw_m7 99 rfl) rfl
theorem q1577 : (Jvm.Cond.selects "KalmanQuayModel" ({ cls := "KalmanQuayModel", name := "placeOf", desc := "(I)I" } : Jvm.MethodName) ({ cls := "KalmanQuayModel", name := "placeOf", desc := "(I)I" } : Jvm.MethodName)) ∈ lw_all := lw_g (lw_at lw_m7 100 rfl) rfl
theorem q1578 : (Jvm.Cond.code ({ cls := "KalmanQuayModel", name := "placeOf", desc := "(I)I" } : Jvm.MethodName) prog_9_method_39_code (2 : Nat) (Option.some Jvm.ClassFile.FieldType.int)) ∈ lw_all := lw_g (lw_at lw_m7 101 rfl) rfl
theorem q1580 : (Jvm.Cond.instanceMethod ({ cls := "KalmanQuayModel", name := "speedOf", desc := "(I)I" } : Jvm.MethodName)) ∈ lw_all := lw_g (lw_at lw_m7 103 rfl) rfl
theorem q1581 : (Jvm.Cond.selects "KalmanQuayModel" ({ cls := "KalmanQuayModel", name := "speedOf", desc := "(I)I" } : Jvm.MethodName) ({ cls := "KalmanQuayModel", name := "speedOf", desc := "(I)I" } : Jvm.MethodName)) ∈ lw_all := lw_g (lw_at lw_m7 104 rfl) rfl
theorem q1582 : (Jvm.Cond.code ({ cls := "KalmanQuayModel", name := "speedOf", desc := "(I)I" } : Jvm.MethodName) prog_9_method_40_code (2 : Nat) (Option.some Jvm.ClassFile.FieldType.int)) ∈ lw_all := lw_g (lw_at lw_m7 105 rfl) rfl
theorem q1584 : (Jvm.Cond.instanceMethod ({ cls := "KalmanQuayModel", name := "varianceOf", desc := "(II)I" } : Jvm.MethodName)) ∈ lw_all := lw_g (lw_at lw_m7 107 rfl) rfl
theorem q1585 : (Jvm.Cond.selects "KalmanQuayModel" ({ cls := "KalmanQuayModel", name := "varianceOf", desc := "(II)I" } : Jvm.MethodName) ({ cls := "KalmanQuayModel", name := "varianceOf", desc := "(II)I" } : Jvm.MethodName)) ∈ lw_all := lw_g (lw_at lw_m7 108 rfl) rfl
theorem q1586 : (Jvm.Cond.code ({ cls := "KalmanQuayModel", name := "varianceOf", desc := "(II)I" } : Jvm.MethodName) prog_9_method_41_code (3 : Nat) (Option.some Jvm.ClassFile.FieldType.int)) ∈ lw_all := lw_g (lw_at lw_m7 109 rfl) rfl
theorem q1588 : (Jvm.Cond.instanceMethod ({ cls := "KalmanQuayModel", name := "hitBeats", desc := "(I)I" } : Jvm.MethodName)) ∈ lw_all := lw_g (lw_at lw_m7 111 rfl) rfl
theorem q1589 : (Jvm.Cond.selects "KalmanQuayModel" ({ cls := "KalmanQuayModel", name := "hitBeats", desc := "(I)I" } : Jvm.MethodName) ({ cls := "KalmanQuayModel", name := "hitBeats", desc := "(I)I" } : Jvm.MethodName)) ∈ lw_all := lw_g (lw_at lw_m7 112 rfl) rfl
theorem q1590 : (Jvm.Cond.code ({ cls := "KalmanQuayModel", name := "hitBeats", desc := "(I)I" } : Jvm.MethodName) prog_9_method_42_code (2 : Nat) (Option.some Jvm.ClassFile.FieldType.int)) ∈ lw_all := lw_g (lw_at lw_m7 113 rfl) rfl
theorem q1592 : (Jvm.Cond.instanceMethod ({ cls := "KalmanQuayModel", name := "misses", desc := "(I)I" } : Jvm.MethodName)) ∈ lw_all := lw_g (lw_at lw_m7 115 rfl) rfl
theorem q1593 : (Jvm.Cond.selects "KalmanQuayModel" ({ cls := "KalmanQuayModel", name := "misses", desc := "(I)I" } : Jvm.MethodName) ({ cls := "KalmanQuayModel", name := "misses", desc := "(I)I" } : Jvm.MethodName)) ∈ lw_all := lw_g (lw_at lw_m7 116 rfl) rfl
theorem q1594 : (Jvm.Cond.code ({ cls := "KalmanQuayModel", name := "misses", desc := "(I)I" } : Jvm.MethodName) prog_9_method_43_code (2 : Nat) (Option.some Jvm.ClassFile.FieldType.int)) ∈ lw_all := lw_g (lw_at lw_m7 117 rfl) rfl
theorem q1596 : (Jvm.Cond.instanceMethod ({ cls := "KalmanQuayModel", name := "hitsOf", desc := "(I)I" } : Jvm.MethodName)) ∈ lw_all := lw_g (lw_at lw_m7 119 rfl) rfl
theorem q1597 : (Jvm.Cond.selects "KalmanQuayModel" ({ cls := "KalmanQuayModel", name := "hitsOf", desc := "(I)I" } : Jvm.MethodName) ({ cls := "KalmanQuayModel", name := "hitsOf", desc := "(I)I" } : Jvm.MethodName)) ∈ lw_all := lw_g (lw_at lw_m7 120 rfl) rfl
theorem q1598 : (Jvm.Cond.code ({ cls := "KalmanQuayModel", name := "hitsOf", desc := "(I)I" } : Jvm.MethodName) prog_9_method_44_code (2 : Nat) (Option.some Jvm.ClassFile.FieldType.int)) ∈ lw_all := lw_g (lw_at lw_m7 121 rfl) rfl
theorem q1600 : (Jvm.Cond.instanceMethod ({ cls := "KalmanQuayModel", name := "beginOf", desc := "(I)I" } : Jvm.MethodName)) ∈ lw_all := lw_g (lw_at lw_m7 123 rfl) rfl
theorem q1601 : (Jvm.Cond.selects "KalmanQuayModel" ({ cls := "KalmanQuayModel", name := "beginOf", desc := "(I)I" } : Jvm.MethodName) ({ cls := "KalmanQuayModel", name := "beginOf", desc := "(I)I" } : Jvm.MethodName)) ∈ lw_all := lw_g (lw_at lw_m7 124 rfl) rfl
theorem q1602 : (Jvm.Cond.code ({ cls := "KalmanQuayModel", name := "beginOf", desc := "(I)I" } : Jvm.MethodName) prog_9_method_45_code (2 : Nat) (Option.some Jvm.ClassFile.FieldType.int)) ∈ lw_all := lw_g (lw_at lw_m7 125 rfl) rfl
theorem q1604 : (Jvm.Cond.instanceMethod ({ cls := "KalmanQuayModel", name := "endOf", desc := "(I)I" } : Jvm.MethodName)) ∈ lw_all := lw_g (lw_at lw_m7 127 rfl) rfl
theorem q1605 : (Jvm.Cond.selects "KalmanQuayModel" ({ cls := "KalmanQuayModel", name := "endOf", desc := "(I)I" } : Jvm.MethodName) ({ cls := "KalmanQuayModel", name := "endOf", desc := "(I)I" } : Jvm.MethodName)) ∈ lw_all := lw_g (lw_at lw_m7 128 rfl) rfl
theorem q1606 : (Jvm.Cond.code ({ cls := "KalmanQuayModel", name := "endOf", desc := "(I)I" } : Jvm.MethodName) prog_9_method_46_code (2 : Nat) (Option.some Jvm.ClassFile.FieldType.int)) ∈ lw_all := lw_g (lw_at lw_m7 129 rfl) rfl
theorem q1608 : (Jvm.Cond.instanceMethod ({ cls := "KalmanQuayModel", name := "placeAt", desc := "(II)I" } : Jvm.MethodName)) ∈ lw_all := lw_g (lw_at lw_m7 131 rfl) rfl
theorem q1609 : (Jvm.Cond.selects "KalmanQuayModel" ({ cls := "KalmanQuayModel", name := "placeAt", desc := "(II)I" } : Jvm.MethodName) ({ cls := "KalmanQuayModel", name := "placeAt", desc := "(II)I" } : Jvm.MethodName)) ∈ lw_all := lw_g (lw_at lw_m7 132 rfl) rfl
theorem q1610 : (Jvm.Cond.code ({ cls := "KalmanQuayModel", name := "placeAt", desc := "(II)I" } : Jvm.MethodName) prog_9_method_48_code (3 : Nat) (Option.some Jvm.ClassFile.FieldType.int)) ∈ lw_all := lw_g (lw_at lw_m7 133 rfl) rfl
theorem q1611 : (Jvm.Cond.methodLink "KalmanQuayModel" (252 : Nat) ({ cls := "KalmanQuayModel", name := "claimBeat", desc := "(II)Z" } : Jvm.MethodName)) ∈ lw_all := lw_g (lw_at lw_m7 134 rfl) rfl
theorem q1612 : (Jvm.Cond.privateMethod ({ cls := "KalmanQuayModel", name := "claimBeat", desc := "(II)Z" } : Jvm.MethodName)) ∈ lw_tbl := lw_at lw_m7 135 rfl
theorem q1613 : (Jvm.Cond.instanceMethod ({ cls := "KalmanQuayModel", name := "claimBeat", desc := "(II)Z" } : Jvm.MethodName)) ∈ lw_all := lw_g (lw_at lw_m7 136 rfl) rfl
theorem q1614 : (Jvm.Cond.code ({ cls := "KalmanQuayModel", name := "claimBeat", desc := "(II)Z" } : Jvm.MethodName) prog_9_method_47_code (3 : Nat) (Option.some Jvm.ClassFile.FieldType.boolean)) ∈ lw_all := lw_g (lw_at lw_m7 137 rfl) rfl
theorem q1616 : (Jvm.Cond.instanceMethod ({ cls := "KalmanQuayModel", name := "foretoldAt", desc := "(II)I" } : Jvm.MethodName)) ∈ lw_all := lw_g (lw_at lw_m7 139 rfl) rfl
theorem q1617 : (Jvm.Cond.selects "KalmanQuayModel" ({ cls := "KalmanQuayModel", name := "foretoldAt", desc := "(II)I" } : Jvm.MethodName) ({ cls := "KalmanQuayModel", name := "foretoldAt", desc := "(II)I" } : Jvm.MethodName)) ∈ lw_all := lw_g (lw_at lw_m7 140 rfl) rfl
theorem q1618 : (Jvm.Cond.code ({ cls := "KalmanQuayModel", name := "foretoldAt", desc := "(II)I" } : Jvm.MethodName) prog_9_method_49_code (3 : Nat) (Option.some Jvm.ClassFile.FieldType.int)) ∈ lw_all := lw_g (lw_at lw_m7 141 rfl) rfl
theorem q1620 : (Jvm.Cond.instanceMethod ({ cls := "KalmanQuayModel", name := "smoothedAt", desc := "(II)J" } : Jvm.MethodName)) ∈ lw_all := lw_g (lw_at lw_m7 143 rfl) rfl
theorem q1621 : (Jvm.Cond.selects "KalmanQuayModel" ({ cls := "KalmanQuayModel", name := "smoothedAt", desc := "(II)J" } : Jvm.MethodName) ({ cls := "KalmanQuayModel", name := "smoothedAt", desc := "(II)J" } : Jvm.MethodName)) ∈ lw_all := lw_g (lw_at lw_m7 144 rfl) rfl
theorem q1622 : (Jvm.Cond.code ({ cls := "KalmanQuayModel", name := "smoothedAt", desc := "(II)J" } : Jvm.MethodName) prog_9_method_52_code (3 : Nat) (Option.some Jvm.ClassFile.FieldType.long)) ∈ lw_all := lw_g (lw_at lw_m7 145 rfl) rfl
theorem q1623 : (Jvm.Cond.methodLink "KalmanQuayModel" (266 : Nat) ({ cls := "KalmanQuayModel", name := "smooth", desc := "(II)V" } : Jvm.MethodName)) ∈ lw_all := lw_g (lw_at lw_m7 146 rfl) rfl
theorem q1624 : (Jvm.Cond.privateMethod ({ cls := "KalmanQuayModel", name := "smooth", desc := "(II)V" } : Jvm.MethodName)) ∈ lw_tbl := lw_at lw_m7 147 rfl
theorem q1625 : (Jvm.Cond.instanceMethod ({ cls := "KalmanQuayModel", name := "smooth", desc := "(II)V" } : Jvm.MethodName)) ∈ lw_all := lw_g (lw_at lw_m7 148 rfl) rfl
theorem q1626 : (Jvm.Cond.code ({ cls := "KalmanQuayModel", name := "smooth", desc := "(II)V" } : Jvm.MethodName) prog_9_method_51_code (4 : Nat) (Option.none : Option Jvm.ClassFile.FieldType)) ∈ lw_all := lw_g (lw_at lw_m7 149 rfl) rfl
theorem q1627 : (Jvm.Cond.methodLink "KalmanQuayModel" (263 : Nat) ({ cls := "KalmanQuayModel", name := "smoothBack", desc := "(II)V" } : Jvm.MethodName)) ∈ lw_all := lw_g (lw_at lw_m7 150 rfl) rfl
theorem q1628 : (Jvm.Cond.privateMethod ({ cls := "KalmanQuayModel", name := "smoothBack", desc := "(II)V" } : Jvm.MethodName)) ∈ lw_tbl := lw_at lw_m7 151 rfl
theorem q1629 : (Jvm.Cond.instanceMethod ({ cls := "KalmanQuayModel", name := "smoothBack", desc := "(II)V" } : Jvm.MethodName)) ∈ lw_all := lw_g (lw_at lw_m7 152 rfl) rfl
theorem q1630 : (Jvm.Cond.code ({ cls := "KalmanQuayModel", name := "smoothBack", desc := "(II)V" } : Jvm.MethodName) prog_9_method_50_code (31 : Nat) (Option.none : Option Jvm.ClassFile.FieldType)) ∈ lw_all := lw_g (lw_at lw_m7 153 rfl) rfl
theorem q1631 : (Jvm.Cond.constantLong "KalmanQuayModel" (261 : Nat) (4096 : Int64)) ∈ lw_all := lw_g (lw_at lw_m7 154 rfl) rfl
theorem q1633 : (Jvm.Cond.instanceMethod ({ cls := "KalmanQuayModel", name := "smoothedSpeedAt", desc := "(II)J" } : Jvm.MethodName)) ∈ lw_all := lw_g (lw_at lw_m7 156 rfl) rfl
theorem q1634 : (Jvm.Cond.selects "KalmanQuayModel" ({ cls := "KalmanQuayModel", name := "smoothedSpeedAt", desc := "(II)J" } : Jvm.MethodName) ({ cls := "KalmanQuayModel", name := "smoothedSpeedAt", desc := "(II)J" } : Jvm.MethodName)) ∈ lw_all := lw_g (lw_at lw_m7 157 rfl) rfl
theorem q1635 : (Jvm.Cond.code ({ cls := "KalmanQuayModel", name := "smoothedSpeedAt", desc := "(II)J" } : Jvm.MethodName) prog_9_method_53_code (3 : Nat) (Option.some Jvm.ClassFile.FieldType.long)) ∈ lw_all := lw_g (lw_at lw_m7 158 rfl) rfl
theorem q1637 : (Jvm.Cond.instanceMethod ({ cls := "KalmanQuayModel", name := "bend", desc := "(I)J" } : Jvm.MethodName)) ∈ lw_all := lw_g (lw_at lw_m7 160 rfl) rfl
theorem q1638 : (Jvm.Cond.selects "KalmanQuayModel" ({ cls := "KalmanQuayModel", name := "bend", desc := "(I)J" } : Jvm.MethodName) ({ cls := "KalmanQuayModel", name := "bend", desc := "(I)J" } : Jvm.MethodName)) ∈ lw_all := lw_g (lw_at lw_m7 161 rfl) rfl
theorem q1639 : (Jvm.Cond.code ({ cls := "KalmanQuayModel", name := "bend", desc := "(I)J" } : Jvm.MethodName) prog_9_method_54_code (5 : Nat) (Option.some Jvm.ClassFile.FieldType.long)) ∈ lw_all := lw_g (lw_at lw_m7 162 rfl) rfl
theorem q1640 : (Jvm.Cond.methodLink "KalmanQuayModel" (269 : Nat) ({ cls := "java/lang/Math", name := "abs", desc := "(J)J" } : Jvm.MethodName)) ∈ lw_all := lw_g (lw_at lw_m7 163 rfl) rfl
theorem q1642 : (Jvm.Cond.instanceMethod ({ cls := "KalmanQuayModel", name := "fittedPlace", desc := "(I)J" } : Jvm.MethodName)) ∈ lw_all := lw_g (lw_at lw_m7 165 rfl) rfl
theorem q1643 : (Jvm.Cond.selects "KalmanQuayModel" ({ cls := "KalmanQuayModel", name := "fittedPlace", desc := "(I)J" } : Jvm.MethodName) ({ cls := "KalmanQuayModel", name := "fittedPlace", desc := "(I)J" } : Jvm.MethodName)) ∈ lw_all := lw_g (lw_at lw_m7 166 rfl) rfl
theorem q1644 : (Jvm.Cond.code ({ cls := "KalmanQuayModel", name := "fittedPlace", desc := "(I)J" } : Jvm.MethodName) prog_9_method_58_code (2 : Nat) (Option.some Jvm.ClassFile.FieldType.long)) ∈ lw_all := lw_g (lw_at lw_m7 167 rfl) rfl
theorem q1645 : (Jvm.Cond.methodLink "KalmanQuayModel" (280 : Nat) ({ cls := "KalmanQuayModel", name := "placeBy", desc := "(I)J" } : Jvm.MethodName)) ∈ lw_all := lw_g (lw_at lw_m7 168 rfl) rfl
theorem q1646 : (Jvm.Cond.privateMethod ({ cls := "KalmanQuayModel", name := "placeBy", desc := "(I)J" } : Jvm.MethodName)) ∈ lw_tbl := lw_at lw_m7 169 rfl
theorem q1647 : (Jvm.Cond.instanceMethod ({ cls := "KalmanQuayModel", name := "placeBy", desc := "(I)J" } : Jvm.MethodName)) ∈ lw_all := lw_g (lw_at lw_m7 170 rfl) rfl
theorem q1648 : (Jvm.Cond.code ({ cls := "KalmanQuayModel", name := "placeBy", desc := "(I)J" } : Jvm.MethodName) prog_9_method_57_code (2 : Nat) (Option.some Jvm.ClassFile.FieldType.long)) ∈ lw_all := lw_g (lw_at lw_m7 171 rfl) rfl
theorem q1649 : (Jvm.Cond.methodLink "KalmanQuayModel" (273 : Nat) ({ cls := "KalmanQuayModel", name := "under", desc := "(I)J" } : Jvm.MethodName)) ∈ lw_all := lw_g (lw_at lw_m7 172 rfl) rfl
theorem q1650 : (Jvm.Cond.privateMethod ({ cls := "KalmanQuayModel", name := "under", desc := "(I)J" } : Jvm.MethodName)) ∈ lw_tbl := lw_at lw_m7 173 rfl
theorem q1651 : (Jvm.Cond.instanceMethod ({ cls := "KalmanQuayModel", name := "under", desc := "(I)J" } : Jvm.MethodName)) ∈ lw_all := lw_g (lw_at lw_m7 174 rfl) rfl
theorem q1652 : (Jvm.Cond.code ({ cls := "KalmanQuayModel", name := "under", desc := "(I)J" } : Jvm.MethodName) prog_9_method_55_code (2 : Nat) (Option.some Jvm.ClassFile.FieldType.long)) ∈ lw_all := lw_g (lw_at lw_m7 175 rfl) rfl
theorem q1653 : (Jvm.Cond.methodLink "KalmanQuayModel" (277 : Nat) ({ cls := "KalmanQuayModel", name := "speedBy", desc := "(I)J" } : Jvm.MethodName)) ∈ lw_all := lw_g (lw_at lw_m7 176 rfl) rfl
theorem q1654 : (Jvm.Cond.privateMethod ({ cls := "KalmanQuayModel", name := "speedBy", desc := "(I)J" } : Jvm.MethodName)) ∈ lw_tbl := lw_at lw_m7 177 rfl
theorem q1655 : (Jvm.Cond.instanceMethod ({ cls := "KalmanQuayModel", name := "speedBy", desc := "(I)J" } : Jvm.MethodName)) ∈ lw_all := lw_g (lw_at lw_m7 178 rfl) rfl
theorem q1656 : (Jvm.Cond.code ({ cls := "KalmanQuayModel", name := "speedBy", desc := "(I)J" } : Jvm.MethodName) prog_9_method_56_code (4 : Nat) (Option.some Jvm.ClassFile.FieldType.long)) ∈ lw_all := lw_g (lw_at lw_m7 179 rfl) rfl
theorem q1658 : (Jvm.Cond.instanceMethod ({ cls := "KalmanQuayModel", name := "fittedSpeed", desc := "(I)J" } : Jvm.MethodName)) ∈ lw_all := lw_g (lw_at lw_m7 181 rfl) rfl
theorem q1659 : (Jvm.Cond.selects "KalmanQuayModel" ({ cls := "KalmanQuayModel", name := "fittedSpeed", desc := "(I)J" } : Jvm.MethodName) ({ cls := "KalmanQuayModel", name := "fittedSpeed", desc := "(I)J" } : Jvm.MethodName)) ∈ lw_all := lw_g (lw_at lw_m7 182 rfl) rfl
theorem q1660 : (Jvm.Cond.code ({ cls := "KalmanQuayModel", name := "fittedSpeed", desc := "(I)J" } : Jvm.MethodName) prog_9_method_59_code (2 : Nat) (Option.some Jvm.ClassFile.FieldType.long)) ∈ lw_all := lw_g (lw_at lw_m7 183 rfl) rfl
theorem q1662 : (Jvm.Cond.instanceMethod ({ cls := "KalmanQuayModel", name := "apart", desc := "(I)J" } : Jvm.MethodName)) ∈ lw_all := lw_g (lw_at lw_m7 185 rfl) rfl
theorem q1663 : (Jvm.Cond.selects "KalmanQuayModel" ({ cls := "KalmanQuayModel", name := "apart", desc := "(I)J" } : Jvm.MethodName) ({ cls := "KalmanQuayModel", name := "apart", desc := "(I)J" } : Jvm.MethodName)) ∈ lw_all := lw_g (lw_at lw_m7 186 rfl) rfl
theorem q1664 : (Jvm.Cond.code ({ cls := "KalmanQuayModel", name := "apart", desc := "(I)J" } : Jvm.MethodName) prog_9_method_60_code (2 : Nat) (Option.some Jvm.ClassFile.FieldType.long)) ∈ lw_all := lw_g (lw_at lw_m7 187 rfl) rfl
theorem q1666 : (Jvm.Cond.instanceMethod ({ cls := "KalmanQuayModel", name := "nearest", desc := "(I)I" } : Jvm.MethodName)) ∈ lw_all := lw_g (lw_at lw_m7 189 rfl) rfl
theorem q1667 : (Jvm.Cond.selects "KalmanQuayModel" ({ cls := "KalmanQuayModel", name := "nearest", desc := "(I)I" } : Jvm.MethodName) ({ cls := "KalmanQuayModel", name := "nearest", desc := "(I)I" } : Jvm.MethodName)) ∈ lw_all := lw_g (lw_at lw_m7 190 rfl) rfl
theorem q1668 : (Jvm.Cond.code ({ cls := "KalmanQuayModel", name := "nearest", desc := "(I)I" } : Jvm.MethodName) prog_9_method_61_code (7 : Nat) (Option.some Jvm.ClassFile.FieldType.int)) ∈ lw_all := lw_g (lw_at lw_m7 191 rfl) rfl
theorem q1670 : (Jvm.Cond.instanceMethod ({ cls := "KalmanQuayModel", name := "assignedShare", desc := "()F" } : Jvm.MethodName)) ∈ lw_all := lw_g (lw_at lw_m7 193 rfl) rfl
theorem q1671 : (Jvm.Cond.selects "KalmanQuayModel" ({ cls := "KalmanQuayModel", name := "assignedShare", desc := "()F" } : Jvm.MethodName) ({ cls := "KalmanQuayModel", name := "assignedShare", desc := "()F" } : Jvm.MethodName)) ∈ lw_all := lw_g (lw_at lw_m7 194 rfl) rfl
theorem q1672 : (Jvm.Cond.code ({ cls := "KalmanQuayModel", name := "assignedShare", desc := "()F" } : Jvm.MethodName) prog_9_method_62_code (1 : Nat) (Option.some Jvm.ClassFile.FieldType.float)) ∈ lw_all := lw_g (lw_at lw_m7 195 rfl) rfl
theorem q1674 : (Jvm.Cond.instanceMethod ({ cls := "KalmanQuayModel", name := "meanLength", desc := "()D" } : Jvm.MethodName)) ∈ lw_all := lw_g (lw_at lw_m7 197 rfl) rfl
theorem q1675 : (Jvm.Cond.selects "KalmanQuayModel" ({ cls := "KalmanQuayModel", name := "meanLength", desc := "()D" } : Jvm.MethodName) ({ cls := "KalmanQuayModel", name := "meanLength", desc := "()D" } : Jvm.MethodName)) ∈ lw_all := lw_g (lw_at lw_m7 198 rfl) rfl
theorem q1676 : (Jvm.Cond.code ({ cls := "KalmanQuayModel", name := "meanLength", desc := "()D" } : Jvm.MethodName) prog_9_method_63_code (3 : Nat) (Option.some Jvm.ClassFile.FieldType.double)) ∈ lw_all := lw_g (lw_at lw_m7 199 rfl) rfl
theorem q1685 : (Jvm.Cond.castable "KalmanQuayModel" "java/lang/Object") ∈ lw_tbl := lw_at lw_m7 208 rfl
theorem in_X2 : ∀ w ∈ wsX20, w ∈ lw_all := lw_in wsX20 [1326, 1328, 1330, 1332, 1334, 1336, 1338, 1340, 1342, 1344, 1346, 1348, 1350, 1352, 1354, 1356, 1358, 1360, 1362, 1364, 1366, 1368, 1370, 1372, 1374, 1376, 1378, 1380, 1382, 1384, 1386, 1388, 1390, 1392, 1394, 1396, 1398, 1400, 1402, 1404, 1406, 1408, 1410, 1412] (by decide +kernel) (by decide +kernel)

